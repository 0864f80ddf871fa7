/-! THE READER: go -/
set_option maxRecDepth 100000
theorem isB.sg {x : Int32} (h : isB x) : rSg (x &&& 255) = rSg x := by
  unfold rSg
  have e : ∀ w : Int32, 0 ≤ w → w < 128 → decide (x &&& 255 = w) = decide (x = w) := fun w h0 h1 => decide_eq_decide.mpr (h.eq h0 h1)
  rw [e 40 (by decide) (by decide), e 41 (by decide) (by decide), e 59 (by decide) (by decide), e 47 (by decide) (by decide), e 61 (by decide) (by decide), e 60 (by decide) (by decide), e 62 (by decide) (by decide)]
theorem rW.tx {c0 c : gLH} {rd tx : Nat} {f : Nat → Int32} (h : rW c0 rd tx f c) : c tx = some (cR 1 0, gBytes 2000 f) := h.2.1
theorem RD_end {T f : Nat → Int32} {E : Nat → Nat} {e9 rd tx sz q o w : Nat} {c : gLH} {sg : Int32} {nu : Int64} (hT : c tx = some (cR 1 0, gBytes 2000 f)) (hq : sz ≤ q) (hc : c rd = rC tx sz q q o (.ref (E 0)) (.ref w) sg nu) : RD T f E e9 rd tx sz q o c := by
  have k : rKd T sz q = 0 := by unfold rKd; rw [if_pos hq]
  have n : rNx T sz q = q := by unfold rNx; rw [if_pos hq]
  refine ⟨hT, w, sg, nu, ?_, ?_, ?_, ?_⟩
  · rw [k, n]; exact hc
  · rw [k]; intro z; cases z
  · rw [k]; intro z; cases z
  · rw [k]; intro z; cases z
theorem RD_word {T f : Nat → Int32} {E : Nat → Nat} {e9 rd tx sz q o w : Nat} {c : gLH} {sg : Int32} {nu : Int64} (hT : c tx = some (cR 1 0, gBytes 2000 f)) (hq : q < sz) (hs : sSmall (T q) = true) (hc : c rd = rC tx sz (pLt T (sz - q) q) q o (.ref (E 1)) (.ref w) sg nu) (hw : rWd T e9 q (pLt T (sz - q) q - q) w c) : RD T f E e9 rd tx sz q o c := by
  have k : rKd T sz q = 1 := by unfold rKd; rw [if_neg (by omega), if_pos hs]
  have n : rNx T sz q = pLt T (sz - q) q := by unfold rNx; rw [if_neg (by omega), if_pos hs]
  refine ⟨hT, w, sg, nu, ?_, ?_, ?_, ?_⟩
  · rw [k, n]; exact hc
  · rw [k]; intro z; cases z
  · rw [k]; intro z; cases z
  · rw [n]; intro _; exact hw
theorem RD_num {T f : Nat → Int32} {E : Nat → Nat} {e9 rd tx sz q o w : Nat} {c : gLH} {sg : Int32} (hT : c tx = some (cR 1 0, gBytes 2000 f)) (hq : q < sz) (hs : ¬ sSmall (T q) = true) (hd : sDigit (T q) = true) (hc : c rd = rC tx sz (pCp T (sz - q) q 0).1 q o (.ref (E 2)) (.ref w) sg (pCp T (sz - q) q 0).2) : RD T f E e9 rd tx sz q o c := by
  have k : rKd T sz q = 2 := by unfold rKd; rw [if_neg (by omega), if_neg hs, if_pos hd]
  have n : rNx T sz q = (pCp T (sz - q) q 0).1 := by unfold rNx; rw [if_neg (by omega), if_neg hs, if_pos hd]
  refine ⟨hT, w, sg, (pCp T (sz - q) q 0).2, ?_, ?_, ?_, ?_⟩
  · rw [k, n]; exact hc
  · rw [k]; intro z; cases z
  · intro _; rfl
  · rw [k]; intro z; cases z
theorem RD_sign {T f : Nat → Int32} {E : Nat → Nat} {e9 rd tx sz q o w : Nat} {c : gLH} {b : Bool} {nu : Int64} (hT : c tx = some (cR 1 0, gBytes 2000 f)) (hq : q < sz) (hs : ¬ sSmall (T q) = true) (hd : ¬ sDigit (T q) = true) (hb : rSg (T q) = b) (hc : c rd = rC tx sz (q + 1) q o (.ref (E (if b = true then 3 else 4))) (.ref w) (f q) nu) : RD T f E e9 rd tx sz q o c := by
  have k : rKd T sz q = if b = true then 3 else 4 := by unfold rKd; rw [if_neg (by omega), if_neg hs, if_neg hd, hb]
  have n : rNx T sz q = q + 1 := by unfold rNx; rw [if_neg (by omega), if_neg hs, if_neg hd]
  refine ⟨hT, w, f q, nu, ?_, ?_, ?_, ?_⟩
  · rw [k, n]; exact hc
  · intro _; rfl
  · rw [k]; intro z; cases b <;> cases z
  · rw [k]; intro z; cases b <;> cases z
theorem pCp_step {T : Nat → Int32} {m p : Nat} {v : Int64} (h : sDigit (T p) = true) : pCp T (m + 1) p v = pCp T m (p + 1) (if 1000001 < 10 * v + (T p).toInt64 - 48 then 1000001 else 10 * v + (T p).toInt64 - 48) := by
  simp only [pCp]; rw [if_pos h]
theorem pCp_stop {T : Nat → Int32} {m p : Nat} {v : Int64} (h : ¬ sDigit (T p) = true) : pCp T m p v = (p, v) := by
  cases m with
  | zero => rfl
  | succ m => simp only [pCp]; rw [if_neg h]
theorem pLt_step {T : Nat → Int32} {m p : Nat} (h : sSmall (T p) = true) : pLt T (m + 1) p = pLt T m (p + 1) := by
  simp only [pLt]; rw [if_pos h]
theorem pLt_stop {T : Nat → Int32} {m p : Nat} (h : ¬ sSmall (T p) = true) : pLt T m p = p := by
  cases m with
  | zero => rfl
  | succ m => simp only [pLt]; rw [if_neg h]
theorem nI_sub2 {a b : Nat} (h : b ≤ a) : nI a - nI b = nI (a - b) := by
  obtain ⟨k, rfl⟩ := Nat.exists_eq_add_of_le h
  rw [nI_sub1, Nat.add_sub_cancel_left]
theorem rTx.dg {T f : Nat → Int32} {sz : Nat} (h : rTx T f sz) {k : Nat} (hk : k < sz) (hs : sDigit (T k) = true) : f k = T k := by
  have d := dig_v hs
  rw [Int32.toInt_toInt64] at d
  have e0 : (0 : Int32).toInt = 0 := by decide
  have e1 : (128 : Int32).toInt = 128 := by decide
  exact (h.eq hk (Int32.le_iff_toInt_le.mpr (by omega)) (Int32.lt_iff_toInt_lt.mpr (by omega))).mp rfl
theorem ct_rgoW {l : Launch} {g : gGP} (hk : gK l g) {T f : Nat → Int32} {E : Nat → Nat} {c0 c : gLH} {e9 rd tx sz nx q0 o : Nat} {so w : Value} {sg : Int32} {nu : Int64} (hX : rTx T f sz) (hs : gSS g) (hE : rEnv g E e9 c0) (hnx : nx ≤ sz) (hc : c rd = rC tx sz nx q0 o so w sg nu) (hw : rW c0 rd tx f c) : Ct l g yX5_go hwX5_go 7 280 [.ref rd] c (4) (32) (pV (fun c' => RD T f E e9 rd tx sz (pB T sz nx) o c' ∧ ∀ (a r : Nat) (e : va_E), c0 a = some (r, e) → a ≠ rd → c' a = some (r, e))) := by
  refine Ct.intro hk hcX5_go (by decide +kernel) (Nat.le_of_ble_eq_true rfl) (fun φ h => ?_)
  have hz : sz ≤ 2000 := hX.1.1
  have J52 : ∀ (q : Nat) (c : gLH) (q0 : Nat), q ≤ sz → pB T sz nx = q → c rd = rC tx sz q q0 o so w sg nu → rW c0 rd tx f c → G φ (gQ φ (pV (fun c' => RD T f E e9 rd tx sz (pB T sz nx) o c' ∧ ∀ (a r : Nat) (e : va_E), c0 a = some (r, e) → a ≠ rd → c' a = some (r, e))) 4 32) 52 [(0, .ref rd)] [] c 0 0 := by
    intro q c q0 hq hpq hc hw
    rw [hpq]
    by_cases hlt : q < sz
    case neg =>
      skip
      refine g_aload_n (i := 0) h dX5_go_52 rfl rfl ?_
      refine g_aload_n (i := 0) h dX5_go_53 rfl rfl ?_
      refine g_get h f_X5_28_5 hc rfl dX5_go_54 ?_
      refine r_put h fp_X5_31_5 hc hw (Nat.le_of_ble_eq_true rfl) rfl rfl dX5_go_57 (fun c hc hw => ?_)
      refine g_aload_n (i := 0) h dX5_go_60 rfl rfl ?_
      refine g_aload_n (i := 0) h dX5_go_61 rfl rfl ?_
      refine g_get h f_X5_28_5 hc rfl dX5_go_62 ?_
      refine g_invV h (ct_rat h.k hc hw.tx hz (k := q) (by omega)) hcX5_at w_X5_34 rfl rfl hc (Nat.le_of_ble_eq_true rfl) ⟨Nat.le_of_ble_eq_true rfl, Nat.le_of_ble_eq_true rfl⟩ (by refine ⟨?_, ?_⟩ <;> ((try dsimp only); omega)) dX5_go_65 (gkr_ip ?_) gkt_ip
      refine g_istore_n (i := 1) h dX5_go_68 rfl (by decide) ?_
      refine g_aload_n (i := 0) h dX5_go_69 rfl rfl ?_
      refine g_ldcS h hE.2.2.1 dX5_go_70 ?_
      refine r_put h fp_X5_11_5 hc hw (Nat.le_of_ble_eq_true rfl) rfl rfl dX5_go_72 (fun c hc hw => ?_)
      refine g_aload_n (i := 0) h dX5_go_75 rfl rfl ?_
      refine g_iconst (v := 0) h dX5_go_76 (by decide) ?_
      refine r_put h fp_X5_38_5 hc hw (Nat.le_of_ble_eq_true rfl) rfl rfl dX5_go_77 (fun c hc hw => ?_)
      refine g_aload_n (i := 0) h dX5_go_80 rfl rfl ?_
      refine g_get h f_X5_28_5 hc rfl dX5_go_81 ?_
      refine g_aload_n (i := 0) h dX5_go_84 rfl rfl ?_
      refine g_get h f_X5_21_5 hc rfl dX5_go_85 ?_
      refine g_icmp_lt (tgt := 101) h dX5_go_88 (by decide) (fun _bz => absurd _bz (fun z => absurd (nI_le (a := sz) (b := q) (by omega) (by omega)) (Int32.not_le.mpr z))) (fun b88 => ?_)
      refine g_aload_n (i := 0) h dX5_go_91 rfl rfl ?_
      refine g_getstatic h hE.1.1 q673 dX5_go_92 ?_
      refine r_put h fp_X5_47_5 hc hw (Nat.le_of_ble_eq_true rfl) rfl rfl dX5_go_95 (fun c hc hw => ?_)
      refine g_goto (tgt := 325) h dX5_go_98 (by decide) ?_
      exact g_vret h ⟨rfl, RD_end hw.tx (by omega) hc, hw.1⟩ (by (try dsimp only); omega) (by (try dsimp only); omega) dX5_go_325
    have hsq : sSmall (f q) = sSmall (T q) := by have z := hX.small (k := q) (by omega); rwa [show rt f sz q = f q from if_pos hlt] at z
    have hdq : sDigit (f q) = sDigit (T q) := by have z := hX.digit (k := q) (by omega); rwa [show rt f sz q = f q from if_pos hlt] at z
    have hgq : rSg (T q) = rSg (f q) := by rw [(hX.2 q hlt).1]; exact (hX.2 q hlt).2.sg
    have hle := pLt_le T (sz - q) q
    have hend := pLt_end hX.1 (sz - q) q (by omega)
    have L2 : sSmall (T q) = true → ∀ (nu : Int64) (n : Nat), n ≤ (pLt T (sz - q) q) → q ≤ n → ∀ c : gLH, c rd = rC tx sz n q o (.ref (E 1)) (.ref e9) 0 nu → rW c0 rd tx f c → G φ (gQ φ (pV (fun c' => RD T f E e9 rd tx sz q o c' ∧ ∀ (a r : Nat) (e : va_E), c0 a = some (r, e) → a ≠ rd → c' a = some (r, e))) 4 32) 115 [(0, .ref rd)] [] c 0 0 := by
      intro hsm nu
      refine gloop ?_ ?_
      · intro _ c hc hw
        refine g_aload_n (i := 0) h dX5_go_115 rfl rfl ?_
        refine g_aload_n (i := 0) h dX5_go_116 rfl rfl ?_
        refine g_get h f_X5_28_5 hc rfl dX5_go_117 ?_
        refine g_invV h (ct_rat h.k hc hw.tx hz (k := (pLt T (sz - q) q)) (by omega)) hcX5_at w_X5_34 rfl rfl hc (Nat.le_of_ble_eq_true rfl) ⟨Nat.le_of_ble_eq_true rfl, Nat.le_of_ble_eq_true rfl⟩ (by refine ⟨?_, ?_⟩ <;> ((try dsimp only); omega)) dX5_go_120 (gkr_ip ?_) gkt_ip
        refine g_invS h (ct_risSmall h.k _) hcX5_isSmall w_X5_50 rfl rfl (Nat.le_of_ble_eq_true rfl) ⟨Nat.le_of_ble_eq_true rfl, Nat.le_of_ble_eq_true rfl⟩ (by refine ⟨?_, ?_⟩ <;> ((try dsimp only); omega)) dX5_go_123 (gkr_ip ?_) gkt_ip
        rw [hX.small (show (pLt T (sz - q) q) < 100000 by omega), hend]
        refine g_if_eq (tgt := 142) h dX5_go_126 (by decide) (fun b126 => ?_) (fun _bz => absurd _bz (by decide))
        refine g_aload_n (i := 0) h dX5_go_142 rfl rfl ?_
        refine g_get h f_X5_28_5 hc rfl dX5_go_143 ?_
        refine g_aload_n (i := 0) h dX5_go_146 rfl rfl ?_
        refine g_get h f_X5_31_5 hc rfl dX5_go_147 ?_
        refine g_isub h dX5_go_150 ?_
        refine G.int (nI_sub2 hle.1) ?_
        refine g_bipush (v := nI 8) h dX5_go_151 (by decide) ?_
        refine g_icmp_gt (tgt := 325) h dX5_go_153 (by decide) (fun b153 => ?_) (fun b153 => ?_)
        · exact g_vret h ⟨rfl, RD_word hw.tx hlt hsm hc (Or.inr ⟨fun z => absurd (nI_le z (by decide)) (Int32.not_le.mpr b153), rfl⟩), hw.1⟩ (by (try dsimp only); omega) (by (try dsimp only); omega) dX5_go_325
        · have hn8 : (pLt T (sz - q) q) - q ≤ 8 := by have := Int32.not_lt.mp b153; exact (nI_leI (by omega) (by decide)).mp this
          refine g_aload_n (i := 0) h dX5_go_156 rfl rfl ?_
          refine g_aload_n (i := 0) h dX5_go_157 rfl rfl ?_
          refine g_invV h (ct_rstring (T := T) (q := q) (n := (pLt T (sz - q) q) - q) h.k hs (show c rd = rC tx sz (q + ((pLt T (sz - q) q) - q)) q o _ _ _ _ by rw [show q + ((pLt T (sz - q) q) - q) = (pLt T (sz - q) q) by omega]; exact hc) hw.tx hn8 (by omega) (fun i hi => hX.sm (by omega) (hle.2.2 _ (by omega) (by omega))) (fun i hi => hle.2.2 _ (by omega) (by omega))) hcX5_string w_X5_57 rfl rfl hc (Nat.le_of_ble_eq_true rfl) ⟨Nat.le_of_ble_eq_true rfl, Nat.le_of_ble_eq_true rfl⟩ (by refine ⟨?_, ?_⟩ <;> ((try dsimp only); omega)) dX5_go_158 (gkr_ae (fun s c1 hP => ?_)) gkt_ae
          obtain ⟨hs0, v, f', k1, k2, k3, old⟩ := hP
          have hc1 := old _ _ _ hc
          have hsr : s ≠ rd := fun z => by rw [z, hc] at hs0; cases hs0
          have hvr : v ≠ rd := fun z => by rw [z, hc1] at k2; cases k2
          refine g_put h fp_X5_11_5 hc1 gRd_lt (Nat.le_of_ble_eq_true rfl) rfl rfl dX5_go_161 ?_
          refine g_goto (tgt := 325) h dX5_go_164 (by decide) ?_
          exact g_vret h ⟨rfl, RD_word (by rw [va_up_n _ _ hw.2.2]; exact old _ _ _ hw.2.1) hlt hsm (va_up_s _ _ _) (Or.inl ⟨hn8, v, f', by rw [va_up_n _ _ hsr]; exact k1, by rw [va_up_n _ _ hvr]; exact k2, k3⟩), fun a r e h1 h2 => by rw [va_up_n _ _ h2]; exact old _ _ _ (hw.1 a r e h1 h2)⟩ (by (try dsimp only); omega) (by (try dsimp only); omega) dX5_go_325
      · intro n hn1 ih hqn c hc hw
        refine g_aload_n (i := 0) h dX5_go_115 rfl rfl ?_
        refine g_aload_n (i := 0) h dX5_go_116 rfl rfl ?_
        refine g_get h f_X5_28_5 hc rfl dX5_go_117 ?_
        refine g_invV h (ct_rat h.k hc hw.tx hz (k := n) (by omega)) hcX5_at w_X5_34 rfl rfl hc (Nat.le_of_ble_eq_true rfl) ⟨Nat.le_of_ble_eq_true rfl, Nat.le_of_ble_eq_true rfl⟩ (by refine ⟨?_, ?_⟩ <;> ((try dsimp only); omega)) dX5_go_120 (gkr_ip ?_) gkt_ip
        refine g_invS h (ct_risSmall h.k _) hcX5_isSmall w_X5_50 rfl rfl (Nat.le_of_ble_eq_true rfl) ⟨Nat.le_of_ble_eq_true rfl, Nat.le_of_ble_eq_true rfl⟩ (by refine ⟨?_, ?_⟩ <;> ((try dsimp only); omega)) dX5_go_123 (gkr_ip ?_) gkt_ip
        rw [hX.small (show n < 100000 by omega), hle.2.2 n hqn hn1]
        refine g_if_eq (tgt := 142) h dX5_go_126 (by decide) (fun _bz => absurd _bz (by decide)) (fun b126 => ?_)
        refine g_aload_n (i := 0) h dX5_go_129 rfl rfl ?_
        refine g_dup h dX5_go_130 rfl ?_
        refine g_get h f_X5_28_5 hc rfl dX5_go_131 ?_
        refine g_iconst (v := nI 1) h dX5_go_134 (by decide) ?_
        first | (with_reducible refine g_iaddN h dX5_go_135 ?_) | refine g_iadd h dX5_go_135 ?_
        refine r_put h fp_X5_28_5 hc hw (Nat.le_of_ble_eq_true rfl) rfl rfl dX5_go_136 (fun c hc hw => ?_)
        refine g_goto (tgt := 115) h dX5_go_139 (by decide) ?_
        exact ih (by omega) c hc hw
    have L3 : ¬ sSmall (T q) = true → sDigit (T q) = true → ∀ (m k : Nat) (v : Int64) (c : gLH), k + m = sz → pCp T m k v = pCp T (sz - q) q 0 → c rd = rC tx sz k q o (.ref (E 2)) (.ref e9) 0 v → rW c0 rd tx f c → G φ (gQ φ (pV (fun c' => RD T f E e9 rd tx sz q o c' ∧ ∀ (a r : Nat) (e : va_E), c0 a = some (r, e) → a ≠ rd → c' a = some (r, e))) 4 32) 186 [(0, .ref rd)] [] c 0 0 := by
      intro hns hdg m
      induction m with
      | zero =>
        intro k v c hk2 hP hc hw
        have hnd : sDigit (T k) = false := by rw [hX.1.2 k (by omega) (by omega)]; exact digit_0
        refine g_aload_n (i := 0) h dX5_go_186 rfl rfl ?_
        refine g_aload_n (i := 0) h dX5_go_187 rfl rfl ?_
        refine g_get h f_X5_28_5 hc rfl dX5_go_188 ?_
        refine g_invV h (ct_rat h.k hc hw.tx hz (k := k) (by omega)) hcX5_at w_X5_34 rfl rfl hc (Nat.le_of_ble_eq_true rfl) ⟨Nat.le_of_ble_eq_true rfl, Nat.le_of_ble_eq_true rfl⟩ (by refine ⟨?_, ?_⟩ <;> ((try dsimp only); omega)) dX5_go_191 (gkr_ip ?_) gkt_ip
        refine g_invS h (ct_risDigit h.k _) hcX5_isDigit w_X5_61 rfl rfl (Nat.le_of_ble_eq_true rfl) ⟨Nat.le_of_ble_eq_true rfl, Nat.le_of_ble_eq_true rfl⟩ (by refine ⟨?_, ?_⟩ <;> ((try dsimp only); omega)) dX5_go_194 (gkr_ip ?_) gkt_ip
        rw [hX.digit (show k < 100000 by omega), hnd]
        refine g_if_eq (tgt := 325) h dX5_go_197 (by decide) (fun b197 => ?_) (fun _bz => absurd _bz (by decide))
        exact g_vret h ⟨rfl, RD_num hw.tx hlt hns hdg (by rw [← hP, pCp_stop (by rw [hnd]; decide)]; exact hc), hw.1⟩ (by (try dsimp only); omega) (by (try dsimp only); omega) dX5_go_325
      | succ m ih =>
        intro k v c hk2 hP hc hw
        cases hnd : sDigit (T k)
        case false =>
          skip
          refine g_aload_n (i := 0) h dX5_go_186 rfl rfl ?_
          refine g_aload_n (i := 0) h dX5_go_187 rfl rfl ?_
          refine g_get h f_X5_28_5 hc rfl dX5_go_188 ?_
          refine g_invV h (ct_rat h.k hc hw.tx hz (k := k) (by omega)) hcX5_at w_X5_34 rfl rfl hc (Nat.le_of_ble_eq_true rfl) ⟨Nat.le_of_ble_eq_true rfl, Nat.le_of_ble_eq_true rfl⟩ (by refine ⟨?_, ?_⟩ <;> ((try dsimp only); omega)) dX5_go_191 (gkr_ip ?_) gkt_ip
          refine g_invS h (ct_risDigit h.k _) hcX5_isDigit w_X5_61 rfl rfl (Nat.le_of_ble_eq_true rfl) ⟨Nat.le_of_ble_eq_true rfl, Nat.le_of_ble_eq_true rfl⟩ (by refine ⟨?_, ?_⟩ <;> ((try dsimp only); omega)) dX5_go_194 (gkr_ip ?_) gkt_ip
          rw [hX.digit (show k < 100000 by omega), hnd]
          refine g_if_eq (tgt := 325) h dX5_go_197 (by decide) (fun b197 => ?_) (fun _bz => absurd _bz (by decide))
          exact g_vret h ⟨rfl, RD_num hw.tx hlt hns hdg (by rw [← hP, pCp_stop (by rw [hnd]; decide)]; exact hc), hw.1⟩ (by (try dsimp only); omega) (by (try dsimp only); omega) dX5_go_325
        case true =>
          skip
          refine g_aload_n (i := 0) h dX5_go_186 rfl rfl ?_
          refine g_aload_n (i := 0) h dX5_go_187 rfl rfl ?_
          refine g_get h f_X5_28_5 hc rfl dX5_go_188 ?_
          refine g_invV h (ct_rat h.k hc hw.tx hz (k := k) (by omega)) hcX5_at w_X5_34 rfl rfl hc (Nat.le_of_ble_eq_true rfl) ⟨Nat.le_of_ble_eq_true rfl, Nat.le_of_ble_eq_true rfl⟩ (by refine ⟨?_, ?_⟩ <;> ((try dsimp only); omega)) dX5_go_191 (gkr_ip ?_) gkt_ip
          refine g_invS h (ct_risDigit h.k _) hcX5_isDigit w_X5_61 rfl rfl (Nat.le_of_ble_eq_true rfl) ⟨Nat.le_of_ble_eq_true rfl, Nat.le_of_ble_eq_true rfl⟩ (by refine ⟨?_, ?_⟩ <;> ((try dsimp only); omega)) dX5_go_194 (gkr_ip ?_) gkt_ip
          rw [hX.digit (show k < 100000 by omega), hnd]
          refine g_if_eq (tgt := 325) h dX5_go_197 (by decide) (fun _bz => absurd _bz (by decide)) (fun b197 => ?_)
          refine g_aload_n (i := 0) h dX5_go_200 rfl rfl ?_
          refine g_ldc2 (v := 10) h dX5_go_201 q714 ?_
          refine g_aload_n (i := 0) h dX5_go_204 rfl rfl ?_
          refine g_get h f_X5_67_5 hc rfl dX5_go_205 ?_
          refine g_lmul h dX5_go_208 ?_
          refine g_aload_n (i := 0) h dX5_go_209 rfl rfl ?_
          refine g_aload_n (i := 0) h dX5_go_210 rfl rfl ?_
          refine g_get h f_X5_28_5 hc rfl dX5_go_211 ?_
          refine g_invV h (ct_rat h.k hc hw.tx hz (k := k) (by omega)) hcX5_at w_X5_34 rfl rfl hc (Nat.le_of_ble_eq_true rfl) ⟨Nat.le_of_ble_eq_true rfl, Nat.le_of_ble_eq_true rfl⟩ (by refine ⟨?_, ?_⟩ <;> ((try dsimp only); omega)) dX5_go_214 (gkr_ip ?_) gkt_ip
          refine G.int (show rt f sz k = T k by rw [rt, if_pos (show k < sz by omega)]; exact hX.dg (by omega) hnd) ?_
          refine g_i2l h dX5_go_217 ?_
          refine g_ladd h dX5_go_218 ?_
          refine g_ldc2 (v := 48) h dX5_go_219 q715 ?_
          refine g_lsub h dX5_go_222 ?_
          refine g_ldc2 (v := 1000001) h dX5_go_223 q716 ?_
          refine g_mminl h q717 (Nat.le_of_ble_eq_true rfl) ⟨Nat.le_of_ble_eq_true rfl, Nat.le_of_ble_eq_true rfl⟩ (by refine ⟨?_, ?_⟩ <;> ((try dsimp only); omega)) dX5_go_226 ?_
          refine r_put h fp_X5_67_5 hc hw (Nat.le_of_ble_eq_true rfl) rfl rfl dX5_go_229 (fun c hc hw => ?_)
          refine g_aload_n (i := 0) h dX5_go_232 rfl rfl ?_
          refine g_dup h dX5_go_233 rfl ?_
          refine g_get h f_X5_28_5 hc rfl dX5_go_234 ?_
          refine g_iconst (v := nI 1) h dX5_go_237 (by decide) ?_
          first | (with_reducible refine g_iaddN h dX5_go_238 ?_) | refine g_iadd h dX5_go_238 ?_
          refine r_put h fp_X5_28_5 hc hw (Nat.le_of_ble_eq_true rfl) rfl rfl dX5_go_239 (fun c hc hw => ?_)
          refine g_goto (tgt := 186) h dX5_go_242 (by decide) ?_
          exact ih (k + 1) _ c (by omega) ((pCp_step hnd).symm.trans hP) hc hw
    have X298 : ¬ sSmall (T q) = true → ¬ sDigit (T q) = true → rSg (T q) = true → ∀ (nu : Int64) (c : gLH), c rd = rC tx sz q q o so (.ref e9) 0 nu → rW c0 rd tx f c → G φ (gQ φ (pV (fun c' => RD T f E e9 rd tx sz q o c' ∧ ∀ (a r : Nat) (e : va_E), c0 a = some (r, e) → a ≠ rd → c' a = some (r, e))) 4 32) 298 [(0, .ref rd), (1, .int (f q))] [.ref rd] c 0 0 := by
      intro hns hnd hg nu c hc hw
      refine g_getstatic h hE.1.2.2.2.1 q720 dX5_go_298 ?_
      refine g_goto (tgt := 307) h dX5_go_301 (by decide) ?_
      refine r_put h fp_X5_47_5 hc hw (Nat.le_of_ble_eq_true rfl) rfl rfl dX5_go_307 (fun c hc hw => ?_)
      refine g_aload_n (i := 0) h dX5_go_310 rfl rfl ?_
      refine g_iload_n (i := 1) h dX5_go_311 rfl rfl ?_
      refine r_put h fp_X5_38_5 hc hw (Nat.le_of_ble_eq_true rfl) rfl rfl dX5_go_312 (fun c hc hw => ?_)
      refine g_aload_n (i := 0) h dX5_go_315 rfl rfl ?_
      refine g_dup h dX5_go_316 rfl ?_
      refine g_get h f_X5_28_5 hc rfl dX5_go_317 ?_
      refine g_iconst (v := nI 1) h dX5_go_320 (by decide) ?_
      first | (with_reducible refine g_iaddN h dX5_go_321 ?_) | refine g_iadd h dX5_go_321 ?_
      refine r_put h fp_X5_28_5 hc hw (Nat.le_of_ble_eq_true rfl) rfl rfl dX5_go_322 (fun c hc hw => ?_)
      exact g_vret h ⟨rfl, RD_sign (b := true) hw.tx hlt hns hnd hg hc, hw.1⟩ (by (try dsimp only); omega) (by (try dsimp only); omega) dX5_go_325
    have X304 : ¬ sSmall (T q) = true → ¬ sDigit (T q) = true → rSg (T q) = false → ∀ (nu : Int64) (c : gLH), c rd = rC tx sz q q o so (.ref e9) 0 nu → rW c0 rd tx f c → G φ (gQ φ (pV (fun c' => RD T f E e9 rd tx sz q o c' ∧ ∀ (a r : Nat) (e : va_E), c0 a = some (r, e) → a ≠ rd → c' a = some (r, e))) 4 32) 304 [(0, .ref rd), (1, .int (f q))] [.ref rd] c 0 0 := by
      intro hns hnd hg nu c hc hw
      refine g_getstatic h hE.1.2.2.2.2 q722 dX5_go_304 ?_
      refine r_put h fp_X5_47_5 hc hw (Nat.le_of_ble_eq_true rfl) rfl rfl dX5_go_307 (fun c hc hw => ?_)
      refine g_aload_n (i := 0) h dX5_go_310 rfl rfl ?_
      refine g_iload_n (i := 1) h dX5_go_311 rfl rfl ?_
      refine r_put h fp_X5_38_5 hc hw (Nat.le_of_ble_eq_true rfl) rfl rfl dX5_go_312 (fun c hc hw => ?_)
      refine g_aload_n (i := 0) h dX5_go_315 rfl rfl ?_
      refine g_dup h dX5_go_316 rfl ?_
      refine g_get h f_X5_28_5 hc rfl dX5_go_317 ?_
      refine g_iconst (v := nI 1) h dX5_go_320 (by decide) ?_
      first | (with_reducible refine g_iaddN h dX5_go_321 ?_) | refine g_iadd h dX5_go_321 ?_
      refine r_put h fp_X5_28_5 hc hw (Nat.le_of_ble_eq_true rfl) rfl rfl dX5_go_322 (fun c hc hw => ?_)
      exact g_vret h ⟨rfl, RD_sign (b := false) hw.tx hlt hns hnd hg hc, hw.1⟩ (by (try dsimp only); omega) (by (try dsimp only); omega) dX5_go_325
    have JS : ¬ sSmall (T q) = true → ¬ sDigit (T q) = true → ∀ (nu : Int64) (c : gLH), c rd = rC tx sz q q o so (.ref e9) 0 nu → rW c0 rd tx f c → G φ (gQ φ (pV (fun c' => RD T f E e9 rd tx sz q o c' ∧ ∀ (a r : Nat) (e : va_E), c0 a = some (r, e) → a ≠ rd → c' a = some (r, e))) 4 32) 245 [(0, .ref rd), (1, .int (f q))] [] c 0 0 := by
      intro hns hnd nu c hc hw
      have X298 := fun hg => X298 hns hnd hg nu
      have X304 := fun hg => X304 hns hnd hg nu
      refine g_iload_n (i := 1) h dX5_go_245 rfl rfl ?_
      refine g_bipush (v := 40) h dX5_go_246 (by decide) ?_
      refine g_icmp_eq (tgt := 287) h dX5_go_248 (by decide) (fun b248 => ?_) (fun b248 => ?_)
      · refine g_iconst (v := 1) h dX5_go_287 (by decide) ?_
        refine g_goto (tgt := 292) h dX5_go_288 (by decide) ?_
        refine g_istore_n (i := 2) h dX5_go_292 rfl (by decide) ?_
        refine g_aload_n (i := 0) h dX5_go_293 rfl rfl ?_
        refine g_iload_n (i := 2) h dX5_go_294 rfl rfl ?_
        refine g_if_eq (tgt := 304) h dX5_go_295 (by decide) (fun _bz => absurd _bz (by decide)) (fun _bz => ?_)
        exact G.to (X298 (by rw [hgq]; simp [rSg, b248]) c hc hw) ⟨rfl, rfl, trivial⟩
      · refine g_iload_n (i := 1) h dX5_go_251 rfl rfl ?_
        refine g_bipush (v := 41) h dX5_go_252 (by decide) ?_
        refine g_icmp_eq (tgt := 287) h dX5_go_254 (by decide) (fun b254 => ?_) (fun b254 => ?_)
        · refine g_iconst (v := 1) h dX5_go_287 (by decide) ?_
          refine g_goto (tgt := 292) h dX5_go_288 (by decide) ?_
          refine g_istore_n (i := 2) h dX5_go_292 rfl (by decide) ?_
          refine g_aload_n (i := 0) h dX5_go_293 rfl rfl ?_
          refine g_iload_n (i := 2) h dX5_go_294 rfl rfl ?_
          refine g_if_eq (tgt := 304) h dX5_go_295 (by decide) (fun _bz => absurd _bz (by decide)) (fun _bz => ?_)
          exact G.to (X298 (by rw [hgq]; simp [rSg, b248, b254]) c hc hw) ⟨rfl, rfl, trivial⟩
        · refine g_iload_n (i := 1) h dX5_go_257 rfl rfl ?_
          refine g_bipush (v := 59) h dX5_go_258 (by decide) ?_
          refine g_icmp_eq (tgt := 287) h dX5_go_260 (by decide) (fun b260 => ?_) (fun b260 => ?_)
          · refine g_iconst (v := 1) h dX5_go_287 (by decide) ?_
            refine g_goto (tgt := 292) h dX5_go_288 (by decide) ?_
            refine g_istore_n (i := 2) h dX5_go_292 rfl (by decide) ?_
            refine g_aload_n (i := 0) h dX5_go_293 rfl rfl ?_
            refine g_iload_n (i := 2) h dX5_go_294 rfl rfl ?_
            refine g_if_eq (tgt := 304) h dX5_go_295 (by decide) (fun _bz => absurd _bz (by decide)) (fun _bz => ?_)
            exact G.to (X298 (by rw [hgq]; simp [rSg, b248, b254, b260]) c hc hw) ⟨rfl, rfl, trivial⟩
          · refine g_iload_n (i := 1) h dX5_go_263 rfl rfl ?_
            refine g_bipush (v := 47) h dX5_go_264 (by decide) ?_
            refine g_icmp_eq (tgt := 287) h dX5_go_266 (by decide) (fun b266 => ?_) (fun b266 => ?_)
            · refine g_iconst (v := 1) h dX5_go_287 (by decide) ?_
              refine g_goto (tgt := 292) h dX5_go_288 (by decide) ?_
              refine g_istore_n (i := 2) h dX5_go_292 rfl (by decide) ?_
              refine g_aload_n (i := 0) h dX5_go_293 rfl rfl ?_
              refine g_iload_n (i := 2) h dX5_go_294 rfl rfl ?_
              refine g_if_eq (tgt := 304) h dX5_go_295 (by decide) (fun _bz => absurd _bz (by decide)) (fun _bz => ?_)
              exact G.to (X298 (by rw [hgq]; simp [rSg, b248, b254, b260, b266]) c hc hw) ⟨rfl, rfl, trivial⟩
            · refine g_iload_n (i := 1) h dX5_go_269 rfl rfl ?_
              refine g_bipush (v := 61) h dX5_go_270 (by decide) ?_
              refine g_icmp_eq (tgt := 287) h dX5_go_272 (by decide) (fun b272 => ?_) (fun b272 => ?_)
              · refine g_iconst (v := 1) h dX5_go_287 (by decide) ?_
                refine g_goto (tgt := 292) h dX5_go_288 (by decide) ?_
                refine g_istore_n (i := 2) h dX5_go_292 rfl (by decide) ?_
                refine g_aload_n (i := 0) h dX5_go_293 rfl rfl ?_
                refine g_iload_n (i := 2) h dX5_go_294 rfl rfl ?_
                refine g_if_eq (tgt := 304) h dX5_go_295 (by decide) (fun _bz => absurd _bz (by decide)) (fun _bz => ?_)
                exact G.to (X298 (by rw [hgq]; simp [rSg, b248, b254, b260, b266, b272]) c hc hw) ⟨rfl, rfl, trivial⟩
              · refine g_iload_n (i := 1) h dX5_go_275 rfl rfl ?_
                refine g_bipush (v := 60) h dX5_go_276 (by decide) ?_
                refine g_icmp_eq (tgt := 287) h dX5_go_278 (by decide) (fun b278 => ?_) (fun b278 => ?_)
                · refine g_iconst (v := 1) h dX5_go_287 (by decide) ?_
                  refine g_goto (tgt := 292) h dX5_go_288 (by decide) ?_
                  refine g_istore_n (i := 2) h dX5_go_292 rfl (by decide) ?_
                  refine g_aload_n (i := 0) h dX5_go_293 rfl rfl ?_
                  refine g_iload_n (i := 2) h dX5_go_294 rfl rfl ?_
                  refine g_if_eq (tgt := 304) h dX5_go_295 (by decide) (fun _bz => absurd _bz (by decide)) (fun _bz => ?_)
                  exact G.to (X298 (by rw [hgq]; simp [rSg, b248, b254, b260, b266, b272, b278]) c hc hw) ⟨rfl, rfl, trivial⟩
                · refine g_iload_n (i := 1) h dX5_go_281 rfl rfl ?_
                  refine g_bipush (v := 62) h dX5_go_282 (by decide) ?_
                  refine g_icmp_ne (tgt := 291) h dX5_go_284 (by decide) (fun b284 => ?_) (fun b284 => ?_)
                  · refine g_iconst (v := 0) h dX5_go_291 (by decide) ?_
                    refine g_istore_n (i := 2) h dX5_go_292 rfl (by decide) ?_
                    refine g_aload_n (i := 0) h dX5_go_293 rfl rfl ?_
                    refine g_iload_n (i := 2) h dX5_go_294 rfl rfl ?_
                    refine g_if_eq (tgt := 304) h dX5_go_295 (by decide) (fun _bz => ?_) (fun _bz => absurd _bz (by decide))
                    exact G.to (X304 (by rw [hgq]; simp [rSg, b248, b254, b260, b266, b272, b278, b284]) c hc hw) ⟨rfl, rfl, trivial⟩
                  · refine g_iconst (v := 1) h dX5_go_287 (by decide) ?_
                    refine g_goto (tgt := 292) h dX5_go_288 (by decide) ?_
                    refine g_istore_n (i := 2) h dX5_go_292 rfl (by decide) ?_
                    refine g_aload_n (i := 0) h dX5_go_293 rfl rfl ?_
                    refine g_iload_n (i := 2) h dX5_go_294 rfl rfl ?_
                    refine g_if_eq (tgt := 304) h dX5_go_295 (by decide) (fun _bz => absurd _bz (by decide)) (fun _bz => ?_)
                    exact G.to (X298 (by rw [hgq]; simp [rSg, b248, b254, b260, b266, b272, b278, b284]) c hc hw) ⟨rfl, rfl, trivial⟩
    refine g_aload_n (i := 0) h dX5_go_52 rfl rfl ?_
    refine g_aload_n (i := 0) h dX5_go_53 rfl rfl ?_
    refine g_get h f_X5_28_5 hc rfl dX5_go_54 ?_
    refine r_put h fp_X5_31_5 hc hw (Nat.le_of_ble_eq_true rfl) rfl rfl dX5_go_57 (fun c hc hw => ?_)
    refine g_aload_n (i := 0) h dX5_go_60 rfl rfl ?_
    refine g_aload_n (i := 0) h dX5_go_61 rfl rfl ?_
    refine g_get h f_X5_28_5 hc rfl dX5_go_62 ?_
    refine g_invV h (ct_rat h.k hc hw.tx hz (k := q) (by omega)) hcX5_at w_X5_34 rfl rfl hc (Nat.le_of_ble_eq_true rfl) ⟨Nat.le_of_ble_eq_true rfl, Nat.le_of_ble_eq_true rfl⟩ (by refine ⟨?_, ?_⟩ <;> ((try dsimp only); omega)) dX5_go_65 (gkr_ip ?_) gkt_ip
    refine G.int (show rt f sz q = f q from if_pos hlt) ?_
    refine g_istore_n (i := 1) h dX5_go_68 rfl (by decide) ?_
    refine g_aload_n (i := 0) h dX5_go_69 rfl rfl ?_
    refine g_ldcS h hE.2.2.1 dX5_go_70 ?_
    refine r_put h fp_X5_11_5 hc hw (Nat.le_of_ble_eq_true rfl) rfl rfl dX5_go_72 (fun c hc hw => ?_)
    refine g_aload_n (i := 0) h dX5_go_75 rfl rfl ?_
    refine g_iconst (v := 0) h dX5_go_76 (by decide) ?_
    refine r_put h fp_X5_38_5 hc hw (Nat.le_of_ble_eq_true rfl) rfl rfl dX5_go_77 (fun c hc hw => ?_)
    refine g_aload_n (i := 0) h dX5_go_80 rfl rfl ?_
    refine g_get h f_X5_28_5 hc rfl dX5_go_81 ?_
    refine g_aload_n (i := 0) h dX5_go_84 rfl rfl ?_
    refine g_get h f_X5_21_5 hc rfl dX5_go_85 ?_
    refine g_icmp_lt (tgt := 101) h dX5_go_88 (by decide) (fun b88 => ?_) (fun _bz => absurd _bz (fun z => z (nI_ltN hlt (by omega))))
    refine g_iload_n (i := 1) h dX5_go_101 rfl rfl ?_
    refine g_invS h (ct_risSmall h.k _) hcX5_isSmall w_X5_50 rfl rfl (Nat.le_of_ble_eq_true rfl) ⟨Nat.le_of_ble_eq_true rfl, Nat.le_of_ble_eq_true rfl⟩ (by refine ⟨?_, ?_⟩ <;> ((try dsimp only); omega)) dX5_go_102 (gkr_ip ?_) gkt_ip
    rw [hsq]
    refine g_if_eq (tgt := 167) h dX5_go_105 (by decide) (fun b105 => ?_) (fun b105 => ?_)
    · rw [zB_0] at b105
      refine g_iload_n (i := 1) h dX5_go_167 rfl rfl ?_
      refine g_invS h (ct_risDigit h.k _) hcX5_isDigit w_X5_61 rfl rfl (Nat.le_of_ble_eq_true rfl) ⟨Nat.le_of_ble_eq_true rfl, Nat.le_of_ble_eq_true rfl⟩ (by refine ⟨?_, ?_⟩ <;> ((try dsimp only); omega)) dX5_go_168 (gkr_ip ?_) gkt_ip
      rw [hdq]
      refine g_if_eq (tgt := 245) h dX5_go_171 (by decide) (fun b171 => ?_) (fun b171 => ?_)
      · rw [zB_0] at b171
        exact G.to (JS (by rw [b105]; decide) (by rw [b171]; decide) nu c hc hw) ⟨rfl, rfl, trivial⟩
      · rw [zB_n0] at b171
        refine g_aload_n (i := 0) h dX5_go_174 rfl rfl ?_
        refine g_getstatic h hE.1.2.2.1 q712 dX5_go_175 ?_
        refine r_put h fp_X5_47_5 hc hw (Nat.le_of_ble_eq_true rfl) rfl rfl dX5_go_178 (fun c hc hw => ?_)
        refine g_aload_n (i := 0) h dX5_go_181 rfl rfl ?_
        refine g_lconst (v := 0) h dX5_go_182 (by decide) ?_
        refine r_put h fp_X5_67_5 hc hw (Nat.le_of_ble_eq_true rfl) rfl rfl dX5_go_183 (fun c hc hw => ?_)
        exact G.to (L3 (by rw [b105]; decide) b171 (sz - q) q 0 c (by omega) rfl hc hw) ⟨rfl, trivial⟩
    · rw [zB_n0] at b105
      refine g_aload_n (i := 0) h dX5_go_108 rfl rfl ?_
      refine g_getstatic h hE.1.2.1 q678 dX5_go_109 ?_
      refine r_put h fp_X5_47_5 hc hw (Nat.le_of_ble_eq_true rfl) rfl rfl dX5_go_112 (fun c hc hw => ?_)
      exact G.to (L2 b105 nu q (pLt_le T (sz - q) q).1 (Nat.le_refl _) c hc hw) ⟨rfl, trivial⟩
  have L1 : ∀ n, n ≤ sz → ∀ (c : gLH), c rd = rC tx sz n q0 o so w sg nu → rW c0 rd tx f c → pB T sz nx = pB T sz n → G φ (gQ φ (pV (fun c' => RD T f E e9 rd tx sz (pB T sz nx) o c' ∧ ∀ (a r : Nat) (e : va_E), c0 a = some (r, e) → a ≠ rd → c' a = some (r, e))) 4 32) 0 [(0, .ref rd)] [] c 0 0 := by
    refine gloop ?_ ?_
    · intro c hc hw hp
      refine g_aload_n (i := 0) h dX5_go_0 rfl rfl ?_
      refine g_get h f_X5_28_5 hc rfl dX5_go_1 ?_
      refine g_aload_n (i := 0) h dX5_go_4 rfl rfl ?_
      refine g_get h f_X5_21_5 hc rfl dX5_go_5 ?_
      refine g_icmp_ge (tgt := 52) h dX5_go_8 (by decide) (fun b8 => ?_) (fun _bz => absurd _bz (fun z => z (nI_le (Nat.le_refl _) (by omega))))
      exact J52 sz c q0 (Nat.le_refl _) (hp.trans (pB_end T (fun z => absurd z.1 (by omega)))) hc hw
    · intro n hn1 ih c hc hw hp
      have X39 : ∀ c : gLH, c rd = rC tx sz n q0 o so w sg nu → rW c0 rd tx f c → (T n = 32 ∨ T n = 10) → G φ (gQ φ (pV (fun c' => RD T f E e9 rd tx sz (pB T sz nx) o c' ∧ ∀ (a r : Nat) (e : va_E), c0 a = some (r, e) → a ≠ rd → c' a = some (r, e))) 4 32) 39 [(0, .ref rd)] [] c 0 0 := by
        intro c hc hw hbl
        refine g_aload_n (i := 0) h dX5_go_39 rfl rfl ?_
        refine g_dup h dX5_go_40 rfl ?_
        refine g_get h f_X5_28_5 hc rfl dX5_go_41 ?_
        refine g_iconst (v := nI 1) h dX5_go_44 (by decide) ?_
        first | (with_reducible refine g_iaddN h dX5_go_45 ?_) | refine g_iadd h dX5_go_45 ?_
        refine r_put h fp_X5_28_5 hc hw (Nat.le_of_ble_eq_true rfl) rfl rfl dX5_go_46 (fun c hc hw => ?_)
        refine g_goto (tgt := 0) h dX5_go_49 (by decide) ?_
        exact ih c hc hw (hp.trans (pB_go T ⟨hn1, hbl⟩))
      refine g_aload_n (i := 0) h dX5_go_0 rfl rfl ?_
      refine g_get h f_X5_28_5 hc rfl dX5_go_1 ?_
      refine g_aload_n (i := 0) h dX5_go_4 rfl rfl ?_
      refine g_get h f_X5_21_5 hc rfl dX5_go_5 ?_
      refine g_icmp_ge (tgt := 52) h dX5_go_8 (by decide) (fun _bz => absurd _bz (nI_ge hn1 (by omega))) (fun b8 => ?_)
      refine g_aload_n (i := 0) h dX5_go_11 rfl rfl ?_
      refine g_get h f_X5_17_5 hc rfl dX5_go_12 ?_
      refine g_aload_n (i := 0) h dX5_go_15 rfl rfl ?_
      refine g_get h f_X5_28_5 hc rfl dX5_go_16 ?_
      refine g_baldN h hw.tx (show n < 2000 by omega) (by decide) dX5_go_19 ?_
      refine g_bipush (v := 32) h dX5_go_20 (by decide) ?_
      refine g_icmp_eq (tgt := 39) h dX5_go_22 (by decide) (fun b22 => ?_) (fun b22 => ?_)
      · exact X39 c hc hw (Or.inl ((hX.eq hn1 (by decide) (by decide)).mpr b22))
      · refine g_aload_n (i := 0) h dX5_go_25 rfl rfl ?_
        refine g_get h f_X5_17_5 hc rfl dX5_go_26 ?_
        refine g_aload_n (i := 0) h dX5_go_29 rfl rfl ?_
        refine g_get h f_X5_28_5 hc rfl dX5_go_30 ?_
        refine g_baldN h hw.tx (show n < 2000 by omega) (by decide) dX5_go_33 ?_
        refine g_bipush (v := 10) h dX5_go_34 (by decide) ?_
        refine g_icmp_ne (tgt := 52) h dX5_go_36 (by decide) (fun b36 => ?_) (fun b36 => ?_)
        · exact J52 n c q0 (by omega) (hp.trans (pB_end T (fun z => z.2.elim (fun y => b22 ((hX.eq hn1 (by decide) (by decide)).mp y)) (fun y => b36 ((hX.eq hn1 (by decide) (by decide)).mp y))))) hc hw
        · exact X39 c hc hw (Or.inr ((hX.eq hn1 (by decide) (by decide)).mpr b36))
  exact L1 nx hnx c hc hw rfl
