/-! JDK: strings that are read -/
set_option maxRecDepth 100000
/-- the statics that strings want -/
theorem sh0 (x : Int32) : x >>> ((0 : Int32) &&& 31) = x := by
  rw [show (0 : Int32) &&& 31 = 0 by decide]; exact Int32.shiftRight_zero
def gSS (g : gGP) : Prop := gZ g "java/lang/String" "COMPACT_STRINGS" "Z" (.int 1) ∧ ∃ x, gZ g "jdk/internal/util/Preconditions" "SIOOBE_FORMATTER" "Ljava/util/function/BiFunction;" x ∧ (x = .null ∨ ∃ t, x = .ref t)
/-- a string of plain letters -/
def gStr (c : gLH) (a : Nat) (W : List Nat) : Prop := ∃ (r v r2 : Nat) (y z : Value) (f : Nat → Int32), c a = some (r, .inr (36, [.ref v, .int 0, y, z])) ∧ c v = some (r2, .inl (1, W.length, .inl f)) ∧ W.length < 1000000 ∧ (∀ j, j < W.length → f j = nI (W.getD j 0) ∧ W.getD j 0 < 128) ∧ r % 2 = 1 ∧ r2 % 2 = 1
theorem ct_coder {l : Launch} {g : gGP} (hk : gK l g) {c : gLH} {a : Nat} {W : List Nat} (hs : gSS g) (hS : gStr c a W) : Ct l g yJ9_coder hwJ9_coder 0 0 [.ref a] c (0) (0) (pIp 0 c) := by
  refine Ct.intro hk hcJ9_coder (by decide +kernel) (Nat.le_of_ble_eq_true rfl) (fun φ h => ?_)
  obtain ⟨r, v, r2, y, z, f, hc, hv, hlen, hf, _⟩ := hS
  refine g_getstatic h hs.1 q303 dJ9_coder_0 ?_
  refine g_if_eq (tgt := 13) h dJ9_coder_3 (by decide) (fun _bz => absurd _bz (by decide)) (fun b3 => ?_)
  refine g_aload_n (i := 0) h dJ9_coder_6 rfl rfl ?_
  refine g_get h f_J9_15_36 hc rfl dJ9_coder_7 ?_
  refine g_goto (tgt := 14) h dJ9_coder_10 (by decide) ?_
  exact g_zret h ⟨rfl, rfl⟩ (Nat.le_refl _) (Nat.le_refl _) rfl dJ9_coder_14
theorem ct_isLatin1 {l : Launch} {g : gGP} (hk : gK l g) {c : gLH} {a : Nat} {W : List Nat} (hs : gSS g) (hS : gStr c a W) : Ct l g yJ9_isLatin1 hwJ9_isLatin1 0 0 [.ref a] c (0) (0) (pIp 1 c) := by
  refine Ct.intro hk hcJ9_isLatin1 (by decide +kernel) (Nat.le_of_ble_eq_true rfl) (fun φ h => ?_)
  obtain ⟨r, v, r2, y, z, f, hc, hv, hlen, hf, _⟩ := hS
  refine g_getstatic h hs.1 q303 dJ9_isLatin1_0 ?_
  refine g_if_eq (tgt := 17) h dJ9_isLatin1_3 (by decide) (fun _bz => absurd _bz (by decide)) (fun b3 => ?_)
  refine g_aload_n (i := 0) h dJ9_isLatin1_6 rfl rfl ?_
  refine g_get h f_J9_15_36 hc rfl dJ9_isLatin1_7 ?_
  refine g_if_ne (tgt := 17) h dJ9_isLatin1_10 (by decide) (fun _bz => absurd _bz (by decide)) (fun b10 => ?_)
  refine g_iconst (v := 1) h dJ9_isLatin1_13 (by decide) ?_
  refine g_goto (tgt := 18) h dJ9_isLatin1_14 (by decide) ?_
  exact g_zret h ⟨rfl, rfl⟩ (Nat.le_refl _) (Nat.le_refl _) (by first | rfl | exact zB_nar _) dJ9_isLatin1_18
theorem ct_length {l : Launch} {g : gGP} (hk : gK l g) {c : gLH} {a : Nat} {W : List Nat} (hs : gSS g) (hS : gStr c a W) : Ct l g yJ9_length hwJ9_length 1 40 [.ref a] c (0) (0) (pIp (nI W.length) c) := by
  refine Ct.intro hk hcJ9_length (by decide +kernel) (Nat.le_of_ble_eq_true rfl) (fun φ h => ?_)
  have hS0 := hS
  obtain ⟨r, v, r2, y, z, f, hc, hv, hlen, hf, _⟩ := hS
  refine g_aload_n (i := 0) h dJ9_length_0 rfl rfl ?_
  refine g_get h f_J9_9_36 hc rfl dJ9_length_1 ?_
  refine g_alen h (by decide) hv dJ9_length_4 ?_
  refine g_aload_n (i := 0) h dJ9_length_5 rfl rfl ?_
  refine g_invV h (ct_coder h.k hs hS0) hcJ9_coder w_J9_335 rfl rfl hc (Nat.le_of_ble_eq_true rfl) ⟨Nat.le_of_ble_eq_true rfl, Nat.le_of_ble_eq_true rfl⟩ (by refine ⟨?_, ?_⟩ <;> first | exact Nat.le_refl _ | exact Nat.zero_le _ | (dsimp only; omega)) dJ9_length_6 (gkr_ip ?_) gkt_ip
  refine g_ishr h dJ9_length_9 ?_
  exact g_iret h ⟨congrArg (fun x => Outcome.returned (some (Value.int x))) (sh0 _), rfl⟩ (Nat.le_refl _) (Nat.le_refl _) dJ9_length_10
theorem ct_pcheckR {l : Launch} {g : gGP} (hk : gK l g) {c : gLH} {j n t : Nat} (hj : j < n) (hn : n < 2147483648) : Ct l g yJ14_checkIndex hwJ14_checkIndex 0 0 [.int (nI j), .int (nI n), .ref t] c (0) (0) (pIp (nI j) c) := by
  refine Ct.intro hk hcJ14_checkIndex (by decide +kernel) (Nat.le_of_ble_eq_true rfl) (fun φ h => ?_)
  refine g_iload_n (i := 0) h dJ14_checkIndex_0 rfl rfl ?_
  refine g_if_lt (tgt := 9) h dJ14_checkIndex_1 (by decide) (fun _bz => absurd _bz (nI_pos (by omega))) (fun b1 => ?_)
  refine g_iload_n (i := 0) h dJ14_checkIndex_4 rfl rfl ?_
  refine g_iload_n (i := 1) h dJ14_checkIndex_5 rfl rfl ?_
  refine g_icmp_lt (tgt := 16) h dJ14_checkIndex_6 (by decide) (fun b6 => ?_) (fun _bz => absurd _bz (not_not_intro (nI_lt hj (by omega))))
  refine g_iload_n (i := 0) h dJ14_checkIndex_16 rfl rfl ?_
  exact g_iret h ⟨rfl, rfl⟩ (Nat.le_refl _) (Nat.le_refl _) dJ14_checkIndex_17
theorem ct_pcheckN {l : Launch} {g : gGP} (hk : gK l g) {c : gLH} {j n : Nat} (hj : j < n) (hn : n < 2147483648) : Ct l g yJ14_checkIndex hwJ14_checkIndex 0 0 [.int (nI j), .int (nI n), .null] c (0) (0) (pIp (nI j) c) := by
  refine Ct.intro hk hcJ14_checkIndex (by decide +kernel) (Nat.le_of_ble_eq_true rfl) (fun φ h => ?_)
  refine g_iload_n (i := 0) h dJ14_checkIndex_0 rfl rfl ?_
  refine g_if_lt (tgt := 9) h dJ14_checkIndex_1 (by decide) (fun _bz => absurd _bz (nI_pos (by omega))) (fun b1 => ?_)
  refine g_iload_n (i := 0) h dJ14_checkIndex_4 rfl rfl ?_
  refine g_iload_n (i := 1) h dJ14_checkIndex_5 rfl rfl ?_
  refine g_icmp_lt (tgt := 16) h dJ14_checkIndex_6 (by decide) (fun b6 => ?_) (fun _bz => absurd _bz (not_not_intro (nI_lt hj (by omega))))
  refine g_iload_n (i := 0) h dJ14_checkIndex_16 rfl rfl ?_
  exact g_iret h ⟨rfl, rfl⟩ (Nat.le_refl _) (Nat.le_refl _) dJ14_checkIndex_17
theorem ct_scheck {l : Launch} {g : gGP} (hk : gK l g) {c : gLH} {j n : Nat} (hs : gSS g) (hj : j < n) (hn : n < 2147483648) : Ct l g yJ9_checkIndex hwJ9_checkIndex 1 40 [.int (nI j), .int (nI n)] c (0) (0) (pVp c) := by
  refine Ct.intro hk hcJ9_checkIndex (by decide +kernel) (Nat.le_of_ble_eq_true rfl) (fun φ h => ?_)
  obtain ⟨x, hx, rfl | ⟨t, rfl⟩⟩ := hs.2
  · skip
    refine g_iload_n (i := 0) h dJ9_checkIndex_0 rfl rfl ?_
    refine g_iload_n (i := 1) h dJ9_checkIndex_1 rfl rfl ?_
    refine g_getstatic h hx q281 dJ9_checkIndex_2 ?_
    refine g_invS h (ct_pcheckN h.k hj hn) hcJ14_checkIndex w_J9_1059 rfl rfl (Nat.le_of_ble_eq_true rfl) ⟨Nat.le_of_ble_eq_true rfl, Nat.le_of_ble_eq_true rfl⟩ (by refine ⟨?_, ?_⟩ <;> first | exact Nat.le_refl _ | exact Nat.zero_le _ | (dsimp only; omega)) dJ9_checkIndex_5 (gkr_ip ?_) gkt_ip
    refine g_pop h dJ9_checkIndex_8 rfl ?_
    exact g_vret h ⟨rfl, rfl⟩ (Nat.le_refl _) (Nat.le_refl _) dJ9_checkIndex_9
  · skip
    refine g_iload_n (i := 0) h dJ9_checkIndex_0 rfl rfl ?_
    refine g_iload_n (i := 1) h dJ9_checkIndex_1 rfl rfl ?_
    refine g_getstatic h hx q281 dJ9_checkIndex_2 ?_
    refine g_invS h (ct_pcheckR h.k hj hn) hcJ14_checkIndex w_J9_1059 rfl rfl (Nat.le_of_ble_eq_true rfl) ⟨Nat.le_of_ble_eq_true rfl, Nat.le_of_ble_eq_true rfl⟩ (by refine ⟨?_, ?_⟩ <;> first | exact Nat.le_refl _ | exact Nat.zero_le _ | (dsimp only; omega)) dJ9_checkIndex_5 (gkr_ip ?_) gkt_ip
    refine g_pop h dJ9_checkIndex_8 rfl ?_
    exact g_vret h ⟨rfl, rfl⟩ (Nat.le_refl _) (Nat.le_refl _) dJ9_checkIndex_9
theorem ch_fin : ∀ w : Fin 128, ((nI w.val &&& 255).toUInt32 % 65536).toInt32 = nI w.val ∧ narrow .char (.int (nI w.val)) = .int (nI w.val) := by decide +kernel
theorem ch_id {w : Nat} (h : w < 128) : ((nI w &&& 255).toUInt32 % 65536).toInt32 = nI w ∧ narrow .char (.int (nI w)) = .int (nI w) := ch_fin ⟨w, h⟩
theorem ct_lcharAt {l : Launch} {g : gGP} (hk : gK l g) {c : gLH} {v r n j w : Nat} {f : Nat → Int32} (hs : gSS g) (hv : c v = some (r, .inl (1, n, .inl f))) (hn : n < 1000000) (hj : j < n) (h0 : f j = nI w) (h1 : w < 128) : Ct l g yJ15_charAt hwJ15_charAt 2 80 [.ref v, .int (nI j)] c (0) (0) (pIp (nI w) c) := by
  refine Ct.intro hk hcJ15_charAt (by decide +kernel) (Nat.le_of_ble_eq_true rfl) (fun φ h => ?_)
  refine g_iload_n (i := 1) h dJ15_charAt_0 rfl rfl ?_
  refine g_aload_n (i := 0) h dJ15_charAt_1 rfl rfl ?_
  refine g_alen h (by decide) hv dJ15_charAt_2 ?_
  refine g_invS h (ct_scheck h.k hs hj (by omega)) hcJ9_checkIndex w_J15_9 rfl rfl (Nat.le_of_ble_eq_true rfl) ⟨Nat.le_of_ble_eq_true rfl, Nat.le_of_ble_eq_true rfl⟩ (by refine ⟨?_, ?_⟩ <;> first | exact Nat.le_refl _ | exact Nat.zero_le _ | (dsimp only; omega)) dJ15_charAt_3 (gkr_vp ?_) gkt_vp
  refine g_aload_n (i := 0) h dJ15_charAt_6 rfl rfl ?_
  refine g_iload_n (i := 1) h dJ15_charAt_7 rfl rfl ?_
  refine g_baldN h hv hj (by omega) dJ15_charAt_8 ?_
  refine G.int h0 ?_
  refine g_sipush (v := 255) h dJ15_charAt_9 (by decide) ?_
  refine g_iand h dJ15_charAt_12 ?_
  refine g_i2c h dJ15_charAt_13 ?_
  refine G.int (ch_id h1).1 ?_
  exact g_zret h ⟨rfl, rfl⟩ (Nat.le_refl _) (Nat.le_refl _) (ch_id h1).2 dJ15_charAt_14
theorem ct_charAt {l : Launch} {g : gGP} (hk : gK l g) {c : gLH} {a : Nat} {W : List Nat} (hs : gSS g) (hS : gStr c a W) {j : Nat} (hj : j < W.length) : Ct l g yJ9_charAt hwJ9_charAt 3 120 [.ref a, .int (nI j)] c (0) (0) (pIp (nI (W.getD j 0)) c) := by
  refine Ct.intro hk hcJ9_charAt (by decide +kernel) (Nat.le_of_ble_eq_true rfl) (fun φ h => ?_)
  have hS0 := hS
  obtain ⟨r, v, r2, y, z, f, hc, hv, hlen, hf, _⟩ := hS
  refine g_aload_n (i := 0) h dJ9_charAt_0 rfl rfl ?_
  refine g_invV h (ct_isLatin1 h.k hs hS0) hcJ9_isLatin1 w_J9_492 rfl rfl hc (Nat.le_of_ble_eq_true rfl) ⟨Nat.le_of_ble_eq_true rfl, Nat.le_of_ble_eq_true rfl⟩ (by refine ⟨?_, ?_⟩ <;> first | exact Nat.le_refl _ | exact Nat.zero_le _ | (dsimp only; omega)) dJ9_charAt_1 (gkr_ip ?_) gkt_ip
  refine g_if_eq (tgt := 16) h dJ9_charAt_4 (by decide) (fun _bz => absurd _bz (by decide)) (fun b4 => ?_)
  refine g_aload_n (i := 0) h dJ9_charAt_7 rfl rfl ?_
  refine g_get h f_J9_9_36 hc rfl dJ9_charAt_8 ?_
  refine g_iload_n (i := 1) h dJ9_charAt_11 rfl rfl ?_
  refine g_invS h (ct_lcharAt h.k hs hv hlen hj (hf j hj).1 (hf j hj).2) hcJ15_charAt w_J9_495 rfl rfl (Nat.le_of_ble_eq_true rfl) ⟨Nat.le_of_ble_eq_true rfl, Nat.le_of_ble_eq_true rfl⟩ (by refine ⟨?_, ?_⟩ <;> first | exact Nat.le_refl _ | exact Nat.zero_le _ | (dsimp only; omega)) dJ9_charAt_12 (gkr_ip ?_) gkt_ip
  exact g_zret h ⟨rfl, rfl⟩ (Nat.le_refl _) (Nat.le_refl _) (ch_id (hf j hj).2).2 dJ9_charAt_15
