/-! THE JDK: StringBuilder.append(char), toString; String.equals, hashCode -/
set_option maxRecDepth 100000
/-- words' strings; the reader -/
def gWr : Nat := 83
def gRd : Nat := 85
theorem gWr_lt : gWr < gSB := by decide
theorem gRd_lt : gRd < gSB := by decide
theorem sub_16 : ∀ q : Fin 17, nI q.val - nI 16 ≤ 0 := by decide +kernel
theorem b_fin : ∀ w : Fin 128, vp_nar .byte ((nI w.val).toInt8.toInt32) = nI w.val ∧ fits .byte (.int (nI w.val)) = true ∧ nI w.val &&& 255 = nI w.val ∧ ¬ (255 : Int32) < nI w.val := by decide +kernel
theorem b_id {w : Nat} (h : w < 128) : vp_nar .byte ((nI w).toInt8.toInt32) = nI w ∧ fits .byte (.int (nI w)) = true ∧ nI w &&& 255 = nI w ∧ ¬ (255 : Int32) < nI w := b_fin ⟨w, h⟩
/-- the builder at a: n letters of 16 in v -/
abbrev gSb (c : gLH) (a v ra rv : Nat) (ml : Value) (n : Nat) (f : Nat → Int32) : Prop := c a = some (ra, .inr (35, [.ref v, .int 0, ml, .int (nI n)])) ∧ c v = some (rv, gBytes 16 f)
theorem ct_asbInit {l : Launch} {g : gGP} (hk : gK l g) {c : gLH} {a ra : Nat} {x0 x1 x2 x3 : Value} (rv : Nat) (hs : gSS g) (hra : ra < gSB) (hc : c a = some (ra, .inr (35, [x0, x1, x2, x3]))) : Ct l g yJ7_init hwJ7_init 1 40 [.ref a, .int (nI 16)] c (1) (16) (pV (fun c' => ∃ v, c v = none ∧ c' a = some (ra, .inr (35, [.ref v, .int 0, x2, x3])) ∧ c' v = some (rv, gBytes 16 (fun _ => 0)) ∧ ∀ b, b ≠ a → b ≠ v → c' b = c b)) := by
  refine Ct.intro hk hcJ7_init (by decide +kernel) (Nat.le_of_ble_eq_true rfl) (fun φ h => ?_)
  refine g_aload_n (i := 0) h dJ7_init_0 rfl rfl ?_
  refine g_objInit h q193 ⟨Nat.le_of_ble_eq_true rfl, Nat.le_of_ble_eq_true rfl⟩ (Nat.le_of_ble_eq_true rfl) dJ7_init_1 ?_
  refine g_getstatic h hs.1 q194 dJ7_init_4 ?_
  refine g_if_eq (tgt := 25) h dJ7_init_7 (by decide) (fun _bz => absurd _bz (by decide)) (fun b7 => ?_)
  refine g_aload_n (i := 0) h dJ7_init_10 rfl rfl ?_
  refine g_iload_n (i := 1) h dJ7_init_11 rfl rfl ?_
  refine g_newarr_byte h rv q216 (by decide) (by (try dsimp only); omega) (by (try dsimp only); omega) dJ7_init_12 (fun v hv => ?_)
  have hva : a ≠ v := fun e => by rw [← e, hc] at hv; cases hv
  refine g_put h fp_J7_15_35 (show va_up c v _ a = _ by rw [va_up_n _ _ hva]; exact hc) hra (Nat.le_of_ble_eq_true rfl) rfl rfl dJ7_init_14 ?_
  refine g_aload_n (i := 0) h dJ7_init_17 rfl rfl ?_
  refine g_iconst (v := 0) h dJ7_init_18 (by decide) ?_
  refine g_put h fp_J7_22_35 (va_up_s _ _ _) hra (Nat.le_of_ble_eq_true rfl) rfl rfl dJ7_init_19 ?_
  rw [va_up_up]
  refine g_goto (tgt := 38) h dJ7_init_22 (by decide) ?_
  exact g_vret h ⟨rfl, v, hv, va_up_s _ _ _, by rw [va_up_n _ _ (Ne.symm hva)]; exact va_up_s _ _ _, fun b h1 h2 => by rw [va_up_n _ _ h1, va_up_n _ _ h2]⟩ (by (try dsimp only); omega) (by (try dsimp only); omega) dJ7_init_38
theorem ct_sbInit {l : Launch} {g : gGP} (hk : gK l g) {c : gLH} {a ra : Nat} {x0 x1 x2 x3 : Value} (rv : Nat) (hs : gSS g) (hra : ra < gSB) (hc : c a = some (ra, .inr (35, [x0, x1, x2, x3]))) : Ct l g yJ8_init hwJ8_init 2 80 [.ref a] c (1) (16) (pV (fun c' => ∃ v, c v = none ∧ c' a = some (ra, .inr (35, [.ref v, .int 0, x2, x3])) ∧ c' v = some (rv, gBytes 16 (fun _ => 0)) ∧ ∀ b, b ≠ a → b ≠ v → c' b = c b)) := by
  refine Ct.intro hk hcJ8_init (by decide +kernel) (Nat.le_of_ble_eq_true rfl) (fun φ h => ?_)
  refine g_aload_n (i := 0) h dJ8_init_0 rfl rfl ?_
  refine g_bipush (v := nI 16) h dJ8_init_1 (by decide) ?_
  refine g_invI h (ct_asbInit h.k rv hs hra hc) w_J8_1 rfl rfl (Nat.le_of_ble_eq_true rfl) ⟨Nat.le_of_ble_eq_true rfl, Nat.le_of_ble_eq_true rfl⟩ (by refine ⟨?_, ?_⟩ <;> ((try dsimp only); omega)) dJ8_init_3 (gkr_v (fun c2 hP => ?_)) gkt_v
  exact g_vret h ⟨rfl, hP⟩ (by (try dsimp only); omega) (by (try dsimp only); omega) dJ8_init_6
theorem ct_canEncode {l : Launch} {g : gGP} (hk : gK l g) {c : gLH} {w : Nat} (hw : w < 128) : Ct l g yJ15_canEncode hwJ15_canEncode 0 0 [.int (nI w)] c (0) (0) (pIp 1 c) := by
  refine Ct.intro hk hcJ15_canEncode (by decide +kernel) (Nat.le_of_ble_eq_true rfl) (fun φ h => ?_)
  refine g_iload_n (i := 0) h dJ15_canEncode_0 rfl rfl ?_
  refine g_sipush (v := 255) h dJ15_canEncode_1 (by decide) ?_
  refine g_icmp_gt (tgt := 11) h dJ15_canEncode_4 (by decide) (fun _bz => absurd _bz (b_id hw).2.2.2) (fun b4 => ?_)
  refine g_iconst (v := 1) h dJ15_canEncode_7 (by decide) ?_
  refine g_goto (tgt := 12) h dJ15_canEncode_8 (by decide) ?_
  exact g_zret h ⟨rfl, rfl⟩ (Nat.le_refl _) (Nat.le_refl _) (by first | rfl | exact zB_nar _) dJ15_canEncode_12
theorem ct_asbLatin1 {l : Launch} {g : gGP} (hk : gK l g) {c : gLH} {a v ra rv n : Nat} {ml : Value} {f : Nat → Int32} (hS : gSb c a v ra rv ml n f) (hs : gSS g) : Ct l g yJ7_isLatin1 hwJ7_isLatin1 0 0 [.ref a] c (0) (0) (pIp 1 c) := by
  refine Ct.intro hk hcJ7_isLatin1 (by decide +kernel) (Nat.le_of_ble_eq_true rfl) (fun φ h => ?_)
  refine g_getstatic h hs.1 q194 dJ7_isLatin1_0 ?_
  refine g_if_eq (tgt := 17) h dJ7_isLatin1_3 (by decide) (fun _bz => absurd _bz (by decide)) (fun b3 => ?_)
  refine g_aload_n (i := 0) h dJ7_isLatin1_6 rfl rfl ?_
  refine g_get h f_J7_22_35 hS.1 rfl dJ7_isLatin1_7 ?_
  refine g_if_ne (tgt := 17) h dJ7_isLatin1_10 (by decide) (fun _bz => absurd _bz (by decide)) (fun b10 => ?_)
  refine g_iconst (v := 1) h dJ7_isLatin1_13 (by decide) ?_
  refine g_goto (tgt := 18) h dJ7_isLatin1_14 (by decide) ?_
  exact g_zret h ⟨rfl, rfl⟩ (Nat.le_refl _) (Nat.le_refl _) (by first | rfl | exact zB_nar _) dJ7_isLatin1_18
theorem ct_asbValue {l : Launch} {g : gGP} (hk : gK l g) {c : gLH} {a v ra rv n : Nat} {ml : Value} {f : Nat → Int32} (hS : gSb c a v ra rv ml n f) : Ct l g yJ7_getValue hwJ7_getValue 0 0 [.ref a] c (0) (0) (pAp v c) := by
  refine Ct.intro hk hcJ7_getValue (by decide +kernel) (Nat.le_of_ble_eq_true rfl) (fun φ h => ?_)
  refine g_aload_n (i := 0) h dJ7_getValue_0 rfl rfl ?_
  refine g_get h f_J7_15_35 hS.1 rfl dJ7_getValue_1 ?_
  exact g_aret h ⟨rfl, rfl⟩ (Nat.le_refl _) (Nat.le_refl _) (Or.inr ⟨_, rfl⟩) dJ7_getValue_4
theorem ct_asbLength {l : Launch} {g : gGP} (hk : gK l g) {c : gLH} {a v ra rv n : Nat} {ml : Value} {f : Nat → Int32} (hS : gSb c a v ra rv ml n f) : Ct l g yJ7_length hwJ7_length 0 0 [.ref a] c (0) (0) (pIp (nI n) c) := by
  refine Ct.intro hk hcJ7_length (by decide +kernel) (Nat.le_of_ble_eq_true rfl) (fun φ h => ?_)
  refine g_aload_n (i := 0) h dJ7_length_0 rfl rfl ?_
  refine g_get h f_J7_79_35 hS.1 rfl dJ7_length_1 ?_
  exact g_iret h ⟨rfl, rfl⟩ (Nat.le_refl _) (Nat.le_refl _) dJ7_length_4
theorem ct_ensure {l : Launch} {g : gGP} (hk : gK l g) {c : gLH} {a v ra rv n : Nat} {ml : Value} {f : Nat → Int32} (hS : gSb c a v ra rv ml n f) {q : Nat} (hq : q ≤ 16) : Ct l g yJ7_ensureCapacityInternal hwJ7_ensureCapacityInternal 0 0 [.ref a, .int (nI q)] c (0) (0) (pVp c) := by
  refine Ct.intro hk hcJ7_ensureCapacityInternal (by decide +kernel) (Nat.le_of_ble_eq_true rfl) (fun φ h => ?_)
  refine g_aload_n (i := 0) h dJ7_ensureCapacityInternal_0 rfl rfl ?_
  refine g_get h f_J7_15_35 hS.1 rfl dJ7_ensureCapacityInternal_1 ?_
  refine g_alen h (by decide) hS.2 dJ7_ensureCapacityInternal_4 ?_
  refine g_aload_n (i := 0) h dJ7_ensureCapacityInternal_5 rfl rfl ?_
  refine g_get h f_J7_22_35 hS.1 rfl dJ7_ensureCapacityInternal_6 ?_
  refine g_ishr h dJ7_ensureCapacityInternal_9 ?_
  refine G.int (sh0 _) ?_
  refine g_istore_n (i := 2) h dJ7_ensureCapacityInternal_10 rfl (by decide) ?_
  refine g_iload_n (i := 1) h dJ7_ensureCapacityInternal_11 rfl rfl ?_
  refine g_iload_n (i := 2) h dJ7_ensureCapacityInternal_12 rfl rfl ?_
  refine g_isub h dJ7_ensureCapacityInternal_13 ?_
  refine g_if_le (tgt := 38) h dJ7_ensureCapacityInternal_14 (by decide) (fun b14 => ?_) (fun _bz => absurd _bz (fun z => z (sub_16 ⟨q, by omega⟩)))
  exact g_vret h ⟨rfl, rfl⟩ (Nat.le_refl _) (Nat.le_refl _) dJ7_ensureCapacityInternal_38
theorem wu_J7_83 : gWU RJ7 83 35 ⟨"java/lang/AbstractStringBuilder", "isLatin1", "()Z"⟩ yJ7_isLatin1 "java/lang/AbstractStringBuilder" hwJ7_isLatin1 0 := ⟨⟨_, rfl, q267⟩, q264, q266, Or.inr ⟨_, _, _, q265, q268⟩, ⟨by decide +kernel, by decide +kernel⟩, q265, q71, q268, by decide +kernel⟩
theorem wu_J9_552 : gWU RJ9 552 35 ⟨"java/lang/AbstractStringBuilder", "getValue", "()[B"⟩ yJ7_getValue "java/lang/AbstractStringBuilder" hwJ7_getValue 0 := ⟨⟨_, rfl, q379⟩, q376, q378, Or.inr ⟨_, _, _, q377, q380⟩, ⟨by decide +kernel, by decide +kernel⟩, q377, q71, q380, by decide +kernel⟩
theorem wu_J9_1047 : gWU RJ9 1047 35 ⟨"java/lang/AbstractStringBuilder", "isLatin1", "()Z"⟩ yJ7_isLatin1 "java/lang/AbstractStringBuilder" hwJ7_isLatin1 0 := ⟨⟨_, rfl, q267⟩, q389, q266, Or.inr ⟨_, _, _, q265, q268⟩, ⟨by decide +kernel, by decide +kernel⟩, q265, q71, q268, by decide +kernel⟩
theorem wu_J9_549 : gWU RJ9 549 35 ⟨"java/lang/AbstractStringBuilder", "length", "()I"⟩ yJ8_length "java/lang/AbstractStringBuilder" hwJ8_length 0 := ⟨⟨_, rfl, q384⟩, q381, q383, Or.inr ⟨_, _, _, q382, q388⟩, ⟨by decide +kernel, by decide +kernel⟩, q385, q72, q386, by decide +kernel⟩
theorem wp_J7_100 : gWP RJ7 100 35 yJ7_ensureCapacityInternal hwJ7_ensureCapacityInternal 1 := ⟨⟨_, rfl⟩, q229, q2236, q230, ⟨_, _, _, q232⟩, ⟨by decide +kernel, by decide +kernel⟩, q231, q71, q232, by decide +kernel⟩
theorem wsu_J8_50 : gWSU RJ8 50 35 yJ7_append_3 hwJ7_append_3 1 := ⟨⟨_, rfl⟩, q690, q2242, q215, ⟨_, _, _, q692⟩, by decide +kernel, q691, q71, q692, by decide +kernel⟩
theorem wsu_J8_len : gWSU RJ8 343 35 yJ7_length hwJ7_length 0 := ⟨⟨_, rfl⟩, q387, q383, q215, ⟨_, _, _, q388⟩, by decide +kernel, q382, q71, q388, by decide +kernel⟩
theorem ct_sbLength {l : Launch} {g : gGP} (hk : gK l g) {c : gLH} {a v ra rv n : Nat} {ml : Value} {f : Nat → Int32} (hS : gSb c a v ra rv ml n f) : Ct l g yJ8_length hwJ8_length 1 40 [.ref a] c (0) (0) (pIp (nI n) c) := by
  refine Ct.intro hk hcJ8_length (by decide +kernel) (Nat.le_of_ble_eq_true rfl) (fun φ h => ?_)
  refine g_aload_n (i := 0) h dJ8_length_0 rfl rfl ?_
  refine g_invSU h (ct_asbLength h.k hS) hcJ7_length wsu_J8_len rfl rfl hS.1 (Nat.le_of_ble_eq_true rfl) ⟨Nat.le_of_ble_eq_true rfl, Nat.le_of_ble_eq_true rfl⟩ (by refine ⟨?_, ?_⟩ <;> ((try dsimp only); omega)) dJ8_length_1 (gkr_ip ?_) gkt_ip
  exact g_iret h ⟨rfl, rfl⟩ (Nat.le_refl _) (Nat.le_refl _) dJ8_length_4
theorem ct_asbAppend {l : Launch} {g : gGP} (hk : gK l g) {c : gLH} {a v ra rv n : Nat} {ml : Value} {f : Nat → Int32} (hS : gSb c a v ra rv ml n f) (hs : gSS g) (hra : ra < gSB) (hrv : rv < gSB) (hav : a ≠ v) (hn : n < 16) {w : Nat} (hw : w < 128) : Ct l g yJ7_append_3 hwJ7_append_3 2 80 [.ref a, .int (nI w)] c (0) (0) (pA a (fun c' => gSb c' a v ra rv ml (n + 1) (upd f n (nI w)) ∧ ∀ b, b ≠ a → b ≠ v → c' b = c b)) := by
  refine Ct.intro hk hcJ7_append_3 (by decide +kernel) (Nat.le_of_ble_eq_true rfl) (fun φ h => ?_)
  refine g_aload_n (i := 0) h dJ7_append_3_0 rfl rfl ?_
  refine g_aload_n (i := 0) h dJ7_append_3_1 rfl rfl ?_
  refine g_get h f_J7_79_35 hS.1 rfl dJ7_append_3_2 ?_
  refine g_iconst (v := nI 1) h dJ7_append_3_5 (by decide) ?_
  first | (with_reducible refine g_iaddN h dJ7_append_3_6 ?_) | refine g_iadd h dJ7_append_3_6 ?_
  refine g_invP h (ct_ensure h.k hS (q := n + 1) (by omega)) hcJ7_ensureCapacityInternal wp_J7_100 rfl rfl hS.1 (Nat.le_of_ble_eq_true rfl) ⟨Nat.le_of_ble_eq_true rfl, Nat.le_of_ble_eq_true rfl⟩ (by refine ⟨?_, ?_⟩ <;> ((try dsimp only); omega)) dJ7_append_3_7 (gkr_vp ?_) gkt_vp
  refine g_aload_n (i := 0) h dJ7_append_3_10 rfl rfl ?_
  refine g_invU h (ct_asbLatin1 h.k hS hs) hcJ7_isLatin1 wu_J7_83 rfl rfl hS.1 (Nat.le_of_ble_eq_true rfl) ⟨Nat.le_of_ble_eq_true rfl, Nat.le_of_ble_eq_true rfl⟩ (by refine ⟨?_, ?_⟩ <;> ((try dsimp only); omega)) dJ7_append_3_11 (gkr_ip ?_) gkt_ip
  refine g_if_eq (tgt := 45) h dJ7_append_3_14 (by decide) (fun _bz => absurd _bz (by decide)) (fun b14 => ?_)
  refine g_iload_n (i := 1) h dJ7_append_3_17 rfl rfl ?_
  refine g_invS h (ct_canEncode h.k hw) hcJ15_canEncode w_J7_191 rfl rfl (Nat.le_of_ble_eq_true rfl) ⟨Nat.le_of_ble_eq_true rfl, Nat.le_of_ble_eq_true rfl⟩ (by refine ⟨?_, ?_⟩ <;> ((try dsimp only); omega)) dJ7_append_3_18 (gkr_ip ?_) gkt_ip
  refine g_if_eq (tgt := 45) h dJ7_append_3_21 (by decide) (fun _bz => absurd _bz (by decide)) (fun b21 => ?_)
  refine g_aload_n (i := 0) h dJ7_append_3_24 rfl rfl ?_
  refine g_get h f_J7_15_35 hS.1 rfl dJ7_append_3_25 ?_
  refine g_aload_n (i := 0) h dJ7_append_3_28 rfl rfl ?_
  refine g_dup h dJ7_append_3_29 rfl ?_
  refine g_get h f_J7_79_35 hS.1 rfl dJ7_append_3_30 ?_
  refine g_dup_x1 h dJ7_append_3_33 rfl rfl ?_
  refine g_iconst (v := nI 1) h dJ7_append_3_34 (by decide) ?_
  first | (with_reducible refine g_iaddN h dJ7_append_3_35 ?_) | refine g_iadd h dJ7_append_3_35 ?_
  refine g_put h fp_J7_79_35 hS.1 hra (Nat.le_of_ble_eq_true rfl) rfl rfl dJ7_append_3_36 ?_
  refine g_iload_n (i := 1) h dJ7_append_3_39 rfl rfl ?_
  refine g_i2b h dJ7_append_3_40 ?_
  refine g_bastN h (show va_up c a _ v = _ by rw [va_up_n _ _ (Ne.symm hav)]; exact hS.2) hrv (show n < 16 by omega) (by decide) dJ7_append_3_41 ?_
  rw [(b_id hw).1]
  refine g_goto (tgt := 75) h dJ7_append_3_42 (by decide) ?_
  refine g_aload_n (i := 0) h dJ7_append_3_75 rfl rfl ?_
  exact g_aret h ⟨rfl, ⟨by rw [va_up_n _ _ hav]; exact va_up_s _ _ _, va_up_s _ _ _⟩, fun b h1 h2 => by rw [va_up_n _ _ h2, va_up_n _ _ h1]⟩ (by (try dsimp only); omega) (by (try dsimp only); omega) (Or.inl ⟨_, rfl⟩) dJ7_append_3_76
theorem ct_sbAppend {l : Launch} {g : gGP} (hk : gK l g) {c : gLH} {a v ra rv n : Nat} {ml : Value} {f : Nat → Int32} (hS : gSb c a v ra rv ml n f) (hs : gSS g) (hra : ra < gSB) (hrv : rv < gSB) (hav : a ≠ v) (hn : n < 16) {w : Nat} (hw : w < 128) : Ct l g yJ8_append_3 hwJ8_append_3 3 120 [.ref a, .int (nI w)] c (0) (0) (pA a (fun c' => gSb c' a v ra rv ml (n + 1) (upd f n (nI w)) ∧ ∀ b, b ≠ a → b ≠ v → c' b = c b)) := by
  refine Ct.intro hk hcJ8_append_3 (by decide +kernel) (Nat.le_of_ble_eq_true rfl) (fun φ h => ?_)
  refine g_aload_n (i := 0) h dJ8_append_3_0 rfl rfl ?_
  refine g_iload_n (i := 1) h dJ8_append_3_1 rfl rfl ?_
  refine g_invSU h (ct_asbAppend h.k hS hs hra hrv hav hn hw) hcJ7_append_3 wsu_J8_50 rfl rfl hS.1 (Nat.le_of_ble_eq_true rfl) ⟨Nat.le_of_ble_eq_true rfl, Nat.le_of_ble_eq_true rfl⟩ (by refine ⟨?_, ?_⟩ <;> ((try dsimp only); omega)) dJ8_append_3_2 (gkr_a (fun c2 hP => ?_)) gkt_a
  refine g_pop h dJ8_append_3_5 rfl ?_
  refine g_aload_n (i := 0) h dJ8_append_3_6 rfl rfl ?_
  exact g_aret h ⟨rfl, hP⟩ (by (try dsimp only); omega) (by (try dsimp only); omega) (Or.inl ⟨_, rfl⟩) dJ8_append_3_7
theorem ct_checkLength {l : Launch} {g : gGP} (hk : gK l g) {c : gLH} {n : Nat} (hn : n < 1000) : Ct l g yJ13_checkLength hwJ13_checkLength 0 0 [.int 0, .int (nI n)] c (0) (0) (pVp c) := by
  refine Ct.intro hk hcJ13_checkLength (by decide +kernel) (Nat.le_of_ble_eq_true rfl) (fun φ h => ?_)
  refine g_iload_n (i := 1) h dJ13_checkLength_0 rfl rfl ?_
  refine g_iload_n (i := 0) h dJ13_checkLength_1 rfl rfl ?_
  refine g_icmp_ge (tgt := 37) h dJ13_checkLength_2 (by decide) (fun b2 => ?_) (fun _bz => absurd _bz (fun z => z (Int32.not_lt.mp (nI_pos (by omega)))))
  exact g_vret h ⟨rfl, rfl⟩ (Nat.le_refl _) (Nat.le_refl _) dJ13_checkLength_37
theorem nI_s0 (n : Nat) : nI n - 0 = nI n := Int32.sub_zero _
theorem cpy_0 (f : Nat → Int32) {n j : Nat} (h : j < n) : va_cpy f (fun _ => 0) 0 0 n j = f j := by
  unfold va_cpy
  simp [h]
theorem nI_ltN {a b : Nat} (h : a < b) (hb : b < 2147483648) : nI a < nI b := Int32.not_le.mp (nI_ge h hb)
theorem ct_copyRB {l : Launch} {g : gGP} (hk : gK l g) {c : gLH} {v r n : Nat} {f : Nat → Int32} (rb : Nat) (hrb : rb < gSB) (hv : c v = some (r, gBytes 16 f)) (hn : n < 16) (hfit : ∀ i, i < n → fits .byte (.int (f i)) = true) : Ct l g yJ13_copyOfRangeByte hwJ13_copyOfRangeByte 1 40 [.ref v, .int 0, .int (nI n)] c (1) (n) (pAe (fun q c' => c q = none ∧ c' = va_up c q (some (rb, gBytes n (va_cpy f (fun _ => 0) 0 0 n))))) := by
  refine Ct.intro hk hcJ13_copyOfRangeByte (by decide +kernel) (Nat.le_of_ble_eq_true rfl) (fun φ h => ?_)
  refine g_iload_n (i := 1) h dJ13_copyOfRangeByte_0 rfl rfl ?_
  refine g_iload_n (i := 2) h dJ13_copyOfRangeByte_1 rfl rfl ?_
  refine g_invS h (ct_checkLength h.k (by omega)) hcJ13_checkLength w_J13_343 rfl rfl (Nat.le_of_ble_eq_true rfl) ⟨Nat.le_of_ble_eq_true rfl, Nat.le_of_ble_eq_true rfl⟩ (by refine ⟨?_, ?_⟩ <;> ((try dsimp only); omega)) dJ13_copyOfRangeByte_2 (gkr_vp ?_) gkt_vp
  refine g_iload_n (i := 2) h dJ13_copyOfRangeByte_5 rfl rfl ?_
  refine g_iload_n (i := 1) h dJ13_copyOfRangeByte_6 rfl rfl ?_
  refine g_isub h dJ13_copyOfRangeByte_7 ?_
  refine G.int (nI_s0 n) ?_
  refine g_istore_n (i := 3) h dJ13_copyOfRangeByte_8 rfl (by decide) ?_
  refine g_iload_n (i := 3) h dJ13_copyOfRangeByte_9 rfl rfl ?_
  refine g_newarr_byte h rb q216 (by omega) (by (try dsimp only); omega) (by (try dsimp only); omega) dJ13_copyOfRangeByte_10 (fun q hq => ?_)
  have hvq : v ≠ q := fun e => by rw [← e, hv] at hq; cases hq
  refine g_astore h dJ13_copyOfRangeByte_12 (by decide) ?_
  refine g_aload_n (i := 0) h dJ13_copyOfRangeByte_14 rfl rfl ?_
  refine g_iload_n (i := 1) h dJ13_copyOfRangeByte_15 rfl rfl ?_
  refine g_aload h dJ13_copyOfRangeByte_16 rfl ?_
  refine g_iconst (v := nI 0) h dJ13_copyOfRangeByte_18 (by decide) ?_
  refine g_aload_n (i := 0) h dJ13_copyOfRangeByte_19 rfl rfl ?_
  refine g_alen (k := 1) h (by decide) (show va_up c q _ v = _ by rw [va_up_n _ _ hvq]; exact hv) dJ13_copyOfRangeByte_20 ?_
  refine g_iload_n (i := 1) h dJ13_copyOfRangeByte_21 rfl rfl ?_
  refine g_isub h dJ13_copyOfRangeByte_22 ?_
  refine G.int (nI_s0 16) ?_
  refine g_iload_n (i := 3) h dJ13_copyOfRangeByte_23 rfl rfl ?_
  refine g_mmin h q258 (Nat.le_of_ble_eq_true rfl) ⟨Nat.le_of_ble_eq_true rfl, Nat.le_of_ble_eq_true rfl⟩ (by refine ⟨?_, ?_⟩ <;> ((try dsimp only); omega)) dJ13_copyOfRangeByte_24 ?_
  refine G.int (show _ = nI n from if_pos (nI_ltN (by omega) (by decide))) ?_
  refine g_copyb (n := n) (sp := 0) (dp := 0) h q261 q263 q262 q78 (show va_up c q _ v = _ by rw [va_up_n _ _ hvq]; exact hv) (va_up_s _ _ _) hrb (by omega) (by omega) (by decide) (by omega) (fun i hi => by rw [Nat.zero_add]; exact hfit i hi) (Nat.le_of_ble_eq_true rfl) ⟨Nat.le_of_ble_eq_true rfl, Nat.le_of_ble_eq_true rfl⟩ dJ13_copyOfRangeByte_27 ?_
  rw [va_up_up]
  refine g_aload h dJ13_copyOfRangeByte_30 rfl ?_
  exact g_aret h ⟨q, rfl, hq, rfl⟩ (by (try dsimp only); omega) (by (try dsimp only); omega) (Or.inr ⟨_, rfl⟩) dJ13_copyOfRangeByte_32
theorem ct_copyR {l : Launch} {g : gGP} (hk : gK l g) {c : gLH} {v r n : Nat} {f : Nat → Int32} (rb : Nat) (hrb : rb < gSB) (hv : c v = some (r, gBytes 16 f)) (hn : n < 16) (hfit : ∀ i, i < n → fits .byte (.int (f i)) = true) : Ct l g yJ13_copyOfRange hwJ13_copyOfRange 2 80 [.ref v, .int 0, .int (nI n)] c (1) (n) (pAe (fun q c' => c q = none ∧ c' = va_up c q (some (rb, gBytes n (va_cpy f (fun _ => 0) 0 0 n))))) := by
  refine Ct.intro hk hcJ13_copyOfRange (by decide +kernel) (Nat.le_of_ble_eq_true rfl) (fun φ h => ?_)
  refine g_iload_n (i := 1) h dJ13_copyOfRange_0 rfl rfl ?_
  refine g_if_ne (tgt := 10) h dJ13_copyOfRange_1 (by decide) (fun _bz => absurd _bz (by decide)) (fun b1 => ?_)
  refine g_iload_n (i := 2) h dJ13_copyOfRange_4 rfl rfl ?_
  refine g_aload_n (i := 0) h dJ13_copyOfRange_5 rfl rfl ?_
  refine g_alen h (by decide) hv dJ13_copyOfRange_6 ?_
  refine g_icmp_eq (tgt := 17) h dJ13_copyOfRange_7 (by decide) (fun _bz => absurd _bz (fun z => absurd (nI_inj (by omega) (by decide) z) (by omega))) (fun b7 => ?_)
  refine g_aload_n (i := 0) h dJ13_copyOfRange_10 rfl rfl ?_
  refine g_iload_n (i := 1) h dJ13_copyOfRange_11 rfl rfl ?_
  refine g_iload_n (i := 2) h dJ13_copyOfRange_12 rfl rfl ?_
  refine g_invS h (ct_copyRB h.k rb hrb hv hn hfit) hcJ13_copyOfRangeByte w_J13_339 rfl rfl (Nat.le_of_ble_eq_true rfl) ⟨Nat.le_of_ble_eq_true rfl, Nat.le_of_ble_eq_true rfl⟩ (by refine ⟨?_, ?_⟩ <;> ((try dsimp only); omega)) dJ13_copyOfRange_13 (gkr_ae (fun q c2 hP => ?_)) gkt_ae
  exact g_aret h ⟨q, rfl, hP⟩ (by (try dsimp only); omega) (by (try dsimp only); omega) (Or.inr ⟨_, rfl⟩) dJ13_copyOfRange_16
theorem ct_strInit2 {l : Launch} {g : gGP} (hk : gK l g) {c : gLH} {a v ra rv n : Nat} {ml : Value} {f : Nat → Int32} (hS : gSb c a v ra rv ml n f) {s rs : Nat} (rb : Nat) (hs : gSS g) (hrs : rs < gSB) (hrb : rb < gSB) (hn : n < 16) (hfit : ∀ i, i < n → fits .byte (.int (f i)) = true) (hsv : v ≠ s) (hc : c s = some (rs, .inr (36, [.null, .int 0, .int 0, .int 0]))) : Ct l g yJ9_init_2 hwJ9_init_2 3 120 [.ref s, .ref a, .null] c (1) (n) (pV (fun c' => ∃ q, c q = none ∧ c' s = some (rs, .inr (36, [.ref q, .int 0, .int 0, .int 0])) ∧ c' q = some (rb, gBytes n (va_cpy f (fun _ => 0) 0 0 n)) ∧ ∀ b, b ≠ s → b ≠ q → c' b = c b)) := by
  refine Ct.intro hk hcJ9_init_2 (by decide +kernel) (Nat.le_of_ble_eq_true rfl) (fun φ h => ?_)
  refine g_aload_n (i := 0) h dJ9_init_2_0 rfl rfl ?_
  refine g_objInit h q375 ⟨Nat.le_of_ble_eq_true rfl, Nat.le_of_ble_eq_true rfl⟩ (Nat.le_of_ble_eq_true rfl) dJ9_init_2_1 ?_
  refine g_aload_n (i := 1) h dJ9_init_2_4 rfl rfl ?_
  refine g_invU h (ct_asbValue h.k hS) hcJ7_getValue wu_J9_552 rfl rfl hS.1 (Nat.le_of_ble_eq_true rfl) ⟨Nat.le_of_ble_eq_true rfl, Nat.le_of_ble_eq_true rfl⟩ (by refine ⟨?_, ?_⟩ <;> ((try dsimp only); omega)) dJ9_init_2_5 (gkr_ap ?_) gkt_ap
  refine g_astore_n (i := 3) h dJ9_init_2_8 rfl (by decide) ?_
  refine g_aload_n (i := 1) h dJ9_init_2_9 rfl rfl ?_
  refine g_invU h (ct_sbLength h.k hS) hcJ8_length wu_J9_549 rfl rfl hS.1 (Nat.le_of_ble_eq_true rfl) ⟨Nat.le_of_ble_eq_true rfl, Nat.le_of_ble_eq_true rfl⟩ (by refine ⟨?_, ?_⟩ <;> ((try dsimp only); omega)) dJ9_init_2_10 (gkr_ip ?_) gkt_ip
  refine g_istore h dJ9_init_2_13 (by decide) ?_
  refine g_aload_n (i := 1) h dJ9_init_2_15 rfl rfl ?_
  refine g_invU h (ct_asbLatin1 h.k hS hs) hcJ7_isLatin1 wu_J9_1047 rfl rfl hS.1 (Nat.le_of_ble_eq_true rfl) ⟨Nat.le_of_ble_eq_true rfl, Nat.le_of_ble_eq_true rfl⟩ (by refine ⟨?_, ?_⟩ <;> ((try dsimp only); omega)) dJ9_init_2_16 (gkr_ip ?_) gkt_ip
  refine g_if_eq (tgt := 41) h dJ9_init_2_19 (by decide) (fun _bz => absurd _bz (by decide)) (fun b19 => ?_)
  refine g_aload_n (i := 0) h dJ9_init_2_22 rfl rfl ?_
  refine g_iconst (v := 0) h dJ9_init_2_23 (by decide) ?_
  refine g_putF h rfl fp_J9_15_36 hc hrs (Nat.le_of_ble_eq_true rfl) rfl rfl dJ9_init_2_24 ?_
  have hv2 : va_up c s (some (rs, .inr (36, [.null, .int 0, .int 0, .int 0]))) v = some (rv, gBytes 16 f) := by rw [va_up_n _ _ hsv]; exact hS.2
  refine g_aload_n (i := 0) h dJ9_init_2_27 rfl rfl ?_
  refine g_aload_n (i := 3) h dJ9_init_2_28 rfl rfl ?_
  refine g_iconst (v := 0) h dJ9_init_2_29 (by decide) ?_
  refine g_iload h dJ9_init_2_30 rfl ?_
  refine g_invS h (ct_copyR h.k rb hrb hv2 hn hfit) hcJ13_copyOfRange w_J9_54 rfl rfl (Nat.le_of_ble_eq_true rfl) ⟨Nat.le_of_ble_eq_true rfl, Nat.le_of_ble_eq_true rfl⟩ (by refine ⟨?_, ?_⟩ <;> ((try dsimp only); omega)) dJ9_init_2_32 (gkr_ae (fun q c2 hP => ?_)) gkt_ae
  obtain ⟨hq, hP⟩ := hP
  subst hP
  have hqs : s ≠ q := fun e => by rw [← e, va_up_s] at hq; cases hq
  refine g_putF h rfl fp_J9_9_36 (show va_up _ q _ s = _ by rw [va_up_n _ _ hqs]; exact va_up_s _ _ _) hrs (Nat.le_of_ble_eq_true rfl) rfl rfl dJ9_init_2_35 ?_
  refine g_goto (tgt := 97) h dJ9_init_2_38 (by decide) ?_
  exact g_vret h ⟨rfl, q, by rw [va_up_n _ _ (Ne.symm hqs)] at hq; exact hq, va_up_s _ _ _, by rw [va_up_n _ _ (Ne.symm hqs)]; exact va_up_s _ _ _, fun b h1 h2 => by rw [va_up_n _ _ h1, va_up_n _ _ h2, va_up_n _ _ h1]⟩ (by (try dsimp only); omega) (by (try dsimp only); omega) dJ9_init_2_97
theorem ct_strInit {l : Launch} {g : gGP} (hk : gK l g) {c : gLH} {a v ra rv n : Nat} {ml : Value} {f : Nat → Int32} (hS : gSb c a v ra rv ml n f) {s rs : Nat} (rb : Nat) (hs : gSS g) (hrs : rs < gSB) (hrb : rb < gSB) (hn : n < 16) (hfit : ∀ i, i < n → fits .byte (.int (f i)) = true) (hsv : v ≠ s) (hc : c s = some (rs, .inr (36, [.null, .int 0, .int 0, .int 0]))) : Ct l g yJ9_init hwJ9_init 4 160 [.ref s, .ref a] c (1) (n) (pV (fun c' => ∃ q, c q = none ∧ c' s = some (rs, .inr (36, [.ref q, .int 0, .int 0, .int 0])) ∧ c' q = some (rb, gBytes n (va_cpy f (fun _ => 0) 0 0 n)) ∧ ∀ b, b ≠ s → b ≠ q → c' b = c b)) := by
  refine Ct.intro hk hcJ9_init (by decide +kernel) (Nat.le_of_ble_eq_true rfl) (fun φ h => ?_)
  refine g_aload_n (i := 0) h dJ9_init_0 rfl rfl ?_
  refine g_aload_n (i := 1) h dJ9_init_1 rfl rfl ?_
  refine g_null h dJ9_init_2 ?_
  refine g_invI h (ct_strInit2 h.k hS rb hs hrs hrb hn hfit hsv hc) w_J9_489 rfl rfl (Nat.le_of_ble_eq_true rfl) ⟨Nat.le_of_ble_eq_true rfl, Nat.le_of_ble_eq_true rfl⟩ (by refine ⟨?_, ?_⟩ <;> ((try dsimp only); omega)) dJ9_init_3 (gkr_v (fun c2 hP => ?_)) gkt_v
  exact g_vret h ⟨rfl, hP⟩ (by (try dsimp only); omega) (by (try dsimp only); omega) dJ9_init_6
theorem ct_toString {l : Launch} {g : gGP} (hk : gK l g) {c : gLH} {a v ra rv n : Nat} {ml : Value} {f : Nat → Int32} (hS : gSb c a v ra rv ml n f) (hs : gSS g) (hn : n < 16) (hfit : ∀ i, i < n → fits .byte (.int (f i)) = true) : Ct l g yJ8_toString hwJ8_toString 5 200 [.ref a] c (2) (4 + n) (pAe (fun s c' => c s = none ∧ ∃ q, c q = none ∧ c' s = some (gWr, .inr (36, [.ref q, .int 0, .int 0, .int 0])) ∧ c' q = some (gT, gBytes n (va_cpy f (fun _ => 0) 0 0 n)) ∧ ∀ b, b ≠ s → b ≠ q → c' b = c b)) := by
  refine Ct.intro hk hcJ8_toString (by decide +kernel) (Nat.le_of_ble_eq_true rfl) (fun φ h => ?_)
  refine g_new h gWr n_J8_18 (by (try dsimp only); omega) (by (try dsimp only); omega) dJ8_toString_0 (fun s hs0 => ?_)
  have has : a ≠ s := fun e => by rw [← e, hS.1] at hs0; cases hs0
  have hvs : v ≠ s := fun e => by rw [← e, hS.2] at hs0; cases hs0
  have hS2 : gSb (va_up c s (some (gWr, .inr (36, [.null, .int 0, .int 0, .int 0])))) a v ra rv ml n f := ⟨by rw [va_up_n _ _ has]; exact hS.1, by rw [va_up_n _ _ hvs]; exact hS.2⟩
  refine g_dup h dJ8_toString_3 rfl ?_
  refine g_aload_n (i := 0) h dJ8_toString_4 rfl rfl ?_
  refine g_invI h (ct_strInit h.k hS2 gT hs gWr_lt gT_lt hn hfit hvs (va_up_s _ _ _)) w_J8_137 rfl rfl (Nat.le_of_ble_eq_true rfl) ⟨Nat.le_of_ble_eq_true rfl, Nat.le_of_ble_eq_true rfl⟩ (by refine ⟨?_, ?_⟩ <;> ((try dsimp only); omega)) dJ8_toString_5 (gkr_v (fun c2 hP => ?_)) gkt_v
  obtain ⟨q, hq, h1, h2, h3⟩ := hP
  have hsq : q ≠ s := fun e => by rw [e, va_up_s] at hq; cases hq
  exact g_aret h ⟨s, rfl, hs0, q, by rw [va_up_n _ _ hsq] at hq; exact hq, h1, h2, fun b z1 z2 => by rw [h3 b z1 z2, va_up_n _ _ z1]⟩ (by (try dsimp only); omega) (by (try dsimp only); omega) (Or.inl ⟨_, rfl⟩) dJ8_toString_8
