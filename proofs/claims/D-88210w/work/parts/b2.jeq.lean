/-! THE JDK: String.equals, hashCode -/
set_option maxRecDepth 100000
theorem gl_eq {W V : List Nat} (hl : W.length = V.length) (hW : ∀ j, j < W.length → W.getD j 0 < 128) (hV : ∀ j, j < V.length → V.getD j 0 < 128) (h : ∀ j, j < W.length → nI (W.getD j 0) = nI (V.getD j 0)) : W = V := by
  refine List.ext_getElem hl (fun j h1 h2 => ?_)
  have e := nI_inj (a := W.getD j 0) (b := V.getD j 0) (by have := hW j h1; omega) (by have := hV j h2; omega) (h j h1)
  rw [List.getD_eq_getElem?_getD, List.getD_eq_getElem?_getD, List.getElem?_eq_getElem h1, List.getElem?_eq_getElem h2] at e
  exact e
theorem gStr_inj {c : gLH} {a : Nat} {W V : List Nat} (h1 : gStr c a W) (h2 : gStr c a V) : W = V := by
  obtain ⟨r, v, r2, y, z, f, a1, a2, a3, a4, -⟩ := h1
  obtain ⟨r', v', r2', y', z', f', b1, b2, b3, b4, -⟩ := h2
  rw [a1] at b1
  cases b1
  rw [a2] at b2
  have hl : W.length = V.length := by
    have q := Option.some.inj b2
    have q2 := congrArg Prod.snd q
    have q3 := Sum.inl.inj q2
    exact congrArg (fun x => x.2.1) q3
  have hf : f = f' := by
    have q := Option.some.inj b2
    have q2 := congrArg Prod.snd q
    have q3 := Sum.inl.inj q2
    exact Sum.inl.inj (congrArg (fun x => x.2.2) q3)
  subst hf
  exact gl_eq hl (fun j hj => (a4 j hj).2) (fun j hj => (b4 j hj).2) (fun j hj => by rw [← (a4 j hj).1, ← (b4 j (by omega)).1])
theorem ct_lequals {l : Launch} {g : gGP} (hk : gK l g) {c : gLH} {v1 v2 r1 r2 n1 n2 : Nat} {f1 f2 : Nat → Int32} {b : Bool} (h1 : c v1 = some (r1, gBytes n1 f1)) (h2 : c v2 = some (r2, gBytes n2 f2)) (hn1 : n1 < 1000000) (hn2 : n2 < 1000000) (hb : b = true ↔ n1 = n2 ∧ ∀ j, j < n1 → f1 j = f2 j) : Ct l g yJ15_equals hwJ15_equals 0 0 [.ref v1, .ref v2] c (0) (0) (pIp (zB b) c) := by
  refine Ct.intro hk hcJ15_equals (by decide +kernel) (Nat.le_of_ble_eq_true rfl) (fun φ h => ?_)
  by_cases hl : n1 = n2
  · have loop : ∀ n, n ≤ n1 → ((∀ j, j < n → f1 j = f2 j) → G φ (gQ φ (pIp (zB b) c) 0 0) 9 [(0, .ref v1), (1, .ref v2), (2, .int (nI n))] [] c 0 0) := by
      refine gloop ?_ ?_
      · intro hk
        refine g_iload_n (i := 2) h dJ15_equals_9 rfl rfl ?_
        refine g_aload_n (i := 0) h dJ15_equals_10 rfl rfl ?_
        refine g_alen (k := 1) h (by decide) h1 dJ15_equals_11 ?_
        refine g_icmp_ge (tgt := 32) h dJ15_equals_12 (by decide) (fun b12 => ?_) (fun _bz => absurd _bz (fun z => absurd (nI_le (Nat.le_refl n1) (by omega)) z))
        refine g_iconst (v := 1) h dJ15_equals_32 (by decide) ?_
        exact g_zret h ⟨by rw [show b = true from hb.mpr ⟨hl, hk⟩]; rfl, rfl⟩ (Nat.le_refl _) (Nat.le_refl _) (by first | rfl | exact zB_nar _) dJ15_equals_33
      · intro n hn ih hk
        refine g_iload_n (i := 2) h dJ15_equals_9 rfl rfl ?_
        refine g_aload_n (i := 0) h dJ15_equals_10 rfl rfl ?_
        refine g_alen (k := 1) h (by decide) h1 dJ15_equals_11 ?_
        refine g_icmp_ge (tgt := 32) h dJ15_equals_12 (by decide) (fun _bz => absurd _bz (nI_ge hn (by omega))) (fun b12 => ?_)
        refine g_aload_n (i := 0) h dJ15_equals_15 rfl rfl ?_
        refine g_iload_n (i := 2) h dJ15_equals_16 rfl rfl ?_
        refine g_baldN h h1 hn (by omega) dJ15_equals_17 ?_
        refine g_aload_n (i := 1) h dJ15_equals_18 rfl rfl ?_
        refine g_iload_n (i := 2) h dJ15_equals_19 rfl rfl ?_
        refine g_baldN h h2 (show n < n2 by omega) (by omega) dJ15_equals_20 ?_
        refine g_icmp_eq (tgt := 26) h dJ15_equals_21 (by decide) (fun b21 => ?_) (fun b21 => ?_)
        · first | (with_reducible refine g_iincN h dJ15_equals_26 rfl (by decide) ?_) | refine g_iinc1 h dJ15_equals_26 rfl (by decide) ?_
          refine g_goto (tgt := 9) h dJ15_equals_29 (by decide) ?_
          exact G.to (ih (fun j hj => by by_cases y : j = n; subst y; exact b21; exact hk j (by omega))) ⟨rfl, rfl, rfl, trivial⟩
        · refine g_iconst (v := 0) h dJ15_equals_24 (by decide) ?_
          exact g_zret h ⟨by rw [show b = false from by cases hbb : b; rfl; exact absurd ((hb.mp hbb).2 n hn) b21]; rfl, rfl⟩ (Nat.le_refl _) (Nat.le_refl _) (by first | rfl | exact zB_nar _) dJ15_equals_25
    refine g_aload_n (i := 0) h dJ15_equals_0 rfl rfl ?_
    refine g_alen (k := 1) h (by decide) h1 dJ15_equals_1 ?_
    refine g_aload_n (i := 1) h dJ15_equals_2 rfl rfl ?_
    refine g_alen (k := 1) h (by decide) h2 dJ15_equals_3 ?_
    refine g_icmp_ne (tgt := 34) h dJ15_equals_4 (by decide) (fun _bz => absurd _bz (fun z => z (by rw [hl]))) (fun b4 => ?_)
    refine g_iconst (v := nI 0) h dJ15_equals_7 (by decide) ?_
    refine g_istore_n (i := 2) h dJ15_equals_8 rfl (by decide) ?_
    exact G.to (loop 0 (Nat.zero_le _) (fun j hj => by omega)) ⟨rfl, rfl, rfl, trivial⟩
  · skip
    refine g_aload_n (i := 0) h dJ15_equals_0 rfl rfl ?_
    refine g_alen (k := 1) h (by decide) h1 dJ15_equals_1 ?_
    refine g_aload_n (i := 1) h dJ15_equals_2 rfl rfl ?_
    refine g_alen (k := 1) h (by decide) h2 dJ15_equals_3 ?_
    refine g_icmp_ne (tgt := 34) h dJ15_equals_4 (by decide) (fun b4 => ?_) (fun _bz => absurd _bz (fun z => hl (nI_inj (by omega) (by omega) z)))
    refine g_iconst (v := 0) h dJ15_equals_34 (by decide) ?_
    exact g_zret h ⟨by rw [show b = false from by cases hbb : b; rfl; exact absurd (hb.mp hbb).1 hl]; rfl, rfl⟩ (Nat.le_refl _) (Nat.le_refl _) (by first | rfl | exact zB_nar _) dJ15_equals_35
theorem ct_strEquals {l : Launch} {g : gGP} (hk : gK l g) {c : gLH} {a b : Nat} {W V : List Nat} (hs : gSS g) (hA : gStr c a W) (hB : gStr c b V) : Ct l g yJ9_equals hwJ9_equals 1 40 [.ref a, .ref b] c (0) (0) (pIp (zB (decide (W = V))) c) := by
  refine Ct.intro hk hcJ9_equals (by decide +kernel) (Nat.le_of_ble_eq_true rfl) (fun φ h => ?_)
  have hA0 := hA
  have hB0 := hB
  obtain ⟨ra, va, rva, ya, za, fa, hac, hav, hla, hfa, -⟩ := hA0
  obtain ⟨rb, vb, rvb, yb, zb, fb, hbc, hbv, hlb, hfb, -⟩ := hB0
  have hq : decide (W = V) = true ↔ W.length = V.length ∧ ∀ j, j < W.length → fa j = fb j := by
    rw [decide_eq_true_iff]
    constructor
    · intro e
      subst e
      exact ⟨rfl, fun j hj => by rw [(hfa j hj).1, (hfb j hj).1]⟩
    · rintro ⟨e1, e2⟩
      exact gl_eq e1 (fun j hj => (hfa j hj).2) (fun j hj => (hfb j hj).2) (fun j hj => by rw [← (hfa j hj).1, ← (hfb j (by omega)).1]; exact e2 j hj)
  refine g_aload_n (i := 0) h dJ9_equals_0 rfl rfl ?_
  refine g_aload_n (i := 1) h dJ9_equals_1 rfl rfl ?_
  refine g_acmp_ne (rx := some a) (ry := some b) (tgt := 7) h dJ9_equals_2 (by decide) (fun b2 => ?_) (fun b2 => ?_)
  · refine g_aload_n (i := 1) h dJ9_equals_7 rfl rfl ?_
    refine g_instS h hbc rfl q787 dJ9_equals_8 ?_
    refine g_if_eq (tgt := 54) h dJ9_equals_11 (by decide) (fun _bz => absurd _bz (by decide)) (fun b11 => ?_)
    refine g_aload_n (i := 1) h dJ9_equals_14 rfl rfl ?_
    refine g_castS h hbc rfl q787 dJ9_equals_15 ?_
    refine g_astore_n (i := 2) h dJ9_equals_18 rfl (by decide) ?_
    refine g_getstatic h hs.1 q303 dJ9_equals_19 ?_
    refine g_if_eq (tgt := 36) h dJ9_equals_22 (by decide) (fun _bz => absurd _bz (by decide)) (fun b22 => ?_)
    refine g_aload_n (i := 0) h dJ9_equals_25 rfl rfl ?_
    refine g_get h f_J9_15_36 hac rfl dJ9_equals_26 ?_
    refine g_aload_n (i := 2) h dJ9_equals_29 rfl rfl ?_
    refine g_get h f_J9_15_36 hbc rfl dJ9_equals_30 ?_
    refine g_icmp_ne (tgt := 54) h dJ9_equals_33 (by decide) (fun _bz => absurd _bz (fun z => z rfl)) (fun b33 => ?_)
    refine g_aload_n (i := 0) h dJ9_equals_36 rfl rfl ?_
    refine g_get h f_J9_9_36 hac rfl dJ9_equals_37 ?_
    refine g_aload_n (i := 2) h dJ9_equals_40 rfl rfl ?_
    refine g_get h f_J9_9_36 hbc rfl dJ9_equals_41 ?_
    refine g_invS h (ct_lequals (b := decide (W = V)) h.k hav hbv hla hlb hq) hcJ15_equals w_J9_541 rfl rfl (Nat.le_of_ble_eq_true rfl) ⟨Nat.le_of_ble_eq_true rfl, Nat.le_of_ble_eq_true rfl⟩ (by refine ⟨?_, ?_⟩ <;> ((try dsimp only); omega)) dJ9_equals_44 (gkr_ip ?_) gkt_ip
    refine g_if_eq (tgt := 54) h dJ9_equals_47 (by decide) (fun b47 => ?_) (fun b47 => ?_)
    · rw [zB_0] at b47
      refine g_iconst (v := 0) h dJ9_equals_54 (by decide) ?_
      exact g_zret h ⟨by rw [b47]; rfl, rfl⟩ (Nat.le_refl _) (Nat.le_refl _) (by first | rfl | exact zB_nar _) dJ9_equals_55
    · rw [zB_n0] at b47
      refine g_iconst (v := 1) h dJ9_equals_50 (by decide) ?_
      refine g_goto (tgt := 55) h dJ9_equals_51 (by decide) ?_
      exact g_zret h ⟨by rw [b47]; rfl, rfl⟩ (Nat.le_refl _) (Nat.le_refl _) (by first | rfl | exact zB_nar _) dJ9_equals_55
  · refine g_iconst (v := 1) h dJ9_equals_5 (by decide) ?_
    exact g_zret h ⟨by rw [show decide (W = V) = true from decide_eq_true (by have e := Option.some.inj b2; subst e; exact gStr_inj hA hB)]; rfl, rfl⟩ (Nat.le_refl _) (Nat.le_refl _) (by first | rfl | exact zB_nar _) dJ9_equals_6
/-- the hash of the first n letters -/
def hS (W : List Nat) : Nat → Int32
  | 0 => 0
  | n + 1 => 31 * hS W n + nI (W.getD n 0)
theorem ct_sHash {l : Launch} {g : gGP} (hk : gK l g) {c : gLH} {v r : Nat} {W : List Nat} {f : Nat → Int32} (hv : c v = some (r, gBytes W.length f)) (hl : W.length < 1000000) (hf : ∀ j, j < W.length → f j = nI (W.getD j 0) ∧ W.getD j 0 < 128) : Ct l g yJ11_signedHashCode hwJ11_signedHashCode 0 0 [.int 0, .ref v, .int (nI 0), .int (nI W.length)] c (0) (0) (pIp (hS W W.length) c) := by
  refine Ct.intro hk hcJ11_signedHashCode (by decide +kernel) (Nat.le_of_ble_eq_true rfl) (fun φ h => ?_)
  have loop : ∀ n, n ≤ W.length → G φ (gQ φ (pIp (hS W W.length) c) 0 0) 8 [(1, .ref v), (4, .int (nI W.length)), (0, .int (hS W n)), (5, .int (nI n))] [] c 0 0 := by
    refine gloop ?_ ?_
    · skip
      refine g_iload h dJ11_signedHashCode_8 rfl ?_
      refine g_iload h dJ11_signedHashCode_10 rfl ?_
      refine g_icmp_ge (tgt := 35) h dJ11_signedHashCode_12 (by decide) (fun b12 => ?_) (fun _bz => absurd _bz (fun z => absurd (nI_le (Nat.le_refl W.length) (by omega)) z))
      refine g_iload_n (i := 0) h dJ11_signedHashCode_35 rfl rfl ?_
      exact g_iret h ⟨rfl, rfl⟩ (Nat.le_refl _) (Nat.le_refl _) dJ11_signedHashCode_36
    · intro n hn ih
      refine g_iload h dJ11_signedHashCode_8 rfl ?_
      refine g_iload h dJ11_signedHashCode_10 rfl ?_
      refine g_icmp_ge (tgt := 35) h dJ11_signedHashCode_12 (by decide) (fun _bz => absurd _bz (nI_ge hn (by omega))) (fun b12 => ?_)
      refine g_bipush (v := 31) h dJ11_signedHashCode_15 (by decide) ?_
      refine g_iload_n (i := 0) h dJ11_signedHashCode_17 rfl rfl ?_
      first | (with_reducible refine g_imulN h dJ11_signedHashCode_18 ?_) | refine g_imul h dJ11_signedHashCode_18 ?_
      refine g_aload_n (i := 1) h dJ11_signedHashCode_19 rfl rfl ?_
      refine g_iload h dJ11_signedHashCode_20 rfl ?_
      refine g_baldN h hv hn (by omega) dJ11_signedHashCode_22 ?_
      refine G.int (hf n hn).1 ?_
      refine g_sipush (v := 255) h dJ11_signedHashCode_23 (by decide) ?_
      refine g_iand h dJ11_signedHashCode_26 ?_
      refine G.int (b_id (hf n hn).2).2.2.1 ?_
      first | (with_reducible refine g_iaddN h dJ11_signedHashCode_27 ?_) | refine g_iadd h dJ11_signedHashCode_27 ?_
      refine g_istore_n (i := 0) h dJ11_signedHashCode_28 rfl (by decide) ?_
      first | (with_reducible refine g_iincN h dJ11_signedHashCode_29 rfl (by decide) ?_) | refine g_iinc1 h dJ11_signedHashCode_29 rfl (by decide) ?_
      refine g_goto (tgt := 8) h dJ11_signedHashCode_32 (by decide) ?_
      exact G.to ih ⟨rfl, rfl, rfl, rfl, trivial⟩
  refine g_iload_n (i := 2) h dJ11_signedHashCode_0 rfl rfl ?_
  refine g_iload_n (i := 3) h dJ11_signedHashCode_1 rfl rfl ?_
  refine g_iadd h dJ11_signedHashCode_2 ?_
  refine G.int (show nI 0 + nI W.length = nI W.length from Int32.zero_add _) ?_
  refine g_istore h dJ11_signedHashCode_3 (by decide) ?_
  refine g_iload_n (i := 2) h dJ11_signedHashCode_5 rfl rfl ?_
  refine g_istore h dJ11_signedHashCode_6 (by decide) ?_
  exact G.to (loop 0 (Nat.zero_le _)) ⟨rfl, rfl, rfl, rfl, trivial⟩
theorem ct_vHash {l : Launch} {g : gGP} (hk : gK l g) {c : gLH} {v r : Nat} {W : List Nat} {f : Nat → Int32} (hv : c v = some (r, gBytes W.length f)) (hl : W.length < 1000000) (hf : ∀ j, j < W.length → f j = nI (W.getD j 0) ∧ W.getD j 0 < 128) : Ct l g yJ11_vectorizedHashCode hwJ11_vectorizedHashCode 1 40 [.ref v, .int (nI 0), .int (nI W.length), .int 0, .int 4] c (0) (0) (pIp (hS W W.length) c) := by
  refine Ct.intro hk hcJ11_vectorizedHashCode (by decide +kernel) (Nat.le_of_ble_eq_true rfl) (fun φ h => ?_)
  refine g_iload h dJ11_vectorizedHashCode_0 rfl ?_
  refine g_tableIn (off := 42) (tgt := 44) h dJ11_vectorizedHashCode_2 (by decide) (by decide) (by decide) (by decide) ?_
  refine g_iload_n (i := 3) h dJ11_vectorizedHashCode_44 rfl rfl ?_
  refine g_aload_n (i := 0) h dJ11_vectorizedHashCode_45 rfl rfl ?_
  refine g_castB h hv q1001 dJ11_vectorizedHashCode_46 ?_
  refine g_iload_n (i := 1) h dJ11_vectorizedHashCode_49 rfl rfl ?_
  refine g_iload_n (i := 2) h dJ11_vectorizedHashCode_50 rfl rfl ?_
  refine g_invS h (ct_sHash h.k hv hl hf) hcJ11_signedHashCode w_J11_62 rfl rfl (Nat.le_of_ble_eq_true rfl) ⟨Nat.le_of_ble_eq_true rfl, Nat.le_of_ble_eq_true rfl⟩ (by refine ⟨?_, ?_⟩ <;> ((try dsimp only); omega)) dJ11_vectorizedHashCode_51 (gkr_ip ?_) gkt_ip
  refine g_goto (tgt := 157) h dJ11_vectorizedHashCode_54 (by decide) ?_
  exact g_iret h ⟨rfl, rfl⟩ (Nat.le_refl _) (Nat.le_refl _) dJ11_vectorizedHashCode_157
theorem lk_n {n : Nat} (h0 : ¬ n = 0) (h1 : ¬ n = 1) (hn : n < 1000000) : Op.lookupswitch.offset [((0 : Int), (26 : Int)), (1, 30)] 40 (nI n).toInt = 40 := by
  have e : (nI n).toInt = n := by
    have := d_ix (nI_pos (n := n) (by omega))
    rw [this, ix_nI (by omega)]
  rw [e]
  rw [Op.lookupswitch.offset_cons, if_neg (by omega), Op.lookupswitch.offset_cons, if_neg (by omega), Op.lookupswitch.offset_nil]
theorem ct_lHash {l : Launch} {g : gGP} (hk : gK l g) {c : gLH} {v r : Nat} {W : List Nat} {f : Nat → Int32} (hv : c v = some (r, gBytes W.length f)) (hl : W.length < 1000000) (hf : ∀ j, j < W.length → f j = nI (W.getD j 0) ∧ W.getD j 0 < 128) : Ct l g yJ15_hashCode hwJ15_hashCode 2 80 [.ref v] c (0) (0) (pIp (hS W W.length) c) := by
  refine Ct.intro hk hcJ15_hashCode (by decide +kernel) (Nat.le_of_ble_eq_true rfl) (fun φ h => ?_)
  refine g_aload_n (i := 0) h dJ15_hashCode_0 rfl rfl ?_
  refine g_alen (k := 1) h (by decide) hv dJ15_hashCode_1 ?_
  by_cases h0 : W.length = 0
  · rw [h0]
    refine g_lookup (off := 26) (tgt := 28) h dJ15_hashCode_2 (by decide) (by decide) (by decide) ?_
    refine g_iconst (v := 0) h dJ15_hashCode_28 (by decide) ?_
    refine g_goto (tgt := 51) h dJ15_hashCode_29 (by decide) ?_
    exact g_iret h ⟨rfl, rfl⟩ (Nat.le_refl _) (Nat.le_refl _) dJ15_hashCode_51
  · by_cases h1 : W.length = 1
    · rw [h1]
      refine g_lookup (off := 30) (tgt := 32) h dJ15_hashCode_2 (by decide) (by decide) (by decide) ?_
      refine g_aload_n (i := 0) h dJ15_hashCode_32 rfl rfl ?_
      refine g_iconst (v := nI 0) h dJ15_hashCode_33 (by decide) ?_
      refine g_baldN h hv (show 0 < W.length by omega) (by omega) dJ15_hashCode_34 ?_
      refine G.int (hf 0 (by omega)).1 ?_
      refine g_sipush (v := 255) h dJ15_hashCode_35 (by decide) ?_
      refine g_iand h dJ15_hashCode_38 ?_
      refine G.int (b_id (hf 0 (by omega)).2).2.2.1 ?_
      refine g_goto (tgt := 51) h dJ15_hashCode_39 (by decide) ?_
      exact g_iret h ⟨by show _ = Outcome.returned (some (Value.int (31 * 0 + nI (W.getD 0 0)))); rw [show (31 : Int32) * 0 = 0 from rfl, Int32.zero_add], rfl⟩ (Nat.le_refl _) (Nat.le_refl _) dJ15_hashCode_51
    · refine g_lookup (off := 40) (tgt := 42) h dJ15_hashCode_2 (by decide) (lk_n h0 h1 (by omega)) (by decide) ?_
      refine g_aload_n (i := 0) h dJ15_hashCode_42 rfl rfl ?_
      refine g_iconst (v := nI 0) h dJ15_hashCode_43 (by decide) ?_
      refine g_aload_n (i := 0) h dJ15_hashCode_44 rfl rfl ?_
      refine g_alen (k := 1) h (by decide) hv dJ15_hashCode_45 ?_
      refine g_iconst (v := 0) h dJ15_hashCode_46 (by decide) ?_
      refine g_iconst (v := 4) h dJ15_hashCode_47 (by decide) ?_
      refine g_invS h (ct_vHash h.k hv hl hf) hcJ11_vectorizedHashCode w_J15_84 rfl rfl (Nat.le_of_ble_eq_true rfl) ⟨Nat.le_of_ble_eq_true rfl, Nat.le_of_ble_eq_true rfl⟩ (by refine ⟨?_, ?_⟩ <;> ((try dsimp only); omega)) dJ15_hashCode_48 (gkr_ip ?_) gkt_ip
      exact g_iret h ⟨rfl, rfl⟩ (Nat.le_refl _) (Nat.le_refl _) dJ15_hashCode_51
theorem ct_hash {l : Launch} {g : gGP} (hk : gK l g) {c : gLH} {v r : Nat} {W : List Nat} {f : Nat → Int32} (hv : c v = some (r, gBytes W.length f)) (hl : W.length < 1000000) (hf : ∀ j, j < W.length → f j = nI (W.getD j 0) ∧ W.getD j 0 < 128) {a : Nat} (hs : gSS g) (hr : r % 2 = 1) (hc : c a = some (gWr, .inr (36, [.ref v, .int 0, .int 0, .int 0]))) : Ct l g yJ9_hashCode hwJ9_hashCode 3 120 [.ref a] c (0) (0) (pI (hS W W.length) (fun c' => ∃ y z, c' = va_up c a (some (gWr, .inr (36, [.ref v, .int 0, y, z]))))) := by
  refine Ct.intro hk hcJ9_hashCode (by decide +kernel) (Nat.le_of_ble_eq_true rfl) (fun φ h => ?_)
  refine g_aload_n (i := 0) h dJ9_hashCode_0 rfl rfl ?_
  refine g_get h f_J9_19_36 hc rfl dJ9_hashCode_1 ?_
  refine g_istore_n (i := 1) h dJ9_hashCode_4 rfl (by decide) ?_
  refine g_iload_n (i := 1) h dJ9_hashCode_5 rfl rfl ?_
  refine g_if_ne (tgt := 58) h dJ9_hashCode_6 (by decide) (fun _bz => absurd _bz (by decide)) (fun b6 => ?_)
  refine g_aload_n (i := 0) h dJ9_hashCode_9 rfl rfl ?_
  refine g_get h f_J9_23_36 hc rfl dJ9_hashCode_10 ?_
  refine g_if_ne (tgt := 58) h dJ9_hashCode_13 (by decide) (fun _bz => absurd _bz (by decide)) (fun b13 => ?_)
  refine g_aload_n (i := 0) h dJ9_hashCode_16 rfl rfl ?_
  refine g_invV h (ct_isLatin1 h.k hs ⟨_, v, r, _, _, f, hc, hv, hl, hf, by decide, hr⟩) hcJ9_isLatin1 w_J9_492 rfl rfl hc (Nat.le_of_ble_eq_true rfl) ⟨Nat.le_of_ble_eq_true rfl, Nat.le_of_ble_eq_true rfl⟩ (by refine ⟨?_, ?_⟩ <;> ((try dsimp only); omega)) dJ9_hashCode_17 (gkr_ip ?_) gkt_ip
  refine g_if_eq (tgt := 33) h dJ9_hashCode_20 (by decide) (fun _bz => absurd _bz (by decide)) (fun b20 => ?_)
  refine g_aload_n (i := 0) h dJ9_hashCode_23 rfl rfl ?_
  refine g_get h f_J9_9_36 hc rfl dJ9_hashCode_24 ?_
  refine g_invS h (ct_lHash h.k hv hl hf) hcJ15_hashCode w_J9_628 rfl rfl (Nat.le_of_ble_eq_true rfl) ⟨Nat.le_of_ble_eq_true rfl, Nat.le_of_ble_eq_true rfl⟩ (by refine ⟨?_, ?_⟩ <;> ((try dsimp only); omega)) dJ9_hashCode_27 (gkr_ip ?_) gkt_ip
  refine g_goto (tgt := 40) h dJ9_hashCode_30 (by decide) ?_
  refine g_istore_n (i := 1) h dJ9_hashCode_40 rfl (by decide) ?_
  refine g_iload_n (i := 1) h dJ9_hashCode_41 rfl rfl ?_
  refine g_if_ne (tgt := 53) h dJ9_hashCode_42 (by decide) (fun b42 => ?_) (fun b42 => ?_)
  · refine g_aload_n (i := 0) h dJ9_hashCode_53 rfl rfl ?_
    refine g_iload_n (i := 1) h dJ9_hashCode_54 rfl rfl ?_
    refine g_put h fp_J9_19_36 hc gWr_lt (Nat.le_of_ble_eq_true rfl) rfl rfl dJ9_hashCode_55 ?_
    refine g_iload_n (i := 1) h dJ9_hashCode_58 rfl rfl ?_
    exact g_iret h ⟨rfl, _, _, rfl⟩ (Nat.le_refl _) (Nat.le_refl _) dJ9_hashCode_59
  · refine g_aload_n (i := 0) h dJ9_hashCode_45 rfl rfl ?_
    refine g_iconst (v := 1) h dJ9_hashCode_46 (by decide) ?_
    refine g_put h fp_J9_23_36 hc gWr_lt (Nat.le_of_ble_eq_true rfl) rfl rfl dJ9_hashCode_47 ?_
    refine g_goto (tgt := 58) h dJ9_hashCode_50 (by decide) ?_
    refine g_iload_n (i := 1) h dJ9_hashCode_58 rfl rfl ?_
    exact g_iret h ⟨rfl, _, _, rfl⟩ (Nat.le_refl _) (Nat.le_refl _) dJ9_hashCode_59
theorem ct_hash0 {l : Launch} {g : gGP} (hk : gK l g) {c : gLH} {a ra : Nat} {v : Value} (hc : c a = some (ra, .inr (36, [v, .int 0, .int 0, .int 1]))) : Ct l g yJ9_hashCode hwJ9_hashCode 0 0 [.ref a] c (0) (0) (pIp 0 c) := by
  refine Ct.intro hk hcJ9_hashCode (by decide +kernel) (Nat.le_of_ble_eq_true rfl) (fun φ h => ?_)
  refine g_aload_n (i := 0) h dJ9_hashCode_0 rfl rfl ?_
  refine g_get h f_J9_19_36 hc rfl dJ9_hashCode_1 ?_
  refine g_istore_n (i := 1) h dJ9_hashCode_4 rfl (by decide) ?_
  refine g_iload_n (i := 1) h dJ9_hashCode_5 rfl rfl ?_
  refine g_if_ne (tgt := 58) h dJ9_hashCode_6 (by decide) (fun _bz => absurd _bz (by decide)) (fun b6 => ?_)
  refine g_aload_n (i := 0) h dJ9_hashCode_9 rfl rfl ?_
  refine g_get h f_J9_23_36 hc rfl dJ9_hashCode_10 ?_
  refine g_if_ne (tgt := 58) h dJ9_hashCode_13 (by decide) (fun b13 => ?_) (fun _bz => absurd _bz (by decide))
  refine g_iload_n (i := 1) h dJ9_hashCode_58 rfl rfl ?_
  exact g_iret h ⟨rfl, rfl⟩ (Nat.le_refl _) (Nat.le_refl _) dJ9_hashCode_59
