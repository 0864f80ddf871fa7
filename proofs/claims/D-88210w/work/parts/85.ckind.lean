/-! THE COMPONENT: KindIs, Herd -/
set_option maxRecDepth 100000
theorem wu_X21_25 : gWU RX21 19 25 ⟨"TurnpikeTrust$Traveller", "kind", "()I"⟩ yX25_kind "TurnpikeTrust$Traveller" hwX25_kind 0 := ⟨⟨_, rfl, q1481⟩, q1474, q1476, Or.inl q1475, ⟨by decide +kernel, by decide +kernel⟩, q1482, q111, q1483, by decide +kernel⟩
theorem wu_X21_26 : gWU RX21 19 26 ⟨"TurnpikeTrust$Traveller", "kind", "()I"⟩ yX26_kind "TurnpikeTrust$Traveller" hwX26_kind 0 := ⟨⟨_, rfl, q1480⟩, q1474, q1476, Or.inl q1475, ⟨by decide +kernel, by decide +kernel⟩, q1478, q112, q1479, by decide +kernel⟩
theorem wu_X21_27 : gWU RX21 19 27 ⟨"TurnpikeTrust$Traveller", "kind", "()I"⟩ yX26_kind "TurnpikeTrust$Traveller" hwX26_kind 0 := ⟨⟨_, rfl, q1477⟩, q1474, q1476, Or.inl q1475, ⟨by decide +kernel, by decide +kernel⟩, q1478, q112, q1479, by decide +kernel⟩
theorem wu_X27_27 : gWU RX27 7 27 ⟨"TurnpikeTrust$Herd", "kind", "()I"⟩ yX26_kind "TurnpikeTrust$Walker" hwX26_kind 0 := ⟨⟨_, rfl, q1542⟩, q1539, q1540, Or.inl q1541, ⟨by decide +kernel, by decide +kernel⟩, q1478, q112, q1479, by decide +kernel⟩
theorem ct_kindHolds {l : Launch} {g : gGP} (hk : gK l g) {c : gLH} {a p ra : Nat} {v : Nat → Int32} (hP : pW c p v) {kd : Int32} (hC : c a = some (ra, .inr (21, [.int kd]))) : Ct l g yX21_holds hwX21_holds 1 40 [.ref a, .ref p] c (0) (0) (pIp (zB (decide (v 0 = kd))) c) := by
  refine Ct.intro hk hcX21_holds (by decide +kernel) (Nat.le_of_ble_eq_true rfl) (fun φ h => ?_)
  obtain ⟨rp, w, rt, ci, nu, p1, p2, hp, hw, hci, hbk⟩ := hP
  rcases hci with rfl | rfl | rfl
  · skip
    refine g_aload_n (i := 1) h dX21_holds_0 rfl rfl ?_
    refine g_get (v := .ref w) h f_X21_13_2 hp rfl dX21_holds_1 ?_
    refine g_invU h (ct_X25kind25 h.k hw) hcX25_kind wu_X21_25 rfl rfl hw (Nat.le_of_ble_eq_true rfl) ⟨Nat.le_of_ble_eq_true rfl, Nat.le_of_ble_eq_true rfl⟩ (by refine ⟨?_, ?_⟩ <;> first | exact Nat.le_refl _ | exact Nat.zero_le _ | (dsimp only; omega)) dX21_holds_4 (gkr_ip ?_) gkt_ip
    refine g_aload_n (i := 0) h dX21_holds_7 rfl rfl ?_
    refine g_get (v := .int kd) h f_X21_7_21 hC rfl dX21_holds_8 ?_
    refine g_icmp_ne (tgt := 18) h dX21_holds_11 (by decide) (fun b11 => ?_) (fun b11 => ?_)
    · refine g_iconst (v := 0) h dX21_holds_18 (by decide) ?_
      exact g_zret h ⟨by simp [b11, zB], rfl⟩ (Nat.le_refl _) (Nat.le_refl _) (by first | rfl | exact zB_nar _) dX21_holds_19
    · refine g_iconst (v := 1) h dX21_holds_14 (by decide) ?_
      refine g_goto (tgt := 19) h dX21_holds_15 (by decide) ?_
      exact g_zret h ⟨by simp [b11, zB], rfl⟩ (Nat.le_refl _) (Nat.le_refl _) (by first | rfl | exact zB_nar _) dX21_holds_19
  · skip
    refine g_aload_n (i := 1) h dX21_holds_0 rfl rfl ?_
    refine g_get (v := .ref w) h f_X21_13_2 hp rfl dX21_holds_1 ?_
    refine g_invU h (ct_X26kind26 h.k hw) hcX26_kind wu_X21_26 rfl rfl hw (Nat.le_of_ble_eq_true rfl) ⟨Nat.le_of_ble_eq_true rfl, Nat.le_of_ble_eq_true rfl⟩ (by refine ⟨?_, ?_⟩ <;> first | exact Nat.le_refl _ | exact Nat.zero_le _ | (dsimp only; omega)) dX21_holds_4 (gkr_ip ?_) gkt_ip
    refine g_aload_n (i := 0) h dX21_holds_7 rfl rfl ?_
    refine g_get (v := .int kd) h f_X21_7_21 hC rfl dX21_holds_8 ?_
    refine g_icmp_ne (tgt := 18) h dX21_holds_11 (by decide) (fun b11 => ?_) (fun b11 => ?_)
    · refine g_iconst (v := 0) h dX21_holds_18 (by decide) ?_
      exact g_zret h ⟨by simp [b11, zB], rfl⟩ (Nat.le_refl _) (Nat.le_refl _) (by first | rfl | exact zB_nar _) dX21_holds_19
    · refine g_iconst (v := 1) h dX21_holds_14 (by decide) ?_
      refine g_goto (tgt := 19) h dX21_holds_15 (by decide) ?_
      exact g_zret h ⟨by simp [b11, zB], rfl⟩ (Nat.le_refl _) (Nat.le_refl _) (by first | rfl | exact zB_nar _) dX21_holds_19
  · skip
    refine g_aload_n (i := 1) h dX21_holds_0 rfl rfl ?_
    refine g_get (v := .ref w) h f_X21_13_2 hp rfl dX21_holds_1 ?_
    refine g_invU h (ct_X26kind27 h.k hw) hcX26_kind wu_X21_27 rfl rfl hw (Nat.le_of_ble_eq_true rfl) ⟨Nat.le_of_ble_eq_true rfl, Nat.le_of_ble_eq_true rfl⟩ (by refine ⟨?_, ?_⟩ <;> first | exact Nat.le_refl _ | exact Nat.zero_le _ | (dsimp only; omega)) dX21_holds_4 (gkr_ip ?_) gkt_ip
    refine g_aload_n (i := 0) h dX21_holds_7 rfl rfl ?_
    refine g_get (v := .int kd) h f_X21_7_21 hC rfl dX21_holds_8 ?_
    refine g_icmp_ne (tgt := 18) h dX21_holds_11 (by decide) (fun b11 => ?_) (fun b11 => ?_)
    · refine g_iconst (v := 0) h dX21_holds_18 (by decide) ?_
      exact g_zret h ⟨by simp [b11, zB], rfl⟩ (Nat.le_refl _) (Nat.le_refl _) (by first | rfl | exact zB_nar _) dX21_holds_19
    · refine g_iconst (v := 1) h dX21_holds_14 (by decide) ?_
      refine g_goto (tgt := 19) h dX21_holds_15 (by decide) ?_
      exact g_zret h ⟨by simp [b11, zB], rfl⟩ (Nat.le_refl _) (Nat.le_refl _) (by first | rfl | exact zB_nar _) dX21_holds_19
theorem ct_X27wear {l : Launch} {g : gGP} (hk : gK l g) {c : gLH} {a r : Nat} {a0 a1 a2 a3 k : Int32} {p1 p2 : Value} (hc : c a = some (r, .inr (27, [.int a0, .int a1, .int a2, .int a3, p1, p2, .int k]))) : Ct l g yX27_wear hwX27_wear 1 40 [.ref a] c (0) (0) (pIp (if k = 4 then a2 else a2 / 4) c) := by
  refine Ct.intro hk hcX27_wear (by decide +kernel) (Nat.le_of_ble_eq_true rfl) (fun φ h => ?_)
  refine g_aload_n (i := 0) h dX27_wear_0 rfl rfl ?_
  refine g_invU h (ct_X26kind27 h.k hc) hcX26_kind wu_X27_27 rfl rfl hc (Nat.le_of_ble_eq_true rfl) ⟨Nat.le_of_ble_eq_true rfl, Nat.le_of_ble_eq_true rfl⟩ (by refine ⟨?_, ?_⟩ <;> first | exact Nat.le_refl _ | exact Nat.zero_le _ | (dsimp only; omega)) dX27_wear_1 (gkr_ip ?_) gkt_ip
  refine g_iconst (v := 4) h dX27_wear_4 (by decide) ?_
  refine g_icmp_ne (tgt := 15) h dX27_wear_5 (by decide) (fun b5 => ?_) (fun b5 => ?_)
  · refine g_aload_n (i := 0) h dX27_wear_15 rfl rfl ?_
    refine g_get (v := .int a2) h f_X27_13_27 hc rfl dX27_wear_16 ?_
    refine g_iconst (v := 4) h dX27_wear_19 (by decide) ?_
    refine g_idiv h dX27_wear_20 (by decide) ?_
    exact g_iret h ⟨by simp [b5], rfl⟩ (Nat.le_refl _) (Nat.le_refl _) dX27_wear_21
  · refine g_aload_n (i := 0) h dX27_wear_8 rfl rfl ?_
    refine g_get (v := .int a2) h f_X27_13_27 hc rfl dX27_wear_9 ?_
    refine g_goto (tgt := 21) h dX27_wear_12 (by decide) ?_
    exact g_iret h ⟨by simp [b5], rfl⟩ (Nat.le_refl _) (Nat.le_refl _) dX27_wear_21
