/-! THE COMPONENT: Any, All -/
set_option maxRecDepth 100000
def cAny (bs : Nat → Bool) : Nat → Bool
  | 0 => false
  | n + 1 => cAny bs n || bs n
def cAll (bs : Nat → Bool) : Nat → Bool
  | 0 => true
  | n + 1 => cAll bs n && bs n
theorem cAny_mono {bs : Nat → Bool} {n : Nat} (h : cAny bs n = true) : ∀ {N : Nat}, n ≤ N → cAny bs N = true := by
  intro N hN
  induction hN with
  | refl => exact h
  | step _ ih => simp [cAny, ih]
theorem cAll_mono {bs : Nat → Bool} {n : Nat} (h : cAll bs n = false) : ∀ {N : Nat}, n ≤ N → cAll bs N = false := by
  intro N hN
  induction hN with
  | refl => exact h
  | step _ ih => simp [cAll, ih]
theorem ct_anyHolds {l : Launch} {g : gGP} (hk : gK l g) {c : gLH} {a p q dq cap ra rd r d : Nat} {es : List Nat} {bs : Nat → Bool} (hL : gAL c q dq cap ra rd es) (hH : ∀ j x, es[j]? = some x → HC l g d c x p (bs j)) (hC : c a = some (r, .inr (15, [.ref q]))) : Ct l g yX15_holds hwX15_holds (d + 3) (40 * (d + 3)) [.ref a, .ref p] c (0) (0) (pIp (zB (cAny bs es.length)) c) := by
  refine Ct.intro hk hcX15_holds (by decide +kernel) (Nat.le_of_ble_eq_true rfl) (fun φ h => ?_)
  obtain ⟨⟨m0, hq⟩, hq2, hl1, hl2⟩ := hL
  have hL : gAL c q dq cap ra rd es := ⟨⟨m0, hq⟩, hq2, hl1, hl2⟩
  have loop : ∀ n, n ≤ es.length → (cAny bs n = false → G φ (gQ φ (pIp (zB (cAny bs es.length)) c) 0 0) 2 [(0, .ref a), (1, .ref p), (2, .int (nI n))] [] c 0 0) := by
    refine gloop ?_ ?_
    · intro hz
      refine g_iload_n (i := 2) h dX15_holds_2 rfl rfl ?_
      refine g_aload_n (i := 0) h dX15_holds_3 rfl rfl ?_
      refine g_get (v := .ref q) h f_X15_12_15 hC rfl dX15_holds_4 ?_
      refine g_invV h (ct_lsize h.k hL) hcJ2_size w_X15_18 rfl rfl hq (Nat.le_of_ble_eq_true rfl) ⟨by (try dsimp only); omega, by (try dsimp only); omega⟩ (by refine ⟨?_, ?_⟩ <;> first | exact Nat.le_refl _ | exact Nat.zero_le _ | (dsimp only; omega)) dX15_holds_7 (gkr_ip ?_) gkt_ip
      refine g_icmp_ge (tgt := 41) h dX15_holds_10 (by decide) (fun b10 => ?_) (fun _bz => absurd _bz (fun q => absurd (nI_le (Nat.le_refl _) (by omega)) q))
      refine g_iconst (v := 0) h dX15_holds_41 (by decide) ?_
      exact g_zret h ⟨by rw [hz]; rfl, rfl⟩ (Nat.le_refl _) (Nat.le_refl _) (by first | rfl | exact zB_nar _) dX15_holds_42
    · intro n hn ih hz
      obtain ⟨x, hx⟩ : ∃ x, es[n]? = some x := ⟨_, List.getElem?_eq_getElem hn⟩
      have hcast : ∀ (lv : List (Nat × Value)) (st : List Value), G φ (gQ φ (pIp (zB (cAny bs es.length)) c) 0 0) 24 lv (.ref x :: st) c 0 0 → G φ (gQ φ (pIp (zB (cAny bs es.length)) c) 0 0) 21 lv (.ref x :: st) c 0 0 := by
        intro lv st kk
        obtain ⟨r5, fs5, h5⟩ := hH n x hx
        rcases h5 with ⟨h5, -⟩ | ⟨h5, -⟩ | ⟨h5, -⟩ | ⟨h5, -⟩ | ⟨h5, -⟩ | ⟨h5, -⟩ | ⟨h5, -⟩
        · exact g_castY h h5 rfl q1447 q1439 dX15_holds_21 kk
        · exact g_castY h h5 rfl q1447 q1428 dX15_holds_21 kk
        · exact g_castY h h5 rfl q1447 q1484 dX15_holds_21 kk
        · exact g_castY h h5 rfl q1447 q1456 dX15_holds_21 kk
        · exact g_castY h h5 rfl q1447 q1450 dX15_holds_21 kk
        · exact g_castY h h5 rfl q1447 q1462 dX15_holds_21 kk
        · exact g_castY h h5 rfl q1447 q1468 dX15_holds_21 kk
      refine g_iload_n (i := 2) h dX15_holds_2 rfl rfl ?_
      refine g_aload_n (i := 0) h dX15_holds_3 rfl rfl ?_
      refine g_get (v := .ref q) h f_X15_12_15 hC rfl dX15_holds_4 ?_
      refine g_invV h (ct_lsize h.k hL) hcJ2_size w_X15_18 rfl rfl hq (Nat.le_of_ble_eq_true rfl) ⟨by (try dsimp only); omega, by (try dsimp only); omega⟩ (by refine ⟨?_, ?_⟩ <;> first | exact Nat.le_refl _ | exact Nat.zero_le _ | (dsimp only; omega)) dX15_holds_7 (gkr_ip ?_) gkt_ip
      refine g_icmp_ge (tgt := 41) h dX15_holds_10 (by decide) (fun _bz => absurd _bz (nI_ge hn (by omega))) (fun b10 => ?_)
      refine g_aload_n (i := 0) h dX15_holds_13 rfl rfl ?_
      refine g_get (v := .ref q) h f_X15_12_15 hC rfl dX15_holds_14 ?_
      refine g_iload_n (i := 2) h dX15_holds_17 rfl rfl ?_
      refine g_invV h (ct_lget h.k hL hx) hcJ2_get w_X15_22 rfl rfl hq (Nat.le_of_ble_eq_true rfl) ⟨by (try dsimp only); omega, by (try dsimp only); omega⟩ (by refine ⟨?_, ?_⟩ <;> first | exact Nat.le_refl _ | exact Nat.zero_le _ | (dsimp only; omega)) dX15_holds_18 (gkr_ap ?_) gkt_ap
      refine hcast _ _ ?_
      refine g_aload_n (i := 1) h dX15_holds_24 rfl rfl ?_
      refine g_condX15 h (hH n x hx) (Nat.le_of_ble_eq_true rfl) ⟨by (try dsimp only); omega, by (try dsimp only); omega⟩ ⟨Nat.zero_le _, Nat.zero_le _⟩ dX15_holds_25 ?_
      refine g_if_eq (tgt := 35) h dX15_holds_30 (by decide) (fun b30 => ?_) (fun b30 => ?_)
      · rw [zB_0] at b30
        first | (with_reducible refine g_iincN h dX15_holds_35 rfl (by decide) ?_) | refine g_iinc1 h dX15_holds_35 rfl (by decide) ?_
        refine g_goto (tgt := 2) h dX15_holds_38 (by decide) ?_
        exact G.to (ih (by simp [cAny, hz, b10, b30])) ⟨rfl, rfl, rfl, trivial⟩
      · rw [zB_n0] at b30
        refine g_iconst (v := 1) h dX15_holds_33 (by decide) ?_
        exact g_zret h ⟨by rw [cAny_mono (n := n + 1) (by simp [cAny, hz, b10, b30]) hn]; rfl, rfl⟩ (Nat.le_refl _) (Nat.le_refl _) (by first | rfl | exact zB_nar _) dX15_holds_34
  refine g_iconst (v := 0) h dX15_holds_0 (by decide) ?_
  refine g_istore_n (i := 2) h dX15_holds_1 rfl (by decide) ?_
  exact G.to (loop 0 (Nat.zero_le _) rfl) ⟨rfl, rfl, rfl, trivial⟩
theorem ct_allHolds {l : Launch} {g : gGP} (hk : gK l g) {c : gLH} {a p q dq cap ra rd r d : Nat} {es : List Nat} {bs : Nat → Bool} (hL : gAL c q dq cap ra rd es) (hH : ∀ j x, es[j]? = some x → HC l g d c x p (bs j)) (hC : c a = some (r, .inr (16, [.ref q]))) : Ct l g yX16_holds hwX16_holds (d + 3) (40 * (d + 3)) [.ref a, .ref p] c (0) (0) (pIp (zB (cAll bs es.length)) c) := by
  refine Ct.intro hk hcX16_holds (by decide +kernel) (Nat.le_of_ble_eq_true rfl) (fun φ h => ?_)
  obtain ⟨⟨m0, hq⟩, hq2, hl1, hl2⟩ := hL
  have hL : gAL c q dq cap ra rd es := ⟨⟨m0, hq⟩, hq2, hl1, hl2⟩
  have loop : ∀ n, n ≤ es.length → (cAll bs n = true → G φ (gQ φ (pIp (zB (cAll bs es.length)) c) 0 0) 2 [(0, .ref a), (1, .ref p), (2, .int (nI n))] [] c 0 0) := by
    refine gloop ?_ ?_
    · intro hz
      refine g_iload_n (i := 2) h dX16_holds_2 rfl rfl ?_
      refine g_aload_n (i := 0) h dX16_holds_3 rfl rfl ?_
      refine g_get (v := .ref q) h f_X16_7_16 hC rfl dX16_holds_4 ?_
      refine g_invV h (ct_lsize h.k hL) hcJ2_size w_X16_13 rfl rfl hq (Nat.le_of_ble_eq_true rfl) ⟨by (try dsimp only); omega, by (try dsimp only); omega⟩ (by refine ⟨?_, ?_⟩ <;> first | exact Nat.le_refl _ | exact Nat.zero_le _ | (dsimp only; omega)) dX16_holds_7 (gkr_ip ?_) gkt_ip
      refine g_icmp_ge (tgt := 41) h dX16_holds_10 (by decide) (fun b10 => ?_) (fun _bz => absurd _bz (fun q => absurd (nI_le (Nat.le_refl _) (by omega)) q))
      refine g_iconst (v := 1) h dX16_holds_41 (by decide) ?_
      exact g_zret h ⟨by rw [hz]; rfl, rfl⟩ (Nat.le_refl _) (Nat.le_refl _) (by first | rfl | exact zB_nar _) dX16_holds_42
    · intro n hn ih hz
      obtain ⟨x, hx⟩ : ∃ x, es[n]? = some x := ⟨_, List.getElem?_eq_getElem hn⟩
      have hcast : ∀ (lv : List (Nat × Value)) (st : List Value), G φ (gQ φ (pIp (zB (cAll bs es.length)) c) 0 0) 24 lv (.ref x :: st) c 0 0 → G φ (gQ φ (pIp (zB (cAll bs es.length)) c) 0 0) 21 lv (.ref x :: st) c 0 0 := by
        intro lv st kk
        obtain ⟨r5, fs5, h5⟩ := hH n x hx
        rcases h5 with ⟨h5, -⟩ | ⟨h5, -⟩ | ⟨h5, -⟩ | ⟨h5, -⟩ | ⟨h5, -⟩ | ⟨h5, -⟩ | ⟨h5, -⟩
        · exact g_castY h h5 rfl q1436 q1439 dX16_holds_21 kk
        · exact g_castY h h5 rfl q1436 q1428 dX16_holds_21 kk
        · exact g_castY h h5 rfl q1436 q1484 dX16_holds_21 kk
        · exact g_castY h h5 rfl q1436 q1456 dX16_holds_21 kk
        · exact g_castY h h5 rfl q1436 q1450 dX16_holds_21 kk
        · exact g_castY h h5 rfl q1436 q1462 dX16_holds_21 kk
        · exact g_castY h h5 rfl q1436 q1468 dX16_holds_21 kk
      refine g_iload_n (i := 2) h dX16_holds_2 rfl rfl ?_
      refine g_aload_n (i := 0) h dX16_holds_3 rfl rfl ?_
      refine g_get (v := .ref q) h f_X16_7_16 hC rfl dX16_holds_4 ?_
      refine g_invV h (ct_lsize h.k hL) hcJ2_size w_X16_13 rfl rfl hq (Nat.le_of_ble_eq_true rfl) ⟨by (try dsimp only); omega, by (try dsimp only); omega⟩ (by refine ⟨?_, ?_⟩ <;> first | exact Nat.le_refl _ | exact Nat.zero_le _ | (dsimp only; omega)) dX16_holds_7 (gkr_ip ?_) gkt_ip
      refine g_icmp_ge (tgt := 41) h dX16_holds_10 (by decide) (fun _bz => absurd _bz (nI_ge hn (by omega))) (fun b10 => ?_)
      refine g_aload_n (i := 0) h dX16_holds_13 rfl rfl ?_
      refine g_get (v := .ref q) h f_X16_7_16 hC rfl dX16_holds_14 ?_
      refine g_iload_n (i := 2) h dX16_holds_17 rfl rfl ?_
      refine g_invV h (ct_lget h.k hL hx) hcJ2_get w_X16_19 rfl rfl hq (Nat.le_of_ble_eq_true rfl) ⟨by (try dsimp only); omega, by (try dsimp only); omega⟩ (by refine ⟨?_, ?_⟩ <;> first | exact Nat.le_refl _ | exact Nat.zero_le _ | (dsimp only; omega)) dX16_holds_18 (gkr_ap ?_) gkt_ap
      refine hcast _ _ ?_
      refine g_aload_n (i := 1) h dX16_holds_24 rfl rfl ?_
      refine g_condX16 h (hH n x hx) (Nat.le_of_ble_eq_true rfl) ⟨by (try dsimp only); omega, by (try dsimp only); omega⟩ ⟨Nat.zero_le _, Nat.zero_le _⟩ dX16_holds_25 ?_
      refine g_if_ne (tgt := 35) h dX16_holds_30 (by decide) (fun b30 => ?_) (fun b30 => ?_)
      · rw [zB_n0] at b30
        first | (with_reducible refine g_iincN h dX16_holds_35 rfl (by decide) ?_) | refine g_iinc1 h dX16_holds_35 rfl (by decide) ?_
        refine g_goto (tgt := 2) h dX16_holds_38 (by decide) ?_
        exact G.to (ih (by simp [cAll, hz, b10, b30])) ⟨rfl, rfl, rfl, trivial⟩
      · rw [zB_0] at b30
        refine g_iconst (v := 0) h dX16_holds_33 (by decide) ?_
        exact g_zret h ⟨by rw [cAll_mono (n := n + 1) (by simp [cAll, hz, b10, b30]) hn]; rfl, rfl⟩ (Nat.le_refl _) (Nat.le_refl _) (by first | rfl | exact zB_nar _) dX16_holds_34
  refine g_iconst (v := 0) h dX16_holds_0 (by decide) ?_
  refine g_istore_n (i := 2) h dX16_holds_1 rfl (by decide) ?_
  exact G.to (loop 0 (Nat.zero_le _) rfl) ⟨rfl, rfl, rfl, trivial⟩
