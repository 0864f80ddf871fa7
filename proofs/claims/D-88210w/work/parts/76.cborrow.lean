/-! THE COMPONENT: borrow -/
set_option maxRecDepth 100000
section CAS5
variable {c0 c : gLH} {ad cp fz : Nat → Nat → Nat} {md : Nat → Nat → Int32} {S : Nat → List Value} {U : Nat → Nat → Int64} {A : Nat → Nat → Int32} {B : Nat → Nat → Int64}
theorem add5_cn {n : Nat} (s r k : Int32) (hn : n < 1000) : cn (mA (mA (mA (mA A 55 n s) 56 n r) 57 n k) 61 0 (nI (n + 1))) 5 = n + 1 ∧ cV (mA (mA (mA (mA A 55 n s) 56 n r) 57 n k) 61 0 (nI (n + 1))) 5 = nI (n + 1) := by
  have e : (mA (mA (mA (mA A 55 n s) 56 n r) 57 n k) 61 0 (nI (n + 1))) 61 0 = nI (n + 1) := mA_rd _ _ _ _
  refine ⟨?_, e⟩
  show ix ((mA (mA (mA (mA A 55 n s) 56 n r) 57 n k) 61 0 (nI (n + 1))) 61 0) = n + 1
  rw [e, ix_nI (by omega)]
theorem add5_oth (n : Nat) (s r k : Int32) (kk i : Nat) (h2 : kk ≠ 2) (h3 : kk ≠ 3) (h9 : kk ≠ 16) : cells ad cp fz md S U (mA (mA (mA (mA A 55 n s) 56 n r) 57 n k) 61 0 (nI (n + 1))) B kk i = cells ad cp fz md S U A B kk i := by
  have u : ∀ f, f = 55 ∨ f = 56 ∨ f = 57 ∨ f = 61 → cUse kk f = false := by
    intro f hf
    unfold cUse
    split <;> first | exact absurd rfl h2 | exact absurd rfl h3 | exact absurd rfl h9 | (rcases hf with rfl | rfl | rfl | rfl <;> rfl)
  rw [cells_mA _ _ _ (u 61 (by decide)), cells_mA _ _ _ (u 57 (by decide)), cells_mA _ _ _ (u 56 (by decide)), cells_mA _ _ _ (u 55 (by decide))]
theorem add5_f {n i : Nat} (s r k : Int32) : cOf (mA (mA (mA (mA A 55 n s) 56 n r) 57 n k) 61 0 (nI (n + 1))) B i = [.int (mA A 56 n r 56 i), .int (mA A 57 n k 57 i), .long (mA A 55 n s 55 i).toInt64, .long (B 58 i)] := rfl
theorem add5_new {n : Nat} (s r k : Int32) (hn : n < 1000) (hB : B 58 n = 0) : cells ad cp fz md S U (mA (mA (mA (mA A 55 n s) 56 n r) 57 n k) 61 0 (nI (n + 1))) B 16 n = some (.inr (30, [.int r, .int k, .long s.toInt64, .long 0])) := by
  rw [cells_16 (by rw [(add5_cn s r k hn).1]; omega), add5_f, mA_rd, mA_rd, mA_rd, hB]
theorem add5_old {n : Nat} (s r k : Int32) (hn : n < 1000) (hc : cn A 5 = n) (i : Nat) (hi : i ≠ n) : cells ad cp fz md S U (mA (mA (mA (mA A 55 n s) 56 n r) 57 n k) 61 0 (nI (n + 1))) B 16 i = cells ad cp fz md S U A B 16 i := by
  show (if i < cn (mA (mA (mA (mA A 55 n s) 56 n r) 57 n k) 61 0 (nI (n + 1))) 5 then some (Sum.inr (30, cOf (mA (mA (mA (mA A 55 n s) 56 n r) 57 n k) 61 0 (nI (n + 1))) B i)) else none) = (if i < cn A 5 then some (Sum.inr (30, cOf A B i)) else none)
  rw [(add5_cn s r k hn).1, hc]
  by_cases z : i < n
  · rw [if_pos (by omega), if_pos z, add5_f, mA_rn _ _ _ hi, mA_rn _ _ _ hi, mA_rn _ _ _ hi]
    rfl
  · rw [if_neg (by omega), if_neg z]
theorem sLineA_61 (X : Nat → Nat → Int32) (nl : Nat) (kind who : Int32) (sum : Int64) (v : Int32) : sLineA (mA X 61 0 v) nl kind who sum = mA (sLineA X nl kind who sum) 61 0 v := by
  funext f
  by_cases h : f = 61
  · subst h
    simp [sLineA, va_up]
  · simp [sLineA, va_up, h]
theorem le_34 (k : Int32) : k ≤ 3 ↔ ¬ 4 ≤ k := by
  rw [Int32.le_iff_toInt_le, Int32.le_iff_toInt_le]
  have e3 : (3 : Int32).toInt = 3 := rfl
  have e4 : (4 : Int32).toInt = 4 := rfl
  omega
end CAS5
theorem add5_cnO (A : Nat → Nat → Int32) (n : Nat) (s r k : Int32) (i : Nat) (h6 : i < 6) (hi : i ≠ 5) : cn (mA (mA (mA (mA A 55 n s) 56 n r) 57 n k) 61 0 (nI (n + 1))) i = cn A i ∧ cV (mA (mA (mA (mA A 55 n s) 56 n r) 57 n k) 61 0 (nI (n + 1))) i = cV A i := by
  rcases (show i = 0 ∨ i = 1 ∨ i = 2 ∨ i = 3 ∨ i = 4 ∨ i = 5 by omega) with rfl | rfl | rfl | rfl | rfl | rfl
  · exact ⟨(show ix ((mA (mA (mA (mA A 55 n s) 56 n r) 57 n k) 61 0 (nI (n + 1))) 18 0) = ix (A 18 0) from by rw [mA_n _ _ _ (by decide), mA_n _ _ _ (by decide), mA_n _ _ _ (by decide), mA_n _ _ _ (by decide)]), (show (mA (mA (mA (mA A 55 n s) 56 n r) 57 n k) 61 0 (nI (n + 1))) 18 0 = A 18 0 from by rw [mA_n _ _ _ (by decide), mA_n _ _ _ (by decide), mA_n _ _ _ (by decide), mA_n _ _ _ (by decide)])⟩
  · exact ⟨(show ix ((mA (mA (mA (mA A 55 n s) 56 n r) 57 n k) 61 0 (nI (n + 1))) 28 0) = ix (A 28 0) from by rw [mA_n _ _ _ (by decide), mA_n _ _ _ (by decide), mA_n _ _ _ (by decide), mA_n _ _ _ (by decide)]), (show (mA (mA (mA (mA A 55 n s) 56 n r) 57 n k) 61 0 (nI (n + 1))) 28 0 = A 28 0 from by rw [mA_n _ _ _ (by decide), mA_n _ _ _ (by decide), mA_n _ _ _ (by decide), mA_n _ _ _ (by decide)])⟩
  · exact ⟨(show ix ((mA (mA (mA (mA A 55 n s) 56 n r) 57 n k) 61 0 (nI (n + 1))) 31 0) = ix (A 31 0) from by rw [mA_n _ _ _ (by decide), mA_n _ _ _ (by decide), mA_n _ _ _ (by decide), mA_n _ _ _ (by decide)]), (show (mA (mA (mA (mA A 55 n s) 56 n r) 57 n k) 61 0 (nI (n + 1))) 31 0 = A 31 0 from by rw [mA_n _ _ _ (by decide), mA_n _ _ _ (by decide), mA_n _ _ _ (by decide), mA_n _ _ _ (by decide)])⟩
  · exact ⟨(show ix ((mA (mA (mA (mA A 55 n s) 56 n r) 57 n k) 61 0 (nI (n + 1))) 25 0) = ix (A 25 0) from by rw [mA_n _ _ _ (by decide), mA_n _ _ _ (by decide), mA_n _ _ _ (by decide), mA_n _ _ _ (by decide)]), (show (mA (mA (mA (mA A 55 n s) 56 n r) 57 n k) 61 0 (nI (n + 1))) 25 0 = A 25 0 from by rw [mA_n _ _ _ (by decide), mA_n _ _ _ (by decide), mA_n _ _ _ (by decide), mA_n _ _ _ (by decide)])⟩
  · exact ⟨(show ix ((mA (mA (mA (mA A 55 n s) 56 n r) 57 n k) 61 0 (nI (n + 1))) 45 0) = ix (A 45 0) from by rw [mA_n _ _ _ (by decide), mA_n _ _ _ (by decide), mA_n _ _ _ (by decide), mA_n _ _ _ (by decide)]), (show (mA (mA (mA (mA A 55 n s) 56 n r) 57 n k) 61 0 (nI (n + 1))) 45 0 = A 45 0 from by rw [mA_n _ _ _ (by decide), mA_n _ _ _ (by decide), mA_n _ _ _ (by decide), mA_n _ _ _ (by decide)])⟩
  · exact absurd rfl hi
theorem cx_borrow {l : Launch} {g : gGP} (hk : gK l g) {c0 c : gLH} {ad cp fz : Nat → Nat → Nat} {md : Nat → Nat → Int32} {S : Nat → List Value} {U : Nat → Nat → Int64} {A : Nat → Nat → Int32} {B : Nat → Nat → Int64} (hX : CW c0 ad cp fz md S U A B c) (s r k : Int32) (hS : gLS g) (hB : B 58 (cn A 5) = 0) {nl : Nat} (hnl : A 42 0 = nI nl) (h2 : nl < 400000) (hL2 : 2 * cp 8 0 < 4000000) (hts : gTS g) : Ct l g yX1_borrow hwX1_borrow 7 280 [.ref (ad 0 0), .int s, .int r, .int k] c (12 + (cN (cp 8 0) nl - cp 8 0)) (250 + 2 * (cN (cp 8 0) nl - cp 8 0)) (pCx (sBorrowK A s r k) eAS c (pI (nI (cn A 5)) (fun c' => ∃ q d' cap' m' q2, CW c0 (up2 (up2 (up2 ad 16 (cn A 5) q) 3 5 d') 8 0 q2) (up2 (up2 cp 3 5 cap') 8 0 (cN (cp 8 0) nl)) fz (up2 md 2 5 m') S U (sBorrowA A (cn A 5) nl s r k) (mB B 43 0 (B 43 0 + s.toInt64)) c'))) := by
  refine Ct.intro hk hcX1_borrow (by decide +kernel) (Nat.le_of_ble_eq_true rfl) (fun φ h => ?_)
  refine g_iload_n (i := 1) h dX1_borrow_0 rfl rfl ?_
  refine g_iconst (v := 1) h dX1_borrow_1 (by decide) ?_
  refine g_icmp_lt (tgt := 36) h dX1_borrow_2 (by decide) (fun b2 => ?_) (fun b2 => ?_)
  · refine g_iconst (v := 0) h dX1_borrow_36 (by decide) ?_
    refine g_invS h (ct_needX h.k false hts) hcX1_need w_X1_77 rfl rfl (Nat.le_of_ble_eq_true rfl) ⟨Nat.le_of_ble_eq_true rfl, Nat.le_of_ble_eq_true rfl⟩ (by refine ⟨?_, ?_⟩ <;> ((try dsimp only); omega)) dX1_borrow_37 (gkr_gd (fun hb => absurd hb (by decide))) (gkt_gd (fun _ a e ha => ?_))
    refine gt_out h (fun q hq => by cases hq) ?_ (by (try dsimp only); omega) (by (try dsimp only); omega)
    exact pCx_t (n := 1) (by first | (simp [sBorrowK, sSum, b2]; done) | (have z : ¬ k ≤ 3 := (by rw [le_34]; simpa using b29); simp [sBorrowK, sSum, b2, z]; done) | (simp_all [sBorrowK, sSum]; done)) (by decide) rfl ⟨a, e, rfl, ha, rfl⟩
  · refine g_iload_n (i := 1) h dX1_borrow_5 rfl rfl ?_
    refine g_ldcw (v := 10000000) h dX1_borrow_6 q1638 ?_
    refine g_icmp_gt (tgt := 36) h dX1_borrow_9 (by decide) (fun b9 => ?_) (fun b9 => ?_)
    · refine g_iconst (v := 0) h dX1_borrow_36 (by decide) ?_
      refine g_invS h (ct_needX h.k false hts) hcX1_need w_X1_77 rfl rfl (Nat.le_of_ble_eq_true rfl) ⟨Nat.le_of_ble_eq_true rfl, Nat.le_of_ble_eq_true rfl⟩ (by refine ⟨?_, ?_⟩ <;> ((try dsimp only); omega)) dX1_borrow_37 (gkr_gd (fun hb => absurd hb (by decide))) (gkt_gd (fun _ a e ha => ?_))
      refine gt_out h (fun q hq => by cases hq) ?_ (by (try dsimp only); omega) (by (try dsimp only); omega)
      exact pCx_t (n := 1) (by first | (simp [sBorrowK, sSum, b2, b9]; done) | (have z : ¬ k ≤ 3 := (by rw [le_34]; simpa using b29); simp [sBorrowK, sSum, b2, b9, z]; done) | (simp_all [sBorrowK, sSum]; done)) (by decide) rfl ⟨a, e, rfl, ha, rfl⟩
    · refine g_iload_n (i := 2) h dX1_borrow_12 rfl rfl ?_
      refine g_if_lt (tgt := 36) h dX1_borrow_13 (by decide) (fun b13 => ?_) (fun b13 => ?_)
      · refine g_iconst (v := 0) h dX1_borrow_36 (by decide) ?_
        refine g_invS h (ct_needX h.k false hts) hcX1_need w_X1_77 rfl rfl (Nat.le_of_ble_eq_true rfl) ⟨Nat.le_of_ble_eq_true rfl, Nat.le_of_ble_eq_true rfl⟩ (by refine ⟨?_, ?_⟩ <;> ((try dsimp only); omega)) dX1_borrow_37 (gkr_gd (fun hb => absurd hb (by decide))) (gkt_gd (fun _ a e ha => ?_))
        refine gt_out h (fun q hq => by cases hq) ?_ (by (try dsimp only); omega) (by (try dsimp only); omega)
        exact pCx_t (n := 1) (by first | (simp [sBorrowK, sSum, b2, b9, b13]; done) | (have z : ¬ k ≤ 3 := (by rw [le_34]; simpa using b29); simp [sBorrowK, sSum, b2, b9, b13, z]; done) | (simp_all [sBorrowK, sSum]; done)) (by decide) rfl ⟨a, e, rfl, ha, rfl⟩
      · refine g_iload_n (i := 2) h dX1_borrow_16 rfl rfl ?_
        refine g_sipush (v := 500) h dX1_borrow_17 (by decide) ?_
        refine g_icmp_gt (tgt := 36) h dX1_borrow_20 (by decide) (fun b20 => ?_) (fun b20 => ?_)
        · refine g_iconst (v := 0) h dX1_borrow_36 (by decide) ?_
          refine g_invS h (ct_needX h.k false hts) hcX1_need w_X1_77 rfl rfl (Nat.le_of_ble_eq_true rfl) ⟨Nat.le_of_ble_eq_true rfl, Nat.le_of_ble_eq_true rfl⟩ (by refine ⟨?_, ?_⟩ <;> ((try dsimp only); omega)) dX1_borrow_37 (gkr_gd (fun hb => absurd hb (by decide))) (gkt_gd (fun _ a e ha => ?_))
          refine gt_out h (fun q hq => by cases hq) ?_ (by (try dsimp only); omega) (by (try dsimp only); omega)
          exact pCx_t (n := 1) (by first | (simp [sBorrowK, sSum, b2, b9, b13, b20]; done) | (have z : ¬ k ≤ 3 := (by rw [le_34]; simpa using b29); simp [sBorrowK, sSum, b2, b9, b13, b20, z]; done) | (simp_all [sBorrowK, sSum]; done)) (by decide) rfl ⟨a, e, rfl, ha, rfl⟩
        · refine g_iload_n (i := 3) h dX1_borrow_23 rfl rfl ?_
          refine g_if_lt (tgt := 36) h dX1_borrow_24 (by decide) (fun b24 => ?_) (fun b24 => ?_)
          · refine g_iconst (v := 0) h dX1_borrow_36 (by decide) ?_
            refine g_invS h (ct_needX h.k false hts) hcX1_need w_X1_77 rfl rfl (Nat.le_of_ble_eq_true rfl) ⟨Nat.le_of_ble_eq_true rfl, Nat.le_of_ble_eq_true rfl⟩ (by refine ⟨?_, ?_⟩ <;> ((try dsimp only); omega)) dX1_borrow_37 (gkr_gd (fun hb => absurd hb (by decide))) (gkt_gd (fun _ a e ha => ?_))
            refine gt_out h (fun q hq => by cases hq) ?_ (by (try dsimp only); omega) (by (try dsimp only); omega)
            exact pCx_t (n := 1) (by first | (simp [sBorrowK, sSum, b2, b9, b13, b20, b24]; done) | (have z : ¬ k ≤ 3 := (by rw [le_34]; simpa using b29); simp [sBorrowK, sSum, b2, b9, b13, b20, b24, z]; done) | (simp_all [sBorrowK, sSum]; done)) (by decide) rfl ⟨a, e, rfl, ha, rfl⟩
          · refine g_iload_n (i := 3) h dX1_borrow_27 rfl rfl ?_
            refine g_iconst (v := 4) h dX1_borrow_28 (by decide) ?_
            refine g_icmp_ge (tgt := 36) h dX1_borrow_29 (by decide) (fun b29 => ?_) (fun b29 => ?_)
            · refine g_iconst (v := 0) h dX1_borrow_36 (by decide) ?_
              refine g_invS h (ct_needX h.k false hts) hcX1_need w_X1_77 rfl rfl (Nat.le_of_ble_eq_true rfl) ⟨Nat.le_of_ble_eq_true rfl, Nat.le_of_ble_eq_true rfl⟩ (by refine ⟨?_, ?_⟩ <;> ((try dsimp only); omega)) dX1_borrow_37 (gkr_gd (fun hb => absurd hb (by decide))) (gkt_gd (fun _ a e ha => ?_))
              refine gt_out h (fun q hq => by cases hq) ?_ (by (try dsimp only); omega) (by (try dsimp only); omega)
              exact pCx_t (n := 1) (by first | (simp [sBorrowK, sSum, b2, b9, b13, b20, b24, b29]; done) | (have z : ¬ k ≤ 3 := (by rw [le_34]; simpa using b29); simp [sBorrowK, sSum, b2, b9, b13, b20, b24, b29, z]; done) | (simp_all [sBorrowK, sSum]; done)) (by decide) rfl ⟨a, e, rfl, ha, rfl⟩
            · refine g_iconst (v := 1) h dX1_borrow_32 (by decide) ?_
              refine g_goto (tgt := 37) h dX1_borrow_33 (by decide) ?_
              refine g_invS h (ct_needX h.k true hts) hcX1_need w_X1_77 rfl rfl (Nat.le_of_ble_eq_true rfl) ⟨Nat.le_of_ble_eq_true rfl, Nat.le_of_ble_eq_true rfl⟩ (by refine ⟨?_, ?_⟩ <;> ((try dsimp only); omega)) dX1_borrow_37 (gkr_gd (fun _ => ?_)) (gkt_gd (fun hb => absurd hb (by decide)))
              refine g_aload_n (i := 0) h dX1_borrow_40 rfl rfl ?_
              refine g_get (v := .ref (ad 2 5)) h f_X1_41_1 hX.x rfl dX1_borrow_41 ?_
              refine g_invV h (ct_xsize5 h.k hX) hcJ2_size w_X1_81 rfl rfl (xlist5 hX) (Nat.le_of_ble_eq_true rfl) ⟨Nat.le_of_ble_eq_true rfl, Nat.le_of_ble_eq_true rfl⟩ (by refine ⟨?_, ?_⟩ <;> first | exact Nat.le_refl _ | exact Nat.zero_le _ | (dsimp only; omega)) dX1_borrow_44 (gkr_ip ?_) gkt_ip
              refine g_bipush (v := 10) h dX1_borrow_47 (by decide) ?_
              refine g_icmp_ge (tgt := 56) h dX1_borrow_49 (by decide) (fun b49 => ?_) (fun b49 => ?_)
              · refine g_iconst (v := 0) h dX1_borrow_56 (by decide) ?_
                refine g_invS h (ct_rightX h.k false hts) hcX1_right w_X1_85 rfl rfl (Nat.le_of_ble_eq_true rfl) ⟨Nat.le_of_ble_eq_true rfl, Nat.le_of_ble_eq_true rfl⟩ (by refine ⟨?_, ?_⟩ <;> ((try dsimp only); omega)) dX1_borrow_57 (gkr_gd (fun hb => absurd hb (by decide))) (gkt_gd (fun _ a e ha => ?_))
                refine gt_out h (fun q hq => by cases hq) ?_ (by (try dsimp only); omega) (by (try dsimp only); omega)
                exact pCx_t (n := 2) (by have z : A 61 0 = 10 := full_eq (m := 10) (hX.cnt (i := 5) (by decide)).1 (hX.cnt (i := 5) (by decide)).2.1 (by decide) b49; have z3 : k ≤ 3 := (by rw [le_34]; simpa using b29); simp [sBorrowK, sSum, b2, b9, b13, b20, b24, b29, b49, z, z3]) (by decide) rfl ⟨a, e, rfl, ha, rfl⟩
              · refine g_iconst (v := 1) h dX1_borrow_52 (by decide) ?_
                refine g_goto (tgt := 57) h dX1_borrow_53 (by decide) ?_
                refine g_invS h (ct_rightX h.k true hts) hcX1_right w_X1_85 rfl rfl (Nat.le_of_ble_eq_true rfl) ⟨Nat.le_of_ble_eq_true rfl, Nat.le_of_ble_eq_true rfl⟩ (by refine ⟨?_, ?_⟩ <;> ((try dsimp only); omega)) dX1_borrow_57 (gkr_gd (fun _ => ?_)) (gkt_gd (fun hb => absurd hb (by decide)))
                refine g_aload_n (i := 0) h dX1_borrow_60 rfl rfl ?_
                refine g_get (v := .ref (ad 2 5)) h f_X1_41_1 hX.x rfl dX1_borrow_61 ?_
                obtain ⟨n, hn⟩ : ∃ n, cn A 5 = n := ⟨_, rfl⟩
                have hcnt := hX.cnt (i := 5) (by decide)
                have hM : cn A 5 ≤ 10 := hcnt.2.1
                have hcv : A 61 0 = nI (cn A 5) := hcnt.1
                have hlt : n < 10 := by
                  rcases Nat.lt_or_ge n 10 with z | z
                  · exact z
                  · exact absurd (by rw [hcv, show cn A 5 = 10 by omega]; exact Int32.le_refl _) b49
                refine g_new h (cR 16 n) n_X1_263 (by (try dsimp only); omega) (by (try dsimp only); omega) dX1_borrow_64 (fun q hq => ?_)
                have hqx : ad 2 5 ≠ q := fun e => by rw [← e, xlist5 hX] at hq; cases hq
                refine g_dup h dX1_borrow_67 rfl ?_
                refine g_iload_n (i := 1) h dX1_borrow_68 rfl rfl ?_
                refine g_i2l h dX1_borrow_69 ?_
                refine g_iload_n (i := 2) h dX1_borrow_70 rfl rfl ?_
                refine g_iload_n (i := 3) h dX1_borrow_71 rfl rfl ?_
                refine g_invI h (ct_X30init h.k s.toInt64 r k (cR_lt (by decide) (by omega)) (va_up_s _ _ _)) w_X1_306 rfl rfl (Nat.le_of_ble_eq_true rfl) ⟨Nat.le_of_ble_eq_true rfl, Nat.le_of_ble_eq_true rfl⟩ (by refine ⟨?_, ?_⟩ <;> ((try dsimp only); omega)) dX1_borrow_72 (gkr_v (fun c1 e1 => ?_)) gkt_v
                subst e1
                rw [va_up_up]
                refine g_invV h (ct_xadd5 h.k hS hX (n := n) (A' := (mA (mA (mA (mA A 55 n s) 56 n r) 57 n k) 61 0 (nI (n + 1)))) (B' := B) hn hq (add5_cn s r k (by omega)).1 (add5_cn s r k (by omega)).2 hlt (fun i h6 hi => (add5_cnO A n s r k i h6 hi).1) (fun i h6 hi => (add5_cnO A n s r k i h6 hi).2) rfl rfl (add5_oth n s r k) (add5_new s r k (by omega) (by rw [← hn]; exact hB)) (add5_old s r k (by omega) hn)) hcJ2_add w_X1_97 rfl rfl (by rw [va_up_n _ _ hqx]; exact xlist5 hX) (Nat.le_of_ble_eq_true rfl) ⟨Nat.le_of_ble_eq_true rfl, Nat.le_of_ble_eq_true rfl⟩ (by refine ⟨?_, ?_⟩ <;> ((try dsimp only); omega)) dX1_borrow_75 (gkr_i (fun c hP => ?_)) gkt_i
                obtain ⟨d', cap', m', hX⟩ := hP
                refine g_pop h dX1_borrow_78 rfl ?_
                refine g_aload_n (i := 0) h dX1_borrow_79 rfl rfl ?_
                refine g_iconst (v := 3) h dX1_borrow_80 (by decide) ?_
                refine g_aload_n (i := 0) h dX1_borrow_81 rfl rfl ?_
                refine g_get (v := .ref (ad 2 5)) h f_X1_41_1 hX.x rfl dX1_borrow_82 ?_
                refine g_invV h (ct_xsize5 h.k hX) hcJ2_size w_X1_81 rfl rfl (xlist5 hX) (Nat.le_of_ble_eq_true rfl) ⟨Nat.le_of_ble_eq_true rfl, Nat.le_of_ble_eq_true rfl⟩ (by refine ⟨?_, ?_⟩ <;> ((try dsimp only); omega)) dX1_borrow_85 (gkr_ip ?_) gkt_ip
                refine G.int (y := nI (n + 1)) (mA_rd _ _ _ _) ?_
                refine g_iconst (v := nI 1) h dX1_borrow_88 (by decide) ?_
                refine g_isub h dX1_borrow_89 ?_
                refine G.int (nI_pred n) ?_
                refine g_iload_n (i := 1) h dX1_borrow_90 rfl rfl ?_
                refine g_i2l h dX1_borrow_91 ?_
                refine g_invV h (cx_change h.k hX 3 (nI n) s.toInt64 (nl := nl) hnl h2 (by rw [up2_k _ _ (by decide)]; exact hL2) (i64_rt _)) hcX1_change w_X1_204 rfl rfl hX.x (Nat.le_of_ble_eq_true rfl) ⟨Nat.le_of_ble_eq_true rfl, Nat.le_of_ble_eq_true rfl⟩ (by rw [show up2 cp 3 5 cap' 8 0 = cp 8 0 from rfl]; refine ⟨?_, ?_⟩ <;> ((try dsimp only); omega)) dX1_borrow_92 (gkr_v (fun c hP => ?_)) gkt_v
                obtain ⟨q2, hX⟩ := hP
                rw [show up2 cp 3 5 cap' 8 0 = cp 8 0 from rfl] at hX
                rw [show up2 cp 3 5 cap' 8 0 = cp 8 0 from rfl]
                refine g_aload_n (i := 0) h dX1_borrow_95 rfl rfl ?_
                refine g_get (v := .ref (ad 2 5)) h f_X1_41_1 hX.x rfl dX1_borrow_96 ?_
                refine g_invV h (ct_xsize5 h.k hX) hcJ2_size w_X1_81 rfl rfl (xlist5 hX) (Nat.le_of_ble_eq_true rfl) ⟨Nat.le_of_ble_eq_true rfl, Nat.le_of_ble_eq_true rfl⟩ (by refine ⟨?_, ?_⟩ <;> ((try dsimp only); omega)) dX1_borrow_99 (gkr_ip ?_) gkt_ip
                refine G.int (y := nI (n + 1)) (by rw [sLineA_61]; exact mA_rd _ _ _ _) ?_
                refine g_iconst (v := nI 1) h dX1_borrow_102 (by decide) ?_
                refine g_isub h dX1_borrow_103 ?_
                exact g_iret h (pCx_0 (by have z : ¬ A 61 0 = 10 := fun e => b49 (by rw [e]; exact Int32.le_refl _); have z3 : k ≤ 3 := (by rw [le_34]; simpa using b29); simp [sBorrowK, sSum, b2, b9, b13, b20, b24, b29, b49, z, z3]) ⟨by rw [show nI (n + 1) - nI 1 = nI n from nI_pred n, hn], q, d', cap', m', q2, by rw [hn, sBorrowA, ← sLineA_61]; exact hX⟩) (by (try dsimp only); omega) (by (try dsimp only); omega) dX1_borrow_104
