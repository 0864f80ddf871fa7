/-! THE COMPONENT's WORLD: rows (printed by tools/p64.py) -/
set_option maxRecDepth 100000
section CWR
variable {φ : gFx} {Q : State → Prop} {pc : Nat} {lv : List (Nat × Value)} {st : List Value} {ce sl : Nat} {l : Launch} {g : gGP} {R : Room} {cc : ByteArray} {nL : Nat} {own mn : String} {ret : Option FieldType} {tbl : List (Nat × Nat × Nat × Nat)} {idx : Nat} {c0 c : gLH} {ad cp fz : Nat → Nat → Nat} {md : Nat → Nat → Int32} {S : Nat → List Value} {U : Nat → Nat → Int64} {A : Nat → Nat → Int32} {B : Nat → Nat → Int64}
theorem cV_mA {kk : Nat} (jj : Nat) (v : Int32) (i : Nat) (h : kk ≠ 18 ∧ kk ≠ 28 ∧ kk ≠ 31 ∧ kk ≠ 25 ∧ kk ≠ 45 ∧ kk ≠ 61) : cV (mA A kk jj v) i = cV A i := by
  obtain ⟨h1, h2, h3, h4, h5, h6⟩ := h
  unfold cV
  split <;> rw [mA_n _ _ _ (Ne.symm ‹_›)]
/-- fields that no count or room reads -/
def cFree (k : Nat) : Prop := (k ≠ 18 ∧ k ≠ 28 ∧ k ≠ 31 ∧ k ≠ 25 ∧ k ≠ 45 ∧ k ≠ 61) ∧ k ≠ 46 ∧ k ≠ 42
theorem CI_mA {kk : Nat} (jj : Nat) (v : Int32) (h : cFree kk) (hc : CI cp A) : CI cp (mA A kk jj v) := by
  obtain ⟨h1, h46, h42⟩ := h
  unfold CI
  rw [mA_n A (k := kk) (i := 42) jj v (Ne.symm h42), mA_n A (k := kk) (i := 46) jj v (Ne.symm h46)]
  simp only [cn_mA jj v _ h1, cV_mA jj v _ h1]
  exact hc
theorem CW.set (h : CW c0 ad cp fz md S U A B c) {k i : Nat} {e e' : va_E} {A' : Nat → Nat → Int32} {B' : Nat → Nat → Int64} (hk : cells ad cp fz md S U A B k i = some e) (heq : cells ad cp fz md S U A' B' = up2 (cells ad cp fz md S U A B) k i (some e')) (hci : CI cp A') : CW c0 ad cp fz md S U A' B' (va_up c (ad k i) (some (cR k i, e'))) := ⟨by rw [heq]; exact h.1.set hk, hci⟩
/-- a field of the model's alone -/
theorem CW.free (h : CW c0 ad cp fz md S U A B c) {kk : Nat} (jj : Nat) (v : Int32) (hu : ∀ k, cUse k kk = false) (hf : cFree kk) : CW c0 ad cp fz md S U (mA A kk jj v) B c := ⟨by
  have e : cells ad cp fz md S U (mA A kk jj v) B = cells ad cp fz md S U A B := by
    funext k i
    exact cells_mA _ _ _ (hu k)
  rw [e]
  exact h.1, CI_mA _ _ hf h.2⟩
theorem x_put2 (h : gOK φ l g R cc nL own mn ret tbl) (hX : CW c0 ad cp fz md S U A B c) {v : Int32} {ty : FieldType} (hF : gFP own idx 1 1 ty) (hn : narrow ty (.int v) = .int v) (hft : fits ty (.int v) = true) (hd : decode cc pc = .ok (.putfield idx, 3)) (kk : ∀ c : gLH, CW c0 ad cp fz md S U (mA A 2 0 v) B c → G φ Q (pc + 3) lv st c ce sl) : G φ Q pc lv (.int v :: .ref (ad 0 0) :: st) c ce sl := g_put h hF hX.x (hX.1.sb (k := 0) (i := 0) rfl) (Nat.le_of_ble_eq_true rfl) hn hft hd (kk _ (hX.set (k := 0) (i := 0) rfl (cx_2_eq v) (CI_mA _ _ (by unfold cFree; decide) hX.2)))
theorem x_put6 (h : gOK φ l g R cc nL own mn ret tbl) (hX : CW c0 ad cp fz md S U A B c) {v : Int32} {ty : FieldType} (hF : gFP own idx 1 2 ty) (hn : narrow ty (.int v) = .int v) (hft : fits ty (.int v) = true) (hd : decode cc pc = .ok (.putfield idx, 3)) (kk : ∀ c : gLH, CW c0 ad cp fz md S U (mA A 6 0 v) B c → G φ Q (pc + 3) lv st c ce sl) : G φ Q pc lv (.int v :: .ref (ad 0 0) :: st) c ce sl := g_put h hF hX.x (hX.1.sb (k := 0) (i := 0) rfl) (Nat.le_of_ble_eq_true rfl) hn hft hd (kk _ (hX.set (k := 0) (i := 0) rfl (cx_6_eq v) (CI_mA _ _ (by unfold cFree; decide) hX.2)))
theorem x_put32 (h : gOK φ l g R cc nL own mn ret tbl) (hX : CW c0 ad cp fz md S U A B c) {v : Int32} {ty : FieldType} (hF : gFP own idx 1 3 ty) (hn : narrow ty (.int v) = .int v) (hft : fits ty (.int v) = true) (hd : decode cc pc = .ok (.putfield idx, 3)) (kk : ∀ c : gLH, CW c0 ad cp fz md S U (mA A 32 0 v) B c → G φ Q (pc + 3) lv st c ce sl) : G φ Q pc lv (.int v :: .ref (ad 0 0) :: st) c ce sl := g_put h hF hX.x (hX.1.sb (k := 0) (i := 0) rfl) (Nat.le_of_ble_eq_true rfl) hn hft hd (kk _ (hX.set (k := 0) (i := 0) rfl (cx_32_eq v) (CI_mA _ _ (by unfold cFree; decide) hX.2)))
theorem x_put37 (h : gOK φ l g R cc nL own mn ret tbl) (hX : CW c0 ad cp fz md S U A B c) {v : Int32} {ty : FieldType} (hF : gFP own idx 1 4 ty) (hn : narrow ty (.int v) = .int v) (hft : fits ty (.int v) = true) (hd : decode cc pc = .ok (.putfield idx, 3)) (kk : ∀ c : gLH, CW c0 ad cp fz md S U (mA A 37 0 v) B c → G φ Q (pc + 3) lv st c ce sl) : G φ Q pc lv (.int v :: .ref (ad 0 0) :: st) c ce sl := g_put h hF hX.x (hX.1.sb (k := 0) (i := 0) rfl) (Nat.le_of_ble_eq_true rfl) hn hft hd (kk _ (hX.set (k := 0) (i := 0) rfl (cx_37_eq v) (CI_mA _ _ (by unfold cFree; decide) hX.2)))
theorem x_put33 (h : gOK φ l g R cc nL own mn ret tbl) (hX : CW c0 ad cp fz md S U A B c) {v : Int32} {ty : FieldType} (hF : gFP own idx 1 5 ty) (hn : narrow ty (.int v) = .int v) (hft : fits ty (.int v) = true) (hd : decode cc pc = .ok (.putfield idx, 3)) (kk : ∀ c : gLH, CW c0 ad cp fz md S U (mA A 33 0 v) B c → G φ Q (pc + 3) lv st c ce sl) : G φ Q pc lv (.int v :: .ref (ad 0 0) :: st) c ce sl := g_put h hF hX.x (hX.1.sb (k := 0) (i := 0) rfl) (Nat.le_of_ble_eq_true rfl) hn hft hd (kk _ (hX.set (k := 0) (i := 0) rfl (cx_33_eq v) (CI_mA _ _ (by unfold cFree; decide) hX.2)))
theorem x_put43 (h : gOK φ l g R cc nL own mn ret tbl) (hX : CW c0 ad cp fz md S U A B c) {v : Int64} {ty : FieldType} (hF : gFP own idx 1 6 ty) (hn : narrow ty (.long v) = .long v) (hft : fits ty (.long v) = true) (hd : decode cc pc = .ok (.putfield idx, 3)) (kk : ∀ c : gLH, CW c0 ad cp fz md S U A (mB B 43 0 v) c → G φ Q (pc + 3) lv st c ce sl) : G φ Q pc lv (.long v :: .ref (ad 0 0) :: st) c ce sl := g_put h hF hX.x (hX.1.sb (k := 0) (i := 0) rfl) (Nat.le_of_ble_eq_true rfl) hn hft hd (kk _ (hX.set (k := 0) (i := 0) rfl (cx_43_eq v) hX.2))
theorem x_put27 (h : gOK φ l g R cc nL own mn ret tbl) (hX : CW c0 ad cp fz md S U A B c) {i : Nat} (hi : i < cn A 1) {v : Int64} {ty : FieldType} (hF : gFP own idx 22 1 ty) (hn : narrow ty (.long v) = .long v) (hft : fits ty (.long v) = true) (hd : decode cc pc = .ok (.putfield idx, 3)) (kk : ∀ c : gLH, CW c0 ad cp fz md S U A (mB B 27 i v) c → G φ Q (pc + 3) lv st c ce sl) : G φ Q pc lv (.long v :: .ref (ad 9 i) :: st) c ce sl := g_put h hF (hX.1.at (cells_9 hi)) (hX.1.sb (cells_9 hi)) (Nat.le_of_ble_eq_true rfl) hn hft hd (kk _ (hX.set (cells_9 hi) (cx_27_eq hi v) hX.2))
theorem x_put44 (h : gOK φ l g R cc nL own mn ret tbl) (hX : CW c0 ad cp fz md S U A B c) {i : Nat} (hi : i < cn A 4) {v : Int64} {ty : FieldType} (hF : gFP own idx 28 0 ty) (hn : narrow ty (.long v) = .long v) (hft : fits ty (.long v) = true) (hd : decode cc pc = .ok (.putfield idx, 3)) (kk : ∀ c : gLH, CW c0 ad cp fz md S U A (mB B 44 i v) c → G φ Q (pc + 3) lv st c ce sl) : G φ Q pc lv (.long v :: .ref (ad 15 i) :: st) c ce sl := g_put h hF (hX.1.at (cells_15 hi)) (hX.1.sb (cells_15 hi)) (Nat.le_of_ble_eq_true rfl) hn hft hd (kk _ (hX.set (cells_15 hi) (cx_44_eq hi v) hX.2))
theorem x_put58 (h : gOK φ l g R cc nL own mn ret tbl) (hX : CW c0 ad cp fz md S U A B c) {i : Nat} (hi : i < cn A 5) {v : Int64} {ty : FieldType} (hF : gFP own idx 30 3 ty) (hn : narrow ty (.long v) = .long v) (hft : fits ty (.long v) = true) (hd : decode cc pc = .ok (.putfield idx, 3)) (kk : ∀ c : gLH, CW c0 ad cp fz md S U A (mB B 58 i v) c → G φ Q (pc + 3) lv st c ce sl) : G φ Q pc lv (.long v :: .ref (ad 16 i) :: st) c ce sl := g_put h hF (hX.1.at (cells_16 hi)) (hX.1.sb (cells_16 hi)) (Nat.le_of_ble_eq_true rfl) hn hft hd (kk _ (hX.set (cells_16 hi) (cx_58_eq hi v) hX.2))
theorem x_put53 (h : gOK φ l g R cc nL own mn ret tbl) (hX : CW c0 ad cp fz md S U A B c) {i : Nat} (hi : i < cn A 2) {v : Int32} {ty : FieldType} (hF : gFP own idx 23 4 ty) (hn : narrow ty (.int v) = .int v) (hft : fits ty (.int v) = true) (hd : decode cc pc = .ok (.putfield idx, 3)) (kk : ∀ c : gLH, CW c0 ad cp fz md S U (mA A 53 i v) B c → G φ Q (pc + 3) lv st c ce sl) : G φ Q pc lv (.int v :: .ref (ad 10 i) :: st) c ce sl := g_put h hF (hX.1.at (cells_10 hi)) (hX.1.sb (cells_10 hi)) (Nat.le_of_ble_eq_true rfl) hn hft hd (kk _ (hX.set (cells_10 hi) (cx_53_eq hi v) (CI_mA _ _ (by unfold cFree; decide) hX.2)))
theorem x_put54 (h : gOK φ l g R cc nL own mn ret tbl) (hX : CW c0 ad cp fz md S U A B c) {i : Nat} (hi : i < cn A 2) {v : Int32} {ty : FieldType} (hF : gFP own idx 23 5 ty) (hn : narrow ty (.int v) = .int v) (hft : fits ty (.int v) = true) (hd : decode cc pc = .ok (.putfield idx, 3)) (kk : ∀ c : gLH, CW c0 ad cp fz md S U (mA A 54 i v) B c → G φ Q (pc + 3) lv st c ce sl) : G φ Q pc lv (.int v :: .ref (ad 10 i) :: st) c ce sl := g_put h hF (hX.1.at (cells_10 hi)) (hX.1.sb (cells_10 hi)) (Nat.le_of_ble_eq_true rfl) hn hft hd (kk _ (hX.set (cells_10 hi) (cx_54_eq hi v) (CI_mA _ _ (by unfold cFree; decide) hX.2)))
theorem x_put30 (h : gOK φ l g R cc nL own mn ret tbl) (hX : CW c0 ad cp fz md S U A B c) {i : Nat} (hi : i < cn A 2) {v : Int32} {ty : FieldType} (hF : gFP own idx 23 6 ty) (hn : narrow ty (.int v) = .int v) (hft : fits ty (.int v) = true) (hd : decode cc pc = .ok (.putfield idx, 3)) (kk : ∀ c : gLH, CW c0 ad cp fz md S U (mA A 30 i v) B c → G φ Q (pc + 3) lv st c ce sl) : G φ Q pc lv (.int v :: .ref (ad 10 i) :: st) c ce sl := g_put h hF (hX.1.at (cells_10 hi)) (hX.1.sb (cells_10 hi)) (Nat.le_of_ble_eq_true rfl) hn hft hd (kk _ (hX.set (cells_10 hi) (cx_30_eq hi v) (CI_mA _ _ (by unfold cFree; decide) hX.2)))
end CWR
theorem ct_xsize0 {l : Launch} {g : gGP} (hk : gK l g) {c0 c : gLH} {ad cp fz : Nat → Nat → Nat} {md : Nat → Nat → Int32} {S : Nat → List Value} {U : Nat → Nat → Int64} {A : Nat → Nat → Int32} {B : Nat → Nat → Int64} (hX : CW c0 ad cp fz md S U A B c) : Ct l g yJ2_size hwJ2_size 0 0 [.ref (ad 2 0)] c 0 0 (pIp (A 18 0) c) := by
  have h := ct_lsize hk (hX.list (i := 0) (by decide))
  rw [cL_len, ← (hX.2.1 0 (by decide)).2.2.2.2] at h
  exact h
theorem ct_xget0 {l : Launch} {g : gGP} (hk : gK l g) {c0 c : gLH} {ad cp fz : Nat → Nat → Nat} {md : Nat → Nat → Int32} {S : Nat → List Value} {U : Nat → Nat → Int64} {A : Nat → Nat → Int32} {B : Nat → Nat → Int64} (hX : CW c0 ad cp fz md S U A B c) {j : Nat} (hj : j < cn A 0) : Ct l g yJ2_get hwJ2_get 2 80 [.ref (ad 2 0), .int (nI j)] c 0 0 (pAp (fz 0 j) c) := ct_lget hk (hX.list (i := 0) (by decide)) (cL_at ad fz hj)
theorem xlist0 {c0 c : gLH} {ad cp fz : Nat → Nat → Nat} {md : Nat → Nat → Int32} {S : Nat → List Value} {U : Nat → Nat → Int64} {A : Nat → Nat → Int32} {B : Nat → Nat → Int64} (hX : CW c0 ad cp fz md S U A B c) : c (ad 2 0) = some (cR 2 0, .inr (31, [.int (md 2 0), .ref (ad 3 0), .int (nI (cL ad fz A 0).length)])) := hX.1.at (k := 2) (i := 0) rfl
theorem ct_xsize1 {l : Launch} {g : gGP} (hk : gK l g) {c0 c : gLH} {ad cp fz : Nat → Nat → Nat} {md : Nat → Nat → Int32} {S : Nat → List Value} {U : Nat → Nat → Int64} {A : Nat → Nat → Int32} {B : Nat → Nat → Int64} (hX : CW c0 ad cp fz md S U A B c) : Ct l g yJ2_size hwJ2_size 0 0 [.ref (ad 2 1)] c 0 0 (pIp (A 28 0) c) := by
  have h := ct_lsize hk (hX.list (i := 1) (by decide))
  rw [cL_len, ← (hX.2.1 1 (by decide)).2.2.2.2] at h
  exact h
theorem ct_xget1 {l : Launch} {g : gGP} (hk : gK l g) {c0 c : gLH} {ad cp fz : Nat → Nat → Nat} {md : Nat → Nat → Int32} {S : Nat → List Value} {U : Nat → Nat → Int64} {A : Nat → Nat → Int32} {B : Nat → Nat → Int64} (hX : CW c0 ad cp fz md S U A B c) {j : Nat} (hj : j < cn A 1) : Ct l g yJ2_get hwJ2_get 2 80 [.ref (ad 2 1), .int (nI j)] c 0 0 (pAp (ad 9 j) c) := ct_lget hk (hX.list (i := 1) (by decide)) (cL_at ad fz hj)
theorem xlist1 {c0 c : gLH} {ad cp fz : Nat → Nat → Nat} {md : Nat → Nat → Int32} {S : Nat → List Value} {U : Nat → Nat → Int64} {A : Nat → Nat → Int32} {B : Nat → Nat → Int64} (hX : CW c0 ad cp fz md S U A B c) : c (ad 2 1) = some (cR 2 1, .inr (31, [.int (md 2 1), .ref (ad 3 1), .int (nI (cL ad fz A 1).length)])) := hX.1.at (k := 2) (i := 1) rfl
theorem ct_xsize2 {l : Launch} {g : gGP} (hk : gK l g) {c0 c : gLH} {ad cp fz : Nat → Nat → Nat} {md : Nat → Nat → Int32} {S : Nat → List Value} {U : Nat → Nat → Int64} {A : Nat → Nat → Int32} {B : Nat → Nat → Int64} (hX : CW c0 ad cp fz md S U A B c) : Ct l g yJ2_size hwJ2_size 0 0 [.ref (ad 2 2)] c 0 0 (pIp (A 31 0) c) := by
  have h := ct_lsize hk (hX.list (i := 2) (by decide))
  rw [cL_len, ← (hX.2.1 2 (by decide)).2.2.2.2] at h
  exact h
theorem ct_xget2 {l : Launch} {g : gGP} (hk : gK l g) {c0 c : gLH} {ad cp fz : Nat → Nat → Nat} {md : Nat → Nat → Int32} {S : Nat → List Value} {U : Nat → Nat → Int64} {A : Nat → Nat → Int32} {B : Nat → Nat → Int64} (hX : CW c0 ad cp fz md S U A B c) {j : Nat} (hj : j < cn A 2) : Ct l g yJ2_get hwJ2_get 2 80 [.ref (ad 2 2), .int (nI j)] c 0 0 (pAp (ad 10 j) c) := ct_lget hk (hX.list (i := 2) (by decide)) (cL_at ad fz hj)
theorem xlist2 {c0 c : gLH} {ad cp fz : Nat → Nat → Nat} {md : Nat → Nat → Int32} {S : Nat → List Value} {U : Nat → Nat → Int64} {A : Nat → Nat → Int32} {B : Nat → Nat → Int64} (hX : CW c0 ad cp fz md S U A B c) : c (ad 2 2) = some (cR 2 2, .inr (31, [.int (md 2 2), .ref (ad 3 2), .int (nI (cL ad fz A 2).length)])) := hX.1.at (k := 2) (i := 2) rfl
theorem ct_xsize3 {l : Launch} {g : gGP} (hk : gK l g) {c0 c : gLH} {ad cp fz : Nat → Nat → Nat} {md : Nat → Nat → Int32} {S : Nat → List Value} {U : Nat → Nat → Int64} {A : Nat → Nat → Int32} {B : Nat → Nat → Int64} (hX : CW c0 ad cp fz md S U A B c) : Ct l g yJ2_size hwJ2_size 0 0 [.ref (ad 2 3)] c 0 0 (pIp (A 25 0) c) := by
  have h := ct_lsize hk (hX.list (i := 3) (by decide))
  rw [cL_len, ← (hX.2.1 3 (by decide)).2.2.2.2] at h
  exact h
theorem ct_xget3 {l : Launch} {g : gGP} (hk : gK l g) {c0 c : gLH} {ad cp fz : Nat → Nat → Nat} {md : Nat → Nat → Int32} {S : Nat → List Value} {U : Nat → Nat → Int64} {A : Nat → Nat → Int32} {B : Nat → Nat → Int64} (hX : CW c0 ad cp fz md S U A B c) {j : Nat} (hj : j < cn A 3) : Ct l g yJ2_get hwJ2_get 2 80 [.ref (ad 2 3), .int (nI j)] c 0 0 (pAp (fz 1 j) c) := ct_lget hk (hX.list (i := 3) (by decide)) (cL_at ad fz hj)
theorem xlist3 {c0 c : gLH} {ad cp fz : Nat → Nat → Nat} {md : Nat → Nat → Int32} {S : Nat → List Value} {U : Nat → Nat → Int64} {A : Nat → Nat → Int32} {B : Nat → Nat → Int64} (hX : CW c0 ad cp fz md S U A B c) : c (ad 2 3) = some (cR 2 3, .inr (31, [.int (md 2 3), .ref (ad 3 3), .int (nI (cL ad fz A 3).length)])) := hX.1.at (k := 2) (i := 3) rfl
theorem ct_xsize4 {l : Launch} {g : gGP} (hk : gK l g) {c0 c : gLH} {ad cp fz : Nat → Nat → Nat} {md : Nat → Nat → Int32} {S : Nat → List Value} {U : Nat → Nat → Int64} {A : Nat → Nat → Int32} {B : Nat → Nat → Int64} (hX : CW c0 ad cp fz md S U A B c) : Ct l g yJ2_size hwJ2_size 0 0 [.ref (ad 2 4)] c 0 0 (pIp (A 45 0) c) := by
  have h := ct_lsize hk (hX.list (i := 4) (by decide))
  rw [cL_len, ← (hX.2.1 4 (by decide)).2.2.2.2] at h
  exact h
theorem ct_xget4 {l : Launch} {g : gGP} (hk : gK l g) {c0 c : gLH} {ad cp fz : Nat → Nat → Nat} {md : Nat → Nat → Int32} {S : Nat → List Value} {U : Nat → Nat → Int64} {A : Nat → Nat → Int32} {B : Nat → Nat → Int64} (hX : CW c0 ad cp fz md S U A B c) {j : Nat} (hj : j < cn A 4) : Ct l g yJ2_get hwJ2_get 2 80 [.ref (ad 2 4), .int (nI j)] c 0 0 (pAp (ad 15 j) c) := ct_lget hk (hX.list (i := 4) (by decide)) (cL_at ad fz hj)
theorem xlist4 {c0 c : gLH} {ad cp fz : Nat → Nat → Nat} {md : Nat → Nat → Int32} {S : Nat → List Value} {U : Nat → Nat → Int64} {A : Nat → Nat → Int32} {B : Nat → Nat → Int64} (hX : CW c0 ad cp fz md S U A B c) : c (ad 2 4) = some (cR 2 4, .inr (31, [.int (md 2 4), .ref (ad 3 4), .int (nI (cL ad fz A 4).length)])) := hX.1.at (k := 2) (i := 4) rfl
theorem ct_xsize5 {l : Launch} {g : gGP} (hk : gK l g) {c0 c : gLH} {ad cp fz : Nat → Nat → Nat} {md : Nat → Nat → Int32} {S : Nat → List Value} {U : Nat → Nat → Int64} {A : Nat → Nat → Int32} {B : Nat → Nat → Int64} (hX : CW c0 ad cp fz md S U A B c) : Ct l g yJ2_size hwJ2_size 0 0 [.ref (ad 2 5)] c 0 0 (pIp (A 61 0) c) := by
  have h := ct_lsize hk (hX.list (i := 5) (by decide))
  rw [cL_len, ← (hX.2.1 5 (by decide)).2.2.2.2] at h
  exact h
theorem ct_xget5 {l : Launch} {g : gGP} (hk : gK l g) {c0 c : gLH} {ad cp fz : Nat → Nat → Nat} {md : Nat → Nat → Int32} {S : Nat → List Value} {U : Nat → Nat → Int64} {A : Nat → Nat → Int32} {B : Nat → Nat → Int64} (hX : CW c0 ad cp fz md S U A B c) {j : Nat} (hj : j < cn A 5) : Ct l g yJ2_get hwJ2_get 2 80 [.ref (ad 2 5), .int (nI j)] c 0 0 (pAp (ad 16 j) c) := ct_lget hk (hX.list (i := 5) (by decide)) (cL_at ad fz hj)
theorem xlist5 {c0 c : gLH} {ad cp fz : Nat → Nat → Nat} {md : Nat → Nat → Int32} {S : Nat → List Value} {U : Nat → Nat → Int64} {A : Nat → Nat → Int32} {B : Nat → Nat → Int64} (hX : CW c0 ad cp fz md S U A B c) : c (ad 2 5) = some (cR 2 5, .inr (31, [.int (md 2 5), .ref (ad 3 5), .int (nI (cL ad fz A 5).length)])) := hX.1.at (k := 2) (i := 5) rfl
theorem CW.cnt {c0 c : gLH} {ad cp fz : Nat → Nat → Nat} {md : Nat → Nat → Int32} {S : Nat → List Value} {U : Nat → Nat → Int64} {A : Nat → Nat → Int32} {B : Nat → Nat → Int64} (hX : CW c0 ad cp fz md S U A B c) {i : Nat} (hi : i < 6) : cV A i = nI (cn A i) ∧ cn A i ≤ cM i ∧ cn A i < 2147483648 := by
  have h := hX.2.1 i hi
  refine ⟨h.2.2.2.2, h.2.2.2.1, ?_⟩
  have := h.1
  have := h.2.2.1
  omega
theorem sThere_no (k n : Int32) : sThere k n = !sNo k n := by
  unfold sThere sNo
  cases decide (k < 0) <;> cases decide (k < n) <;> rfl
theorem there_ix {x y : Int32} {n : Nat} (h : sThere x y = true) (hy : y = nI n) (hn : n < 2147483648) : ix x < n ∧ x = nI (ix x) := by
  unfold sThere at h
  simp only [Bool.and_eq_true, Bool.not_eq_true', decide_eq_false_iff_not, decide_eq_true_eq] at h
  exact ix_of h.1 h.2 hy hn
/-- thrown by number k, or done -/
abbrev pCx (k : Nat) (E : Nat → Nat) (c : gLH) (P : Outcome → gLH → Prop) : Outcome → gLH → Prop := fun o c' => if k = 0 then P o c' else pThr (E k) c o c'
theorem pCx_0 {k : Nat} {E : Nat → Nat} {c c' : gLH} {P : Outcome → gLH → Prop} {o : Outcome} (h : k = 0) (hp : P o c') : pCx k E c P o c' := by
  show if k = 0 then _ else _
  rw [if_pos h]; exact hp
theorem pCx_t {k : Nat} {E : Nat → Nat} {c c' : gLH} {P : Outcome → gLH → Prop} {o : Outcome} {n ci : Nat} (h : k = n) (hn : n ≠ 0) (he : E n = ci) (hp : pThr ci c o c') : pCx k E c P o c' := by
  show if k = 0 then _ else _
  rw [if_neg (by omega), h, he]; exact hp
/-- the kinds of faults: 1, 2, 3 as the law tells them -/
def eAS (k : Nat) : Nat := if k = 1 then 32 else 33
def eBS (k : Nat) : Nat := if k = 1 then 34 else 33
def eBAS (k : Nat) : Nat := if k = 1 then 34 else if k = 2 then 32 else 33
/-- nothing but the component's own cells has changed -/
def cFr (c c' : gLH) : Prop := ∀ (a r : Nat) (e : va_E), c a = some (r, e) → isCore r = false → c' a = some (r, e)
