/-! THE MODEL: reading; the state of it -/
set_option maxRecDepth 100000
/-- where it is, the fault, its place, what is open, the codes made -/
abbrev pSt : Type := Nat × Nat × Int32 × Nat × List (Int32 × Int32)
/-- a row with codes behind its first n -/
def pApp (C : Nat → Int32) (n : Nat) (cs : List Int32) : Nat → Int32 := fun i => if i < n then C i else (cs[i - n]?).getD (C i)
def rA (A : Nat → Nat → Int32) (n : Nat) (s : pSt) : Nat → Nat → Int32 := fun i =>
  if i = 4 then upd (A 4) 0 (nI s.1) else if i = 5 then upd (A 5) 0 (nI s.2.1) else if i = 6 then upd (A 6) 0 s.2.2.1 else if i = 7 then upd (A 7) 0 (nI s.2.2.2.1)
  else if i = 15 then pApp (A 15) n (s.2.2.2.2.map Prod.fst) else if i = 16 then pApp (A 16) n (s.2.2.2.2.map Prod.snd) else if i = 17 then upd (A 17) 0 (nI (n + s.2.2.2.2.length)) else A i
theorem upd_upd0 (f : Nat → Int32) (j : Nat) (x y : Int32) : upd (upd f j x) j y = upd f j y := by
  funext i; unfold upd; split <;> rfl
theorem rA_4 (A : Nat → Nat → Int32) (n p : Nat) (r : Nat × Int32 × Nat × List (Int32 × Int32)) (p' : Nat) : mA (rA A n (p, r)) 4 0 (nI p') = rA A n (p', r) := by
  funext i; unfold mA va_up rA
  by_cases h : i = 4
  · simp only [h, if_true, upd_upd0]
  · simp only [h, if_false]
theorem rA_5 (A : Nat → Nat → Int32) (n p f : Nat) (r : Int32 × Nat × List (Int32 × Int32)) (f' : Nat) : mA (rA A n (p, f, r)) 5 0 (nI f') = rA A n (p, f', r) := by
  funext i; unfold mA va_up rA
  by_cases h : i = 5
  · subst h; exact upd_upd0 _ _ _ _
  · simp only [h, if_false]
theorem rA_6 (A : Nat → Nat → Int32) (n p f : Nat) (q : Int32) (r : Nat × List (Int32 × Int32)) (q' : Int32) : mA (rA A n (p, f, q, r)) 6 0 q' = rA A n (p, f, q', r) := by
  funext i; unfold mA va_up rA
  by_cases h : i = 6
  · subst h; exact upd_upd0 _ _ _ _
  · simp only [h, if_false]
theorem rA_7 (A : Nat → Nat → Int32) (n p f : Nat) (q : Int32) (o : Nat) (r : List (Int32 × Int32)) (o' : Nat) : mA (rA A n (p, f, q, o, r)) 7 0 (nI o') = rA A n (p, f, q, o', r) := by
  funext i; unfold mA va_up rA
  by_cases h : i = 7
  · subst h; exact upd_upd0 _ _ _ _
  · simp only [h, if_false]
theorem nI_inj {a b : Nat} (ha : a < 2147483648) (hb : b < 2147483648) (h : nI a = nI b) : a = b := by rw [← ix_nI ha, h, ix_nI hb]
/-- the first fault alone is kept -/
def pWrong (s : pSt) (w : Nat) (at_ : Nat) : pSt := if s.2.1 = 0 then (s.1, w, nI at_, s.2.2.2) else s
theorem rA_wrong {A : Nat → Nat → Int32} {n : Nat} {s : pSt} (hf : s.2.1 < 4) (w p : Nat) : (if rA A n s 5 0 = 0 then mA (mA (rA A n s) 5 0 (nI w)) 6 0 (nI p) else rA A n s) = rA A n (pWrong s w p) := by
  obtain ⟨a, f, q, o, cs⟩ := s
  have hf : f < 4 := hf
  have e : rA A n (a, f, q, o, cs) 5 0 = nI f := rfl
  rw [e]
  unfold pWrong
  by_cases h : f = 0
  · subst h
    rw [if_pos (by decide), if_pos rfl, rA_5, rA_6]
  · rw [if_neg (show ¬ nI f = 0 from fun q => h (nI_inj (b := 0) (by omega) (by omega) q)), if_neg (show ¬ (a, f, q, o, cs).2.1 = 0 from h)]
/-- blanks are passed -/
def pSk (T : Nat → Int32) (sz : Nat) : Nat → Nat → Nat
  | 0, p => p
  | m + 1, p => if p < sz ∧ (T p = 32 ∨ T p = 10) then pSk T sz m (p + 1) else p
def pB (T : Nat → Int32) (sz p : Nat) : Nat := pSk T sz (sz - p) p
theorem pB_end (T : Nat → Int32) {sz p : Nat} (h : ¬ (p < sz ∧ (T p = 32 ∨ T p = 10))) : pB T sz p = p := by
  unfold pB
  cases sz - p with
  | zero => rfl
  | succ m => exact if_neg h
theorem pB_go (T : Nat → Int32) {sz p : Nat} (h : p < sz ∧ (T p = 32 ∨ T p = 10)) : pB T sz p = pB T sz (p + 1) := by
  unfold pB
  have e : sz - p = (sz - (p + 1)) + 1 := by omega
  rw [e]
  exact if_pos h
/-- the text that is read -/
abbrev pT (A : Nat → Nat → Int32) (k : Nat) : Int32 := sByte (A 1) (A 3 0) (nI k)
theorem ct_blanks {l : Launch} {g : gGP} (hk : gK l g) {c0 c : gLH} {mo : Nat} {ma : Nat → Nat} {cl ll : Nat} {A : Nat → Nat → Int32} {B : Nat → Nat → Int64} {n sz : Nat} {p : Nat} {r : Nat × Int32 × Nat × List (Int32 × Int32)} (hM : MW c0 mo ma cl ll (rA A n (p, r)) B c) (hsz : A 3 0 = nI sz) (hz : sz ≤ 2000) (hp1 : p < 100000) : Ct l g yX4_blanks hwX4_blanks 1 40 [.ref mo] c (0) (0) (pV (MW c0 mo ma cl ll (rA A n (pB (pT A) sz p, r)) B)) := by
  refine Ct.intro hk hcX4_blanks (by decide +kernel) (Nat.le_of_ble_eq_true rfl) (fun φ h => ?_)
  have loop : ∀ (k p : Nat) (c : gLH), sz - p = k → p < 100000 → MW c0 mo ma cl ll (rA A n (p, r)) B c → G φ (gQ φ (pV (MW c0 mo ma cl ll (rA A n (pB (pT A) sz p, r)) B)) 0 0) 0 [(0, .ref mo)] [] c 0 0 := by
    intro k
    induction k with
    | zero =>
      intro p c hkp hp0 hM
      refine g_aload_n (i := 0) h dX4_blanks_0 rfl rfl ?_
      refine m_get (v := .int (nI p)) h hM f_X4_155_4 rfl dX4_blanks_1 ?_
      refine g_aload_n (i := 0) h dX4_blanks_4 rfl rfl ?_
      refine m_get (v := .int (A 3 0)) h hM f_X4_152_4 rfl dX4_blanks_5 ?_
      refine G.int hsz ?_
      refine g_icmp_ge (tgt := 50) h dX4_blanks_8 (by decide) (fun b8 => ?_) (fun _bz => absurd _bz (not_not_intro (nI_leI (by omega) (by omega) |>.mpr (by omega))))
      exact g_vret h ⟨rfl, by rw [pB_end (pT A) (by omega)]; exact hM⟩ (Nat.le_refl _) (Nat.le_refl _) dX4_blanks_50
    | succ k ih =>
      intro p c hkp hp0 hM
      have hp : p < sz := by omega
      refine g_aload_n (i := 0) h dX4_blanks_0 rfl rfl ?_
      refine m_get (v := .int (nI p)) h hM f_X4_155_4 rfl dX4_blanks_1 ?_
      refine g_aload_n (i := 0) h dX4_blanks_4 rfl rfl ?_
      refine m_get (v := .int (A 3 0)) h hM f_X4_152_4 rfl dX4_blanks_5 ?_
      refine G.int hsz ?_
      refine g_icmp_ge (tgt := 50) h dX4_blanks_8 (by decide) (fun _bz => absurd _bz (fun q => absurd ((nI_leI (by omega) (by omega)).mp q) (by omega))) (fun b8 => ?_)
      refine g_aload_n (i := 0) h dX4_blanks_11 rfl rfl ?_
      refine g_aload_n (i := 0) h dX4_blanks_12 rfl rfl ?_
      refine m_get (v := .int (nI p)) h hM f_X4_155_4 rfl dX4_blanks_13 ?_
      refine g_invV h (ct_byteAt h.k hM (nI p) (nI_pos (by omega)) hsz hz) hcX4_byteAt w_X4_158 rfl rfl hM.obj (Nat.le_of_ble_eq_true rfl) ⟨Nat.le_of_ble_eq_true rfl, Nat.le_of_ble_eq_true rfl⟩ (by refine ⟨?_, ?_⟩ <;> first | exact Nat.le_refl _ | exact Nat.zero_le _ | (dsimp only; omega)) dX4_blanks_16 (gkr_ip ?_) gkt_ip
      refine g_bipush (v := 32) h dX4_blanks_19 (by decide) ?_
      refine g_icmp_eq (tgt := 37) h dX4_blanks_21 (by decide) (fun b21 => ?_) (fun b21 => ?_)
      · refine g_aload_n (i := 0) h dX4_blanks_37 rfl rfl ?_
        refine g_dup h dX4_blanks_38 rfl ?_
        refine m_get (v := .int (nI p)) h hM f_X4_155_4 rfl dX4_blanks_39 ?_
        refine g_iconst (v := nI 1) h dX4_blanks_42 (by decide) ?_
        first | (with_reducible refine g_iaddN h dX4_blanks_43 ?_) | refine g_iadd h dX4_blanks_43 ?_
        refine m_puti h hM mp_4 fp_X4_155_4 dX4_blanks_44 (fun c hM => ?_)
        rw [rA_4] at hM
        refine g_goto (tgt := 0) h dX4_blanks_47 (by decide) ?_
        rw [pB_go (pT A) ⟨hp, by first | exact Or.inl b21 | exact Or.inr b34⟩]
        exact G.to (ih (p + 1) c (by omega) (by omega) hM) ⟨rfl, trivial⟩
      · refine g_aload_n (i := 0) h dX4_blanks_24 rfl rfl ?_
        refine g_aload_n (i := 0) h dX4_blanks_25 rfl rfl ?_
        refine m_get (v := .int (nI p)) h hM f_X4_155_4 rfl dX4_blanks_26 ?_
        refine g_invV h (ct_byteAt h.k hM (nI p) (nI_pos (by omega)) hsz hz) hcX4_byteAt w_X4_158 rfl rfl hM.obj (Nat.le_of_ble_eq_true rfl) ⟨Nat.le_of_ble_eq_true rfl, Nat.le_of_ble_eq_true rfl⟩ (by refine ⟨?_, ?_⟩ <;> first | exact Nat.le_refl _ | exact Nat.zero_le _ | (dsimp only; omega)) dX4_blanks_29 (gkr_ip ?_) gkt_ip
        refine g_bipush (v := 10) h dX4_blanks_32 (by decide) ?_
        refine g_icmp_ne (tgt := 50) h dX4_blanks_34 (by decide) (fun b34 => ?_) (fun b34 => ?_)
        · exact g_vret h ⟨rfl, by rw [pB_end (pT A) (fun q => q.2.elim b21 b34)]; exact hM⟩ (Nat.le_refl _) (Nat.le_refl _) dX4_blanks_50
        · refine g_aload_n (i := 0) h dX4_blanks_37 rfl rfl ?_
          refine g_dup h dX4_blanks_38 rfl ?_
          refine m_get (v := .int (nI p)) h hM f_X4_155_4 rfl dX4_blanks_39 ?_
          refine g_iconst (v := nI 1) h dX4_blanks_42 (by decide) ?_
          first | (with_reducible refine g_iaddN h dX4_blanks_43 ?_) | refine g_iadd h dX4_blanks_43 ?_
          refine m_puti h hM mp_4 fp_X4_155_4 dX4_blanks_44 (fun c hM => ?_)
          rw [rA_4] at hM
          refine g_goto (tgt := 0) h dX4_blanks_47 (by decide) ?_
          rw [pB_go (pT A) ⟨hp, by first | exact Or.inl b21 | exact Or.inr b34⟩]
          exact G.to (ih (p + 1) c (by omega) (by omega) hM) ⟨rfl, trivial⟩
  exact G.to (loop _ p c rfl hp1 hM) ⟨rfl, trivial⟩
