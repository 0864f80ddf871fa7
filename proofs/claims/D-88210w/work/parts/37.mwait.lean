/-! THE MODEL: interest, wait -/
set_option maxRecDepth 100000
/-- books in order: N loans, u gates -/
def WOk (N u : Nat) (s : mS) : Prop := s.1 42 0 = nI s.2.2.1 ∧ s.2.2.1 ≤ s.2.2.2 ∧ 4 ≤ s.2.2.2 ∧ s.1 61 0 = nI N ∧ s.1 31 0 = nI u ∧ ∀ j, j < u → s.1 50 j < 0 ∨ (s.1 50 j = nI (ix (s.1 50 j)) ∧ ix (s.1 50 j) < 8)
theorem sLn_up (ll nl : Nat) (h1 : nl ≤ ll) (h2 : 4 ≤ ll) : nl + 1 ≤ sLn ll nl ∧ 4 ≤ sLn ll nl := by unfold sLn; split <;> omega
theorem WOk.pay1 {N u : Nat} {s : mS} (h : WOk N u s) (l : Nat) : WOk N u (sPay1 s l) :=
  ⟨rfl, (sLn_up _ _ h.2.1 h.2.2.1).1, (sLn_up _ _ h.2.1 h.2.2.1).2, h.2.2.2.1, h.2.2.2.2.1, h.2.2.2.2.2⟩
theorem WOk.pay {N u : Nat} (r : Int32) : ∀ (n l : Nat) {s : mS}, WOk N u s → WOk N u (sPay r n l s)
  | 0, _, _, h => h
  | n + 1, l, s, h => by
    simp only [sPay]
    apply WOk.pay r n (l + 1)
    split
    · split
      · exact h
      · exact h.pay1 l
    · exact h
theorem WOk.rank {N u : Nat} (r : Int32) (M : Nat) {s : mS} (h : WOk N u s) : WOk N u (sRank r M s) := by
  unfold sRank
  split
  · exact h
  · exact WOk.pay r M 0 (s := (s.1, _, s.2.2.1, s.2.2.2)) h
theorem sRank_up (r : Int32) (M : Nat) (s : mS) : s.2.2.1 ≤ (sRank r M s).2.2.1 ∧ s.2.2.2 ≤ (sRank r M s).2.2.2 := by
  unfold sRank
  split
  · exact ⟨Nat.le_refl _, Nat.le_refl _⟩
  · have h : ∀ X, s.2.2.1 ≤ (sPay r M 0 (s.1, X, s.2.2.1, s.2.2.2)).2.2.1 ∧ s.2.2.2 ≤ (sPay r M 0 (s.1, X, s.2.2.1, s.2.2.2)).2.2.2 := fun X => sPay_up r M 0 (s.1, X, s.2.2.1, s.2.2.2)
    exact h _
/-- the year's interest on the first n loans -/
def sDues (A : Nat → Nat → Int32) (B : Nat → Nat → Int64) : Nat → (Nat → Nat → Int64)
  | 0 => B
  | n + 1 => mB (sDues A B n) 58 n (sDues A B n 58 n + (A 55 n).toInt64 * (A 56 n).toInt64 / 1000)
def sRanks (N : Nat) : Nat → Nat → mS → mS
  | 0, _, s => s
  | n + 1, k, s => sRanks N n (k + 1) (sRank (nI k) N s)
theorem WOk.ranks {N u : Nat} (M : Nat) : ∀ (n k : Nat) {s : mS}, WOk N u s → WOk N u (sRanks M n k s)
  | 0, _, _, h => h
  | n + 1, k, _, h => WOk.ranks M n (k + 1) (h.rank (nI k) M)
theorem sRanks_up (M : Nat) : ∀ (n k : Nat) (s : mS), s.2.2.1 ≤ (sRanks M n k s).2.2.1 ∧ s.2.2.2 ≤ (sRanks M n k s).2.2.2
  | 0, _, _ => ⟨Nat.le_refl _, Nat.le_refl _⟩
  | n + 1, k, s => ⟨Nat.le_trans (sRank_up (nI k) M s).1 (sRanks_up M n (k + 1) _).1, Nat.le_trans (sRank_up (nI k) M s).2 (sRanks_up M n (k + 1) _).2⟩
def sInt (N : Nat) (s : mS) : mS := sRanks N 4 0 (s.1, sDues s.1 s.2.1 N, s.2.2.1, s.2.2.2)
theorem WOk.int {N u : Nat} (M : Nat) {s : mS} (h : WOk N u s) : WOk N u (sInt M s) := WOk.ranks M 4 0 (s := (s.1, sDues s.1 s.2.1 M, s.2.2.1, s.2.2.2)) h
theorem sInt_up (M : Nat) (s : mS) : s.2.2.1 ≤ (sInt M s).2.2.1 ∧ s.2.2.2 ≤ (sInt M s).2.2.2 := sRanks_up M 4 0 (s.1, sDues s.1 s.2.1 M, s.2.2.1, s.2.2.2)
theorem ct_interest {l : Launch} {g : gGP} (hk : gK l g) {c0 c : gLH} {mo : Nat} {ma : Nat → Nat} {cl ll0 : Nat} {A : Nat → Nat → Int32} {B : Nat → Nat → Int64} (hM : MW c0 mo ma cl ll0 A B c) {N u nl NN LL : Nat} {AA : Nat → Nat → Int32} {BB : Nat → Nat → Int64} (hN10 : N ≤ 10) (hW : WOk N u (A, B, nl, ll0)) (hS : sInt N (A, B, nl, ll0) = (AA, BB, NN, LL)) (hNN : NN < 400000) : Ct l g yX4_interest hwX4_interest 3 120 [.ref mo] c (LL - ll0) (8 * (LL - ll0)) (pV (fun c' => ∃ ma', MW c0 mo ma' cl LL AA BB c')) := by
  refine Ct.intro hk hcX4_interest (by decide +kernel) (Nat.le_of_ble_eq_true rfl) (fun φ h => ?_)
  have hN := hW.2.2.2.1
  have ranks : ∀ (n k : Nat) (A : Nat → Nat → Int32) (B : Nat → Nat → Int64) (nl ll : Nat) (ma : Nat → Nat) (c : gLH), k + n = 4 → sRanks N n k (A, B, nl, ll) = (AA, BB, NN, LL) → MW c0 mo ma cl ll A B c → WOk N u (A, B, nl, ll) → ll0 ≤ ll → G φ (gQ φ (pV (fun c' => ∃ ma', MW c0 mo ma' cl LL AA BB c')) (LL - ll0) (8 * (LL - ll0))) 46 [(0, .ref mo), (1, .int (nI k))] [] c (ll - ll0) (8 * (ll - ll0)) := by
    intro n
    induction n with
    | zero =>
      intro k A B nl ll ma c hk4 hS hM hW hlo
      simp only [sRanks, Prod.mk.injEq] at hS
      obtain ⟨rfl, rfl, rfl, rfl⟩ := hS
      obtain rfl : k = 4 := by omega
      refine g_iload_n (i := 1) h dX4_interest_46 rfl rfl ?_
      refine g_iconst (v := nI 4) h dX4_interest_47 (by decide) ?_
      refine g_icmp_ge (tgt := 62) h dX4_interest_48 (by decide) (fun b48 => ?_) (fun _bz => absurd _bz (by decide))
      exact g_vret h ⟨rfl, ma, hM⟩ (by omega) (by omega) dX4_interest_62
    | succ n ih =>
      intro k A B nl ll ma c hk4 hS hM hW hlo
      simp only [sRanks] at hS
      have u1 := sRank_up (nI k) N (A, B, nl, ll)
      have u2 := sRanks_up N n (k + 1) (sRank (nI k) N (A, B, nl, ll))
      rw [hS] at u2
      have u1 : nl ≤ (sRank (nI k) N (A, B, nl, ll)).2.2.1 ∧ ll ≤ (sRank (nI k) N (A, B, nl, ll)).2.2.2 := u1
      have u2 : (sRank (nI k) N (A, B, nl, ll)).2.2.1 ≤ NN ∧ (sRank (nI k) N (A, B, nl, ll)).2.2.2 ≤ LL := u2
      refine g_iload_n (i := 1) h dX4_interest_46 rfl rfl ?_
      refine g_iconst (v := nI 4) h dX4_interest_47 (by decide) ?_
      refine g_icmp_ge (tgt := 62) h dX4_interest_48 (by decide) (fun _bz => absurd _bz (nI_ge (by omega) (by omega))) (fun b48 => ?_)
      refine g_aload_n (i := 0) h dX4_interest_51 rfl rfl ?_
      refine g_iload_n (i := 1) h dX4_interest_52 rfl rfl ?_
      refine g_invV h (ct_rank (N := N) (nl := nl) (NN := (sRank (nI k) N (A, B, nl, ll)).2.2.1) (LL := (sRank (nI k) N (A, B, nl, ll)).2.2.2) (AA := (sRank (nI k) N (A, B, nl, ll)).1) (BB := (sRank (nI k) N (A, B, nl, ll)).2.1) h.k hM _ hW.2.2.2.1 hN10 hW.1 hW.2.1 hW.2.2.1 rfl (by omega)) hcX4_rank w_X4_393 rfl rfl hM.obj (Nat.le_of_ble_eq_true rfl) ⟨Nat.le_of_ble_eq_true rfl, Nat.le_of_ble_eq_true rfl⟩ (by dsimp only; constructor <;> omega) dX4_interest_53 (gkr_v (fun c hM => ?_)) gkt_v
      obtain ⟨ma, hM⟩ := hM
      first | (with_reducible refine g_iincN h dX4_interest_56 rfl (by decide) ?_) | refine g_iinc1 h dX4_interest_56 rfl (by decide) ?_
      refine g_goto (tgt := 46) h dX4_interest_59 (by decide) ?_
      refine G.up (ce' := (sRank (nI k) N (A, B, nl, ll)).2.2.2 - ll0) (sl' := 8 * ((sRank (nI k) N (A, B, nl, ll)).2.2.2 - ll0)) (by omega) (by omega) ?_
      exact G.to (ih (k + 1) _ _ _ _ ma c (by omega) hS hM (hW.rank (nI k) N) (by omega)) ⟨rfl, rfl, trivial⟩
  have loop : ∀ n, n ≤ N → ∀ c, MW c0 mo ma cl ll0 A (sDues A B n) c → G φ (gQ φ (pV (fun c' => ∃ ma', MW c0 mo ma' cl LL AA BB c')) (LL - ll0) (8 * (LL - ll0))) 2 [(0, .ref mo), (1, .int (nI n))] [] c 0 0 := by
    refine gloop ?_ ?_
    · intro c hM
      refine g_iload_n (i := 1) h dX4_interest_2 rfl rfl ?_
      refine g_aload_n (i := 0) h dX4_interest_3 rfl rfl ?_
      refine m_get (v := .int (A 61 0)) h hM f_X4_388_4 rfl dX4_interest_4 ?_
      refine G.int hN ?_
      refine g_icmp_ge (tgt := 44) h dX4_interest_7 (by decide) (fun b7 => ?_) (fun _bz => absurd _bz (fun q => absurd (nI_le (Nat.le_refl N) (by omega)) q))
      refine g_iconst (v := 0) h dX4_interest_44 (by decide) ?_
      refine g_istore_n (i := 1) h dX4_interest_45 rfl (by decide) ?_
      refine G.up (ce' := ll0 - ll0) (sl' := 8 * (ll0 - ll0)) (by omega) (by omega) ?_
      exact G.to (ranks 4 0 _ _ nl ll0 ma c rfl hS hM hW (Nat.le_refl _)) ⟨rfl, rfl, trivial⟩
    · intro n hn ih c hM
      refine g_iload_n (i := 1) h dX4_interest_2 rfl rfl ?_
      refine g_aload_n (i := 0) h dX4_interest_3 rfl rfl ?_
      refine m_get (v := .int (A 61 0)) h hM f_X4_388_4 rfl dX4_interest_4 ?_
      refine G.int hN ?_
      refine g_icmp_ge (tgt := 44) h dX4_interest_7 (by decide) (fun _bz => absurd _bz (nI_ge hn (by omega))) (fun b7 => ?_)
      refine g_aload_n (i := 0) h dX4_interest_10 rfl rfl ?_
      refine m_get h hM f_X4_137_4 rfl dX4_interest_11 ?_
      refine g_iload_n (i := 1) h dX4_interest_14 rfl rfl ?_
      refine g_dup2 h dX4_interest_15 rfl rfl ?_
      refine m_lald (k := 58) (x := sDues A B n 58 n) h hM rfl (by show _ < 10; omega) rfl dX4_interest_16 ?_
      refine g_aload_n (i := 0) h dX4_interest_17 rfl rfl ?_
      refine m_get h hM f_X4_128_4 rfl dX4_interest_18 ?_
      refine g_iload_n (i := 1) h dX4_interest_21 rfl rfl ?_
      refine m_iald (k := 55) (x := A 55 _) h hM rfl rfl (by show _ < 10; omega) rfl dX4_interest_22 ?_
      refine g_i2l h dX4_interest_23 ?_
      refine g_aload_n (i := 0) h dX4_interest_24 rfl rfl ?_
      refine m_get h hM f_X4_131_4 rfl dX4_interest_25 ?_
      refine g_iload_n (i := 1) h dX4_interest_28 rfl rfl ?_
      refine m_iald (k := 56) (x := A 56 _) h hM rfl rfl (by show _ < 10; omega) rfl dX4_interest_29 ?_
      refine g_i2l h dX4_interest_30 ?_
      refine g_lmul h dX4_interest_31 ?_
      refine g_ldc2 (v := 1000) h dX4_interest_32 q2191 ?_
      refine g_ldiv h dX4_interest_35 (by decide) ?_
      refine g_ladd h dX4_interest_36 ?_
      refine m_last (k := 58) h hM rfl (by show _ < 10; omega) dX4_interest_37 (fun c hM => ?_)
      first | (with_reducible refine g_iincN h dX4_interest_38 rfl (by decide) ?_) | refine g_iinc1 h dX4_interest_38 rfl (by decide) ?_
      refine g_goto (tgt := 2) h dX4_interest_41 (by decide) ?_
      exact G.to (ih c hM) ⟨rfl, rfl, trivial⟩
  refine g_iconst (v := 0) h dX4_interest_0 (by decide) ?_
  refine g_istore_n (i := 1) h dX4_interest_1 rfl (by decide) ?_
  exact G.to (loop 0 (Nat.zero_le _) c hM) ⟨rfl, rfl, trivial⟩
/-- a day's look at gate k -/
def sGate1 (k : Nat) (s : mS) : mS := if s.1 50 k < 0 then s else if s.1 53 k = s.1 32 0 then
  (sRentA s.1 s.2.1 k (ix (s.1 50 k)) s.2.2.1, sRentB s.1 s.2.1 k (ix (s.1 50 k)), (if sRentC s.1 s.2.1 k (ix (s.1 50 k)) = 0 then s.2.2.1 else s.2.2.1 + 1), sRentL s.1 s.2.1 k (ix (s.1 50 k)) s.2.2.1 s.2.2.2) else s
def sGates : Nat → Nat → mS → mS
  | 0, _, s => s
  | n + 1, k, s => sGates n (k + 1) (sGate1 k s)
theorem sGate1_up (k : Nat) (s : mS) : s.2.2.1 ≤ (sGate1 k s).2.2.1 ∧ s.2.2.2 ≤ (sGate1 k s).2.2.2 := by
  unfold sGate1
  split
  · exact ⟨Nat.le_refl _, Nat.le_refl _⟩
  · split
    · refine ⟨?_, ?_⟩
      · show s.2.2.1 ≤ ite _ _ _
        split <;> omega
      · show s.2.2.2 ≤ sRentL _ _ _ _ _ _
        unfold sRentL
        split
        · exact Nat.le_refl _
        · exact sLn_le _ _
    · exact ⟨Nat.le_refl _, Nat.le_refl _⟩
theorem sGates_up : ∀ (n k : Nat) (s : mS), s.2.2.1 ≤ (sGates n k s).2.2.1 ∧ s.2.2.2 ≤ (sGates n k s).2.2.2
  | 0, _, _ => ⟨Nat.le_refl _, Nat.le_refl _⟩
  | n + 1, k, s => ⟨Nat.le_trans (sGate1_up k s).1 (sGates_up n (k + 1) _).1, Nat.le_trans (sGate1_up k s).2 (sGates_up n (k + 1) _).2⟩
theorem lease_up {A : Nat → Nat → Int32} {u k : Nat} (h : ∀ j, j < u → A 50 j < 0 ∨ (A 50 j = nI (ix (A 50 j)) ∧ ix (A 50 j) < 8)) : ∀ j, j < u → upd (A 50) k (-1) j < 0 ∨ (upd (A 50) k (-1) j = nI (ix (upd (A 50) k (-1) j)) ∧ ix (upd (A 50) k (-1) j) < 8) := by
  intro j hj
  unfold upd
  by_cases q : j = k
  · rw [if_pos q]; left; decide
  · rw [if_neg q]; exact h j hj
theorem WOk.rent {N u : Nat} {A : Nat → Nat → Int32} {B : Nat → Nat → Int64} {nl ll : Nat} (h : WOk N u (A, B, nl, ll)) (k f : Nat) : WOk N u (sRentA A B k f nl, sRentB A B k f, (if sRentC A B k f = 0 then nl else nl + 1), sRentL A B k f nl ll) := by
  have hu := sLn_up ll nl h.2.1 h.2.2.1
  unfold sRentA sRentL
  by_cases c0 : sRentC A B k f = 0
  · simp only [c0, if_true]
    exact ⟨h.1, h.2.1, h.2.2.1, h.2.2.2.1, h.2.2.2.2.1, lease_up h.2.2.2.2.2⟩
  · simp only [c0, if_false]
    by_cases c1 : sRentC A B k f = 1
    · simp only [c1, if_true]
      exact ⟨rfl, hu.1, hu.2, h.2.2.2.1, h.2.2.2.2.1, lease_up h.2.2.2.2.2⟩
    · simp only [c1, if_false]
      exact ⟨rfl, hu.1, hu.2, h.2.2.2.1, h.2.2.2.2.1, h.2.2.2.2.2⟩
theorem WOk.gate1 {N u : Nat} {s : mS} (h : WOk N u s) (k : Nat) : WOk N u (sGate1 k s) := by
  unfold sGate1
  split
  · exact h
  · split
    · exact WOk.rent (A := s.1) (B := s.2.1) (nl := s.2.2.1) (ll := s.2.2.2) h k _
    · exact h
theorem WOk.gates {N u : Nat} : ∀ (n k : Nat) {s : mS}, WOk N u s → WOk N u (sGates n k s)
  | 0, _, _, h => h
  | n + 1, k, _, h => WOk.gates n (k + 1) (h.gate1 k)
/-- the day goes on, the rain less -/
def sMorn (A : Nat → Nat → Int32) : Nat → Nat → Int32 := mA (mA A 32 0 (A 32 0 + 1)) 33 0 (A 33 0 - (if A 33 0 ≤ 0 then 0 else 1))
def sYear (A : Nat → Nat → Int32) : Bool := decide (A 32 0 - A 32 0 / 365 * 365 = 0)
def sNoon (N : Nat) (s : mS) : mS := if sYear (sMorn s.1) = true then sInt N (sMorn s.1, s.2) else (sMorn s.1, s.2)
def sDayS (N u : Nat) (s : mS) : mS := sGates u 0 (sNoon N s)
def sDays (N u : Nat) : Nat → mS → mS
  | 0, s => s
  | n + 1, s => sDays N u n (sDayS N u s)
theorem WOk.noon {N u : Nat} {s : mS} (M : Nat) (h : WOk N u s) : WOk N u (sNoon M s) := by
  unfold sNoon
  split
  · exact WOk.int M (s := (sMorn s.1, s.2)) h
  · exact h
theorem sNoon_up (M : Nat) (s : mS) : s.2.2.1 ≤ (sNoon M s).2.2.1 ∧ s.2.2.2 ≤ (sNoon M s).2.2.2 := by
  unfold sNoon
  split
  · exact sInt_up M (sMorn s.1, s.2)
  · exact ⟨Nat.le_refl _, Nat.le_refl _⟩
theorem WOk.day {N u : Nat} {s : mS} (h : WOk N u s) : WOk N u (sDayS N u s) := WOk.gates u 0 (h.noon N)
theorem sDayS_up (N u : Nat) (s : mS) : s.2.2.1 ≤ (sDayS N u s).2.2.1 ∧ s.2.2.2 ≤ (sDayS N u s).2.2.2 := ⟨Nat.le_trans (sNoon_up N s).1 (sGates_up u 0 _).1, Nat.le_trans (sNoon_up N s).2 (sGates_up u 0 _).2⟩
theorem sDays_up (N u : Nat) : ∀ (n : Nat) (s : mS), s.2.2.1 ≤ (sDays N u n s).2.2.1 ∧ s.2.2.2 ≤ (sDays N u n s).2.2.2
  | 0, _ => ⟨Nat.le_refl _, Nat.le_refl _⟩
  | n + 1, s => ⟨Nat.le_trans (sDayS_up N u s).1 (sDays_up N u n _).1, Nat.le_trans (sDayS_up N u s).2 (sDays_up N u n _).2⟩
def sWaitK (A : Nat → Nat → Int32) (d : Int32) : Nat := if d < 0 then 1 else if 1000 < d then 1 else if A 32 0 + d ≤ 9999 then 0 else 1
