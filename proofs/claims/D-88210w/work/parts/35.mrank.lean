/-! THE MODEL: a rank's loans are paid -/
set_option maxRecDepth 100000
/-- the rows of parts and rests are others -/
def b2 (B : Nat → Nat → Int64) (G S : Nat → Int64) : Nat → Nat → Int64 := fun i => if i = 59 then G else if i = 60 then S else B i
theorem b2_id (B : Nat → Nat → Int64) : b2 B (B 59) (B 60) = B := by
  funext i; unfold b2
  split
  · next h => rw [h]
  · split
    · next h => rw [h]
    · rfl
theorem b2_59 (B : Nat → Nat → Int64) (G S : Nat → Int64) (j : Nat) (x : Int64) : mB (b2 B G S) 59 j x = b2 B (vp_updL G j x) S := by
  funext i; unfold mB va_up b2
  split <;> simp_all
theorem b2_60 (B : Nat → Nat → Int64) (G S : Nat → Int64) (j : Nat) (x : Int64) : mB (b2 B G S) 60 j x = b2 B G (vp_updL S j x) := by
  funext i; unfold mB va_up b2
  split <;> simp_all
/-- the dues of a rank, of the first n loans -/
def sAll (R : Nat → Int32) (D : Nat → Int64) (r : Int32) : Nat → Int64
  | 0 => 0
  | n + 1 => sAll R D r n + (if R n = r then D n else 0)
/-- parts, rests and what is gone, of the first n loans -/
def sPart (R : Nat → Int32) (D : Nat → Int64) (r : Int32) (has all : Int64) (G S : Nat → Int64) : Nat → (Nat → Int64) × (Nat → Int64) × Int64
  | 0 => (G, S, 0)
  | n + 1 => if R n = r then (vp_updL (sPart R D r has all G S n).1 n (if has < all then D n * has / all else D n), vp_updL (sPart R D r has all G S n).2.1 n (if has < all then D n * has - D n * has / all * all else 0), (sPart R D r has all G S n).2.2 + (if has < all then D n * has / all else D n))
    else sPart R D r has all G S n
/-- the greatest rest, of the first n loans -/
def sRest (R : Nat → Int32) (S : Nat → Int64) (r : Int32) : Nat → Option Nat
  | 0 => none
  | n + 1 => match sRest R S r n with
    | none => if R n = r then (if S n ≤ 0 then none else some n) else none
    | some b => if R n = r then (if S n ≤ 0 then some b else if S n ≤ S b then some b else some n) else some b
theorem sRest_lt {R : Nat → Int32} {S : Nat → Int64} {r : Int32} : ∀ {n b : Nat}, sRest R S r n = some b → b < n := by
  intro n
  induction n with
  | zero => intro b h; cases h
  | succ n ih =>
    intro b h
    simp only [sRest] at h
    cases hf : sRest R S r n with
    | none =>
      rw [hf] at h
      simp only at h
      split at h
      · split at h
        · cases h
        · cases h; omega
      · cases h
    | some b2 =>
      rw [hf] at h
      simp only at h
      have := ih hf
      split at h
      · split at h
        · cases h; omega
        · split at h
          · cases h; omega
          · cases h; omega
      · cases h; omega
/-- one more each to the greatest rests -/
def sGive (R : Nat → Int32) (r : Int32) (N : Nat) : Nat → (Nat → Int64) × (Nat → Int64) → (Nat → Int64) × (Nat → Int64)
  | 0, s => s
  | m + 1, s => match sRest R s.2 r N with
    | none => s
    | some b => sGive R r N m (vp_updL s.1 b (s.1 b + 1), vp_updL s.2 b 0)
def sPay1 (s : mS) (l : Nat) : mS := (sLineA s.1 s.2.2.1 4 (nI l) (-(s.2.1 59 l)), mB (mB s.2.1 58 l (s.2.1 58 l - s.2.1 59 l)) 43 0 (s.2.1 43 0 + -(s.2.1 59 l)), s.2.2.1 + 1, sLn s.2.2.2 s.2.2.1)
def sPay (r : Int32) : Nat → Nat → mS → mS
  | 0, _, s => s
  | n + 1, l, s => sPay r n (l + 1) (if s.1 57 l = r then (if s.2.1 59 l = 0 then s else sPay1 s l) else s)
theorem sPay_up (r : Int32) : ∀ (n l : Nat) (s : mS), s.2.2.1 ≤ (sPay r n l s).2.2.1 ∧ s.2.2.2 ≤ (sPay r n l s).2.2.2 := by
  intro n
  induction n with
  | zero => intro l s; exact ⟨Nat.le_refl _, Nat.le_refl _⟩
  | succ n ih =>
    intro l s
    simp only [sPay]
    have h2 := ih (l + 1) (if s.1 57 l = r then (if s.2.1 59 l = 0 then s else sPay1 s l) else s)
    revert h2
    split
    · split
      · exact id
      · intro h2
        have h3 : (sPay1 s l).2.2.1 = s.2.2.1 + 1 := rfl
        have h4 : s.2.2.2 ≤ (sPay1 s l).2.2.2 := sLn_le _ _
        omega
    · exact id
theorem i64_dec {x : Int64} (h : ¬ x ≤ 0) : x.toInt.toNat = (x - 1).toInt.toNat + 1 := by
  have h1 : (0 : Int) < x.toInt := by
    rw [Int64.le_iff_toInt_le] at h
    have : (0 : Int64).toInt = 0 := by decide
    omega
  have h2 := Int64.toInt_lt x
  have e : (x - 1).toInt = x.toInt - 1 := by
    rw [Int64.toInt_sub]
    have : (1 : Int64).toInt = 1 := by decide
    rw [this]
    exact Int.bmod_eq_of_le (by omega) (by omega)
  omega
theorem i64_np {x : Int64} (h : x ≤ 0) : x.toInt.toNat = 0 := by
  rw [Int64.le_iff_toInt_le] at h
  have : (0 : Int64).toInt = 0 := by decide
  omega
theorem rank_pay {φ : gFx} {l : Launch} {g : gGP} {MC MS : Nat} (h : gOK φ l g { frames := 2, cells := MC, slots := MS, locals := 80 } cX4_rank 12 RX4 "rank" none []) {Post : Outcome → gLH → Prop} {c0 : gLH} {mo cl N : Nat} {r : Int32} {ll0 : Nat} {AA : Nat → Nat → Int32} {BB : Nat → Nat → Int64} {NN LL : Nat} (hN10 : N ≤ 10) (hNN : NN < 400000) (hMC : LL - ll0 ≤ MC) (hMS : 8 * (LL - ll0) ≤ MS) (hP : ∀ ma' c', MW c0 mo ma' cl LL AA BB c' → Post (.returned none) c') :
    ∀ (n k : Nat) (A : Nat → Nat → Int32) (B : Nat → Nat → Int64) (nl ll : Nat) (ma : Nat → Nat) (c : gLH), k + n = N → sPay r n k (A, B, nl, ll) = (AA, BB, NN, LL) → MW c0 mo ma cl ll A B c → A 61 0 = nI N → A 42 0 = nI nl → nl ≤ ll → 4 ≤ ll → ll0 ≤ ll →
      G φ (gQ φ Post MC MS) 306 [(0, .ref mo), (1, .int r), (8, .int (nI k))] [] c (ll - ll0) (8 * (ll - ll0)) := by
  intro n
  induction n with
  | zero =>
    intro k A B nl ll ma c hk hS hM hN hnl hle hl0 hlo
    simp only [sPay, Prod.mk.injEq] at hS
    obtain ⟨rfl, rfl, rfl, rfl⟩ := hS
    obtain rfl : k = N := by omega
    refine g_iload h dX4_rank_306 rfl ?_
    refine g_aload_n (i := 0) h dX4_rank_308 rfl rfl ?_
    refine m_get (v := .int (A 61 0)) h hM f_X4_388_4 rfl dX4_rank_309 ?_
    refine G.int hN ?_
    refine g_icmp_ge (tgt := 379) h dX4_rank_312 (by decide) (fun b312 => ?_) (fun _bz => absurd _bz (fun q => absurd (nI_le (Nat.le_refl k) (by omega)) q))
    exact g_vret h (hP _ _ hM) (by omega) (by omega) dX4_rank_379
  | succ n ih =>
    intro k A B nl ll ma c hk hS hM hN hnl hle hl0 hlo
    have hup := sPay_up r (n + 1) k (A, B, nl, ll)
    rw [hS] at hup
    have hup : nl ≤ NN ∧ ll ≤ LL := hup
    simp only [sPay] at hS
    by_cases h1 : A 57 k = r
    case neg =>
      refine g_iload h dX4_rank_306 rfl ?_
      refine g_aload_n (i := 0) h dX4_rank_308 rfl rfl ?_
      refine m_get (v := .int (A 61 0)) h hM f_X4_388_4 rfl dX4_rank_309 ?_
      refine G.int hN ?_
      refine g_icmp_ge (tgt := 379) h dX4_rank_312 (by decide) (fun _bz => absurd _bz (nI_ge (by omega) (by omega))) (fun b312 => ?_)
      refine g_aload_n (i := 0) h dX4_rank_315 rfl rfl ?_
      refine m_get h hM f_X4_134_4 rfl dX4_rank_316 ?_
      refine g_iload h dX4_rank_319 rfl ?_
      refine m_iald (k := 57) (x := A 57 _) h hM rfl rfl (by show _ < 10; omega) rfl dX4_rank_321 ?_
      refine g_iload_n (i := 1) h dX4_rank_322 rfl rfl ?_
      refine g_icmp_ne (tgt := 373) h dX4_rank_323 (by decide) (fun b323 => ?_) (fun _bz => absurd _bz h1)
      first | (with_reducible refine g_iincN h dX4_rank_373 rfl (by decide) ?_) | refine g_iinc1 h dX4_rank_373 rfl (by decide) ?_
      refine g_goto (tgt := 306) h dX4_rank_376 (by decide) ?_
      rw [if_neg h1] at hS
      exact G.to (ih (k + 1) _ _ _ _ ma c (by omega) hS hM hN hnl hle hl0 hlo) ⟨rfl, rfl, rfl, trivial⟩
    by_cases h2 : B 59 k = 0
    · skip
      refine g_iload h dX4_rank_306 rfl ?_
      refine g_aload_n (i := 0) h dX4_rank_308 rfl rfl ?_
      refine m_get (v := .int (A 61 0)) h hM f_X4_388_4 rfl dX4_rank_309 ?_
      refine G.int hN ?_
      refine g_icmp_ge (tgt := 379) h dX4_rank_312 (by decide) (fun _bz => absurd _bz (nI_ge (by omega) (by omega))) (fun b312 => ?_)
      refine g_aload_n (i := 0) h dX4_rank_315 rfl rfl ?_
      refine m_get h hM f_X4_134_4 rfl dX4_rank_316 ?_
      refine g_iload h dX4_rank_319 rfl ?_
      refine m_iald (k := 57) (x := A 57 _) h hM rfl rfl (by show _ < 10; omega) rfl dX4_rank_321 ?_
      refine g_iload_n (i := 1) h dX4_rank_322 rfl rfl ?_
      refine g_icmp_ne (tgt := 373) h dX4_rank_323 (by decide) (fun _bz => absurd _bz (not_not_intro h1)) (fun b323 => ?_)
      refine g_aload_n (i := 0) h dX4_rank_326 rfl rfl ?_
      refine m_get h hM f_X4_140_4 rfl dX4_rank_327 ?_
      refine g_iload h dX4_rank_330 rfl ?_
      refine m_lald (k := 59) (x := B 59 _) h hM rfl (by show _ < 10; omega) rfl dX4_rank_332 ?_
      refine g_lconst (v := 0) h dX4_rank_333 (by decide) ?_
      refine g_lcmp h dX4_rank_334 ?_
      refine g_if_ne (tgt := 341) h dX4_rank_335 (by decide) (fun _bz => absurd _bz (not_not_intro ((lg_cmp_eq _ _).mpr h2))) (fun b335 => ?_)
      rw [lg_cmp_eq] at b335
      refine g_goto (tgt := 373) h dX4_rank_338 (by decide) ?_
      first | (with_reducible refine g_iincN h dX4_rank_373 rfl (by decide) ?_) | refine g_iinc1 h dX4_rank_373 rfl (by decide) ?_
      refine g_goto (tgt := 306) h dX4_rank_376 (by decide) ?_
      rw [if_pos h1, if_pos h2] at hS
      exact G.to (ih (k + 1) _ _ _ _ ma c (by omega) hS hM hN hnl hle hl0 hlo) ⟨rfl, rfl, rfl, trivial⟩
    rw [if_pos h1, if_neg h2] at hS
    have hup2 := sPay_up r n (k + 1) (sPay1 (A, B, nl, ll) k)
    rw [hS] at hup2
    have hup2 : nl + 1 ≤ NN ∧ sLn ll nl ≤ LL := hup2
    have hsl := sLn_le ll nl
    have hnl1 : nl + 1 ≤ sLn ll nl := by unfold sLn; split <;> omega
    refine g_iload h dX4_rank_306 rfl ?_
    refine g_aload_n (i := 0) h dX4_rank_308 rfl rfl ?_
    refine m_get (v := .int (A 61 0)) h hM f_X4_388_4 rfl dX4_rank_309 ?_
    refine G.int hN ?_
    refine g_icmp_ge (tgt := 379) h dX4_rank_312 (by decide) (fun _bz => absurd _bz (nI_ge (by omega) (by omega))) (fun b312 => ?_)
    refine g_aload_n (i := 0) h dX4_rank_315 rfl rfl ?_
    refine m_get h hM f_X4_134_4 rfl dX4_rank_316 ?_
    refine g_iload h dX4_rank_319 rfl ?_
    refine m_iald (k := 57) (x := A 57 _) h hM rfl rfl (by show _ < 10; omega) rfl dX4_rank_321 ?_
    refine g_iload_n (i := 1) h dX4_rank_322 rfl rfl ?_
    refine g_icmp_ne (tgt := 373) h dX4_rank_323 (by decide) (fun _bz => absurd _bz (not_not_intro h1)) (fun b323 => ?_)
    refine g_aload_n (i := 0) h dX4_rank_326 rfl rfl ?_
    refine m_get h hM f_X4_140_4 rfl dX4_rank_327 ?_
    refine g_iload h dX4_rank_330 rfl ?_
    refine m_lald (k := 59) (x := B 59 _) h hM rfl (by show _ < 10; omega) rfl dX4_rank_332 ?_
    refine g_lconst (v := 0) h dX4_rank_333 (by decide) ?_
    refine g_lcmp h dX4_rank_334 ?_
    refine g_if_ne (tgt := 341) h dX4_rank_335 (by decide) (fun b335 => ?_) (fun _bz => absurd _bz (fun q => h2 ((lg_cmp_eq _ _).mp q)))
    rw [lg_cmp_eq] at b335
    refine g_aload_n (i := 0) h dX4_rank_341 rfl rfl ?_
    refine m_get h hM f_X4_137_4 rfl dX4_rank_342 ?_
    refine g_iload h dX4_rank_345 rfl ?_
    refine g_dup2 h dX4_rank_347 rfl rfl ?_
    refine m_lald (k := 58) (x := B 58 _) h hM rfl (by show _ < 10; omega) rfl dX4_rank_348 ?_
    refine g_aload_n (i := 0) h dX4_rank_349 rfl rfl ?_
    refine m_get h hM f_X4_140_4 rfl dX4_rank_350 ?_
    refine g_iload h dX4_rank_353 rfl ?_
    refine m_lald (k := 59) (x := B 59 k) h hM rfl (by show _ < 10; omega) rfl dX4_rank_355 ?_
    refine g_lsub h dX4_rank_356 ?_
    refine m_last (k := 58) h hM rfl (by show _ < 10; omega) dX4_rank_357 (fun c hM => ?_)
    refine g_aload_n (i := 0) h dX4_rank_358 rfl rfl ?_
    refine g_iconst (v := 4) h dX4_rank_359 (by decide) ?_
    refine g_iload h dX4_rank_360 rfl ?_
    refine g_aload_n (i := 0) h dX4_rank_362 rfl rfl ?_
    refine m_get h hM f_X4_140_4 rfl dX4_rank_363 ?_
    refine g_iload h dX4_rank_366 rfl ?_
    refine m_lald (k := 59) (x := B 59 k) h hM rfl (by show _ < 10; omega) rfl dX4_rank_368 ?_
    refine g_lneg h dX4_rank_369 ?_
    refine g_invV h (ct_line (nl := nl) h.k hM 4 _ _ hnl hle hl0 (by omega)) hcX4_line w_X4_366 rfl rfl hM.obj (Nat.le_of_ble_eq_true rfl) ⟨Nat.le_of_ble_eq_true rfl, Nat.le_of_ble_eq_true rfl⟩ (by dsimp only; constructor <;> omega) dX4_rank_370 (gkr_v (fun c hM => ?_)) gkt_v
    obtain ⟨ma, hM⟩ := hM
    first | (with_reducible refine g_iincN h dX4_rank_373 rfl (by decide) ?_) | refine g_iinc1 h dX4_rank_373 rfl (by decide) ?_
    refine g_goto (tgt := 306) h dX4_rank_376 (by decide) ?_
    refine G.up (ce' := sLn ll nl - ll0) (sl' := 8 * (sLn ll nl - ll0)) (by omega) (by omega) ?_
    exact G.to (ih (k + 1) _ _ (nl + 1) _ ma c (by omega) hS hM hN rfl (by omega) (by omega) (by omega)) ⟨rfl, rfl, rfl, trivial⟩
theorem rank_give {φ : gFx} {l : Launch} {g : gGP} {MC MS : Nat} (h : gOK φ l g { frames := 2, cells := MC, slots := MS, locals := 80 } cX4_rank 12 RX4 "rank" none []) {Post : Outcome → gLH → Prop} {c0 : gLH} {mo cl N : Nat} {r : Int32} {ma : Nat → Nat} {ll : Nat} {A : Nat → Nat → Int32} {B : Nat → Nat → Int64} (hN10 : N ≤ 10) (hN : A 61 0 = nI N) {GG SS : Nat → Int64} (kk : ∀ c, MW c0 mo ma cl ll A (b2 B GG SS) c → G φ (gQ φ Post MC MS) 303 [(0, .ref mo), (1, .int r)] [] c 0 0) :
    ∀ (m : Nat) (more : Int64) (Gt S : Nat → Int64) (c : gLH), more.toInt.toNat = m → sGive (A 57) r N m (Gt, S) = (GG, SS) → MW c0 mo ma cl ll A (b2 B Gt S) c → G φ (gQ φ Post MC MS) 189 [(0, .ref mo), (1, .int r), (8, .long more)] [] c 0 0 := by
  intro m
  induction m with
  | zero =>
    intro more Gt S c hm hS hM
    simp only [sGive, Prod.mk.injEq] at hS
    obtain ⟨rfl, rfl⟩ := hS
    have hz : more ≤ 0 := Decidable.byContradiction (fun q => by have := i64_dec q; omega)
    refine g_lload h dX4_rank_189 rfl ?_
    refine g_lconst (v := 0) h dX4_rank_191 (by decide) ?_
    refine g_lcmp h dX4_rank_192 ?_
    refine g_if_le (tgt := 303) h dX4_rank_193 (by decide) (fun b193 => ?_) (fun _bz => absurd _bz (not_not_intro ((lg_cmp_le _ _).mpr hz)))
    rw [lg_cmp_le] at b193
    exact G.to (kk c hM) ⟨rfl, rfl, trivial⟩
  | succ m ih =>
    intro more Gt S c hm hS hM
    have hz : ¬ more ≤ 0 := fun q => by have := i64_np q; omega
    have hd := i64_dec hz
    simp only [sGive] at hS
    have after : G φ (gQ φ Post MC MS) 267 [(0, .ref mo), (1, .int r), (8, .long more), (10, .int (oI (sRest (A 57) S r N)))] [] c 0 0 := by
      cases hb : sRest (A 57) S r N with
      | none =>
        simp only [hb, Prod.mk.injEq] at hS
        obtain ⟨rfl, rfl⟩ := hS
        refine g_iload h dX4_rank_267 rfl ?_
        refine g_if_ge (tgt := 275) h dX4_rank_269 (by decide) (fun _bz => absurd _bz (by decide)) (fun b269 => ?_)
        refine g_goto (tgt := 303) h dX4_rank_272 (by decide) ?_
        exact G.to (kk c hM) ⟨rfl, rfl, trivial⟩
      | some b =>
        simp only [hb] at hS
        have hb10 := sRest_lt hb
        refine G.to (lv' := [(0, .ref mo), (1, .int r), (8, .long more), (10, .int (nI b))]) ?_ ⟨rfl, rfl, rfl, rfl, trivial⟩
        refine g_iload h dX4_rank_267 rfl ?_
        refine g_if_ge (tgt := 275) h dX4_rank_269 (by decide) (fun b269 => ?_) (fun _bz => absurd _bz (not_not_intro <| Int32.not_lt.mp (nI_pos (n := b) (by omega))))
        refine g_aload_n (i := 0) h dX4_rank_275 rfl rfl ?_
        refine m_get h hM f_X4_140_4 rfl dX4_rank_276 ?_
        refine g_iload h dX4_rank_279 rfl ?_
        refine g_dup2 h dX4_rank_281 rfl rfl ?_
        refine m_lald (k := 59) (x := Gt b) h hM rfl (by show _ < 10; omega) rfl dX4_rank_282 ?_
        refine g_lconst (v := 1) h dX4_rank_283 (by decide) ?_
        refine g_ladd h dX4_rank_284 ?_
        refine m_last (k := 59) h hM rfl (by show _ < 10; omega) dX4_rank_285 (fun c hM => ?_)
        rw [b2_59] at hM
        refine g_aload_n (i := 0) h dX4_rank_286 rfl rfl ?_
        refine m_get h hM f_X4_143_4 rfl dX4_rank_287 ?_
        refine g_iload h dX4_rank_290 rfl ?_
        refine g_lconst (v := 0) h dX4_rank_292 (by decide) ?_
        refine m_last (k := 60) h hM rfl (by show _ < 10; omega) dX4_rank_293 (fun c hM => ?_)
        rw [b2_60] at hM
        refine g_lload h dX4_rank_294 rfl ?_
        refine g_lconst (v := 1) h dX4_rank_296 (by decide) ?_
        refine g_lsub h dX4_rank_297 ?_
        refine g_lstore h dX4_rank_298 (by decide) ?_
        refine g_goto (tgt := 189) h dX4_rank_300 (by decide) ?_
        exact G.to (ih (more - 1) _ _ c (by omega) hS hM) ⟨rfl, rfl, rfl, trivial⟩
    have inner : ∀ n, n ≤ N → G φ (gQ φ Post MC MS) 202 [(0, .ref mo), (1, .int r), (8, .long more), (10, .int (oI (sRest (A 57) S r n))), (11, .int (nI n))] [] c 0 0 := by
      refine gloop ?_ ?_
      · skip
        refine g_iload h dX4_rank_202 rfl ?_
        refine g_aload_n (i := 0) h dX4_rank_204 rfl rfl ?_
        refine m_get (v := .int (A 61 0)) h hM f_X4_388_4 rfl dX4_rank_205 ?_
        refine G.int hN ?_
        refine g_icmp_ge (tgt := 267) h dX4_rank_208 (by decide) (fun b208 => ?_) (fun _bz => absurd _bz (fun q => absurd (nI_le (Nat.le_refl N) (by omega)) q))
        exact G.to after ⟨rfl, rfl, rfl, rfl, trivial⟩
      · intro n hn ih2
        cases hf : sRest (A 57) S r n with
        | none =>
          refine g_iload h dX4_rank_202 rfl ?_
          refine g_aload_n (i := 0) h dX4_rank_204 rfl rfl ?_
          refine m_get (v := .int (A 61 0)) h hM f_X4_388_4 rfl dX4_rank_205 ?_
          refine G.int hN ?_
          refine g_icmp_ge (tgt := 267) h dX4_rank_208 (by decide) (fun _bz => absurd _bz (nI_ge hn (by omega))) (fun b208 => ?_)
          refine g_aload_n (i := 0) h dX4_rank_211 rfl rfl ?_
          refine m_get h hM f_X4_134_4 rfl dX4_rank_212 ?_
          refine g_iload h dX4_rank_215 rfl ?_
          refine m_iald (k := 57) (x := A 57 _) h hM rfl rfl (by show _ < 10; omega) rfl dX4_rank_217 ?_
          refine g_iload_n (i := 1) h dX4_rank_218 rfl rfl ?_
          refine g_icmp_ne (tgt := 261) h dX4_rank_219 (by decide) (fun b219 => ?_) (fun b219 => ?_)
          · first | (with_reducible refine g_iincN h dX4_rank_261 rfl (by decide) ?_) | refine g_iinc1 h dX4_rank_261 rfl (by decide) ?_
            refine g_goto (tgt := 202) h dX4_rank_264 (by decide) ?_
            simp only [sRest, hf, b208, b219, if_true, if_false] at ih2
            exact G.to ih2 ⟨rfl, rfl, rfl, rfl, rfl, trivial⟩
          · refine g_aload_n (i := 0) h dX4_rank_222 rfl rfl ?_
            refine m_get h hM f_X4_143_4 rfl dX4_rank_223 ?_
            refine g_iload h dX4_rank_226 rfl ?_
            refine m_lald (k := 60) (x := S n) h hM rfl (by show _ < 10; omega) rfl dX4_rank_228 ?_
            refine g_lconst (v := 0) h dX4_rank_229 (by decide) ?_
            refine g_lcmp h dX4_rank_230 ?_
            refine g_if_le (tgt := 261) h dX4_rank_231 (by decide) (fun b231 => ?_) (fun b231 => ?_)
            · rw [lg_cmp_le] at b231
              first | (with_reducible refine g_iincN h dX4_rank_261 rfl (by decide) ?_) | refine g_iinc1 h dX4_rank_261 rfl (by decide) ?_
              refine g_goto (tgt := 202) h dX4_rank_264 (by decide) ?_
              simp only [sRest, hf, b208, b219, b231, if_true, if_false] at ih2
              exact G.to ih2 ⟨rfl, rfl, rfl, rfl, rfl, trivial⟩
            · rw [lg_cmp_le] at b231
              refine g_iload h dX4_rank_234 rfl ?_
              refine g_if_lt (tgt := 257) h dX4_rank_236 (by decide) (fun b236 => ?_) (fun _bz => absurd _bz (by decide))
              refine g_iload h dX4_rank_257 rfl ?_
              refine g_istore h dX4_rank_259 (by decide) ?_
              first | (with_reducible refine g_iincN h dX4_rank_261 rfl (by decide) ?_) | refine g_iinc1 h dX4_rank_261 rfl (by decide) ?_
              refine g_goto (tgt := 202) h dX4_rank_264 (by decide) ?_
              simp only [sRest, hf, b208, b219, b231, b236, if_true, if_false] at ih2
              exact G.to ih2 ⟨rfl, rfl, rfl, rfl, rfl, trivial⟩
        | some b =>
          have hb2 := sRest_lt hf
          refine G.to (lv' := [(0, .ref mo), (1, .int r), (8, .long more), (10, .int (nI b)), (11, .int (nI n))]) ?_ ⟨rfl, rfl, rfl, rfl, rfl, trivial⟩
          refine g_iload h dX4_rank_202 rfl ?_
          refine g_aload_n (i := 0) h dX4_rank_204 rfl rfl ?_
          refine m_get (v := .int (A 61 0)) h hM f_X4_388_4 rfl dX4_rank_205 ?_
          refine G.int hN ?_
          refine g_icmp_ge (tgt := 267) h dX4_rank_208 (by decide) (fun _bz => absurd _bz (nI_ge hn (by omega))) (fun b208 => ?_)
          refine g_aload_n (i := 0) h dX4_rank_211 rfl rfl ?_
          refine m_get h hM f_X4_134_4 rfl dX4_rank_212 ?_
          refine g_iload h dX4_rank_215 rfl ?_
          refine m_iald (k := 57) (x := A 57 _) h hM rfl rfl (by show _ < 10; omega) rfl dX4_rank_217 ?_
          refine g_iload_n (i := 1) h dX4_rank_218 rfl rfl ?_
          refine g_icmp_ne (tgt := 261) h dX4_rank_219 (by decide) (fun b219 => ?_) (fun b219 => ?_)
          · first | (with_reducible refine g_iincN h dX4_rank_261 rfl (by decide) ?_) | refine g_iinc1 h dX4_rank_261 rfl (by decide) ?_
            refine g_goto (tgt := 202) h dX4_rank_264 (by decide) ?_
            simp only [sRest, hf, b208, b219, if_true, if_false] at ih2
            exact G.to ih2 ⟨rfl, rfl, rfl, rfl, rfl, trivial⟩
          · refine g_aload_n (i := 0) h dX4_rank_222 rfl rfl ?_
            refine m_get h hM f_X4_143_4 rfl dX4_rank_223 ?_
            refine g_iload h dX4_rank_226 rfl ?_
            refine m_lald (k := 60) (x := S n) h hM rfl (by show _ < 10; omega) rfl dX4_rank_228 ?_
            refine g_lconst (v := 0) h dX4_rank_229 (by decide) ?_
            refine g_lcmp h dX4_rank_230 ?_
            refine g_if_le (tgt := 261) h dX4_rank_231 (by decide) (fun b231 => ?_) (fun b231 => ?_)
            · rw [lg_cmp_le] at b231
              first | (with_reducible refine g_iincN h dX4_rank_261 rfl (by decide) ?_) | refine g_iinc1 h dX4_rank_261 rfl (by decide) ?_
              refine g_goto (tgt := 202) h dX4_rank_264 (by decide) ?_
              simp only [sRest, hf, b208, b219, b231, if_true, if_false] at ih2
              exact G.to ih2 ⟨rfl, rfl, rfl, rfl, rfl, trivial⟩
            · rw [lg_cmp_le] at b231
              refine g_iload h dX4_rank_234 rfl ?_
              refine g_if_lt (tgt := 257) h dX4_rank_236 (by decide) (fun _bz => absurd _bz (nI_pos (by omega))) (fun b236 => ?_)
              refine g_aload_n (i := 0) h dX4_rank_239 rfl rfl ?_
              refine m_get h hM f_X4_143_4 rfl dX4_rank_240 ?_
              refine g_iload h dX4_rank_243 rfl ?_
              refine m_lald (k := 60) (x := S n) h hM rfl (by show _ < 10; omega) rfl dX4_rank_245 ?_
              refine g_aload_n (i := 0) h dX4_rank_246 rfl rfl ?_
              refine m_get h hM f_X4_143_4 rfl dX4_rank_247 ?_
              refine g_iload h dX4_rank_250 rfl ?_
              refine m_lald (k := 60) (x := S b) h hM rfl (by show _ < 10; omega) rfl dX4_rank_252 ?_
              refine g_lcmp h dX4_rank_253 ?_
              refine g_if_le (tgt := 261) h dX4_rank_254 (by decide) (fun b254 => ?_) (fun b254 => ?_)
              · rw [lg_cmp_le] at b254
                first | (with_reducible refine g_iincN h dX4_rank_261 rfl (by decide) ?_) | refine g_iinc1 h dX4_rank_261 rfl (by decide) ?_
                refine g_goto (tgt := 202) h dX4_rank_264 (by decide) ?_
                simp only [sRest, hf, b208, b219, b231, b236, b254, if_true, if_false] at ih2
                exact G.to ih2 ⟨rfl, rfl, rfl, rfl, rfl, trivial⟩
              · rw [lg_cmp_le] at b254
                refine g_iload h dX4_rank_257 rfl ?_
                refine g_istore h dX4_rank_259 (by decide) ?_
                first | (with_reducible refine g_iincN h dX4_rank_261 rfl (by decide) ?_) | refine g_iinc1 h dX4_rank_261 rfl (by decide) ?_
                refine g_goto (tgt := 202) h dX4_rank_264 (by decide) ?_
                simp only [sRest, hf, b208, b219, b231, b236, b254, if_true, if_false] at ih2
                exact G.to ih2 ⟨rfl, rfl, rfl, rfl, rfl, trivial⟩
    refine g_lload h dX4_rank_189 rfl ?_
    refine g_lconst (v := 0) h dX4_rank_191 (by decide) ?_
    refine g_lcmp h dX4_rank_192 ?_
    refine g_if_le (tgt := 303) h dX4_rank_193 (by decide) (fun _bz => absurd _bz (fun q => hz ((lg_cmp_le _ _).mp q))) (fun b193 => ?_)
    rw [lg_cmp_le] at b193
    refine g_iconst (v := (-1)) h dX4_rank_196 (by decide) ?_
    refine g_istore h dX4_rank_197 (by decide) ?_
    refine g_iconst (v := 0) h dX4_rank_199 (by decide) ?_
    refine g_istore h dX4_rank_200 (by decide) ?_
    exact G.to (inner 0 (Nat.zero_le _)) ⟨rfl, rfl, rfl, rfl, rfl, trivial⟩
