/-! THE READER: compares, kind -/
set_option maxRecDepth 100000
theorem rNw.only {c : gLH} {a : Nat} (h : rNw c a) : gOnly c a = none := by
  cases q : gOnly c a with
  | none => rfl
  | some y =>
    have z := gOnly_e (r := y.1) (e := y.2) q
    rcases h _ _ z.1 with k | k <;> rw [z.2] at k <;> exact absurd k (by decide)
theorem rFr.only {c c' : gLH} (h : rFr c c') : ∀ a, gOnly c' a = none → gOnly c a = none := fun a ha => by
  cases q : gOnly c a with
  | none => rfl
  | some y =>
    obtain ⟨z1, z2⟩ := gOnly_e (r := y.1) (e := y.2) q
    rw [z2] at z1
    rw [gOnly_i (h a _ _ z1 (by decide) (by decide))] at ha
    cases ha
/-- the object of a word V -/
def wO (e9 : Nat) (c : gLH) (w : Nat) (V : List Nat) : Prop := (∃ (v : Nat) (f : Nat → Int32), c w = some (gWr, .inr (36, [.ref v, .int 0, .int 0, .int 0])) ∧ c v = some (gT, gBytes V.length f) ∧ V.length ≤ 8 ∧ ∀ j, j < V.length → f j = nI (V.getD j 0) ∧ V.getD j 0 < 128) ∨ (w = e9 ∧ V = [])
theorem RD.word {T f : Nat → Int32} {E : Nat → Nat} {e9 rd tx sz q o : Nat} {c : gLH} (hX : rTx T f sz) (hq : q ≤ sz) (hR : RD T f E e9 rd tx sz q o c) (h1 : rKd T sz q = 1) : ∃ (w : Nat) (V : List Nat) (sg : Int32) (nu : Int64), c rd = rC tx sz (rNx T sz q) q o (.ref (E (rKd T sz q))) (.ref w) sg nu ∧ wO e9 c w V ∧ ∀ W, isWs W → pIsW T q W = decide (V = W) := by
  obtain ⟨hT, w, sg, nu, hc, -, -, hwd⟩ := hR
  have hsm := (rKd_1 hX.1 hq).mp h1
  have hnx : rNx T sz q = pLt T (sz - q) q := by
    unfold rNx
    split
    · next z => rw [hX.1.2 q z (by have := hX.1.1; omega)] at hsm; cases hsm
    · first | rw [if_pos hsm] | rfl
  have hle := pLt_le T (sz - q) q
  rcases hwd h1 with ⟨h8, v, f', k1, k2, k3⟩ | ⟨h8, rfl⟩
  · rw [hnx] at h8 k2 k3
    refine ⟨w, wL T q (pLt T (sz - q) q - q), sg, nu, hc, Or.inl ⟨v, f', k1, by rw [wL_len]; exact k2, by rw [wL_len]; omega, fun j hj => ?_⟩, fun W hW => pIsW_word hX.1 hq hW⟩
    rw [wL_len] at hj
    have p := small_pos (hle.2.2 (q + j) (by omega) (by omega))
    rw [wL_at T q hj]
    exact ⟨(k3 j hj).trans p.2.2.2.1.symm, p.2.2.1⟩
  · rw [hnx] at h8
    refine ⟨w, [], sg, nu, hc, Or.inr ⟨rfl, rfl⟩, fun W hW => ?_⟩
    rw [pIsW_long hX.1 hq hW h8]
    symm
    rw [decide_eq_false_iff_not]
    intro e
    have := hW.2.1
    rw [← e] at this
    exact absurd this (by simp)
theorem wO.obj {e9 : Nat} {c : gLH} {w : Nat} {V : List Nat} {g : gGP} {E : Nat → Nat} (hE : rEnv g E e9 c) (h : wO e9 c w V) : ∃ (r : Nat) (fs : List Value), c w = some (r, .inr (36, fs)) := by
  rcases h with ⟨v, f, h1, -⟩ | ⟨rfl, -⟩
  · exact ⟨_, _, h1⟩
  · obtain ⟨v, f, h4, -⟩ := hE.2.2.2.1
    exact ⟨_, _, h4⟩
/-- what a word's hash keeps -/
def hFr (c c' : gLH) : Prop := rFr c c' ∧ ∀ (a : Nat) (e : va_E), c a = some (gRd, e) → c' a = some (gRd, e)
theorem ct_whash {l : Launch} {g : gGP} (hk : gK l g) {E : Nat → Nat} {e9 w : Nat} {c : gLH} {V : List Nat} (hs : gSS g) (hE : rEnv g E e9 c) (h : wO e9 c w V) : Ct l g yJ9_hashCode hwJ9_hashCode 3 120 [.ref w] c 0 0 (pI (hS V V.length) (fun c' => gStr c' w V ∧ hFr c c')) := by
  rcases h with ⟨v, f, h1, h2, h3, h4⟩ | ⟨rfl, rfl⟩
  · refine (ct_hash hk h2 (by omega) h4 hs (by decide) h1).weaken (fun o c' hP => ?_)
    obtain ⟨hv, y, z, rfl⟩ := hP
    have hvw : v ≠ w := fun e => by rw [e, h1] at h2; cases h2
    refine ⟨hv, ⟨gWr, v, gT, y, z, f, va_up_s _ _ _, by rw [va_up_n _ _ hvw]; exact h2, by omega, h4, by decide, by decide⟩, fun a r e k1 k2 k3 => ?_, fun a e k1 => ?_⟩
    · rw [va_up_n _ _ (fun q => by rw [q, h1] at k1; cases k1; exact k3 rfl)]; exact k1
    · rw [va_up_n _ _ (fun q => by rw [q, h1] at k1; cases k1)]; exact k1
  · obtain ⟨v, f, h4, h5⟩ := hE.2.2.2.1
    refine ((ct_hash0 hk h4).level (fr' := 3) (lo' := 120) (by omega) (by omega)).weaken (fun o c' hP => ?_)
    obtain ⟨hv, rfl⟩ := hP
    exact ⟨hv, hE.e9, rFr.refl _, fun a e k1 => k1⟩
theorem hFr.rn {f : Nat → Int32} {rd tx sz nx o : Nat} {c c' : gLH} (h : hFr c c') (hN : RN f rd tx sz nx o c) : RN f rd tx sz nx o c' := by
  obtain ⟨h1, h0, q0, so, w, sg, nu, h2⟩ := hN
  exact ⟨h.1 _ _ _ h1 (by decide) (by decide), h0, q0, so, w, sg, nu, h.2 _ _ h2⟩
def kdx (V : List Nat) : Int32 := if V = w_coach then 0 else if V = w_cart then 1 else if V = w_wagon then 2 else if V = w_horse then 3 else if V = w_cattle then 4 else if V = w_sheep then 5 else if V = w_foot then 6 else -1
theorem ws_all : isWs w_all := by unfold isWs; decide
theorem ws_and : isWs w_and := by unfold isWs; decide
theorem ws_army : isWs w_army := by unfold isWs; decide
theorem ws_back : isWs w_back := by unfold isWs; decide
theorem ws_beasts : isWs w_beasts := by unfold isWs; decide
theorem ws_cart : isWs w_cart := by unfold isWs; decide
theorem ws_cattle : isWs w_cattle := by unfold isWs; decide
theorem ws_church : isWs w_church := by unfold isWs; decide
theorem ws_coach : isWs w_coach := by unfold isWs; decide
theorem ws_day : isWs w_day := by unfold isWs; decide
theorem ws_each : isWs w_each := by unfold isWs; decide
theorem ws_farm : isWs w_farm := by unfold isWs; decide
theorem ws_foot : isWs w_foot := by unfold isWs; decide
theorem ws_free : isWs w_free := by unfold isWs; decide
theorem ws_gate : isWs w_gate := by unfold isWs; decide
theorem ws_horse : isWs w_horse := by unfold isWs; decide
theorem ws_if : isWs w_if := by unfold isWs; decide
theorem ws_kind : isWs w_kind := by unfold isWs; decide
theorem ws_mail : isWs w_mail := by unfold isWs; decide
theorem ws_not : isWs w_not := by unfold isWs; decide
theorem ws_once : isWs w_once := by unfold isWs; decide
theorem ws_or : isWs w_or := by unfold isWs; decide
theorem ws_score : isWs w_score := by unfold isWs; decide
theorem ws_sheep : isWs w_sheep := by unfold isWs; decide
theorem ws_times : isWs w_times := by unfold isWs; decide
theorem ws_toll : isWs w_toll := by unfold isWs; decide
theorem ws_wagon : isWs w_wagon := by unfold isWs; decide
theorem ws_wheels : isWs w_wheels := by unfold isWs; decide
theorem ct_rkindOf {l : Launch} {g : gGP} (hk : gK l g) {E : Nat → Nat} {e9 w : Nat} {c : gLH} {V : List Nat} (hs : gSS g) (hE : rEnv g E e9 c) (hw : wO e9 c w V) : Ct l g yX5_kindOf hwX5_kindOf 4 160 [.ref w] c (0) (0) (pI (kdx V) (hFr c)) := by
  refine Ct.intro hk hcX5_kindOf (by decide +kernel) (Nat.le_of_ble_eq_true rfl) (fun φ h => ?_)
  obtain ⟨rw0, fw0, hwo⟩ := hw.obj hE
  have SW : ∀ c1 : gLH, gStr c1 w V → hFr c c1 → rEnv g E e9 c1 → ∀ (rw_ : Nat) (fw : List Value), c1 w = some (rw_, .inr (36, fw)) → G φ (gQ φ (pI (kdx V) (hFr c)) 0 0) 8 [(2, .int (-1)), (1, .ref w), (0, .ref w)] [.int (hS V V.length)] c1 0 0 := by
    intro c1 hgw hfr hE1 rw_ fw hwc
    have hk_coach : V = w_coach → (hS V V.length).toInt = (94831770) := by rintro rfl; decide +kernel
    have hk_cart : V = w_cart → (hS V V.length).toInt = (3046176) := by rintro rfl; decide +kernel
    have hk_wagon : V = w_wagon → (hS V V.length).toInt = (112891260) := by rintro rfl; decide +kernel
    have hk_horse : V = w_horse → (hS V V.length).toInt = (99466205) := by rintro rfl; decide +kernel
    have hk_cattle : V = w_cattle → (hS V V.length).toInt = (-1367529129) := by rintro rfl; decide +kernel
    have hk_sheep : V = w_sheep → (hS V V.length).toInt = (109403483) := by rintro rfl; decide +kernel
    have hk_foot : V = w_foot → (hS V V.length).toInt = (3148910) := by rintro rfl; decide +kernel
    by_cases e_cattle : (hS V V.length).toInt = (-1367529129)
    · refine g_lookup (off := 128) (tgt := 136) h dX5_kindOf_8 (by decide) (by rw [e_cattle]; decide) (by decide) ?_
      refine g_aload_n (i := 1) h dX5_kindOf_136 rfl rfl ?_
      obtain ⟨a_cattle, hv_cattle, hl_cattle⟩ := (hE1.2.2.2.2 25 _ rfl)
      refine g_ldcwS h hv_cattle dX5_kindOf_137 ?_
      refine g_invV h (ct_strEquals h.k hs hgw hl_cattle.str) hcJ9_equals w_X5_104 rfl rfl hwc (Nat.le_of_ble_eq_true rfl) ⟨Nat.le_of_ble_eq_true rfl, Nat.le_of_ble_eq_true rfl⟩ (by refine ⟨?_, ?_⟩ <;> ((try dsimp only); omega)) dX5_kindOf_140 (gkr_ip ?_) gkt_ip
      refine g_if_eq (tgt := 179) h dX5_kindOf_143 (by decide) (fun b9 => ?_) (fun b9 => ?_)
      · rw [zB_0, decide_eq_false_iff_not] at b9
        refine g_iload_n (i := 2) h dX5_kindOf_179 rfl rfl ?_
        refine g_tableOut (tgt := 239) h dX5_kindOf_180 (Or.inl (by decide)) (by decide) ?_
        refine g_iconst (v := (-1)) h dX5_kindOf_239 (by decide) ?_
        exact g_iret h ⟨by unfold kdx; rw [if_neg (fun z => absurd ((hk_coach z).symm.trans e_cattle) (by decide)), if_neg (fun z => absurd ((hk_cart z).symm.trans e_cattle) (by decide)), if_neg (fun z => absurd ((hk_wagon z).symm.trans e_cattle) (by decide)), if_neg (fun z => absurd ((hk_horse z).symm.trans e_cattle) (by decide)), if_neg b9, if_neg (fun z => absurd ((hk_sheep z).symm.trans e_cattle) (by decide)), if_neg (fun z => absurd ((hk_foot z).symm.trans e_cattle) (by decide))], hfr⟩ (Nat.le_refl _) (Nat.le_refl _) dX5_kindOf_240
      · rw [zB_n0, decide_eq_true_iff] at b9
        refine g_iconst (v := nI 4) h dX5_kindOf_146 (by decide) ?_
        refine g_istore_n (i := 2) h dX5_kindOf_147 rfl (by decide) ?_
        refine g_goto (tgt := 179) h dX5_kindOf_148 (by decide) ?_
        refine g_iload_n (i := 2) h dX5_kindOf_179 rfl rfl ?_
        refine g_tableIn (off := 52) (tgt := 232) h dX5_kindOf_180 (by decide) (by decide) (by decide) (by decide) ?_
        refine g_iconst (v := 4) h dX5_kindOf_232 (by decide) ?_
        exact g_iret h ⟨by subst b9; rfl, hfr⟩ (Nat.le_refl _) (Nat.le_refl _) dX5_kindOf_233
    by_cases e_cart : (hS V V.length).toInt = (3046176)
    · refine g_lookup (off := 83) (tgt := 91) h dX5_kindOf_8 (by decide) (by rw [e_cart]; decide) (by decide) ?_
      refine g_aload_n (i := 1) h dX5_kindOf_91 rfl rfl ?_
      obtain ⟨a_cart, hv_cart, hl_cart⟩ := (hE1.2.2.2.2 22 _ rfl)
      refine g_ldcwS h hv_cart dX5_kindOf_92 ?_
      refine g_invV h (ct_strEquals h.k hs hgw hl_cart.str) hcJ9_equals w_X5_104 rfl rfl hwc (Nat.le_of_ble_eq_true rfl) ⟨Nat.le_of_ble_eq_true rfl, Nat.le_of_ble_eq_true rfl⟩ (by refine ⟨?_, ?_⟩ <;> ((try dsimp only); omega)) dX5_kindOf_95 (gkr_ip ?_) gkt_ip
      refine g_if_eq (tgt := 179) h dX5_kindOf_98 (by decide) (fun b9 => ?_) (fun b9 => ?_)
      · rw [zB_0, decide_eq_false_iff_not] at b9
        refine g_iload_n (i := 2) h dX5_kindOf_179 rfl rfl ?_
        refine g_tableOut (tgt := 239) h dX5_kindOf_180 (Or.inl (by decide)) (by decide) ?_
        refine g_iconst (v := (-1)) h dX5_kindOf_239 (by decide) ?_
        exact g_iret h ⟨by unfold kdx; rw [if_neg (fun z => absurd ((hk_coach z).symm.trans e_cart) (by decide)), if_neg b9, if_neg (fun z => absurd ((hk_wagon z).symm.trans e_cart) (by decide)), if_neg (fun z => absurd ((hk_horse z).symm.trans e_cart) (by decide)), if_neg (fun z => absurd ((hk_cattle z).symm.trans e_cart) (by decide)), if_neg (fun z => absurd ((hk_sheep z).symm.trans e_cart) (by decide)), if_neg (fun z => absurd ((hk_foot z).symm.trans e_cart) (by decide))], hfr⟩ (Nat.le_refl _) (Nat.le_refl _) dX5_kindOf_240
      · rw [zB_n0, decide_eq_true_iff] at b9
        refine g_iconst (v := nI 1) h dX5_kindOf_101 (by decide) ?_
        refine g_istore_n (i := 2) h dX5_kindOf_102 rfl (by decide) ?_
        refine g_goto (tgt := 179) h dX5_kindOf_103 (by decide) ?_
        refine g_iload_n (i := 2) h dX5_kindOf_179 rfl rfl ?_
        refine g_tableIn (off := 46) (tgt := 226) h dX5_kindOf_180 (by decide) (by decide) (by decide) (by decide) ?_
        refine g_iconst (v := 1) h dX5_kindOf_226 (by decide) ?_
        exact g_iret h ⟨by subst b9; rfl, hfr⟩ (Nat.le_refl _) (Nat.le_refl _) dX5_kindOf_227
    by_cases e_foot : (hS V V.length).toInt = (3148910)
    · refine g_lookup (off := 158) (tgt := 166) h dX5_kindOf_8 (by decide) (by rw [e_foot]; decide) (by decide) ?_
      refine g_aload_n (i := 1) h dX5_kindOf_166 rfl rfl ?_
      obtain ⟨a_foot, hv_foot, hl_foot⟩ := (hE1.2.2.2.2 27 _ rfl)
      refine g_ldcwS h hv_foot dX5_kindOf_167 ?_
      refine g_invV h (ct_strEquals h.k hs hgw hl_foot.str) hcJ9_equals w_X5_104 rfl rfl hwc (Nat.le_of_ble_eq_true rfl) ⟨Nat.le_of_ble_eq_true rfl, Nat.le_of_ble_eq_true rfl⟩ (by refine ⟨?_, ?_⟩ <;> ((try dsimp only); omega)) dX5_kindOf_170 (gkr_ip ?_) gkt_ip
      refine g_if_eq (tgt := 179) h dX5_kindOf_173 (by decide) (fun b9 => ?_) (fun b9 => ?_)
      · rw [zB_0, decide_eq_false_iff_not] at b9
        refine g_iload_n (i := 2) h dX5_kindOf_179 rfl rfl ?_
        refine g_tableOut (tgt := 239) h dX5_kindOf_180 (Or.inl (by decide)) (by decide) ?_
        refine g_iconst (v := (-1)) h dX5_kindOf_239 (by decide) ?_
        exact g_iret h ⟨by unfold kdx; rw [if_neg (fun z => absurd ((hk_coach z).symm.trans e_foot) (by decide)), if_neg (fun z => absurd ((hk_cart z).symm.trans e_foot) (by decide)), if_neg (fun z => absurd ((hk_wagon z).symm.trans e_foot) (by decide)), if_neg (fun z => absurd ((hk_horse z).symm.trans e_foot) (by decide)), if_neg (fun z => absurd ((hk_cattle z).symm.trans e_foot) (by decide)), if_neg (fun z => absurd ((hk_sheep z).symm.trans e_foot) (by decide)), if_neg b9], hfr⟩ (Nat.le_refl _) (Nat.le_refl _) dX5_kindOf_240
      · rw [zB_n0, decide_eq_true_iff] at b9
        refine g_bipush (v := nI 6) h dX5_kindOf_176 (by decide) ?_
        refine g_istore_n (i := 2) h dX5_kindOf_178 rfl (by decide) ?_
        refine g_iload_n (i := 2) h dX5_kindOf_179 rfl rfl ?_
        refine g_tableIn (off := 56) (tgt := 236) h dX5_kindOf_180 (by decide) (by decide) (by decide) (by decide) ?_
        refine g_bipush (v := 6) h dX5_kindOf_236 (by decide) ?_
        exact g_iret h ⟨by subst b9; rfl, hfr⟩ (Nat.le_refl _) (Nat.le_refl _) dX5_kindOf_238
    by_cases e_coach : (hS V V.length).toInt = (94831770)
    · refine g_lookup (off := 68) (tgt := 76) h dX5_kindOf_8 (by decide) (by rw [e_coach]; decide) (by decide) ?_
      refine g_aload_n (i := 1) h dX5_kindOf_76 rfl rfl ?_
      obtain ⟨a_coach, hv_coach, hl_coach⟩ := (hE1.2.2.2.2 21 _ rfl)
      refine g_ldcwS h hv_coach dX5_kindOf_77 ?_
      refine g_invV h (ct_strEquals h.k hs hgw hl_coach.str) hcJ9_equals w_X5_104 rfl rfl hwc (Nat.le_of_ble_eq_true rfl) ⟨Nat.le_of_ble_eq_true rfl, Nat.le_of_ble_eq_true rfl⟩ (by refine ⟨?_, ?_⟩ <;> ((try dsimp only); omega)) dX5_kindOf_80 (gkr_ip ?_) gkt_ip
      refine g_if_eq (tgt := 179) h dX5_kindOf_83 (by decide) (fun b9 => ?_) (fun b9 => ?_)
      · rw [zB_0, decide_eq_false_iff_not] at b9
        refine g_iload_n (i := 2) h dX5_kindOf_179 rfl rfl ?_
        refine g_tableOut (tgt := 239) h dX5_kindOf_180 (Or.inl (by decide)) (by decide) ?_
        refine g_iconst (v := (-1)) h dX5_kindOf_239 (by decide) ?_
        exact g_iret h ⟨by unfold kdx; rw [if_neg b9, if_neg (fun z => absurd ((hk_cart z).symm.trans e_coach) (by decide)), if_neg (fun z => absurd ((hk_wagon z).symm.trans e_coach) (by decide)), if_neg (fun z => absurd ((hk_horse z).symm.trans e_coach) (by decide)), if_neg (fun z => absurd ((hk_cattle z).symm.trans e_coach) (by decide)), if_neg (fun z => absurd ((hk_sheep z).symm.trans e_coach) (by decide)), if_neg (fun z => absurd ((hk_foot z).symm.trans e_coach) (by decide))], hfr⟩ (Nat.le_refl _) (Nat.le_refl _) dX5_kindOf_240
      · rw [zB_n0, decide_eq_true_iff] at b9
        refine g_iconst (v := nI 0) h dX5_kindOf_86 (by decide) ?_
        refine g_istore_n (i := 2) h dX5_kindOf_87 rfl (by decide) ?_
        refine g_goto (tgt := 179) h dX5_kindOf_88 (by decide) ?_
        refine g_iload_n (i := 2) h dX5_kindOf_179 rfl rfl ?_
        refine g_tableIn (off := 44) (tgt := 224) h dX5_kindOf_180 (by decide) (by decide) (by decide) (by decide) ?_
        refine g_iconst (v := 0) h dX5_kindOf_224 (by decide) ?_
        exact g_iret h ⟨by subst b9; rfl, hfr⟩ (Nat.le_refl _) (Nat.le_refl _) dX5_kindOf_225
    by_cases e_horse : (hS V V.length).toInt = (99466205)
    · refine g_lookup (off := 113) (tgt := 121) h dX5_kindOf_8 (by decide) (by rw [e_horse]; decide) (by decide) ?_
      refine g_aload_n (i := 1) h dX5_kindOf_121 rfl rfl ?_
      obtain ⟨a_horse, hv_horse, hl_horse⟩ := (hE1.2.2.2.2 24 _ rfl)
      refine g_ldcwS h hv_horse dX5_kindOf_122 ?_
      refine g_invV h (ct_strEquals h.k hs hgw hl_horse.str) hcJ9_equals w_X5_104 rfl rfl hwc (Nat.le_of_ble_eq_true rfl) ⟨Nat.le_of_ble_eq_true rfl, Nat.le_of_ble_eq_true rfl⟩ (by refine ⟨?_, ?_⟩ <;> ((try dsimp only); omega)) dX5_kindOf_125 (gkr_ip ?_) gkt_ip
      refine g_if_eq (tgt := 179) h dX5_kindOf_128 (by decide) (fun b9 => ?_) (fun b9 => ?_)
      · rw [zB_0, decide_eq_false_iff_not] at b9
        refine g_iload_n (i := 2) h dX5_kindOf_179 rfl rfl ?_
        refine g_tableOut (tgt := 239) h dX5_kindOf_180 (Or.inl (by decide)) (by decide) ?_
        refine g_iconst (v := (-1)) h dX5_kindOf_239 (by decide) ?_
        exact g_iret h ⟨by unfold kdx; rw [if_neg (fun z => absurd ((hk_coach z).symm.trans e_horse) (by decide)), if_neg (fun z => absurd ((hk_cart z).symm.trans e_horse) (by decide)), if_neg (fun z => absurd ((hk_wagon z).symm.trans e_horse) (by decide)), if_neg b9, if_neg (fun z => absurd ((hk_cattle z).symm.trans e_horse) (by decide)), if_neg (fun z => absurd ((hk_sheep z).symm.trans e_horse) (by decide)), if_neg (fun z => absurd ((hk_foot z).symm.trans e_horse) (by decide))], hfr⟩ (Nat.le_refl _) (Nat.le_refl _) dX5_kindOf_240
      · rw [zB_n0, decide_eq_true_iff] at b9
        refine g_iconst (v := nI 3) h dX5_kindOf_131 (by decide) ?_
        refine g_istore_n (i := 2) h dX5_kindOf_132 rfl (by decide) ?_
        refine g_goto (tgt := 179) h dX5_kindOf_133 (by decide) ?_
        refine g_iload_n (i := 2) h dX5_kindOf_179 rfl rfl ?_
        refine g_tableIn (off := 50) (tgt := 230) h dX5_kindOf_180 (by decide) (by decide) (by decide) (by decide) ?_
        refine g_iconst (v := 3) h dX5_kindOf_230 (by decide) ?_
        exact g_iret h ⟨by subst b9; rfl, hfr⟩ (Nat.le_refl _) (Nat.le_refl _) dX5_kindOf_231
    by_cases e_sheep : (hS V V.length).toInt = (109403483)
    · refine g_lookup (off := 143) (tgt := 151) h dX5_kindOf_8 (by decide) (by rw [e_sheep]; decide) (by decide) ?_
      refine g_aload_n (i := 1) h dX5_kindOf_151 rfl rfl ?_
      obtain ⟨a_sheep, hv_sheep, hl_sheep⟩ := (hE1.2.2.2.2 26 _ rfl)
      refine g_ldcwS h hv_sheep dX5_kindOf_152 ?_
      refine g_invV h (ct_strEquals h.k hs hgw hl_sheep.str) hcJ9_equals w_X5_104 rfl rfl hwc (Nat.le_of_ble_eq_true rfl) ⟨Nat.le_of_ble_eq_true rfl, Nat.le_of_ble_eq_true rfl⟩ (by refine ⟨?_, ?_⟩ <;> ((try dsimp only); omega)) dX5_kindOf_155 (gkr_ip ?_) gkt_ip
      refine g_if_eq (tgt := 179) h dX5_kindOf_158 (by decide) (fun b9 => ?_) (fun b9 => ?_)
      · rw [zB_0, decide_eq_false_iff_not] at b9
        refine g_iload_n (i := 2) h dX5_kindOf_179 rfl rfl ?_
        refine g_tableOut (tgt := 239) h dX5_kindOf_180 (Or.inl (by decide)) (by decide) ?_
        refine g_iconst (v := (-1)) h dX5_kindOf_239 (by decide) ?_
        exact g_iret h ⟨by unfold kdx; rw [if_neg (fun z => absurd ((hk_coach z).symm.trans e_sheep) (by decide)), if_neg (fun z => absurd ((hk_cart z).symm.trans e_sheep) (by decide)), if_neg (fun z => absurd ((hk_wagon z).symm.trans e_sheep) (by decide)), if_neg (fun z => absurd ((hk_horse z).symm.trans e_sheep) (by decide)), if_neg (fun z => absurd ((hk_cattle z).symm.trans e_sheep) (by decide)), if_neg b9, if_neg (fun z => absurd ((hk_foot z).symm.trans e_sheep) (by decide))], hfr⟩ (Nat.le_refl _) (Nat.le_refl _) dX5_kindOf_240
      · rw [zB_n0, decide_eq_true_iff] at b9
        refine g_iconst (v := nI 5) h dX5_kindOf_161 (by decide) ?_
        refine g_istore_n (i := 2) h dX5_kindOf_162 rfl (by decide) ?_
        refine g_goto (tgt := 179) h dX5_kindOf_163 (by decide) ?_
        refine g_iload_n (i := 2) h dX5_kindOf_179 rfl rfl ?_
        refine g_tableIn (off := 54) (tgt := 234) h dX5_kindOf_180 (by decide) (by decide) (by decide) (by decide) ?_
        refine g_iconst (v := 5) h dX5_kindOf_234 (by decide) ?_
        exact g_iret h ⟨by subst b9; rfl, hfr⟩ (Nat.le_refl _) (Nat.le_refl _) dX5_kindOf_235
    by_cases e_wagon : (hS V V.length).toInt = (112891260)
    · refine g_lookup (off := 98) (tgt := 106) h dX5_kindOf_8 (by decide) (by rw [e_wagon]; decide) (by decide) ?_
      refine g_aload_n (i := 1) h dX5_kindOf_106 rfl rfl ?_
      obtain ⟨a_wagon, hv_wagon, hl_wagon⟩ := (hE1.2.2.2.2 23 _ rfl)
      refine g_ldcwS h hv_wagon dX5_kindOf_107 ?_
      refine g_invV h (ct_strEquals h.k hs hgw hl_wagon.str) hcJ9_equals w_X5_104 rfl rfl hwc (Nat.le_of_ble_eq_true rfl) ⟨Nat.le_of_ble_eq_true rfl, Nat.le_of_ble_eq_true rfl⟩ (by refine ⟨?_, ?_⟩ <;> ((try dsimp only); omega)) dX5_kindOf_110 (gkr_ip ?_) gkt_ip
      refine g_if_eq (tgt := 179) h dX5_kindOf_113 (by decide) (fun b9 => ?_) (fun b9 => ?_)
      · rw [zB_0, decide_eq_false_iff_not] at b9
        refine g_iload_n (i := 2) h dX5_kindOf_179 rfl rfl ?_
        refine g_tableOut (tgt := 239) h dX5_kindOf_180 (Or.inl (by decide)) (by decide) ?_
        refine g_iconst (v := (-1)) h dX5_kindOf_239 (by decide) ?_
        exact g_iret h ⟨by unfold kdx; rw [if_neg (fun z => absurd ((hk_coach z).symm.trans e_wagon) (by decide)), if_neg (fun z => absurd ((hk_cart z).symm.trans e_wagon) (by decide)), if_neg b9, if_neg (fun z => absurd ((hk_horse z).symm.trans e_wagon) (by decide)), if_neg (fun z => absurd ((hk_cattle z).symm.trans e_wagon) (by decide)), if_neg (fun z => absurd ((hk_sheep z).symm.trans e_wagon) (by decide)), if_neg (fun z => absurd ((hk_foot z).symm.trans e_wagon) (by decide))], hfr⟩ (Nat.le_refl _) (Nat.le_refl _) dX5_kindOf_240
      · rw [zB_n0, decide_eq_true_iff] at b9
        refine g_iconst (v := nI 2) h dX5_kindOf_116 (by decide) ?_
        refine g_istore_n (i := 2) h dX5_kindOf_117 rfl (by decide) ?_
        refine g_goto (tgt := 179) h dX5_kindOf_118 (by decide) ?_
        refine g_iload_n (i := 2) h dX5_kindOf_179 rfl rfl ?_
        refine g_tableIn (off := 48) (tgt := 228) h dX5_kindOf_180 (by decide) (by decide) (by decide) (by decide) ?_
        refine g_iconst (v := 2) h dX5_kindOf_228 (by decide) ?_
        exact g_iret h ⟨by subst b9; rfl, hfr⟩ (Nat.le_refl _) (Nat.le_refl _) dX5_kindOf_229
    refine g_lookup (off := 171) (tgt := 179) h dX5_kindOf_8 (by decide) (by show Op.lookupswitch.offset [((-1367529129 : Int), (128 : Int)), ((3046176 : Int), (83 : Int)), ((3148910 : Int), (158 : Int)), ((94831770 : Int), (68 : Int)), ((99466205 : Int), (113 : Int)), ((109403483 : Int), (143 : Int)), ((112891260 : Int), (98 : Int))] 171 _ = _; rw [Op.lookupswitch.offset_cons, if_neg (fun z => e_cattle (Eq.symm z)), Op.lookupswitch.offset_cons, if_neg (fun z => e_cart (Eq.symm z)), Op.lookupswitch.offset_cons, if_neg (fun z => e_foot (Eq.symm z)), Op.lookupswitch.offset_cons, if_neg (fun z => e_coach (Eq.symm z)), Op.lookupswitch.offset_cons, if_neg (fun z => e_horse (Eq.symm z)), Op.lookupswitch.offset_cons, if_neg (fun z => e_sheep (Eq.symm z)), Op.lookupswitch.offset_cons, if_neg (fun z => e_wagon (Eq.symm z)), Op.lookupswitch.offset_nil]) (by decide) ?_
    refine g_iload_n (i := 2) h dX5_kindOf_179 rfl rfl ?_
    refine g_tableOut (tgt := 239) h dX5_kindOf_180 (Or.inl (by decide)) (by decide) ?_
    refine g_iconst (v := (-1)) h dX5_kindOf_239 (by decide) ?_
    exact g_iret h ⟨by unfold kdx; rw [if_neg (fun z => e_coach (hk_coach z)), if_neg (fun z => e_cart (hk_cart z)), if_neg (fun z => e_wagon (hk_wagon z)), if_neg (fun z => e_horse (hk_horse z)), if_neg (fun z => e_cattle (hk_cattle z)), if_neg (fun z => e_sheep (hk_sheep z)), if_neg (fun z => e_foot (hk_foot z))], hfr⟩ (Nat.le_refl _) (Nat.le_refl _) dX5_kindOf_240
  refine g_aload_n (i := 0) h dX5_kindOf_0 rfl rfl ?_
  refine g_astore_n (i := 1) h dX5_kindOf_1 rfl (by decide) ?_
  refine g_iconst (v := (-1)) h dX5_kindOf_2 (by decide) ?_
  refine g_istore_n (i := 2) h dX5_kindOf_3 rfl (by decide) ?_
  refine g_aload_n (i := 1) h dX5_kindOf_4 rfl rfl ?_
  refine g_invV h (ct_whash h.k hs hE hw) hcJ9_hashCode w_X5_239 rfl rfl hwo (Nat.le_of_ble_eq_true rfl) ⟨Nat.le_of_ble_eq_true rfl, Nat.le_of_ble_eq_true rfl⟩ (by refine ⟨?_, ?_⟩ <;> ((try dsimp only); omega)) dX5_kindOf_5 (gkr_i (fun c1 hP => ?_)) gkt_i
  obtain ⟨hgw, hfr⟩ := hP
  have hE1 := hE.mono hfr.1
  obtain ⟨rw_, fw, hwc⟩ := hgw.obj
  exact SW c1 hgw hfr hE1 rw_ fw hwc
/-- a condition has been read: its tree at a, of cells new since c; its codes -/
def cOk (c c' : gLH) (d k a : Nat) (s t : pSt) : Prop := ∃ (cs : List (Int32 × Int32)) (m : (Nat → Int32) → Bool), t.2.2.2.2 = s.2.2.2.2 ++ cs ∧ TR (gNw c c') d a m ∧ tM k cs m
/-- the state in which a method ends by t -/
theorem pB1 {T : Nat → Int32} {sz p : Nat} : pB T sz (pB T sz p) = pB T sz p := pB_idem T
theorem pEmit_f (s : pSt) (k n : Int32) : (pEmit s k n).2.1 = s.2.1 ∧ (pEmit s k n).2.2.1 = s.2.2.1 ∧ (pEmit s k n).1 = s.1 ∧ (pEmit s k n).2.2.2.1 = s.2.2.2.1 ∧ (pEmit s k n).2.2.2.2 = s.2.2.2.2 ++ [(k, n)] := ⟨rfl, rfl, rfl, rfl, rfl⟩
theorem pNum_4 {T : Nat → Int32} {sz : Nat} (s : pSt) (b : Bool) : (pNum T sz s b).2.2.2.2 = s.2.2.2 := pNum_cs s b
theorem sgR_x {r : Nat} (hr : r < 3) : isSg (sgR r) := by
  have : r = 0 ∨ r = 1 ∨ r = 2 := by omega
  rcases this with rfl | rfl | rfl <;> unfold isSg <;> decide
theorem gT_r : gT ≠ gRd ∧ gT ≠ gWr := by decide
/-- a cell that was new is written -/
theorem rFr.set {c c' : gLH} (h : rFr c c') (_ : gT ≠ gRd ∧ gT ≠ gWr) {a : Nat} {y : Option (Nat × va_E)} (ha : rNw c a) : rFr c (va_up c' a y) := fun b r e z1 z2 z3 => by
  have k := h b r e z1 z2 z3
  rw [va_up_n _ _ (fun z => by subst z; rcases ha r e z1 with q | q; exact z2 q; exact z3 q)]
  exact k
theorem RD.wr {T f : Nat → Int32} {E : Nat → Nat} {e9 rd tx sz q o : Nat} {c : gLH} (h : RD T f E e9 rd tx sz q o c) {a : Nat} {n : Nat × List Value} {y : Option (Nat × va_E)} (ha : c a = some (gT, .inr n)) : RD T f E e9 rd tx sz q o (va_up c a y) := by
  obtain ⟨h1, w, sg, nu, h2, h3, h4, h5⟩ := h
  refine ⟨by rw [va_up_n _ _ (fun z => by rw [z, ha] at h1; cases h1)]; exact h1, w, sg, nu, by rw [va_up_n _ _ (fun z => by rw [z, ha] at h2; cases h2)]; exact h2, h3, h4, fun z => ?_⟩
  rcases h5 z with ⟨h8, v, f', k1, k2, k3⟩ | h8
  · exact Or.inl ⟨h8, v, f', by rw [va_up_n _ _ (fun z => by rw [z, ha] at k1; cases k1)]; exact k1, by rw [va_up_n _ _ (fun z => by rw [z, ha] at k2; cases k2)]; exact k2, k3⟩
  · exact Or.inr h8
theorem ct_rcmp {l : Launch} {g : gGP} (hk : gK l g) {T f : Nat → Int32} {E : Nat → Nat} {c : gLH} {e9 rd tx sz : Nat} (hX : rTx T f sz) (hs : gSS g) (hE : rEnv g E e9 c) (hts : gTS g) {nx o w : Nat} {pl : Int32} {cs : List (Int32 × Int32)} (hw : w < 4) (hN : RN f rd tx sz nx o c) : Ct l g yX5_compares hwX5_compares 9 360 [.ref rd, .int (nI w)] c (13) (99) (pRa (pRel T sz (nx, 0, pl, o, cs) (10 + 3 * w)) (rFr c) (fun a c' => cOk c c' 1 1 a (nx, 0, pl, o, cs) (pRel T sz (nx, 0, pl, o, cs) (10 + 3 * w)) ∧ RS T f E e9 rd tx sz (pRel T sz (nx, 0, pl, o, cs) (10 + 3 * w)) c')) := by
  refine Ct.intro hk hcX5_compares (by decide +kernel) (Nat.le_of_ble_eq_true rfl) (fun φ h => ?_)
  have hsg : ∀ x : Int32, pSign T sz (nx, 0, pl, o, cs) x = (decide (T (pB T sz nx) = x) && decide ((pB T sz nx) < sz)) := fun x => by unfold pSign; rfl
  have hq : (pB T sz nx) ≤ sz := pB_sz T hN.2.1
  have X36 : ∀ r, r < 3 → ∀ c1 : gLH, rFr c c1 → rEnv g E e9 c1 → RD T f E e9 rd tx sz (pB T sz nx) o c1 → (decide (T (pB T sz nx) = sgR r) && decide ((pB T sz nx) < sz)) = true → (pRel T sz (nx, 0, pl, o, cs) (10 + 3 * w)) = pRelN T sz (nx, 0, pl, o, cs) (10 + 3 * w) r → G φ (gQ φ (pRa (pRel T sz (nx, 0, pl, o, cs) (10 + 3 * w)) (rFr c) (fun a c' => cOk c c' 1 1 a (nx, 0, pl, o, cs) (pRel T sz (nx, 0, pl, o, cs) (10 + 3 * w)) ∧ RS T f E e9 rd tx sz (pRel T sz (nx, 0, pl, o, cs) (10 + 3 * w)) c')) 13 99) 36 [(0, .ref rd), (1, .int (nI w))] [] c1 4 32 := by
    intro r hr c1 hfr1 hE1 hR1 hb hf
    have hnx := rNx_sg (sgR_x hr) hb
    have h3 := ((rKd_3 (T := T) (sz := sz) (sgR_x hr).1 ⟨(sgR_x hr).2.1, (sgR_x hr).2.2.1⟩).mpr (by rw [Bool.and_eq_true, decide_eq_true_iff, decide_eq_true_iff] at hb; exact hb))
    obtain ⟨h3, h3b⟩ := h3
    have heq : f (pB T sz nx) = sgR r := (hX.eq hnx.2 (sgR_x hr).2.2.2.1 (sgR_x hr).2.2.2.2).mp h3b
    have hRN1 := hR1.rn hq
    refine g_aload_n (i := 0) h dX5_compares_36 rfl rfl ?_
    obtain ⟨hT1, w1, sg1, nu1, hc1, hsg1, -, -⟩ := hR1
    refine g_get h f_X5_38_5 hc1 rfl dX5_compares_37 ?_
    refine G.int (show sg1 = sgR r from (hsg1 h3).trans heq) ?_
    refine g_istore_n (i := 2) h dX5_compares_40 rfl (by decide) ?_
    refine g_aload_n (i := 0) h dX5_compares_41 rfl rfl ?_
    refine g_invV h (ct_rgo h.k hX hs hE1 (hRN1)) hcX5_go w_X5_25 rfl rfl (hRN1).cell.choose_spec (Nat.le_of_ble_eq_true rfl) ⟨Nat.le_of_ble_eq_true rfl, Nat.le_of_ble_eq_true rfl⟩ (by refine ⟨?_, ?_⟩ <;> ((try dsimp only); omega)) dX5_compares_42 (gkr_v (fun c2 hP2 => ?_)) gkt_v
    have hE2 := hE1.mono hP2.2
    have hR2 : RS T f E e9 rd tx sz ((pB T sz nx) + 1, 0, pl, o, cs) c2 := by have z := hP2.1; rw [hnx.1] at z; exact z
    refine g_new h gT n_X5_277 (by (try dsimp only); omega) (by (try dsimp only); omega) dX5_compares_45 (fun a ha => ?_)
    have hfa := (hfr1.trans hP2.2).up (y := some (gT, Sum.inr (20, [Value.int 0, Value.int 0, Value.int 0]))) ha
    have hE3 := hE2.mono ((rFr.refl c2).up (y := some (gT, Sum.inr (20, [Value.int 0, Value.int 0, Value.int 0]))) ha)
    have hR3 := RD.up hR2 (y := some (gT, Sum.inr (20, [Value.int 0, Value.int 0, Value.int 0]))) ha
    have hnw := rNone (hfr1.trans hP2.2) ha
    refine g_dup h dX5_compares_48 rfl ?_
    refine g_iload_n (i := 1) h dX5_compares_49 rfl rfl ?_
    refine g_iload_n (i := 2) h dX5_compares_50 rfl rfl ?_
    refine g_aload_n (i := 0) h dX5_compares_51 rfl rfl ?_
    refine g_lconst (v := 0) h dX5_compares_52 (by decide) ?_
    refine g_invV h (ct_rnumber (s := ((pB T sz nx) + 1, 0, pl, o, cs)) h.k hX hs hE3 rfl hnx.2 hR3 hts false) hcX5_number w_X5_184 rfl rfl hR3.cell.choose_spec (Nat.le_of_ble_eq_true rfl) ⟨Nat.le_of_ble_eq_true rfl, Nat.le_of_ble_eq_true rfl⟩ (by refine ⟨?_, ?_⟩ <;> ((try dsimp only); omega)) dX5_compares_53 (gkr_rl (fun v4 c4 h4 f4 g4 => ?_)) (gkt_rl (fun e4 c4 h4 f4 g4 => ?_))
    rotate_left 1
    · refine gt_out h (fun q hq => by cases hq) ?_ (by (try dsimp only); omega) (by (try dsimp only); omega)
      exact ⟨hfa.trans f4, Or.inr (pTw.of (t := (pRel T sz (nx, 0, pl, o, cs) (10 + 3 * w))) rfl rfl (by rw [hf]; exact h4) (by rw [hf]; exact g4))⟩
    obtain ⟨g1, g2, g3, g4⟩ := g4
    refine g_l2i h dX5_compares_56 ?_
    refine G.int (show _ = (pNum T sz ((pB T sz nx) + 1, 0, pl, o, cs) false).1 by rw [g1]; exact Int32.toInt32_toInt64 _) ?_
    refine g_invI h (ct_X20init h.k _ _ _ gT_lt (f4 _ _ _ (va_up_s _ _ _) (by decide) (by decide))) w_X5_279 rfl rfl (Nat.le_of_ble_eq_true rfl) ⟨Nat.le_of_ble_eq_true rfl, Nat.le_of_ble_eq_true rfl⟩ (by refine ⟨?_, ?_⟩ <;> ((try dsimp only); omega)) dX5_compares_57 (gkr_v (fun c5 hP5 => ?_)) gkt_v
    exact g_aret h ⟨by rw [hP5]; exact (hfa.trans f4).set gT_r hnw, Or.inl ⟨by rw [hf]; exact h4, a, rfl, ⟨[(nI (10 + 3 * w + r), (pNum T sz ((pB T sz nx) + 1, 0, pl, o, cs) false).1)], _, by rw [hf]; show (pNum T sz ((pB T sz nx) + 1, 0, pl, o, cs) false).2.2.2.2.2 ++ _ = _; rw [show (pNum T sz ((pB T sz nx) + 1, 0, pl, o, cs) false).2.2.2.2.2 = cs from congrArg Prod.snd (pNum_cs _ _)], ⟨gT, Or.inr (Or.inr (Or.inr (Or.inr (Or.inr (Or.inl ⟨_, _, _, gNw_i hnw.only (by rw [hP5]; exact va_up_s _ _ _), rfl⟩)))))⟩, tM_rel w r hw hr _⟩, by rw [hf, hP5]; exact RD.wr g4 (f4 _ _ _ (va_up_s _ _ _) (by decide) (by decide))⟩⟩ (by (try dsimp only); omega) (by (try dsimp only); omega) (Or.inl ⟨_, rfl⟩) dX5_compares_60
  refine g_aload_n (i := 0) h dX5_compares_0 rfl rfl ?_
  refine g_invV h (ct_rgo h.k hX hs hE (hN)) hcX5_go w_X5_25 rfl rfl (hN).cell.choose_spec (Nat.le_of_ble_eq_true rfl) ⟨Nat.le_of_ble_eq_true rfl, Nat.le_of_ble_eq_true rfl⟩ (by refine ⟨?_, ?_⟩ <;> ((try dsimp only); omega)) dX5_compares_1 (gkr_v (fun c1 hP1 => ?_)) gkt_v
  have hE1 := hE.mono hP1.2
  have hR1 := hP1.1
  refine g_aload_n (i := 0) h dX5_compares_4 rfl rfl ?_
  refine g_bipush (v := 61) h dX5_compares_5 (by decide) ?_
  refine g_invV h (ct_ris h.k hX hE1 isSg_x.2.2.2.2.1 hR1) hcX5_is w_X5_114 rfl rfl hR1.cell.choose_spec (Nat.le_of_ble_eq_true rfl) ⟨Nat.le_of_ble_eq_true rfl, Nat.le_of_ble_eq_true rfl⟩ (by refine ⟨?_, ?_⟩ <;> ((try dsimp only); omega)) dX5_compares_7 (gkr_ip ?_) gkt_ip
  refine g_if_ne (tgt := 36) h dX5_compares_10 (by decide) (fun b10 => ?_) (fun b10 => ?_)
  · rw [zB_n0] at b10
    exact G.to (X36 0 (by decide) c1 hP1.2 hE1 hR1 b10 (by unfold pRel; rw [hsg 61, if_pos b10])) ⟨rfl, rfl, trivial⟩
  · rw [zB_0] at b10
    refine g_aload_n (i := 0) h dX5_compares_13 rfl rfl ?_
    refine g_bipush (v := 60) h dX5_compares_14 (by decide) ?_
    refine g_invV h (ct_ris h.k hX hE1 isSg_x.2.2.2.2.2.1 hR1) hcX5_is w_X5_114 rfl rfl hR1.cell.choose_spec (Nat.le_of_ble_eq_true rfl) ⟨Nat.le_of_ble_eq_true rfl, Nat.le_of_ble_eq_true rfl⟩ (by refine ⟨?_, ?_⟩ <;> ((try dsimp only); omega)) dX5_compares_16 (gkr_ip ?_) gkt_ip
    refine g_if_ne (tgt := 36) h dX5_compares_19 (by decide) (fun b19 => ?_) (fun b19 => ?_)
    · rw [zB_n0] at b19
      exact G.to (X36 1 (by decide) c1 hP1.2 hE1 hR1 b19 (by unfold pRel; rw [hsg 61, if_neg (by rw [b10]; decide), hsg 60, if_pos b19])) ⟨rfl, rfl, trivial⟩
    · rw [zB_0] at b19
      refine g_aload_n (i := 0) h dX5_compares_22 rfl rfl ?_
      refine g_bipush (v := 62) h dX5_compares_23 (by decide) ?_
      refine g_invV h (ct_ris h.k hX hE1 isSg_x.2.2.2.2.2.2 hR1) hcX5_is w_X5_114 rfl rfl hR1.cell.choose_spec (Nat.le_of_ble_eq_true rfl) ⟨Nat.le_of_ble_eq_true rfl, Nat.le_of_ble_eq_true rfl⟩ (by refine ⟨?_, ?_⟩ <;> ((try dsimp only); omega)) dX5_compares_25 (gkr_ip ?_) gkt_ip
      refine g_if_ne (tgt := 36) h dX5_compares_28 (by decide) (fun b28 => ?_) (fun b28 => ?_)
      · rw [zB_n0] at b28
        exact G.to (X36 2 (by decide) c1 hP1.2 hE1 hR1 b28 (by unfold pRel; rw [hsg 61, if_neg (by rw [b10]; decide), hsg 60, if_neg (by rw [b19]; decide), hsg 62, if_pos b28])) ⟨rfl, rfl, trivial⟩
      · rw [zB_0] at b28
        refine g_aload_n (i := 0) h dX5_compares_31 rfl rfl ?_
        obtain ⟨hT1, w1, sg1, nu1, hc1, -⟩ := hR1
        refine g_invV h (ct_rwrong h.k hc1 hts) hcX5_wrong w_X5_117 rfl rfl hc1 (Nat.le_of_ble_eq_true rfl) ⟨Nat.le_of_ble_eq_true rfl, Nat.le_of_ble_eq_true rfl⟩ (by refine ⟨?_, ?_⟩ <;> ((try dsimp only); omega)) dX5_compares_32 (gkr_ae (fun a c2 hP => ?_)) gkt_ae
        refine g_athrow h dX5_compares_35 ?_
        refine gt_out h (fun q hq => by cases hq) ?_ (by (try dsimp only); omega) (by (try dsimp only); omega)
        have hf : (pRel T sz (nx, 0, pl, o, cs) (10 + 3 * w)) = ((pB T sz nx), 1, nI (pB T sz nx), o, cs) := by unfold pRel; rw [hsg 61, if_neg (by rw [b10]; decide), hsg 60, if_neg (by rw [b19]; decide), hsg 62, if_neg (by rw [b28]; decide)]; rfl
        exact ⟨hP1.2.trans (fun b r e z _ _ => hP.2.2 b r e z), Or.inr (pTw.of (e := 1) (pl := nI (pB T sz nx)) (by rw [hf]) (by rw [hf]) (by decide) hP.2.1)⟩
