/-! THE READER: go -/
set_option maxRecDepth 100000
/-- the role of string constants -/
def gLt : Nat := gSB + 1
/-- a string constant whose cells nobody writes -/
def gStrF (c : gLH) (a : Nat) (W : List Nat) : Prop := ∃ (v : Nat) (y z : Value) (f : Nat → Int32), c a = some (gLt, .inr (36, [.ref v, .int 0, y, z])) ∧ c v = some (gLt, gBytes W.length f) ∧ W.length < 1000000 ∧ ∀ j, j < W.length → f j = nI (W.getD j 0) ∧ W.getD j 0 < 128
theorem gStrF.str {c : gLH} {a : Nat} {W : List Nat} (h : gStrF c a W) : gStr c a W := by
  obtain ⟨v, y, z, f, h1, h2, h3, h4⟩ := h
  exact ⟨gLt, v, gLt, y, z, f, h1, h2, h3, h4, by decide, by decide⟩
/-- what reading keeps: all but the reader and its words -/
def rFr (c c' : gLH) : Prop := ∀ (a r : Nat) (e : va_E), c a = some (r, e) → r ≠ gRd → r ≠ gWr → c' a = some (r, e)
theorem rFr.refl (c : gLH) : rFr c c := fun _ _ _ h _ _ => h
theorem rFr.trans {c1 c2 c3 : gLH} (h : rFr c1 c2) (k : rFr c2 c3) : rFr c1 c3 := fun a r e h1 h2 h3 => k a r e (h a r e h1 h2 h3) h2 h3
theorem gStrF.mono {c c' : gLH} (hf : rFr c c') {a : Nat} {W : List Nat} (h : gStrF c a W) : gStrF c' a W := by
  obtain ⟨v, y, z, f, h1, h2, h3, h4⟩ := h
  exact ⟨v, y, z, f, hf _ _ _ h1 (by decide) (by decide), hf _ _ _ h2 (by decide) (by decide), h3, h4⟩
def gLitF (own : String) (L : List (Nat × String × List Nat)) (g : gGP) (c0 : gLH) : Prop := ∀ (i : Nat) (x : Nat × String × List Nat), L[i]? = some x → ∃ q, vk_R own x.1 x.2.1 q g.1 ∧ gStrF c0 q x.2.2
theorem gLitF.mono {own : String} {L : List (Nat × String × List Nat)} {g : gGP} {c c' : gLH} (hf : rFr c c') (h : gLitF own L g c) : gLitF own L g c' := fun i x hx => by
  obtain ⟨q, h1, h2⟩ := h i x hx
  exact ⟨q, h1, h2.mono hf⟩
def yLits : List (Nat × String × List Nat) := [(144, "free", w_free), (146, "toll", w_toll), (148, "times", w_times), (150, "once", w_once), (161, "all", w_all), (169, "if", w_if), (187, "each", w_each), (194, "score", w_score), (215, "or", w_or), (224, "and", w_and), (229, "not", w_not), (242, "mail", w_mail), (244, "army", w_army), (246, "church", w_church), (248, "farm", w_farm), (250, "back", w_back), (252, "wheels", w_wheels), (254, "beasts", w_beasts), (256, "gate", w_gate), (258, "day", w_day), (260, "kind", w_kind), (289, "coach", w_coach), (291, "cart", w_cart), (293, "wagon", w_wagon), (295, "horse", w_horse), (297, "cattle", w_cattle), (299, "sheep", w_sheep), (301, "foot", w_foot)]
/-- what the reader finds: the sorts E, the empty word e9, the string constants -/
def rEnv (g : gGP) (E : Nat → Nat) (e9 : Nat) (c : gLH) : Prop := (gZ g "TurnpikeTrust$Sort" "END" "LTurnpikeTrust$Sort;" (.ref (E 0)) ∧ gZ g "TurnpikeTrust$Sort" "WORD" "LTurnpikeTrust$Sort;" (.ref (E 1)) ∧ gZ g "TurnpikeTrust$Sort" "NUMBER" "LTurnpikeTrust$Sort;" (.ref (E 2)) ∧ gZ g "TurnpikeTrust$Sort" "SIGN" "LTurnpikeTrust$Sort;" (.ref (E 3)) ∧ gZ g "TurnpikeTrust$Sort" "BAD" "LTurnpikeTrust$Sort;" (.ref (E 4))) ∧ (∀ i j, i < 5 → j < 5 → E i = E j → i = j) ∧ vk_R RX5 9 "" e9 g.1 ∧ (∃ (v : Nat) (f : Nat → Int32), c e9 = some (gLt, .inr (36, [.ref v, .int 0, .int 0, .int 1])) ∧ c v = some (gLt, gBytes 0 f)) ∧ gLitF RX5 yLits g c
theorem rEnv.mono {g : gGP} {E : Nat → Nat} {e9 : Nat} {c c' : gLH} (hf : rFr c c') (h : rEnv g E e9 c) : rEnv g E e9 c' := by
  obtain ⟨h1, h2, h3, ⟨v, f, h4, h5⟩, h6⟩ := h
  exact ⟨h1, h2, h3, ⟨v, f, hf _ _ _ h4 (by decide) (by decide), hf _ _ _ h5 (by decide) (by decide)⟩, h6.mono hf⟩
theorem rEnv.e9 {g : gGP} {E : Nat → Nat} {e9 : Nat} {c : gLH} (h : rEnv g E e9 c) : gStr c e9 [] := by
  obtain ⟨h1, h2, h3, ⟨v, f, h4, h5⟩, h6⟩ := h
  exact ⟨gLt, v, gLt, _, _, f, h4, h5, by decide, fun j hj => absurd hj (by simp), by decide, by decide⟩
/-- the reader's cell -/
abbrev rC (tx sz nx q o : Nat) (so w : Value) (sg : Int32) (nu : Int64) : Option (Nat × va_E) := some (gRd, .inr (5, [.ref tx, .int (nI sz), .int (nI nx), .int (nI q), .int (nI o), so, w, .int sg, .long nu]))
/-- the word read at q, of n letters -/
def rWd (T : Nat → Int32) (e9 q n w : Nat) (c : gLH) : Prop := (n ≤ 8 ∧ ∃ (v : Nat) (f : Nat → Int32), c w = some (gWr, .inr (36, [.ref v, .int 0, .int 0, .int 0])) ∧ c v = some (gT, gBytes n f) ∧ ∀ j, j < n → f j = T (q + j)) ∨ (¬ n ≤ 8 ∧ w = e9)
/-- the reader stands at q, so many open -/
def RD (T f : Nat → Int32) (E : Nat → Nat) (e9 rd tx sz q o : Nat) (c : gLH) : Prop := c tx = some (cR 1 0, gBytes 2000 f) ∧ ∃ (w : Nat) (sg : Int32) (nu : Int64), c rd = rC tx sz (rNx T sz q) q o (.ref (E (rKd T sz q))) (.ref w) sg nu ∧ (rKd T sz q = 3 → sg = f q) ∧ (rKd T sz q = 2 → nu = (pCp T (sz - q) q 0).2) ∧ (rKd T sz q = 1 → rWd T e9 q (rNx T sz q - q) w c)
/-- between two states of one reading: all but the reader's cell is kept -/
def rW (c0 : gLH) (rd tx : Nat) (f : Nat → Int32) (c : gLH) : Prop := (∀ (a r : Nat) (e : va_E), c0 a = some (r, e) → a ≠ rd → c a = some (r, e)) ∧ c tx = some (cR 1 0, gBytes 2000 f) ∧ tx ≠ rd
section RPUT
variable {φ : gFx} {l : Launch} {g : gGP} {R : Room} {cc : ByteArray} {nL : Nat} {own mn : String} {ret : Option FieldType} {tbl : List (Nat × Nat × Nat × Nat)} {Q : State → Prop} {pc : Nat} {lv : List (Nat × Value)} {st : List Value} {c : gLH} {ce sl : Nat}
theorem r_put (h : gOK φ l g R cc nL own mn ret tbl) {idx k rd tx : Nat} {c0 : gLH} {f : Nat → Int32} {fs : List Value} {v : Value} {ty : FieldType} (hF : gFP own idx 5 k ty) (hc : c rd = some (gRd, .inr (5, fs))) (hw : rW c0 rd tx f c) (hl' : k < fs.length) (hn : narrow ty v = v) (hf : fits ty v = true) (hd : decode cc pc = .ok (.putfield idx, 3)) (kk : ∀ c' : gLH, c' rd = some (gRd, .inr (5, fs.set k v)) → rW c0 rd tx f c' → G φ Q (pc + 3) lv st c' ce sl) : G φ Q pc lv (v :: .ref rd :: st) c ce sl :=
  g_put h hF hc gRd_lt hl' hn hf hd (kk _ (va_up_s _ _ _) ⟨fun a r e h1 h2 => by rw [va_up_n _ _ h2]; exact hw.1 a r e h1 h2, by rw [va_up_n _ _ hw.2.2]; exact hw.2.1, hw.2.2⟩)
end RPUT
theorem ct_risSmall {l : Launch} {g : gGP} (hk : gK l g) {c : gLH} (x : Int32) : Ct l g yX5_isSmall hwX5_isSmall 0 0 [.int x] c (0) (0) (pIp (zB (sSmall x)) c) := by
  refine Ct.intro hk hcX5_isSmall (by decide +kernel) (Nat.le_of_ble_eq_true rfl) (fun φ h => ?_)
  refine g_iload_n (i := 0) h dX5_isSmall_0 rfl rfl ?_
  refine g_bipush (v := 97) h dX5_isSmall_1 (by decide) ?_
  refine g_icmp_lt (tgt := 16) h dX5_isSmall_3 (by decide) (fun b3 => ?_) (fun b3 => ?_)
  · refine g_iconst (v := 0) h dX5_isSmall_16 (by decide) ?_
    exact g_zret h ⟨by simp [sSmall, zB, b3], rfl⟩ (Nat.le_refl _) (Nat.le_refl _) (by first | rfl | exact zB_nar _) dX5_isSmall_17
  · refine g_iload_n (i := 0) h dX5_isSmall_6 rfl rfl ?_
    refine g_bipush (v := 122) h dX5_isSmall_7 (by decide) ?_
    refine g_icmp_gt (tgt := 16) h dX5_isSmall_9 (by decide) (fun b9 => ?_) (fun b9 => ?_)
    · refine g_iconst (v := 0) h dX5_isSmall_16 (by decide) ?_
      exact g_zret h ⟨by simp [sSmall, zB, b3, b9], rfl⟩ (Nat.le_refl _) (Nat.le_refl _) (by first | rfl | exact zB_nar _) dX5_isSmall_17
    · refine g_iconst (v := 1) h dX5_isSmall_12 (by decide) ?_
      refine g_goto (tgt := 17) h dX5_isSmall_13 (by decide) ?_
      exact g_zret h ⟨by simp [sSmall, zB, b3, b9], rfl⟩ (Nat.le_refl _) (Nat.le_refl _) (by first | rfl | exact zB_nar _) dX5_isSmall_17
theorem ct_risDigit {l : Launch} {g : gGP} (hk : gK l g) {c : gLH} (x : Int32) : Ct l g yX5_isDigit hwX5_isDigit 0 0 [.int x] c (0) (0) (pIp (zB (sDigit x)) c) := by
  refine Ct.intro hk hcX5_isDigit (by decide +kernel) (Nat.le_of_ble_eq_true rfl) (fun φ h => ?_)
  refine g_iload_n (i := 0) h dX5_isDigit_0 rfl rfl ?_
  refine g_bipush (v := 48) h dX5_isDigit_1 (by decide) ?_
  refine g_icmp_lt (tgt := 16) h dX5_isDigit_3 (by decide) (fun b3 => ?_) (fun b3 => ?_)
  · refine g_iconst (v := 0) h dX5_isDigit_16 (by decide) ?_
    exact g_zret h ⟨by simp [sDigit, zB, b3], rfl⟩ (Nat.le_refl _) (Nat.le_refl _) (by first | rfl | exact zB_nar _) dX5_isDigit_17
  · refine g_iload_n (i := 0) h dX5_isDigit_6 rfl rfl ?_
    refine g_bipush (v := 57) h dX5_isDigit_7 (by decide) ?_
    refine g_icmp_gt (tgt := 16) h dX5_isDigit_9 (by decide) (fun b9 => ?_) (fun b9 => ?_)
    · refine g_iconst (v := 0) h dX5_isDigit_16 (by decide) ?_
      exact g_zret h ⟨by simp [sDigit, zB, b3, b9], rfl⟩ (Nat.le_refl _) (Nat.le_refl _) (by first | rfl | exact zB_nar _) dX5_isDigit_17
    · refine g_iconst (v := 1) h dX5_isDigit_12 (by decide) ?_
      refine g_goto (tgt := 17) h dX5_isDigit_13 (by decide) ?_
      exact g_zret h ⟨by simp [sDigit, zB, b3, b9], rfl⟩ (Nat.le_refl _) (Nat.le_refl _) (by first | rfl | exact zB_nar _) dX5_isDigit_17
theorem ct_rat1 {l : Launch} {g : gGP} (hk : gK l g) {c : gLH} {rd tx sz nx q o : Nat} {so w : Value} {sg : Int32} {nu : Int64} {f : Nat → Int32} (hc : c rd = rC tx sz nx q o so w sg nu) (hT : c tx = some (cR 1 0, gBytes 2000 f)) (hz : sz ≤ 2000) {k : Nat} (hk2 : k < sz) : Ct l g yX5_at hwX5_at 0 0 [.ref rd, .int (nI k)] c (0) (0) (pIp (rt f sz k) c) := by
  refine Ct.intro hk hcX5_at (by decide +kernel) (Nat.le_of_ble_eq_true rfl) (fun φ h => ?_)
  refine g_iload_n (i := 1) h dX5_at_0 rfl rfl ?_
  refine g_aload_n (i := 0) h dX5_at_1 rfl rfl ?_
  refine g_get h f_X5_21_5 hc rfl dX5_at_2 ?_
  refine g_icmp_ge (tgt := 17) h dX5_at_5 (by decide) (fun _bz => absurd _bz (nI_ge hk2 (by omega))) (fun b5 => ?_)
  refine g_aload_n (i := 0) h dX5_at_8 rfl rfl ?_
  refine g_get h f_X5_17_5 hc rfl dX5_at_9 ?_
  refine g_iload_n (i := 1) h dX5_at_12 rfl rfl ?_
  refine g_baldN h hT (show k < 2000 by omega) (by decide) dX5_at_13 ?_
  refine g_goto (tgt := 18) h dX5_at_14 (by decide) ?_
  exact g_iret h ⟨by rw [rt, if_pos hk2], rfl⟩ (Nat.le_refl _) (Nat.le_refl _) dX5_at_18
theorem ct_rat2 {l : Launch} {g : gGP} (hk : gK l g) {c : gLH} {rd tx sz nx q o : Nat} {so w : Value} {sg : Int32} {nu : Int64} {f : Nat → Int32} (hc : c rd = rC tx sz nx q o so w sg nu) (hz : sz ≤ 2000) {k : Nat} (hk2 : ¬ k < sz) (hk3 : k ≤ 2000) : Ct l g yX5_at hwX5_at 0 0 [.ref rd, .int (nI k)] c (0) (0) (pIp (rt f sz k) c) := by
  refine Ct.intro hk hcX5_at (by decide +kernel) (Nat.le_of_ble_eq_true rfl) (fun φ h => ?_)
  refine g_iload_n (i := 1) h dX5_at_0 rfl rfl ?_
  refine g_aload_n (i := 0) h dX5_at_1 rfl rfl ?_
  refine g_get h f_X5_21_5 hc rfl dX5_at_2 ?_
  refine g_icmp_ge (tgt := 17) h dX5_at_5 (by decide) (fun b5 => ?_) (fun _bz => absurd _bz (fun z => z (nI_le (by omega) (by omega))))
  refine g_iconst (v := 0) h dX5_at_17 (by decide) ?_
  exact g_iret h ⟨by rw [rt, if_neg hk2], rfl⟩ (Nat.le_refl _) (Nat.le_refl _) dX5_at_18
theorem ct_rat {l : Launch} {g : gGP} (hk : gK l g) {c : gLH} {rd tx sz nx q o : Nat} {so w : Value} {sg : Int32} {nu : Int64} {f : Nat → Int32} (hc : c rd = rC tx sz nx q o so w sg nu) (hT : c tx = some (cR 1 0, gBytes 2000 f)) (hz : sz ≤ 2000) {k : Nat} (hk3 : k ≤ 2000) : Ct l g yX5_at hwX5_at 0 0 [.ref rd, .int (nI k)] c 0 0 (pIp (rt f sz k) c) := by
  by_cases hk2 : k < sz
  · exact ct_rat1 hk hc hT hz hk2
  · exact ct_rat2 hk hc hz hk2 hk3
theorem c_fin : ∀ w : Fin 128, ((nI w.val).toUInt32 % 65536).toInt32 = nI w.val := by decide +kernel
theorem c_sm {x : Int32} (h : sSmall x = true) : (x.toUInt32 % 65536).toInt32 = nI (ix x) := by
  have p := small_pos h
  have q := c_fin ⟨ix x, p.2.2.1⟩
  rw [← q]
  exact congrArg (fun y : Int32 => (y.toUInt32 % 65536).toInt32) p.2.2.2.1.symm
theorem ct_rstring {l : Launch} {g : gGP} (hk : gK l g) {T : Nat → Int32} {c : gLH} {rd tx sz n q o : Nat} {so w : Value} {sg : Int32} {nu : Int64} {f : Nat → Int32} (hs : gSS g) (hc : c rd = rC tx sz (q + n) q o so w sg nu) (hT : c tx = some (cR 1 0, gBytes 2000 f)) (hn : n ≤ 8) (hqn : q + n ≤ 2000) (hft : ∀ i, i < n → f (q + i) = T (q + i)) (hsm : ∀ i, i < n → sSmall (T (q + i)) = true) : Ct l g yX5_string hwX5_string 6 240 [.ref rd] c (4) (32) (pAe (fun s c' => c s = none ∧ ∃ (v : Nat) (f' : Nat → Int32), c' s = some (gWr, .inr (36, [.ref v, .int 0, .int 0, .int 0])) ∧ c' v = some (gT, gBytes n f') ∧ (∀ j, j < n → f' j = T (q + j)) ∧ ∀ (a r : Nat) (e : va_E), c a = some (r, e) → c' a = some (r, e))) := by
  refine Ct.intro hk hcX5_string (by decide +kernel) (Nat.le_of_ble_eq_true rfl) (fun φ h => ?_)
  have loop0 : ∀ (b v : Nat) (c1 : gLH), (∀ (a r : Nat) (e : va_E), c a = some (r, e) → c1 a = some (r, e)) → c b = none → c v = none → b ≠ v → ∀ k, k ≤ n → ∀ (c2 : gLH) (f2 : Nat → Int32), gSb c2 b v gWr gWr (.int 0) k f2 → (∀ j, j < k → f2 j = T (q + j)) → (∀ a, a ≠ b → a ≠ v → c2 a = c1 a) → G φ (gQ φ (pAe (fun s c' => c s = none ∧ ∃ (v : Nat) (f' : Nat → Int32), c' s = some (gWr, .inr (36, [.ref v, .int 0, .int 0, .int 0])) ∧ c' v = some (gT, gBytes n f') ∧ (∀ j, j < n → f' j = T (q + j)) ∧ ∀ (a r : Nat) (e : va_E), c a = some (r, e) → c' a = some (r, e))) 4 32) 13 [(0, .ref rd), (1, .ref b), (2, .int (nI (q + k)))] [] c2 2 20 := by
    intro b v c1 old hb hv hvb
    refine gloop ?_ ?_
    · intro c2 f2 hS hf h9
      refine g_iload_n (i := 2) h dX5_string_13 rfl rfl ?_
      refine g_aload_n (i := 0) h dX5_string_14 rfl rfl ?_
      refine g_get h f_X5_28_5 (show c2 rd = _ from (h9 rd (fun z => by rw [z, hb] at hc; cases hc) (fun z => by rw [z, hv] at hc; cases hc)).trans (old _ _ _ hc)) rfl dX5_string_15 ?_
      refine g_icmp_ge (tgt := 39) h dX5_string_18 (by decide) (fun b18 => ?_) (fun _bz => absurd _bz (fun z => z (nI_le (by omega) (by omega))))
      refine g_aload_n (i := 1) h dX5_string_39 rfl rfl ?_
      refine g_invV h (ct_toString h.k hS hs (by omega) (fun i hi => by rw [hf i hi, ← (small_pos (hsm i hi)).2.2.2.1]; exact (b_id (small_pos (hsm i hi)).2.2.1).2.1)) hcJ8_toString w_X5_96 rfl rfl hS.1 (Nat.le_of_ble_eq_true rfl) ⟨Nat.le_of_ble_eq_true rfl, Nat.le_of_ble_eq_true rfl⟩ (by refine ⟨?_, ?_⟩ <;> ((try dsimp only); omega)) dX5_string_40 (gkr_ae (fun s c3 hP => ?_)) gkt_ae
      obtain ⟨hs0, v2, hv2, k1, k2, k3⟩ := hP
      exact g_aret h ⟨s, rfl, by cases e : c s with | none => rfl | some y => (have z := old s y.1 y.2 e; rw [← h9 s (fun z => by rw [z, hS.1] at hs0; cases hs0) (fun z => by rw [z, hS.2] at hs0; cases hs0), hs0] at z; cases z), v2, _, k1, k2, fun j hj => (cpy_0 _ hj).trans (hf j hj), fun a r e ha => by rw [k3 a (fun z => by have w := h9 a (fun y => by rw [y, hb] at ha; cases ha) (fun y => by rw [y, hv] at ha; cases ha); rw [old a r e ha, z, hs0] at w; cases w) (fun z => by have w := h9 a (fun y => by rw [y, hb] at ha; cases ha) (fun y => by rw [y, hv] at ha; cases ha); rw [old a r e ha, z, hv2] at w; cases w), h9 a (fun y => by rw [y, hb] at ha; cases ha) (fun y => by rw [y, hv] at ha; cases ha)]; exact old a r e ha⟩ (by (try dsimp only); omega) (by (try dsimp only); omega) (Or.inl ⟨_, rfl⟩) dX5_string_43
    · intro k hk1 ih c2 f2 hS hf h9
      refine g_iload_n (i := 2) h dX5_string_13 rfl rfl ?_
      refine g_aload_n (i := 0) h dX5_string_14 rfl rfl ?_
      refine g_get h f_X5_28_5 (show c2 rd = _ from (h9 rd (fun z => by rw [z, hb] at hc; cases hc) (fun z => by rw [z, hv] at hc; cases hc)).trans (old _ _ _ hc)) rfl dX5_string_15 ?_
      refine g_icmp_ge (tgt := 39) h dX5_string_18 (by decide) (fun _bz => absurd _bz (nI_ge (by omega) (by omega))) (fun b18 => ?_)
      refine g_aload_n (i := 1) h dX5_string_21 rfl rfl ?_
      refine g_aload_n (i := 0) h dX5_string_22 rfl rfl ?_
      refine g_get h f_X5_17_5 (show c2 rd = _ from (h9 rd (fun z => by rw [z, hb] at hc; cases hc) (fun z => by rw [z, hv] at hc; cases hc)).trans (old _ _ _ hc)) rfl dX5_string_23 ?_
      refine g_iload_n (i := 2) h dX5_string_26 rfl rfl ?_
      refine g_baldN h (show c2 tx = _ from (h9 tx (fun z => by rw [z, hb] at hT; cases hT) (fun z => by rw [z, hv] at hT; cases hT)).trans (old _ _ _ hT)) (show q + k < 2000 by omega) (by decide) dX5_string_27 ?_
      refine g_i2c h dX5_string_28 ?_
      refine G.int (show _ = nI (ix (T (q + k))) by rw [hft k hk1]; exact c_sm (hsm k hk1)) ?_
      refine g_invV h (ct_sbAppend h.k hS hs gWr_lt gWr_lt hvb (by omega) (small_pos (hsm k hk1)).2.2.1) hcJ8_append_3 w_X5_92 rfl rfl hS.1 (Nat.le_of_ble_eq_true rfl) ⟨Nat.le_of_ble_eq_true rfl, Nat.le_of_ble_eq_true rfl⟩ (by refine ⟨?_, ?_⟩ <;> ((try dsimp only); omega)) dX5_string_29 (gkr_a (fun c3 hP => ?_)) gkt_a
      refine g_pop h dX5_string_32 rfl ?_
      refine g_iincN h dX5_string_33 rfl (by decide) ?_
      refine g_goto (tgt := 13) h dX5_string_36 (by decide) ?_
      exact G.to (ih c3 _ hP.1 (fun j hj => by unfold upd; split; rename_i z; rw [z]; exact (small_pos (hsm k hk1)).2.2.2.1; exact hf j (by omega)) (fun a z1 z2 => by rw [hP.2 a z1 z2]; exact h9 a z1 z2)) ⟨rfl, rfl, rfl, trivial⟩
  refine g_new h gWr n_X5_89 (by (try dsimp only); omega) (by (try dsimp only); omega) dX5_string_0 (fun b hb => ?_)
  refine g_dup h dX5_string_3 rfl ?_
  refine g_invI h (ct_sbInit h.k gWr hs gWr_lt (va_up_s _ _ _)) w_X5_91 rfl rfl (Nat.le_of_ble_eq_true rfl) ⟨Nat.le_of_ble_eq_true rfl, Nat.le_of_ble_eq_true rfl⟩ (by refine ⟨?_, ?_⟩ <;> ((try dsimp only); omega)) dX5_string_4 (gkr_v (fun c1 hP => ?_)) gkt_v
  obtain ⟨v, hv, h1, h2, h3⟩ := hP
  have hvb : b ≠ v := fun e => by rw [← e, va_up_s] at hv; cases hv
  rw [va_up_n _ _ (Ne.symm hvb)] at hv
  have old : ∀ (a r : Nat) (e : va_E), c a = some (r, e) → c1 a = some (r, e) := fun a r e ha => by rw [h3 a (fun z => by rw [z, hb] at ha; cases ha) (fun z => by rw [z, hv] at ha; cases ha), va_up_n _ _ (fun z => by rw [z, hb] at ha; cases ha)]; exact ha
  have hc1 := old _ _ _ hc
  have loop := loop0 b v c1 old hb hv hvb
  refine g_astore_n (i := 1) h dX5_string_7 rfl (by decide) ?_
  refine g_aload_n (i := 0) h dX5_string_8 rfl rfl ?_
  refine g_get h f_X5_31_5 hc1 rfl dX5_string_9 ?_
  refine g_istore_n (i := 2) h dX5_string_12 rfl (by decide) ?_
  exact G.to (loop 0 (Nat.zero_le _) c1 (fun _ => 0) ⟨h1, h2⟩ (fun j hj => absurd hj (by omega)) (fun a _ _ => rfl)) ⟨rfl, rfl, rfl, trivial⟩
