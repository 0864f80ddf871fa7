/-! THE MODEL: string constants; relation, kind -/
set_option maxRecDepth 100000
/-- string constants of a class: where they stand, their letters -/
def gLits (own : String) (L : List (Nat × String × List Nat)) (g : gGP) (c0 : gLH) : Prop := ∀ (i : Nat) (x : Nat × String × List Nat), L[i]? = some x → ∃ q, vk_R own x.1 x.2.1 q g.1 ∧ gStr c0 q x.2.2
def xLits : List (Nat × String × List Nat) := [(214, "or", w_or), (226, "and", w_and), (231, "not", w_not), (243, "mail", w_mail), (245, "army", w_army), (247, "church", w_church), (249, "farm", w_farm), (251, "back", w_back), (253, "wheels", w_wheels), (258, "beasts", w_beasts), (259, "gate", w_gate), (261, "day", w_day), (263, "kind", w_kind), (275, "coach", w_coach), (277, "cart", w_cart), (279, "wagon", w_wagon), (281, "horse", w_horse), (283, "cattle", w_cattle), (285, "sheep", w_sheep), (287, "foot", w_foot), (292, "free", w_free), (294, "toll", w_toll), (296, "times", w_times), (298, "once", w_once), (300, "each", w_each), (302, "score", w_score), (304, "all", w_all), (306, "if", w_if)]
theorem pSign_B {T : Nat → Int32} {sz p : Nat} {r : Nat × Int32 × Nat × List (Int32 × Int32)} {x : Int32} : pSign T sz (pB T sz p, r) x = pSign T sz (p, r) x := by
  unfold pSign; rw [pB_idem]
theorem pNum_cs {T : Nat → Int32} {sz : Nat} (s : pSt) (b : Bool) : (pNum T sz s b).2.2.2.2 = s.2.2.2 := by
  unfold pNum pWrong
  repeat' split
  all_goals first | rfl | simp
theorem pNeed_cs {T : Nat → Int32} {sz : Nat} (s : pSt) (x : Int32) : (pNeed T sz s x).2.2.2 = s.2.2.2 := by
  unfold pNeed pWrong
  repeat' split
  all_goals first | rfl | simp
theorem pEat_cs {T : Nat → Int32} {sz : Nat} (s : pSt) (W : List Nat) : (pEat T sz s W).2.2.2.2 = s.2.2.2 := by
  unfold pEat
  repeat' split
  all_goals rfl
theorem pEmit_len (s : pSt) (k v : Int32) : (pEmit s k v).2.2.2.2.length = s.2.2.2.2.length + 1 := by simp [pEmit]
theorem ct_relation {l : Launch} {g : gGP} (hk : gK l g) {c0 c : gLH} {mo : Nat} {ma : Nat → Nat} {cl ll : Nat} {A : Nat → Nat → Int32} {B : Nat → Nat → Int64} {n sz p : Nat} {q : Int32} {o : Nat} {cs : List (Int32 × Int32)} (hF : pFix A n sz cl) (hM : MW c0 mo ma (pE cl n cs.length) ll (rA A n (p, 0, q, o, cs)) B c) (hp : p ≤ sz) (hcs : cs.length ≤ p) (what : Nat) (mc ms : Nat) (hcost : pE cl n (pRel (pT A) sz (p, 0, q, o, cs) what).2.2.2.2.length ≤ pE cl n cs.length + mc ∧ 4 * pE cl n (pRel (pT A) sz (p, 0, q, o, cs) what).2.2.2.2.length ≤ 4 * pE cl n cs.length + ms) : Ct l g yX4_relation hwX4_relation 3 120 [.ref mo, .int (nI what)] c (mc) (ms) (pV (fun c' => ∃ ma', MW c0 mo ma' (pE cl n (pRel (pT A) sz (p, 0, q, o, cs) what).2.2.2.2.length) ll (rA A n (pRel (pT A) sz (p, 0, q, o, cs) what)) B c')) := by
  refine Ct.intro hk hcX4_relation (by decide +kernel) (Nat.le_of_ble_eq_true rfl) (fun φ h => ?_)
  have hpb := pB_le (pT A) hp
  have hz := hF.2.1
  cases h61 : pSign (pT A) sz (p, 0, q, o, cs) 61
  case true =>
    have hsp : pRel (pT A) sz (p, 0, q, o, cs) what = pRelN (pT A) sz (p, 0, q, o, cs) what 0 := by unfold pRel; simp [h61]
    have hlt : pB (pT A) sz p < sz := by have h2 := h61; simp only [pSign, Bool.and_eq_true, decide_eq_true_eq] at h2; exact h2.2
    rw [hsp] at hcost ⊢
    unfold pRelN at hcost ⊢
    rw [pEmit_len] at hcost ⊢
    rw [show (pNum (pT A) sz (pB (pT A) sz (p, 0, q, o, cs).1 + 1, (p, 0, q, o, cs).2) false).2.2.2.2.2 = cs from congrArg Prod.snd (pNum_cs _ _)] at hcost
    refine g_aload_n (i := 0) h dX4_relation_0 rfl rfl ?_
    refine g_bipush (v := 61) h dX4_relation_1 (by decide) ?_
    refine g_invV h (ct_isSign h.k hM hF.1 hF.2.1 (by omega) (by omega) _) hcX4_isSign w_X4_186 rfl rfl hM.obj (Nat.le_of_ble_eq_true rfl) ⟨Nat.le_of_ble_eq_true rfl, Nat.le_of_ble_eq_true rfl⟩ (by refine ⟨?_, ?_⟩ <;> first | exact Nat.le_refl _ | exact Nat.zero_le _ | (dsimp only; omega)) dX4_relation_3 (gkr_i (fun c hM => ?_)) gkt_i
    refine g_if_eq (tgt := 13) h dX4_relation_6 (by decide) (fun _bz => absurd _bz (by rw [h61]; decide)) (fun b6 => ?_)
    refine g_iconst (v := nI 0) h dX4_relation_9 (by decide) ?_
    refine g_goto (tgt := 40) h dX4_relation_10 (by decide) ?_
    refine g_istore_n (i := 2) h dX4_relation_40 rfl (by decide) ?_
    refine g_iload_n (i := 2) h dX4_relation_41 rfl rfl ?_
    refine g_if_ge (tgt := 56) h dX4_relation_42 (by decide) (fun _bz => ?_) (fun _bz => absurd _bz (by decide))
    refine g_aload_n (i := 0) h dX4_relation_56 rfl rfl ?_
    refine g_dup h dX4_relation_57 rfl ?_
    refine m_get (v := .int (nI (pB (pT A) sz p))) h hM f_X4_155_4 rfl dX4_relation_58 ?_
    refine g_iconst (v := nI 1) h dX4_relation_61 (by decide) ?_
    first | (with_reducible refine g_iaddN h dX4_relation_62 ?_) | refine g_iadd h dX4_relation_62 ?_
    refine m_puti h hM mp_4 fp_X4_155_4 dX4_relation_63 (fun c hM => ?_)
    rw [rA_4] at hM
    refine g_aload_n (i := 0) h dX4_relation_66 rfl rfl ?_
    refine g_iload_n (i := 1) h dX4_relation_67 rfl rfl ?_
    refine g_iload_n (i := 2) h dX4_relation_68 rfl rfl ?_
    first | (with_reducible refine g_iaddN h dX4_relation_69 ?_) | refine g_iadd h dX4_relation_69 ?_
    refine g_aload_n (i := 0) h dX4_relation_70 rfl rfl ?_
    refine g_iconst (v := 0) h dX4_relation_71 (by decide) ?_
    refine g_invV h (ct_number h.k hM hF.1 hF.2.1 (by omega) (by omega) false) hcX4_number w_X4_267 rfl rfl hM.obj (Nat.le_of_ble_eq_true rfl) ⟨Nat.le_of_ble_eq_true rfl, Nat.le_of_ble_eq_true rfl⟩ (by refine ⟨?_, ?_⟩ <;> first | exact Nat.le_refl _ | exact Nat.zero_le _ | (dsimp only; omega)) dX4_relation_72 (gkr_i (fun c hM => ?_)) gkt_i
    have ecs := pNum_cs (T := pT A) (sz := sz) (pB (pT A) sz p + 1, 0, q, o, cs) false
    replace ecs : (pNum (pT A) sz (pB (pT A) sz p + 1, 0, q, o, cs) false).2.2.2.2.2 = cs := congrArg Prod.snd ecs
    replace hM : MW c0 mo ma (pE cl n (pNum (pT A) sz (pB (pT A) sz p + 1, 0, q, o, cs) false).2.2.2.2.2.length) ll (rA A n (pNum (pT A) sz (pB (pT A) sz p + 1, 0, q, o, cs) false).2) B c := by rw [ecs]; exact hM
    refine g_invV h (ct_emitR h.k hF hM (by rw [ecs]; omega) _ _) hcX4_emits w_X4_219 rfl rfl hM.obj (Nat.le_of_ble_eq_true rfl) ⟨Nat.le_of_ble_eq_true rfl, Nat.le_of_ble_eq_true rfl⟩ (by rw [ecs]; refine ⟨?_, ?_⟩ <;> (dsimp only; omega)) dX4_relation_75 (gkr_v (fun c hM => ?_)) gkt_v
    obtain ⟨ma', hM⟩ := hM
    exact g_vret h ⟨rfl, _, hM⟩ (by rw [ecs]; omega) (by rw [ecs]; omega) dX4_relation_78
  cases h60 : pSign (pT A) sz (p, 0, q, o, cs) 60
  case true =>
    have hsp : pRel (pT A) sz (p, 0, q, o, cs) what = pRelN (pT A) sz (p, 0, q, o, cs) what 1 := by unfold pRel; simp [h61, h60]
    have hlt : pB (pT A) sz p < sz := by have h2 := h60; simp only [pSign, Bool.and_eq_true, decide_eq_true_eq] at h2; exact h2.2
    rw [hsp] at hcost ⊢
    unfold pRelN at hcost ⊢
    rw [pEmit_len] at hcost ⊢
    rw [show (pNum (pT A) sz (pB (pT A) sz (p, 0, q, o, cs).1 + 1, (p, 0, q, o, cs).2) false).2.2.2.2.2 = cs from congrArg Prod.snd (pNum_cs _ _)] at hcost
    refine g_aload_n (i := 0) h dX4_relation_0 rfl rfl ?_
    refine g_bipush (v := 61) h dX4_relation_1 (by decide) ?_
    refine g_invV h (ct_isSign h.k hM hF.1 hF.2.1 (by omega) (by omega) _) hcX4_isSign w_X4_186 rfl rfl hM.obj (Nat.le_of_ble_eq_true rfl) ⟨Nat.le_of_ble_eq_true rfl, Nat.le_of_ble_eq_true rfl⟩ (by refine ⟨?_, ?_⟩ <;> first | exact Nat.le_refl _ | exact Nat.zero_le _ | (dsimp only; omega)) dX4_relation_3 (gkr_i (fun c hM => ?_)) gkt_i
    refine g_if_eq (tgt := 13) h dX4_relation_6 (by decide) (fun b6 => ?_) (fun _bz => absurd _bz (by rw [h61]; decide))
    refine g_aload_n (i := 0) h dX4_relation_13 rfl rfl ?_
    refine g_bipush (v := 60) h dX4_relation_14 (by decide) ?_
    refine g_invV h (ct_isSign h.k hM hF.1 hF.2.1 (by omega) (by omega) _) hcX4_isSign w_X4_186 rfl rfl hM.obj (Nat.le_of_ble_eq_true rfl) ⟨Nat.le_of_ble_eq_true rfl, Nat.le_of_ble_eq_true rfl⟩ (by refine ⟨?_, ?_⟩ <;> first | exact Nat.le_refl _ | exact Nat.zero_le _ | (dsimp only; omega)) dX4_relation_16 (gkr_i (fun c hM => ?_)) gkt_i
    rw [pB_idem] at hM
    refine G.int (congrArg zB pSign_B) ?_
    refine g_if_eq (tgt := 26) h dX4_relation_19 (by decide) (fun _bz => absurd _bz (by rw [h60]; decide)) (fun b19 => ?_)
    refine g_iconst (v := nI 1) h dX4_relation_22 (by decide) ?_
    refine g_goto (tgt := 40) h dX4_relation_23 (by decide) ?_
    refine g_istore_n (i := 2) h dX4_relation_40 rfl (by decide) ?_
    refine g_iload_n (i := 2) h dX4_relation_41 rfl rfl ?_
    refine g_if_ge (tgt := 56) h dX4_relation_42 (by decide) (fun _bz => ?_) (fun _bz => absurd _bz (by decide))
    refine g_aload_n (i := 0) h dX4_relation_56 rfl rfl ?_
    refine g_dup h dX4_relation_57 rfl ?_
    refine m_get (v := .int (nI (pB (pT A) sz p))) h hM f_X4_155_4 rfl dX4_relation_58 ?_
    refine g_iconst (v := nI 1) h dX4_relation_61 (by decide) ?_
    first | (with_reducible refine g_iaddN h dX4_relation_62 ?_) | refine g_iadd h dX4_relation_62 ?_
    refine m_puti h hM mp_4 fp_X4_155_4 dX4_relation_63 (fun c hM => ?_)
    rw [rA_4] at hM
    refine g_aload_n (i := 0) h dX4_relation_66 rfl rfl ?_
    refine g_iload_n (i := 1) h dX4_relation_67 rfl rfl ?_
    refine g_iload_n (i := 2) h dX4_relation_68 rfl rfl ?_
    first | (with_reducible refine g_iaddN h dX4_relation_69 ?_) | refine g_iadd h dX4_relation_69 ?_
    refine g_aload_n (i := 0) h dX4_relation_70 rfl rfl ?_
    refine g_iconst (v := 0) h dX4_relation_71 (by decide) ?_
    refine g_invV h (ct_number h.k hM hF.1 hF.2.1 (by omega) (by omega) false) hcX4_number w_X4_267 rfl rfl hM.obj (Nat.le_of_ble_eq_true rfl) ⟨Nat.le_of_ble_eq_true rfl, Nat.le_of_ble_eq_true rfl⟩ (by refine ⟨?_, ?_⟩ <;> first | exact Nat.le_refl _ | exact Nat.zero_le _ | (dsimp only; omega)) dX4_relation_72 (gkr_i (fun c hM => ?_)) gkt_i
    have ecs := pNum_cs (T := pT A) (sz := sz) (pB (pT A) sz p + 1, 0, q, o, cs) false
    replace ecs : (pNum (pT A) sz (pB (pT A) sz p + 1, 0, q, o, cs) false).2.2.2.2.2 = cs := congrArg Prod.snd ecs
    replace hM : MW c0 mo ma (pE cl n (pNum (pT A) sz (pB (pT A) sz p + 1, 0, q, o, cs) false).2.2.2.2.2.length) ll (rA A n (pNum (pT A) sz (pB (pT A) sz p + 1, 0, q, o, cs) false).2) B c := by rw [ecs]; exact hM
    refine g_invV h (ct_emitR h.k hF hM (by rw [ecs]; omega) _ _) hcX4_emits w_X4_219 rfl rfl hM.obj (Nat.le_of_ble_eq_true rfl) ⟨Nat.le_of_ble_eq_true rfl, Nat.le_of_ble_eq_true rfl⟩ (by rw [ecs]; refine ⟨?_, ?_⟩ <;> (dsimp only; omega)) dX4_relation_75 (gkr_v (fun c hM => ?_)) gkt_v
    obtain ⟨ma', hM⟩ := hM
    exact g_vret h ⟨rfl, _, hM⟩ (by rw [ecs]; omega) (by rw [ecs]; omega) dX4_relation_78
  cases h62 : pSign (pT A) sz (p, 0, q, o, cs) 62
  case true =>
    have hsp : pRel (pT A) sz (p, 0, q, o, cs) what = pRelN (pT A) sz (p, 0, q, o, cs) what 2 := by unfold pRel; simp [h61, h60, h62]
    have hlt : pB (pT A) sz p < sz := by have h2 := h62; simp only [pSign, Bool.and_eq_true, decide_eq_true_eq] at h2; exact h2.2
    rw [hsp] at hcost ⊢
    unfold pRelN at hcost ⊢
    rw [pEmit_len] at hcost ⊢
    rw [show (pNum (pT A) sz (pB (pT A) sz (p, 0, q, o, cs).1 + 1, (p, 0, q, o, cs).2) false).2.2.2.2.2 = cs from congrArg Prod.snd (pNum_cs _ _)] at hcost
    refine g_aload_n (i := 0) h dX4_relation_0 rfl rfl ?_
    refine g_bipush (v := 61) h dX4_relation_1 (by decide) ?_
    refine g_invV h (ct_isSign h.k hM hF.1 hF.2.1 (by omega) (by omega) _) hcX4_isSign w_X4_186 rfl rfl hM.obj (Nat.le_of_ble_eq_true rfl) ⟨Nat.le_of_ble_eq_true rfl, Nat.le_of_ble_eq_true rfl⟩ (by refine ⟨?_, ?_⟩ <;> first | exact Nat.le_refl _ | exact Nat.zero_le _ | (dsimp only; omega)) dX4_relation_3 (gkr_i (fun c hM => ?_)) gkt_i
    refine g_if_eq (tgt := 13) h dX4_relation_6 (by decide) (fun b6 => ?_) (fun _bz => absurd _bz (by rw [h61]; decide))
    refine g_aload_n (i := 0) h dX4_relation_13 rfl rfl ?_
    refine g_bipush (v := 60) h dX4_relation_14 (by decide) ?_
    refine g_invV h (ct_isSign h.k hM hF.1 hF.2.1 (by omega) (by omega) _) hcX4_isSign w_X4_186 rfl rfl hM.obj (Nat.le_of_ble_eq_true rfl) ⟨Nat.le_of_ble_eq_true rfl, Nat.le_of_ble_eq_true rfl⟩ (by refine ⟨?_, ?_⟩ <;> first | exact Nat.le_refl _ | exact Nat.zero_le _ | (dsimp only; omega)) dX4_relation_16 (gkr_i (fun c hM => ?_)) gkt_i
    rw [pB_idem] at hM
    refine G.int (congrArg zB pSign_B) ?_
    refine g_if_eq (tgt := 26) h dX4_relation_19 (by decide) (fun b19 => ?_) (fun _bz => absurd _bz (by rw [h60]; decide))
    refine g_aload_n (i := 0) h dX4_relation_26 rfl rfl ?_
    refine g_bipush (v := 62) h dX4_relation_27 (by decide) ?_
    refine g_invV h (ct_isSign h.k hM hF.1 hF.2.1 (by omega) (by omega) _) hcX4_isSign w_X4_186 rfl rfl hM.obj (Nat.le_of_ble_eq_true rfl) ⟨Nat.le_of_ble_eq_true rfl, Nat.le_of_ble_eq_true rfl⟩ (by refine ⟨?_, ?_⟩ <;> first | exact Nat.le_refl _ | exact Nat.zero_le _ | (dsimp only; omega)) dX4_relation_29 (gkr_i (fun c hM => ?_)) gkt_i
    rw [pB_idem] at hM
    refine G.int (congrArg zB pSign_B) ?_
    refine g_if_eq (tgt := 39) h dX4_relation_32 (by decide) (fun _bz => absurd _bz (by rw [h62]; decide)) (fun b32 => ?_)
    refine g_iconst (v := nI 2) h dX4_relation_35 (by decide) ?_
    refine g_goto (tgt := 40) h dX4_relation_36 (by decide) ?_
    refine g_istore_n (i := 2) h dX4_relation_40 rfl (by decide) ?_
    refine g_iload_n (i := 2) h dX4_relation_41 rfl rfl ?_
    refine g_if_ge (tgt := 56) h dX4_relation_42 (by decide) (fun _bz => ?_) (fun _bz => absurd _bz (by decide))
    refine g_aload_n (i := 0) h dX4_relation_56 rfl rfl ?_
    refine g_dup h dX4_relation_57 rfl ?_
    refine m_get (v := .int (nI (pB (pT A) sz p))) h hM f_X4_155_4 rfl dX4_relation_58 ?_
    refine g_iconst (v := nI 1) h dX4_relation_61 (by decide) ?_
    first | (with_reducible refine g_iaddN h dX4_relation_62 ?_) | refine g_iadd h dX4_relation_62 ?_
    refine m_puti h hM mp_4 fp_X4_155_4 dX4_relation_63 (fun c hM => ?_)
    rw [rA_4] at hM
    refine g_aload_n (i := 0) h dX4_relation_66 rfl rfl ?_
    refine g_iload_n (i := 1) h dX4_relation_67 rfl rfl ?_
    refine g_iload_n (i := 2) h dX4_relation_68 rfl rfl ?_
    first | (with_reducible refine g_iaddN h dX4_relation_69 ?_) | refine g_iadd h dX4_relation_69 ?_
    refine g_aload_n (i := 0) h dX4_relation_70 rfl rfl ?_
    refine g_iconst (v := 0) h dX4_relation_71 (by decide) ?_
    refine g_invV h (ct_number h.k hM hF.1 hF.2.1 (by omega) (by omega) false) hcX4_number w_X4_267 rfl rfl hM.obj (Nat.le_of_ble_eq_true rfl) ⟨Nat.le_of_ble_eq_true rfl, Nat.le_of_ble_eq_true rfl⟩ (by refine ⟨?_, ?_⟩ <;> first | exact Nat.le_refl _ | exact Nat.zero_le _ | (dsimp only; omega)) dX4_relation_72 (gkr_i (fun c hM => ?_)) gkt_i
    have ecs := pNum_cs (T := pT A) (sz := sz) (pB (pT A) sz p + 1, 0, q, o, cs) false
    replace ecs : (pNum (pT A) sz (pB (pT A) sz p + 1, 0, q, o, cs) false).2.2.2.2.2 = cs := congrArg Prod.snd ecs
    replace hM : MW c0 mo ma (pE cl n (pNum (pT A) sz (pB (pT A) sz p + 1, 0, q, o, cs) false).2.2.2.2.2.length) ll (rA A n (pNum (pT A) sz (pB (pT A) sz p + 1, 0, q, o, cs) false).2) B c := by rw [ecs]; exact hM
    refine g_invV h (ct_emitR h.k hF hM (by rw [ecs]; omega) _ _) hcX4_emits w_X4_219 rfl rfl hM.obj (Nat.le_of_ble_eq_true rfl) ⟨Nat.le_of_ble_eq_true rfl, Nat.le_of_ble_eq_true rfl⟩ (by rw [ecs]; refine ⟨?_, ?_⟩ <;> (dsimp only; omega)) dX4_relation_75 (gkr_v (fun c hM => ?_)) gkt_v
    obtain ⟨ma', hM⟩ := hM
    exact g_vret h ⟨rfl, _, hM⟩ (by rw [ecs]; omega) (by rw [ecs]; omega) dX4_relation_78
  have hsp : pRel (pT A) sz (p, 0, q, o, cs) what = pWrong ((pB (pT A) sz p), 0, q, o, cs) 1 (pB (pT A) sz p) := by unfold pRel; simp [h61, h60, h62]
  rw [hsp]
  have ew : (pWrong ((pB (pT A) sz p), 0, q, o, cs) 1 (pB (pT A) sz p)).2.2.2.2 = cs := by unfold pWrong; split <;> rfl
  refine g_aload_n (i := 0) h dX4_relation_0 rfl rfl ?_
  refine g_bipush (v := 61) h dX4_relation_1 (by decide) ?_
  refine g_invV h (ct_isSign h.k hM hF.1 hF.2.1 (by omega) (by omega) _) hcX4_isSign w_X4_186 rfl rfl hM.obj (Nat.le_of_ble_eq_true rfl) ⟨Nat.le_of_ble_eq_true rfl, Nat.le_of_ble_eq_true rfl⟩ (by refine ⟨?_, ?_⟩ <;> first | exact Nat.le_refl _ | exact Nat.zero_le _ | (dsimp only; omega)) dX4_relation_3 (gkr_i (fun c hM => ?_)) gkt_i
  refine g_if_eq (tgt := 13) h dX4_relation_6 (by decide) (fun b6 => ?_) (fun _bz => absurd _bz (by rw [h61]; decide))
  refine g_aload_n (i := 0) h dX4_relation_13 rfl rfl ?_
  refine g_bipush (v := 60) h dX4_relation_14 (by decide) ?_
  refine g_invV h (ct_isSign h.k hM hF.1 hF.2.1 (by omega) (by omega) _) hcX4_isSign w_X4_186 rfl rfl hM.obj (Nat.le_of_ble_eq_true rfl) ⟨Nat.le_of_ble_eq_true rfl, Nat.le_of_ble_eq_true rfl⟩ (by refine ⟨?_, ?_⟩ <;> first | exact Nat.le_refl _ | exact Nat.zero_le _ | (dsimp only; omega)) dX4_relation_16 (gkr_i (fun c hM => ?_)) gkt_i
  rw [pB_idem] at hM
  refine G.int (congrArg zB pSign_B) ?_
  refine g_if_eq (tgt := 26) h dX4_relation_19 (by decide) (fun b19 => ?_) (fun _bz => absurd _bz (by rw [h60]; decide))
  refine g_aload_n (i := 0) h dX4_relation_26 rfl rfl ?_
  refine g_bipush (v := 62) h dX4_relation_27 (by decide) ?_
  refine g_invV h (ct_isSign h.k hM hF.1 hF.2.1 (by omega) (by omega) _) hcX4_isSign w_X4_186 rfl rfl hM.obj (Nat.le_of_ble_eq_true rfl) ⟨Nat.le_of_ble_eq_true rfl, Nat.le_of_ble_eq_true rfl⟩ (by refine ⟨?_, ?_⟩ <;> first | exact Nat.le_refl _ | exact Nat.zero_le _ | (dsimp only; omega)) dX4_relation_29 (gkr_i (fun c hM => ?_)) gkt_i
  rw [pB_idem] at hM
  refine G.int (congrArg zB pSign_B) ?_
  refine g_if_eq (tgt := 39) h dX4_relation_32 (by decide) (fun b32 => ?_) (fun _bz => absurd _bz (by rw [h62]; decide))
  refine g_iconst (v := (-1)) h dX4_relation_39 (by decide) ?_
  refine g_istore_n (i := 2) h dX4_relation_40 rfl (by decide) ?_
  refine g_iload_n (i := 2) h dX4_relation_41 rfl rfl ?_
  refine g_if_ge (tgt := 56) h dX4_relation_42 (by decide) (fun _bz => absurd _bz (by decide)) (fun _bz => ?_)
  refine g_aload_n (i := 0) h dX4_relation_45 rfl rfl ?_
  refine g_iconst (v := nI 1) h dX4_relation_46 (by decide) ?_
  refine g_aload_n (i := 0) h dX4_relation_47 rfl rfl ?_
  refine m_get (v := .int (nI (pB (pT A) sz p))) h hM f_X4_155_4 rfl dX4_relation_48 ?_
  refine g_invV h (ct_wrong h.k hM 1 (nI (pB (pT A) sz p))) hcX4_wrong w_X4_189 rfl rfl hM.obj (Nat.le_of_ble_eq_true rfl) ⟨Nat.le_of_ble_eq_true rfl, Nat.le_of_ble_eq_true rfl⟩ (by refine ⟨?_, ?_⟩ <;> first | exact Nat.le_refl _ | exact Nat.zero_le _ | (dsimp only; omega)) dX4_relation_51 (gkr_i (fun c hM => ?_)) gkt_i
  replace hM := rA_wrong (s := ((pB (pT A) sz p), 0, q, o, cs)) (show 0 < 4 by decide) 1 (pB (pT A) sz p) ▸ hM
  refine g_pop h dX4_relation_54 rfl ?_
  exact g_vret h ⟨rfl, _, by rw [ew]; exact hM⟩ (Nat.zero_le _) (Nat.zero_le _) dX4_relation_55
theorem ct_kindName {l : Launch} {g : gGP} (hk : gK l g) {c0 c : gLH} (hx : gLits RX4 xLits g c0) {k : Nat} (hk7 : k < 7) : Ct l g yX4_kindName hwX4_kindName 0 0 [.int (nI k)] c (0) (0) (pAe (fun a c' => gStr c0 a (kindW k) ∧ c' = c)) := by
  refine Ct.intro hk hcX4_kindName (by decide +kernel) (Nat.le_of_ble_eq_true rfl) (fun φ h => ?_)
  rcases (show k = 0 ∨ k = 1 ∨ k = 2 ∨ k = 3 ∨ k = 4 ∨ k = 5 ∨ k = 6 by omega) with rfl | rfl | rfl | rfl | rfl | rfl | rfl
  · obtain ⟨a, hZ, hS⟩ := hx 13 _ rfl
    refine g_iload_n (i := 0) h dX4_kindName_0 rfl rfl ?_
    refine g_tableIn (off := 39) (tgt := 40) h dX4_kindName_1 (by decide) (by decide) (by decide) (by decide) ?_
    refine g_ldcwS h hZ dX4_kindName_40 ?_
    exact g_aret h ⟨_, rfl, hS, rfl⟩ (Nat.le_refl _) (Nat.le_refl _) (Or.inl ⟨_, rfl⟩) dX4_kindName_43
  · obtain ⟨a, hZ, hS⟩ := hx 14 _ rfl
    refine g_iload_n (i := 0) h dX4_kindName_0 rfl rfl ?_
    refine g_tableIn (off := 43) (tgt := 44) h dX4_kindName_1 (by decide) (by decide) (by decide) (by decide) ?_
    refine g_ldcwS h hZ dX4_kindName_44 ?_
    exact g_aret h ⟨_, rfl, hS, rfl⟩ (Nat.le_refl _) (Nat.le_refl _) (Or.inl ⟨_, rfl⟩) dX4_kindName_47
  · obtain ⟨a, hZ, hS⟩ := hx 15 _ rfl
    refine g_iload_n (i := 0) h dX4_kindName_0 rfl rfl ?_
    refine g_tableIn (off := 47) (tgt := 48) h dX4_kindName_1 (by decide) (by decide) (by decide) (by decide) ?_
    refine g_ldcwS h hZ dX4_kindName_48 ?_
    exact g_aret h ⟨_, rfl, hS, rfl⟩ (Nat.le_refl _) (Nat.le_refl _) (Or.inl ⟨_, rfl⟩) dX4_kindName_51
  · obtain ⟨a, hZ, hS⟩ := hx 16 _ rfl
    refine g_iload_n (i := 0) h dX4_kindName_0 rfl rfl ?_
    refine g_tableIn (off := 51) (tgt := 52) h dX4_kindName_1 (by decide) (by decide) (by decide) (by decide) ?_
    refine g_ldcwS h hZ dX4_kindName_52 ?_
    exact g_aret h ⟨_, rfl, hS, rfl⟩ (Nat.le_refl _) (Nat.le_refl _) (Or.inl ⟨_, rfl⟩) dX4_kindName_55
  · obtain ⟨a, hZ, hS⟩ := hx 17 _ rfl
    refine g_iload_n (i := 0) h dX4_kindName_0 rfl rfl ?_
    refine g_tableIn (off := 55) (tgt := 56) h dX4_kindName_1 (by decide) (by decide) (by decide) (by decide) ?_
    refine g_ldcwS h hZ dX4_kindName_56 ?_
    exact g_aret h ⟨_, rfl, hS, rfl⟩ (Nat.le_refl _) (Nat.le_refl _) (Or.inl ⟨_, rfl⟩) dX4_kindName_59
  · obtain ⟨a, hZ, hS⟩ := hx 18 _ rfl
    refine g_iload_n (i := 0) h dX4_kindName_0 rfl rfl ?_
    refine g_tableIn (off := 59) (tgt := 60) h dX4_kindName_1 (by decide) (by decide) (by decide) (by decide) ?_
    refine g_ldcwS h hZ dX4_kindName_60 ?_
    exact g_aret h ⟨_, rfl, hS, rfl⟩ (Nat.le_refl _) (Nat.le_refl _) (Or.inl ⟨_, rfl⟩) dX4_kindName_63
  · obtain ⟨a, hZ, hS⟩ := hx 19 _ rfl
    refine g_iload_n (i := 0) h dX4_kindName_0 rfl rfl ?_
    refine g_tableOut (tgt := 64) h dX4_kindName_1 (Or.inr (by decide)) (by decide) ?_
    refine g_ldcwS h hZ dX4_kindName_64 ?_
    exact g_aret h ⟨_, rfl, hS, rfl⟩ (Nat.le_refl _) (Nat.le_refl _) (Or.inl ⟨_, rfl⟩) dX4_kindName_67
theorem ct_kind {l : Launch} {g : gGP} (hk : gK l g) {c0 c : gLH} {mo : Nat} {ma : Nat → Nat} {cl ll : Nat} {A : Nat → Nat → Int32} {B : Nat → Nat → Int64} {n sz p : Nat} {q : Int32} {o : Nat} {cs : List (Int32 × Int32)} (hF : pFix A n sz cl) (hM : MW c0 mo ma (pE cl n cs.length) ll (rA A n (p, 0, q, o, cs)) B c) (hp : p ≤ sz) (hcs : cs.length ≤ p) (hs : gSS g) (hx : gLits RX4 xLits g c0) (mc ms : Nat) (hcost : pE cl n (pKind (pT A) sz (p, 0, q, o, cs)).2.2.2.2.length ≤ pE cl n cs.length + mc ∧ 4 * pE cl n (pKind (pT A) sz (p, 0, q, o, cs)).2.2.2.2.length ≤ 4 * pE cl n cs.length + ms) : Ct l g yX4_kind hwX4_kind 6 240 [.ref mo] c (mc) (ms) (pV (fun c' => ∃ ma', MW c0 mo ma' (pE cl n (pKind (pT A) sz (p, 0, q, o, cs)).2.2.2.2.length) ll (rA A n (pKind (pT A) sz (p, 0, q, o, cs))) B c')) := by
  refine Ct.intro hk hcX4_kind (by decide +kernel) (Nat.le_of_ble_eq_true rfl) (fun φ h => ?_)
  have hpb := pB_le (pT A) hp
  have hz := hF.2.1
  have gN := pNeed_go (T := pT A) (sz := sz) (p, 0, q, o, cs) 61
  have eN := pNeed_cs (T := pT A) (sz := sz) (p, 0, q, o, cs) 61
  rcases hsN : pNeed (pT A) sz (p, 0, q, o, cs) 61 with ⟨p0, f0, q0, o0, cs0⟩
  rw [hsN] at gN eN
  replace eN : (o0, cs0) = (o, cs) := eN
  have eo : o0 = o := congrArg Prod.fst eN
  have ec : cs0 = cs := congrArg Prod.snd eN
  subst eo
  subst ec
  have hCN : Ct l g yX4_need hwX4_need 3 120 [.ref mo, .int 61] c 0 0 (pI (zB (decide (0 = 0) && pSign (pT A) sz (p, 0, q, o0, cs0) 61)) (MW c0 mo ma (pE cl n cs0.length) ll (rA A n (p0, f0, q0, o0, cs0)) B)) := by
    have hh := ct_need hk hM hF.1 hF.2.1 hp (by decide) 61
    rw [hsN] at hh
    exact hh
  rcases hRES : pKind (pT A) sz (p, 0, q, o0, cs0) with ⟨pr, fr, qr, or_, csr⟩
  rw [hRES] at hcost
  dsimp only at hcost
  have loop : ∀ (j k p1 f1 : Nat) (q1 : Int32) (o1 : Nat) (c : gLH), k + j = 7 → p1 ≤ sz → f1 < 4 → cs0.length ≤ p1 → pKinds (pT A) sz j k (p1, f1, q1, o1, cs0) = (pr, fr, qr, or_, csr) → MW c0 mo ma (pE cl n cs0.length) ll (rA A n (p1, f1, q1, o1, cs0)) B c → G φ (gQ φ (pV (fun c' => ∃ ma', MW c0 mo ma' (pE cl n csr.length) ll (rA A n (pr, fr, qr, or_, csr)) B c')) mc ms) 9 [(0, .ref mo), (1, .int (nI k))] [] c 0 0 := by
    intro j
    induction j with
    | zero =>
      intro k p1 f1 q1 o1 c hkj hp1 hf1 hc1 hres hM
      have hres : pWrong (p1, f1, q1, o1, cs0) 1 p1 = (pr, fr, qr, or_, csr) := hres
      have ew : csr = cs0 := by have := congrArg (fun s : pSt => s.2.2.2.2) hres; unfold pWrong at this; split at this <;> exact this.symm
      refine g_iload_n (i := 1) h dX4_kind_9 rfl rfl ?_
      refine g_bipush (v := nI 7) h dX4_kind_10 (by decide) ?_
      refine g_icmp_ge (tgt := 43) h dX4_kind_12 (by decide) (fun b12 => ?_) (fun _bz => absurd _bz (not_not_intro ((nI_leI (by omega) (by omega)).mpr (by omega))))
      refine g_aload_n (i := 0) h dX4_kind_43 rfl rfl ?_
      refine g_iconst (v := nI 1) h dX4_kind_44 (by decide) ?_
      refine g_aload_n (i := 0) h dX4_kind_45 rfl rfl ?_
      refine m_get (v := .int (nI p1)) h hM f_X4_155_4 rfl dX4_kind_46 ?_
      refine g_invV h (ct_wrong h.k hM 1 (nI p1)) hcX4_wrong w_X4_189 rfl rfl hM.obj (Nat.le_of_ble_eq_true rfl) ⟨Nat.le_of_ble_eq_true rfl, Nat.le_of_ble_eq_true rfl⟩ (by refine ⟨?_, ?_⟩ <;> first | exact Nat.le_refl _ | exact Nat.zero_le _ | (dsimp only; omega)) dX4_kind_49 (gkr_i (fun c hM => ?_)) gkt_i
      replace hM := rA_wrong (s := (p1, f1, q1, o1, cs0)) hf1 1 p1 ▸ hM
      refine g_pop h dX4_kind_52 rfl ?_
      exact g_vret h ⟨rfl, _, by rw [← hres, ew]; exact hM⟩ (Nat.zero_le _) (Nat.zero_le _) dX4_kind_53
    | succ j ih =>
      intro k p1 f1 q1 o1 c hkj hp1 hf1 hc1 hres hM
      have hk1 : k < 7 := by omega
      have hgo := pEat_go hF.tz (p1, f1, q1, o1, cs0) hp1 (kindW_wd k)
      have ecs := pEat_cs (T := pT A) (sz := sz) (p1, f1, q1, o1, cs0) (kindW k)
      simp only [pKinds] at hres
      rcases he : pEat (pT A) sz (p1, f1, q1, o1, cs0) (kindW k) with ⟨b2, p2, f2, q2, o2, cs2⟩
      rw [he] at hgo ecs hres
      have ecs2 : cs2 = cs0 := congrArg Prod.snd ecs
      rw [ecs2] at he hgo hres
      have hC : ∀ a, gStr c0 a (kindW k) → Ct l g yX4_eat hwX4_eat 5 200 [.ref mo, .ref a] c 0 0 (pI (zB b2) (MW c0 mo ma (pE cl n cs0.length) ll (rA A n (p2, f2, q2, o2, cs0)) B)) := by
        intro a hS
        have hh := ct_eat hk hM hF.1 hF.2.1 hp1 hf1 hs hS (kindW_wd k).2.2
        rw [he] at hh
        exact hh
      cases b2
      case true =>
        have hres : pEmit (p2, f2, q2, o2, cs0) 22 (nI k) = (pr, fr, qr, or_, csr) := hres
        have el : csr.length = cs0.length + 1 := by have := pEmit_len (p2, f2, q2, o2, cs0) 22 (nI k); rw [hres] at this; exact this
        have hgt := hgo.1.1
        dsimp only at hgt
        rw [el] at hcost
        refine g_iload_n (i := 1) h dX4_kind_9 rfl rfl ?_
        refine g_bipush (v := nI 7) h dX4_kind_10 (by decide) ?_
        refine g_icmp_ge (tgt := 43) h dX4_kind_12 (by decide) (fun _bz => absurd _bz (fun q => absurd ((nI_leI (by omega) (by omega)).mp q) (by omega))) (fun b12 => ?_)
        refine g_aload_n (i := 0) h dX4_kind_15 rfl rfl ?_
        refine g_iload_n (i := 1) h dX4_kind_16 rfl rfl ?_
        refine g_invS h (ct_kindName h.k hx hk1) hcX4_kindName w_X4_271 rfl rfl (Nat.le_of_ble_eq_true rfl) ⟨Nat.le_of_ble_eq_true rfl, Nat.le_of_ble_eq_true rfl⟩ (by refine ⟨?_, ?_⟩ <;> first | exact Nat.le_refl _ | exact Nat.zero_le _ | (dsimp only; omega)) dX4_kind_17 (gkr_ae (fun a c hS => ?_)) gkt_ae
        obtain ⟨hS, rfl⟩ := hS
        refine g_invV h (hC a hS) hcX4_eat w_X4_216 rfl rfl hM.obj (Nat.le_of_ble_eq_true rfl) ⟨Nat.le_of_ble_eq_true rfl, Nat.le_of_ble_eq_true rfl⟩ (by refine ⟨?_, ?_⟩ <;> first | exact Nat.le_refl _ | exact Nat.zero_le _ | (dsimp only; omega)) dX4_kind_20 (gkr_i (fun c hM => ?_)) gkt_i
        refine g_if_ne (tgt := 29) h dX4_kind_23 (by decide) (fun b23 => ?_) (fun _bz => absurd _bz (by decide))
        refine g_aload_n (i := 0) h dX4_kind_29 rfl rfl ?_
        refine g_bipush (v := 22) h dX4_kind_30 (by decide) ?_
        refine g_iload_n (i := 1) h dX4_kind_32 rfl rfl ?_
        refine g_invV h (ct_emitR (s := (p2, f2, q2, o2, cs0)) h.k hF hM (by dsimp only; omega) _ _) hcX4_emits w_X4_219 rfl rfl hM.obj (Nat.le_of_ble_eq_true rfl) ⟨Nat.le_of_ble_eq_true rfl, Nat.le_of_ble_eq_true rfl⟩ (by refine ⟨?_, ?_⟩ <;> (dsimp only; omega)) dX4_kind_33 (gkr_v (fun c hM => ?_)) gkt_v
        obtain ⟨ma', hM⟩ := hM
        exact g_vret h ⟨rfl, _, by rw [← hres, el]; exact hM⟩ (by dsimp only; omega) (by dsimp only; omega) dX4_kind_36
      case false =>
        have hres : pKinds (pT A) sz j (k + 1) (p2, f2, q2, o2, cs0) = (pr, fr, qr, or_, csr) := hres
        refine g_iload_n (i := 1) h dX4_kind_9 rfl rfl ?_
        refine g_bipush (v := nI 7) h dX4_kind_10 (by decide) ?_
        refine g_icmp_ge (tgt := 43) h dX4_kind_12 (by decide) (fun _bz => absurd _bz (fun q => absurd ((nI_leI (by omega) (by omega)).mp q) (by omega))) (fun b12 => ?_)
        refine g_aload_n (i := 0) h dX4_kind_15 rfl rfl ?_
        refine g_iload_n (i := 1) h dX4_kind_16 rfl rfl ?_
        refine g_invS h (ct_kindName h.k hx hk1) hcX4_kindName w_X4_271 rfl rfl (Nat.le_of_ble_eq_true rfl) ⟨Nat.le_of_ble_eq_true rfl, Nat.le_of_ble_eq_true rfl⟩ (by refine ⟨?_, ?_⟩ <;> first | exact Nat.le_refl _ | exact Nat.zero_le _ | (dsimp only; omega)) dX4_kind_17 (gkr_ae (fun a c hS => ?_)) gkt_ae
        obtain ⟨hS, rfl⟩ := hS
        refine g_invV h (hC a hS) hcX4_eat w_X4_216 rfl rfl hM.obj (Nat.le_of_ble_eq_true rfl) ⟨Nat.le_of_ble_eq_true rfl, Nat.le_of_ble_eq_true rfl⟩ (by refine ⟨?_, ?_⟩ <;> first | exact Nat.le_refl _ | exact Nat.zero_le _ | (dsimp only; omega)) dX4_kind_20 (gkr_i (fun c hM => ?_)) gkt_i
        refine g_if_ne (tgt := 29) h dX4_kind_23 (by decide) (fun _bz => absurd _bz (by decide)) (fun b23 => ?_)
        refine g_goto (tgt := 37) h dX4_kind_26 (by decide) ?_
        first | (with_reducible refine g_iincN h dX4_kind_37 rfl (by decide) ?_) | refine g_iinc1 h dX4_kind_37 rfl (by decide) ?_
        refine g_goto (tgt := 9) h dX4_kind_40 (by decide) ?_
        exact G.to (ih (k + 1) p2 f2 q2 o2 c (by omega) (hgo.1.2.1 hp1) (hgo.1.2.2.1 hf1) (by have := hgo.1.1; dsimp only at this; omega) hres hM) ⟨rfl, rfl, trivial⟩
  refine g_aload_n (i := 0) h dX4_kind_0 rfl rfl ?_
  refine g_bipush (v := 61) h dX4_kind_1 (by decide) ?_
  refine g_invV h (hCN) hcX4_need w_X4_240 rfl rfl hM.obj (Nat.le_of_ble_eq_true rfl) ⟨Nat.le_of_ble_eq_true rfl, Nat.le_of_ble_eq_true rfl⟩ (by refine ⟨?_, ?_⟩ <;> first | exact Nat.le_refl _ | exact Nat.zero_le _ | (dsimp only; omega)) dX4_kind_3 (gkr_i (fun c hM => ?_)) gkt_i
  refine g_pop h dX4_kind_6 rfl ?_
  refine g_iconst (v := nI 0) h dX4_kind_7 (by decide) ?_
  refine g_istore_n (i := 1) h dX4_kind_8 rfl (by decide) ?_
  exact G.to (loop 7 0 p0 f0 q0 o0 c rfl (gN.2.1 hp) (gN.2.2.1 (show 0 < 4 by decide)) (by have := gN.1; dsimp only at this; omega) (by rw [← hRES]; unfold pKind; rw [hsN]) hM) ⟨rfl, rfl, trivial⟩
