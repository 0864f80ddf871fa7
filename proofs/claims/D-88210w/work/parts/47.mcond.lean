/-! THE MODEL: conditions -/
set_option maxRecDepth 100000
/-- a function of the parser by contract: from any state it comes to F of it -/
def CtP (l : Launch) (g : gGP) (c0 : gLH) (mo ll : Nat) (A : Nat → Nat → Int32) (B : Nat → Nat → Int64) (n sz cl : Nat) (y : MethodName) (hw : Cond) (lvl om : Nat) (F : pSt → pSt) : Prop :=
  ∀ (c : gLH) (ma : Nat → Nat) (p f : Nat) (q : Int32) (o : Nat) (cs : List (Int32 × Int32)) (t : pSt), F (p, f, q, o, cs) = t → MW c0 mo ma (pE cl n cs.length) ll (rA A n (p, f, q, o, cs)) B c → p ≤ sz → f < 4 → o ≤ 10 → om ≤ o → cs.length ≤ p →
    ∀ mc ms : Nat, pE cl n t.2.2.2.2.length ≤ pE cl n cs.length + mc ∧ 4 * pE cl n t.2.2.2.2.length ≤ 4 * pE cl n cs.length + ms → Ct l g y hw lvl (40 * lvl) [.ref mo] c mc ms (pV (fun c' => ∃ ma', MW c0 mo ma' (pE cl n t.2.2.2.2.length) ll (rA A n t) B c'))
theorem ct_joinedP {l : Launch} {g : gGP} (hk : gK l g) {c0 : gLH} {mo ll : Nat} {A : Nat → Nat → Int32} {B : Nat → Nat → Int64} {n sz cl : Nat} (hF : pFix A n sz cl) (hs : gSS g) (hx : gLits RX4 xLits g c0) {lv om : Nat} (hlv : 6 ≤ lv) {F : pSt → pSt} (hgF : ∀ s : pSt, s.1 ≤ sz → pGo sz s (F s)) (h1 : CtP l g c0 mo ll A B n sz cl yX4_one hwX4_one lv om F) : CtP l g c0 mo ll A B n sz cl yX4_joined hwX4_joined (lv + 1) om (pJoin (pT A) sz F w_and 0) := by
  intro c ma p f q o cs t hT hM hp hf ho hom hcs mc ms hcost
  obtain ⟨pr, fr, qr, or_, csr⟩ := t
  dsimp only at hcost
  refine Ct.intro hk hcX4_joined (by decide +kernel) (Nat.le_of_ble_eq_true rfl) (fun φ h => ?_)
  have hz := hF.2.1
  have loop : ∀ (k pt ft : Nat) (qt : Int32) (ot : Nat) (cst : List (Int32 × Int32)) (c : gLH) (ma : Nat → Nat) (ce sl : Nat), pMore (pT A) sz F w_and 0 k (pt, ft, qt, ot, cst) = (pr, fr, qr, or_, csr) → pt ≤ sz → sz + 1 ≤ pt + k → ft < 4 → ot = o → cst.length ≤ pt → ce + pE cl n cs.length ≤ pE cl n cst.length → sl + 4 * pE cl n cs.length ≤ 4 * pE cl n cst.length →
      MW c0 mo ma (pE cl n cst.length) ll (rA A n (pt, ft, qt, ot, cst)) B c → G φ (gQ φ (pV (fun c' => ∃ ma', MW c0 mo ma' (pE cl n csr.length) ll (rA A n (pr, fr, qr, or_, csr)) B c')) mc ms) 4 [(0, .ref mo)] [] c ce sl := by
    intro k
    induction k with
    | zero => intro pt ft qt ot cst c ma ce sl hres hpt hk0; omega
    | succ k ih =>
      intro pt ft qt ot cst c ma ce sl hres hpt hkk hft hot hct hce hsl hM
      have gR := pMore_go hF.tz hgF w_and_wd 0 (k + 1) (pt, ft, qt, ot, cst) hpt
      rw [hres] at gR
      have eR := pE_mono (cl := cl) (n := n) gR.2.2.2.2.1
      dsimp only at eR
      have hgo := (pEat_go hF.tz (pt, ft, qt, ot, cst) hpt w_and_wd).1
      have hgo2 := (pEat_go hF.tz (pt, ft, qt, ot, cst) hpt w_and_wd).2
      have ecs := pEat_cs (T := pT A) (sz := sz) (pt, ft, qt, ot, cst) w_and
      simp only [pMore] at hres
      rcases he : pEat (pT A) sz (pt, ft, qt, ot, cst) w_and with ⟨b2, p2, f2, q2, o2, cs2⟩
      rw [he] at hgo hgo2 ecs hres
      have ecs2 : cs2 = cst := congrArg Prod.snd ecs
      have eo2 : o2 = ot := congrArg Prod.fst ecs
      subst ecs2
      subst eo2
      have hC : ∀ a, gStr c0 a w_and → Ct l g yX4_eat hwX4_eat 5 200 [.ref mo, .ref a] c 0 0 (pI (zB b2) (MW c0 mo ma (pE cl n cs2.length) ll (rA A n (p2, f2, q2, o2, cs2)) B)) := by
        intro a hS
        have hh := ct_eat hk hM hF.1 hF.2.1 hpt hft hs hS w_and_wd.2.2
        rw [he] at hh
        exact hh
      cases b2
      case true =>
        replace hgo2 := hgo2 rfl
        rcases hf3 : F (p2, f2, q2, o2, cs2) with ⟨p3, f3, q3, o3, cs3⟩
        have hres : pMore (pT A) sz F w_and 0 k (pEmit (F (p2, f2, q2, o2, cs2)) 0 0) = (pr, fr, qr, or_, csr) := hres
        rw [hf3] at hres
        have g3 := hgF (p2, f2, q2, o2, cs2) hgo2.2.2.2
        rw [hf3] at g3
        have e3 := pE_mono (cl := cl) (n := n) g3.2.2.2.2.1
        have x1 := g3.1
        have x2 := g3.2.2.2.2.2.1
        have x3 := hgo2.1
        dsimp only [w_and, List.length] at e3 x1 x2 x3
        have hg3 : pGo sz (pt, ft, qt, o2, cs2) (pEmit (p3, f3, q3, o3, cs3) 0 0) := pEmit_go (hgo.trans g3) (by (try dsimp only); omega) 0 0
        have hl3 : (cs3 ++ [((0 : Int32), (0 : Int32))]).length = cs3.length + 1 := by simp
        have gR2 := pMore_go hF.tz hgF w_and_wd 0 k (pEmit (p3, f3, q3, o3, cs3) 0 0) (hg3.2.1 hpt)
        rw [hres] at gR2
        have eR2 := pE_mono (cl := cl) (n := n) gR2.2.2.2.2.1
        rw [pEmit_len] at eR2
        have e4 := pE_mono (cl := cl) (n := n) (Nat.le_succ cs3.length)
        have x4 := g3.2.2.2.2.1
        dsimp only at eR2 e4 x4
        have e4 : pE cl n cs3.length ≤ pE cl n (cs3.length + 1) := e4
        have x5 := g3.2.1 hgo2.2.2.2
        dsimp only at x5
        refine g_aload_n (i := 0) h dX4_joined_4 rfl rfl ?_
        obtain ⟨a5, z5, s5⟩ := hx 1 _ rfl
        refine g_ldcS h z5 dX4_joined_5 ?_
        refine g_invV h (hC _ s5) hcX4_eat w_X4_216 rfl rfl hM.obj (Nat.le_of_ble_eq_true rfl) (by refine ⟨?_, ?_⟩ <;> ((try dsimp only); omega)) (by refine ⟨?_, ?_⟩ <;> first | exact Nat.le_refl _ | exact Nat.zero_le _ | (dsimp only; omega)) dX4_joined_7 (gkr_i (fun c hM => ?_)) gkt_i
        refine g_if_eq (tgt := 26) h dX4_joined_10 (by decide) (fun _bz => absurd _bz (by decide)) (fun b10 => ?_)
        refine g_aload_n (i := 0) h dX4_joined_13 rfl rfl ?_
        refine g_invV h (h1 c ma p2 f2 q2 o2 cs2 (p3, f3, q3, o3, cs3) hf3 hM hgo2.2.2.2 (hgo.2.2.1 hft) (by (try dsimp only at hgo); omega) (by (try dsimp only at hgo); omega) (by (try dsimp only at hgo); omega) (pE cl n cs3.length - pE cl n cs2.length) (4 * (pE cl n cs3.length - pE cl n cs2.length)) (by (try dsimp only); omega)) hcX4_one w_X4_223 rfl rfl hM.obj (Nat.le_of_ble_eq_true rfl) (by refine ⟨?_, ?_⟩ <;> ((try dsimp only); omega)) (by refine ⟨?_, ?_⟩ <;> ((try dsimp only); omega)) dX4_joined_14 (gkr_v (fun c hM => ?_)) gkt_v
        obtain ⟨ma, hM⟩ := hM
        refine g_aload_n (i := 0) h dX4_joined_17 rfl rfl ?_
        refine g_iconst (v := 0) h dX4_joined_18 (by decide) ?_
        refine g_iconst (v := 0) h dX4_joined_19 (by decide) ?_
        refine g_invV h (ct_emitR (s := (p3, f3, q3, o3, cs3)) h.k hF hM (by (try dsimp only); omega) _ _) hcX4_emits w_X4_219 rfl rfl hM.obj (Nat.le_of_ble_eq_true rfl) (by refine ⟨?_, ?_⟩ <;> ((try dsimp only); omega)) (by refine ⟨?_, ?_⟩ <;> ((try dsimp only); omega)) dX4_joined_20 (gkr_v (fun c hM => ?_)) gkt_v
        obtain ⟨ma, hM⟩ := hM
        refine g_goto (tgt := 4) h dX4_joined_23 (by decide) ?_
        exact G.to (ih p3 f3 q3 o3 (cs3 ++ [(0, 0)]) c ma _ _ hres (hg3.2.1 hpt) (by (try dsimp only); omega) (hg3.2.2.1 hft) (by rw [← hot]; exact hg3.2.2.2.1) (by rw [hl3]; (try dsimp only); omega) (by rw [hl3]; (try dsimp only); omega) (by rw [hl3]; (try dsimp only); omega) (by rw [hl3]; exact hM)) ⟨rfl, trivial⟩
      case false =>
        have hres : (p2, f2, q2, o2, cs2) = (pr, fr, qr, or_, csr) := hres
        cases hres
        refine g_aload_n (i := 0) h dX4_joined_4 rfl rfl ?_
        obtain ⟨a5, z5, s5⟩ := hx 1 _ rfl
        refine g_ldcS h z5 dX4_joined_5 ?_
        refine g_invV h (hC _ s5) hcX4_eat w_X4_216 rfl rfl hM.obj (Nat.le_of_ble_eq_true rfl) (by refine ⟨?_, ?_⟩ <;> ((try dsimp only); omega)) (by refine ⟨?_, ?_⟩ <;> first | exact Nat.le_refl _ | exact Nat.zero_le _ | (dsimp only; omega)) dX4_joined_7 (gkr_i (fun c hM => ?_)) gkt_i
        refine g_if_eq (tgt := 26) h dX4_joined_10 (by decide) (fun b10 => ?_) (fun _bz => absurd _bz (by decide))
        exact g_vret h ⟨rfl, _, hM⟩ (by (try dsimp only); omega) (by (try dsimp only); omega) dX4_joined_26
  rcases hf1 : F (p, f, q, o, cs) with ⟨p1, f1, q1, o1, cs1⟩
  have g1 := hgF (p, f, q, o, cs) hp
  rw [hf1] at g1
  have e1 := pE_mono (cl := cl) (n := n) g1.2.2.2.2.1
  have x2 := g1.2.2.2.2.2.1
  have hot : o1 = o := g1.2.2.2.1
  dsimp only at e1 x2
  have hres : pMore (pT A) sz F w_and 0 (sz + 1) (p1, f1, q1, o1, cs1) = (pr, fr, qr, or_, csr) := by rw [← hT, ← hf1]; rfl
  have gR := pMore_go hF.tz hgF w_and_wd 0 (sz + 1) (p1, f1, q1, o1, cs1) (g1.2.1 hp)
  rw [hres] at gR
  have eR := pE_mono (cl := cl) (n := n) gR.2.2.2.2.1
  dsimp only at eR
  refine g_aload_n (i := 0) h dX4_joined_0 rfl rfl ?_
  refine g_invV h (h1 c ma p f q o cs (p1, f1, q1, o1, cs1) hf1 hM hp hf ho hom hcs (pE cl n cs1.length - pE cl n cs.length) (4 * (pE cl n cs1.length - pE cl n cs.length)) (by (try dsimp only); omega)) hcX4_one w_X4_223 rfl rfl hM.obj (Nat.le_of_ble_eq_true rfl) (by refine ⟨?_, ?_⟩ <;> ((try dsimp only); omega)) (by refine ⟨?_, ?_⟩ <;> ((try dsimp only); omega)) dX4_joined_1 (gkr_v (fun c hM => ?_)) gkt_v
  obtain ⟨ma, hM⟩ := hM
  exact G.to (loop (sz + 1) p1 f1 q1 o1 cs1 c ma _ _ hres (g1.2.1 hp) (by omega) (g1.2.2.1 hf) hot (by omega) (by omega) (by omega) hM) ⟨rfl, trivial⟩
theorem ct_conditionP {l : Launch} {g : gGP} (hk : gK l g) {c0 : gLH} {mo ll : Nat} {A : Nat → Nat → Int32} {B : Nat → Nat → Int64} {n sz cl : Nat} (hF : pFix A n sz cl) (hs : gSS g) (hx : gLits RX4 xLits g c0) {lv om : Nat} (hlv : 6 ≤ lv) {F : pSt → pSt} (hgF : ∀ s : pSt, s.1 ≤ sz → pGo sz s (F s)) (h1 : CtP l g c0 mo ll A B n sz cl yX4_joined hwX4_joined lv om F) : CtP l g c0 mo ll A B n sz cl yX4_condition hwX4_condition (lv + 1) om (pJoin (pT A) sz F w_or 1) := by
  intro c ma p f q o cs t hT hM hp hf ho hom hcs mc ms hcost
  obtain ⟨pr, fr, qr, or_, csr⟩ := t
  dsimp only at hcost
  refine Ct.intro hk hcX4_condition (by decide +kernel) (Nat.le_of_ble_eq_true rfl) (fun φ h => ?_)
  have hz := hF.2.1
  have loop : ∀ (k pt ft : Nat) (qt : Int32) (ot : Nat) (cst : List (Int32 × Int32)) (c : gLH) (ma : Nat → Nat) (ce sl : Nat), pMore (pT A) sz F w_or 1 k (pt, ft, qt, ot, cst) = (pr, fr, qr, or_, csr) → pt ≤ sz → sz + 1 ≤ pt + k → ft < 4 → ot = o → cst.length ≤ pt → ce + pE cl n cs.length ≤ pE cl n cst.length → sl + 4 * pE cl n cs.length ≤ 4 * pE cl n cst.length →
      MW c0 mo ma (pE cl n cst.length) ll (rA A n (pt, ft, qt, ot, cst)) B c → G φ (gQ φ (pV (fun c' => ∃ ma', MW c0 mo ma' (pE cl n csr.length) ll (rA A n (pr, fr, qr, or_, csr)) B c')) mc ms) 4 [(0, .ref mo)] [] c ce sl := by
    intro k
    induction k with
    | zero => intro pt ft qt ot cst c ma ce sl hres hpt hk0; omega
    | succ k ih =>
      intro pt ft qt ot cst c ma ce sl hres hpt hkk hft hot hct hce hsl hM
      have gR := pMore_go hF.tz hgF w_or_wd 1 (k + 1) (pt, ft, qt, ot, cst) hpt
      rw [hres] at gR
      have eR := pE_mono (cl := cl) (n := n) gR.2.2.2.2.1
      dsimp only at eR
      have hgo := (pEat_go hF.tz (pt, ft, qt, ot, cst) hpt w_or_wd).1
      have hgo2 := (pEat_go hF.tz (pt, ft, qt, ot, cst) hpt w_or_wd).2
      have ecs := pEat_cs (T := pT A) (sz := sz) (pt, ft, qt, ot, cst) w_or
      simp only [pMore] at hres
      rcases he : pEat (pT A) sz (pt, ft, qt, ot, cst) w_or with ⟨b2, p2, f2, q2, o2, cs2⟩
      rw [he] at hgo hgo2 ecs hres
      have ecs2 : cs2 = cst := congrArg Prod.snd ecs
      have eo2 : o2 = ot := congrArg Prod.fst ecs
      subst ecs2
      subst eo2
      have hC : ∀ a, gStr c0 a w_or → Ct l g yX4_eat hwX4_eat 5 200 [.ref mo, .ref a] c 0 0 (pI (zB b2) (MW c0 mo ma (pE cl n cs2.length) ll (rA A n (p2, f2, q2, o2, cs2)) B)) := by
        intro a hS
        have hh := ct_eat hk hM hF.1 hF.2.1 hpt hft hs hS w_or_wd.2.2
        rw [he] at hh
        exact hh
      cases b2
      case true =>
        replace hgo2 := hgo2 rfl
        rcases hf3 : F (p2, f2, q2, o2, cs2) with ⟨p3, f3, q3, o3, cs3⟩
        have hres : pMore (pT A) sz F w_or 1 k (pEmit (F (p2, f2, q2, o2, cs2)) 1 0) = (pr, fr, qr, or_, csr) := hres
        rw [hf3] at hres
        have g3 := hgF (p2, f2, q2, o2, cs2) hgo2.2.2.2
        rw [hf3] at g3
        have e3 := pE_mono (cl := cl) (n := n) g3.2.2.2.2.1
        have x1 := g3.1
        have x2 := g3.2.2.2.2.2.1
        have x3 := hgo2.1
        dsimp only [w_or, List.length] at e3 x1 x2 x3
        have hg3 : pGo sz (pt, ft, qt, o2, cs2) (pEmit (p3, f3, q3, o3, cs3) 1 0) := pEmit_go (hgo.trans g3) (by (try dsimp only); omega) 1 0
        have hl3 : (cs3 ++ [((1 : Int32), (0 : Int32))]).length = cs3.length + 1 := by simp
        have gR2 := pMore_go hF.tz hgF w_or_wd 1 k (pEmit (p3, f3, q3, o3, cs3) 1 0) (hg3.2.1 hpt)
        rw [hres] at gR2
        have eR2 := pE_mono (cl := cl) (n := n) gR2.2.2.2.2.1
        rw [pEmit_len] at eR2
        have e4 := pE_mono (cl := cl) (n := n) (Nat.le_succ cs3.length)
        have x4 := g3.2.2.2.2.1
        dsimp only at eR2 e4 x4
        have e4 : pE cl n cs3.length ≤ pE cl n (cs3.length + 1) := e4
        have x5 := g3.2.1 hgo2.2.2.2
        dsimp only at x5
        refine g_aload_n (i := 0) h dX4_condition_4 rfl rfl ?_
        obtain ⟨a5, z5, s5⟩ := hx 0 _ rfl
        refine g_ldcS h z5 dX4_condition_5 ?_
        refine g_invV h (hC _ s5) hcX4_eat w_X4_216 rfl rfl hM.obj (Nat.le_of_ble_eq_true rfl) (by refine ⟨?_, ?_⟩ <;> ((try dsimp only); omega)) (by refine ⟨?_, ?_⟩ <;> first | exact Nat.le_refl _ | exact Nat.zero_le _ | (dsimp only; omega)) dX4_condition_7 (gkr_i (fun c hM => ?_)) gkt_i
        refine g_if_eq (tgt := 26) h dX4_condition_10 (by decide) (fun _bz => absurd _bz (by decide)) (fun b10 => ?_)
        refine g_aload_n (i := 0) h dX4_condition_13 rfl rfl ?_
        refine g_invV h (h1 c ma p2 f2 q2 o2 cs2 (p3, f3, q3, o3, cs3) hf3 hM hgo2.2.2.2 (hgo.2.2.1 hft) (by (try dsimp only at hgo); omega) (by (try dsimp only at hgo); omega) (by (try dsimp only at hgo); omega) (pE cl n cs3.length - pE cl n cs2.length) (4 * (pE cl n cs3.length - pE cl n cs2.length)) (by (try dsimp only); omega)) hcX4_joined w_X4_211 rfl rfl hM.obj (Nat.le_of_ble_eq_true rfl) (by refine ⟨?_, ?_⟩ <;> ((try dsimp only); omega)) (by refine ⟨?_, ?_⟩ <;> ((try dsimp only); omega)) dX4_condition_14 (gkr_v (fun c hM => ?_)) gkt_v
        obtain ⟨ma, hM⟩ := hM
        refine g_aload_n (i := 0) h dX4_condition_17 rfl rfl ?_
        refine g_iconst (v := 1) h dX4_condition_18 (by decide) ?_
        refine g_iconst (v := 0) h dX4_condition_19 (by decide) ?_
        refine g_invV h (ct_emitR (s := (p3, f3, q3, o3, cs3)) h.k hF hM (by (try dsimp only); omega) _ _) hcX4_emits w_X4_219 rfl rfl hM.obj (Nat.le_of_ble_eq_true rfl) (by refine ⟨?_, ?_⟩ <;> ((try dsimp only); omega)) (by refine ⟨?_, ?_⟩ <;> ((try dsimp only); omega)) dX4_condition_20 (gkr_v (fun c hM => ?_)) gkt_v
        obtain ⟨ma, hM⟩ := hM
        refine g_goto (tgt := 4) h dX4_condition_23 (by decide) ?_
        exact G.to (ih p3 f3 q3 o3 (cs3 ++ [(1, 0)]) c ma _ _ hres (hg3.2.1 hpt) (by (try dsimp only); omega) (hg3.2.2.1 hft) (by rw [← hot]; exact hg3.2.2.2.1) (by rw [hl3]; (try dsimp only); omega) (by rw [hl3]; (try dsimp only); omega) (by rw [hl3]; (try dsimp only); omega) (by rw [hl3]; exact hM)) ⟨rfl, trivial⟩
      case false =>
        have hres : (p2, f2, q2, o2, cs2) = (pr, fr, qr, or_, csr) := hres
        cases hres
        refine g_aload_n (i := 0) h dX4_condition_4 rfl rfl ?_
        obtain ⟨a5, z5, s5⟩ := hx 0 _ rfl
        refine g_ldcS h z5 dX4_condition_5 ?_
        refine g_invV h (hC _ s5) hcX4_eat w_X4_216 rfl rfl hM.obj (Nat.le_of_ble_eq_true rfl) (by refine ⟨?_, ?_⟩ <;> ((try dsimp only); omega)) (by refine ⟨?_, ?_⟩ <;> first | exact Nat.le_refl _ | exact Nat.zero_le _ | (dsimp only; omega)) dX4_condition_7 (gkr_i (fun c hM => ?_)) gkt_i
        refine g_if_eq (tgt := 26) h dX4_condition_10 (by decide) (fun b10 => ?_) (fun _bz => absurd _bz (by decide))
        exact g_vret h ⟨rfl, _, hM⟩ (by (try dsimp only); omega) (by (try dsimp only); omega) dX4_condition_26
  rcases hf1 : F (p, f, q, o, cs) with ⟨p1, f1, q1, o1, cs1⟩
  have g1 := hgF (p, f, q, o, cs) hp
  rw [hf1] at g1
  have e1 := pE_mono (cl := cl) (n := n) g1.2.2.2.2.1
  have x2 := g1.2.2.2.2.2.1
  have hot : o1 = o := g1.2.2.2.1
  dsimp only at e1 x2
  have hres : pMore (pT A) sz F w_or 1 (sz + 1) (p1, f1, q1, o1, cs1) = (pr, fr, qr, or_, csr) := by rw [← hT, ← hf1]; rfl
  have gR := pMore_go hF.tz hgF w_or_wd 1 (sz + 1) (p1, f1, q1, o1, cs1) (g1.2.1 hp)
  rw [hres] at gR
  have eR := pE_mono (cl := cl) (n := n) gR.2.2.2.2.1
  dsimp only at eR
  refine g_aload_n (i := 0) h dX4_condition_0 rfl rfl ?_
  refine g_invV h (h1 c ma p f q o cs (p1, f1, q1, o1, cs1) hf1 hM hp hf ho hom hcs (pE cl n cs1.length - pE cl n cs.length) (4 * (pE cl n cs1.length - pE cl n cs.length)) (by (try dsimp only); omega)) hcX4_joined w_X4_211 rfl rfl hM.obj (Nat.le_of_ble_eq_true rfl) (by refine ⟨?_, ?_⟩ <;> ((try dsimp only); omega)) (by refine ⟨?_, ?_⟩ <;> ((try dsimp only); omega)) dX4_condition_1 (gkr_v (fun c hM => ?_)) gkt_v
  obtain ⟨ma, hM⟩ := hM
  exact G.to (loop (sz + 1) p1 f1 q1 o1 cs1 c ma _ _ hres (g1.2.1 hp) (by omega) (g1.2.2.1 hf) hot (by omega) (by omega) (by omega) hM) ⟨rfl, trivial⟩
theorem pEat_at {T : Nat → Int32} {sz P : Nat} (hb : pB T sz P = P) {r : Int32 × Nat × List (Int32 × Int32)} {W : List Nat} : pEat T sz (P, 0, r) W = if pIsW T P W = true then (true, (P + W.length, 0, r)) else (false, (P, 0, r)) := by
  unfold pEat
  rw [if_pos rfl]
  simp only [hb]
theorem ct_oneB {l : Launch} {g : gGP} (hk : gK l g) {c0 : gLH} {mo ll : Nat} {A : Nat → Nat → Int32} {B : Nat → Nat → Int64} {n sz cl : Nat} (hF : pFix A n sz cl) (hs : gSS g) (hx : gLits RX4 xLits g c0) {lv om d : Nat} (hlv : 6 ≤ lv) (ihd : CtP l g c0 mo ll A B n sz cl yX4_one hwX4_one lv (om + 1) (pOne (pT A) sz d)) (hcon : CtP l g c0 mo ll A B n sz cl yX4_condition hwX4_condition (lv + 2) (om + 1) (pAny (pT A) sz d)) : CtP l g c0 mo ll A B n sz cl yX4_one hwX4_one (lv + 3) om (pOne (pT A) sz (d + 1)) := by
  intro c ma p f q o cs t hT hM hp hf ho hom hcs mc ms hcost
  obtain ⟨pr, fr, qr, or_, csr⟩ := t
  dsimp only at hcost
  refine Ct.intro hk hcX4_one (by decide +kernel) (Nat.le_of_ble_eq_true rfl) (fun φ h => ?_)
  have hz := hF.2.1
  have hT : pOneB (pT A) sz (pAny (pT A) sz d) (pOne (pT A) sz d) (p, f, q, o, cs) = (pr, fr, qr, or_, csr) := hT
  unfold pOneB at hT
  by_cases hf0 : f = 0
  case neg =>
    rw [if_neg (show ¬ (p, f, q, o, cs).2.1 = 0 from hf0)] at hT
    cases hT
    refine g_aload_n (i := 0) h dX4_one_0 rfl rfl ?_
    refine m_get (v := .int (nI f)) h hM f_X4_162_4 rfl dX4_one_1 ?_
    refine g_if_le (tgt := 8) h dX4_one_4 (by decide) (fun _bz => absurd _bz (fun q => hf0 ((nI_p hf).mp q))) (fun b4 => ?_)
    exact g_vret h ⟨rfl, _, hM⟩ (Nat.zero_le _) (Nat.zero_le _) dX4_one_7
  subst hf0
  rw [if_pos rfl] at hT
  dsimp only [pAt] at hT
  have hCW : ∀ a, gStr c0 a w_not → Ct l g yX4_isWord hwX4_isWord 4 160 [.ref mo, .ref a] c 0 0 (pI (zB (pIsW (pT A) (pB (pT A) sz p) w_not)) (MW c0 mo ma (pE cl n cs.length) ll (rA A n (pB (pT A) sz p, 0, q, o, cs)) B)) := fun a hS => ct_isWord hk hM hF.1 hF.2.1 hp (by decide) hs hS (by decide)
  have hPB : pB (pT A) sz (pB (pT A) sz p) = pB (pT A) sz p := pB_idem _
  have hPz : pB (pT A) sz p ≤ sz := pB_sz _ hp
  have hPp : p ≤ pB (pT A) sz p := pB_ge _ _ _
  rw [← pSign_B] at hT
  generalize pB (pT A) sz p = P at hT hCW hPB hPz hPp
  cases hw : pIsW (pT A) P w_not
  case true =>
    rw [if_pos hw] at hT
    by_cases ho10 : o = 10
    · rw [if_pos ho10] at hT
      have hres := hT
      have hlen : csr = cs := by have := congrArg (fun s : pSt => s.2.2.2.2) hres; unfold pWrong at this; split at this <;> exact this.symm
      refine g_aload_n (i := 0) h dX4_one_0 rfl rfl ?_
      refine m_get (v := .int (nI 0)) h hM f_X4_162_4 rfl dX4_one_1 ?_
      refine g_if_le (tgt := 8) h dX4_one_4 (by decide) (fun b4 => ?_) (fun _bz => absurd _bz (by decide))
      refine g_aload_n (i := 0) h dX4_one_8 rfl rfl ?_
      obtain ⟨a9, z9, s9⟩ := hx 2 _ rfl
      refine g_ldcS h z9 dX4_one_9 ?_
      refine g_invV h (hCW _ s9) hcX4_isWord w_X4_182 rfl rfl hM.obj (Nat.le_of_ble_eq_true rfl) (by refine ⟨?_, ?_⟩ <;> ((try dsimp only); omega)) (by refine ⟨?_, ?_⟩ <;> first | exact Nat.le_refl _ | exact Nat.zero_le _ | (dsimp only; omega)) dX4_one_11 (gkr_i (fun c hM => ?_)) gkt_i
      refine g_if_eq (tgt := 56) h dX4_one_14 (by decide) (fun _bz => absurd _bz (by rw [hw]; decide)) (fun b14 => ?_)
      refine g_aload_n (i := 0) h dX4_one_17 rfl rfl ?_
      refine g_invV h (ct_opens h.k hM hF.1 hF.2.1 (by decide) ho) hcX4_opens w_X4_233 rfl rfl hM.obj (Nat.le_of_ble_eq_true rfl) (by refine ⟨?_, ?_⟩ <;> ((try dsimp only); omega)) (by refine ⟨?_, ?_⟩ <;> first | exact Nat.le_refl _ | exact Nat.zero_le _ | (dsimp only; omega)) dX4_one_18 (gkr_i (fun c hM => ?_)) gkt_i
      refine g_if_ne (tgt := 25) h dX4_one_21 (by decide) (fun _bz => absurd _bz (by rw [show decide (o = 10) = true from decide_eq_true ho10]; decide)) (fun b21 => ?_)
      exact g_vret h ⟨rfl, ma, (by rw [← hres, hlen, ← show pOpens (P, 0, q, o, cs) = pWrong (P, 0, q, o, cs) 3 P from (by unfold pOpens; rw [if_pos ho10])]; exact hM : MW c0 mo ma (pE cl n csr.length) ll (rA A n (pr, fr, qr, or_, csr)) B c)⟩ (Nat.zero_le _) (Nat.zero_le _) dX4_one_24
    · rw [if_neg ho10] at hT
      have hw3 : P + 3 ≤ sz := pIsW_lt hF.tz hPz (W := w_not) (by decide) (by decide) hw
      have ePo : pOn (pOpens (P, 0, q, o, cs)) 3 = (P + 3, 0, q, o + 1, cs) := by unfold pOpens; rw [if_neg ho10]; rfl
      rw [ePo] at hT
      have g3 := pOne_go hF.tz d (P + 3, 0, q, o + 1, cs) hw3
      rcases h3 : pOne (pT A) sz d (P + 3, 0, q, o + 1, cs) with ⟨p3, f3, q3, o3', cs3⟩
      rw [h3] at g3 hT
      have eo3 : o3' = o + 1 := g3.2.2.2.1
      obtain ⟨o3, rfl⟩ : ∃ o3, o3' = o3 + 1 := ⟨o, eo3⟩
      have hres : pEmit (p3, f3, q3, o3, cs3) 2 0 = (pr, fr, qr, or_, csr) := hT
      have hlen : csr.length = cs3.length + 1 := by have := pEmit_len (p3, f3, q3, o3, cs3) 2 0; rw [hres] at this; exact this
      rw [hlen] at hcost
      have e3 := pE_mono (cl := cl) (n := n) g3.2.2.2.2.1
      have e4 := pE_mono (cl := cl) (n := n) (Nat.le_succ cs3.length)
      have e4 : pE cl n cs3.length ≤ pE cl n (cs3.length + 1) := e4
      have x2 := g3.2.2.2.2.2.1
      have x3 := g3.2.1 hw3
      dsimp only at e3 x2 x3
      refine g_aload_n (i := 0) h dX4_one_0 rfl rfl ?_
      refine m_get (v := .int (nI 0)) h hM f_X4_162_4 rfl dX4_one_1 ?_
      refine g_if_le (tgt := 8) h dX4_one_4 (by decide) (fun b4 => ?_) (fun _bz => absurd _bz (by decide))
      refine g_aload_n (i := 0) h dX4_one_8 rfl rfl ?_
      obtain ⟨a9, z9, s9⟩ := hx 2 _ rfl
      refine g_ldcS h z9 dX4_one_9 ?_
      refine g_invV h (hCW _ s9) hcX4_isWord w_X4_182 rfl rfl hM.obj (Nat.le_of_ble_eq_true rfl) (by refine ⟨?_, ?_⟩ <;> ((try dsimp only); omega)) (by refine ⟨?_, ?_⟩ <;> first | exact Nat.le_refl _ | exact Nat.zero_le _ | (dsimp only; omega)) dX4_one_11 (gkr_i (fun c hM => ?_)) gkt_i
      refine g_if_eq (tgt := 56) h dX4_one_14 (by decide) (fun _bz => absurd _bz (by rw [hw]; decide)) (fun b14 => ?_)
      refine g_aload_n (i := 0) h dX4_one_17 rfl rfl ?_
      refine g_invV h (ct_opens h.k hM hF.1 hF.2.1 (by decide) ho) hcX4_opens w_X4_233 rfl rfl hM.obj (Nat.le_of_ble_eq_true rfl) (by refine ⟨?_, ?_⟩ <;> ((try dsimp only); omega)) (by refine ⟨?_, ?_⟩ <;> first | exact Nat.le_refl _ | exact Nat.zero_le _ | (dsimp only; omega)) dX4_one_18 (gkr_i (fun c hM => ?_)) gkt_i
      refine g_if_ne (tgt := 25) h dX4_one_21 (by decide) (fun b21 => ?_) (fun _bz => absurd _bz (by rw [show decide (o = 10) = false from decide_eq_false ho10]; decide))
      rw [show pOpens (P, 0, q, o, cs) = (P, 0, q, o + 1, cs) from (by unfold pOpens; rw [if_neg ho10])] at hM
      refine g_aload_n (i := 0) h dX4_one_25 rfl rfl ?_
      refine g_dup h dX4_one_26 rfl ?_
      refine m_get (v := .int (nI P)) h hM f_X4_155_4 rfl dX4_one_27 ?_
      refine g_iconst (v := nI 3) h dX4_one_30 (by decide) ?_
      first | (with_reducible refine g_iaddN h dX4_one_31 ?_) | refine g_iadd h dX4_one_31 ?_
      refine m_puti h hM mp_4 fp_X4_155_4 dX4_one_32 (fun c hM => ?_)
      rw [rA_4] at hM
      refine g_aload_n (i := 0) h dX4_one_35 rfl rfl ?_
      refine g_invV h (ihd c ma (P + 3) 0 q (o + 1) cs (p3, f3, q3, o3 + 1, cs3) h3 hM hw3 (by decide) (by omega) (by omega) (by omega) (pE cl n cs3.length - pE cl n cs.length) (4 * (pE cl n cs3.length - pE cl n cs.length)) (by (try dsimp only); omega)) hcX4_one w_X4_223 rfl rfl hM.obj (Nat.le_of_ble_eq_true rfl) (by refine ⟨?_, ?_⟩ <;> ((try dsimp only); omega)) (by refine ⟨?_, ?_⟩ <;> ((try dsimp only); omega)) dX4_one_36 (gkr_v (fun c hM => ?_)) gkt_v
      obtain ⟨ma, hM⟩ := hM
      refine g_aload_n (i := 0) h dX4_one_39 rfl rfl ?_
      refine g_dup h dX4_one_40 rfl ?_
      refine m_get (v := .int (nI (o3 + 1))) h hM f_X4_228_4 rfl dX4_one_41 ?_
      refine g_iconst (v := nI 1) h dX4_one_44 (by decide) ?_
      refine g_isub h dX4_one_45 ?_
      refine G.int (nI_pred o3) ?_
      refine m_puti h hM mp_7 fp_X4_228_4 dX4_one_46 (fun c hM => ?_)
      rw [rA_7] at hM
      refine g_aload_n (i := 0) h dX4_one_49 rfl rfl ?_
      refine g_iconst (v := 2) h dX4_one_50 (by decide) ?_
      refine g_iconst (v := 0) h dX4_one_51 (by decide) ?_
      refine g_invV h (ct_emitR (s := (p3, f3, q3, o3, cs3)) h.k hF hM (by (try dsimp only); omega) _ _) hcX4_emits w_X4_219 rfl rfl hM.obj (Nat.le_of_ble_eq_true rfl) (by refine ⟨?_, ?_⟩ <;> ((try dsimp only); omega)) (by refine ⟨?_, ?_⟩ <;> ((try dsimp only); omega)) dX4_one_52 (gkr_v (fun c hM => ?_)) gkt_v
      obtain ⟨ma, hM⟩ := hM
      exact g_vret h ⟨rfl, _, by rw [← hres, pEmit_len]; exact hM⟩ (by (try dsimp only); omega) (by (try dsimp only); omega) dX4_one_55
  rw [if_neg (by rw [hw]; decide)] at hT
  cases hsg : pSign (pT A) sz (P, 0, q, o, cs) 40
  case true =>
    rw [if_pos hsg] at hT
    have hw3 : P + 1 ≤ sz := by have h2 := hsg; simp only [pSign, Bool.and_eq_true, decide_eq_true_eq] at h2; rw [hPB] at h2; exact h2.2
    by_cases ho10 : o = 10
    · rw [if_pos ho10] at hT
      have hres := hT
      have hlen : csr = cs := by have := congrArg (fun s : pSt => s.2.2.2.2) hres; unfold pWrong at this; split at this <;> exact this.symm
      refine g_aload_n (i := 0) h dX4_one_0 rfl rfl ?_
      refine m_get (v := .int (nI 0)) h hM f_X4_162_4 rfl dX4_one_1 ?_
      refine g_if_le (tgt := 8) h dX4_one_4 (by decide) (fun b4 => ?_) (fun _bz => absurd _bz (by decide))
      refine g_aload_n (i := 0) h dX4_one_8 rfl rfl ?_
      obtain ⟨a9, z9, s9⟩ := hx 2 _ rfl
      refine g_ldcS h z9 dX4_one_9 ?_
      refine g_invV h (hCW _ s9) hcX4_isWord w_X4_182 rfl rfl hM.obj (Nat.le_of_ble_eq_true rfl) (by refine ⟨?_, ?_⟩ <;> ((try dsimp only); omega)) (by refine ⟨?_, ?_⟩ <;> first | exact Nat.le_refl _ | exact Nat.zero_le _ | (dsimp only; omega)) dX4_one_11 (gkr_i (fun c hM => ?_)) gkt_i
      refine g_if_eq (tgt := 56) h dX4_one_14 (by decide) (fun b14 => ?_) (fun _bz => absurd _bz (by rw [hw]; decide))
      refine g_aload_n (i := 0) h dX4_one_56 rfl rfl ?_
      refine g_bipush (v := 40) h dX4_one_57 (by decide) ?_
      refine g_invV h (ct_isSign h.k hM hF.1 hF.2.1 hPz (by decide) _) hcX4_isSign w_X4_186 rfl rfl hM.obj (Nat.le_of_ble_eq_true rfl) (by refine ⟨?_, ?_⟩ <;> ((try dsimp only); omega)) (by refine ⟨?_, ?_⟩ <;> first | exact Nat.le_refl _ | exact Nat.zero_le _ | (dsimp only; omega)) dX4_one_59 (gkr_i (fun c hM => ?_)) gkt_i
      rw [hPB] at hM
      refine g_if_eq (tgt := 105) h dX4_one_62 (by decide) (fun _bz => absurd _bz (by rw [hsg]; decide)) (fun b62 => ?_)
      refine g_aload_n (i := 0) h dX4_one_65 rfl rfl ?_
      refine g_invV h (ct_opens h.k hM hF.1 hF.2.1 (by decide) ho) hcX4_opens w_X4_233 rfl rfl hM.obj (Nat.le_of_ble_eq_true rfl) (by refine ⟨?_, ?_⟩ <;> ((try dsimp only); omega)) (by refine ⟨?_, ?_⟩ <;> first | exact Nat.le_refl _ | exact Nat.zero_le _ | (dsimp only; omega)) dX4_one_66 (gkr_i (fun c hM => ?_)) gkt_i
      refine g_if_ne (tgt := 73) h dX4_one_69 (by decide) (fun _bz => absurd _bz (by rw [show decide (o = 10) = true from decide_eq_true ho10]; decide)) (fun b69 => ?_)
      exact g_vret h ⟨rfl, ma, (by rw [← hres, hlen, ← show pOpens (P, 0, q, o, cs) = pWrong (P, 0, q, o, cs) 3 P from (by unfold pOpens; rw [if_pos ho10])]; exact hM : MW c0 mo ma (pE cl n csr.length) ll (rA A n (pr, fr, qr, or_, csr)) B c)⟩ (Nat.zero_le _) (Nat.zero_le _) dX4_one_72
    · rw [if_neg ho10] at hT
      have ePo : pOn (pOpens (P, 0, q, o, cs)) 1 = (P + 1, 0, q, o + 1, cs) := by unfold pOpens; rw [if_neg ho10]; rfl
      rw [ePo] at hT
      have g3 := pAny_go hF.tz d (P + 1, 0, q, o + 1, cs) hw3
      rcases h3 : pAny (pT A) sz d (P + 1, 0, q, o + 1, cs) with ⟨p3, f3, q3, o3', cs3⟩
      rw [h3] at g3 hT
      have eo3 : o3' = o + 1 := g3.2.2.2.1
      obtain ⟨o3, rfl⟩ : ∃ o3, o3' = o3 + 1 := ⟨o, eo3⟩
      have g4 := pNeed_cs (T := pT A) (sz := sz) (p3, f3, q3, o3 + 1, cs3) 41
      have hCN : ∀ (c : gLH) (ma : Nat → Nat), MW c0 mo ma (pE cl n cs3.length) ll (rA A n (p3, f3, q3, o3 + 1, cs3)) B c → Ct l g yX4_need hwX4_need 3 120 [.ref mo, .int 41] c 0 0 (pI (zB (decide (f3 = 0) && pSign (pT A) sz (p3, f3, q3, o3 + 1, cs3) 41)) (MW c0 mo ma (pE cl n cs3.length) ll (rA A n (pNeed (pT A) sz (p3, f3, q3, o3 + 1, cs3) 41)) B)) := fun c ma hM => ct_need hk hM hF.1 hF.2.1 (g3.2.1 hw3) (g3.2.2.1 (show 0 < 4 by decide)) 41
      rcases h4 : pNeed (pT A) sz (p3, f3, q3, o3 + 1, cs3) 41 with ⟨p4, f4, q4, o4, cs4⟩
      rw [h4] at g4 hT hCN
      have eo4 : o4 = o3 + 1 := congrArg Prod.fst g4
      have ec4 : cs3 = cs4 := (congrArg Prod.snd g4).symm
      subst eo4
      subst ec4
      have hres : (p4, f4, q4, o3, cs3) = (pr, fr, qr, or_, csr) := hT
      simp only [Prod.mk.injEq] at hres
      obtain ⟨rfl, rfl, rfl, rfl, rfl⟩ := hres
      have e3 := pE_mono (cl := cl) (n := n) g3.2.2.2.2.1
      have x2 := g3.2.2.2.2.2.1
      have x3 := g3.2.1 hw3
      dsimp only at e3 x2 x3
      refine g_aload_n (i := 0) h dX4_one_0 rfl rfl ?_
      refine m_get (v := .int (nI 0)) h hM f_X4_162_4 rfl dX4_one_1 ?_
      refine g_if_le (tgt := 8) h dX4_one_4 (by decide) (fun b4 => ?_) (fun _bz => absurd _bz (by decide))
      refine g_aload_n (i := 0) h dX4_one_8 rfl rfl ?_
      obtain ⟨a9, z9, s9⟩ := hx 2 _ rfl
      refine g_ldcS h z9 dX4_one_9 ?_
      refine g_invV h (hCW _ s9) hcX4_isWord w_X4_182 rfl rfl hM.obj (Nat.le_of_ble_eq_true rfl) (by refine ⟨?_, ?_⟩ <;> ((try dsimp only); omega)) (by refine ⟨?_, ?_⟩ <;> first | exact Nat.le_refl _ | exact Nat.zero_le _ | (dsimp only; omega)) dX4_one_11 (gkr_i (fun c hM => ?_)) gkt_i
      refine g_if_eq (tgt := 56) h dX4_one_14 (by decide) (fun b14 => ?_) (fun _bz => absurd _bz (by rw [hw]; decide))
      refine g_aload_n (i := 0) h dX4_one_56 rfl rfl ?_
      refine g_bipush (v := 40) h dX4_one_57 (by decide) ?_
      refine g_invV h (ct_isSign h.k hM hF.1 hF.2.1 hPz (by decide) _) hcX4_isSign w_X4_186 rfl rfl hM.obj (Nat.le_of_ble_eq_true rfl) (by refine ⟨?_, ?_⟩ <;> ((try dsimp only); omega)) (by refine ⟨?_, ?_⟩ <;> first | exact Nat.le_refl _ | exact Nat.zero_le _ | (dsimp only; omega)) dX4_one_59 (gkr_i (fun c hM => ?_)) gkt_i
      rw [hPB] at hM
      refine g_if_eq (tgt := 105) h dX4_one_62 (by decide) (fun _bz => absurd _bz (by rw [hsg]; decide)) (fun b62 => ?_)
      refine g_aload_n (i := 0) h dX4_one_65 rfl rfl ?_
      refine g_invV h (ct_opens h.k hM hF.1 hF.2.1 (by decide) ho) hcX4_opens w_X4_233 rfl rfl hM.obj (Nat.le_of_ble_eq_true rfl) (by refine ⟨?_, ?_⟩ <;> ((try dsimp only); omega)) (by refine ⟨?_, ?_⟩ <;> first | exact Nat.le_refl _ | exact Nat.zero_le _ | (dsimp only; omega)) dX4_one_66 (gkr_i (fun c hM => ?_)) gkt_i
      refine g_if_ne (tgt := 73) h dX4_one_69 (by decide) (fun b69 => ?_) (fun _bz => absurd _bz (by rw [show decide (o = 10) = false from decide_eq_false ho10]; decide))
      rw [show pOpens (P, 0, q, o, cs) = (P, 0, q, o + 1, cs) from (by unfold pOpens; rw [if_neg ho10])] at hM
      refine g_aload_n (i := 0) h dX4_one_73 rfl rfl ?_
      refine g_dup h dX4_one_74 rfl ?_
      refine m_get (v := .int (nI P)) h hM f_X4_155_4 rfl dX4_one_75 ?_
      refine g_iconst (v := nI 1) h dX4_one_78 (by decide) ?_
      first | (with_reducible refine g_iaddN h dX4_one_79 ?_) | refine g_iadd h dX4_one_79 ?_
      refine m_puti h hM mp_4 fp_X4_155_4 dX4_one_80 (fun c hM => ?_)
      rw [rA_4] at hM
      refine g_aload_n (i := 0) h dX4_one_83 rfl rfl ?_
      refine g_invV h (hcon c ma (P + 1) 0 q (o + 1) cs (p3, f3, q3, o3 + 1, cs3) h3 hM hw3 (by decide) (by omega) (by omega) (by omega) (pE cl n cs3.length - pE cl n cs.length) (4 * (pE cl n cs3.length - pE cl n cs.length)) (by (try dsimp only); omega)) hcX4_condition w_X4_237 rfl rfl hM.obj (Nat.le_of_ble_eq_true rfl) (by refine ⟨?_, ?_⟩ <;> ((try dsimp only); omega)) (by refine ⟨?_, ?_⟩ <;> ((try dsimp only); omega)) dX4_one_84 (gkr_v (fun c hM => ?_)) gkt_v
      obtain ⟨ma, hM⟩ := hM
      refine g_aload_n (i := 0) h dX4_one_87 rfl rfl ?_
      refine g_bipush (v := 41) h dX4_one_88 (by decide) ?_
      refine g_invV h (hCN c ma hM) hcX4_need w_X4_240 rfl rfl hM.obj (Nat.le_of_ble_eq_true rfl) (by refine ⟨?_, ?_⟩ <;> ((try dsimp only); omega)) (by refine ⟨?_, ?_⟩ <;> ((try dsimp only); omega)) dX4_one_90 (gkr_i (fun c hM => ?_)) gkt_i
      refine g_pop h dX4_one_93 rfl ?_
      refine g_aload_n (i := 0) h dX4_one_94 rfl rfl ?_
      refine g_dup h dX4_one_95 rfl ?_
      refine m_get (v := .int (nI (o3 + 1))) h hM f_X4_228_4 rfl dX4_one_96 ?_
      refine g_iconst (v := nI 1) h dX4_one_99 (by decide) ?_
      refine g_isub h dX4_one_100 ?_
      refine G.int (nI_pred o3) ?_
      refine m_puti h hM mp_7 fp_X4_228_4 dX4_one_101 (fun c hM => ?_)
      rw [rA_7] at hM
      exact g_vret h ⟨rfl, _, hM⟩ (by (try dsimp only); omega) (by (try dsimp only); omega) dX4_one_104
  rw [if_neg (by rw [hsg]; decide)] at hT
  have st10 : ∀ (c : gLH) (ma : Nat → Nat), pAtom (pT A) sz (P, 0, q, o, cs) (pAtoms.drop 10) = (pr, fr, qr, or_, csr) → MW c0 mo ma (pE cl n cs.length) ll (rA A n (P, 0, q, o, cs)) B c → G φ (gQ φ (pV (fun c' => ∃ ma', MW c0 mo ma' (pE cl n csr.length) ll (rA A n (pr, fr, qr, or_, csr)) B c')) mc ms) 289 [(0, .ref mo)] [] c 0 0 := by
    intro c ma hres hM
    have hres : pWrong (P, 0, q, o, cs) 1 P = (pr, fr, qr, or_, csr) := hres
    have ew : csr = cs := by have := congrArg (fun s : pSt => s.2.2.2.2) hres; unfold pWrong at this; split at this <;> exact this.symm
    refine g_aload_n (i := 0) h dX4_one_289 rfl rfl ?_
    refine g_iconst (v := nI 1) h dX4_one_290 (by decide) ?_
    refine g_aload_n (i := 0) h dX4_one_291 rfl rfl ?_
    refine m_get (v := .int (nI P)) h hM f_X4_155_4 rfl dX4_one_292 ?_
    refine g_invV h (ct_wrong h.k hM 1 (nI P)) hcX4_wrong w_X4_189 rfl rfl hM.obj (Nat.le_of_ble_eq_true rfl) (by refine ⟨?_, ?_⟩ <;> ((try dsimp only); omega)) (by refine ⟨?_, ?_⟩ <;> ((try dsimp only); omega)) dX4_one_295 (gkr_i (fun c hM => ?_)) gkt_i
    replace hM := rA_wrong (s := (P, 0, q, o, cs)) (show 0 < 4 by decide) 1 P ▸ hM
    refine g_pop h dX4_one_298 rfl ?_
    exact g_vret h ⟨rfl, _, by rw [← hres, ew]; exact hM⟩ (Nat.zero_le _) (Nat.zero_le _) dX4_one_299
  have st9 : ∀ (c : gLH) (ma : Nat → Nat), pAtom (pT A) sz (P, 0, q, o, cs) (pAtoms.drop 9) = (pr, fr, qr, or_, csr) → MW c0 mo ma (pE cl n cs.length) ll (rA A n (P, 0, q, o, cs)) B c → G φ (gQ φ (pV (fun c' => ∃ ma', MW c0 mo ma' (pE cl n csr.length) ll (rA A n (pr, fr, qr, or_, csr)) B c')) mc ms) 272 [(0, .ref mo)] [] c 0 0 := by
    intro c ma hres hM
    have hres : (if pIsW (pT A) P w_kind = true then pAct (pT A) sz (3, 0) (pOn (P, 0, q, o, cs) w_kind.length) else pAtom (pT A) sz (P, 0, q, o, cs) (pAtoms.drop 10)) = (pr, fr, qr, or_, csr) := hres
    cases hw : pIsW (pT A) P w_kind
    case false =>
      rw [if_neg (by rw [hw]; decide)] at hres
      have hC : ∀ a, gStr c0 a w_kind → Ct l g yX4_eat hwX4_eat 5 200 [.ref mo, .ref a] c 0 0 (pI (zB false) (MW c0 mo ma (pE cl n cs.length) ll (rA A n (P, 0, q, o, cs)) B)) := by
        intro a hS
        have hh := ct_eat hk hM hF.1 hF.2.1 hPz (by decide) hs hS (by decide)
        rw [pEat_at hPB, if_neg (by rw [hw]; decide)] at hh
        exact hh
      refine g_aload_n (i := 0) h dX4_one_272 rfl rfl ?_
      obtain ⟨a273, z273, s273⟩ := hx 12 _ rfl
      refine g_ldcwS h z273 dX4_one_273 ?_
      refine g_invV h (hC _ s273) hcX4_eat w_X4_216 rfl rfl hM.obj (Nat.le_of_ble_eq_true rfl) (by refine ⟨?_, ?_⟩ <;> ((try dsimp only); omega)) (by refine ⟨?_, ?_⟩ <;> ((try dsimp only); omega)) dX4_one_276 (gkr_i (fun c hM => ?_)) gkt_i
      refine g_if_eq (tgt := 289) h dX4_one_279 (by decide) (fun b279 => ?_) (fun _bz => absurd _bz (by decide))
      exact G.to (st10 c ma hres hM) ⟨rfl, trivial⟩
    case true =>
      rw [if_pos hw] at hres
      have hpw := pIsW_lt hF.tz hPz (W := w_kind) (by decide) (by decide) hw
      have hPw : P < P + w_kind.length := by show P < P + _; simp only [w_kind, List.length]; omega
      have hC : ∀ a, gStr c0 a w_kind → Ct l g yX4_eat hwX4_eat 5 200 [.ref mo, .ref a] c 0 0 (pI (zB true) (MW c0 mo ma (pE cl n cs.length) ll (rA A n (P + w_kind.length, 0, q, o, cs)) B)) := by
        intro a hS
        have hh := ct_eat hk hM hF.1 hF.2.1 hPz (by decide) hs hS (by decide)
        rw [pEat_at hPB, if_pos hw] at hh
        exact hh
      have hres : pKind (pT A) sz (P + w_kind.length, 0, q, o, cs) = (pr, fr, qr, or_, csr) := hres
      generalize P + w_kind.length = pw at hC hpw hPw hres
      have hres : pKind (pT A) sz (pw, 0, q, o, cs) = (pr, fr, qr, or_, csr) := hres
      
      refine g_aload_n (i := 0) h dX4_one_272 rfl rfl ?_
      obtain ⟨a273, z273, s273⟩ := hx 12 _ rfl
      refine g_ldcwS h z273 dX4_one_273 ?_
      refine g_invV h (hC _ s273) hcX4_eat w_X4_216 rfl rfl hM.obj (Nat.le_of_ble_eq_true rfl) (by refine ⟨?_, ?_⟩ <;> ((try dsimp only); omega)) (by refine ⟨?_, ?_⟩ <;> ((try dsimp only); omega)) dX4_one_276 (gkr_i (fun c hM => ?_)) gkt_i
      refine g_if_eq (tgt := 289) h dX4_one_279 (by decide) (fun _bz => absurd _bz (by decide)) (fun b279 => ?_)
      refine g_aload_n (i := 0) h dX4_one_282 rfl rfl ?_
      refine g_invV h (ct_kind h.k hF hM hpw (by omega) hs hx mc ms (by rw [hres]; exact hcost)) hcX4_kind w_X4_265 rfl rfl hM.obj (Nat.le_of_ble_eq_true rfl) (by refine ⟨?_, ?_⟩ <;> ((try dsimp only); omega)) (by refine ⟨?_, ?_⟩ <;> ((try dsimp only); omega)) dX4_one_283 (gkr_v (fun c hM => ?_)) gkt_v
      obtain ⟨ma, hM⟩ := hM
      rw [hres] at hM
      refine g_goto (tgt := 299) h dX4_one_286 (by decide) ?_
      exact g_vret h ⟨rfl, _, hM⟩ (by (try dsimp only); omega) (by (try dsimp only); omega) dX4_one_299
  have st8 : ∀ (c : gLH) (ma : Nat → Nat), pAtom (pT A) sz (P, 0, q, o, cs) (pAtoms.drop 8) = (pr, fr, qr, or_, csr) → MW c0 mo ma (pE cl n cs.length) ll (rA A n (P, 0, q, o, cs)) B c → G φ (gQ φ (pV (fun c' => ∃ ma', MW c0 mo ma' (pE cl n csr.length) ll (rA A n (pr, fr, qr, or_, csr)) B c')) mc ms) 253 [(0, .ref mo)] [] c 0 0 := by
    intro c ma hres hM
    have hres : (if pIsW (pT A) P w_day = true then pAct (pT A) sz (2, 19) (pOn (P, 0, q, o, cs) w_day.length) else pAtom (pT A) sz (P, 0, q, o, cs) (pAtoms.drop 9)) = (pr, fr, qr, or_, csr) := hres
    cases hw : pIsW (pT A) P w_day
    case false =>
      rw [if_neg (by rw [hw]; decide)] at hres
      have hC : ∀ a, gStr c0 a w_day → Ct l g yX4_eat hwX4_eat 5 200 [.ref mo, .ref a] c 0 0 (pI (zB false) (MW c0 mo ma (pE cl n cs.length) ll (rA A n (P, 0, q, o, cs)) B)) := by
        intro a hS
        have hh := ct_eat hk hM hF.1 hF.2.1 hPz (by decide) hs hS (by decide)
        rw [pEat_at hPB, if_neg (by rw [hw]; decide)] at hh
        exact hh
      refine g_aload_n (i := 0) h dX4_one_253 rfl rfl ?_
      obtain ⟨a254, z254, s254⟩ := hx 11 _ rfl
      refine g_ldcwS h z254 dX4_one_254 ?_
      refine g_invV h (hC _ s254) hcX4_eat w_X4_216 rfl rfl hM.obj (Nat.le_of_ble_eq_true rfl) (by refine ⟨?_, ?_⟩ <;> ((try dsimp only); omega)) (by refine ⟨?_, ?_⟩ <;> ((try dsimp only); omega)) dX4_one_257 (gkr_i (fun c hM => ?_)) gkt_i
      refine g_if_eq (tgt := 272) h dX4_one_260 (by decide) (fun b260 => ?_) (fun _bz => absurd _bz (by decide))
      exact G.to (st9 c ma hres hM) ⟨rfl, trivial⟩
    case true =>
      rw [if_pos hw] at hres
      have hpw := pIsW_lt hF.tz hPz (W := w_day) (by decide) (by decide) hw
      have hPw : P < P + w_day.length := by show P < P + _; simp only [w_day, List.length]; omega
      have hC : ∀ a, gStr c0 a w_day → Ct l g yX4_eat hwX4_eat 5 200 [.ref mo, .ref a] c 0 0 (pI (zB true) (MW c0 mo ma (pE cl n cs.length) ll (rA A n (P + w_day.length, 0, q, o, cs)) B)) := by
        intro a hS
        have hh := ct_eat hk hM hF.1 hF.2.1 hPz (by decide) hs hS (by decide)
        rw [pEat_at hPB, if_pos hw] at hh
        exact hh
      have hres : pRel (pT A) sz (P + w_day.length, 0, q, o, cs) 19 = (pr, fr, qr, or_, csr) := hres
      generalize P + w_day.length = pw at hC hpw hPw hres
      have hres : pRel (pT A) sz (pw, 0, q, o, cs) 19 = (pr, fr, qr, or_, csr) := hres
      
      refine g_aload_n (i := 0) h dX4_one_253 rfl rfl ?_
      obtain ⟨a254, z254, s254⟩ := hx 11 _ rfl
      refine g_ldcwS h z254 dX4_one_254 ?_
      refine g_invV h (hC _ s254) hcX4_eat w_X4_216 rfl rfl hM.obj (Nat.le_of_ble_eq_true rfl) (by refine ⟨?_, ?_⟩ <;> ((try dsimp only); omega)) (by refine ⟨?_, ?_⟩ <;> ((try dsimp only); omega)) dX4_one_257 (gkr_i (fun c hM => ?_)) gkt_i
      refine g_if_eq (tgt := 272) h dX4_one_260 (by decide) (fun _bz => absurd _bz (by decide)) (fun b260 => ?_)
      refine g_aload_n (i := 0) h dX4_one_263 rfl rfl ?_
      refine g_bipush (v := nI 19) h dX4_one_264 (by decide) ?_
      refine g_invV h (ct_relation h.k hF hM hpw (by omega) 19 mc ms (by rw [hres]; exact hcost)) hcX4_relation w_X4_254 rfl rfl hM.obj (Nat.le_of_ble_eq_true rfl) (by refine ⟨?_, ?_⟩ <;> ((try dsimp only); omega)) (by refine ⟨?_, ?_⟩ <;> ((try dsimp only); omega)) dX4_one_266 (gkr_v (fun c hM => ?_)) gkt_v
      obtain ⟨ma, hM⟩ := hM
      rw [hres] at hM
      refine g_goto (tgt := 299) h dX4_one_269 (by decide) ?_
      exact g_vret h ⟨rfl, _, hM⟩ (by (try dsimp only); omega) (by (try dsimp only); omega) dX4_one_299
  have st7 : ∀ (c : gLH) (ma : Nat → Nat), pAtom (pT A) sz (P, 0, q, o, cs) (pAtoms.drop 7) = (pr, fr, qr, or_, csr) → MW c0 mo ma (pE cl n cs.length) ll (rA A n (P, 0, q, o, cs)) B c → G φ (gQ φ (pV (fun c' => ∃ ma', MW c0 mo ma' (pE cl n csr.length) ll (rA A n (pr, fr, qr, or_, csr)) B c')) mc ms) 234 [(0, .ref mo)] [] c 0 0 := by
    intro c ma hres hM
    have hres : (if pIsW (pT A) P w_gate = true then pAct (pT A) sz (2, 16) (pOn (P, 0, q, o, cs) w_gate.length) else pAtom (pT A) sz (P, 0, q, o, cs) (pAtoms.drop 8)) = (pr, fr, qr, or_, csr) := hres
    cases hw : pIsW (pT A) P w_gate
    case false =>
      rw [if_neg (by rw [hw]; decide)] at hres
      have hC : ∀ a, gStr c0 a w_gate → Ct l g yX4_eat hwX4_eat 5 200 [.ref mo, .ref a] c 0 0 (pI (zB false) (MW c0 mo ma (pE cl n cs.length) ll (rA A n (P, 0, q, o, cs)) B)) := by
        intro a hS
        have hh := ct_eat hk hM hF.1 hF.2.1 hPz (by decide) hs hS (by decide)
        rw [pEat_at hPB, if_neg (by rw [hw]; decide)] at hh
        exact hh
      refine g_aload_n (i := 0) h dX4_one_234 rfl rfl ?_
      obtain ⟨a235, z235, s235⟩ := hx 10 _ rfl
      refine g_ldcwS h z235 dX4_one_235 ?_
      refine g_invV h (hC _ s235) hcX4_eat w_X4_216 rfl rfl hM.obj (Nat.le_of_ble_eq_true rfl) (by refine ⟨?_, ?_⟩ <;> ((try dsimp only); omega)) (by refine ⟨?_, ?_⟩ <;> ((try dsimp only); omega)) dX4_one_238 (gkr_i (fun c hM => ?_)) gkt_i
      refine g_if_eq (tgt := 253) h dX4_one_241 (by decide) (fun b241 => ?_) (fun _bz => absurd _bz (by decide))
      exact G.to (st8 c ma hres hM) ⟨rfl, trivial⟩
    case true =>
      rw [if_pos hw] at hres
      have hpw := pIsW_lt hF.tz hPz (W := w_gate) (by decide) (by decide) hw
      have hPw : P < P + w_gate.length := by show P < P + _; simp only [w_gate, List.length]; omega
      have hC : ∀ a, gStr c0 a w_gate → Ct l g yX4_eat hwX4_eat 5 200 [.ref mo, .ref a] c 0 0 (pI (zB true) (MW c0 mo ma (pE cl n cs.length) ll (rA A n (P + w_gate.length, 0, q, o, cs)) B)) := by
        intro a hS
        have hh := ct_eat hk hM hF.1 hF.2.1 hPz (by decide) hs hS (by decide)
        rw [pEat_at hPB, if_pos hw] at hh
        exact hh
      have hres : pRel (pT A) sz (P + w_gate.length, 0, q, o, cs) 16 = (pr, fr, qr, or_, csr) := hres
      generalize P + w_gate.length = pw at hC hpw hPw hres
      have hres : pRel (pT A) sz (pw, 0, q, o, cs) 16 = (pr, fr, qr, or_, csr) := hres
      
      refine g_aload_n (i := 0) h dX4_one_234 rfl rfl ?_
      obtain ⟨a235, z235, s235⟩ := hx 10 _ rfl
      refine g_ldcwS h z235 dX4_one_235 ?_
      refine g_invV h (hC _ s235) hcX4_eat w_X4_216 rfl rfl hM.obj (Nat.le_of_ble_eq_true rfl) (by refine ⟨?_, ?_⟩ <;> ((try dsimp only); omega)) (by refine ⟨?_, ?_⟩ <;> ((try dsimp only); omega)) dX4_one_238 (gkr_i (fun c hM => ?_)) gkt_i
      refine g_if_eq (tgt := 253) h dX4_one_241 (by decide) (fun _bz => absurd _bz (by decide)) (fun b241 => ?_)
      refine g_aload_n (i := 0) h dX4_one_244 rfl rfl ?_
      refine g_bipush (v := nI 16) h dX4_one_245 (by decide) ?_
      refine g_invV h (ct_relation h.k hF hM hpw (by omega) 16 mc ms (by rw [hres]; exact hcost)) hcX4_relation w_X4_254 rfl rfl hM.obj (Nat.le_of_ble_eq_true rfl) (by refine ⟨?_, ?_⟩ <;> ((try dsimp only); omega)) (by refine ⟨?_, ?_⟩ <;> ((try dsimp only); omega)) dX4_one_247 (gkr_v (fun c hM => ?_)) gkt_v
      obtain ⟨ma, hM⟩ := hM
      rw [hres] at hM
      refine g_goto (tgt := 299) h dX4_one_250 (by decide) ?_
      exact g_vret h ⟨rfl, _, hM⟩ (by (try dsimp only); omega) (by (try dsimp only); omega) dX4_one_299
  have st6 : ∀ (c : gLH) (ma : Nat → Nat), pAtom (pT A) sz (P, 0, q, o, cs) (pAtoms.drop 6) = (pr, fr, qr, or_, csr) → MW c0 mo ma (pE cl n cs.length) ll (rA A n (P, 0, q, o, cs)) B c → G φ (gQ φ (pV (fun c' => ∃ ma', MW c0 mo ma' (pE cl n csr.length) ll (rA A n (pr, fr, qr, or_, csr)) B c')) mc ms) 215 [(0, .ref mo)] [] c 0 0 := by
    intro c ma hres hM
    have hres : (if pIsW (pT A) P w_beasts = true then pAct (pT A) sz (2, 13) (pOn (P, 0, q, o, cs) w_beasts.length) else pAtom (pT A) sz (P, 0, q, o, cs) (pAtoms.drop 7)) = (pr, fr, qr, or_, csr) := hres
    cases hw : pIsW (pT A) P w_beasts
    case false =>
      rw [if_neg (by rw [hw]; decide)] at hres
      have hC : ∀ a, gStr c0 a w_beasts → Ct l g yX4_eat hwX4_eat 5 200 [.ref mo, .ref a] c 0 0 (pI (zB false) (MW c0 mo ma (pE cl n cs.length) ll (rA A n (P, 0, q, o, cs)) B)) := by
        intro a hS
        have hh := ct_eat hk hM hF.1 hF.2.1 hPz (by decide) hs hS (by decide)
        rw [pEat_at hPB, if_neg (by rw [hw]; decide)] at hh
        exact hh
      refine g_aload_n (i := 0) h dX4_one_215 rfl rfl ?_
      obtain ⟨a216, z216, s216⟩ := hx 9 _ rfl
      refine g_ldcwS h z216 dX4_one_216 ?_
      refine g_invV h (hC _ s216) hcX4_eat w_X4_216 rfl rfl hM.obj (Nat.le_of_ble_eq_true rfl) (by refine ⟨?_, ?_⟩ <;> ((try dsimp only); omega)) (by refine ⟨?_, ?_⟩ <;> ((try dsimp only); omega)) dX4_one_219 (gkr_i (fun c hM => ?_)) gkt_i
      refine g_if_eq (tgt := 234) h dX4_one_222 (by decide) (fun b222 => ?_) (fun _bz => absurd _bz (by decide))
      exact G.to (st7 c ma hres hM) ⟨rfl, trivial⟩
    case true =>
      rw [if_pos hw] at hres
      have hpw := pIsW_lt hF.tz hPz (W := w_beasts) (by decide) (by decide) hw
      have hPw : P < P + w_beasts.length := by show P < P + _; simp only [w_beasts, List.length]; omega
      have hC : ∀ a, gStr c0 a w_beasts → Ct l g yX4_eat hwX4_eat 5 200 [.ref mo, .ref a] c 0 0 (pI (zB true) (MW c0 mo ma (pE cl n cs.length) ll (rA A n (P + w_beasts.length, 0, q, o, cs)) B)) := by
        intro a hS
        have hh := ct_eat hk hM hF.1 hF.2.1 hPz (by decide) hs hS (by decide)
        rw [pEat_at hPB, if_pos hw] at hh
        exact hh
      have hres : pRel (pT A) sz (P + w_beasts.length, 0, q, o, cs) 13 = (pr, fr, qr, or_, csr) := hres
      generalize P + w_beasts.length = pw at hC hpw hPw hres
      have hres : pRel (pT A) sz (pw, 0, q, o, cs) 13 = (pr, fr, qr, or_, csr) := hres
      
      refine g_aload_n (i := 0) h dX4_one_215 rfl rfl ?_
      obtain ⟨a216, z216, s216⟩ := hx 9 _ rfl
      refine g_ldcwS h z216 dX4_one_216 ?_
      refine g_invV h (hC _ s216) hcX4_eat w_X4_216 rfl rfl hM.obj (Nat.le_of_ble_eq_true rfl) (by refine ⟨?_, ?_⟩ <;> ((try dsimp only); omega)) (by refine ⟨?_, ?_⟩ <;> ((try dsimp only); omega)) dX4_one_219 (gkr_i (fun c hM => ?_)) gkt_i
      refine g_if_eq (tgt := 234) h dX4_one_222 (by decide) (fun _bz => absurd _bz (by decide)) (fun b222 => ?_)
      refine g_aload_n (i := 0) h dX4_one_225 rfl rfl ?_
      refine g_bipush (v := nI 13) h dX4_one_226 (by decide) ?_
      refine g_invV h (ct_relation h.k hF hM hpw (by omega) 13 mc ms (by rw [hres]; exact hcost)) hcX4_relation w_X4_254 rfl rfl hM.obj (Nat.le_of_ble_eq_true rfl) (by refine ⟨?_, ?_⟩ <;> ((try dsimp only); omega)) (by refine ⟨?_, ?_⟩ <;> ((try dsimp only); omega)) dX4_one_228 (gkr_v (fun c hM => ?_)) gkt_v
      obtain ⟨ma, hM⟩ := hM
      rw [hres] at hM
      refine g_goto (tgt := 299) h dX4_one_231 (by decide) ?_
      exact g_vret h ⟨rfl, _, hM⟩ (by (try dsimp only); omega) (by (try dsimp only); omega) dX4_one_299
  have st5 : ∀ (c : gLH) (ma : Nat → Nat), pAtom (pT A) sz (P, 0, q, o, cs) (pAtoms.drop 5) = (pr, fr, qr, or_, csr) → MW c0 mo ma (pE cl n cs.length) ll (rA A n (P, 0, q, o, cs)) B c → G φ (gQ φ (pV (fun c' => ∃ ma', MW c0 mo ma' (pE cl n csr.length) ll (rA A n (pr, fr, qr, or_, csr)) B c')) mc ms) 197 [(0, .ref mo)] [] c 0 0 := by
    intro c ma hres hM
    have hres : (if pIsW (pT A) P w_wheels = true then pAct (pT A) sz (2, 10) (pOn (P, 0, q, o, cs) w_wheels.length) else pAtom (pT A) sz (P, 0, q, o, cs) (pAtoms.drop 6)) = (pr, fr, qr, or_, csr) := hres
    cases hw : pIsW (pT A) P w_wheels
    case false =>
      rw [if_neg (by rw [hw]; decide)] at hres
      have hC : ∀ a, gStr c0 a w_wheels → Ct l g yX4_eat hwX4_eat 5 200 [.ref mo, .ref a] c 0 0 (pI (zB false) (MW c0 mo ma (pE cl n cs.length) ll (rA A n (P, 0, q, o, cs)) B)) := by
        intro a hS
        have hh := ct_eat hk hM hF.1 hF.2.1 hPz (by decide) hs hS (by decide)
        rw [pEat_at hPB, if_neg (by rw [hw]; decide)] at hh
        exact hh
      refine g_aload_n (i := 0) h dX4_one_197 rfl rfl ?_
      obtain ⟨a198, z198, s198⟩ := hx 8 _ rfl
      refine g_ldcS h z198 dX4_one_198 ?_
      refine g_invV h (hC _ s198) hcX4_eat w_X4_216 rfl rfl hM.obj (Nat.le_of_ble_eq_true rfl) (by refine ⟨?_, ?_⟩ <;> ((try dsimp only); omega)) (by refine ⟨?_, ?_⟩ <;> ((try dsimp only); omega)) dX4_one_200 (gkr_i (fun c hM => ?_)) gkt_i
      refine g_if_eq (tgt := 215) h dX4_one_203 (by decide) (fun b203 => ?_) (fun _bz => absurd _bz (by decide))
      exact G.to (st6 c ma hres hM) ⟨rfl, trivial⟩
    case true =>
      rw [if_pos hw] at hres
      have hpw := pIsW_lt hF.tz hPz (W := w_wheels) (by decide) (by decide) hw
      have hPw : P < P + w_wheels.length := by show P < P + _; simp only [w_wheels, List.length]; omega
      have hC : ∀ a, gStr c0 a w_wheels → Ct l g yX4_eat hwX4_eat 5 200 [.ref mo, .ref a] c 0 0 (pI (zB true) (MW c0 mo ma (pE cl n cs.length) ll (rA A n (P + w_wheels.length, 0, q, o, cs)) B)) := by
        intro a hS
        have hh := ct_eat hk hM hF.1 hF.2.1 hPz (by decide) hs hS (by decide)
        rw [pEat_at hPB, if_pos hw] at hh
        exact hh
      have hres : pRel (pT A) sz (P + w_wheels.length, 0, q, o, cs) 10 = (pr, fr, qr, or_, csr) := hres
      generalize P + w_wheels.length = pw at hC hpw hPw hres
      have hres : pRel (pT A) sz (pw, 0, q, o, cs) 10 = (pr, fr, qr, or_, csr) := hres
      
      refine g_aload_n (i := 0) h dX4_one_197 rfl rfl ?_
      obtain ⟨a198, z198, s198⟩ := hx 8 _ rfl
      refine g_ldcS h z198 dX4_one_198 ?_
      refine g_invV h (hC _ s198) hcX4_eat w_X4_216 rfl rfl hM.obj (Nat.le_of_ble_eq_true rfl) (by refine ⟨?_, ?_⟩ <;> ((try dsimp only); omega)) (by refine ⟨?_, ?_⟩ <;> ((try dsimp only); omega)) dX4_one_200 (gkr_i (fun c hM => ?_)) gkt_i
      refine g_if_eq (tgt := 215) h dX4_one_203 (by decide) (fun _bz => absurd _bz (by decide)) (fun b203 => ?_)
      refine g_aload_n (i := 0) h dX4_one_206 rfl rfl ?_
      refine g_bipush (v := nI 10) h dX4_one_207 (by decide) ?_
      refine g_invV h (ct_relation h.k hF hM hpw (by omega) 10 mc ms (by rw [hres]; exact hcost)) hcX4_relation w_X4_254 rfl rfl hM.obj (Nat.le_of_ble_eq_true rfl) (by refine ⟨?_, ?_⟩ <;> ((try dsimp only); omega)) (by refine ⟨?_, ?_⟩ <;> ((try dsimp only); omega)) dX4_one_209 (gkr_v (fun c hM => ?_)) gkt_v
      obtain ⟨ma, hM⟩ := hM
      rw [hres] at hM
      refine g_goto (tgt := 299) h dX4_one_212 (by decide) ?_
      exact g_vret h ⟨rfl, _, hM⟩ (by (try dsimp only); omega) (by (try dsimp only); omega) dX4_one_299
  have st4 : ∀ (c : gLH) (ma : Nat → Nat), pAtom (pT A) sz (P, 0, q, o, cs) (pAtoms.drop 4) = (pr, fr, qr, or_, csr) → MW c0 mo ma (pE cl n cs.length) ll (rA A n (P, 0, q, o, cs)) B c → G φ (gQ φ (pV (fun c' => ∃ ma', MW c0 mo ma' (pE cl n csr.length) ll (rA A n (pr, fr, qr, or_, csr)) B c')) mc ms) 178 [(0, .ref mo)] [] c 0 0 := by
    intro c ma hres hM
    have hres : (if pIsW (pT A) P w_back = true then pAct (pT A) sz (1, 0) (pOn (P, 0, q, o, cs) w_back.length) else pAtom (pT A) sz (P, 0, q, o, cs) (pAtoms.drop 5)) = (pr, fr, qr, or_, csr) := hres
    cases hw : pIsW (pT A) P w_back
    case false =>
      rw [if_neg (by rw [hw]; decide)] at hres
      have hC : ∀ a, gStr c0 a w_back → Ct l g yX4_eat hwX4_eat 5 200 [.ref mo, .ref a] c 0 0 (pI (zB false) (MW c0 mo ma (pE cl n cs.length) ll (rA A n (P, 0, q, o, cs)) B)) := by
        intro a hS
        have hh := ct_eat hk hM hF.1 hF.2.1 hPz (by decide) hs hS (by decide)
        rw [pEat_at hPB, if_neg (by rw [hw]; decide)] at hh
        exact hh
      refine g_aload_n (i := 0) h dX4_one_178 rfl rfl ?_
      obtain ⟨a179, z179, s179⟩ := hx 7 _ rfl
      refine g_ldcS h z179 dX4_one_179 ?_
      refine g_invV h (hC _ s179) hcX4_eat w_X4_216 rfl rfl hM.obj (Nat.le_of_ble_eq_true rfl) (by refine ⟨?_, ?_⟩ <;> ((try dsimp only); omega)) (by refine ⟨?_, ?_⟩ <;> ((try dsimp only); omega)) dX4_one_181 (gkr_i (fun c hM => ?_)) gkt_i
      refine g_if_eq (tgt := 197) h dX4_one_184 (by decide) (fun b184 => ?_) (fun _bz => absurd _bz (by decide))
      exact G.to (st5 c ma hres hM) ⟨rfl, trivial⟩
    case true =>
      rw [if_pos hw] at hres
      have hpw := pIsW_lt hF.tz hPz (W := w_back) (by decide) (by decide) hw
      have hPw : P < P + w_back.length := by show P < P + _; simp only [w_back, List.length]; omega
      have hC : ∀ a, gStr c0 a w_back → Ct l g yX4_eat hwX4_eat 5 200 [.ref mo, .ref a] c 0 0 (pI (zB true) (MW c0 mo ma (pE cl n cs.length) ll (rA A n (P + w_back.length, 0, q, o, cs)) B)) := by
        intro a hS
        have hh := ct_eat hk hM hF.1 hF.2.1 hPz (by decide) hs hS (by decide)
        rw [pEat_at hPB, if_pos hw] at hh
        exact hh
      have hres : pEmit (P + w_back.length, 0, q, o, cs) 8 0 = (pr, fr, qr, or_, csr) := hres
      generalize P + w_back.length = pw at hC hpw hPw hres
      have hres : pEmit (pw, 0, q, o, cs) 8 0 = (pr, fr, qr, or_, csr) := hres
      have el : csr.length = cs.length + 1 := by have := pEmit_len (pw, 0, q, o, cs) 8 0; rw [hres] at this; exact this
      rw [el] at hcost
      refine g_aload_n (i := 0) h dX4_one_178 rfl rfl ?_
      obtain ⟨a179, z179, s179⟩ := hx 7 _ rfl
      refine g_ldcS h z179 dX4_one_179 ?_
      refine g_invV h (hC _ s179) hcX4_eat w_X4_216 rfl rfl hM.obj (Nat.le_of_ble_eq_true rfl) (by refine ⟨?_, ?_⟩ <;> ((try dsimp only); omega)) (by refine ⟨?_, ?_⟩ <;> ((try dsimp only); omega)) dX4_one_181 (gkr_i (fun c hM => ?_)) gkt_i
      refine g_if_eq (tgt := 197) h dX4_one_184 (by decide) (fun _bz => absurd _bz (by decide)) (fun b184 => ?_)
      refine g_aload_n (i := 0) h dX4_one_187 rfl rfl ?_
      refine g_bipush (v := 8) h dX4_one_188 (by decide) ?_
      refine g_iconst (v := 0) h dX4_one_190 (by decide) ?_
      refine g_invV h (ct_emitR (s := (pw, 0, q, o, cs)) h.k hF hM (by (try dsimp only); omega) _ _) hcX4_emits w_X4_219 rfl rfl hM.obj (Nat.le_of_ble_eq_true rfl) (by refine ⟨?_, ?_⟩ <;> ((try dsimp only); omega)) (by refine ⟨?_, ?_⟩ <;> ((try dsimp only); omega)) dX4_one_191 (gkr_v (fun c hM => ?_)) gkt_v
      obtain ⟨ma, hM⟩ := hM
      refine g_goto (tgt := 299) h dX4_one_194 (by decide) ?_
      exact g_vret h ⟨rfl, _, by rw [← hres, el]; exact hM⟩ (by (try dsimp only); omega) (by (try dsimp only); omega) dX4_one_299
  have st3 : ∀ (c : gLH) (ma : Nat → Nat), pAtom (pT A) sz (P, 0, q, o, cs) (pAtoms.drop 3) = (pr, fr, qr, or_, csr) → MW c0 mo ma (pE cl n cs.length) ll (rA A n (P, 0, q, o, cs)) B c → G φ (gQ φ (pV (fun c' => ∃ ma', MW c0 mo ma' (pE cl n csr.length) ll (rA A n (pr, fr, qr, or_, csr)) B c')) mc ms) 159 [(0, .ref mo)] [] c 0 0 := by
    intro c ma hres hM
    have hres : (if pIsW (pT A) P w_farm = true then pAct (pT A) sz (0, 8) (pOn (P, 0, q, o, cs) w_farm.length) else pAtom (pT A) sz (P, 0, q, o, cs) (pAtoms.drop 4)) = (pr, fr, qr, or_, csr) := hres
    cases hw : pIsW (pT A) P w_farm
    case false =>
      rw [if_neg (by rw [hw]; decide)] at hres
      have hC : ∀ a, gStr c0 a w_farm → Ct l g yX4_eat hwX4_eat 5 200 [.ref mo, .ref a] c 0 0 (pI (zB false) (MW c0 mo ma (pE cl n cs.length) ll (rA A n (P, 0, q, o, cs)) B)) := by
        intro a hS
        have hh := ct_eat hk hM hF.1 hF.2.1 hPz (by decide) hs hS (by decide)
        rw [pEat_at hPB, if_neg (by rw [hw]; decide)] at hh
        exact hh
      refine g_aload_n (i := 0) h dX4_one_159 rfl rfl ?_
      obtain ⟨a160, z160, s160⟩ := hx 6 _ rfl
      refine g_ldcS h z160 dX4_one_160 ?_
      refine g_invV h (hC _ s160) hcX4_eat w_X4_216 rfl rfl hM.obj (Nat.le_of_ble_eq_true rfl) (by refine ⟨?_, ?_⟩ <;> ((try dsimp only); omega)) (by refine ⟨?_, ?_⟩ <;> ((try dsimp only); omega)) dX4_one_162 (gkr_i (fun c hM => ?_)) gkt_i
      refine g_if_eq (tgt := 178) h dX4_one_165 (by decide) (fun b165 => ?_) (fun _bz => absurd _bz (by decide))
      exact G.to (st4 c ma hres hM) ⟨rfl, trivial⟩
    case true =>
      rw [if_pos hw] at hres
      have hpw := pIsW_lt hF.tz hPz (W := w_farm) (by decide) (by decide) hw
      have hPw : P < P + w_farm.length := by show P < P + _; simp only [w_farm, List.length]; omega
      have hC : ∀ a, gStr c0 a w_farm → Ct l g yX4_eat hwX4_eat 5 200 [.ref mo, .ref a] c 0 0 (pI (zB true) (MW c0 mo ma (pE cl n cs.length) ll (rA A n (P + w_farm.length, 0, q, o, cs)) B)) := by
        intro a hS
        have hh := ct_eat hk hM hF.1 hF.2.1 hPz (by decide) hs hS (by decide)
        rw [pEat_at hPB, if_pos hw] at hh
        exact hh
      have hres : pEmit (P + w_farm.length, 0, q, o, cs) 3 (nI 8) = (pr, fr, qr, or_, csr) := hres
      generalize P + w_farm.length = pw at hC hpw hPw hres
      have hres : pEmit (pw, 0, q, o, cs) 3 (nI 8) = (pr, fr, qr, or_, csr) := hres
      have el : csr.length = cs.length + 1 := by have := pEmit_len (pw, 0, q, o, cs) 3 (nI 8); rw [hres] at this; exact this
      rw [el] at hcost
      refine g_aload_n (i := 0) h dX4_one_159 rfl rfl ?_
      obtain ⟨a160, z160, s160⟩ := hx 6 _ rfl
      refine g_ldcS h z160 dX4_one_160 ?_
      refine g_invV h (hC _ s160) hcX4_eat w_X4_216 rfl rfl hM.obj (Nat.le_of_ble_eq_true rfl) (by refine ⟨?_, ?_⟩ <;> ((try dsimp only); omega)) (by refine ⟨?_, ?_⟩ <;> ((try dsimp only); omega)) dX4_one_162 (gkr_i (fun c hM => ?_)) gkt_i
      refine g_if_eq (tgt := 178) h dX4_one_165 (by decide) (fun _bz => absurd _bz (by decide)) (fun b165 => ?_)
      refine g_aload_n (i := 0) h dX4_one_168 rfl rfl ?_
      refine g_iconst (v := 3) h dX4_one_169 (by decide) ?_
      refine g_bipush (v := nI 8) h dX4_one_170 (by decide) ?_
      refine g_invV h (ct_emitR (s := (pw, 0, q, o, cs)) h.k hF hM (by (try dsimp only); omega) _ _) hcX4_emits w_X4_219 rfl rfl hM.obj (Nat.le_of_ble_eq_true rfl) (by refine ⟨?_, ?_⟩ <;> ((try dsimp only); omega)) (by refine ⟨?_, ?_⟩ <;> ((try dsimp only); omega)) dX4_one_172 (gkr_v (fun c hM => ?_)) gkt_v
      obtain ⟨ma, hM⟩ := hM
      refine g_goto (tgt := 299) h dX4_one_175 (by decide) ?_
      exact g_vret h ⟨rfl, _, by rw [← hres, el]; exact hM⟩ (by (try dsimp only); omega) (by (try dsimp only); omega) dX4_one_299
  have st2 : ∀ (c : gLH) (ma : Nat → Nat), pAtom (pT A) sz (P, 0, q, o, cs) (pAtoms.drop 2) = (pr, fr, qr, or_, csr) → MW c0 mo ma (pE cl n cs.length) ll (rA A n (P, 0, q, o, cs)) B c → G φ (gQ φ (pV (fun c' => ∃ ma', MW c0 mo ma' (pE cl n csr.length) ll (rA A n (pr, fr, qr, or_, csr)) B c')) mc ms) 141 [(0, .ref mo)] [] c 0 0 := by
    intro c ma hres hM
    have hres : (if pIsW (pT A) P w_church = true then pAct (pT A) sz (0, 4) (pOn (P, 0, q, o, cs) w_church.length) else pAtom (pT A) sz (P, 0, q, o, cs) (pAtoms.drop 3)) = (pr, fr, qr, or_, csr) := hres
    cases hw : pIsW (pT A) P w_church
    case false =>
      rw [if_neg (by rw [hw]; decide)] at hres
      have hC : ∀ a, gStr c0 a w_church → Ct l g yX4_eat hwX4_eat 5 200 [.ref mo, .ref a] c 0 0 (pI (zB false) (MW c0 mo ma (pE cl n cs.length) ll (rA A n (P, 0, q, o, cs)) B)) := by
        intro a hS
        have hh := ct_eat hk hM hF.1 hF.2.1 hPz (by decide) hs hS (by decide)
        rw [pEat_at hPB, if_neg (by rw [hw]; decide)] at hh
        exact hh
      refine g_aload_n (i := 0) h dX4_one_141 rfl rfl ?_
      obtain ⟨a142, z142, s142⟩ := hx 5 _ rfl
      refine g_ldcS h z142 dX4_one_142 ?_
      refine g_invV h (hC _ s142) hcX4_eat w_X4_216 rfl rfl hM.obj (Nat.le_of_ble_eq_true rfl) (by refine ⟨?_, ?_⟩ <;> ((try dsimp only); omega)) (by refine ⟨?_, ?_⟩ <;> ((try dsimp only); omega)) dX4_one_144 (gkr_i (fun c hM => ?_)) gkt_i
      refine g_if_eq (tgt := 159) h dX4_one_147 (by decide) (fun b147 => ?_) (fun _bz => absurd _bz (by decide))
      exact G.to (st3 c ma hres hM) ⟨rfl, trivial⟩
    case true =>
      rw [if_pos hw] at hres
      have hpw := pIsW_lt hF.tz hPz (W := w_church) (by decide) (by decide) hw
      have hPw : P < P + w_church.length := by show P < P + _; simp only [w_church, List.length]; omega
      have hC : ∀ a, gStr c0 a w_church → Ct l g yX4_eat hwX4_eat 5 200 [.ref mo, .ref a] c 0 0 (pI (zB true) (MW c0 mo ma (pE cl n cs.length) ll (rA A n (P + w_church.length, 0, q, o, cs)) B)) := by
        intro a hS
        have hh := ct_eat hk hM hF.1 hF.2.1 hPz (by decide) hs hS (by decide)
        rw [pEat_at hPB, if_pos hw] at hh
        exact hh
      have hres : pEmit (P + w_church.length, 0, q, o, cs) 3 (nI 4) = (pr, fr, qr, or_, csr) := hres
      generalize P + w_church.length = pw at hC hpw hPw hres
      have hres : pEmit (pw, 0, q, o, cs) 3 (nI 4) = (pr, fr, qr, or_, csr) := hres
      have el : csr.length = cs.length + 1 := by have := pEmit_len (pw, 0, q, o, cs) 3 (nI 4); rw [hres] at this; exact this
      rw [el] at hcost
      refine g_aload_n (i := 0) h dX4_one_141 rfl rfl ?_
      obtain ⟨a142, z142, s142⟩ := hx 5 _ rfl
      refine g_ldcS h z142 dX4_one_142 ?_
      refine g_invV h (hC _ s142) hcX4_eat w_X4_216 rfl rfl hM.obj (Nat.le_of_ble_eq_true rfl) (by refine ⟨?_, ?_⟩ <;> ((try dsimp only); omega)) (by refine ⟨?_, ?_⟩ <;> ((try dsimp only); omega)) dX4_one_144 (gkr_i (fun c hM => ?_)) gkt_i
      refine g_if_eq (tgt := 159) h dX4_one_147 (by decide) (fun _bz => absurd _bz (by decide)) (fun b147 => ?_)
      refine g_aload_n (i := 0) h dX4_one_150 rfl rfl ?_
      refine g_iconst (v := 3) h dX4_one_151 (by decide) ?_
      refine g_iconst (v := nI 4) h dX4_one_152 (by decide) ?_
      refine g_invV h (ct_emitR (s := (pw, 0, q, o, cs)) h.k hF hM (by (try dsimp only); omega) _ _) hcX4_emits w_X4_219 rfl rfl hM.obj (Nat.le_of_ble_eq_true rfl) (by refine ⟨?_, ?_⟩ <;> ((try dsimp only); omega)) (by refine ⟨?_, ?_⟩ <;> ((try dsimp only); omega)) dX4_one_153 (gkr_v (fun c hM => ?_)) gkt_v
      obtain ⟨ma, hM⟩ := hM
      refine g_goto (tgt := 299) h dX4_one_156 (by decide) ?_
      exact g_vret h ⟨rfl, _, by rw [← hres, el]; exact hM⟩ (by (try dsimp only); omega) (by (try dsimp only); omega) dX4_one_299
  have st1 : ∀ (c : gLH) (ma : Nat → Nat), pAtom (pT A) sz (P, 0, q, o, cs) (pAtoms.drop 1) = (pr, fr, qr, or_, csr) → MW c0 mo ma (pE cl n cs.length) ll (rA A n (P, 0, q, o, cs)) B c → G φ (gQ φ (pV (fun c' => ∃ ma', MW c0 mo ma' (pE cl n csr.length) ll (rA A n (pr, fr, qr, or_, csr)) B c')) mc ms) 123 [(0, .ref mo)] [] c 0 0 := by
    intro c ma hres hM
    have hres : (if pIsW (pT A) P w_army = true then pAct (pT A) sz (0, 2) (pOn (P, 0, q, o, cs) w_army.length) else pAtom (pT A) sz (P, 0, q, o, cs) (pAtoms.drop 2)) = (pr, fr, qr, or_, csr) := hres
    cases hw : pIsW (pT A) P w_army
    case false =>
      rw [if_neg (by rw [hw]; decide)] at hres
      have hC : ∀ a, gStr c0 a w_army → Ct l g yX4_eat hwX4_eat 5 200 [.ref mo, .ref a] c 0 0 (pI (zB false) (MW c0 mo ma (pE cl n cs.length) ll (rA A n (P, 0, q, o, cs)) B)) := by
        intro a hS
        have hh := ct_eat hk hM hF.1 hF.2.1 hPz (by decide) hs hS (by decide)
        rw [pEat_at hPB, if_neg (by rw [hw]; decide)] at hh
        exact hh
      refine g_aload_n (i := 0) h dX4_one_123 rfl rfl ?_
      obtain ⟨a124, z124, s124⟩ := hx 4 _ rfl
      refine g_ldcS h z124 dX4_one_124 ?_
      refine g_invV h (hC _ s124) hcX4_eat w_X4_216 rfl rfl hM.obj (Nat.le_of_ble_eq_true rfl) (by refine ⟨?_, ?_⟩ <;> ((try dsimp only); omega)) (by refine ⟨?_, ?_⟩ <;> ((try dsimp only); omega)) dX4_one_126 (gkr_i (fun c hM => ?_)) gkt_i
      refine g_if_eq (tgt := 141) h dX4_one_129 (by decide) (fun b129 => ?_) (fun _bz => absurd _bz (by decide))
      exact G.to (st2 c ma hres hM) ⟨rfl, trivial⟩
    case true =>
      rw [if_pos hw] at hres
      have hpw := pIsW_lt hF.tz hPz (W := w_army) (by decide) (by decide) hw
      have hPw : P < P + w_army.length := by show P < P + _; simp only [w_army, List.length]; omega
      have hC : ∀ a, gStr c0 a w_army → Ct l g yX4_eat hwX4_eat 5 200 [.ref mo, .ref a] c 0 0 (pI (zB true) (MW c0 mo ma (pE cl n cs.length) ll (rA A n (P + w_army.length, 0, q, o, cs)) B)) := by
        intro a hS
        have hh := ct_eat hk hM hF.1 hF.2.1 hPz (by decide) hs hS (by decide)
        rw [pEat_at hPB, if_pos hw] at hh
        exact hh
      have hres : pEmit (P + w_army.length, 0, q, o, cs) 3 (nI 2) = (pr, fr, qr, or_, csr) := hres
      generalize P + w_army.length = pw at hC hpw hPw hres
      have hres : pEmit (pw, 0, q, o, cs) 3 (nI 2) = (pr, fr, qr, or_, csr) := hres
      have el : csr.length = cs.length + 1 := by have := pEmit_len (pw, 0, q, o, cs) 3 (nI 2); rw [hres] at this; exact this
      rw [el] at hcost
      refine g_aload_n (i := 0) h dX4_one_123 rfl rfl ?_
      obtain ⟨a124, z124, s124⟩ := hx 4 _ rfl
      refine g_ldcS h z124 dX4_one_124 ?_
      refine g_invV h (hC _ s124) hcX4_eat w_X4_216 rfl rfl hM.obj (Nat.le_of_ble_eq_true rfl) (by refine ⟨?_, ?_⟩ <;> ((try dsimp only); omega)) (by refine ⟨?_, ?_⟩ <;> ((try dsimp only); omega)) dX4_one_126 (gkr_i (fun c hM => ?_)) gkt_i
      refine g_if_eq (tgt := 141) h dX4_one_129 (by decide) (fun _bz => absurd _bz (by decide)) (fun b129 => ?_)
      refine g_aload_n (i := 0) h dX4_one_132 rfl rfl ?_
      refine g_iconst (v := 3) h dX4_one_133 (by decide) ?_
      refine g_iconst (v := nI 2) h dX4_one_134 (by decide) ?_
      refine g_invV h (ct_emitR (s := (pw, 0, q, o, cs)) h.k hF hM (by (try dsimp only); omega) _ _) hcX4_emits w_X4_219 rfl rfl hM.obj (Nat.le_of_ble_eq_true rfl) (by refine ⟨?_, ?_⟩ <;> ((try dsimp only); omega)) (by refine ⟨?_, ?_⟩ <;> ((try dsimp only); omega)) dX4_one_135 (gkr_v (fun c hM => ?_)) gkt_v
      obtain ⟨ma, hM⟩ := hM
      refine g_goto (tgt := 299) h dX4_one_138 (by decide) ?_
      exact g_vret h ⟨rfl, _, by rw [← hres, el]; exact hM⟩ (by (try dsimp only); omega) (by (try dsimp only); omega) dX4_one_299
  have st0 : ∀ (c : gLH) (ma : Nat → Nat), pAtom (pT A) sz (P, 0, q, o, cs) (pAtoms.drop 0) = (pr, fr, qr, or_, csr) → MW c0 mo ma (pE cl n cs.length) ll (rA A n (P, 0, q, o, cs)) B c → G φ (gQ φ (pV (fun c' => ∃ ma', MW c0 mo ma' (pE cl n csr.length) ll (rA A n (pr, fr, qr, or_, csr)) B c')) mc ms) 105 [(0, .ref mo)] [] c 0 0 := by
    intro c ma hres hM
    have hres : (if pIsW (pT A) P w_mail = true then pAct (pT A) sz (0, 1) (pOn (P, 0, q, o, cs) w_mail.length) else pAtom (pT A) sz (P, 0, q, o, cs) (pAtoms.drop 1)) = (pr, fr, qr, or_, csr) := hres
    cases hw : pIsW (pT A) P w_mail
    case false =>
      rw [if_neg (by rw [hw]; decide)] at hres
      have hC : ∀ a, gStr c0 a w_mail → Ct l g yX4_eat hwX4_eat 5 200 [.ref mo, .ref a] c 0 0 (pI (zB false) (MW c0 mo ma (pE cl n cs.length) ll (rA A n (P, 0, q, o, cs)) B)) := by
        intro a hS
        have hh := ct_eat hk hM hF.1 hF.2.1 hPz (by decide) hs hS (by decide)
        rw [pEat_at hPB, if_neg (by rw [hw]; decide)] at hh
        exact hh
      refine g_aload_n (i := 0) h dX4_one_105 rfl rfl ?_
      obtain ⟨a106, z106, s106⟩ := hx 3 _ rfl
      refine g_ldcS h z106 dX4_one_106 ?_
      refine g_invV h (hC _ s106) hcX4_eat w_X4_216 rfl rfl hM.obj (Nat.le_of_ble_eq_true rfl) (by refine ⟨?_, ?_⟩ <;> ((try dsimp only); omega)) (by refine ⟨?_, ?_⟩ <;> ((try dsimp only); omega)) dX4_one_108 (gkr_i (fun c hM => ?_)) gkt_i
      refine g_if_eq (tgt := 123) h dX4_one_111 (by decide) (fun b111 => ?_) (fun _bz => absurd _bz (by decide))
      exact G.to (st1 c ma hres hM) ⟨rfl, trivial⟩
    case true =>
      rw [if_pos hw] at hres
      have hpw := pIsW_lt hF.tz hPz (W := w_mail) (by decide) (by decide) hw
      have hPw : P < P + w_mail.length := by show P < P + _; simp only [w_mail, List.length]; omega
      have hC : ∀ a, gStr c0 a w_mail → Ct l g yX4_eat hwX4_eat 5 200 [.ref mo, .ref a] c 0 0 (pI (zB true) (MW c0 mo ma (pE cl n cs.length) ll (rA A n (P + w_mail.length, 0, q, o, cs)) B)) := by
        intro a hS
        have hh := ct_eat hk hM hF.1 hF.2.1 hPz (by decide) hs hS (by decide)
        rw [pEat_at hPB, if_pos hw] at hh
        exact hh
      have hres : pEmit (P + w_mail.length, 0, q, o, cs) 3 (nI 1) = (pr, fr, qr, or_, csr) := hres
      generalize P + w_mail.length = pw at hC hpw hPw hres
      have hres : pEmit (pw, 0, q, o, cs) 3 (nI 1) = (pr, fr, qr, or_, csr) := hres
      have el : csr.length = cs.length + 1 := by have := pEmit_len (pw, 0, q, o, cs) 3 (nI 1); rw [hres] at this; exact this
      rw [el] at hcost
      refine g_aload_n (i := 0) h dX4_one_105 rfl rfl ?_
      obtain ⟨a106, z106, s106⟩ := hx 3 _ rfl
      refine g_ldcS h z106 dX4_one_106 ?_
      refine g_invV h (hC _ s106) hcX4_eat w_X4_216 rfl rfl hM.obj (Nat.le_of_ble_eq_true rfl) (by refine ⟨?_, ?_⟩ <;> ((try dsimp only); omega)) (by refine ⟨?_, ?_⟩ <;> ((try dsimp only); omega)) dX4_one_108 (gkr_i (fun c hM => ?_)) gkt_i
      refine g_if_eq (tgt := 123) h dX4_one_111 (by decide) (fun _bz => absurd _bz (by decide)) (fun b111 => ?_)
      refine g_aload_n (i := 0) h dX4_one_114 rfl rfl ?_
      refine g_iconst (v := 3) h dX4_one_115 (by decide) ?_
      refine g_iconst (v := nI 1) h dX4_one_116 (by decide) ?_
      refine g_invV h (ct_emitR (s := (pw, 0, q, o, cs)) h.k hF hM (by (try dsimp only); omega) _ _) hcX4_emits w_X4_219 rfl rfl hM.obj (Nat.le_of_ble_eq_true rfl) (by refine ⟨?_, ?_⟩ <;> ((try dsimp only); omega)) (by refine ⟨?_, ?_⟩ <;> ((try dsimp only); omega)) dX4_one_117 (gkr_v (fun c hM => ?_)) gkt_v
      obtain ⟨ma, hM⟩ := hM
      refine g_goto (tgt := 299) h dX4_one_120 (by decide) ?_
      exact g_vret h ⟨rfl, _, by rw [← hres, el]; exact hM⟩ (by (try dsimp only); omega) (by (try dsimp only); omega) dX4_one_299
  have hres : pAtom (pT A) sz (P, 0, q, o, cs) (pAtoms.drop 0) = (pr, fr, qr, or_, csr) := hT
  refine g_aload_n (i := 0) h dX4_one_0 rfl rfl ?_
  refine m_get (v := .int (nI 0)) h hM f_X4_162_4 rfl dX4_one_1 ?_
  refine g_if_le (tgt := 8) h dX4_one_4 (by decide) (fun b4 => ?_) (fun _bz => absurd _bz (by decide))
  refine g_aload_n (i := 0) h dX4_one_8 rfl rfl ?_
  obtain ⟨a9, z9, s9⟩ := hx 2 _ rfl
  refine g_ldcS h z9 dX4_one_9 ?_
  refine g_invV h (hCW _ s9) hcX4_isWord w_X4_182 rfl rfl hM.obj (Nat.le_of_ble_eq_true rfl) (by refine ⟨?_, ?_⟩ <;> ((try dsimp only); omega)) (by refine ⟨?_, ?_⟩ <;> first | exact Nat.le_refl _ | exact Nat.zero_le _ | (dsimp only; omega)) dX4_one_11 (gkr_i (fun c hM => ?_)) gkt_i
  refine g_if_eq (tgt := 56) h dX4_one_14 (by decide) (fun b14 => ?_) (fun _bz => absurd _bz (by rw [hw]; decide))
  refine g_aload_n (i := 0) h dX4_one_56 rfl rfl ?_
  refine g_bipush (v := 40) h dX4_one_57 (by decide) ?_
  refine g_invV h (ct_isSign h.k hM hF.1 hF.2.1 hPz (by decide) _) hcX4_isSign w_X4_186 rfl rfl hM.obj (Nat.le_of_ble_eq_true rfl) (by refine ⟨?_, ?_⟩ <;> ((try dsimp only); omega)) (by refine ⟨?_, ?_⟩ <;> first | exact Nat.le_refl _ | exact Nat.zero_le _ | (dsimp only; omega)) dX4_one_59 (gkr_i (fun c hM => ?_)) gkt_i
  rw [hPB] at hM
  refine g_if_eq (tgt := 105) h dX4_one_62 (by decide) (fun b62 => ?_) (fun _bz => absurd _bz (by rw [hsg]; decide))
  exact G.to (st0 c ma hres hM) ⟨rfl, trivial⟩
theorem ct_oneP {l : Launch} {g : gGP} (hk : gK l g) {c0 : gLH} {mo ll : Nat} {A : Nat → Nat → Int32} {B : Nat → Nat → Int64} {n sz cl : Nat} (hF : pFix A n sz cl) (hs : gSS g) (hx : gLits RX4 xLits g c0) : ∀ d : Nat, d ≤ 11 → CtP l g c0 mo ll A B n sz cl yX4_one hwX4_one (6 + 3 * d) (11 - d) (pOne (pT A) sz d)
  | 0, _ => by
    intro c ma p f q o cs t hT hM hp hf ho hom
    omega
  | d + 1, hd => by
    have ih := ct_oneP (mo := mo) (ll := ll) (B := B) hk hF hs hx d (by omega)
    have e : 11 - d = (11 - (d + 1)) + 1 := by omega
    rw [e] at ih
    have hj := ct_joinedP hk hF hs hx (by omega) (fun s hs => pOne_go hF.tz d s hs) ih
    have hc := ct_conditionP hk hF hs hx (by omega) (fun s hs => pAll_go hF.tz d s hs) hj
    exact ct_oneB hk hF hs hx (show 6 ≤ 6 + 3 * d by omega) ih hc
theorem ct_condP {l : Launch} {g : gGP} (hk : gK l g) {c0 : gLH} {mo ll : Nat} {A : Nat → Nat → Int32} {B : Nat → Nat → Int64} {n sz cl : Nat} (hF : pFix A n sz cl) (hs : gSS g) (hx : gLits RX4 xLits g c0) : CtP l g c0 mo ll A B n sz cl yX4_condition hwX4_condition 41 0 (pAny (pT A) sz 11) := by
  have hj := ct_joinedP hk hF hs hx (by omega) (fun s hs => pOne_go hF.tz 11 s hs) (ct_oneP (mo := mo) (ll := ll) (B := B) hk hF hs hx 11 (Nat.le_refl _))
  exact ct_conditionP hk hF hs hx (by omega) (fun s hs => pAll_go hF.tz 11 s hs) hj
