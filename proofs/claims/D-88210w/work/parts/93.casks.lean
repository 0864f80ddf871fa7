/-! THE COMPONENT: an act is asked -/
set_option maxRecDepth 100000
def gSub (c c' : gLH) : Prop := ∀ (a r : Nat) (e : va_E), c a = some (r, e) → c' a = some (r, e)
/-- what is frozen, alone -/
def gOnly (c : gLH) : gLH := fun a => match c a with
  | some (r, e) => if r = gT then some (r, e) else none
  | none => none
theorem gOnly_i {c : gLH} {a : Nat} {e : va_E} (h : c a = some (gT, e)) : gOnly c a = some (gT, e) := by
  unfold gOnly
  rw [h]
  simp
theorem gOnly_e {c : gLH} {a r : Nat} {e : va_E} (h : gOnly c a = some (r, e)) : c a = some (r, e) ∧ r = gT := by
  unfold gOnly at h
  split at h
  · rename_i r2 e2 q
    by_cases z : r2 = gT
    · rw [if_pos z] at h
      cases h
      exact ⟨q, z⟩
    · rw [if_neg z] at h
      cases h
  · cases h
theorem gOnly_sub (c : gLH) : gSub (gOnly c) c := fun a r e h => (gOnly_e h).1
theorem gSub.only {c c' : gLH} (h : gSub (gOnly c) c') : gSub (gOnly c) (gOnly c') := fun a r e q => by
  have k := (gOnly_e q).2
  subst k
  exact gOnly_i (h a _ e q)
theorem CWf.only {c0 : gLH} {ad : Nat → Nat → Nat} {f : cF} {c : gLH} (h : CWf c0 ad f c) : gSub (gOnly c0) c := fun a r e q => by
  obtain ⟨q1, q2⟩ := gOnly_e q
  subst q2
  exact h.frz q1 gT_core
theorem gAL.mono {c c' : gLH} (hs : gSub c c') {a d cap ra rd : Nat} {es : List Nat} (h : gAL c a d cap ra rd es) : gAL c' a d cap ra rd es := by
  obtain ⟨⟨m, h1⟩, h2, h3⟩ := h
  exact ⟨⟨m, hs _ _ _ h1⟩, hs _ _ _ h2, h3⟩
theorem TR.mono {c c' : gLH} (hs : gSub c c') : ∀ (d a : Nat) (m : (Nat → Int32) → Bool), TR c d a m → TR c' d a m := by
  intro d
  induction d with
  | zero => intro a m h; exact h
  | succ d ih =>
    rintro a m ⟨r, h | h | h | h | h | h | h⟩
    · obtain ⟨q, dq, cap, ra, rd, es, ms, h1, h2, h3, h4⟩ := h
      exact ⟨r, Or.inl ⟨q, dq, cap, ra, rd, es, ms, hs _ _ _ h1, h2.mono hs, fun j x hx => ih x _ (h3 j x hx), h4⟩⟩
    · obtain ⟨q, dq, cap, ra, rd, es, ms, h1, h2, h3, h4⟩ := h
      exact ⟨r, Or.inr (Or.inl ⟨q, dq, cap, ra, rd, es, ms, hs _ _ _ h1, h2.mono hs, fun j x hx => ih x _ (h3 j x hx), h4⟩)⟩
    · obtain ⟨q, m1, h1, h2, h4⟩ := h
      exact ⟨r, Or.inr (Or.inr (Or.inl ⟨q, m1, hs _ _ _ h1, ih q _ h2, h4⟩))⟩
    · obtain ⟨bit, h1, h4⟩ := h
      exact ⟨r, Or.inr (Or.inr (Or.inr (Or.inl ⟨bit, hs _ _ _ h1, h4⟩)))⟩
    · obtain ⟨h1, h4⟩ := h
      exact ⟨r, Or.inr (Or.inr (Or.inr (Or.inr (Or.inl ⟨hs _ _ _ h1, h4⟩))))⟩
    · obtain ⟨w, s, n, h1, h4⟩ := h
      exact ⟨r, Or.inr (Or.inr (Or.inr (Or.inr (Or.inr (Or.inl ⟨w, s, n, hs _ _ _ h1, h4⟩)))))⟩
    · obtain ⟨kd, h1, h4⟩ := h
      exact ⟨r, Or.inr (Or.inr (Or.inr (Or.inr (Or.inr (Or.inr ⟨kd, hs _ _ _ h1, h4⟩)))))⟩
def tOk (f : Int32) : Prop := 0 ≤ f.toInt ∧ f.toInt ≤ 1000000
/-- the clause at x: number, sort, first, second, condition -/
def clO (c : gLH) (x : Nat) (num so f s : Int32) (cd : Value) : Prop :=
  (so = 0 ∧ c x = some (gT, .inr (9, [.int num, cd]))) ∨
  (so = 1 ∧ tOk f ∧ c x = some (gT, .inr (10, [.int num, cd, .long f.toInt64]))) ∨
  (so = 2 ∧ tOk f ∧ c x = some (gT, .inr (11, [.int num, cd, .long f.toInt64]))) ∨
  (so = 3 ∧ tOk f ∧ c x = some (gT, .inr (12, [.int num, cd, .long f.toInt64]))) ∨
  (so = 4 ∧ (tOk f ∧ tOk s ∧ 1 ≤ s.toInt) ∧ c x = some (gT, .inr (13, [.int num, cd, .long f.toInt64, .long s.toInt64]))) ∨
  (so = 5 ∧ c x = some (gT, .inr (14, [.int num, cd, .int (zB false)]))) ∨
  (so = 6 ∧ c x = some (gT, .inr (14, [.int num, cd, .int (zB true)])))
/-- what the condition means -/
def clM (c : gLH) (d : Nat) (cd : Value) (m : (Nat → Int32) → Bool) : Prop := (cd = .null ∧ m = fun _ => true) ∨ ∃ q, cd = .ref q ∧ TR c d q m
theorem clM.mono {c c' : gLH} (hs : gSub c c') {d : Nat} {cd : Value} {m : (Nat → Int32) → Bool} (h : clM c d cd m) : clM c' d cd m := by
  rcases h with h | ⟨q, h1, h2⟩
  · exact Or.inl h
  · exact Or.inr ⟨q, h1, h2.mono hs⟩
theorem clO.mono {c c' : gLH} (hs : gSub (gOnly c) c') {x : Nat} {num so f s : Int32} {cd : Value} (h : clO c x num so f s cd) : clO c' x num so f s cd := by
  rcases h with ⟨h1, h2⟩ | ⟨h1, h3, h2⟩ | ⟨h1, h3, h2⟩ | ⟨h1, h3, h2⟩ | ⟨h1, h3, h2⟩ | ⟨h1, h2⟩ | ⟨h1, h2⟩
  · exact Or.inl ⟨h1, hs _ _ _ (gOnly_i h2)⟩
  · exact Or.inr (Or.inl ⟨h1, h3, hs _ _ _ (gOnly_i h2)⟩)
  · exact Or.inr (Or.inr (Or.inl ⟨h1, h3, hs _ _ _ (gOnly_i h2)⟩))
  · exact Or.inr (Or.inr (Or.inr (Or.inl ⟨h1, h3, hs _ _ _ (gOnly_i h2)⟩)))
  · exact Or.inr (Or.inr (Or.inr (Or.inr (Or.inl ⟨h1, h3, hs _ _ _ (gOnly_i h2)⟩))))
  · exact Or.inr (Or.inr (Or.inr (Or.inr (Or.inr (Or.inl ⟨h1, hs _ _ _ (gOnly_i h2)⟩)))))
  · exact Or.inr (Or.inr (Or.inr (Or.inr (Or.inr (Or.inr ⟨h1, hs _ _ _ (gOnly_i h2)⟩)))))
theorem pW_of {c0 c : gLH} {ad : Nat → Nat → Nat} {cp fz : Nat → Nat → Nat} {md : Nat → Nat → Int32} {S : Nat → List Value} {U : Nat → Nat → Int64} {A : Nat → Nat → Int32} {B : Nat → Nat → Int64} {L : List Value} (hX : CW c0 ad cp fz md (va_up S 1 L) U A B c) {w ci : Nat} {v : Nat → Int32} {nu : Int32} {p1 p2 : Value} (hS0 : S 0 = [.ref w, .int (v 4), .int (v 5), .int (v 6)]) (hw : c0 w = some (gT, .inr (ci, [.int nu, .int (v 1), .int (v 2), .int (v 3), p1, p2, .int (v 0)]))) (hci : ci = 25 ∨ ci = 26 ∨ ci = 27) (hbk : v 6 = 0 ∨ v 6 = 1) : pW c (ad 4 0) v := by
  have hcell : cells ad cp fz md (va_up S 1 L) U A B 4 0 = some (.inr (2, [.ref w, .int (v 4), .int (v 5), .int (v 6)])) := by
    show some (Sum.inr (2, va_up S 1 L 0)) = _
    rw [vS_0, hS0]
  exact ⟨_, w, _, ci, nu, p1, p2, hX.1.at hcell, hX.1.frz hw gT_core, hci, hbk⟩
theorem wu_X6h_9 : gWU RX6 32 9 ⟨"TurnpikeTrust$Clause", "holds", "(LTurnpikeTrust$Pass;)Z"⟩ yX8_holds "TurnpikeTrust$Clause" hwX8_holds 1 := ⟨⟨_, rfl, q1418⟩, q1414, q1416, Or.inr ⟨_, _, _, q1415, q1423⟩, ⟨by decide +kernel, by decide +kernel⟩, q1415, q92, q1423, by decide +kernel⟩
theorem wu_X6d_9 : gWU RX6 36 9 ⟨"TurnpikeTrust$Clause", "does", "(LTurnpikeTrust$Reckoning;LTurnpikeTrust$Pass;)Z"⟩ yX9_does "TurnpikeTrust$Clause" hwX9_does 2 := ⟨⟨_, rfl, q1516⟩, q1492, q1494, Or.inl q1493, ⟨by decide +kernel, by decide +kernel⟩, q1517, q93, q1518, by decide +kernel⟩
theorem wu_X6h_10 : gWU RX6 32 10 ⟨"TurnpikeTrust$Clause", "holds", "(LTurnpikeTrust$Pass;)Z"⟩ yX8_holds "TurnpikeTrust$Clause" hwX8_holds 1 := ⟨⟨_, rfl, q1422⟩, q1414, q1416, Or.inr ⟨_, _, _, q1415, q1423⟩, ⟨by decide +kernel, by decide +kernel⟩, q1415, q92, q1423, by decide +kernel⟩
theorem wu_X6d_10 : gWU RX6 36 10 ⟨"TurnpikeTrust$Clause", "does", "(LTurnpikeTrust$Reckoning;LTurnpikeTrust$Pass;)Z"⟩ yX10_does "TurnpikeTrust$Clause" hwX10_does 2 := ⟨⟨_, rfl, q1526⟩, q1492, q1494, Or.inl q1493, ⟨by decide +kernel, by decide +kernel⟩, q1496, q94, q1497, by decide +kernel⟩
theorem wu_X6h_11 : gWU RX6 32 11 ⟨"TurnpikeTrust$Clause", "holds", "(LTurnpikeTrust$Pass;)Z"⟩ yX8_holds "TurnpikeTrust$Clause" hwX8_holds 1 := ⟨⟨_, rfl, q1417⟩, q1414, q1416, Or.inr ⟨_, _, _, q1415, q1423⟩, ⟨by decide +kernel, by decide +kernel⟩, q1415, q92, q1423, by decide +kernel⟩
theorem wu_X6d_11 : gWU RX6 36 11 ⟨"TurnpikeTrust$Clause", "does", "(LTurnpikeTrust$Reckoning;LTurnpikeTrust$Pass;)Z"⟩ yX10_does "TurnpikeTrust$Clause" hwX10_does 2 := ⟨⟨_, rfl, q1495⟩, q1492, q1494, Or.inl q1493, ⟨by decide +kernel, by decide +kernel⟩, q1496, q94, q1497, by decide +kernel⟩
theorem wu_X6h_12 : gWU RX6 32 12 ⟨"TurnpikeTrust$Clause", "holds", "(LTurnpikeTrust$Pass;)Z"⟩ yX8_holds "TurnpikeTrust$Clause" hwX8_holds 1 := ⟨⟨_, rfl, q1420⟩, q1414, q1416, Or.inr ⟨_, _, _, q1415, q1423⟩, ⟨by decide +kernel, by decide +kernel⟩, q1415, q92, q1423, by decide +kernel⟩
theorem wu_X6d_12 : gWU RX6 36 12 ⟨"TurnpikeTrust$Clause", "does", "(LTurnpikeTrust$Reckoning;LTurnpikeTrust$Pass;)Z"⟩ yX10_does "TurnpikeTrust$Clause" hwX10_does 2 := ⟨⟨_, rfl, q1522⟩, q1492, q1494, Or.inl q1493, ⟨by decide +kernel, by decide +kernel⟩, q1496, q94, q1497, by decide +kernel⟩
theorem wu_X6h_13 : gWU RX6 32 13 ⟨"TurnpikeTrust$Clause", "holds", "(LTurnpikeTrust$Pass;)Z"⟩ yX8_holds "TurnpikeTrust$Clause" hwX8_holds 1 := ⟨⟨_, rfl, q1421⟩, q1414, q1416, Or.inr ⟨_, _, _, q1415, q1423⟩, ⟨by decide +kernel, by decide +kernel⟩, q1415, q92, q1423, by decide +kernel⟩
theorem wu_X6d_13 : gWU RX6 36 13 ⟨"TurnpikeTrust$Clause", "does", "(LTurnpikeTrust$Reckoning;LTurnpikeTrust$Pass;)Z"⟩ yX13_does "TurnpikeTrust$Clause" hwX13_does 2 := ⟨⟨_, rfl, q1523⟩, q1492, q1494, Or.inl q1493, ⟨by decide +kernel, by decide +kernel⟩, q1524, q97, q1525, by decide +kernel⟩
theorem wu_X6h_14 : gWU RX6 32 14 ⟨"TurnpikeTrust$Clause", "holds", "(LTurnpikeTrust$Pass;)Z"⟩ yX8_holds "TurnpikeTrust$Clause" hwX8_holds 1 := ⟨⟨_, rfl, q1419⟩, q1414, q1416, Or.inr ⟨_, _, _, q1415, q1423⟩, ⟨by decide +kernel, by decide +kernel⟩, q1415, q92, q1423, by decide +kernel⟩
theorem wu_X6d_14 : gWU RX6 36 14 ⟨"TurnpikeTrust$Clause", "does", "(LTurnpikeTrust$Reckoning;LTurnpikeTrust$Pass;)Z"⟩ yX14_does "TurnpikeTrust$Clause" hwX14_does 2 := ⟨⟨_, rfl, q1519⟩, q1492, q1494, Or.inl q1493, ⟨by decide +kernel, by decide +kernel⟩, q1520, q98, q1521, by decide +kernel⟩
section CLH
variable {φ : gFx} {Q : State → Prop} {pc : Nat} {lv : List (Nat × Value)} {st : List Value} {ce sl : Nat} {l : Launch} {g : gGP} {R : Room} {cc : ByteArray} {nL : Nat} {own mn : String} {ret : Option FieldType} {tbl : List (Nat × Nat × Nat × Nat)} {idx : Nat} {c : gLH}
theorem g_clCast (h : gOK φ l g R cc nL RX6 mn ret tbl) {x : Nat} {num so f s : Int32} {cd : Value} (hO : clO c x num so f s cd) (hd : decode cc pc = .ok (.checkcast 30, 3)) (kk : G φ Q (pc + 3) lv (.ref x :: st) c ce sl) : G φ Q pc lv (.ref x :: st) c ce sl := by
  rcases hO with ⟨-, hc⟩ | ⟨-, -, hc⟩ | ⟨-, -, hc⟩ | ⟨-, -, hc⟩ | ⟨-, -, hc⟩ | ⟨-, hc⟩ | ⟨-, hc⟩
  · exact g_castY h hc rfl q1413 q2248 hd kk
  · exact g_castY h hc rfl q1413 q2252 hd kk
  · exact g_castY h hc rfl q1413 q2247 hd kk
  · exact g_castY h hc rfl q1413 q2250 hd kk
  · exact g_castY h hc rfl q1413 q2251 hd kk
  · exact g_castY h hc rfl q1413 q2249 hd kk
  · exact g_castY h hc rfl q1413 q2249 hd kk
theorem g_clHolds (h : gOK φ l g R cc nL RX6 mn ret tbl) {x p d : Nat} {num so f s : Int32} {cd : Value} {m : (Nat → Int32) → Bool} {v : Nat → Int32} (hO : clO c x num so f s cd) (hM : clM c d cd m) (hP : pW c p v) (hcat : (st.map fun v => v.category).sum ≤ 8) (hR : 3 * d + 2 ≤ R.frames ∧ 40 * (3 * d + 2) ≤ R.locals) (hS : ce ≤ R.cells ∧ sl ≤ R.slots) (hd : decode cc pc = .ok (.invokevirtual 32, 3)) (kk : G φ Q (pc + 3) lv (.int (zB (m v)) :: st) c ce sl) : G φ Q pc lv (.ref p :: .ref x :: st) c ce sl := by
  rcases hM with ⟨rfl, rfl⟩ | ⟨q, rfl, ht⟩
  · rcases hO with ⟨-, hc⟩ | ⟨-, -, hc⟩ | ⟨-, -, hc⟩ | ⟨-, -, hc⟩ | ⟨-, -, hc⟩ | ⟨-, hc⟩ | ⟨-, hc⟩
    · exact g_invU h (ct_holdsN9 h.k hc) hcX8_holds wu_X6h_9 rfl rfl hc hcat ⟨by (try dsimp only); omega, by (try dsimp only); omega⟩ ⟨by (try dsimp only); omega, by (try dsimp only); omega⟩ hd (gkr_ip kk) gkt_ip
    · exact g_invU h (ct_holdsN10 h.k hc) hcX8_holds wu_X6h_10 rfl rfl hc hcat ⟨by (try dsimp only); omega, by (try dsimp only); omega⟩ ⟨by (try dsimp only); omega, by (try dsimp only); omega⟩ hd (gkr_ip kk) gkt_ip
    · exact g_invU h (ct_holdsN11 h.k hc) hcX8_holds wu_X6h_11 rfl rfl hc hcat ⟨by (try dsimp only); omega, by (try dsimp only); omega⟩ ⟨by (try dsimp only); omega, by (try dsimp only); omega⟩ hd (gkr_ip kk) gkt_ip
    · exact g_invU h (ct_holdsN12 h.k hc) hcX8_holds wu_X6h_12 rfl rfl hc hcat ⟨by (try dsimp only); omega, by (try dsimp only); omega⟩ ⟨by (try dsimp only); omega, by (try dsimp only); omega⟩ hd (gkr_ip kk) gkt_ip
    · exact g_invU h (ct_holdsN13 h.k hc) hcX8_holds wu_X6h_13 rfl rfl hc hcat ⟨by (try dsimp only); omega, by (try dsimp only); omega⟩ ⟨by (try dsimp only); omega, by (try dsimp only); omega⟩ hd (gkr_ip kk) gkt_ip
    · exact g_invU h (ct_holdsN14 h.k hc) hcX8_holds wu_X6h_14 rfl rfl hc hcat ⟨by (try dsimp only); omega, by (try dsimp only); omega⟩ ⟨by (try dsimp only); omega, by (try dsimp only); omega⟩ hd (gkr_ip kk) gkt_ip
    · exact g_invU h (ct_holdsN14 h.k hc) hcX8_holds wu_X6h_14 rfl rfl hc hcat ⟨by (try dsimp only); omega, by (try dsimp only); omega⟩ ⟨by (try dsimp only); omega, by (try dsimp only); omega⟩ hd (gkr_ip kk) gkt_ip
  · have hH := TR_HC h.k hP d q m ht
    rcases hO with ⟨-, hc⟩ | ⟨-, -, hc⟩ | ⟨-, -, hc⟩ | ⟨-, -, hc⟩ | ⟨-, -, hc⟩ | ⟨-, hc⟩ | ⟨-, hc⟩
    · exact g_invU h (ct_holdsC9 h.k hH hc) hcX8_holds wu_X6h_9 rfl rfl hc hcat ⟨by (try dsimp only); omega, by (try dsimp only); omega⟩ ⟨by (try dsimp only); omega, by (try dsimp only); omega⟩ hd (gkr_ip kk) gkt_ip
    · exact g_invU h (ct_holdsC10 h.k hH hc) hcX8_holds wu_X6h_10 rfl rfl hc hcat ⟨by (try dsimp only); omega, by (try dsimp only); omega⟩ ⟨by (try dsimp only); omega, by (try dsimp only); omega⟩ hd (gkr_ip kk) gkt_ip
    · exact g_invU h (ct_holdsC11 h.k hH hc) hcX8_holds wu_X6h_11 rfl rfl hc hcat ⟨by (try dsimp only); omega, by (try dsimp only); omega⟩ ⟨by (try dsimp only); omega, by (try dsimp only); omega⟩ hd (gkr_ip kk) gkt_ip
    · exact g_invU h (ct_holdsC12 h.k hH hc) hcX8_holds wu_X6h_12 rfl rfl hc hcat ⟨by (try dsimp only); omega, by (try dsimp only); omega⟩ ⟨by (try dsimp only); omega, by (try dsimp only); omega⟩ hd (gkr_ip kk) gkt_ip
    · exact g_invU h (ct_holdsC13 h.k hH hc) hcX8_holds wu_X6h_13 rfl rfl hc hcat ⟨by (try dsimp only); omega, by (try dsimp only); omega⟩ ⟨by (try dsimp only); omega, by (try dsimp only); omega⟩ hd (gkr_ip kk) gkt_ip
    · exact g_invU h (ct_holdsC14 h.k hH hc) hcX8_holds wu_X6h_14 rfl rfl hc hcat ⟨by (try dsimp only); omega, by (try dsimp only); omega⟩ ⟨by (try dsimp only); omega, by (try dsimp only); omega⟩ hd (gkr_ip kk) gkt_ip
    · exact g_invU h (ct_holdsC14 h.k hH hc) hcX8_holds wu_X6h_14 rfl rfl hc hcat ⟨by (try dsimp only); omega, by (try dsimp only); omega⟩ ⟨by (try dsimp only); omega, by (try dsimp only); omega⟩ hd (gkr_ip kk) gkt_ip
end CLH
theorem sCap_b {x : Int64} (h : 0 ≤ x.toInt) : 0 ≤ (sCap x).toInt ∧ (sCap x).toInt ≤ 1000000 := by
  unfold sCap
  split
  · rename_i q
    rw [Int64.le_iff_toInt_le] at q
    exact ⟨h, by simpa using q⟩
  · decide
theorem rT_paid {A : Nat → Nat → Int32} {w t : Nat} {ks : Nat → Nat} {U0 U1 : Nat → Int64} {b : Int64} (hb : b = (A 11 w).toInt64 * (sMult A w t).toInt64) : ∀ {n : Nat}, (∀ j, j < n → U0 j = (A 11 (ks j)).toInt64 ∧ U1 j = (A 12 (ks j)).toInt64) → rT U0 U1 b n = sPaidV A w t ks n := by
  intro n
  induction n with
  | zero => intro _; rw [hb]; rfl
  | succ n ih =>
    intro hk
    have h1 := hk n (Nat.lt_succ_self n)
    show sCap (rT U0 U1 b n * U0 n / U1 n) = sCap (sPaidV A w t ks n * (A 11 (ks n)).toInt64 / (A 12 (ks n)).toInt64)
    rw [ih (fun j hj => hk j (Nat.lt_succ_of_lt hj)), h1.1, h1.2]
theorem bm_id {x : Int} (h1 : 0 ≤ x) (h2 : x < 9223372036854775808) : x.bmod (2 ^ 64) = x := by
  rw [Int.bmod_eq_of_le] <;> omega
theorem mul_b {x y : Int64} {M N : Int} (h1 : 0 ≤ x.toInt) (h2 : x.toInt ≤ M) (h3 : 0 ≤ y.toInt) (h4 : y.toInt ≤ N) (h5 : M * N < 9223372036854775808) : (x * y).toInt = x.toInt * y.toInt ∧ 0 ≤ (x * y).toInt := by
  have h6 : 0 ≤ x.toInt * y.toInt := Int.mul_nonneg h1 h3
  have h7 : x.toInt * y.toInt ≤ M * N := Int.mul_le_mul h2 h4 h3 (by omega)
  rw [Int64.toInt_mul, bm_id h6 (by omega)]
  exact ⟨rfl, h6⟩
theorem paid_b {A : Nat → Nat → Int32} {w t : Nat} {ks : Nat → Nat} (h1 : tOk (A 11 w)) (h2 : 0 ≤ (sMult A w t).toInt ∧ (sMult A w t).toInt ≤ 10000) : ∀ {n : Nat}, (∀ j, j < n → tOk (A 11 (ks j)) ∧ tOk (A 12 (ks j)) ∧ 1 ≤ (A 12 (ks j)).toInt) → 0 ≤ (sPaidV A w t ks n).toInt ∧ (sPaidV A w t ks n).toInt ≤ 1000000 := by
  intro n
  induction n with
  | zero =>
    intro _
    refine sCap_b (mul_b (M := 1000000) (N := 10000) ?_ ?_ ?_ ?_ (by decide)).2
    · rw [Int32.toInt_toInt64]; exact h1.1
    · rw [Int32.toInt_toInt64]; exact h1.2
    · rw [Int32.toInt_toInt64]; exact h2.1
    · rw [Int32.toInt_toInt64]; exact h2.2
  | succ n ih =>
    intro hk
    obtain ⟨i1, i2⟩ := ih (fun j hj => hk j (Nat.lt_succ_of_lt hj))
    obtain ⟨k1, k2, k3⟩ := hk n (Nat.lt_succ_self n)
    refine sCap_b ?_
    obtain ⟨e, m0⟩ := mul_b (x := sPaidV A w t ks n) (y := (A 11 (ks n)).toInt64) (M := 1000000) (N := 1000000) i1 i2 (by rw [Int32.toInt_toInt64]; exact k1.1) (by rw [Int32.toInt_toInt64]; exact k1.2) (by decide)
    have m1 : (sPaidV A w t ks n * (A 11 (ks n)).toInt64).toInt ≤ 1000000 * 1000000 := by
      rw [e]
      exact Int.mul_le_mul i2 (by rw [Int32.toInt_toInt64]; exact k1.2) (by rw [Int32.toInt_toInt64]; exact k1.1) (by decide)
    rw [Int64.toInt_div, Int32.toInt_toInt64]
    have d0 : 0 ≤ ((sPaidV A w t ks n * (A 11 (ks n)).toInt64).toInt).tdiv (A 12 (ks n)).toInt := Int.tdiv_nonneg m0 (by omega)
    have d1 : ((sPaidV A w t ks n * (A 11 (ks n)).toInt64).toInt).tdiv (A 12 (ks n)).toInt ≤ (sPaidV A w t ks n * (A 11 (ks n)).toInt64).toInt := Int.tdiv_le_self _ m0
    rw [bm_id d0 (by omega)]
    exact d0
theorem l32 {x : Int64} (h1 : 0 ≤ x.toInt) (h2 : x.toInt ≤ 1000000) : x.toInt32.toInt64 = x := by
  refine Int64.toInt_inj.mp ?_
  rw [Int32.toInt_toInt64, Int64.toInt_toInt32, Int.bmod_eq_of_le] <;> omega
theorem l32_0 {x : Int64} (h1 : 0 ≤ x.toInt) (h2 : x.toInt ≤ 1000000) : 0 ≤ x.toInt32.toInt := by
  have := congrArg Int64.toInt (l32 h1 h2)
  rw [Int32.toInt_toInt64] at this
  omega
theorem sMult_b {A : Nat → Nat → Int32} {w t : Nat} (h : 0 ≤ (A 21 t).toInt ∧ (A 21 t).toInt ≤ 10000) : 0 ≤ (sMult A w t).toInt ∧ (sMult A w t).toInt ≤ 10000 := by
  unfold sMult
  split
  · decide
  · split
    · exact h
    · have e : (A 21 t + 19).toInt = (A 21 t).toInt + 19 := by
        rw [Int32.toInt_add, Int.bmod_eq_of_le] <;> first | rfl | (show _; simp; omega)
      have d0 : 0 ≤ ((A 21 t).toInt + 19).tdiv 20 := Int.tdiv_nonneg (by omega) (by decide)
      have d1 : ((A 21 t).toInt + 19).tdiv 20 ≤ ((A 21 t).toInt + 19) := Int.tdiv_le_self _ (by omega)
      have d2 : ((A 21 t).toInt + 19).tdiv 20 = ((A 21 t).toInt + 19) / 20 := Int.tdiv_eq_ediv_of_nonneg (by omega)
      have e2 : ((A 21 t + 19) / 20).toInt = ((A 21 t).toInt + 19) / 20 := by
        rw [Int32.toInt_div, e, show (20 : Int32).toInt = 20 from rfl, d2, Int.bmod_eq_of_le] <;> omega
      rw [e2]
      omega
theorem oI_ne {o : Option Nat} (h : ∀ j, o = some j → j < 40) : decide (oI o = -1) = !o.isSome := by
  rcases o with _ | j
  · rfl
  · have := h j rfl
    rw [oI_s]
    simp only [Option.isSome_some, Bool.not_true, decide_eq_false_iff_not]
    intro e
    exact nI_nm1 (by omega) e
theorem rV_paid {A : Nat → Nat → Int32} {t u ng : Nat} {o al : Option Nat} (ho : ∀ j, o = some j → j < 40) (ha : ∀ j, al = some j → j < 40) (x : Int64) : rV (oI o) (oI al) (decide (A 24 (8 * t + u) = A 32 0)) (sPaidAny A t ng) x = if sPaidF A t u ng o al = true then 0 else x := by
  unfold rV rH sPaidF sHere sAnyw
  rw [oI_ne ho, oI_ne ha, Bool.not_not, Bool.not_not]
theorem rL_paid {A : Nat → Nat → Int32} {t u ng : Nat} {o al : Option Nat} (ho : ∀ j, o = some j → j < 40) (ha : ∀ j, al = some j → j < 40) (k : Int32) : rL (oI o) (oI al) (decide (A 24 (8 * t + u) = A 32 0)) (sPaidAny A t ng) k = if sPaidF A t u ng o al = true then sPaidB A t u ng o al else k := by
  unfold rL rH sPaidF sPaidB
  rw [oI_ne ho, oI_ne ha, Bool.not_not, Bool.not_not]
  change (if (sHere A t u o && sAnyw A t ng al) = true then _ else if sHere A t u o = true then _ else if sAnyw A t ng al = true then _ else _) = _
  cases sHere A t u o <;> cases sAnyw A t ng al <;> simp
  by_cases q : oI al < oI o
  · have : oI al ≤ oI o := Int32.le_of_lt q
    simp [q, this]
    intro z
    exact absurd (Int32.lt_trans q z) Int32.lt_irrefl
  · by_cases z : oI al ≤ oI o
    · have e : oI al = oI o := Int32.le_antisymm z (Int32.not_lt.mp q)
      simp [e]
    · simp [q, z]
/-- the reckoning tells r -/
def aR (c0 : gLH) (ad cp fz : Nat → Nat → Nat) (md : Nat → Nat → Int32) (S : Nat → List Value) (A : Nat → Nat → Int32) (B : Nat → Nat → Int64) (hb ab : Bool) (r : Int32 × Int32) (c : gLH) : Prop := ∃ (n o al : Int32) (U : Nat → Nat → Int64), 0 ≤ r.1.toInt ∧ CW c0 ad cp fz md (va_up S 1 (rF n o al r.2 r.1.toInt64 hb ab)) U A B c
theorem i3_1 : ((3 : Int32) = 1) = False := by decide
theorem i3_2 : ((3 : Int32) = 2) = False := by decide
theorem oOr_I {o : Option Nat} (h : ∀ j, o = some j → j < 40) (k : Nat) : (if oI o = -1 then nI k else oI o) = oI (oOr o k) := by
  have := oI_ne h
  rcases o with _ | j
  · rfl
  · simp only [Option.isSome_some, Bool.not_true, decide_eq_false_iff_not] at this
    rw [if_neg this]
    rfl
theorem oOr_lt {o : Option Nat} (h : ∀ j, o = some j → j < 40) {k : Nat} (hk : k < 40) : ∀ j, oOr o k = some j → j < 40 := by
  intro j e
  rcases o with _ | i
  · cases e; exact hk
  · cases e; exact h _ rfl
theorem l_ne {x : Int32} (h : 1 ≤ x.toInt) : x.toInt64 ≠ 0 := by
  intro e
  have q : x.toInt64.toInt = 0 := by rw [e]; rfl
  rw [Int32.toInt_toInt64] at q
  omega
theorem tks {A : Nat → Nat → Int32} {U : Nat → Nat → Int64} {ks : Nat → Nat} {nt w : Nat} (h : ∀ j, j < nt → U 0 j = (A 11 (ks j)).toInt64 ∧ U 1 j = (A 12 (ks j)).toInt64 ∧ tOk (A 11 (ks j)) ∧ tOk (A 12 (ks j)) ∧ 1 ≤ (A 12 (ks j)).toInt) (hf : tOk (A 11 w) ∧ tOk (A 12 w) ∧ 1 ≤ (A 12 w).toInt) : ∀ j, j < nt + 1 → (va_up (va_up U 0 (vp_updL (U 0) nt (A 11 w).toInt64)) 1 (vp_updL (U 1) nt (A 12 w).toInt64)) 0 j = (A 11 (va_up ks nt w j)).toInt64 ∧ (va_up (va_up U 0 (vp_updL (U 0) nt (A 11 w).toInt64)) 1 (vp_updL (U 1) nt (A 12 w).toInt64)) 1 j = (A 12 (va_up ks nt w j)).toInt64 ∧ tOk (A 11 (va_up ks nt w j)) ∧ tOk (A 12 (va_up ks nt w j)) ∧ 1 ≤ (A 12 (va_up ks nt w j)).toInt := by
  intro j hj
  rw [vU_0, va_up_s, va_up_s]
  by_cases e : j = nt
  · subst e
    rw [va_up_s]
    exact ⟨pk_uLs, pk_uLs, hf⟩
  · rw [va_up_n _ _ e, pk_uLn e, pk_uLn e]
    exact h j (by omega)
theorem cx_asks {l : Launch} {g : gGP} (hk : gK l g) {c0 c : gLH} {ad cp fz : Nat → Nat → Nat} {md : Nat → Nat → Int32} {S : Nat → List Value} {U : Nat → Nat → Int64} {A : Nat → Nat → Int32} {B : Nat → Nat → Int64} {hb ab : Bool} (hX : CW c0 ad cp fz md (va_up S 1 (rF 0 (-1) (-1) (-1) 0 hb ab)) U A B c) {a t u ng w x q dq cap ci : Nat} {es : List Nat} {cd : Nat → Value} {m : Nat → (Nat → Int32) → Bool} {v : Nat → Int32} {fr nu : Int32} {p1 p2 : Value} {hold : Nat → Bool} (hact : c0 x = some (gT, .inr (6, [.int fr, .ref q]))) (hL0 : gAL (gOnly c0) q dq cap gT gT es) (hle : es.length ≤ 40) (hcl : ∀ k y, es[k]? = some y → clO c0 y (nI k) (A 10 (40 * a + k)) (A 11 (40 * a + k)) (A 12 (40 * a + k)) (cd k) ∧ clM (gOnly c0) 24 (cd k) (m k)) (hho : ∀ k, k < es.length → hold (40 * a + k) = m k v) (hS0 : S 0 = [.ref w, .int (v 4), .int (v 5), .int (v 6)]) (hw : c0 w = some (gT, .inr (ci, [.int nu, .int (v 1), .int (v 2), .int (v 3), p1, p2, .int (v 0)]))) (hci : ci = 25 ∨ ci = 26 ∨ ci = 27) (hbk : v 6 = 0 ∨ v 6 = 1) (hv2 : v 2 = A 21 t) (hbt : 0 ≤ (A 21 t).toInt ∧ (A 21 t).toInt ≤ 10000) (hhb : hb = decide (A 24 (8 * t + u) = A 32 0)) (hab : ab = sPaidAny A t ng) : Ct l g yX6_asks hwX6_asks 75 3000 [.ref x, .ref (ad 5 0), .ref (ad 4 0)] c (0) (0) (pV (aR c0 ad cp fz md S A B hb ab (sTollL A hold a t u ng es.length 0 (fun _ => 0) 0 none none))) := by
  refine Ct.intro hk hcX6_asks (by decide +kernel) (Nat.le_of_ble_eq_true rfl) (fun φ h => ?_)
  have loop : ∀ (n k : Nat) (ks : Nat → Nat) (nt : Nat) (o al : Option Nat) (U : Nat → Nat → Int64) (c : gLH), k + n = es.length → nt ≤ k → CW c0 ad cp fz md (va_up S 1 (rF (nI nt) (oI o) (oI al) (-1) 0 hb ab)) U A B c → (∀ j, j < nt → U 0 j = (A 11 (ks j)).toInt64 ∧ U 1 j = (A 12 (ks j)).toInt64 ∧ tOk (A 11 (ks j)) ∧ tOk (A 12 (ks j)) ∧ 1 ≤ (A 12 (ks j)).toInt) → (∀ j, o = some j → j < 40) → (∀ j, al = some j → j < 40) → ∀ r, sTollL A hold a t u ng n k ks nt o al = r → G φ (gQ φ (pV (aR c0 ad cp fz md S A B hb ab r)) 0 0) 2 [(0, .ref x), (1, .ref (ad 5 0)), (2, .ref (ad 4 0)), (3, .int (nI k))] [] c 0 0 := by
    intro n
    induction n with
    | zero =>
      intro k ks nt o al U c hkn hnk hX hks ho ha r hr
      have hL := hL0.mono hX.1.only
      obtain ⟨⟨m0, hq⟩, -⟩ := hL
      have hL := hL0.mono hX.1.only
      simp only [sTollL] at hr
      subst hr
      refine g_iload_n (i := 3) h dX6_asks_2 rfl rfl ?_
      refine g_aload_n (i := 0) h dX6_asks_3 rfl rfl ?_
      refine g_get (v := .ref q) h f_X6_12_6 (hX.1.frz hact gT_core) rfl dX6_asks_4 ?_
      refine g_invV h (ct_lsize h.k hL) hcJ2_size w_X6_22 rfl rfl hq (Nat.le_of_ble_eq_true rfl) ⟨Nat.le_of_ble_eq_true rfl, Nat.le_of_ble_eq_true rfl⟩ (by refine ⟨?_, ?_⟩ <;> first | exact Nat.le_refl _ | exact Nat.zero_le _ | (dsimp only; omega)) dX6_asks_7 (gkr_ip ?_) gkt_ip
      refine g_icmp_ge (tgt := 52) h dX6_asks_10 (by decide) (fun b10 => ?_) (fun _bz => absurd _bz (fun q => absurd (nI_le (show es.length ≤ k by omega) (by omega)) q))
      exact g_vret h ⟨rfl, _, _, _, _, by decide, hX⟩ (Nat.le_refl _) (Nat.le_refl _) dX6_asks_52
    | succ n ih =>
      intro k ks nt o al U c hkn hnk hX hks ho ha r hr
      have hL := hL0.mono hX.1.only
      obtain ⟨⟨m0, hq⟩, -⟩ := hL
      have hL := hL0.mono hX.1.only
      obtain ⟨y, hy⟩ : ∃ y, es[k]? = some y := ⟨_, List.getElem?_eq_getElem (show k < es.length by omega)⟩
      obtain ⟨hO0, hCM0⟩ := hcl k y hy
      have hO := hO0.mono hX.1.only
      have hCM := hCM0.mono hX.1.only
      have hrV := rV_paid (A := A) (t := t) (u := u) (ng := ng) ho ha
      have hrL := rL_paid (A := A) (t := t) (u := u) (ng := ng) ho ha
      rw [← hhb, ← hab] at hrV hrL
      simp only [sTollL] at hr
      rw [hho k (by omega)] at hr
      refine g_iload_n (i := 3) h dX6_asks_2 rfl rfl ?_
      refine g_aload_n (i := 0) h dX6_asks_3 rfl rfl ?_
      refine g_get (v := .ref q) h f_X6_12_6 (hX.1.frz hact gT_core) rfl dX6_asks_4 ?_
      refine g_invV h (ct_lsize h.k hL) hcJ2_size w_X6_22 rfl rfl hq (Nat.le_of_ble_eq_true rfl) ⟨Nat.le_of_ble_eq_true rfl, Nat.le_of_ble_eq_true rfl⟩ (by refine ⟨?_, ?_⟩ <;> first | exact Nat.le_refl _ | exact Nat.zero_le _ | (dsimp only; omega)) dX6_asks_7 (gkr_ip ?_) gkt_ip
      refine g_icmp_ge (tgt := 52) h dX6_asks_10 (by decide) (fun _bz => absurd _bz (nI_ge (show k < es.length by omega) (by omega))) (fun b10 => ?_)
      refine g_aload_n (i := 0) h dX6_asks_13 rfl rfl ?_
      refine g_get (v := .ref q) h f_X6_12_6 (hX.1.frz hact gT_core) rfl dX6_asks_14 ?_
      refine g_iload_n (i := 3) h dX6_asks_17 rfl rfl ?_
      refine g_invV h (ct_lget h.k hL hy) hcJ2_get w_X6_26 rfl rfl hq (Nat.le_of_ble_eq_true rfl) ⟨Nat.le_of_ble_eq_true rfl, Nat.le_of_ble_eq_true rfl⟩ (by refine ⟨?_, ?_⟩ <;> first | exact Nat.le_refl _ | exact Nat.zero_le _ | (dsimp only; omega)) dX6_asks_18 (gkr_ap ?_) gkt_ap
      refine g_clCast h hO dX6_asks_21 ?_
      refine g_astore h dX6_asks_24 (by decide) ?_
      refine g_aload h dX6_asks_26 rfl ?_
      refine g_aload_n (i := 2) h dX6_asks_28 rfl rfl ?_
      refine g_clHolds h hO hCM (pW_of hX hS0 hw hci hbk) (Nat.le_of_ble_eq_true rfl) ⟨Nat.le_of_ble_eq_true rfl, Nat.le_of_ble_eq_true rfl⟩ ⟨Nat.zero_le _, Nat.zero_le _⟩ dX6_asks_29 ?_
      by_cases hb0 : m k v = true
      · rw [if_pos hb0] at hr
        rcases hO0 with ⟨hso, hc⟩ | ⟨hso, hf, hc⟩ | ⟨hso, hf, hc⟩ | ⟨hso, hf, hc⟩ | ⟨hso, hf, hc⟩ | ⟨hso, hc⟩ | ⟨hso, hc⟩
        · rw [if_neg (by rw [hso]; decide), if_neg (by rw [hso]; decide), if_neg (by rw [hso]; decide), if_pos hso] at hr
          refine G.int (show zB (m k v) = 1 by rw [hb0]; rfl) ?_
          refine g_if_eq (tgt := 46) h dX6_asks_32 (by decide) (fun _bz => absurd _bz (show ¬ (1 : Int32) = 0 by decide)) (fun b32 => ?_)
          refine g_aload h dX6_asks_35 rfl ?_
          refine g_aload_n (i := 1) h dX6_asks_37 rfl rfl ?_
          refine g_aload_n (i := 2) h dX6_asks_38 rfl rfl ?_
          refine g_invU h (cx_freeDoes h.k hX hc) hcX9_does wu_X6d_9 rfl rfl (hX.1.frz hc gT_core) (Nat.le_of_ble_eq_true rfl) ⟨Nat.le_of_ble_eq_true rfl, Nat.le_of_ble_eq_true rfl⟩ (by refine ⟨?_, ?_⟩ <;> first | exact Nat.le_refl _ | exact Nat.zero_le _ | (dsimp only; omega)) dX6_asks_39 (gkr_i (fun c hX => ?_)) gkt_i
          refine g_if_eq (tgt := 46) h dX6_asks_42 (by decide) (fun _bz => absurd _bz (by decide)) (fun b42 => ?_)
          exact g_vret h ⟨rfl, _, _, _, _, by rw [← hr]; exact (show (0 : Int) ≤ (0 : Int32).toInt by decide), by rw [← hr]; exact hX⟩ (Nat.le_refl _) (Nat.le_refl _) dX6_asks_45
        · rw [if_neg (by rw [hso]; decide), if_neg (by rw [hso]; decide), if_neg (by rw [hso]; decide), if_neg (by rw [hso]; decide)] at hr
          have hbs : (A 11 (40 * a + k)).toInt64 = (A 11 (40 * a + k)).toInt64 * (sMult A (40 * a + k) t).toInt64 := by
            simp only [sMult, hso, hv2, i2_1, i3_1, i3_2, if_true, if_false] ; rw [show ((1 : Int32)).toInt64 = 1 from rfl, Int64.mul_one]
          have hpb := paid_b (ks := ks) (n := nt) hf (sMult_b (w := 40 * a + k) hbt) (fun j hj => (hks j hj).2.2)
          refine G.int (show zB (m k v) = 1 by rw [hb0]; rfl) ?_
          refine g_if_eq (tgt := 46) h dX6_asks_32 (by decide) (fun _bz => absurd _bz (show ¬ (1 : Int32) = 0 by decide)) (fun b32 => ?_)
          refine g_aload h dX6_asks_35 rfl ?_
          refine g_aload_n (i := 1) h dX6_asks_37 rfl rfl ?_
          refine g_aload_n (i := 2) h dX6_asks_38 rfl rfl ?_
          refine g_invU h (cx_tollDoes10 h.k hX (by omega) (fun j hj => by rw [(hks j hj).2.1]; exact l_ne (hks j hj).2.2.2.2) (pW_of hX hS0 hw hci hbk) hc) hcX10_does wu_X6d_10 rfl rfl (hX.1.frz hc gT_core) (Nat.le_of_ble_eq_true rfl) ⟨Nat.le_of_ble_eq_true rfl, Nat.le_of_ble_eq_true rfl⟩ (by refine ⟨?_, ?_⟩ <;> first | exact Nat.le_refl _ | exact Nat.zero_le _ | (dsimp only; omega)) dX6_asks_39 (gkr_i (fun c hX => ?_)) gkt_i
          refine g_if_eq (tgt := 46) h dX6_asks_42 (by decide) (fun _bz => absurd _bz (by decide)) (fun b42 => ?_)
          have fin : aR c0 ad cp fz md S A B hb ab r c := by
            rw [← hr]
            rw [rT_paid hbs (fun j hj => ⟨(hks j hj).1, (hks j hj).2.1⟩), hrV, hrL] at hX
            by_cases hF : sPaidF A t u ng o al = true
            · rw [if_pos hF, if_pos hF] at hX
              rw [if_pos hF]
              exact ⟨_, _, _, _, (show (0 : Int) ≤ (0 : Int32).toInt by decide), hX⟩
            · rw [if_neg hF, if_neg hF] at hX
              rw [if_neg hF]
              refine ⟨nI nt, oI o, oI al, U, l32_0 hpb.1 hpb.2, ?_⟩
              rw [l32 hpb.1 hpb.2]
              exact hX
          exact g_vret h ⟨rfl, fin⟩ (Nat.le_refl _) (Nat.le_refl _) dX6_asks_45
        · rw [if_neg (by rw [hso]; decide), if_neg (by rw [hso]; decide), if_neg (by rw [hso]; decide), if_neg (by rw [hso]; decide)] at hr
          have hbs : (A 11 (40 * a + k)).toInt64 * (v 2).toInt64 = (A 11 (40 * a + k)).toInt64 * (sMult A (40 * a + k) t).toInt64 := by
            simp only [sMult, hso, hv2, i2_1, i3_1, i3_2, if_true, if_false]
          have hpb := paid_b (ks := ks) (n := nt) hf (sMult_b (w := 40 * a + k) hbt) (fun j hj => (hks j hj).2.2)
          refine G.int (show zB (m k v) = 1 by rw [hb0]; rfl) ?_
          refine g_if_eq (tgt := 46) h dX6_asks_32 (by decide) (fun _bz => absurd _bz (show ¬ (1 : Int32) = 0 by decide)) (fun b32 => ?_)
          refine g_aload h dX6_asks_35 rfl ?_
          refine g_aload_n (i := 1) h dX6_asks_37 rfl rfl ?_
          refine g_aload_n (i := 2) h dX6_asks_38 rfl rfl ?_
          refine g_invU h (cx_tollDoes11 h.k hX (by omega) (fun j hj => by rw [(hks j hj).2.1]; exact l_ne (hks j hj).2.2.2.2) (pW_of hX hS0 hw hci hbk) hc) hcX10_does wu_X6d_11 rfl rfl (hX.1.frz hc gT_core) (Nat.le_of_ble_eq_true rfl) ⟨Nat.le_of_ble_eq_true rfl, Nat.le_of_ble_eq_true rfl⟩ (by refine ⟨?_, ?_⟩ <;> first | exact Nat.le_refl _ | exact Nat.zero_le _ | (dsimp only; omega)) dX6_asks_39 (gkr_i (fun c hX => ?_)) gkt_i
          refine g_if_eq (tgt := 46) h dX6_asks_42 (by decide) (fun _bz => absurd _bz (by decide)) (fun b42 => ?_)
          have fin : aR c0 ad cp fz md S A B hb ab r c := by
            rw [← hr]
            rw [rT_paid hbs (fun j hj => ⟨(hks j hj).1, (hks j hj).2.1⟩), hrV, hrL] at hX
            by_cases hF : sPaidF A t u ng o al = true
            · rw [if_pos hF, if_pos hF] at hX
              rw [if_pos hF]
              exact ⟨_, _, _, _, (show (0 : Int) ≤ (0 : Int32).toInt by decide), hX⟩
            · rw [if_neg hF, if_neg hF] at hX
              rw [if_neg hF]
              refine ⟨nI nt, oI o, oI al, U, l32_0 hpb.1 hpb.2, ?_⟩
              rw [l32 hpb.1 hpb.2]
              exact hX
          exact g_vret h ⟨rfl, fin⟩ (Nat.le_refl _) (Nat.le_refl _) dX6_asks_45
        · rw [if_neg (by rw [hso]; decide), if_neg (by rw [hso]; decide), if_neg (by rw [hso]; decide), if_neg (by rw [hso]; decide)] at hr
          have hbs : (A 11 (40 * a + k)).toInt64 * ((v 2 + 19) / 20).toInt64 = (A 11 (40 * a + k)).toInt64 * (sMult A (40 * a + k) t).toInt64 := by
            simp only [sMult, hso, hv2, i2_1, i3_1, i3_2, if_true, if_false]
          have hpb := paid_b (ks := ks) (n := nt) hf (sMult_b (w := 40 * a + k) hbt) (fun j hj => (hks j hj).2.2)
          refine G.int (show zB (m k v) = 1 by rw [hb0]; rfl) ?_
          refine g_if_eq (tgt := 46) h dX6_asks_32 (by decide) (fun _bz => absurd _bz (show ¬ (1 : Int32) = 0 by decide)) (fun b32 => ?_)
          refine g_aload h dX6_asks_35 rfl ?_
          refine g_aload_n (i := 1) h dX6_asks_37 rfl rfl ?_
          refine g_aload_n (i := 2) h dX6_asks_38 rfl rfl ?_
          refine g_invU h (cx_tollDoes12 h.k hX (by omega) (fun j hj => by rw [(hks j hj).2.1]; exact l_ne (hks j hj).2.2.2.2) (pW_of hX hS0 hw hci hbk) hc) hcX10_does wu_X6d_12 rfl rfl (hX.1.frz hc gT_core) (Nat.le_of_ble_eq_true rfl) ⟨Nat.le_of_ble_eq_true rfl, Nat.le_of_ble_eq_true rfl⟩ (by refine ⟨?_, ?_⟩ <;> first | exact Nat.le_refl _ | exact Nat.zero_le _ | (dsimp only; omega)) dX6_asks_39 (gkr_i (fun c hX => ?_)) gkt_i
          refine g_if_eq (tgt := 46) h dX6_asks_42 (by decide) (fun _bz => absurd _bz (by decide)) (fun b42 => ?_)
          have fin : aR c0 ad cp fz md S A B hb ab r c := by
            rw [← hr]
            rw [rT_paid hbs (fun j hj => ⟨(hks j hj).1, (hks j hj).2.1⟩), hrV, hrL] at hX
            by_cases hF : sPaidF A t u ng o al = true
            · rw [if_pos hF, if_pos hF] at hX
              rw [if_pos hF]
              exact ⟨_, _, _, _, (show (0 : Int) ≤ (0 : Int32).toInt by decide), hX⟩
            · rw [if_neg hF, if_neg hF] at hX
              rw [if_neg hF]
              refine ⟨nI nt, oI o, oI al, U, l32_0 hpb.1 hpb.2, ?_⟩
              rw [l32 hpb.1 hpb.2]
              exact hX
          exact g_vret h ⟨rfl, fin⟩ (Nat.le_refl _) (Nat.le_refl _) dX6_asks_45
        · rw [if_pos hso] at hr
          refine G.int (show zB (m k v) = 1 by rw [hb0]; rfl) ?_
          refine g_if_eq (tgt := 46) h dX6_asks_32 (by decide) (fun _bz => absurd _bz (show ¬ (1 : Int32) = 0 by decide)) (fun b32 => ?_)
          refine g_aload h dX6_asks_35 rfl ?_
          refine g_aload_n (i := 1) h dX6_asks_37 rfl rfl ?_
          refine g_aload_n (i := 2) h dX6_asks_38 rfl rfl ?_
          refine g_invU h (cx_timesDoes h.k hX (by omega) hc) hcX13_does wu_X6d_13 rfl rfl (hX.1.frz hc gT_core) (Nat.le_of_ble_eq_true rfl) ⟨Nat.le_of_ble_eq_true rfl, Nat.le_of_ble_eq_true rfl⟩ (by refine ⟨?_, ?_⟩ <;> first | exact Nat.le_refl _ | exact Nat.zero_le _ | (dsimp only; omega)) dX6_asks_39 (gkr_i (fun c hX => ?_)) gkt_i
          refine g_if_eq (tgt := 46) h dX6_asks_42 (by decide) (fun b42 => ?_) (fun _bz => absurd _bz (by decide))
          first | (with_reducible refine g_iincN h dX6_asks_46 rfl (by decide) ?_) | refine g_iinc1 h dX6_asks_46 rfl (by decide) ?_
          refine g_goto (tgt := 2) h dX6_asks_49 (by decide) ?_
          exact G.to (ih (k + 1) (va_up ks nt (40 * a + k)) (nt + 1) o al _ c (by omega) (by omega) hX (tks hks hf) ho ha r hr) ⟨rfl, rfl, rfl, rfl, trivial⟩
        · rw [if_neg (by rw [hso]; decide), if_pos hso] at hr
          refine G.int (show zB (m k v) = 1 by rw [hb0]; rfl) ?_
          refine g_if_eq (tgt := 46) h dX6_asks_32 (by decide) (fun _bz => absurd _bz (show ¬ (1 : Int32) = 0 by decide)) (fun b32 => ?_)
          refine g_aload h dX6_asks_35 rfl ?_
          refine g_aload_n (i := 1) h dX6_asks_37 rfl rfl ?_
          refine g_aload_n (i := 2) h dX6_asks_38 rfl rfl ?_
          refine g_invU h (cx_onceHere h.k hX hc) hcX14_does wu_X6d_14 rfl rfl (hX.1.frz hc gT_core) (Nat.le_of_ble_eq_true rfl) ⟨Nat.le_of_ble_eq_true rfl, Nat.le_of_ble_eq_true rfl⟩ (by refine ⟨?_, ?_⟩ <;> first | exact Nat.le_refl _ | exact Nat.zero_le _ | (dsimp only; omega)) dX6_asks_39 (gkr_i (fun c hX => ?_)) gkt_i
          refine g_if_eq (tgt := 46) h dX6_asks_42 (by decide) (fun b42 => ?_) (fun _bz => absurd _bz (by decide))
          first | (with_reducible refine g_iincN h dX6_asks_46 rfl (by decide) ?_) | refine g_iinc1 h dX6_asks_46 rfl (by decide) ?_
          refine g_goto (tgt := 2) h dX6_asks_49 (by decide) ?_
          rw [oOr_I ho k] at hX
          exact G.to (ih (k + 1) ks nt (oOr o k) al U c (by omega) (by omega) hX hks (oOr_lt ho (by omega)) ha r hr) ⟨rfl, rfl, rfl, rfl, trivial⟩
        · rw [if_neg (by rw [hso]; decide), if_neg (by rw [hso]; decide), if_pos hso] at hr
          refine G.int (show zB (m k v) = 1 by rw [hb0]; rfl) ?_
          refine g_if_eq (tgt := 46) h dX6_asks_32 (by decide) (fun _bz => absurd _bz (show ¬ (1 : Int32) = 0 by decide)) (fun b32 => ?_)
          refine g_aload h dX6_asks_35 rfl ?_
          refine g_aload_n (i := 1) h dX6_asks_37 rfl rfl ?_
          refine g_aload_n (i := 2) h dX6_asks_38 rfl rfl ?_
          refine g_invU h (cx_onceAll h.k hX hc) hcX14_does wu_X6d_14 rfl rfl (hX.1.frz hc gT_core) (Nat.le_of_ble_eq_true rfl) ⟨Nat.le_of_ble_eq_true rfl, Nat.le_of_ble_eq_true rfl⟩ (by refine ⟨?_, ?_⟩ <;> first | exact Nat.le_refl _ | exact Nat.zero_le _ | (dsimp only; omega)) dX6_asks_39 (gkr_i (fun c hX => ?_)) gkt_i
          refine g_if_eq (tgt := 46) h dX6_asks_42 (by decide) (fun b42 => ?_) (fun _bz => absurd _bz (by decide))
          first | (with_reducible refine g_iincN h dX6_asks_46 rfl (by decide) ?_) | refine g_iinc1 h dX6_asks_46 rfl (by decide) ?_
          refine g_goto (tgt := 2) h dX6_asks_49 (by decide) ?_
          rw [oOr_I ha k] at hX
          exact G.to (ih (k + 1) ks nt o (oOr al k) U c (by omega) (by omega) hX hks ho (oOr_lt ha (by omega)) r hr) ⟨rfl, rfl, rfl, rfl, trivial⟩
      · rw [if_neg hb0] at hr
        rw [Bool.not_eq_true] at hb0
        refine G.int (show zB (m k v) = 0 by rw [hb0]; rfl) ?_
        refine g_if_eq (tgt := 46) h dX6_asks_32 (by decide) (fun b32 => ?_) (fun _bz => absurd _bz (by decide))
        first | (with_reducible refine g_iincN h dX6_asks_46 rfl (by decide) ?_) | refine g_iinc1 h dX6_asks_46 rfl (by decide) ?_
        refine g_goto (tgt := 2) h dX6_asks_49 (by decide) ?_
        exact G.to (ih (k + 1) ks nt o al U c (by omega) (by omega) hX hks ho ha r hr) ⟨rfl, rfl, rfl, rfl, trivial⟩
  refine g_iconst (v := 0) h dX6_asks_0 (by decide) ?_
  refine g_istore_n (i := 3) h dX6_asks_1 rfl (by decide) ?_
  exact G.to (loop es.length 0 (fun _ => 0) 0 none none U c (by omega) (Nat.le_refl _) hX (fun j hj => by omega) (fun j e => by cases e) (fun j e => by cases e) _ rfl) ⟨rfl, rfl, rfl, rfl, trivial⟩
