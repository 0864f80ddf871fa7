/-! THE COMPONENT: a condition that answers -/
set_option maxRecDepth 100000
/-- the condition at a answers b, at level d -/
def HC (l : Launch) (g : gGP) (d : Nat) (c : gLH) (a p : Nat) (b : Bool) : Prop := ∃ (r : Nat) (fs : List Value), (c a = some (r, .inr (15, fs)) ∧ Ct l g yX15_holds hwX15_holds d (40 * d) [.ref a, .ref p] c 0 0 (pIp (zB b) c)) ∨ (c a = some (r, .inr (16, fs)) ∧ Ct l g yX16_holds hwX16_holds d (40 * d) [.ref a, .ref p] c 0 0 (pIp (zB b) c)) ∨ (c a = some (r, .inr (17, fs)) ∧ Ct l g yX17_holds hwX17_holds d (40 * d) [.ref a, .ref p] c 0 0 (pIp (zB b) c)) ∨ (c a = some (r, .inr (18, fs)) ∧ Ct l g yX18_holds hwX18_holds d (40 * d) [.ref a, .ref p] c 0 0 (pIp (zB b) c)) ∨ (c a = some (r, .inr (19, fs)) ∧ Ct l g yX19_holds hwX19_holds d (40 * d) [.ref a, .ref p] c 0 0 (pIp (zB b) c)) ∨ (c a = some (r, .inr (20, fs)) ∧ Ct l g yX20_holds hwX20_holds d (40 * d) [.ref a, .ref p] c 0 0 (pIp (zB b) c)) ∨ (c a = some (r, .inr (21, fs)) ∧ Ct l g yX21_holds hwX21_holds d (40 * d) [.ref a, .ref p] c 0 0 (pIp (zB b) c))
section CHD
variable {φ : gFx} {Q : State → Prop} {pc : Nat} {lv : List (Nat × Value)} {st : List Value} {ce sl : Nat} {l : Launch} {g : gGP} {R : Room} {cc : ByteArray} {nL : Nat} {own mn : String} {ret : Option FieldType} {tbl : List (Nat × Nat × Nat × Nat)} {idx : Nat} {c : gLH}
theorem g_condX8 (h : gOK φ l g R cc nL RX8 mn ret tbl) {a p d cnt : Nat} {b : Bool} (hH : HC l g d c a p b) (hcat : (st.map fun v => v.category).sum ≤ 8) (hR : d + 1 ≤ R.frames ∧ 40 * (d + 1) ≤ R.locals) (hM : ce ≤ R.cells ∧ sl ≤ R.slots) (hd : decode cc pc = .ok (.invokeinterface 17 cnt, 5)) (kk : G φ Q (pc + 5) lv (.int (zB b) :: st) c ce sl) : G φ Q pc lv (.ref p :: .ref a :: st) c ce sl := by
  obtain ⟨r, fs, hH⟩ := hH
  rcases hH with ⟨hc, k⟩ | ⟨hc, k⟩ | ⟨hc, k⟩ | ⟨hc, k⟩ | ⟨hc, k⟩ | ⟨hc, k⟩ | ⟨hc, k⟩
  · exact g_invF h k hcX15_holds wf_X8_15 rfl rfl hc hcat ⟨hR.1, by (try dsimp only); omega⟩ ⟨hM.1, hM.2⟩ hd (gkr_ip kk) gkt_ip
  · exact g_invF h k hcX16_holds wf_X8_16 rfl rfl hc hcat ⟨hR.1, by (try dsimp only); omega⟩ ⟨hM.1, hM.2⟩ hd (gkr_ip kk) gkt_ip
  · exact g_invF h k hcX17_holds wf_X8_17 rfl rfl hc hcat ⟨hR.1, by (try dsimp only); omega⟩ ⟨hM.1, hM.2⟩ hd (gkr_ip kk) gkt_ip
  · exact g_invF h k hcX18_holds wf_X8_18 rfl rfl hc hcat ⟨hR.1, by (try dsimp only); omega⟩ ⟨hM.1, hM.2⟩ hd (gkr_ip kk) gkt_ip
  · exact g_invF h k hcX19_holds wf_X8_19 rfl rfl hc hcat ⟨hR.1, by (try dsimp only); omega⟩ ⟨hM.1, hM.2⟩ hd (gkr_ip kk) gkt_ip
  · exact g_invF h k hcX20_holds wf_X8_20 rfl rfl hc hcat ⟨hR.1, by (try dsimp only); omega⟩ ⟨hM.1, hM.2⟩ hd (gkr_ip kk) gkt_ip
  · exact g_invF h k hcX21_holds wf_X8_21 rfl rfl hc hcat ⟨hR.1, by (try dsimp only); omega⟩ ⟨hM.1, hM.2⟩ hd (gkr_ip kk) gkt_ip
theorem g_condX16 (h : gOK φ l g R cc nL RX16 mn ret tbl) {a p d cnt : Nat} {b : Bool} (hH : HC l g d c a p b) (hcat : (st.map fun v => v.category).sum ≤ 8) (hR : d + 1 ≤ R.frames ∧ 40 * (d + 1) ≤ R.locals) (hM : ce ≤ R.cells ∧ sl ≤ R.slots) (hd : decode cc pc = .ok (.invokeinterface 25 cnt, 5)) (kk : G φ Q (pc + 5) lv (.int (zB b) :: st) c ce sl) : G φ Q pc lv (.ref p :: .ref a :: st) c ce sl := by
  obtain ⟨r, fs, hH⟩ := hH
  rcases hH with ⟨hc, k⟩ | ⟨hc, k⟩ | ⟨hc, k⟩ | ⟨hc, k⟩ | ⟨hc, k⟩ | ⟨hc, k⟩ | ⟨hc, k⟩
  · exact g_invF h k hcX15_holds wf_X16_15 rfl rfl hc hcat ⟨hR.1, by (try dsimp only); omega⟩ ⟨hM.1, hM.2⟩ hd (gkr_ip kk) gkt_ip
  · exact g_invF h k hcX16_holds wf_X16_16 rfl rfl hc hcat ⟨hR.1, by (try dsimp only); omega⟩ ⟨hM.1, hM.2⟩ hd (gkr_ip kk) gkt_ip
  · exact g_invF h k hcX17_holds wf_X16_17 rfl rfl hc hcat ⟨hR.1, by (try dsimp only); omega⟩ ⟨hM.1, hM.2⟩ hd (gkr_ip kk) gkt_ip
  · exact g_invF h k hcX18_holds wf_X16_18 rfl rfl hc hcat ⟨hR.1, by (try dsimp only); omega⟩ ⟨hM.1, hM.2⟩ hd (gkr_ip kk) gkt_ip
  · exact g_invF h k hcX19_holds wf_X16_19 rfl rfl hc hcat ⟨hR.1, by (try dsimp only); omega⟩ ⟨hM.1, hM.2⟩ hd (gkr_ip kk) gkt_ip
  · exact g_invF h k hcX20_holds wf_X16_20 rfl rfl hc hcat ⟨hR.1, by (try dsimp only); omega⟩ ⟨hM.1, hM.2⟩ hd (gkr_ip kk) gkt_ip
  · exact g_invF h k hcX21_holds wf_X16_21 rfl rfl hc hcat ⟨hR.1, by (try dsimp only); omega⟩ ⟨hM.1, hM.2⟩ hd (gkr_ip kk) gkt_ip
theorem g_condX15 (h : gOK φ l g R cc nL RX15 mn ret tbl) {a p d cnt : Nat} {b : Bool} (hH : HC l g d c a p b) (hcat : (st.map fun v => v.category).sum ≤ 8) (hR : d + 1 ≤ R.frames ∧ 40 * (d + 1) ≤ R.locals) (hM : ce ≤ R.cells ∧ sl ≤ R.slots) (hd : decode cc pc = .ok (.invokeinterface 28 cnt, 5)) (kk : G φ Q (pc + 5) lv (.int (zB b) :: st) c ce sl) : G φ Q pc lv (.ref p :: .ref a :: st) c ce sl := by
  obtain ⟨r, fs, hH⟩ := hH
  rcases hH with ⟨hc, k⟩ | ⟨hc, k⟩ | ⟨hc, k⟩ | ⟨hc, k⟩ | ⟨hc, k⟩ | ⟨hc, k⟩ | ⟨hc, k⟩
  · exact g_invF h k hcX15_holds wf_X15_15 rfl rfl hc hcat ⟨hR.1, by (try dsimp only); omega⟩ ⟨hM.1, hM.2⟩ hd (gkr_ip kk) gkt_ip
  · exact g_invF h k hcX16_holds wf_X15_16 rfl rfl hc hcat ⟨hR.1, by (try dsimp only); omega⟩ ⟨hM.1, hM.2⟩ hd (gkr_ip kk) gkt_ip
  · exact g_invF h k hcX17_holds wf_X15_17 rfl rfl hc hcat ⟨hR.1, by (try dsimp only); omega⟩ ⟨hM.1, hM.2⟩ hd (gkr_ip kk) gkt_ip
  · exact g_invF h k hcX18_holds wf_X15_18 rfl rfl hc hcat ⟨hR.1, by (try dsimp only); omega⟩ ⟨hM.1, hM.2⟩ hd (gkr_ip kk) gkt_ip
  · exact g_invF h k hcX19_holds wf_X15_19 rfl rfl hc hcat ⟨hR.1, by (try dsimp only); omega⟩ ⟨hM.1, hM.2⟩ hd (gkr_ip kk) gkt_ip
  · exact g_invF h k hcX20_holds wf_X15_20 rfl rfl hc hcat ⟨hR.1, by (try dsimp only); omega⟩ ⟨hM.1, hM.2⟩ hd (gkr_ip kk) gkt_ip
  · exact g_invF h k hcX21_holds wf_X15_21 rfl rfl hc hcat ⟨hR.1, by (try dsimp only); omega⟩ ⟨hM.1, hM.2⟩ hd (gkr_ip kk) gkt_ip
theorem g_condX17 (h : gOK φ l g R cc nL RX17 mn ret tbl) {a p d cnt : Nat} {b : Bool} (hH : HC l g d c a p b) (hcat : (st.map fun v => v.category).sum ≤ 8) (hR : d + 1 ≤ R.frames ∧ 40 * (d + 1) ≤ R.locals) (hM : ce ≤ R.cells ∧ sl ≤ R.slots) (hd : decode cc pc = .ok (.invokeinterface 13 cnt, 5)) (kk : G φ Q (pc + 5) lv (.int (zB b) :: st) c ce sl) : G φ Q pc lv (.ref p :: .ref a :: st) c ce sl := by
  obtain ⟨r, fs, hH⟩ := hH
  rcases hH with ⟨hc, k⟩ | ⟨hc, k⟩ | ⟨hc, k⟩ | ⟨hc, k⟩ | ⟨hc, k⟩ | ⟨hc, k⟩ | ⟨hc, k⟩
  · exact g_invF h k hcX15_holds wf_X17_15 rfl rfl hc hcat ⟨hR.1, by (try dsimp only); omega⟩ ⟨hM.1, hM.2⟩ hd (gkr_ip kk) gkt_ip
  · exact g_invF h k hcX16_holds wf_X17_16 rfl rfl hc hcat ⟨hR.1, by (try dsimp only); omega⟩ ⟨hM.1, hM.2⟩ hd (gkr_ip kk) gkt_ip
  · exact g_invF h k hcX17_holds wf_X17_17 rfl rfl hc hcat ⟨hR.1, by (try dsimp only); omega⟩ ⟨hM.1, hM.2⟩ hd (gkr_ip kk) gkt_ip
  · exact g_invF h k hcX18_holds wf_X17_18 rfl rfl hc hcat ⟨hR.1, by (try dsimp only); omega⟩ ⟨hM.1, hM.2⟩ hd (gkr_ip kk) gkt_ip
  · exact g_invF h k hcX19_holds wf_X17_19 rfl rfl hc hcat ⟨hR.1, by (try dsimp only); omega⟩ ⟨hM.1, hM.2⟩ hd (gkr_ip kk) gkt_ip
  · exact g_invF h k hcX20_holds wf_X17_20 rfl rfl hc hcat ⟨hR.1, by (try dsimp only); omega⟩ ⟨hM.1, hM.2⟩ hd (gkr_ip kk) gkt_ip
  · exact g_invF h k hcX21_holds wf_X17_21 rfl rfl hc hcat ⟨hR.1, by (try dsimp only); omega⟩ ⟨hM.1, hM.2⟩ hd (gkr_ip kk) gkt_ip
end CHD
