/-! MY KIT, 5: shapes of posts; rows with numbers in normal form (nI), booleans -/
set_option maxRecDepth 100000
abbrev pI (r : Int32) (K : gLH → Prop) : Outcome → gLH → Prop := fun o c' => o = .returned (some (.int r)) ∧ K c'
abbrev pL (r : Int64) (K : gLH → Prop) : Outcome → gLH → Prop := fun o c' => o = .returned (some (.long r)) ∧ K c'
abbrev pA (r : Nat) (K : gLH → Prop) : Outcome → gLH → Prop := fun o c' => o = .returned (some (.ref r)) ∧ K c'
abbrev pV (K : gLH → Prop) : Outcome → gLH → Prop := fun o c' => o = .returned none ∧ K c'
abbrev pIe (K : Int32 → gLH → Prop) : Outcome → gLH → Prop := fun o c' => ∃ r, o = .returned (some (.int r)) ∧ K r c'
abbrev pLe (K : Int64 → gLH → Prop) : Outcome → gLH → Prop := fun o c' => ∃ r, o = .returned (some (.long r)) ∧ K r c'
abbrev pAe (K : Nat → gLH → Prop) : Outcome → gLH → Prop := fun o c' => ∃ r, o = .returned (some (.ref r)) ∧ K r c'
/-- nothing has changed -/
abbrev pIp (r : Int32) (c : gLH) : Outcome → gLH → Prop := fun o c' => o = .returned (some (.int r)) ∧ c' = c
abbrev pLp (r : Int64) (c : gLH) : Outcome → gLH → Prop := fun o c' => o = .returned (some (.long r)) ∧ c' = c
abbrev pAp (r : Nat) (c : gLH) : Outcome → gLH → Prop := fun o c' => o = .returned (some (.ref r)) ∧ c' = c
abbrev pVp (c : gLH) : Outcome → gLH → Prop := fun o c' => o = .returned none ∧ c' = c
/-- a loop that counts up to N -/
theorem gloop {P : Nat → Prop} {N : Nat} (done : P N) (step : ∀ n, n < N → P (n + 1) → P n) : ∀ n, n ≤ N → P n := by
  have key : ∀ m n, n + m = N → P n := by
    intro m
    induction m with
    | zero => intro n hn; rw [show n = N by omega]; exact done
    | succ m ih => intro n hn; exact step n (by omega) (ih (n + 1) (by omega))
  intro n hn
  exact key (N - n) n (by omega)
/-- an index that may be none, as an int -/
def oI (o : Option Nat) : Int32 := match o with
  | none => -1
  | some b => nI b
theorem oI_n : oI none = -1 := rfl
theorem oI_s (b : Nat) : oI (some b) = nI b := rfl
section GPOST
variable {φ : gFx} {Q : State → Prop} {pc : Nat} {lv : List (Nat × Value)} {st : List Value} {c : gLH} {ce sl : Nat}
theorem gkr_i {r : Int32} {K : gLH → Prop} (k : ∀ c : gLH, K c → G φ Q pc lv (.int r :: st) c ce sl) : gKR φ Q pc lv st ce sl (pI r K) := fun v c' hp => by obtain ⟨hv, hk⟩ := hp; cases hv; exact k c' hk
theorem gkr_l {r : Int64} {K : gLH → Prop} (k : ∀ c : gLH, K c → G φ Q pc lv (.long r :: st) c ce sl) : gKR φ Q pc lv st ce sl (pL r K) := fun v c' hp => by obtain ⟨hv, hk⟩ := hp; cases hv; exact k c' hk
theorem gkr_a {r : Nat} {K : gLH → Prop} (k : ∀ c : gLH, K c → G φ Q pc lv (.ref r :: st) c ce sl) : gKR φ Q pc lv st ce sl (pA r K) := fun v c' hp => by obtain ⟨hv, hk⟩ := hp; cases hv; exact k c' hk
theorem gkr_v {K : gLH → Prop} (k : ∀ c : gLH, K c → G φ Q pc lv st c ce sl) : gKR φ Q pc lv st ce sl (pV K) := fun v c' hp => by obtain ⟨hv, hk⟩ := hp; cases hv; exact k c' hk
theorem gkr_ie {K : Int32 → gLH → Prop} (k : ∀ (r : Int32) (c : gLH), K r c → G φ Q pc lv (.int r :: st) c ce sl) : gKR φ Q pc lv st ce sl (pIe K) := fun v c' hp => by obtain ⟨r, hv, hk⟩ := hp; cases hv; exact k r c' hk
theorem gkr_le {K : Int64 → gLH → Prop} (k : ∀ (r : Int64) (c : gLH), K r c → G φ Q pc lv (.long r :: st) c ce sl) : gKR φ Q pc lv st ce sl (pLe K) := fun v c' hp => by obtain ⟨r, hv, hk⟩ := hp; cases hv; exact k r c' hk
theorem gkr_ae {K : Nat → gLH → Prop} (k : ∀ (r : Nat) (c : gLH), K r c → G φ Q pc lv (.ref r :: st) c ce sl) : gKR φ Q pc lv st ce sl (pAe K) := fun v c' hp => by obtain ⟨r, hv, hk⟩ := hp; cases hv; exact k r c' hk
theorem gkt_i {r : Int32} {K : gLH → Prop} : gKT φ Q pc lv ce sl (pI r K) := fun a c' hp => by cases hp.1
theorem gkt_l {r : Int64} {K : gLH → Prop} : gKT φ Q pc lv ce sl (pL r K) := fun a c' hp => by cases hp.1
theorem gkt_a {r : Nat} {K : gLH → Prop} : gKT φ Q pc lv ce sl (pA r K) := fun a c' hp => by cases hp.1
theorem gkt_v {K : gLH → Prop} : gKT φ Q pc lv ce sl (pV K) := fun a c' hp => by cases hp.1
theorem gkt_ie {K : Int32 → gLH → Prop} : gKT φ Q pc lv ce sl (pIe K) := fun a c' hp => by obtain ⟨r, hv, -⟩ := hp; cases hv
theorem gkt_le {K : Int64 → gLH → Prop} : gKT φ Q pc lv ce sl (pLe K) := fun a c' hp => by obtain ⟨r, hv, -⟩ := hp; cases hv
theorem gkt_ae {K : Nat → gLH → Prop} : gKT φ Q pc lv ce sl (pAe K) := fun a c' hp => by obtain ⟨r, hv, -⟩ := hp; cases hv
theorem gkr_ip {r : Int32} (k : G φ Q pc lv (.int r :: st) c ce sl) : gKR φ Q pc lv st ce sl (pIp r c) := fun v c' hp => by obtain ⟨hv, rfl⟩ := hp; cases hv; exact k
theorem gkr_lp {r : Int64} (k : G φ Q pc lv (.long r :: st) c ce sl) : gKR φ Q pc lv st ce sl (pLp r c) := fun v c' hp => by obtain ⟨hv, rfl⟩ := hp; cases hv; exact k
theorem gkr_ap {r : Nat} (k : G φ Q pc lv (.ref r :: st) c ce sl) : gKR φ Q pc lv st ce sl (pAp r c) := fun v c' hp => by obtain ⟨hv, rfl⟩ := hp; cases hv; exact k
theorem gkr_vp (k : G φ Q pc lv st c ce sl) : gKR φ Q pc lv st ce sl (pVp c) := fun v c' hp => by obtain ⟨hv, rfl⟩ := hp; cases hv; exact k
theorem gkt_ip {r : Int32} {c : gLH} : gKT φ Q pc lv ce sl (pIp r c) := fun a c' hp => by cases hp.1
theorem gkt_lp {r : Int64} {c : gLH} : gKT φ Q pc lv ce sl (pLp r c) := fun a c' hp => by cases hp.1
theorem gkt_ap {r : Nat} {c : gLH} : gKT φ Q pc lv ce sl (pAp r c) := fun a c' hp => by cases hp.1
theorem gkt_vp {c : gLH} : gKT φ Q pc lv ce sl (pVp c) := fun a c' hp => by cases hp.1
variable {l : Launch} {g : gGP} {R : Room} {cc : ByteArray} {nL : Nat} {own mn : String} {ret : Option FieldType} {tbl : List (Nat × Nat × Nat × Nat)}
theorem g_iaddN (h : gOK φ l g R cc nL own mn ret tbl) {a b : Nat} (hd : decode cc pc = .ok (.iadd, 1)) (k : G φ Q (pc + 1) lv (.int (nI (a + b)) :: st) c ce sl) : G φ Q pc lv (.int (nI b) :: .int (nI a) :: st) c ce sl := g_iadd h hd (by rw [nI_add]; exact k)
theorem g_imulN (h : gOK φ l g R cc nL own mn ret tbl) {a b : Nat} (hd : decode cc pc = .ok (.imul, 1)) (k : G φ Q (pc + 1) lv (.int (nI (a * b)) :: st) c ce sl) : G φ Q pc lv (.int (nI b) :: .int (nI a) :: st) c ce sl := g_imul h hd (by rw [pk_mul]; exact k)
theorem g_iincN (h : gOK φ l g R cc nL own mn ret tbl) {i j : Nat} (hd : decode cc pc = .ok (.iinc i 1, 3)) (hx : lget lv i = some (.int (nI j))) (hn : i < nL) (k : G φ Q (pc + 3) ((i, .int (nI (j + 1))) :: lv) st c ce sl) : G φ Q pc lv st c ce sl := g_iinc h hd hx (nI_1 j) hn k
theorem g_iinc1 (h : gOK φ l g R cc nL own mn ret tbl) {i : Nat} {x : Int32} (hd : decode cc pc = .ok (.iinc i 1, 3)) (hx : lget lv i = some (.int x)) (hn : i < nL) (k : G φ Q (pc + 3) ((i, .int (x + 1)) :: lv) st c ce sl) : G φ Q pc lv st c ce sl := g_iinc h hd hx rfl hn k
theorem G.to {lv' : List (Nat × Value)} (k : G φ Q pc lv' st c ce sl) (hs : lsub lv lv') : G φ Q pc lv st c ce sl := G.locals hs k
/-- a boolean on the stack -/
def zB (b : Bool) : Int32 := if b then 1 else 0
theorem zB_t : zB true = 1 := rfl
theorem zB_f : zB false = 0 := rfl
theorem zB_0 {b : Bool} : zB b = 0 ↔ b = false := by cases b <;> simp [zB]
theorem zB_n0 {b : Bool} : ¬ zB b = 0 ↔ b = true := by cases b <;> simp [zB]
theorem zB_nar (b : Bool) : narrow .boolean (.int (zB b)) = .int (zB b) := by cases b <;> rfl
theorem zB_fit (b : Bool) : fits .boolean (.int (zB b)) = true := by cases b <;> rfl
theorem zB_vp (b : Bool) : vp_nar .boolean (zB b) = zB b := by cases b <;> rfl
end GPOST
