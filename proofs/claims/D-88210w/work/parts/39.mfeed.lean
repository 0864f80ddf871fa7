/-! THE MODEL: feed -/
set_option maxRecDepth 100000
/-- how far a word is moved for its byte i -/
def sSh (i : Nat) : Int32 := 24 - nI (8 * i)
theorem sSh_up {i : Nat} (h : i < 4) : sSh i + (-8) = sSh (i + 1) := by
  rcases i with _ | _ | _ | _ | i
  · decide
  · decide
  · decide
  · decide
  · omega
theorem sSh_pos {i : Nat} (h : i < 4) : ¬ sSh i < 0 := by
  rcases i with _ | _ | _ | _ | i
  · decide
  · decide
  · decide
  · decide
  · omega
def sB (v s : Int32) : Int32 := vp_nar .byte ((v >>> (s &&& 31)).toInt8.toInt32)
def sPuts (A : Nat → Nat → Int32) (v : Int32) (tp : Nat) : Nat → (Nat → Nat → Int32)
  | 0 => A
  | i + 1 => mA (mA (sPuts A v tp i) 1 (tp + i) (sB v (sSh i))) 2 0 (nI (tp + i + 1))
theorem sPuts_2 {A : Nat → Nat → Int32} {v : Int32} {tp : Nat} (h : A 2 0 = nI tp) : ∀ i, sPuts A v tp i 2 0 = nI (tp + i)
  | 0 => h
  | _ + 1 => rfl
def sFeed (A : Nat → Nat → Int32) (tp : Nat) (vs : Nat → Int32) : Nat → (Nat → Nat → Int32)
  | 0 => A
  | w + 1 => sPuts (sFeed A tp vs w) (vs w) (tp + 4 * w) 4
theorem sFeed_2 {A : Nat → Nat → Int32} {tp : Nat} {vs : Nat → Int32} (h : A 2 0 = nI tp) : ∀ w, sFeed A tp vs w 2 0 = nI (tp + 4 * w)
  | 0 => h
  | w + 1 => rfl
def sFive (a b c d e : Int32) (w : Nat) : Int32 := if w = 0 then a else if w = 1 then b else if w = 2 then c else if w = 3 then d else e
def sFeedK (A : Nat → Nat → Int32) : Bool := decide (A 2 0 + 20 ≤ 2000)
theorem ct_feed {l : Launch} {g : gGP} (hk : gK l g) {c0 c : gLH} {mo : Nat} {ma : Nat → Nat} {cl ll : Nat} {A : Nat → Nat → Int32} {B : Nat → Nat → Int64} (hM : MW c0 mo ma cl ll A B c) (a b cc d e : Int32) {tp : Nat} (htp : A 2 0 = nI tp) (htp2 : tp ≤ 2000) : Ct l g yX4_feed hwX4_feed 0 0 [.ref mo, .int a, .int b, .int cc, .int d, .int e] c (0) (0) (pI (if sFeedK A = true then nI (tp + 20) else -1) (MW c0 mo ma cl ll (if sFeedK A = true then sFeed (mA A 0 0 0) tp (sFive a b cc d e) 5 else mA A 0 0 0) B)) := by
  refine Ct.intro hk hcX4_feed (by decide +kernel) (Nat.le_of_ble_eq_true rfl) (fun φ h => ?_)
  have htp0 : mA A 0 0 0 2 0 = nI tp := htp
  have out : sFeedK A = true → ∀ w, w ≤ 5 → ∀ c, MW c0 mo ma cl ll (sFeed (mA A 0 0 0) tp (sFive a b cc d e) w) B c → G φ (gQ φ (pI (if sFeedK A = true then nI (tp + 20) else -1) (MW c0 mo ma cl ll (if sFeedK A = true then sFeed (mA A 0 0 0) tp (sFive a b cc d e) 5 else mA A 0 0 0) B)) 0 0) 23 [(0, .ref mo), (1, .int a), (2, .int b), (3, .int cc), (4, .int d), (5, .int e), (6, .int (nI w))] [] c 0 0 := by
    intro hK
    have h20 : tp + 20 ≤ 2000 := by
      have := of_decide_eq_true hK
      rw [htp, show (20 : Int32) = nI 20 from rfl, nI_add, show (2000 : Int32) = nI 2000 from rfl] at this
      exact (nI_leI (by omega) (by omega)).mp this
    refine gloop ?_ ?_
    · intro c hM
      refine g_iload h dX4_feed_23 rfl ?_
      refine g_iconst (v := nI 5) h dX4_feed_25 (by decide) ?_
      refine g_icmp_ge (tgt := 119) h dX4_feed_26 (by decide) (fun b26 => ?_) (fun _bz => absurd _bz (by decide))
      refine g_aload_n (i := 0) h dX4_feed_119 rfl rfl ?_
      refine m_get (v := .int (nI (tp + 20))) h hM f_X4_149_4 rfl dX4_feed_120 ?_
      exact g_iret h ⟨by rw [hK]; rfl, by rw [hK]; exact hM⟩ (Nat.le_refl _) (Nat.le_refl _) dX4_feed_123
    · intro w hw ih c hM
      have inner : ∀ i, i ≤ 4 → ∀ c, MW c0 mo ma cl ll (sPuts (sFeed (mA A 0 0 0) tp (sFive a b cc d e) w) (sFive a b cc d e w) (tp + 4 * w) i) B c → G φ (gQ φ (pI (if sFeedK A = true then nI (tp + 20) else -1) (MW c0 mo ma cl ll (if sFeedK A = true then sFeed (mA A 0 0 0) tp (sFive a b cc d e) 5 else mA A 0 0 0) B)) 0 0) 77 [(0, .ref mo), (1, .int a), (2, .int b), (3, .int cc), (4, .int d), (5, .int e), (6, .int (nI w)), (7, .int (sFive a b cc d e w)), (8, .int (sSh i))] [] c 0 0 := by
        refine gloop ?_ ?_
        · intro c hM
          refine g_iload h dX4_feed_77 rfl ?_
          refine g_if_lt (tgt := 113) h dX4_feed_79 (by decide) (fun b79 => ?_) (fun _bz => absurd _bz (by decide))
          first | (with_reducible refine g_iincN h dX4_feed_113 rfl (by decide) ?_) | refine g_iinc1 h dX4_feed_113 rfl (by decide) ?_
          refine g_goto (tgt := 23) h dX4_feed_116 (by decide) ?_
          exact G.to (ih c hM) ⟨rfl, rfl, rfl, rfl, rfl, rfl, rfl, trivial⟩
        · intro i hi ihi c hM
          refine g_iload h dX4_feed_77 rfl ?_
          refine g_if_lt (tgt := 113) h dX4_feed_79 (by decide) (fun _bz => absurd _bz (sSh_pos hi)) (fun b79 => ?_)
          refine g_aload_n (i := 0) h dX4_feed_82 rfl rfl ?_
          refine m_get h hM f_X4_7_4 rfl dX4_feed_83 ?_
          refine g_aload_n (i := 0) h dX4_feed_86 rfl rfl ?_
          refine m_get (v := .int (nI (tp + 4 * w + i))) h hM f_X4_149_4 (congrArg (fun x => some (Value.int x)) (sPuts_2 (sFeed_2 htp0 w) i)) dX4_feed_87 ?_
          refine g_iload h dX4_feed_90 rfl ?_
          refine g_iload h dX4_feed_92 rfl ?_
          refine g_ishr h dX4_feed_94 ?_
          refine g_i2b h dX4_feed_95 ?_
          refine m_bast h hM (by show _ < 2000; omega) dX4_feed_96 (fun c hM => ?_)
          refine g_aload_n (i := 0) h dX4_feed_97 rfl rfl ?_
          refine g_dup h dX4_feed_98 rfl ?_
          refine m_get (v := .int (nI (tp + 4 * w + i))) h hM f_X4_149_4 (congrArg (fun x => some (Value.int x)) (sPuts_2 (sFeed_2 htp0 w) i)) dX4_feed_99 ?_
          refine g_iconst (v := nI 1) h dX4_feed_102 (by decide) ?_
          first | (with_reducible refine g_iaddN h dX4_feed_103 ?_) | refine g_iadd h dX4_feed_103 ?_
          refine m_puti h hM mp_2 fp_X4_149_4 dX4_feed_104 (fun c hM => ?_)
          refine g_iinc h dX4_feed_107 rfl (sSh_up hi) (by decide) ?_
          refine g_goto (tgt := 77) h dX4_feed_110 (by decide) ?_
          exact G.to (ihi c hM) ⟨rfl, rfl, rfl, rfl, rfl, rfl, rfl, rfl, rfl, trivial⟩
      rcases (show w = 0 ∨ w = 1 ∨ w = 2 ∨ w = 3 ∨ w = 4 by omega) with q | q | q | q | q
      · skip
        refine g_iload h dX4_feed_23 rfl ?_
        refine g_iconst (v := nI 5) h dX4_feed_25 (by decide) ?_
        refine g_icmp_ge (tgt := 119) h dX4_feed_26 (by decide) (fun _bz => absurd _bz (nI_ge hw (by omega))) (fun b26 => ?_)
        refine g_iload h dX4_feed_29 rfl ?_
        refine g_if_ne (tgt := 38) h dX4_feed_31 (by decide) (fun _bz => absurd _bz (by rw [q]; decide)) (fun b31 => ?_)
        refine g_iload_n (i := 1) h dX4_feed_34 rfl rfl ?_
        refine g_goto (tgt := 71) h dX4_feed_35 (by decide) ?_
        refine g_istore h dX4_feed_71 (by decide) ?_
        refine g_bipush (v := 24) h dX4_feed_73 (by decide) ?_
        refine g_istore h dX4_feed_75 (by decide) ?_
        exact G.to (inner 0 (Nat.zero_le _) c hM) ⟨rfl, rfl, rfl, rfl, rfl, rfl, rfl, congrArg (fun x => some (Value.int x)) (by rw [q]; rfl), rfl, trivial⟩
      · skip
        refine g_iload h dX4_feed_23 rfl ?_
        refine g_iconst (v := nI 5) h dX4_feed_25 (by decide) ?_
        refine g_icmp_ge (tgt := 119) h dX4_feed_26 (by decide) (fun _bz => absurd _bz (nI_ge hw (by omega))) (fun b26 => ?_)
        refine g_iload h dX4_feed_29 rfl ?_
        refine g_if_ne (tgt := 38) h dX4_feed_31 (by decide) (fun b31 => ?_) (fun _bz => absurd _bz (by rw [q]; decide))
        refine g_iload h dX4_feed_38 rfl ?_
        refine g_iconst (v := nI 1) h dX4_feed_40 (by decide) ?_
        refine g_icmp_ne (tgt := 48) h dX4_feed_41 (by decide) (fun _bz => absurd _bz (by rw [q]; decide)) (fun b41 => ?_)
        refine g_iload_n (i := 2) h dX4_feed_44 rfl rfl ?_
        refine g_goto (tgt := 71) h dX4_feed_45 (by decide) ?_
        refine g_istore h dX4_feed_71 (by decide) ?_
        refine g_bipush (v := 24) h dX4_feed_73 (by decide) ?_
        refine g_istore h dX4_feed_75 (by decide) ?_
        exact G.to (inner 0 (Nat.zero_le _) c hM) ⟨rfl, rfl, rfl, rfl, rfl, rfl, rfl, congrArg (fun x => some (Value.int x)) (by rw [q]; rfl), rfl, trivial⟩
      · skip
        refine g_iload h dX4_feed_23 rfl ?_
        refine g_iconst (v := nI 5) h dX4_feed_25 (by decide) ?_
        refine g_icmp_ge (tgt := 119) h dX4_feed_26 (by decide) (fun _bz => absurd _bz (nI_ge hw (by omega))) (fun b26 => ?_)
        refine g_iload h dX4_feed_29 rfl ?_
        refine g_if_ne (tgt := 38) h dX4_feed_31 (by decide) (fun b31 => ?_) (fun _bz => absurd _bz (by rw [q]; decide))
        refine g_iload h dX4_feed_38 rfl ?_
        refine g_iconst (v := nI 1) h dX4_feed_40 (by decide) ?_
        refine g_icmp_ne (tgt := 48) h dX4_feed_41 (by decide) (fun b41 => ?_) (fun _bz => absurd _bz (by rw [q]; decide))
        refine g_iload h dX4_feed_48 rfl ?_
        refine g_iconst (v := nI 2) h dX4_feed_50 (by decide) ?_
        refine g_icmp_ne (tgt := 58) h dX4_feed_51 (by decide) (fun _bz => absurd _bz (by rw [q]; decide)) (fun b51 => ?_)
        refine g_iload_n (i := 3) h dX4_feed_54 rfl rfl ?_
        refine g_goto (tgt := 71) h dX4_feed_55 (by decide) ?_
        refine g_istore h dX4_feed_71 (by decide) ?_
        refine g_bipush (v := 24) h dX4_feed_73 (by decide) ?_
        refine g_istore h dX4_feed_75 (by decide) ?_
        exact G.to (inner 0 (Nat.zero_le _) c hM) ⟨rfl, rfl, rfl, rfl, rfl, rfl, rfl, congrArg (fun x => some (Value.int x)) (by rw [q]; rfl), rfl, trivial⟩
      · skip
        refine g_iload h dX4_feed_23 rfl ?_
        refine g_iconst (v := nI 5) h dX4_feed_25 (by decide) ?_
        refine g_icmp_ge (tgt := 119) h dX4_feed_26 (by decide) (fun _bz => absurd _bz (nI_ge hw (by omega))) (fun b26 => ?_)
        refine g_iload h dX4_feed_29 rfl ?_
        refine g_if_ne (tgt := 38) h dX4_feed_31 (by decide) (fun b31 => ?_) (fun _bz => absurd _bz (by rw [q]; decide))
        refine g_iload h dX4_feed_38 rfl ?_
        refine g_iconst (v := nI 1) h dX4_feed_40 (by decide) ?_
        refine g_icmp_ne (tgt := 48) h dX4_feed_41 (by decide) (fun b41 => ?_) (fun _bz => absurd _bz (by rw [q]; decide))
        refine g_iload h dX4_feed_48 rfl ?_
        refine g_iconst (v := nI 2) h dX4_feed_50 (by decide) ?_
        refine g_icmp_ne (tgt := 58) h dX4_feed_51 (by decide) (fun b51 => ?_) (fun _bz => absurd _bz (by rw [q]; decide))
        refine g_iload h dX4_feed_58 rfl ?_
        refine g_iconst (v := nI 3) h dX4_feed_60 (by decide) ?_
        refine g_icmp_ne (tgt := 69) h dX4_feed_61 (by decide) (fun _bz => absurd _bz (by rw [q]; decide)) (fun b61 => ?_)
        refine g_iload h dX4_feed_64 rfl ?_
        refine g_goto (tgt := 71) h dX4_feed_66 (by decide) ?_
        refine g_istore h dX4_feed_71 (by decide) ?_
        refine g_bipush (v := 24) h dX4_feed_73 (by decide) ?_
        refine g_istore h dX4_feed_75 (by decide) ?_
        exact G.to (inner 0 (Nat.zero_le _) c hM) ⟨rfl, rfl, rfl, rfl, rfl, rfl, rfl, congrArg (fun x => some (Value.int x)) (by rw [q]; rfl), rfl, trivial⟩
      · skip
        refine g_iload h dX4_feed_23 rfl ?_
        refine g_iconst (v := nI 5) h dX4_feed_25 (by decide) ?_
        refine g_icmp_ge (tgt := 119) h dX4_feed_26 (by decide) (fun _bz => absurd _bz (nI_ge hw (by omega))) (fun b26 => ?_)
        refine g_iload h dX4_feed_29 rfl ?_
        refine g_if_ne (tgt := 38) h dX4_feed_31 (by decide) (fun b31 => ?_) (fun _bz => absurd _bz (by rw [q]; decide))
        refine g_iload h dX4_feed_38 rfl ?_
        refine g_iconst (v := nI 1) h dX4_feed_40 (by decide) ?_
        refine g_icmp_ne (tgt := 48) h dX4_feed_41 (by decide) (fun b41 => ?_) (fun _bz => absurd _bz (by rw [q]; decide))
        refine g_iload h dX4_feed_48 rfl ?_
        refine g_iconst (v := nI 2) h dX4_feed_50 (by decide) ?_
        refine g_icmp_ne (tgt := 58) h dX4_feed_51 (by decide) (fun b51 => ?_) (fun _bz => absurd _bz (by rw [q]; decide))
        refine g_iload h dX4_feed_58 rfl ?_
        refine g_iconst (v := nI 3) h dX4_feed_60 (by decide) ?_
        refine g_icmp_ne (tgt := 69) h dX4_feed_61 (by decide) (fun b61 => ?_) (fun _bz => absurd _bz (by rw [q]; decide))
        refine g_iload h dX4_feed_69 rfl ?_
        refine g_istore h dX4_feed_71 (by decide) ?_
        refine g_bipush (v := 24) h dX4_feed_73 (by decide) ?_
        refine g_istore h dX4_feed_75 (by decide) ?_
        exact G.to (inner 0 (Nat.zero_le _) c hM) ⟨rfl, rfl, rfl, rfl, rfl, rfl, rfl, congrArg (fun x => some (Value.int x)) (by rw [q]; rfl), rfl, trivial⟩
  refine g_aload_n (i := 0) h dX4_feed_0 rfl rfl ?_
  refine g_iconst (v := 0) h dX4_feed_1 (by decide) ?_
  refine m_puti h hM mp_0 fp_X4_146_4 dX4_feed_2 (fun c hM => ?_)
  refine g_aload_n (i := 0) h dX4_feed_5 rfl rfl ?_
  refine m_get (v := .int (A 2 0)) h hM f_X4_149_4 rfl dX4_feed_6 ?_
  refine g_bipush (v := 20) h dX4_feed_9 (by decide) ?_
  first | (with_reducible refine g_iaddN h dX4_feed_11 ?_) | refine g_iadd h dX4_feed_11 ?_
  refine g_sipush (v := 2000) h dX4_feed_12 (by decide) ?_
  refine g_icmp_le (tgt := 20) h dX4_feed_15 (by decide) (fun b15 => ?_) (fun b15 => ?_)
  · refine g_iconst (v := 0) h dX4_feed_20 (by decide) ?_
    refine g_istore h dX4_feed_21 (by decide) ?_
    exact G.to (out (decide_eq_true b15) 0 (Nat.zero_le _) c hM) ⟨rfl, rfl, rfl, rfl, rfl, rfl, rfl, trivial⟩
  · refine g_iconst (v := (-1)) h dX4_feed_18 (by decide) ?_
    exact g_iret h ⟨by rw [show sFeedK A = false from decide_eq_false b15]; rfl, by rw [show sFeedK A = false from decide_eq_false b15]; exact hM⟩ (Nat.le_refl _) (Nat.le_refl _) dX4_feed_19
