-- ===== PART A: goes FIRST, ahead of the names: the tables' words, and 'selects' of the private methods out of them =====
/-- a private method of a class that the tables say can be made, by its rows of tables_1 -/
def lw_okq (q : MethodName × Nat) : Prop := (q.1.cls ≠ "java/lang/invoke/MethodHandle" ∧ q.1.cls ≠ "java/lang/invoke/VarHandle") ∧ Cond.instantiable q.1.cls q.2 ∈ tables_1 ∧ Cond.privateMethod q.1 ∈ tables_1 ∧ Cond.instanceMethod q.1 ∈ tables_1
set_option maxRecDepth 100000
theorem lw_t1 {w : Cond} (h : w ∈ tables_1_1) : w ∈ tables_1 := List.mem_append_left _ h
theorem lw_t2 {w : Cond} (h : w ∈ tables_1_2) : w ∈ tables_1 := List.mem_append_right _ (List.mem_append_left _ h)
theorem lw_t3 {w : Cond} (h : w ∈ tables_1_3) : w ∈ tables_1 := List.mem_append_right _ (List.mem_append_right _ (List.mem_append_left _ h))
theorem lw_t4 {w : Cond} (h : w ∈ tables_1_4) : w ∈ tables_1 := List.mem_append_right _ (List.mem_append_right _ (List.mem_append_right _ (List.mem_append_left _ h)))
theorem lw_t5 {w : Cond} (h : w ∈ tables_1_5) : w ∈ tables_1 := List.mem_append_right _ (List.mem_append_right _ (List.mem_append_right _ (List.mem_append_right _ (List.mem_append_left _ h))))
theorem lw_t6 {w : Cond} (h : w ∈ tables_1_6) : w ∈ tables_1 := List.mem_append_right _ (List.mem_append_right _ (List.mem_append_right _ (List.mem_append_right _ (List.mem_append_right _ (List.mem_append_left _ h)))))
theorem lw_t7 {w : Cond} (h : w ∈ tables_1_7) : w ∈ tables_1 := List.mem_append_right _ (List.mem_append_right _ (List.mem_append_right _ (List.mem_append_right _ (List.mem_append_right _ (List.mem_append_right _ (List.mem_append_left _ h))))))
theorem lw_t8 {w : Cond} (h : w ∈ tables_1_8) : w ∈ tables_1 := List.mem_append_right _ (List.mem_append_right _ (List.mem_append_right _ (List.mem_append_right _ (List.mem_append_right _ (List.mem_append_right _ (List.mem_append_right _ (List.mem_append_left _ h)))))))
theorem lw_t9 {w : Cond} (h : w ∈ tables_1_9) : w ∈ tables_1 := List.mem_append_right _ (List.mem_append_right _ (List.mem_append_right _ (List.mem_append_right _ (List.mem_append_right _ (List.mem_append_right _ (List.mem_append_right _ (List.mem_append_right _ (List.mem_append_left _ h))))))))
theorem lw_t10 {w : Cond} (h : w ∈ tables_1_10) : w ∈ tables_1 := List.mem_append_right _ (List.mem_append_right _ (List.mem_append_right _ (List.mem_append_right _ (List.mem_append_right _ (List.mem_append_right _ (List.mem_append_right _ (List.mem_append_right _ (List.mem_append_right _ h))))))))
theorem lw_p0 : lw_okq (⟨"java/lang/Throwable", "fillInStackTrace", "(I)Ljava/lang/Throwable;"⟩, 6) := ⟨⟨by decide +kernel, by decide +kernel⟩, lw_t1 (List.mem_of_getElem? (i := 121) rfl), lw_t1 (List.mem_of_getElem? (i := 119) rfl), lw_t1 (List.mem_of_getElem? (i := 120) rfl)⟩
theorem lw_p1 : lw_okq (⟨"TurnpikeTrust", "put", "(I)V"⟩, 17) := ⟨⟨by decide +kernel, by decide +kernel⟩, lw_t1 (List.mem_of_getElem? (i := 57) rfl), lw_t3 (List.mem_of_getElem? (i := 55) rfl), lw_t3 (List.mem_of_getElem? (i := 56) rfl)⟩
theorem lw_p2 : lw_okq (⟨"TurnpikeTrust$Reader", "go", "()V"⟩, 9) := ⟨⟨by decide +kernel, by decide +kernel⟩, lw_t3 (List.mem_of_getElem? (i := 117) rfl), lw_t3 (List.mem_of_getElem? (i := 124) rfl), lw_t3 (List.mem_of_getElem? (i := 125) rfl)⟩
theorem lw_p3 : lw_okq (⟨"TurnpikeTrust$Reader", "at", "(I)I"⟩, 9) := ⟨⟨by decide +kernel, by decide +kernel⟩, lw_t3 (List.mem_of_getElem? (i := 117) rfl), lw_t3 (List.mem_of_getElem? (i := 128) rfl), lw_t3 (List.mem_of_getElem? (i := 129) rfl)⟩
theorem lw_p4 : lw_okq (⟨"TurnpikeTrust$Reader", "string", "()Ljava/lang/String;"⟩, 9) := ⟨⟨by decide +kernel, by decide +kernel⟩, lw_t3 (List.mem_of_getElem? (i := 117) rfl), lw_t3 (List.mem_of_getElem? (i := 139) rfl), lw_t3 (List.mem_of_getElem? (i := 140) rfl)⟩
theorem lw_p5 : lw_okq (⟨"TurnpikeTrust$Reader", "clause", "(I)LTurnpikeTrust$Clause;"⟩, 9) := ⟨⟨by decide +kernel, by decide +kernel⟩, lw_t3 (List.mem_of_getElem? (i := 117) rfl), lw_t3 (List.mem_of_getElem? (i := 233) rfl), lw_t3 (List.mem_of_getElem? (i := 234) rfl)⟩
theorem lw_p6 : lw_okq (⟨"TurnpikeTrust$Reader", "isWord", "(Ljava/lang/String;)Z"⟩, 9) := ⟨⟨by decide +kernel, by decide +kernel⟩, lw_t3 (List.mem_of_getElem? (i := 117) rfl), lw_t3 (List.mem_of_getElem? (i := 238) rfl), lw_t3 (List.mem_of_getElem? (i := 239) rfl)⟩
theorem lw_p7 : lw_okq (⟨"TurnpikeTrust$Reader", "wrong", "()LTurnpikeTrust$Wrong;"⟩, 9) := ⟨⟨by decide +kernel, by decide +kernel⟩, lw_t3 (List.mem_of_getElem? (i := 117) rfl), lw_t4 (List.mem_of_getElem? (i := 13) rfl), lw_t4 (List.mem_of_getElem? (i := 14) rfl)⟩
theorem lw_p8 : lw_okq (⟨"TurnpikeTrust$Reader", "toll", "(I)LTurnpikeTrust$Clause;"⟩, 9) := ⟨⟨by decide +kernel, by decide +kernel⟩, lw_t3 (List.mem_of_getElem? (i := 117) rfl), lw_t4 (List.mem_of_getElem? (i := 63) rfl), lw_t4 (List.mem_of_getElem? (i := 64) rfl)⟩
theorem lw_p9 : lw_okq (⟨"TurnpikeTrust$Reader", "number", "(J)J"⟩, 9) := ⟨⟨by decide +kernel, by decide +kernel⟩, lw_t3 (List.mem_of_getElem? (i := 117) rfl), lw_t4 (List.mem_of_getElem? (i := 67) rfl), lw_t4 (List.mem_of_getElem? (i := 68) rfl)⟩
theorem lw_p10 : lw_okq (⟨"TurnpikeTrust$Reader", "takes", "(Ljava/lang/String;)Z"⟩, 9) := ⟨⟨by decide +kernel, by decide +kernel⟩, lw_t3 (List.mem_of_getElem? (i := 117) rfl), lw_t4 (List.mem_of_getElem? (i := 73) rfl), lw_t4 (List.mem_of_getElem? (i := 74) rfl)⟩
theorem lw_p11 : lw_okq (⟨"TurnpikeTrust$Reader", "times", "(I)LTurnpikeTrust$Clause;"⟩, 9) := ⟨⟨by decide +kernel, by decide +kernel⟩, lw_t3 (List.mem_of_getElem? (i := 117) rfl), lw_t4 (List.mem_of_getElem? (i := 114) rfl), lw_t4 (List.mem_of_getElem? (i := 115) rfl)⟩
theorem lw_p12 : lw_okq (⟨"TurnpikeTrust$Reader", "need", "(I)V"⟩, 9) := ⟨⟨by decide +kernel, by decide +kernel⟩, lw_t3 (List.mem_of_getElem? (i := 117) rfl), lw_t4 (List.mem_of_getElem? (i := 118) rfl), lw_t4 (List.mem_of_getElem? (i := 119) rfl)⟩
theorem lw_p13 : lw_okq (⟨"TurnpikeTrust$Reader", "is", "(I)Z"⟩, 9) := ⟨⟨by decide +kernel, by decide +kernel⟩, lw_t3 (List.mem_of_getElem? (i := 117) rfl), lw_t4 (List.mem_of_getElem? (i := 122) rfl), lw_t4 (List.mem_of_getElem? (i := 123) rfl)⟩
theorem lw_p14 : lw_okq (⟨"TurnpikeTrust$Reader", "any", "()LTurnpikeTrust$Condition;"⟩, 9) := ⟨⟨by decide +kernel, by decide +kernel⟩, lw_t3 (List.mem_of_getElem? (i := 117) rfl), lw_t4 (List.mem_of_getElem? (i := 155) rfl), lw_t4 (List.mem_of_getElem? (i := 156) rfl)⟩
theorem lw_p15 : lw_okq (⟨"TurnpikeTrust$Reader", "all", "()LTurnpikeTrust$Condition;"⟩, 9) := ⟨⟨by decide +kernel, by decide +kernel⟩, lw_t3 (List.mem_of_getElem? (i := 117) rfl), lw_t4 (List.mem_of_getElem? (i := 175) rfl), lw_t4 (List.mem_of_getElem? (i := 176) rfl)⟩
def lw_privs_1 : List (MethodName × Nat) := [(⟨"java/lang/Throwable", "fillInStackTrace", "(I)Ljava/lang/Throwable;"⟩, 6), (⟨"TurnpikeTrust", "put", "(I)V"⟩, 17), (⟨"TurnpikeTrust$Reader", "go", "()V"⟩, 9), (⟨"TurnpikeTrust$Reader", "at", "(I)I"⟩, 9), (⟨"TurnpikeTrust$Reader", "string", "()Ljava/lang/String;"⟩, 9), (⟨"TurnpikeTrust$Reader", "clause", "(I)LTurnpikeTrust$Clause;"⟩, 9), (⟨"TurnpikeTrust$Reader", "isWord", "(Ljava/lang/String;)Z"⟩, 9), (⟨"TurnpikeTrust$Reader", "wrong", "()LTurnpikeTrust$Wrong;"⟩, 9), (⟨"TurnpikeTrust$Reader", "toll", "(I)LTurnpikeTrust$Clause;"⟩, 9), (⟨"TurnpikeTrust$Reader", "number", "(J)J"⟩, 9), (⟨"TurnpikeTrust$Reader", "takes", "(Ljava/lang/String;)Z"⟩, 9), (⟨"TurnpikeTrust$Reader", "times", "(I)LTurnpikeTrust$Clause;"⟩, 9), (⟨"TurnpikeTrust$Reader", "need", "(I)V"⟩, 9), (⟨"TurnpikeTrust$Reader", "is", "(I)Z"⟩, 9), (⟨"TurnpikeTrust$Reader", "any", "()LTurnpikeTrust$Condition;"⟩, 9), (⟨"TurnpikeTrust$Reader", "all", "()LTurnpikeTrust$Condition;"⟩, 9)]
theorem lw_r1 : ∀ q ∈ lw_privs_1, lw_okq q := List.forall_mem_cons.mpr ⟨lw_p0, List.forall_mem_cons.mpr ⟨lw_p1, List.forall_mem_cons.mpr ⟨lw_p2, List.forall_mem_cons.mpr ⟨lw_p3, List.forall_mem_cons.mpr ⟨lw_p4, List.forall_mem_cons.mpr ⟨lw_p5, List.forall_mem_cons.mpr ⟨lw_p6, List.forall_mem_cons.mpr ⟨lw_p7, List.forall_mem_cons.mpr ⟨lw_p8, List.forall_mem_cons.mpr ⟨lw_p9, List.forall_mem_cons.mpr ⟨lw_p10, List.forall_mem_cons.mpr ⟨lw_p11, List.forall_mem_cons.mpr ⟨lw_p12, List.forall_mem_cons.mpr ⟨lw_p13, List.forall_mem_cons.mpr ⟨lw_p14, List.forall_mem_cons.mpr ⟨lw_p15, fun _ h => absurd h List.not_mem_nil⟩⟩⟩⟩⟩⟩⟩⟩⟩⟩⟩⟩⟩⟩⟩⟩
theorem lw_p16 : lw_okq (⟨"TurnpikeTrust$Reader", "one", "()LTurnpikeTrust$Condition;"⟩, 9) := ⟨⟨by decide +kernel, by decide +kernel⟩, lw_t3 (List.mem_of_getElem? (i := 117) rfl), lw_t4 (List.mem_of_getElem? (i := 187) rfl), lw_t4 (List.mem_of_getElem? (i := 188) rfl)⟩
theorem lw_p17 : lw_okq (⟨"TurnpikeTrust$Reader", "opens", "()V"⟩, 9) := ⟨⟨by decide +kernel, by decide +kernel⟩, lw_t3 (List.mem_of_getElem? (i := 117) rfl), lw_t4 (List.mem_of_getElem? (i := 192) rfl), lw_t4 (List.mem_of_getElem? (i := 193) rfl)⟩
theorem lw_p18 : lw_okq (⟨"TurnpikeTrust$Reader", "bit", "(I)LTurnpikeTrust$Condition;"⟩, 9) := ⟨⟨by decide +kernel, by decide +kernel⟩, lw_t3 (List.mem_of_getElem? (i := 117) rfl), lw_t5 (List.mem_of_getElem? (i := 37) rfl), lw_t5 (List.mem_of_getElem? (i := 38) rfl)⟩
theorem lw_p19 : lw_okq (⟨"TurnpikeTrust$Reader", "compares", "(I)LTurnpikeTrust$Condition;"⟩, 9) := ⟨⟨by decide +kernel, by decide +kernel⟩, lw_t3 (List.mem_of_getElem? (i := 117) rfl), lw_t5 (List.mem_of_getElem? (i := 58) rfl), lw_t5 (List.mem_of_getElem? (i := 59) rfl)⟩
theorem lw_p20 : lw_okq (⟨"TurnpikeTrust$Reader", "kind", "()LTurnpikeTrust$Condition;"⟩, 9) := ⟨⟨by decide +kernel, by decide +kernel⟩, lw_t3 (List.mem_of_getElem? (i := 117) rfl), lw_t5 (List.mem_of_getElem? (i := 78) rfl), lw_t5 (List.mem_of_getElem? (i := 79) rfl)⟩
theorem lw_p21 : lw_okq (⟨"java/util/ArrayList", "add", "(Ljava/lang/Object;[Ljava/lang/Object;I)V"⟩, 3) := ⟨⟨by decide +kernel, by decide +kernel⟩, lw_t1 (List.mem_of_getElem? (i := 65) rfl), lw_t5 (List.mem_of_getElem? (i := 106) rfl), lw_t5 (List.mem_of_getElem? (i := 107) rfl)⟩
theorem lw_p22 : lw_okq (⟨"java/util/ArrayList", "grow", "()[Ljava/lang/Object;"⟩, 3) := ⟨⟨by decide +kernel, by decide +kernel⟩, lw_t1 (List.mem_of_getElem? (i := 65) rfl), lw_t5 (List.mem_of_getElem? (i := 110) rfl), lw_t5 (List.mem_of_getElem? (i := 111) rfl)⟩
theorem lw_p23 : lw_okq (⟨"java/util/ArrayList", "grow", "(I)[Ljava/lang/Object;"⟩, 3) := ⟨⟨by decide +kernel, by decide +kernel⟩, lw_t1 (List.mem_of_getElem? (i := 65) rfl), lw_t5 (List.mem_of_getElem? (i := 114) rfl), lw_t5 (List.mem_of_getElem? (i := 115) rfl)⟩
theorem lw_p24 : lw_okq (⟨"TurnpikeTrust", "inForce", "(I)I"⟩, 17) := ⟨⟨by decide +kernel, by decide +kernel⟩, lw_t1 (List.mem_of_getElem? (i := 57) rfl), lw_t6 (List.mem_of_getElem? (i := 133) rfl), lw_t6 (List.mem_of_getElem? (i := 134) rfl)⟩
theorem lw_p25 : lw_okq (⟨"TurnpikeTrust", "reckon", "(ILTurnpikeTrust$Traveller;LTurnpikeTrust$Gate;)V"⟩, 17) := ⟨⟨by decide +kernel, by decide +kernel⟩, lw_t1 (List.mem_of_getElem? (i := 57) rfl), lw_t6 (List.mem_of_getElem? (i := 138) rfl), lw_t6 (List.mem_of_getElem? (i := 139) rfl)⟩
theorem lw_p26 : lw_okq (⟨"TurnpikeTrust", "change", "(IIJ)V"⟩, 17) := ⟨⟨by decide +kernel, by decide +kernel⟩, lw_t1 (List.mem_of_getElem? (i := 57) rfl), lw_t7 (List.mem_of_getElem? (i := 27) rfl), lw_t7 (List.mem_of_getElem? (i := 28) rfl)⟩
theorem lw_p27 : lw_okq (⟨"TurnpikeTrust", "interest", "()V"⟩, 17) := ⟨⟨by decide +kernel, by decide +kernel⟩, lw_t1 (List.mem_of_getElem? (i := 57) rfl), lw_t7 (List.mem_of_getElem? (i := 70) rfl), lw_t7 (List.mem_of_getElem? (i := 71) rfl)⟩
theorem lw_p28 : lw_okq (⟨"TurnpikeTrust", "gets", "(IJ)V"⟩, 17) := ⟨⟨by decide +kernel, by decide +kernel⟩, lw_t1 (List.mem_of_getElem? (i := 57) rfl), lw_t7 (List.mem_of_getElem? (i := 76) rfl), lw_t7 (List.mem_of_getElem? (i := 77) rfl)⟩
theorem lw_p29 : lw_okq (⟨"TurnpikeTrust", "parts", "(IJ)V"⟩, 17) := ⟨⟨by decide +kernel, by decide +kernel⟩, lw_t1 (List.mem_of_getElem? (i := 57) rfl), lw_t7 (List.mem_of_getElem? (i := 80) rfl), lw_t7 (List.mem_of_getElem? (i := 81) rfl)⟩
theorem lw_p30 : lw_okq (⟨"TurnpikeTrust", "comes", "(LTurnpikeTrust$Gate;)V"⟩, 17) := ⟨⟨by decide +kernel, by decide +kernel⟩, lw_t1 (List.mem_of_getElem? (i := 57) rfl), lw_t7 (List.mem_of_getElem? (i := 84) rfl), lw_t7 (List.mem_of_getElem? (i := 85) rfl)⟩
theorem lw_p31 : lw_okq (⟨"TurnpikeTrust", "pays", "(LTurnpikeTrust$Gate;LTurnpikeTrust$Farmer;)V"⟩, 17) := ⟨⟨by decide +kernel, by decide +kernel⟩, lw_t1 (List.mem_of_getElem? (i := 57) rfl), lw_t7 (List.mem_of_getElem? (i := 88) rfl), lw_t7 (List.mem_of_getElem? (i := 89) rfl)⟩
def lw_privs_2 : List (MethodName × Nat) := [(⟨"TurnpikeTrust$Reader", "one", "()LTurnpikeTrust$Condition;"⟩, 9), (⟨"TurnpikeTrust$Reader", "opens", "()V"⟩, 9), (⟨"TurnpikeTrust$Reader", "bit", "(I)LTurnpikeTrust$Condition;"⟩, 9), (⟨"TurnpikeTrust$Reader", "compares", "(I)LTurnpikeTrust$Condition;"⟩, 9), (⟨"TurnpikeTrust$Reader", "kind", "()LTurnpikeTrust$Condition;"⟩, 9), (⟨"java/util/ArrayList", "add", "(Ljava/lang/Object;[Ljava/lang/Object;I)V"⟩, 3), (⟨"java/util/ArrayList", "grow", "()[Ljava/lang/Object;"⟩, 3), (⟨"java/util/ArrayList", "grow", "(I)[Ljava/lang/Object;"⟩, 3), (⟨"TurnpikeTrust", "inForce", "(I)I"⟩, 17), (⟨"TurnpikeTrust", "reckon", "(ILTurnpikeTrust$Traveller;LTurnpikeTrust$Gate;)V"⟩, 17), (⟨"TurnpikeTrust", "change", "(IIJ)V"⟩, 17), (⟨"TurnpikeTrust", "interest", "()V"⟩, 17), (⟨"TurnpikeTrust", "gets", "(IJ)V"⟩, 17), (⟨"TurnpikeTrust", "parts", "(IJ)V"⟩, 17), (⟨"TurnpikeTrust", "comes", "(LTurnpikeTrust$Gate;)V"⟩, 17), (⟨"TurnpikeTrust", "pays", "(LTurnpikeTrust$Gate;LTurnpikeTrust$Farmer;)V"⟩, 17)]
theorem lw_r2 : ∀ q ∈ lw_privs_2, lw_okq q := List.forall_mem_cons.mpr ⟨lw_p16, List.forall_mem_cons.mpr ⟨lw_p17, List.forall_mem_cons.mpr ⟨lw_p18, List.forall_mem_cons.mpr ⟨lw_p19, List.forall_mem_cons.mpr ⟨lw_p20, List.forall_mem_cons.mpr ⟨lw_p21, List.forall_mem_cons.mpr ⟨lw_p22, List.forall_mem_cons.mpr ⟨lw_p23, List.forall_mem_cons.mpr ⟨lw_p24, List.forall_mem_cons.mpr ⟨lw_p25, List.forall_mem_cons.mpr ⟨lw_p26, List.forall_mem_cons.mpr ⟨lw_p27, List.forall_mem_cons.mpr ⟨lw_p28, List.forall_mem_cons.mpr ⟨lw_p29, List.forall_mem_cons.mpr ⟨lw_p30, List.forall_mem_cons.mpr ⟨lw_p31, fun _ h => absurd h List.not_mem_nil⟩⟩⟩⟩⟩⟩⟩⟩⟩⟩⟩⟩⟩⟩⟩⟩
theorem lw_p32 : lw_okq (⟨"TurnpikeTrustModel", "bad", "(ZI)Z"⟩, 62) := ⟨⟨by decide +kernel, by decide +kernel⟩, lw_t8 (List.mem_of_getElem? (i := 5) rfl), lw_t8 (List.mem_of_getElem? (i := 211) rfl), lw_t8 (List.mem_of_getElem? (i := 212) rfl)⟩
theorem lw_p33 : lw_okq (⟨"TurnpikeTrustModel", "blanks", "()V"⟩, 62) := ⟨⟨by decide +kernel, by decide +kernel⟩, lw_t8 (List.mem_of_getElem? (i := 5) rfl), lw_t8 (List.mem_of_getElem? (i := 215) rfl), lw_t8 (List.mem_of_getElem? (i := 216) rfl)⟩
theorem lw_p34 : lw_okq (⟨"TurnpikeTrustModel", "byteAt", "(I)I"⟩, 62) := ⟨⟨by decide +kernel, by decide +kernel⟩, lw_t8 (List.mem_of_getElem? (i := 5) rfl), lw_t8 (List.mem_of_getElem? (i := 219) rfl), lw_t8 (List.mem_of_getElem? (i := 220) rfl)⟩
theorem lw_p35 : lw_okq (⟨"TurnpikeTrustModel", "clause", "(I)V"⟩, 62) := ⟨⟨by decide +kernel, by decide +kernel⟩, lw_t8 (List.mem_of_getElem? (i := 5) rfl), lw_t8 (List.mem_of_getElem? (i := 223) rfl), lw_t8 (List.mem_of_getElem? (i := 224) rfl)⟩
theorem lw_p36 : lw_okq (⟨"TurnpikeTrustModel", "isWord", "(Ljava/lang/String;)Z"⟩, 62) := ⟨⟨by decide +kernel, by decide +kernel⟩, lw_t8 (List.mem_of_getElem? (i := 5) rfl), lw_t8 (List.mem_of_getElem? (i := 228) rfl), lw_t8 (List.mem_of_getElem? (i := 229) rfl)⟩
theorem lw_p37 : lw_okq (⟨"TurnpikeTrustModel", "wrong", "(II)Z"⟩, 62) := ⟨⟨by decide +kernel, by decide +kernel⟩, lw_t8 (List.mem_of_getElem? (i := 5) rfl), lw_t9 (List.mem_of_getElem? (i := 10) rfl), lw_t9 (List.mem_of_getElem? (i := 11) rfl)⟩
theorem lw_p38 : lw_okq (⟨"TurnpikeTrustModel", "eat", "(Ljava/lang/String;)Z"⟩, 62) := ⟨⟨by decide +kernel, by decide +kernel⟩, lw_t8 (List.mem_of_getElem? (i := 5) rfl), lw_t9 (List.mem_of_getElem? (i := 14) rfl), lw_t9 (List.mem_of_getElem? (i := 15) rfl)⟩
theorem lw_p39 : lw_okq (⟨"TurnpikeTrustModel", "number", "(Z)I"⟩, 62) := ⟨⟨by decide +kernel, by decide +kernel⟩, lw_t8 (List.mem_of_getElem? (i := 5) rfl), lw_t9 (List.mem_of_getElem? (i := 18) rfl), lw_t9 (List.mem_of_getElem? (i := 19) rfl)⟩
theorem lw_p40 : lw_okq (⟨"TurnpikeTrustModel", "need", "(I)Z"⟩, 62) := ⟨⟨by decide +kernel, by decide +kernel⟩, lw_t8 (List.mem_of_getElem? (i := 5) rfl), lw_t9 (List.mem_of_getElem? (i := 31) rfl), lw_t9 (List.mem_of_getElem? (i := 32) rfl)⟩
theorem lw_p41 : lw_okq (⟨"TurnpikeTrustModel", "isSign", "(I)Z"⟩, 62) := ⟨⟨by decide +kernel, by decide +kernel⟩, lw_t8 (List.mem_of_getElem? (i := 5) rfl), lw_t9 (List.mem_of_getElem? (i := 35) rfl), lw_t9 (List.mem_of_getElem? (i := 36) rfl)⟩
theorem lw_p42 : lw_okq (⟨"TurnpikeTrustModel", "condition", "()V"⟩, 62) := ⟨⟨by decide +kernel, by decide +kernel⟩, lw_t8 (List.mem_of_getElem? (i := 5) rfl), lw_t9 (List.mem_of_getElem? (i := 41) rfl), lw_t9 (List.mem_of_getElem? (i := 42) rfl)⟩
theorem lw_p43 : lw_okq (⟨"TurnpikeTrustModel", "joined", "()V"⟩, 62) := ⟨⟨by decide +kernel, by decide +kernel⟩, lw_t8 (List.mem_of_getElem? (i := 5) rfl), lw_t9 (List.mem_of_getElem? (i := 45) rfl), lw_t9 (List.mem_of_getElem? (i := 46) rfl)⟩
theorem lw_p44 : lw_okq (⟨"TurnpikeTrustModel", "one", "()V"⟩, 62) := ⟨⟨by decide +kernel, by decide +kernel⟩, lw_t8 (List.mem_of_getElem? (i := 5) rfl), lw_t9 (List.mem_of_getElem? (i := 49) rfl), lw_t9 (List.mem_of_getElem? (i := 50) rfl)⟩
theorem lw_p45 : lw_okq (⟨"TurnpikeTrustModel", "opens", "()Z"⟩, 62) := ⟨⟨by decide +kernel, by decide +kernel⟩, lw_t8 (List.mem_of_getElem? (i := 5) rfl), lw_t9 (List.mem_of_getElem? (i := 54) rfl), lw_t9 (List.mem_of_getElem? (i := 55) rfl)⟩
theorem lw_p46 : lw_okq (⟨"TurnpikeTrustModel", "emits", "(II)V"⟩, 62) := ⟨⟨by decide +kernel, by decide +kernel⟩, lw_t8 (List.mem_of_getElem? (i := 5) rfl), lw_t9 (List.mem_of_getElem? (i := 58) rfl), lw_t9 (List.mem_of_getElem? (i := 59) rfl)⟩
theorem lw_p47 : lw_okq (⟨"TurnpikeTrustModel", "relation", "(I)V"⟩, 62) := ⟨⟨by decide +kernel, by decide +kernel⟩, lw_t8 (List.mem_of_getElem? (i := 5) rfl), lw_t9 (List.mem_of_getElem? (i := 71) rfl), lw_t9 (List.mem_of_getElem? (i := 72) rfl)⟩
def lw_privs_3 : List (MethodName × Nat) := [(⟨"TurnpikeTrustModel", "bad", "(ZI)Z"⟩, 62), (⟨"TurnpikeTrustModel", "blanks", "()V"⟩, 62), (⟨"TurnpikeTrustModel", "byteAt", "(I)I"⟩, 62), (⟨"TurnpikeTrustModel", "clause", "(I)V"⟩, 62), (⟨"TurnpikeTrustModel", "isWord", "(Ljava/lang/String;)Z"⟩, 62), (⟨"TurnpikeTrustModel", "wrong", "(II)Z"⟩, 62), (⟨"TurnpikeTrustModel", "eat", "(Ljava/lang/String;)Z"⟩, 62), (⟨"TurnpikeTrustModel", "number", "(Z)I"⟩, 62), (⟨"TurnpikeTrustModel", "need", "(I)Z"⟩, 62), (⟨"TurnpikeTrustModel", "isSign", "(I)Z"⟩, 62), (⟨"TurnpikeTrustModel", "condition", "()V"⟩, 62), (⟨"TurnpikeTrustModel", "joined", "()V"⟩, 62), (⟨"TurnpikeTrustModel", "one", "()V"⟩, 62), (⟨"TurnpikeTrustModel", "opens", "()Z"⟩, 62), (⟨"TurnpikeTrustModel", "emits", "(II)V"⟩, 62), (⟨"TurnpikeTrustModel", "relation", "(I)V"⟩, 62)]
theorem lw_r3 : ∀ q ∈ lw_privs_3, lw_okq q := List.forall_mem_cons.mpr ⟨lw_p32, List.forall_mem_cons.mpr ⟨lw_p33, List.forall_mem_cons.mpr ⟨lw_p34, List.forall_mem_cons.mpr ⟨lw_p35, List.forall_mem_cons.mpr ⟨lw_p36, List.forall_mem_cons.mpr ⟨lw_p37, List.forall_mem_cons.mpr ⟨lw_p38, List.forall_mem_cons.mpr ⟨lw_p39, List.forall_mem_cons.mpr ⟨lw_p40, List.forall_mem_cons.mpr ⟨lw_p41, List.forall_mem_cons.mpr ⟨lw_p42, List.forall_mem_cons.mpr ⟨lw_p43, List.forall_mem_cons.mpr ⟨lw_p44, List.forall_mem_cons.mpr ⟨lw_p45, List.forall_mem_cons.mpr ⟨lw_p46, List.forall_mem_cons.mpr ⟨lw_p47, fun _ h => absurd h List.not_mem_nil⟩⟩⟩⟩⟩⟩⟩⟩⟩⟩⟩⟩⟩⟩⟩⟩
theorem lw_p48 : lw_okq (⟨"TurnpikeTrustModel", "kind", "()V"⟩, 62) := ⟨⟨by decide +kernel, by decide +kernel⟩, lw_t8 (List.mem_of_getElem? (i := 5) rfl), lw_t9 (List.mem_of_getElem? (i := 79) rfl), lw_t9 (List.mem_of_getElem? (i := 80) rfl)⟩
theorem lw_p49 : lw_okq (⟨"TurnpikeTrustModel", "forceOf", "(I)I"⟩, 62) := ⟨⟨by decide +kernel, by decide +kernel⟩, lw_t8 (List.mem_of_getElem? (i := 5) rfl), lw_t9 (List.mem_of_getElem? (i := 103) rfl), lw_t9 (List.mem_of_getElem? (i := 104) rfl)⟩
theorem lw_p50 : lw_okq (⟨"TurnpikeTrustModel", "isPass", "(II)Z"⟩, 62) := ⟨⟨by decide +kernel, by decide +kernel⟩, lw_t8 (List.mem_of_getElem? (i := 5) rfl), lw_t9 (List.mem_of_getElem? (i := 123) rfl), lw_t9 (List.mem_of_getElem? (i := 124) rfl)⟩
theorem lw_p51 : lw_okq (⟨"TurnpikeTrustModel", "toll", "(III)I"⟩, 62) := ⟨⟨by decide +kernel, by decide +kernel⟩, lw_t8 (List.mem_of_getElem? (i := 5) rfl), lw_t9 (List.mem_of_getElem? (i := 127) rfl), lw_t9 (List.mem_of_getElem? (i := 128) rfl)⟩
theorem lw_p52 : lw_okq (⟨"TurnpikeTrustModel", "holds", "(III)Z"⟩, 62) := ⟨⟨by decide +kernel, by decide +kernel⟩, lw_t8 (List.mem_of_getElem? (i := 5) rfl), lw_t9 (List.mem_of_getElem? (i := 131) rfl), lw_t9 (List.mem_of_getElem? (i := 132) rfl)⟩
theorem lw_p53 : lw_okq (⟨"TurnpikeTrustModel", "single", "(IIII)Z"⟩, 62) := ⟨⟨by decide +kernel, by decide +kernel⟩, lw_t8 (List.mem_of_getElem? (i := 5) rfl), lw_t9 (List.mem_of_getElem? (i := 135) rfl), lw_t9 (List.mem_of_getElem? (i := 136) rfl)⟩
theorem lw_p54 : lw_okq (⟨"TurnpikeTrustModel", "paid", "(IIIIII)I"⟩, 62) := ⟨⟨by decide +kernel, by decide +kernel⟩, lw_t8 (List.mem_of_getElem? (i := 5) rfl), lw_t9 (List.mem_of_getElem? (i := 142) rfl), lw_t9 (List.mem_of_getElem? (i := 143) rfl)⟩
theorem lw_p55 : lw_okq (⟨"TurnpikeTrustModel", "paidAnywhere", "(I)Z"⟩, 62) := ⟨⟨by decide +kernel, by decide +kernel⟩, lw_t8 (List.mem_of_getElem? (i := 5) rfl), lw_t9 (List.mem_of_getElem? (i := 146) rfl), lw_t9 (List.mem_of_getElem? (i := 147) rfl)⟩
theorem lw_p56 : lw_okq (⟨"TurnpikeTrustModel", "line", "(IIJ)V"⟩, 62) := ⟨⟨by decide +kernel, by decide +kernel⟩, lw_t8 (List.mem_of_getElem? (i := 5) rfl), lw_t9 (List.mem_of_getElem? (i := 153) rfl), lw_t9 (List.mem_of_getElem? (i := 154) rfl)⟩
theorem lw_p57 : lw_okq (⟨"TurnpikeTrustModel", "rentDue", "(I)V"⟩, 62) := ⟨⟨by decide +kernel, by decide +kernel⟩, lw_t8 (List.mem_of_getElem? (i := 5) rfl), lw_t9 (List.mem_of_getElem? (i := 182) rfl), lw_t9 (List.mem_of_getElem? (i := 183) rfl)⟩
theorem lw_p58 : lw_okq (⟨"TurnpikeTrustModel", "interest", "()V"⟩, 62) := ⟨⟨by decide +kernel, by decide +kernel⟩, lw_t8 (List.mem_of_getElem? (i := 5) rfl), lw_t9 (List.mem_of_getElem? (i := 206) rfl), lw_t9 (List.mem_of_getElem? (i := 207) rfl)⟩
theorem lw_p59 : lw_okq (⟨"TurnpikeTrustModel", "rank", "(I)V"⟩, 62) := ⟨⟨by decide +kernel, by decide +kernel⟩, lw_t8 (List.mem_of_getElem? (i := 5) rfl), lw_t9 (List.mem_of_getElem? (i := 211) rfl), lw_t9 (List.mem_of_getElem? (i := 212) rfl)⟩
theorem lw_p60 : lw_okq (⟨"TurnpikeTrustModel", "takes", "(I)J"⟩, 62) := ⟨⟨by decide +kernel, by decide +kernel⟩, lw_t8 (List.mem_of_getElem? (i := 5) rfl), lw_t9 (List.mem_of_getElem? (i := 223) rfl), lw_t9 (List.mem_of_getElem? (i := 224) rfl)⟩
theorem lw_p61 : lw_okq (⟨"TurnpikeTrustModel", "no", "(II)Z"⟩, 62) := ⟨⟨by decide +kernel, by decide +kernel⟩, lw_t8 (List.mem_of_getElem? (i := 5) rfl), lw_t9 (List.mem_of_getElem? (i := 232) rfl), lw_t9 (List.mem_of_getElem? (i := 233) rfl)⟩
def lw_privs_4 : List (MethodName × Nat) := [(⟨"TurnpikeTrustModel", "kind", "()V"⟩, 62), (⟨"TurnpikeTrustModel", "forceOf", "(I)I"⟩, 62), (⟨"TurnpikeTrustModel", "isPass", "(II)Z"⟩, 62), (⟨"TurnpikeTrustModel", "toll", "(III)I"⟩, 62), (⟨"TurnpikeTrustModel", "holds", "(III)Z"⟩, 62), (⟨"TurnpikeTrustModel", "single", "(IIII)Z"⟩, 62), (⟨"TurnpikeTrustModel", "paid", "(IIIIII)I"⟩, 62), (⟨"TurnpikeTrustModel", "paidAnywhere", "(I)Z"⟩, 62), (⟨"TurnpikeTrustModel", "line", "(IIJ)V"⟩, 62), (⟨"TurnpikeTrustModel", "rentDue", "(I)V"⟩, 62), (⟨"TurnpikeTrustModel", "interest", "()V"⟩, 62), (⟨"TurnpikeTrustModel", "rank", "(I)V"⟩, 62), (⟨"TurnpikeTrustModel", "takes", "(I)J"⟩, 62), (⟨"TurnpikeTrustModel", "no", "(II)Z"⟩, 62)]
theorem lw_r4 : ∀ q ∈ lw_privs_4, lw_okq q := List.forall_mem_cons.mpr ⟨lw_p48, List.forall_mem_cons.mpr ⟨lw_p49, List.forall_mem_cons.mpr ⟨lw_p50, List.forall_mem_cons.mpr ⟨lw_p51, List.forall_mem_cons.mpr ⟨lw_p52, List.forall_mem_cons.mpr ⟨lw_p53, List.forall_mem_cons.mpr ⟨lw_p54, List.forall_mem_cons.mpr ⟨lw_p55, List.forall_mem_cons.mpr ⟨lw_p56, List.forall_mem_cons.mpr ⟨lw_p57, List.forall_mem_cons.mpr ⟨lw_p58, List.forall_mem_cons.mpr ⟨lw_p59, List.forall_mem_cons.mpr ⟨lw_p60, List.forall_mem_cons.mpr ⟨lw_p61, fun _ h => absurd h List.not_mem_nil⟩⟩⟩⟩⟩⟩⟩⟩⟩⟩⟩⟩⟩⟩
def lw_privs : List (MethodName × Nat) := lw_privs_1 ++ (lw_privs_2 ++ (lw_privs_3 ++ (lw_privs_4)))
def lw_tbl : List Cond := k2_sels lw_privs ++ tables_1
theorem lw_privs_ok : ∀ q ∈ lw_privs, lw_okq q := by
  show ∀ q ∈ lw_privs_1 ++ (lw_privs_2 ++ (lw_privs_3 ++ (lw_privs_4))), lw_okq q
  exact List.forall_mem_append.mpr ⟨lw_r1, List.forall_mem_append.mpr ⟨lw_r2, List.forall_mem_append.mpr ⟨lw_r3, lw_r4⟩⟩⟩
-- ===== ONE list of words for every method: the tables' words that hold all through a run =====
def lw_all : List Cond := lw_tbl.filter goodWord
/-- a word of the tables by its place: claim/WORDS.tsv -/
theorem lw_w {w : Cond} (i : Nat) (h : lw_tbl[i]? = some w) (g : goodWord w = true) : w ∈ lw_all := List.mem_filter.mpr ⟨List.mem_of_getElem? h, g⟩
theorem lw_all_tbl {w : Cond} (h : w ∈ lw_all) : w ∈ lw_tbl := (List.mem_filter.mp h).1
theorem lw_self : GoodIn lw_all lw_all := fun w h => ⟨h, good_of_word (List.mem_filter.mp h).2⟩
/-- a class's field words, by their places -/
theorem lw_in (ws : List Cond) (ps : List Nat) (hp : ws = ps.filterMap (fun i => lw_tbl[i]?)) (hg : ws.all goodWord = true) : ∀ w ∈ ws, w ∈ lw_all := by
  intro w h
  have h1 := List.all_eq_true.mp hg w h
  rw [hp] at h
  obtain ⟨i, -, hi⟩ := List.mem_filterMap.mp h
  exact lw_w i hi h1
/-- the words of a contract for the method y with code b, L locals, answer r -/
abbrev ws_ (y : MethodName) (b : ByteArray) (L : Nat) (r : Option FieldType) : List Cond := Cond.code y b L r :: lw_all
theorem lw_meth {y : MethodName} {b : ByteArray} {L : Nat} {r : Option FieldType} (h : Cond.code y b L r ∈ lw_all) : GoodIn lw_all (ws_ y b L r) := by
  intro w hw
  rcases List.mem_cons.mp hw with e | e
  · rw [e]
    exact lw_self _ h
  · exact lw_self _ e
theorem lw_app {a c : List Cond} (ha : ∀ w ∈ a, w ∈ lw_all) (hc : GoodIn lw_all c) : GoodIn lw_all (a ++ c) := by
  intro w hw
  rcases List.mem_append.mp hw with e | e
  · exact lw_self w (ha w e)
  · exact hc w e
/-- what a call through an object asks: cwV n hts (lw_V ..) -/
theorem lw_V {own : String} {idx : Nat} {C : String} {y : MethodName} {b : ByteArray} {L : Nat} {r : Option FieldType} (h1 : Cond.methodLink own idx y ∈ lw_all) (h2 : Cond.instanceMethod y ∈ lw_all) (h3 : Cond.selects C y y ∈ lw_all) (h4 : Cond.initialized C ∈ lw_all) (h5 : Cond.code y b L r ∈ lw_all) : GoodIn lw_all (wsV own idx C y (ws_ y b L r)) := by
  refine lw_app ?_ (lw_meth h5)
  intro w hw
  simp only [List.mem_cons, List.not_mem_nil, or_false] at hw
  rcases hw with e | e | e | e
  · rw [e]; exact h1
  · rw [e]; exact h2
  · rw [e]; exact h3
  · rw [e]; exact h4
/-- what a static call asks: va_cwS n hts (lw_S ..) -/
theorem lw_S {own : String} {idx : Nat} {y : MethodName} {b : ByteArray} {L : Nat} {r : Option FieldType} (h1 : Cond.methodLink own idx y ∈ lw_all) (h2 : Cond.static y ∈ lw_all) (h3 : Cond.initialized y.cls ∈ lw_all) (h4 : Cond.code y b L r ∈ lw_all) : GoodIn lw_all (va_wsS own idx y (ws_ y b L r)) := by
  refine lw_app ?_ (lw_meth h4)
  intro w hw
  simp only [List.mem_cons, List.not_mem_nil, or_false] at hw
  rcases hw with e | e | e
  · rw [e]; exact h1
  · rw [e]; exact h2
  · rw [e]; exact h3
/-- the words of a contract for a method WITH HANDLERS (hh: its table) -/
abbrev wsW_ (y : MethodName) (b : ByteArray) (L : Nat) (r : Option FieldType) (hh : List (Nat × Nat × Nat × Nat)) : List Cond := Cond.codeWith y b L r hh :: lw_all
theorem lw_methW {y : MethodName} {b : ByteArray} {L : Nat} {r : Option FieldType} {hh : List (Nat × Nat × Nat × Nat)} (h : Cond.codeWith y b L r hh ∈ lw_all) : GoodIn lw_all (wsW_ y b L r hh) := by
  intro w hw
  rcases List.mem_cons.mp hw with e | e
  · rw [e]
    exact lw_self _ h
  · exact lw_self _ e
/-- any list of words by their places (lw_in), good -/
theorem lw_good {ws : List Cond} (h : ∀ w ∈ ws, w ∈ lw_all) : GoodIn lw_all ws := fun w hw => lw_self w (h w hw)
/-- what a call of a method with handlers asks: vx_cwVW n hts (lw_VW ..), vx_cwSW n hts (lw_SW ..) -/
theorem lw_VW {own : String} {idx : Nat} {C : String} {y : MethodName} {b : ByteArray} {L : Nat} {r : Option FieldType} {hh : List (Nat × Nat × Nat × Nat)} (h1 : Cond.methodLink own idx y ∈ lw_all) (h2 : Cond.instanceMethod y ∈ lw_all) (h3 : Cond.selects C y y ∈ lw_all) (h4 : Cond.initialized C ∈ lw_all) (h5 : Cond.codeWith y b L r hh ∈ lw_all) : GoodIn lw_all (wsV own idx C y (wsW_ y b L r hh)) := by
  refine lw_app ?_ (lw_methW h5)
  intro w hw
  simp only [List.mem_cons, List.not_mem_nil, or_false] at hw
  rcases hw with e | e | e | e
  · rw [e]; exact h1
  · rw [e]; exact h2
  · rw [e]; exact h3
  · rw [e]; exact h4
theorem lw_SW {own : String} {idx : Nat} {y : MethodName} {b : ByteArray} {L : Nat} {r : Option FieldType} {hh : List (Nat × Nat × Nat × Nat)} (h1 : Cond.methodLink own idx y ∈ lw_all) (h2 : Cond.static y ∈ lw_all) (h3 : Cond.initialized y.cls ∈ lw_all) (h4 : Cond.codeWith y b L r hh ∈ lw_all) : GoodIn lw_all (va_wsS own idx y (wsW_ y b L r hh)) := by
  refine lw_app ?_ (lw_methW h4)
  intro w hw
  simp only [List.mem_cons, List.not_mem_nil, or_false] at hw
  rcases hw with e | e | e
  · rw [e]; exact h1
  · rw [e]; exact h2
  · rw [e]; exact h3
/-- a word by its place in its run of the tables -/
theorem lw_at {r : List Cond} (hr : ∀ w ∈ r, w ∈ lw_tbl) {w : Cond} (i : Nat) (h : r[i]? = some w) : w ∈ lw_tbl := hr w (List.mem_of_getElem? h)
theorem lw_g {w : Cond} (h : w ∈ lw_tbl) (g : goodWord w = true) : w ∈ lw_all := List.mem_filter.mpr ⟨h, g⟩
theorem lw_ms : ∀ w ∈ k2_sels lw_privs, w ∈ lw_tbl := fun w h => show w ∈ k2_sels lw_privs ++ tables_1 from List.mem_append_left _ h
theorem lw_m1 : ∀ w ∈ tables_1_1, w ∈ lw_tbl := fun w h => show w ∈ k2_sels lw_privs ++ tables_1 from List.mem_append_right (k2_sels lw_privs) (show w ∈ tables_1 from List.mem_append_left _ h)
theorem lw_m2 : ∀ w ∈ tables_1_2, w ∈ lw_tbl := fun w h => show w ∈ k2_sels lw_privs ++ tables_1 from List.mem_append_right (k2_sels lw_privs) (show w ∈ tables_1 from List.mem_append_right _ (List.mem_append_left _ h))
theorem lw_m3 : ∀ w ∈ tables_1_3, w ∈ lw_tbl := fun w h => show w ∈ k2_sels lw_privs ++ tables_1 from List.mem_append_right (k2_sels lw_privs) (show w ∈ tables_1 from List.mem_append_right _ (List.mem_append_right _ (List.mem_append_left _ h)))
theorem lw_m4 : ∀ w ∈ tables_1_4, w ∈ lw_tbl := fun w h => show w ∈ k2_sels lw_privs ++ tables_1 from List.mem_append_right (k2_sels lw_privs) (show w ∈ tables_1 from List.mem_append_right _ (List.mem_append_right _ (List.mem_append_right _ (List.mem_append_left _ h))))
theorem lw_m5 : ∀ w ∈ tables_1_5, w ∈ lw_tbl := fun w h => show w ∈ k2_sels lw_privs ++ tables_1 from List.mem_append_right (k2_sels lw_privs) (show w ∈ tables_1 from List.mem_append_right _ (List.mem_append_right _ (List.mem_append_right _ (List.mem_append_right _ (List.mem_append_left _ h)))))
theorem lw_m6 : ∀ w ∈ tables_1_6, w ∈ lw_tbl := fun w h => show w ∈ k2_sels lw_privs ++ tables_1 from List.mem_append_right (k2_sels lw_privs) (show w ∈ tables_1 from List.mem_append_right _ (List.mem_append_right _ (List.mem_append_right _ (List.mem_append_right _ (List.mem_append_right _ (List.mem_append_left _ h))))))
theorem lw_m7 : ∀ w ∈ tables_1_7, w ∈ lw_tbl := fun w h => show w ∈ k2_sels lw_privs ++ tables_1 from List.mem_append_right (k2_sels lw_privs) (show w ∈ tables_1 from List.mem_append_right _ (List.mem_append_right _ (List.mem_append_right _ (List.mem_append_right _ (List.mem_append_right _ (List.mem_append_right _ (List.mem_append_left _ h)))))))
theorem lw_m8 : ∀ w ∈ tables_1_8, w ∈ lw_tbl := fun w h => show w ∈ k2_sels lw_privs ++ tables_1 from List.mem_append_right (k2_sels lw_privs) (show w ∈ tables_1 from List.mem_append_right _ (List.mem_append_right _ (List.mem_append_right _ (List.mem_append_right _ (List.mem_append_right _ (List.mem_append_right _ (List.mem_append_right _ (List.mem_append_left _ h))))))))
theorem lw_m9 : ∀ w ∈ tables_1_9, w ∈ lw_tbl := fun w h => show w ∈ k2_sels lw_privs ++ tables_1 from List.mem_append_right (k2_sels lw_privs) (show w ∈ tables_1 from List.mem_append_right _ (List.mem_append_right _ (List.mem_append_right _ (List.mem_append_right _ (List.mem_append_right _ (List.mem_append_right _ (List.mem_append_right _ (List.mem_append_right _ (List.mem_append_left _ h)))))))))
theorem lw_m10 : ∀ w ∈ tables_1_10, w ∈ lw_tbl := fun w h => show w ∈ k2_sels lw_privs ++ tables_1 from List.mem_append_right (k2_sels lw_privs) (show w ∈ tables_1 from List.mem_append_right _ (List.mem_append_right _ (List.mem_append_right _ (List.mem_append_right _ (List.mem_append_right _ (List.mem_append_right _ (List.mem_append_right _ (List.mem_append_right _ (List.mem_append_right _ h)))))))))
theorem qs0 : (Cond.selects "java/lang/Throwable" ⟨"java/lang/Throwable", "fillInStackTrace", "(I)Ljava/lang/Throwable;"⟩ ⟨"java/lang/Throwable", "fillInStackTrace", "(I)Ljava/lang/Throwable;"⟩) ∈ lw_all := lw_g (lw_at lw_ms 0 rfl) rfl
theorem qs1 : (Cond.selects "TurnpikeTrust" ⟨"TurnpikeTrust", "put", "(I)V"⟩ ⟨"TurnpikeTrust", "put", "(I)V"⟩) ∈ lw_all := lw_g (lw_at lw_ms 1 rfl) rfl
theorem qs2 : (Cond.selects "TurnpikeTrust$Reader" ⟨"TurnpikeTrust$Reader", "go", "()V"⟩ ⟨"TurnpikeTrust$Reader", "go", "()V"⟩) ∈ lw_all := lw_g (lw_at lw_ms 2 rfl) rfl
theorem qs3 : (Cond.selects "TurnpikeTrust$Reader" ⟨"TurnpikeTrust$Reader", "at", "(I)I"⟩ ⟨"TurnpikeTrust$Reader", "at", "(I)I"⟩) ∈ lw_all := lw_g (lw_at lw_ms 3 rfl) rfl
theorem qs4 : (Cond.selects "TurnpikeTrust$Reader" ⟨"TurnpikeTrust$Reader", "string", "()Ljava/lang/String;"⟩ ⟨"TurnpikeTrust$Reader", "string", "()Ljava/lang/String;"⟩) ∈ lw_all := lw_g (lw_at lw_ms 4 rfl) rfl
theorem qs5 : (Cond.selects "TurnpikeTrust$Reader" ⟨"TurnpikeTrust$Reader", "clause", "(I)LTurnpikeTrust$Clause;"⟩ ⟨"TurnpikeTrust$Reader", "clause", "(I)LTurnpikeTrust$Clause;"⟩) ∈ lw_all := lw_g (lw_at lw_ms 5 rfl) rfl
theorem qs6 : (Cond.selects "TurnpikeTrust$Reader" ⟨"TurnpikeTrust$Reader", "isWord", "(Ljava/lang/String;)Z"⟩ ⟨"TurnpikeTrust$Reader", "isWord", "(Ljava/lang/String;)Z"⟩) ∈ lw_all := lw_g (lw_at lw_ms 6 rfl) rfl
theorem qs7 : (Cond.selects "TurnpikeTrust$Reader" ⟨"TurnpikeTrust$Reader", "wrong", "()LTurnpikeTrust$Wrong;"⟩ ⟨"TurnpikeTrust$Reader", "wrong", "()LTurnpikeTrust$Wrong;"⟩) ∈ lw_all := lw_g (lw_at lw_ms 7 rfl) rfl
theorem qs8 : (Cond.selects "TurnpikeTrust$Reader" ⟨"TurnpikeTrust$Reader", "toll", "(I)LTurnpikeTrust$Clause;"⟩ ⟨"TurnpikeTrust$Reader", "toll", "(I)LTurnpikeTrust$Clause;"⟩) ∈ lw_all := lw_g (lw_at lw_ms 8 rfl) rfl
theorem qs9 : (Cond.selects "TurnpikeTrust$Reader" ⟨"TurnpikeTrust$Reader", "number", "(J)J"⟩ ⟨"TurnpikeTrust$Reader", "number", "(J)J"⟩) ∈ lw_all := lw_g (lw_at lw_ms 9 rfl) rfl
theorem qs10 : (Cond.selects "TurnpikeTrust$Reader" ⟨"TurnpikeTrust$Reader", "takes", "(Ljava/lang/String;)Z"⟩ ⟨"TurnpikeTrust$Reader", "takes", "(Ljava/lang/String;)Z"⟩) ∈ lw_all := lw_g (lw_at lw_ms 10 rfl) rfl
theorem qs11 : (Cond.selects "TurnpikeTrust$Reader" ⟨"TurnpikeTrust$Reader", "times", "(I)LTurnpikeTrust$Clause;"⟩ ⟨"TurnpikeTrust$Reader", "times", "(I)LTurnpikeTrust$Clause;"⟩) ∈ lw_all := lw_g (lw_at lw_ms 11 rfl) rfl
theorem qs12 : (Cond.selects "TurnpikeTrust$Reader" ⟨"TurnpikeTrust$Reader", "need", "(I)V"⟩ ⟨"TurnpikeTrust$Reader", "need", "(I)V"⟩) ∈ lw_all := lw_g (lw_at lw_ms 12 rfl) rfl
theorem qs13 : (Cond.selects "TurnpikeTrust$Reader" ⟨"TurnpikeTrust$Reader", "is", "(I)Z"⟩ ⟨"TurnpikeTrust$Reader", "is", "(I)Z"⟩) ∈ lw_all := lw_g (lw_at lw_ms 13 rfl) rfl
theorem qs14 : (Cond.selects "TurnpikeTrust$Reader" ⟨"TurnpikeTrust$Reader", "any", "()LTurnpikeTrust$Condition;"⟩ ⟨"TurnpikeTrust$Reader", "any", "()LTurnpikeTrust$Condition;"⟩) ∈ lw_all := lw_g (lw_at lw_ms 14 rfl) rfl
theorem qs15 : (Cond.selects "TurnpikeTrust$Reader" ⟨"TurnpikeTrust$Reader", "all", "()LTurnpikeTrust$Condition;"⟩ ⟨"TurnpikeTrust$Reader", "all", "()LTurnpikeTrust$Condition;"⟩) ∈ lw_all := lw_g (lw_at lw_ms 15 rfl) rfl
theorem qs16 : (Cond.selects "TurnpikeTrust$Reader" ⟨"TurnpikeTrust$Reader", "one", "()LTurnpikeTrust$Condition;"⟩ ⟨"TurnpikeTrust$Reader", "one", "()LTurnpikeTrust$Condition;"⟩) ∈ lw_all := lw_g (lw_at lw_ms 16 rfl) rfl
theorem qs17 : (Cond.selects "TurnpikeTrust$Reader" ⟨"TurnpikeTrust$Reader", "opens", "()V"⟩ ⟨"TurnpikeTrust$Reader", "opens", "()V"⟩) ∈ lw_all := lw_g (lw_at lw_ms 17 rfl) rfl
theorem qs18 : (Cond.selects "TurnpikeTrust$Reader" ⟨"TurnpikeTrust$Reader", "bit", "(I)LTurnpikeTrust$Condition;"⟩ ⟨"TurnpikeTrust$Reader", "bit", "(I)LTurnpikeTrust$Condition;"⟩) ∈ lw_all := lw_g (lw_at lw_ms 18 rfl) rfl
theorem qs19 : (Cond.selects "TurnpikeTrust$Reader" ⟨"TurnpikeTrust$Reader", "compares", "(I)LTurnpikeTrust$Condition;"⟩ ⟨"TurnpikeTrust$Reader", "compares", "(I)LTurnpikeTrust$Condition;"⟩) ∈ lw_all := lw_g (lw_at lw_ms 19 rfl) rfl
theorem qs20 : (Cond.selects "TurnpikeTrust$Reader" ⟨"TurnpikeTrust$Reader", "kind", "()LTurnpikeTrust$Condition;"⟩ ⟨"TurnpikeTrust$Reader", "kind", "()LTurnpikeTrust$Condition;"⟩) ∈ lw_all := lw_g (lw_at lw_ms 20 rfl) rfl
theorem qs21 : (Cond.selects "java/util/ArrayList" ⟨"java/util/ArrayList", "add", "(Ljava/lang/Object;[Ljava/lang/Object;I)V"⟩ ⟨"java/util/ArrayList", "add", "(Ljava/lang/Object;[Ljava/lang/Object;I)V"⟩) ∈ lw_all := lw_g (lw_at lw_ms 21 rfl) rfl
theorem qs22 : (Cond.selects "java/util/ArrayList" ⟨"java/util/ArrayList", "grow", "()[Ljava/lang/Object;"⟩ ⟨"java/util/ArrayList", "grow", "()[Ljava/lang/Object;"⟩) ∈ lw_all := lw_g (lw_at lw_ms 22 rfl) rfl
theorem qs23 : (Cond.selects "java/util/ArrayList" ⟨"java/util/ArrayList", "grow", "(I)[Ljava/lang/Object;"⟩ ⟨"java/util/ArrayList", "grow", "(I)[Ljava/lang/Object;"⟩) ∈ lw_all := lw_g (lw_at lw_ms 23 rfl) rfl
theorem qs24 : (Cond.selects "TurnpikeTrust" ⟨"TurnpikeTrust", "inForce", "(I)I"⟩ ⟨"TurnpikeTrust", "inForce", "(I)I"⟩) ∈ lw_all := lw_g (lw_at lw_ms 24 rfl) rfl
theorem qs25 : (Cond.selects "TurnpikeTrust" ⟨"TurnpikeTrust", "reckon", "(ILTurnpikeTrust$Traveller;LTurnpikeTrust$Gate;)V"⟩ ⟨"TurnpikeTrust", "reckon", "(ILTurnpikeTrust$Traveller;LTurnpikeTrust$Gate;)V"⟩) ∈ lw_all := lw_g (lw_at lw_ms 25 rfl) rfl
theorem qs26 : (Cond.selects "TurnpikeTrust" ⟨"TurnpikeTrust", "change", "(IIJ)V"⟩ ⟨"TurnpikeTrust", "change", "(IIJ)V"⟩) ∈ lw_all := lw_g (lw_at lw_ms 26 rfl) rfl
theorem qs27 : (Cond.selects "TurnpikeTrust" ⟨"TurnpikeTrust", "interest", "()V"⟩ ⟨"TurnpikeTrust", "interest", "()V"⟩) ∈ lw_all := lw_g (lw_at lw_ms 27 rfl) rfl
theorem qs28 : (Cond.selects "TurnpikeTrust" ⟨"TurnpikeTrust", "gets", "(IJ)V"⟩ ⟨"TurnpikeTrust", "gets", "(IJ)V"⟩) ∈ lw_all := lw_g (lw_at lw_ms 28 rfl) rfl
theorem qs29 : (Cond.selects "TurnpikeTrust" ⟨"TurnpikeTrust", "parts", "(IJ)V"⟩ ⟨"TurnpikeTrust", "parts", "(IJ)V"⟩) ∈ lw_all := lw_g (lw_at lw_ms 29 rfl) rfl
theorem qs30 : (Cond.selects "TurnpikeTrust" ⟨"TurnpikeTrust", "comes", "(LTurnpikeTrust$Gate;)V"⟩ ⟨"TurnpikeTrust", "comes", "(LTurnpikeTrust$Gate;)V"⟩) ∈ lw_all := lw_g (lw_at lw_ms 30 rfl) rfl
theorem qs31 : (Cond.selects "TurnpikeTrust" ⟨"TurnpikeTrust", "pays", "(LTurnpikeTrust$Gate;LTurnpikeTrust$Farmer;)V"⟩ ⟨"TurnpikeTrust", "pays", "(LTurnpikeTrust$Gate;LTurnpikeTrust$Farmer;)V"⟩) ∈ lw_all := lw_g (lw_at lw_ms 31 rfl) rfl
theorem qs32 : (Cond.selects "TurnpikeTrustModel" ⟨"TurnpikeTrustModel", "bad", "(ZI)Z"⟩ ⟨"TurnpikeTrustModel", "bad", "(ZI)Z"⟩) ∈ lw_all := lw_g (lw_at lw_ms 32 rfl) rfl
theorem qs33 : (Cond.selects "TurnpikeTrustModel" ⟨"TurnpikeTrustModel", "blanks", "()V"⟩ ⟨"TurnpikeTrustModel", "blanks", "()V"⟩) ∈ lw_all := lw_g (lw_at lw_ms 33 rfl) rfl
theorem qs34 : (Cond.selects "TurnpikeTrustModel" ⟨"TurnpikeTrustModel", "byteAt", "(I)I"⟩ ⟨"TurnpikeTrustModel", "byteAt", "(I)I"⟩) ∈ lw_all := lw_g (lw_at lw_ms 34 rfl) rfl
theorem qs35 : (Cond.selects "TurnpikeTrustModel" ⟨"TurnpikeTrustModel", "clause", "(I)V"⟩ ⟨"TurnpikeTrustModel", "clause", "(I)V"⟩) ∈ lw_all := lw_g (lw_at lw_ms 35 rfl) rfl
theorem qs36 : (Cond.selects "TurnpikeTrustModel" ⟨"TurnpikeTrustModel", "isWord", "(Ljava/lang/String;)Z"⟩ ⟨"TurnpikeTrustModel", "isWord", "(Ljava/lang/String;)Z"⟩) ∈ lw_all := lw_g (lw_at lw_ms 36 rfl) rfl
theorem qs37 : (Cond.selects "TurnpikeTrustModel" ⟨"TurnpikeTrustModel", "wrong", "(II)Z"⟩ ⟨"TurnpikeTrustModel", "wrong", "(II)Z"⟩) ∈ lw_all := lw_g (lw_at lw_ms 37 rfl) rfl
theorem qs38 : (Cond.selects "TurnpikeTrustModel" ⟨"TurnpikeTrustModel", "eat", "(Ljava/lang/String;)Z"⟩ ⟨"TurnpikeTrustModel", "eat", "(Ljava/lang/String;)Z"⟩) ∈ lw_all := lw_g (lw_at lw_ms 38 rfl) rfl
theorem qs39 : (Cond.selects "TurnpikeTrustModel" ⟨"TurnpikeTrustModel", "number", "(Z)I"⟩ ⟨"TurnpikeTrustModel", "number", "(Z)I"⟩) ∈ lw_all := lw_g (lw_at lw_ms 39 rfl) rfl
theorem qs40 : (Cond.selects "TurnpikeTrustModel" ⟨"TurnpikeTrustModel", "need", "(I)Z"⟩ ⟨"TurnpikeTrustModel", "need", "(I)Z"⟩) ∈ lw_all := lw_g (lw_at lw_ms 40 rfl) rfl
theorem qs41 : (Cond.selects "TurnpikeTrustModel" ⟨"TurnpikeTrustModel", "isSign", "(I)Z"⟩ ⟨"TurnpikeTrustModel", "isSign", "(I)Z"⟩) ∈ lw_all := lw_g (lw_at lw_ms 41 rfl) rfl
theorem qs42 : (Cond.selects "TurnpikeTrustModel" ⟨"TurnpikeTrustModel", "condition", "()V"⟩ ⟨"TurnpikeTrustModel", "condition", "()V"⟩) ∈ lw_all := lw_g (lw_at lw_ms 42 rfl) rfl
theorem qs43 : (Cond.selects "TurnpikeTrustModel" ⟨"TurnpikeTrustModel", "joined", "()V"⟩ ⟨"TurnpikeTrustModel", "joined", "()V"⟩) ∈ lw_all := lw_g (lw_at lw_ms 43 rfl) rfl
theorem qs44 : (Cond.selects "TurnpikeTrustModel" ⟨"TurnpikeTrustModel", "one", "()V"⟩ ⟨"TurnpikeTrustModel", "one", "()V"⟩) ∈ lw_all := lw_g (lw_at lw_ms 44 rfl) rfl
theorem qs45 : (Cond.selects "TurnpikeTrustModel" ⟨"TurnpikeTrustModel", "opens", "()Z"⟩ ⟨"TurnpikeTrustModel", "opens", "()Z"⟩) ∈ lw_all := lw_g (lw_at lw_ms 45 rfl) rfl
theorem qs46 : (Cond.selects "TurnpikeTrustModel" ⟨"TurnpikeTrustModel", "emits", "(II)V"⟩ ⟨"TurnpikeTrustModel", "emits", "(II)V"⟩) ∈ lw_all := lw_g (lw_at lw_ms 46 rfl) rfl
theorem qs47 : (Cond.selects "TurnpikeTrustModel" ⟨"TurnpikeTrustModel", "relation", "(I)V"⟩ ⟨"TurnpikeTrustModel", "relation", "(I)V"⟩) ∈ lw_all := lw_g (lw_at lw_ms 47 rfl) rfl
theorem qs48 : (Cond.selects "TurnpikeTrustModel" ⟨"TurnpikeTrustModel", "kind", "()V"⟩ ⟨"TurnpikeTrustModel", "kind", "()V"⟩) ∈ lw_all := lw_g (lw_at lw_ms 48 rfl) rfl
theorem qs49 : (Cond.selects "TurnpikeTrustModel" ⟨"TurnpikeTrustModel", "forceOf", "(I)I"⟩ ⟨"TurnpikeTrustModel", "forceOf", "(I)I"⟩) ∈ lw_all := lw_g (lw_at lw_ms 49 rfl) rfl
theorem qs50 : (Cond.selects "TurnpikeTrustModel" ⟨"TurnpikeTrustModel", "isPass", "(II)Z"⟩ ⟨"TurnpikeTrustModel", "isPass", "(II)Z"⟩) ∈ lw_all := lw_g (lw_at lw_ms 50 rfl) rfl
theorem qs51 : (Cond.selects "TurnpikeTrustModel" ⟨"TurnpikeTrustModel", "toll", "(III)I"⟩ ⟨"TurnpikeTrustModel", "toll", "(III)I"⟩) ∈ lw_all := lw_g (lw_at lw_ms 51 rfl) rfl
theorem qs52 : (Cond.selects "TurnpikeTrustModel" ⟨"TurnpikeTrustModel", "holds", "(III)Z"⟩ ⟨"TurnpikeTrustModel", "holds", "(III)Z"⟩) ∈ lw_all := lw_g (lw_at lw_ms 52 rfl) rfl
theorem qs53 : (Cond.selects "TurnpikeTrustModel" ⟨"TurnpikeTrustModel", "single", "(IIII)Z"⟩ ⟨"TurnpikeTrustModel", "single", "(IIII)Z"⟩) ∈ lw_all := lw_g (lw_at lw_ms 53 rfl) rfl
theorem qs54 : (Cond.selects "TurnpikeTrustModel" ⟨"TurnpikeTrustModel", "paid", "(IIIIII)I"⟩ ⟨"TurnpikeTrustModel", "paid", "(IIIIII)I"⟩) ∈ lw_all := lw_g (lw_at lw_ms 54 rfl) rfl
theorem qs55 : (Cond.selects "TurnpikeTrustModel" ⟨"TurnpikeTrustModel", "paidAnywhere", "(I)Z"⟩ ⟨"TurnpikeTrustModel", "paidAnywhere", "(I)Z"⟩) ∈ lw_all := lw_g (lw_at lw_ms 55 rfl) rfl
theorem qs56 : (Cond.selects "TurnpikeTrustModel" ⟨"TurnpikeTrustModel", "line", "(IIJ)V"⟩ ⟨"TurnpikeTrustModel", "line", "(IIJ)V"⟩) ∈ lw_all := lw_g (lw_at lw_ms 56 rfl) rfl
theorem qs57 : (Cond.selects "TurnpikeTrustModel" ⟨"TurnpikeTrustModel", "rentDue", "(I)V"⟩ ⟨"TurnpikeTrustModel", "rentDue", "(I)V"⟩) ∈ lw_all := lw_g (lw_at lw_ms 57 rfl) rfl
theorem qs58 : (Cond.selects "TurnpikeTrustModel" ⟨"TurnpikeTrustModel", "interest", "()V"⟩ ⟨"TurnpikeTrustModel", "interest", "()V"⟩) ∈ lw_all := lw_g (lw_at lw_ms 58 rfl) rfl
theorem qs59 : (Cond.selects "TurnpikeTrustModel" ⟨"TurnpikeTrustModel", "rank", "(I)V"⟩ ⟨"TurnpikeTrustModel", "rank", "(I)V"⟩) ∈ lw_all := lw_g (lw_at lw_ms 59 rfl) rfl
theorem qs60 : (Cond.selects "TurnpikeTrustModel" ⟨"TurnpikeTrustModel", "takes", "(I)J"⟩ ⟨"TurnpikeTrustModel", "takes", "(I)J"⟩) ∈ lw_all := lw_g (lw_at lw_ms 60 rfl) rfl
theorem qs61 : (Cond.selects "TurnpikeTrustModel" ⟨"TurnpikeTrustModel", "no", "(II)Z"⟩ ⟨"TurnpikeTrustModel", "no", "(II)Z"⟩) ∈ lw_all := lw_g (lw_at lw_ms 61 rfl) rfl
