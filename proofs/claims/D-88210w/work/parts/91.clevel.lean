/-! a contract at a higher level -/
set_option maxRecDepth 100000
theorem gRoomUp {s : State} {pl : Platform} {fr lo mc ms fr' lo' : Nat} (hf : fr ≤ fr') (hl : lo ≤ lo') (h : s.hasRoom pl { frames := fr', cells := mc, slots := ms, locals := lo' } = true) : s.hasRoom pl { frames := fr, cells := mc, slots := ms, locals := lo } = true := by
  unfold State.hasRoom at h ⊢
  simp only [Bool.and_eq_true, decide_eq_true_eq] at h ⊢
  have k1 := h.1.1.1
  refine ⟨⟨⟨⟨by omega, by omega, by omega, by omega, by omega, k1.2.2.2.2.2⟩, by omega⟩, by omega⟩, h.2⟩
theorem Ct.level {l : Launch} {g : gGP} {y : MethodName} {hw : Cond} {fr lo fr' lo' mc ms : Nat} {as : List Value} {c : gLH} {P : Outcome → gLH → Prop} (h : Ct l g y hw fr lo as c mc ms P) (hf : fr ≤ fr') (hl : lo ≤ lo') : Ct l g y hw fr' lo' as c mc ms P := by
  intro p e z1 z2 z3 s m args below z4 z5 z6 z7
  have z8 := (Spec.appliesLoose_iff z4).mp z5
  exact h p e z1 z2 z3 s m args below z4 ((Spec.appliesLoose_iff z4).mpr ⟨z8.1, z8.2.1, z8.2.2.1, z8.2.2.2.1, z8.2.2.2.2.1, z8.2.2.2.2.2.1, gRoomUp hf hl z8.2.2.2.2.2.2.1, z8.2.2.2.2.2.2.2⟩) z6 z7
theorem HC.level {l : Launch} {g : gGP} {d d' : Nat} {c : gLH} {a p : Nat} {b : Bool} (h : HC l g d c a p b) (hd : d ≤ d') : HC l g d' c a p b := by
  obtain ⟨r, fs, h⟩ := h
  refine ⟨r, fs, ?_⟩
  rcases h with ⟨hc, k⟩ | ⟨hc, k⟩ | ⟨hc, k⟩ | ⟨hc, k⟩ | ⟨hc, k⟩ | ⟨hc, k⟩ | ⟨hc, k⟩
  · exact Or.inl ⟨hc, k.level hd (by omega)⟩
  · exact Or.inr (Or.inl ⟨hc, k.level hd (by omega)⟩)
  · exact Or.inr (Or.inr (Or.inl ⟨hc, k.level hd (by omega)⟩))
  · exact Or.inr (Or.inr (Or.inr (Or.inl ⟨hc, k.level hd (by omega)⟩)))
  · exact Or.inr (Or.inr (Or.inr (Or.inr (Or.inl ⟨hc, k.level hd (by omega)⟩))))
  · exact Or.inr (Or.inr (Or.inr (Or.inr (Or.inr (Or.inl ⟨hc, k.level hd (by omega)⟩)))))
  · exact Or.inr (Or.inr (Or.inr (Or.inr (Or.inr (Or.inr ⟨hc, k.level hd (by omega)⟩)))))
