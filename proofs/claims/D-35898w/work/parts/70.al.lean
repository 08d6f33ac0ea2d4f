set_option maxRecDepth 100000
theorem sbn_mono {s s' : State} {locs : List Loc} {c n c' n' : Nat} (h : s.sameButNew s' locs c n) (hc : c ≤ c') (hn : n ≤ n') : s.sameButNew s' locs c' n' :=
  ⟨h.1, h.2.1, Nat.le_trans h.2.2.1 (Nat.add_le_add_left hc _), h.2.2.2.1, Nat.le_trans h.2.2.2.2.1 hn, h.2.2.2.2.2⟩
theorem room_mono {s : State} {pl : Platform} {d d' k k' : Nat} (hd : d ≤ d') (hk : k ≤ k') (h : s.hasRoom pl (jRoom d' k') = true) : s.hasRoom pl (jRoom d k) = true := by
  unfold State.hasRoom jRoom at *
  simp only [Bool.and_eq_true, decide_eq_true_eq] at h ⊢
  obtain ⟨⟨⟨⟨h1, h2, h3, h4, h5, h6⟩, h7⟩, h8⟩, h9⟩ := h
  refine ⟨⟨⟨⟨?_, ?_, ?_, ?_, ?_, h6⟩, ?_⟩, ?_⟩, h9⟩ <;> omega
theorem CT.mono {g : jG} {d d' k k' : Nat} {y : MethodName} {as : List Value} {h : jH} {Po : jR → jH → Prop} (hM : CT g d k y as h Po) (hd : d ≤ d') (hk : k ≤ k') : CT g d' k' y as h Po := by
  obtain ⟨bytes, maxL, ret, h1, h2, h3⟩ := hM
  refine ⟨bytes, maxL, ret, h1, h2, fun l hl => ?_⟩
  have M := h3 l hl
  intro p e ha hc hkk s m args below hf happ hpre hK
  obtain ⟨a1, a2, a3, a4, a5, a6, a7, a8⟩ := (Spec.appliesLoose_iff hf).mp happ
  obtain ⟨t, o, b1, b2, b3, b4⟩ := M p e ha hc hkk s m args below hf ((Spec.appliesLoose_iff hf).mpr ⟨a1, a2, a3, a4, a5, a6, room_mono hd hk a7, a8⟩) hpre hK
  refine ⟨t, o, b1, b2, b3, ?_⟩
  rcases b4 with ⟨e1, L, ⟨v, w, e2⟩, e3⟩ | ⟨q, e0, E, ce, L, e1, e2, e3, e4, e5, e6, e7⟩
  · exact Or.inl ⟨e1, L, ⟨v, w, sbn_mono e2 hk hk⟩, e3⟩
  · exact Or.inr ⟨q, e0, E, ce, L, e1, e2, e3, e4, e5, sbn_mono e6 hk hk, e7⟩
