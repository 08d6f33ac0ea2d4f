set_option maxRecDepth 100000
theorem sbn_mono {s s' : State} {locs : List Loc} {c n c' n' : Nat} (h : s.sameButNew s' locs c n) (hc : c ≤ c') (hn : n ≤ n') : s.sameButNew s' locs c' n' :=
  ⟨h.1, h.2.1, Nat.le_trans h.2.2.1 (Nat.add_le_add_left hc _), h.2.2.2.1, Nat.le_trans h.2.2.2.2.1 hn, h.2.2.2.2.2⟩
theorem room_mono {s : State} {pl : Platform} {d d' k k' : Nat} (hd : d ≤ d') (hk : k ≤ k') (h : s.hasRoom pl (jRoom d' k') = true) : s.hasRoom pl (jRoom d k) = true := by
  unfold State.hasRoom jRoom at *
  simp only [Bool.and_eq_true, decide_eq_true_eq] at h ⊢
  obtain ⟨⟨⟨⟨h1, h2, h3, h4, h5, h6⟩, h7⟩, h8⟩, h9⟩ := h
  refine ⟨⟨⟨⟨?_, ?_, ?_, ?_, ?_, h6⟩, ?_⟩, ?_⟩, h9⟩ <;> omega
theorem CT.mono {g : jG} {d d' k k' : Nat} {y : MethodName} {as : List Value} {h : jH} {Po : jR → jH → Prop} (hM : CT g d k y as h Po) (hd : d ≤ d') (hk : k ≤ k') : CT g d' k' y as h Po := by
  obtain ⟨bytes, maxL, ret, h1, h2, h3⟩ := hM
  refine ⟨bytes, maxL, ret, h1, h2, fun l hl => ?_⟩
  have M := h3 l hl
  intro p e ha hc hkk s m args below hf happ hpre hK
  obtain ⟨a1, a2, a3, a4, a5, a6, a7, a8⟩ := (Spec.appliesLoose_iff hf).mp happ
  obtain ⟨t, o, b1, b2, b3, b4⟩ := M p e ha hc hkk s m args below hf ((Spec.appliesLoose_iff hf).mpr ⟨a1, a2, a3, a4, a5, a6, room_mono hd hk a7, a8⟩) hpre hK
  refine ⟨t, o, b1, b2, b3, ?_⟩
  rcases b4 with ⟨e1, L, ⟨v, w, e2⟩, e3⟩ | ⟨q, e0, E, ce, L, e1, e2, e3, e4, e5, e6, e7⟩
  · exact Or.inl ⟨e1, L, ⟨v, w, sbn_mono e2 hk hk⟩, e3⟩
  · exact Or.inr ⟨q, e0, E, ce, L, e1, e2, e3, e4, e5, sbn_mono e6 hk hk, e7⟩
theorem CTI.mono {g : jG} {d d' k k' : Nat} {y : MethodName} {as : List Value} {h : jH} {Po : jR → jH → Prop} (hM : CTI g d k y as h Po) (hd : d ≤ d') (hk : k ≤ k') : CTI g d' k' y as h Po := by
  obtain ⟨bytes, maxL, h1, h2, h3⟩ := hM
  refine ⟨bytes, maxL, h1, h2, fun l hl => ?_⟩
  have M := h3 l hl
  intro p e ha hc hkk s m args below hf happ hpre hK
  obtain ⟨a1, a2, a3, a4, a5, a6, a7, a8⟩ := (Spec.appliesLoose_iff hf).mp happ
  obtain ⟨t, o, b1, b2, b3, b4⟩ := M p e ha hc hkk s m args below hf ((Spec.appliesLoose_iff hf).mpr ⟨a1, a2, a3, a4, a5, a6, room_mono hd hk a7, a8⟩) hpre hK
  refine ⟨t, o, b1, b2, b3, ?_⟩
  rcases b4 with ⟨e1, L, ⟨v, w, e2⟩, e3⟩ | ⟨q, e0, E, ce, L, e1, e2, e3, e4, e5, e6, e7⟩
  · exact Or.inl ⟨e1, L, ⟨v, w, sbn_mono e2 hk hk⟩, e3⟩
  · exact Or.inr ⟨q, e0, E, ce, L, e1, e2, e3, e4, e5, sbn_mono e6 hk hk, e7⟩
/-- the same answers, told otherwise, at a cost no greater -/
theorem CT.tell {g : jG} {d d' k k' : Nat} {y : MethodName} {as : List Value} {h : jH} {Q Q' : Option Value → jH → Prop} (hM : CT g d k y as h (jnx Q)) (hd : d ≤ d') (hk : k ≤ k') (hP : ∀ v h', Q v h' → Q' v h') : CT g d' k' y as h (jnx Q') :=
  CT.mono (CT.weak (k' := k) hM (fun r h' z => match r, z with
    | .inl v, z => hP v h' z)) hd hk
/-- a is an ArrayList of the objects vs; e: its array, of cap places -/
def AL (g : jG) (h : jH) (a : Nat) (vs : List Nat) (e cap : Nat) : Prop := (∃ m : Int32, h a = some (jO 12 [.int m, .ref e, .int (nI vs.length)])) ∧ QA g h e cap (fun k => vs[k]?) ∧ vs.length ≤ cap ∧ cap < 900
def okL (g : jG) (h : jH) (vs : List Nat) : Prop := ∀ x, x ∈ vs → okE g h (some x)
theorem okL.f {g : jG} {h : jH} {vs : List Nat} (k : okL g h vs) (i : Nat) : okE g h (vs[i]?) := by
  cases z : vs[i]? with
  | none => exact fun v hv => by cases hv
  | some x => exact k x (List.mem_of_getElem? z)
theorem app_f {vs : List Nat} {x : Nat} {f' : Nat → Option Nat} (h1 : ∀ k, k < vs.length → f' k = vs[k]?) (h2 : f' vs.length = some x) (h3 : ∀ k, vs.length < k → f' k = none) : f' = fun k => (vs ++ [x])[k]? := by
  funext k
  show f' k = (vs ++ [x])[k]?
  rcases Nat.lt_trichotomy k vs.length with z | z | z
  · rw [h1 k z, List.getElem?_append_left z]
  · rw [z, h2]; simp
  · rw [h3 k z, List.getElem?_eq_none (by simp; omega)]
/-- what an operation on the list a (its array e, then e') leaves as it was -/
def LOp (g : jG) (h h' : jH) (a e e' : Nat) : Prop := ((e' = e ∧ (h e = none → h' e = none)) ∨ (h e' = none ∧ jA g e')) ∧ (∀ w, okE g h w → okE g h' w) ∧ (∀ q y, h q = some y → q ≠ a → q ≠ e → h' q = some y) ∧ (∀ q, h q = none → q ≠ e' → h' q = none) ∧ ∀ q y, h q = some y → ∃ y', h' q = some y'
theorem jup_grow {h h0 : jH} {a : Nat} {x : va_E} (k : ∀ q y, h0 q = some y → ∃ y', h q = some y') : ∀ q y, h0 q = some y → ∃ y', jup h a x q = some y' := fun q y hq => by
  by_cases w : q = a
  · exact ⟨x, by rw [w]; exact jup_eq⟩
  · rw [jup_ne w]; exact k q y hq
theorem same_grow {h : jH} : ∀ q y, h q = some y → ∃ y', h q = some y' := fun _ y z => ⟨y, z⟩
theorem hc_AL_add {g : jG} (G : jOK g) (Kn : jKN g) {h : jH} {a x e cap : Nat} {vs : List Nat} (A : AL g h a vs e cap) (hn : vs.length ≤ 200) (hE : okL g h vs) (hx : okE g h (some x)) : CT g 6 (11 + vs.length + vs.length / 2) yJ13_add [.ref a, .ref x] h (jnx fun v h' => v = some (.int (nI 1)) ∧ ∃ e' cap' : Nat, AL g h' a (vs ++ [x]) e' cap' ∧ LOp g h h' a e e') := by
  obtain ⟨⟨m, p⟩, q, hc, hcap⟩ := A
  by_cases hl : vs.length = cap
  · subst hl
    refine CT.tell (hc_addf G Kn (w := some x) p q hn (fun i _ => hE.f i) hx) (by decide) (by have := growN_b (g := g) (e := e) (n := vs.length); omega) ?_
    rintro v h' ⟨rfl, b, f', nb, zb, h1, h2, h3, rfl⟩
    have hba : b ≠ a := Ne.symm (jne p nb)
    refine ⟨rfl, b, growN g e vs.length, ⟨⟨m + nI 1, ?_⟩, Or.inl ?_, ?_, ?_⟩, Or.inr ⟨nb, zb⟩, ?_, ?_, ?_, jup_grow (jup_grow same_grow)⟩
    · rw [jup_eq, List.length_append]; rfl
    · rw [jup_ne hba, jup_eq, app_f h1 h2 h3]
    · rw [List.length_append]; exact growN_b.1
    · have := growN_b (g := g) (e := e) (n := vs.length); omega
    · intro w k
      exact okE.upd (by rw [jup_ne (Ne.symm hba)]; exact p) (k.push nb)
    · intro z y hz h4 h5
      rw [jup_ne h4, jup_ne (jne hz nb)]; exact hz
    · intro z hz h4
      rw [jup_ne (Ne.symm (jne p hz)), jup_ne h4]; exact hz
  · have pe : h e = some (jQ g 4 cap (fun k => vs[k]?)) := by
      rcases q with q | ⟨-, q, -⟩
      · exact q
      · omega
    refine CT.tell (hc_addr G (w := some x) p pe (by omega) (by omega) hx) (by decide) (by omega) ?_
    rintro v h' ⟨rfl, rfl⟩
    have hea : e ≠ a := fun z => by rw [z, p] at pe; cases pe
    refine ⟨rfl, e, cap, ⟨⟨m + nI 1, ?_⟩, Or.inl ?_, ?_, hcap⟩, Or.inl ⟨rfl, fun z => by rw [z] at pe; cases pe⟩, ?_, ?_, ?_, jup_grow (jup_grow same_grow)⟩
    · rw [jup_eq, List.length_append]; rfl
    · rw [jup_ne hea, jup_eq, app_f (f' := va_up (fun k => vs[k]?) vs.length (some x)) ?_ ?_ ?_]
      · intro k hk; unfold va_up; rw [if_neg (by omega)]
      · unfold va_up; rw [if_pos rfl]
      · intro k hk; unfold va_up; rw [if_neg (by omega)]; exact List.getElem?_eq_none (by omega)
    · rw [List.length_append]; show vs.length + 1 ≤ cap; omega
    · intro w k
      exact okE.upd (by rw [jup_ne (Ne.symm hea)]; exact p) (k.arr pe)
    · intro z y hz h4 h5
      rw [jup_ne h4, jup_ne h5]; exact hz
    · intro z hz h4
      rw [jup_ne (Ne.symm (jne p hz)), jup_ne h4]; exact hz
