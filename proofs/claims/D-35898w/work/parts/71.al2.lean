set_option maxRecDepth 100000
theorem CTI.tell {g : jG} {d d' k k' : Nat} {y : MethodName} {as : List Value} {h : jH} {Q Q' : Option Value → jH → Prop} (hM : CTI g d k y as h (jnx Q)) (hd : d ≤ d') (hk : k ≤ k') (hP : ∀ v h', Q v h' → Q' v h') : CTI g d' k' y as h (jnx Q') := by
  refine CTI.mono (k := k) ?_ hd hk
  obtain ⟨bytes, maxL, h1, h2, h3⟩ := hM
  refine ⟨bytes, maxL, h1, h2, fun l hl => ?_⟩
  have M := h3 l hl
  intro p e ha hc hk s m args below hf happ hpre hK
  obtain ⟨t, o, a1, a2, a3, a4⟩ := M p e ha hc hk s m args below hf happ hpre hK
  refine ⟨t, o, a1, a2, a3, ?_⟩
  rcases a4 with ⟨⟨⟨v, h', e1, e2, e3⟩, e4⟩, e5⟩ | ⟨q, e0, E, ce, L, ⟨⟨h', e2, e3⟩, e4⟩, e5⟩
  · exact Or.inl ⟨⟨⟨v, h', e1, hP _ _ e2, e3⟩, e4⟩, e5⟩
  · exact absurd e2 id
theorem AL.pe {g : jG} {h : jH} {a e cap : Nat} {vs : List Nat} (A : AL g h a vs e cap) (hv : 0 < vs.length) : h e = some (jQ g 4 cap (fun k => vs[k]?)) := by
  obtain ⟨-, q, hc, -⟩ := A
  rcases q with q | ⟨-, q, -⟩
  · exact q
  · omega
theorem AL.ne {g : jG} {h : jH} {a e cap : Nat} {vs : List Nat} (A : AL g h a vs e cap) (hv : 0 < vs.length) : e ≠ a := fun z => by
  have p := A.pe hv
  obtain ⟨m, p2⟩ := A.1
  rw [z, p2] at p
  cases p
theorem hc_AL_init {g : jG} (G : jOK g) (Kn : jKN g) {h : jH} {a : Nat} {m : Int32} {e : Value} (p : h a = some (jO 12 [.int m, e, .int (nI 0)])) : CTI g 3 0 yJ13_init [.ref a] h (jnx fun v h' => v = none ∧ AL g h' a [] (kE1 g) 0 ∧ (∀ w, okE g h w → okE g h' w) ∧ ∀ q y, h q = some y → q ≠ a → h' q = some y) := by
  refine CTI.tell (hc_J13_init G Kn p) (Nat.le_refl _) (Nat.le_refl _) ?_
  rintro v h' ⟨rfl, rfl⟩
  refine ⟨rfl, ?_, fun w k => okE.upd p k, fun q y hq h1 => by rw [jup_ne h1]; exact hq⟩
  refine ⟨⟨nI 0, jup_eq⟩, Or.inr ⟨Or.inl rfl, rfl, ?_⟩, Nat.le_refl _, by decide⟩
  funext k; rfl
theorem hc_AL_size {g : jG} (G : jOK g) {h : jH} {a e cap : Nat} {vs : List Nat} (A : AL g h a vs e cap) : CT g 0 0 yJ13_size [.ref a] h (jnx fun v h' => v = some (.int (nI vs.length)) ∧ h' = h) := by
  obtain ⟨⟨m, p⟩, -⟩ := A
  exact hc_J13_size G p
theorem hc_AL_isEmpty {g : jG} (G : jOK g) {h : jH} {a e cap : Nat} {vs : List Nat} (A : AL g h a vs e cap) : CT g 0 0 yJ13_isEmpty [.ref a] h (jnx fun v h' => v = some (.int (pI (vs.length = 0))) ∧ h' = h) := by
  obtain ⟨⟨m, p⟩, -, h1, h2⟩ := A
  exact hc_J13_isEmpty G p (by omega)
theorem lt_of_get {vs : List Nat} {i x : Nat} (hx : vs[i]? = some x) : i < vs.length := by
  rcases Nat.lt_or_ge i vs.length with z | z
  · exact z
  · rw [List.getElem?_eq_none z] at hx; cases hx
theorem hc_AL_get {g : jG} (G : jOK g) {h : jH} {a e cap i x : Nat} {vs : List Nat} (A : AL g h a vs e cap) (hx : vs[i]? = some x) : CT g 2 0 yJ13_get [.ref a, .int (nI i)] h (jnx fun v h' => v = some (.ref x) ∧ h' = h) := by
  have hi := lt_of_get hx
  have pe := A.pe (by omega)
  obtain ⟨⟨m, p⟩, -, h1, h2⟩ := A
  refine CT.tell (hc_J13_get G p pe h1 (by omega) hi) (Nat.le_refl _) (Nat.le_refl _) ?_
  rintro v h' ⟨rfl, rfl⟩
  exact ⟨by rw [hx]; rfl, rfl⟩
theorem set_f {vs : List Nat} {i x : Nat} (hi : i < vs.length) : va_up (fun k => vs[k]?) i (some x) = fun k => (vs.set i x)[k]? := by
  funext k
  show va_up (fun k => vs[k]?) i (some x) k = (vs.set i x)[k]?
  by_cases z : k = i
  · subst z
    rw [va_ups, List.getElem?_set_self hi]
  · rw [va_upn z, List.getElem?_set_ne (Ne.symm z)]
theorem hc_AL_set {g : jG} (G : jOK g) {h : jH} {a e cap i x y : Nat} {vs : List Nat} (A : AL g h a vs e cap) (hy : vs[i]? = some y) (hx : okE g h (some x)) : CT g 2 0 yJ13_set [.ref a, .int (nI i), .ref x] h (jnx fun v h' => v = some (.ref y) ∧ AL g h' a (vs.set i x) e cap ∧ (∀ w, okE g h w → okE g h' w) ∧ ∀ q z, h q = some z → q ≠ e → h' q = some z) := by
  have hi := lt_of_get hy
  have pe := A.pe (by omega)
  have hea := A.ne (by omega)
  obtain ⟨⟨m, p⟩, -, h1, h2⟩ := A
  refine CT.tell (hc_J13_set G (w := some x) p pe h1 (by omega) hi hx) (Nat.le_refl _) (Nat.le_refl _) ?_
  rintro v h' ⟨rfl, rfl⟩
  refine ⟨by rw [hy]; rfl, ⟨⟨m, ?_⟩, Or.inl ?_, ?_, h2⟩, fun w k => k.arr pe, fun q z hq h5 => by rw [jup_ne h5]; exact hq⟩
  · rw [jup_ne (Ne.symm hea), List.length_set]; exact p
  · rw [jup_eq, set_f hi]
  · rw [List.length_set]; exact h1
theorem del_f {vs : List Nat} {i n : Nat} {f' : Nat → Option Nat} (hn : vs.length = n + 1) (hi : i ≤ n) (h1 : ∀ k, k < i → f' k = vs[k]?) (h2 : ∀ k, i ≤ k → k < n → f' k = vs[k + 1]?) (h3 : f' n = none) (h4 : ∀ k, n < k → f' k = vs[k]?) : f' = fun k => (vs.eraseIdx i)[k]? := by
  funext k
  show f' k = (vs.eraseIdx i)[k]?
  rw [List.getElem?_eraseIdx]
  by_cases z : k < i
  · rw [if_pos z, h1 k z]
  · rw [if_neg z]
    rcases Nat.lt_trichotomy k n with z2 | z2 | z2
    · exact h2 k (by omega) z2
    · rw [z2, h3, List.getElem?_eq_none (by omega)]
    · rw [h4 k z2, List.getElem?_eq_none (by omega), List.getElem?_eq_none (by omega)]
theorem hc_AL_remove {g : jG} (G : jOK g) {h : jH} {a e cap i x : Nat} {vs : List Nat} (A : AL g h a vs e cap) (hx : vs[i]? = some x) (hE : okL g h vs) : CT g 2 0 yJ13_remove [.ref a, .int (nI i)] h (jnx fun v h' => v = some (.ref x) ∧ AL g h' a (vs.eraseIdx i) e cap ∧ (∀ w, okE g h w → okE g h' w) ∧ ∀ q z, h q = some z → q ≠ a → q ≠ e → h' q = some z) := by
  have hi := lt_of_get hx
  have pe := A.pe (by omega)
  have hea := A.ne (by omega)
  obtain ⟨⟨m, p⟩, -, h1, h2⟩ := A
  obtain ⟨n, hn⟩ : ∃ n, vs.length = n + 1 := ⟨vs.length - 1, by omega⟩
  refine CT.tell (hc_J13_remove G (n := n) (i := i) (by rw [p, hn]) pe (by omega) (by omega) (by omega) (fun k _ => hE.f k)) (Nat.le_refl _) (Nat.le_refl _) ?_
  rintro v h' ⟨rfl, f', a1, a2, a3, a4, rfl⟩
  have hlen : (vs.eraseIdx i).length = n := by rw [List.length_eraseIdx_of_lt hi, hn]; rfl
  refine ⟨by rw [hx]; rfl, ⟨⟨m + nI 1, ?_⟩, Or.inl ?_, ?_, h2⟩, ?_, ?_⟩
  · rw [jup_eq, hlen]
  · rw [jup_ne hea, jup_eq, del_f hn (by omega) a1 a2 a3 a4]
  · rw [hlen]; omega
  · intro w k
    exact okE.upd (by rw [jup_ne (Ne.symm hea)]; exact p) (k.arr pe)
  · intro z y hz h4 h5
    rw [jup_ne h4, jup_ne h5]; exact hz
