set_option maxRecDepth 100000
theorem CTI.tell {g : jG} {d d' k k' : Nat} {y : MethodName} {as : List Value} {h : jH} {Q Q' : Option Value → jH → Prop} (hM : CTI g d k y as h (jnx Q)) (hd : d ≤ d') (hk : k ≤ k') (hP : ∀ v h', Q v h' → Q' v h') : CTI g d' k' y as h (jnx Q') := by
  refine CTI.mono (k := k) ?_ hd hk
  obtain ⟨bytes, maxL, h1, h2, h3⟩ := hM
  refine ⟨bytes, maxL, h1, h2, fun l hl => ?_⟩
  have M := h3 l hl
  intro p e ha hc hk s m args below hf happ hpre hK
  obtain ⟨t, o, a1, a2, a3, a4⟩ := M p e ha hc hk s m args below hf happ hpre hK
  refine ⟨t, o, a1, a2, a3, ?_⟩
  rcases a4 with ⟨⟨⟨v, h', e1, e2, e3⟩, e4⟩, e5⟩ | ⟨q, e0, E, ce, L, ⟨⟨h', e2, e3⟩, e4⟩, e5⟩
  · exact Or.inl ⟨⟨⟨v, h', e1, hP _ _ e2, e3⟩, e4⟩, e5⟩
  · exact absurd e2 id
theorem AL.pe {g : jG} {h : jH} {a e cap : Nat} {vs : List Nat} (A : AL g h a vs e cap) (hv : 0 < vs.length) : h e = some (jQ g 4 cap (fun k => vs[k]?)) := by
  obtain ⟨-, q, hc, -⟩ := A
  rcases q with q | ⟨-, q, -⟩
  · exact q
  · omega
theorem AL.ne {g : jG} {h : jH} {a e cap : Nat} {vs : List Nat} (A : AL g h a vs e cap) (hv : 0 < vs.length) : e ≠ a := fun z => by
  have p := A.pe hv
  obtain ⟨m, p2⟩ := A.1
  rw [z, p2] at p
  cases p
theorem hc_AL_init {g : jG} (G : jOK g) (Kn : jKN g) {h : jH} {a : Nat} {m : Int32} {e : Value} (p : h a = some (jO 12 [.int m, e, .int (nI 0)])) : CTI g 3 0 yJ13_init [.ref a] h (jnx fun v h' => v = none ∧ AL g h' a [] (kE1 g) 0 ∧ (∀ w, okE g h w → okE g h' w) ∧ ∀ q y, h q = some y → q ≠ a → h' q = some y) := by
  refine CTI.tell (hc_J13_init G Kn p) (Nat.le_refl _) (Nat.le_refl _) ?_
  rintro v h' ⟨rfl, rfl⟩
  refine ⟨rfl, ?_, fun w k => okE.upd p k, fun q y hq h1 => by rw [jup_ne h1]; exact hq⟩
  refine ⟨⟨nI 0, jup_eq⟩, Or.inr ⟨Or.inl rfl, rfl, ?_⟩, Nat.le_refl _, by decide⟩
  funext k; rfl
theorem hc_AL_size {g : jG} (G : jOK g) {h : jH} {a e cap : Nat} {vs : List Nat} (A : AL g h a vs e cap) : CT g 0 0 yJ13_size [.ref a] h (jnx fun v h' => v = some (.int (nI vs.length)) ∧ h' = h) := by
  obtain ⟨⟨m, p⟩, -⟩ := A
  exact hc_J13_size G p
theorem hc_AL_isEmpty {g : jG} (G : jOK g) {h : jH} {a e cap : Nat} {vs : List Nat} (A : AL g h a vs e cap) : CT g 0 0 yJ13_isEmpty [.ref a] h (jnx fun v h' => v = some (.int (pI (vs.length = 0))) ∧ h' = h) := by
  obtain ⟨⟨m, p⟩, -, h1, h2⟩ := A
  exact hc_J13_isEmpty G p (by omega)
theorem lt_of_get {vs : List Nat} {i x : Nat} (hx : vs[i]? = some x) : i < vs.length := by
  rcases Nat.lt_or_ge i vs.length with z | z
  · exact z
  · rw [List.getElem?_eq_none z] at hx; cases hx
theorem hc_AL_get {g : jG} (G : jOK g) {h : jH} {a e cap i x : Nat} {vs : List Nat} (A : AL g h a vs e cap) (hx : vs[i]? = some x) : CT g 2 0 yJ13_get [.ref a, .int (nI i)] h (jnx fun v h' => v = some (.ref x) ∧ h' = h) := by
  have hi := lt_of_get hx
  have pe := A.pe (by omega)
  obtain ⟨⟨m, p⟩, -, h1, h2⟩ := A
  refine CT.tell (hc_J13_get G p pe h1 (by omega) hi) (Nat.le_refl _) (Nat.le_refl _) ?_
  rintro v h' ⟨rfl, rfl⟩
  exact ⟨by rw [hx]; rfl, rfl⟩
theorem set_f {vs : List Nat} {i x : Nat} (hi : i < vs.length) : va_up (fun k => vs[k]?) i (some x) = fun k => (vs.set i x)[k]? := by
  funext k
  show va_up (fun k => vs[k]?) i (some x) k = (vs.set i x)[k]?
  by_cases z : k = i
  · subst z
    rw [va_ups, List.getElem?_set_self hi]
  · rw [va_upn z, List.getElem?_set_ne (Ne.symm z)]
theorem hc_AL_set {g : jG} (G : jOK g) {h : jH} {a e cap i x y : Nat} {vs : List Nat} (A : AL g h a vs e cap) (hy : vs[i]? = some y) (hx : okE g h (some x)) : CT g 2 0 yJ13_set [.ref a, .int (nI i), .ref x] h (jnx fun v h' => v = some (.ref y) ∧ AL g h' a (vs.set i x) e cap ∧ LOp g h h' a e e) := by
  have hi := lt_of_get hy
  have pe := A.pe (by omega)
  have hea := A.ne (by omega)
  obtain ⟨⟨m, p⟩, -, h1, h2⟩ := A
  refine CT.tell (hc_J13_set G (w := some x) p pe h1 (by omega) hi hx) (Nat.le_refl _) (Nat.le_refl _) ?_
  rintro v h' ⟨rfl, rfl⟩
  refine ⟨by rw [hy]; rfl, ⟨⟨m, ?_⟩, Or.inl ?_, ?_, h2⟩, Or.inl ⟨rfl, fun z => by rw [z] at pe; cases pe⟩, fun w k => k.arr pe, fun q z hq _ h5 => by rw [jup_ne h5]; exact hq, fun q hq h5 => by rw [jup_ne h5]; exact hq, jup_grow same_grow⟩
  · rw [jup_ne (Ne.symm hea), List.length_set]; exact p
  · rw [jup_eq, set_f hi]
  · rw [List.length_set]; exact h1
theorem del_f {vs : List Nat} {i n : Nat} {f' : Nat → Option Nat} (hn : vs.length = n + 1) (hi : i ≤ n) (h1 : ∀ k, k < i → f' k = vs[k]?) (h2 : ∀ k, i ≤ k → k < n → f' k = vs[k + 1]?) (h3 : f' n = none) (h4 : ∀ k, n < k → f' k = vs[k]?) : f' = fun k => (vs.eraseIdx i)[k]? := by
  funext k
  show f' k = (vs.eraseIdx i)[k]?
  rw [List.getElem?_eraseIdx]
  by_cases z : k < i
  · rw [if_pos z, h1 k z]
  · rw [if_neg z]
    rcases Nat.lt_trichotomy k n with z2 | z2 | z2
    · exact h2 k (by omega) z2
    · rw [z2, h3, List.getElem?_eq_none (by omega)]
    · rw [h4 k z2, List.getElem?_eq_none (by omega), List.getElem?_eq_none (by omega)]
theorem hc_AL_remove {g : jG} (G : jOK g) {h : jH} {a e cap i x : Nat} {vs : List Nat} (A : AL g h a vs e cap) (hx : vs[i]? = some x) (hE : okL g h vs) : CT g 2 0 yJ13_remove [.ref a, .int (nI i)] h (jnx fun v h' => v = some (.ref x) ∧ AL g h' a (vs.eraseIdx i) e cap ∧ LOp g h h' a e e) := by
  have hi := lt_of_get hx
  have pe := A.pe (by omega)
  have hea := A.ne (by omega)
  obtain ⟨⟨m, p⟩, -, h1, h2⟩ := A
  obtain ⟨n, hn⟩ : ∃ n, vs.length = n + 1 := ⟨vs.length - 1, by omega⟩
  refine CT.tell (hc_J13_remove G (n := n) (i := i) (by rw [p, hn]) pe (by omega) (by omega) (by omega) (fun k _ => hE.f k)) (Nat.le_refl _) (Nat.le_refl _) ?_
  rintro v h' ⟨rfl, f', a1, a2, a3, a4, rfl⟩
  have hlen : (vs.eraseIdx i).length = n := by rw [List.length_eraseIdx_of_lt hi, hn]; rfl
  refine ⟨by rw [hx]; rfl, ⟨⟨m + nI 1, ?_⟩, Or.inl ?_, ?_, h2⟩, Or.inl ⟨rfl, fun z => by rw [z] at pe; cases pe⟩, ?_, ?_, ?_, jup_grow (jup_grow same_grow)⟩
  · rw [jup_eq, hlen]
  · rw [jup_ne hea, jup_eq, del_f hn (by omega) a1 a2 a3 a4]
  · rw [hlen]; omega
  · intro w k
    exact okE.upd (by rw [jup_ne (Ne.symm hea)]; exact p) (k.arr pe)
  · intro z y hz h4 h5
    rw [jup_ne h4, jup_ne h5]; exact hz
  · intro z hz h4
    rw [jup_ne (Ne.symm (jne p hz)), jup_ne h4]; exact hz
theorem AL.keep {g : jG} {h h' : jH} {b e cap : Nat} {vs : List Nat} (A : AL g h b vs e cap) (hb : ∀ y, h b = some y → h' b = some y) (he : ∀ y, h e = some y → h' e = some y) : AL g h' b vs e cap := by
  obtain ⟨⟨m, p⟩, q, h1, h2⟩ := A
  exact ⟨⟨m, hb _ p⟩, q.elim (fun q => Or.inl (he _ q)) Or.inr, h1, h2⟩
theorem copy_f {vs : List Nat} {f' : Nat → Option Nat} (h1 : ∀ k, k < vs.length → f' k = vs[k]?) (h2 : ∀ k, vs.length ≤ k → f' k = none) : f' = fun k => vs[k]? := by
  funext k
  show f' k = vs[k]?
  rcases Nat.lt_or_ge k vs.length with z | z
  · exact h1 k z
  · rw [h2 k z, List.getElem?_eq_none z]
theorem hc_AL_copy {g : jG} (G : jOK g) (Kn : jKN g) {h : jH} {a b e cap : Nat} {m0 n0 : Int32} {e0 : Value} {vs : List Nat} (pa : h a = some (jO 12 [.int m0, e0, .int n0])) (A : AL g h b vs e cap) (hab : a ≠ b) (hE : okL g h vs) : CTI g 4 (vs.length + 1) yJ13_init_2 [.ref a, .ref b] h (jnx fun v h' => v = none ∧ ∃ e' cap' : Nat, AL g h' a vs e' cap' ∧ (e' = kE2 g ∧ vs.length = 0 ∨ (h e' = none ∧ jA g e')) ∧ (∀ w, okE g h w → okE g h' w) ∧ ∀ q y, h q = some y → q ≠ a → h' q = some y) := by
  obtain ⟨⟨m, p⟩, q, h1, h2⟩ := A
  refine CTI.tell (hc_J13_init_2 G Kn pa p hab q h1 (by omega) (fun i _ => hE.f i)) (Nat.le_refl _) (Nat.le_refl _) ?_
  rintro v h' ⟨rfl, t, f', nt, zt, a1, a2, rfl⟩
  have hta : t ≠ a := Ne.symm (jne pa nt)
  have hk : ∀ w, okE g h w → okE g (jup (jup h t (jQ g 4 vs.length f')) a (jO 12 [.int (nI 0), .ref (if vs.length = 0 then kE2 g else t), .int (nI vs.length)])) w := fun w k => okE.upd (by rw [jup_ne (Ne.symm hta)]; exact pa) (k.push nt)
  have hf : ∀ z y, h z = some y → z ≠ a → (jup (jup h t (jQ g 4 vs.length f')) a (jO 12 [.int (nI 0), .ref (if vs.length = 0 then kE2 g else t), .int (nI vs.length)])) z = some y := fun z y hz h4 => by
    rw [jup_ne h4, jup_ne (jne hz nt)]; exact hz
  by_cases z : vs.length = 0
  · refine ⟨rfl, kE2 g, 0, ⟨⟨nI 0, ?_⟩, Or.inr ⟨Or.inr rfl, rfl, ?_⟩, by omega, by omega⟩, Or.inl ⟨rfl, z⟩, hk, hf⟩
    · rw [jup_eq, if_pos z]
    · funext k; exact List.getElem?_eq_none (by omega)
  · refine ⟨rfl, t, vs.length, ⟨⟨nI 0, ?_⟩, Or.inl ?_, Nat.le_refl _, by omega⟩, Or.inr ⟨nt, zt⟩, hk, hf⟩
    · rw [jup_eq, if_neg z]
    · rw [jup_ne hta, jup_eq, copy_f a1 a2]
/-- i is an iterator over the ArrayList b, c elements on -/
def IT (h : jH) (i b c : Nat) : Prop := ∃ (lr m : Int32) (e n : Value), h i = some (jO 13 [.int (nI c), .int lr, .int m, .ref b]) ∧ h b = some (jO 12 [.int m, e, n])
theorem hc_AL_iter {g : jG} (G : jOK g) {h : jH} {b e cap : Nat} {vs : List Nat} (A : AL g h b vs e cap) : CT g 2 5 yJ13_iterator [.ref b] h (jnx fun v h' => ∃ i : Nat, v = some (.ref i) ∧ h i = none ∧ jA g i ∧ IT h' i b 0 ∧ (∀ w, okE g h w → okE g h' w) ∧ ∀ q y, h q = some y → h' q = some y) := by
  obtain ⟨⟨m, p⟩, -⟩ := A
  refine CT.tell (hc_J13_iterator G p) (Nat.le_refl _) (Nat.le_refl _) ?_
  rintro v h' ⟨i, rfl, ni, zi, rfl⟩
  exact ⟨i, rfl, ni, zi, ⟨_, m, _, _, jup_eq, by rw [jup_ne (jne p ni)]; exact p⟩, fun w k => k.push ni, fun q y hq => by rw [jup_ne (jne hq ni)]; exact hq⟩
theorem hc_IT_hasNext {g : jG} (G : jOK g) {h : jH} {i b e cap c : Nat} {vs : List Nat} (I : IT h i b c) (A : AL g h b vs e cap) (hc : c ≤ vs.length) : CT g 0 0 yJ19_hasNext [.ref i] h (jnx fun v h' => v = some (.int (pI (¬ c = vs.length))) ∧ h' = h) := by
  obtain ⟨lr, m, e1, n1, p, pb⟩ := I
  obtain ⟨⟨m2, p2⟩, q, h1, h2⟩ := A
  rw [p2] at pb
  cases pb
  exact hc_J19_hasNext G p p2 (by omega) (by omega)
theorem hc_IT_next {g : jG} (G : jOK g) {h : jH} {i b e cap c x : Nat} {vs : List Nat} (I : IT h i b c) (A : AL g h b vs e cap) (hx : vs[c]? = some x) : CT g 1 0 yJ19_next [.ref i] h (jnx fun v h' => v = some (.ref x) ∧ IT h' i b (c + 1) ∧ (∀ w, okE g h w → okE g h' w) ∧ ∀ q y, h q = some y → q ≠ i → h' q = some y) := by
  have hc := lt_of_get hx
  have pe := A.pe (by omega)
  obtain ⟨lr, m, e1, n1, p, pb⟩ := I
  obtain ⟨⟨m2, p2⟩, q, h1, h2⟩ := A
  have pb2 := pb
  rw [p2] at pb2
  cases pb2
  have hib : i ≠ b := fun z => by rw [z, p2] at p; cases p
  refine CT.tell (hc_J19_next G p p2 pe hib hc h1 (by omega)) (Nat.le_refl _) (Nat.le_refl _) ?_
  rintro v h' ⟨rfl, rfl⟩
  exact ⟨by rw [hx]; rfl, ⟨_, m, _, _, jup_eq, by rw [jup_ne (Ne.symm hib)]; exact p2⟩, fun w k => okE.upd p k, fun q y hq h5 => by rw [jup_ne h5]; exact hq⟩
