set_option maxRecDepth 100000
/-- a number of a side written -/
theorem MatsAt.setP {g : jG} {h : jH} {ad e : Nat → Nat} {t : MT} (A : MatsAt g h ad e t) {f i n : Nat} (hf : 4 ≤ f) (hf' : f < 7) {s : Nat → Int32} (hs : h (ad (f + 1)) = some (jI g 0 2 s)) : MatsAt g (jup h (ad (f + 1)) (jI g 0 2 (va_up s i (nI n)))) ad e (tS t f i 0 n) := by
  obtain ⟨D, a1, a2, a3, a4, ⟨cap, a5⟩, a6⟩ := A
  have hne : ∀ j, j < 20 → j ≠ f + 1 → ad j ≠ ad (f + 1) := fun j h1 h2 => D.ne h1 (by omega) h2
  have F : ∀ j, j < 20 → j ≠ f + 1 → ∀ y, h (ad j) = some y → jup h (ad (f + 1)) (jI g 0 2 (va_up s i (nI n))) (ad j) = some y := fun j h1 h2 y hy => by rw [jup_ne (hne j h1 h2)]; exact hy
  have Fe : ∀ k, k < 2 → ∀ y, h (e k) = some y → jup h (ad (f + 1)) (jI g 0 2 (va_up s i (nI n))) (e k) = some y := fun k hk y hy => by rw [jup_ne (D.2.1 k y _ hk hy (by omega))]; exact hy
  have hb : ∀ k, k < 2 → ∀ y, jup h (ad (f + 1)) (jI g 0 2 (va_up s i (nI n))) (e k) = some y → ∃ y', h (e k) = some y' := fun k hk y hy => by
    by_cases z : e k = ad (f + 1)
    · exact ⟨_, by rw [z]; exact hs⟩
    · rw [jup_ne z] at hy; exact ⟨y, hy⟩
  obtain ⟨d1, d2, d3⟩ := D
  have o : ∀ k a b, k ≠ f → (tS t f i 0 n).1 k a b = t.1 k a b := fun k a b hk => tS_ne (Or.inl hk)
  refine ⟨⟨d1, fun k y j hk hy hj => ?_, fun y hy => ?_⟩, ?_, fun k hk => F k (by omega) (by omega) _ (a2 k hk), fun k m hk hm => ?_, fun k h1 h2 => ?_, ⟨cap, a5.keep (F 4 (by decide) (by omega)) (F 18 (by decide) (by omega))⟩, fun k hk => ?_⟩
  · obtain ⟨y', hy'⟩ := hb k hk y hy
    exact d2 k y' j hk hy' hj
  · obtain ⟨y', hy'⟩ := hb 0 (by decide) y hy
    exact d3 y' hy'
  · have e8 : turn (tS t f i 0 n) = turn t := by unfold turn; rw [o 8 0 0 (by omega)]
    unfold mObj
    rw [o 7 0 0 (by omega), e8]
    exact F 19 (by decide) (by omega) _ a1
  · obtain ⟨s', b1, b2⟩ := a3 k m hk hm
    exact ⟨s', F _ (by omega) (by omega) _ b1, fun q hq => by rw [o k m q (by omega)]; exact b2 q hq⟩
  · obtain ⟨s', b1, b2⟩ := a4 k h1 h2
    by_cases z : k = f
    · subst z
      rw [hs] at b1
      cases b1
      refine ⟨va_up s i (nI n), jup_eq, fun q hq => ?_⟩
      by_cases z3 : q = i
      · subst z3
        rw [va_up_self, tS_eq]
      · rw [va_up_ne _ _ z3, tS_ne (Or.inr (Or.inl z3))]
        exact b2 q hq
    · exact ⟨s', F _ (by omega) (by omega) _ b1, fun q hq => by rw [o k q 0 z]; exact b2 q hq⟩
  · obtain ⟨c, b⟩ := a6 k hk
    exact ⟨c, b.keep (F _ (by omega) (by omega)) (Fe k hk)⟩
/-- the object's own numbers written: the time, and whose turn it is -/
theorem MatsAt.setO {g : jG} {h : jH} {ad e : Nat → Nat} {t : MT} (A : MatsAt g h ad e t) (tm tn : Nat) : MatsAt g (jup h (ad 19) (jO 5 [.ref (ad 0), .ref (ad 1), .ref (ad 2), .ref (ad 3), .ref (ad 4), .ref (ad 5), .ref (ad 6), .ref (ad 7), .int (nI tm), .int (nI (tn % 2))])) ad e (tS (tS t 7 0 0 tm) 8 0 0 tn) := by
  obtain ⟨D, a1, a2, a3, a4, ⟨cap, a5⟩, a6⟩ := A
  generalize ex : jO 5 [.ref (ad 0), .ref (ad 1), .ref (ad 2), .ref (ad 3), .ref (ad 4), .ref (ad 5), .ref (ad 6), .ref (ad 7), .int (nI tm), .int (nI (tn % 2))] = x
  have hne : ∀ j, j < 20 → j ≠ 19 → ad j ≠ ad 19 := fun j h1 h2 => D.ne h1 (by omega) h2
  have F : ∀ j, j < 20 → j ≠ 19 → ∀ y, h (ad j) = some y → jup h (ad 19) x (ad j) = some y := fun j h1 h2 y hy => by rw [jup_ne (hne j h1 h2)]; exact hy
  have Fe : ∀ k, k < 2 → ∀ y, h (e k) = some y → jup h (ad 19) x (e k) = some y := fun k hk y hy => by rw [jup_ne (D.2.1 k y _ hk hy (by omega))]; exact hy
  have hb : ∀ k, k < 2 → ∀ y, jup h (ad 19) x (e k) = some y → ∃ y', h (e k) = some y' := fun k hk y hy => by
    by_cases z : e k = ad 19
    · exact ⟨_, by rw [z]; exact a1⟩
    · rw [jup_ne z] at hy; exact ⟨y, hy⟩
  obtain ⟨d1, d2, d3⟩ := D
  have o : ∀ k a b, k < 7 → (tS (tS t 7 0 0 tm) 8 0 0 tn).1 k a b = t.1 k a b := fun k a b hk => by rw [tS_ne (Or.inl (by omega)), tS_ne (Or.inl (by omega))]
  refine ⟨⟨d1, fun k y j hk hy hj => ?_, fun y hy => ?_⟩, ?_, fun k hk => F k (by omega) (by omega) _ (a2 k hk), fun k m hk hm => ?_, fun k h1 h2 => ?_, ⟨cap, a5.keep (F 4 (by decide) (by omega)) (F 18 (by decide) (by omega))⟩, fun k hk => ?_⟩
  · obtain ⟨y', hy'⟩ := hb k hk y hy
    exact d2 k y' j hk hy' hj
  · obtain ⟨y', hy'⟩ := hb 0 (by decide) y hy
    exact d3 y' hy'
  · have e8 : turn (tS (tS t 7 0 0 tm) 8 0 0 tn) = tn % 2 := by unfold turn; rw [tS_eq]
    unfold mObj
    rw [tS_ne (Or.inl (by omega)), tS_eq, e8, ex]
    exact jup_eq
  · obtain ⟨s', b1, b2⟩ := a3 k m hk hm
    exact ⟨s', F _ (by omega) (by omega) _ b1, fun q hq => by rw [o k m q (by omega)]; exact b2 q hq⟩
  · obtain ⟨s', b1, b2⟩ := a4 k h1 h2
    exact ⟨s', F _ (by omega) (by omega) _ b1, fun q hq => by rw [o k q 0 (by omega)]; exact b2 q hq⟩
  · obtain ⟨c, b⟩ := a6 k hk
    exact ⟨c, b.keep (F _ (by omega) (by omega)) (Fe k hk)⟩
theorem MatsAt.has {g : jG} {h : jH} {ad e : Nat → Nat} {t : MT} (A : MatsAt g h ad e t) (j : Nat) (hj : j < 20) : ∃ y, h (ad j) = some y := by
  obtain ⟨D, a1, a2, a3, a4, ⟨cap, a5⟩, a6⟩ := A
  by_cases z1 : j < 4
  · exact ⟨_, a2 j z1⟩
  · by_cases z2 : j = 4
    · obtain ⟨⟨m, p⟩, -⟩ := a5
      exact ⟨_, by rw [z2]; exact p⟩
    · by_cases z3 : j < 8
      · obtain ⟨s, p, -⟩ := a4 (j - 1) (by omega) (by omega)
        exact ⟨_, by rw [show j = j - 1 + 1 by omega]; exact p⟩
      · by_cases z4 : j < 16
        · obtain ⟨s, p, -⟩ := a3 ((j - 8) / 2) ((j - 8) % 2) (by omega) (by omega)
          exact ⟨_, by rw [show j = 8 + 2 * ((j - 8) / 2) + (j - 8) % 2 by omega]; exact p⟩
        · by_cases z5 : j < 18
          · obtain ⟨c, ⟨m, p⟩, -⟩ := a6 (j - 16) (by omega)
            exact ⟨_, by rw [show j = 16 + (j - 16) by omega]; exact p⟩
          · by_cases z6 : j = 18
            · exact ⟨_, by rw [z6]; exact a5.pe (Nat.zero_lt_succ _)⟩
            · exact ⟨_, by rw [show j = 19 by omega]; exact a1⟩
theorem jA_E {g : jG} (Kn : jKN g) {q : Nat} (hq : jA g q) : q ≠ kE1 g ∧ q ≠ kE2 g := by
  obtain ⟨⟨-, ⟨c1, h1, -⟩, -⟩, ⟨-, ⟨c2, h2, -⟩, -⟩, -⟩ := Kn
  have l1 : kE1 g < g.1.heap.size := by
    rcases Nat.lt_or_ge (kE1 g) g.1.heap.size with z | z
    · exact z
    · rw [Array.getElem?_eq_none z] at h1; cases h1
  have l2 : kE2 g < g.1.heap.size := by
    rcases Nat.lt_or_ge (kE2 g) g.1.heap.size with z | z
    · exact z
    · rw [Array.getElem?_eq_none z] at h2; cases h2
  have hq : g.1.heap.size ≤ q := hq
  exact ⟨by omega, by omega⟩
theorem AL.st {g : jG} {h : jH} {a e cap : Nat} {vs : List Nat} (A : AL g h a vs e cap) (hn : h e = none) : e = kE1 g ∨ e = kE2 g := by
  obtain ⟨-, q, -⟩ := A
  rcases q with q | ⟨q, -⟩
  · rw [hn] at q; cases q
  · exact q
/-- the list of the side i written, its array too -/
theorem MatsAt.setL {g : jG} (Kn : jKN g) {h h' : jH} {ad e : Nat → Nat} {t : MT} {i e' : Nat} {l : List Nat} (A : MatsAt g h ad e t) (hi : i < 2) (B : ∃ cap, AL g h' (ad (16 + i)) (l.map (bxN g)) e' cap) (O : LOp g h h' (ad (16 + i)) (e i) e') : MatsAt g h' ad (fun k => if k = i then e' else e k) (tR t i l) := by
  have S := A.has
  obtain ⟨⟨d1, d2, d3⟩, a1, a2, a3, a4, ⟨cap, a5⟩, a6⟩ := A
  obtain ⟨o1, o2, o3, o4, -⟩ := O
  have ns : ∀ j, j < 20 → e i ≠ ad j ∨ h (e i) = none := fun j hj => by
    cases z : h (e i) with
    | none => exact Or.inr rfl
    | some y => exact Or.inl (d2 i y j hi z hj)
  have F : ∀ j, j < 20 → j ≠ 16 + i → ∀ y, h (ad j) = some y → h' (ad j) = some y := fun j hj hji y hy => by
    refine o3 _ _ hy (fun z => hji (d1 j (16 + i) hj (by omega) z)) (fun z => ?_)
    rcases ns j hj with q | q
    · exact q z.symm
    · rw [← z, hy] at q; cases q
  have hnew : ∀ j, j < 20 → ∀ y, h' e' = some y → e' ≠ ad j := fun j hj y hy z => by
    obtain ⟨w, hw⟩ := S j hj
    rcases o1 with ⟨q1, q2⟩ | ⟨q1, -⟩
    · rcases ns j hj with q | q
      · exact q (q1 ▸ z)
      · rw [q1, q2 q] at hy; cases hy
    · rw [z, hw] at q1; cases q1
  have hold : ∀ k, k < 2 → k ≠ i → ∀ y, h' (e k) = some y → (∃ w, h (e k) = some w) ∧ e k ≠ e' := fun k hk hki y hy => by
    have hst : ∀ q, h (e k) = none → e k = q → jA g q → False := fun q n z v => by
      obtain ⟨c, b⟩ := a6 k hk
      have := jA_E Kn v
      rcases b.st n with w | w
      · exact this.1 (z ▸ w)
      · exact this.2 (z ▸ w)
    have d4 : ∀ y, h (e k) = some y → e k ≠ e i := fun y hy z => by
      have : (k = 0 ∧ i = 1) ∨ (k = 1 ∧ i = 0) := by omega
      rcases this with ⟨rfl, rfl⟩ | ⟨rfl, rfl⟩
      · exact d3 y hy z
      · exact d3 y (z ▸ hy) z.symm
    cases z : h (e k) with
    | some w =>
      refine ⟨⟨w, rfl⟩, fun q => ?_⟩
      rcases o1 with ⟨q1, -⟩ | ⟨q1, -⟩
      · exact d4 w z (q.trans q1)
      · rw [← q, z] at q1; cases q1
    | none =>
      exfalso
      by_cases q : e k = e'
      · rcases o1 with ⟨q1, q2⟩ | ⟨q1, q2⟩
        · have := q2 (by rw [← q1, ← q]; exact z)
          rw [q, q1, this] at hy; cases hy
        · exact hst e' z q q2
      · rw [o4 _ z q] at hy; cases hy
  refine ⟨⟨d1, fun k y j hk hy hj => ?_, fun y hy => ?_⟩, F 19 (by decide) (by omega) _ a1, fun k hk => F k (by omega) (by omega) _ (a2 k hk), fun k m hk hm => ?_, fun k h1 h2 => ?_, ⟨cap, a5.keep (F 4 (by decide) (by omega)) (F 18 (by decide) (by omega))⟩, fun k hk => ?_⟩
  · by_cases z : k = i
    · simp only [if_pos z] at hy ⊢
      exact hnew j hj y hy
    · simp only [if_neg z] at hy ⊢
      obtain ⟨⟨w, hw⟩, -⟩ := hold k hk z y hy
      exact d2 k w j hk hw hj
  · have : i = 0 ∨ i = 1 := by omega
    rcases this with rfl | rfl
    · intro z
      simp only [if_true, Nat.one_ne_zero, if_false] at hy z
      exact (hold 1 (by decide) (by decide) y (z ▸ hy)).2 z.symm
    · intro z
      simp only [if_true, Nat.zero_ne_one, if_false] at hy z
      exact (hold 0 (by decide) (by decide) y hy).2 z
  · obtain ⟨s', b1, b2⟩ := a3 k m hk hm
    exact ⟨s', F _ (by omega) (by omega) _ b1, b2⟩
  · obtain ⟨s', b1, b2⟩ := a4 k h1 h2
    exact ⟨s', F _ (by omega) (by omega) _ b1, b2⟩
  · by_cases z : k = i
    · subst z
      obtain ⟨c, b⟩ := B
      exact ⟨c, by simp only [if_true]; rw [tR_eq]; exact b⟩
    · obtain ⟨c, b⟩ := a6 k hk
      refine ⟨c, ?_⟩
      simp only [if_neg z]
      rw [tR_ne z]
      refine b.keep (F _ (by omega) (by omega)) (fun y hy => o3 _ _ hy (d2 k y _ hk hy (by omega)) (fun q => ?_))
      have : (k = 0 ∧ i = 1) ∨ (k = 1 ∧ i = 0) := by omega
      rcases this with ⟨rfl, rfl⟩ | ⟨rfl, rfl⟩
      · exact d3 y hy q
      · exact d3 y (q ▸ hy) q.symm
