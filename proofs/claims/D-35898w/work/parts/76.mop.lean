set_option maxRecDepth 100000
/-- what a method of the Mats object (ad, e; then e') leaves as it was -/
def MOp (g : jG) (h h' : jH) (ad e e' : Nat → Nat) : Prop := (∀ w, okE g h w → okE g h' w) ∧ (∀ q y, h q = some y → (∀ j, j < 20 → q ≠ ad j) → q ≠ e 0 → q ≠ e 1 → h' q = some y) ∧ (∀ q, h q = none → ¬ jA g q → h' q = none) ∧ (∀ q y, h q = some y → ∃ y', h' q = some y') ∧ ∀ i, i < 2 → e' i = e i ∨ h (e' i) = none
theorem MOp.refl {g : jG} {h : jH} {ad e : Nat → Nat} : MOp g h h ad e e := ⟨fun _ z => z, fun _ _ z _ _ _ => z, fun _ z _ => z, fun _ y z => ⟨y, z⟩, fun _ _ => Or.inl rfl⟩
theorem MOp.trans {g : jG} {h h1 h2 : jH} {ad e e1 e2 : Nat → Nat} (A : MOp g h h1 ad e e1) (B : MOp g h1 h2 ad e1 e2) : MOp g h h2 ad e e2 := by
  obtain ⟨a1, a2, a3, a4, a5⟩ := A
  obtain ⟨b1, b2, b3, b4, b5⟩ := B
  have hn : ∀ q, h1 q = none → h q = none := fun q z => by
    cases w : h q with
    | none => rfl
    | some y => obtain ⟨y', hy⟩ := a4 q y w; rw [z] at hy; cases hy
  refine ⟨fun w z => b1 w (a1 w z), fun q y hq hj q0 q1 => ?_, fun q z n => b3 q (a3 q z n) n, fun q y hq => ?_, fun i hi => ?_⟩
  · have ne : ∀ i, i < 2 → q ≠ e i → q ≠ e1 i := fun i hi z w => by
      rcases a5 i hi with k | k
      · exact z (w.trans k)
      · rw [← w, hq] at k; cases k
    exact b2 q y (a2 q y hq hj q0 q1) hj (ne 0 (by decide) q0) (ne 1 (by decide) q1)
  · obtain ⟨y', hy⟩ := a4 q y hq
    exact b4 q y' hy
  · rcases b5 i hi with k | k
    · rw [k]; exact a5 i hi
    · exact Or.inr (hn _ k)
/-- a cell of the object written over -/
theorem MOp.up {g : jG} {h : jH} {ad e : Nat → Nat} {j : Nat} {x y : va_E} (hj : j < 20) (p : h (ad j) = some x) (hk : ∀ w, okE g h w → okE g (jup h (ad j) y) w) : MOp g h (jup h (ad j) y) ad e e := by
  refine ⟨hk, fun q z hq hn _ _ => by rw [jup_ne (hn j hj)]; exact hq, fun q z _ => by rw [jup_ne (Ne.symm (jne p z))]; exact z, fun q z hq => ?_, fun _ _ => Or.inl rfl⟩
  by_cases w : q = ad j
  · exact ⟨y, by rw [w]; exact jup_eq⟩
  · exact ⟨z, by rw [jup_ne w]; exact hq⟩
/-- an operation on a list of the object -/
theorem LOp.mop {g : jG} {h h' : jH} {ad e : Nat → Nat} {i e' : Nat} (hi : i < 2) (O : LOp g h h' (ad (16 + i)) (e i) e') : MOp g h h' ad e (fun k => if k = i then e' else e k) := by
  obtain ⟨o1, o2, o3, o4, hd⟩ := O
  refine ⟨o2, fun q y hq hj q0 q1 => o3 q y hq (hj _ (by omega)) ?_, fun q z n => ?_, hd, fun k hk => ?_⟩
  · have : i = 0 ∨ i = 1 := by omega
    rcases this with rfl | rfl
    · exact q0
    · exact q1
  · by_cases w : q = e'
    · rcases o1 with ⟨k, l⟩ | ⟨-, l⟩
      · rw [w, k]; exact l (by rw [← k, ← w]; exact z)
      · rw [w] at n; exact absurd l n
    · exact o4 q z w
  · by_cases w : k = i
    · subst w
      simp only [if_true]
      rcases o1 with ⟨z, -⟩ | ⟨z, -⟩
      · exact Or.inl z
      · exact Or.inr z
    · exact Or.inl (if_neg w)
