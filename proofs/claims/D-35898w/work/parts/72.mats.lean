set_option maxRecDepth 100000
/-- the places of one Mats object: ad 0..7 its fields' objects (0 state, 1 until, 2 cards, 3 raided, 4 outs, 5 points, 6 empties, 7 changes), ad (8 + 2 f + i) the row i of the field f, ad (16 + i) the list of side i, ad 18 the array of outs, ad 19 itself; e i the array of the list i -/
def mDis (h : jH) (ad e : Nat → Nat) : Prop := (∀ j k, j < 20 → k < 20 → ad j = ad k → j = k) ∧ (∀ i y j, i < 2 → h (e i) = some y → j < 20 → e i ≠ ad j) ∧ ∀ y, h (e 0) = some y → e 0 ≠ e 1
def rowF (ad : Nat → Nat) (f : Nat) : Nat → Option Nat := fun j => if j = 0 then some (ad (8 + 2 * f)) else if j = 1 then some (ad (9 + 2 * f)) else none
def mObj (h : jH) (ad : Nat → Nat) (tm tn : Int32) : Prop := h (ad 19) = some (jO 5 [.ref (ad 0), .ref (ad 1), .ref (ad 2), .ref (ad 3), .ref (ad 4), .ref (ad 5), .ref (ad 6), .ref (ad 7), .int tm, .int tn])
def mRow (g : jG) (h : jH) (ad : Nat → Nat) (t : MT) (f i : Nat) : Prop := ∃ s, h (ad (8 + 2 * f + i)) = some (jI g 0 10 s) ∧ ∀ p, p < 10 → s p = nI (t.1 f i p)
def mSid (g : jG) (h : jH) (ad : Nat → Nat) (t : MT) (f : Nat) : Prop := ∃ s, h (ad (f + 1)) = some (jI g 0 2 s) ∧ ∀ i, i < 2 → s i = nI (t.1 f i 0)
def mLst (g : jG) (h : jH) (ad e : Nat → Nat) (t : MT) (i : Nat) : Prop := ∃ cap, AL g h (ad (16 + i)) ((t.2 i).map (bxN g)) (e i) cap
/-- the Mats object at ad 19 is as t -/
def MatsAt (g : jG) (h : jH) (ad e : Nat → Nat) (t : MT) : Prop :=
  mDis h ad e ∧ mObj h ad (nI (t.1 7 0 0)) (nI (turn t)) ∧ (∀ f, f < 4 → h (ad f) = some (jQ g 5 2 (rowF ad f))) ∧ (∀ f i, f < 4 → i < 2 → mRow g h ad t f i) ∧
    (∀ f, 4 ≤ f → f < 7 → mSid g h ad t f) ∧ (∃ cap, AL g h (ad 4) [ad 16, ad 17] (ad 18) cap) ∧ ∀ i, i < 2 → mLst g h ad e t i
theorem mDis.ne {h : jH} {ad e : Nat → Nat} (D : mDis h ad e) {j k : Nat} (hj : j < 20) (hk : k < 20) (hjk : j ≠ k) : ad j ≠ ad k := fun z => hjk (D.1 j k hj hk z)
/-- a world behind, in which all places of the object are as they were -/
theorem MatsAt.keep {g : jG} {h h' : jH} {ad e : Nat → Nat} {t : MT} (A : MatsAt g h ad e t) (F : ∀ j, j < 20 → ∀ y, h (ad j) = some y → h' (ad j) = some y) (Fe : ∀ i, i < 2 → ∀ y, h (e i) = some y → h' (e i) = some y) (Fn : ∀ i, i < 2 → h (e i) = none → h' (e i) = none) : MatsAt g h' ad e t := by
  obtain ⟨⟨d1, d2, d3⟩, a1, a2, a3, a4, ⟨cap, a5⟩, a6⟩ := A
  have hb : ∀ i, i < 2 → ∀ y, h' (e i) = some y → ∃ y', h (e i) = some y' := fun i hi y hy => by
    cases z : h (e i) with
    | none => rw [Fn i hi z] at hy; cases hy
    | some y' => exact ⟨y', rfl⟩
  refine ⟨⟨d1, fun i y j hi hy hj => ?_, fun y hy => ?_⟩, F 19 (by decide) _ a1, fun f hf => F f (by omega) _ (a2 f hf), fun f i hf hi => ?_, fun f h1 h2 => ?_, ⟨cap, a5.keep (F 4 (by decide)) (F 18 (by decide))⟩, fun i hi => ?_⟩
  · obtain ⟨y', hy'⟩ := hb i hi y hy
    exact d2 i y' j hi hy' hj
  · obtain ⟨y', hy'⟩ := hb 0 (by decide) y hy
    exact d3 y' hy'
  · obtain ⟨s, b1, b2⟩ := a3 f i hf hi
    exact ⟨s, F _ (by omega) _ b1, b2⟩
  · obtain ⟨s, b1, b2⟩ := a4 f h1 h2
    exact ⟨s, F _ (by omega) _ b1, b2⟩
  · obtain ⟨c, b⟩ := a6 i hi
    exact ⟨c, b.keep (F _ (by omega)) (Fe i hi)⟩
/-- a number of a row written -/
theorem MatsAt.setI {g : jG} {h : jH} {ad e : Nat → Nat} {t : MT} (A : MatsAt g h ad e t) {f i p n : Nat} (hf : f < 4) (hi : i < 2) {s : Nat → Int32} (hs : h (ad (8 + 2 * f + i)) = some (jI g 0 10 s)) : MatsAt g (jup h (ad (8 + 2 * f + i)) (jI g 0 10 (va_up s p (nI n)))) ad e (tS t f i p n) := by
  obtain ⟨D, a1, a2, a3, a4, ⟨cap, a5⟩, a6⟩ := A
  have hne : ∀ j, j < 20 → j ≠ 8 + 2 * f + i → ad j ≠ ad (8 + 2 * f + i) := fun j h1 h2 => D.ne h1 (by omega) h2
  have F : ∀ j, j < 20 → j ≠ 8 + 2 * f + i → ∀ y, h (ad j) = some y → jup h (ad (8 + 2 * f + i)) (jI g 0 10 (va_up s p (nI n))) (ad j) = some y := fun j h1 h2 y hy => by rw [jup_ne (hne j h1 h2)]; exact hy
  have Fe : ∀ k, k < 2 → ∀ y, h (e k) = some y → jup h (ad (8 + 2 * f + i)) (jI g 0 10 (va_up s p (nI n))) (e k) = some y := fun k hk y hy => by rw [jup_ne (D.2.1 k y _ hk hy (by omega))]; exact hy
  have hb : ∀ k, k < 2 → ∀ y, jup h (ad (8 + 2 * f + i)) (jI g 0 10 (va_up s p (nI n))) (e k) = some y → ∃ y', h (e k) = some y' := fun k hk y hy => by
    by_cases z : e k = ad (8 + 2 * f + i)
    · exact ⟨_, by rw [z]; exact hs⟩
    · rw [jup_ne z] at hy; exact ⟨y, hy⟩
  obtain ⟨d1, d2, d3⟩ := D
  have o : ∀ k a b, k ≠ f → (tS t f i p n).1 k a b = t.1 k a b := fun k a b hk => tS_ne (Or.inl hk)
  refine ⟨⟨d1, fun k y j hk hy hj => ?_, fun y hy => ?_⟩, ?_, fun k hk => F k (by omega) (by omega) _ (a2 k hk), fun k m hk hm => ?_, fun k h1 h2 => ?_, ⟨cap, a5.keep (F 4 (by decide) (by omega)) (F 18 (by decide) (by omega))⟩, fun k hk => ?_⟩
  · obtain ⟨y', hy'⟩ := hb k hk y hy
    exact d2 k y' j hk hy' hj
  · obtain ⟨y', hy'⟩ := hb 0 (by decide) y hy
    exact d3 y' hy'
  · have e8 : turn (tS t f i p n) = turn t := by unfold turn; rw [o 8 0 0 (by omega)]
    unfold mObj
    rw [o 7 0 0 (by omega), e8]
    exact F 19 (by decide) (by omega) _ a1
  · obtain ⟨s', b1, b2⟩ := a3 k m hk hm
    by_cases z : 8 + 2 * k + m = 8 + 2 * f + i
    · have z1 : k = f := by omega
      have z2 : m = i := by omega
      subst z1
      subst z2
      rw [hs] at b1
      cases b1
      refine ⟨va_up s p (nI n), jup_eq, fun q hq => ?_⟩
      by_cases z3 : q = p
      · subst z3
        rw [va_up_self, tS_eq]
      · rw [va_up_ne _ _ z3, tS_ne (Or.inr (Or.inr z3))]
        exact b2 q hq
    · refine ⟨s', F _ (by omega) z _ b1, fun q hq => ?_⟩
      rw [tS_ne (by omega)]
      exact b2 q hq
  · obtain ⟨s', b1, b2⟩ := a4 k h1 h2
    exact ⟨s', F _ (by omega) (by omega) _ b1, fun q hq => by rw [o k q 0 (by omega)]; exact b2 q hq⟩
  · obtain ⟨c, b⟩ := a6 k hk
    exact ⟨c, b.keep (F _ (by omega) (by omega)) (Fe k hk)⟩
