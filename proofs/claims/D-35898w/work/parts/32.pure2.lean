set_option maxRecDepth 100000
/-! ===== PURE: steps, rows that come and go ===== -/
abbrev z3 : Stp3 := (0, 0, 0)
def whoI (s : Stp3) : Int32 := if s.1 = 0 then nI s.2.1 else -1
/-- the steps l of the event e, in the reference's arrays -/
def stRel (M : jM) (e : Nat) (l : List Stp3) : Prop := ∀ j, j < l.length → M.2 13 (14 * e + j) = nI (l.getD j z3).1 ∧ M.2 14 (14 * e + j) = whoI (l.getD j z3) ∧ M.2 15 (14 * e + j) = nI (l.getD j z3).2.2
def stOK (l : List Stp3) : Prop := l.length ≤ 14 ∧ ∀ j, j < l.length → (l.getD j z3).1 ≤ 6 ∧ ((l.getD j z3).1 = 0 → (l.getD j z3).2.1 < 10) ∧ (l.getD j z3).2.2 ≤ 300
theorem stRel.mo {M M' : jM} {e : Nat} {l : List Stp3} (h : stRel M e l) (ho : mO M M') : stRel M' e l := fun j hj => by
  rw [ho.2 13 (by decide), ho.2 14 (by decide), ho.2 15 (by decide)]
  exact h j hj
theorem take_s {l : List Stp3} {j : Nat} (h : j < l.length) : l.take (j + 1) = l.take j ++ [l.getD j z3] := by
  rw [List.take_succ, List.getD_eq_getElem?_getD, List.getElem?_eq_getElem h]
  rfl
theorem stN_s {l : List Stp3} {j k : Nat} (h : j < l.length) : stN (l.take (j + 1)) k = stN (l.take j) k + (if (l.getD j z3).1 = k then 1 else 0) := by
  unfold stN
  rw [take_s h, List.countP_append, List.countP_singleton]
  simp
theorem stN_le {l : List Stp3} {k : Nat} : stN l k ≤ l.length := List.countP_le_length
theorem stN_take {l : List Stp3} {j k : Nat} : stN (l.take j) k ≤ stN l k := by
  unfold stN
  exact List.Sublist.countP_le (List.take_sublist j l)
theorem comeN_s {i n : Nat} : ∀ {t : MT}, comeN t i (n + 1) = comeB (comeN t i n) i := by
  induction n with
  | zero => intro t; rfl
  | succ n ih => intro t; exact ih (t := comeB t i)
theorem comeB_len {t : MT} {i : Nat} : ((comeB t i).2 i).length = (t.2 i).length - 1 := by
  unfold comeB
  cases h : t.2 i with
  | nil => simp [h]
  | cons r l => simp [tR_eq]
theorem comeN_len {i n : Nat} : ∀ {t : MT}, ((comeN t i n).2 i).length = (t.2 i).length - n := by
  induction n with
  | zero => intro t; rfl
  | succ n ih => intro t; rw [comeN_s, comeB_len, ih]; omega
theorem outsAll_app {i : Nat} {b : List Stp3} : ∀ {a : List Stp3} {t : MT}, outsAll t i (a ++ b) = outsAll (outsAll t i a) i b := by
  intro a
  induction a with
  | nil => intro t; rfl
  | cons s l ih => intro t; exact ih
theorem goOut_row {t : MT} {i p : Nat} : (goOut t i p).2 i = t.2 i ++ [p] := tR_eq
theorem outsAll_len {i : Nat} : ∀ {l : List Stp3} {t : MT}, ((outsAll t i l).2 i).length = (t.2 i).length + stN l 0 := by
  intro l
  induction l with
  | nil => intro t; rfl
  | cons s l ih =>
    intro t
    show ((outsAll (if s.1 = 0 then goOut t i s.2.1 else t) i l).2 i).length = _
    rw [ih]
    by_cases h : s.1 = 0
    · rw [if_pos h, goOut_row]
      simp [stN, h]
      omega
    · rw [if_neg h]
      simp [stN, h]
/-- only what is in range counts -/
theorem SA.congr {s : Nat → Int32} {t t' : MT} (h : SA s t) (h1 : ∀ f i p, vr f i p → t'.1 f i p = t.1 f i p) (h2 : ∀ i, i < 2 → t'.2 i = t.2 i) : SA s t' := ⟨fun f i p hv => by rw [h1 f i p hv]; exact h.1 f i p hv, fun i hi => by rw [h2 i hi]; exact h.2 i hi⟩
def suspTo (t : MT) (k : Nat) : MT := (fun f i p => if f = 0 ∧ 10 * i + p < k ∧ p < 10 ∧ t.1 0 i p = 3 ∧ t.1 1 i p ≤ t.1 7 0 0 then 0 else t.1 f i p, t.2)
theorem suspTo_0 {t : MT} : suspTo t 0 = t := by
  unfold suspTo
  have : ∀ f i p : Nat, ¬ (f = 0 ∧ 10 * i + p < 0 ∧ p < 10 ∧ t.1 0 i p = 3 ∧ t.1 1 i p ≤ t.1 7 0 0) := by intro f i p; omega
  simp
theorem suspTo_s {t : MT} {i p v : Nat} (hp : p < 10) (hv : v = if t.1 0 i p = 3 ∧ t.1 1 i p ≤ t.1 7 0 0 then 0 else t.1 0 i p) : tS (suspTo t (10 * i + p)) 0 i p v = suspTo t (10 * i + p + 1) := by
  subst hv
  unfold suspTo tS
  refine Prod.ext ?_ rfl
  funext f j q
  dsimp only
  by_cases h : f = 0 ∧ j = i ∧ q = p
  · obtain ⟨rfl, rfl, rfl⟩ := h
    rw [if_pos ⟨rfl, rfl, rfl⟩]
    by_cases h3 : t.1 0 j q = 3 ∧ t.1 1 j q ≤ t.1 7 0 0
    · rw [if_pos h3, if_pos ⟨rfl, by omega, hp, h3.1, h3.2⟩]
    · rw [if_neg h3, if_neg (by omega)]
  · rw [if_neg h]
    by_cases h2 : f = 0 ∧ 10 * j + q < 10 * i + p ∧ q < 10 ∧ t.1 0 j q = 3 ∧ t.1 1 j q ≤ t.1 7 0 0
    · rw [if_pos h2, if_pos ⟨h2.1, by omega, h2.2.2⟩]
    · rw [if_neg h2, if_neg (by omega)]
theorem suspTo_20 {t : MT} {f i p : Nat} (hv : vr f i p) : (susp t).1 f i p = (suspTo t 20).1 f i p := by
  unfold susp suspTo
  dsimp only
  by_cases hf : f = 0
  · subst hf
    have h1 : i < 2 ∧ p < 10 := by unfold vr at hv; omega
    by_cases h3 : t.1 0 i p = 3 ∧ t.1 1 i p ≤ t.1 7 0 0
    · rw [if_pos ⟨rfl, h3.1, h3.2⟩, if_pos ⟨rfl, by omega, h1.2, h3.1, h3.2⟩]
    · rw [if_neg (by omega), if_neg (by omega)]
  · rw [if_neg (by omega), if_neg (by omega)]
theorem last_get {l : List Stp3} (h : l ≠ []) : l.getD (l.length - 1) z3 = lastOf l := by
  unfold lastOf
  have h1 : 0 < l.length := List.length_pos_iff.mpr h
  rw [List.getD_eq_getElem?_getD, List.getLastD_eq_getLast?, List.getLast?_eq_getElem?]
