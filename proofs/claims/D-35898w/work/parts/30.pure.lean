set_option maxRecDepth 100000
/-! ===== PURE: a match's mats as numbers. t.1 f i p: f 0 status, 1 until, 2 cards, 3 points as raider (side i, player p); 4 points, 5 empty raids, 6 changes (side i); 7 the time, 8 raids; t.2 i: the row of those out ===== -/
abbrev MT : Type := (Nat → Nat → Nat → Nat) × (Nat → List Nat)
def tS (t : MT) (f i p v : Nat) : MT := (fun f' i' p' => if f' = f ∧ i' = i ∧ p' = p then v else t.1 f' i' p', t.2)
def tR (t : MT) (i : Nat) (l : List Nat) : MT := (t.1, fun j => if j = i then l else t.2 j)
theorem tS_eq {t : MT} {f i p v : Nat} : (tS t f i p v).1 f i p = v := by simp [tS]
theorem tS_ne {t : MT} {f i p v f' i' p' : Nat} (h : f' ≠ f ∨ i' ≠ i ∨ p' ≠ p) : (tS t f i p v).1 f' i' p' = t.1 f' i' p' := by
  have : ¬ (f' = f ∧ i' = i ∧ p' = p) := by omega
  simp [tS, this]
theorem tS_get {t : MT} {f i p v f' i' p' : Nat} : (tS t f i p v).1 f' i' p' = if f' = f ∧ i' = i ∧ p' = p then v else t.1 f' i' p' := rfl
theorem tS_2 {t : MT} {f i p v : Nat} : (tS t f i p v).2 = t.2 := rfl
theorem tR_1 {t : MT} {i : Nat} {l : List Nat} : (tR t i l).1 = t.1 := rfl
theorem tR_eq {t : MT} {i : Nat} {l : List Nat} : (tR t i l).2 i = l := by simp [tR]
theorem tR_ne {t : MT} {i j : Nat} {l : List Nat} (h : j ≠ i) : (tR t i l).2 j = t.2 j := by simp [tR, h]
theorem tR_get {t : MT} {i j : Nat} {l : List Nat} : (tR t i l).2 j = if j = i then l else t.2 j := rfl
/-- the start -/
def mt0 : MT := (fun f _ p => if f = 0 ∧ 6 < p ∧ p < 10 then 1 else 0, fun _ => [])
/-- how many of a side have one status or the other -/
def tMany (t : MT) (i a b : Nat) : Nat := (List.range 10).countP (fun p => t.1 0 i p == a || t.1 0 i p == b)
def goOut (t : MT) (i p : Nat) : MT := tR (tS t 0 i p 2) i (t.2 i ++ [p])
def comeB (t : MT) (i : Nat) : MT := match t.2 i with
  | [] => t
  | r :: l => tR (tS t 0 i r 0) i l
def comeN (t : MT) (i : Nat) : Nat → MT
  | 0 => t
  | n + 1 => comeN (comeB t i) i n
/-- whoever has nobody on the mat is all out -/
def lookOut (t : MT) (i : Nat) : MT := if tMany t i 0 0 = 0 then comeN (tS t 4 (1 - i) 0 (t.1 4 (1 - i) 0 + 2)) i (t.2 i).length else t
def susp (t : MT) : MT := (fun f i p => if f = 0 ∧ t.1 0 i p = 3 ∧ t.1 1 i p ≤ t.1 7 0 0 then 0 else t.1 f i p, t.2)
/-- a step: kind, who, tenth -/
abbrev Stp3 : Type := Nat × Nat × Nat
def stN (l : List Stp3) (k : Nat) : Nat := l.countP (fun s => s.1 == k)
def turn (t : MT) : Nat := t.1 8 0 0 % 2
def raiderOut (t : MT) (i r pts : Nat) : MT := comeB (tS (goOut t i r) 4 (1 - i) 0 ((goOut t i r).1 4 (1 - i) 0 + pts)) (1 - i)
def outsAll (t : MT) (i : Nat) : List Stp3 → MT
  | [] => t
  | s :: l => outsAll (if s.1 = 0 then goOut t i s.2.1 else t) i l
def scored (t : MT) (i r n : Nat) : MT := tS (tS t 4 i 0 (t.1 4 i 0 + n)) 3 i r (t.1 3 i r + n)
/-- the raider comes back -/
def home (t : MT) (i r bonus : Nat) (l : List Stp3) : MT :=
  if (stN l 0 = 0 ∧ stN l 1 = 0 ∧ stN l 2 = 0) ∨ (stN l 0 + bonus = 0 ∧ t.1 5 i 0 = 2) then raiderOut (tS t 5 i 0 0) i r 1
  else if stN l 0 + bonus = 0 then tS t 5 i 0 (t.1 5 i 0 + 1)
  else comeN (outsAll (scored (tS t 5 i 0 0) i r (stN l 0 + bonus)) (1 - i) l) i (stN l 0)
def bonusOf (t : MT) (i : Nat) (l : List Stp3) : Nat := if 0 < stN l 1 ∧ 6 ≤ tMany t (1 - i) 0 3 then 1 else 0
def lastOf (l : List Stp3) : Stp3 := l.getLastD (0, 0, 0)
/-- what a raid does to the mats, ahead of the clock -/
def raidMid (t : MT) (i r : Nat) (l : List Stp3) : MT :=
  if (lastOf l).1 = 3 then home t i r (bonusOf t i l) l
  else raiderOut (scored (tS t 5 i 0 0) i r (bonusOf t i l)) i r (if (lastOf l).1 = 4 ∧ tMany t (1 - i) 0 3 ≤ 3 then 2 else 1)
def raidEnd (t : MT) (r : Nat) (l : List Stp3) : MT :=
  let u := lookOut (lookOut (raidMid t (turn t) r l) 0) 1
  susp (tS (tS u 7 0 0 (u.1 7 0 0 + (lastOf l).2.2)) 8 0 0 (u.1 8 0 0 + 1))
/-- the colour that a card comes to be -/
def itsCol (c col : Nat) : Nat := if col < 2 ∧ c.testBit col = true then (if col + 1 < 2 ∧ c.testBit (col + 1) = true then col + 2 else col + 1) else col
def cardCan (t : MT) (i p col : Nat) : Prop := t.1 0 i p = 0 ∧ (itsCol (t.1 2 i p) col = 0 ∨ tMany t i 3 4 < 3)
def cardDo (t : MT) (i p col : Nat) : MT :=
  let k := itsCol (t.1 2 i p) col
  let u := tS t 2 i p (t.1 2 i p ||| 2 ^ k)
  if 0 < k then lookOut (tS (tS (tS u 0 i p (if k = 1 then 3 else 4)) 1 i p (t.1 7 0 0 + 1200)) 4 (1 - i) 0 (t.1 4 (1 - i) 0 + (if k = 2 then 1 else 0))) i else u
def chgCan (t : MT) (i l c : Nat) : Prop := t.1 0 i l = 0 ∧ t.1 0 i c = 1 ∧ t.1 6 i 0 < 5
def chgDo (t : MT) (i l c : Nat) : MT := let u := tS (tS t 0 i l 1) 0 i c 0
  tS u 6 i 0 (u.1 6 i 0 + 1)
/-- whether a step can be told behind others -/
def stepOK (t : MT) (prev : List Stp3) (s : Stp3) : Prop := (s.1 = 0 → t.1 0 (1 - turn t) s.2.1 = 0) ∧ (∀ q ∈ prev, ¬ (q.1 = s.1 ∧ (s.1 = 0 → q.2.1 = s.2.1))) ∧ (s.1 = 6 → s.2.2 = 300)
def raidCan (t : MT) (lasts r : Nat) : Prop := t.1 7 0 0 < lasts ∧ t.1 0 (turn t) r = 0
def stepsOK (t : MT) (l : List Stp3) : Prop := ∀ j, j < l.length → stepOK t (l.take j) (l.getD j (0, 0, 0))
/-- an event: its kind (0 raid, 1 card, 2 change), three numbers, its steps -/
abbrev Ev5 : Type := Nat × Nat × Nat × Nat × List Stp3
def evCan (t : MT) (lasts : Nat) (e : Ev5) : Prop := if e.1 = 0 then raidCan t lasts e.2.1 ∧ stepsOK t e.2.2.2.2 else if e.1 = 1 then cardCan t e.2.1 e.2.2.1 e.2.2.2.1 else chgCan t e.2.1 e.2.2.1 e.2.2.2.1
def evDo (t : MT) (e : Ev5) : MT := if e.1 = 0 then raidEnd t e.2.1 e.2.2.2.2 else if e.1 = 1 then cardDo t e.2.1 e.2.2.1 e.2.2.2.1 else chgDo t e.2.1 e.2.2.1 e.2.2.2.1
/-- the mats behind events -/
def mtAt (evs : List Ev5) : MT := evs.foldl evDo mt0
/-- the reference's array s, as such a state -/
def ix (f i p : Nat) : Nat := if f = 0 then 10 * i + p else if f = 1 then 20 + 10 * i + p else if f = 2 then 40 + 10 * i + p else if f = 3 then 60 + 10 * i + p else if f = 4 then 104 + i else if f = 5 then 106 + i else if f = 6 then 102 + i else if f = 7 then 108 else 109
def vr (f i p : Nat) : Prop := (f < 4 ∧ i < 2 ∧ p < 10) ∨ (4 ≤ f ∧ f < 7 ∧ i < 2 ∧ p = 0) ∨ (7 ≤ f ∧ f < 9 ∧ i = 0 ∧ p = 0)
def rowOK (s : Nat → Int32) (i : Nat) (l : List Nat) : Prop := s (100 + i) = nI l.length ∧ l.length ≤ 10 ∧ ∀ k, k < l.length → s (80 + 10 * i + k) = nI (l.getD k 0) ∧ l.getD k 0 < 10
def SA (s : Nat → Int32) (t : MT) : Prop := (∀ f i p, vr f i p → s (ix f i p) = nI (t.1 f i p)) ∧ ∀ i, i < 2 → rowOK s i (t.2 i)
theorem ix_cs {f i p : Nat} (h : vr f i p) : (f = 0 ∧ i < 2 ∧ p < 10 ∧ ix f i p = 10 * i + p) ∨ (f = 1 ∧ i < 2 ∧ p < 10 ∧ ix f i p = 20 + 10 * i + p) ∨ (f = 2 ∧ i < 2 ∧ p < 10 ∧ ix f i p = 40 + 10 * i + p) ∨ (f = 3 ∧ i < 2 ∧ p < 10 ∧ ix f i p = 60 + 10 * i + p) ∨ (f = 4 ∧ i < 2 ∧ p = 0 ∧ ix f i p = 104 + i) ∨ (f = 5 ∧ i < 2 ∧ p = 0 ∧ ix f i p = 106 + i) ∨ (f = 6 ∧ i < 2 ∧ p = 0 ∧ ix f i p = 102 + i) ∨ (f = 7 ∧ i = 0 ∧ p = 0 ∧ ix f i p = 108) ∨ (f = 8 ∧ i = 0 ∧ p = 0 ∧ ix f i p = 109) := by
  unfold vr at h
  have key : f = 0 ∨ f = 1 ∨ f = 2 ∨ f = 3 ∨ f = 4 ∨ f = 5 ∨ f = 6 ∨ f = 7 ∨ f = 8 := by omega
  rcases key with rfl | rfl | rfl | rfl | rfl | rfl | rfl | rfl | rfl <;> simp [ix] at h ⊢ <;> omega
theorem ix_inj {f i p f' i' p' : Nat} (h : vr f i p) (h' : vr f' i' p') (e : ix f i p = ix f' i' p') : f = f' ∧ i = i' ∧ p = p' := by
  have a := ix_cs h
  have b := ix_cs h'
  rw [e] at a
  generalize ix f' i' p' = n at a b
  omega
theorem ix_row {f i p : Nat} (h : vr f i p) : ix f i p < 110 ∧ (ix f i p < 80 ∨ 102 ≤ ix f i p) := by
  have a := ix_cs h
  omega
theorem SA.put {s : Nat → Int32} {t : MT} (h : SA s t) {f i p e v : Nat} (hv : vr f i p) (he : e = ix f i p) : SA (upd s e (nI v)) (tS t f i p v) := by
  subst he
  refine ⟨fun f' i' p' hv' => ?_, fun j hj => ?_⟩
  · by_cases hc : f' = f ∧ i' = i ∧ p' = p
    · obtain ⟨rfl, rfl, rfl⟩ := hc
      rw [pk_us, tS_eq]
    · rw [pk_un (fun z => hc (ix_inj hv' hv z)), tS_ne (by omega)]
      exact h.1 f' i' p' hv'
  · have hr := ix_row hv
    obtain ⟨h1, h2, h3⟩ := h.2 j hj
    refine ⟨?_, h2, fun k hk => ?_⟩
    · rw [pk_un (by omega)]; exact h1
    · rw [tS_2] at hk
      rw [pk_un (by omega)]; exact h3 k hk
theorem SA.st {s : Nat → Int32} {t : MT} (h : SA s t) {i p e : Nat} (hi : i < 2) (hp : p < 10) (he : e = 10 * i + p) : s e = nI (t.1 0 i p) := by subst he; exact h.1 0 i p (Or.inl ⟨by decide, hi, hp⟩)
theorem SA.un {s : Nat → Int32} {t : MT} (h : SA s t) {i p e : Nat} (hi : i < 2) (hp : p < 10) (he : e = 20 + 10 * i + p) : s e = nI (t.1 1 i p) := by subst he; exact h.1 1 i p (Or.inl ⟨by decide, hi, hp⟩)
theorem SA.ca {s : Nat → Int32} {t : MT} (h : SA s t) {i p e : Nat} (hi : i < 2) (hp : p < 10) (he : e = 40 + 10 * i + p) : s e = nI (t.1 2 i p) := by subst he; exact h.1 2 i p (Or.inl ⟨by decide, hi, hp⟩)
theorem SA.ra {s : Nat → Int32} {t : MT} (h : SA s t) {i p e : Nat} (hi : i < 2) (hp : p < 10) (he : e = 60 + 10 * i + p) : s e = nI (t.1 3 i p) := by subst he; exact h.1 3 i p (Or.inl ⟨by decide, hi, hp⟩)
theorem SA.po {s : Nat → Int32} {t : MT} (h : SA s t) {i e : Nat} (hi : i < 2) (he : e = 104 + i) : s e = nI (t.1 4 i 0) := by subst he; exact h.1 4 i 0 (Or.inr (Or.inl ⟨by decide, by decide, hi, rfl⟩))
theorem SA.em {s : Nat → Int32} {t : MT} (h : SA s t) {i e : Nat} (hi : i < 2) (he : e = 106 + i) : s e = nI (t.1 5 i 0) := by subst he; exact h.1 5 i 0 (Or.inr (Or.inl ⟨by decide, by decide, hi, rfl⟩))
theorem SA.ch {s : Nat → Int32} {t : MT} (h : SA s t) {i e : Nat} (hi : i < 2) (he : e = 102 + i) : s e = nI (t.1 6 i 0) := by subst he; exact h.1 6 i 0 (Or.inr (Or.inl ⟨by decide, by decide, hi, rfl⟩))
theorem SA.ti {s : Nat → Int32} {t : MT} (h : SA s t) : s 108 = nI (t.1 7 0 0) := h.1 7 0 0 (Or.inr (Or.inr ⟨by decide, by decide, rfl, rfl⟩))
theorem SA.nr {s : Nat → Int32} {t : MT} (h : SA s t) : s 109 = nI (t.1 8 0 0) := h.1 8 0 0 (Or.inr (Or.inr ⟨by decide, by decide, rfl, rfl⟩))
theorem SA.many {s : Nat → Int32} {t : MT} (h : SA s t) {i e : Nat} (hi : i < 2) (he : e = 100 + i) : s e = nI (t.2 i).length := by subst he; exact (h.2 i hi).1
theorem SA.len {s : Nat → Int32} {t : MT} (h : SA s t) {i : Nat} (hi : i < 2) : (t.2 i).length ≤ 10 := (h.2 i hi).2.1
theorem SA.row {s : Nat → Int32} {t : MT} (h : SA s t) {i k e : Nat} (hi : i < 2) (hk : k < (t.2 i).length) (he : e = 80 + 10 * i + k) : s e = nI ((t.2 i).getD k 0) := by subst he; exact ((h.2 i hi).2.2 k hk).1
theorem SA.pst {s : Nat → Int32} {t : MT} (h : SA s t) {i p e v : Nat} (hi : i < 2) (hp : p < 10) (he : e = 10 * i + p) : SA (upd s e (nI v)) (tS t 0 i p v) := h.put (Or.inl ⟨by decide, hi, hp⟩) he
theorem SA.pun {s : Nat → Int32} {t : MT} (h : SA s t) {i p e v : Nat} (hi : i < 2) (hp : p < 10) (he : e = 20 + 10 * i + p) : SA (upd s e (nI v)) (tS t 1 i p v) := h.put (Or.inl ⟨by decide, hi, hp⟩) he
theorem SA.pca {s : Nat → Int32} {t : MT} (h : SA s t) {i p e v : Nat} (hi : i < 2) (hp : p < 10) (he : e = 40 + 10 * i + p) : SA (upd s e (nI v)) (tS t 2 i p v) := h.put (Or.inl ⟨by decide, hi, hp⟩) he
theorem SA.pra {s : Nat → Int32} {t : MT} (h : SA s t) {i p e v : Nat} (hi : i < 2) (hp : p < 10) (he : e = 60 + 10 * i + p) : SA (upd s e (nI v)) (tS t 3 i p v) := h.put (Or.inl ⟨by decide, hi, hp⟩) he
theorem SA.ppo {s : Nat → Int32} {t : MT} (h : SA s t) {i e v : Nat} (hi : i < 2) (he : e = 104 + i) : SA (upd s e (nI v)) (tS t 4 i 0 v) := h.put (Or.inr (Or.inl ⟨by decide, by decide, hi, rfl⟩)) he
theorem SA.pem {s : Nat → Int32} {t : MT} (h : SA s t) {i e v : Nat} (hi : i < 2) (he : e = 106 + i) : SA (upd s e (nI v)) (tS t 5 i 0 v) := h.put (Or.inr (Or.inl ⟨by decide, by decide, hi, rfl⟩)) he
theorem SA.pch {s : Nat → Int32} {t : MT} (h : SA s t) {i e v : Nat} (hi : i < 2) (he : e = 102 + i) : SA (upd s e (nI v)) (tS t 6 i 0 v) := h.put (Or.inr (Or.inl ⟨by decide, by decide, hi, rfl⟩)) he
theorem SA.pti {s : Nat → Int32} {t : MT} (h : SA s t) {v : Nat} : SA (upd s 108 (nI v)) (tS t 7 0 0 v) := h.put (Or.inr (Or.inr ⟨by decide, by decide, rfl, rfl⟩)) rfl
theorem SA.pnr {s : Nat → Int32} {t : MT} (h : SA s t) {v : Nat} : SA (upd s 109 (nI v)) (tS t 8 0 0 v) := h.put (Or.inr (Or.inr ⟨by decide, by decide, rfl, rfl⟩)) rfl
/-- a state by another name -/
theorem SA.to {s s' : Nat → Int32} {t : MT} (h : SA s t) (e : ∀ j, j < 110 → s' j = s j) : SA s' t := by
  refine ⟨fun f i p hv => ?_, fun i hi => ?_⟩
  · rw [e _ (ix_row hv).1]; exact h.1 f i p hv
  · obtain ⟨h1, h2, h3⟩ := h.2 i hi
    refine ⟨by rw [e _ (by omega)]; exact h1, h2, fun k hk => by rw [e _ (by omega)]; exact h3 k hk⟩
/-- one more in a row: the place is written first, then the number -/
theorem SA.push {s : Nat → Int32} {t : MT} (h : SA s t) {i p e e' : Nat} (hi : i < 2) (hp : p < 10) (hl : (t.2 i).length < 10) (he : e = 80 + 10 * i + (t.2 i).length) (he' : e' = 100 + i) : SA (upd (upd s e (nI p)) e' (nI ((t.2 i).length + 1))) (tR t i (t.2 i ++ [p])) := by
  subst he; subst he'
  refine ⟨fun f j q hv => ?_, fun j hj => ?_⟩
  · have hr := ix_row hv
    rw [pk_un (by omega), pk_un (by omega), tR_1]; exact h.1 f j q hv
  · obtain ⟨h1, h2, h3⟩ := h.2 j hj
    by_cases hji : j = i
    · subst hji
      rw [tR_eq]
      refine ⟨by rw [pk_us]; simp, by simp; omega, fun k hk => ?_⟩
      simp only [List.length_append, List.length_cons, List.length_nil] at hk
      by_cases hkl : k = (t.2 j).length
      · subst hkl
        rw [pk_un (by omega), pk_us]
        simp [hp]
      · have hlt : k < (t.2 j).length := by omega
        have e1 : (t.2 j ++ [p]).getD k 0 = (t.2 j).getD k 0 := by simp [List.getD_eq_getElem?_getD, List.getElem?_append_left hlt]
        rw [e1, pk_un (by omega), pk_un (by omega)]
        exact h3 k hlt
    · rw [tR_ne hji]
      refine ⟨by rw [pk_un (by omega), pk_un (by omega)]; exact h1, h2, fun k hk => by rw [pk_un (by omega), pk_un (by omega)]; exact h3 k hk⟩
/-- the first of a row is gone: the number first, then the places up to k moved -/
def rowMv (s : Nat → Int32) (i k : Nat) : Nat → Int32 := fun j => if 80 + 10 * i ≤ j ∧ j < 80 + 10 * i + k then s (j + 1) else s j
theorem rowMv_0 {s : Nat → Int32} {i : Nat} : rowMv s i 0 = s := by
  funext j
  unfold rowMv
  rw [if_neg (by omega)]
theorem rowMv_s {s : Nat → Int32} {i k e : Nat} {v : Int32} (he : e = 80 + 10 * i + k) (hv : v = s (80 + 10 * i + k + 1)) : upd (rowMv s i k) e v = rowMv s i (k + 1) := by
  subst he; subst hv
  funext j
  by_cases hj : j = 80 + 10 * i + k
  · subst hj
    rw [pk_us]
    unfold rowMv
    rw [if_pos (by omega)]
  · rw [pk_un hj]
    unfold rowMv
    by_cases h2 : 80 + 10 * i ≤ j ∧ j < 80 + 10 * i + k
    · rw [if_pos h2, if_pos (by omega)]
    · rw [if_neg h2, if_neg (by omega)]
theorem SA.drop {s : Nat → Int32} {t : MT} (h : SA s t) {i r e : Nat} {l : List Nat} (hi : i < 2) (hl : t.2 i = r :: l) (he : e = 100 + i) : SA (rowMv (upd s e (nI l.length)) i l.length) (tR t i l) := by
  subst he
  have hlen := h.len hi
  rw [hl] at hlen
  simp only [List.length_cons] at hlen
  refine ⟨fun f j q hv => ?_, fun j hj => ?_⟩
  · have hr := ix_row hv
    unfold rowMv
    rw [if_neg (by omega), pk_un (by omega), tR_1]
    exact h.1 f j q hv
  · obtain ⟨h1, h2, h3⟩ := h.2 j hj
    by_cases hji : j = i
    · subst hji
      rw [hl] at h1 h2 h3
      rw [tR_eq]
      refine ⟨by unfold rowMv; rw [if_neg (by omega), pk_us], by omega, fun k hk => ?_⟩
      have h4 := h3 (k + 1) (by simp; omega)
      unfold rowMv
      rw [if_pos (by omega), pk_un (by omega)]
      simpa [Nat.add_assoc] using h4
    · rw [tR_ne hji]
      refine ⟨by unfold rowMv; rw [if_neg (by omega), pk_un (by omega)]; exact h1, h2, fun k hk => ?_⟩
      unfold rowMv
      rw [if_neg (by omega), pk_un (by omega)]
      exact h3 k hk
