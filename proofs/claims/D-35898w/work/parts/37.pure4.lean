set_option maxRecDepth 100000
/-! ===== PURE: what holds of mats behind events ===== -/
theorem nodup_le {n : Nat} : ∀ {l : List Nat}, l.Nodup → (∀ x ∈ l, x < n) → l.length ≤ n := by
  induction n with
  | zero =>
    intro l _ h
    cases l with
    | nil => exact Nat.le_refl _
    | cons a l => exact absurd (h a (List.mem_cons_self ..)) (Nat.not_lt_zero _)
  | succ n ih =>
    intro l hn h
    have h1 : (l.erase n).length ≤ n := by
      refine ih (hn.erase n) fun x hx => ?_
      have hm := (hn.mem_erase_iff).mp hx
      have := h x hm.2
      have := hm.1
      omega
    by_cases hm : n ∈ l
    · have := List.length_erase_of_mem hm
      omega
    · rw [List.erase_of_not_mem hm] at h1
      omega
/-- a count where one place is other than before -/
theorem cnt_set {P Q : Nat → Bool} {p : Nat} (hQ : ∀ q, q ≠ p → Q q = P q) : ∀ {n : Nat}, (List.range n).countP Q + (if p < n ∧ P p = true then 1 else 0) = (List.range n).countP P + (if p < n ∧ Q p = true then 1 else 0) := by
  intro n
  induction n with
  | zero => simp
  | succ n ih =>
    rw [cnt_s, cnt_s]
    by_cases hp : p = n
    · subst hp
      simp only [Nat.lt_irrefl, false_and, if_false, Nat.add_zero] at ih
      simp only [Nat.lt_succ_self, true_and]
      omega
    · rw [hQ n (fun z => hp z.symm)]
      by_cases h1 : p < n
      · simp only [h1, true_and, show p < n + 1 by omega] at ih ⊢
        omega
      · simp only [h1, false_and, if_false, show ¬ p < n + 1 by omega] at ih ⊢
        omega
def i2 (p : Prop) [Decidable p] : Nat := if p then 1 else 0
theorem tMany_set {t : MT} {i p v a b : Nat} (hp : p < 10) : tMany (tS t 0 i p v) i a b + i2 (t.1 0 i p = a ∨ t.1 0 i p = b) = tMany t i a b + i2 (v = a ∨ v = b) := by
  have := cnt_set (P := fun p => t.1 0 i p == a || t.1 0 i p == b) (Q := fun q => (tS t 0 i p v).1 0 i q == a || (tS t 0 i p v).1 0 i q == b) (p := p) (fun q hq => by rw [tS_ne (Or.inr (Or.inr hq))]) (n := 10)
  simp only [tS_eq, hp, true_and, Bool.or_eq_true, beq_iff_eq] at this
  exact this
theorem tMany_o {t : MT} {f i p v j a b : Nat} (h : f ≠ 0 ∨ j ≠ i) : tMany (tS t f i p v) j a b = tMany t j a b := by
  unfold tMany
  congr 1
  funext q
  rw [tS_ne (by omega)]
theorem tMany_r {t : MT} {i j a b : Nat} {l : List Nat} : tMany (tR t i l) j a b = tMany t j a b := rfl
theorem tMany_all {t : MT} (hB : stB t) {i : Nat} : tMany t i 0 0 + tMany t i 1 1 + tMany t i 2 2 + tMany t i 3 4 = 10 := by
  have key : ∀ n : Nat, (List.range n).countP (fun p => t.1 0 i p == 0 || t.1 0 i p == 0) + (List.range n).countP (fun p => t.1 0 i p == 1 || t.1 0 i p == 1) + (List.range n).countP (fun p => t.1 0 i p == 2 || t.1 0 i p == 2) + (List.range n).countP (fun p => t.1 0 i p == 3 || t.1 0 i p == 4) = n := by
    intro n
    induction n with
    | zero => rfl
    | succ n ih =>
      rw [cnt_s, cnt_s, cnt_s, cnt_s]
      have := hB i n
      have e : t.1 0 i n = 0 ∨ t.1 0 i n = 1 ∨ t.1 0 i n = 2 ∨ t.1 0 i n = 3 ∨ t.1 0 i n = 4 := by omega
      generalize (List.range n).countP (fun p => t.1 0 i p == 0 || t.1 0 i p == 0) = A at ih ⊢
      generalize (List.range n).countP (fun p => t.1 0 i p == 1 || t.1 0 i p == 1) = A1 at ih ⊢
      generalize (List.range n).countP (fun p => t.1 0 i p == 2 || t.1 0 i p == 2) = A2 at ih ⊢
      generalize (List.range n).countP (fun p => t.1 0 i p == 3 || t.1 0 i p == 4) = A3 at ih ⊢
      rcases e with e | e | e | e | e <;> simp [e] <;> omega
  exact key 10
theorem tMany_pos {t : MT} {i a : Nat} (h : 0 < tMany t i a a) : ∃ p, p < 10 ∧ t.1 0 i p = a := by
  obtain ⟨p, hp, h2⟩ := List.countP_pos_iff.mp h
  exact ⟨p, List.mem_range.mp hp, by simpa using h2⟩
theorem tMany_in {t : MT} {i a p : Nat} (hp : p < 10) (h : t.1 0 i p = a) : 0 < tMany t i a a := List.countP_pos_iff.mpr ⟨p, List.mem_range.mpr hp, by simp [h]⟩
/-- the rows hold just those out, each once -/
def RW (t : MT) : Prop := ∀ i, i < 2 → (t.2 i).Nodup ∧ ∀ p, p ∈ t.2 i ↔ p < 10 ∧ t.1 0 i p = 2
def cB (t : MT) : Prop := ∀ i p, t.1 2 i p < 8
def ML (t : MT) : Prop := ∀ i, i < 2 → tMany t i 1 1 = 3 ∧ tMany t i 3 4 ≤ 3
def I0 (t : MT) : Prop := stB t ∧ cB t ∧ RW t ∧ ML t
def ON1 (t : MT) (i : Nat) : Prop := 0 < tMany t i 0 0
def Bd (t : MT) (b : Nat) : Prop := ∀ f i p, t.1 f i p ≤ b
def Inv (t : MT) (b : Nat) : Prop := I0 t ∧ (∀ i, i < 2 → ON1 t i) ∧ Bd t b
theorem I0.set {t : MT} (h : I0 t) {f i p v : Nat} (h0 : f ≠ 0) (h2 : f ≠ 2) : I0 (tS t f i p v) := by
  refine ⟨h.1.set (fun z => absurd z h0), fun j q => ?_, fun j hj => ⟨(h.2.2.1 j hj).1, fun q => ?_⟩, fun j hj => ?_⟩
  · rw [tS_ne (by omega)]; exact h.2.1 j q
  · rw [tS_ne (by omega)]; exact (h.2.2.1 j hj).2 q
  · rw [tMany_o (by omega), tMany_o (by omega)]; exact h.2.2.2 j hj
theorem I0.go {t : MT} (h : I0 t) {i p : Nat} (hi : i < 2) (hp : p < 10) (hs : t.1 0 i p = 0) : I0 (goOut t i p) := by
  refine ⟨h.1.go, fun j q => ?_, fun j hj => ?_, fun j hj => ?_⟩
  · show (tS t 0 i p 2).1 2 j q < 8
    rw [tS_ne (by omega)]; exact h.2.1 j q
  · obtain ⟨h1, h2⟩ := h.2.2.1 j hj
    show ((tR (tS t 0 i p 2) i (t.2 i ++ [p])).2 j).Nodup ∧ ∀ q, q ∈ (tR (tS t 0 i p 2) i (t.2 i ++ [p])).2 j ↔ q < 10 ∧ (tS t 0 i p 2).1 0 j q = 2
    by_cases hji : j = i
    · subst hji
      rw [tR_eq]
      have hn : p ∉ t.2 j := fun hm => by have := ((h2 p).mp hm).2; omega
      refine ⟨?_, fun q => ?_⟩
      · rw [List.nodup_append]
        refine ⟨h1, by simp, fun a ha b hb => ?_⟩
        simp only [List.mem_singleton] at hb
        subst hb
        intro z; subst z; exact hn ha
      · rw [tS_get, List.mem_append, h2 q, List.mem_singleton]
        by_cases hq : q = p
        · subst hq; simp [hp]
        · simp [hq]
    · rw [tR_ne hji]
      refine ⟨h1, fun q => ?_⟩
      rw [tS_ne (by omega)]; exact h2 q
  · show tMany (tS t 0 i p 2) j 1 1 = 3 ∧ tMany (tS t 0 i p 2) j 3 4 ≤ 3
    by_cases hji : j = i
    · subst hji
      have e1 := tMany_set (t := t) (i := j) (p := p) (v := 2) (a := 1) (b := 1) hp
      have e2 := tMany_set (t := t) (i := j) (p := p) (v := 2) (a := 3) (b := 4) hp
      rw [hs] at e1 e2
      simp [i2] at e1 e2
      have := h.2.2.2 j hj
      omega
    · rw [tMany_o (Or.inr hji), tMany_o (Or.inr hji)]; exact h.2.2.2 j hj
theorem I0.come {t : MT} (h : I0 t) {i : Nat} (hi : i < 2) : I0 (comeB t i) := by
  unfold comeB
  cases hr : t.2 i with
  | nil => exact h
  | cons r l =>
    obtain ⟨h1, h2⟩ := h.2.2.1 i hi
    rw [hr] at h1 h2
    have hr2 := (h2 r).mp (List.mem_cons_self ..)
    refine ⟨(h.1.set (fun _ => by decide)).row, fun j q => ?_, fun j hj => ?_, fun j hj => ?_⟩
    · show (tS t 0 i r 0).1 2 j q < 8
      rw [tS_ne (by omega)]; exact h.2.1 j q
    · show ((tR (tS t 0 i r 0) i l).2 j).Nodup ∧ ∀ q, q ∈ (tR (tS t 0 i r 0) i l).2 j ↔ q < 10 ∧ (tS t 0 i r 0).1 0 j q = 2
      by_cases hji : j = i
      · subst hji
        rw [tR_eq]
        refine ⟨(List.nodup_cons.mp h1).2, fun q => ?_⟩
        have h3 := h2 q
        rw [tS_get]
        by_cases hq : q = r
        · subst hq
          simp [(List.nodup_cons.mp h1).1]
        · simp [hq] at h3 ⊢
          exact h3
      · rw [tR_ne hji]
        refine ⟨(h.2.2.1 j hj).1, fun q => ?_⟩
        rw [tS_ne (by omega)]; exact (h.2.2.1 j hj).2 q
    · show tMany (tS t 0 i r 0) j 1 1 = 3 ∧ tMany (tS t 0 i r 0) j 3 4 ≤ 3
      by_cases hji : j = i
      · subst hji
        have e1 := tMany_set (t := t) (i := j) (p := r) (v := 0) (a := 1) (b := 1) hr2.1
        have e2 := tMany_set (t := t) (i := j) (p := r) (v := 0) (a := 3) (b := 4) hr2.1
        rw [hr2.2] at e1 e2
        simp [i2] at e1 e2
        have := h.2.2.2 j hj
        omega
      · rw [tMany_o (Or.inr hji), tMany_o (Or.inr hji)]; exact h.2.2.2 j hj
theorem I0.comeN {i n : Nat} (hi : i < 2) : ∀ {t : MT}, I0 t → I0 (comeN t i n) := by
  induction n with
  | zero => intro t h; exact h
  | succ n ih => intro t h; exact ih (h.come hi)
theorem I0.look {t : MT} (h : I0 t) {i : Nat} (hi : i < 2) : I0 (lookOut t i) := by
  unfold lookOut
  split
  · exact I0.comeN hi (h.set (by decide) (by decide))
  · exact h
/-- who is on the mat after a side came back -/
theorem on_come {t : MT} (h : I0 t) {i : Nat} (hi : i < 2) (j : Nat) : tMany t j 0 0 ≤ tMany (comeB t i) j 0 0 ∧ (t.2 i ≠ [] → 0 < tMany (comeB t i) i 0 0) := by
  unfold comeB
  cases hr : t.2 i with
  | nil => exact ⟨Nat.le_refl _, fun z => absurd rfl z⟩
  | cons r l =>
    have hr2 := ((h.2.2.1 i hi).2 r).mp (by rw [hr]; exact List.mem_cons_self ..)
    refine ⟨?_, fun _ => tMany_in hr2.1 tS_eq⟩
    show _ ≤ tMany (tS t 0 i r 0) j 0 0
    by_cases hji : j = i
    · subst hji
      have e1 := tMany_set (t := t) (i := j) (p := r) (v := 0) (a := 0) (b := 0) hr2.1
      rw [hr2.2] at e1
      simp [i2] at e1
      omega
    · rw [tMany_o (Or.inr hji)]; exact Nat.le_refl _
theorem on_comeN {i n : Nat} (hi : i < 2) : ∀ {t : MT}, I0 t → ∀ j, tMany t j 0 0 ≤ tMany (comeN t i n) j 0 0 := by
  induction n with
  | zero => intro t h j; exact Nat.le_refl _
  | succ n ih => intro t h j; exact Nat.le_trans (on_come h hi j).1 (ih (h.come hi) j)
theorem on_look {t : MT} (h : I0 t) {i : Nat} (hi : i < 2) : ON1 (lookOut t i) i ∧ ∀ j, ON1 t j → ON1 (lookOut t i) j := by
  have hJ : ∀ j, ON1 t j → ON1 (lookOut t i) j := fun j hj => by
    unfold lookOut
    split
    · refine Nat.lt_of_lt_of_le ?_ (on_comeN hi (h.set (by decide) (by decide)) j)
      rw [tMany_o (by omega)]; exact hj
    · exact hj
  refine ⟨?_, hJ⟩
  by_cases h0 : tMany t i 0 0 = 0
  · unfold lookOut
    rw [if_pos h0]
    have h1 := tMany_all h.1 (i := i)
    have h2 := h.2.2.2 i hi
    obtain ⟨p, hp, hp2⟩ := tMany_pos (t := t) (i := i) (a := 2) (by omega)
    have hm := ((h.2.2.1 i hi).2 p).mpr ⟨hp, hp2⟩
    have hne : t.2 i ≠ [] := fun z => by rw [z] at hm; exact absurd hm (List.not_mem_nil)
    cases hl : (t.2 i).length with
    | zero => exact absurd (List.length_eq_zero_iff.mp hl) hne
    | succ n =>
      have hI := h.set (f := 4) (i := 1 - i) (p := 0) (v := t.1 4 (1 - i) 0 + 2) (by decide) (by decide)
      show 0 < tMany (_root_.Jvm.Pilot.CRaidhallLaw_law_r3669_67c336.comeN (comeB (tS t 4 (1 - i) 0 (t.1 4 (1 - i) 0 + 2)) i) i n) i 0 0
      exact Nat.lt_of_lt_of_le ((on_come hI hi i).2 hne) (on_comeN hi (hI.come hi) i)
  · exact hJ i (Nat.pos_of_ne_zero h0)
theorem look_id {t : MT} {i : Nat} (h : ON1 t i) : lookOut t i = t := by
  unfold lookOut
  rw [if_neg (by unfold ON1 at h; omega)]
/-- the touched of a raid -/
def tch (l : List Stp3) : List Nat := (l.filter (fun s => s.1 == 0)).map (fun s => s.2.1)
theorem tch_len {l : List Stp3} : (tch l).length = stN l 0 := by unfold tch stN; rw [List.length_map, List.countP_eq_length_filter]
theorem tch_mem {l : List Stp3} {p : Nat} : p ∈ tch l ↔ ∃ s, s ∈ l ∧ s.1 = 0 ∧ s.2.1 = p := by
  unfold tch
  simp [List.mem_map, List.mem_filter, and_assoc]
theorem tch_app {l : List Stp3} {s : Stp3} : tch (l ++ [s]) = tch l ++ (if s.1 = 0 then [s.2.1] else []) := by
  unfold tch
  rw [List.filter_append, List.map_append]
  by_cases h : s.1 = 0 <;> simp [h]
theorem steps_tch {t : MT} {l : List Stp3} (h : stepsOK t l) : (tch l).Nodup ∧ ∀ p ∈ tch l, t.1 0 (1 - turn t) p = 0 := by
  have key : ∀ j, j ≤ l.length → (tch (l.take j)).Nodup ∧ ∀ p ∈ tch (l.take j), t.1 0 (1 - turn t) p = 0 := by
    intro j
    induction j with
    | zero => intro _; exact ⟨List.nodup_nil, fun p hp => absurd hp (List.not_mem_nil)⟩
    | succ j ih =>
      intro hj
      obtain ⟨h1, h2⟩ := ih (by omega)
      obtain ⟨a, b, c⟩ := h j (by omega)
      rw [take_s (by omega), tch_app]
      by_cases h0 : (l.getD j z3).1 = 0
      · rw [if_pos h0]
        refine ⟨?_, fun p hp => ?_⟩
        · rw [List.nodup_append]
          refine ⟨h1, by simp, fun x hx y hy => ?_⟩
          simp only [List.mem_singleton] at hy
          subst hy
          intro z
          obtain ⟨q, hq, hq1, hq2⟩ := tch_mem.mp hx
          exact b q hq ⟨by rw [hq1]; exact h0.symm, fun _ => by rw [hq2]; exact z⟩
        · rcases List.mem_append.mp hp with hp | hp
          · exact h2 p hp
          · simp only [List.mem_singleton] at hp
            subst hp
            exact a h0
      · rw [if_neg h0, List.append_nil]; exact ⟨h1, h2⟩
  have := key l.length (Nat.le_refl _)
  rwa [List.take_length] at this
theorem stOK_tch {l : List Stp3} (hK : stOK l) : ∀ p ∈ tch l, p < 10 := by
  intro p hp
  obtain ⟨s, hs, h0, h1⟩ := tch_mem.mp hp
  obtain ⟨j, hj, rfl⟩ := List.mem_iff_getElem.mp hs
  have e : l.getD j z3 = l[j] := by rw [List.getD_eq_getElem?_getD, List.getElem?_eq_getElem hj]; rfl
  have := (hK.2 j hj).2.1
  rw [e, h1] at this
  exact this h0
def gos (t : MT) (i : Nat) : List Nat → MT
  | [] => t
  | p :: l => gos (goOut t i p) i l
theorem outs_gos {i : Nat} : ∀ {l : List Stp3} {t : MT}, outsAll t i l = gos t i (tch l) := by
  intro l
  induction l with
  | nil => intro t; rfl
  | cons s l ih =>
    intro t
    show outsAll (if s.1 = 0 then goOut t i s.2.1 else t) i l = _
    rw [ih]
    by_cases h : s.1 = 0
    · rw [if_pos h]
      have : tch (s :: l) = s.2.1 :: tch l := by simp [tch, h]
      rw [this]; rfl
    · rw [if_neg h]
      have : tch (s :: l) = tch l := by simp [tch, h]
      rw [this]
theorem I0.gos {i : Nat} (hi : i < 2) : ∀ {l : List Nat} {t : MT}, I0 t → l.Nodup → (∀ p ∈ l, p < 10 ∧ t.1 0 i p = 0) → I0 (gos t i l) := by
  intro l
  induction l with
  | nil => intro t h _ _; exact h
  | cons p l ih =>
    intro t h hn hp
    obtain ⟨hn1, hn2⟩ := List.nodup_cons.mp hn
    have hp1 := hp p (List.mem_cons_self ..)
    refine ih (h.go hi hp1.1 hp1.2) hn2 fun q hq => ⟨(hp q (List.mem_cons_of_mem _ hq)).1, ?_⟩
    show (tS t 0 i p 2).1 0 i q = 0
    rw [tS_ne (Or.inr (Or.inr (fun z : q = p => hn1 (z ▸ hq))))]
    exact (hp q (List.mem_cons_of_mem _ hq)).2
/-- there is room in the rows -/
theorem caps {t : MT} (h : RW t) {n r : Nat} {l : List Stp3} (hc : raidCan t n r) (hs : stepsOK t l) (hr : r < 10) (hK : stOK l) : (t.2 (turn t)).length < 10 ∧ (t.2 (1 - turn t)).length + stN l 0 ≤ 10 := by
  have hi : turn t < 2 := Nat.mod_lt _ (by decide)
  constructor
  · obtain ⟨h1, h2⟩ := h (turn t) hi
    have h3 : (r :: t.2 (turn t)).Nodup := List.nodup_cons.mpr ⟨fun hm => by have := ((h2 r).mp hm).2; have := hc.2; omega, h1⟩
    have := nodup_le (n := 10) h3 (fun x hx => by
      rcases List.mem_cons.mp hx with rfl | hx
      · exact hr
      · exact ((h2 x).mp hx).1)
    simp at this
    omega
  · obtain ⟨h1, h2⟩ := h (1 - turn t) (by omega)
    obtain ⟨s1, s2⟩ := steps_tch hs
    have h3 : (t.2 (1 - turn t) ++ tch l).Nodup := by
      rw [List.nodup_append]
      refine ⟨h1, s1, fun a ha b hb z => ?_⟩
      subst z
      have := ((h2 a).mp ha).2
      have := s2 a hb
      omega
    have := nodup_le (n := 10) h3 (fun x hx => by
      rcases List.mem_append.mp hx with hx | hx
      · exact ((h2 x).mp hx).1
      · exact stOK_tch hK x hx)
    rw [List.length_append, tch_len] at this
    exact this
theorem I0.rout {t : MT} (h : I0 t) {i r n : Nat} (hi : i < 2) (hr : r < 10) (hs : t.1 0 i r = 0) : I0 (raiderOut t i r n) := ((h.go hi hr hs).set (by decide) (by decide)).come (by omega)
theorem I0.mid {t : MT} (h : I0 t) {n r : Nat} {l : List Stp3} (hc : raidCan t n r) (hs : stepsOK t l) (hr : r < 10) (hK : stOK l) : I0 (raidMid t (turn t) r l) := by
  have hi : turn t < 2 := Nat.mod_lt _ (by decide)
  have h1 := h.set (f := 5) (i := turn t) (p := 0) (v := 0) (by decide) (by decide)
  have hsc : ∀ {b : Nat}, I0 (scored (tS t 5 (turn t) 0 0) (turn t) r b) := fun {b} => (h1.set (by decide) (by decide)).set (by decide) (by decide)
  unfold raidMid
  split
  · unfold _root_.Jvm.Pilot.CRaidhallLaw_law_r3669_67c336.home
    split
    · exact h1.rout hi hr (by rw [tS_ne (by omega)]; exact hc.2)
    · split
      · exact h.set (by decide) (by decide)
      · refine I0.comeN hi ?_
        rw [outs_gos]
        obtain ⟨s1, s2⟩ := steps_tch hs
        refine I0.gos (by omega) hsc s1 fun p hp => ⟨stOK_tch hK p hp, ?_⟩
        unfold _root_.Jvm.Pilot.CRaidhallLaw_law_r3669_67c336.scored
        rw [tS_ne (by omega), tS_ne (by omega), tS_ne (by omega)]
        exact s2 p hp
  · refine hsc.rout hi hr ?_
    unfold _root_.Jvm.Pilot.CRaidhallLaw_law_r3669_67c336.scored
    rw [tS_ne (by omega), tS_ne (by omega), tS_ne (by omega)]; exact hc.2
theorem susp_many {t : MT} {i : Nat} : tMany (susp t) i 1 1 = tMany t i 1 1 ∧ tMany (susp t) i 3 4 ≤ tMany t i 3 4 ∧ tMany t i 0 0 ≤ tMany (susp t) i 0 0 := by
  refine ⟨List.countP_congr fun p _ => ?_, List.countP_mono_left fun p _ => ?_, List.countP_mono_left fun p _ => ?_⟩
  · unfold susp
    dsimp only
    split <;> rename_i c
    · simp [c.2.1]
    · rfl
  · unfold susp
    dsimp only
    split <;> rename_i c
    · simp
    · exact id
  · unfold susp
    dsimp only
    split <;> rename_i c
    · simp
    · exact id
theorem I0.susp {t : MT} (h : I0 t) : I0 (susp t) := by
  refine ⟨h.1.susp, fun i p => ?_, fun i hi => ⟨(h.2.2.1 i hi).1, fun p => ?_⟩, fun i hi => ?_⟩
  · unfold _root_.Jvm.Pilot.CRaidhallLaw_law_r3669_67c336.susp
    dsimp only
    rw [if_neg (by omega)]
    exact h.2.1 i p
  · have h2 := (h.2.2.1 i hi).2 p
    unfold _root_.Jvm.Pilot.CRaidhallLaw_law_r3669_67c336.susp
    dsimp only
    split <;> rename_i c
    · rw [h2]; omega
    · exact h2
  · have := susp_many (t := t) (i := i)
    have := h.2.2.2 i hi
    omega
theorem Bd.mono {t : MT} {b c : Nat} (h : Bd t b) (hbc : b ≤ c) : Bd t c := fun f i p => Nat.le_trans (h f i p) hbc
theorem Bd.set {t : MT} {b f i p v : Nat} (h : Bd t b) (hv : v ≤ b) : Bd (tS t f i p v) b := fun f' i' p' => by
  rw [tS_get]
  split
  · exact hv
  · exact h f' i' p'
theorem Bd.go {t : MT} {b i p : Nat} (h : Bd t b) (hb : 2 ≤ b) : Bd (goOut t i p) b := h.set hb
theorem Bd.come {t : MT} {b i : Nat} (h : Bd t b) : Bd (comeB t i) b := by
  unfold comeB
  cases t.2 i with
  | nil => exact h
  | cons r l => exact h.set (Nat.zero_le _)
theorem Bd.comeN {b i n : Nat} : ∀ {t : MT}, Bd t b → Bd (comeN t i n) b := by
  induction n with
  | zero => intro t h; exact h
  | succ n ih => intro t h; exact ih h.come
theorem Bd.look {t : MT} {b i : Nat} (h : Bd t b) : Bd (lookOut t i) (b + 2) := by
  unfold lookOut
  split
  · exact Bd.comeN ((h.mono (by omega)).set (by have := h 4 (1 - i) 0; omega))
  · exact h.mono (by omega)
theorem Bd.rout {t : MT} {b i r n : Nat} (h : Bd t b) (hb : 2 ≤ b) : Bd (raiderOut t i r n) (b + n) := ((h.go hb).mono (by omega)).set (by have := h.go (i := i) (p := r) hb 4 (1 - i) 0; omega) |>.come
theorem Bd.gos {b i : Nat} (hb : 2 ≤ b) : ∀ {l : List Nat} {t : MT}, Bd t b → Bd (gos t i l) b := by
  intro l
  induction l with
  | nil => intro t h; exact h
  | cons p l ih => intro t h; exact ih (h.go hb)
theorem Bd.scored {t : MT} {b i r n : Nat} (h : Bd t b) : Bd (scored t i r n) (b + n) := ((h.mono (by omega)).set (by have := h 4 i 0; omega)).set (by have := h 3 i r; omega)
theorem bonus_le {t : MT} {i : Nat} {l : List Stp3} : bonusOf t i l ≤ 1 := by unfold bonusOf; split <;> omega
theorem Bd.mid {t : MT} {b i r : Nat} {l : List Stp3} (h : Bd t b) (hb : 2 ≤ b) (hl : l.length ≤ 14) : Bd (raidMid t i r l) (b + 20) := by
  have hs := stN_le (l := l) (k := 0)
  have hbn := bonus_le (t := t) (i := i) (l := l)
  have h1 := h.set (f := 5) (i := i) (p := 0) (v := 0) (Nat.zero_le _)
  unfold raidMid
  split
  · unfold _root_.Jvm.Pilot.CRaidhallLaw_law_r3669_67c336.home
    split
    · exact (h1.rout hb).mono (by omega)
    · split
      · exact (h.mono (by omega)).set (by have := h 5 i 0; omega)
      · refine Bd.comeN ?_
        rw [outs_gos]
        exact (Bd.gos (by omega) h1.scored).mono (by omega)
  · exact (h1.scored.rout (by omega)).mono (by split <;> omega)
theorem Bd.susp {t : MT} {b : Nat} (h : Bd t b) : Bd (susp t) b := fun f i p => by
  unfold _root_.Jvm.Pilot.CRaidhallLaw_law_r3669_67c336.susp
  dsimp only
  split
  · exact Nat.zero_le _
  · exact h f i p
theorem last_ten {l : List Stp3} (hK : stOK l) (hne : l ≠ []) : (lastOf l).1 ≤ 6 ∧ (lastOf l).2.2 ≤ 300 := by
  have h1 : 0 < l.length := List.length_pos_iff.mpr hne
  have := hK.2 (l.length - 1) (by omega)
  rw [last_get hne] at this
  exact ⟨this.1, this.2.2⟩
theorem Inv.raid {t : MT} {b : Nat} (h : Inv t b) (hb : 2 ≤ b) {n r : Nat} {l : List Stp3} (hc : raidCan t n r) (hs : stepsOK t l) (hr : r < 10) (hK : stOK l) (hne : l ≠ []) : Inv (raidEnd t r l) (b + 1600) := by
  have hl := last_ten hK hne
  have h0 := h.1.mid hc hs hr hK
  have h1 := h0.look (i := 0) (by decide)
  have h2 := h1.look (i := 1) (by decide)
  have hb1 := ((h.2.2.mid (i := turn t) (r := r) (l := l) hb hK.1).look (i := 0)).look (i := 1)
  refine ⟨((h2.set (by decide) (by decide)).set (by decide) (by decide)).susp, fun i hi => ?_, ?_⟩
  · refine Nat.lt_of_lt_of_le ?_ susp_many.2.2
    rw [tMany_o (by omega), tMany_o (by omega)]
    have hA := on_look h0 (i := 0) (by decide)
    have hB := on_look h1 (i := 1) (by decide)
    have : i = 0 ∨ i = 1 := by omega
    rcases this with rfl | rfl
    · exact hB.2 0 hA.1
    · exact hB.1
  · refine Bd.susp ?_
    refine ((hb1.mono (by omega)).set ?_).set ?_
    · have := hb1 7 0 0; omega
    · have := hb1 8 0 0; omega
theorem itsCol_le {c k : Nat} (h : k ≤ 2) : itsCol c k ≤ 2 := by unfold itsCol; split <;> (try split) <;> omega
theorem Inv.card {t : MT} {b : Nat} (h : Inv t b) (hb : 8 ≤ b) {i p k : Nat} (hi : i < 2) (hp : p < 10) (hk : k ≤ 2) (hc : cardCan t i p k) : Inv (cardDo t i p k) (b + 1600) := by
  have hkk := itsCol_le (c := t.1 2 i p) hk
  have hor : t.1 2 i p ||| 2 ^ itsCol (t.1 2 i p) k < 8 := by
    have h1 := h.1.2.1 i p
    exact Nat.or_lt_two_pow (n := 3) h1 (Nat.pow_lt_pow_right (by decide) (by omega))
  have hu : I0 (tS t 2 i p (t.1 2 i p ||| 2 ^ itsCol (t.1 2 i p) k)) := by
    refine ⟨h.1.1.set (fun z => by omega), fun j q => ?_, fun j hj => ⟨(h.1.2.2.1 j hj).1, fun q => ?_⟩, fun j hj => ?_⟩
    · rw [tS_get]; split
      · exact hor
      · exact h.1.2.1 j q
    · rw [tS_ne (by omega)]; exact (h.1.2.2.1 j hj).2 q
    · rw [tMany_o (by omega), tMany_o (by omega)]; exact h.1.2.2.2 j hj
  have hub : Bd (tS t 2 i p (t.1 2 i p ||| 2 ^ itsCol (t.1 2 i p) k)) b := h.2.2.set (by omega)
  unfold cardDo
  dsimp only
  generalize hU : tS t 2 i p (t.1 2 i p ||| 2 ^ itsCol (t.1 2 i p) k) = u at hu hub ⊢
  have hu0 : ∀ j q, u.1 0 j q = t.1 0 j q := fun j q => by rw [← hU, tS_ne (by omega)]
  have huM : ∀ j a b, tMany u j a b = tMany t j a b := fun j a b => by rw [← hU, tMany_o (by omega)]
  split
  · rename_i hpos
    obtain ⟨c1, c2⟩ := hc
    have c3 : tMany t i 3 4 < 3 := by rcases c2 with c2 | c2; omega; exact c2
    have hv : I0 (tS u 0 i p (if itsCol (t.1 2 i p) k = 1 then 3 else 4)) := by
      generalize hw : (if itsCol (t.1 2 i p) k = 1 then 3 else 4) = w
      have hw2 : w = 3 ∨ w = 4 := by rw [← hw]; split; exact Or.inl rfl; exact Or.inr rfl
      refine ⟨hu.1.set (fun _ => by omega), fun j q => ?_, fun j hj => ⟨(hu.2.2.1 j hj).1, fun q => ?_⟩, fun j hj => ?_⟩
      · rw [tS_ne (by omega)]; exact hu.2.1 j q
      · have := (hu.2.2.1 j hj).2 q
        rw [tS_get]
        show q ∈ u.2 j ↔ _
        rw [this]
        by_cases hq : (0 : Nat) = 0 ∧ j = i ∧ q = p
        · rw [if_pos hq, hq.2.1, hq.2.2, hu0, c1]; omega
        · rw [if_neg hq]
      · by_cases hji : j = i
        · subst hji
          have e1 := tMany_set (t := u) (i := j) (p := p) (v := w) (a := 1) (b := 1) hp
          have e2 := tMany_set (t := u) (i := j) (p := p) (v := w) (a := 3) (b := 4) hp
          rw [hu0, c1, huM] at e1 e2
          have e3 := (h.1.2.2.2 j hj).1
          rcases hw2 with rfl | rfl <;> simp [i2] at e1 e2 <;> omega
        · rw [tMany_o (Or.inr hji), tMany_o (Or.inr hji)]; exact hu.2.2.2 j hj
    have hz := (hv.set (f := 1) (i := i) (p := p) (v := t.1 7 0 0 + 1200) (by decide) (by decide)).set (f := 4) (i := 1 - i) (p := 0) (v := t.1 4 (1 - i) 0 + (if itsCol (t.1 2 i p) k = 2 then 1 else 0)) (by decide) (by decide)
    refine ⟨hz.look hi, fun j hj => ?_, ?_⟩
    · have := on_look hz hi
      by_cases hji : j = i
      · subst hji; exact this.1
      · refine this.2 j ?_
        unfold ON1
        rw [tMany_o (by omega), tMany_o (by omega), tMany_o (Or.inr hji), huM]
        exact h.2.1 j hj
    · refine (Bd.look (((hub.mono (c := b + 1500) (by omega)).set (by split <;> omega)).set ?_ |>.set ?_)).mono (by omega)
      · have := h.2.2 7 0 0; omega
      · have := h.2.2 4 (1 - i) 0; split <;> omega
  · exact ⟨hu, fun j hj => by unfold ON1; rw [huM]; exact h.2.1 j hj, hub.mono (by omega)⟩
theorem Inv.chg {t : MT} {b : Nat} (h : Inv t b) (hb : 8 ≤ b) {i l c : Nat} (hi : i < 2) (hl : l < 10) (hcc : c < 10) (hc : chgCan t i l c) : Inv (chgDo t i l c) (b + 1600) := by
  obtain ⟨c1, c2, c3⟩ := hc
  have hlc : c ≠ l := fun z => by rw [z] at c2; omega
  have key : ∀ j a d, a ≠ 2 → d ≠ 2 → tMany (tS (tS t 0 i l 1) 0 i c 0) j a d = tMany t j a d := fun j a d ha hd => by
    by_cases hji : j = i
    · subst hji
      have e1 := tMany_set (t := t) (i := j) (p := l) (v := 1) (a := a) (b := d) hl
      have e2 := tMany_set (t := tS t 0 j l 1) (i := j) (p := c) (v := 0) (a := a) (b := d) hcc
      rw [tS_ne (Or.inr (Or.inr hlc)), c2] at e2
      rw [c1] at e1
      omega
    · rw [tMany_o (Or.inr hji), tMany_o (Or.inr hji)]
  have hu : I0 (tS (tS t 0 i l 1) 0 i c 0) := by
    refine ⟨(h.1.1.set (fun _ => by decide)).set (fun _ => by decide), fun j q => ?_, fun j hj => ⟨(h.1.2.2.1 j hj).1, fun q => ?_⟩, fun j hj => ?_⟩
    · rw [tS_ne (by omega), tS_ne (by omega)]; exact h.1.2.1 j q
    · have := (h.1.2.2.1 j hj).2 q
      show q ∈ t.2 j ↔ _
      rw [this, tS_get]
      by_cases h1 : (0 : Nat) = 0 ∧ j = i ∧ q = c
      · rw [if_pos h1, h1.2.1, h1.2.2, c2]; omega
      · rw [if_neg h1, tS_get]
        by_cases h2 : (0 : Nat) = 0 ∧ j = i ∧ q = l
        · rw [if_pos h2, h2.2.1, h2.2.2, c1]; omega
        · rw [if_neg h2]
    · rw [key j 1 1 (by decide) (by decide), key j 3 4 (by decide) (by decide)]; exact h.1.2.2.2 j hj
  refine ⟨hu.set (by decide) (by decide), fun j hj => ?_, ?_⟩
  · unfold ON1 chgDo
    dsimp only
    rw [tMany_o (by omega), key j 0 0 (by decide) (by decide)]
    exact h.2.1 j hj
  · refine (((h.2.2.mono (c := b + 1600) (by omega)).set (by omega)).set (by omega)).set ?_
    rw [tS_ne (by omega), tS_ne (by omega)]
    have := h.2.2 6 i 0
    omega
def evOK (e : Ev5) : Prop := (e.1 = 0 ∧ e.2.1 < 10 ∧ stOK e.2.2.2.2 ∧ e.2.2.2.2 ≠ []) ∨ (e.1 = 1 ∧ e.2.1 < 2 ∧ e.2.2.1 < 10 ∧ e.2.2.2.1 ≤ 2) ∨ (e.1 = 2 ∧ e.2.1 < 2 ∧ e.2.2.1 < 10 ∧ e.2.2.2.1 < 10)
theorem Inv.ev {t : MT} {b : Nat} (h : Inv t b) (hb : 8 ≤ b) {n : Nat} {e : Ev5} (hE : evOK e) (hc : evCan t n e) : Inv (evDo t e) (b + 1600) := by
  unfold evCan at hc
  unfold evDo
  rcases hE with ⟨e0, h1, h2, h3⟩ | ⟨e0, h1, h2, h3⟩ | ⟨e0, h1, h2, h3⟩
  · rw [if_pos e0] at hc ⊢
    exact h.raid (by omega) hc.1 hc.2 h1 h2 h3
  · rw [if_neg (by omega), if_pos e0] at hc ⊢
    exact h.card hb h1 h2 h3 hc
  · rw [if_neg (by omega), if_neg (by omega)] at hc ⊢
    exact h.chg hb h1 h2 h3 hc
theorem Inv.start : Inv mt0 8 := by
  refine ⟨⟨stB.start, fun i p => by unfold mt0; dsimp only; split <;> omega, fun i hi => ⟨List.nodup_nil, fun p => ?_⟩, fun i hi => ⟨by simp [tMany, mt0]; decide, by simp [tMany, mt0]; decide⟩⟩, fun i hi => by simp [ON1, tMany, mt0]; decide, fun f i p => by unfold mt0; dsimp only; split <;> omega⟩
  unfold mt0
  dsimp only
  split <;> simp <;> omega
/-- each of the first k events can stand where it is -/
def stands (n : Nat) (evs : List Ev5) (k : Nat) : Prop := ∀ j, j < k → evCan (mtAt (evs.take j)) n (evs.getD j (0, 0, 0, 0, []))
abbrev z5 : Ev5 := (0, 0, 0, 0, [])
theorem mtAt_s {evs : List Ev5} {k : Nat} (h : k < evs.length) : mtAt (evs.take (k + 1)) = evDo (mtAt (evs.take k)) (evs.getD k z5) := by
  unfold mtAt
  rw [List.take_succ, List.foldl_append, List.getD_eq_getElem?_getD, List.getElem?_eq_getElem h]
  rfl
def evsOK (evs : List Ev5) : Prop := ∀ j, j < evs.length → evOK (evs.getD j z5)
theorem Inv.at {n : Nat} {evs : List Ev5} (hE : evsOK evs) : ∀ {k : Nat}, k ≤ evs.length → stands n evs k → Inv (mtAt (evs.take k)) (8 + 1600 * k) := by
  intro k
  induction k with
  | zero => intro _ _; exact Inv.start
  | succ k ih =>
    intro hk hs
    have := (ih (by omega) (fun j hj => hs j (by omega))).ev (by omega) (hE k (by omega)) (hs k (by omega))
    rw [mtAt_s (by omega)]
    rw [show 8 + 1600 * (k + 1) = 8 + 1600 * k + 1600 by omega]
    exact this
