set_option maxRecDepth 100000
/-! ===== PURE: what stays ===== -/
/-- statuses are 0 .. 4 -/
def stB (t : MT) : Prop := ∀ i p, t.1 0 i p ≤ 4
/-- all but statuses, points and empty raids is as it was -/
def tK (t t' : MT) : Prop := ∀ f i p, f ≠ 0 → f ≠ 3 → f ≠ 4 → f ≠ 5 → t'.1 f i p = t.1 f i p
theorem tK.rf {t : MT} : tK t t := fun _ _ _ _ _ _ _ => rfl
theorem tK.tr {t t' t'' : MT} (h : tK t t') (h' : tK t' t'') : tK t t'' := fun f i p a b c d => (h' f i p a b c d).trans (h f i p a b c d)
theorem tK.set {t : MT} {f i p v : Nat} (hf : f = 0 ∨ f = 3 ∨ f = 4 ∨ f = 5) : tK t (tS t f i p v) := fun f' i' p' a b c d => tS_ne (Or.inl (by omega))
theorem tK.row {t : MT} {i : Nat} {l : List Nat} : tK t (tR t i l) := fun _ _ _ _ _ _ _ => rfl
theorem tK.go {t : MT} {i p : Nat} : tK t (goOut t i p) := (tK.set (Or.inl rfl)).tr tK.row
theorem tK.come {t : MT} {i : Nat} : tK t (comeB t i) := by
  unfold comeB
  cases t.2 i with
  | nil => exact tK.rf
  | cons r l => exact (tK.set (Or.inl rfl)).tr tK.row
theorem tK.comeN {i n : Nat} : ∀ {t : MT}, tK t (comeN t i n) := by
  induction n with
  | zero => intro t; exact tK.rf
  | succ n ih => intro t; exact tK.come.tr ih
theorem tK.look {t : MT} {i : Nat} : tK t (lookOut t i) := by
  unfold lookOut
  split
  · exact (tK.set (by omega)).tr tK.comeN
  · exact tK.rf
theorem tK.rout {t : MT} {i r n : Nat} : tK t (raiderOut t i r n) := (tK.go.tr (tK.set (by omega))).tr tK.come
theorem tK.outs {i : Nat} : ∀ {l : List Stp3} {t : MT}, tK t (outsAll t i l) := by
  intro l
  induction l with
  | nil => intro t; exact tK.rf
  | cons s l ih =>
    intro t
    refine tK.tr ?_ (ih (t := if s.1 = 0 then goOut t i s.2.1 else t))
    split
    · exact tK.go
    · exact tK.rf
theorem tK.scored {t : MT} {i r n : Nat} : tK t (scored t i r n) := (tK.set (by omega)).tr (tK.set (by omega))
theorem tK.home {t : MT} {i r b : Nat} {l : List Stp3} : tK t (home t i r b l) := by
  unfold _root_.Jvm.Pilot.CRaidhallLaw_law_r3669_67c336.home
  split
  · exact (tK.set (by omega)).tr tK.rout
  · split
    · exact tK.set (by omega)
    · exact ((tK.set (by omega)).tr tK.scored).tr (tK.outs.tr tK.comeN)
theorem tK.mid {t : MT} {i r : Nat} {l : List Stp3} : tK t (raidMid t i r l) := by
  unfold raidMid
  split
  · exact tK.home
  · exact ((tK.set (by omega)).tr tK.scored).tr tK.rout
theorem stB.set {t : MT} (h : stB t) {f i p v : Nat} (hv : f = 0 → v ≤ 4) : stB (tS t f i p v) := fun j q => by
  rw [tS_get]
  split
  · rename_i c; exact hv c.1.symm
  · exact h j q
theorem stB.row {t : MT} (h : stB t) {i : Nat} {l : List Nat} : stB (tR t i l) := h
theorem stB.go {t : MT} (h : stB t) {i p : Nat} : stB (goOut t i p) := (h.set (fun _ => by decide)).row
theorem stB.come {t : MT} (h : stB t) {i : Nat} : stB (comeB t i) := by
  unfold comeB
  cases t.2 i with
  | nil => exact h
  | cons r l => exact (h.set (fun _ => by decide)).row
theorem stB.comeN {i n : Nat} : ∀ {t : MT}, stB t → stB (comeN t i n) := by
  induction n with
  | zero => intro t h; exact h
  | succ n ih => intro t h; exact ih h.come
theorem stB.look {t : MT} (h : stB t) {i : Nat} : stB (lookOut t i) := by
  unfold lookOut
  split
  · exact stB.comeN (h.set (fun z => by omega))
  · exact h
theorem stB.rout {t : MT} (h : stB t) {i r n : Nat} : stB (raiderOut t i r n) := (h.go.set (fun z => by omega)).come
theorem stB.outs {i : Nat} : ∀ {l : List Stp3} {t : MT}, stB t → stB (outsAll t i l) := by
  intro l
  induction l with
  | nil => intro t h; exact h
  | cons s l ih =>
    intro t h
    refine ih (t := if s.1 = 0 then goOut t i s.2.1 else t) ?_
    split
    · exact h.go
    · exact h
theorem stB.scored {t : MT} (h : stB t) {i r n : Nat} : stB (scored t i r n) := (h.set (fun z => by omega)).set (fun z => by omega)
theorem stB.home {t : MT} (h : stB t) {i r b : Nat} {l : List Stp3} : stB (home t i r b l) := by
  unfold _root_.Jvm.Pilot.CRaidhallLaw_law_r3669_67c336.home
  split
  · exact (h.set (fun z => by omega)).rout
  · split
    · exact h.set (fun z => by omega)
    · exact stB.comeN (stB.outs (h.set (fun z => by omega)).scored)
theorem stB.mid {t : MT} (h : stB t) {i r : Nat} {l : List Stp3} : stB (raidMid t i r l) := by
  unfold raidMid
  split
  · exact h.home
  · exact ((h.set (fun z => by omega)).scored).rout
theorem stB.susp {t : MT} (h : stB t) : stB (susp t) := fun i p => by
  unfold _root_.Jvm.Pilot.CRaidhallLaw_law_r3669_67c336.susp
  dsimp only
  split
  · omega
  · exact h i p
theorem stB.raid {t : MT} (h : stB t) {r : Nat} {l : List Stp3} : stB (raidEnd t r l) := ((h.mid.look.look.set (fun z => by omega)).set (fun z => by omega)).susp
theorem stB.card {t : MT} (h : stB t) {i p c : Nat} : stB (cardDo t i p c) := by
  unfold cardDo
  dsimp only
  split
  · exact (((h.set (fun z => by omega)).set (fun _ => by split <;> omega)).set (fun z => by omega)).set (fun z => by omega) |>.look
  · exact h.set (fun z => by omega)
theorem stB.chg {t : MT} (h : stB t) {i p c : Nat} : stB (chgDo t i p c) := ((h.set (fun _ => by decide)).set (fun _ => by decide)).set (fun z => by omega)
theorem stB.start : stB mt0 := fun i p => by
  unfold mt0
  dsimp only
  split <;> omega
theorem stB.ev {t : MT} (h : stB t) {e : Ev5} : stB (evDo t e) := by
  unfold evDo
  split
  · exact h.raid
  · split
    · exact h.card
    · exact h.chg
