set_option maxRecDepth 100000
/-! ===== PURE: a match, and what the calls do to it ===== -/
/-- clubs, how long, who lost a review, the events, the raid that goes on -/
abbrev Mt : Type := (Nat → Nat) × Nat × (Nat → Prop) × List Ev5 × Option (Nat × List Stp3)
abbrev mC (m : Mt) : Nat → Nat := m.1
abbrev mL (m : Mt) : Nat := m.2.1
abbrev mX (m : Mt) : Nat → Prop := m.2.2.1
abbrev mE (m : Mt) : List Ev5 := m.2.2.2.1
abbrev mR (m : Mt) : Option (Nat × List Stp3) := m.2.2.2.2
abbrev nE (m : Mt) : Nat := (mE m).length
abbrev mNow (m : Mt) : MT := mtAt (mE m)
def isR (m : Mt) : Prop := (mR m).isSome = true
def rR (m : Mt) : Nat := ((mR m).getD (0, [])).1
def lR (m : Mt) : List Stp3 := ((mR m).getD (0, [])).2
noncomputable def nAll (m : Mt) : Nat := nE m + iF (isR m) 1 0
def isM (Q : Option Mt) : Prop := Q.isSome = true
def dM (Q : Option Mt) : Mt := Q.getD (fun _ => 0, 0, fun _ => False, [], none)
theorem isM_s {m : Mt} : isM (some m) := rfl
theorem dM_s {m : Mt} : dM (some m) = m := rfl
theorem isM_n : ¬ isM none := by unfold isM; simp
theorem isM_e {Q : Option Mt} (h : isM Q) : Q = some (dM Q) := by
  cases Q with
  | none => exact absurd h isM_n
  | some m => rfl
def inI (v : Int32) (a b : Nat) : Prop := ¬ v < nI a ∧ ¬ nI b < v
def iN (v : Int32) : Nat := v.toInt.toNat
theorem nI_iN {v : Int32} (h : ¬ v < nI 0) : v = nI (iN v) := by
  rw [Int32.lt_iff_toInt_lt] at h
  have e0 : (nI 0).toInt = 0 := by decide
  apply Int32.toInt_inj.mp
  have h2 : v.toInt < 2 ^ 31 := by have := v.toInt_lt; simpa using this
  rw [nI_toInt (by unfold iN; omega)]
  unfold iN
  omega
theorem iN_nI {n : Nat} (h : n < 2 ^ 31) : iN (nI n) = n := by unfold iN; rw [nI_toInt h]; simp
theorem inI_n {v : Int32} {a b : Nat} (ha : a < 2 ^ 31) (hb : b < 2 ^ 31) (h : inI v a b) : ∃ n, v = nI n ∧ a ≤ n ∧ n ≤ b := by
  obtain ⟨h1, h2⟩ := h
  rw [Int32.lt_iff_toInt_lt, nI_toInt ha] at h1
  rw [Int32.lt_iff_toInt_lt, nI_toInt hb] at h2
  have h0 : ¬ v < nI 0 := by
    rw [Int32.lt_iff_toInt_lt]
    have e0 : (nI 0).toInt = 0 := by decide
    omega
  refine ⟨iN v, nI_iN h0, ?_, ?_⟩ <;> unfold iN <;> omega
theorem inI_i {n a b : Nat} (ha : a < 2 ^ 31) (hb : b < 2 ^ 31) (hn : n < 2 ^ 31) : inI (nI n) a b ↔ a ≤ n ∧ n ≤ b := by
  unfold inI
  rw [Int32.lt_iff_toInt_lt, Int32.lt_iff_toInt_lt, nI_toInt ha, nI_toInt hb, nI_toInt hn]
  omega
/-- how steps of a raid stand to each other: their tenths rise -/
def stInc (l : List Stp3) : Prop := (∀ j, j < l.length → 1 ≤ (l.getD j z3).2.2) ∧ ∀ j, j + 1 < l.length → (l.getD j z3).2.2 < (l.getD (j + 1) z3).2.2
/-- an ended raid's steps: the last alone ends it -/
def stEnd (l : List Stp3) : Prop := stInc l ∧ ∀ j, j < l.length → (3 ≤ (l.getD j z3).1 ↔ j + 1 = l.length)
def stOpen (l : List Stp3) : Prop := stInc l ∧ ∀ j, j < l.length → (l.getD j z3).1 < 3
def evForm (evs : List Ev5) : Prop := ∀ j, j < evs.length → ((evs.getD j z5).1 = 0 → stEnd (evs.getD j z5).2.2.2.2) ∧ ((evs.getD j z5).1 ≠ 0 → (evs.getD j z5).2.2.2.2 = [])
def VM (m : Mt) : Prop := (∀ i, i < 2 → mC m i < 8) ∧ mL m ≤ 24000 ∧ evsOK (mE m) ∧ evForm (mE m) ∧ stands (mL m) (mE m) (nE m) ∧ nAll m ≤ 60 ∧ (isR m → rR m < 10 ∧ raidCan (mNow m) (mL m) (rR m) ∧ stepsOK (mNow m) (lR m) ∧ stOK (lR m) ∧ stOpen (lR m))
def VQ (Q : Option Mt) : Prop := isM Q → VM (dM Q)
theorem VM.inv {m : Mt} (h : VM m) : Inv (mNow m) (8 + 1600 * nE m) := by
  have := Inv.at h.2.2.1 (Nat.le_refl _) h.2.2.2.2.1
  rwa [List.take_length] at this
theorem VM.ne {m : Mt} (h : VM m) : nE m ≤ 60 := by have := h.2.2.2.2.2.1; unfold nAll at this; omega
theorem nAll_r {m : Mt} (h : isR m) : nAll m = nE m + 1 := by unfold nAll; rw [iF_t h]
theorem nAll_n {m : Mt} (h : ¬ isR m) : nAll m = nE m := by unfold nAll; rw [iF_f h]; rfl
/-- the steps of an open raid are few -/
theorem open_few {t : MT} {l : List Stp3} (hs : stepsOK t l) (hK : stOK l) (ho : stOpen l) : l.length ≤ 12 := by
  let c : Stp3 → Nat := fun s => if s.1 = 0 then s.2.1 else 9 + s.1
  have hnd : (l.map c).Nodup := by
    have key : ∀ j, j ≤ l.length → ((l.take j).map c).Nodup := by
      intro j
      induction j with
      | zero => intro _; exact List.nodup_nil
      | succ j ih =>
        intro hj
        rw [take_s (by omega), List.map_append, List.nodup_append]
        refine ⟨ih (by omega), by simp, fun a ha b hb z => ?_⟩
        obtain ⟨q, hq, rfl⟩ := List.mem_map.mp ha
        simp only [List.map_cons, List.map_nil, List.mem_singleton] at hb
        subst hb
        obtain ⟨m, hm, rfl⟩ := mem_getD hq
        rw [List.length_take] at hm
        have hmj : m < j := by omega
        have hst := (hs j (by omega)).2.1 _ hq
        rw [getD_take hmj] at hst z
        have a1 := (hK.2 j (by omega)).2.1
        have a2 := (hK.2 m (by omega)).2.1
        have a3 := ho.2 j (by omega)
        have a4 := ho.2 m (by omega)
        refine hst ?_
        simp only [c] at z
        show (l.getD m z3).1 = (l.getD j z3).1 ∧ ((l.getD j z3).1 = 0 → (l.getD m z3).2.1 = (l.getD j z3).2.1)
        split at z <;> split at z <;> omega
    have := key l.length (Nat.le_refl _)
    rwa [List.take_length] at this
  have := nodup_le (n := 12) hnd (fun x hx => by
    obtain ⟨q, hq, rfl⟩ := List.mem_map.mp hx
    obtain ⟨m, hm, rfl⟩ := mem_getD hq
    have a2 := (hK.2 m hm).2.1
    have a4 := ho.2 m hm
    simp only [c]
    split <;> omega)
  rwa [List.length_map] at this
/-- the reference's match -/
def RelS (M : jM) (m : Mt) : Prop := (∀ i, i < 2 → M.2 4 i = nI (mC m i)) ∧ M.1 5 = nI (mL m) ∧ (∀ i, i < 2 → M.2 6 i = pI (mX m i)) ∧ M.1 7 = nI (nAll m) ∧ M.1 3 = pI (isR m) ∧ (∀ k, k < nE m → EvR M k ((mE m).getD k z5)) ∧ SA (M.2 16) (mNow m) ∧ NoteTo M (mE m) (nE m) ∧ (isR m → EvR M (nE m) (0, rR m, 0, 0, lR m))
def RelM (M : jM) (Q : Option Mt) : Prop := M.1 2 = pI (isM Q) ∧ (isM Q → RelS M (dM Q))
/-- what a match's call leaves alone -/
def oth (M M' : jM) : Prop := (∀ k, k ≠ 0 → k ≠ 2 → k ≠ 3 → k ≠ 5 → k ≠ 7 → M'.1 k = M.1 k) ∧ ∀ k, k = 19 ∨ 26 ≤ k → M'.2 k = M.2 k
theorem oth.rf {M : jM} : oth M M := ⟨fun _ _ _ _ _ _ => rfl, fun _ _ => rfl⟩
theorem oth.tr {M M' M'' : jM} (h : oth M M') (h' : oth M' M'') : oth M M'' := ⟨fun k a b c d e => (h'.1 k a b c d e).trans (h.1 k a b c d e), fun k a => (h'.2 k a).trans (h.2 k a)⟩
theorem oth.F {M : jM} {k : Nat} {v : Int32} (hk : k = 0 ∨ k = 2 ∨ k = 3 ∨ k = 5 ∨ k = 7) : oth M (mSF M k v) := ⟨fun j a b c d e => mSF_ne (by omega), fun _ _ => rfl⟩
theorem oth.A {M : jM} {k i : Nat} {v : Int32} (hk : k ≠ 19 ∧ k < 26) : oth M (mSA M k i v) := ⟨fun _ _ _ _ _ _ => rfl, fun j a => by unfold mSA; dsimp only; rw [if_neg (by omega)]⟩
theorem mG.oth {M M' : jM} (h : mG M M') : oth M M' := ⟨fun k _ _ _ _ _ => by rw [h.1], fun k a => h.2 k (by omega) (by omega) (by omega)⟩
/-- a match's relation needs some fields and arrays alone -/
theorem RelS.cg {M M' : jM} {m : Mt} (h : RelS M m) (h1 : ∀ k, k = 3 ∨ k = 5 ∨ k = 7 → M'.1 k = M.1 k) (h2 : ∀ k, 4 ≤ k → k ≤ 18 → M'.2 k = M.2 k) : RelS M' m := by
  obtain ⟨a, b, c, d, e, f, g, n, r⟩ := h
  have hE : ∀ k ev, EvR M k ev → EvR M' k ev := fun k ev z => by
    obtain ⟨z1, z2, z3, z4, z5, z6⟩ := z
    refine ⟨?_, ?_, ?_, ?_, ?_, fun j hj => ?_⟩
    · rw [h2 8 (by decide) (by decide)]; exact z1
    · rw [h2 9 (by decide) (by decide)]; exact z2
    · rw [h2 10 (by decide) (by decide)]; exact z3
    · rw [h2 11 (by decide) (by decide)]; exact z4
    · rw [h2 12 (by decide) (by decide)]; exact z5
    · rw [h2 13 (by decide) (by decide), h2 14 (by decide) (by decide), h2 15 (by decide) (by decide)]; exact z6 j hj
  refine ⟨fun i hi => ?_, ?_, fun i hi => ?_, ?_, ?_, fun k hk => hE _ _ (f k hk), ?_, fun j hj i hi => ?_, fun z => hE _ _ (r z)⟩
  · rw [h2 4 (by decide) (by decide)]; exact a i hi
  · rw [h1 5 (by decide)]; exact b
  · rw [h2 6 (by decide) (by decide)]; exact c i hi
  · rw [h1 7 (by decide)]; exact d
  · rw [h1 3 (by decide)]; exact e
  · rw [h2 16 (by decide) (by decide)]; exact g
  · rw [h2 17 (by decide) (by decide), h2 18 (by decide) (by decide)]; exact n j hj i hi
theorem RelM.cg {M M' : jM} {Q : Option Mt} (h : RelM M Q) (h1 : ∀ k, k = 2 ∨ k = 3 ∨ k = 5 ∨ k = 7 → M'.1 k = M.1 k) (h2 : ∀ k, 4 ≤ k → k ≤ 18 → M'.2 k = M.2 k) : RelM M' Q := ⟨by rw [h1 2 (by decide)]; exact h.1, fun z => (h.2 z).cg (fun k hk => h1 k (by omega)) h2⟩
theorem RelM.F {M : jM} {Q : Option Mt} (h : RelM M Q) {k : Nat} {v : Int32} (hk : k ≠ 2 ∧ k ≠ 3 ∧ k ≠ 5 ∧ k ≠ 7) : RelM (mSF M k v) Q := h.cg (fun j hj => mSF_ne (by omega)) (fun _ _ _ => rfl)
/-- an answer: the place of what was thrown, the answer if nothing was, the match -/
abbrev Ans : Type := Nat × Int32 × Option Mt
def OUT (M M' : jM) (v : Int32) (o : Ans) : Prop := M'.1 0 = nI o.1 ∧ (o.1 = 0 → v = o.2.1) ∧ RelM M' o.2.2 ∧ oth M M'
theorem OUT.er {M M' : jM} {v : Int32} {Q : Option Mt} {o : Ans} {k : Nat} (hk : k ≠ 0) (h : M' = mSF M 0 (nI k)) (hR : RelM M Q) (ho : o = (k, 0, Q)) : OUT M M' v o := by
  subst ho; subst h
  exact ⟨mSF_eq, fun z => absurd z hk, hR.F (by decide), oth.F (Or.inl rfl)⟩
/-- an answer that changes nothing -/
theorem OUT.rd {M M' : jM} {v a : Int32} {Q : Option Mt} {o : Ans} (h : M' = mSF M 0 (nI 0)) (hR : RelM M Q) (ho : o = (0, a, Q)) (hv : v = a) : OUT M M' v o := by
  subst ho; subst h
  exact ⟨mSF_eq, fun _ => hv, hR.F (by decide), oth.F (Or.inl rfl)⟩
noncomputable def opBegin (n : Int32) (Q : Option Mt) (c o t : Int32) : Ans := iF (inI c 0 7 ∧ inI o 0 7) (iF (c = o ∨ ¬ inI t 300 24000) (2, 0, Q) (iF (isM Q) (3, 0, Q) (0, n + nI 1, some (fun i => if i = 0 then iN c else iN o, iN t, fun _ => False, [], none)))) (1, 0, Q)
def withR (m : Mt) (r : Option (Nat × List Stp3)) : Mt := (mC m, mL m, mX m, mE m, r)
def withE (m : Mt) (evs : List Ev5) : Mt := (mC m, mL m, mX m, evs, none)
noncomputable def opRaid (Q : Option Mt) (r : Int32) : Ans := iF (inI r 0 9) (iF (isM Q ∧ ¬ isR (dM Q) ∧ nE (dM Q) < 60 ∧ raidCan (mNow (dM Q)) (mL (dM Q)) (iN r)) (0, nI (nE (dM Q)), some (withR (dM Q) (some (iN r, [])))) (2, 0, Q)) (1, 0, Q)
def whoOK (k w : Int32) : Prop := (k = 0 → inI w 0 9) ∧ (¬ k = 0 → w = -1)
def mkS (k w t : Int32) : Stp3 := (iN k, if k = 0 then iN w else 0, iN t)
def tellOK (m : Mt) (s : Stp3) : Prop := (lR m = [] ∨ (lastOf (lR m)).2.2 < s.2.2) ∧ stepOK (mNow m) (lR m) s
noncomputable def opStep (Q : Option Mt) (k w t : Int32) : Ans := iF (inI k 0 6 ∧ whoOK k w ∧ inI t 1 300) (iF (isM Q ∧ isR (dM Q) ∧ tellOK (dM Q) (mkS k w t))
  (iF (iN k < 3) (0, -1, some (withR (dM Q) (some (rR (dM Q), lR (dM Q) ++ [mkS k w t]))))
    (0, nI 10 * (nI ((raidEnd (mNow (dM Q)) (rR (dM Q)) (lR (dM Q) ++ [mkS k w t])).1 4 (turn (mNow (dM Q))) 0) - nI ((mNow (dM Q)).1 4 (turn (mNow (dM Q))) 0)) + nI ((raidEnd (mNow (dM Q)) (rR (dM Q)) (lR (dM Q) ++ [mkS k w t])).1 4 (1 - turn (mNow (dM Q))) 0) - nI ((mNow (dM Q)).1 4 (1 - turn (mNow (dM Q))) 0),
      some (withE (dM Q) (mE (dM Q) ++ [(0, rR (dM Q), 0, 0, lR (dM Q) ++ [mkS k w t])]))))
  (2, 0, Q)) (1, 0, Q)
noncomputable def opCard (Q : Option Mt) (i p c : Int32) : Ans := iF (inI i 0 1 ∧ inI p 0 9) (iF (inI c 0 2) (iF (isM Q ∧ ¬ isR (dM Q) ∧ nE (dM Q) < 60 ∧ cardCan (mNow (dM Q)) (iN i) (iN p) (iN c)) (0, nI (itsCol ((mNow (dM Q)).1 2 (iN i) (iN p)) (iN c)), some (withE (dM Q) (mE (dM Q) ++ [(1, iN i, iN p, iN c, [])]))) (3, 0, Q)) (2, 0, Q)) (1, 0, Q)
noncomputable def opChange (Q : Option Mt) (i l c : Int32) : Ans := iF (inI i 0 1 ∧ inI l 0 9 ∧ inI c 0 9) (iF (isM Q ∧ ¬ isR (dM Q) ∧ nE (dM Q) < 60 ∧ chgCan (mNow (dM Q)) (iN i) (iN l) (iN c)) (0, nI ((chgDo (mNow (dM Q)) (iN i) (iN l) (iN c)).1 6 (iN i) 0), some (withE (dM Q) (mE (dM Q) ++ [(2, iN i, iN l, iN c, [])]))) (2, 0, Q)) (1, 0, Q)
theorem mtAt_app {evs : List Ev5} {e : Ev5} : mtAt (evs ++ [e]) = evDo (mtAt evs) e := by unfold mtAt; rw [List.foldl_append]; rfl
theorem getD5_l {evs : List Ev5} {e : Ev5} {k : Nat} (h : k < evs.length) : (evs ++ [e]).getD k z5 = evs.getD k z5 := by
  rw [List.getD_eq_getElem?_getD, List.getElem?_append_left h, List.getD_eq_getElem?_getD]
theorem getD5_e {evs : List Ev5} {e : Ev5} : (evs ++ [e]).getD evs.length z5 = e := by
  rw [List.getD_eq_getElem?_getD, List.getElem?_append_right (Nat.le_refl _)]; simp
/-- a step behind others -/
theorem getD3_l {l : List Stp3} {s : Stp3} {k : Nat} (h : k < l.length) : (l ++ [s]).getD k z3 = l.getD k z3 := by
  rw [List.getD_eq_getElem?_getD, List.getElem?_append_left h, List.getD_eq_getElem?_getD]
theorem getD3_e {l : List Stp3} {s : Stp3} : (l ++ [s]).getD l.length z3 = s := by
  rw [List.getD_eq_getElem?_getD, List.getElem?_append_right (Nat.le_refl _)]; simp
theorem take3 {l : List Stp3} {s : Stp3} {k : Nat} (h : k ≤ l.length) : (l ++ [s]).take k = l.take k := by rw [List.take_append_of_le_length h]
theorem take5 {l : List Ev5} {s : Ev5} {k : Nat} (h : k ≤ l.length) : (l ++ [s]).take k = l.take k := by rw [List.take_append_of_le_length h]
/-- notes, with one event more -/
theorem NoteTo.app {M : jM} {evs : List Ev5} {e : Ev5} (h : NoteTo M evs evs.length) (hn : NoteAt M evs.length (mtAt (evs ++ [e]))) : NoteTo M (evs ++ [e]) (evs ++ [e]).length := fun j hj => by
  rw [List.length_append, List.length_singleton] at hj
  by_cases hk : j = evs.length
  · rw [hk, List.take_of_length_le (by simp)]; exact hn
  · rw [take5 (by omega)]; exact h j (by omega)
/-- the history below n is as it was -/
def mH (n : Nat) (M M' : jM) : Prop := (∀ k q, 8 ≤ k → k ≤ 12 → q < n → M'.2 k q = M.2 k q) ∧ ∀ k q, 13 ≤ k → k ≤ 15 → q < 14 * n → M'.2 k q = M.2 k q
theorem mH.rf {n : Nat} {M : jM} : mH n M M := ⟨fun _ _ _ _ _ => rfl, fun _ _ _ _ _ => rfl⟩
theorem mH.tr {n : Nat} {M M' M'' : jM} (h : mH n M M') (h' : mH n M' M'') : mH n M M'' := ⟨fun k q a b c => (h'.1 k q a b c).trans (h.1 k q a b c), fun k q a b c => (h'.2 k q a b c).trans (h.2 k q a b c)⟩
theorem mH.F {n k : Nat} {M : jM} {v : Int32} : mH n M (mSF M k v) := ⟨fun _ _ _ _ _ => rfl, fun _ _ _ _ _ => rfl⟩
theorem mH.A {n k i : Nat} {M : jM} {v : Int32} (hk : k < 8 ∨ 15 < k ∨ (k ≤ 12 ∧ n ≤ i) ∨ (13 ≤ k ∧ 14 * n ≤ i)) : mH n M (mSA M k i v) := ⟨fun j q a b c => mSA_ne (by omega), fun j q a b c => mSA_ne (by omega)⟩
theorem mG.mH {n : Nat} {M M' : jM} (h : mG M M') : mH n M M' := ⟨fun k q a b _ => by rw [h.2 k (by omega) (by omega) (by omega)], fun k q a b _ => by rw [h.2 k (by omega) (by omega) (by omega)]⟩
theorem EvR.mH {n e : Nat} {M M' : jM} {ev : Ev5} (h : EvR M e ev) (hm : mH n M M') (he : e < n) (hl : ev.2.2.2.2.length ≤ 14) : EvR M' e ev := by
  obtain ⟨a, b, c, d, f, k⟩ := h
  refine ⟨?_, ?_, ?_, ?_, ?_, fun j hj => ?_⟩
  · rw [hm.1 8 e (by decide) (by decide) he]; exact a
  · rw [hm.1 9 e (by decide) (by decide) he]; exact b
  · rw [hm.1 10 e (by decide) (by decide) he]; exact c
  · rw [hm.1 11 e (by decide) (by decide) he]; exact d
  · rw [hm.1 12 e (by decide) (by decide) he]; exact f
  · rw [hm.2 13 _ (by decide) (by decide) (by omega), hm.2 14 _ (by decide) (by decide) (by omega), hm.2 15 _ (by decide) (by decide) (by omega)]; exact k j hj
theorem evOK_len {ev : Ev5} (h : evOK ev) (h2 : ev.1 ≠ 0 → ev.2.2.2.2 = []) : ev.2.2.2.2.length ≤ 14 := by
  by_cases h0 : ev.1 = 0
  · rcases h with h | h | h
    · exact h.2.2.1.1
    · omega
    · omega
  · rw [h2 h0]; decide
theorem VM.len {m : Mt} (h : VM m) {k : Nat} (hk : k < nE m) : ((mE m).getD k z5).2.2.2.2.length ≤ 14 := evOK_len (h.2.2.1 k hk) (h.2.2.2.1 k hk).2
