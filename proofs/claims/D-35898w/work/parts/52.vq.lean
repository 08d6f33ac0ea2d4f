set_option maxRecDepth 100000
/-! ===== PURE: a match stays sound ===== -/
theorem VQ.none : VQ none := fun h => absurd h isM_n
theorem VQ.some {m : Mt} (h : VM m) : VQ (some m) := fun _ => h
theorem VQ_begin {n : Int32} {Q : Option Mt} {c d t : Int32} (h : VQ Q) : VQ (opBegin n Q c d t).2.2 := by
  unfold opBegin
  by_cases h1 : inI c 0 7 ∧ inI d 0 7
  · rw [iF_t h1]
    by_cases h2 : c = d ∨ ¬ inI t 300 24000
    · rw [iF_t h2]; exact h
    · rw [iF_f h2]
      by_cases h3 : isM Q
      · rw [iF_t h3]; exact h
      · rw [iF_f h3]
        obtain ⟨cn, rfl, _, hc⟩ := inI_n (by decide) (by decide) h1.1
        obtain ⟨dn, rfl, _, hd⟩ := inI_n (by decide) (by decide) h1.2
        obtain ⟨tn, rfl, _, ht⟩ := inI_n (by decide) (by decide) (Classical.not_not.mp (fun z => h2 (Or.inr z)))
        rw [iN_nI (by omega), iN_nI (by omega), iN_nI (by omega)]
        have hno : ¬ isR ((fun i => if i = 0 then cn else dn, tn, fun _ => False, [], none) : Mt) := by unfold isR; simp
        refine VQ.some ⟨fun i _ => ?_, ht, fun j hj => absurd hj (Nat.not_lt_zero _), fun j hj => absurd hj (Nat.not_lt_zero _), fun j hj => absurd hj (Nat.not_lt_zero _), ?_, fun z => absurd z hno⟩
        · show (if i = 0 then cn else dn) < 8; split <;> omega
        · rw [nAll_n hno]; exact Nat.zero_le _
  · rw [iF_f h1]; exact h
theorem stOpen.nil : stOpen [] := ⟨⟨fun j hj => absurd hj (Nat.not_lt_zero _), fun j hj => absurd hj (Nat.not_lt_zero _)⟩, fun j hj => absurd hj (Nat.not_lt_zero _)⟩
theorem VQ_raid {Q : Option Mt} {r : Int32} (h : VQ Q) : VQ (opRaid Q r).2.2 := by
  unfold opRaid
  by_cases h1 : inI r 0 9
  · rw [iF_t h1]
    obtain ⟨rn, rfl, _, hr⟩ := inI_n (by decide) (by decide) h1
    rw [iN_nI (by omega)]
    by_cases h2 : isM Q ∧ ¬ isR (dM Q) ∧ nE (dM Q) < 60 ∧ raidCan (mNow (dM Q)) (mL (dM Q)) rn
    · rw [iF_t h2]
      obtain ⟨a1, a2, a3, a4, a5, a6, a7⟩ := h h2.1
      have hy : isR (withR (dM Q) (some (rn, []))) := rfl
      refine VQ.some ⟨a1, a2, a3, a4, a5, ?_, fun _ => ⟨by show rn < 10; omega, h2.2.2.2, fun j hj => absurd hj (Nat.not_lt_zero _), ⟨Nat.zero_le _, fun j hj => absurd hj (Nat.not_lt_zero _)⟩, stOpen.nil⟩⟩
      rw [nAll_r hy]; show nE (dM Q) + 1 ≤ 60; have := h2.2.2.1; omega
    · rw [iF_f h2]; exact h
  · rw [iF_f h1]; exact h
theorem stInc.app {l : List Stp3} {s : Stp3} (h : stInc l) (h1 : 1 ≤ s.2.2) (h2 : l = [] ∨ (lastOf l).2.2 < s.2.2) : stInc (l ++ [s]) := by
  refine ⟨fun j hj => ?_, fun j hj => ?_⟩ <;> rw [List.length_append, List.length_singleton] at hj
  · by_cases hjl : j = l.length
    · rw [hjl, getD3_e]; exact h1
    · rw [getD3_l (by omega)]; exact h.1 j (by omega)
  · by_cases hjl : j + 1 = l.length
    · have hne : l ≠ [] := fun z => by rw [z] at hjl; exact absurd hjl (Nat.succ_ne_zero _)
      have h3 := h2.resolve_left hne
      rw [hjl, getD3_e, getD3_l (by omega), show j = l.length - 1 by omega, last_get hne]; exact h3
    · rw [getD3_l (by omega), getD3_l (by omega)]; exact h.2 j (by omega)
theorem stOpen.app {l : List Stp3} {s : Stp3} (h : stOpen l) (hi : stInc (l ++ [s])) (hk : s.1 < 3) : stOpen (l ++ [s]) := ⟨hi, fun j hj => by
  rw [List.length_append, List.length_singleton] at hj
  by_cases hjl : j = l.length
  · rw [hjl, getD3_e]; exact hk
  · rw [getD3_l (by omega)]; exact h.2 j (by omega)⟩
theorem stOpen.ends {l : List Stp3} {s : Stp3} (h : stOpen l) (hi : stInc (l ++ [s])) (hk : ¬ s.1 < 3) : stEnd (l ++ [s]) := ⟨hi, fun j hj => by
  rw [List.length_append, List.length_singleton] at hj ⊢
  by_cases hjl : j = l.length
  · rw [hjl, getD3_e]; omega
  · rw [getD3_l (by omega)]; have := h.2 j (by omega); omega⟩
theorem evsOK.app {evs : List Ev5} {e : Ev5} (h : evsOK evs) (he : evOK e) : evsOK (evs ++ [e]) := fun j hj => by
  rw [List.length_append, List.length_singleton] at hj
  by_cases hjl : j = evs.length
  · rw [hjl, getD5_e]; exact he
  · rw [getD5_l (by omega)]; exact h j (by omega)
theorem evForm.app {evs : List Ev5} {e : Ev5} (h : evForm evs) (he : (e.1 = 0 → stEnd e.2.2.2.2) ∧ (e.1 ≠ 0 → e.2.2.2.2 = [])) : evForm (evs ++ [e]) := fun j hj => by
  rw [List.length_append, List.length_singleton] at hj
  by_cases hjl : j = evs.length
  · rw [hjl, getD5_e]; exact he
  · rw [getD5_l (by omega)]; exact h j (by omega)
theorem stands.app {n : Nat} {evs : List Ev5} {e : Ev5} (h : stands n evs evs.length) (he : evCan (mtAt evs) n e) : stands n (evs ++ [e]) (evs ++ [e]).length := fun j hj => by
  rw [List.length_append, List.length_singleton] at hj
  show evCan (mtAt ((evs ++ [e]).take j)) n ((evs ++ [e]).getD j z5)
  by_cases hjl : j = evs.length
  · rw [hjl, getD5_e, List.take_append_of_le_length (Nat.le_refl _), List.take_length]; exact he
  · rw [getD5_l (by omega), take5 (by omega)]; exact h j (by omega)
theorem VM.app {m : Mt} {e : Ev5} (h : VM m) (hn : nE m < 60) (he : evOK e) (hf : (e.1 = 0 → stEnd e.2.2.2.2) ∧ (e.1 ≠ 0 → e.2.2.2.2 = [])) (hc : evCan (mNow m) (mL m) e) : VM (withE m (mE m ++ [e])) := by
  obtain ⟨a1, a2, a3, a4, a5, a6, a7⟩ := h
  have hno : ¬ isR (withE m (mE m ++ [e])) := by unfold isR withE; simp
  refine ⟨a1, a2, a3.app he, a4.app hf, a5.app hc, ?_, fun z => absurd z hno⟩
  rw [nAll_n hno]
  show (mE m ++ [e]).length ≤ 60
  rw [List.length_append, List.length_singleton]
  unfold nE at hn; omega
theorem nE_lt {m : Mt} (h : VM m) (hr : isR m) : nE m < 60 := by have := h.2.2.2.2.2.1; rw [nAll_r hr] at this; omega
/-- what a step told is -/
theorem tellF {m : Mt} (h : VM m) (hr : isR m) {k t : Nat} {w : Int32} (hk : k ≤ 6) (ht : 1 ≤ t ∧ t ≤ 300) (hw : whoOK (nI k) w) {s : Stp3} (hs : s = mkS (nI k) w (nI t)) (hc : tellOK m s) : s.1 = k ∧ s.2.2 = t ∧ stOK (lR m ++ [s]) ∧ stepsOK (mNow m) (lR m ++ [s]) ∧ stInc (lR m ++ [s]) := by
  obtain ⟨b1, b2, b3, b4, b5⟩ := h.2.2.2.2.2.2 hr
  obtain ⟨c1, c2, c3, c4⟩ := mkS_f hk ht.2 hw
  rw [← hs] at c1 c2 c3 c4
  exact ⟨c1, c2, b4.app (open_few b3 b4 b5) (by omega) c4 (by omega), b3.app hc.2, b5.1.app (by omega) hc.1⟩
theorem VQ_step {Q : Option Mt} {k w t : Int32} (h : VQ Q) : VQ (opStep Q k w t).2.2 := by
  unfold opStep
  by_cases h1 : inI k 0 6 ∧ whoOK k w ∧ inI t 1 300
  · rw [iF_t h1]
    obtain ⟨hk, hw, ht⟩ := h1
    obtain ⟨kn, rfl, _, hk6⟩ := inI_n (by decide) (by decide) hk
    obtain ⟨tn, rfl, ht1, ht3⟩ := inI_n (by decide) (by decide) ht
    obtain ⟨s, hs⟩ : ∃ s, s = mkS (nI kn) w (nI tn) := ⟨_, rfl⟩
    rw [← hs, iN_nI (by omega)]
    by_cases h2 : isM Q ∧ isR (dM Q) ∧ tellOK (dM Q) s
    · rw [iF_t h2]
      have hV := h h2.1
      obtain ⟨d1, d2, d3, d4, d5⟩ := tellF hV h2.2.1 hk6 ⟨ht1, ht3⟩ hw hs h2.2.2
      obtain ⟨a1, a2, a3, a4, a5, a6, a7⟩ := hV
      obtain ⟨b1, b2, b3, b4, b5⟩ := a7 h2.2.1
      by_cases h3 : kn < 3
      · rw [iF_t h3]
        have hy : isR (withR (dM Q) (some (rR (dM Q), lR (dM Q) ++ [s]))) := rfl
        refine VQ.some ⟨a1, a2, a3, a4, a5, ?_, fun _ => ⟨b1, b2, d4, d3, b5.app d5 (by omega)⟩⟩
        rw [nAll_r hy]; show nE (dM Q) + 1 ≤ 60; have := nE_lt (h h2.1) h2.2.1; omega
      · rw [iF_f h3]
        exact VQ.some (VM.app (h h2.1) (nE_lt (h h2.1) h2.2.1) (Or.inl ⟨rfl, b1, d3, by simp⟩) ⟨fun _ => b5.ends d5 (by omega), fun z => absurd rfl z⟩ ⟨b2, d4⟩)
    · rw [iF_f h2]; exact h
  · rw [iF_f h1]; exact h
theorem VQ_card {Q : Option Mt} {i p c : Int32} (h : VQ Q) : VQ (opCard Q i p c).2.2 := by
  unfold opCard
  by_cases h1 : inI i 0 1 ∧ inI p 0 9
  · rw [iF_t h1]
    by_cases h2 : inI c 0 2
    · rw [iF_t h2]
      by_cases h3 : isM Q ∧ ¬ isR (dM Q) ∧ nE (dM Q) < 60 ∧ cardCan (mNow (dM Q)) (iN i) (iN p) (iN c)
      · rw [iF_t h3]
        obtain ⟨ni, rfl, _, hi⟩ := inI_n (by decide) (by decide) h1.1
        obtain ⟨np, rfl, _, hp⟩ := inI_n (by decide) (by decide) h1.2
        obtain ⟨nc, rfl, _, hc⟩ := inI_n (by decide) (by decide) h2
        rw [iN_nI (by omega), iN_nI (by omega), iN_nI (by omega)] at h3 ⊢
        exact VQ.some (VM.app (h h3.1) h3.2.2.1 (Or.inr (Or.inl ⟨rfl, by show ni < 2; omega, by show np < 10; omega, hc⟩)) ⟨fun z => absurd z (by decide : ¬ (1 : Nat) = 0), fun _ => rfl⟩ h3.2.2.2)
      · rw [iF_f h3]; exact h
    · rw [iF_f h2]; exact h
  · rw [iF_f h1]; exact h
theorem VQ_change {Q : Option Mt} {i l c : Int32} (h : VQ Q) : VQ (opChange Q i l c).2.2 := by
  unfold opChange
  by_cases h1 : inI i 0 1 ∧ inI l 0 9 ∧ inI c 0 9
  · rw [iF_t h1]
    by_cases h3 : isM Q ∧ ¬ isR (dM Q) ∧ nE (dM Q) < 60 ∧ chgCan (mNow (dM Q)) (iN i) (iN l) (iN c)
    · rw [iF_t h3]
      obtain ⟨ni, rfl, _, hi⟩ := inI_n (by decide) (by decide) h1.1
      obtain ⟨np, rfl, _, hp⟩ := inI_n (by decide) (by decide) h1.2.1
      obtain ⟨nc, rfl, _, hc⟩ := inI_n (by decide) (by decide) h1.2.2
      rw [iN_nI (by omega), iN_nI (by omega), iN_nI (by omega)] at h3 ⊢
      exact VQ.some (VM.app (h h3.1) h3.2.2.1 (Or.inr (Or.inr ⟨rfl, by show ni < 2; omega, by show np < 10; omega, by show nc < 10; omega⟩)) ⟨fun z => absurd z (by decide : ¬ (2 : Nat) = 0), fun _ => rfl⟩ h3.2.2.2)
    · rw [iF_f h3]; exact h
  · rw [iF_f h1]; exact h
theorem take_get {evs : List Ev5} {e j : Nat} (h : j < e) : (evs.take e).getD j z5 = evs.getD j z5 := by rw [List.getD_eq_getElem?_getD, List.getElem?_take, if_pos h, ← List.getD_eq_getElem?_getD]
theorem VQ_take {Q : Option Mt} {e : Int32} (h : VQ Q) : VQ (opTakeBack Q e).2.2 := by
  unfold opTakeBack
  by_cases h1 : isM Q ∧ idx e (nAll (dM Q))
  · rw [iF_t h1]
    obtain ⟨a1, a2, a3, a4, a5, a6, a7⟩ := h h1.1
    have hne := (h h1.1).ne
    obtain ⟨b1, b2⟩ := take_ok (e := iN e) a3 a5
    have hno : ¬ isR (withE (dM Q) ((mE (dM Q)).take (iN e))) := by unfold isR withE; simp
    refine VQ.some ⟨a1, a2, b1, fun j hj => ?_, b2, ?_, fun z => absurd z hno⟩
    · change j < ((mE (dM Q)).take (iN e)).length at hj
      rw [List.length_take] at hj
      show (((((mE (dM Q)).take (iN e)).getD j z5).1 = 0 → stEnd (((mE (dM Q)).take (iN e)).getD j z5).2.2.2.2) ∧ ((((mE (dM Q)).take (iN e)).getD j z5).1 ≠ 0 → (((mE (dM Q)).take (iN e)).getD j z5).2.2.2.2 = []))
      rw [take_get (by omega)]; exact a4 j (by omega)
    · rw [nAll_n hno]
      show ((mE (dM Q)).take (iN e)).length ≤ 60
      rw [List.length_take]
      unfold nE at hne; omega
  · rw [iF_f h1]; exact h
theorem saidL_inc {l : List Stp3} {n k : Nat} {w : Int32} (h : stInc l) (hn : n < l.length) : stInc (saidL l n k w) := by
  have key : ∀ j, ((saidL l n k w).getD j z3).2.2 = (l.getD j z3).2.2 := fun j => by
    rw [saidL_get hn]
    split
    · rename_i c; rw [c]
    · rfl
  refine ⟨fun j hj => ?_, fun j hj => ?_⟩ <;> rw [saidL_len] at hj
  · rw [key]; exact h.1 j hj
  · rw [key, key]; exact h.2 j hj
theorem saidL_end {l : List Stp3} {n k : Nat} {w : Int32} (h : stEnd l) (hn : n < l.length) (hc : canSay l n k) : stEnd (saidL l n k w) := by
  refine ⟨saidL_inc h.1 hn, fun j hj => ?_⟩
  rw [saidL_len] at hj ⊢
  rw [saidL_get hn]
  split
  · rename_i c; rw [c]; exact hc.symm
  · exact h.2 j hj
theorem VM.said {m : Mt} (h : VM m) {e n k : Nat} {w : Int32} {X : Nat → Prop} (he : e < nE m) (h0 : (evA m e).1 = 0) (hn : n < (evA m e).2.2.2.2.length) (hk : k ≤ 5) (hw : whoOK (nI k) w) (hf : fallsN m e n k w = -1) : VM ((mC m, mL m, X, saidE (mE m) e n k w, none) : Mt) := by
  obtain ⟨hc, hfi, hst⟩ := falls_no h he hf
  obtain ⟨a1, a2, a3, a4, a5, a6, a7⟩ := h
  have hno : ¬ isR ((mC m, mL m, X, saidE (mE m) e n k w, none) : Mt) := by unfold isR; simp
  refine ⟨a1, a2, saidE_ok a3 he h0 hn hk hw, fun j hj => ?_, hst, ?_, fun z => absurd z hno⟩
  · rw [saidE_len] at hj
    rw [saidE_get he]
    split
    · exact ⟨fun _ => saidL_end ((a4 e he).1 h0) hn hc, fun z => absurd h0 z⟩
    · exact a4 j hj
  · rw [nAll_n hno]
    show (saidE (mE m) e n k w).length ≤ 60
    rw [saidE_len]
    unfold nAll nE at a6; omega
theorem VQ_review {Q : Option Mt} {i e st k w : Int32} (h : VQ Q) : VQ (opReview Q i e st k w).2.2 := by
  unfold opReview
  by_cases h1 : inI i 0 1 ∧ stepAt Q e st
  · rw [iF_t h1]
    by_cases h2 : inI k 0 5 ∧ whoOK k w
    · rw [iF_t h2]
      by_cases h3 : ¬ isR (dM Q) ∧ ¬ mX (dM Q) (iN i) ∧ fallsN (dM Q) (iN e) (iN st) (iN k) w = -1
      · rw [iF_t h3]
        obtain ⟨en, sn, rfl, rfl, hen, h0, hsn, hm, hl14, hne, iNen, iNsn⟩ := stepAt_n h1.2 h
        obtain ⟨kn, rfl, _, hk5⟩ := inI_n (by decide) (by decide) h2.1
        rw [iNen, iNsn, iN_nI (by omega)] at h3 ⊢
        exact VQ.some (VM.said (h hm) hen h0 hsn hk5 h2.2 h3.2.2)
      · rw [iF_f h3]; exact h
    · rw [iF_f h2]; exact h
  · rw [iF_f h1]; exact h
