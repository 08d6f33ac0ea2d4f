set_option maxRecDepth 100000
/-- a choice by any statement -/
noncomputable def iF {α : Type} (p : Prop) (a b : α) : α := @ite α p (Classical.propDecidable p) a b
theorem iF_t {α : Type} {p : Prop} {a b : α} (h : p) : iF p a b = a := by unfold iF; rw [if_pos h]
theorem iF_f {α : Type} {p : Prop} {a b : α} (h : ¬ p) : iF p a b = b := by unfold iF; rw [if_neg h]
noncomputable def fallF (n : Nat) (evs : List Ev5) : Nat → Nat → Int32
  | 0, _ => -1
  | f + 1, k => iF (evCan (mtAt (evs.take k)) n (evs.getD k z5)) (fallF n evs f (k + 1)) (nI k)
/-- the first event that can't stand, or -1 -/
noncomputable def fallI (n : Nat) (evs : List Ev5) : Int32 := fallF n evs evs.length 0
theorem stands_s {n : Nat} {evs : List Ev5} {k : Nat} (h : stands n evs k) (h' : evCan (mtAt (evs.take k)) n (evs.getD k z5)) : stands n evs (k + 1) := fun j hj => by
  by_cases hk : j = k
  · rw [hk]; exact h'
  · exact h j (by omega)
theorem fall_at {n : Nat} {evs : List Ev5} : ∀ {k : Nat}, k ≤ evs.length → stands n evs k → fallI n evs = fallF n evs (evs.length - k) k := by
  intro k
  induction k with
  | zero => intro _ _; rfl
  | succ k ih =>
    intro hk hs
    rw [ih (by omega) (fun j hj => hs j (by omega)), show evs.length - k = (evs.length - (k + 1)) + 1 by omega]
    show iF _ _ _ = _
    rw [iF_t (hs k (Nat.lt_succ_self _))]
theorem fall_no {n : Nat} {evs : List Ev5} (hs : stands n evs evs.length) : fallI n evs = -1 := by
  rw [fall_at (Nat.le_refl _) hs, Nat.sub_self]; rfl
theorem fall_k {n : Nat} {evs : List Ev5} {k : Nat} (hk : k < evs.length) (hs : stands n evs k) (h : ¬ evCan (mtAt (evs.take k)) n (evs.getD k z5)) : fallI n evs = nI k := by
  rw [fall_at (by omega) hs, show evs.length - k = (evs.length - (k + 1)) + 1 by omega]
  show iF _ _ _ = _
  rw [iF_f h]
theorem fall_st {n : Nat} {evs : List Ev5} (hl : evs.length < 2 ^ 31) (h : fallI n evs = -1) : stands n evs evs.length := by
  have key : ∀ k, k ≤ evs.length → stands n evs k := by
    intro k
    induction k with
    | zero => intro _ j hj; exact absurd hj (Nat.not_lt_zero _)
    | succ k ih =>
      intro hk
      refine stands_s (ih (by omega)) (Classical.byContradiction fun hc => ?_)
      rw [fall_k (by omega) (ih (by omega)) hc] at h
      exact nI_neg1 (by omega) h
  exact key _ (Nat.le_refl _)
def mG (M M' : jM) : Prop := M'.1 = M.1 ∧ ∀ k, k ≠ 16 → k ≠ 17 → k ≠ 18 → M'.2 k = M.2 k
theorem mG.rf {M : jM} : mG M M := ⟨rfl, fun _ _ _ _ => rfl⟩
theorem mG.tr {M M' M'' : jM} (h : mG M M') (h' : mG M' M'') : mG M M'' := ⟨h'.1.trans h.1, fun k a b c => (h'.2 k a b c).trans (h.2 k a b c)⟩
theorem mO.mG {M M' : jM} (h : mO M M') : mG M M' := ⟨h.1, fun k a _ _ => h.2 k a⟩
theorem mF.mG {e : Nat} {M M' : jM} (h : mF e M M') : mG M M' := ⟨h.1, h.2.1⟩
theorem EvR.mG {M M' : jM} {e : Nat} {ev : Ev5} (h : EvR M e ev) (hg : mG M M') : EvR M' e ev := by
  obtain ⟨a, b, c, d, f, k⟩ := h
  refine ⟨?_, ?_, ?_, ?_, ?_, fun j hj => ?_⟩
  · rw [hg.2 8 (by decide) (by decide) (by decide)]; exact a
  · rw [hg.2 9 (by decide) (by decide) (by decide)]; exact b
  · rw [hg.2 10 (by decide) (by decide) (by decide)]; exact c
  · rw [hg.2 11 (by decide) (by decide) (by decide)]; exact d
  · rw [hg.2 12 (by decide) (by decide) (by decide)]; exact f
  · rw [hg.2 13 (by decide) (by decide) (by decide), hg.2 14 (by decide) (by decide) (by decide), hg.2 15 (by decide) (by decide) (by decide)]; exact k j hj
def NoteTo (M : jM) (evs : List Ev5) (k : Nat) : Prop := ∀ j, j < k → NoteAt M j (mtAt (evs.take (j + 1)))
theorem NoteTo.fr {M M' : jM} {evs : List Ev5} {k e : Nat} (h : NoteTo M evs k) (hf : mF e M M') (he : k ≤ e) : NoteTo M' evs k := fun j hj i hi => by
  have := hf.2.2 (2 * j + i) (by omega) (by omega)
  rw [this.1, this.2]
  exact h j hj i hi
theorem NoteTo.st {M : jM} {evs : List Ev5} {k : Nat} (h : NoteTo M evs k) (hn : NoteAt M k (mtAt (evs.take (k + 1)))) : NoteTo M evs (k + 1) := fun j hj => by
  by_cases hk : j = k
  · rw [hk]; exact hn
  · exact h j (by omega)

set_option maxHeartbeats 4000000 in
theorem mc_plays {g : jG} (G : jOK g) (M : jM) (evs : List Ev5) (n N : Nat) (r : Prop) (hR : ∀ j, j < evs.length → EvR M j (evs.getD j z5)) (hE : evsOK evs) (hl : evs.length ≤ 60) (h7 : M.1 7 = nI N) (h3 : M.1 3 = pI r) (hrN : r → 0 < N) (hN : @ite Nat r (Classical.propDecidable r) (N - 1) N = evs.length) (h5 : M.1 5 = nI n) (hn : n < 2 ^ 31)  : MTR g 5 yX4_plays [] M (fun v M' => mG M M' ∧ v = fallI n evs ∧ (v = -1 → SA (M'.2 16) (mtAt evs) ∧ NoteTo M' evs evs.length)) := by
  intro h o ad hO
  refine CT.of (bytes := cX4_plays) (maxL := 2) (ret := (some .int)) G q2176 (by decide) (by decide +kernel) (Nat.le_of_ble_eq_true rfl) ?_
  intro z C E hT hnm hnl
  have C : jC (g, z) cX4_plays RX4 5 0 := C
  show J (g, z) (mput g h o ad M) 0 0 [(0, .ref o)] []
  refine j_aload_n C dX4_plays_0 0 rfl rfl ?_
  refine jm_callV C hO (as := []) (mc_starts G M) mw_starts (by decide) (Nat.le_refl _) rfl (Nat.le_of_ble_eq_true rfl) dX4_plays_1 (fun M1 hM1 => ?_)
  refine j_iconst C (v := nI 0) dX4_plays_4 (by decide) ?_
  refine j_istore_n C (L' := [(1, .int (nI 0)), (0, .ref o)]) dX4_plays_5 rfl (jlt hnl (by decide)) rfl ?_
  refine J.sub (L' := [(0, .ref o), (1, .int (nI 0))]) ?_ [1, 0] rfl
  have loop6 : ∀ (mz : Nat) (k : Nat) (Mk : jM), (k ≤ evs.length) → (mG M Mk) → (SA (Mk.2 16) (mtAt (evs.take k))) → (stands n evs k) → (NoteTo Mk evs k) → (evs.length - k) < mz → J (g, z) (mput g h o ad Mk) 0 6 [(0, .ref o), (1, .int (nI k))] [] := by
    intro mz
    induction mz with
    | zero => intro k Mk; intros; omega
    | succ mz ih6 =>
      intro k Mk hk hMk hSk hst hNo hm6
      refine j_iload_n C dX4_plays_6 1 rfl rfl ?_
      refine j_aload_n C dX4_plays_7 0 rfl rfl ?_
      refine jm_callQ C hO (as := []) (mc_ended G Mk N r (by rw [hMk.1]; exact h7) (by rw [hMk.1]; exact h3) hrN) mw_ended (by decide) (Nat.le_refl _) rfl (Nat.le_of_ble_eq_true rfl) dX4_plays_8 ?_
      refine j_ev (v' := nI evs.length) (by rw [hN]) ?_
      refine j_icn_ge C (by omega) (by omega) (tgt := 30) dX4_plays_11 (by decide) ?_ ?_
      · intro c11
        refine j_iconst C (v := -1) dX4_plays_30 (by decide) ?_
        exact j_iret C E rfl (Nat.le_refl _) (⟨_, rfl, _, rfl, hMk, (fall_no (by have e9 : k = evs.length := (by omega); rw [← e9]; exact hst)).symm, fun _ => by have e9 : k = evs.length := (by omega); rw [e9] at hNo hSk; rw [List.take_length] at hSk; exact ⟨hSk, hNo⟩⟩) dX4_plays_31
      · intro c11
        have hkl : k < evs.length := by omega
        refine j_aload_n C dX4_plays_14 0 rfl rfl ?_
        refine j_iload_n C dX4_plays_15 1 rfl rfl ?_
        refine jm_callR C hO (as := [.int (nI k)]) (mc_follows G Mk (mtAt (evs.take k)) k n (8 + 1600 * k) (evs.getD k z5).1 (evs.getD k z5).2.1 (evs.getD k z5).2.2.1 (evs.getD k z5).2.2.2.1 (evs.getD k z5).2.2.2.2 hSk (by omega) (hE k hkl) ((hR k hkl).mG hMk) (Inv.at hE hk hst) (by omega) (by rw [hMk.1]; exact h5) hn) mw_follows (by decide) (Nat.le_refl _) rfl (Nat.le_of_ble_eq_true rfl) dX4_plays_16 (fun r3 M2 hM2 => ?_)
        refine j_ev (v' := pI (evCan (mtAt (evs.take k)) n (evs.getD k z5))) hM2.1 ?_
        refine j_ifp_ne C (tgt := 24) dX4_plays_19 (by decide) ?_ ?_
        · intro c19
          have hcan := c19
          refine j_iinc C (L' := [(1, .int (nI (k + 1))), (0, .ref o)]) dX4_plays_24 1 rfl (kinc k 1 (by decide)) (jlt hnl (by decide)) rfl ?_
          refine j_goto C (tgt := 6) dX4_plays_27 (by decide) ?_
          refine J.sub (L' := [(0, .ref o), (1, .int (nI (k + 1)))]) ?_ [1, 0] rfl
          exact ih6 (k + 1) M2 (by omega) (hMk.tr hM2.2.1.mG) (by rw [mtAt_s hkl]; exact (hM2.2.2 hcan).1) (stands_s hst hcan) ((hNo.fr hM2.2.1 (Nat.le_refl _)).st (by rw [mtAt_s hkl]; exact (hM2.2.2 hcan).2)) (by omega)
        · intro c19
          refine j_iload_n C dX4_plays_22 1 rfl rfl ?_
          exact j_iret C E rfl (Nat.le_refl _) (⟨_, rfl, _, rfl, hMk.tr hM2.2.1.mG, (fall_k hkl hst c19).symm, fun z => absurd z (nI_neg1 (by omega))⟩) dX4_plays_23
  exact loop6 ((evs.length - 0) + 1) 0 M1 (Nat.zero_le _) hM1.1.mG hM1.2 (fun j hj => absurd hj (Nat.not_lt_zero _)) (fun j hj => absurd hj (Nat.not_lt_zero _)) (Nat.lt_succ_self _)
