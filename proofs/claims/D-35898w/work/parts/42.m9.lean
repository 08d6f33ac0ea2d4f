set_option maxRecDepth 100000
def ADD (n : Nat) (k a b c : Int32) (M M' : jM) : Prop := M'.1 7 = nI (n + 1) ∧ (∀ j, j ≠ 7 → M'.1 j = M.1 j) ∧ (∀ j, j < 8 ∨ 12 < j → M'.2 j = M.2 j) ∧ (∀ j q, q ≠ n → M'.2 j q = M.2 j q) ∧ M'.2 8 n = k ∧ M'.2 9 n = a ∧ M'.2 10 n = b ∧ M'.2 11 n = c ∧ M'.2 12 n = nI 0
theorem mi_isClub {g : jG} (G : jOK g) (v : Int32) : STQ g 1 yX4_isClub [.int v] (pI (inI v 0 7)) := mc_isClub G v
theorem mi_isSide {g : jG} (G : jOK g) (v : Int32) : STQ g 1 yX4_isSide [.int v] (pI (inI v 0 1)) := mc_isSide G v
theorem mi_isPlayer {g : jG} (G : jOK g) (v : Int32) : STQ g 1 yX4_isPlayer [.int v] (pI (inI v 0 9)) := mc_isPlayer G v
theorem mi_isLot {g : jG} (G : jOK g) (v : Int32) : STQ g 1 yX4_isLot [.int v] (pI (inI v 0 23)) := mc_isLot G v
theorem mi_isWho {g : jG} (G : jOK g) (k v : Int32) : STQ g 2 yX4_isWho [.int k, .int v] (pI (whoOK k v)) := mc_isWho G k v
theorem mi_in {g : jG} (G : jOK g) (v : Int32) (a b : Nat) : STQ g 0 yX4_in [.int v, .int (nI a), .int (nI b)] (pI (inI v a b)) := mc_in G v (nI a) (nI b)
theorem ADD.mH {n : Nat} {k a b c : Int32} {M M' : jM} (h : ADD n k a b c M M') : mH n M M' := ⟨fun j q _ _ hq => h.2.2.2.1 j q (by omega), fun j q hj _ _ => by rw [h.2.2.1 j (by omega)]⟩
theorem ADD.oth {n : Nat} {k a b c : Int32} {M M' : jM} (h : ADD n k a b c M M') : oth M M' := ⟨fun j _ _ _ _ z => h.2.1 j z, fun j z => h.2.2.1 j (by omega)⟩
theorem ADD.ev {n : Nat} {k a b c : Nat} {M M' : jM} (h : ADD n (nI k) (nI a) (nI b) (nI c) M M') : EvR M' n (k, a, b, c, []) := ⟨h.2.2.2.2.1, h.2.2.2.2.2.1, h.2.2.2.2.2.2.1, h.2.2.2.2.2.2.2.1, h.2.2.2.2.2.2.2.2, fun j hj => absurd hj (Nat.not_lt_zero _)⟩
/-- one event more -/
theorem RelS.ev {M M' : jM} {m : Mt} {ev : Ev5} (h : RelS M m) (hV : VM m) (h4 : M'.2 4 = M.2 4) (h5 : M'.1 5 = M.1 5) (h6 : M'.2 6 = M.2 6) (h7 : M'.1 7 = nI (nE m + 1)) (h3 : M'.1 3 = pI False) (hH : mH (nE m) M M') (hev : EvR M' (nE m) ev) (hS : SA (M'.2 16) (evDo (mNow m) ev)) (hN : NoteTo M' (mE m) (nE m)) (hN2 : NoteAt M' (nE m) (evDo (mNow m) ev)) : RelS M' (withE m (mE m ++ [ev])) := by
  obtain ⟨a1, a2, a3, a4, a5, a6, a7, a8, a9⟩ := h
  have hno : ¬ isR (withE m (mE m ++ [ev])) := by unfold isR withE; simp
  refine ⟨fun i hi => by rw [h4]; exact a1 i hi, h5.trans a2, fun i hi => by rw [h6]; exact a3 i hi, ?_, h3.trans ?_, fun k hk => ?_, ?_, ?_, fun z => absurd z hno⟩
  · rw [h7, nAll_n hno]; unfold nE withE; rw [List.length_append]; rfl
  · rw [pI_f id, pI_f hno]
  · change k < (mE m ++ [ev]).length at hk
    rw [List.length_append, List.length_singleton] at hk
    show EvR M' k ((mE m ++ [ev]).getD k z5)
    by_cases hkn : k = nE m
    · rw [hkn, getD5_e]; exact hev
    · rw [getD5_l (by unfold nE at hkn; omega)]
      have hkl : k < nE m := by unfold nE at hkn ⊢; omega
      exact (a6 k hkl).mH hH hkl (hV.len hkl)
  · show SA (M'.2 16) (mtAt (mE m ++ [ev])); rw [mtAt_app]; exact hS
  · show NoteTo M' (mE m ++ [ev]) (mE m ++ [ev]).length
    exact hN.app (by rw [mtAt_app]; exact hN2)
/-- a raid that goes on, its steps told so far -/
theorem RelS.op {M M' : jM} {m : Mt} {r : Nat} {l : List Stp3} (h : RelS M m) (hV : VM m) (h4 : M'.2 4 = M.2 4) (h5 : M'.1 5 = M.1 5) (h6 : M'.2 6 = M.2 6) (h7 : M'.1 7 = nI (nE m + 1)) (h3 : M'.1 3 = pI True) (hH : mH (nE m) M M') (hev : EvR M' (nE m) (0, r, 0, 0, l)) (h16 : M'.2 16 = M.2 16) (h17 : M'.2 17 = M.2 17) (h18 : M'.2 18 = M.2 18) : RelS M' (withR m (some (r, l))) := by
  obtain ⟨a1, a2, a3, a4, a5, a6, a7, a8, a9⟩ := h
  have hyes : isR (withR m (some (r, l))) := rfl
  refine ⟨fun i hi => by rw [h4]; exact a1 i hi, h5.trans a2, fun i hi => by rw [h6]; exact a3 i hi, ?_, h3.trans ?_, fun k hk => (a6 k hk).mH hH hk (hV.len hk), by rw [h16]; exact a7, fun j hj i hi => by rw [h17, h18]; exact a8 j hj i hi, fun _ => hev⟩
  · rw [h7, nAll_r hyes]; rfl
  · rw [pI_t trivial, pI_t hyes]
theorem RelM.some {M : jM} {m : Mt} (h2 : M.1 2 = pI True) (h : RelS M m) : RelM M (some m) := ⟨by rw [h2, pI_t trivial, pI_t isM_s], fun _ => h⟩
theorem mkS_f {k t : Nat} {w : Int32} (hk : k ≤ 6) (ht : t ≤ 300) (hw : whoOK (nI k) w) : (mkS (nI k) w (nI t)).1 = k ∧ (mkS (nI k) w (nI t)).2.2 = t ∧ whoI (mkS (nI k) w (nI t)) = w ∧ ((mkS (nI k) w (nI t)).1 = 0 → (mkS (nI k) w (nI t)).2.1 < 10) := by
  have e1 : (mkS (nI k) w (nI t)).1 = k := iN_nI (by omega)
  refine ⟨e1, iN_nI (by omega), ?_, fun h0 => ?_⟩
  · unfold whoI
    rw [e1]
    by_cases h : k = 0
    · subst h
      rw [if_pos rfl]
      have := hw.1 rfl
      show nI (if nI 0 = 0 then iN w else 0) = w
      rw [if_pos (by decide)]
      exact (nI_iN this.1).symm
    · rw [if_neg h]
      exact (hw.2 (fun z => h ((nI_eq (b := 0) (by omega) (by decide)).mp z))).symm
  · rw [e1] at h0
    subst h0
    obtain ⟨n, rfl, _, hn⟩ := inI_n (by decide) (by decide) (hw.1 rfl)
    show (if nI 0 = 0 then iN (nI n) else 0) < 10
    rw [if_pos (by decide), iN_nI (by omega)]; omega
theorem stRel.app {M M' : jM} {e : Nat} {l : List Stp3} {s : Stp3} (h : stRel M e l) (hf : ∀ j q, q ≠ 14 * e + l.length → M'.2 j q = M.2 j q) (h1 : M'.2 13 (14 * e + l.length) = nI s.1) (h2 : M'.2 14 (14 * e + l.length) = whoI s) (h3 : M'.2 15 (14 * e + l.length) = nI s.2.2) : stRel M' e (l ++ [s]) := fun j hj => by
  rw [List.length_append, List.length_singleton] at hj
  by_cases hjl : j = l.length
  · rw [hjl, getD3_e]; exact ⟨h1, h2, h3⟩
  · rw [getD3_l (by omega), hf 13 _ (by omega), hf 14 _ (by omega), hf 15 _ (by omega)]; exact h j (by omega)
theorem stOK.app {l : List Stp3} {s : Stp3} (h : stOK l) (hl : l.length ≤ 12) (h1 : s.1 ≤ 6) (h2 : s.1 = 0 → s.2.1 < 10) (h3 : s.2.2 ≤ 300) : stOK (l ++ [s]) := by
  refine ⟨by rw [List.length_append, List.length_singleton]; omega, fun j hj => ?_⟩
  rw [List.length_append, List.length_singleton] at hj
  by_cases hjl : j = l.length
  · rw [hjl, getD3_e]; exact ⟨h1, h2, h3⟩
  · rw [getD3_l (by omega)]; exact h.2 j (by omega)
theorem stepsOK.app {t : MT} {l : List Stp3} {s : Stp3} (h : stepsOK t l) (hs : stepOK t l s) : stepsOK t (l ++ [s]) := fun j hj => by
  rw [List.length_append, List.length_singleton] at hj
  show stepOK t _ ((l ++ [s]).getD j z3)
  by_cases hjl : j = l.length
  · rw [hjl, getD3_e, List.take_append_of_le_length (Nat.le_refl _), List.take_length]; exact hs
  · rw [getD3_l (by omega), take3 (by omega)]; exact h j (by omega)
theorem lastOf_app {l : List Stp3} {s : Stp3} : lastOf (l ++ [s]) = s := by unfold lastOf; simp

set_option maxHeartbeats 4000000 in
theorem mc_isBtw {g : jG} (G : jOK g) (M : jM) (Q : Option Mt) (hRel : RelM M Q) (hV : VQ Q)  : MTQ g 0 yX4_isBetween [] M (pI (isM Q ∧ ¬ isR (dM Q) ∧ nE (dM Q) < 60)) := by
  intro h o ad hO
  refine CT.of (bytes := cX4_isBetween) (maxL := 1) (ret := (some .boolean)) G q2050 (by decide) (by decide +kernel) (Nat.le_of_ble_eq_true rfl) ?_
  intro z C E hT hnm hnl
  have C : jC (g, z) cX4_isBetween RX4 0 0 := C
  show J (g, z) (mput g h o ad M) 0 0 [(0, .ref o)] []
  refine j_aload_n C dX4_isBetween_0 0 rfl rfl ?_
  refine jm_get2 C dX4_isBetween_1 ?_
  refine j_ev (v' := pI (isM Q)) hRel.1 ?_
  refine j_ifp_eq C (tgt := 27) dX4_isBetween_4 (by decide) ?_ ?_
  · intro c4
    refine j_iconst C (v := nI 0) dX4_isBetween_27 (by decide) ?_
    exact j_iret C E (by decide) (Nat.le_refl _) (⟨_, rfl, rz0 (by grind), rfl⟩) dX4_isBetween_28
  · intro c4
    refine j_aload_n C dX4_isBetween_7 0 rfl rfl ?_
    refine jm_get3 C dX4_isBetween_8 ?_
    refine j_ev (v' := pI (isR (dM Q))) ((hRel.2 c4).2.2.2.2.1) ?_
    refine j_ifp_ne C (tgt := 27) dX4_isBetween_11 (by decide) ?_ ?_
    · intro c11
      refine j_iconst C (v := nI 0) dX4_isBetween_27 (by decide) ?_
      exact j_iret C E (by decide) (Nat.le_refl _) (⟨_, rfl, rz0 (by grind), rfl⟩) dX4_isBetween_28
    · intro c11
      refine j_aload_n C dX4_isBetween_14 0 rfl rfl ?_
      refine jm_get7 C dX4_isBetween_15 ?_
      refine j_ev (v' := nI (nE (dM Q))) (by rw [(hRel.2 c4).2.2.2.1, nAll_n (by assumption)]) ?_
      refine j_bipush C (v := nI 60) dX4_isBetween_18 (by decide) ?_
      refine j_icn_ge C (by have := (hV c4).ne; omega) (by decide) (tgt := 27) dX4_isBetween_20 (by decide) ?_ ?_
      · intro c20
        refine j_iconst C (v := nI 0) dX4_isBetween_27 (by decide) ?_
        exact j_iret C E (by decide) (Nat.le_refl _) (⟨_, rfl, rz0 (by grind), rfl⟩) dX4_isBetween_28
      · intro c20
        refine j_iconst C (v := nI 1) dX4_isBetween_23 (by decide) ?_
        refine j_goto C (tgt := 28) dX4_isBetween_24 (by decide) ?_
        exact j_iret C E (by decide) (Nat.le_refl _) (⟨_, rfl, rz1 (by grind), rfl⟩) dX4_isBetween_28

def OUT1 (M M' : jM) (v : Int32) (o : Ans) : Prop := M'.1 0 = nI o.1 ∧ (o.1 = 0 → v = o.2.1 ∧ M'.1 1 = M.1 1 + nI 1) ∧ (o.1 ≠ 0 → M'.1 1 = M.1 1) ∧ RelM M' o.2.2 ∧ (∀ k, k ≠ 1 → k ≠ 0 → k ≠ 2 → k ≠ 3 → k ≠ 5 → k ≠ 7 → M'.1 k = M.1 k) ∧ ∀ k, k = 19 ∨ 26 ≤ k → M'.2 k = M.2 k
theorem OUT1.er {M M' : jM} {v : Int32} {Q : Option Mt} {o : Ans} {k : Nat} (hk : k ≠ 0) (h : M' = mSF M 0 (nI k)) (hR : RelM M Q) (ho : o = (k, 0, Q)) : OUT1 M M' v o := by
  subst ho; subst h
  exact ⟨mSF_eq, fun z => absurd z hk, fun _ => mSF_ne (by decide), hR.F (by decide), fun j _ a _ _ _ _ => mSF_ne a, fun _ _ => rfl⟩
theorem BEGIN_fin {M M1 M2 M3 M4 M5 M6 M7 M8 M9 M10 M11 : jM} {c d t : Nat} (hc : c < 8) (hd : d < 8) (e1 : M1 = mSF M 0 (nI 0)) (e2 : M2 = mSF M1 2 (nI 1)) (e3 : M3 = mSF M2 3 (nI 0)) (e4 : M4 = mSA M3 4 0 (nI c)) (e5 : M5 = mSA M4 4 1 (nI d)) (e6 : M6 = mSF M5 5 (nI t)) (e7 : M7 = mSF M6 7 (nI 0)) (e8 : M8 = mSA M7 6 0 (nI 0)) (e9 : M9 = mSA M8 6 1 (nI 0)) (hO : mO M9 M10 ∧ SA (M10.2 16) mt0) (e11 : M11 = mSF M10 1 (M10.1 1 + nI 1)) : OUT1 M M11 (M11.1 1) (0, M.1 1 + nI 1, some (fun i => if i = 0 then c else d, t, fun _ => False, [], none)) := by
  have hF : ∀ k, M9.1 k = if k = 7 then nI 0 else if k = 5 then nI t else if k = 3 then nI 0 else if k = 2 then nI 1 else if k = 0 then nI 0 else M.1 k := fun k => by rw [e9, e8, e7, e6, e5, e4, e3, e2, e1]; rfl
  have hG : ∀ k, k ≠ 1 → M11.1 k = if k = 7 then nI 0 else if k = 5 then nI t else if k = 3 then nI 0 else if k = 2 then nI 1 else if k = 0 then nI 0 else M.1 k := fun k hk => by rw [e11, mSF_ne hk, hO.1.1]; exact hF k
  have h1 : M11.1 1 = M.1 1 + nI 1 := by rw [e11, mSF_eq, hO.1.1, hF 1]; rfl
  have hA : ∀ k, k ≠ 16 → k ≠ 4 → k ≠ 6 → M11.2 k = M.2 k := fun k a b c => by rw [e11]; show M10.2 k = _; rw [hO.1.2 k a, e9, e8, e7, e6, e5, e4, e3, e2, e1]; unfold mSA mSF; dsimp only; rw [if_neg c, if_neg c, if_neg b, if_neg b]
  have h4 : M11.2 4 = M9.2 4 := by rw [e11]; exact hO.1.2 4 (by decide)
  have h6 : M11.2 6 = M9.2 6 := by rw [e11]; exact hO.1.2 6 (by decide)
  have hno : ¬ isR ((fun i => if i = 0 then c else d, t, fun _ => False, [], none) : Mt) := by unfold isR; simp
  refine ⟨by rw [hG 0 (by decide)]; rfl, fun _ => ⟨h1, h1⟩, fun z => absurd rfl z, RelM.some (by rw [hG 2 (by decide), pI_t trivial]; rfl) ⟨fun i hi => ?_, by rw [hG 5 (by decide)]; rfl, fun i hi => ?_, ?_, ?_, fun k hk => absurd hk (Nat.not_lt_zero _), by rw [e11]; exact hO.2, fun k hk => absurd hk (Nat.not_lt_zero _), fun z => absurd z hno⟩, fun k a b c d e f => ?_, fun k hk => hA k (by omega) (by omega) (by omega)⟩
  · rw [h4, e9, mSA_ne (Or.inl (by decide)), e8, mSA_ne (Or.inl (by decide)), e7, mSF_A, e6, mSF_A, e5]
    have : i = 0 ∨ i = 1 := by omega
    rcases this with rfl | rfl
    · rw [mSA_ne (Or.inr (by decide)), e4, mSA_eq]; rfl
    · rw [mSA_eq]; rfl
  · rw [h6, e9]
    have : i = 0 ∨ i = 1 := by omega
    rcases this with rfl | rfl
    · rw [mSA_ne (Or.inr (by decide)), e8, mSA_eq]; exact (pI_f id).symm
    · rw [mSA_eq]; exact (pI_f id).symm
  · rw [hG 7 (by decide), nAll_n hno]; rfl
  · rw [hG 3 (by decide), pI_f hno]; rfl
  · rw [hG k a, if_neg f, if_neg e, if_neg d, if_neg c, if_neg b]

set_option maxHeartbeats 4000000 in
theorem mc_begin {g : jG} (G : jOK g) (M : jM) (Q : Option Mt) (c d t : Int32) (hRel : RelM M Q) (hV : VQ Q)  : MTR g 2 yX4_begin [.int c, .int d, .int t] M (fun v M' => OUT1 M M' v (opBegin (M.1 1) Q c d t)) := by
  intro h o ad hO
  refine CT.of (bytes := cX4_begin) (maxL := 5) (ret := (some .int)) G q2025 (by decide) (by decide +kernel) (Nat.le_of_ble_eq_true rfl) ?_
  intro z C E hT hnm hnl
  have C : jC (g, z) cX4_begin RX4 2 0 := C
  show J (g, z) (mput g h o ad M) 0 0 [(0, .ref o), (1, .int c), (2, .int d), (3, .int t)] []
  refine j_iload_n C dX4_begin_0 1 rfl rfl ?_
  refine j_callSQ C (as := [.int c]) (mi_isClub G c) mw_isClub (by decide) (Nat.le_refl _) rfl (Nat.le_of_ble_eq_true rfl) dX4_begin_1 ?_
  have join19 : J (g, z) (mput g h o ad M) 0 19 [(0, .ref o), (1, .int c), (2, .int d), (3, .int t)] [.int (pI (inI c 0 7 ∧ inI d 0 7))] := by
    refine j_istore C (L' := [(4, .int (pI (inI c 0 7 ∧ inI d 0 7))), (0, .ref o), (1, .int c), (2, .int d), (3, .int t)]) dX4_begin_19 (jlt hnl (by decide)) rfl ?_
    refine j_aload_n C dX4_begin_21 1 rfl rfl ?_
    refine j_iload C dX4_begin_22 0 rfl ?_
    refine j_ifp_ne C (tgt := 31) dX4_begin_24 (by decide) ?_ ?_
    · intro c24
      refine j_iload_n C dX4_begin_31 2 rfl rfl ?_
      refine j_iload_n C dX4_begin_32 3 rfl rfl ?_
      refine j_ic_eq C (tgt := 49) dX4_begin_33 (by decide) ?_ ?_
      · intro c33
        refine j_iconst C (v := nI 2) dX4_begin_49 (by decide) ?_
        refine j_goto C (tgt := 65) dX4_begin_50 (by decide) ?_
        refine jm_callR C hO (as := [.int (nI 2)]) (mc_holds G M (nI 2)) mw_holds (by decide) (Nat.le_refl _) rfl (Nat.le_of_ble_eq_true rfl) dX4_begin_65 (fun r2 M1 hM1 => ?_)
        refine j_ev (v' := nI 0) (by rw [hM1.1, pI_f (by decide)]; rfl) ?_
        have eM1 := hM1.2
        refine j_ifn_ne C (by decide) (tgt := 73) dX4_begin_68 (by decide) ?_ ?_
        · intro c68
          omega
        · intro c68
          refine j_iconst C (v := nI 0) dX4_begin_71 (by decide) ?_
          exact j_iret C E rfl (Nat.le_refl _) (⟨_, rfl, _, rfl, OUT1.er (by decide) eM1 hRel (by unfold opBegin; rw [iF_t c24, iF_t (by exact Or.inl c33)])⟩) dX4_begin_72
      · intro c33
        refine j_iload_n C dX4_begin_36 4 rfl rfl ?_
        refine j_sipush C (v := nI 300) dX4_begin_37 (by decide) ?_
        refine j_sipush C (v := nI 24000) dX4_begin_40 (by decide) ?_
        refine j_callSQ C (as := [.int t, .int (nI 300), .int (nI 24000)]) (mi_in G t 300 24000) mw_in (by decide) (Nat.le_refl _) rfl (Nat.le_of_ble_eq_true rfl) dX4_begin_43 ?_
        refine j_ifp_ne C (tgt := 53) dX4_begin_46 (by decide) ?_ ?_
        · intro c46
          have hcc := c24
          have hcn : ¬ (c = d ∨ ¬ inI t 300 24000) := by rw [not_or]; exact ⟨c33, fun z => z c46⟩
          obtain ⟨cn, rfl, hcn0, hcn9⟩ := inI_n (by decide) (by decide) c24.1
          have iNcn : iN (nI cn) = cn := iN_nI (by omega)
          obtain ⟨dn, rfl, hdn0, hdn9⟩ := inI_n (by decide) (by decide) c24.2
          have iNdn : iN (nI dn) = dn := iN_nI (by omega)
          obtain ⟨tn, rfl, htn0, htn9⟩ := inI_n (by decide) (by decide) c46
          have iNtn : iN (nI tn) = tn := iN_nI (by omega)
          refine j_aload_n C dX4_begin_53 1 rfl rfl ?_
          refine jm_get2 C dX4_begin_54 ?_
          refine j_ev (v' := pI (isM Q)) hRel.1 ?_
          refine j_ifp_eq C (tgt := 64) dX4_begin_57 (by decide) ?_ ?_
          · intro c57
            refine j_iconst C (v := nI 0) dX4_begin_64 (by decide) ?_
            refine jm_callR C hO (as := [.int (nI 0)]) (mc_holds G M (nI 0)) mw_holds (by decide) (Nat.le_refl _) rfl (Nat.le_of_ble_eq_true rfl) dX4_begin_65 (fun r4 M3 hM3 => ?_)
            refine j_ev (v' := nI 1) (by rw [hM3.1, pI_t (by decide)]; rfl) ?_
            have eM3 := hM3.2
            refine j_ifn_ne C (by decide) (tgt := 73) dX4_begin_68 (by decide) ?_ ?_
            · intro c68
              refine j_aload_n C dX4_begin_73 1 rfl rfl ?_
              refine j_iconst C (v := nI 1) dX4_begin_74 (by decide) ?_
              refine jm_put2 C hO ⟨by decide, by decide⟩ dX4_begin_75 (fun M5 hM5 => ?_)
              refine j_aload_n C dX4_begin_78 1 rfl rfl ?_
              refine j_iconst C (v := nI 0) dX4_begin_79 (by decide) ?_
              refine jm_put3 C hO ⟨by decide, by decide⟩ dX4_begin_80 (fun M6 hM6 => ?_)
              refine j_aload_n C dX4_begin_83 1 rfl rfl ?_
              refine jm_get4 C dX4_begin_84 ?_
              refine j_iconst C (v := nI 0) dX4_begin_87 (by decide) ?_
              refine j_iload_n C dX4_begin_88 2 rfl rfl ?_
              refine jm_ast4 C hO (by omega) dX4_begin_89 (fun M7 hM7 => ?_)
              refine j_aload_n C dX4_begin_90 1 rfl rfl ?_
              refine jm_get4 C dX4_begin_91 ?_
              refine j_iconst C (v := nI 1) dX4_begin_94 (by decide) ?_
              refine j_iload_n C dX4_begin_95 3 rfl rfl ?_
              refine jm_ast4 C hO (by omega) dX4_begin_96 (fun M8 hM8 => ?_)
              refine j_aload_n C dX4_begin_97 1 rfl rfl ?_
              refine j_iload_n C dX4_begin_98 4 rfl rfl ?_
              refine jm_put5 C hO dX4_begin_99 (fun M9 hM9 => ?_)
              refine j_aload_n C dX4_begin_102 1 rfl rfl ?_
              refine j_iconst C (v := nI 0) dX4_begin_103 (by decide) ?_
              refine jm_put7 C hO dX4_begin_104 (fun M10 hM10 => ?_)
              refine j_aload_n C dX4_begin_107 1 rfl rfl ?_
              refine jm_get6 C dX4_begin_108 ?_
              refine j_iconst C (v := nI 0) dX4_begin_111 (by decide) ?_
              refine j_iconst C (v := nI 0) dX4_begin_112 (by decide) ?_
              refine jm_ast6 C hO (by omega) (by decide) dX4_begin_113 (fun M11 hM11 => ?_)
              refine j_aload_n C dX4_begin_114 1 rfl rfl ?_
              refine jm_get6 C dX4_begin_115 ?_
              refine j_iconst C (v := nI 1) dX4_begin_118 (by decide) ?_
              refine j_iconst C (v := nI 0) dX4_begin_119 (by decide) ?_
              refine jm_ast6 C hO (by omega) (by decide) dX4_begin_120 (fun M12 hM12 => ?_)
              refine j_aload_n C dX4_begin_121 1 rfl rfl ?_
              refine jm_callV C hO (as := []) (mc_starts G M12) mw_starts (by decide) (Nat.le_refl _) rfl (Nat.le_of_ble_eq_true rfl) dX4_begin_122 (fun M13 hM13 => ?_)
              refine j_aload_n C dX4_begin_125 1 rfl rfl ?_
              refine j_dup C dX4_begin_126 rfl ?_
              refine jm_get1 C dX4_begin_127 ?_
              refine j_iconst C (v := nI 1) dX4_begin_130 (by decide) ?_
              refine j_iadd C dX4_begin_131 ?_
              refine jm_put1 C hO dX4_begin_132 (fun M14 hM14 => ?_)
              refine j_aload_n C dX4_begin_135 1 rfl rfl ?_
              refine jm_get1 C dX4_begin_136 ?_
              exact j_iret C E rfl (Nat.le_refl _) (⟨_, rfl, _, rfl, by unfold opBegin; rw [iF_t hcc, iF_f hcn, iF_f c57, iN_nI (by omega), iN_nI (by omega), iN_nI (by omega)]; exact BEGIN_fin (by omega) (by omega) eM3 hM5 hM6 hM7 hM8 hM9 hM10 hM11 hM12 hM13 hM14⟩) dX4_begin_139
            · intro c68
              omega
          · intro c57
            refine j_iconst C (v := nI 3) dX4_begin_60 (by decide) ?_
            refine j_goto C (tgt := 65) dX4_begin_61 (by decide) ?_
            refine jm_callR C hO (as := [.int (nI 3)]) (mc_holds G M (nI 3)) mw_holds (by decide) (Nat.le_refl _) rfl (Nat.le_of_ble_eq_true rfl) dX4_begin_65 (fun r16 M15 hM15 => ?_)
            refine j_ev (v' := nI 0) (by rw [hM15.1, pI_f (by decide)]; rfl) ?_
            have eM15 := hM15.2
            refine j_ifn_ne C (by decide) (tgt := 73) dX4_begin_68 (by decide) ?_ ?_
            · intro c68
              omega
            · intro c68
              refine j_iconst C (v := nI 0) dX4_begin_71 (by decide) ?_
              exact j_iret C E rfl (Nat.le_refl _) (⟨_, rfl, _, rfl, OUT1.er (by decide) eM15 hRel (by unfold opBegin; rw [iF_t hcc, iF_f hcn, iF_t c57])⟩) dX4_begin_72
        · intro c46
          refine j_iconst C (v := nI 2) dX4_begin_49 (by decide) ?_
          refine j_goto C (tgt := 65) dX4_begin_50 (by decide) ?_
          refine jm_callR C hO (as := [.int (nI 2)]) (mc_holds G M (nI 2)) mw_holds (by decide) (Nat.le_refl _) rfl (Nat.le_of_ble_eq_true rfl) dX4_begin_65 (fun r18 M17 hM17 => ?_)
          refine j_ev (v' := nI 0) (by rw [hM17.1, pI_f (by decide)]; rfl) ?_
          have eM17 := hM17.2
          refine j_ifn_ne C (by decide) (tgt := 73) dX4_begin_68 (by decide) ?_ ?_
          · intro c68
            omega
          · intro c68
            refine j_iconst C (v := nI 0) dX4_begin_71 (by decide) ?_
            exact j_iret C E rfl (Nat.le_refl _) (⟨_, rfl, _, rfl, OUT1.er (by decide) eM17 hRel (by unfold opBegin; rw [iF_t c24, iF_t (by exact Or.inr c46)])⟩) dX4_begin_72
    · intro c24
      refine j_iconst C (v := nI 1) dX4_begin_27 (by decide) ?_
      refine j_goto C (tgt := 65) dX4_begin_28 (by decide) ?_
      refine jm_callR C hO (as := [.int (nI 1)]) (mc_holds G M (nI 1)) mw_holds (by decide) (Nat.le_refl _) rfl (Nat.le_of_ble_eq_true rfl) dX4_begin_65 (fun r20 M19 hM19 => ?_)
      refine j_ev (v' := nI 0) (by rw [hM19.1, pI_f (by decide)]; rfl) ?_
      have eM19 := hM19.2
      refine j_ifn_ne C (by decide) (tgt := 73) dX4_begin_68 (by decide) ?_ ?_
      · intro c68
        omega
      · intro c68
        refine j_iconst C (v := nI 0) dX4_begin_71 (by decide) ?_
        exact j_iret C E rfl (Nat.le_refl _) (⟨_, rfl, _, rfl, OUT1.er (by decide) eM19 hRel (by unfold opBegin; rw [iF_f c24])⟩) dX4_begin_72
  refine j_ifp_eq C (tgt := 18) dX4_begin_4 (by decide) ?_ ?_
  · intro c4
    refine j_iconst C (v := nI 0) dX4_begin_18 (by decide) ?_
    refine J.sub (L' := [(0, .ref o), (1, .int c), (2, .int d), (3, .int t)]) ?_ [0, 1, 2, 3] rfl
    refine j_ev (v' := pI (inI c 0 7 ∧ inI d 0 7)) (by rw [pI_f (by grind)]; rfl) ?_
    exact join19
  · intro c4
    refine j_iload_n C dX4_begin_7 2 rfl rfl ?_
    refine j_callSQ C (as := [.int d]) (mi_isClub G d) mw_isClub (by decide) (Nat.le_refl _) rfl (Nat.le_of_ble_eq_true rfl) dX4_begin_8 ?_
    refine j_ifp_eq C (tgt := 18) dX4_begin_11 (by decide) ?_ ?_
    · intro c11
      refine j_iconst C (v := nI 0) dX4_begin_18 (by decide) ?_
      refine J.sub (L' := [(0, .ref o), (1, .int c), (2, .int d), (3, .int t)]) ?_ [0, 1, 2, 3] rfl
      refine j_ev (v' := pI (inI c 0 7 ∧ inI d 0 7)) (by rw [pI_f (by grind)]; rfl) ?_
      exact join19
    · intro c11
      refine j_iconst C (v := nI 1) dX4_begin_14 (by decide) ?_
      refine j_goto C (tgt := 19) dX4_begin_15 (by decide) ?_
      refine J.sub (L' := [(0, .ref o), (1, .int c), (2, .int d), (3, .int t)]) ?_ [0, 1, 2, 3] rfl
      refine j_ev (v' := pI (inI c 0 7 ∧ inI d 0 7)) (by rw [pI_t (by grind)]; rfl) ?_
      exact join19

set_option maxHeartbeats 4000000 in
theorem mc_adds {g : jG} (G : jOK g) (M : jM) (n : Nat) (hn : n < 60) (h7 : M.1 7 = nI n) (k a b c : Int32)  : MTR g 0 yX4_adds [.int k, .int a, .int b, .int c] M (fun v M' => v = nI n ∧ ADD n k a b c M M') := by
  intro h o ad hO
  refine CT.of (bytes := cX4_adds) (maxL := 5) (ret := (some .int)) G q2066 (by decide) (by decide +kernel) (Nat.le_of_ble_eq_true rfl) ?_
  intro z C E hT hnm hnl
  have C : jC (g, z) cX4_adds RX4 0 0 := C
  show J (g, z) (mput g h o ad M) 0 0 [(0, .ref o), (1, .int k), (2, .int a), (3, .int b), (4, .int c)] []
  refine j_aload_n C dX4_adds_0 0 rfl rfl ?_
  refine jm_get8 C dX4_adds_1 ?_
  refine j_aload_n C dX4_adds_4 0 rfl rfl ?_
  refine jm_get7 C dX4_adds_5 ?_
  refine j_ev (v' := nI n) h7 ?_
  refine j_iload_n C dX4_adds_8 1 rfl rfl ?_
  refine jm_ast8 C hO (by omega) dX4_adds_9 (fun M1 hM1 => ?_)
  refine j_aload_n C dX4_adds_10 0 rfl rfl ?_
  refine jm_get9 C dX4_adds_11 ?_
  refine j_aload_n C dX4_adds_14 0 rfl rfl ?_
  refine jm_get7 C dX4_adds_15 ?_
  refine j_ev (v' := nI n) (by rw [hM1, mSA_F]; exact h7) ?_
  refine j_iload_n C dX4_adds_18 2 rfl rfl ?_
  refine jm_ast9 C hO (by omega) dX4_adds_19 (fun M2 hM2 => ?_)
  refine j_aload_n C dX4_adds_20 0 rfl rfl ?_
  refine jm_get10 C dX4_adds_21 ?_
  refine j_aload_n C dX4_adds_24 0 rfl rfl ?_
  refine jm_get7 C dX4_adds_25 ?_
  refine j_ev (v' := nI n) (by rw [hM2, mSA_F, hM1, mSA_F]; exact h7) ?_
  refine j_iload_n C dX4_adds_28 3 rfl rfl ?_
  refine jm_ast10 C hO (by omega) dX4_adds_29 (fun M3 hM3 => ?_)
  refine j_aload_n C dX4_adds_30 0 rfl rfl ?_
  refine jm_get11 C dX4_adds_31 ?_
  refine j_aload_n C dX4_adds_34 0 rfl rfl ?_
  refine jm_get7 C dX4_adds_35 ?_
  refine j_ev (v' := nI n) (by rw [hM3, mSA_F, hM2, mSA_F, hM1, mSA_F]; exact h7) ?_
  refine j_iload C dX4_adds_38 4 rfl ?_
  refine jm_ast11 C hO (by omega) dX4_adds_40 (fun M4 hM4 => ?_)
  refine j_aload_n C dX4_adds_41 0 rfl rfl ?_
  refine jm_get12 C dX4_adds_42 ?_
  refine j_aload_n C dX4_adds_45 0 rfl rfl ?_
  refine jm_get7 C dX4_adds_46 ?_
  refine j_ev (v' := nI n) (by rw [hM4, mSA_F, hM3, mSA_F, hM2, mSA_F, hM1, mSA_F]; exact h7) ?_
  refine j_iconst C (v := nI 0) dX4_adds_49 (by decide) ?_
  refine jm_ast12 C hO (by omega) dX4_adds_50 (fun M5 hM5 => ?_)
  refine j_aload_n C dX4_adds_51 0 rfl rfl ?_
  refine j_dup C dX4_adds_52 rfl ?_
  refine jm_get7 C dX4_adds_53 ?_
  refine j_ev (v' := nI n) (by rw [hM5, mSA_F, hM4, mSA_F, hM3, mSA_F, hM2, mSA_F, hM1, mSA_F]; exact h7) ?_
  refine j_iconst C (v := nI 1) dX4_adds_56 (by decide) ?_
  refine j_iaddn C dX4_adds_57 ?_
  refine jm_put7 C hO dX4_adds_58 (fun M6 hM6 => ?_)
  refine j_aload_n C dX4_adds_61 0 rfl rfl ?_
  refine jm_get7 C dX4_adds_62 ?_
  refine j_ev (v' := nI (n + 1)) (by rw [hM6, mSF_eq]) ?_
  refine j_iconst C (v := nI 1) dX4_adds_65 (by decide) ?_
  refine j_isubn C (by omega) dX4_adds_66 ?_
  exact j_iret C E rfl (Nat.le_refl _) (⟨_, rfl, _, rfl, by rw [Nat.add_sub_cancel], by rw [hM6, mSF_eq], fun j hj => by rw [hM6, mSF_ne hj, hM5, hM4, hM3, hM2, hM1]; rfl, fun j hj => by rw [hM6, hM5, hM4, hM3, hM2, hM1]; unfold mSA mSF; dsimp only; rw [if_neg (by omega), if_neg (by omega), if_neg (by omega), if_neg (by omega), if_neg (by omega)], fun j q hq => by rw [hM6, mSF_A, hM5, mSA_ne (Or.inr hq), hM4, mSA_ne (Or.inr hq), hM3, mSA_ne (Or.inr hq), hM2, mSA_ne (Or.inr hq), hM1, mSA_ne (Or.inr hq)], by rw [hM6, mSF_A, hM5, mSA_ne (Or.inl (by decide)), hM4, mSA_ne (Or.inl (by decide)), hM3, mSA_ne (Or.inl (by decide)), hM2, mSA_ne (Or.inl (by decide)), hM1, mSA_eq], by rw [hM6, mSF_A, hM5, mSA_ne (Or.inl (by decide)), hM4, mSA_ne (Or.inl (by decide)), hM3, mSA_ne (Or.inl (by decide)), hM2, mSA_eq], by rw [hM6, mSF_A, hM5, mSA_ne (Or.inl (by decide)), hM4, mSA_ne (Or.inl (by decide)), hM3, mSA_eq], by rw [hM6, mSF_A, hM5, mSA_ne (Or.inl (by decide)), hM4, mSA_eq], by rw [hM6, mSF_A, hM5, mSA_eq]⟩) dX4_adds_67

theorem RAID_fin {M M1 M2 M3 : jM} {Q : Option Mt} {v : Int32} {rn : Nat} (h2 : M.1 2 = pI (isM Q)) (hm : isM Q) (hS : RelS M (dM Q)) (hV : VM (dM Q)) (hr : ¬ isR (dM Q)) (e1 : M1 = mSF M 0 (nI 0)) (e2 : M2 = mSF M1 3 (nI 1)) (hv : v = nI (nE (dM Q))) (hA : ADD (nE (dM Q)) (nI 0) (nI rn) (nI 0) (nI 0) M2 M3) : OUT M M3 v (0, nI (nE (dM Q)), some (withR (dM Q) (some (rn, [])))) := by
  have hF : ∀ j, j ≠ 0 → j ≠ 3 → j ≠ 7 → M3.1 j = M.1 j := fun j a b c => by rw [hA.2.1 j c, e2, mSF_ne b, e1, mSF_ne a]
  have hB : ∀ j, j < 8 ∨ 12 < j → M3.2 j = M.2 j := fun j a => by rw [hA.2.2.1 j a, e2, e1]; rfl
  refine ⟨by rw [hA.2.1 0 (by decide), e2, mSF_ne (by decide), e1, mSF_eq], fun _ => hv, RelM.some (by rw [hF 2 (by decide) (by decide) (by decide), h2, pI_t hm, pI_t trivial]) ?_, ?_⟩
  · refine RelS.op hS hV (hB 4 (by decide)) (hF 5 (by decide) (by decide) (by decide)) (hB 6 (by decide)) hA.1 (by rw [hA.2.1 3 (by decide), e2, mSF_eq, pI_t trivial]; rfl) ?_ hA.ev (hB 16 (by decide)) (hB 17 (by decide)) (hB 18 (by decide))
    exact ((by rw [e1]; exact mH.F : mH (nE (dM Q)) M M1).tr (by rw [e2]; exact mH.F)).tr hA.mH
  · exact ((by rw [e1]; exact oth.F (by decide) : oth M M1).tr (by rw [e2]; exact oth.F (by decide))).tr hA.oth

set_option maxHeartbeats 4000000 in
theorem mc_raid {g : jG} (G : jOK g) (M : jM) (Q : Option Mt) (r : Int32) (hRel : RelM M Q) (hV : VQ Q)  : MTR g 2 yX4_raid [.int r] M (fun v M' => OUT M M' v (opRaid Q r)) := by
  intro h o ad hO
  refine CT.of (bytes := cX4_raid) (maxL := 3) (ret := (some .int)) G q2043 (by decide) (by decide +kernel) (Nat.le_of_ble_eq_true rfl) ?_
  intro z C E hT hnm hnl
  have C : jC (g, z) cX4_raid RX4 2 0 := C
  show J (g, z) (mput g h o ad M) 0 0 [(0, .ref o), (1, .int r)] []
  refine j_iload_n C dX4_raid_0 1 rfl rfl ?_
  refine j_callSQ C (as := [.int r]) (mi_isPlayer G r) mw_isPlayer (by decide) (Nat.le_refl _) rfl (Nat.le_of_ble_eq_true rfl) dX4_raid_1 ?_
  refine j_istore_n C (L' := [(2, .int (pI (inI r 0 9))), (0, .ref o), (1, .int r)]) dX4_raid_4 rfl (jlt hnl (by decide)) rfl ?_
  refine j_aload_n C dX4_raid_5 1 rfl rfl ?_
  refine j_iload_n C dX4_raid_6 0 rfl rfl ?_
  refine j_ifp_ne C (tgt := 14) dX4_raid_7 (by decide) ?_ ?_
  · intro c7
    have hin := c7
    obtain ⟨rn, rfl, hrn0, hrn9⟩ := inI_n (by decide) (by decide) c7
    have iNrn : iN (nI rn) = rn := iN_nI (by omega)
    have hIN := iNrn
    refine j_aload_n C dX4_raid_14 1 rfl rfl ?_
    refine jm_callQ C hO (as := []) (mc_isBtw G M Q hRel hV) mw_isBetween (by decide) (Nat.le_refl _) rfl (Nat.le_of_ble_eq_true rfl) dX4_raid_15 ?_
    refine j_ifp_eq C (tgt := 29) dX4_raid_18 (by decide) ?_ ?_
    · intro c18
      refine j_iconst C (v := nI 2) dX4_raid_29 (by decide) ?_
      refine j_goto C (tgt := 34) dX4_raid_30 (by decide) ?_
      refine jm_callR C hO (as := [.int (nI 2)]) (mc_holds G M (nI 2)) mw_holds (by decide) (Nat.le_refl _) rfl (Nat.le_of_ble_eq_true rfl) dX4_raid_34 (fun r2 M1 hM1 => ?_)
      refine j_ev (v' := nI 0) (by rw [hM1.1, pI_f (by decide)]; rfl) ?_
      have eM1 := hM1.2
      refine j_ifn_ne C (by decide) (tgt := 42) dX4_raid_37 (by decide) ?_ ?_
      · intro c37
        omega
      · intro c37
        refine j_iconst C (v := nI 0) dX4_raid_40 (by decide) ?_
        exact j_iret C E rfl (Nat.le_refl _) (⟨_, rfl, _, rfl, OUT.er (by decide) eM1 hRel (by unfold opRaid; rw [iF_t hin, iF_f (by rw [hIN]; exact fun z => c18 ⟨z.1, z.2.1, z.2.2.1⟩)])⟩) dX4_raid_41
    · intro c18
      have hS := hRel.2 c18.1
      have hVm := hV c18.1
      have hI := hVm.inv
      have hne := hVm.ne
      refine j_aload_n C dX4_raid_21 1 rfl rfl ?_
      refine j_iload_n C dX4_raid_22 2 rfl rfl ?_
      refine jm_callQ C hO (as := [.int (nI rn)]) (mc_canRaid G M (mNow (dM Q)) (mL (dM Q)) rn hS.2.2.2.2.2.2.1 hI.1.1 (by omega) hS.2.1 (by have := hVm.2.1; omega) (by have := hI.2.2 7 0 0; omega) (by have := hI.2.2 8 0 0; omega)) mw_canRaid (by decide) (Nat.le_refl _) rfl (Nat.le_of_ble_eq_true rfl) dX4_raid_23 ?_
      refine j_ifp_ne C (tgt := 33) dX4_raid_26 (by decide) ?_ ?_
      · intro c26
        refine j_iconst C (v := nI 0) dX4_raid_33 (by decide) ?_
        refine jm_callR C hO (as := [.int (nI 0)]) (mc_holds G M (nI 0)) mw_holds (by decide) (Nat.le_refl _) rfl (Nat.le_of_ble_eq_true rfl) dX4_raid_34 (fun r4 M3 hM3 => ?_)
        refine j_ev (v' := nI 1) (by rw [hM3.1, pI_t (by decide)]; rfl) ?_
        have eM3 := hM3.2
        refine j_ifn_ne C (by decide) (tgt := 42) dX4_raid_37 (by decide) ?_ ?_
        · intro c37
          refine j_aload_n C dX4_raid_42 1 rfl rfl ?_
          refine j_iconst C (v := nI 1) dX4_raid_43 (by decide) ?_
          refine jm_put3 C hO ⟨by decide, by decide⟩ dX4_raid_44 (fun M5 hM5 => ?_)
          refine j_aload_n C dX4_raid_47 1 rfl rfl ?_
          refine j_iconst C (v := nI 0) dX4_raid_48 (by decide) ?_
          refine j_iload_n C dX4_raid_49 2 rfl rfl ?_
          refine j_iconst C (v := nI 0) dX4_raid_50 (by decide) ?_
          refine j_iconst C (v := nI 0) dX4_raid_51 (by decide) ?_
          refine jm_callR C hO (as := [.int (nI 0), .int (nI rn), .int (nI 0), .int (nI 0)]) (mc_adds G M5 (nE (dM Q)) c18.2.2 (by rw [hM5, mSF_ne (by decide), eM3, mSF_ne (by decide), hS.2.2.2.1, nAll_n c18.2.1]) (nI 0) (nI rn) (nI 0) (nI 0)) mw_adds (by decide) (Nat.le_refl _) rfl (Nat.le_of_ble_eq_true rfl) dX4_raid_52 (fun r7 M6 hM6 => ?_)
          exact j_iret C E rfl (Nat.le_refl _) (⟨_, rfl, _, rfl, by unfold opRaid; rw [iF_t hin, iF_t (by rw [hIN]; exact ⟨c18.1, c18.2.1, c18.2.2, c26⟩), hIN]; exact RAID_fin hRel.1 c18.1 hS hVm c18.2.1 eM3 hM5 hM6.1 hM6.2⟩) dX4_raid_55
        · intro c37
          omega
      · intro c26
        refine j_iconst C (v := nI 2) dX4_raid_29 (by decide) ?_
        refine j_goto C (tgt := 34) dX4_raid_30 (by decide) ?_
        refine jm_callR C hO (as := [.int (nI 2)]) (mc_holds G M (nI 2)) mw_holds (by decide) (Nat.le_refl _) rfl (Nat.le_of_ble_eq_true rfl) dX4_raid_34 (fun r9 M8 hM8 => ?_)
        refine j_ev (v' := nI 0) (by rw [hM8.1, pI_f (by decide)]; rfl) ?_
        have eM8 := hM8.2
        refine j_ifn_ne C (by decide) (tgt := 42) dX4_raid_37 (by decide) ?_ ?_
        · intro c37
          omega
        · intro c37
          refine j_iconst C (v := nI 0) dX4_raid_40 (by decide) ?_
          exact j_iret C E rfl (Nat.le_refl _) (⟨_, rfl, _, rfl, OUT.er (by decide) eM8 hRel (by unfold opRaid; rw [iF_t hin, iF_f (by rw [hIN]; exact fun z => c26 z.2.2.2)])⟩) dX4_raid_41
  · intro c7
    refine j_iconst C (v := nI 1) dX4_raid_10 (by decide) ?_
    refine j_goto C (tgt := 34) dX4_raid_11 (by decide) ?_
    refine jm_callR C hO (as := [.int (nI 1)]) (mc_holds G M (nI 1)) mw_holds (by decide) (Nat.le_refl _) rfl (Nat.le_of_ble_eq_true rfl) dX4_raid_34 (fun r11 M10 hM10 => ?_)
    refine j_ev (v' := nI 0) (by rw [hM10.1, pI_f (by decide)]; rfl) ?_
    have eM10 := hM10.2
    refine j_ifn_ne C (by decide) (tgt := 42) dX4_raid_37 (by decide) ?_ ?_
    · intro c37
      omega
    · intro c37
      refine j_iconst C (v := nI 0) dX4_raid_40 (by decide) ?_
      exact j_iret C E rfl (Nat.le_refl _) (⟨_, rfl, _, rfl, OUT.er (by decide) eM10 hRel (by unfold opRaid; rw [iF_f c7])⟩) dX4_raid_41

theorem EV_fin {M M1 M2 M3 : jM} {Q : Option Mt} {v a : Int32} {ev : Ev5} {k1 k2 k3 k4 : Nat} (h2 : M.1 2 = pI (isM Q)) (hm : isM Q) (hS : RelS M (dM Q)) (hV : VM (dM Q)) (hr : ¬ isR (dM Q)) (e1 : M1 = mSF M 0 (nI 0)) (hA : ADD (nE (dM Q)) (nI k1) (nI k2) (nI k3) (nI k4) M1 M2) (hev : ev = (k1, k2, k3, k4, [])) (hF : mF (nE (dM Q)) M2 M3) (hD : SA (M3.2 16) (evDo (mNow (dM Q)) ev) ∧ NoteAt M3 (nE (dM Q)) (evDo (mNow (dM Q)) ev)) (hv : v = a) : OUT M M3 v (0, a, some (withE (dM Q) (mE (dM Q) ++ [ev]))) := by
  have hf : ∀ j, j ≠ 0 → j ≠ 7 → M3.1 j = M.1 j := fun j a c => by rw [hF.1, hA.2.1 j c, e1, mSF_ne a]
  have hB : ∀ j, j < 8 → M3.2 j = M.2 j := fun j a => by rw [hF.2.1 j (by omega) (by omega) (by omega), hA.2.2.1 j (by omega), e1]; rfl
  have hg := hF.mG
  have hm1 : mH (nE (dM Q)) M M2 := (by rw [e1]; exact mH.F : mH (nE (dM Q)) M M1).tr hA.mH
  refine ⟨by rw [hF.1, hA.2.1 0 (by decide), e1, mSF_eq], fun _ => hv, RelM.some (by rw [hf 2 (by decide) (by decide), h2, pI_t hm, pI_t trivial]) ?_, ?_⟩
  · refine RelS.ev hS hV (hB 4 (by decide)) (hf 5 (by decide) (by decide)) (hB 6 (by decide)) (by rw [hF.1, hA.1]) (by rw [hf 3 (by decide) (by decide), hS.2.2.2.2.1, pI_f hr, pI_f id]) (hm1.tr hg.mH) ?_ hD.1 ?_ hD.2
    · rw [hev]; exact hA.ev.mG hg
    · refine NoteTo.fr (M := M2) (fun j hj i hi => ?_) hF (Nat.le_refl _)
      rw [hA.2.2.1 17 (by decide), hA.2.2.1 18 (by decide), e1]
      exact hS.2.2.2.2.2.2.2.1 j hj i hi
  · exact ((by rw [e1]; exact oth.F (by decide) : oth M M1).tr hA.oth).tr hg.oth
theorem EV_sa {M M1 M2 : jM} {m : Mt} {n : Nat} {a b c d : Int32} (hS : RelS M m) (e1 : M1 = mSF M 0 (nI 0)) (hA : ADD n a b c d M1 M2) : SA (M2.2 16) (mNow m) ∧ M2.1 5 = nI (mL m) := ⟨by rw [hA.2.2.1 16 (by decide), e1]; exact hS.2.2.2.2.2.2.1, by rw [hA.2.1 5 (by decide), e1, mSF_ne (by decide)]; exact hS.2.1⟩

set_option maxHeartbeats 4000000 in
theorem mc_card {g : jG} (G : jOK g) (M : jM) (Q : Option Mt) (i p c : Int32) (hRel : RelM M Q) (hV : VQ Q)  : MTR g 5 yX4_card [.int i, .int p, .int c] M (fun v M' => OUT M M' v (opCard Q i p c)) := by
  intro h o ad hO
  refine CT.of (bytes := cX4_card) (maxL := 7) (ret := (some .int)) G q2121 (by decide) (by decide +kernel) (Nat.le_of_ble_eq_true rfl) ?_
  intro z C E hT hnm hnl
  have C : jC (g, z) cX4_card RX4 5 0 := C
  show J (g, z) (mput g h o ad M) 0 0 [(0, .ref o), (1, .int i), (2, .int p), (3, .int c)] []
  refine j_iload_n C dX4_card_0 1 rfl rfl ?_
  refine j_callSQ C (as := [.int i]) (mi_isSide G i) mw_isSide (by decide) (Nat.le_refl _) rfl (Nat.le_of_ble_eq_true rfl) dX4_card_1 ?_
  have join19 : J (g, z) (mput g h o ad M) 0 19 [(0, .ref o), (1, .int i), (2, .int p), (3, .int c)] [.int (pI (inI i 0 1 ∧ inI p 0 9))] := by
    refine j_istore C (L' := [(4, .int (pI (inI i 0 1 ∧ inI p 0 9))), (0, .ref o), (1, .int i), (2, .int p), (3, .int c)]) dX4_card_19 (jlt hnl (by decide)) rfl ?_
    refine j_aload_n C dX4_card_21 1 rfl rfl ?_
    refine j_iload C dX4_card_22 0 rfl ?_
    refine j_ifp_ne C (tgt := 31) dX4_card_24 (by decide) ?_ ?_
    · intro c24
      refine j_iload_n C dX4_card_31 4 rfl rfl ?_
      refine j_iconst C (v := nI 0) dX4_card_32 (by decide) ?_
      refine j_iconst C (v := nI 2) dX4_card_33 (by decide) ?_
      refine j_callSQ C (as := [.int c, .int (nI 0), .int (nI 2)]) (mi_in G c 0 2) mw_in (by decide) (Nat.le_refl _) rfl (Nat.le_of_ble_eq_true rfl) dX4_card_34 ?_
      refine j_ifp_ne C (tgt := 44) dX4_card_37 (by decide) ?_ ?_
      · intro c37
        have hin := c24
        have hic := c37
        obtain ⟨ni, rfl, hni0, hni9⟩ := inI_n (by decide) (by decide) c24.1
        have iNni : iN (nI ni) = ni := iN_nI (by omega)
        obtain ⟨np, rfl, hnp0, hnp9⟩ := inI_n (by decide) (by decide) c24.2
        have iNnp : iN (nI np) = np := iN_nI (by omega)
        obtain ⟨nc, rfl, hnc0, hnc9⟩ := inI_n (by decide) (by decide) c37
        have iNnc : iN (nI nc) = nc := iN_nI (by omega)
        refine j_aload_n C dX4_card_44 1 rfl rfl ?_
        refine jm_callQ C hO (as := []) (mc_isBtw G M Q hRel hV) mw_isBetween (by decide) (Nat.le_refl _) rfl (Nat.le_of_ble_eq_true rfl) dX4_card_45 ?_
        refine j_ifp_eq C (tgt := 61) dX4_card_48 (by decide) ?_ ?_
        · intro c48
          refine j_iconst C (v := nI 3) dX4_card_61 (by decide) ?_
          refine j_goto C (tgt := 66) dX4_card_62 (by decide) ?_
          refine jm_callR C hO (as := [.int (nI 3)]) (mc_holds G M (nI 3)) mw_holds (by decide) (Nat.le_refl _) rfl (Nat.le_of_ble_eq_true rfl) dX4_card_66 (fun r2 M1 hM1 => ?_)
          refine j_ev (v' := nI 0) (by rw [hM1.1, pI_f (by decide)]; rfl) ?_
          have eM1 := hM1.2
          refine j_ifn_ne C (by decide) (tgt := 74) dX4_card_69 (by decide) ?_ ?_
          · intro c69
            omega
          · intro c69
            refine j_iconst C (v := nI 0) dX4_card_72 (by decide) ?_
            exact j_iret C E rfl (Nat.le_refl _) (⟨_, rfl, _, rfl, OUT.er (by decide) eM1 hRel (by unfold opCard; rw [iF_t hin, iF_t hic, iF_f (by rw [iNni, iNnp, iNnc]; exact fun z => c48 ⟨z.1, z.2.1, z.2.2.1⟩)])⟩) dX4_card_73
        · intro c48
          have hS := hRel.2 c48.1
          have hVm := hV c48.1
          have hI := hVm.inv
          have hne := hVm.ne
          refine j_aload_n C dX4_card_51 1 rfl rfl ?_
          refine j_iload_n C dX4_card_52 2 rfl rfl ?_
          refine j_iload_n C dX4_card_53 3 rfl rfl ?_
          refine j_iload_n C dX4_card_54 4 rfl rfl ?_
          refine jm_callQ C hO (as := [.int (nI ni), .int (nI np), .int (nI nc)]) (mc_canCard G M (mNow (dM Q)) ni np nc hS.2.2.2.2.2.2.1 (by omega) (by omega) (by omega) hI.1.2.1 hI.1.1) mw_canCard (by decide) (Nat.le_refl _) rfl (Nat.le_of_ble_eq_true rfl) dX4_card_55 ?_
          refine j_ifp_ne C (tgt := 65) dX4_card_58 (by decide) ?_ ?_
          · intro c58
            refine j_iconst C (v := nI 0) dX4_card_65 (by decide) ?_
            refine jm_callR C hO (as := [.int (nI 0)]) (mc_holds G M (nI 0)) mw_holds (by decide) (Nat.le_refl _) rfl (Nat.le_of_ble_eq_true rfl) dX4_card_66 (fun r4 M3 hM3 => ?_)
            refine j_ev (v' := nI 1) (by rw [hM3.1, pI_t (by decide)]; rfl) ?_
            have eM3 := hM3.2
            refine j_ifn_ne C (by decide) (tgt := 74) dX4_card_69 (by decide) ?_ ?_
            · intro c69
              refine j_aload_n C dX4_card_74 1 rfl rfl ?_
              refine j_iload_n C dX4_card_75 2 rfl rfl ?_
              refine j_iload_n C dX4_card_76 3 rfl rfl ?_
              refine j_iload_n C dX4_card_77 4 rfl rfl ?_
              refine jm_callQ C hO (as := [.int (nI ni), .int (nI np), .int (nI nc)]) (mc_colourFor G M3 (mNow (dM Q)) ni np nc (by rw [eM3]; exact hS.2.2.2.2.2.2.1) (by omega) (by omega) (by omega) hI.1.2.1) mw_colourFor (by decide) (Nat.le_refl _) rfl (Nat.le_of_ble_eq_true rfl) dX4_card_78 ?_
              refine j_istore C (L' := [(5, .int (nI (itsCol ((mNow (dM Q)).1 2 ni np) nc))), (4, .int (pI (inI (nI ni) 0 1 ∧ inI (nI np) 0 9))), (0, .ref o), (1, .int (nI ni)), (2, .int (nI np)), (3, .int (nI nc))]) dX4_card_81 (jlt hnl (by decide)) rfl ?_
              refine j_aload_n C dX4_card_83 2 rfl rfl ?_
              refine j_iconst C (v := nI 1) dX4_card_84 (by decide) ?_
              refine j_iload_n C dX4_card_85 3 rfl rfl ?_
              refine j_iload_n C dX4_card_86 4 rfl rfl ?_
              refine j_iload_n C dX4_card_87 5 rfl rfl ?_
              refine jm_callR C hO (as := [.int (nI 1), .int (nI ni), .int (nI np), .int (nI nc)]) (mc_adds G M3 (nE (dM Q)) c48.2.2 (by rw [eM3, mSF_ne (by decide), hS.2.2.2.1, nAll_n c48.2.1]) (nI 1) (nI ni) (nI np) (nI nc)) mw_adds (by decide) (Nat.le_refl _) rfl (Nat.le_of_ble_eq_true rfl) dX4_card_88 (fun r6 M5 hM5 => ?_)
              have hA := hM5.2
              have hSA := EV_sa hS eM3 hA
              refine j_ev (v' := nI (nE (dM Q))) hM5.1 ?_
              refine j_istore C (L' := [(6, .int (nI (nE (dM Q)))), (5, .int (nI (itsCol ((mNow (dM Q)).1 2 ni np) nc))), (4, .int (pI (inI (nI ni) 0 1 ∧ inI (nI np) 0 9))), (0, .ref o), (1, .int (nI ni)), (2, .int (nI np)), (3, .int (nI nc))]) dX4_card_91 (jlt hnl (by decide)) rfl ?_
              refine j_aload_n C dX4_card_93 3 rfl rfl ?_
              refine j_iload C dX4_card_94 0 rfl ?_
              refine jm_callR C hO (as := [.int (nI (nE (dM Q)))]) (mc_follows G M5 (mNow (dM Q)) (nE (dM Q)) (mL (dM Q)) (8 + 1600 * nE (dM Q)) 1 ni np nc [] hSA.1 (by omega) (Or.inr (Or.inl ⟨rfl, by show ni < 2; omega, by show np < 10; omega, by show nc ≤ 2; omega⟩)) hA.ev hI (by omega) hSA.2 (by have := hVm.2.1; omega)) mw_follows (by decide) (Nat.le_refl _) rfl (Nat.le_of_ble_eq_true rfl) dX4_card_96 (fun r8 M7 hM7 => ?_)
              refine j_ev (v' := pI (evCan (mNow (dM Q)) (mL (dM Q)) (1, ni, np, nc, []))) hM7.1 ?_
              refine j_ifp_eq C (tgt := 107) dX4_card_99 (by decide) ?_ ?_
              · intro c99
                exact absurd (c58 : evCan (mNow (dM Q)) (mL (dM Q)) (1, ni, np, nc, [])) c99
              · intro c99
                refine j_iload C dX4_card_102 1 rfl ?_
                refine j_goto C (tgt := 108) dX4_card_104 (by decide) ?_
                exact j_iret C E rfl (Nat.le_refl _) (⟨_, rfl, _, rfl, by unfold opCard; rw [iF_t hin, iF_t hic, iF_t (by rw [iNni, iNnp, iNnc]; exact ⟨c48.1, c48.2.1, c48.2.2, c58⟩), iNni, iNnp, iNnc]; exact EV_fin hRel.1 c48.1 hS hVm c48.2.1 eM3 hM5.2 rfl hM7.2.1 (hM7.2.2 c58) rfl⟩) dX4_card_108
            · intro c69
              omega
          · intro c58
            refine j_iconst C (v := nI 3) dX4_card_61 (by decide) ?_
            refine j_goto C (tgt := 66) dX4_card_62 (by decide) ?_
            refine jm_callR C hO (as := [.int (nI 3)]) (mc_holds G M (nI 3)) mw_holds (by decide) (Nat.le_refl _) rfl (Nat.le_of_ble_eq_true rfl) dX4_card_66 (fun r10 M9 hM9 => ?_)
            refine j_ev (v' := nI 0) (by rw [hM9.1, pI_f (by decide)]; rfl) ?_
            have eM9 := hM9.2
            refine j_ifn_ne C (by decide) (tgt := 74) dX4_card_69 (by decide) ?_ ?_
            · intro c69
              omega
            · intro c69
              refine j_iconst C (v := nI 0) dX4_card_72 (by decide) ?_
              exact j_iret C E rfl (Nat.le_refl _) (⟨_, rfl, _, rfl, OUT.er (by decide) eM9 hRel (by unfold opCard; rw [iF_t hin, iF_t hic, iF_f (by rw [iNni, iNnp, iNnc]; exact fun z => c58 z.2.2.2)])⟩) dX4_card_73
      · intro c37
        refine j_iconst C (v := nI 2) dX4_card_40 (by decide) ?_
        refine j_goto C (tgt := 66) dX4_card_41 (by decide) ?_
        refine jm_callR C hO (as := [.int (nI 2)]) (mc_holds G M (nI 2)) mw_holds (by decide) (Nat.le_refl _) rfl (Nat.le_of_ble_eq_true rfl) dX4_card_66 (fun r12 M11 hM11 => ?_)
        refine j_ev (v' := nI 0) (by rw [hM11.1, pI_f (by decide)]; rfl) ?_
        have eM11 := hM11.2
        refine j_ifn_ne C (by decide) (tgt := 74) dX4_card_69 (by decide) ?_ ?_
        · intro c69
          omega
        · intro c69
          refine j_iconst C (v := nI 0) dX4_card_72 (by decide) ?_
          exact j_iret C E rfl (Nat.le_refl _) (⟨_, rfl, _, rfl, OUT.er (by decide) eM11 hRel (by unfold opCard; rw [iF_t c24, iF_f c37])⟩) dX4_card_73
    · intro c24
      refine j_iconst C (v := nI 1) dX4_card_27 (by decide) ?_
      refine j_goto C (tgt := 66) dX4_card_28 (by decide) ?_
      refine jm_callR C hO (as := [.int (nI 1)]) (mc_holds G M (nI 1)) mw_holds (by decide) (Nat.le_refl _) rfl (Nat.le_of_ble_eq_true rfl) dX4_card_66 (fun r14 M13 hM13 => ?_)
      refine j_ev (v' := nI 0) (by rw [hM13.1, pI_f (by decide)]; rfl) ?_
      have eM13 := hM13.2
      refine j_ifn_ne C (by decide) (tgt := 74) dX4_card_69 (by decide) ?_ ?_
      · intro c69
        omega
      · intro c69
        refine j_iconst C (v := nI 0) dX4_card_72 (by decide) ?_
        exact j_iret C E rfl (Nat.le_refl _) (⟨_, rfl, _, rfl, OUT.er (by decide) eM13 hRel (by unfold opCard; rw [iF_f c24])⟩) dX4_card_73
  refine j_ifp_eq C (tgt := 18) dX4_card_4 (by decide) ?_ ?_
  · intro c4
    refine j_iconst C (v := nI 0) dX4_card_18 (by decide) ?_
    refine J.sub (L' := [(0, .ref o), (1, .int i), (2, .int p), (3, .int c)]) ?_ [0, 1, 2, 3] rfl
    refine j_ev (v' := pI (inI i 0 1 ∧ inI p 0 9)) (by rw [pI_f (by grind)]; rfl) ?_
    exact join19
  · intro c4
    refine j_iload_n C dX4_card_7 2 rfl rfl ?_
    refine j_callSQ C (as := [.int p]) (mi_isPlayer G p) mw_isPlayer (by decide) (Nat.le_refl _) rfl (Nat.le_of_ble_eq_true rfl) dX4_card_8 ?_
    refine j_ifp_eq C (tgt := 18) dX4_card_11 (by decide) ?_ ?_
    · intro c11
      refine j_iconst C (v := nI 0) dX4_card_18 (by decide) ?_
      refine J.sub (L' := [(0, .ref o), (1, .int i), (2, .int p), (3, .int c)]) ?_ [0, 1, 2, 3] rfl
      refine j_ev (v' := pI (inI i 0 1 ∧ inI p 0 9)) (by rw [pI_f (by grind)]; rfl) ?_
      exact join19
    · intro c11
      refine j_iconst C (v := nI 1) dX4_card_14 (by decide) ?_
      refine j_goto C (tgt := 19) dX4_card_15 (by decide) ?_
      refine J.sub (L' := [(0, .ref o), (1, .int i), (2, .int p), (3, .int c)]) ?_ [0, 1, 2, 3] rfl
      refine j_ev (v' := pI (inI i 0 1 ∧ inI p 0 9)) (by rw [pI_t (by grind)]; rfl) ?_
      exact join19

set_option maxHeartbeats 4000000 in
theorem mc_change {g : jG} (G : jOK g) (M : jM) (Q : Option Mt) (i l c : Int32) (hRel : RelM M Q) (hV : VQ Q)  : MTR g 5 yX4_change [.int i, .int l, .int c] M (fun v M' => OUT M M' v (opChange Q i l c)) := by
  intro h o ad hO
  refine CT.of (bytes := cX4_change) (maxL := 6) (ret := (some .int)) G q2148 (by decide) (by decide +kernel) (Nat.le_of_ble_eq_true rfl) ?_
  intro z C E hT hnm hnl
  have C : jC (g, z) cX4_change RX4 5 0 := C
  show J (g, z) (mput g h o ad M) 0 0 [(0, .ref o), (1, .int i), (2, .int l), (3, .int c)] []
  refine j_iload_n C dX4_change_0 1 rfl rfl ?_
  refine j_callSQ C (as := [.int i]) (mi_isSide G i) mw_isSide (by decide) (Nat.le_refl _) rfl (Nat.le_of_ble_eq_true rfl) dX4_change_1 ?_
  have join26 : J (g, z) (mput g h o ad M) 0 26 [(0, .ref o), (1, .int i), (2, .int l), (3, .int c)] [.int (pI (inI i 0 1 ∧ inI l 0 9 ∧ inI c 0 9))] := by
    refine j_istore C (L' := [(4, .int (pI (inI i 0 1 ∧ inI l 0 9 ∧ inI c 0 9))), (0, .ref o), (1, .int i), (2, .int l), (3, .int c)]) dX4_change_26 (jlt hnl (by decide)) rfl ?_
    refine j_aload_n C dX4_change_28 1 rfl rfl ?_
    refine j_iload C dX4_change_29 0 rfl ?_
    refine j_ifp_ne C (tgt := 38) dX4_change_31 (by decide) ?_ ?_
    · intro c31
      have hin := c31
      obtain ⟨ni, rfl, hni0, hni9⟩ := inI_n (by decide) (by decide) c31.1
      have iNni : iN (nI ni) = ni := iN_nI (by omega)
      obtain ⟨np, rfl, hnp0, hnp9⟩ := inI_n (by decide) (by decide) c31.2.1
      have iNnp : iN (nI np) = np := iN_nI (by omega)
      obtain ⟨nc, rfl, hnc0, hnc9⟩ := inI_n (by decide) (by decide) c31.2.2
      have iNnc : iN (nI nc) = nc := iN_nI (by omega)
      refine j_aload_n C dX4_change_38 1 rfl rfl ?_
      refine jm_callQ C hO (as := []) (mc_isBtw G M Q hRel hV) mw_isBetween (by decide) (Nat.le_refl _) rfl (Nat.le_of_ble_eq_true rfl) dX4_change_39 ?_
      refine j_ifp_eq C (tgt := 55) dX4_change_42 (by decide) ?_ ?_
      · intro c42
        refine j_iconst C (v := nI 2) dX4_change_55 (by decide) ?_
        refine j_goto C (tgt := 60) dX4_change_56 (by decide) ?_
        refine jm_callR C hO (as := [.int (nI 2)]) (mc_holds G M (nI 2)) mw_holds (by decide) (Nat.le_refl _) rfl (Nat.le_of_ble_eq_true rfl) dX4_change_60 (fun r2 M1 hM1 => ?_)
        refine j_ev (v' := nI 0) (by rw [hM1.1, pI_f (by decide)]; rfl) ?_
        have eM1 := hM1.2
        refine j_ifn_ne C (by decide) (tgt := 68) dX4_change_63 (by decide) ?_ ?_
        · intro c63
          omega
        · intro c63
          refine j_iconst C (v := nI 0) dX4_change_66 (by decide) ?_
          exact j_iret C E rfl (Nat.le_refl _) (⟨_, rfl, _, rfl, OUT.er (by decide) eM1 hRel (by unfold opChange; rw [iF_t hin, iF_f (by rw [iNni, iNnp, iNnc]; exact fun z => c42 ⟨z.1, z.2.1, z.2.2.1⟩)])⟩) dX4_change_67
      · intro c42
        have hS := hRel.2 c42.1
        have hVm := hV c42.1
        have hI := hVm.inv
        have hne := hVm.ne
        refine j_aload_n C dX4_change_45 1 rfl rfl ?_
        refine j_iload_n C dX4_change_46 2 rfl rfl ?_
        refine j_iload_n C dX4_change_47 3 rfl rfl ?_
        refine j_iload_n C dX4_change_48 4 rfl rfl ?_
        refine jm_callQ C hO (as := [.int (nI ni), .int (nI np), .int (nI nc)]) (mc_canChange G M (mNow (dM Q)) ni np nc hS.2.2.2.2.2.2.1 (by omega) (by omega) (by omega) hI.1.1 (by have := hI.2.2 6 ni 0; omega)) mw_canChange (by decide) (Nat.le_refl _) rfl (Nat.le_of_ble_eq_true rfl) dX4_change_49 ?_
        refine j_ifp_ne C (tgt := 59) dX4_change_52 (by decide) ?_ ?_
        · intro c52
          refine j_iconst C (v := nI 0) dX4_change_59 (by decide) ?_
          refine jm_callR C hO (as := [.int (nI 0)]) (mc_holds G M (nI 0)) mw_holds (by decide) (Nat.le_refl _) rfl (Nat.le_of_ble_eq_true rfl) dX4_change_60 (fun r4 M3 hM3 => ?_)
          refine j_ev (v' := nI 1) (by rw [hM3.1, pI_t (by decide)]; rfl) ?_
          have eM3 := hM3.2
          refine j_ifn_ne C (by decide) (tgt := 68) dX4_change_63 (by decide) ?_ ?_
          · intro c63
            refine j_aload_n C dX4_change_68 1 rfl rfl ?_
            refine j_iconst C (v := nI 2) dX4_change_69 (by decide) ?_
            refine j_iload_n C dX4_change_70 2 rfl rfl ?_
            refine j_iload_n C dX4_change_71 3 rfl rfl ?_
            refine j_iload_n C dX4_change_72 4 rfl rfl ?_
            refine jm_callR C hO (as := [.int (nI 2), .int (nI ni), .int (nI np), .int (nI nc)]) (mc_adds G M3 (nE (dM Q)) c42.2.2 (by rw [eM3, mSF_ne (by decide), hS.2.2.2.1, nAll_n c42.2.1]) (nI 2) (nI ni) (nI np) (nI nc)) mw_adds (by decide) (Nat.le_refl _) rfl (Nat.le_of_ble_eq_true rfl) dX4_change_73 (fun r6 M5 hM5 => ?_)
            have hA := hM5.2
            have hSA := EV_sa hS eM3 hA
            refine j_ev (v' := nI (nE (dM Q))) hM5.1 ?_
            refine j_istore C (L' := [(5, .int (nI (nE (dM Q)))), (4, .int (pI (inI (nI ni) 0 1 ∧ inI (nI np) 0 9 ∧ inI (nI nc) 0 9))), (0, .ref o), (1, .int (nI ni)), (2, .int (nI np)), (3, .int (nI nc))]) dX4_change_76 (jlt hnl (by decide)) rfl ?_
            refine j_aload_n C dX4_change_78 2 rfl rfl ?_
            refine j_iload C dX4_change_79 0 rfl ?_
            refine jm_callR C hO (as := [.int (nI (nE (dM Q)))]) (mc_follows G M5 (mNow (dM Q)) (nE (dM Q)) (mL (dM Q)) (8 + 1600 * nE (dM Q)) 2 ni np nc [] hSA.1 (by omega) (Or.inr (Or.inr ⟨rfl, by show ni < 2; omega, by show np < 10; omega, by show nc < 10; omega⟩)) hA.ev hI (by omega) hSA.2 (by have := hVm.2.1; omega)) mw_follows (by decide) (Nat.le_refl _) rfl (Nat.le_of_ble_eq_true rfl) dX4_change_81 (fun r8 M7 hM7 => ?_)
            refine j_ev (v' := pI (evCan (mNow (dM Q)) (mL (dM Q)) (2, ni, np, nc, []))) hM7.1 ?_
            refine j_ifp_eq C (tgt := 99) dX4_change_84 (by decide) ?_ ?_
            · intro c84
              exact absurd (c52 : evCan (mNow (dM Q)) (mL (dM Q)) (2, ni, np, nc, [])) c84
            · intro c84
              refine j_aload_n C dX4_change_87 2 rfl rfl ?_
              refine jm_get16 C dX4_change_88 ?_
              refine j_bipush C (v := nI 102) dX4_change_91 (by decide) ?_
              refine j_iload_n C dX4_change_93 3 rfl rfl ?_
              refine j_iaddn C dX4_change_94 ?_
              refine jm_ald16 C hO (by omega) dX4_change_95 ?_
              refine j_ev (v' := nI ((chgDo (mNow (dM Q)) ni np nc).1 6 ni 0)) ((hM7.2.2 c52).1.ch (by omega) rfl) ?_
              refine j_goto C (tgt := 100) dX4_change_96 (by decide) ?_
              exact j_iret C E rfl (Nat.le_refl _) (⟨_, rfl, _, rfl, by unfold opChange; rw [iF_t hin, iF_t (by rw [iNni, iNnp, iNnc]; exact ⟨c42.1, c42.2.1, c42.2.2, c52⟩), iNni, iNnp, iNnc]; exact EV_fin hRel.1 c42.1 hS hVm c42.2.1 eM3 hM5.2 rfl hM7.2.1 (hM7.2.2 c52) rfl⟩) dX4_change_100
          · intro c63
            omega
        · intro c52
          refine j_iconst C (v := nI 2) dX4_change_55 (by decide) ?_
          refine j_goto C (tgt := 60) dX4_change_56 (by decide) ?_
          refine jm_callR C hO (as := [.int (nI 2)]) (mc_holds G M (nI 2)) mw_holds (by decide) (Nat.le_refl _) rfl (Nat.le_of_ble_eq_true rfl) dX4_change_60 (fun r10 M9 hM9 => ?_)
          refine j_ev (v' := nI 0) (by rw [hM9.1, pI_f (by decide)]; rfl) ?_
          have eM9 := hM9.2
          refine j_ifn_ne C (by decide) (tgt := 68) dX4_change_63 (by decide) ?_ ?_
          · intro c63
            omega
          · intro c63
            refine j_iconst C (v := nI 0) dX4_change_66 (by decide) ?_
            exact j_iret C E rfl (Nat.le_refl _) (⟨_, rfl, _, rfl, OUT.er (by decide) eM9 hRel (by unfold opChange; rw [iF_t hin, iF_f (by rw [iNni, iNnp, iNnc]; exact fun z => c52 z.2.2.2)])⟩) dX4_change_67
    · intro c31
      refine j_iconst C (v := nI 1) dX4_change_34 (by decide) ?_
      refine j_goto C (tgt := 60) dX4_change_35 (by decide) ?_
      refine jm_callR C hO (as := [.int (nI 1)]) (mc_holds G M (nI 1)) mw_holds (by decide) (Nat.le_refl _) rfl (Nat.le_of_ble_eq_true rfl) dX4_change_60 (fun r12 M11 hM11 => ?_)
      refine j_ev (v' := nI 0) (by rw [hM11.1, pI_f (by decide)]; rfl) ?_
      have eM11 := hM11.2
      refine j_ifn_ne C (by decide) (tgt := 68) dX4_change_63 (by decide) ?_ ?_
      · intro c63
        omega
      · intro c63
        refine j_iconst C (v := nI 0) dX4_change_66 (by decide) ?_
        exact j_iret C E rfl (Nat.le_refl _) (⟨_, rfl, _, rfl, OUT.er (by decide) eM11 hRel (by unfold opChange; rw [iF_f c31])⟩) dX4_change_67
  refine j_ifp_eq C (tgt := 25) dX4_change_4 (by decide) ?_ ?_
  · intro c4
    refine j_iconst C (v := nI 0) dX4_change_25 (by decide) ?_
    refine J.sub (L' := [(0, .ref o), (1, .int i), (2, .int l), (3, .int c)]) ?_ [0, 1, 2, 3] rfl
    refine j_ev (v' := pI (inI i 0 1 ∧ inI l 0 9 ∧ inI c 0 9)) (by rw [pI_f (by grind)]; rfl) ?_
    exact join26
  · intro c4
    refine j_iload_n C dX4_change_7 2 rfl rfl ?_
    refine j_callSQ C (as := [.int l]) (mi_isPlayer G l) mw_isPlayer (by decide) (Nat.le_refl _) rfl (Nat.le_of_ble_eq_true rfl) dX4_change_8 ?_
    refine j_ifp_eq C (tgt := 25) dX4_change_11 (by decide) ?_ ?_
    · intro c11
      refine j_iconst C (v := nI 0) dX4_change_25 (by decide) ?_
      refine J.sub (L' := [(0, .ref o), (1, .int i), (2, .int l), (3, .int c)]) ?_ [0, 1, 2, 3] rfl
      refine j_ev (v' := pI (inI i 0 1 ∧ inI l 0 9 ∧ inI c 0 9)) (by rw [pI_f (by grind)]; rfl) ?_
      exact join26
    · intro c11
      refine j_iload_n C dX4_change_14 3 rfl rfl ?_
      refine j_callSQ C (as := [.int c]) (mi_isPlayer G c) mw_isPlayer (by decide) (Nat.le_refl _) rfl (Nat.le_of_ble_eq_true rfl) dX4_change_15 ?_
      refine j_ifp_eq C (tgt := 25) dX4_change_18 (by decide) ?_ ?_
      · intro c18
        refine j_iconst C (v := nI 0) dX4_change_25 (by decide) ?_
        refine J.sub (L' := [(0, .ref o), (1, .int i), (2, .int l), (3, .int c)]) ?_ [0, 1, 2, 3] rfl
        refine j_ev (v' := pI (inI i 0 1 ∧ inI l 0 9 ∧ inI c 0 9)) (by rw [pI_f (by grind)]; rfl) ?_
        exact join26
      · intro c18
        refine j_iconst C (v := nI 1) dX4_change_21 (by decide) ?_
        refine j_goto C (tgt := 26) dX4_change_22 (by decide) ?_
        refine J.sub (L' := [(0, .ref o), (1, .int i), (2, .int l), (3, .int c)]) ?_ [0, 1, 2, 3] rfl
        refine j_ev (v' := pI (inI i 0 1 ∧ inI l 0 9 ∧ inI c 0 9)) (by rw [pI_t (by grind)]; rfl) ?_
        exact join26
