set_option maxRecDepth 100000
theorem pI_1 {p : Prop} : pI p = nI 1 ↔ p := by
  by_cases h : p
  · rw [pI_t h]; exact ⟨fun _ => h, fun _ => rfl⟩
  · rw [pI_f h]; exact ⟨fun z => absurd z (by decide), fun z => absurd z h⟩
theorem pI_00 {p : Prop} : pI p = nI 0 ↔ ¬ p := by
  by_cases h : p
  · rw [pI_t h]; exact ⟨fun z => absurd z (by decide), fun z => absurd h z⟩
  · rw [pI_f h]; exact ⟨fun _ => h, fun _ => rfl⟩
def idx (v : Int32) (n : Nat) : Prop := ¬ v < nI 0 ∧ iN v < n
theorem idx_c {v : Int32} {n : Nat} (hn : n < 2 ^ 31) : (¬ v < nI 0 ∧ ¬ (nI n - nI 1) < v) ↔ idx v n := by
  unfold idx
  refine and_congr_right fun h => ?_
  have hv := nI_iN h
  have hl : iN v < 2 ^ 31 := by have h2 : v.toInt < 2 ^ 31 := by have := v.toInt_lt; simpa using this
                                unfold iN; omega
  rw [Int32.lt_iff_toInt_lt]
  cases n with
  | zero =>
    have e1 : (nI 0 - nI 1).toInt = -1 := by decide
    have e2 : v.toInt = iN v := by rw [hv, nI_toInt hl, iN_nI hl]
    omega
  | succ n =>
    have e1 : nI (n + 1) - nI 1 = nI n := by rw [pk_sub (by omega)]; rfl
    have e2 : v.toInt = iN v := by rw [hv, nI_toInt hl, iN_nI hl]
    rw [e1, nI_toInt (by omega)]
    omega
theorem idx_n {v : Int32} {n : Nat} (h : idx v n) : ∃ k, v = nI k ∧ k < n := ⟨iN v, nI_iN h.1, h.2⟩
theorem idx_i {k n : Nat} (hk : k < 2 ^ 31) : idx (nI k) n ↔ k < n := by
  unfold idx
  rw [iN_nI hk]
  exact ⟨fun h => h.2, fun h => ⟨nI_pos hk, h⟩⟩
abbrev evA (m : Mt) (e : Nat) : Ev5 := (mE m).getD e z5
def stepAt (Q : Option Mt) (e st : Int32) : Prop := isM Q ∧ idx e (nE (dM Q)) ∧ (evA (dM Q) (iN e)).1 = 0 ∧ idx st (evA (dM Q) (iN e)).2.2.2.2.length
theorem stepAt_n {Q : Option Mt} {e st : Int32} (h : stepAt Q e st) (hV : VQ Q) : ∃ en sn, e = nI en ∧ st = nI sn ∧ en < nE (dM Q) ∧ (evA (dM Q) en).1 = 0 ∧ sn < (evA (dM Q) en).2.2.2.2.length ∧ isM Q ∧ (evA (dM Q) en).2.2.2.2.length ≤ 14 ∧ nE (dM Q) ≤ 60 ∧ iN e = en ∧ iN st = sn := by
  obtain ⟨h1, h2, h3, h4⟩ := h
  have hVm := hV h1
  exact ⟨iN e, iN st, nI_iN h2.1, nI_iN h4.1, h2.2, h3, h4.2, h1, hVm.len h2.2, hVm.ne, rfl, rfl⟩
theorem ended_e {m : Mt} : @ite Nat (isR m) (Classical.propDecidable _) (nAll m - 1) (nAll m) = nE m := by
  by_cases h : isR m
  · rw [if_pos h, nAll_r h]; rfl
  · rw [if_neg h, nAll_n h]
theorem VM.lenA {m : Mt} (h : VM m) {k : Nat} (hk : k < nE m) : (evA m k).2.2.2.2.length ≤ 14 := h.len hk
theorem VM.kdA {m : Mt} (h : VM m) {k : Nat} (hk : k < nE m) : (evA m k).1 ≤ 2 := by rcases h.2.2.1 k hk with z | z | z <;> (have := z.1; show (evA m k).1 ≤ 2; unfold evA; omega)
def saidL (l : List Stp3) (n k : Nat) (w : Int32) : List Stp3 := l.set n (k, (mkS (nI k) w (nI 0)).2.1, (l.getD n z3).2.2)
def saidE (evs : List Ev5) (e n k : Nat) (w : Int32) : List Ev5 := evs.set e ((evs.getD e z5).1, (evs.getD e z5).2.1, (evs.getD e z5).2.2.1, (evs.getD e z5).2.2.2.1, saidL (evs.getD e z5).2.2.2.2 n k w)
theorem getD_set {α : Type} {l : List α} {i j : Nat} {a z : α} (hi : i < l.length) : (l.set i a).getD j z = if j = i then a else l.getD j z := by
  rw [List.getD_eq_getElem?_getD, List.getElem?_set, List.getD_eq_getElem?_getD]
  by_cases h : j = i
  · subst h; rw [if_pos rfl, if_pos hi, if_pos rfl]; rfl
  · rw [if_neg (fun z => h z.symm), if_neg h]
theorem saidE_len {evs : List Ev5} {e n k : Nat} {w : Int32} : (saidE evs e n k w).length = evs.length := List.length_set
theorem saidL_len {l : List Stp3} {n k : Nat} {w : Int32} : (saidL l n k w).length = l.length := List.length_set
theorem saidE_get {evs : List Ev5} {e n k j : Nat} {w : Int32} (he : e < evs.length) : (saidE evs e n k w).getD j z5 = if j = e then ((evs.getD e z5).1, (evs.getD e z5).2.1, (evs.getD e z5).2.2.1, (evs.getD e z5).2.2.2.1, saidL (evs.getD e z5).2.2.2.2 n k w) else evs.getD j z5 := getD_set he
theorem saidL_get {l : List Stp3} {n k j : Nat} {w : Int32} (hn : n < l.length) : (saidL l n k w).getD j z3 = if j = n then (k, (mkS (nI k) w (nI 0)).2.1, (l.getD n z3).2.2) else l.getD j z3 := getD_set hn
theorem whoI_said {k x t : Nat} {w : Int32} (hk : k ≤ 6) (hw : whoOK (nI k) w) (hx : x = (mkS (nI k) w (nI 0)).2.1) : whoI (k, x, t) = w ∧ (k = 0 → x < 10) := by
  obtain ⟨a, b, c, d⟩ := mkS_f (t := 0) hk (by decide) hw
  refine ⟨?_, fun z => hx ▸ d (a.trans z)⟩
  unfold whoI at c ⊢
  rw [a, ← hx] at c
  exact c
theorem saidL_ok {l : List Stp3} {n k : Nat} {w : Int32} (h : stOK l) (hn : n < l.length) (hk : k ≤ 5) (hw : whoOK (nI k) w) : stOK (saidL l n k w) := by
  refine ⟨by rw [saidL_len]; exact h.1, fun j hj => ?_⟩
  rw [saidL_len] at hj
  rw [saidL_get hn]
  split
  · exact ⟨by show k ≤ 6; omega, (whoI_said (t := 0) (by omega) hw rfl).2, (h.2 n hn).2.2⟩
  · exact h.2 j hj
theorem evOK_st {ev : Ev5} (h : evOK ev) (h0 : ev.1 = 0) : ev.2.1 < 10 ∧ stOK ev.2.2.2.2 ∧ ev.2.2.2.2 ≠ [] := by
  rcases h with h | h | h
  · exact h.2
  · omega
  · omega
theorem saidE_ok {evs : List Ev5} {e n k : Nat} {w : Int32} (h : evsOK evs) (he : e < evs.length) (h0 : (evs.getD e z5).1 = 0) (hn : n < (evs.getD e z5).2.2.2.2.length) (hk : k ≤ 5) (hw : whoOK (nI k) w) : evsOK (saidE evs e n k w) := fun j hj => by
  rw [saidE_len] at hj
  rw [saidE_get he]
  split
  · obtain ⟨a, b, c⟩ := evOK_st (h e he) h0
    refine Or.inl ⟨h0, a, saidL_ok b hn hk hw, fun z => ?_⟩
    have := congrArg List.length z
    rw [saidL_len] at this
    exact c (List.length_eq_zero_iff.mp this)
  · exact h j hj
theorem SAY_ev {M M1 : jM} {evs : List Ev5} {e n k : Nat} {w : Int32} (h : ∀ j, j < evs.length → EvR M j (evs.getD j z5)) (hl : ∀ j, j < evs.length → (evs.getD j z5).2.2.2.2.length ≤ 14) (he : e < evs.length) (hn : n < (evs.getD e z5).2.2.2.2.length) (hk : k ≤ 5) (hw : whoOK (nI k) w) (e1 : M1 = mSA (mSA M 13 (14 * e + n) (nI k)) 14 (14 * e + n) w) : ∀ j, j < (saidE evs e n k w).length → EvR M1 j ((saidE evs e n k w).getD j z5) := fun j hj => by
  rw [saidE_len] at hj
  obtain ⟨a, b, c, d, f, q⟩ := h j hj
  have hB : ∀ i, i ≠ 13 → i ≠ 14 → M1.2 i = M.2 i := fun i x y => by rw [e1, mSA_ne16 y, mSA_ne16 x]
  have hf : ∀ i p, p ≠ 14 * e + n → M1.2 i p = M.2 i p := fun i p z => by rw [e1, mSA_ne (Or.inr z), mSA_ne (Or.inr z)]
  have hle := hl e he
  have hlj := hl j hj
  rw [saidE_get he]
  by_cases hje : j = e
  · subst hje
    rw [if_pos rfl]
    refine ⟨by rw [hB 8 (by decide) (by decide)]; exact a, by rw [hB 9 (by decide) (by decide)]; exact b, by rw [hB 10 (by decide) (by decide)]; exact c, by rw [hB 11 (by decide) (by decide)]; exact d, by rw [hB 12 (by decide) (by decide)]; show _ = nI (saidL _ n k w).length; rw [saidL_len]; exact f, fun p hp => ?_⟩
    change p < (saidL _ n k w).length at hp
    rw [saidL_len] at hp
    show M1.2 13 (14 * j + p) = nI ((saidL _ n k w).getD p z3).1 ∧ M1.2 14 (14 * j + p) = whoI ((saidL _ n k w).getD p z3) ∧ M1.2 15 (14 * j + p) = nI ((saidL _ n k w).getD p z3).2.2
    rw [saidL_get hn]
    by_cases hpn : p = n
    · subst hpn
      rw [if_pos rfl]
      refine ⟨by rw [e1, mSA_ne (Or.inl (by decide)), mSA_eq], by rw [e1, mSA_eq]; exact (whoI_said (by omega) hw rfl).1.symm, by rw [hB 15 (by decide) (by decide)]; exact (q p hp).2.2⟩
    · rw [if_neg hpn, hf 13 _ (by omega), hf 14 _ (by omega), hf 15 _ (by omega)]; exact q p hp
  · rw [if_neg hje]
    refine ⟨by rw [hB 8 (by decide) (by decide)]; exact a, by rw [hB 9 (by decide) (by decide)]; exact b, by rw [hB 10 (by decide) (by decide)]; exact c, by rw [hB 11 (by decide) (by decide)]; exact d, by rw [hB 12 (by decide) (by decide)]; exact f, fun p hp => ?_⟩
    rw [hf 13 _ (by omega), hf 14 _ (by omega), hf 15 _ (by omega)]; exact q p hp
def canSay (l : List Stp3) (n k : Nat) : Prop := n + 1 = l.length ↔ 3 ≤ k
noncomputable def fallsN (m : Mt) (e n k : Nat) (w : Int32) : Int32 := iF (canSay (evA m e).2.2.2.2 n k) (fallI (mL m) (saidE (mE m) e n k w)) (nI e)
theorem upd_back {f : Nat → Int32} {i : Nat} {a : Int32} : upd (upd f i a) i (f i) = f := by
  funext j
  by_cases h : j = i
  · subst h; rw [pk_us]
  · rw [pk_un h, pk_un h]
/-- the history played once more -/
theorem RelS.pl {M M' : jM} {m : Mt} (h : RelS M m) (hg : mG M M') (hS : SA (M'.2 16) (mNow m)) (hN : NoteTo M' (mE m) (nE m)) : RelS M' m := by
  obtain ⟨a1, a2, a3, a4, a5, a6, a7, a8, a9⟩ := h
  exact ⟨fun i hi => by rw [hg.2 4 (by decide) (by decide) (by decide)]; exact a1 i hi, by rw [hg.1]; exact a2, fun i hi => by rw [hg.2 6 (by decide) (by decide) (by decide)]; exact a3 i hi, by rw [hg.1]; exact a4, by rw [hg.1]; exact a5, fun k hk => (a6 k hk).mG hg, hS, hN, fun z => (a9 z).mG hg⟩
theorem RelM.pl {M M' : jM} {Q : Option Mt} (h : RelM M Q) (hg : mG M M') (hS : isM Q → RelS M' (dM Q)) : RelM M' Q := ⟨by rw [hg.1]; exact h.1, hS⟩
noncomputable def opFall (Q : Option Mt) (e st k w : Int32) : Ans := iF (stepAt Q e st) (iF (inI k 0 5 ∧ whoOK k w) (0, fallsN (dM Q) (iN e) (iN st) (iN k) w, Q) (2, 0, Q)) (1, 0, Q)
noncomputable def moreI (m : Mt) (i : Nat) (evs : List Ev5) : Int32 := nI ((mtAt evs).1 4 i 0) - nI ((mtAt evs).1 4 (1 - i) 0) - (nI ((mNow m).1 4 i 0) - nI ((mNow m).1 4 (1 - i) 0))
noncomputable def opReview (Q : Option Mt) (i e st k w : Int32) : Ans := iF (inI i 0 1 ∧ stepAt Q e st) (iF (inI k 0 5 ∧ whoOK k w) (iF (¬ isR (dM Q) ∧ ¬ mX (dM Q) (iN i) ∧ fallsN (dM Q) (iN e) (iN st) (iN k) w = -1)
  (0, moreI (dM Q) (iN i) (saidE (mE (dM Q)) (iN e) (iN st) (iN k) w), some (mC (dM Q), mL (dM Q), fun j => (j = iN i ∧ ¬ 0 < moreI (dM Q) (iN i) (saidE (mE (dM Q)) (iN e) (iN st) (iN k) w)) ∨ (j ≠ iN i ∧ mX (dM Q) j), saidE (mE (dM Q)) (iN e) (iN st) (iN k) w, none)) (3, 0, Q)) (2, 0, Q)) (1, 0, Q)
noncomputable def opTakeBack (Q : Option Mt) (e : Int32) : Ans := iF (isM Q ∧ idx e (nAll (dM Q))) (0, nI (nAll (dM Q) - iN e), some (withE (dM Q) ((mE (dM Q)).take (iN e)))) (1, 0, Q)

set_option maxHeartbeats 4000000 in
theorem mc_isStep {g : jG} (G : jOK g) (M : jM) (Q : Option Mt) (e st : Int32) (hRel : RelM M Q) (hV : VQ Q)  : MTQ g 1 yX4_isStep [.int e, .int st] M (pI (stepAt Q e st)) := by
  intro h o ad hO
  refine CT.of (bytes := cX4_isStep) (maxL := 3) (ret := (some .boolean)) G q2156 (by decide) (by decide +kernel) (Nat.le_of_ble_eq_true rfl) ?_
  intro z C E hT hnm hnl
  have C : jC (g, z) cX4_isStep RX4 1 0 := C
  show J (g, z) (mput g h o ad M) 0 0 [(0, .ref o), (1, .int e), (2, .int st)] []
  refine j_aload_n C dX4_isStep_0 0 rfl rfl ?_
  refine jm_get2 C dX4_isStep_1 ?_
  refine j_ev (v' := pI (isM Q)) hRel.1 ?_
  refine j_ifp_eq C (tgt := 50) dX4_isStep_4 (by decide) ?_ ?_
  · intro c4
    refine j_iconst C (v := nI 0) dX4_isStep_50 (by decide) ?_
    exact j_iret C E (by decide) (Nat.le_refl _) (⟨_, rfl, rz0 (fun z => c4 z.1), rfl⟩) dX4_isStep_51
  · intro c4
    have hS := hRel.2 c4
    have hVm := hV c4
    have hne := hVm.ne
    refine j_iload_n C dX4_isStep_7 1 rfl rfl ?_
    refine j_iconst C (v := nI 0) dX4_isStep_8 (by decide) ?_
    refine j_aload_n C dX4_isStep_9 0 rfl rfl ?_
    refine jm_callQ C hO (as := []) (mc_ended G M (nAll (dM Q)) (isR (dM Q)) hS.2.2.2.1 hS.2.2.2.2.1 (fun z => by rw [nAll_r z]; omega)) mw_ended (by decide) (Nat.le_refl _) rfl (Nat.le_of_ble_eq_true rfl) dX4_isStep_10 ?_
    refine j_ev (v' := (nI (nE (dM Q)))) (by rw [ended_e]) ?_
    refine j_iconst C (v := nI 1) dX4_isStep_13 (by decide) ?_
    refine j_isub C dX4_isStep_14 ?_
    refine j_callSQ C (as := [.int e, .int (nI 0), .int ((nI (nE (dM Q))) - (nI 1))]) (mc_in G e (nI 0) (nI (nE (dM Q)) - nI 1)) mw_in (by decide) (Nat.le_refl _) rfl (Nat.le_of_ble_eq_true rfl) dX4_isStep_15 ?_
    refine j_ev (v' := pI (idx e (nE (dM Q)))) (pI_c (idx_c (by have := hVm.ne; omega))) ?_
    refine j_ifp_eq C (tgt := 50) dX4_isStep_18 (by decide) ?_ ?_
    · intro c18
      refine j_iconst C (v := nI 0) dX4_isStep_50 (by decide) ?_
      exact j_iret C E (by decide) (Nat.le_refl _) (⟨_, rfl, rz0 (fun z => c18 z.2.1), rfl⟩) dX4_isStep_51
    · intro c18
      have hix := c18
      obtain ⟨en, rfl, hen⟩ := idx_n c18
      have iNen : iN (nI en) = en := iN_nI (by omega)
      refine j_aload_n C dX4_isStep_21 0 rfl rfl ?_
      refine jm_get8 C dX4_isStep_22 ?_
      refine j_iload_n C dX4_isStep_25 1 rfl rfl ?_
      refine jm_ald8 C hO (by omega) dX4_isStep_26 ?_
      refine j_ev (v' := nI ((evA (dM Q) en).1)) ((hS.2.2.2.2.2.1 en hen).1) ?_
      refine j_ifn_ne C (by have := hVm.kdA hen; omega) (tgt := 50) dX4_isStep_27 (by decide) ?_ ?_
      · intro c27
        refine j_iconst C (v := nI 0) dX4_isStep_50 (by decide) ?_
        exact j_iret C E (by decide) (Nat.le_refl _) (⟨_, rfl, rz0 (fun z => c27 (by have := z.2.2.1; rw [iNen] at this; exact this)), rfl⟩) dX4_isStep_51
      · intro c27
        refine j_iload_n C dX4_isStep_30 2 rfl rfl ?_
        refine j_iconst C (v := nI 0) dX4_isStep_31 (by decide) ?_
        refine j_aload_n C dX4_isStep_32 0 rfl rfl ?_
        refine jm_get12 C dX4_isStep_33 ?_
        refine j_iload_n C dX4_isStep_36 1 rfl rfl ?_
        refine jm_ald12 C hO (by omega) dX4_isStep_37 ?_
        refine j_ev (v' := (nI (evA (dM Q) en).2.2.2.2.length)) ((hS.2.2.2.2.2.1 en hen).2.2.2.2.1) ?_
        refine j_iconst C (v := nI 1) dX4_isStep_38 (by decide) ?_
        refine j_isub C dX4_isStep_39 ?_
        refine j_callSQ C (as := [.int st, .int (nI 0), .int ((nI (evA (dM Q) en).2.2.2.2.length) - (nI 1))]) (mc_in G st (nI 0) (nI (evA (dM Q) en).2.2.2.2.length - nI 1)) mw_in (by decide) (Nat.le_refl _) rfl (Nat.le_of_ble_eq_true rfl) dX4_isStep_40 ?_
        refine j_ev (v' := pI (idx st (evA (dM Q) en).2.2.2.2.length)) (pI_c (idx_c (by have := hVm.lenA hen; omega))) ?_
        refine j_ifp_eq C (tgt := 50) dX4_isStep_43 (by decide) ?_ ?_
        · intro c43
          refine j_iconst C (v := nI 0) dX4_isStep_50 (by decide) ?_
          exact j_iret C E (by decide) (Nat.le_refl _) (⟨_, rfl, rz0 (fun z => c43 (by have := z.2.2.2; rw [iNen] at this; exact this)), rfl⟩) dX4_isStep_51
        · intro c43
          refine j_iconst C (v := nI 1) dX4_isStep_46 (by decide) ?_
          refine j_goto C (tgt := 51) dX4_isStep_47 (by decide) ?_
          exact j_iret C E (by decide) (Nat.le_refl _) (⟨_, rfl, rz1 ⟨c4, hix, by rw [iNen]; exact c27, by rw [iNen]; exact c43⟩, rfl⟩) dX4_isStep_51

set_option maxHeartbeats 4000000 in
theorem mc_canBeSaid {g : jG} (G : jOK g) (M : jM) (e n k : Nat) (l : List Stp3) (he : e < 60) (hl : l.length ≤ 14) (hn : n < l.length) (hk : k ≤ 6) (hc : M.2 12 e = nI l.length)  : MTQ g 0 yX4_canBeSaid [.int (nI e), .int (nI n), .int (nI k)] M (pI (canSay l n k)) := by
  intro h o ad hO
  refine CT.of (bytes := cX4_canBeSaid) (maxL := 5) (ret := (some .boolean)) G q2168 (by decide) (by decide +kernel) (Nat.le_of_ble_eq_true rfl) ?_
  intro z C E hT hnm hnl
  have C : jC (g, z) cX4_canBeSaid RX4 0 0 := C
  show J (g, z) (mput g h o ad M) 0 0 [(0, .ref o), (1, .int (nI e)), (2, .int (nI n)), (3, .int (nI k))] []
  refine j_iload_n C dX4_canBeSaid_0 2 rfl rfl ?_
  refine j_aload_n C dX4_canBeSaid_1 0 rfl rfl ?_
  refine jm_get12 C dX4_canBeSaid_2 ?_
  refine j_iload_n C dX4_canBeSaid_5 1 rfl rfl ?_
  refine jm_ald12 C hO (by omega) dX4_canBeSaid_6 ?_
  refine j_ev (v' := nI l.length) hc ?_
  refine j_iconst C (v := nI 1) dX4_canBeSaid_7 (by decide) ?_
  refine j_isubn C (by omega) dX4_canBeSaid_8 ?_
  have join17 : J (g, z) (mput g h o ad M) 0 17 [(0, .ref o), (1, .int (nI e)), (2, .int (nI n)), (3, .int (nI k))] [.int (pI (n + 1 = l.length))] := by
    refine j_istore C (L' := [(4, .int (pI (n + 1 = l.length))), (0, .ref o), (1, .int (nI e)), (2, .int (nI n)), (3, .int (nI k))]) dX4_canBeSaid_17 (jlt hnl (by decide)) rfl ?_
    refine j_iload C dX4_canBeSaid_19 0 rfl ?_
    refine j_iload_n C dX4_canBeSaid_21 4 rfl rfl ?_
    refine j_iconst C (v := nI 3) dX4_canBeSaid_22 (by decide) ?_
    refine j_icn_lt C (by omega) (by decide) (tgt := 30) dX4_canBeSaid_23 (by decide) ?_ ?_
    · intro c23
      refine j_iconst C (v := nI 0) dX4_canBeSaid_30 (by decide) ?_
      refine j_ic_ne C (tgt := 38) dX4_canBeSaid_31 (by decide) ?_ ?_
      · intro c31
        refine j_iconst C (v := nI 0) dX4_canBeSaid_38 (by decide) ?_
        exact j_iret C E (by decide) (Nat.le_refl _) (⟨_, rfl, rz0 (by unfold canSay; grind [pI_1, pI_00]), rfl⟩) dX4_canBeSaid_39
      · intro c31
        refine j_iconst C (v := nI 1) dX4_canBeSaid_34 (by decide) ?_
        refine j_goto C (tgt := 39) dX4_canBeSaid_35 (by decide) ?_
        exact j_iret C E (by decide) (Nat.le_refl _) (⟨_, rfl, rz1 (by unfold canSay; grind [pI_1, pI_00]), rfl⟩) dX4_canBeSaid_39
    · intro c23
      refine j_iconst C (v := nI 1) dX4_canBeSaid_26 (by decide) ?_
      refine j_goto C (tgt := 31) dX4_canBeSaid_27 (by decide) ?_
      refine j_ic_ne C (tgt := 38) dX4_canBeSaid_31 (by decide) ?_ ?_
      · intro c31
        refine j_iconst C (v := nI 0) dX4_canBeSaid_38 (by decide) ?_
        exact j_iret C E (by decide) (Nat.le_refl _) (⟨_, rfl, rz0 (by unfold canSay; grind [pI_1, pI_00]), rfl⟩) dX4_canBeSaid_39
      · intro c31
        refine j_iconst C (v := nI 1) dX4_canBeSaid_34 (by decide) ?_
        refine j_goto C (tgt := 39) dX4_canBeSaid_35 (by decide) ?_
        exact j_iret C E (by decide) (Nat.le_refl _) (⟨_, rfl, rz1 (by unfold canSay; grind [pI_1, pI_00]), rfl⟩) dX4_canBeSaid_39
  refine j_icn_ne C (by omega) (by omega) (tgt := 16) dX4_canBeSaid_9 (by decide) ?_ ?_
  · intro c9
    refine j_iconst C (v := nI 0) dX4_canBeSaid_16 (by decide) ?_
    refine J.sub (L' := [(0, .ref o), (1, .int (nI e)), (2, .int (nI n)), (3, .int (nI k))]) ?_ [0, 1, 2, 3] rfl
    refine j_ev (v' := pI (n + 1 = l.length)) (by rw [pI_f (by omega)]; rfl) ?_
    exact join17
  · intro c9
    refine j_iconst C (v := nI 1) dX4_canBeSaid_12 (by decide) ?_
    refine j_goto C (tgt := 17) dX4_canBeSaid_13 (by decide) ?_
    refine J.sub (L' := [(0, .ref o), (1, .int (nI e)), (2, .int (nI n)), (3, .int (nI k))]) ?_ [0, 1, 2, 3] rfl
    refine j_ev (v' := pI (n + 1 = l.length)) (by rw [pI_t (by omega)]; rfl) ?_
    exact join17

set_option maxHeartbeats 4000000 in
theorem mc_says {g : jG} (G : jOK g) (M : jM) (a : Nat) (k v : Int32) (ha : a < 840)  : MTV g 0 yX4_says [.int (nI a), .int k, .int v] M (fun M' => M' = mSA (mSA M 13 a k) 14 a v) := by
  intro h o ad hO
  refine CT.of (bytes := cX4_says) (maxL := 4) (ret := none) G q2172 (by decide) (by decide +kernel) (Nat.le_of_ble_eq_true rfl) ?_
  intro z C E hT hnm hnl
  have C : jC (g, z) cX4_says RX4 0 0 := C
  show J (g, z) (mput g h o ad M) 0 0 [(0, .ref o), (1, .int (nI a)), (2, .int k), (3, .int v)] []
  refine j_aload_n C dX4_says_0 0 rfl rfl ?_
  refine jm_get13 C dX4_says_1 ?_
  refine j_iload_n C dX4_says_4 1 rfl rfl ?_
  refine j_iload_n C dX4_says_5 2 rfl rfl ?_
  refine jm_ast13 C hO (by omega) dX4_says_6 (fun M1 hM1 => ?_)
  refine j_aload_n C dX4_says_7 0 rfl rfl ?_
  refine jm_get14 C dX4_says_8 ?_
  refine j_iload_n C dX4_says_11 1 rfl rfl ?_
  refine j_iload_n C dX4_says_12 3 rfl rfl ?_
  refine jm_ast14 C hO (by omega) dX4_says_13 (fun M2 hM2 => ?_)
  exact j_vret C E (Nat.le_refl _) (⟨_, rfl, rfl, by rw [hM2, hM1]⟩) dX4_says_14

theorem mSA_F1 {M : jM} {k i : Nat} {v : Int32} : (mSA M k i v).1 = M.1 := rfl

set_option maxHeartbeats 4000000 in
theorem mc_falls {g : jG} (G : jOK g) (M : jM) (m : Mt) (hS : RelS M m) (hV : VM m) (e n k : Nat) (w : Int32) (he : e < nE m) (h0 : (evA m e).1 = 0) (hn : n < (evA m e).2.2.2.2.length) (hk : k ≤ 5) (hw : whoOK (nI k) w)  : MTR g 6 yX4_falls [.int (nI e), .int (nI n), .int (nI k), .int w] M (fun v M' => v = fallsN m e n k w ∧ RelS M' m ∧ mG M M') := by
  intro h o ad hO
  refine CT.of (bytes := cX4_falls) (maxL := 10) (ret := (some .int)) G q2164 (by decide) (by decide +kernel) (Nat.le_of_ble_eq_true rfl) ?_
  intro z C E hT hnm hnl
  have C : jC (g, z) cX4_falls RX4 6 0 := C
  show J (g, z) (mput g h o ad M) 0 0 [(0, .ref o), (1, .int (nI e)), (2, .int (nI n)), (3, .int (nI k)), (4, .int w)] []
  refine j_aload_n C dX4_falls_0 0 rfl rfl ?_
  refine j_iload_n C dX4_falls_1 1 rfl rfl ?_
  refine j_iload_n C dX4_falls_2 2 rfl rfl ?_
  refine j_iload_n C dX4_falls_3 3 rfl rfl ?_
  refine jm_callQ C hO (as := [.int (nI e), .int (nI n), .int (nI k)]) (mc_canBeSaid G M e n k (evA m e).2.2.2.2 (by have := hV.ne; omega) (hV.len he) hn (by omega) (hS.2.2.2.2.2.1 e he).2.2.2.2.1) mw_canBeSaid (by decide) (Nat.le_refl _) rfl (Nat.le_of_ble_eq_true rfl) dX4_falls_4 ?_
  refine j_ifp_ne C (tgt := 12) dX4_falls_7 (by decide) ?_ ?_
  · intro c7
    refine j_bipush C (v := nI 14) dX4_falls_12 (by decide) ?_
    refine j_iload_n C dX4_falls_14 1 rfl rfl ?_
    refine j_imuln C dX4_falls_15 ?_
    refine j_iload_n C dX4_falls_16 2 rfl rfl ?_
    refine j_iaddn C dX4_falls_17 ?_
    refine j_istore C (L' := [(5, .int (nI (14 * e + n))), (0, .ref o), (1, .int (nI e)), (2, .int (nI n)), (3, .int (nI k)), (4, .int w)]) dX4_falls_18 (jlt hnl (by decide)) rfl ?_
    refine j_aload_n C dX4_falls_20 1 rfl rfl ?_
    refine jm_get13 C dX4_falls_21 ?_
    refine j_iload C dX4_falls_24 0 rfl ?_
    refine jm_ald13 C hO (by have := hV.ne; have := hV.lenA he; omega) dX4_falls_26 ?_
    refine j_istore C (L' := [(6, .int (M.2 13 (14 * e + n))), (5, .int (nI (14 * e + n))), (0, .ref o), (1, .int (nI e)), (2, .int (nI n)), (3, .int (nI k)), (4, .int w)]) dX4_falls_27 (jlt hnl (by decide)) rfl ?_
    refine j_aload_n C dX4_falls_29 2 rfl rfl ?_
    refine jm_get14 C dX4_falls_30 ?_
    refine j_iload C dX4_falls_33 1 rfl ?_
    refine jm_ald14 C hO (by have := hV.ne; have := hV.lenA he; omega) dX4_falls_35 ?_
    refine j_istore C (L' := [(7, .int (M.2 14 (14 * e + n))), (6, .int (M.2 13 (14 * e + n))), (5, .int (nI (14 * e + n))), (0, .ref o), (1, .int (nI e)), (2, .int (nI n)), (3, .int (nI k)), (4, .int w)]) dX4_falls_36 (jlt hnl (by decide)) rfl ?_
    refine j_aload_n C dX4_falls_38 3 rfl rfl ?_
    refine j_iload C dX4_falls_39 2 rfl ?_
    refine j_iload_n C dX4_falls_41 6 rfl rfl ?_
    refine j_iload C dX4_falls_42 7 rfl ?_
    refine jm_callV C hO (as := [.int (nI (14 * e + n)), .int (nI k), .int w]) (mc_says G M (14 * e + n) (nI k) w (by have := hV.ne; have := hV.lenA he; omega)) mw_says (by decide) (Nat.le_refl _) rfl (Nat.le_of_ble_eq_true rfl) dX4_falls_44 (fun M1 hM1 => ?_)
    refine j_aload_n C dX4_falls_47 3 rfl rfl ?_
    refine jm_callR C hO (as := []) (mc_plays G M1 (saidE (mE m) e n k w) (mL m) (nAll m) (isR m) (SAY_ev hS.2.2.2.2.2.1 (fun j hj => hV.len hj) he hn hk hw hM1) (saidE_ok hV.2.2.1 he h0 hn hk hw) (by rw [saidE_len]; exact hV.ne) (by rw [hM1]; exact hS.2.2.2.1) (by rw [hM1]; exact hS.2.2.2.2.1) (fun z => by rw [nAll_r z]; omega) (by rw [ended_e, saidE_len]) (by rw [hM1]; exact hS.2.1) (by have := hV.2.1; omega)) mw_plays (by decide) (Nat.le_refl _) rfl (Nat.le_of_ble_eq_true rfl) dX4_falls_48 (fun r3 M2 hM2 => ?_)
    refine j_istore C (L' := [(8, .int r3), (7, .int (M.2 14 (14 * e + n))), (6, .int (M.2 13 (14 * e + n))), (5, .int (nI (14 * e + n))), (0, .ref o), (1, .int (nI e)), (2, .int (nI n)), (3, .int (nI k)), (4, .int w)]) dX4_falls_51 (jlt hnl (by decide)) rfl ?_
    refine j_aload_n C dX4_falls_53 4 rfl rfl ?_
    refine j_iload C dX4_falls_54 3 rfl ?_
    refine j_iload C dX4_falls_56 2 rfl ?_
    refine j_iload C dX4_falls_58 1 rfl ?_
    refine jm_callV C hO (as := [.int (nI (14 * e + n)), .int (M.2 13 (14 * e + n)), .int (M.2 14 (14 * e + n))]) (mc_says G M2 (14 * e + n) (M.2 13 (14 * e + n)) (M.2 14 (14 * e + n)) (by have := hV.ne; have := hV.lenA he; omega)) mw_says (by decide) (Nat.le_refl _) rfl (Nat.le_of_ble_eq_true rfl) dX4_falls_60 (fun M4 hM4 => ?_)
    have hG3 : mG M M4 := by
      have g13 : M4.2 13 = M.2 13 := by rw [hM4, mSA_ne16 (by decide)]; unfold mSA; dsimp only; rw [if_pos rfl, hM2.1.2 13 (by decide) (by decide) (by decide), hM1, mSA_ne16 (by decide)]; unfold mSA; dsimp only; rw [if_pos rfl]; exact upd_back
      have g14 : M4.2 14 = M.2 14 := by rw [hM4]; unfold mSA; dsimp only; rw [if_pos rfl, if_neg (by decide), hM2.1.2 14 (by decide) (by decide) (by decide), hM1]; unfold mSA; dsimp only; rw [if_pos rfl, if_neg (by decide)]; exact upd_back
      refine ⟨by rw [hM4, mSA_F1, mSA_F1, hM2.1.1, hM1, mSA_F1, mSA_F1], fun j a b c => ?_⟩
      by_cases j13 : j = 13
      · rw [j13]; exact g13
      · by_cases j14 : j = 14
        · rw [j14]; exact g14
        · rw [hM4, mSA_ne16 j14, mSA_ne16 j13, hM2.1.2 j a b c, hM1, mSA_ne16 j14, mSA_ne16 j13]
    refine j_aload_n C dX4_falls_63 4 rfl rfl ?_
    refine jm_callR C hO (as := []) (mc_plays G M4 (mE m) (mL m) (nAll m) (isR m) (fun j hj => (hS.2.2.2.2.2.1 j hj).mG hG3) hV.2.2.1 hV.ne (by rw [hG3.1]; exact hS.2.2.2.1) (by rw [hG3.1]; exact hS.2.2.2.2.1) (fun z => by rw [nAll_r z]; omega) ended_e (by rw [hG3.1]; exact hS.2.1) (by have := hV.2.1; omega)) mw_plays (by decide) (Nat.le_refl _) rfl (Nat.le_of_ble_eq_true rfl) dX4_falls_64 (fun r6 M5 hM5 => ?_)
    refine j_istore C (L' := [(9, .int r6), (8, .int r3), (7, .int (M.2 14 (14 * e + n))), (6, .int (M.2 13 (14 * e + n))), (5, .int (nI (14 * e + n))), (0, .ref o), (1, .int (nI e)), (2, .int (nI n)), (3, .int (nI k)), (4, .int w)]) dX4_falls_67 (jlt hnl (by decide)) rfl ?_
    refine j_iload C dX4_falls_69 1 rfl ?_
    exact j_iret C E rfl (Nat.le_refl _) (⟨_, rfl, _, rfl, by unfold fallsN; rw [iF_t c7]; exact hM2.2.1, hS.pl (hG3.tr hM5.1) (hM5.2.2 (hM5.2.1.trans (fall_no hV.2.2.2.2.1))).1 (hM5.2.2 (hM5.2.1.trans (fall_no hV.2.2.2.2.1))).2, hG3.tr hM5.1⟩) dX4_falls_71
  · intro c7
    refine j_iload_n C dX4_falls_10 1 rfl rfl ?_
    exact j_iret C E rfl (Nat.le_refl _) (⟨_, rfl, _, rfl, by unfold fallsN; rw [iF_f c7], hS, mG.rf⟩) dX4_falls_11
