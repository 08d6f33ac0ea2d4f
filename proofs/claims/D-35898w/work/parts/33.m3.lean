set_option maxRecDepth 100000

set_option maxHeartbeats 4000000 in
theorem mc_stepsThat {g : jG} (G : jOK g) (M : jM) (e k : Nat) (l : List Stp3) (he : e < 60) (hc : M.2 12 e = nI l.length) (hR : stRel M e l) (hK : stOK l) (hk : k < 2 ^ 31)  : MTQ g 0 yX4_stepsThat [.int (nI e), .int (nI k)] M (nI (stN l k)) := by
  intro h o ad hO
  refine CT.of (bytes := cX4_stepsThat) (maxL := 5) (ret := (some .int)) G q2093 (by decide) (by decide +kernel) (Nat.le_of_ble_eq_true rfl) ?_
  intro z C E hT hnm hnl
  have C : jC (g, z) cX4_stepsThat RX4 0 0 := C
  show J (g, z) (mput g h o ad M) 0 0 [(0, .ref o), (1, .int (nI e)), (2, .int (nI k))] []
  refine j_iconst C (v := nI 0) dX4_stepsThat_0 (by decide) ?_
  refine j_istore_n C (L' := [(3, .int (nI 0)), (0, .ref o), (1, .int (nI e)), (2, .int (nI k))]) dX4_stepsThat_1 rfl (jlt hnl (by decide)) rfl ?_
  refine j_iconst C (v := nI 0) dX4_stepsThat_2 (by decide) ?_
  refine j_istore C (L' := [(4, .int (nI 0)), (3, .int (nI 0)), (0, .ref o), (1, .int (nI e)), (2, .int (nI k))]) dX4_stepsThat_3 (jlt hnl (by decide)) rfl ?_
  refine J.sub (L' := [(0, .ref o), (1, .int (nI e)), (2, .int (nI k)), (3, .int (nI 0)), (4, .int (nI 0))]) ?_ [2, 3, 4, 1, 0] rfl
  have loop5 : ∀ (n : Nat) (j : Nat) (n0 : Nat), (j ≤ l.length) → (n0 = stN (l.take j) k) → (l.length - j) < n → J (g, z) (mput g h o ad M) 0 5 [(0, .ref o), (1, .int (nI e)), (2, .int (nI k)), (3, .int (nI n0)), (4, .int (nI j))] [] := by
    intro n
    induction n with
    | zero => intro j n0; intros; omega
    | succ n ih5 =>
      intro j n0 hj hn0 hm5
      refine j_iload C dX4_stepsThat_5 4 rfl ?_
      refine j_aload_n C dX4_stepsThat_7 0 rfl rfl ?_
      refine jm_get12 C dX4_stepsThat_8 ?_
      refine j_iload_n C dX4_stepsThat_11 1 rfl rfl ?_
      refine jm_ald12 C hO (by omega) dX4_stepsThat_12 ?_
      refine j_ev (v' := nI l.length) hc ?_
      refine j_icn_ge C (by have := hK.1; omega) (by have := hK.1; omega) (tgt := 46) dX4_stepsThat_13 (by decide) ?_ ?_
      · intro c13
        refine j_iload_n C dX4_stepsThat_46 3 rfl rfl ?_
        exact j_iret C E rfl (Nat.le_refl _) (⟨_, rfl, by rw [hn0, show j = l.length by omega, List.take_length], rfl⟩) dX4_stepsThat_47
      · intro c13
        have join38 : ∀ (bb : Nat), (bb = if (l.getD j z3).1 = k then 1 else 0) → J (g, z) (mput g h o ad M) 0 38 [(0, .ref o), (1, .int (nI e)), (2, .int (nI k)), (3, .int (nI n0)), (4, .int (nI j))] [.int (nI bb), .int (nI n0)] := by
          intro bb hbb
          refine j_iaddn C dX4_stepsThat_38 ?_
          refine j_istore_n C (L' := [(3, .int (nI (n0 + bb))), (0, .ref o), (1, .int (nI e)), (2, .int (nI k)), (4, .int (nI j))]) dX4_stepsThat_39 rfl (jlt hnl (by decide)) rfl ?_
          refine j_iinc C (L' := [(4, .int (nI (j + 1))), (3, .int (nI (n0 + bb))), (0, .ref o), (1, .int (nI e)), (2, .int (nI k))]) dX4_stepsThat_40 4 rfl (kinc j 1 (by decide)) (jlt hnl (by decide)) rfl ?_
          refine j_goto C (tgt := 5) dX4_stepsThat_43 (by decide) ?_
          refine J.sub (L' := [(0, .ref o), (1, .int (nI e)), (2, .int (nI k)), (3, .int (nI (n0 + bb))), (4, .int (nI (j + 1)))]) ?_ [2, 3, 4, 1, 0] rfl
          exact ih5 (j + 1) (n0 + bb) (by omega) (by rw [stN_s c13, ← hn0, hbb]) (by omega)
        refine j_iload_n C dX4_stepsThat_16 3 rfl rfl ?_
        refine j_aload_n C dX4_stepsThat_17 0 rfl rfl ?_
        refine jm_get13 C dX4_stepsThat_18 ?_
        refine j_bipush C (v := nI 14) dX4_stepsThat_21 (by decide) ?_
        refine j_iload_n C dX4_stepsThat_23 1 rfl rfl ?_
        refine j_imuln C dX4_stepsThat_24 ?_
        refine j_iload C dX4_stepsThat_25 4 rfl ?_
        refine j_iaddn C dX4_stepsThat_27 ?_
        refine jm_ald13 C hO (by have := hK.1; omega) dX4_stepsThat_28 ?_
        refine j_ev (v' := nI ((l.getD j z3).1)) ((hR j c13).1) ?_
        refine j_iload_n C dX4_stepsThat_29 2 rfl rfl ?_
        refine j_icn_ne C (by have := (hK.2 j c13).1; omega) (by have := (hK.2 j c13).1; omega) (tgt := 37) dX4_stepsThat_30 (by decide) ?_ ?_
        · intro c30
          refine j_iconst C (v := nI 0) dX4_stepsThat_37 (by decide) ?_
          refine J.sub (L' := [(0, .ref o), (1, .int (nI e)), (2, .int (nI k)), (3, .int (nI n0)), (4, .int (nI j))]) ?_ [0, 1, 2, 3, 4] rfl
          exact join38 0 (by grind)
        · intro c30
          refine j_iconst C (v := nI 1) dX4_stepsThat_33 (by decide) ?_
          refine j_goto C (tgt := 38) dX4_stepsThat_34 (by decide) ?_
          refine J.sub (L' := [(0, .ref o), (1, .int (nI e)), (2, .int (nI k)), (3, .int (nI n0)), (4, .int (nI j))]) ?_ [0, 1, 2, 3, 4] rfl
          exact join38 1 (by grind)
  exact loop5 ((l.length - 0) + 1) 0 0 (Nat.zero_le _) rfl (Nat.lt_succ_self _)

set_option maxHeartbeats 4000000 in
theorem mc_looksAtMat {g : jG} (G : jOK g) (M : jM) (t : MT) (i : Nat) (hS : SA (M.2 16) t) (hi : i < 2) (hB : ∀ p, p < 10 → t.1 0 i p < 2 ^ 31)  : MTV g 2 yX4_looksAtMat [.int (nI i)] M (fun M' => mO M M' ∧ SA (M'.2 16) (lookOut t i)) := by
  intro h o ad hO
  refine CT.of (bytes := cX4_looksAtMat) (maxL := 2) (ret := none) G q2113 (by decide) (by decide +kernel) (Nat.le_of_ble_eq_true rfl) ?_
  intro z C E hT hnm hnl
  have C : jC (g, z) cX4_looksAtMat RX4 2 0 := C
  show J (g, z) (mput g h o ad M) 0 0 [(0, .ref o), (1, .int (nI i))] []
  refine j_aload_n C dX4_looksAtMat_0 0 rfl rfl ?_
  refine j_iload_n C dX4_looksAtMat_1 1 rfl rfl ?_
  refine j_iconst C (v := nI 0) dX4_looksAtMat_2 (by decide) ?_
  refine j_iconst C (v := nI 0) dX4_looksAtMat_3 (by decide) ?_
  refine jm_callQ C hO (as := [.int (nI i), .int (nI 0), .int (nI 0)]) (mc_manyThat G M t i 0 0 hS hi (by decide) (by decide) hB) mw_manyThat (by decide) (Nat.le_refl _) rfl (Nat.le_of_ble_eq_true rfl) dX4_looksAtMat_4 ?_
  refine j_ifn_ne C (by have : tMany t i 0 0 ≤ 10 := cnt_le; omega) (tgt := 43) dX4_looksAtMat_7 (by decide) ?_ ?_
  · intro c7
    exact j_vret C E (Nat.le_refl _) (⟨_, rfl, rfl, mO.rf, by rw [lookOut, if_neg c7]; exact hS⟩) dX4_looksAtMat_43
  · intro c7
    refine j_aload_n C dX4_looksAtMat_10 0 rfl rfl ?_
    refine jm_get16 C dX4_looksAtMat_11 ?_
    refine j_bipush C (v := nI 105) dX4_looksAtMat_14 (by decide) ?_
    refine j_iload_n C dX4_looksAtMat_16 1 rfl rfl ?_
    refine j_isubn C (by omega) dX4_looksAtMat_17 ?_
    refine j_dup2 C dX4_looksAtMat_18 rfl rfl ?_
    refine jm_ald16 C hO (by omega) dX4_looksAtMat_19 ?_
    refine j_ev (v' := nI (t.1 4 (1 - i) 0)) (hS.po (by omega) (by omega)) ?_
    refine j_iconst C (v := nI 2) dX4_looksAtMat_20 (by decide) ?_
    refine j_iaddn C dX4_looksAtMat_21 ?_
    refine jm_ast16 C hO (by omega) dX4_looksAtMat_22 (fun M1 hM1 => ?_)
    refine J.sub (L' := [(0, .ref o), (1, .int (nI i))]) ?_ [0, 1] rfl
    have loop23 : ∀ (n : Nat) (k : Nat) (Mk : jM), (k ≤ (t.2 i).length) → (mO M Mk) → (SA (Mk.2 16) (comeN (tS t 4 (1 - i) 0 (t.1 4 (1 - i) 0 + 2)) i k)) → ((t.2 i).length + 1 - k) < n → J (g, z) (mput g h o ad Mk) 0 23 [(0, .ref o), (1, .int (nI i))] [] := by
      intro n
      induction n with
      | zero => intro k Mk; intros; omega
      | succ n ih23 =>
        intro k Mk hk hMo hSk hm23
        refine j_aload_n C dX4_looksAtMat_23 0 rfl rfl ?_
        refine jm_get16 C dX4_looksAtMat_24 ?_
        refine j_bipush C (v := nI 100) dX4_looksAtMat_27 (by decide) ?_
        refine j_iload_n C dX4_looksAtMat_29 1 rfl rfl ?_
        refine j_iaddn C dX4_looksAtMat_30 ?_
        refine jm_ald16 C hO (by omega) dX4_looksAtMat_31 ?_
        refine j_ev (v' := nI ((t.2 i).length - k)) ((hSk.many hi rfl).trans (by rw [comeN_len, tS_2])) ?_
        refine j_ifn_le C (by have := hS.len hi; omega) (tgt := 43) dX4_looksAtMat_32 (by decide) ?_ ?_
        · intro c32
          exact j_vret C E (Nat.le_refl _) (⟨_, rfl, rfl, hMo, by rw [lookOut, if_pos c7, show (t.2 i).length = k by omega]; exact hSk⟩) dX4_looksAtMat_43
        · intro c32
          refine j_aload_n C dX4_looksAtMat_35 0 rfl rfl ?_
          refine j_iload_n C dX4_looksAtMat_36 1 rfl rfl ?_
          refine jm_callV C hO (as := [.int (nI i)]) (mc_comesBack G Mk _ i hSk hi) mw_comesBack (by decide) (Nat.le_refl _) rfl (Nat.le_of_ble_eq_true rfl) dX4_looksAtMat_37 (fun M2 hM2 => ?_)
          refine j_goto C (tgt := 23) dX4_looksAtMat_40 (by decide) ?_
          refine J.sub (L' := [(0, .ref o), (1, .int (nI i))]) ?_ [0, 1] rfl
          exact ih23 (k + 1) M2 (by omega) (hMo.tr hM2.1) (by rw [comeN_s]; exact hM2.2) (by omega)
    exact loop23 (((t.2 i).length + 1 - 0) + 1) 0 M1 (Nat.zero_le _) (mO.set hM1) (by rw [hM1, mSA_16]; exact hS.ppo (by omega) (by omega)) (Nat.lt_succ_self _)

set_option maxHeartbeats 4000000 in
theorem mc_raiderIsOut {g : jG} (G : jOK g) (M : jM) (t : MT) (i r n : Nat) (hS : SA (M.2 16) t) (hi : i < 2) (hr : r < 10) (hl : (t.2 i).length < 10)  : MTV g 1 yX4_raiderIsOut [.int (nI i), .int (nI r), .int (nI n)] M (fun M' => mO M M' ∧ SA (M'.2 16) (raiderOut t i r n)) := by
  intro h o ad hO
  refine CT.of (bytes := cX4_raiderIsOut) (maxL := 4) (ret := none) G q2101 (by decide) (by decide +kernel) (Nat.le_of_ble_eq_true rfl) ?_
  intro z C E hT hnm hnl
  have C : jC (g, z) cX4_raiderIsOut RX4 1 0 := C
  show J (g, z) (mput g h o ad M) 0 0 [(0, .ref o), (1, .int (nI i)), (2, .int (nI r)), (3, .int (nI n))] []
  refine j_aload_n C dX4_raiderIsOut_0 0 rfl rfl ?_
  refine j_iload_n C dX4_raiderIsOut_1 1 rfl rfl ?_
  refine j_iload_n C dX4_raiderIsOut_2 2 rfl rfl ?_
  refine jm_callV C hO (as := [.int (nI i), .int (nI r)]) (mc_goesOut G M t i r hS hi hr hl) mw_goesOut (by decide) (Nat.le_refl _) rfl (Nat.le_of_ble_eq_true rfl) dX4_raiderIsOut_3 (fun M1 hM1 => ?_)
  refine j_aload_n C dX4_raiderIsOut_6 0 rfl rfl ?_
  refine jm_get16 C dX4_raiderIsOut_7 ?_
  refine j_bipush C (v := nI 105) dX4_raiderIsOut_10 (by decide) ?_
  refine j_iload_n C dX4_raiderIsOut_12 1 rfl rfl ?_
  refine j_isubn C (by omega) dX4_raiderIsOut_13 ?_
  refine j_dup2 C dX4_raiderIsOut_14 rfl rfl ?_
  refine jm_ald16 C hO (by omega) dX4_raiderIsOut_15 ?_
  refine j_ev (v' := nI ((goOut t i r).1 4 (1 - i) 0)) (hM1.2.po (by omega) (by omega)) ?_
  refine j_iload_n C dX4_raiderIsOut_16 3 rfl rfl ?_
  refine j_iaddn C dX4_raiderIsOut_17 ?_
  refine jm_ast16 C hO (by omega) dX4_raiderIsOut_18 (fun M2 hM2 => ?_)
  have hS2 : SA (M2.2 16) (tS (goOut t i r) 4 (1 - i) 0 ((goOut t i r).1 4 (1 - i) 0 + n)) := by rw [hM2, mSA_16]; exact hM1.2.ppo (by omega) (by omega)
  refine j_aload_n C dX4_raiderIsOut_19 0 rfl rfl ?_
  refine j_iconst C (v := nI 1) dX4_raiderIsOut_20 (by decide) ?_
  refine j_iload_n C dX4_raiderIsOut_21 1 rfl rfl ?_
  refine j_isubn C (by omega) dX4_raiderIsOut_22 ?_
  refine jm_callV C hO (as := [.int (nI (1 - i))]) (mc_comesBack G M2 _ (1 - i) hS2 (by omega)) mw_comesBack (by decide) (Nat.le_refl _) rfl (Nat.le_of_ble_eq_true rfl) dX4_raiderIsOut_23 (fun M3 hM3 => ?_)
  exact j_vret C E (Nat.le_refl _) (⟨_, rfl, rfl, hM1.1.tr ((mO.set hM2).tr hM3.1), hM3.2⟩) dX4_raiderIsOut_26
