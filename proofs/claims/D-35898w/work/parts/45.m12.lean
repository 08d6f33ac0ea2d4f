set_option maxRecDepth 100000
theorem pI_0f {p : Prop} (h : ¬ p) : nI 0 = pI p := (pI_f h).symm
theorem pI_1t {p : Prop} (h : p) : nI 1 = pI p := (pI_t h).symm
theorem OUT.fl {M M1 M' : jM} {v : Int32} {Q : Option Mt} {o : Ans} {k : Nat} (hk : k ≠ 0) (h : M' = mSF M1 0 (nI k)) (hR : RelM M Q) (hm : isM Q) (hS : RelS M1 (dM Q)) (hg : mG M M1) (ho : o = (k, 0, Q)) : OUT M M' v o := (OUT.er hk h (hR.pl hg (fun _ => hS)) ho).pre hg.oth
theorem falls_no {m : Mt} (hV : VM m) {e n k : Nat} {w : Int32} (he : e < nE m) (h : fallsN m e n k w = -1) : canSay (evA m e).2.2.2.2 n k ∧ fallI (mL m) (saidE (mE m) e n k w) = -1 ∧ stands (mL m) (saidE (mE m) e n k w) (saidE (mE m) e n k w).length := by
  have hne := hV.ne
  unfold fallsN at h
  by_cases hc : canSay (evA m e).2.2.2.2 n k
  · rw [iF_t hc] at h
    exact ⟨hc, h, fall_st (by rw [saidE_len]; unfold nE at hne; omega) h⟩
  · rw [iF_f hc] at h
    exact absurd h (nI_neg1 (by omega))
theorem REV_fin {M M1 M2 M3 M4 M5 : jM} {Q : Option Mt} {v : Int32} {i e n k : Nat} {w b : Int32} (hRel : RelM M Q) (hm : isM Q) (hV : VM (dM Q)) (hr : ¬ isR (dM Q)) (hi : i < 2) (he : e < nE (dM Q)) (hn : n < (evA (dM Q) e).2.2.2.2.length) (hk : k ≤ 5) (hw : whoOK (nI k) w) (hS1 : RelS M1 (dM Q)) (hg1 : mG M M1) (e2 : M2 = mSF M1 0 (nI 0)) (e3 : M3 = mSA (mSA M2 13 (14 * e + n) (nI k)) 14 (14 * e + n) w) (hg4 : mG M3 M4) (h4 : SA (M4.2 16) (mtAt (saidE (mE (dM Q)) e n k w)) ∧ NoteTo M4 (saidE (mE (dM Q)) e n k w) (saidE (mE (dM Q)) e n k w).length) (hb : b = pI (¬ 0 < moreI (dM Q) i (saidE (mE (dM Q)) e n k w))) (e5 : M5 = mSA M4 6 i b) (hv : v = moreI (dM Q) i (saidE (mE (dM Q)) e n k w)) : OUT M M5 v (0, moreI (dM Q) i (saidE (mE (dM Q)) e n k w), some (mC (dM Q), mL (dM Q), fun j => (j = i ∧ ¬ 0 < moreI (dM Q) i (saidE (mE (dM Q)) e n k w)) ∨ (j ≠ i ∧ mX (dM Q) j), saidE (mE (dM Q)) e n k w, none)) := by
  generalize moreI (dM Q) i (saidE (mE (dM Q)) e n k w) = more at hb hv ⊢
  obtain ⟨a1, a2, a3, a4, a5, a6, a7, a8, a9⟩ := hS1
  have hF : ∀ j, j ≠ 0 → M5.1 j = M1.1 j := fun j hj => by rw [e5, mSA_F, hg4.1, e3, mSA_F, mSA_F, e2, mSF_ne hj]
  have hno : ¬ isR ((mC (dM Q), mL (dM Q), fun j => (j = i ∧ ¬ 0 < more) ∨ (j ≠ i ∧ mX (dM Q) j), saidE (mE (dM Q)) e n k w, none) : Mt) := by unfold isR; simp
  have hEv2 : ∀ j, j < (mE (dM Q)).length → EvR M2 j ((mE (dM Q)).getD j z5) := fun j hj => by have z := a6 j hj; rw [e2]; exact z
  have hEv := SAY_ev hEv2 (fun j hj => hV.len hj) he hn hk hw e3
  have h4A : M5.2 4 = M1.2 4 := by rw [e5, mSA_ne16 (by decide), hg4.2 4 (by decide) (by decide) (by decide), e3, mSA_ne16 (by decide), mSA_ne16 (by decide), e2]; rfl
  have h6A : M4.2 6 = M1.2 6 := by rw [hg4.2 6 (by decide) (by decide) (by decide), e3, mSA_ne16 (by decide), mSA_ne16 (by decide), e2]; rfl
  have hB5 : ∀ j, j ≠ 6 → M5.2 j = M4.2 j := fun j hj => by rw [e5, mSA_ne16 hj]
  refine ⟨by rw [e5, mSA_F, hg4.1, e3, mSA_F, mSA_F, e2, mSF_eq], fun _ => hv, RelM.some (by rw [hF 2 (by decide), hg1.1, hRel.1, pI_t hm, pI_t trivial]) ⟨fun j hj => by rw [h4A]; exact a1 j hj, by rw [hF 5 (by decide)]; exact a2, fun j hj => ?_, ?_, by rw [hF 3 (by decide), a5, pI_f hr, pI_f hno], fun j hj => ?_, by rw [hB5 16 (by decide)]; exact h4.1, fun j hj i hi => by rw [hB5 17 (by decide), hB5 18 (by decide)]; exact h4.2 j hj i hi, fun z => absurd z hno⟩, ?_⟩
  · by_cases hji : j = i
    · subst hji
      rw [e5, mSA_eq, hb]
      refine pI_c ⟨fun z => Or.inl ⟨rfl, z⟩, fun z => ?_⟩
      rcases z with z | z
      · exact z.2
      · exact absurd rfl z.1
    · rw [e5, mSA_ne (Or.inr hji), h6A, a3 j hj]
      refine pI_c ⟨fun z => Or.inr ⟨hji, z⟩, fun z => ?_⟩
      rcases z with z | z
      · exact absurd z.1 hji
      · exact z.2
  · rw [hF 7 (by decide), a4, nAll_n hr, nAll_n hno]
    show nI (mE (dM Q)).length = nI (saidE (mE (dM Q)) e n k w).length
    rw [saidE_len]
  · have z := (hEv j hj).mG hg4
    obtain ⟨z1, z2, z3, z4, z5, z6⟩ := z
    exact ⟨by rw [hB5 8 (by decide)]; exact z1, by rw [hB5 9 (by decide)]; exact z2, by rw [hB5 10 (by decide)]; exact z3, by rw [hB5 11 (by decide)]; exact z4, by rw [hB5 12 (by decide)]; exact z5, fun p hp => by rw [hB5 13 (by decide), hB5 14 (by decide), hB5 15 (by decide)]; exact z6 p hp⟩
  · refine (((hg1.oth.tr (oth.eF e2 (by decide))).tr ?_).tr hg4.oth).tr (oth.eA e5 (by decide))
    rw [e3]
    exact (oth.A (by decide)).tr (oth.A (by decide))
theorem TB_fin {M M1 M2 M3 M4 : jM} {Q : Option Mt} {v : Int32} {e : Nat} (hRel : RelM M Q) (hm : isM Q) (hV : VM (dM Q)) (he : e ≤ nE (dM Q)) (e1 : M1 = mSF M 0 (nI 0)) (e2 : M2 = mSF M1 3 (nI 0)) (e3 : M3 = mSF M2 7 (nI e)) (hg : mG M3 M4) (h4 : SA (M4.2 16) (mtAt ((mE (dM Q)).take e)) ∧ NoteTo M4 ((mE (dM Q)).take e) ((mE (dM Q)).take e).length) {a : Int32} (hv : v = a) : OUT M M4 v (0, a, some (withE (dM Q) ((mE (dM Q)).take e))) := by
  obtain ⟨a1, a2, a3, a4, a5, a6, a7, a8, a9⟩ := hRel.2 hm
  have hF : ∀ j, j ≠ 0 → j ≠ 3 → j ≠ 7 → M4.1 j = M.1 j := fun j p q r => by rw [hg.1, e3, mSF_ne r, e2, mSF_ne q, e1, mSF_ne p]
  have hB : ∀ j, j ≠ 16 → j ≠ 17 → j ≠ 18 → M4.2 j = M.2 j := fun j p q r => by rw [hg.2 j p q r, e3, e2, e1]; rfl
  have hno : ¬ isR (withE (dM Q) ((mE (dM Q)).take e)) := by unfold isR withE; simp
  have hlen : ((mE (dM Q)).take e).length = e := by rw [List.length_take]; unfold nE at he; omega
  refine ⟨by rw [hg.1, e3, mSF_ne (by decide), e2, mSF_ne (by decide), e1, mSF_eq], fun _ => hv, RelM.some (by rw [hF 2 (by decide) (by decide) (by decide), hRel.1, pI_t hm, pI_t trivial]) ⟨fun j hj => by rw [hB 4 (by decide) (by decide) (by decide)]; exact a1 j hj, by rw [hF 5 (by decide) (by decide) (by decide)]; exact a2, fun j hj => by rw [hB 6 (by decide) (by decide) (by decide)]; exact a3 j hj, ?_, ?_, fun j hj => ?_, h4.1, h4.2, fun z => absurd z hno⟩, ?_⟩
  · rw [hg.1, e3, mSF_eq, nAll_n hno]; show nI e = nI ((mE (dM Q)).take e).length; rw [hlen]
  · rw [hg.1, e3, mSF_ne (by decide), e2, mSF_eq, pI_f hno]; rfl
  · change j < ((mE (dM Q)).take e).length at hj
    rw [hlen] at hj
    have g : ((mE (dM Q)).take e).getD j z5 = (mE (dM Q)).getD j z5 := by rw [List.getD_eq_getElem?_getD, List.getElem?_take, if_pos hj, ← List.getD_eq_getElem?_getD]
    show EvR M4 j (((mE (dM Q)).take e).getD j z5)
    rw [g]
    obtain ⟨z1, z2, z3, z4, z5, z6⟩ := a6 j (by omega)
    exact ⟨by rw [hB 8 (by decide) (by decide) (by decide)]; exact z1, by rw [hB 9 (by decide) (by decide) (by decide)]; exact z2, by rw [hB 10 (by decide) (by decide) (by decide)]; exact z3, by rw [hB 11 (by decide) (by decide) (by decide)]; exact z4, by rw [hB 12 (by decide) (by decide) (by decide)]; exact z5, fun p hp => by rw [hB 13 (by decide) (by decide) (by decide), hB 14 (by decide) (by decide) (by decide), hB 15 (by decide) (by decide) (by decide)]; exact z6 p hp⟩
  · exact (((oth.eF e1 (by decide)).tr (oth.eF e2 (by decide))).tr (oth.eF e3 (by decide))).tr hg.oth
theorem take_ok {evs : List Ev5} {e n : Nat} (h : evsOK evs) (hs : stands n evs evs.length) : evsOK (evs.take e) ∧ stands n (evs.take e) (evs.take e).length := by
  refine ⟨fun j hj => ?_, fun j hj => ?_⟩ <;> rw [List.length_take] at hj
  · have g : (evs.take e).getD j z5 = evs.getD j z5 := by rw [List.getD_eq_getElem?_getD, List.getElem?_take, if_pos (by omega), ← List.getD_eq_getElem?_getD]
    rw [g]; exact h j (by omega)
  · have g : (evs.take e).getD j z5 = evs.getD j z5 := by rw [List.getD_eq_getElem?_getD, List.getElem?_take, if_pos (by omega), ← List.getD_eq_getElem?_getD]
    have := hs j (by omega)
    show evCan (mtAt ((evs.take e).take j)) n ((evs.take e).getD j z5)
    rw [g, List.take_take, Nat.min_eq_left (by omega)]
    exact this

set_option maxHeartbeats 4000000 in
theorem mc_review {g : jG} (G : jOK g) (M : jM) (Q : Option Mt) (i e st k w : Int32) (hRel : RelM M Q) (hV : VQ Q)  : MTR g 7 yX4_review [.int i, .int e, .int st, .int k, .int w] M (fun v M' => OUT M M' v (opReview Q i e st k w)) := by
  intro h o ad hO
  refine CT.of (bytes := cX4_review) (maxL := 11) (ret := (some .int)) G q2152 (by decide) (by decide +kernel) (Nat.le_of_ble_eq_true rfl) ?_
  intro z C E hT hnm hnl
  have C : jC (g, z) cX4_review RX4 7 0 := C
  show J (g, z) (mput g h o ad M) 0 0 [(0, .ref o), (1, .int i), (2, .int e), (3, .int st), (4, .int k), (5, .int w)] []
  refine j_iload_n C dX4_review_0 1 rfl rfl ?_
  refine j_callSQ C (as := [.int i]) (mi_isSide G i) mw_isSide (by decide) (Nat.le_refl _) rfl (Nat.le_of_ble_eq_true rfl) dX4_review_1 ?_
  have join21 : J (g, z) (mput g h o ad M) 0 21 [(0, .ref o), (1, .int i), (2, .int e), (3, .int st), (4, .int k), (5, .int w)] [.int (pI (inI i 0 1 ∧ stepAt Q e st))] := by
    refine j_istore C (L' := [(6, .int (pI (inI i 0 1 ∧ stepAt Q e st))), (0, .ref o), (1, .int i), (2, .int e), (3, .int st), (4, .int k), (5, .int w)]) dX4_review_21 (jlt hnl (by decide)) rfl ?_
    refine j_iload C dX4_review_23 5 rfl ?_
    refine j_iconst C (v := nI 0) dX4_review_25 (by decide) ?_
    refine j_iconst C (v := nI 5) dX4_review_26 (by decide) ?_
    refine j_callSQ C (as := [.int k, .int (nI 0), .int (nI 5)]) (mi_in G k 0 5) mw_in (by decide) (Nat.le_refl _) rfl (Nat.le_of_ble_eq_true rfl) dX4_review_27 ?_
    have join48 : J (g, z) (mput g h o ad M) 0 48 [(0, .ref o), (1, .int i), (2, .int e), (3, .int st), (4, .int k), (5, .int w), (6, .int (pI (inI i 0 1 ∧ stepAt Q e st)))] [.int (pI (inI k 0 5 ∧ whoOK k w))] := by
      refine j_istore C (L' := [(7, .int (pI (inI k 0 5 ∧ whoOK k w))), (0, .ref o), (1, .int i), (2, .int e), (3, .int st), (4, .int k), (5, .int w), (6, .int (pI (inI i 0 1 ∧ stepAt Q e st)))]) dX4_review_48 (jlt hnl (by decide)) rfl ?_
      refine j_aload_n C dX4_review_50 1 rfl rfl ?_
      refine j_iload C dX4_review_51 7 rfl ?_
      refine j_ifp_ne C (tgt := 60) dX4_review_53 (by decide) ?_ ?_
      · intro c53
        have hin := c53
        obtain ⟨en, sn, rfl, rfl, hen, h0, hsn, hm, hl14, hne, iNen, iNsn⟩ := stepAt_n c53.2 hV
        obtain ⟨ni, rfl, hni0, hni9⟩ := inI_n (by decide) (by decide) c53.1
        have iNni : iN (nI ni) = ni := iN_nI (by omega)
        refine j_iload C dX4_review_60 0 rfl ?_
        refine j_ifp_ne C (tgt := 69) dX4_review_62 (by decide) ?_ ?_
        · intro c62
          have hkw := c62
          have hw := c62.2
          obtain ⟨nk, rfl, hnk0, hnk9⟩ := inI_n (by decide) (by decide) c62.1
          have iNnk : iN (nI nk) = nk := iN_nI (by omega)
          have hS := hRel.2 hm
          have hVm := hV hm
          refine j_aload_n C dX4_review_69 1 rfl rfl ?_
          refine jm_get3 C dX4_review_70 ?_
          refine j_ev (v' := pI (isR (dM Q))) hS.2.2.2.2.1 ?_
          refine j_ifp_ne C (tgt := 99) dX4_review_73 (by decide) ?_ ?_
          · intro c73
            refine j_iconst C (v := nI 3) dX4_review_99 (by decide) ?_
            refine j_goto C (tgt := 104) dX4_review_100 (by decide) ?_
            refine jm_callR C hO (as := [.int (nI 3)]) (mc_holds G M (nI 3)) mw_holds (by decide) (Nat.le_refl _) rfl (Nat.le_of_ble_eq_true rfl) dX4_review_104 (fun r2 M1 hM1 => ?_)
            refine j_ev (v' := nI 0) (by rw [hM1.1, pI_f (by decide)]; rfl) ?_
            have eM1 := hM1.2
            refine j_ifn_ne C (by decide) (tgt := 112) dX4_review_107 (by decide) ?_ ?_
            · intro c107
              omega
            · intro c107
              refine j_iconst C (v := nI 0) dX4_review_110 (by decide) ?_
              exact j_iret C E rfl (Nat.le_refl _) (⟨_, rfl, _, rfl, OUT.er (by decide) eM1 hRel (by unfold opReview; rw [iF_t hin, iF_t hkw, iNni, iNen, iNsn, iNnk, iF_f (by exact fun z => z.1 c73)])⟩) dX4_review_111
          · intro c73
            refine j_aload_n C dX4_review_76 1 rfl rfl ?_
            refine jm_get6 C dX4_review_77 ?_
            refine j_iload_n C dX4_review_80 2 rfl rfl ?_
            refine jm_ald6 C hO (by omega) dX4_review_81 ?_
            refine j_ev (v' := pI (mX (dM Q) ni)) (hS.2.2.1 ni (by omega)) ?_
            refine j_ifp_ne C (tgt := 99) dX4_review_82 (by decide) ?_ ?_
            · intro c82
              refine j_iconst C (v := nI 3) dX4_review_99 (by decide) ?_
              refine j_goto C (tgt := 104) dX4_review_100 (by decide) ?_
              refine jm_callR C hO (as := [.int (nI 3)]) (mc_holds G M (nI 3)) mw_holds (by decide) (Nat.le_refl _) rfl (Nat.le_of_ble_eq_true rfl) dX4_review_104 (fun r4 M3 hM3 => ?_)
              refine j_ev (v' := nI 0) (by rw [hM3.1, pI_f (by decide)]; rfl) ?_
              have eM3 := hM3.2
              refine j_ifn_ne C (by decide) (tgt := 112) dX4_review_107 (by decide) ?_ ?_
              · intro c107
                omega
              · intro c107
                refine j_iconst C (v := nI 0) dX4_review_110 (by decide) ?_
                exact j_iret C E rfl (Nat.le_refl _) (⟨_, rfl, _, rfl, OUT.er (by decide) eM3 hRel (by unfold opReview; rw [iF_t hin, iF_t hkw, iNni, iNen, iNsn, iNnk, iF_f (by exact fun z => z.2.1 c82)])⟩) dX4_review_111
            · intro c82
              refine j_aload_n C dX4_review_85 1 rfl rfl ?_
              refine j_iload_n C dX4_review_86 3 rfl rfl ?_
              refine j_iload_n C dX4_review_87 4 rfl rfl ?_
              refine j_iload C dX4_review_88 5 rfl ?_
              refine j_iload C dX4_review_90 6 rfl ?_
              refine jm_callR C hO (as := [.int (nI en), .int (nI sn), .int (nI nk), .int w]) (mc_falls G M (dM Q) hS hVm en sn nk w hen h0 hsn (by omega) hw) mw_falls (by decide) (Nat.le_refl _) rfl (Nat.le_of_ble_eq_true rfl) dX4_review_92 (fun r6 M5 hM5 => ?_)
              refine j_iconst C (v := -1) dX4_review_95 (by decide) ?_
              refine j_ic_eq C (tgt := 103) dX4_review_96 (by decide) ?_ ?_
              · intro c96
                refine j_iconst C (v := nI 0) dX4_review_103 (by decide) ?_
                refine jm_callR C hO (as := [.int (nI 0)]) (mc_holds G M5 (nI 0)) mw_holds (by decide) (Nat.le_refl _) rfl (Nat.le_of_ble_eq_true rfl) dX4_review_104 (fun r8 M7 hM7 => ?_)
                refine j_ev (v' := nI 1) (by rw [hM7.1, pI_t (by decide)]; rfl) ?_
                have eM7 := hM7.2
                refine j_ifn_ne C (by decide) (tgt := 112) dX4_review_107 (by decide) ?_ ?_
                · intro c107
                  have hfa := c96
                  rw [hM5.1] at hfa
                  obtain ⟨hcs, hfi, hst9⟩ := falls_no hVm hen hfa
                  have hSA0 : SA (M7.2 16) (mNow (dM Q)) := by rw [eM7]; exact hM5.2.1.2.2.2.2.2.2.1
                  refine j_aload_n C dX4_review_112 1 rfl rfl ?_
                  refine jm_get16 C dX4_review_113 ?_
                  refine j_bipush C (v := nI 104) dX4_review_116 (by decide) ?_
                  refine j_iload_n C dX4_review_118 2 rfl rfl ?_
                  refine j_iaddn C dX4_review_119 ?_
                  refine jm_ald16 C hO (by omega) dX4_review_120 ?_
                  refine j_ev (v' := (nI ((mNow (dM Q)).1 4 ni 0))) (hSA0.po (by omega) rfl) ?_
                  refine j_aload_n C dX4_review_121 1 rfl rfl ?_
                  refine jm_get16 C dX4_review_122 ?_
                  refine j_bipush C (v := nI 105) dX4_review_125 (by decide) ?_
                  refine j_iload_n C dX4_review_127 2 rfl rfl ?_
                  refine j_isubn C (by omega) dX4_review_128 ?_
                  refine jm_ald16 C hO (by omega) dX4_review_129 ?_
                  refine j_ev (v' := (nI ((mNow (dM Q)).1 4 (1 - ni) 0))) (hSA0.po (i := 1 - ni) (by omega) (by omega)) ?_
                  refine j_isub C dX4_review_130 ?_
                  refine j_istore C (L' := [(8, .int ((nI ((mNow (dM Q)).1 4 ni 0)) - (nI ((mNow (dM Q)).1 4 (1 - ni) 0)))), (7, .int (pI (inI (nI nk) 0 5 ∧ whoOK (nI nk) w))), (0, .ref o), (1, .int (nI ni)), (2, .int (nI en)), (3, .int (nI sn)), (4, .int (nI nk)), (5, .int w), (6, .int (pI (inI (nI ni) 0 1 ∧ stepAt Q (nI en) (nI sn))))]) dX4_review_131 (jlt hnl (by decide)) rfl ?_
                  refine j_aload_n C dX4_review_133 2 rfl rfl ?_
                  refine j_bipush C (v := nI 14) dX4_review_134 (by decide) ?_
                  refine j_iload_n C dX4_review_136 4 rfl rfl ?_
                  refine j_imuln C dX4_review_137 ?_
                  refine j_iload_n C dX4_review_138 5 rfl rfl ?_
                  refine j_iaddn C dX4_review_139 ?_
                  refine j_iload C dX4_review_140 6 rfl ?_
                  refine j_iload C dX4_review_142 7 rfl ?_
                  refine jm_callV C hO (as := [.int (nI (14 * en + sn)), .int (nI nk), .int w]) (mc_says G M7 (14 * en + sn) (nI nk) w (by omega)) mw_says (by decide) (Nat.le_refl _) rfl (Nat.le_of_ble_eq_true rfl) dX4_review_144 (fun M9 hM9 => ?_)
                  refine j_aload_n C dX4_review_147 2 rfl rfl ?_
                  refine jm_callR C hO (as := []) (mc_plays G M9 (saidE (mE (dM Q)) en sn nk w) (mL (dM Q)) (nAll (dM Q)) (isR (dM Q)) (SAY_ev (M := M7) (fun j hj => by have z := hM5.2.1.2.2.2.2.2.1 j hj; rw [eM7]; exact z) (fun j hj => hVm.len hj) hen hsn (by omega) hw hM9) (saidE_ok hVm.2.2.1 hen h0 hsn (by omega) hw) (by rw [saidE_len]; exact hVm.ne) (by rw [hM9, mSA_F, mSA_F, eM7, mSF_ne (by decide)]; exact hM5.2.1.2.2.2.1) (by rw [hM9, mSA_F, mSA_F, eM7, mSF_ne (by decide)]; exact hM5.2.1.2.2.2.2.1) (fun z => by rw [nAll_r z]; omega) (by rw [ended_e, saidE_len]) (by rw [hM9, mSA_F, mSA_F, eM7, mSF_ne (by decide)]; exact hM5.2.1.2.1) (by have := hVm.2.1; omega)) mw_plays (by decide) (Nat.le_refl _) rfl (Nat.le_of_ble_eq_true rfl) dX4_review_148 (fun r11 M10 hM10 => ?_)
                  refine j_istore C (L' := [(9, .int r11), (8, .int ((nI ((mNow (dM Q)).1 4 ni 0)) - (nI ((mNow (dM Q)).1 4 (1 - ni) 0)))), (7, .int (pI (inI (nI nk) 0 5 ∧ whoOK (nI nk) w))), (0, .ref o), (1, .int (nI ni)), (2, .int (nI en)), (3, .int (nI sn)), (4, .int (nI nk)), (5, .int w), (6, .int (pI (inI (nI ni) 0 1 ∧ stepAt Q (nI en) (nI sn))))]) dX4_review_151 (jlt hnl (by decide)) rfl ?_
                  have hP4 := hM10.2.2 (hM10.2.1.trans hfi)
                  have hSA4 := hP4.1
                  refine j_aload_n C dX4_review_153 3 rfl rfl ?_
                  refine jm_get16 C dX4_review_154 ?_
                  refine j_bipush C (v := nI 104) dX4_review_157 (by decide) ?_
                  refine j_iload_n C dX4_review_159 4 rfl rfl ?_
                  refine j_iaddn C dX4_review_160 ?_
                  refine jm_ald16 C hO (by omega) dX4_review_161 ?_
                  refine j_ev (v' := (nI ((mtAt (saidE (mE (dM Q)) en sn nk w)).1 4 ni 0))) (hSA4.po (by omega) rfl) ?_
                  refine j_aload_n C dX4_review_162 3 rfl rfl ?_
                  refine jm_get16 C dX4_review_163 ?_
                  refine j_bipush C (v := nI 105) dX4_review_166 (by decide) ?_
                  refine j_iload_n C dX4_review_168 4 rfl rfl ?_
                  refine j_isubn C (by omega) dX4_review_169 ?_
                  refine jm_ald16 C hO (by omega) dX4_review_170 ?_
                  refine j_ev (v' := (nI ((mtAt (saidE (mE (dM Q)) en sn nk w)).1 4 (1 - ni) 0))) (hSA4.po (i := 1 - ni) (by omega) (by omega)) ?_
                  refine j_isub C dX4_review_171 ?_
                  refine j_iload C dX4_review_172 1 rfl ?_
                  refine j_isub C dX4_review_174 ?_
                  refine j_istore C (L' := [(10, .int (((nI ((mtAt (saidE (mE (dM Q)) en sn nk w)).1 4 ni 0)) - (nI ((mtAt (saidE (mE (dM Q)) en sn nk w)).1 4 (1 - ni) 0))) - ((nI ((mNow (dM Q)).1 4 ni 0)) - (nI ((mNow (dM Q)).1 4 (1 - ni) 0))))), (9, .int r11), (8, .int ((nI ((mNow (dM Q)).1 4 ni 0)) - (nI ((mNow (dM Q)).1 4 (1 - ni) 0)))), (7, .int (pI (inI (nI nk) 0 5 ∧ whoOK (nI nk) w))), (0, .ref o), (1, .int (nI ni)), (2, .int (nI en)), (3, .int (nI sn)), (4, .int (nI nk)), (5, .int w), (6, .int (pI (inI (nI ni) 0 1 ∧ stepAt Q (nI en) (nI sn))))]) dX4_review_175 (jlt hnl (by decide)) rfl ?_
                  refine j_aload_n C dX4_review_177 4 rfl rfl ?_
                  refine jm_get6 C dX4_review_178 ?_
                  refine j_iload_n C dX4_review_181 5 rfl rfl ?_
                  refine j_iload C dX4_review_182 0 rfl ?_
                  have join192 : ∀ (bb : Int32), (bb = pI (¬ 0 < moreI (dM Q) ni (saidE (mE (dM Q)) en sn nk w))) → J (g, z) (mput g h o ad M10) 0 192 [(0, .ref o), (1, .int (nI ni)), (10, .int (((nI ((mtAt (saidE (mE (dM Q)) en sn nk w)).1 4 ni 0)) - (nI ((mtAt (saidE (mE (dM Q)) en sn nk w)).1 4 (1 - ni) 0))) - ((nI ((mNow (dM Q)).1 4 ni 0)) - (nI ((mNow (dM Q)).1 4 (1 - ni) 0)))))] [.int bb, .int (nI ni), .ref (ad 6)] := by
                    intro bb hbb
                    refine jm_ast6 C hO (by omega) (by rw [hbb]; exact narrow_vzp) dX4_review_192 (fun M12 hM12 => ?_)
                    refine j_iload C dX4_review_193 2 rfl ?_
                    exact j_iret C E rfl (Nat.le_refl _) (⟨_, rfl, _, rfl, by unfold opReview; rw [iF_t hin, iF_t hkw, iNni, iNen, iNsn, iNnk, iF_t ⟨c73, c82, hfa⟩]; exact REV_fin hRel hm hVm c73 (by omega) hen hsn (by omega) hw hM5.2.1 hM5.2.2 eM7 hM9 hM10.1 hP4 hbb hM12 rfl⟩) dX4_review_195
                  refine j_if_gt C (tgt := 191) dX4_review_184 (by decide) ?_ ?_
                  · intro c184
                    refine j_iconst C (v := nI 0) dX4_review_191 (by decide) ?_
                    refine J.sub (L' := [(0, .ref o), (1, .int (nI ni)), (10, .int (((nI ((mtAt (saidE (mE (dM Q)) en sn nk w)).1 4 ni 0)) - (nI ((mtAt (saidE (mE (dM Q)) en sn nk w)).1 4 (1 - ni) 0))) - ((nI ((mNow (dM Q)).1 4 ni 0)) - (nI ((mNow (dM Q)).1 4 (1 - ni) 0)))))]) ?_ [4, 5, 0] rfl
                    exact join192 (nI 0) (pI_0f (not_not_intro c184))
                  · intro c184
                    refine j_iconst C (v := nI 1) dX4_review_187 (by decide) ?_
                    refine j_goto C (tgt := 192) dX4_review_188 (by decide) ?_
                    refine J.sub (L' := [(0, .ref o), (1, .int (nI ni)), (10, .int (((nI ((mtAt (saidE (mE (dM Q)) en sn nk w)).1 4 ni 0)) - (nI ((mtAt (saidE (mE (dM Q)) en sn nk w)).1 4 (1 - ni) 0))) - ((nI ((mNow (dM Q)).1 4 ni 0)) - (nI ((mNow (dM Q)).1 4 (1 - ni) 0)))))]) ?_ [4, 5, 0] rfl
                    exact join192 (nI 1) (pI_1t c184)
                · intro c107
                  omega
              · intro c96
                refine j_iconst C (v := nI 3) dX4_review_99 (by decide) ?_
                refine j_goto C (tgt := 104) dX4_review_100 (by decide) ?_
                refine jm_callR C hO (as := [.int (nI 3)]) (mc_holds G M5 (nI 3)) mw_holds (by decide) (Nat.le_refl _) rfl (Nat.le_of_ble_eq_true rfl) dX4_review_104 (fun r14 M13 hM13 => ?_)
                refine j_ev (v' := nI 0) (by rw [hM13.1, pI_f (by decide)]; rfl) ?_
                have eM13 := hM13.2
                refine j_ifn_ne C (by decide) (tgt := 112) dX4_review_107 (by decide) ?_ ?_
                · intro c107
                  omega
                · intro c107
                  refine j_iconst C (v := nI 0) dX4_review_110 (by decide) ?_
                  exact j_iret C E rfl (Nat.le_refl _) (⟨_, rfl, _, rfl, OUT.fl (by decide) eM13 hRel hm hM5.2.1 hM5.2.2 (by unfold opReview; rw [iF_t hin, iF_t hkw, iNni, iNen, iNsn, iNnk, iF_f (by exact fun z => c96 (hM5.1.trans z.2.2))])⟩) dX4_review_111
        · intro c62
          refine j_iconst C (v := nI 2) dX4_review_65 (by decide) ?_
          refine j_goto C (tgt := 104) dX4_review_66 (by decide) ?_
          refine jm_callR C hO (as := [.int (nI 2)]) (mc_holds G M (nI 2)) mw_holds (by decide) (Nat.le_refl _) rfl (Nat.le_of_ble_eq_true rfl) dX4_review_104 (fun r16 M15 hM15 => ?_)
          refine j_ev (v' := nI 0) (by rw [hM15.1, pI_f (by decide)]; rfl) ?_
          have eM15 := hM15.2
          refine j_ifn_ne C (by decide) (tgt := 112) dX4_review_107 (by decide) ?_ ?_
          · intro c107
            omega
          · intro c107
            refine j_iconst C (v := nI 0) dX4_review_110 (by decide) ?_
            exact j_iret C E rfl (Nat.le_refl _) (⟨_, rfl, _, rfl, OUT.er (by decide) eM15 hRel (by unfold opReview; rw [iF_t hin, iF_f c62])⟩) dX4_review_111
      · intro c53
        refine j_iconst C (v := nI 1) dX4_review_56 (by decide) ?_
        refine j_goto C (tgt := 104) dX4_review_57 (by decide) ?_
        refine jm_callR C hO (as := [.int (nI 1)]) (mc_holds G M (nI 1)) mw_holds (by decide) (Nat.le_refl _) rfl (Nat.le_of_ble_eq_true rfl) dX4_review_104 (fun r18 M17 hM17 => ?_)
        refine j_ev (v' := nI 0) (by rw [hM17.1, pI_f (by decide)]; rfl) ?_
        have eM17 := hM17.2
        refine j_ifn_ne C (by decide) (tgt := 112) dX4_review_107 (by decide) ?_ ?_
        · intro c107
          omega
        · intro c107
          refine j_iconst C (v := nI 0) dX4_review_110 (by decide) ?_
          exact j_iret C E rfl (Nat.le_refl _) (⟨_, rfl, _, rfl, OUT.er (by decide) eM17 hRel (by unfold opReview; rw [iF_f c53])⟩) dX4_review_111
    refine j_ifp_eq C (tgt := 47) dX4_review_30 (by decide) ?_ ?_
    · intro c30
      refine j_iconst C (v := nI 0) dX4_review_47 (by decide) ?_
      refine J.sub (L' := [(0, .ref o), (1, .int i), (2, .int e), (3, .int st), (4, .int k), (5, .int w), (6, .int (pI (inI i 0 1 ∧ stepAt Q e st)))]) ?_ [1, 2, 3, 4, 5, 6, 0] rfl
      refine j_ev (v' := pI (inI k 0 5 ∧ whoOK k w)) (by rw [pI_f (by grind)]; rfl) ?_
      exact join48
    · intro c30
      refine j_iload C dX4_review_33 5 rfl ?_
      refine j_iload C dX4_review_35 6 rfl ?_
      refine j_callSQ C (as := [.int k, .int w]) (mi_isWho G k w) mw_isWho (by decide) (Nat.le_refl _) rfl (Nat.le_of_ble_eq_true rfl) dX4_review_37 ?_
      refine j_ifp_eq C (tgt := 47) dX4_review_40 (by decide) ?_ ?_
      · intro c40
        refine j_iconst C (v := nI 0) dX4_review_47 (by decide) ?_
        refine J.sub (L' := [(0, .ref o), (1, .int i), (2, .int e), (3, .int st), (4, .int k), (5, .int w), (6, .int (pI (inI i 0 1 ∧ stepAt Q e st)))]) ?_ [1, 2, 3, 4, 5, 6, 0] rfl
        refine j_ev (v' := pI (inI k 0 5 ∧ whoOK k w)) (by rw [pI_f (by grind)]; rfl) ?_
        exact join48
      · intro c40
        refine j_iconst C (v := nI 1) dX4_review_43 (by decide) ?_
        refine j_goto C (tgt := 48) dX4_review_44 (by decide) ?_
        refine J.sub (L' := [(0, .ref o), (1, .int i), (2, .int e), (3, .int st), (4, .int k), (5, .int w), (6, .int (pI (inI i 0 1 ∧ stepAt Q e st)))]) ?_ [1, 2, 3, 4, 5, 6, 0] rfl
        refine j_ev (v' := pI (inI k 0 5 ∧ whoOK k w)) (by rw [pI_t (by grind)]; rfl) ?_
        exact join48
  refine j_ifp_eq C (tgt := 20) dX4_review_4 (by decide) ?_ ?_
  · intro c4
    refine j_iconst C (v := nI 0) dX4_review_20 (by decide) ?_
    refine J.sub (L' := [(0, .ref o), (1, .int i), (2, .int e), (3, .int st), (4, .int k), (5, .int w)]) ?_ [0, 1, 2, 3, 4, 5] rfl
    refine j_ev (v' := pI (inI i 0 1 ∧ stepAt Q e st)) (by rw [pI_f (by grind)]; rfl) ?_
    exact join21
  · intro c4
    refine j_aload_n C dX4_review_7 0 rfl rfl ?_
    refine j_iload_n C dX4_review_8 2 rfl rfl ?_
    refine j_iload_n C dX4_review_9 3 rfl rfl ?_
    refine jm_callQ C hO (as := [.int e, .int st]) (mc_isStep G M Q e st hRel hV) mw_isStep (by decide) (Nat.le_refl _) rfl (Nat.le_of_ble_eq_true rfl) dX4_review_10 ?_
    refine j_ifp_eq C (tgt := 20) dX4_review_13 (by decide) ?_ ?_
    · intro c13
      refine j_iconst C (v := nI 0) dX4_review_20 (by decide) ?_
      refine J.sub (L' := [(0, .ref o), (1, .int i), (2, .int e), (3, .int st), (4, .int k), (5, .int w)]) ?_ [0, 1, 2, 3, 4, 5] rfl
      refine j_ev (v' := pI (inI i 0 1 ∧ stepAt Q e st)) (by rw [pI_f (by grind)]; rfl) ?_
      exact join21
    · intro c13
      refine j_iconst C (v := nI 1) dX4_review_16 (by decide) ?_
      refine j_goto C (tgt := 21) dX4_review_17 (by decide) ?_
      refine J.sub (L' := [(0, .ref o), (1, .int i), (2, .int e), (3, .int st), (4, .int k), (5, .int w)]) ?_ [0, 1, 2, 3, 4, 5] rfl
      refine j_ev (v' := pI (inI i 0 1 ∧ stepAt Q e st)) (by rw [pI_t (by grind)]; rfl) ?_
      exact join21

set_option maxHeartbeats 4000000 in
theorem mc_wouldFall {g : jG} (G : jOK g) (M : jM) (Q : Option Mt) (e st k w : Int32) (hRel : RelM M Q) (hV : VQ Q)  : MTR g 7 yX4_wouldFall [.int e, .int st, .int k, .int w] M (fun v M' => OUT M M' v (opFall Q e st k w)) := by
  intro h o ad hO
  refine CT.of (bytes := cX4_wouldFall) (maxL := 6) (ret := (some .int)) G q2180 (by decide) (by decide +kernel) (Nat.le_of_ble_eq_true rfl) ?_
  intro z C E hT hnm hnl
  have C : jC (g, z) cX4_wouldFall RX4 7 0 := C
  show J (g, z) (mput g h o ad M) 0 0 [(0, .ref o), (1, .int e), (2, .int st), (3, .int k), (4, .int w)] []
  refine j_iload_n C dX4_wouldFall_0 3 rfl rfl ?_
  refine j_iconst C (v := nI 0) dX4_wouldFall_1 (by decide) ?_
  refine j_iconst C (v := nI 5) dX4_wouldFall_2 (by decide) ?_
  refine j_callSQ C (as := [.int k, .int (nI 0), .int (nI 5)]) (mi_in G k 0 5) mw_in (by decide) (Nat.le_refl _) rfl (Nat.le_of_ble_eq_true rfl) dX4_wouldFall_3 ?_
  have join23 : J (g, z) (mput g h o ad M) 0 23 [(0, .ref o), (1, .int e), (2, .int st), (3, .int k), (4, .int w)] [.int (pI (inI k 0 5 ∧ whoOK k w))] := by
    refine j_istore C (L' := [(5, .int (pI (inI k 0 5 ∧ whoOK k w))), (0, .ref o), (1, .int e), (2, .int st), (3, .int k), (4, .int w)]) dX4_wouldFall_23 (jlt hnl (by decide)) rfl ?_
    refine j_aload_n C dX4_wouldFall_25 1 rfl rfl ?_
    refine j_aload_n C dX4_wouldFall_26 1 rfl rfl ?_
    refine j_iload_n C dX4_wouldFall_27 2 rfl rfl ?_
    refine j_iload_n C dX4_wouldFall_28 3 rfl rfl ?_
    refine jm_callQ C hO (as := [.int e, .int st]) (mc_isStep G M Q e st hRel hV) mw_isStep (by decide) (Nat.le_refl _) rfl (Nat.le_of_ble_eq_true rfl) dX4_wouldFall_29 ?_
    refine j_ifp_ne C (tgt := 39) dX4_wouldFall_32 (by decide) ?_ ?_
    · intro c32
      have hat := c32
      obtain ⟨en, sn, rfl, rfl, hen, h0, hsn, hm, hl14, hne, iNen, iNsn⟩ := stepAt_n c32 hV
      refine j_iload C dX4_wouldFall_39 0 rfl ?_
      refine j_ifp_eq C (tgt := 48) dX4_wouldFall_41 (by decide) ?_ ?_
      · intro c41
        refine j_iconst C (v := nI 2) dX4_wouldFall_48 (by decide) ?_
        refine jm_callR C hO (as := [.int (nI 2)]) (mc_holds G M (nI 2)) mw_holds (by decide) (Nat.le_refl _) rfl (Nat.le_of_ble_eq_true rfl) dX4_wouldFall_49 (fun r2 M1 hM1 => ?_)
        refine j_ev (v' := nI 0) (by rw [hM1.1, pI_f (by decide)]; rfl) ?_
        have eM1 := hM1.2
        refine j_ifn_ne C (by decide) (tgt := 57) dX4_wouldFall_52 (by decide) ?_ ?_
        · intro c52
          omega
        · intro c52
          refine j_iconst C (v := nI 0) dX4_wouldFall_55 (by decide) ?_
          exact j_iret C E rfl (Nat.le_refl _) (⟨_, rfl, _, rfl, OUT.er (by decide) eM1 hRel (by unfold opFall; rw [iF_t hat, iF_f c41])⟩) dX4_wouldFall_56
      · intro c41
        refine j_iconst C (v := nI 0) dX4_wouldFall_44 (by decide) ?_
        refine j_goto C (tgt := 49) dX4_wouldFall_45 (by decide) ?_
        refine jm_callR C hO (as := [.int (nI 0)]) (mc_holds G M (nI 0)) mw_holds (by decide) (Nat.le_refl _) rfl (Nat.le_of_ble_eq_true rfl) dX4_wouldFall_49 (fun r4 M3 hM3 => ?_)
        refine j_ev (v' := nI 1) (by rw [hM3.1, pI_t (by decide)]; rfl) ?_
        have eM3 := hM3.2
        refine j_ifn_ne C (by decide) (tgt := 57) dX4_wouldFall_52 (by decide) ?_ ?_
        · intro c52
          have hkw := c41
          have hw := c41.2
          obtain ⟨nk, rfl, hnk0, hnk9⟩ := inI_n (by decide) (by decide) c41.1
          have iNnk : iN (nI nk) = nk := iN_nI (by omega)
          have hS := hRel.2 hm
          have hVm := hV hm
          refine j_aload_n C dX4_wouldFall_57 1 rfl rfl ?_
          refine j_iload_n C dX4_wouldFall_58 2 rfl rfl ?_
          refine j_iload_n C dX4_wouldFall_59 3 rfl rfl ?_
          refine j_iload_n C dX4_wouldFall_60 4 rfl rfl ?_
          refine j_iload C dX4_wouldFall_61 5 rfl ?_
          refine jm_callR C hO (as := [.int (nI en), .int (nI sn), .int (nI nk), .int w]) (mc_falls G M3 (dM Q) (by rw [eM3]; exact hS.cg (fun k hk => mSF_ne (by omega)) (fun _ _ _ => rfl)) hVm en sn nk w hen h0 hsn (by omega) hw) mw_falls (by decide) (Nat.le_refl _) rfl (Nat.le_of_ble_eq_true rfl) dX4_wouldFall_63 (fun r6 M5 hM5 => ?_)
          exact j_iret C E rfl (Nat.le_refl _) (⟨_, rfl, _, rfl, by unfold opFall; rw [iF_t hat, iF_t hkw, iNen, iNsn, iNnk]; exact ⟨by rw [hM5.2.2.1, eM3, mSF_eq], fun _ => hM5.1, (hRel.F (v := nI 0) (k := 0) (by decide)).pl (eM3 ▸ hM5.2.2) (fun _ => hM5.2.1), (oth.eF eM3 (by decide)).tr hM5.2.2.oth⟩⟩) dX4_wouldFall_66
        · intro c52
          omega
    · intro c32
      refine j_iconst C (v := nI 1) dX4_wouldFall_35 (by decide) ?_
      refine j_goto C (tgt := 49) dX4_wouldFall_36 (by decide) ?_
      refine jm_callR C hO (as := [.int (nI 1)]) (mc_holds G M (nI 1)) mw_holds (by decide) (Nat.le_refl _) rfl (Nat.le_of_ble_eq_true rfl) dX4_wouldFall_49 (fun r8 M7 hM7 => ?_)
      refine j_ev (v' := nI 0) (by rw [hM7.1, pI_f (by decide)]; rfl) ?_
      have eM7 := hM7.2
      refine j_ifn_ne C (by decide) (tgt := 57) dX4_wouldFall_52 (by decide) ?_ ?_
      · intro c52
        omega
      · intro c52
        refine j_iconst C (v := nI 0) dX4_wouldFall_55 (by decide) ?_
        exact j_iret C E rfl (Nat.le_refl _) (⟨_, rfl, _, rfl, OUT.er (by decide) eM7 hRel (by unfold opFall; rw [iF_f c32])⟩) dX4_wouldFall_56
  refine j_ifp_eq C (tgt := 22) dX4_wouldFall_6 (by decide) ?_ ?_
  · intro c6
    refine j_iconst C (v := nI 0) dX4_wouldFall_22 (by decide) ?_
    refine J.sub (L' := [(0, .ref o), (1, .int e), (2, .int st), (3, .int k), (4, .int w)]) ?_ [0, 1, 2, 3, 4] rfl
    refine j_ev (v' := pI (inI k 0 5 ∧ whoOK k w)) (by rw [pI_f (by grind)]; rfl) ?_
    exact join23
  · intro c6
    refine j_iload_n C dX4_wouldFall_9 3 rfl rfl ?_
    refine j_iload C dX4_wouldFall_10 4 rfl ?_
    refine j_callSQ C (as := [.int k, .int w]) (mi_isWho G k w) mw_isWho (by decide) (Nat.le_refl _) rfl (Nat.le_of_ble_eq_true rfl) dX4_wouldFall_12 ?_
    refine j_ifp_eq C (tgt := 22) dX4_wouldFall_15 (by decide) ?_ ?_
    · intro c15
      refine j_iconst C (v := nI 0) dX4_wouldFall_22 (by decide) ?_
      refine J.sub (L' := [(0, .ref o), (1, .int e), (2, .int st), (3, .int k), (4, .int w)]) ?_ [0, 1, 2, 3, 4] rfl
      refine j_ev (v' := pI (inI k 0 5 ∧ whoOK k w)) (by rw [pI_f (by grind)]; rfl) ?_
      exact join23
    · intro c15
      refine j_iconst C (v := nI 1) dX4_wouldFall_18 (by decide) ?_
      refine j_goto C (tgt := 23) dX4_wouldFall_19 (by decide) ?_
      refine J.sub (L' := [(0, .ref o), (1, .int e), (2, .int st), (3, .int k), (4, .int w)]) ?_ [0, 1, 2, 3, 4] rfl
      refine j_ev (v' := pI (inI k 0 5 ∧ whoOK k w)) (by rw [pI_t (by grind)]; rfl) ?_
      exact join23

set_option maxHeartbeats 4000000 in
theorem mc_takeBack {g : jG} (G : jOK g) (M : jM) (Q : Option Mt) (e : Int32) (hRel : RelM M Q) (hV : VQ Q)  : MTR g 6 yX4_takeBack [.int e] M (fun v M' => OUT M M' v (opTakeBack Q e)) := by
  intro h o ad hO
  refine CT.of (bytes := cX4_takeBack) (maxL := 5) (ret := (some .int)) G q2184 (by decide) (by decide +kernel) (Nat.le_of_ble_eq_true rfl) ?_
  intro z C E hT hnm hnl
  have C : jC (g, z) cX4_takeBack RX4 6 0 := C
  show J (g, z) (mput g h o ad M) 0 0 [(0, .ref o), (1, .int e)] []
  refine j_aload_n C dX4_takeBack_0 0 rfl rfl ?_
  refine jm_get2 C dX4_takeBack_1 ?_
  refine j_ev (v' := pI (isM Q)) hRel.1 ?_
  have join26 : J (g, z) (mput g h o ad M) 0 26 [(0, .ref o), (1, .int e)] [.int (pI (isM Q ∧ idx e (nAll (dM Q))))] := by
    refine j_istore_n C (L' := [(2, .int (pI (isM Q ∧ idx e (nAll (dM Q))))), (0, .ref o), (1, .int e)]) dX4_takeBack_26 rfl (jlt hnl (by decide)) rfl ?_
    refine j_aload_n C dX4_takeBack_27 1 rfl rfl ?_
    refine j_iload_n C dX4_takeBack_28 0 rfl rfl ?_
    refine j_ifp_eq C (tgt := 36) dX4_takeBack_29 (by decide) ?_ ?_
    · intro c29
      refine j_iconst C (v := nI 1) dX4_takeBack_36 (by decide) ?_
      refine jm_callR C hO (as := [.int (nI 1)]) (mc_holds G M (nI 1)) mw_holds (by decide) (Nat.le_refl _) rfl (Nat.le_of_ble_eq_true rfl) dX4_takeBack_37 (fun r2 M1 hM1 => ?_)
      refine j_ev (v' := nI 0) (by rw [hM1.1, pI_f (by decide)]; rfl) ?_
      have eM1 := hM1.2
      refine j_ifn_ne C (by decide) (tgt := 45) dX4_takeBack_40 (by decide) ?_ ?_
      · intro c40
        omega
      · intro c40
        refine j_iconst C (v := nI 0) dX4_takeBack_43 (by decide) ?_
        exact j_iret C E rfl (Nat.le_refl _) (⟨_, rfl, _, rfl, OUT.er (by decide) eM1 hRel (by unfold opTakeBack; rw [iF_f c29])⟩) dX4_takeBack_44
    · intro c29
      refine j_iconst C (v := nI 0) dX4_takeBack_32 (by decide) ?_
      refine j_goto C (tgt := 37) dX4_takeBack_33 (by decide) ?_
      refine jm_callR C hO (as := [.int (nI 0)]) (mc_holds G M (nI 0)) mw_holds (by decide) (Nat.le_refl _) rfl (Nat.le_of_ble_eq_true rfl) dX4_takeBack_37 (fun r4 M3 hM3 => ?_)
      refine j_ev (v' := nI 1) (by rw [hM3.1, pI_t (by decide)]; rfl) ?_
      have eM3 := hM3.2
      refine j_ifn_ne C (by decide) (tgt := 45) dX4_takeBack_40 (by decide) ?_ ?_
      · intro c40
        have hin := c29
        obtain ⟨hm, hix⟩ := c29
        obtain ⟨en, rfl, hen⟩ := idx_n hix
        have hVm := hV hm
        have hS := hRel.2 hm
        have h60 := hVm.2.2.2.2.2.1
        have iNen : iN (nI en) = en := iN_nI (by omega)
        have hle : en ≤ nE (dM Q) := by
          by_cases z : isR (dM Q)
          · rw [nAll_r z] at hen; omega
          · rw [nAll_n z] at hen; omega
        have hlen : ((mE (dM Q)).take en).length = en := by rw [List.length_take]; unfold nE at hle; omega
        have htk := take_ok (e := en) hVm.2.2.1 hVm.2.2.2.2.1
        refine j_aload_n C dX4_takeBack_45 1 rfl rfl ?_
        refine jm_get7 C dX4_takeBack_46 ?_
        refine j_ev (v' := nI (nAll (dM Q))) (by rw [eM3, mSF_ne (by decide)]; exact hS.2.2.2.1) ?_
        refine j_iload_n C dX4_takeBack_49 2 rfl rfl ?_
        refine j_isubn C (by omega) dX4_takeBack_50 ?_
        refine j_istore_n C (L' := [(3, .int (nI ((nAll (dM Q)) - en))), (2, .int (pI (isM Q ∧ idx (nI en) (nAll (dM Q))))), (0, .ref o), (1, .int (nI en))]) dX4_takeBack_51 rfl (jlt hnl (by decide)) rfl ?_
        refine j_aload_n C dX4_takeBack_52 2 rfl rfl ?_
        refine j_iconst C (v := nI 0) dX4_takeBack_53 (by decide) ?_
        refine jm_put3 C hO ⟨by decide, by decide⟩ dX4_takeBack_54 (fun M5 hM5 => ?_)
        refine j_aload_n C dX4_takeBack_57 2 rfl rfl ?_
        refine j_iload_n C dX4_takeBack_58 3 rfl rfl ?_
        refine jm_put7 C hO dX4_takeBack_59 (fun M6 hM6 => ?_)
        refine j_aload_n C dX4_takeBack_62 2 rfl rfl ?_
        refine jm_callR C hO (as := []) (mc_plays G M6 ((mE (dM Q)).take en) (mL (dM Q)) en False (fun j hj => by rw [hlen] at hj; have g : ((mE (dM Q)).take en).getD j z5 = (mE (dM Q)).getD j z5 := (by rw [List.getD_eq_getElem?_getD, List.getElem?_take, if_pos hj, ← List.getD_eq_getElem?_getD]); rw [g]; have z := hS.2.2.2.2.2.1 j (by omega); rw [hM6, hM5, eM3]; exact z) htk.1 (by rw [hlen]; omega) (by rw [hM6, mSF_eq]) (by rw [hM6, mSF_ne (by decide), hM5, mSF_eq]; exact pI_0f id) (fun z => z.elim) (by rw [if_neg id, hlen]) (by rw [hM6, mSF_ne (by decide), hM5, mSF_ne (by decide), eM3, mSF_ne (by decide)]; exact hS.2.1) (by have := hVm.2.1; omega)) mw_plays (by decide) (Nat.le_refl _) rfl (Nat.le_of_ble_eq_true rfl) dX4_takeBack_63 (fun r8 M7 hM7 => ?_)
        refine j_istore C (L' := [(4, .int r8), (3, .int (nI ((nAll (dM Q)) - en))), (2, .int (pI (isM Q ∧ idx (nI en) (nAll (dM Q))))), (0, .ref o), (1, .int (nI en))]) dX4_takeBack_66 (jlt hnl (by decide)) rfl ?_
        refine j_iload_n C dX4_takeBack_68 1 rfl rfl ?_
        exact j_iret C E rfl (Nat.le_refl _) (⟨_, rfl, _, rfl, by unfold opTakeBack; rw [iF_t hin, iNen]; exact TB_fin hRel hm hVm hle eM3 hM5 hM6 hM7.1 (hM7.2.2 (hM7.2.1.trans (fall_no htk.2))) rfl⟩) dX4_takeBack_69
      · intro c40
        omega
  refine j_ifp_eq C (tgt := 25) dX4_takeBack_4 (by decide) ?_ ?_
  · intro c4
    refine j_iconst C (v := nI 0) dX4_takeBack_25 (by decide) ?_
    refine J.sub (L' := [(0, .ref o), (1, .int e)]) ?_ [0, 1] rfl
    refine j_ev (v' := pI (isM Q ∧ idx e (nAll (dM Q)))) (by rw [pI_f (by grind)]; rfl) ?_
    exact join26
  · intro c4
    refine j_iload_n C dX4_takeBack_7 1 rfl rfl ?_
    refine j_iconst C (v := nI 0) dX4_takeBack_8 (by decide) ?_
    refine j_aload_n C dX4_takeBack_9 0 rfl rfl ?_
    refine jm_get7 C dX4_takeBack_10 ?_
    refine j_ev (v' := (nI (nAll (dM Q)))) ((hRel.2 c4).2.2.2.1) ?_
    refine j_iconst C (v := nI 1) dX4_takeBack_13 (by decide) ?_
    refine j_isub C dX4_takeBack_14 ?_
    refine j_callSQ C (as := [.int e, .int (nI 0), .int ((nI (nAll (dM Q))) - (nI 1))]) (mc_in G e (nI 0) (nI (nAll (dM Q)) - nI 1)) mw_in (by decide) (Nat.le_refl _) rfl (Nat.le_of_ble_eq_true rfl) dX4_takeBack_15 ?_
    refine j_ev (v' := pI (idx e (nAll (dM Q)))) (pI_c (idx_c (by have := (hV c4).2.2.2.2.2.1; omega))) ?_
    refine j_ifp_eq C (tgt := 25) dX4_takeBack_18 (by decide) ?_ ?_
    · intro c18
      refine j_iconst C (v := nI 0) dX4_takeBack_25 (by decide) ?_
      refine J.sub (L' := [(0, .ref o), (1, .int e)]) ?_ [0, 1] rfl
      refine j_ev (v' := pI (isM Q ∧ idx e (nAll (dM Q)))) (by rw [pI_f (by grind)]; rfl) ?_
      exact join26
    · intro c18
      refine j_iconst C (v := nI 1) dX4_takeBack_21 (by decide) ?_
      refine j_goto C (tgt := 26) dX4_takeBack_22 (by decide) ?_
      refine J.sub (L' := [(0, .ref o), (1, .int e)]) ?_ [0, 1] rfl
      refine j_ev (v' := pI (isM Q ∧ idx e (nAll (dM Q)))) (by rw [pI_t (by grind)]; rfl) ?_
      exact join26
