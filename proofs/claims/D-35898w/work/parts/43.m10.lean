set_option maxRecDepth 100000
theorem mH.eF {n k : Nat} {M M' : jM} {v : Int32} (e : M' = mSF M k v) : mH n M M' := by rw [e]; exact mH.F
theorem mH.eA {n k i : Nat} {M M' : jM} {v : Int32} (e : M' = mSA M k i v) (hk : k < 8 ∨ 15 < k ∨ (k ≤ 12 ∧ n ≤ i) ∨ (13 ≤ k ∧ 14 * n ≤ i)) : mH n M M' := by rw [e]; exact mH.A hk
theorem oth.eF {k : Nat} {M M' : jM} {v : Int32} (e : M' = mSF M k v) (hk : k = 0 ∨ k = 2 ∨ k = 3 ∨ k = 5 ∨ k = 7) : oth M M' := by rw [e]; exact oth.F hk
theorem oth.eA {k i : Nat} {M M' : jM} {v : Int32} (e : M' = mSA M k i v) (hk : k ≠ 19 ∧ k < 26) : oth M M' := by rw [e]; exact oth.A hk
def TELL (Q : Option Mt) (s : Stp3) (M M' : jM) : Prop := M'.1 = M.1 ∧ (∀ j, j < 13 ∨ 15 < j → M'.2 j = M.2 j) ∧ mH (nE (dM Q)) M M' ∧ (isM Q → isR (dM Q) → stRel M' (nE (dM Q)) (lR (dM Q) ++ [s])) ∧ RelM M' Q ∧ oth M M'
theorem stRel.sub {M : jM} {e : Nat} {l : List Stp3} {s : Stp3} (h : stRel M e (l ++ [s])) : stRel M e l := fun j hj => by
  have := h j (by rw [List.length_append]; omega)
  rwa [getD3_l hj] at this
theorem TELL.mk {M M1 M2 M3 : jM} {Q : Option Mt} {s : Stp3} {w : Int32} (hRel : RelM M Q) (hm : isM Q) (hr : isR (dM Q)) (hV : VM (dM Q)) (hw : whoI s = w) (e1 : M1 = mSA M 13 (14 * nE (dM Q) + (lR (dM Q)).length) (nI s.1)) (e2 : M2 = mSA M1 14 (14 * nE (dM Q) + (lR (dM Q)).length) w) (e3 : M3 = mSA M2 15 (14 * nE (dM Q) + (lR (dM Q)).length) (nI s.2.2)) : TELL Q s M M3 := by
  have hS := hRel.2 hm
  have hB : ∀ j, j < 13 ∨ 15 < j → M3.2 j = M.2 j := fun j hj => by rw [e3, e2, e1]; unfold mSA; dsimp only; rw [if_neg (by omega), if_neg (by omega), if_neg (by omega)]
  have hf : ∀ j q, q ≠ 14 * nE (dM Q) + (lR (dM Q)).length → M3.2 j q = M.2 j q := fun j q hq => by rw [e3, mSA_ne (Or.inr hq), e2, mSA_ne (Or.inr hq), e1, mSA_ne (Or.inr hq)]
  have hF : M3.1 = M.1 := by rw [e3, e2, e1]; rfl
  have h9 := hS.2.2.2.2.2.2.2.2 hr
  have hst : stRel M3 (nE (dM Q)) (lR (dM Q) ++ [s]) := stRel.app h9.2.2.2.2.2 hf (by rw [e3, mSA_ne (Or.inl (by decide)), e2, mSA_ne (Or.inl (by decide)), e1, mSA_eq]) (by rw [e3, mSA_ne (Or.inl (by decide)), e2, mSA_eq, hw]) (by rw [e3, mSA_eq])
  have hmH : mH (nE (dM Q)) M M3 := ⟨fun j q a b _ => by rw [hB j (by omega)], fun j q a b c => hf j q (by omega)⟩
  refine ⟨hF, hB, hmH, fun _ _ => hst, ⟨by rw [hF]; exact hRel.1, fun _ => ?_⟩, ⟨fun k _ _ _ _ _ => by rw [hF], fun k hk => hB k (by omega)⟩⟩
  obtain ⟨a1, a2, a3, a4, a5, a6, a7, a8, a9⟩ := hS
  refine ⟨fun i hi => by rw [hB 4 (by decide)]; exact a1 i hi, by rw [hF]; exact a2, fun i hi => by rw [hB 6 (by decide)]; exact a3 i hi, by rw [hF]; exact a4, by rw [hF]; exact a5, fun k hk => (a6 k hk).mH hmH hk (hV.len hk), by rw [hB 16 (by decide)]; exact a7, fun j hj i hi => by rw [hB 17 (by decide), hB 18 (by decide)]; exact a8 j hj i hi, fun _ => ?_⟩
  refine ⟨by rw [hB 8 (by decide)]; exact h9.1, by rw [hB 9 (by decide)]; exact h9.2.1, by rw [hB 10 (by decide)]; exact h9.2.2.1, by rw [hB 11 (by decide)]; exact h9.2.2.2.1, by rw [hB 12 (by decide)]; exact h9.2.2.2.2.1, hst.sub⟩
theorem STEP_ev {M M1 M2 M3 : jM} {m : Mt} {s : Stp3} (h9 : EvR M (nE m) (0, rR m, 0, 0, lR m)) (hB : ∀ j, j < 13 ∨ 15 < j → M1.2 j = M.2 j) (hst : stRel M1 (nE m) (lR m ++ [s])) (e2 : M2 = mSF M1 0 (nI 0)) (e3 : M3 = mSA M2 12 (nE m) (nI ((lR m).length + 1))) : EvR M3 (nE m) (0, rR m, 0, 0, lR m ++ [s]) := by
  have hC : ∀ j, j ≠ 12 → M3.2 j = M1.2 j := fun j hj => by rw [e3, e2]; unfold mSA mSF; dsimp only; rw [if_neg hj]
  refine ⟨by rw [hC 8 (by decide), hB 8 (by decide)]; exact h9.1, by rw [hC 9 (by decide), hB 9 (by decide)]; exact h9.2.1, by rw [hC 10 (by decide), hB 10 (by decide)]; exact h9.2.2.1, by rw [hC 11 (by decide), hB 11 (by decide)]; exact h9.2.2.2.1, by rw [e3, mSA_eq]; show _ = nI (lR m ++ [s]).length; rw [List.length_append]; rfl, fun j hj => ?_⟩
  rw [hC 13 (by decide), hC 14 (by decide), hC 15 (by decide)]
  exact hst j hj
theorem OUT.pre {M M1 M' : jM} {v : Int32} {o : Ans} (h : OUT M1 M' v o) (ho : oth M M1) : OUT M M' v o := ⟨h.1, h.2.1, h.2.2.1, ho.tr h.2.2.2⟩
theorem STEP_fin1 {M M1 M2 M3 : jM} {Q : Option Mt} {s : Stp3} (hm : isM Q) (hr : isR (dM Q)) (hRel : RelM M Q) (hV : VM (dM Q)) (hT : TELL Q s M M1) (e2 : M2 = mSF M1 0 (nI 0)) (e3 : M3 = mSA M2 12 (nE (dM Q)) (nI ((lR (dM Q)).length + 1))) : OUT M M3 (-1) (0, -1, some (withR (dM Q) (some (rR (dM Q), lR (dM Q) ++ [s])))) := by
  have hS := hRel.2 hm
  have hev := STEP_ev (hS.2.2.2.2.2.2.2.2 hr) hT.2.1 (hT.2.2.2.1 hm hr) e2 e3
  have hF : ∀ j, j ≠ 0 → M3.1 j = M.1 j := fun j hj => by rw [e3, mSA_F, e2, mSF_ne hj, hT.1]
  have hB : ∀ j, j < 12 ∨ 15 < j → M3.2 j = M.2 j := fun j hj => by rw [e3, e2]; unfold mSA mSF; dsimp only; rw [if_neg (by omega)]; exact hT.2.1 j (by omega)
  refine ⟨by rw [e3, mSA_F, e2, mSF_eq], fun _ => rfl, RelM.some (by rw [hF 2 (by decide), hRel.1, pI_t hm, pI_t trivial]) ?_, ?_⟩
  · refine RelS.op hS hV (hB 4 (by decide)) (hF 5 (by decide)) (hB 6 (by decide)) (by rw [hF 7 (by decide), hS.2.2.2.1, nAll_r hr]) (by rw [hF 3 (by decide), hS.2.2.2.2.1, pI_t hr, pI_t trivial]) ?_ hev (hB 16 (by decide)) (hB 17 (by decide)) (hB 18 (by decide))
    exact (hT.2.2.1.tr (mH.eF e2)).tr (mH.eA e3 (Or.inr (Or.inr (Or.inl ⟨by decide, Nat.le_refl _⟩))))
  · exact (hT.2.2.2.2.2.tr (oth.eF e2 (by decide))).tr (oth.eA e3 (by decide))
theorem STEP_fin2 {M M1 M2 M3 M4 M5 M6 : jM} {Q : Option Mt} {s : Stp3} {v a : Int32} (hm : isM Q) (hr : isR (dM Q)) (hRel : RelM M Q) (hV : VM (dM Q)) (hT : TELL Q s M M1) (e2 : M2 = mSF M1 0 (nI 0)) (e3 : M3 = mSA M2 12 (nE (dM Q)) (nI ((lR (dM Q)).length + 1))) (h4 : mO M3 M4 ∧ SA (M4.2 16) (raidEnd (mNow (dM Q)) (rR (dM Q)) (lR (dM Q) ++ [s]))) (h5 : mF (nE (dM Q)) M4 M5 ∧ M5.2 16 = M4.2 16 ∧ NoteAt M5 (nE (dM Q)) (raidEnd (mNow (dM Q)) (rR (dM Q)) (lR (dM Q) ++ [s]))) (e6 : M6 = mSF M5 3 (nI 0)) (hv : v = a) : OUT M M6 v (0, a, some (withE (dM Q) (mE (dM Q) ++ [(0, rR (dM Q), 0, 0, lR (dM Q) ++ [s])]))) := by
  have hS := hRel.2 hm
  have hev := STEP_ev (hS.2.2.2.2.2.2.2.2 hr) hT.2.1 (hT.2.2.2.1 hm hr) e2 e3
  have hF : ∀ j, j ≠ 0 → j ≠ 3 → M6.1 j = M.1 j := fun j hj hj3 => by rw [e6, mSF_ne hj3, h5.1.1, h4.1.1, e3, mSA_F, e2, mSF_ne hj, hT.1]
  have hG : mG M3 M5 := h4.1.mG.tr h5.1.mG
  have hB : ∀ j, j < 12 → M6.2 j = M.2 j := fun j hj => by rw [e6]; show M5.2 j = _; rw [hG.2 j (by omega) (by omega) (by omega), e3, e2]; unfold mSA mSF; dsimp only; rw [if_neg (by omega)]; exact hT.2.1 j (by omega)
  have hmH : mH (nE (dM Q)) M M3 := (hT.2.2.1.tr (mH.eF e2)).tr (mH.eA e3 (Or.inr (Or.inr (Or.inl ⟨by decide, Nat.le_refl _⟩))))
  have hN3 : NoteTo M3 (mE (dM Q)) (nE (dM Q)) := fun j hj i hi => by
    have e17 : M3.2 17 = M.2 17 := by rw [e3, e2]; unfold mSA mSF; dsimp only; rw [if_neg (by decide)]; exact hT.2.1 17 (by decide)
    have e18 : M3.2 18 = M.2 18 := by rw [e3, e2]; unfold mSA mSF; dsimp only; rw [if_neg (by decide)]; exact hT.2.1 18 (by decide)
    rw [e17, e18]; exact hS.2.2.2.2.2.2.2.1 j hj i hi
  refine ⟨by rw [e6, mSF_ne (by decide), h5.1.1, h4.1.1, e3, mSA_F, e2, mSF_eq], fun _ => hv, RelM.some (by rw [hF 2 (by decide) (by decide), hRel.1, pI_t hm, pI_t trivial]) ?_, ?_⟩
  · refine RelS.ev hS hV (hB 4 (by decide)) (hF 5 (by decide) (by decide)) (hB 6 (by decide)) (by rw [hF 7 (by decide) (by decide), hS.2.2.2.1, nAll_r hr]) (by rw [e6, mSF_eq, pI_f id]; rfl) ((hmH.tr hG.mH).tr (mH.eF e6)) (by have z := hev.mG hG; rw [e6]; exact z) (by rw [e6]; show SA (M5.2 16) _; rw [h5.2.1]; exact h4.2) (by have z := (hN3.fr (h4.1.mF (e := nE (dM Q))) (Nat.le_refl _)).fr h5.1 (Nat.le_refl _); rw [e6]; exact z) (by rw [e6]; exact h5.2.2)
  · exact (((hT.2.2.2.2.2.tr (oth.eF e2 (by decide))).tr (oth.eA e3 (by decide))).tr hG.oth).tr (oth.eF e6 (by decide))

set_option maxHeartbeats 4000000 in
theorem mc_canTell {g : jG} (G : jOK g) (M : jM) (Q : Option Mt) (s : Stp3) (kn tn : Nat) (w : Int32) (hRel : RelM M Q) (hV : VQ Q) (h1 : s.1 = kn) (h3 : s.2.2 = tn) (hw : whoI s = w) (h6 : s.1 ≤ 6) (h10 : s.1 = 0 → s.2.1 < 10) (ht : s.2.2 ≤ 300)  : MTR g 2 yX4_canTell [.int (nI kn), .int w, .int (nI tn)] M (fun v M' => v = pI (isM Q ∧ isR (dM Q) ∧ tellOK (dM Q) s) ∧ TELL Q s M M') := by
  intro h o ad hO
  refine CT.of (bytes := cX4_canTell) (maxL := 6) (ret := (some .boolean)) G q2077 (by decide) (by decide +kernel) (Nat.le_of_ble_eq_true rfl) ?_
  intro z C E hT hnm hnl
  have C : jC (g, z) cX4_canTell RX4 2 0 := C
  show J (g, z) (mput g h o ad M) 0 0 [(0, .ref o), (1, .int (nI kn)), (2, .int w), (3, .int (nI tn))] []
  refine j_aload_n C dX4_canTell_0 0 rfl rfl ?_
  refine jm_get2 C dX4_canTell_1 ?_
  refine j_ev (v' := pI (isM Q)) hRel.1 ?_
  refine j_ifp_eq C (tgt := 14) dX4_canTell_4 (by decide) ?_ ?_
  · intro c4
    refine j_iconst C (v := nI 0) dX4_canTell_14 (by decide) ?_
    exact j_iret C E (by decide) (Nat.le_refl _) (⟨_, rfl, _, rfl, (pI_f (fun z => by exact c4 z.1)).symm, rfl, fun _ _ => rfl, mH.rf, fun a b => by exact absurd a c4, hRel, oth.rf⟩) dX4_canTell_15
  · intro c4
    refine j_aload_n C dX4_canTell_7 0 rfl rfl ?_
    refine jm_get3 C dX4_canTell_8 ?_
    refine j_ev (v' := pI (isR (dM Q))) ((hRel.2 c4).2.2.2.2.1) ?_
    refine j_ifp_ne C (tgt := 16) dX4_canTell_11 (by decide) ?_ ?_
    · intro c11
      have hS := hRel.2 c4
      have hVm := hV c4
      have hI := hVm.inv
      have hne := hVm.ne
      have h9 := hS.2.2.2.2.2.2.2.2 c11
      obtain ⟨v1, v2, v3, v4, v5⟩ := hVm.2.2.2.2.2.2 c11
      have h12 := open_few v3 v4 v5
      have hn60 : nE (dM Q) < 60 := by have := hVm.2.2.2.2.2.1; rw [nAll_r c11] at this; omega
      refine j_aload_n C dX4_canTell_16 0 rfl rfl ?_
      refine jm_get7 C dX4_canTell_17 ?_
      refine j_ev (v' := nI (nE (dM Q) + 1)) (hS.2.2.2.1.trans (by rw [nAll_r c11])) ?_
      refine j_iconst C (v := nI 1) dX4_canTell_20 (by decide) ?_
      refine j_isubn C (by omega) dX4_canTell_21 ?_
      refine j_ev (v' := nI (nE (dM Q))) (by rw [Nat.add_sub_cancel]) ?_
      refine j_istore C (L' := [(4, .int (nI (nE (dM Q)))), (0, .ref o), (1, .int (nI kn)), (2, .int w), (3, .int (nI tn))]) dX4_canTell_22 (jlt hnl (by decide)) rfl ?_
      refine j_bipush C (v := nI 14) dX4_canTell_24 (by decide) ?_
      refine j_iload C dX4_canTell_26 0 rfl ?_
      refine j_imuln C dX4_canTell_28 ?_
      refine j_aload_n C dX4_canTell_29 1 rfl rfl ?_
      refine jm_get12 C dX4_canTell_30 ?_
      refine j_iload C dX4_canTell_33 0 rfl ?_
      refine jm_ald12 C hO (by omega) dX4_canTell_35 ?_
      refine j_ev (v' := nI ((lR (dM Q)).length)) h9.2.2.2.2.1 ?_
      refine j_iaddn C dX4_canTell_36 ?_
      refine j_istore C (L' := [(5, .int (nI (14 * (nE (dM Q)) + ((lR (dM Q)).length)))), (4, .int (nI (nE (dM Q)))), (0, .ref o), (1, .int (nI kn)), (2, .int w), (3, .int (nI tn))]) dX4_canTell_37 (jlt hnl (by decide)) rfl ?_
      refine j_aload_n C dX4_canTell_39 2 rfl rfl ?_
      refine jm_get13 C dX4_canTell_40 ?_
      refine j_iload C dX4_canTell_43 0 rfl ?_
      refine j_iload_n C dX4_canTell_45 3 rfl rfl ?_
      refine jm_ast13 C hO (by omega) dX4_canTell_46 (fun M1 hM1 => ?_)
      refine j_aload_n C dX4_canTell_47 2 rfl rfl ?_
      refine jm_get14 C dX4_canTell_48 ?_
      refine j_iload C dX4_canTell_51 0 rfl ?_
      refine j_iload_n C dX4_canTell_53 4 rfl rfl ?_
      refine jm_ast14 C hO (by omega) dX4_canTell_54 (fun M2 hM2 => ?_)
      refine j_aload_n C dX4_canTell_55 2 rfl rfl ?_
      refine jm_get15 C dX4_canTell_56 ?_
      refine j_iload C dX4_canTell_59 0 rfl ?_
      refine j_iload_n C dX4_canTell_61 5 rfl rfl ?_
      refine jm_ast15 C hO (by omega) dX4_canTell_62 (fun M3 hM3 => ?_)
      have hT : TELL Q s M M3 := TELL.mk hRel c4 c11 hVm hw (by rw [hM1, h1]) hM2 (by rw [hM3, h3])
      have hst := hT.2.2.2.1 c4 c11
      have hK := v4.app h12 h6 h10 ht
      refine j_aload_n C dX4_canTell_63 2 rfl rfl ?_
      refine jm_get12 C dX4_canTell_64 ?_
      refine j_iload C dX4_canTell_67 1 rfl ?_
      refine jm_ald12 C hO (by omega) dX4_canTell_69 ?_
      refine j_ev (v' := nI ((lR (dM Q)).length)) (by rw [hT.2.1 12 (by decide)]; exact h9.2.2.2.2.1) ?_
      refine j_ifn_eq C (by omega) (tgt := 86) dX4_canTell_70 (by decide) ?_ ?_
      · intro c70
        refine j_aload_n C dX4_canTell_86 2 rfl rfl ?_
        refine j_iload C dX4_canTell_87 1 rfl ?_
        refine j_aload_n C dX4_canTell_89 2 rfl rfl ?_
        refine jm_get12 C dX4_canTell_90 ?_
        refine j_iload C dX4_canTell_93 1 rfl ?_
        refine jm_ald12 C hO (by omega) dX4_canTell_95 ?_
        refine j_ev (v' := nI ((lR (dM Q)).length)) (by rw [hT.2.1 12 (by decide)]; exact h9.2.2.2.2.1) ?_
        refine jm_callQ C hO (as := [.int (nI (nE (dM Q))), .int (nI ((lR (dM Q)).length))]) (mc_canStep G M3 (mNow (dM Q)) (nE (dM Q)) (lR (dM Q)).length (lR (dM Q) ++ [s]) (by rw [hT.2.1 16 (by decide)]; exact hS.2.2.2.2.2.2.1) hn60 hst hK (by rw [List.length_append]; exact Nat.lt_succ_self _) hI.1.1 (by have := hI.2.2 8 0 0; omega)) mw_canStep (by decide) (Nat.le_refl _) rfl (Nat.le_of_ble_eq_true rfl) dX4_canTell_96 ?_
        refine j_ev (v' := pI (stepOK (mNow (dM Q)) (lR (dM Q)) s)) (pI_c (by rw [List.take_append_of_le_length (Nat.le_refl _), List.take_length, getD3_e])) ?_
        refine j_ifp_eq C (tgt := 106) dX4_canTell_99 (by decide) ?_ ?_
        · intro c99
          refine j_iconst C (v := nI 0) dX4_canTell_106 (by decide) ?_
          exact j_iret C E (by decide) (Nat.le_refl _) (⟨_, rfl, _, rfl, (pI_f (fun z => c99 z.2.2.2)).symm, hT⟩) dX4_canTell_107
        · intro c99
          refine j_iconst C (v := nI 1) dX4_canTell_102 (by decide) ?_
          refine j_goto C (tgt := 107) dX4_canTell_103 (by decide) ?_
          exact j_iret C E (by decide) (Nat.le_refl _) (⟨_, rfl, _, rfl, (pI_t ⟨c4, c11, by exact Or.inl (List.length_eq_zero_iff.mp c70), c99⟩).symm, hT⟩) dX4_canTell_107
      · intro c70
        have hne0 : lR (dM Q) ≠ [] := fun z => c70 (by rw [z]; rfl)
        have hlast : M3.2 15 (14 * nE (dM Q) + (lR (dM Q)).length - 1) = nI (lastOf (lR (dM Q))).2.2 := by
          have hl := List.length_pos_iff.mpr hne0
          have h2 := hst.sub ((lR (dM Q)).length - 1) (by omega)
          rw [last_get hne0, show 14 * nE (dM Q) + ((lR (dM Q)).length - 1) = 14 * nE (dM Q) + (lR (dM Q)).length - 1 by omega] at h2
          exact h2.2.2
        have hl30 := (last_ten v4 hne0).2
        refine j_aload_n C dX4_canTell_73 2 rfl rfl ?_
        refine jm_get15 C dX4_canTell_74 ?_
        refine j_iload C dX4_canTell_77 0 rfl ?_
        refine j_iconst C (v := nI 1) dX4_canTell_79 (by decide) ?_
        refine j_isubn C (by omega) dX4_canTell_80 ?_
        refine jm_ald15 C hO (by omega) dX4_canTell_81 ?_
        refine j_ev (v' := nI ((lastOf (lR (dM Q))).2.2)) hlast ?_
        refine j_iload_n C dX4_canTell_82 5 rfl rfl ?_
        refine j_icn_ge C (by omega) (by omega) (tgt := 106) dX4_canTell_83 (by decide) ?_ ?_
        · intro c83
          refine j_iconst C (v := nI 0) dX4_canTell_106 (by decide) ?_
          exact j_iret C E (by decide) (Nat.le_refl _) (⟨_, rfl, _, rfl, (pI_f (fun z => by rcases z.2.2.1 with y | y; exact hne0 y; rw [h3] at y; omega)).symm, hT⟩) dX4_canTell_107
        · intro c83
          refine j_aload_n C dX4_canTell_86 2 rfl rfl ?_
          refine j_iload C dX4_canTell_87 1 rfl ?_
          refine j_aload_n C dX4_canTell_89 2 rfl rfl ?_
          refine jm_get12 C dX4_canTell_90 ?_
          refine j_iload C dX4_canTell_93 1 rfl ?_
          refine jm_ald12 C hO (by omega) dX4_canTell_95 ?_
          refine j_ev (v' := nI ((lR (dM Q)).length)) (by rw [hT.2.1 12 (by decide)]; exact h9.2.2.2.2.1) ?_
          refine jm_callQ C hO (as := [.int (nI (nE (dM Q))), .int (nI ((lR (dM Q)).length))]) (mc_canStep G M3 (mNow (dM Q)) (nE (dM Q)) (lR (dM Q)).length (lR (dM Q) ++ [s]) (by rw [hT.2.1 16 (by decide)]; exact hS.2.2.2.2.2.2.1) hn60 hst hK (by rw [List.length_append]; exact Nat.lt_succ_self _) hI.1.1 (by have := hI.2.2 8 0 0; omega)) mw_canStep (by decide) (Nat.le_refl _) rfl (Nat.le_of_ble_eq_true rfl) dX4_canTell_96 ?_
          refine j_ev (v' := pI (stepOK (mNow (dM Q)) (lR (dM Q)) s)) (pI_c (by rw [List.take_append_of_le_length (Nat.le_refl _), List.take_length, getD3_e])) ?_
          refine j_ifp_eq C (tgt := 106) dX4_canTell_99 (by decide) ?_ ?_
          · intro c99
            refine j_iconst C (v := nI 0) dX4_canTell_106 (by decide) ?_
            exact j_iret C E (by decide) (Nat.le_refl _) (⟨_, rfl, _, rfl, (pI_f (fun z => c99 z.2.2.2)).symm, hT⟩) dX4_canTell_107
          · intro c99
            refine j_iconst C (v := nI 1) dX4_canTell_102 (by decide) ?_
            refine j_goto C (tgt := 107) dX4_canTell_103 (by decide) ?_
            exact j_iret C E (by decide) (Nat.le_refl _) (⟨_, rfl, _, rfl, (pI_t ⟨c4, c11, by exact Or.inr (by rw [h3]; omega), c99⟩).symm, hT⟩) dX4_canTell_107
    · intro c11
      refine j_iconst C (v := nI 0) dX4_canTell_14 (by decide) ?_
      exact j_iret C E (by decide) (Nat.le_refl _) (⟨_, rfl, _, rfl, (pI_f (fun z => by exact c11 z.2.1)).symm, rfl, fun _ _ => rfl, mH.rf, fun a b => by exact absurd b c11, hRel, oth.rf⟩) dX4_canTell_15

theorem mSA_ne16 {M : jM} {k j i : Nat} {v : Int32} (h : j ≠ k) : (mSA M k i v).2 j = M.2 j := by unfold mSA; dsimp only; rw [if_neg h]

set_option maxHeartbeats 4000000 in
theorem mc_step {g : jG} (G : jOK g) (M : jM) (Q : Option Mt) (k w t : Int32) (hRel : RelM M Q) (hV : VQ Q)  : MTR g 4 yX4_step [.int k, .int w, .int t] M (fun v M' => OUT M M' v (opStep Q k w t)) := by
  intro h o ad hO
  refine CT.of (bytes := cX4_step) (maxL := 9) (ret := (some .int)) G q2070 (by decide) (by decide +kernel) (Nat.le_of_ble_eq_true rfl) ?_
  intro z C E hT hnm hnl
  have C : jC (g, z) cX4_step RX4 4 0 := C
  show J (g, z) (mput g h o ad M) 0 0 [(0, .ref o), (1, .int k), (2, .int w), (3, .int t)] []
  refine j_iload_n C dX4_step_0 1 rfl rfl ?_
  refine j_iconst C (v := nI 0) dX4_step_1 (by decide) ?_
  refine j_bipush C (v := nI 6) dX4_step_2 (by decide) ?_
  refine j_callSQ C (as := [.int k, .int (nI 0), .int (nI 6)]) (mi_in G k 0 6) mw_in (by decide) (Nat.le_refl _) rfl (Nat.le_of_ble_eq_true rfl) dX4_step_4 ?_
  have join34 : J (g, z) (mput g h o ad M) 0 34 [(0, .ref o), (1, .int k), (2, .int w), (3, .int t)] [.int (pI (inI k 0 6 ∧ whoOK k w ∧ inI t 1 300))] := by
    refine j_istore C (L' := [(4, .int (pI (inI k 0 6 ∧ whoOK k w ∧ inI t 1 300))), (0, .ref o), (1, .int k), (2, .int w), (3, .int t)]) dX4_step_34 (jlt hnl (by decide)) rfl ?_
    refine j_aload_n C dX4_step_36 1 rfl rfl ?_
    refine j_iload C dX4_step_37 0 rfl ?_
    refine j_ifp_ne C (tgt := 46) dX4_step_39 (by decide) ?_ ?_
    · intro c39
      have hin := c39
      obtain ⟨kn, rfl, hkn0, hkn9⟩ := inI_n (by decide) (by decide) c39.1
      have iNkn : iN (nI kn) = kn := iN_nI (by omega)
      obtain ⟨tn, rfl, htn0, htn9⟩ := inI_n (by decide) (by decide) c39.2.2
      have iNtn : iN (nI tn) = tn := iN_nI (by omega)
      have hmk := mkS_f (k := kn) (t := tn) (w := w) (by omega) (by omega) c39.2.1
      obtain ⟨s, hs⟩ : ∃ s, s = mkS (nI kn) w (nI tn) := ⟨_, rfl⟩
      rw [← hs] at hmk
      obtain ⟨s1, s2, s3, s4⟩ := hmk
      refine j_aload_n C dX4_step_46 1 rfl rfl ?_
      refine j_iload_n C dX4_step_47 2 rfl rfl ?_
      refine j_iload_n C dX4_step_48 3 rfl rfl ?_
      refine j_iload_n C dX4_step_49 4 rfl rfl ?_
      refine jm_callR C hO (as := [.int (nI kn), .int w, .int (nI tn)]) (mc_canTell G M Q s kn tn w hRel hV s1 s2 s3 (by omega) s4 (by omega)) mw_canTell (by decide) (Nat.le_refl _) rfl (Nat.le_of_ble_eq_true rfl) dX4_step_50 (fun r2 M1 hM1 => ?_)
      refine j_ev (v' := pI (isM Q ∧ isR (dM Q) ∧ tellOK (dM Q) s)) hM1.1 ?_
      refine j_ifp_eq C (tgt := 60) dX4_step_53 (by decide) ?_ ?_
      · intro c53
        refine j_iconst C (v := nI 2) dX4_step_60 (by decide) ?_
        refine jm_callR C hO (as := [.int (nI 2)]) (mc_holds G M1 (nI 2)) mw_holds (by decide) (Nat.le_refl _) rfl (Nat.le_of_ble_eq_true rfl) dX4_step_61 (fun r4 M3 hM3 => ?_)
        refine j_ev (v' := nI 0) (by rw [hM3.1, pI_f (by decide)]; rfl) ?_
        have eM3 := hM3.2
        refine j_ifn_ne C (by decide) (tgt := 69) dX4_step_64 (by decide) ?_ ?_
        · intro c64
          omega
        · intro c64
          refine j_iconst C (v := nI 0) dX4_step_67 (by decide) ?_
          exact j_iret C E rfl (Nat.le_refl _) (⟨_, rfl, _, rfl, (OUT.er (by decide) eM3 hM1.2.2.2.2.2.1 (by unfold opStep; rw [iF_t hin, ← hs, iF_f c53])).pre hM1.2.2.2.2.2.2⟩) dX4_step_68
      · intro c53
        refine j_iconst C (v := nI 0) dX4_step_56 (by decide) ?_
        refine j_goto C (tgt := 61) dX4_step_57 (by decide) ?_
        refine jm_callR C hO (as := [.int (nI 0)]) (mc_holds G M1 (nI 0)) mw_holds (by decide) (Nat.le_refl _) rfl (Nat.le_of_ble_eq_true rfl) dX4_step_61 (fun r6 M5 hM5 => ?_)
        refine j_ev (v' := nI 1) (by rw [hM5.1, pI_t (by decide)]; rfl) ?_
        have eM5 := hM5.2
        refine j_ifn_ne C (by decide) (tgt := 69) dX4_step_64 (by decide) ?_ ?_
        · intro c64
          have hS := hRel.2 c53.1
          have hVm := hV c53.1
          have hI := hVm.inv
          have hne := hVm.ne
          have hr := c53.2.1
          have h9 := hS.2.2.2.2.2.2.2.2 hr
          obtain ⟨v1, v2, v3, v4, v5⟩ := hVm.2.2.2.2.2.2 hr
          have h12 := open_few v3 v4 v5
          have hn60 : nE (dM Q) < 60 := by have := hVm.2.2.2.2.2.1; rw [nAll_r hr] at this; omega
          have hT := hM1.2
          refine j_aload_n C dX4_step_69 1 rfl rfl ?_
          refine jm_get7 C dX4_step_70 ?_
          refine j_ev (v' := nI (nE (dM Q) + 1)) (by rw [eM5, mSF_ne (by decide), hT.1, hS.2.2.2.1, nAll_r hr]) ?_
          refine j_iconst C (v := nI 1) dX4_step_73 (by decide) ?_
          refine j_isubn C (by omega) dX4_step_74 ?_
          refine j_ev (v' := nI (nE (dM Q))) (by rw [Nat.add_sub_cancel]) ?_
          refine j_istore C (L' := [(5, .int (nI (nE (dM Q)))), (4, .int (pI (inI (nI kn) 0 6 ∧ whoOK (nI kn) w ∧ inI (nI tn) 1 300))), (0, .ref o), (1, .int (nI kn)), (2, .int w), (3, .int (nI tn))]) dX4_step_75 (jlt hnl (by decide)) rfl ?_
          refine j_aload_n C dX4_step_77 2 rfl rfl ?_
          refine jm_get12 C dX4_step_78 ?_
          refine j_iload C dX4_step_81 0 rfl ?_
          refine j_dup2 C dX4_step_83 rfl rfl ?_
          refine jm_ald12 C hO (by omega) dX4_step_84 ?_
          refine j_ev (v' := nI ((lR (dM Q)).length)) (by rw [eM5]; show M1.2 12 _ = _; rw [hT.2.1 12 (by decide)]; exact h9.2.2.2.2.1) ?_
          refine j_iconst C (v := nI 1) dX4_step_85 (by decide) ?_
          refine j_iaddn C dX4_step_86 ?_
          refine jm_ast12 C hO (by omega) dX4_step_87 (fun M7 hM7 => ?_)
          have hev := STEP_ev h9 hT.2.1 (hT.2.2.2.1 c53.1 hr) eM5 hM7
          have hSA : SA (M7.2 16) (mNow (dM Q)) := by rw [hM7, mSA_ne16 (by decide), eM5]; show SA (M1.2 16) _; rw [hT.2.1 16 (by decide)]; exact hS.2.2.2.2.2.2.1
          have hi : turn (mNow (dM Q)) < 2 := Nat.mod_lt _ (by decide)
          have hK := v4.app h12 (s := s) (by omega) s4 (by omega)
          have hcp := caps hI.1.2.2.1 v2 (v3.app c53.2.2.2) v1 hK
          refine j_iload_n C dX4_step_88 3 rfl rfl ?_
          refine j_iconst C (v := nI 3) dX4_step_89 (by decide) ?_
          refine j_icn_ge C (by omega) (by decide) (tgt := 95) dX4_step_90 (by decide) ?_ ?_
          · intro c90
            refine j_aload_n C dX4_step_95 2 rfl rfl ?_
            refine jm_callQ C hO (as := []) (mc_turn G M7 (mNow (dM Q)) hSA (by have := hI.2.2 8 0 0; omega)) mw_turn (by decide) (Nat.le_refl _) rfl (Nat.le_of_ble_eq_true rfl) dX4_step_96 ?_
            refine j_istore C (L' := [(6, .int (nI (turn (mNow (dM Q))))), (5, .int (nI (nE (dM Q)))), (4, .int (pI (inI (nI kn) 0 6 ∧ whoOK (nI kn) w ∧ inI (nI tn) 1 300))), (0, .ref o), (1, .int (nI kn)), (2, .int w), (3, .int (nI tn))]) dX4_step_99 (jlt hnl (by decide)) rfl ?_
            refine j_aload_n C dX4_step_101 3 rfl rfl ?_
            refine jm_get16 C dX4_step_102 ?_
            refine j_bipush C (v := nI 104) dX4_step_105 (by decide) ?_
            refine j_iload C dX4_step_107 0 rfl ?_
            refine j_iaddn C dX4_step_109 ?_
            refine jm_ald16 C hO (by omega) dX4_step_110 ?_
            refine j_ev (v' := (nI ((mNow (dM Q)).1 4 (turn (mNow (dM Q))) 0))) (hSA.po hi rfl) ?_
            refine j_istore C (L' := [(7, .int (nI ((mNow (dM Q)).1 4 (turn (mNow (dM Q))) 0))), (6, .int (nI (turn (mNow (dM Q))))), (5, .int (nI (nE (dM Q)))), (4, .int (pI (inI (nI kn) 0 6 ∧ whoOK (nI kn) w ∧ inI (nI tn) 1 300))), (0, .ref o), (1, .int (nI kn)), (2, .int w), (3, .int (nI tn))]) dX4_step_111 (jlt hnl (by decide)) rfl ?_
            refine j_aload_n C dX4_step_113 4 rfl rfl ?_
            refine jm_get16 C dX4_step_114 ?_
            refine j_bipush C (v := nI 105) dX4_step_117 (by decide) ?_
            refine j_iload C dX4_step_119 1 rfl ?_
            refine j_isubn C (by omega) dX4_step_121 ?_
            refine jm_ald16 C hO (by omega) dX4_step_122 ?_
            refine j_ev (v' := (nI ((mNow (dM Q)).1 4 (1 - turn (mNow (dM Q))) 0))) (hSA.po (i := 1 - turn (mNow (dM Q))) (by omega) (by omega)) ?_
            refine j_istore C (L' := [(8, .int (nI ((mNow (dM Q)).1 4 (1 - turn (mNow (dM Q))) 0))), (7, .int (nI ((mNow (dM Q)).1 4 (turn (mNow (dM Q))) 0))), (6, .int (nI (turn (mNow (dM Q))))), (5, .int (nI (nE (dM Q)))), (4, .int (pI (inI (nI kn) 0 6 ∧ whoOK (nI kn) w ∧ inI (nI tn) 1 300))), (0, .ref o), (1, .int (nI kn)), (2, .int w), (3, .int (nI tn))]) dX4_step_123 (jlt hnl (by decide)) rfl ?_
            refine j_aload_n C dX4_step_125 5 rfl rfl ?_
            refine j_iload C dX4_step_126 3 rfl ?_
            refine jm_callV C hO (as := [.int (nI (nE (dM Q)))]) (mc_endsRaid G M7 (mNow (dM Q)) (nE (dM Q)) (rR (dM Q)) (lR (dM Q) ++ [s]) hSA hn60 hev.2.1 v1 hev.2.2.2.2.1 hev.2.2.2.2.2 hK (by simp) hI.1.1 (by have := hI.2.2 5 (turn (mNow (dM Q))) 0; omega) (fun i p => by have := hI.2.2 1 i p; omega) (by have := hI.2.2 7 0 0; omega) (by have := hI.2.2 8 0 0; omega) hcp.1 hcp.2) mw_endsRaid (by decide) (Nat.le_refl _) rfl (Nat.le_of_ble_eq_true rfl) dX4_step_128 (fun M8 hM8 => ?_)
            refine j_aload_n C dX4_step_131 5 rfl rfl ?_
            refine j_iload C dX4_step_132 3 rfl ?_
            refine jm_callV C hO (as := [.int (nI (nE (dM Q)))]) (mc_notes G M8 _ (nE (dM Q)) hM8.2 hn60 hI.1.1.raid) mw_notes (by decide) (Nat.le_refl _) rfl (Nat.le_of_ble_eq_true rfl) dX4_step_134 (fun M9 hM9 => ?_)
            refine j_aload_n C dX4_step_137 5 rfl rfl ?_
            refine j_iconst C (v := nI 0) dX4_step_138 (by decide) ?_
            refine jm_put3 C hO ⟨by decide, by decide⟩ dX4_step_139 (fun M10 hM10 => ?_)
            refine j_bipush C (v := nI 10) dX4_step_142 (by decide) ?_
            refine j_aload_n C dX4_step_144 5 rfl rfl ?_
            refine jm_get16 C dX4_step_145 ?_
            refine j_bipush C (v := nI 104) dX4_step_148 (by decide) ?_
            refine j_iload C dX4_step_150 2 rfl ?_
            refine j_iaddn C dX4_step_152 ?_
            refine jm_ald16 C hO (by omega) dX4_step_153 ?_
            refine j_ev (v' := nI ((raidEnd (mNow (dM Q)) (rR (dM Q)) (lR (dM Q) ++ [s])).1 4 (turn (mNow (dM Q))) 0)) (by rw [hM10]; show M9.2 16 _ = _; rw [hM9.2.1]; exact hM8.2.po hi rfl) ?_
            refine j_iload C dX4_step_154 1 rfl ?_
            refine j_isub C dX4_step_156 ?_
            refine j_imul C dX4_step_157 ?_
            refine j_aload_n C dX4_step_158 5 rfl rfl ?_
            refine jm_get16 C dX4_step_159 ?_
            refine j_bipush C (v := nI 105) dX4_step_162 (by decide) ?_
            refine j_iload C dX4_step_164 2 rfl ?_
            refine j_isubn C (by omega) dX4_step_166 ?_
            refine jm_ald16 C hO (by omega) dX4_step_167 ?_
            refine j_ev (v' := nI ((raidEnd (mNow (dM Q)) (rR (dM Q)) (lR (dM Q) ++ [s])).1 4 (1 - turn (mNow (dM Q))) 0)) (by rw [hM10]; show M9.2 16 _ = _; rw [hM9.2.1]; exact hM8.2.po (i := 1 - turn (mNow (dM Q))) (by omega) (by omega)) ?_
            refine j_iadd C dX4_step_168 ?_
            refine j_iload C dX4_step_169 0 rfl ?_
            refine j_isub C dX4_step_171 ?_
            exact j_iret C E rfl (Nat.le_refl _) (⟨_, rfl, _, rfl, by unfold opStep; rw [iF_t hin, ← hs, iF_t c53, iNkn, iF_f (by omega)]; exact STEP_fin2 c53.1 hr hRel hVm hT eM5 hM7 hM8 hM9 hM10 rfl⟩) dX4_step_172
          · intro c90
            refine j_iconst C (v := -1) dX4_step_93 (by decide) ?_
            exact j_iret C E rfl (Nat.le_refl _) (⟨_, rfl, _, rfl, by unfold opStep; rw [iF_t hin, ← hs, iF_t c53, iNkn, iF_t (by omega)]; exact STEP_fin1 c53.1 hr hRel hVm hT eM5 hM7⟩) dX4_step_94
        · intro c64
          omega
    · intro c39
      refine j_iconst C (v := nI 1) dX4_step_42 (by decide) ?_
      refine j_goto C (tgt := 61) dX4_step_43 (by decide) ?_
      refine jm_callR C hO (as := [.int (nI 1)]) (mc_holds G M (nI 1)) mw_holds (by decide) (Nat.le_refl _) rfl (Nat.le_of_ble_eq_true rfl) dX4_step_61 (fun r12 M11 hM11 => ?_)
      refine j_ev (v' := nI 0) (by rw [hM11.1, pI_f (by decide)]; rfl) ?_
      have eM11 := hM11.2
      refine j_ifn_ne C (by decide) (tgt := 69) dX4_step_64 (by decide) ?_ ?_
      · intro c64
        omega
      · intro c64
        refine j_iconst C (v := nI 0) dX4_step_67 (by decide) ?_
        exact j_iret C E rfl (Nat.le_refl _) (⟨_, rfl, _, rfl, OUT.er (by decide) eM11 hRel (by unfold opStep; rw [iF_f c39])⟩) dX4_step_68
  refine j_ifp_eq C (tgt := 33) dX4_step_7 (by decide) ?_ ?_
  · intro c7
    refine j_iconst C (v := nI 0) dX4_step_33 (by decide) ?_
    refine J.sub (L' := [(0, .ref o), (1, .int k), (2, .int w), (3, .int t)]) ?_ [0, 1, 2, 3] rfl
    refine j_ev (v' := pI (inI k 0 6 ∧ whoOK k w ∧ inI t 1 300)) (by rw [pI_f (by grind)]; rfl) ?_
    exact join34
  · intro c7
    refine j_iload_n C dX4_step_10 1 rfl rfl ?_
    refine j_iload_n C dX4_step_11 2 rfl rfl ?_
    refine j_callSQ C (as := [.int k, .int w]) (mi_isWho G k w) mw_isWho (by decide) (Nat.le_refl _) rfl (Nat.le_of_ble_eq_true rfl) dX4_step_12 ?_
    refine j_ifp_eq C (tgt := 33) dX4_step_15 (by decide) ?_ ?_
    · intro c15
      refine j_iconst C (v := nI 0) dX4_step_33 (by decide) ?_
      refine J.sub (L' := [(0, .ref o), (1, .int k), (2, .int w), (3, .int t)]) ?_ [0, 1, 2, 3] rfl
      refine j_ev (v' := pI (inI k 0 6 ∧ whoOK k w ∧ inI t 1 300)) (by rw [pI_f (by grind)]; rfl) ?_
      exact join34
    · intro c15
      refine j_iload_n C dX4_step_18 3 rfl rfl ?_
      refine j_iconst C (v := nI 1) dX4_step_19 (by decide) ?_
      refine j_sipush C (v := nI 300) dX4_step_20 (by decide) ?_
      refine j_callSQ C (as := [.int t, .int (nI 1), .int (nI 300)]) (mi_in G t 1 300) mw_in (by decide) (Nat.le_refl _) rfl (Nat.le_of_ble_eq_true rfl) dX4_step_23 ?_
      refine j_ifp_eq C (tgt := 33) dX4_step_26 (by decide) ?_ ?_
      · intro c26
        refine j_iconst C (v := nI 0) dX4_step_33 (by decide) ?_
        refine J.sub (L' := [(0, .ref o), (1, .int k), (2, .int w), (3, .int t)]) ?_ [0, 1, 2, 3] rfl
        refine j_ev (v' := pI (inI k 0 6 ∧ whoOK k w ∧ inI t 1 300)) (by rw [pI_f (by grind)]; rfl) ?_
        exact join34
      · intro c26
        refine j_iconst C (v := nI 1) dX4_step_29 (by decide) ?_
        refine j_goto C (tgt := 34) dX4_step_30 (by decide) ?_
        refine J.sub (L' := [(0, .ref o), (1, .int k), (2, .int w), (3, .int t)]) ?_ [0, 1, 2, 3] rfl
        refine j_ev (v' := pI (inI k 0 6 ∧ whoOK k w ∧ inI t 1 300)) (by rw [pI_t (by grind)]; rfl) ?_
        exact join34
