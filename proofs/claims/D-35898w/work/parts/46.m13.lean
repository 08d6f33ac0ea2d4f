set_option maxRecDepth 100000
noncomputable def errN (p q : Prop) : Nat := iF p (iF q 0 2) 1
theorem errN_0 {p q : Prop} : nI (errN p q) = 0 ↔ p ∧ q := by
  unfold errN
  by_cases hp : p
  · rw [iF_t hp]
    by_cases hq : q
    · rw [iF_t hq]; exact ⟨fun _ => ⟨hp, hq⟩, fun _ => rfl⟩
    · rw [iF_f hq]; exact ⟨fun z => absurd z (by decide), fun z => absurd z.2 hq⟩
  · rw [iF_f hp]; exact ⟨fun z => absurd z (by decide), fun z => absurd z.1 hp⟩
theorem errN_n {p q : Prop} (h : ¬ (p ∧ q)) : errN p q ≠ 0 := fun z => h (errN_0.mp (by rw [z]; rfl))
/-- a question about the match -/
noncomputable def qOp (p : Prop) (Q : Option Mt) (a : Int32) : Ans := iF (p ∧ isM Q) (0, a, Q) (errN p (isM Q), 0, Q)
theorem QRY_er {p : Prop} {M M' : jM} {Q : Option Mt} {v a : Int32} (hc : ¬ (p ∧ isM Q)) (h : M' = mSF M 0 (nI (errN p (isM Q)))) (hR : RelM M Q) : OUT M M' v (qOp p Q a) := OUT.er (errN_n hc) h hR (by unfold qOp; rw [iF_f hc])
theorem QRY_ok {p : Prop} {M M' : jM} {Q : Option Mt} {v a : Int32} (hc : p ∧ isM Q) (h : M' = mSF M 0 (nI (errN p (isM Q)))) (hR : RelM M Q) (hv : v = a) : OUT M M' v (qOp p Q a) := by
  have e : errN p (isM Q) = 0 := by unfold errN; rw [iF_t hc.1, iF_t hc.2]
  rw [e] at h
  exact OUT.rd h hR (by unfold qOp; rw [iF_t hc]) hv
noncomputable def opPlayer (Q : Option Mt) (i p : Int32) : Ans := qOp (inI i 0 1 ∧ inI p 0 9) Q (nI ((mNow (dM Q)).1 0 (iN i) (iN p)))
noncomputable def rowAt (l : List Nat) (p : Int32) : Int32 := iF (p < nI l.length) (nI (l.getD (iN p) 0)) (-1)
noncomputable def opOut (Q : Option Mt) (i p : Int32) : Ans := qOp (inI i 0 1 ∧ ¬ p < 0) Q (rowAt ((mNow (dM Q)).2 (iN i)) p)
noncomputable def opNext (Q : Option Mt) (i : Int32) : Ans := qOp (inI i 0 1) Q (rowAt ((mNow (dM Q)).2 (iN i)) (nI 0))
noncomputable def opPoints (Q : Option Mt) (i : Int32) : Ans := qOp (inI i 0 1) Q (nI ((mNow (dM Q)).1 4 (iN i) 0))
noncomputable def opRaidPoints (Q : Option Mt) (i p : Int32) : Ans := qOp (inI i 0 1 ∧ inI p 0 9) Q (nI ((mNow (dM Q)).1 3 (iN i) (iN p)))
noncomputable def opHasReview (Q : Option Mt) (i : Int32) : Ans := qOp (inI i 0 1) Q (pI (¬ mX (dM Q) (iN i)))
noncomputable def matchV (m : Mt) (w : Nat) : Int32 := iF (w = 0) (nI ((mNow m).1 7 0 0)) (iF (w = 1) (nI (turn (mNow m))) (iF (w = 2) (nI (nAll m)) (iF (w = 3) (pI (isR m)) (iF (w = 4) (pI ((mNow m).1 5 (turn (mNow m)) 0 = 2)) (iF (w = 5) (pI (¬ isR m ∧ mL m ≤ (mNow m).1 7 0 0)) (nI (mC m (w - 6))))))))
noncomputable def opMatch (Q : Option Mt) (w : Int32) : Ans := qOp (inI w 0 7) Q (matchV (dM Q) (iN w))
def endAt (Q : Option Mt) (e i : Int32) : Prop := isM Q ∧ idx e (nE (dM Q)) ∧ inI i 0 1
noncomputable def opMatAfter (Q : Option Mt) (e i : Int32) : Ans := iF (endAt Q e i) (0, nI (onSet (mtAt ((mE (dM Q)).take (iN e + 1))) (iN i)), Q) (1, 0, Q)
noncomputable def opPointsAfter (Q : Option Mt) (e i : Int32) : Ans := iF (endAt Q e i) (0, nI ((mtAt ((mE (dM Q)).take (iN e + 1))).1 4 (iN i) 0), Q) (1, 0, Q)

set_option maxHeartbeats 4000000 in
theorem mc_errorOfMatch {g : jG} (G : jOK g) (M : jM) (Q : Option Mt) (p : Prop) (hRel : RelM M Q)  : MTQ g 0 yX4_errorOfMatch [.int (pI p)] M (nI (errN p (isM Q))) := by
  intro h o ad hO
  refine CT.of (bytes := cX4_errorOfMatch) (maxL := 2) (ret := (some .int)) G q2238 (by decide) (by decide +kernel) (Nat.le_of_ble_eq_true rfl) ?_
  intro z C E hT hnm hnl
  have C : jC (g, z) cX4_errorOfMatch RX4 0 0 := C
  show J (g, z) (mput g h o ad M) 0 0 [(0, .ref o), (1, .int (pI p))] []
  refine j_iload_n C dX4_errorOfMatch_0 1 rfl rfl ?_
  refine j_ifp_ne C (tgt := 8) dX4_errorOfMatch_1 (by decide) ?_ ?_
  · intro c1
    refine j_aload_n C dX4_errorOfMatch_8 0 rfl rfl ?_
    refine jm_get2 C dX4_errorOfMatch_9 ?_
    refine j_ev (v' := pI (isM Q)) hRel.1 ?_
    refine j_ifp_eq C (tgt := 19) dX4_errorOfMatch_12 (by decide) ?_ ?_
    · intro c12
      refine j_iconst C (v := nI 2) dX4_errorOfMatch_19 (by decide) ?_
      exact j_iret C E rfl (Nat.le_refl _) (⟨_, rfl, by unfold errN; rw [iF_t c1, iF_f c12], rfl⟩) dX4_errorOfMatch_20
    · intro c12
      refine j_iconst C (v := nI 0) dX4_errorOfMatch_15 (by decide) ?_
      refine j_goto C (tgt := 20) dX4_errorOfMatch_16 (by decide) ?_
      exact j_iret C E rfl (Nat.le_refl _) (⟨_, rfl, by unfold errN; rw [iF_t c1, iF_t c12], rfl⟩) dX4_errorOfMatch_20
  · intro c1
    refine j_iconst C (v := nI 1) dX4_errorOfMatch_4 (by decide) ?_
    refine j_goto C (tgt := 20) dX4_errorOfMatch_5 (by decide) ?_
    exact j_iret C E rfl (Nat.le_refl _) (⟨_, rfl, by unfold errN; rw [iF_f c1], rfl⟩) dX4_errorOfMatch_20

set_option maxHeartbeats 4000000 in
theorem mc_outAt {g : jG} (G : jOK g) (M : jM) (t : MT) (i : Nat) (p : Int32) (hS : SA (M.2 16) t) (hi : i < 2) (hp : ¬ p < 0)  : MTQ g 0 yX4_outAt [.int (nI i), .int p] M (rowAt (t.2 i) p) := by
  intro h o ad hO
  refine CT.of (bytes := cX4_outAt) (maxL := 3) (ret := (some .int)) G q2246 (by decide) (by decide +kernel) (Nat.le_of_ble_eq_true rfl) ?_
  intro z C E hT hnm hnl
  have C : jC (g, z) cX4_outAt RX4 0 0 := C
  show J (g, z) (mput g h o ad M) 0 0 [(0, .ref o), (1, .int (nI i)), (2, .int p)] []
  have hl := hS.len hi
  have hpn := nI_iN (show ¬ p < nI 0 from hp)
  have hpl : iN p < 2 ^ 31 := by
    have h2 : p.toInt < 2 ^ 31 := by have := p.toInt_lt; simpa using this
    unfold iN; omega
  generalize hpk : iN p = pn at hpn hpl
  subst hpn
  have iNpn := hpk
  refine j_iload_n C dX4_outAt_0 2 rfl rfl ?_
  refine j_aload_n C dX4_outAt_1 0 rfl rfl ?_
  refine jm_get16 C dX4_outAt_2 ?_
  refine j_bipush C (v := nI 100) dX4_outAt_5 (by decide) ?_
  refine j_iload_n C dX4_outAt_7 1 rfl rfl ?_
  refine j_iaddn C dX4_outAt_8 ?_
  refine jm_ald16 C hO (by omega) dX4_outAt_9 ?_
  refine j_ev (v' := nI ((t.2 i).length)) (hS.many hi rfl) ?_
  refine j_icn_ge C (by omega) (by omega) (tgt := 30) dX4_outAt_10 (by decide) ?_ ?_
  · intro c10
    have c30 : ¬ nI pn < nI (t.2 i).length := fun z => absurd ((nI_ltI hpl (by omega)).mp z) (by omega)
    refine j_iconst C (v := -1) dX4_outAt_30 (by decide) ?_
    exact j_iret C E rfl (Nat.le_refl _) (⟨_, rfl, by unfold rowAt; rw [iF_f c30], rfl⟩) dX4_outAt_31
  · intro c10
    have hlt : nI pn < nI (t.2 i).length := (nI_ltI hpl (by omega)).mpr (by omega)
    refine j_aload_n C dX4_outAt_13 0 rfl rfl ?_
    refine jm_get16 C dX4_outAt_14 ?_
    refine j_bipush C (v := nI 80) dX4_outAt_17 (by decide) ?_
    refine j_bipush C (v := nI 10) dX4_outAt_19 (by decide) ?_
    refine j_iload_n C dX4_outAt_21 1 rfl rfl ?_
    refine j_imuln C dX4_outAt_22 ?_
    refine j_iaddn C dX4_outAt_23 ?_
    refine j_iload_n C dX4_outAt_24 2 rfl rfl ?_
    refine j_iaddn C dX4_outAt_25 ?_
    refine jm_ald16 C hO (by omega) dX4_outAt_26 ?_
    refine j_ev (v' := nI ((t.2 i).getD pn 0)) (hS.row hi (by omega) rfl) ?_
    refine j_goto C (tgt := 31) dX4_outAt_27 (by decide) ?_
    exact j_iret C E rfl (Nat.le_refl _) (⟨_, rfl, by unfold rowAt; rw [iF_t hlt, iNpn], rfl⟩) dX4_outAt_31

set_option maxHeartbeats 4000000 in
theorem mc_player {g : jG} (G : jOK g) (M : jM) (Q : Option Mt) (i p : Int32) (hRel : RelM M Q) (hV : VQ Q)  : MTR g 2 yX4_player [.int i, .int p] M (fun v M' => OUT M M' v (opPlayer Q i p)) := by
  intro h o ad hO
  refine CT.of (bytes := cX4_player) (maxL := 3) (ret := (some .int)) G q2234 (by decide) (by decide +kernel) (Nat.le_of_ble_eq_true rfl) ?_
  intro z C E hT hnm hnl
  have C : jC (g, z) cX4_player RX4 2 0 := C
  show J (g, z) (mput g h o ad M) 0 0 [(0, .ref o), (1, .int i), (2, .int p)] []
  refine j_aload_n C dX4_player_0 0 rfl rfl ?_
  refine j_aload_n C dX4_player_1 0 rfl rfl ?_
  refine j_iload_n C dX4_player_2 1 rfl rfl ?_
  refine j_callSQ C (as := [.int i]) (mi_isSide G i) mw_isSide (by decide) (Nat.le_refl _) rfl (Nat.le_of_ble_eq_true rfl) dX4_player_3 ?_
  have join21 : J (g, z) (mput g h o ad M) 0 21 [(0, .ref o), (1, .int i), (2, .int p)] [.int (pI (inI i 0 1 ∧ inI p 0 9)), .ref o, .ref o] := by
    refine jm_callQ C hO (as := [.int (pI (inI i 0 1 ∧ inI p 0 9))]) (mc_errorOfMatch G M Q (inI i 0 1 ∧ inI p 0 9) hRel) mw_errorOfMatch (by decide) (Nat.le_refl _) rfl (Nat.le_of_ble_eq_true rfl) dX4_player_21 ?_
    refine jm_callR C hO (as := [.int (nI (errN (inI i 0 1 ∧ inI p 0 9) (isM Q)))]) (mc_holds G M (nI (errN (inI i 0 1 ∧ inI p 0 9) (isM Q)))) mw_holds (by decide) (Nat.le_refl _) rfl (Nat.le_of_ble_eq_true rfl) dX4_player_24 (fun r2 M1 hM1 => ?_)
    refine j_ev (v' := pI ((inI i 0 1 ∧ inI p 0 9) ∧ isM Q)) (by rw [hM1.1]; exact pI_c errN_0) ?_
    have eM1 := hM1.2
    refine j_ifp_eq C (tgt := 44) dX4_player_27 (by decide) ?_ ?_
    · intro c27
      refine j_iconst C (v := nI 0) dX4_player_44 (by decide) ?_
      exact j_iret C E rfl (Nat.le_refl _) (⟨_, rfl, _, rfl, QRY_er c27 eM1 hRel⟩) dX4_player_45
    · intro c27
      have hc := c27
      have hS := hRel.2 c27.2
      have hVm := hV c27.2
      have hI := hVm.inv
      have hne := hVm.ne
      have hSA : SA (M1.2 16) (mNow (dM Q)) := by rw [eM1]; exact hS.2.2.2.2.2.2.1
      obtain ⟨ni, rfl, hni0, hni9⟩ := inI_n (by decide) (by decide) c27.1.1
      have iNni : iN (nI ni) = ni := iN_nI (by omega)
      obtain ⟨np, rfl, hnp0, hnp9⟩ := inI_n (by decide) (by decide) c27.1.2
      have iNnp : iN (nI np) = np := iN_nI (by omega)
      refine j_aload_n C dX4_player_30 0 rfl rfl ?_
      refine jm_get16 C dX4_player_31 ?_
      refine j_bipush C (v := nI 10) dX4_player_34 (by decide) ?_
      refine j_iload_n C dX4_player_36 1 rfl rfl ?_
      refine j_imuln C dX4_player_37 ?_
      refine j_iload_n C dX4_player_38 2 rfl rfl ?_
      refine j_iaddn C dX4_player_39 ?_
      refine jm_ald16 C hO (by omega) dX4_player_40 ?_
      refine j_ev (v' := nI ((mNow (dM Q)).1 0 ni np)) (hSA.st (by omega) (by omega) rfl) ?_
      refine j_goto C (tgt := 45) dX4_player_41 (by decide) ?_
      exact j_iret C E rfl (Nat.le_refl _) (⟨_, rfl, _, rfl, QRY_ok hc eM1 hRel (by rw [iNni, iNnp])⟩) dX4_player_45
  refine j_ifp_eq C (tgt := 20) dX4_player_6 (by decide) ?_ ?_
  · intro c6
    refine j_iconst C (v := nI 0) dX4_player_20 (by decide) ?_
    refine J.sub (L' := [(0, .ref o), (1, .int i), (2, .int p)]) ?_ [0, 1, 2] rfl
    refine j_ev (v' := pI (inI i 0 1 ∧ inI p 0 9)) (by rw [pI_f (by grind)]; rfl) ?_
    exact join21
  · intro c6
    refine j_iload_n C dX4_player_9 2 rfl rfl ?_
    refine j_callSQ C (as := [.int p]) (mi_isPlayer G p) mw_isPlayer (by decide) (Nat.le_refl _) rfl (Nat.le_of_ble_eq_true rfl) dX4_player_10 ?_
    refine j_ifp_eq C (tgt := 20) dX4_player_13 (by decide) ?_ ?_
    · intro c13
      refine j_iconst C (v := nI 0) dX4_player_20 (by decide) ?_
      refine J.sub (L' := [(0, .ref o), (1, .int i), (2, .int p)]) ?_ [0, 1, 2] rfl
      refine j_ev (v' := pI (inI i 0 1 ∧ inI p 0 9)) (by rw [pI_f (by grind)]; rfl) ?_
      exact join21
    · intro c13
      refine j_iconst C (v := nI 1) dX4_player_16 (by decide) ?_
      refine j_goto C (tgt := 21) dX4_player_17 (by decide) ?_
      refine J.sub (L' := [(0, .ref o), (1, .int i), (2, .int p)]) ?_ [0, 1, 2] rfl
      refine j_ev (v' := pI (inI i 0 1 ∧ inI p 0 9)) (by rw [pI_t (by grind)]; rfl) ?_
      exact join21

set_option maxHeartbeats 4000000 in
theorem mc_raidPoints {g : jG} (G : jOK g) (M : jM) (Q : Option Mt) (i p : Int32) (hRel : RelM M Q) (hV : VQ Q)  : MTR g 2 yX4_raidPoints [.int i, .int p] M (fun v M' => OUT M M' v (opRaidPoints Q i p)) := by
  intro h o ad hO
  refine CT.of (bytes := cX4_raidPoints) (maxL := 3) (ret := (some .int)) G q2283 (by decide) (by decide +kernel) (Nat.le_of_ble_eq_true rfl) ?_
  intro z C E hT hnm hnl
  have C : jC (g, z) cX4_raidPoints RX4 2 0 := C
  show J (g, z) (mput g h o ad M) 0 0 [(0, .ref o), (1, .int i), (2, .int p)] []
  refine j_aload_n C dX4_raidPoints_0 0 rfl rfl ?_
  refine j_aload_n C dX4_raidPoints_1 0 rfl rfl ?_
  refine j_iload_n C dX4_raidPoints_2 1 rfl rfl ?_
  refine j_callSQ C (as := [.int i]) (mi_isSide G i) mw_isSide (by decide) (Nat.le_refl _) rfl (Nat.le_of_ble_eq_true rfl) dX4_raidPoints_3 ?_
  have join21 : J (g, z) (mput g h o ad M) 0 21 [(0, .ref o), (1, .int i), (2, .int p)] [.int (pI (inI i 0 1 ∧ inI p 0 9)), .ref o, .ref o] := by
    refine jm_callQ C hO (as := [.int (pI (inI i 0 1 ∧ inI p 0 9))]) (mc_errorOfMatch G M Q (inI i 0 1 ∧ inI p 0 9) hRel) mw_errorOfMatch (by decide) (Nat.le_refl _) rfl (Nat.le_of_ble_eq_true rfl) dX4_raidPoints_21 ?_
    refine jm_callR C hO (as := [.int (nI (errN (inI i 0 1 ∧ inI p 0 9) (isM Q)))]) (mc_holds G M (nI (errN (inI i 0 1 ∧ inI p 0 9) (isM Q)))) mw_holds (by decide) (Nat.le_refl _) rfl (Nat.le_of_ble_eq_true rfl) dX4_raidPoints_24 (fun r2 M1 hM1 => ?_)
    refine j_ev (v' := pI ((inI i 0 1 ∧ inI p 0 9) ∧ isM Q)) (by rw [hM1.1]; exact pI_c errN_0) ?_
    have eM1 := hM1.2
    refine j_ifp_eq C (tgt := 47) dX4_raidPoints_27 (by decide) ?_ ?_
    · intro c27
      refine j_iconst C (v := nI 0) dX4_raidPoints_47 (by decide) ?_
      exact j_iret C E rfl (Nat.le_refl _) (⟨_, rfl, _, rfl, QRY_er c27 eM1 hRel⟩) dX4_raidPoints_48
    · intro c27
      have hc := c27
      have hS := hRel.2 c27.2
      have hVm := hV c27.2
      have hI := hVm.inv
      have hne := hVm.ne
      have hSA : SA (M1.2 16) (mNow (dM Q)) := by rw [eM1]; exact hS.2.2.2.2.2.2.1
      obtain ⟨ni, rfl, hni0, hni9⟩ := inI_n (by decide) (by decide) c27.1.1
      have iNni : iN (nI ni) = ni := iN_nI (by omega)
      obtain ⟨np, rfl, hnp0, hnp9⟩ := inI_n (by decide) (by decide) c27.1.2
      have iNnp : iN (nI np) = np := iN_nI (by omega)
      refine j_aload_n C dX4_raidPoints_30 0 rfl rfl ?_
      refine jm_get16 C dX4_raidPoints_31 ?_
      refine j_bipush C (v := nI 60) dX4_raidPoints_34 (by decide) ?_
      refine j_bipush C (v := nI 10) dX4_raidPoints_36 (by decide) ?_
      refine j_iload_n C dX4_raidPoints_38 1 rfl rfl ?_
      refine j_imuln C dX4_raidPoints_39 ?_
      refine j_iaddn C dX4_raidPoints_40 ?_
      refine j_iload_n C dX4_raidPoints_41 2 rfl rfl ?_
      refine j_iaddn C dX4_raidPoints_42 ?_
      refine jm_ald16 C hO (by omega) dX4_raidPoints_43 ?_
      refine j_ev (v' := nI ((mNow (dM Q)).1 3 ni np)) (hSA.ra (by omega) (by omega) (by omega)) ?_
      refine j_goto C (tgt := 48) dX4_raidPoints_44 (by decide) ?_
      exact j_iret C E rfl (Nat.le_refl _) (⟨_, rfl, _, rfl, QRY_ok hc eM1 hRel (by rw [iNni, iNnp])⟩) dX4_raidPoints_48
  refine j_ifp_eq C (tgt := 20) dX4_raidPoints_6 (by decide) ?_ ?_
  · intro c6
    refine j_iconst C (v := nI 0) dX4_raidPoints_20 (by decide) ?_
    refine J.sub (L' := [(0, .ref o), (1, .int i), (2, .int p)]) ?_ [0, 1, 2] rfl
    refine j_ev (v' := pI (inI i 0 1 ∧ inI p 0 9)) (by rw [pI_f (by grind)]; rfl) ?_
    exact join21
  · intro c6
    refine j_iload_n C dX4_raidPoints_9 2 rfl rfl ?_
    refine j_callSQ C (as := [.int p]) (mi_isPlayer G p) mw_isPlayer (by decide) (Nat.le_refl _) rfl (Nat.le_of_ble_eq_true rfl) dX4_raidPoints_10 ?_
    refine j_ifp_eq C (tgt := 20) dX4_raidPoints_13 (by decide) ?_ ?_
    · intro c13
      refine j_iconst C (v := nI 0) dX4_raidPoints_20 (by decide) ?_
      refine J.sub (L' := [(0, .ref o), (1, .int i), (2, .int p)]) ?_ [0, 1, 2] rfl
      refine j_ev (v' := pI (inI i 0 1 ∧ inI p 0 9)) (by rw [pI_f (by grind)]; rfl) ?_
      exact join21
    · intro c13
      refine j_iconst C (v := nI 1) dX4_raidPoints_16 (by decide) ?_
      refine j_goto C (tgt := 21) dX4_raidPoints_17 (by decide) ?_
      refine J.sub (L' := [(0, .ref o), (1, .int i), (2, .int p)]) ?_ [0, 1, 2] rfl
      refine j_ev (v' := pI (inI i 0 1 ∧ inI p 0 9)) (by rw [pI_t (by grind)]; rfl) ?_
      exact join21

set_option maxHeartbeats 4000000 in
theorem mc_out {g : jG} (G : jOK g) (M : jM) (Q : Option Mt) (i p : Int32) (hRel : RelM M Q) (hV : VQ Q)  : MTR g 2 yX4_out [.int i, .int p] M (fun v M' => OUT M M' v (opOut Q i p)) := by
  intro h o ad hO
  refine CT.of (bytes := cX4_out) (maxL := 3) (ret := (some .int)) G q2242 (by decide) (by decide +kernel) (Nat.le_of_ble_eq_true rfl) ?_
  intro z C E hT hnm hnl
  have C : jC (g, z) cX4_out RX4 2 0 := C
  show J (g, z) (mput g h o ad M) 0 0 [(0, .ref o), (1, .int i), (2, .int p)] []
  refine j_aload_n C dX4_out_0 0 rfl rfl ?_
  refine j_aload_n C dX4_out_1 0 rfl rfl ?_
  refine j_iload_n C dX4_out_2 1 rfl rfl ?_
  refine j_callSQ C (as := [.int i]) (mi_isSide G i) mw_isSide (by decide) (Nat.le_refl _) rfl (Nat.le_of_ble_eq_true rfl) dX4_out_3 ?_
  have join18 : J (g, z) (mput g h o ad M) 0 18 [(0, .ref o), (1, .int i), (2, .int p)] [.int (pI (inI i 0 1 ∧ ¬ p < 0)), .ref o, .ref o] := by
    refine jm_callQ C hO (as := [.int (pI (inI i 0 1 ∧ ¬ p < 0))]) (mc_errorOfMatch G M Q (inI i 0 1 ∧ ¬ p < 0) hRel) mw_errorOfMatch (by decide) (Nat.le_refl _) rfl (Nat.le_of_ble_eq_true rfl) dX4_out_18 ?_
    refine jm_callR C hO (as := [.int (nI (errN (inI i 0 1 ∧ ¬ p < 0) (isM Q)))]) (mc_holds G M (nI (errN (inI i 0 1 ∧ ¬ p < 0) (isM Q)))) mw_holds (by decide) (Nat.le_refl _) rfl (Nat.le_of_ble_eq_true rfl) dX4_out_21 (fun r2 M1 hM1 => ?_)
    refine j_ev (v' := pI ((inI i 0 1 ∧ ¬ p < 0) ∧ isM Q)) (by rw [hM1.1]; exact pI_c errN_0) ?_
    have eM1 := hM1.2
    refine j_ifp_eq C (tgt := 36) dX4_out_24 (by decide) ?_ ?_
    · intro c24
      refine j_iconst C (v := nI 0) dX4_out_36 (by decide) ?_
      exact j_iret C E rfl (Nat.le_refl _) (⟨_, rfl, _, rfl, QRY_er c24 eM1 hRel⟩) dX4_out_37
    · intro c24
      have hc := c24
      have hS := hRel.2 c24.2
      have hVm := hV c24.2
      have hI := hVm.inv
      have hne := hVm.ne
      have hSA : SA (M1.2 16) (mNow (dM Q)) := by rw [eM1]; exact hS.2.2.2.2.2.2.1
      obtain ⟨ni, rfl, hni0, hni9⟩ := inI_n (by decide) (by decide) c24.1.1
      have iNni : iN (nI ni) = ni := iN_nI (by omega)
      refine j_aload_n C dX4_out_27 0 rfl rfl ?_
      refine j_iload_n C dX4_out_28 1 rfl rfl ?_
      refine j_iload_n C dX4_out_29 2 rfl rfl ?_
      refine jm_callQ C hO (as := [.int (nI ni), .int p]) (mc_outAt G M1 (mNow (dM Q)) ni p hSA (by omega) hc.1.2) mw_outAt (by decide) (Nat.le_refl _) rfl (Nat.le_of_ble_eq_true rfl) dX4_out_30 ?_
      refine j_goto C (tgt := 37) dX4_out_33 (by decide) ?_
      exact j_iret C E rfl (Nat.le_refl _) (⟨_, rfl, _, rfl, QRY_ok hc eM1 hRel (by rw [iNni])⟩) dX4_out_37
  refine j_ifp_eq C (tgt := 17) dX4_out_6 (by decide) ?_ ?_
  · intro c6
    refine j_iconst C (v := nI 0) dX4_out_17 (by decide) ?_
    refine J.sub (L' := [(0, .ref o), (1, .int i), (2, .int p)]) ?_ [0, 1, 2] rfl
    refine j_ev (v' := pI (inI i 0 1 ∧ ¬ p < 0)) (by rw [pI_f (by grind)]; rfl) ?_
    exact join18
  · intro c6
    refine j_iload_n C dX4_out_9 2 rfl rfl ?_
    refine j_if_lt C (tgt := 17) dX4_out_10 (by decide) ?_ ?_
    · intro c10
      refine j_iconst C (v := nI 0) dX4_out_17 (by decide) ?_
      refine J.sub (L' := [(0, .ref o), (1, .int i), (2, .int p)]) ?_ [0, 1, 2] rfl
      refine j_ev (v' := pI (inI i 0 1 ∧ ¬ p < 0)) (by rw [pI_f (by grind)]; rfl) ?_
      exact join18
    · intro c10
      refine j_iconst C (v := nI 1) dX4_out_13 (by decide) ?_
      refine j_goto C (tgt := 18) dX4_out_14 (by decide) ?_
      refine J.sub (L' := [(0, .ref o), (1, .int i), (2, .int p)]) ?_ [0, 1, 2] rfl
      refine j_ev (v' := pI (inI i 0 1 ∧ ¬ p < 0)) (by rw [pI_t (by grind)]; rfl) ?_
      exact join18

set_option maxHeartbeats 4000000 in
theorem mc_next {g : jG} (G : jOK g) (M : jM) (Q : Option Mt) (i : Int32) (hRel : RelM M Q) (hV : VQ Q)  : MTR g 2 yX4_next [.int i] M (fun v M' => OUT M M' v (opNext Q i)) := by
  intro h o ad hO
  refine CT.of (bytes := cX4_next) (maxL := 2) (ret := (some .int)) G q2250 (by decide) (by decide +kernel) (Nat.le_of_ble_eq_true rfl) ?_
  intro z C E hT hnm hnl
  have C : jC (g, z) cX4_next RX4 2 0 := C
  show J (g, z) (mput g h o ad M) 0 0 [(0, .ref o), (1, .int i)] []
  refine j_aload_n C dX4_next_0 0 rfl rfl ?_
  refine j_aload_n C dX4_next_1 0 rfl rfl ?_
  refine j_iload_n C dX4_next_2 1 rfl rfl ?_
  refine j_callSQ C (as := [.int i]) (mi_isSide G i) mw_isSide (by decide) (Nat.le_refl _) rfl (Nat.le_of_ble_eq_true rfl) dX4_next_3 ?_
  refine jm_callQ C hO (as := [.int (pI (inI i 0 1))]) (mc_errorOfMatch G M Q (inI i 0 1) hRel) mw_errorOfMatch (by decide) (Nat.le_refl _) rfl (Nat.le_of_ble_eq_true rfl) dX4_next_6 ?_
  refine jm_callR C hO (as := [.int (nI (errN (inI i 0 1) (isM Q)))]) (mc_holds G M (nI (errN (inI i 0 1) (isM Q)))) mw_holds (by decide) (Nat.le_refl _) rfl (Nat.le_of_ble_eq_true rfl) dX4_next_9 (fun r2 M1 hM1 => ?_)
  refine j_ev (v' := pI ((inI i 0 1) ∧ isM Q)) (by rw [hM1.1]; exact pI_c errN_0) ?_
  have eM1 := hM1.2
  refine j_ifp_eq C (tgt := 24) dX4_next_12 (by decide) ?_ ?_
  · intro c12
    refine j_iconst C (v := nI 0) dX4_next_24 (by decide) ?_
    exact j_iret C E rfl (Nat.le_refl _) (⟨_, rfl, _, rfl, QRY_er c12 eM1 hRel⟩) dX4_next_25
  · intro c12
    have hc := c12
    have hS := hRel.2 c12.2
    have hVm := hV c12.2
    have hI := hVm.inv
    have hne := hVm.ne
    have hSA : SA (M1.2 16) (mNow (dM Q)) := by rw [eM1]; exact hS.2.2.2.2.2.2.1
    obtain ⟨ni, rfl, hni0, hni9⟩ := inI_n (by decide) (by decide) c12.1
    have iNni : iN (nI ni) = ni := iN_nI (by omega)
    refine j_aload_n C dX4_next_15 0 rfl rfl ?_
    refine j_iload_n C dX4_next_16 1 rfl rfl ?_
    refine j_iconst C (v := nI 0) dX4_next_17 (by decide) ?_
    refine jm_callQ C hO (as := [.int (nI ni), .int (nI 0)]) (mc_outAt G M1 (mNow (dM Q)) ni (nI 0) hSA (by omega) (by decide)) mw_outAt (by decide) (Nat.le_refl _) rfl (Nat.le_of_ble_eq_true rfl) dX4_next_18 ?_
    refine j_goto C (tgt := 25) dX4_next_21 (by decide) ?_
    exact j_iret C E rfl (Nat.le_refl _) (⟨_, rfl, _, rfl, QRY_ok hc eM1 hRel (by rw [iNni])⟩) dX4_next_25

set_option maxHeartbeats 4000000 in
theorem mc_points {g : jG} (G : jOK g) (M : jM) (Q : Option Mt) (i : Int32) (hRel : RelM M Q) (hV : VQ Q)  : MTR g 2 yX4_points [.int i] M (fun v M' => OUT M M' v (opPoints Q i)) := by
  intro h o ad hO
  refine CT.of (bytes := cX4_points) (maxL := 2) (ret := (some .int)) G q2254 (by decide) (by decide +kernel) (Nat.le_of_ble_eq_true rfl) ?_
  intro z C E hT hnm hnl
  have C : jC (g, z) cX4_points RX4 2 0 := C
  show J (g, z) (mput g h o ad M) 0 0 [(0, .ref o), (1, .int i)] []
  refine j_aload_n C dX4_points_0 0 rfl rfl ?_
  refine j_aload_n C dX4_points_1 0 rfl rfl ?_
  refine j_iload_n C dX4_points_2 1 rfl rfl ?_
  refine j_callSQ C (as := [.int i]) (mi_isSide G i) mw_isSide (by decide) (Nat.le_refl _) rfl (Nat.le_of_ble_eq_true rfl) dX4_points_3 ?_
  refine jm_callQ C hO (as := [.int (pI (inI i 0 1))]) (mc_errorOfMatch G M Q (inI i 0 1) hRel) mw_errorOfMatch (by decide) (Nat.le_refl _) rfl (Nat.le_of_ble_eq_true rfl) dX4_points_6 ?_
  refine jm_callR C hO (as := [.int (nI (errN (inI i 0 1) (isM Q)))]) (mc_holds G M (nI (errN (inI i 0 1) (isM Q)))) mw_holds (by decide) (Nat.le_refl _) rfl (Nat.le_of_ble_eq_true rfl) dX4_points_9 (fun r2 M1 hM1 => ?_)
  refine j_ev (v' := pI ((inI i 0 1) ∧ isM Q)) (by rw [hM1.1]; exact pI_c errN_0) ?_
  have eM1 := hM1.2
  refine j_ifp_eq C (tgt := 27) dX4_points_12 (by decide) ?_ ?_
  · intro c12
    refine j_iconst C (v := nI 0) dX4_points_27 (by decide) ?_
    exact j_iret C E rfl (Nat.le_refl _) (⟨_, rfl, _, rfl, QRY_er c12 eM1 hRel⟩) dX4_points_28
  · intro c12
    have hc := c12
    have hS := hRel.2 c12.2
    have hVm := hV c12.2
    have hI := hVm.inv
    have hne := hVm.ne
    have hSA : SA (M1.2 16) (mNow (dM Q)) := by rw [eM1]; exact hS.2.2.2.2.2.2.1
    obtain ⟨ni, rfl, hni0, hni9⟩ := inI_n (by decide) (by decide) c12.1
    have iNni : iN (nI ni) = ni := iN_nI (by omega)
    refine j_aload_n C dX4_points_15 0 rfl rfl ?_
    refine jm_get16 C dX4_points_16 ?_
    refine j_bipush C (v := nI 104) dX4_points_19 (by decide) ?_
    refine j_iload_n C dX4_points_21 1 rfl rfl ?_
    refine j_iaddn C dX4_points_22 ?_
    refine jm_ald16 C hO (by omega) dX4_points_23 ?_
    refine j_ev (v' := nI ((mNow (dM Q)).1 4 ni 0)) (hSA.po (by omega) rfl) ?_
    refine j_goto C (tgt := 28) dX4_points_24 (by decide) ?_
    exact j_iret C E rfl (Nat.le_refl _) (⟨_, rfl, _, rfl, QRY_ok hc eM1 hRel (by rw [iNni])⟩) dX4_points_28

set_option maxHeartbeats 4000000 in
theorem mc_hasReview {g : jG} (G : jOK g) (M : jM) (Q : Option Mt) (i : Int32) (hRel : RelM M Q) (hV : VQ Q)  : MTR g 2 yX4_hasReview [.int i] M (fun v M' => OUT M M' v (opHasReview Q i)) := by
  intro h o ad hO
  refine CT.of (bytes := cX4_hasReview) (maxL := 2) (ret := (some .boolean)) G q2262 (by decide) (by decide +kernel) (Nat.le_of_ble_eq_true rfl) ?_
  intro z C E hT hnm hnl
  have C : jC (g, z) cX4_hasReview RX4 2 0 := C
  show J (g, z) (mput g h o ad M) 0 0 [(0, .ref o), (1, .int i)] []
  refine j_aload_n C dX4_hasReview_0 0 rfl rfl ?_
  refine j_aload_n C dX4_hasReview_1 0 rfl rfl ?_
  refine j_iload_n C dX4_hasReview_2 1 rfl rfl ?_
  refine j_callSQ C (as := [.int i]) (mi_isSide G i) mw_isSide (by decide) (Nat.le_refl _) rfl (Nat.le_of_ble_eq_true rfl) dX4_hasReview_3 ?_
  refine jm_callQ C hO (as := [.int (pI (inI i 0 1))]) (mc_errorOfMatch G M Q (inI i 0 1) hRel) mw_errorOfMatch (by decide) (Nat.le_refl _) rfl (Nat.le_of_ble_eq_true rfl) dX4_hasReview_6 ?_
  refine jm_callR C hO (as := [.int (nI (errN (inI i 0 1) (isM Q)))]) (mc_holds G M (nI (errN (inI i 0 1) (isM Q)))) mw_holds (by decide) (Nat.le_refl _) rfl (Nat.le_of_ble_eq_true rfl) dX4_hasReview_9 (fun r2 M1 hM1 => ?_)
  refine j_ev (v' := pI ((inI i 0 1) ∧ isM Q)) (by rw [hM1.1]; exact pI_c errN_0) ?_
  have eM1 := hM1.2
  refine j_ifp_eq C (tgt := 28) dX4_hasReview_12 (by decide) ?_ ?_
  · intro c12
    refine j_iconst C (v := nI 0) dX4_hasReview_28 (by decide) ?_
    exact j_iret C E (by decide) (Nat.le_refl _) (⟨_, rfl, _, rfl, QRY_er c12 eM1 hRel⟩) dX4_hasReview_29
  · intro c12
    have hc := c12
    have hS := hRel.2 c12.2
    have hVm := hV c12.2
    have hI := hVm.inv
    have hne := hVm.ne
    have hSA : SA (M1.2 16) (mNow (dM Q)) := by rw [eM1]; exact hS.2.2.2.2.2.2.1
    obtain ⟨ni, rfl, hni0, hni9⟩ := inI_n (by decide) (by decide) c12.1
    have iNni : iN (nI ni) = ni := iN_nI (by omega)
    refine j_aload_n C dX4_hasReview_15 0 rfl rfl ?_
    refine jm_get6 C dX4_hasReview_16 ?_
    refine j_iload_n C dX4_hasReview_19 1 rfl rfl ?_
    refine jm_ald6 C hO (by omega) dX4_hasReview_20 ?_
    refine j_ev (v' := pI (mX (dM Q) ni)) (by rw [eM1]; exact hS.2.2.1 ni (by omega)) ?_
    refine j_ifp_ne C (tgt := 28) dX4_hasReview_21 (by decide) ?_ ?_
    · intro c21
      refine j_iconst C (v := nI 0) dX4_hasReview_28 (by decide) ?_
      exact j_iret C E (by decide) (Nat.le_refl _) (⟨_, rfl, _, rfl, QRY_ok hc eM1 hRel (by rw [iNni]; exact pI_0f (not_not_intro c21))⟩) dX4_hasReview_29
    · intro c21
      refine j_iconst C (v := nI 1) dX4_hasReview_24 (by decide) ?_
      refine j_goto C (tgt := 29) dX4_hasReview_25 (by decide) ?_
      exact j_iret C E (by decide) (Nat.le_refl _) (⟨_, rfl, _, rfl, QRY_ok hc eM1 hRel (by rw [iNni]; exact pI_1t c21)⟩) dX4_hasReview_29

set_option maxHeartbeats 4000000 in
theorem mc_match {g : jG} (G : jOK g) (M : jM) (Q : Option Mt) (w : Int32) (hRel : RelM M Q) (hV : VQ Q)  : MTR g 2 yX4_match [.int w] M (fun v M' => OUT M M' v (opMatch Q w)) := by
  intro h o ad hO
  refine CT.of (bytes := cX4_match) (maxL := 2) (ret := (some .int)) G q2258 (by decide) (by decide +kernel) (Nat.le_of_ble_eq_true rfl) ?_
  intro z C E hT hnm hnl
  have C : jC (g, z) cX4_match RX4 2 0 := C
  show J (g, z) (mput g h o ad M) 0 0 [(0, .ref o), (1, .int w)] []
  refine j_aload_n C dX4_match_0 0 rfl rfl ?_
  refine j_aload_n C dX4_match_1 0 rfl rfl ?_
  refine j_iload_n C dX4_match_2 1 rfl rfl ?_
  refine j_iconst C (v := nI 0) dX4_match_3 (by decide) ?_
  refine j_bipush C (v := nI 7) dX4_match_4 (by decide) ?_
  refine j_callSQ C (as := [.int w, .int (nI 0), .int (nI 7)]) (mi_in G w 0 7) mw_in (by decide) (Nat.le_refl _) rfl (Nat.le_of_ble_eq_true rfl) dX4_match_6 ?_
  refine jm_callQ C hO (as := [.int (pI (inI w 0 7))]) (mc_errorOfMatch G M Q (inI w 0 7) hRel) mw_errorOfMatch (by decide) (Nat.le_refl _) rfl (Nat.le_of_ble_eq_true rfl) dX4_match_9 ?_
  refine jm_callR C hO (as := [.int (nI (errN (inI w 0 7) (isM Q)))]) (mc_holds G M (nI (errN (inI w 0 7) (isM Q)))) mw_holds (by decide) (Nat.le_refl _) rfl (Nat.le_of_ble_eq_true rfl) dX4_match_12 (fun r2 M1 hM1 => ?_)
  refine j_ev (v' := pI ((inI w 0 7) ∧ isM Q)) (by rw [hM1.1]; exact pI_c errN_0) ?_
  have eM1 := hM1.2
  refine j_ifp_ne C (tgt := 20) dX4_match_15 (by decide) ?_ ?_
  · intro c15
    have hc := c15
    have hS := hRel.2 c15.2
    have hVm := hV c15.2
    have hI := hVm.inv
    have hne := hVm.ne
    have hSA : SA (M1.2 16) (mNow (dM Q)) := by rw [eM1]; exact hS.2.2.2.2.2.2.1
    obtain ⟨nw, rfl, hnw0, hnw9⟩ := inI_n (by decide) (by decide) c15.1
    have iNnw : iN (nI nw) = nw := iN_nI (by omega)
    refine j_iload_n C dX4_match_20 1 rfl rfl ?_
    by_cases s0 : nw = 0
    · refine j_tableIn C (off := 39) (tgt := 60) dX4_match_21 (by rw [nI_toInt (by omega)]; omega) (by rw [nI_toInt (by omega)]; omega) (by rw [nI_toInt (by omega), s0]; rfl) (by decide) ?_
      refine j_aload_n C dX4_match_60 0 rfl rfl ?_
      refine jm_get16 C dX4_match_61 ?_
      refine j_bipush C (v := nI 108) dX4_match_64 (by decide) ?_
      refine jm_ald16 C hO (by omega) dX4_match_66 ?_
      refine j_ev (v' := nI ((mNow (dM Q)).1 7 0 0)) hSA.ti ?_
      exact j_iret C E rfl (Nat.le_refl _) (⟨_, rfl, _, rfl, QRY_ok hc eM1 hRel (by rw [iNnw]; unfold matchV; rw [iF_t s0])⟩) dX4_match_67
    by_cases s1 : nw = 1
    · refine j_tableIn C (off := 47) (tgt := 68) dX4_match_21 (by rw [nI_toInt (by omega)]; omega) (by rw [nI_toInt (by omega)]; omega) (by rw [nI_toInt (by omega), s1]; rfl) (by decide) ?_
      refine j_aload_n C dX4_match_68 0 rfl rfl ?_
      refine jm_callQ C hO (as := []) (mc_turn G M1 (mNow (dM Q)) hSA (by have := hI.2.2 8 0 0; omega)) mw_turn (by decide) (Nat.le_refl _) rfl (Nat.le_of_ble_eq_true rfl) dX4_match_69 ?_
      exact j_iret C E rfl (Nat.le_refl _) (⟨_, rfl, _, rfl, QRY_ok hc eM1 hRel (by rw [iNnw]; unfold matchV; rw [iF_f (show ¬ nw = 0 by omega), iF_t s1])⟩) dX4_match_72
    by_cases s2 : nw = 2
    · refine j_tableIn C (off := 52) (tgt := 73) dX4_match_21 (by rw [nI_toInt (by omega)]; omega) (by rw [nI_toInt (by omega)]; omega) (by rw [nI_toInt (by omega), s2]; rfl) (by decide) ?_
      refine j_aload_n C dX4_match_73 0 rfl rfl ?_
      refine jm_get7 C dX4_match_74 ?_
      refine j_ev (v' := nI (nAll (dM Q))) (by rw [eM1, mSF_ne (by decide)]; exact hS.2.2.2.1) ?_
      exact j_iret C E rfl (Nat.le_refl _) (⟨_, rfl, _, rfl, QRY_ok hc eM1 hRel (by rw [iNnw]; unfold matchV; rw [iF_f (show ¬ nw = 0 by omega), iF_f (show ¬ nw = 1 by omega), iF_t s2])⟩) dX4_match_77
    by_cases s3 : nw = 3
    · refine j_tableIn C (off := 57) (tgt := 78) dX4_match_21 (by rw [nI_toInt (by omega)]; omega) (by rw [nI_toInt (by omega)]; omega) (by rw [nI_toInt (by omega), s3]; rfl) (by decide) ?_
      refine j_aload_n C dX4_match_78 0 rfl rfl ?_
      refine jm_get3 C dX4_match_79 ?_
      refine j_ev (v' := pI (isR (dM Q))) (by rw [eM1, mSF_ne (by decide)]; exact hS.2.2.2.2.1) ?_
      refine j_ifp_eq C (tgt := 89) dX4_match_82 (by decide) ?_ ?_
      · intro c82
        refine j_iconst C (v := nI 0) dX4_match_89 (by decide) ?_
        exact j_iret C E rfl (Nat.le_refl _) (⟨_, rfl, _, rfl, QRY_ok hc eM1 hRel (by rw [iNnw]; unfold matchV; rw [iF_f (show ¬ nw = 0 by omega), iF_f (show ¬ nw = 1 by omega), iF_f (show ¬ nw = 2 by omega), iF_t s3]; exact pI_0f c82)⟩) dX4_match_90
      · intro c82
        refine j_iconst C (v := nI 1) dX4_match_85 (by decide) ?_
        refine j_goto C (tgt := 90) dX4_match_86 (by decide) ?_
        exact j_iret C E rfl (Nat.le_refl _) (⟨_, rfl, _, rfl, QRY_ok hc eM1 hRel (by rw [iNnw]; unfold matchV; rw [iF_f (show ¬ nw = 0 by omega), iF_f (show ¬ nw = 1 by omega), iF_f (show ¬ nw = 2 by omega), iF_t s3]; exact pI_1t c82)⟩) dX4_match_90
    by_cases s4 : nw = 4
    · refine j_tableIn C (off := 70) (tgt := 91) dX4_match_21 (by rw [nI_toInt (by omega)]; omega) (by rw [nI_toInt (by omega)]; omega) (by rw [nI_toInt (by omega), s4]; rfl) (by decide) ?_
      refine j_aload_n C dX4_match_91 0 rfl rfl ?_
      refine jm_get16 C dX4_match_92 ?_
      refine j_bipush C (v := nI 106) dX4_match_95 (by decide) ?_
      refine j_aload_n C dX4_match_97 0 rfl rfl ?_
      refine jm_callQ C hO (as := []) (mc_turn G M1 (mNow (dM Q)) hSA (by have := hI.2.2 8 0 0; omega)) mw_turn (by decide) (Nat.le_refl _) rfl (Nat.le_of_ble_eq_true rfl) dX4_match_98 ?_
      refine j_iaddn C dX4_match_101 ?_
      refine jm_ald16 C hO (by have : turn (mNow (dM Q)) < 2 := Nat.mod_lt _ (by decide); omega) dX4_match_102 ?_
      refine j_ev (v' := nI ((mNow (dM Q)).1 5 (turn (mNow (dM Q))) 0)) (hSA.em (i := turn (mNow (dM Q))) (Nat.mod_lt _ (by decide)) rfl) ?_
      refine j_iconst C (v := nI 2) dX4_match_103 (by decide) ?_
      refine j_icn_ne C (by have := hI.2.2 5 (turn (mNow (dM Q))) 0; omega) (by decide) (tgt := 111) dX4_match_104 (by decide) ?_ ?_
      · intro c104
        refine j_iconst C (v := nI 0) dX4_match_111 (by decide) ?_
        exact j_iret C E rfl (Nat.le_refl _) (⟨_, rfl, _, rfl, QRY_ok hc eM1 hRel (by rw [iNnw]; unfold matchV; rw [iF_f (show ¬ nw = 0 by omega), iF_f (show ¬ nw = 1 by omega), iF_f (show ¬ nw = 2 by omega), iF_f (show ¬ nw = 3 by omega), iF_t s4]; exact pI_0f c104)⟩) dX4_match_112
      · intro c104
        refine j_iconst C (v := nI 1) dX4_match_107 (by decide) ?_
        refine j_goto C (tgt := 112) dX4_match_108 (by decide) ?_
        exact j_iret C E rfl (Nat.le_refl _) (⟨_, rfl, _, rfl, QRY_ok hc eM1 hRel (by rw [iNnw]; unfold matchV; rw [iF_f (show ¬ nw = 0 by omega), iF_f (show ¬ nw = 1 by omega), iF_f (show ¬ nw = 2 by omega), iF_f (show ¬ nw = 3 by omega), iF_t s4]; exact pI_1t c104)⟩) dX4_match_112
    by_cases s5 : nw = 5
    · refine j_tableIn C (off := 92) (tgt := 113) dX4_match_21 (by rw [nI_toInt (by omega)]; omega) (by rw [nI_toInt (by omega)]; omega) (by rw [nI_toInt (by omega), s5]; rfl) (by decide) ?_
      refine j_aload_n C dX4_match_113 0 rfl rfl ?_
      refine jm_get3 C dX4_match_114 ?_
      refine j_ev (v' := pI (isR (dM Q))) (by rw [eM1, mSF_ne (by decide)]; exact hS.2.2.2.2.1) ?_
      refine j_ifp_ne C (tgt := 138) dX4_match_117 (by decide) ?_ ?_
      · intro c117
        refine j_iconst C (v := nI 0) dX4_match_138 (by decide) ?_
        exact j_iret C E rfl (Nat.le_refl _) (⟨_, rfl, _, rfl, QRY_ok hc eM1 hRel (by rw [iNnw]; unfold matchV; rw [iF_f (show ¬ nw = 0 by omega), iF_f (show ¬ nw = 1 by omega), iF_f (show ¬ nw = 2 by omega), iF_f (show ¬ nw = 3 by omega), iF_f (show ¬ nw = 4 by omega), iF_t s5]; exact pI_0f (fun z => z.1 c117))⟩) dX4_match_139
      · intro c117
        refine j_aload_n C dX4_match_120 0 rfl rfl ?_
        refine jm_get16 C dX4_match_121 ?_
        refine j_bipush C (v := nI 108) dX4_match_124 (by decide) ?_
        refine jm_ald16 C hO (by omega) dX4_match_126 ?_
        refine j_ev (v' := nI ((mNow (dM Q)).1 7 0 0)) hSA.ti ?_
        refine j_aload_n C dX4_match_127 0 rfl rfl ?_
        refine jm_get5 C dX4_match_128 ?_
        refine j_ev (v' := nI (mL (dM Q))) (by rw [eM1, mSF_ne (by decide)]; exact hS.2.1) ?_
        refine j_icn_lt C (by have := hI.2.2 7 0 0; have := hVm.2.1; omega) (by have := hI.2.2 7 0 0; have := hVm.2.1; omega) (tgt := 138) dX4_match_131 (by decide) ?_ ?_
        · intro c131
          refine j_iconst C (v := nI 0) dX4_match_138 (by decide) ?_
          exact j_iret C E rfl (Nat.le_refl _) (⟨_, rfl, _, rfl, QRY_ok hc eM1 hRel (by rw [iNnw]; unfold matchV; rw [iF_f (show ¬ nw = 0 by omega), iF_f (show ¬ nw = 1 by omega), iF_f (show ¬ nw = 2 by omega), iF_f (show ¬ nw = 3 by omega), iF_f (show ¬ nw = 4 by omega), iF_t s5]; exact pI_0f (fun z => by have := z.2; omega))⟩) dX4_match_139
        · intro c131
          refine j_iconst C (v := nI 1) dX4_match_134 (by decide) ?_
          refine j_goto C (tgt := 139) dX4_match_135 (by decide) ?_
          exact j_iret C E rfl (Nat.le_refl _) (⟨_, rfl, _, rfl, QRY_ok hc eM1 hRel (by rw [iNnw]; unfold matchV; rw [iF_f (show ¬ nw = 0 by omega), iF_f (show ¬ nw = 1 by omega), iF_f (show ¬ nw = 2 by omega), iF_f (show ¬ nw = 3 by omega), iF_f (show ¬ nw = 4 by omega), iF_t s5]; exact pI_1t ⟨c117, by omega⟩)⟩) dX4_match_139
    refine j_tableOut C (tgt := 140) dX4_match_21 (by rw [nI_toInt (by omega)]; omega) (by decide) ?_
    refine j_aload_n C dX4_match_140 0 rfl rfl ?_
    refine jm_get4 C dX4_match_141 ?_
    refine j_iload_n C dX4_match_144 1 rfl rfl ?_
    refine j_bipush C (v := nI 6) dX4_match_145 (by decide) ?_
    refine j_isubn C (by omega) dX4_match_147 ?_
    refine jm_ald4 C hO (by omega) dX4_match_148 ?_
    refine j_ev (v' := nI (mC (dM Q) (nw - 6))) (by rw [eM1]; exact hS.1 (nw - 6) (by omega)) ?_
    exact j_iret C E rfl (Nat.le_refl _) (⟨_, rfl, _, rfl, QRY_ok hc eM1 hRel (by rw [iNnw]; unfold matchV; rw [iF_f (show ¬ nw = 0 by omega), iF_f (show ¬ nw = 1 by omega), iF_f (show ¬ nw = 2 by omega), iF_f (show ¬ nw = 3 by omega), iF_f (show ¬ nw = 4 by omega), iF_f (show ¬ nw = 5 by omega)])⟩) dX4_match_149
  · intro c15
    refine j_iconst C (v := nI 0) dX4_match_18 (by decide) ?_
    exact j_iret C E rfl (Nat.le_refl _) (⟨_, rfl, _, rfl, QRY_er c15 eM1 hRel⟩) dX4_match_19

set_option maxHeartbeats 4000000 in
theorem mc_hasEnded {g : jG} (G : jOK g) (M : jM) (Q : Option Mt) (e i : Int32) (hRel : RelM M Q) (hV : VQ Q)  : MTQ g 2 yX4_hasEnded [.int e, .int i] M (pI (endAt Q e i)) := by
  intro h o ad hO
  refine CT.of (bytes := cX4_hasEnded) (maxL := 3) (ret := (some .boolean)) G q2270 (by decide) (by decide +kernel) (Nat.le_of_ble_eq_true rfl) ?_
  intro z C E hT hnm hnl
  have C : jC (g, z) cX4_hasEnded RX4 2 0 := C
  show J (g, z) (mput g h o ad M) 0 0 [(0, .ref o), (1, .int e), (2, .int i)] []
  refine j_aload_n C dX4_hasEnded_0 0 rfl rfl ?_
  refine jm_get2 C dX4_hasEnded_1 ?_
  refine j_ev (v' := pI (isM Q)) hRel.1 ?_
  refine j_ifp_eq C (tgt := 32) dX4_hasEnded_4 (by decide) ?_ ?_
  · intro c4
    refine j_iconst C (v := nI 0) dX4_hasEnded_32 (by decide) ?_
    exact j_iret C E (by decide) (Nat.le_refl _) (⟨_, rfl, rz0 (by unfold endAt; grind), rfl⟩) dX4_hasEnded_33
  · intro c4
    refine j_iload_n C dX4_hasEnded_7 1 rfl rfl ?_
    refine j_iconst C (v := nI 0) dX4_hasEnded_8 (by decide) ?_
    refine j_aload_n C dX4_hasEnded_9 0 rfl rfl ?_
    refine jm_callQ C hO (as := []) (mc_ended G M (nAll (dM Q)) (isR (dM Q)) (hRel.2 c4).2.2.2.1 (hRel.2 c4).2.2.2.2.1 (fun z => by rw [nAll_r z]; omega)) mw_ended (by decide) (Nat.le_refl _) rfl (Nat.le_of_ble_eq_true rfl) dX4_hasEnded_10 ?_
    refine j_ev (v' := (nI (nE (dM Q)))) (by rw [ended_e]) ?_
    refine j_iconst C (v := nI 1) dX4_hasEnded_13 (by decide) ?_
    refine j_isub C dX4_hasEnded_14 ?_
    refine j_callSQ C (as := [.int e, .int (nI 0), .int ((nI (nE (dM Q))) - (nI 1))]) (mc_in G e (nI 0) (nI (nE (dM Q)) - nI 1)) mw_in (by decide) (Nat.le_refl _) rfl (Nat.le_of_ble_eq_true rfl) dX4_hasEnded_15 ?_
    refine j_ev (v' := pI (idx e (nE (dM Q)))) (pI_c (idx_c (by have := (hV c4).ne; omega))) ?_
    refine j_ifp_eq C (tgt := 32) dX4_hasEnded_18 (by decide) ?_ ?_
    · intro c18
      refine j_iconst C (v := nI 0) dX4_hasEnded_32 (by decide) ?_
      exact j_iret C E (by decide) (Nat.le_refl _) (⟨_, rfl, rz0 (by unfold endAt; grind), rfl⟩) dX4_hasEnded_33
    · intro c18
      refine j_iload_n C dX4_hasEnded_21 2 rfl rfl ?_
      refine j_callSQ C (as := [.int i]) (mi_isSide G i) mw_isSide (by decide) (Nat.le_refl _) rfl (Nat.le_of_ble_eq_true rfl) dX4_hasEnded_22 ?_
      refine j_ifp_eq C (tgt := 32) dX4_hasEnded_25 (by decide) ?_ ?_
      · intro c25
        refine j_iconst C (v := nI 0) dX4_hasEnded_32 (by decide) ?_
        exact j_iret C E (by decide) (Nat.le_refl _) (⟨_, rfl, rz0 (by unfold endAt; grind), rfl⟩) dX4_hasEnded_33
      · intro c25
        refine j_iconst C (v := nI 1) dX4_hasEnded_28 (by decide) ?_
        refine j_goto C (tgt := 33) dX4_hasEnded_29 (by decide) ?_
        exact j_iret C E (by decide) (Nat.le_refl _) (⟨_, rfl, rz1 (by unfold endAt; grind), rfl⟩) dX4_hasEnded_33

set_option maxHeartbeats 4000000 in
theorem mc_matAfter {g : jG} (G : jOK g) (M : jM) (Q : Option Mt) (e i : Int32) (hRel : RelM M Q) (hV : VQ Q)  : MTR g 3 yX4_matAfter [.int e, .int i] M (fun v M' => OUT M M' v (opMatAfter Q e i)) := by
  intro h o ad hO
  refine CT.of (bytes := cX4_matAfter) (maxL := 3) (ret := (some .int)) G q2266 (by decide) (by decide +kernel) (Nat.le_of_ble_eq_true rfl) ?_
  intro z C E hT hnm hnl
  have C : jC (g, z) cX4_matAfter RX4 3 0 := C
  show J (g, z) (mput g h o ad M) 0 0 [(0, .ref o), (1, .int e), (2, .int i)] []
  refine j_aload_n C dX4_matAfter_0 0 rfl rfl ?_
  refine j_aload_n C dX4_matAfter_1 0 rfl rfl ?_
  refine j_iload_n C dX4_matAfter_2 1 rfl rfl ?_
  refine j_iload_n C dX4_matAfter_3 2 rfl rfl ?_
  refine jm_callQ C hO (as := [.int e, .int i]) (mc_hasEnded G M Q e i hRel hV) mw_hasEnded (by decide) (Nat.le_refl _) rfl (Nat.le_of_ble_eq_true rfl) dX4_matAfter_4 ?_
  refine j_ifp_eq C (tgt := 14) dX4_matAfter_7 (by decide) ?_ ?_
  · intro c7
    refine j_iconst C (v := nI 1) dX4_matAfter_14 (by decide) ?_
    refine jm_callR C hO (as := [.int (nI 1)]) (mc_holds G M (nI 1)) mw_holds (by decide) (Nat.le_refl _) rfl (Nat.le_of_ble_eq_true rfl) dX4_matAfter_15 (fun r2 M1 hM1 => ?_)
    refine j_ev (v' := nI 0) (by rw [hM1.1, pI_f (by decide)]; rfl) ?_
    have eM1 := hM1.2
    refine j_ifn_eq C (by decide) (tgt := 34) dX4_matAfter_18 (by decide) ?_ ?_
    · intro c18
      refine j_iconst C (v := nI 0) dX4_matAfter_34 (by decide) ?_
      exact j_iret C E rfl (Nat.le_refl _) (⟨_, rfl, _, rfl, OUT.er (by decide) eM1 hRel (by unfold opMatAfter; rw [iF_f c7])⟩) dX4_matAfter_35
    · intro c18
      omega
  · intro c7
    have hc := c7
    obtain ⟨hm, hix, hi⟩ := c7
    obtain ⟨en, rfl, hen⟩ := idx_n hix
    have hVm := hV hm
    have hne := hVm.ne
    have hS := hRel.2 hm
    have iNen : iN (nI en) = en := iN_nI (by omega)
    obtain ⟨ni, rfl, hni0, hni9⟩ := inI_n (by decide) (by decide) hi
    have iNni : iN (nI ni) = ni := iN_nI (by omega)
    refine j_iconst C (v := nI 0) dX4_matAfter_10 (by decide) ?_
    refine j_goto C (tgt := 15) dX4_matAfter_11 (by decide) ?_
    refine jm_callR C hO (as := [.int (nI 0)]) (mc_holds G M (nI 0)) mw_holds (by decide) (Nat.le_refl _) rfl (Nat.le_of_ble_eq_true rfl) dX4_matAfter_15 (fun r4 M3 hM3 => ?_)
    refine j_ev (v' := nI 1) (by rw [hM3.1, pI_t (by decide)]; rfl) ?_
    have eM3 := hM3.2
    refine j_ifn_eq C (by decide) (tgt := 34) dX4_matAfter_18 (by decide) ?_ ?_
    · intro c18
      omega
    · intro c18
      refine j_aload_n C dX4_matAfter_21 0 rfl rfl ?_
      refine jm_get17 C dX4_matAfter_22 ?_
      refine j_iconst C (v := nI 2) dX4_matAfter_25 (by decide) ?_
      refine j_iload_n C dX4_matAfter_26 1 rfl rfl ?_
      refine j_imuln C dX4_matAfter_27 ?_
      refine j_iload_n C dX4_matAfter_28 2 rfl rfl ?_
      refine j_iaddn C dX4_matAfter_29 ?_
      refine jm_ald17 C hO (by omega) dX4_matAfter_30 ?_
      refine j_ev (v' := nI (onSet (mtAt ((mE (dM Q)).take (en + 1))) ni)) (by rw [eM3]; exact (hS.2.2.2.2.2.2.2.1 en hen ni (by omega)).1) ?_
      refine j_goto C (tgt := 35) dX4_matAfter_31 (by decide) ?_
      exact j_iret C E rfl (Nat.le_refl _) (⟨_, rfl, _, rfl, OUT.rd eM3 hRel (by unfold opMatAfter; rw [iF_t hc, iNen, iNni]) rfl⟩) dX4_matAfter_35

set_option maxHeartbeats 4000000 in
theorem mc_pointsAfter {g : jG} (G : jOK g) (M : jM) (Q : Option Mt) (e i : Int32) (hRel : RelM M Q) (hV : VQ Q)  : MTR g 3 yX4_pointsAfter [.int e, .int i] M (fun v M' => OUT M M' v (opPointsAfter Q e i)) := by
  intro h o ad hO
  refine CT.of (bytes := cX4_pointsAfter) (maxL := 3) (ret := (some .int)) G q2279 (by decide) (by decide +kernel) (Nat.le_of_ble_eq_true rfl) ?_
  intro z C E hT hnm hnl
  have C : jC (g, z) cX4_pointsAfter RX4 3 0 := C
  show J (g, z) (mput g h o ad M) 0 0 [(0, .ref o), (1, .int e), (2, .int i)] []
  refine j_aload_n C dX4_pointsAfter_0 0 rfl rfl ?_
  refine j_aload_n C dX4_pointsAfter_1 0 rfl rfl ?_
  refine j_iload_n C dX4_pointsAfter_2 1 rfl rfl ?_
  refine j_iload_n C dX4_pointsAfter_3 2 rfl rfl ?_
  refine jm_callQ C hO (as := [.int e, .int i]) (mc_hasEnded G M Q e i hRel hV) mw_hasEnded (by decide) (Nat.le_refl _) rfl (Nat.le_of_ble_eq_true rfl) dX4_pointsAfter_4 ?_
  refine j_ifp_eq C (tgt := 14) dX4_pointsAfter_7 (by decide) ?_ ?_
  · intro c7
    refine j_iconst C (v := nI 1) dX4_pointsAfter_14 (by decide) ?_
    refine jm_callR C hO (as := [.int (nI 1)]) (mc_holds G M (nI 1)) mw_holds (by decide) (Nat.le_refl _) rfl (Nat.le_of_ble_eq_true rfl) dX4_pointsAfter_15 (fun r2 M1 hM1 => ?_)
    refine j_ev (v' := nI 0) (by rw [hM1.1, pI_f (by decide)]; rfl) ?_
    have eM1 := hM1.2
    refine j_ifn_eq C (by decide) (tgt := 34) dX4_pointsAfter_18 (by decide) ?_ ?_
    · intro c18
      refine j_iconst C (v := nI 0) dX4_pointsAfter_34 (by decide) ?_
      exact j_iret C E rfl (Nat.le_refl _) (⟨_, rfl, _, rfl, OUT.er (by decide) eM1 hRel (by unfold opPointsAfter; rw [iF_f c7])⟩) dX4_pointsAfter_35
    · intro c18
      omega
  · intro c7
    have hc := c7
    obtain ⟨hm, hix, hi⟩ := c7
    obtain ⟨en, rfl, hen⟩ := idx_n hix
    have hVm := hV hm
    have hne := hVm.ne
    have hS := hRel.2 hm
    have iNen : iN (nI en) = en := iN_nI (by omega)
    obtain ⟨ni, rfl, hni0, hni9⟩ := inI_n (by decide) (by decide) hi
    have iNni : iN (nI ni) = ni := iN_nI (by omega)
    refine j_iconst C (v := nI 0) dX4_pointsAfter_10 (by decide) ?_
    refine j_goto C (tgt := 15) dX4_pointsAfter_11 (by decide) ?_
    refine jm_callR C hO (as := [.int (nI 0)]) (mc_holds G M (nI 0)) mw_holds (by decide) (Nat.le_refl _) rfl (Nat.le_of_ble_eq_true rfl) dX4_pointsAfter_15 (fun r4 M3 hM3 => ?_)
    refine j_ev (v' := nI 1) (by rw [hM3.1, pI_t (by decide)]; rfl) ?_
    have eM3 := hM3.2
    refine j_ifn_eq C (by decide) (tgt := 34) dX4_pointsAfter_18 (by decide) ?_ ?_
    · intro c18
      omega
    · intro c18
      refine j_aload_n C dX4_pointsAfter_21 0 rfl rfl ?_
      refine jm_get18 C dX4_pointsAfter_22 ?_
      refine j_iconst C (v := nI 2) dX4_pointsAfter_25 (by decide) ?_
      refine j_iload_n C dX4_pointsAfter_26 1 rfl rfl ?_
      refine j_imuln C dX4_pointsAfter_27 ?_
      refine j_iload_n C dX4_pointsAfter_28 2 rfl rfl ?_
      refine j_iaddn C dX4_pointsAfter_29 ?_
      refine jm_ald18 C hO (by omega) dX4_pointsAfter_30 ?_
      refine j_ev (v' := nI ((mtAt ((mE (dM Q)).take (en + 1))).1 4 ni 0)) (by rw [eM3]; exact (hS.2.2.2.2.2.2.2.1 en hen ni (by omega)).2) ?_
      refine j_goto C (tgt := 35) dX4_pointsAfter_31 (by decide) ?_
      exact j_iret C E rfl (Nat.le_refl _) (⟨_, rfl, _, rfl, OUT.rd eM3 hRel (by unfold opPointsAfter; rw [iF_t hc, iNen, iNni]) rfl⟩) dX4_pointsAfter_35

set_option maxHeartbeats 4000000 in
theorem mc_matAnew {g : jG} (G : jOK g) (M : jM) (Q : Option Mt) (e i : Int32) (hRel : RelM M Q) (hV : VQ Q)  : MTR g 4 yX4_matAnew [.int e, .int i] M (fun v M' => OUT M M' v (opMatAfter Q e i)) := by
  intro h o ad hO
  refine CT.of (bytes := cX4_matAnew) (maxL := 3) (ret := (some .int)) G q2274 (by decide) (by decide +kernel) (Nat.le_of_ble_eq_true rfl) ?_
  intro z C E hT hnm hnl
  have C : jC (g, z) cX4_matAnew RX4 4 0 := C
  show J (g, z) (mput g h o ad M) 0 0 [(0, .ref o), (1, .int e), (2, .int i)] []
  refine j_aload_n C dX4_matAnew_0 0 rfl rfl ?_
  refine j_iload_n C dX4_matAnew_1 1 rfl rfl ?_
  refine j_iload_n C dX4_matAnew_2 2 rfl rfl ?_
  refine jm_callR C hO (as := [.int e, .int i]) (mc_matAfter G M Q e i hRel hV) mw_matAfter (by decide) (Nat.le_refl _) rfl (Nat.le_of_ble_eq_true rfl) dX4_matAnew_3 (fun r2 M1 hM1 => ?_)
  exact j_iret C E rfl (Nat.le_refl _) (⟨_, rfl, _, rfl, hM1⟩) dX4_matAnew_6
