set_option maxRecDepth 100000
/-! ===== the auction, on the reference's own numbers ===== -/
def baseN (n : Nat) : Nat := if n % 3 = 0 then 50 else if n % 3 = 1 then 30 else 10
theorem mi_baseOf {g : jG} (G : jOK g) (n : Nat) (hn : n < 24) : STQ g 0 yX4_baseOf [.int (nI n)] (nI (baseN n)) := mc_baseOf G n hn
def VA (M : jM) : Prop := (M.1 33 = -1 ∨ ∃ l, l < 24 ∧ M.1 33 = nI l) ∧ (∀ l, l < 24 → M.2 32 l = -1 ∨ ∃ c, c < 8 ∧ M.2 32 l = nI c) ∧ (M.1 37 = nI 0 ∨ M.1 37 = nI 1) ∧ ((M.1 34 = nI 0 ∧ M.1 36 = -1) ∨ ∃ n b p, 0 < n ∧ M.1 34 = nI n ∧ b < 8 ∧ M.1 36 = nI b ∧ p ≤ 1000 ∧ M.1 35 = nI p ∧ 5 * n ≤ p + 5) ∧ (M.1 37 = nI 1 → ∃ l c, l < 24 ∧ M.1 33 = nI l ∧ c < 8 ∧ M.2 32 l = nI c ∧ M.1 34 ≠ nI 0)
abbrev AnsA : Type := Nat × Int32 × jM
/-- the same but for the place of what was thrown -/
def E0 (M M' : jM) : Prop := (∀ k, k ≠ 0 → M'.1 k = M.1 k) ∧ M'.2 = M.2
theorem E0.rf {M : jM} : E0 M M := ⟨fun _ _ => rfl, rfl⟩
theorem E0.h {M M' : jM} {v : Int32} (e : M' = mSF M 0 v) : E0 M M' := by rw [e]; exact ⟨fun k hk => mSF_ne hk, rfl⟩
theorem E0.F {M M' N N' : jM} {k : Nat} {v w : Int32} (e : M' = mSF M k v) (e' : N' = mSF N k w) (h : E0 M N) (hv : w = v) : E0 M' N' := by
  subst hv
  rw [e, e']
  refine ⟨fun j hj => ?_, h.2⟩
  by_cases hk : j = k
  · rw [hk, mSF_eq, mSF_eq]
  · rw [mSF_ne hk, mSF_ne hk]; exact h.1 j hj
theorem E0.A {M M' N N' : jM} {k i : Nat} {v w : Int32} (e : M' = mSA M k i v) (e' : N' = mSA N k i w) (h : E0 M N) (hv : w = v) : E0 M' N' := by
  subst hv
  rw [e, e']
  exact ⟨h.1, by show (fun j => if j = k then upd (N.2 j) i w else N.2 j) = _; rw [h.2]; rfl⟩
def OUTA (M' : jM) (v : Int32) (o : AnsA) : Prop := M'.1 0 = nI o.1 ∧ (o.1 = 0 → v = o.2.1) ∧ E0 o.2.2 M'
theorem OUTA.er {M M' : jM} {v : Int32} {o : AnsA} {k : Nat} (hk : k ≠ 0) (h : M' = mSF M 0 (nI k)) (ho : o = (k, 0, M)) : OUTA M' v o := by
  subst ho
  exact ⟨by rw [h, mSF_eq], fun z => absurd z hk, E0.h h⟩
theorem OUTA.rd {M M' : jM} {v a : Int32} {o : AnsA} (h : M' = mSF M 0 (nI 0)) (ho : o = (0, a, M)) (hv : v = a) : OUTA M' v o := by
  subst ho
  exact ⟨by rw [h, mSF_eq], fun _ => hv, E0.h h⟩
def canB (M : jM) (c l : Nat) (a : Int32) : Prop := ¬ M.2 27 c < a ∧ M.2 28 c < nI 6 ∧ (l % 4 = 0 → M.2 29 c < nI 2)
noncomputable def opRight (M : jM) (c l : Int32) : AnsA := iF (inI c 0 7 ∧ inI l 0 23) (iF (¬ M.1 33 = l ∧ M.2 30 (iN l) = -1) (0, M.2 32 (iN l), mSA M 32 (iN l) c) (2, 0, M)) (1, 0, M)
def caM (M : jM) (l : Int32) : jM := mSF (mSF (mSF (mSF (mSF M 33 l) 34 (nI 0)) 35 (nI 0)) 36 (-1)) 37 (nI 0)
noncomputable def opCall (M : jM) (l : Int32) : AnsA := iF (inI l 0 23) (iF (M.1 33 = -1 ∧ M.2 30 (iN l) = -1) (0, nI (baseN (iN l)), caM M l) (2, 0, M)) (1, 0, M)
def bidOK (M : jM) (c : Nat) (a : Int32) : Prop := ¬ M.1 33 = -1 ∧ M.1 37 = nI 0 ∧ ¬ a < nI (baseN (iN (M.1 33))) ∧ (0 < M.1 34 → ¬ a < M.1 35 + nI 5) ∧ canB M c (iN (M.1 33)) a
def biM (M : jM) (c a : Int32) : jM := mSF (mSF (mSF M 35 a) 36 c) 34 (M.1 34 + nI 1)
noncomputable def opBid (M : jM) (c a : Int32) : AnsA := iF (inI c 0 7) (iF (inI a 1 1000) (iF (bidOK M (iN c) a) (0, M.1 34 + nI 1, biM M c a) (3, 0, M)) (2, 0, M)) (1, 0, M)
def seM (M : jM) (c l : Nat) : jM := mSF (mSF (mSA (mSA (mSA (mSA (mSA M 30 l (nI c)) 31 l (M.1 35)) 27 c (M.2 27 c - M.1 35)) 28 c (M.2 28 c + nI 1)) 29 c (M.2 29 c + nI (if l % 4 = 0 then 1 else 0))) 33 (-1)) 37 (nI 0)
def calledN (M : jM) : Nat := iN (M.1 33)
noncomputable def opHammer (M : jM) : AnsA := iF (¬ M.1 33 = -1 ∧ M.1 37 = nI 0) (iF (M.1 34 = nI 0) (0, -1, mSF M 33 (-1)) (iF (¬ M.2 32 (calledN M) = -1 ∧ ¬ M.2 32 (calledN M) = M.1 36 ∧ canB M (iN (M.2 32 (calledN M))) (calledN M) (M.1 35)) (0, -1, mSF M 37 (nI 1)) (0, M.1 36, seM M (iN (M.1 36)) (calledN M)))) (1, 0, M)
noncomputable def opAnswer (M : jM) (p : Prop) : AnsA := iF (¬ M.1 33 = -1 ∧ ¬ M.1 37 = nI 0) (0, iF p (M.2 32 (calledN M)) (M.1 36), seM (mSA M 32 (calledN M) (-1)) (iN (iF p (M.2 32 (calledN M)) (M.1 36))) (calledN M)) (1, 0, M)
noncomputable def lotV (M : jM) (l w : Nat) : Int32 := iF (w = 0) (M.2 30 l) (iF (w = 1) (M.2 31 l) (iF (w = 2) (M.2 32 l) (iF (M.1 33 = nI l ∧ 0 < M.1 34) (M.1 35) (-1))))
noncomputable def opLot (M : jM) (l w : Int32) : AnsA := iF (inI l 0 23) (iF (inI w 0 3) (0, lotV M (iN l) (iN w), M) (2, 0, M)) (1, 0, M)
noncomputable def squadV (M : jM) (c w : Nat) : Int32 := iF (w = 0) (M.2 27 c) (iF (w = 1) (M.2 28 c) (M.2 29 c))
noncomputable def opSquad (M : jM) (c w : Int32) : AnsA := iF (inI c 0 7) (iF (inI w 0 2) (0, squadV M (iN c) (iN w), M) (2, 0, M)) (1, 0, M)
theorem neg1_n {k : Nat} (h : k < 2 ^ 31) : ¬ (-1 : Int32) = nI k := fun z => nI_neg1 h z.symm

set_option maxHeartbeats 4000000 in
theorem mc_canBid {g : jG} (G : jOK g) (M N : jM) (hN : E0 M N) (c l : Nat) (a : Int32) (hc : c < 8) (hl : l < 24)  : MTQ g 1 yX4_canBid [.int (nI c), .int (nI l), .int a] N (pI (canB M c l a)) := by
  intro h o ad hO
  refine CT.of (bytes := cX4_canBid) (maxL := 4) (ret := (some .boolean)) G q2317 (by decide) (by decide +kernel) (Nat.le_of_ble_eq_true rfl) ?_
  intro z C E hT hnm hnl
  have C : jC (g, z) cX4_canBid RX4 1 0 := C
  show J (g, z) (mput g h o ad N) 0 0 [(0, .ref o), (1, .int (nI c)), (2, .int (nI l)), (3, .int a)] []
  refine j_aload_n C dX4_canBid_0 0 rfl rfl ?_
  refine jm_get27 C dX4_canBid_1 ?_
  refine j_iload_n C dX4_canBid_4 1 rfl rfl ?_
  refine jm_ald27 C hO (by omega) dX4_canBid_5 ?_
  refine j_ev (v' := (M.2 27 c)) (by rw [hN.2]) ?_
  refine j_iload_n C dX4_canBid_6 3 rfl rfl ?_
  refine j_ic_lt C (tgt := 42) dX4_canBid_7 (by decide) ?_ ?_
  · intro c7
    refine j_iconst C (v := nI 0) dX4_canBid_42 (by decide) ?_
    exact j_iret C E (by decide) (Nat.le_refl _) (⟨_, rfl, rz0 (by unfold canB; grind), rfl⟩) dX4_canBid_43
  · intro c7
    refine j_aload_n C dX4_canBid_10 0 rfl rfl ?_
    refine jm_get28 C dX4_canBid_11 ?_
    refine j_iload_n C dX4_canBid_14 1 rfl rfl ?_
    refine jm_ald28 C hO (by omega) dX4_canBid_15 ?_
    refine j_ev (v' := (M.2 28 c)) (by rw [hN.2]) ?_
    refine j_bipush C (v := nI 6) dX4_canBid_16 (by decide) ?_
    refine j_ic_ge C (tgt := 42) dX4_canBid_18 (by decide) ?_ ?_
    · intro c18
      refine j_iconst C (v := nI 0) dX4_canBid_42 (by decide) ?_
      exact j_iret C E (by decide) (Nat.le_refl _) (⟨_, rfl, rz0 (by unfold canB; grind), rfl⟩) dX4_canBid_43
    · intro c18
      refine j_iload_n C dX4_canBid_21 2 rfl rfl ?_
      refine j_callSQ C (as := [.int (nI l)]) (mc_isForeign G l hl) mw_isForeign (by decide) (Nat.le_refl _) rfl (Nat.le_of_ble_eq_true rfl) dX4_canBid_22 ?_
      refine j_ifp_eq C (tgt := 38) dX4_canBid_25 (by decide) ?_ ?_
      · intro c25
        refine j_iconst C (v := nI 1) dX4_canBid_38 (by decide) ?_
        refine j_goto C (tgt := 43) dX4_canBid_39 (by decide) ?_
        exact j_iret C E (by decide) (Nat.le_refl _) (⟨_, rfl, rz1 (by unfold canB; grind), rfl⟩) dX4_canBid_43
      · intro c25
        refine j_aload_n C dX4_canBid_28 0 rfl rfl ?_
        refine jm_get29 C dX4_canBid_29 ?_
        refine j_iload_n C dX4_canBid_32 1 rfl rfl ?_
        refine jm_ald29 C hO (by omega) dX4_canBid_33 ?_
        refine j_ev (v' := (M.2 29 c)) (by rw [hN.2]) ?_
        refine j_iconst C (v := nI 2) dX4_canBid_34 (by decide) ?_
        refine j_ic_ge C (tgt := 42) dX4_canBid_35 (by decide) ?_ ?_
        · intro c35
          refine j_iconst C (v := nI 0) dX4_canBid_42 (by decide) ?_
          exact j_iret C E (by decide) (Nat.le_refl _) (⟨_, rfl, rz0 (by unfold canB; grind), rfl⟩) dX4_canBid_43
        · intro c35
          refine j_iconst C (v := nI 1) dX4_canBid_38 (by decide) ?_
          refine j_goto C (tgt := 43) dX4_canBid_39 (by decide) ?_
          exact j_iret C E (by decide) (Nat.le_refl _) (⟨_, rfl, rz1 (by unfold canB; grind), rfl⟩) dX4_canBid_43

set_option maxHeartbeats 4000000 in
theorem mc_right {g : jG} (G : jOK g) (M : jM) (c l : Int32)  : MTR g 2 yX4_right [.int c, .int l] M (fun v M' => OUTA M' v (opRight M c l)) := by
  intro h o ad hO
  refine CT.of (bytes := cX4_right) (maxL := 5) (ret := (some .int)) G q2299 (by decide) (by decide +kernel) (Nat.le_of_ble_eq_true rfl) ?_
  intro z C E hT hnm hnl
  have C : jC (g, z) cX4_right RX4 2 0 := C
  show J (g, z) (mput g h o ad M) 0 0 [(0, .ref o), (1, .int c), (2, .int l)] []
  refine j_iload_n C dX4_right_0 1 rfl rfl ?_
  refine j_callSQ C (as := [.int c]) (mi_isClub G c) mw_isClub (by decide) (Nat.le_refl _) rfl (Nat.le_of_ble_eq_true rfl) dX4_right_1 ?_
  have join19 : J (g, z) (mput g h o ad M) 0 19 [(0, .ref o), (1, .int c), (2, .int l)] [.int (pI (inI c 0 7 ∧ inI l 0 23))] := by
    refine j_istore_n C (L' := [(3, .int (pI (inI c 0 7 ∧ inI l 0 23))), (0, .ref o), (1, .int c), (2, .int l)]) dX4_right_19 rfl (jlt hnl (by decide)) rfl ?_
    refine j_aload_n C dX4_right_20 1 rfl rfl ?_
    refine j_iload_n C dX4_right_21 0 rfl rfl ?_
    refine j_ifp_ne C (tgt := 29) dX4_right_22 (by decide) ?_ ?_
    · intro c22
      have hin := c22
      obtain ⟨nc, rfl, hnc0, hnc9⟩ := inI_n (by decide) (by decide) c22.1
      have iNnc : iN (nI nc) = nc := iN_nI (by omega)
      obtain ⟨nl, rfl, hnl0, hnl9⟩ := inI_n (by decide) (by decide) c22.2
      have iNnl : iN (nI nl) = nl := iN_nI (by omega)
      refine j_aload_n C dX4_right_29 1 rfl rfl ?_
      refine jm_get33 C dX4_right_30 ?_
      refine j_iload_n C dX4_right_33 3 rfl rfl ?_
      refine j_ic_eq C (tgt := 47) dX4_right_34 (by decide) ?_ ?_
      · intro c34
        refine j_iconst C (v := nI 2) dX4_right_47 (by decide) ?_
        refine j_goto C (tgt := 52) dX4_right_48 (by decide) ?_
        refine jm_callR C hO (as := [.int (nI 2)]) (mc_holds G M (nI 2)) mw_holds (by decide) (Nat.le_refl _) rfl (Nat.le_of_ble_eq_true rfl) dX4_right_52 (fun r2 M1 hM1 => ?_)
        refine j_ev (v' := nI 0) (by rw [hM1.1, pI_f (by decide)]; rfl) ?_
        have eM1 := hM1.2
        refine j_ifn_ne C (by decide) (tgt := 60) dX4_right_55 (by decide) ?_ ?_
        · intro c55
          omega
        · intro c55
          refine j_iconst C (v := nI 0) dX4_right_58 (by decide) ?_
          exact j_iret C E rfl (Nat.le_refl _) (⟨_, rfl, _, rfl, OUTA.er (by decide) eM1 (by unfold opRight; rw [iF_t hin, iNnl, iF_f (by exact fun z => z.1 c34)])⟩) dX4_right_59
      · intro c34
        refine j_aload_n C dX4_right_37 1 rfl rfl ?_
        refine jm_get30 C dX4_right_38 ?_
        refine j_iload_n C dX4_right_41 3 rfl rfl ?_
        refine jm_ald30 C hO (by omega) dX4_right_42 ?_
        refine j_iconst C (v := -1) dX4_right_43 (by decide) ?_
        refine j_ic_eq C (tgt := 51) dX4_right_44 (by decide) ?_ ?_
        · intro c44
          refine j_iconst C (v := nI 0) dX4_right_51 (by decide) ?_
          refine jm_callR C hO (as := [.int (nI 0)]) (mc_holds G M (nI 0)) mw_holds (by decide) (Nat.le_refl _) rfl (Nat.le_of_ble_eq_true rfl) dX4_right_52 (fun r4 M3 hM3 => ?_)
          refine j_ev (v' := nI 1) (by rw [hM3.1, pI_t (by decide)]; rfl) ?_
          have eM3 := hM3.2
          refine j_ifn_ne C (by decide) (tgt := 60) dX4_right_55 (by decide) ?_ ?_
          · intro c55
            refine j_aload_n C dX4_right_60 1 rfl rfl ?_
            refine jm_get32 C dX4_right_61 ?_
            refine j_iload_n C dX4_right_64 3 rfl rfl ?_
            refine jm_ald32 C hO (by omega) dX4_right_65 ?_
            refine j_ev (v' := (M.2 32 nl)) (by rw [eM3, mSF_A]) ?_
            refine j_istore C (L' := [(4, .int (M.2 32 nl)), (3, .int (pI (inI (nI nc) 0 7 ∧ inI (nI nl) 0 23))), (0, .ref o), (1, .int (nI nc)), (2, .int (nI nl))]) dX4_right_66 (jlt hnl (by decide)) rfl ?_
            refine j_aload_n C dX4_right_68 2 rfl rfl ?_
            refine jm_get32 C dX4_right_69 ?_
            refine j_iload_n C dX4_right_72 4 rfl rfl ?_
            refine j_iload_n C dX4_right_73 3 rfl rfl ?_
            refine jm_ast32 C hO (by omega) dX4_right_74 (fun M5 hM5 => ?_)
            refine j_iload C dX4_right_75 0 rfl ?_
            exact j_iret C E rfl (Nat.le_refl _) (⟨_, rfl, _, rfl, by unfold opRight; rw [iF_t hin, iNnl, iF_t ⟨c34, c44⟩]; exact ⟨by rw [hM5, mSA_F, eM3, mSF_eq], fun _ => rfl, E0.A rfl hM5 (E0.h eM3) rfl⟩⟩) dX4_right_77
          · intro c55
            omega
        · intro c44
          refine j_iconst C (v := nI 2) dX4_right_47 (by decide) ?_
          refine j_goto C (tgt := 52) dX4_right_48 (by decide) ?_
          refine jm_callR C hO (as := [.int (nI 2)]) (mc_holds G M (nI 2)) mw_holds (by decide) (Nat.le_refl _) rfl (Nat.le_of_ble_eq_true rfl) dX4_right_52 (fun r7 M6 hM6 => ?_)
          refine j_ev (v' := nI 0) (by rw [hM6.1, pI_f (by decide)]; rfl) ?_
          have eM6 := hM6.2
          refine j_ifn_ne C (by decide) (tgt := 60) dX4_right_55 (by decide) ?_ ?_
          · intro c55
            omega
          · intro c55
            refine j_iconst C (v := nI 0) dX4_right_58 (by decide) ?_
            exact j_iret C E rfl (Nat.le_refl _) (⟨_, rfl, _, rfl, OUTA.er (by decide) eM6 (by unfold opRight; rw [iF_t hin, iNnl, iF_f (by exact fun z => c44 z.2)])⟩) dX4_right_59
    · intro c22
      refine j_iconst C (v := nI 1) dX4_right_25 (by decide) ?_
      refine j_goto C (tgt := 52) dX4_right_26 (by decide) ?_
      refine jm_callR C hO (as := [.int (nI 1)]) (mc_holds G M (nI 1)) mw_holds (by decide) (Nat.le_refl _) rfl (Nat.le_of_ble_eq_true rfl) dX4_right_52 (fun r9 M8 hM8 => ?_)
      refine j_ev (v' := nI 0) (by rw [hM8.1, pI_f (by decide)]; rfl) ?_
      have eM8 := hM8.2
      refine j_ifn_ne C (by decide) (tgt := 60) dX4_right_55 (by decide) ?_ ?_
      · intro c55
        omega
      · intro c55
        refine j_iconst C (v := nI 0) dX4_right_58 (by decide) ?_
        exact j_iret C E rfl (Nat.le_refl _) (⟨_, rfl, _, rfl, OUTA.er (by decide) eM8 (by unfold opRight; rw [iF_f c22])⟩) dX4_right_59
  refine j_ifp_eq C (tgt := 18) dX4_right_4 (by decide) ?_ ?_
  · intro c4
    refine j_iconst C (v := nI 0) dX4_right_18 (by decide) ?_
    refine J.sub (L' := [(0, .ref o), (1, .int c), (2, .int l)]) ?_ [0, 1, 2] rfl
    refine j_ev (v' := pI (inI c 0 7 ∧ inI l 0 23)) (by rw [pI_f (by grind)]; rfl) ?_
    exact join19
  · intro c4
    refine j_iload_n C dX4_right_7 2 rfl rfl ?_
    refine j_callSQ C (as := [.int l]) (mi_isLot G l) mw_isLot (by decide) (Nat.le_refl _) rfl (Nat.le_of_ble_eq_true rfl) dX4_right_8 ?_
    refine j_ifp_eq C (tgt := 18) dX4_right_11 (by decide) ?_ ?_
    · intro c11
      refine j_iconst C (v := nI 0) dX4_right_18 (by decide) ?_
      refine J.sub (L' := [(0, .ref o), (1, .int c), (2, .int l)]) ?_ [0, 1, 2] rfl
      refine j_ev (v' := pI (inI c 0 7 ∧ inI l 0 23)) (by rw [pI_f (by grind)]; rfl) ?_
      exact join19
    · intro c11
      refine j_iconst C (v := nI 1) dX4_right_14 (by decide) ?_
      refine j_goto C (tgt := 19) dX4_right_15 (by decide) ?_
      refine J.sub (L' := [(0, .ref o), (1, .int c), (2, .int l)]) ?_ [0, 1, 2] rfl
      refine j_ev (v' := pI (inI c 0 7 ∧ inI l 0 23)) (by rw [pI_t (by grind)]; rfl) ?_
      exact join19

set_option maxHeartbeats 4000000 in
theorem mc_call {g : jG} (G : jOK g) (M : jM) (l : Int32)  : MTR g 2 yX4_call [.int l] M (fun v M' => OUTA M' v (opCall M l)) := by
  intro h o ad hO
  refine CT.of (bytes := cX4_call) (maxL := 3) (ret := (some .int)) G q2306 (by decide) (by decide +kernel) (Nat.le_of_ble_eq_true rfl) ?_
  intro z C E hT hnm hnl
  have C : jC (g, z) cX4_call RX4 2 0 := C
  show J (g, z) (mput g h o ad M) 0 0 [(0, .ref o), (1, .int l)] []
  refine j_iload_n C dX4_call_0 1 rfl rfl ?_
  refine j_callSQ C (as := [.int l]) (mi_isLot G l) mw_isLot (by decide) (Nat.le_refl _) rfl (Nat.le_of_ble_eq_true rfl) dX4_call_1 ?_
  refine j_istore_n C (L' := [(2, .int (pI (inI l 0 23))), (0, .ref o), (1, .int l)]) dX4_call_4 rfl (jlt hnl (by decide)) rfl ?_
  refine j_aload_n C dX4_call_5 1 rfl rfl ?_
  refine j_iload_n C dX4_call_6 0 rfl rfl ?_
  refine j_ifp_ne C (tgt := 14) dX4_call_7 (by decide) ?_ ?_
  · intro c7
    have hin := c7
    obtain ⟨nl, rfl, hnl0, hnl9⟩ := inI_n (by decide) (by decide) c7
    have iNnl : iN (nI nl) = nl := iN_nI (by omega)
    refine j_aload_n C dX4_call_14 1 rfl rfl ?_
    refine jm_get33 C dX4_call_15 ?_
    refine j_iconst C (v := -1) dX4_call_18 (by decide) ?_
    refine j_ic_ne C (tgt := 32) dX4_call_19 (by decide) ?_ ?_
    · intro c19
      refine j_iconst C (v := nI 2) dX4_call_32 (by decide) ?_
      refine j_goto C (tgt := 37) dX4_call_33 (by decide) ?_
      refine jm_callR C hO (as := [.int (nI 2)]) (mc_holds G M (nI 2)) mw_holds (by decide) (Nat.le_refl _) rfl (Nat.le_of_ble_eq_true rfl) dX4_call_37 (fun r2 M1 hM1 => ?_)
      refine j_ev (v' := nI 0) (by rw [hM1.1, pI_f (by decide)]; rfl) ?_
      have eM1 := hM1.2
      refine j_ifn_ne C (by decide) (tgt := 45) dX4_call_40 (by decide) ?_ ?_
      · intro c40
        omega
      · intro c40
        refine j_iconst C (v := nI 0) dX4_call_43 (by decide) ?_
        exact j_iret C E rfl (Nat.le_refl _) (⟨_, rfl, _, rfl, OUTA.er (by decide) eM1 (by unfold opCall; rw [iF_t hin, iNnl, iF_f (by exact fun z => c19 z.1)])⟩) dX4_call_44
    · intro c19
      refine j_aload_n C dX4_call_22 1 rfl rfl ?_
      refine jm_get30 C dX4_call_23 ?_
      refine j_iload_n C dX4_call_26 2 rfl rfl ?_
      refine jm_ald30 C hO (by omega) dX4_call_27 ?_
      refine j_iconst C (v := -1) dX4_call_28 (by decide) ?_
      refine j_ic_eq C (tgt := 36) dX4_call_29 (by decide) ?_ ?_
      · intro c29
        refine j_iconst C (v := nI 0) dX4_call_36 (by decide) ?_
        refine jm_callR C hO (as := [.int (nI 0)]) (mc_holds G M (nI 0)) mw_holds (by decide) (Nat.le_refl _) rfl (Nat.le_of_ble_eq_true rfl) dX4_call_37 (fun r4 M3 hM3 => ?_)
        refine j_ev (v' := nI 1) (by rw [hM3.1, pI_t (by decide)]; rfl) ?_
        have eM3 := hM3.2
        refine j_ifn_ne C (by decide) (tgt := 45) dX4_call_40 (by decide) ?_ ?_
        · intro c40
          refine j_aload_n C dX4_call_45 1 rfl rfl ?_
          refine j_iload_n C dX4_call_46 2 rfl rfl ?_
          refine jm_put33 C hO dX4_call_47 (fun M5 hM5 => ?_)
          refine j_aload_n C dX4_call_50 1 rfl rfl ?_
          refine j_iconst C (v := nI 0) dX4_call_51 (by decide) ?_
          refine jm_put34 C hO dX4_call_52 (fun M6 hM6 => ?_)
          refine j_aload_n C dX4_call_55 1 rfl rfl ?_
          refine j_iconst C (v := nI 0) dX4_call_56 (by decide) ?_
          refine jm_put35 C hO dX4_call_57 (fun M7 hM7 => ?_)
          refine j_aload_n C dX4_call_60 1 rfl rfl ?_
          refine j_iconst C (v := -1) dX4_call_61 (by decide) ?_
          refine jm_put36 C hO dX4_call_62 (fun M8 hM8 => ?_)
          refine j_aload_n C dX4_call_65 1 rfl rfl ?_
          refine j_iconst C (v := nI 0) dX4_call_66 (by decide) ?_
          refine jm_put37 C hO ⟨by decide, by decide⟩ dX4_call_67 (fun M9 hM9 => ?_)
          refine j_iload_n C dX4_call_70 2 rfl rfl ?_
          refine j_callSQ C (as := [.int (nI nl)]) (mi_baseOf G nl (by omega)) mw_baseOf (by decide) (Nat.le_refl _) rfl (Nat.le_of_ble_eq_true rfl) dX4_call_71 ?_
          exact j_iret C E rfl (Nat.le_refl _) (⟨_, rfl, _, rfl, by unfold opCall; rw [iF_t hin, iNnl, iF_t ⟨c19, c29⟩]; exact ⟨by rw [hM9, mSF_ne (by decide), hM8, mSF_ne (by decide), hM7, mSF_ne (by decide), hM6, mSF_ne (by decide), hM5, mSF_ne (by decide), eM3, mSF_eq], fun _ => rfl, E0.F rfl hM9 (E0.F rfl hM8 (E0.F rfl hM7 (E0.F rfl hM6 (E0.F rfl hM5 (E0.h eM3) rfl) rfl) rfl) rfl) rfl⟩⟩) dX4_call_74
        · intro c40
          omega
      · intro c29
        refine j_iconst C (v := nI 2) dX4_call_32 (by decide) ?_
        refine j_goto C (tgt := 37) dX4_call_33 (by decide) ?_
        refine jm_callR C hO (as := [.int (nI 2)]) (mc_holds G M (nI 2)) mw_holds (by decide) (Nat.le_refl _) rfl (Nat.le_of_ble_eq_true rfl) dX4_call_37 (fun r11 M10 hM10 => ?_)
        refine j_ev (v' := nI 0) (by rw [hM10.1, pI_f (by decide)]; rfl) ?_
        have eM10 := hM10.2
        refine j_ifn_ne C (by decide) (tgt := 45) dX4_call_40 (by decide) ?_ ?_
        · intro c40
          omega
        · intro c40
          refine j_iconst C (v := nI 0) dX4_call_43 (by decide) ?_
          exact j_iret C E rfl (Nat.le_refl _) (⟨_, rfl, _, rfl, OUTA.er (by decide) eM10 (by unfold opCall; rw [iF_t hin, iNnl, iF_f (by exact fun z => c29 z.2)])⟩) dX4_call_44
  · intro c7
    refine j_iconst C (v := nI 1) dX4_call_10 (by decide) ?_
    refine j_goto C (tgt := 37) dX4_call_11 (by decide) ?_
    refine jm_callR C hO (as := [.int (nI 1)]) (mc_holds G M (nI 1)) mw_holds (by decide) (Nat.le_refl _) rfl (Nat.le_of_ble_eq_true rfl) dX4_call_37 (fun r13 M12 hM12 => ?_)
    refine j_ev (v' := nI 0) (by rw [hM12.1, pI_f (by decide)]; rfl) ?_
    have eM12 := hM12.2
    refine j_ifn_ne C (by decide) (tgt := 45) dX4_call_40 (by decide) ?_ ?_
    · intro c40
      omega
    · intro c40
      refine j_iconst C (v := nI 0) dX4_call_43 (by decide) ?_
      exact j_iret C E rfl (Nat.le_refl _) (⟨_, rfl, _, rfl, OUTA.er (by decide) eM12 (by unfold opCall; rw [iF_f c7])⟩) dX4_call_44

theorem E0.two {M N N' : jM} {v w : Int32} (e : N = mSF M 0 v) (e' : N' = mSF N 0 w) : E0 M N' := by
  rw [e', e]
  exact ⟨fun k hk => by rw [mSF_ne hk, mSF_ne hk], rfl⟩

set_option maxHeartbeats 4000000 in
theorem mc_bid {g : jG} (G : jOK g) (M : jM) (hA : VA M) (c a : Int32)  : MTR g 2 yX4_bid [.int c, .int a] M (fun v M' => OUTA M' v (opBid M c a)) := by
  intro h o ad hO
  refine CT.of (bytes := cX4_bid) (maxL := 4) (ret := (some .int)) G q2313 (by decide) (by decide +kernel) (Nat.le_of_ble_eq_true rfl) ?_
  intro z C E hT hnm hnl
  have C : jC (g, z) cX4_bid RX4 2 0 := C
  show J (g, z) (mput g h o ad M) 0 0 [(0, .ref o), (1, .int c), (2, .int a)] []
  refine j_aload_n C dX4_bid_0 0 rfl rfl ?_
  refine j_iload_n C dX4_bid_1 1 rfl rfl ?_
  refine j_callSQ C (as := [.int c]) (mi_isClub G c) mw_isClub (by decide) (Nat.le_refl _) rfl (Nat.le_of_ble_eq_true rfl) dX4_bid_2 ?_
  refine j_ifp_ne C (tgt := 12) dX4_bid_5 (by decide) ?_ ?_
  · intro c5
    have hic := c5
    obtain ⟨nc, rfl, hnc0, hnc9⟩ := inI_n (by decide) (by decide) c5
    have iNnc : iN (nI nc) = nc := iN_nI (by omega)
    refine j_iload_n C dX4_bid_12 2 rfl rfl ?_
    refine j_iconst C (v := nI 1) dX4_bid_13 (by decide) ?_
    refine j_sipush C (v := nI 1000) dX4_bid_14 (by decide) ?_
    refine j_callSQ C (as := [.int a, .int (nI 1), .int (nI 1000)]) (mi_in G a 1 1000) mw_in (by decide) (Nat.le_refl _) rfl (Nat.le_of_ble_eq_true rfl) dX4_bid_17 ?_
    refine j_ifp_ne C (tgt := 27) dX4_bid_20 (by decide) ?_ ?_
    · intro c20
      have hia := c20
      obtain ⟨na, rfl, hna0, hna9⟩ := inI_n (by decide) (by decide) c20
      have iNna : iN (nI na) = na := iN_nI (by omega)
      refine j_iconst C (v := nI 0) dX4_bid_27 (by decide) ?_
      refine jm_callR C hO (as := [.int (nI 0)]) (mc_holds G M (nI 0)) mw_holds (by decide) (Nat.le_refl _) rfl (Nat.le_of_ble_eq_true rfl) dX4_bid_28 (fun r2 M1 hM1 => ?_)
      refine j_ev (v' := nI 1) (by rw [hM1.1, pI_t (by decide)]; rfl) ?_
      have eM1 := hM1.2
      refine j_ifn_ne C (by decide) (tgt := 36) dX4_bid_31 (by decide) ?_ ?_
      · intro c31
        have eH0 := eM1
        have join97 : J (g, z) (mput g h o ad M1) 0 97 [(0, .ref o), (1, .int (nI nc)), (2, .int (nI na))] [.int (pI (¬ bidOK M nc (nI na)))] := by
          refine j_istore_n C (L' := [(3, .int (pI (¬ bidOK M nc (nI na)))), (0, .ref o), (1, .int (nI nc)), (2, .int (nI na))]) dX4_bid_97 rfl (jlt hnl (by decide)) rfl ?_
          refine j_aload_n C dX4_bid_98 1 rfl rfl ?_
          refine j_iload_n C dX4_bid_99 0 rfl rfl ?_
          refine j_ifp_eq C (tgt := 107) dX4_bid_100 (by decide) ?_ ?_
          · intro c100
            refine j_iconst C (v := nI 0) dX4_bid_107 (by decide) ?_
            refine jm_callR C hO (as := [.int (nI 0)]) (mc_holds G M1 (nI 0)) mw_holds (by decide) (Nat.le_refl _) rfl (Nat.le_of_ble_eq_true rfl) dX4_bid_108 (fun r4 M3 hM3 => ?_)
            refine j_ev (v' := nI 1) (by rw [hM3.1, pI_t (by decide)]; rfl) ?_
            have eM3 := hM3.2
            refine j_ifn_ne C (by decide) (tgt := 116) dX4_bid_111 (by decide) ?_ ?_
            · intro c111
              refine j_aload_n C dX4_bid_116 1 rfl rfl ?_
              refine j_iload_n C dX4_bid_117 3 rfl rfl ?_
              refine jm_put35 C hO dX4_bid_118 (fun M5 hM5 => ?_)
              refine j_aload_n C dX4_bid_121 1 rfl rfl ?_
              refine j_iload_n C dX4_bid_122 2 rfl rfl ?_
              refine jm_put36 C hO dX4_bid_123 (fun M6 hM6 => ?_)
              refine j_aload_n C dX4_bid_126 1 rfl rfl ?_
              refine j_dup C dX4_bid_127 rfl ?_
              refine jm_get34 C dX4_bid_128 ?_
              refine j_ev (v' := (M.1 34)) (by rw [hM6, mSF_ne (by decide), hM5, mSF_ne (by decide), eM3, mSF_ne (by decide), eM1, mSF_ne (by decide)]) ?_
              refine j_iconst C (v := nI 1) dX4_bid_131 (by decide) ?_
              refine j_iadd C dX4_bid_132 ?_
              refine jm_put34 C hO dX4_bid_133 (fun M7 hM7 => ?_)
              refine j_aload_n C dX4_bid_136 1 rfl rfl ?_
              refine jm_get34 C dX4_bid_137 ?_
              refine j_ev (v' := (M.1 34) + (nI 1)) (by rw [hM7, mSF_eq]) ?_
              exact j_iret C E rfl (Nat.le_refl _) (⟨_, rfl, _, rfl, by unfold opBid; rw [iF_t hic, iF_t hia, iNnc, iF_t (Classical.not_not.mp c100)]; exact ⟨by rw [hM7, mSF_ne (by decide), hM6, mSF_ne (by decide), hM5, mSF_ne (by decide), eM3, mSF_eq], fun _ => rfl, E0.F rfl hM7 (E0.F rfl hM6 (E0.F rfl hM5 (E0.two eH0 eM3) rfl) rfl) rfl⟩⟩) dX4_bid_140
            · intro c111
              omega
          · intro c100
            refine j_iconst C (v := nI 3) dX4_bid_103 (by decide) ?_
            refine j_goto C (tgt := 108) dX4_bid_104 (by decide) ?_
            refine jm_callR C hO (as := [.int (nI 3)]) (mc_holds G M1 (nI 3)) mw_holds (by decide) (Nat.le_refl _) rfl (Nat.le_of_ble_eq_true rfl) dX4_bid_108 (fun r9 M8 hM8 => ?_)
            refine j_ev (v' := nI 0) (by rw [hM8.1, pI_f (by decide)]; rfl) ?_
            have eM8 := hM8.2
            refine j_ifn_ne C (by decide) (tgt := 116) dX4_bid_111 (by decide) ?_ ?_
            · intro c111
              omega
            · intro c111
              refine j_iconst C (v := nI 0) dX4_bid_114 (by decide) ?_
              exact j_iret C E rfl (Nat.le_refl _) (⟨_, rfl, _, rfl, by unfold opBid; rw [iF_t hic, iF_t hia, iNnc, iF_f c100]; exact ⟨by rw [eM8, mSF_eq], fun z => absurd z (Nat.succ_ne_zero 2), by have q := E0.h eM8; rw [eH0] at q; exact E0.two eH0 eM8⟩⟩) dX4_bid_115
        refine j_aload_n C dX4_bid_36 0 rfl rfl ?_
        refine jm_get33 C dX4_bid_37 ?_
        refine j_ev (v' := (M.1 33)) (by rw [eM1, mSF_ne (by decide)]) ?_
        refine j_iconst C (v := -1) dX4_bid_40 (by decide) ?_
        refine j_ic_eq C (tgt := 92) dX4_bid_41 (by decide) ?_ ?_
        · intro c41
          refine j_iconst C (v := nI 1) dX4_bid_92 (by decide) ?_
          refine j_goto C (tgt := 97) dX4_bid_93 (by decide) ?_
          refine J.sub (L' := [(0, .ref o), (1, .int (nI nc)), (2, .int (nI na))]) ?_ [0, 1, 2] rfl
          refine j_ev (v' := pI (¬ bidOK M nc (nI na))) (by rw [pI_t (by first | exact fun z => z.1 c41 | exact fun z => c48 z.2.1 | (rw [hBO]; grind))]; rfl) ?_
          exact join97
        · intro c41
          obtain ⟨nl, hl24, hcl⟩ : ∃ l, l < 24 ∧ M.1 33 = nI l := by rcases hA.1 with z | z; exact absurd z c41; exact z
          have iNl : iN (M.1 33) = nl := by rw [hcl]; exact iN_nI (by omega)
          have hbs : baseN nl ≤ 50 := by unfold baseN; split <;> (try split) <;> omega
          have hz0 : nI 0 = 0 := rfl
          have hbz : 0 < M.1 34 ↔ ¬ M.1 34 ≤ 0 := Int32.not_le.symm
          have hBO : bidOK M nc (nI na) ↔ ¬ M.1 33 = -1 ∧ M.1 37 = nI 0 ∧ ¬ na < baseN nl ∧ (0 < M.1 34 → ¬ nI na < M.1 35 + nI 5) ∧ canB M nc nl (nI na) := by
            unfold bidOK
            rw [iNl, nI_ltI (by omega) (by omega)]
          refine j_aload_n C dX4_bid_44 0 rfl rfl ?_
          refine jm_get37 C dX4_bid_45 ?_
          refine j_ev (v' := (M.1 37)) (by rw [eM1, mSF_ne (by decide)]) ?_
          refine j_if_ne C (tgt := 92) dX4_bid_48 (by decide) ?_ ?_
          · intro c48
            refine j_iconst C (v := nI 1) dX4_bid_92 (by decide) ?_
            refine j_goto C (tgt := 97) dX4_bid_93 (by decide) ?_
            refine J.sub (L' := [(0, .ref o), (1, .int (nI nc)), (2, .int (nI na))]) ?_ [0, 1, 2] rfl
            refine j_ev (v' := pI (¬ bidOK M nc (nI na))) (by rw [pI_t (by first | exact fun z => z.1 c41 | exact fun z => c48 z.2.1 | (rw [hBO]; grind))]; rfl) ?_
            exact join97
          · intro c48
            refine j_iload_n C dX4_bid_51 2 rfl rfl ?_
            refine j_aload_n C dX4_bid_52 0 rfl rfl ?_
            refine jm_get33 C dX4_bid_53 ?_
            refine j_ev (v' := nI nl) (by rw [eM1, mSF_ne (by decide)]; exact hcl) ?_
            refine j_callSQ C (as := [.int (nI nl)]) (mi_baseOf G nl hl24) mw_baseOf (by decide) (Nat.le_refl _) rfl (Nat.le_of_ble_eq_true rfl) dX4_bid_56 ?_
            refine j_icn_lt C (by omega) (by omega) (tgt := 92) dX4_bid_59 (by decide) ?_ ?_
            · intro c59
              refine j_iconst C (v := nI 1) dX4_bid_92 (by decide) ?_
              refine j_goto C (tgt := 97) dX4_bid_93 (by decide) ?_
              refine J.sub (L' := [(0, .ref o), (1, .int (nI nc)), (2, .int (nI na))]) ?_ [0, 1, 2] rfl
              refine j_ev (v' := pI (¬ bidOK M nc (nI na))) (by rw [pI_t (by first | exact fun z => z.1 c41 | exact fun z => c48 z.2.1 | (rw [hBO]; grind))]; rfl) ?_
              exact join97
            · intro c59
              refine j_aload_n C dX4_bid_62 0 rfl rfl ?_
              refine jm_get34 C dX4_bid_63 ?_
              refine j_ev (v' := (M.1 34)) (by rw [eM1, mSF_ne (by decide)]) ?_
              refine j_if_le C (tgt := 79) dX4_bid_66 (by decide) ?_ ?_
              · intro c66
                refine j_aload_n C dX4_bid_79 0 rfl rfl ?_
                refine j_iload_n C dX4_bid_80 1 rfl rfl ?_
                refine j_aload_n C dX4_bid_81 0 rfl rfl ?_
                refine jm_get33 C dX4_bid_82 ?_
                refine j_ev (v' := nI nl) (by rw [eM1, mSF_ne (by decide)]; exact hcl) ?_
                refine j_iload_n C dX4_bid_85 2 rfl rfl ?_
                refine jm_callQ C hO (as := [.int (nI nc), .int (nI nl), .int (nI na)]) (mc_canBid G M M1 (E0.h eH0) nc nl (nI na) (by omega) hl24) mw_canBid (by decide) (Nat.le_refl _) rfl (Nat.le_of_ble_eq_true rfl) dX4_bid_86 ?_
                refine j_ifp_ne C (tgt := 96) dX4_bid_89 (by decide) ?_ ?_
                · intro c89
                  refine j_iconst C (v := nI 0) dX4_bid_96 (by decide) ?_
                  refine J.sub (L' := [(0, .ref o), (1, .int (nI nc)), (2, .int (nI na))]) ?_ [0, 1, 2] rfl
                  refine j_ev (v' := pI (¬ bidOK M nc (nI na))) (by rw [pI_f (by first | exact fun z => z.1 c41 | exact fun z => c48 z.2.1 | (rw [hBO]; grind))]; rfl) ?_
                  exact join97
                · intro c89
                  refine j_iconst C (v := nI 1) dX4_bid_92 (by decide) ?_
                  refine j_goto C (tgt := 97) dX4_bid_93 (by decide) ?_
                  refine J.sub (L' := [(0, .ref o), (1, .int (nI nc)), (2, .int (nI na))]) ?_ [0, 1, 2] rfl
                  refine j_ev (v' := pI (¬ bidOK M nc (nI na))) (by rw [pI_t (by first | exact fun z => z.1 c41 | exact fun z => c48 z.2.1 | (rw [hBO]; grind))]; rfl) ?_
                  exact join97
              · intro c66
                refine j_iload_n C dX4_bid_69 2 rfl rfl ?_
                refine j_aload_n C dX4_bid_70 0 rfl rfl ?_
                refine jm_get35 C dX4_bid_71 ?_
                refine j_ev (v' := (M.1 35)) (by rw [eM1, mSF_ne (by decide)]) ?_
                refine j_iconst C (v := nI 5) dX4_bid_74 (by decide) ?_
                refine j_iadd C dX4_bid_75 ?_
                refine j_ic_lt C (tgt := 92) dX4_bid_76 (by decide) ?_ ?_
                · intro c76
                  refine j_iconst C (v := nI 1) dX4_bid_92 (by decide) ?_
                  refine j_goto C (tgt := 97) dX4_bid_93 (by decide) ?_
                  refine J.sub (L' := [(0, .ref o), (1, .int (nI nc)), (2, .int (nI na))]) ?_ [0, 1, 2] rfl
                  refine j_ev (v' := pI (¬ bidOK M nc (nI na))) (by rw [pI_t (by first | exact fun z => z.1 c41 | exact fun z => c48 z.2.1 | (rw [hBO]; grind))]; rfl) ?_
                  exact join97
                · intro c76
                  refine j_aload_n C dX4_bid_79 0 rfl rfl ?_
                  refine j_iload_n C dX4_bid_80 1 rfl rfl ?_
                  refine j_aload_n C dX4_bid_81 0 rfl rfl ?_
                  refine jm_get33 C dX4_bid_82 ?_
                  refine j_ev (v' := nI nl) (by rw [eM1, mSF_ne (by decide)]; exact hcl) ?_
                  refine j_iload_n C dX4_bid_85 2 rfl rfl ?_
                  refine jm_callQ C hO (as := [.int (nI nc), .int (nI nl), .int (nI na)]) (mc_canBid G M M1 (E0.h eH0) nc nl (nI na) (by omega) hl24) mw_canBid (by decide) (Nat.le_refl _) rfl (Nat.le_of_ble_eq_true rfl) dX4_bid_86 ?_
                  refine j_ifp_ne C (tgt := 96) dX4_bid_89 (by decide) ?_ ?_
                  · intro c89
                    refine j_iconst C (v := nI 0) dX4_bid_96 (by decide) ?_
                    refine J.sub (L' := [(0, .ref o), (1, .int (nI nc)), (2, .int (nI na))]) ?_ [0, 1, 2] rfl
                    refine j_ev (v' := pI (¬ bidOK M nc (nI na))) (by rw [pI_f (by first | exact fun z => z.1 c41 | exact fun z => c48 z.2.1 | (rw [hBO]; grind))]; rfl) ?_
                    exact join97
                  · intro c89
                    refine j_iconst C (v := nI 1) dX4_bid_92 (by decide) ?_
                    refine j_goto C (tgt := 97) dX4_bid_93 (by decide) ?_
                    refine J.sub (L' := [(0, .ref o), (1, .int (nI nc)), (2, .int (nI na))]) ?_ [0, 1, 2] rfl
                    refine j_ev (v' := pI (¬ bidOK M nc (nI na))) (by rw [pI_t (by first | exact fun z => z.1 c41 | exact fun z => c48 z.2.1 | (rw [hBO]; grind))]; rfl) ?_
                    exact join97
      · intro c31
        omega
    · intro c20
      refine j_iconst C (v := nI 2) dX4_bid_23 (by decide) ?_
      refine j_goto C (tgt := 28) dX4_bid_24 (by decide) ?_
      refine jm_callR C hO (as := [.int (nI 2)]) (mc_holds G M (nI 2)) mw_holds (by decide) (Nat.le_refl _) rfl (Nat.le_of_ble_eq_true rfl) dX4_bid_28 (fun r11 M10 hM10 => ?_)
      refine j_ev (v' := nI 0) (by rw [hM10.1, pI_f (by decide)]; rfl) ?_
      have eM10 := hM10.2
      refine j_ifn_ne C (by decide) (tgt := 36) dX4_bid_31 (by decide) ?_ ?_
      · intro c31
        omega
      · intro c31
        refine j_iconst C (v := nI 0) dX4_bid_34 (by decide) ?_
        exact j_iret C E rfl (Nat.le_refl _) (⟨_, rfl, _, rfl, OUTA.er (by decide) eM10 (by unfold opBid; rw [iF_t hic, iF_f c20])⟩) dX4_bid_35
  · intro c5
    refine j_iconst C (v := nI 1) dX4_bid_8 (by decide) ?_
    refine j_goto C (tgt := 28) dX4_bid_9 (by decide) ?_
    refine jm_callR C hO (as := [.int (nI 1)]) (mc_holds G M (nI 1)) mw_holds (by decide) (Nat.le_refl _) rfl (Nat.le_of_ble_eq_true rfl) dX4_bid_28 (fun r13 M12 hM12 => ?_)
    refine j_ev (v' := nI 0) (by rw [hM12.1, pI_f (by decide)]; rfl) ?_
    have eM12 := hM12.2
    refine j_ifn_ne C (by decide) (tgt := 36) dX4_bid_31 (by decide) ?_ ?_
    · intro c31
      omega
    · intro c31
      refine j_iconst C (v := nI 0) dX4_bid_34 (by decide) ?_
      exact j_iret C E rfl (Nat.le_refl _) (⟨_, rfl, _, rfl, OUTA.er (by decide) eM12 (by unfold opBid; rw [iF_f c5])⟩) dX4_bid_35

set_option maxHeartbeats 4000000 in
theorem mc_sells {g : jG} (G : jOK g) (M N : jM) (hN : E0 M N) (c l : Nat) (hc : c < 8) (hl24 : l < 24) (hl : M.1 33 = nI l)  : MTR g 1 yX4_sells [.int (nI c)] N (fun v N' => v = nI c ∧ N'.1 0 = N.1 0 ∧ E0 (seM M c l) N') := by
  intro h o ad hO
  refine CT.of (bytes := cX4_sells) (maxL := 2) (ret := (some .int)) G q2328 (by decide) (by decide +kernel) (Nat.le_of_ble_eq_true rfl) ?_
  intro z C E hT hnm hnl
  have C : jC (g, z) cX4_sells RX4 1 0 := C
  show J (g, z) (mput g h o ad N) 0 0 [(0, .ref o), (1, .int (nI c))] []
  refine j_aload_n C dX4_sells_0 0 rfl rfl ?_
  refine jm_get30 C dX4_sells_1 ?_
  refine j_aload_n C dX4_sells_4 0 rfl rfl ?_
  refine jm_get33 C dX4_sells_5 ?_
  refine j_ev (v' := nI l) ((hN.1 33 (by decide)).trans hl) ?_
  refine j_iload_n C dX4_sells_8 1 rfl rfl ?_
  refine jm_ast30 C hO (by omega) dX4_sells_9 (fun M1 hM1 => ?_)
  refine j_aload_n C dX4_sells_10 0 rfl rfl ?_
  refine jm_get31 C dX4_sells_11 ?_
  refine j_aload_n C dX4_sells_14 0 rfl rfl ?_
  refine jm_get33 C dX4_sells_15 ?_
  refine j_ev (v' := nI l) (by rw [hM1, mSA_F, hN.1 33 (by decide)]; exact hl) ?_
  refine j_aload_n C dX4_sells_18 0 rfl rfl ?_
  refine jm_get35 C dX4_sells_19 ?_
  refine j_ev (v' := (M.1 35)) (by rw [hM1, mSA_F]; exact hN.1 35 (by decide)) ?_
  refine jm_ast31 C hO (by omega) dX4_sells_22 (fun M2 hM2 => ?_)
  refine j_aload_n C dX4_sells_23 0 rfl rfl ?_
  refine jm_get27 C dX4_sells_24 ?_
  refine j_iload_n C dX4_sells_27 1 rfl rfl ?_
  refine j_dup2 C dX4_sells_28 rfl rfl ?_
  refine jm_ald27 C hO (by omega) dX4_sells_29 ?_
  refine j_ev (v' := (M.2 27 c)) (by rw [hM2, mSA_ne (Or.inl (by decide)), hM1, mSA_ne (Or.inl (by decide)), hN.2]) ?_
  refine j_aload_n C dX4_sells_30 0 rfl rfl ?_
  refine jm_get35 C dX4_sells_31 ?_
  refine j_ev (v' := (M.1 35)) (by rw [hM2, mSA_F, hM1, mSA_F]; exact hN.1 35 (by decide)) ?_
  refine j_isub C dX4_sells_34 ?_
  refine jm_ast27 C hO (by omega) dX4_sells_35 (fun M3 hM3 => ?_)
  refine j_aload_n C dX4_sells_36 0 rfl rfl ?_
  refine jm_get28 C dX4_sells_37 ?_
  refine j_iload_n C dX4_sells_40 1 rfl rfl ?_
  refine j_dup2 C dX4_sells_41 rfl rfl ?_
  refine jm_ald28 C hO (by omega) dX4_sells_42 ?_
  refine j_ev (v' := (M.2 28 c)) (by rw [hM3, mSA_ne (Or.inl (by decide)), hM2, mSA_ne (Or.inl (by decide)), hM1, mSA_ne (Or.inl (by decide)), hN.2]) ?_
  refine j_iconst C (v := nI 1) dX4_sells_43 (by decide) ?_
  refine j_iadd C dX4_sells_44 ?_
  refine jm_ast28 C hO (by omega) dX4_sells_45 (fun M4 hM4 => ?_)
  refine j_aload_n C dX4_sells_46 0 rfl rfl ?_
  refine jm_get29 C dX4_sells_47 ?_
  refine j_iload_n C dX4_sells_50 1 rfl rfl ?_
  refine j_dup2 C dX4_sells_51 rfl rfl ?_
  refine jm_ald29 C hO (by omega) dX4_sells_52 ?_
  refine j_ev (v' := (M.2 29 c)) (by rw [hM4, mSA_ne (Or.inl (by decide)), hM3, mSA_ne (Or.inl (by decide)), hM2, mSA_ne (Or.inl (by decide)), hM1, mSA_ne (Or.inl (by decide)), hN.2]) ?_
  refine j_aload_n C dX4_sells_53 0 rfl rfl ?_
  refine jm_get33 C dX4_sells_54 ?_
  refine j_ev (v' := nI l) (by rw [hM4, mSA_F, hM3, mSA_F, hM2, mSA_F, hM1, mSA_F, hN.1 33 (by decide)]; exact hl) ?_
  refine j_callSQ C (as := [.int (nI l)]) (mc_isForeign G l hl24) mw_isForeign (by decide) (Nat.le_refl _) rfl (Nat.le_of_ble_eq_true rfl) dX4_sells_57 ?_
  have join68 : ∀ (fv : Nat), (fv = if l % 4 = 0 then 1 else 0) → J (g, z) (mput g h o ad M4) 0 68 [(0, .ref o), (1, .int (nI c))] [.int (nI fv), .int (M.2 29 c), .int (nI c), .ref (ad 29)] := by
    intro fv hfv
    refine j_iadd C dX4_sells_68 ?_
    refine jm_ast29 C hO (by omega) dX4_sells_69 (fun M5 hM5 => ?_)
    refine j_aload_n C dX4_sells_70 0 rfl rfl ?_
    refine j_iconst C (v := -1) dX4_sells_71 (by decide) ?_
    refine jm_put33 C hO dX4_sells_72 (fun M6 hM6 => ?_)
    refine j_aload_n C dX4_sells_75 0 rfl rfl ?_
    refine j_iconst C (v := nI 0) dX4_sells_76 (by decide) ?_
    refine jm_put37 C hO ⟨by decide, by decide⟩ dX4_sells_77 (fun M7 hM7 => ?_)
    refine j_iload_n C dX4_sells_80 1 rfl rfl ?_
    exact j_iret C E rfl (Nat.le_refl _) (⟨_, rfl, _, rfl, rfl, by rw [hM7, mSF_ne (by decide), hM6, mSF_ne (by decide), hM5, mSA_F, hM4, mSA_F, hM3, mSA_F, hM2, mSA_F, hM1, mSA_F], E0.F rfl hM7 (E0.F rfl hM6 (E0.A rfl hM5 (E0.A rfl hM4 (E0.A rfl hM3 (E0.A rfl hM2 (E0.A rfl hM1 hN rfl) rfl) rfl) rfl) (by rw [hfv])) rfl) rfl⟩) dX4_sells_81
  refine j_ifp_eq C (tgt := 67) dX4_sells_60 (by decide) ?_ ?_
  · intro c60
    refine j_iconst C (v := nI 0) dX4_sells_67 (by decide) ?_
    refine J.sub (L' := [(0, .ref o), (1, .int (nI c))]) ?_ [0, 1] rfl
    exact join68 0 (by grind)
  · intro c60
    refine j_iconst C (v := nI 1) dX4_sells_63 (by decide) ?_
    refine j_goto C (tgt := 68) dX4_sells_64 (by decide) ?_
    refine J.sub (L' := [(0, .ref o), (1, .int (nI c))]) ?_ [0, 1] rfl
    exact join68 1 (by grind)

set_option maxHeartbeats 4000000 in
theorem mc_hammer {g : jG} (G : jOK g) (M : jM) (hA : VA M)  : MTR g 2 yX4_hammer [] M (fun v M' => OUTA M' v (opHammer M)) := by
  intro h o ad hO
  refine CT.of (bytes := cX4_hammer) (maxL := 2) (ret := (some .int)) G q2324 (by decide) (by decide +kernel) (Nat.le_of_ble_eq_true rfl) ?_
  intro z C E hT hnm hnl
  have C : jC (g, z) cX4_hammer RX4 2 0 := C
  show J (g, z) (mput g h o ad M) 0 0 [(0, .ref o)] []
  refine j_aload_n C dX4_hammer_0 0 rfl rfl ?_
  refine j_aload_n C dX4_hammer_1 0 rfl rfl ?_
  refine jm_get33 C dX4_hammer_2 ?_
  refine j_iconst C (v := -1) dX4_hammer_5 (by decide) ?_
  refine j_ic_eq C (tgt := 16) dX4_hammer_6 (by decide) ?_ ?_
  · intro c6
    refine j_iconst C (v := nI 1) dX4_hammer_16 (by decide) ?_
    refine j_goto C (tgt := 21) dX4_hammer_17 (by decide) ?_
    refine jm_callR C hO (as := [.int (nI 1)]) (mc_holds G M (nI 1)) mw_holds (by decide) (Nat.le_refl _) rfl (Nat.le_of_ble_eq_true rfl) dX4_hammer_21 (fun r2 M1 hM1 => ?_)
    refine j_ev (v' := nI 0) (by rw [hM1.1, pI_f (by decide)]; rfl) ?_
    have eM1 := hM1.2
    refine j_ifn_ne C (by decide) (tgt := 29) dX4_hammer_24 (by decide) ?_ ?_
    · intro c24
      omega
    · intro c24
      refine j_iconst C (v := nI 0) dX4_hammer_27 (by decide) ?_
      exact j_iret C E rfl (Nat.le_refl _) (⟨_, rfl, _, rfl, OUTA.er (by decide) eM1 (by unfold opHammer; rw [iF_f (by exact fun z => z.1 c6)])⟩) dX4_hammer_28
  · intro c6
    obtain ⟨nl, hl24, hcl⟩ : ∃ l, l < 24 ∧ M.1 33 = nI l := by rcases hA.1 with z | z; exact absurd z c6; exact z
    have iNl : calledN M = nl := by unfold calledN; rw [hcl]; exact iN_nI (by omega)
    have hz0 : nI 0 = 0 := rfl
    refine j_aload_n C dX4_hammer_9 0 rfl rfl ?_
    refine jm_get37 C dX4_hammer_10 ?_
    refine j_if_eq C (tgt := 20) dX4_hammer_13 (by decide) ?_ ?_
    · intro c13
      refine j_iconst C (v := nI 0) dX4_hammer_20 (by decide) ?_
      refine jm_callR C hO (as := [.int (nI 0)]) (mc_holds G M (nI 0)) mw_holds (by decide) (Nat.le_refl _) rfl (Nat.le_of_ble_eq_true rfl) dX4_hammer_21 (fun r4 M3 hM3 => ?_)
      refine j_ev (v' := nI 1) (by rw [hM3.1, pI_t (by decide)]; rfl) ?_
      have eM3 := hM3.2
      refine j_ifn_ne C (by decide) (tgt := 29) dX4_hammer_24 (by decide) ?_ ?_
      · intro c24
        refine j_aload_n C dX4_hammer_29 0 rfl rfl ?_
        refine jm_get34 C dX4_hammer_30 ?_
        refine j_ev (v' := (M.1 34)) (by rw [eM3, mSF_ne (by decide)]) ?_
        refine j_if_ne C (tgt := 43) dX4_hammer_33 (by decide) ?_ ?_
        · intro c33
          obtain ⟨nn, nb, pp, hn0, hnn, hnb, hbb, hpp, hp35, hn5⟩ : ∃ n b p, 0 < n ∧ M.1 34 = nI n ∧ b < 8 ∧ M.1 36 = nI b ∧ p ≤ 1000 ∧ M.1 35 = nI p ∧ 5 * n ≤ p + 5 := by rcases hA.2.2.2.1 with z | z; exact absurd z.1 c33; exact z
          refine j_aload_n C dX4_hammer_43 0 rfl rfl ?_
          refine jm_get32 C dX4_hammer_44 ?_
          refine j_aload_n C dX4_hammer_47 0 rfl rfl ?_
          refine jm_get33 C dX4_hammer_48 ?_
          refine j_ev (v' := nI nl) (by rw [eM3, mSF_ne (by decide)]; exact hcl) ?_
          refine jm_ald32 C hO (by omega) dX4_hammer_51 ?_
          refine j_ev (v' := (M.2 32 nl)) (by rw [eM3, mSF_A]) ?_
          refine j_istore_n C (L' := [(1, .int (M.2 32 nl)), (0, .ref o)]) dX4_hammer_52 rfl (jlt hnl (by decide)) rfl ?_
          refine j_iload_n C dX4_hammer_53 0 rfl rfl ?_
          refine j_iconst C (v := -1) dX4_hammer_54 (by decide) ?_
          refine j_ic_eq C (tgt := 89) dX4_hammer_55 (by decide) ?_ ?_
          · intro c55
            refine j_aload_n C dX4_hammer_89 1 rfl rfl ?_
            refine j_aload_n C dX4_hammer_90 1 rfl rfl ?_
            refine jm_get36 C dX4_hammer_91 ?_
            refine j_ev (v' := nI nb) (by rw [eM3, mSF_ne (by decide)]; exact hbb) ?_
            refine jm_callR C hO (as := [.int (nI nb)]) (mc_sells G M M3 (E0.h eM3) nb nl hnb hl24 hcl) mw_sells (by decide) (Nat.le_refl _) rfl (Nat.le_of_ble_eq_true rfl) dX4_hammer_94 (fun r6 M5 hM5 => ?_)
            exact j_iret C E rfl (Nat.le_refl _) (⟨_, rfl, _, rfl, by unfold opHammer; rw [iF_t ⟨c6, by first | exact c13 | exact Classical.not_not.mp c13⟩, iNl, iF_f (show ¬ M.1 34 = nI 0 from c33), iF_f (fun z => z.1 c55), hbb, iN_nI (by omega)]; exact ⟨by rw [hM5.2.1, eM3, mSF_eq], fun _ => hM5.1, hM5.2.2⟩⟩) dX4_hammer_97
          · intro c55
            obtain ⟨nr, hnr, hrr⟩ : ∃ c, c < 8 ∧ M.2 32 nl = nI c := by rcases hA.2.1 nl hl24 with z | z; exact absurd z c55; exact z
            refine j_iload_n C dX4_hammer_58 0 rfl rfl ?_
            refine j_aload_n C dX4_hammer_59 1 rfl rfl ?_
            refine jm_get36 C dX4_hammer_60 ?_
            refine j_ev (v' := (M.1 36)) (by rw [eM3, mSF_ne (by decide)]) ?_
            refine j_ic_eq C (tgt := 89) dX4_hammer_63 (by decide) ?_ ?_
            · intro c63
              refine j_aload_n C dX4_hammer_89 1 rfl rfl ?_
              refine j_aload_n C dX4_hammer_90 1 rfl rfl ?_
              refine jm_get36 C dX4_hammer_91 ?_
              refine j_ev (v' := nI nb) (by rw [eM3, mSF_ne (by decide)]; exact hbb) ?_
              refine jm_callR C hO (as := [.int (nI nb)]) (mc_sells G M M3 (E0.h eM3) nb nl hnb hl24 hcl) mw_sells (by decide) (Nat.le_refl _) rfl (Nat.le_of_ble_eq_true rfl) dX4_hammer_94 (fun r8 M7 hM7 => ?_)
              exact j_iret C E rfl (Nat.le_refl _) (⟨_, rfl, _, rfl, by unfold opHammer; rw [iF_t ⟨c6, by first | exact c13 | exact Classical.not_not.mp c13⟩, iNl, iF_f (show ¬ M.1 34 = nI 0 from c33), iF_f (fun z => z.2.1 c63), hbb, iN_nI (by omega)]; exact ⟨by rw [hM7.2.1, eM3, mSF_eq], fun _ => hM7.1, hM7.2.2⟩⟩) dX4_hammer_97
            · intro c63
              refine J.sub (L' := [(1, .int (nI nr)), (0, .ref o)]) ?_ [0, 1] (by rw [hrr]; rfl)
              refine j_aload_n C dX4_hammer_66 1 rfl rfl ?_
              refine j_iload_n C dX4_hammer_67 0 rfl rfl ?_
              refine j_aload_n C dX4_hammer_68 1 rfl rfl ?_
              refine jm_get33 C dX4_hammer_69 ?_
              refine j_ev (v' := nI nl) (by rw [eM3, mSF_ne (by decide)]; exact hcl) ?_
              refine j_aload_n C dX4_hammer_72 1 rfl rfl ?_
              refine jm_get35 C dX4_hammer_73 ?_
              refine j_ev (v' := (M.1 35)) (by rw [eM3, mSF_ne (by decide)]) ?_
              refine jm_callQ C hO (as := [.int (nI nr), .int (nI nl), .int (M.1 35)]) (mc_canBid G M M3 (E0.h eM3) nr nl (M.1 35) hnr hl24) mw_canBid (by decide) (Nat.le_refl _) rfl (Nat.le_of_ble_eq_true rfl) dX4_hammer_76 ?_
              refine j_ifp_eq C (tgt := 89) dX4_hammer_79 (by decide) ?_ ?_
              · intro c79
                refine j_aload_n C dX4_hammer_89 1 rfl rfl ?_
                refine j_aload_n C dX4_hammer_90 1 rfl rfl ?_
                refine jm_get36 C dX4_hammer_91 ?_
                refine j_ev (v' := nI nb) (by rw [eM3, mSF_ne (by decide)]; exact hbb) ?_
                refine jm_callR C hO (as := [.int (nI nb)]) (mc_sells G M M3 (E0.h eM3) nb nl hnb hl24 hcl) mw_sells (by decide) (Nat.le_refl _) rfl (Nat.le_of_ble_eq_true rfl) dX4_hammer_94 (fun r10 M9 hM9 => ?_)
                exact j_iret C E rfl (Nat.le_refl _) (⟨_, rfl, _, rfl, by unfold opHammer; rw [iF_t ⟨c6, by first | exact c13 | exact Classical.not_not.mp c13⟩, iNl, iF_f (show ¬ M.1 34 = nI 0 from c33), iF_f (fun z => c79 (by have := z.2.2; rw [hrr, iN_nI (by omega)] at this; exact this)), hbb, iN_nI (by omega)]; exact ⟨by rw [hM9.2.1, eM3, mSF_eq], fun _ => hM9.1, hM9.2.2⟩⟩) dX4_hammer_97
              · intro c79
                refine j_aload_n C dX4_hammer_82 1 rfl rfl ?_
                refine j_iconst C (v := nI 1) dX4_hammer_83 (by decide) ?_
                refine jm_put37 C hO ⟨by decide, by decide⟩ dX4_hammer_84 (fun M11 hM11 => ?_)
                refine j_iconst C (v := -1) dX4_hammer_87 (by decide) ?_
                exact j_iret C E rfl (Nat.le_refl _) (⟨_, rfl, _, rfl, by unfold opHammer; rw [iF_t ⟨c6, by first | exact c13 | exact Classical.not_not.mp c13⟩, iNl, iF_f (show ¬ M.1 34 = nI 0 from c33), iF_t (by rw [hrr, iN_nI (by omega)]; exact ⟨by rw [← hrr]; exact c55, by rw [← hrr]; exact c63, c79⟩)]; exact ⟨by rw [hM11, mSF_ne (by decide), eM3, mSF_eq], fun _ => rfl, E0.F rfl hM11 (E0.h eM3) rfl⟩⟩) dX4_hammer_88
        · intro c33
          refine j_aload_n C dX4_hammer_36 0 rfl rfl ?_
          refine j_iconst C (v := -1) dX4_hammer_37 (by decide) ?_
          refine jm_put33 C hO dX4_hammer_38 (fun M12 hM12 => ?_)
          refine j_iconst C (v := -1) dX4_hammer_41 (by decide) ?_
          exact j_iret C E rfl (Nat.le_refl _) (⟨_, rfl, _, rfl, by unfold opHammer; rw [iF_t ⟨c6, by first | exact c13 | exact Classical.not_not.mp c13⟩, iNl, iF_t (show M.1 34 = nI 0 from c33)]; exact ⟨by rw [hM12, mSF_ne (by decide), eM3, mSF_eq], fun _ => rfl, E0.F rfl hM12 (E0.h eM3) rfl⟩⟩) dX4_hammer_42
      · intro c24
        omega
    · intro c13
      refine j_iconst C (v := nI 1) dX4_hammer_16 (by decide) ?_
      refine j_goto C (tgt := 21) dX4_hammer_17 (by decide) ?_
      refine jm_callR C hO (as := [.int (nI 1)]) (mc_holds G M (nI 1)) mw_holds (by decide) (Nat.le_refl _) rfl (Nat.le_of_ble_eq_true rfl) dX4_hammer_21 (fun r14 M13 hM13 => ?_)
      refine j_ev (v' := nI 0) (by rw [hM13.1, pI_f (by decide)]; rfl) ?_
      have eM13 := hM13.2
      refine j_ifn_ne C (by decide) (tgt := 29) dX4_hammer_24 (by decide) ?_ ?_
      · intro c24
        omega
      · intro c24
        refine j_iconst C (v := nI 0) dX4_hammer_27 (by decide) ?_
        exact j_iret C E rfl (Nat.le_refl _) (⟨_, rfl, _, rfl, OUTA.er (by decide) eM13 (by unfold opHammer; rw [iF_f (by exact fun z => c13 z.2)])⟩) dX4_hammer_28

set_option maxHeartbeats 4000000 in
theorem mc_answer {g : jG} (G : jOK g) (M : jM) (hA : VA M) (p : Prop)  : MTR g 2 yX4_answer [.int (pI p)] M (fun v M' => OUTA M' v (opAnswer M p)) := by
  intro h o ad hO
  refine CT.of (bytes := cX4_answer) (maxL := 3) (ret := (some .int)) G q2332 (by decide) (by decide +kernel) (Nat.le_of_ble_eq_true rfl) ?_
  intro z C E hT hnm hnl
  have C : jC (g, z) cX4_answer RX4 2 0 := C
  show J (g, z) (mput g h o ad M) 0 0 [(0, .ref o), (1, .int (pI p))] []
  refine j_aload_n C dX4_answer_0 0 rfl rfl ?_
  refine j_aload_n C dX4_answer_1 0 rfl rfl ?_
  refine jm_get33 C dX4_answer_2 ?_
  refine j_iconst C (v := -1) dX4_answer_5 (by decide) ?_
  refine j_ic_eq C (tgt := 20) dX4_answer_6 (by decide) ?_ ?_
  · intro c6
    refine j_iconst C (v := nI 1) dX4_answer_20 (by decide) ?_
    refine jm_callR C hO (as := [.int (nI 1)]) (mc_holds G M (nI 1)) mw_holds (by decide) (Nat.le_refl _) rfl (Nat.le_of_ble_eq_true rfl) dX4_answer_21 (fun r2 M1 hM1 => ?_)
    refine j_ev (v' := nI 0) (by rw [hM1.1, pI_f (by decide)]; rfl) ?_
    have eM1 := hM1.2
    refine j_ifn_ne C (by decide) (tgt := 29) dX4_answer_24 (by decide) ?_ ?_
    · intro c24
      omega
    · intro c24
      refine j_iconst C (v := nI 0) dX4_answer_27 (by decide) ?_
      exact j_iret C E rfl (Nat.le_refl _) (⟨_, rfl, _, rfl, OUTA.er (by decide) eM1 (by unfold opAnswer; rw [iF_f (by exact fun z => z.1 c6)])⟩) dX4_answer_28
  · intro c6
    obtain ⟨nl, hl24, hcl⟩ : ∃ l, l < 24 ∧ M.1 33 = nI l := by rcases hA.1 with z | z; exact absurd z c6; exact z
    have iNl : calledN M = nl := by unfold calledN; rw [hcl]; exact iN_nI (by omega)
    have hz0 : nI 0 = 0 := rfl
    refine j_aload_n C dX4_answer_9 0 rfl rfl ?_
    refine jm_get37 C dX4_answer_10 ?_
    refine j_if_eq C (tgt := 20) dX4_answer_13 (by decide) ?_ ?_
    · intro c13
      refine j_iconst C (v := nI 1) dX4_answer_20 (by decide) ?_
      refine jm_callR C hO (as := [.int (nI 1)]) (mc_holds G M (nI 1)) mw_holds (by decide) (Nat.le_refl _) rfl (Nat.le_of_ble_eq_true rfl) dX4_answer_21 (fun r4 M3 hM3 => ?_)
      refine j_ev (v' := nI 0) (by rw [hM3.1, pI_f (by decide)]; rfl) ?_
      have eM3 := hM3.2
      refine j_ifn_ne C (by decide) (tgt := 29) dX4_answer_24 (by decide) ?_ ?_
      · intro c24
        omega
      · intro c24
        refine j_iconst C (v := nI 0) dX4_answer_27 (by decide) ?_
        exact j_iret C E rfl (Nat.le_refl _) (⟨_, rfl, _, rfl, OUTA.er (by decide) eM3 (by unfold opAnswer; rw [iF_f (by exact fun z => z.2 c13)])⟩) dX4_answer_28
    · intro c13
      refine j_iconst C (v := nI 0) dX4_answer_16 (by decide) ?_
      refine j_goto C (tgt := 21) dX4_answer_17 (by decide) ?_
      refine jm_callR C hO (as := [.int (nI 0)]) (mc_holds G M (nI 0)) mw_holds (by decide) (Nat.le_refl _) rfl (Nat.le_of_ble_eq_true rfl) dX4_answer_21 (fun r6 M5 hM5 => ?_)
      refine j_ev (v' := nI 1) (by rw [hM5.1, pI_t (by decide)]; rfl) ?_
      have eM5 := hM5.2
      refine j_ifn_ne C (by decide) (tgt := 29) dX4_answer_24 (by decide) ?_ ?_
      · intro c24
        have h371 : M.1 37 = nI 1 := by rcases hA.2.2.1 with z | z; exact absurd z c13; exact z
        obtain ⟨nl2, nr, hl2, hcl2, hnr, hrr2, h34⟩ := hA.2.2.2.2 h371
        have hll : nl2 = nl := (nI_eq (by omega) (by omega)).mp (hcl2.symm.trans hcl)
        subst hll
        obtain ⟨nn, nb, pp, hn0, hnn, hnb, hbb, hpp, hp35, hn5⟩ : ∃ n b p, 0 < n ∧ M.1 34 = nI n ∧ b < 8 ∧ M.1 36 = nI b ∧ p ≤ 1000 ∧ M.1 35 = nI p ∧ 5 * n ≤ p + 5 := by rcases hA.2.2.2.1 with z | z; exact absurd z.1 h34; exact z
        refine j_aload_n C dX4_answer_29 0 rfl rfl ?_
        refine jm_get32 C dX4_answer_30 ?_
        refine j_aload_n C dX4_answer_33 0 rfl rfl ?_
        refine jm_get33 C dX4_answer_34 ?_
        refine j_ev (v' := nI nl2) (by rw [eM5, mSF_ne (by decide)]; exact hcl) ?_
        refine jm_ald32 C hO (by omega) dX4_answer_37 ?_
        refine j_ev (v' := nI nr) (by rw [eM5]; exact hrr2) ?_
        refine j_istore_n C (L' := [(2, .int (nI nr)), (0, .ref o), (1, .int (pI p))]) dX4_answer_38 rfl (jlt hnl (by decide)) rfl ?_
        refine j_aload_n C dX4_answer_39 1 rfl rfl ?_
        refine jm_get32 C dX4_answer_40 ?_
        refine j_aload_n C dX4_answer_43 1 rfl rfl ?_
        refine jm_get33 C dX4_answer_44 ?_
        refine j_ev (v' := nI nl2) (by rw [eM5, mSF_ne (by decide)]; exact hcl) ?_
        refine j_iconst C (v := -1) dX4_answer_47 (by decide) ?_
        refine jm_ast32 C hO (by omega) dX4_answer_48 (fun M7 hM7 => ?_)
        refine j_aload_n C dX4_answer_49 1 rfl rfl ?_
        refine j_iload_n C dX4_answer_50 2 rfl rfl ?_
        refine j_ifp_eq C (tgt := 58) dX4_answer_51 (by decide) ?_ ?_
        · intro c51
          refine j_aload_n C dX4_answer_58 1 rfl rfl ?_
          refine jm_get36 C dX4_answer_59 ?_
          refine j_ev (v' := nI nb) (by rw [hM7, mSA_F, eM5, mSF_ne (by decide)]; exact hbb) ?_
          refine jm_callR C hO (as := [.int (nI nb)]) (mc_sells G (mSA M 32 nl2 (-1)) M7 (E0.A rfl hM7 (E0.h eM5) rfl) nb nl2 (by omega) hl24 hcl) mw_sells (by decide) (Nat.le_refl _) rfl (Nat.le_of_ble_eq_true rfl) dX4_answer_62 (fun r9 M8 hM8 => ?_)
          exact j_iret C E rfl (Nat.le_refl _) (⟨_, rfl, _, rfl, by unfold opAnswer; rw [iF_t ⟨c6, c13⟩, iNl, iF_f c51, hbb, iN_nI (by omega)]; exact ⟨by rw [hM8.2.1, hM7, mSA_F, eM5, mSF_eq], fun _ => hM8.1, hM8.2.2⟩⟩) dX4_answer_65
        · intro c51
          refine j_iload_n C dX4_answer_54 0 rfl rfl ?_
          refine j_goto C (tgt := 62) dX4_answer_55 (by decide) ?_
          refine jm_callR C hO (as := [.int (nI nr)]) (mc_sells G (mSA M 32 nl2 (-1)) M7 (E0.A rfl hM7 (E0.h eM5) rfl) nr nl2 (by omega) hl24 hcl) mw_sells (by decide) (Nat.le_refl _) rfl (Nat.le_of_ble_eq_true rfl) dX4_answer_62 (fun r11 M10 hM10 => ?_)
          exact j_iret C E rfl (Nat.le_refl _) (⟨_, rfl, _, rfl, by unfold opAnswer; rw [iF_t ⟨c6, c13⟩, iNl, iF_t c51, hrr2, iN_nI (by omega)]; exact ⟨by rw [hM10.2.1, hM7, mSA_F, eM5, mSF_eq], fun _ => hM10.1, hM10.2.2⟩⟩) dX4_answer_65
      · intro c24
        omega

set_option maxHeartbeats 4000000 in
theorem mc_lot {g : jG} (G : jOK g) (M : jM) (l w : Int32)  : MTR g 2 yX4_lot [.int l, .int w] M (fun v M' => OUTA M' v (opLot M l w)) := by
  intro h o ad hO
  refine CT.of (bytes := cX4_lot) (maxL := 3) (ret := (some .int)) G q2336 (by decide) (by decide +kernel) (Nat.le_of_ble_eq_true rfl) ?_
  intro z C E hT hnm hnl
  have C : jC (g, z) cX4_lot RX4 2 0 := C
  show J (g, z) (mput g h o ad M) 0 0 [(0, .ref o), (1, .int l), (2, .int w)] []
  refine j_aload_n C dX4_lot_0 0 rfl rfl ?_
  refine j_iload_n C dX4_lot_1 1 rfl rfl ?_
  refine j_callSQ C (as := [.int l]) (mi_isLot G l) mw_isLot (by decide) (Nat.le_refl _) rfl (Nat.le_of_ble_eq_true rfl) dX4_lot_2 ?_
  refine j_ifp_ne C (tgt := 12) dX4_lot_5 (by decide) ?_ ?_
  · intro c5
    have hin := c5
    obtain ⟨nl, rfl, hnl0, hnl9⟩ := inI_n (by decide) (by decide) c5
    have iNnl : iN (nI nl) = nl := iN_nI (by omega)
    refine j_iload_n C dX4_lot_12 2 rfl rfl ?_
    refine j_iconst C (v := nI 0) dX4_lot_13 (by decide) ?_
    refine j_iconst C (v := nI 3) dX4_lot_14 (by decide) ?_
    refine j_callSQ C (as := [.int w, .int (nI 0), .int (nI 3)]) (mi_in G w 0 3) mw_in (by decide) (Nat.le_refl _) rfl (Nat.le_of_ble_eq_true rfl) dX4_lot_15 ?_
    refine j_ifp_eq C (tgt := 25) dX4_lot_18 (by decide) ?_ ?_
    · intro c18
      refine j_iconst C (v := nI 2) dX4_lot_25 (by decide) ?_
      refine jm_callR C hO (as := [.int (nI 2)]) (mc_holds G M (nI 2)) mw_holds (by decide) (Nat.le_refl _) rfl (Nat.le_of_ble_eq_true rfl) dX4_lot_26 (fun r2 M1 hM1 => ?_)
      refine j_ev (v' := nI 0) (by rw [hM1.1, pI_f (by decide)]; rfl) ?_
      have eM1 := hM1.2
      refine j_ifn_ne C (by decide) (tgt := 34) dX4_lot_29 (by decide) ?_ ?_
      · intro c29
        omega
      · intro c29
        refine j_iconst C (v := nI 0) dX4_lot_32 (by decide) ?_
        exact j_iret C E rfl (Nat.le_refl _) (⟨_, rfl, _, rfl, OUTA.er (by decide) eM1 (by unfold opLot; rw [iF_t hin, iF_f c18])⟩) dX4_lot_33
    · intro c18
      refine j_iconst C (v := nI 0) dX4_lot_21 (by decide) ?_
      have hiw := c18
      obtain ⟨nw, rfl, hnw0, hnw9⟩ := inI_n (by decide) (by decide) c18
      have iNnw : iN (nI nw) = nw := iN_nI (by omega)
      refine j_goto C (tgt := 26) dX4_lot_22 (by decide) ?_
      refine jm_callR C hO (as := [.int (nI 0)]) (mc_holds G M (nI 0)) mw_holds (by decide) (Nat.le_refl _) rfl (Nat.le_of_ble_eq_true rfl) dX4_lot_26 (fun r4 M3 hM3 => ?_)
      refine j_ev (v' := nI 1) (by rw [hM3.1, pI_t (by decide)]; rfl) ?_
      have eM3 := hM3.2
      refine j_ifn_ne C (by decide) (tgt := 34) dX4_lot_29 (by decide) ?_ ?_
      · intro c29
        refine j_iload_n C dX4_lot_34 2 rfl rfl ?_
        refine j_ifn_ne C (by omega) (tgt := 47) dX4_lot_35 (by decide) ?_ ?_
        · intro c35
          refine j_iload_n C dX4_lot_47 2 rfl rfl ?_
          refine j_iconst C (v := nI 1) dX4_lot_48 (by decide) ?_
          refine j_icn_ne C (by omega) (by decide) (tgt := 61) dX4_lot_49 (by decide) ?_ ?_
          · intro c49
            refine j_iload_n C dX4_lot_61 2 rfl rfl ?_
            refine j_iconst C (v := nI 2) dX4_lot_62 (by decide) ?_
            refine j_icn_ne C (by omega) (by decide) (tgt := 75) dX4_lot_63 (by decide) ?_ ?_
            · intro c63
              refine j_aload_n C dX4_lot_75 0 rfl rfl ?_
              refine jm_get33 C dX4_lot_76 ?_
              refine j_ev (v' := (M.1 33)) (by rw [eM3, mSF_ne (by decide)]) ?_
              refine j_iload_n C dX4_lot_79 1 rfl rfl ?_
              refine j_ic_ne C (tgt := 97) dX4_lot_80 (by decide) ?_ ?_
              · intro c80
                refine j_iconst C (v := -1) dX4_lot_97 (by decide) ?_
                exact j_iret C E rfl (Nat.le_refl _) (⟨_, rfl, _, rfl, OUTA.rd eM3 (by unfold opLot; rw [iF_t hin, iF_t hiw, iNnl, iNnw]) (by unfold lotV; rw [iF_f c35, iF_f c49, iF_f c63, iF_f (fun z => c80 z.1)])⟩) dX4_lot_98
              · intro c80
                refine j_aload_n C dX4_lot_83 0 rfl rfl ?_
                refine jm_get34 C dX4_lot_84 ?_
                refine j_ev (v' := (M.1 34)) (by rw [eM3, mSF_ne (by decide)]) ?_
                refine j_if_le C (tgt := 97) dX4_lot_87 (by decide) ?_ ?_
                · intro c87
                  refine j_iconst C (v := -1) dX4_lot_97 (by decide) ?_
                  exact j_iret C E rfl (Nat.le_refl _) (⟨_, rfl, _, rfl, OUTA.rd eM3 (by unfold opLot; rw [iF_t hin, iF_t hiw, iNnl, iNnw]) (by unfold lotV; rw [iF_f c35, iF_f c49, iF_f c63, iF_f (fun z => absurd z.2 (Int32.not_lt.mpr c87))])⟩) dX4_lot_98
                · intro c87
                  refine j_aload_n C dX4_lot_90 0 rfl rfl ?_
                  refine jm_get35 C dX4_lot_91 ?_
                  refine j_ev (v' := (M.1 35)) (by rw [eM3, mSF_ne (by decide)]) ?_
                  refine j_goto C (tgt := 98) dX4_lot_94 (by decide) ?_
                  exact j_iret C E rfl (Nat.le_refl _) (⟨_, rfl, _, rfl, OUTA.rd eM3 (by unfold opLot; rw [iF_t hin, iF_t hiw, iNnl, iNnw]) (by unfold lotV; rw [iF_f c35, iF_f c49, iF_f c63, iF_t ⟨c80, Int32.not_le.mp c87⟩])⟩) dX4_lot_98
            · intro c63
              refine j_aload_n C dX4_lot_66 0 rfl rfl ?_
              refine jm_get32 C dX4_lot_67 ?_
              refine j_iload_n C dX4_lot_70 1 rfl rfl ?_
              refine jm_ald32 C hO (by omega) dX4_lot_71 ?_
              refine j_ev (v' := (M.2 32 nl)) (by rw [eM3, mSF_A]) ?_
              refine j_goto C (tgt := 98) dX4_lot_72 (by decide) ?_
              exact j_iret C E rfl (Nat.le_refl _) (⟨_, rfl, _, rfl, OUTA.rd eM3 (by unfold opLot; rw [iF_t hin, iF_t hiw, iNnl, iNnw]) (by unfold lotV; rw [iF_f c35, iF_f c49, iF_t c63])⟩) dX4_lot_98
          · intro c49
            refine j_aload_n C dX4_lot_52 0 rfl rfl ?_
            refine jm_get31 C dX4_lot_53 ?_
            refine j_iload_n C dX4_lot_56 1 rfl rfl ?_
            refine jm_ald31 C hO (by omega) dX4_lot_57 ?_
            refine j_ev (v' := (M.2 31 nl)) (by rw [eM3, mSF_A]) ?_
            refine j_goto C (tgt := 98) dX4_lot_58 (by decide) ?_
            exact j_iret C E rfl (Nat.le_refl _) (⟨_, rfl, _, rfl, OUTA.rd eM3 (by unfold opLot; rw [iF_t hin, iF_t hiw, iNnl, iNnw]) (by unfold lotV; rw [iF_f c35, iF_t c49])⟩) dX4_lot_98
        · intro c35
          refine j_aload_n C dX4_lot_38 0 rfl rfl ?_
          refine jm_get30 C dX4_lot_39 ?_
          refine j_iload_n C dX4_lot_42 1 rfl rfl ?_
          refine jm_ald30 C hO (by omega) dX4_lot_43 ?_
          refine j_ev (v' := (M.2 30 nl)) (by rw [eM3, mSF_A]) ?_
          refine j_goto C (tgt := 98) dX4_lot_44 (by decide) ?_
          exact j_iret C E rfl (Nat.le_refl _) (⟨_, rfl, _, rfl, OUTA.rd eM3 (by unfold opLot; rw [iF_t hin, iF_t hiw, iNnl, iNnw]) (by unfold lotV; rw [iF_t c35])⟩) dX4_lot_98
      · intro c29
        omega
  · intro c5
    refine j_iconst C (v := nI 1) dX4_lot_8 (by decide) ?_
    refine j_goto C (tgt := 26) dX4_lot_9 (by decide) ?_
    refine jm_callR C hO (as := [.int (nI 1)]) (mc_holds G M (nI 1)) mw_holds (by decide) (Nat.le_refl _) rfl (Nat.le_of_ble_eq_true rfl) dX4_lot_26 (fun r6 M5 hM5 => ?_)
    refine j_ev (v' := nI 0) (by rw [hM5.1, pI_f (by decide)]; rfl) ?_
    have eM5 := hM5.2
    refine j_ifn_ne C (by decide) (tgt := 34) dX4_lot_29 (by decide) ?_ ?_
    · intro c29
      omega
    · intro c29
      refine j_iconst C (v := nI 0) dX4_lot_32 (by decide) ?_
      exact j_iret C E rfl (Nat.le_refl _) (⟨_, rfl, _, rfl, OUTA.er (by decide) eM5 (by unfold opLot; rw [iF_f c5])⟩) dX4_lot_33

set_option maxHeartbeats 4000000 in
theorem mc_squad {g : jG} (G : jOK g) (M : jM) (l w : Int32)  : MTR g 2 yX4_squad [.int l, .int w] M (fun v M' => OUTA M' v (opSquad M l w)) := by
  intro h o ad hO
  refine CT.of (bytes := cX4_squad) (maxL := 3) (ret := (some .int)) G q2340 (by decide) (by decide +kernel) (Nat.le_of_ble_eq_true rfl) ?_
  intro z C E hT hnm hnl
  have C : jC (g, z) cX4_squad RX4 2 0 := C
  show J (g, z) (mput g h o ad M) 0 0 [(0, .ref o), (1, .int l), (2, .int w)] []
  refine j_aload_n C dX4_squad_0 0 rfl rfl ?_
  refine j_iload_n C dX4_squad_1 1 rfl rfl ?_
  refine j_callSQ C (as := [.int l]) (mi_isClub G l) mw_isClub (by decide) (Nat.le_refl _) rfl (Nat.le_of_ble_eq_true rfl) dX4_squad_2 ?_
  refine j_ifp_ne C (tgt := 12) dX4_squad_5 (by decide) ?_ ?_
  · intro c5
    have hin := c5
    obtain ⟨nl, rfl, hnl0, hnl9⟩ := inI_n (by decide) (by decide) c5
    have iNnl : iN (nI nl) = nl := iN_nI (by omega)
    refine j_iload_n C dX4_squad_12 2 rfl rfl ?_
    refine j_iconst C (v := nI 0) dX4_squad_13 (by decide) ?_
    refine j_iconst C (v := nI 2) dX4_squad_14 (by decide) ?_
    refine j_callSQ C (as := [.int w, .int (nI 0), .int (nI 2)]) (mi_in G w 0 2) mw_in (by decide) (Nat.le_refl _) rfl (Nat.le_of_ble_eq_true rfl) dX4_squad_15 ?_
    refine j_ifp_eq C (tgt := 25) dX4_squad_18 (by decide) ?_ ?_
    · intro c18
      refine j_iconst C (v := nI 2) dX4_squad_25 (by decide) ?_
      refine jm_callR C hO (as := [.int (nI 2)]) (mc_holds G M (nI 2)) mw_holds (by decide) (Nat.le_refl _) rfl (Nat.le_of_ble_eq_true rfl) dX4_squad_26 (fun r2 M1 hM1 => ?_)
      refine j_ev (v' := nI 0) (by rw [hM1.1, pI_f (by decide)]; rfl) ?_
      have eM1 := hM1.2
      refine j_ifn_ne C (by decide) (tgt := 34) dX4_squad_29 (by decide) ?_ ?_
      · intro c29
        omega
      · intro c29
        refine j_iconst C (v := nI 0) dX4_squad_32 (by decide) ?_
        exact j_iret C E rfl (Nat.le_refl _) (⟨_, rfl, _, rfl, OUTA.er (by decide) eM1 (by unfold opSquad; rw [iF_t hin, iF_f c18])⟩) dX4_squad_33
    · intro c18
      refine j_iconst C (v := nI 0) dX4_squad_21 (by decide) ?_
      have hiw := c18
      obtain ⟨nw, rfl, hnw0, hnw9⟩ := inI_n (by decide) (by decide) c18
      have iNnw : iN (nI nw) = nw := iN_nI (by omega)
      refine j_goto C (tgt := 26) dX4_squad_22 (by decide) ?_
      refine jm_callR C hO (as := [.int (nI 0)]) (mc_holds G M (nI 0)) mw_holds (by decide) (Nat.le_refl _) rfl (Nat.le_of_ble_eq_true rfl) dX4_squad_26 (fun r4 M3 hM3 => ?_)
      refine j_ev (v' := nI 1) (by rw [hM3.1, pI_t (by decide)]; rfl) ?_
      have eM3 := hM3.2
      refine j_ifn_ne C (by decide) (tgt := 34) dX4_squad_29 (by decide) ?_ ?_
      · intro c29
        refine j_iload_n C dX4_squad_34 2 rfl rfl ?_
        refine j_ifn_ne C (by omega) (tgt := 47) dX4_squad_35 (by decide) ?_ ?_
        · intro c35
          refine j_iload_n C dX4_squad_47 2 rfl rfl ?_
          refine j_iconst C (v := nI 1) dX4_squad_48 (by decide) ?_
          refine j_icn_ne C (by omega) (by decide) (tgt := 61) dX4_squad_49 (by decide) ?_ ?_
          · intro c49
            refine j_aload_n C dX4_squad_61 0 rfl rfl ?_
            refine jm_get29 C dX4_squad_62 ?_
            refine j_iload_n C dX4_squad_65 1 rfl rfl ?_
            refine jm_ald29 C hO (by omega) dX4_squad_66 ?_
            refine j_ev (v' := (M.2 29 nl)) (by rw [eM3, mSF_A]) ?_
            exact j_iret C E rfl (Nat.le_refl _) (⟨_, rfl, _, rfl, OUTA.rd eM3 (by unfold opSquad; rw [iF_t hin, iF_t hiw, iNnl, iNnw]) (by unfold squadV; rw [iF_f c35, iF_f c49])⟩) dX4_squad_67
          · intro c49
            refine j_aload_n C dX4_squad_52 0 rfl rfl ?_
            refine jm_get28 C dX4_squad_53 ?_
            refine j_iload_n C dX4_squad_56 1 rfl rfl ?_
            refine jm_ald28 C hO (by omega) dX4_squad_57 ?_
            refine j_ev (v' := (M.2 28 nl)) (by rw [eM3, mSF_A]) ?_
            refine j_goto C (tgt := 67) dX4_squad_58 (by decide) ?_
            exact j_iret C E rfl (Nat.le_refl _) (⟨_, rfl, _, rfl, OUTA.rd eM3 (by unfold opSquad; rw [iF_t hin, iF_t hiw, iNnl, iNnw]) (by unfold squadV; rw [iF_f c35, iF_t c49])⟩) dX4_squad_67
        · intro c35
          refine j_aload_n C dX4_squad_38 0 rfl rfl ?_
          refine jm_get27 C dX4_squad_39 ?_
          refine j_iload_n C dX4_squad_42 1 rfl rfl ?_
          refine jm_ald27 C hO (by omega) dX4_squad_43 ?_
          refine j_ev (v' := (M.2 27 nl)) (by rw [eM3, mSF_A]) ?_
          refine j_goto C (tgt := 67) dX4_squad_44 (by decide) ?_
          exact j_iret C E rfl (Nat.le_refl _) (⟨_, rfl, _, rfl, OUTA.rd eM3 (by unfold opSquad; rw [iF_t hin, iF_t hiw, iNnl, iNnw]) (by unfold squadV; rw [iF_t c35])⟩) dX4_squad_67
      · intro c29
        omega
  · intro c5
    refine j_iconst C (v := nI 1) dX4_squad_8 (by decide) ?_
    refine j_goto C (tgt := 26) dX4_squad_9 (by decide) ?_
    refine jm_callR C hO (as := [.int (nI 1)]) (mc_holds G M (nI 1)) mw_holds (by decide) (Nat.le_refl _) rfl (Nat.le_of_ble_eq_true rfl) dX4_squad_26 (fun r6 M5 hM5 => ?_)
    refine j_ev (v' := nI 0) (by rw [hM5.1, pI_f (by decide)]; rfl) ?_
    have eM5 := hM5.2
    refine j_ifn_ne C (by decide) (tgt := 34) dX4_squad_29 (by decide) ?_ ?_
    · intro c29
      omega
    · intro c29
      refine j_iconst C (v := nI 0) dX4_squad_32 (by decide) ?_
      exact j_iret C E rfl (Nat.le_refl _) (⟨_, rfl, _, rfl, OUTA.er (by decide) eM5 (by unfold opSquad; rw [iF_f c5])⟩) dX4_squad_33
