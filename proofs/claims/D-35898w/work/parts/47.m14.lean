set_option maxRecDepth 100000
/-- all is as it was but these fields and arrays -/
def fr (F A : List Nat) (M M' : jM) : Prop := (∀ k, k ∉ F → M'.1 k = M.1 k) ∧ ∀ k, k ∉ A → M'.2 k = M.2 k
theorem fr.rf {F A : List Nat} {M : jM} : fr F A M M := ⟨fun _ _ => rfl, fun _ _ => rfl⟩
theorem fr.tr {F A : List Nat} {M M' M'' : jM} (h : fr F A M M') (h' : fr F A M' M'') : fr F A M M'' := ⟨fun k a => (h'.1 k a).trans (h.1 k a), fun k a => (h'.2 k a).trans (h.2 k a)⟩
theorem fr.F {F A : List Nat} {M M' : jM} {k : Nat} {v : Int32} (e : M' = mSF M k v) (hk : k ∈ F) : fr F A M M' := ⟨fun j a => by rw [e, mSF_ne (fun z : j = k => a (z ▸ hk))], fun _ _ => by rw [e]; rfl⟩
theorem fr.A {F A : List Nat} {M M' : jM} {k i : Nat} {v : Int32} (e : M' = mSA M k i v) (hk : k ∈ A) : fr F A M M' := ⟨fun _ _ => by rw [e]; rfl, fun j a => by rw [e, mSA_ne16 (fun z : j = k => a (z ▸ hk))]⟩
/-- the pad's text -/
def TX (M : jM) (t : List Nat) : Prop := M.1 20 = nI t.length ∧ t.length ≤ 60 ∧ ∀ j, j < t.length → M.2 19 j = nI (t.getD j 0) ∧ 32 ≤ t.getD j 0 ∧ t.getD j 0 ≤ 126
theorem TX.cg {M M' : jM} {t : List Nat} (h : TX M t) (h1 : M'.1 20 = M.1 20) (h2 : M'.2 19 = M.2 19) : TX M' t := ⟨h1.trans h.1, h.2.1, fun j hj => by rw [h2]; exact h.2.2 j hj⟩
abbrev AnsT : Type := Nat × Int32 × List Nat
def OUTT (M M' : jM) (v : Int32) (o : AnsT) : Prop := M'.1 0 = nI o.1 ∧ (o.1 = 0 → v = o.2.1) ∧ TX M' o.2.2 ∧ fr [0, 20] [19] M M'
noncomputable def opType (t : List Nat) (s : Int32) : AnsT := iF (inI s 32 126) (iF (t.length = 60) (2, 0, t) (0, nI (t.length + 1), t ++ [iN s])) (1, 0, t)
theorem OUTT.er {M M' : jM} {v : Int32} {t : List Nat} {o : AnsT} {k : Nat} (hk : k ≠ 0) (h : M' = mSF M 0 (nI k)) (hT : TX M t) (ho : o = (k, 0, t)) : OUTT M M' v o := by
  subst ho
  exact ⟨by rw [h, mSF_eq], fun z => absurd z hk, hT.cg (by rw [h, mSF_ne (by decide)]) (by rw [h]; rfl), fr.F h (by decide)⟩
theorem TYPE_fin {M M1 M2 M3 : jM} {t : List Nat} {s : Nat} (hT : TX M t) (hl : t.length ≠ 60) (hs : 32 ≤ s ∧ s ≤ 126) (e1 : M1 = mSF M 0 (nI 0)) (e2 : M2 = mSA M1 19 t.length (nI s)) (e3 : M3 = mSF M2 20 (nI (t.length + 1))) {v : Int32} (hv : v = nI (t.length + 1)) : OUTT M M3 v (0, nI (t.length + 1), t ++ [s]) := by
  refine ⟨by rw [e3, mSF_ne (by decide), e2, mSA_F, e1, mSF_eq], fun _ => hv, ⟨by rw [e3, mSF_eq, List.length_append]; rfl, by have := hT.2.1; rw [List.length_append, List.length_singleton]; omega, fun j hj => ?_⟩, ((fr.F e1 (by decide)).tr (fr.A e2 (by decide))).tr (fr.F e3 (by decide))⟩
  rw [List.length_append, List.length_singleton] at hj
  by_cases hjl : j = t.length
  · subst hjl
    have g : (t ++ [s]).getD t.length 0 = s := by rw [List.getD_eq_getElem?_getD, List.getElem?_append_right (Nat.le_refl _)]; simp
    rw [g, e3, mSF_A, e2, mSA_eq]
    exact ⟨rfl, hs⟩
  · have g : (t ++ [s]).getD j 0 = t.getD j 0 := by rw [List.getD_eq_getElem?_getD, List.getElem?_append_left (by omega), List.getD_eq_getElem?_getD]
    rw [g, e3, mSF_A, e2, mSA_ne (Or.inr hjl), e1]
    exact hT.2.2 j (by omega)
/-- the league, a match entered for one club: its points, the other's -/
def lgE (f : Nat → Int32) (c a b : Nat) : Nat → Int32 := fun j => if j = 6 * c then f j + nI 1 else if j = 6 * c + 1 then f j + nI (if b < a then 1 else 0) else if j = 6 * c + 2 then f j + nI (if a = b then 1 else 0) else if j = 6 * c + 3 then f j + nI (if b < a then 5 else if a = b then 3 else if b ≤ a + 7 then 1 else 0) else if j = 6 * c + 4 then f j + nI a else if j = 6 * c + 5 then f j + nI b else f j
abbrev AnsE : Type := Nat × Int32 × Option Mt × (Nat → Int32)
noncomputable def opEnter (Q : Option Mt) (f : Nat → Int32) : AnsE := iF (isM Q ∧ ¬ isR (dM Q) ∧ mL (dM Q) ≤ (mNow (dM Q)).1 7 0 0)
  (0, if (mNow (dM Q)).1 4 1 0 < (mNow (dM Q)).1 4 0 0 then nI (mC (dM Q) 0) else if (mNow (dM Q)).1 4 0 0 < (mNow (dM Q)).1 4 1 0 then nI (mC (dM Q) 1) else -1, none,
    lgE (lgE f (mC (dM Q) 0) ((mNow (dM Q)).1 4 0 0) ((mNow (dM Q)).1 4 1 0)) (mC (dM Q) 1) ((mNow (dM Q)).1 4 1 0) ((mNow (dM Q)).1 4 0 0)) (1, 0, Q, f)
def OUTE (M M' : jM) (v : Int32) (o : AnsE) : Prop := M'.1 0 = nI o.1 ∧ (o.1 = 0 → v = o.2.1) ∧ RelM M' o.2.2.1 ∧ M'.2 26 = o.2.2.2 ∧ fr [0, 2] [26] M M'
def sgn (a b : Nat) : Int32 := nI a - nI b
theorem sgn_i {a b : Nat} (ha : a < 2 ^ 30) (hb : b < 2 ^ 30) : (sgn a b).toInt = (a : Int) - b := pk_sub_toInt ha hb
theorem sgn_gt {a b : Nat} (ha : a < 2 ^ 30) (hb : b < 2 ^ 30) : 0 < sgn a b ↔ b < a := by
  have e0 : (0 : Int32).toInt = 0 := by decide
  rw [Int32.lt_iff_toInt_lt, sgn_i ha hb, e0]; omega
theorem sgn_lt {a b : Nat} (ha : a < 2 ^ 30) (hb : b < 2 ^ 30) : sgn a b < 0 ↔ a < b := by
  have e0 : (0 : Int32).toInt = 0 := by decide
  rw [Int32.lt_iff_toInt_lt, sgn_i ha hb, e0]; omega
theorem sgn_eq {a b : Nat} (ha : a < 2 ^ 30) (hb : b < 2 ^ 30) : sgn a b = 0 ↔ a = b := by
  have e0 : (0 : Int32).toInt = 0 := by decide
  rw [← Int32.toInt_inj, sgn_i ha hb, e0]; omega
theorem sgn_7 {a b : Nat} (ha : a < 2 ^ 30) (hb : b < 2 ^ 30) : sgn a b < -7 ↔ a + 7 < b := by
  have e0 : (-7 : Int32).toInt = -7 := by decide
  rw [Int32.lt_iff_toInt_lt, sgn_i ha hb, e0]; omega
theorem sgn_le {a b : Nat} (ha : a < 2 ^ 30) (hb : b < 2 ^ 30) : sgn a b ≤ 0 ↔ a ≤ b := by
  have e0 : (0 : Int32).toInt = 0 := by decide
  rw [Int32.le_iff_toInt_le, sgn_i ha hb, e0]; omega
theorem sgn_ge {a b : Nat} (ha : a < 2 ^ 30) (hb : b < 2 ^ 30) : 0 ≤ sgn a b ↔ b ≤ a := by
  have e0 : (0 : Int32).toInt = 0 := by decide
  rw [Int32.le_iff_toInt_le, sgn_i ha hb, e0]; omega
theorem sgn_neg {a b : Nat} : -sgn a b = sgn b a := by unfold sgn; rw [Int32.neg_sub]

set_option maxHeartbeats 4000000 in
theorem mc_type {g : jG} (G : jOK g) (M : jM) (t : List Nat) (s : Int32) (hX : TX M t)  : MTR g 1 yX4_type [.int s] M (fun v M' => OUTT M M' v (opType t s)) := by
  intro h o ad hO
  refine CT.of (bytes := cX4_type) (maxL := 2) (ret := (some .int)) G q2192 (by decide) (by decide +kernel) (Nat.le_of_ble_eq_true rfl) ?_
  intro z C E hT hnm hnl
  have C : jC (g, z) cX4_type RX4 1 0 := C
  show J (g, z) (mput g h o ad M) 0 0 [(0, .ref o), (1, .int s)] []
  refine j_aload_n C dX4_type_0 0 rfl rfl ?_
  refine j_iload_n C dX4_type_1 1 rfl rfl ?_
  refine j_bipush C (v := nI 32) dX4_type_2 (by decide) ?_
  refine j_bipush C (v := nI 126) dX4_type_4 (by decide) ?_
  refine j_callSQ C (as := [.int s, .int (nI 32), .int (nI 126)]) (mi_in G s 32 126) mw_in (by decide) (Nat.le_refl _) rfl (Nat.le_of_ble_eq_true rfl) dX4_type_6 ?_
  refine j_ifp_ne C (tgt := 16) dX4_type_9 (by decide) ?_ ?_
  · intro c9
    have hin := c9
    have hl60 := hX.2.1
    obtain ⟨ns, rfl, hns0, hns9⟩ := inI_n (by decide) (by decide) c9
    have iNns : iN (nI ns) = ns := iN_nI (by omega)
    refine j_aload_n C dX4_type_16 0 rfl rfl ?_
    refine jm_get20 C dX4_type_17 ?_
    refine j_ev (v' := nI t.length) hX.1 ?_
    refine j_bipush C (v := nI 60) dX4_type_20 (by decide) ?_
    refine j_icn_ne C (by omega) (by decide) (tgt := 29) dX4_type_22 (by decide) ?_ ?_
    · intro c22
      refine j_iconst C (v := nI 0) dX4_type_29 (by decide) ?_
      refine jm_callR C hO (as := [.int (nI 0)]) (mc_holds G M (nI 0)) mw_holds (by decide) (Nat.le_refl _) rfl (Nat.le_of_ble_eq_true rfl) dX4_type_30 (fun r2 M1 hM1 => ?_)
      refine j_ev (v' := nI 1) (by rw [hM1.1, pI_t (by decide)]; rfl) ?_
      have eM1 := hM1.2
      refine j_ifn_ne C (by decide) (tgt := 38) dX4_type_33 (by decide) ?_ ?_
      · intro c33
        refine j_aload_n C dX4_type_38 0 rfl rfl ?_
        refine jm_get19 C dX4_type_39 ?_
        refine j_aload_n C dX4_type_42 0 rfl rfl ?_
        refine jm_get20 C dX4_type_43 ?_
        refine j_ev (v' := nI t.length) (by rw [eM1, mSF_ne (by decide)]; exact hX.1) ?_
        refine j_iload_n C dX4_type_46 1 rfl rfl ?_
        refine jm_ast19 C hO (by omega) dX4_type_47 (fun M3 hM3 => ?_)
        refine j_aload_n C dX4_type_48 0 rfl rfl ?_
        refine j_dup C dX4_type_49 rfl ?_
        refine jm_get20 C dX4_type_50 ?_
        refine j_ev (v' := nI t.length) (by rw [hM3, mSA_F, eM1, mSF_ne (by decide)]; exact hX.1) ?_
        refine j_iconst C (v := nI 1) dX4_type_53 (by decide) ?_
        refine j_iaddn C dX4_type_54 ?_
        refine jm_put20 C hO dX4_type_55 (fun M4 hM4 => ?_)
        refine j_aload_n C dX4_type_58 0 rfl rfl ?_
        refine jm_get20 C dX4_type_59 ?_
        refine j_ev (v' := nI (t.length + 1)) (by rw [hM4, mSF_eq]) ?_
        exact j_iret C E rfl (Nat.le_refl _) (⟨_, rfl, _, rfl, by unfold opType; rw [iF_t hin, iF_f c22, iNns]; exact TYPE_fin hX c22 ⟨hns0, hns9⟩ eM1 hM3 hM4 rfl⟩) dX4_type_62
      · intro c33
        omega
    · intro c22
      refine j_iconst C (v := nI 2) dX4_type_25 (by decide) ?_
      refine j_goto C (tgt := 30) dX4_type_26 (by decide) ?_
      refine jm_callR C hO (as := [.int (nI 2)]) (mc_holds G M (nI 2)) mw_holds (by decide) (Nat.le_refl _) rfl (Nat.le_of_ble_eq_true rfl) dX4_type_30 (fun r6 M5 hM5 => ?_)
      refine j_ev (v' := nI 0) (by rw [hM5.1, pI_f (by decide)]; rfl) ?_
      have eM5 := hM5.2
      refine j_ifn_ne C (by decide) (tgt := 38) dX4_type_33 (by decide) ?_ ?_
      · intro c33
        omega
      · intro c33
        refine j_iconst C (v := nI 0) dX4_type_36 (by decide) ?_
        exact j_iret C E rfl (Nat.le_refl _) (⟨_, rfl, _, rfl, OUTT.er (by decide) eM5 hX (by unfold opType; rw [iF_t hin, iF_t c22])⟩) dX4_type_37
  · intro c9
    refine j_iconst C (v := nI 1) dX4_type_12 (by decide) ?_
    refine j_goto C (tgt := 30) dX4_type_13 (by decide) ?_
    refine jm_callR C hO (as := [.int (nI 1)]) (mc_holds G M (nI 1)) mw_holds (by decide) (Nat.le_refl _) rfl (Nat.le_of_ble_eq_true rfl) dX4_type_30 (fun r8 M7 hM7 => ?_)
    refine j_ev (v' := nI 0) (by rw [hM7.1, pI_f (by decide)]; rfl) ?_
    have eM7 := hM7.2
    refine j_ifn_ne C (by decide) (tgt := 38) dX4_type_33 (by decide) ?_ ?_
    · intro c33
      omega
    · intro c33
      refine j_iconst C (v := nI 0) dX4_type_36 (by decide) ?_
      exact j_iret C E rfl (Nat.le_refl _) (⟨_, rfl, _, rfl, OUTT.er (by decide) eM7 hX (by unfold opType; rw [iF_f c9])⟩) dX4_type_37

set_option maxHeartbeats 4000000 in
theorem mc_clear {g : jG} (G : jOK g) (M : jM) (t : List Nat) (hX : TX M t)  : MTR g 0 yX4_clear [] M (fun v M' => v = nI t.length ∧ M'.1 0 = nI 0 ∧ TX M' [] ∧ fr [0, 20] [19] M M') := by
  intro h o ad hO
  refine CT.of (bytes := cX4_clear) (maxL := 2) (ret := (some .int)) G q2196 (by decide) (by decide +kernel) (Nat.le_of_ble_eq_true rfl) ?_
  intro z C E hT hnm hnl
  have C : jC (g, z) cX4_clear RX4 0 0 := C
  show J (g, z) (mput g h o ad M) 0 0 [(0, .ref o)] []
  refine j_aload_n C dX4_clear_0 0 rfl rfl ?_
  refine j_iconst C (v := nI 0) dX4_clear_1 (by decide) ?_
  refine jm_put0 C hO dX4_clear_2 (fun M1 hM1 => ?_)
  refine j_aload_n C dX4_clear_5 0 rfl rfl ?_
  refine jm_get20 C dX4_clear_6 ?_
  refine j_ev (v' := nI t.length) (by rw [hM1, mSF_ne (by decide)]; exact hX.1) ?_
  refine j_istore_n C (L' := [(1, .int (nI t.length)), (0, .ref o)]) dX4_clear_9 rfl (jlt hnl (by decide)) rfl ?_
  refine j_aload_n C dX4_clear_10 1 rfl rfl ?_
  refine j_iconst C (v := nI 0) dX4_clear_11 (by decide) ?_
  refine jm_put20 C hO dX4_clear_12 (fun M2 hM2 => ?_)
  refine j_iload_n C dX4_clear_15 0 rfl rfl ?_
  exact j_iret C E rfl (Nat.le_refl _) (⟨_, rfl, _, rfl, rfl, by rw [hM2, mSF_ne (by decide), hM1, mSF_eq], ⟨by rw [hM2, mSF_eq]; rfl, by decide, fun j hj => absurd hj (Nat.not_lt_zero _)⟩, (fr.F hM1 (by decide)).tr (fr.F hM2 (by decide))⟩) dX4_clear_16

theorem mSA_s {M : jM} {k i : Nat} {v : Int32} : (mSA M k i v).2 k = upd (M.2 k) i v := by unfold mSA; dsimp only; rw [if_pos rfl]
def lgTo (f : Nat → Int32) (c p : Nat → Nat) : Nat → (Nat → Int32)
  | 0 => f
  | i + 1 => lgE (lgTo f c p i) (c i) (p i) (p (1 - i))
theorem LG6 {f f1 f2 f3 f4 f5 f6 : Nat → Int32} {c a b w1 w2 w3 : Nat} (h1 : w1 = if b < a then 1 else 0) (h2 : w2 = if a = b then 1 else 0) (h3 : w3 = if b < a then 5 else if a = b then 3 else if b ≤ a + 7 then 1 else 0) (e1 : f1 = upd f (6 * c) (f (6 * c) + nI 1)) (e2 : f2 = upd f1 (6 * c + 1) (f1 (6 * c + 1) + nI w1)) (e3 : f3 = upd f2 (6 * c + 2) (f2 (6 * c + 2) + nI w2)) (e4 : f4 = upd f3 (6 * c + 3) (f3 (6 * c + 3) + nI w3)) (e5 : f5 = upd f4 (6 * c + 4) (f4 (6 * c + 4) + nI a)) (e6 : f6 = upd f5 (6 * c + 5) (f5 (6 * c + 5) + nI b)) : f6 = lgE f c a b := by
  funext j
  unfold lgE
  rw [← h1, ← h2, ← h3, e6]
  by_cases j5 : j = 6 * c + 5
  · rw [j5, pk_us, if_neg (by omega), if_neg (by omega), if_neg (by omega), if_neg (by omega), if_neg (by omega), if_pos rfl, e5, pk_un (by omega), e4, pk_un (by omega), e3, pk_un (by omega), e2, pk_un (by omega), e1, pk_un (by omega)]
  rw [pk_un j5, e5]
  by_cases j4 : j = 6 * c + 4
  · rw [j4, pk_us, if_neg (by omega), if_neg (by omega), if_neg (by omega), if_neg (by omega), if_pos rfl, e4, pk_un (by omega), e3, pk_un (by omega), e2, pk_un (by omega), e1, pk_un (by omega)]
  rw [pk_un j4, e4]
  by_cases j3 : j = 6 * c + 3
  · rw [j3, pk_us, if_neg (by omega), if_neg (by omega), if_neg (by omega), if_pos rfl, e3, pk_un (by omega), e2, pk_un (by omega), e1, pk_un (by omega)]
  rw [pk_un j3, e3]
  by_cases j2 : j = 6 * c + 2
  · rw [j2, pk_us, if_neg (by omega), if_neg (by omega), if_pos rfl, e2, pk_un (by omega), e1, pk_un (by omega)]
  rw [pk_un j2, e2]
  by_cases j1 : j = 6 * c + 1
  · rw [j1, pk_us, if_neg (by omega), if_pos rfl, e1, pk_un (by omega)]
  rw [pk_un j1, e1]
  by_cases j0 : j = 6 * c
  · rw [j0, pk_us, if_pos rfl]
  · rw [pk_un j0, if_neg j0, if_neg j1, if_neg j2, if_neg j3, if_neg j4, if_neg j5]
theorem ENTER_fin {M M2 M3 : jM} {v a : Int32} {f : Nat → Int32} (hF : fr [0] [26] M M2) (h0 : M2.1 0 = nI 0) (h26 : M2.2 26 = f) (e3 : M3 = mSF M2 2 (nI 0)) (hv : v = a) : OUTE M M3 v (0, a, none, f) :=
  ⟨by rw [e3, mSF_ne (by decide)]; exact h0, fun _ => hv, ⟨by rw [e3, mSF_eq, pI_f isM_n]; rfl, fun z => absurd z isM_n⟩, by rw [e3]; exact h26, ⟨fun k hk => by rw [e3, mSF_ne (by grind)]; exact hF.1 k (by grind), fun k hk => by rw [e3]; exact hF.2 k hk⟩⟩

set_option maxHeartbeats 4000000 in
theorem mc_enter {g : jG} (G : jOK g) (M : jM) (Q : Option Mt) (hRel : RelM M Q) (hV : VQ Q)  : MTR g 1 yX4_enter [] M (fun v M' => OUTE M M' v (opEnter Q (M.2 26))) := by
  intro h o ad hO
  refine CT.of (bytes := cX4_enter) (maxL := 5) (ret := (some .int)) G q2188 (by decide) (by decide +kernel) (Nat.le_of_ble_eq_true rfl) ?_
  intro z C E hT hnm hnl
  have C : jC (g, z) cX4_enter RX4 1 0 := C
  show J (g, z) (mput g h o ad M) 0 0 [(0, .ref o)] []
  refine j_aload_n C dX4_enter_0 0 rfl rfl ?_
  refine j_aload_n C dX4_enter_1 0 rfl rfl ?_
  refine jm_get2 C dX4_enter_2 ?_
  refine j_ev (v' := pI (isM Q)) hRel.1 ?_
  refine j_ifp_eq C (tgt := 33) dX4_enter_5 (by decide) ?_ ?_
  · intro c5
    refine j_iconst C (v := nI 1) dX4_enter_33 (by decide) ?_
    refine jm_callR C hO (as := [.int (nI 1)]) (mc_holds G M (nI 1)) mw_holds (by decide) (Nat.le_refl _) rfl (Nat.le_of_ble_eq_true rfl) dX4_enter_34 (fun r2 M1 hM1 => ?_)
    refine j_ev (v' := nI 0) (by rw [hM1.1, pI_f (by decide)]; rfl) ?_
    have eM1 := hM1.2
    refine j_ifn_ne C (by decide) (tgt := 42) dX4_enter_37 (by decide) ?_ ?_
    · intro c37
      omega
    · intro c37
      refine j_iconst C (v := nI 0) dX4_enter_40 (by decide) ?_
      exact j_iret C E rfl (Nat.le_refl _) (⟨_, rfl, _, rfl, by unfold opEnter; rw [iF_f (by grind)]; exact ⟨by rw [eM1, mSF_eq], fun z => absurd z (Nat.succ_ne_zero 0), hRel.F (k := 0) (v := nI 1) (by decide) |> fun z => by rw [eM1]; exact z, by rw [eM1]; rfl, fr.F eM1 (by decide)⟩⟩) dX4_enter_41
  · intro c5
    refine j_aload_n C dX4_enter_8 0 rfl rfl ?_
    refine jm_get3 C dX4_enter_9 ?_
    refine j_ev (v' := pI (isR (dM Q))) ((hRel.2 c5).2.2.2.2.1) ?_
    refine j_ifp_ne C (tgt := 33) dX4_enter_12 (by decide) ?_ ?_
    · intro c12
      refine j_iconst C (v := nI 1) dX4_enter_33 (by decide) ?_
      refine jm_callR C hO (as := [.int (nI 1)]) (mc_holds G M (nI 1)) mw_holds (by decide) (Nat.le_refl _) rfl (Nat.le_of_ble_eq_true rfl) dX4_enter_34 (fun r4 M3 hM3 => ?_)
      refine j_ev (v' := nI 0) (by rw [hM3.1, pI_f (by decide)]; rfl) ?_
      have eM3 := hM3.2
      refine j_ifn_ne C (by decide) (tgt := 42) dX4_enter_37 (by decide) ?_ ?_
      · intro c37
        omega
      · intro c37
        refine j_iconst C (v := nI 0) dX4_enter_40 (by decide) ?_
        exact j_iret C E rfl (Nat.le_refl _) (⟨_, rfl, _, rfl, by unfold opEnter; rw [iF_f (by grind)]; exact ⟨by rw [eM3, mSF_eq], fun z => absurd z (Nat.succ_ne_zero 0), hRel.F (k := 0) (v := nI 1) (by decide) |> fun z => by rw [eM3]; exact z, by rw [eM3]; rfl, fr.F eM3 (by decide)⟩⟩) dX4_enter_41
    · intro c12
      refine j_aload_n C dX4_enter_15 0 rfl rfl ?_
      refine jm_get16 C dX4_enter_16 ?_
      refine j_bipush C (v := nI 108) dX4_enter_19 (by decide) ?_
      refine jm_ald16 C hO (by omega) dX4_enter_21 ?_
      refine j_ev (v' := nI ((mNow (dM Q)).1 7 0 0)) ((hRel.2 c5).2.2.2.2.2.2.1.ti) ?_
      refine j_aload_n C dX4_enter_22 0 rfl rfl ?_
      refine jm_get5 C dX4_enter_23 ?_
      refine j_ev (v' := nI (mL (dM Q))) ((hRel.2 c5).2.1) ?_
      refine j_icn_lt C (by have := (hV c5).inv.2.2 7 0 0; have := (hV c5).ne; have := (hV c5).2.1; omega) (by have := (hV c5).inv.2.2 7 0 0; have := (hV c5).ne; have := (hV c5).2.1; omega) (tgt := 33) dX4_enter_26 (by decide) ?_ ?_
      · intro c26
        refine j_iconst C (v := nI 1) dX4_enter_33 (by decide) ?_
        refine jm_callR C hO (as := [.int (nI 1)]) (mc_holds G M (nI 1)) mw_holds (by decide) (Nat.le_refl _) rfl (Nat.le_of_ble_eq_true rfl) dX4_enter_34 (fun r6 M5 hM5 => ?_)
        refine j_ev (v' := nI 0) (by rw [hM5.1, pI_f (by decide)]; rfl) ?_
        have eM5 := hM5.2
        refine j_ifn_ne C (by decide) (tgt := 42) dX4_enter_37 (by decide) ?_ ?_
        · intro c37
          omega
        · intro c37
          refine j_iconst C (v := nI 0) dX4_enter_40 (by decide) ?_
          exact j_iret C E rfl (Nat.le_refl _) (⟨_, rfl, _, rfl, by unfold opEnter; rw [iF_f (by grind)]; exact ⟨by rw [eM5, mSF_eq], fun z => absurd z (Nat.succ_ne_zero 0), hRel.F (k := 0) (v := nI 1) (by decide) |> fun z => by rw [eM5]; exact z, by rw [eM5]; rfl, fr.F eM5 (by decide)⟩⟩) dX4_enter_41
      · intro c26
        refine j_iconst C (v := nI 0) dX4_enter_29 (by decide) ?_
        refine j_goto C (tgt := 34) dX4_enter_30 (by decide) ?_
        refine jm_callR C hO (as := [.int (nI 0)]) (mc_holds G M (nI 0)) mw_holds (by decide) (Nat.le_refl _) rfl (Nat.le_of_ble_eq_true rfl) dX4_enter_34 (fun r8 M7 hM7 => ?_)
        refine j_ev (v' := nI 1) (by rw [hM7.1, pI_t (by decide)]; rfl) ?_
        have eM7 := hM7.2
        refine j_ifn_ne C (by decide) (tgt := 42) dX4_enter_37 (by decide) ?_ ?_
        · intro c37
          have hin : isM Q ∧ ¬ isR (dM Q) ∧ mL (dM Q) ≤ (mNow (dM Q)).1 7 0 0 := ⟨c5, c12, by omega⟩
          have hS := hRel.2 c5
          have hVm := hV c5
          have hI := hVm.inv
          have hne := hVm.ne
          have hSA : SA (M7.2 16) (mNow (dM Q)) := by rw [eM7]; exact hS.2.2.2.2.2.2.1
          have hpb : ∀ i, (mNow (dM Q)).1 4 i 0 < 2 ^ 30 := fun i => by have := hI.2.2 4 i 0; omega
          refine j_aload_n C dX4_enter_42 0 rfl rfl ?_
          refine jm_get16 C dX4_enter_43 ?_
          refine j_bipush C (v := nI 104) dX4_enter_46 (by decide) ?_
          refine jm_ald16 C hO (by omega) dX4_enter_48 ?_
          refine j_ev (v' := (nI ((mNow (dM Q)).1 4 0 0))) (hSA.po (i := 0) (by decide) rfl) ?_
          refine j_aload_n C dX4_enter_49 0 rfl rfl ?_
          refine jm_get16 C dX4_enter_50 ?_
          refine j_bipush C (v := nI 105) dX4_enter_53 (by decide) ?_
          refine jm_ald16 C hO (by omega) dX4_enter_55 ?_
          refine j_ev (v' := (nI ((mNow (dM Q)).1 4 1 0))) (hSA.po (i := 1) (by decide) rfl) ?_
          refine j_isub C dX4_enter_56 ?_
          refine j_ev (v' := sgn ((mNow (dM Q)).1 4 0 0) ((mNow (dM Q)).1 4 1 0)) rfl ?_
          refine j_istore_n C (L' := [(1, .int (sgn ((mNow (dM Q)).1 4 0 0) ((mNow (dM Q)).1 4 1 0))), (0, .ref o)]) dX4_enter_57 rfl (jlt hnl (by decide)) rfl ?_
          refine j_iconst C (v := nI 0) dX4_enter_58 (by decide) ?_
          refine j_istore_n C (L' := [(2, .int (nI 0)), (1, .int (sgn ((mNow (dM Q)).1 4 0 0) ((mNow (dM Q)).1 4 1 0))), (0, .ref o)]) dX4_enter_59 rfl (jlt hnl (by decide)) rfl ?_
          refine J.sub (L' := [(0, .ref o), (1, .int (sgn ((mNow (dM Q)).1 4 0 0) ((mNow (dM Q)).1 4 1 0))), (2, .int (nI 0))]) ?_ [2, 1, 0] rfl
          have loop60 : ∀ (mz : Nat) (i : Nat) (Mk : jM), (i ≤ 2) → (fr [0] [26] M Mk) → (Mk.1 0 = nI 0) → (Mk.2 26 = lgTo (M.2 26) (mC (dM Q)) (fun i => (mNow (dM Q)).1 4 i 0) i) → (2 - i) < mz → J (g, z) (mput g h o ad Mk) 0 60 [(0, .ref o), (1, .int (sgn ((mNow (dM Q)).1 4 0 0) ((mNow (dM Q)).1 4 1 0))), (2, .int (nI i))] [] := by
            intro mz
            induction mz with
            | zero => intro i Mk; intros; omega
            | succ mz ih60 =>
              intro i Mk hi hF h00 h26 hm60
              refine j_iload_n C dX4_enter_60 2 rfl rfl ?_
              refine j_iconst C (v := nI 2) dX4_enter_61 (by decide) ?_
              refine j_icn_ge C (by omega) (by decide) (tgt := 226) dX4_enter_62 (by decide) ?_ ?_
              · intro c62
                have h26x : Mk.2 26 = lgE (lgE (M.2 26) (mC (dM Q) 0) ((mNow (dM Q)).1 4 0 0) ((mNow (dM Q)).1 4 1 0)) (mC (dM Q) 1) ((mNow (dM Q)).1 4 1 0) ((mNow (dM Q)).1 4 0 0) := by rw [h26, show i = 2 by omega]; rfl
                refine j_aload_n C dX4_enter_226 0 rfl rfl ?_
                refine j_iconst C (v := nI 0) dX4_enter_227 (by decide) ?_
                refine jm_put2 C hO ⟨by decide, by decide⟩ dX4_enter_228 (fun M9 hM9 => ?_)
                refine j_iload_n C dX4_enter_231 1 rfl rfl ?_
                refine j_if_le C (tgt := 244) dX4_enter_232 (by decide) ?_ ?_
                · intro c232
                  refine j_iload_n C dX4_enter_244 1 rfl rfl ?_
                  refine j_if_ge C (tgt := 257) dX4_enter_245 (by decide) ?_ ?_
                  · intro c245
                    refine j_iconst C (v := -1) dX4_enter_257 (by decide) ?_
                    exact j_iret C E rfl (Nat.le_refl _) (⟨_, rfl, _, rfl, by unfold opEnter; rw [iF_t hin]; exact ENTER_fin hF h00 h26x hM9 (by rw [if_neg (by have := (sgn_le (hpb 0) (hpb 1)).mp c232; omega), if_neg (by have := (sgn_ge (hpb 0) (hpb 1)).mp c245; omega)])⟩) dX4_enter_258
                  · intro c245
                    refine j_aload_n C dX4_enter_248 0 rfl rfl ?_
                    refine jm_get4 C dX4_enter_249 ?_
                    refine j_iconst C (v := nI 1) dX4_enter_252 (by decide) ?_
                    refine jm_ald4 C hO (by omega) dX4_enter_253 ?_
                    refine j_ev (v' := nI (mC (dM Q) 1)) (by rw [hM9, mSF_A, hF.2 4 (by decide)]; exact hS.1 1 (by decide)) ?_
                    refine j_goto C (tgt := 258) dX4_enter_254 (by decide) ?_
                    exact j_iret C E rfl (Nat.le_refl _) (⟨_, rfl, _, rfl, by unfold opEnter; rw [iF_t hin]; exact ENTER_fin hF h00 h26x hM9 (by rw [if_neg (by have := (sgn_le (hpb 0) (hpb 1)).mp c232; omega), if_pos (by have := mt (sgn_ge (hpb 0) (hpb 1)).mpr c245; omega)])⟩) dX4_enter_258
                · intro c232
                  refine j_aload_n C dX4_enter_235 0 rfl rfl ?_
                  refine jm_get4 C dX4_enter_236 ?_
                  refine j_iconst C (v := nI 0) dX4_enter_239 (by decide) ?_
                  refine jm_ald4 C hO (by omega) dX4_enter_240 ?_
                  refine j_ev (v' := nI (mC (dM Q) 0)) (by rw [hM9, mSF_A, hF.2 4 (by decide)]; exact hS.1 0 (by decide)) ?_
                  refine j_goto C (tgt := 258) dX4_enter_241 (by decide) ?_
                  exact j_iret C E rfl (Nat.le_refl _) (⟨_, rfl, _, rfl, by unfold opEnter; rw [iF_t hin]; exact ENTER_fin hF h00 h26x hM9 (by rw [if_pos (by have := mt (sgn_le (hpb 0) (hpb 1)).mpr c232; omega)])⟩) dX4_enter_258
              · intro c62
                have hi2 : i < 2 := by omega
                have hci : mC (dM Q) i < 8 := hVm.1 i hi2
                refine j_bipush C (v := nI 6) dX4_enter_65 (by decide) ?_
                refine j_aload_n C dX4_enter_67 0 rfl rfl ?_
                refine jm_get4 C dX4_enter_68 ?_
                refine j_iload_n C dX4_enter_71 2 rfl rfl ?_
                refine jm_ald4 C hO (by omega) dX4_enter_72 ?_
                refine j_ev (v' := nI (mC (dM Q) i)) (by rw [hF.2 4 (by decide)]; exact hS.1 i hi2) ?_
                refine j_imuln C dX4_enter_73 ?_
                refine j_istore_n C (L' := [(3, .int (nI (6 * (mC (dM Q) i)))), (0, .ref o), (1, .int (sgn ((mNow (dM Q)).1 4 0 0) ((mNow (dM Q)).1 4 1 0))), (2, .int (nI i))]) dX4_enter_74 rfl (jlt hnl (by decide)) rfl ?_
                refine j_iload_n C dX4_enter_75 3 rfl rfl ?_
                have join85 : ∀ (dv : Int32), (dv = sgn ((mNow (dM Q)).1 4 i 0) ((mNow (dM Q)).1 4 (1 - i) 0)) → J (g, z) (mput g h o ad Mk) 0 85 [(0, .ref o), (1, .int (sgn ((mNow (dM Q)).1 4 0 0) ((mNow (dM Q)).1 4 1 0))), (2, .int (nI i)), (3, .int (nI (6 * (mC (dM Q) i))))] [.int dv] := by
                  intro dv hdv
                  refine j_istore C (L' := [(4, .int dv), (0, .ref o), (1, .int (sgn ((mNow (dM Q)).1 4 0 0) ((mNow (dM Q)).1 4 1 0))), (2, .int (nI i)), (3, .int (nI (6 * (mC (dM Q) i))))]) dX4_enter_85 (jlt hnl (by decide)) rfl ?_
                  have hLE : dv ≤ 0 ↔ ((mNow (dM Q)).1 4 i 0) ≤ ((mNow (dM Q)).1 4 (1 - i) 0) := by rw [hdv]; exact sgn_le (hpb _) (hpb _)
                  have hEQ : dv = 0 ↔ ((mNow (dM Q)).1 4 i 0) = ((mNow (dM Q)).1 4 (1 - i) 0) := by rw [hdv]; exact sgn_eq (hpb _) (hpb _)
                  have hL7 : dv < -7 ↔ ((mNow (dM Q)).1 4 i 0) + 7 < ((mNow (dM Q)).1 4 (1 - i) 0) := by rw [hdv]; exact sgn_7 (hpb _) (hpb _)
                  refine j_aload_n C dX4_enter_87 1 rfl rfl ?_
                  refine jm_get26 C dX4_enter_88 ?_
                  refine j_iload_n C dX4_enter_91 4 rfl rfl ?_
                  refine j_dup2 C dX4_enter_92 rfl rfl ?_
                  refine jm_ald26 C hO (by omega) dX4_enter_93 ?_
                  refine j_iconst C (v := nI 1) dX4_enter_94 (by decide) ?_
                  refine j_iadd C dX4_enter_95 ?_
                  refine jm_ast26 C hO (by omega) dX4_enter_96 (fun M10 hM10 => ?_)
                  refine j_aload_n C dX4_enter_97 1 rfl rfl ?_
                  refine jm_get26 C dX4_enter_98 ?_
                  refine j_iload_n C dX4_enter_101 4 rfl rfl ?_
                  refine j_iconst C (v := nI 1) dX4_enter_102 (by decide) ?_
                  refine j_iaddn C dX4_enter_103 ?_
                  refine j_dup2 C dX4_enter_104 rfl rfl ?_
                  refine jm_ald26 C hO (by omega) dX4_enter_105 ?_
                  have join116 : ∀ (w1 : Nat), (w1 = if ((mNow (dM Q)).1 4 (1 - i) 0) < ((mNow (dM Q)).1 4 i 0) then 1 else 0) → J (g, z) (mput g h o ad M10) 0 116 [(0, .ref o), (1, .int (sgn ((mNow (dM Q)).1 4 0 0) ((mNow (dM Q)).1 4 1 0))), (2, .int (nI i)), (3, .int (nI (6 * (mC (dM Q) i)))), (4, .int dv)] [.int (nI w1), .int (M10.2 26 (6 * (mC (dM Q) i) + 1)), .int (nI (6 * (mC (dM Q) i) + 1)), .ref (ad 26)] := by
                    intro w1 hw1
                    refine j_iadd C dX4_enter_116 ?_
                    refine jm_ast26 C hO (by omega) dX4_enter_117 (fun M11 hM11 => ?_)
                    refine j_aload_n C dX4_enter_118 0 rfl rfl ?_
                    refine jm_get26 C dX4_enter_119 ?_
                    refine j_iload_n C dX4_enter_122 3 rfl rfl ?_
                    refine j_iconst C (v := nI 2) dX4_enter_123 (by decide) ?_
                    refine j_iaddn C dX4_enter_124 ?_
                    refine j_dup2 C dX4_enter_125 rfl rfl ?_
                    refine jm_ald26 C hO (by omega) dX4_enter_126 ?_
                    have join137 : ∀ (w2 : Nat), (w2 = if ((mNow (dM Q)).1 4 i 0) = ((mNow (dM Q)).1 4 (1 - i) 0) then 1 else 0) → J (g, z) (mput g h o ad M11) 0 137 [(0, .ref o), (1, .int (sgn ((mNow (dM Q)).1 4 0 0) ((mNow (dM Q)).1 4 1 0))), (2, .int (nI i)), (3, .int (nI (6 * (mC (dM Q) i)))), (4, .int dv)] [.int (nI w2), .int (M11.2 26 (6 * (mC (dM Q) i) + 2)), .int (nI (6 * (mC (dM Q) i) + 2)), .ref (ad 26)] := by
                      intro w2 hw2
                      refine j_iadd C dX4_enter_137 ?_
                      refine jm_ast26 C hO (by omega) dX4_enter_138 (fun M12 hM12 => ?_)
                      refine j_aload_n C dX4_enter_139 0 rfl rfl ?_
                      refine jm_get26 C dX4_enter_140 ?_
                      refine j_iload_n C dX4_enter_143 3 rfl rfl ?_
                      refine j_iconst C (v := nI 3) dX4_enter_144 (by decide) ?_
                      refine j_iaddn C dX4_enter_145 ?_
                      refine j_dup2 C dX4_enter_146 rfl rfl ?_
                      refine jm_ald26 C hO (by omega) dX4_enter_147 ?_
                      have join178 : ∀ (w3 : Nat), (w3 = if ((mNow (dM Q)).1 4 (1 - i) 0) < ((mNow (dM Q)).1 4 i 0) then 5 else if ((mNow (dM Q)).1 4 i 0) = ((mNow (dM Q)).1 4 (1 - i) 0) then 3 else if ((mNow (dM Q)).1 4 (1 - i) 0) ≤ ((mNow (dM Q)).1 4 i 0) + 7 then 1 else 0) → J (g, z) (mput g h o ad M12) 0 178 [(0, .ref o), (1, .int (sgn ((mNow (dM Q)).1 4 0 0) ((mNow (dM Q)).1 4 1 0))), (2, .int (nI i)), (3, .int (nI (6 * (mC (dM Q) i)))), (4, .int dv)] [.int (nI w3), .int (M12.2 26 (6 * (mC (dM Q) i) + 3)), .int (nI (6 * (mC (dM Q) i) + 3)), .ref (ad 26)] := by
                        intro w3 hw3
                        refine j_iadd C dX4_enter_178 ?_
                        refine jm_ast26 C hO (by omega) dX4_enter_179 (fun M13 hM13 => ?_)
                        refine j_aload_n C dX4_enter_180 0 rfl rfl ?_
                        refine jm_get26 C dX4_enter_181 ?_
                        refine j_iload_n C dX4_enter_184 3 rfl rfl ?_
                        refine j_iconst C (v := nI 4) dX4_enter_185 (by decide) ?_
                        refine j_iaddn C dX4_enter_186 ?_
                        refine j_dup2 C dX4_enter_187 rfl rfl ?_
                        refine jm_ald26 C hO (by omega) dX4_enter_188 ?_
                        refine j_aload_n C dX4_enter_189 0 rfl rfl ?_
                        refine jm_get16 C dX4_enter_190 ?_
                        refine j_bipush C (v := nI 104) dX4_enter_193 (by decide) ?_
                        refine j_iload_n C dX4_enter_195 2 rfl rfl ?_
                        refine j_iaddn C dX4_enter_196 ?_
                        refine jm_ald16 C hO (by omega) dX4_enter_197 ?_
                        refine j_ev (v' := nI ((mNow (dM Q)).1 4 i 0)) (by rw [hM13, mSA_ne16 (by decide), hM12, mSA_ne16 (by decide), hM11, mSA_ne16 (by decide), hM10, mSA_ne16 (by decide), hF.2 16 (by decide)]; exact hS.2.2.2.2.2.2.1.po hi2 rfl) ?_
                        refine j_iadd C dX4_enter_198 ?_
                        refine jm_ast26 C hO (by omega) dX4_enter_199 (fun M14 hM14 => ?_)
                        refine j_aload_n C dX4_enter_200 0 rfl rfl ?_
                        refine jm_get26 C dX4_enter_201 ?_
                        refine j_iload_n C dX4_enter_204 3 rfl rfl ?_
                        refine j_iconst C (v := nI 5) dX4_enter_205 (by decide) ?_
                        refine j_iaddn C dX4_enter_206 ?_
                        refine j_dup2 C dX4_enter_207 rfl rfl ?_
                        refine jm_ald26 C hO (by omega) dX4_enter_208 ?_
                        refine j_aload_n C dX4_enter_209 0 rfl rfl ?_
                        refine jm_get16 C dX4_enter_210 ?_
                        refine j_bipush C (v := nI 105) dX4_enter_213 (by decide) ?_
                        refine j_iload_n C dX4_enter_215 2 rfl rfl ?_
                        refine j_isubn C (by omega) dX4_enter_216 ?_
                        refine jm_ald16 C hO (by omega) dX4_enter_217 ?_
                        refine j_ev (v' := nI ((mNow (dM Q)).1 4 (1 - i) 0)) (by rw [hM14, mSA_ne16 (by decide), hM13, mSA_ne16 (by decide), hM12, mSA_ne16 (by decide), hM11, mSA_ne16 (by decide), hM10, mSA_ne16 (by decide), hF.2 16 (by decide)]; exact hS.2.2.2.2.2.2.1.po (i := 1 - i) (by omega) (by omega)) ?_
                        refine j_iadd C dX4_enter_218 ?_
                        refine jm_ast26 C hO (by omega) dX4_enter_219 (fun M15 hM15 => ?_)
                        refine j_iinc C (L' := [(2, .int (nI (i + 1))), (0, .ref o), (1, .int (sgn ((mNow (dM Q)).1 4 0 0) ((mNow (dM Q)).1 4 1 0))), (3, .int (nI (6 * (mC (dM Q) i)))), (4, .int dv)]) dX4_enter_220 2 rfl (kinc i 1 (by decide)) (jlt hnl (by decide)) rfl ?_
                        refine j_goto C (tgt := 60) dX4_enter_223 (by decide) ?_
                        refine J.sub (L' := [(0, .ref o), (1, .int (sgn ((mNow (dM Q)).1 4 0 0) ((mNow (dM Q)).1 4 1 0))), (2, .int (nI (i + 1)))]) ?_ [1, 2, 0] rfl
                        exact ih60 (i + 1) M15 (by omega) (((((((hF).tr (fr.A hM10 (by decide))).tr (fr.A hM11 (by decide))).tr (fr.A hM12 (by decide))).tr (fr.A hM13 (by decide))).tr (fr.A hM14 (by decide))).tr (fr.A hM15 (by decide))) (by rw [hM15, mSA_F, hM14, mSA_F, hM13, mSA_F, hM12, mSA_F, hM11, mSA_F, hM10, mSA_F]; exact h00) (by
                          refine LG6 hw1 hw2 hw3 (f := lgTo (M.2 26) (mC (dM Q)) (fun i => (mNow (dM Q)).1 4 i 0) i) (f1 := M10.2 26) (f2 := M11.2 26) (f3 := M12.2 26) (f4 := M13.2 26) (f5 := M14.2 26) ?_ ?_ ?_ ?_ ?_ ?_
                          · rw [hM10, mSA_s, h26]
                          · rw [hM11, mSA_s]
                          · rw [hM12, mSA_s]
                          · rw [hM13, mSA_s]
                          · rw [hM14, mSA_s]
                          · rw [hM15, mSA_s]) (by omega)
                      refine j_iload C dX4_enter_148 4 rfl ?_
                      refine j_if_le C (tgt := 157) dX4_enter_150 (by decide) ?_ ?_
                      · intro c150
                        refine j_iload C dX4_enter_157 4 rfl ?_
                        refine j_if_ne C (tgt := 166) dX4_enter_159 (by decide) ?_ ?_
                        · intro c159
                          refine j_iload C dX4_enter_166 4 rfl ?_
                          refine j_bipush C (v := -7) dX4_enter_168 (by decide) ?_
                          refine j_ic_lt C (tgt := 177) dX4_enter_170 (by decide) ?_ ?_
                          · intro c170
                            refine j_iconst C (v := nI 0) dX4_enter_177 (by decide) ?_
                            refine J.sub (L' := [(0, .ref o), (1, .int (sgn ((mNow (dM Q)).1 4 0 0) ((mNow (dM Q)).1 4 1 0))), (2, .int (nI i)), (3, .int (nI (6 * (mC (dM Q) i)))), (4, .int dv)]) ?_ [0, 1, 2, 3, 4] rfl
                            exact join178 0 (by grind)
                          · intro c170
                            refine j_iconst C (v := nI 1) dX4_enter_173 (by decide) ?_
                            refine j_goto C (tgt := 178) dX4_enter_174 (by decide) ?_
                            refine J.sub (L' := [(0, .ref o), (1, .int (sgn ((mNow (dM Q)).1 4 0 0) ((mNow (dM Q)).1 4 1 0))), (2, .int (nI i)), (3, .int (nI (6 * (mC (dM Q) i)))), (4, .int dv)]) ?_ [0, 1, 2, 3, 4] rfl
                            exact join178 1 (by grind)
                        · intro c159
                          refine j_iconst C (v := nI 3) dX4_enter_162 (by decide) ?_
                          refine j_goto C (tgt := 178) dX4_enter_163 (by decide) ?_
                          refine J.sub (L' := [(0, .ref o), (1, .int (sgn ((mNow (dM Q)).1 4 0 0) ((mNow (dM Q)).1 4 1 0))), (2, .int (nI i)), (3, .int (nI (6 * (mC (dM Q) i)))), (4, .int dv)]) ?_ [0, 1, 2, 3, 4] rfl
                          exact join178 3 (by grind)
                      · intro c150
                        refine j_iconst C (v := nI 5) dX4_enter_153 (by decide) ?_
                        refine j_goto C (tgt := 178) dX4_enter_154 (by decide) ?_
                        refine J.sub (L' := [(0, .ref o), (1, .int (sgn ((mNow (dM Q)).1 4 0 0) ((mNow (dM Q)).1 4 1 0))), (2, .int (nI i)), (3, .int (nI (6 * (mC (dM Q) i)))), (4, .int dv)]) ?_ [0, 1, 2, 3, 4] rfl
                        exact join178 5 (by grind)
                    refine j_iload C dX4_enter_127 4 rfl ?_
                    refine j_if_ne C (tgt := 136) dX4_enter_129 (by decide) ?_ ?_
                    · intro c129
                      refine j_iconst C (v := nI 0) dX4_enter_136 (by decide) ?_
                      refine J.sub (L' := [(0, .ref o), (1, .int (sgn ((mNow (dM Q)).1 4 0 0) ((mNow (dM Q)).1 4 1 0))), (2, .int (nI i)), (3, .int (nI (6 * (mC (dM Q) i)))), (4, .int dv)]) ?_ [0, 1, 2, 3, 4] rfl
                      exact join137 0 (by grind)
                    · intro c129
                      refine j_iconst C (v := nI 1) dX4_enter_132 (by decide) ?_
                      refine j_goto C (tgt := 137) dX4_enter_133 (by decide) ?_
                      refine J.sub (L' := [(0, .ref o), (1, .int (sgn ((mNow (dM Q)).1 4 0 0) ((mNow (dM Q)).1 4 1 0))), (2, .int (nI i)), (3, .int (nI (6 * (mC (dM Q) i)))), (4, .int dv)]) ?_ [0, 1, 2, 3, 4] rfl
                      exact join137 1 (by grind)
                  refine j_iload C dX4_enter_106 0 rfl ?_
                  refine j_if_le C (tgt := 115) dX4_enter_108 (by decide) ?_ ?_
                  · intro c108
                    refine j_iconst C (v := nI 0) dX4_enter_115 (by decide) ?_
                    refine J.sub (L' := [(0, .ref o), (1, .int (sgn ((mNow (dM Q)).1 4 0 0) ((mNow (dM Q)).1 4 1 0))), (2, .int (nI i)), (3, .int (nI (6 * (mC (dM Q) i)))), (4, .int dv)]) ?_ [1, 2, 3, 4, 0] rfl
                    exact join116 0 (by grind)
                  · intro c108
                    refine j_iconst C (v := nI 1) dX4_enter_111 (by decide) ?_
                    refine j_goto C (tgt := 116) dX4_enter_112 (by decide) ?_
                    refine J.sub (L' := [(0, .ref o), (1, .int (sgn ((mNow (dM Q)).1 4 0 0) ((mNow (dM Q)).1 4 1 0))), (2, .int (nI i)), (3, .int (nI (6 * (mC (dM Q) i)))), (4, .int dv)]) ?_ [1, 2, 3, 4, 0] rfl
                    exact join116 1 (by grind)
                refine j_ifn_ne C (by omega) (tgt := 83) dX4_enter_76 (by decide) ?_ ?_
                · intro c76
                  refine j_iload_n C dX4_enter_83 2 rfl rfl ?_
                  refine j_ineg C dX4_enter_84 ?_
                  refine j_ev (v' := sgn ((mNow (dM Q)).1 4 1 0) ((mNow (dM Q)).1 4 0 0)) sgn_neg ?_
                  refine J.sub (L' := [(0, .ref o), (1, .int (sgn ((mNow (dM Q)).1 4 0 0) ((mNow (dM Q)).1 4 1 0))), (2, .int (nI i)), (3, .int (nI (6 * (mC (dM Q) i))))]) ?_ [1, 2, 3, 0] rfl
                  exact join85 (sgn ((mNow (dM Q)).1 4 1 0) ((mNow (dM Q)).1 4 0 0)) (by rw [show i = 1 by omega])
                · intro c76
                  refine j_iload_n C dX4_enter_79 2 rfl rfl ?_
                  refine j_goto C (tgt := 85) dX4_enter_80 (by decide) ?_
                  refine J.sub (L' := [(0, .ref o), (1, .int (sgn ((mNow (dM Q)).1 4 0 0) ((mNow (dM Q)).1 4 1 0))), (2, .int (nI i)), (3, .int (nI (6 * (mC (dM Q) i))))]) ?_ [1, 2, 3, 0] rfl
                  exact join85 (sgn ((mNow (dM Q)).1 4 0 0) ((mNow (dM Q)).1 4 1 0)) (by rw [c76])
          exact loop60 ((2 - 0) + 1) 0 M7 (by omega) (fr.F eM7 (by decide)) (by rw [eM7, mSF_eq]) (by rw [eM7]; rfl) (Nat.lt_succ_self _)
        · intro c37
          omega
