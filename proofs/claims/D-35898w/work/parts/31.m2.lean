set_option maxRecDepth 100000
/-- all but the array s is as it was -/
def mO (M M' : jM) : Prop := M'.1 = M.1 ∧ ∀ k, k ≠ 16 → M'.2 k = M.2 k
theorem mO.rf {M : jM} : mO M M := ⟨rfl, fun _ _ => rfl⟩
theorem mO.tr {M M' M'' : jM} (h : mO M M') (h' : mO M' M'') : mO M M'' := ⟨h'.1.trans h.1, fun k hk => (h'.2 k hk).trans (h.2 k hk)⟩
theorem mO.set {M M' : jM} {i : Nat} {v : Int32} (h : M' = mSA M 16 i v) : mO M M' := by
  subst h
  exact ⟨rfl, fun k hk => by simp [mSA, hk]⟩
theorem mSA_16 {M : jM} {e : Nat} {v : Int32} : (mSA M 16 e v).2 16 = upd (M.2 16) e v := by simp [mSA]
theorem cnt_s {P : Nat → Bool} {k : Nat} : (List.range (k + 1)).countP P = (List.range k).countP P + (if P k = true then 1 else 0) := by
  rw [List.range_succ, List.countP_append, List.countP_singleton]
theorem cnt_le {P : Nat → Bool} {k : Nat} : (List.range k).countP P ≤ k := by
  have := List.countP_le_length (p := P) (l := List.range k)
  simpa using this

set_option maxHeartbeats 4000000 in
theorem mc_turn {g : jG} (G : jOK g) (M : jM) (t : MT) (hS : SA (M.2 16) t) (hn : t.1 8 0 0 < 2 ^ 31)  : MTQ g 0 yX4_turn [] M (nI (turn t)) := by
  intro h o ad hO
  refine CT.of (bytes := cX4_turn) (maxL := 1) (ret := (some .int)) G q2058 (by decide) (by decide +kernel) (Nat.le_of_ble_eq_true rfl) ?_
  intro z C E hT hnm hnl
  have C : jC (g, z) cX4_turn RX4 0 0 := C
  show J (g, z) (mput g h o ad M) 0 0 [(0, .ref o)] []
  refine j_aload_n C dX4_turn_0 0 rfl rfl ?_
  refine jm_get16 C dX4_turn_1 ?_
  refine j_bipush C (v := nI 109) dX4_turn_4 (by decide) ?_
  refine jm_ald16 C hO (by omega) dX4_turn_6 ?_
  refine j_ev (v' := nI (t.1 8 0 0)) hS.nr ?_
  refine j_iconst C (v := nI 2) dX4_turn_7 (by decide) ?_
  refine j_irem C dX4_turn_8 (by decide) ?_
  refine j_ev (pk_rem hn (by decide) (by decide)) ?_
  exact j_iret C E rfl (Nat.le_refl _) (⟨_, rfl, rfl, rfl⟩) dX4_turn_9

set_option maxHeartbeats 4000000 in
theorem mc_manyThat {g : jG} (G : jOK g) (M : jM) (t : MT) (i a b : Nat) (hS : SA (M.2 16) t) (hi : i < 2) (ha : a < 2 ^ 31) (hb : b < 2 ^ 31) (hB : ∀ p, p < 10 → t.1 0 i p < 2 ^ 31)  : MTQ g 1 yX4_manyThat [.int (nI i), .int (nI a), .int (nI b)] M (nI (tMany t i a b)) := by
  intro h o ad hO
  refine CT.of (bytes := cX4_manyThat) (maxL := 6) (ret := (some .int)) G q2089 (by decide) (by decide +kernel) (Nat.le_of_ble_eq_true rfl) ?_
  intro z C E hT hnm hnl
  have C : jC (g, z) cX4_manyThat RX4 1 0 := C
  show J (g, z) (mput g h o ad M) 0 0 [(0, .ref o), (1, .int (nI i)), (2, .int (nI a)), (3, .int (nI b))] []
  refine j_iconst C (v := nI 0) dX4_manyThat_0 (by decide) ?_
  refine j_istore C (L' := [(4, .int (nI 0)), (0, .ref o), (1, .int (nI i)), (2, .int (nI a)), (3, .int (nI b))]) dX4_manyThat_1 (jlt hnl (by decide)) rfl ?_
  refine j_iconst C (v := nI 0) dX4_manyThat_3 (by decide) ?_
  refine j_istore C (L' := [(5, .int (nI 0)), (4, .int (nI 0)), (0, .ref o), (1, .int (nI i)), (2, .int (nI a)), (3, .int (nI b))]) dX4_manyThat_4 (jlt hnl (by decide)) rfl ?_
  refine J.sub (L' := [(0, .ref o), (1, .int (nI i)), (2, .int (nI a)), (3, .int (nI b)), (4, .int (nI 0)), (5, .int (nI 0))]) ?_ [2, 3, 4, 5, 1, 0] rfl
  have loop6 : ∀ (n : Nat) (k : Nat) (m : Nat), (k ≤ 10) → (m = (List.range k).countP (fun p => t.1 0 i p == a || t.1 0 i p == b)) → (10 - k) < n → J (g, z) (mput g h o ad M) 0 6 [(0, .ref o), (1, .int (nI i)), (2, .int (nI a)), (3, .int (nI b)), (4, .int (nI m)), (5, .int (nI k))] [] := by
    intro n
    induction n with
    | zero => intro k m; intros; omega
    | succ n ih6 =>
      intro k m hk hmm hm6
      refine j_iload C dX4_manyThat_6 5 rfl ?_
      refine j_bipush C (v := nI 10) dX4_manyThat_8 (by decide) ?_
      refine j_icn_ge C (by omega) (by omega) (tgt := 51) dX4_manyThat_10 (by decide) ?_ ?_
      · intro c10
        refine j_iload C dX4_manyThat_51 4 rfl ?_
        exact j_iret C E rfl (Nat.le_refl _) (⟨_, rfl, by rw [hmm, show k = 10 by omega]; rfl, rfl⟩) dX4_manyThat_53
      · intro c10
        have hk : k < 10 := by omega
        have join42 : ∀ (bb : Nat), (bb = if t.1 0 i k = a ∨ t.1 0 i k = b then 1 else 0) → J (g, z) (mput g h o ad M) 0 42 [(0, .ref o), (1, .int (nI i)), (2, .int (nI a)), (3, .int (nI b)), (4, .int (nI m)), (5, .int (nI k))] [.int (nI bb), .int (nI m)] := by
          intro bb hbb
          refine j_iaddn C dX4_manyThat_42 ?_
          refine j_istore C (L' := [(4, .int (nI (m + bb))), (0, .ref o), (1, .int (nI i)), (2, .int (nI a)), (3, .int (nI b)), (5, .int (nI k))]) dX4_manyThat_43 (jlt hnl (by decide)) rfl ?_
          refine j_iinc C (L' := [(5, .int (nI (k + 1))), (4, .int (nI (m + bb))), (0, .ref o), (1, .int (nI i)), (2, .int (nI a)), (3, .int (nI b))]) dX4_manyThat_45 5 rfl (kinc k 1 (by decide)) (jlt hnl (by decide)) rfl ?_
          refine j_goto C (tgt := 6) dX4_manyThat_48 (by decide) ?_
          refine J.sub (L' := [(0, .ref o), (1, .int (nI i)), (2, .int (nI a)), (3, .int (nI b)), (4, .int (nI (m + bb))), (5, .int (nI (k + 1)))]) ?_ [2, 3, 4, 5, 1, 0] rfl
          exact ih6 (k + 1) (m + bb) (by omega) (by rw [cnt_s, ← hmm, hbb]; simp) (by omega)
        refine j_iload C dX4_manyThat_13 4 rfl ?_
        refine j_aload_n C dX4_manyThat_15 0 rfl rfl ?_
        refine j_iload_n C dX4_manyThat_16 1 rfl rfl ?_
        refine j_iload C dX4_manyThat_17 5 rfl ?_
        refine j_iload_n C dX4_manyThat_19 2 rfl rfl ?_
        refine jm_callQ C hO (as := [.int (nI i), .int (nI k), .int (nI a)]) (mc_is G M i k (nI a) hi hk) mw_is (by decide) (Nat.le_refl _) rfl (Nat.le_of_ble_eq_true rfl) dX4_manyThat_20 ?_
        refine j_ev (v' := pI (t.1 0 i k = a)) (pI_c (by rw [hS.st hi hk rfl]; exact nI_eq (hB k hk) ha)) ?_
        refine j_ifp_ne C (tgt := 37) dX4_manyThat_23 (by decide) ?_ ?_
        · intro c23
          refine j_iconst C (v := nI 1) dX4_manyThat_37 (by decide) ?_
          refine j_goto C (tgt := 42) dX4_manyThat_38 (by decide) ?_
          refine J.sub (L' := [(0, .ref o), (1, .int (nI i)), (2, .int (nI a)), (3, .int (nI b)), (4, .int (nI m)), (5, .int (nI k))]) ?_ [0, 1, 2, 3, 4, 5] rfl
          exact join42 1 (by grind)
        · intro c23
          refine j_aload_n C dX4_manyThat_26 0 rfl rfl ?_
          refine j_iload_n C dX4_manyThat_27 1 rfl rfl ?_
          refine j_iload C dX4_manyThat_28 5 rfl ?_
          refine j_iload_n C dX4_manyThat_30 3 rfl rfl ?_
          refine jm_callQ C hO (as := [.int (nI i), .int (nI k), .int (nI b)]) (mc_is G M i k (nI b) hi hk) mw_is (by decide) (Nat.le_refl _) rfl (Nat.le_of_ble_eq_true rfl) dX4_manyThat_31 ?_
          refine j_ev (v' := pI (t.1 0 i k = b)) (pI_c (by rw [hS.st hi hk rfl]; exact nI_eq (hB k hk) hb)) ?_
          refine j_ifp_eq C (tgt := 41) dX4_manyThat_34 (by decide) ?_ ?_
          · intro c34
            refine j_iconst C (v := nI 0) dX4_manyThat_41 (by decide) ?_
            refine J.sub (L' := [(0, .ref o), (1, .int (nI i)), (2, .int (nI a)), (3, .int (nI b)), (4, .int (nI m)), (5, .int (nI k))]) ?_ [0, 1, 2, 3, 4, 5] rfl
            exact join42 0 (by grind)
          · intro c34
            refine j_iconst C (v := nI 1) dX4_manyThat_37 (by decide) ?_
            refine j_goto C (tgt := 42) dX4_manyThat_38 (by decide) ?_
            refine J.sub (L' := [(0, .ref o), (1, .int (nI i)), (2, .int (nI a)), (3, .int (nI b)), (4, .int (nI m)), (5, .int (nI k))]) ?_ [0, 1, 2, 3, 4, 5] rfl
            exact join42 1 (by grind)
  exact loop6 ((10 - 0) + 1) 0 0 (by omega) rfl (Nat.lt_succ_self _)

set_option maxHeartbeats 4000000 in
theorem mc_goesOut {g : jG} (G : jOK g) (M : jM) (t : MT) (i p : Nat) (hS : SA (M.2 16) t) (hi : i < 2) (hp : p < 10) (hl : (t.2 i).length < 10)  : MTV g 0 yX4_goesOut [.int (nI i), .int (nI p)] M (fun M' => mO M M' ∧ SA (M'.2 16) (goOut t i p)) := by
  intro h o ad hO
  refine CT.of (bytes := cX4_goesOut) (maxL := 3) (ret := none) G q2105 (by decide) (by decide +kernel) (Nat.le_of_ble_eq_true rfl) ?_
  intro z C E hT hnm hnl
  have C : jC (g, z) cX4_goesOut RX4 0 0 := C
  show J (g, z) (mput g h o ad M) 0 0 [(0, .ref o), (1, .int (nI i)), (2, .int (nI p))] []
  refine j_aload_n C dX4_goesOut_0 0 rfl rfl ?_
  refine jm_get16 C dX4_goesOut_1 ?_
  refine j_bipush C (v := nI 10) dX4_goesOut_4 (by decide) ?_
  refine j_iload_n C dX4_goesOut_6 1 rfl rfl ?_
  refine j_imuln C dX4_goesOut_7 ?_
  refine j_iload_n C dX4_goesOut_8 2 rfl rfl ?_
  refine j_iaddn C dX4_goesOut_9 ?_
  refine j_iconst C (v := nI 2) dX4_goesOut_10 (by decide) ?_
  refine jm_ast16 C hO (by omega) dX4_goesOut_11 (fun M1 hM1 => ?_)
  have hS1 : SA (M1.2 16) (tS t 0 i p 2) := by rw [hM1, mSA_16]; exact hS.pst hi hp rfl
  refine j_aload_n C dX4_goesOut_12 0 rfl rfl ?_
  refine jm_get16 C dX4_goesOut_13 ?_
  refine j_bipush C (v := nI 80) dX4_goesOut_16 (by decide) ?_
  refine j_bipush C (v := nI 10) dX4_goesOut_18 (by decide) ?_
  refine j_iload_n C dX4_goesOut_20 1 rfl rfl ?_
  refine j_imuln C dX4_goesOut_21 ?_
  refine j_iaddn C dX4_goesOut_22 ?_
  refine j_aload_n C dX4_goesOut_23 0 rfl rfl ?_
  refine jm_get16 C dX4_goesOut_24 ?_
  refine j_bipush C (v := nI 100) dX4_goesOut_27 (by decide) ?_
  refine j_iload_n C dX4_goesOut_29 1 rfl rfl ?_
  refine j_iaddn C dX4_goesOut_30 ?_
  refine jm_ald16 C hO (by omega) dX4_goesOut_31 ?_
  refine j_ev (v' := nI ((t.2 i).length)) (hS1.many hi rfl) ?_
  refine j_iaddn C dX4_goesOut_32 ?_
  refine j_iload_n C dX4_goesOut_33 2 rfl rfl ?_
  refine jm_ast16 C hO (by omega) dX4_goesOut_34 (fun M2 hM2 => ?_)
  refine j_aload_n C dX4_goesOut_35 0 rfl rfl ?_
  refine jm_get16 C dX4_goesOut_36 ?_
  refine j_bipush C (v := nI 100) dX4_goesOut_39 (by decide) ?_
  refine j_iload_n C dX4_goesOut_41 1 rfl rfl ?_
  refine j_iaddn C dX4_goesOut_42 ?_
  refine j_dup2 C dX4_goesOut_43 rfl rfl ?_
  refine jm_ald16 C hO (by omega) dX4_goesOut_44 ?_
  refine j_ev (v' := nI ((t.2 i).length)) (by rw [hM2, mSA_ne (Or.inr (by omega))]; exact hS1.many hi rfl) ?_
  refine j_iconst C (v := nI 1) dX4_goesOut_45 (by decide) ?_
  refine j_iaddn C dX4_goesOut_46 ?_
  refine jm_ast16 C hO (by omega) dX4_goesOut_47 (fun M3 hM3 => ?_)
  exact j_vret C E (Nat.le_refl _) (⟨_, rfl, rfl, (mO.set hM1).tr ((mO.set hM2).tr (mO.set hM3)), by rw [hM3, mSA_16, hM2, mSA_16]; exact hS1.push hi hp (by rw [tS_2]; exact hl) rfl rfl⟩) dX4_goesOut_48

set_option maxHeartbeats 4000000 in
theorem mc_comesBack {g : jG} (G : jOK g) (M : jM) (t : MT) (i : Nat) (hS : SA (M.2 16) t) (hi : i < 2)  : MTV g 0 yX4_comesBack [.int (nI i)] M (fun M' => mO M M' ∧ SA (M'.2 16) (comeB t i)) := by
  intro h o ad hO
  refine CT.of (bytes := cX4_comesBack) (maxL := 3) (ret := none) G q2109 (by decide) (by decide +kernel) (Nat.le_of_ble_eq_true rfl) ?_
  intro z C E hT hnm hnl
  have C : jC (g, z) cX4_comesBack RX4 0 0 := C
  show J (g, z) (mput g h o ad M) 0 0 [(0, .ref o), (1, .int (nI i))] []
  refine j_aload_n C dX4_comesBack_0 0 rfl rfl ?_
  refine jm_get16 C dX4_comesBack_1 ?_
  refine j_bipush C (v := nI 100) dX4_comesBack_4 (by decide) ?_
  refine j_iload_n C dX4_comesBack_6 1 rfl rfl ?_
  refine j_iaddn C dX4_comesBack_7 ?_
  refine jm_ald16 C hO (by omega) dX4_comesBack_8 ?_
  refine j_ev (v' := nI ((t.2 i).length)) (hS.many hi rfl) ?_
  refine j_ifn_le C (by have := hS.len hi; omega) (tgt := 99) dX4_comesBack_9 (by decide) ?_ ?_
  · intro c9
    exact j_vret C E (Nat.le_refl _) (⟨_, rfl, rfl, mO.rf, by rw [comeB, List.length_eq_zero_iff.mp c9]; exact hS⟩) dX4_comesBack_99
  · intro c9
    obtain ⟨r, l, hrl⟩ : ∃ r l, t.2 i = r :: l := by
      cases hc : t.2 i with
      | nil => rw [hc] at c9; simp at c9
      | cons r l => exact ⟨r, l, rfl⟩
    have hr : r < 10 := by have := ((hS.2 i hi).2.2 0 (by rw [hrl]; simp)).2; rw [hrl] at this; simpa using this
    have hlen : (t.2 i).length = l.length + 1 := by rw [hrl]; rfl
    have hl10 := hS.len hi
    refine j_aload_n C dX4_comesBack_12 0 rfl rfl ?_
    refine jm_get16 C dX4_comesBack_13 ?_
    refine j_bipush C (v := nI 10) dX4_comesBack_16 (by decide) ?_
    refine j_iload_n C dX4_comesBack_18 1 rfl rfl ?_
    refine j_imuln C dX4_comesBack_19 ?_
    refine j_aload_n C dX4_comesBack_20 0 rfl rfl ?_
    refine jm_get16 C dX4_comesBack_21 ?_
    refine j_bipush C (v := nI 80) dX4_comesBack_24 (by decide) ?_
    refine j_bipush C (v := nI 10) dX4_comesBack_26 (by decide) ?_
    refine j_iload_n C dX4_comesBack_28 1 rfl rfl ?_
    refine j_imuln C dX4_comesBack_29 ?_
    refine j_iaddn C dX4_comesBack_30 ?_
    refine jm_ald16 C hO (by omega) dX4_comesBack_31 ?_
    refine j_ev (v' := nI r) ((hS.row hi (k := 0) (by rw [hrl]; simp) rfl).trans (by rw [hrl]; rfl)) ?_
    refine j_iaddn C dX4_comesBack_32 ?_
    refine j_iconst C (v := nI 0) dX4_comesBack_33 (by decide) ?_
    refine jm_ast16 C hO (by omega) dX4_comesBack_34 (fun M1 hM1 => ?_)
    have hS1 : SA (M1.2 16) (tS t 0 i r 0) := by rw [hM1, mSA_16]; exact hS.pst hi hr rfl
    refine j_aload_n C dX4_comesBack_35 0 rfl rfl ?_
    refine jm_get16 C dX4_comesBack_36 ?_
    refine j_bipush C (v := nI 100) dX4_comesBack_39 (by decide) ?_
    refine j_iload_n C dX4_comesBack_41 1 rfl rfl ?_
    refine j_iaddn C dX4_comesBack_42 ?_
    refine j_dup2 C dX4_comesBack_43 rfl rfl ?_
    refine jm_ald16 C hO (by omega) dX4_comesBack_44 ?_
    refine j_ev (v' := nI (l.length + 1)) ((hS1.many hi rfl).trans (by rw [tS_2, hlen])) ?_
    refine j_iconst C (v := nI 1) dX4_comesBack_45 (by decide) ?_
    refine j_isubn C (by omega) dX4_comesBack_46 ?_
    refine j_ev (v' := nI l.length) (show nI (l.length + 1 - 1) = nI l.length by rw [Nat.add_sub_cancel]) ?_
    refine jm_ast16 C hO (by omega) dX4_comesBack_47 (fun M2 hM2 => ?_)
    refine j_iconst C (v := nI 0) dX4_comesBack_48 (by decide) ?_
    refine j_istore_n C (L' := [(2, .int (nI 0)), (0, .ref o), (1, .int (nI i))]) dX4_comesBack_49 rfl (jlt hnl (by decide)) rfl ?_
    refine J.sub (L' := [(0, .ref o), (1, .int (nI i)), (2, .int (nI 0))]) ?_ [1, 2, 0] rfl
    have loop50 : ∀ (n : Nat) (k : Nat) (Mk : jM), (k ≤ l.length) → (mO M Mk) → (Mk.2 16 = rowMv (upd (M1.2 16) (100 + i) (nI l.length)) i k) → (l.length - k) < n → J (g, z) (mput g h o ad Mk) 0 50 [(0, .ref o), (1, .int (nI i)), (2, .int (nI k))] [] := by
      intro n
      induction n with
      | zero => intro k Mk; intros; omega
      | succ n ih50 =>
        intro k Mk hk hMo hMk hm50
        refine j_iload_n C dX4_comesBack_50 2 rfl rfl ?_
        refine j_aload_n C dX4_comesBack_51 0 rfl rfl ?_
        refine jm_get16 C dX4_comesBack_52 ?_
        refine j_bipush C (v := nI 100) dX4_comesBack_55 (by decide) ?_
        refine j_iload_n C dX4_comesBack_57 1 rfl rfl ?_
        refine j_iaddn C dX4_comesBack_58 ?_
        refine jm_ald16 C hO (by omega) dX4_comesBack_59 ?_
        refine j_ev (v' := nI l.length) (by rw [hMk, rowMv, if_neg (by omega), pk_us]) ?_
        refine j_icn_ge C (by omega) (by omega) (tgt := 99) dX4_comesBack_60 (by decide) ?_ ?_
        · intro c60
          exact j_vret C E (Nat.le_refl _) (⟨_, rfl, rfl, hMo, by rw [hMk, show k = l.length by omega]; have h5 := hS1.drop hi (l := l) (r := r) (by rw [tS_2]; exact hrl) (e := 100 + i) rfl; unfold comeB; rw [hrl]; exact h5⟩) dX4_comesBack_99
        · intro c60
          refine j_aload_n C dX4_comesBack_63 0 rfl rfl ?_
          refine jm_get16 C dX4_comesBack_64 ?_
          refine j_bipush C (v := nI 80) dX4_comesBack_67 (by decide) ?_
          refine j_bipush C (v := nI 10) dX4_comesBack_69 (by decide) ?_
          refine j_iload_n C dX4_comesBack_71 1 rfl rfl ?_
          refine j_imuln C dX4_comesBack_72 ?_
          refine j_iaddn C dX4_comesBack_73 ?_
          refine j_iload_n C dX4_comesBack_74 2 rfl rfl ?_
          refine j_iaddn C dX4_comesBack_75 ?_
          refine j_aload_n C dX4_comesBack_76 0 rfl rfl ?_
          refine jm_get16 C dX4_comesBack_77 ?_
          refine j_bipush C (v := nI 80) dX4_comesBack_80 (by decide) ?_
          refine j_bipush C (v := nI 10) dX4_comesBack_82 (by decide) ?_
          refine j_iload_n C dX4_comesBack_84 1 rfl rfl ?_
          refine j_imuln C dX4_comesBack_85 ?_
          refine j_iaddn C dX4_comesBack_86 ?_
          refine j_iload_n C dX4_comesBack_87 2 rfl rfl ?_
          refine j_iaddn C dX4_comesBack_88 ?_
          refine j_iconst C (v := nI 1) dX4_comesBack_89 (by decide) ?_
          refine j_iaddn C dX4_comesBack_90 ?_
          refine jm_ald16 C hO (by omega) dX4_comesBack_91 ?_
          refine jm_ast16 C hO (by omega) dX4_comesBack_92 (fun M3 hM3 => ?_)
          refine j_iinc C (L' := [(2, .int (nI (k + 1))), (0, .ref o), (1, .int (nI i))]) dX4_comesBack_93 2 rfl (kinc k 1 (by decide)) (jlt hnl (by decide)) rfl ?_
          refine j_goto C (tgt := 50) dX4_comesBack_96 (by decide) ?_
          refine J.sub (L' := [(0, .ref o), (1, .int (nI i)), (2, .int (nI (k + 1)))]) ?_ [1, 2, 0] rfl
          exact ih50 (k + 1) M3 (by omega) (hMo.tr (mO.set hM3)) (by rw [hM3, mSA_16, hMk]; exact rowMv_s rfl (by rw [rowMv, if_neg (by omega)])) (by omega)
    exact loop50 ((l.length - 0) + 1) 0 M2 (Nat.zero_le _) ((mO.set hM1).tr (mO.set hM2)) (by rw [rowMv_0, hM2, mSA_16]) (Nat.lt_succ_self _)
