set_option maxRecDepth 100000
theorem turn_lt {t : MT} : turn t < 2 := Nat.mod_lt _ (by decide)

set_option maxHeartbeats 4000000 in
theorem hc_X6_isDoOrDie {g : jG} (G : jOK g) {h : jH} {ad e : Nat → Nat} {t : MT} (A : MatsAt g h ad e t) {b : Nat} (hb : Bd t b) (hB : b < 2 ^ 30) : CT g 0 0 yX6_isDoOrDie [.ref (ad 19)] h (jnx fun v h' => v = some (.int (pI (t.1 5 (turn t) 0 = 2))) ∧ h' = h) := by
  refine CT.of (bytes := cX6_isDoOrDie) (maxL := 1) (ret := (some .boolean)) G q1509 (by decide) (by decide +kernel) (Nat.le_of_ble_eq_true rfl) ?_
  intro z C E hT hnm hnl
  have C : jC (g, z) cX6_isDoOrDie RX6 0 0 := C
  show J (g, z) h 0 0 [(0, .ref (ad 19))] []
  have po : h (ad 19) = some (jO 5 [.ref (ad 0), .ref (ad 1), .ref (ad 2), .ref (ad 3), .ref (ad 4), .ref (ad 5), .ref (ad 6), .ref (ad 7), .int (nI (t.1 7 0 0)), .int (nI (turn t))]) := A.2.1
  obtain ⟨s, ps, hs⟩ := A.2.2.2.2.1 5 (by decide) (by decide)
  have h5 : t.1 5 (turn t) 0 ≤ b := hb 5 (turn t) 0
  refine j_aload_n C dX6_isDoOrDie_0 0 rfl rfl ?_
  refine j_get C po rfl in_X6 6 (by decide) q1122 (fun _ z => z) rfl dX6_isDoOrDie_1 ?_
  refine j_aload_n C dX6_isDoOrDie_4 0 rfl rfl ?_
  refine j_get C po rfl in_X6 9 (by decide) q1132 (fun _ z => z) rfl dX6_isDoOrDie_5 ?_
  refine j_iald C ps (vp_in_nI turn_lt (by decide)) dX6_isDoOrDie_8 ?_
  refine j_ev (v' := nI (t.1 5 (turn t) 0)) (by rw [nI_clamp (by have := turn_lt (t := t); omega)]; exact hs _ turn_lt) ?_
  refine j_iconst C (v := nI 2) dX6_isDoOrDie_9 (by decide) ?_
  refine j_icn_ne C (by omega) (by decide) (tgt := 17) dX6_isDoOrDie_10 (by decide) ?_ ?_
  · intro c10
    refine j_iconst C (v := nI 0) dX6_isDoOrDie_17 (by decide) ?_
    exact j_iret C E (by decide) (Nat.le_refl _) (⟨rz0 c10, rfl⟩) dX6_isDoOrDie_18
  · intro c10
    refine j_iconst C (v := nI 1) dX6_isDoOrDie_13 (by decide) ?_
    refine j_goto C (tgt := 18) dX6_isDoOrDie_14 (by decide) ?_
    exact j_iret C E (by decide) (Nat.le_refl _) (⟨rz1 c10, rfl⟩) dX6_isDoOrDie_18

theorem row_e {ad : Nat → Nat} {f i : Nat} (hi : i < 2) : va_rf (rowF ad f (nI i).toNatClampNeg) = .ref (ad (8 + 2 * f + i)) := by
  rw [nI_clamp (by omega)]
  have : i = 0 ∨ i = 1 := by omega
  rcases this with rfl | rfl
  · rfl
  · show Value.ref (ad (9 + 2 * f)) = _
    rw [show 9 + 2 * f = 8 + 2 * f + 1 by omega]

set_option maxHeartbeats 4000000 in
theorem hc_X6_count {g : jG} (G : jOK g) {h : jH} {ad e : Nat → Nat} {t : MT} (A : MatsAt g h ad e t) {i a b : Nat} (hi : i < 2) (ha : a < 2 ^ 31) (hb : b < 2 ^ 31) (hB : ∀ p, p < 10 → t.1 0 i p < 2 ^ 31) : CT g 0 0 yX6_count [.ref (ad 19), .int (nI i), .int (nI a), .int (nI b)] h (jnx fun v h' => v = some (.int (nI (tMany t i a b))) ∧ h' = h) := by
  refine CT.of (bytes := cX6_count) (maxL := 9) (ret := (some .int)) G q1411 (by decide) (by decide +kernel) (Nat.le_of_ble_eq_true rfl) ?_
  intro z C E hT hnm hnl
  have C : jC (g, z) cX6_count RX6 0 0 := C
  show J (g, z) h 0 0 [(0, .ref (ad 19)), (1, .int (nI i)), (2, .int (nI a)), (3, .int (nI b))] []
  have po : h (ad 19) = some (jO 5 [.ref (ad 0), .ref (ad 1), .ref (ad 2), .ref (ad 3), .ref (ad 4), .ref (ad 5), .ref (ad 6), .ref (ad 7), .int (nI (t.1 7 0 0)), .int (nI (turn t))]) := A.2.1
  obtain ⟨s, ps, hs⟩ := A.2.2.2.1 0 i (by decide) hi
  refine j_iconst C (v := nI 0) dX6_count_0 (by decide) ?_
  refine j_istore C (L' := [(4, .int (nI 0)), (0, .ref (ad 19)), (1, .int (nI i)), (2, .int (nI a)), (3, .int (nI b))]) dX6_count_1 (jlt hnl (by decide)) rfl ?_
  refine j_aload_n C dX6_count_3 1 rfl rfl ?_
  refine j_get C po rfl in_X6 0 (by decide) q1104 (fun _ z => z) rfl dX6_count_4 ?_
  refine j_iload_n C dX6_count_7 2 rfl rfl ?_
  refine j_aald C 5 (A.2.2.1 0 (by decide)) rfl rfl (vp_in_nI hi (by omega)) dX6_count_8 ?_
  refine j_evr (v' := .ref (ad (8 + 2 * 0 + i))) (row_e hi) ?_
  refine j_astore C (L' := [(5, .ref (ad (8 + 2 * 0 + i))), (4, .int (nI 0)), (0, .ref (ad 19)), (1, .int (nI i)), (2, .int (nI a)), (3, .int (nI b))]) dX6_count_9 (jlt hnl (by decide)) rfl ?_
  refine j_aload C dX6_count_11 0 rfl ?_
  refine j_alen C 0 ps rfl dX6_count_13 ?_
  refine j_istore C (L' := [(6, .int (nI 10)), (5, .ref (ad (8 + 2 * 0 + i))), (4, .int (nI 0)), (0, .ref (ad 19)), (1, .int (nI i)), (2, .int (nI a)), (3, .int (nI b))]) dX6_count_14 (jlt hnl (by decide)) rfl ?_
  refine j_iconst C (v := nI 0) dX6_count_16 (by decide) ?_
  refine j_istore C (L' := [(7, .int (nI 0)), (6, .int (nI 10)), (5, .ref (ad (8 + 2 * 0 + i))), (4, .int (nI 0)), (0, .ref (ad 19)), (1, .int (nI i)), (2, .int (nI a)), (3, .int (nI b))]) dX6_count_17 (jlt hnl (by decide)) rfl ?_
  refine J.sub (L' := [(0, .ref (ad 19)), (1, .int (nI i)), (2, .int (nI a)), (3, .int (nI b)), (4, .int (nI 0)), (5, .ref (ad (8 + 2 * 0 + i))), (6, .int (nI 10)), (7, .int (nI 0))]) ?_ [4, 5, 6, 7, 3, 2, 1, 0] rfl
  have loop19 : ∀ (mz : Nat) (k : Nat) (m : Nat), (k ≤ 10) → (m = (List.range k).countP (fun p => t.1 0 i p == a || t.1 0 i p == b)) → (10 - k) < mz → J (g, z) h 0 19 [(0, .ref (ad 19)), (1, .int (nI i)), (2, .int (nI a)), (3, .int (nI b)), (4, .int (nI m)), (5, .ref (ad (8 + 2 * 0 + i))), (6, .int (nI 10)), (7, .int (nI k))] [] := by
    intro mz
    induction mz with
    | zero => intro k m; intros; omega
    | succ mz ih19 =>
      intro k m hk hmm hm19
      have hmk : m ≤ k := by rw [hmm]; exact cnt_le
      refine j_iload C dX6_count_19 7 rfl ?_
      refine j_iload C dX6_count_21 6 rfl ?_
      refine j_icn_ge C (by omega) (by decide) (tgt := 61) dX6_count_23 (by decide) ?_ ?_
      · intro c23
        refine j_iload C dX6_count_61 4 rfl ?_
        exact j_iret C E rfl (Nat.le_refl _) (⟨by rw [hmm, show k = 10 by omega]; rfl, rfl⟩) dX6_count_63
      · intro c23
        refine j_aload C dX6_count_26 5 rfl ?_
        refine j_iload C dX6_count_28 7 rfl ?_
        refine j_iald C ps (vp_in_nI (by omega) (by decide)) dX6_count_30 ?_
        refine j_ev (v' := nI (t.1 0 i k)) (by rw [nI_clamp (by omega)]; exact hs k (by omega)) ?_
        refine j_istore C (L' := [(8, .int (nI (t.1 0 i k))), (0, .ref (ad 19)), (1, .int (nI i)), (2, .int (nI a)), (3, .int (nI b)), (4, .int (nI m)), (5, .ref (ad (8 + 2 * 0 + i))), (6, .int (nI 10)), (7, .int (nI k))]) dX6_count_31 (jlt hnl (by decide)) rfl ?_
        have hBk := hB k (by omega)
        refine j_iload C dX6_count_33 5 rfl ?_
        refine j_iload C dX6_count_35 0 rfl ?_
        refine j_iload_n C dX6_count_37 3 rfl rfl ?_
        refine j_icn_eq C (by omega) (by omega) (tgt := 47) dX6_count_38 (by decide) ?_ ?_
        · intro c38
          refine j_iconst C (v := nI 1) dX6_count_47 (by decide) ?_
          refine j_goto C (tgt := 52) dX6_count_48 (by decide) ?_
          refine j_iaddn C dX6_count_52 ?_
          refine j_istore C (L' := [(4, .int (nI (m + 1))), (8, .int (nI (t.1 0 i k))), (0, .ref (ad 19)), (1, .int (nI i)), (2, .int (nI a)), (3, .int (nI b)), (5, .ref (ad (8 + 2 * 0 + i))), (6, .int (nI 10)), (7, .int (nI k))]) dX6_count_53 (jlt hnl (by decide)) rfl ?_
          refine j_iinc C (L' := [(7, .int (nI (k + 1))), (4, .int (nI (m + 1))), (8, .int (nI (t.1 0 i k))), (0, .ref (ad 19)), (1, .int (nI i)), (2, .int (nI a)), (3, .int (nI b)), (5, .ref (ad (8 + 2 * 0 + i))), (6, .int (nI 10))]) dX6_count_55 8 rfl (kinc k 1 (by decide)) (jlt hnl (by decide)) rfl ?_
          refine j_goto C (tgt := 19) dX6_count_58 (by decide) ?_
          refine J.sub (L' := [(0, .ref (ad 19)), (1, .int (nI i)), (2, .int (nI a)), (3, .int (nI b)), (4, .int (nI (m + 1))), (5, .ref (ad (8 + 2 * 0 + i))), (6, .int (nI 10)), (7, .int (nI (k + 1)))]) ?_ [3, 4, 5, 6, 1, 7, 8, 0] rfl
          exact ih19 (k + 1) (m + 1) (by omega) (by rw [cnt_s, ← hmm]; grind) (by omega)
        · intro c38
          refine j_iload C dX6_count_41 0 rfl ?_
          refine j_iload_n C dX6_count_43 4 rfl rfl ?_
          refine j_icn_ne C (by omega) (by omega) (tgt := 51) dX6_count_44 (by decide) ?_ ?_
          · intro c44
            refine j_iconst C (v := nI 0) dX6_count_51 (by decide) ?_
            refine j_iaddn C dX6_count_52 ?_
            refine j_istore C (L' := [(4, .int (nI (m + 0))), (8, .int (nI (t.1 0 i k))), (0, .ref (ad 19)), (1, .int (nI i)), (2, .int (nI a)), (3, .int (nI b)), (5, .ref (ad (8 + 2 * 0 + i))), (6, .int (nI 10)), (7, .int (nI k))]) dX6_count_53 (jlt hnl (by decide)) rfl ?_
            refine j_iinc C (L' := [(7, .int (nI (k + 1))), (4, .int (nI (m + 0))), (8, .int (nI (t.1 0 i k))), (0, .ref (ad 19)), (1, .int (nI i)), (2, .int (nI a)), (3, .int (nI b)), (5, .ref (ad (8 + 2 * 0 + i))), (6, .int (nI 10))]) dX6_count_55 8 rfl (kinc k 1 (by decide)) (jlt hnl (by decide)) rfl ?_
            refine j_goto C (tgt := 19) dX6_count_58 (by decide) ?_
            refine J.sub (L' := [(0, .ref (ad 19)), (1, .int (nI i)), (2, .int (nI a)), (3, .int (nI b)), (4, .int (nI (m + 0))), (5, .ref (ad (8 + 2 * 0 + i))), (6, .int (nI 10)), (7, .int (nI (k + 1)))]) ?_ [3, 4, 5, 6, 1, 7, 8, 0] rfl
            exact ih19 (k + 1) (m + 0) (by omega) (by rw [cnt_s, ← hmm]; grind) (by omega)
          · intro c44
            refine j_iconst C (v := nI 1) dX6_count_47 (by decide) ?_
            refine j_goto C (tgt := 52) dX6_count_48 (by decide) ?_
            refine j_iaddn C dX6_count_52 ?_
            refine j_istore C (L' := [(4, .int (nI (m + 1))), (8, .int (nI (t.1 0 i k))), (0, .ref (ad 19)), (1, .int (nI i)), (2, .int (nI a)), (3, .int (nI b)), (5, .ref (ad (8 + 2 * 0 + i))), (6, .int (nI 10)), (7, .int (nI k))]) dX6_count_53 (jlt hnl (by decide)) rfl ?_
            refine j_iinc C (L' := [(7, .int (nI (k + 1))), (4, .int (nI (m + 1))), (8, .int (nI (t.1 0 i k))), (0, .ref (ad 19)), (1, .int (nI i)), (2, .int (nI a)), (3, .int (nI b)), (5, .ref (ad (8 + 2 * 0 + i))), (6, .int (nI 10))]) dX6_count_55 8 rfl (kinc k 1 (by decide)) (jlt hnl (by decide)) rfl ?_
            refine j_goto C (tgt := 19) dX6_count_58 (by decide) ?_
            refine J.sub (L' := [(0, .ref (ad 19)), (1, .int (nI i)), (2, .int (nI a)), (3, .int (nI b)), (4, .int (nI (m + 1))), (5, .ref (ad (8 + 2 * 0 + i))), (6, .int (nI 10)), (7, .int (nI (k + 1)))]) ?_ [3, 4, 5, 6, 1, 7, 8, 0] rfl
            exact ih19 (k + 1) (m + 1) (by omega) (by rw [cnt_s, ← hmm]; grind) (by omega)
  exact loop19 ((10 - 0) + 1) 0 0 (by omega) rfl (Nat.lt_succ_self _)

set_option maxHeartbeats 4000000 in
theorem hc_X6_standing {g : jG} (G : jOK g) {h : jH} {ad e : Nat → Nat} {t : MT} (A : MatsAt g h ad e t) {i : Nat} (hi : i < 2) (hB : ∀ p, p < 10 → t.1 0 i p < 2 ^ 31) : CT g 1 0 yX6_standing [.ref (ad 19), .int (nI i)] h (jnx fun v h' => v = some (.int (nI (tMany t i 0 3))) ∧ h' = h) := by
  refine CT.of (bytes := cX6_standing) (maxL := 2) (ret := (some .int)) G q1513 (by decide) (by decide +kernel) (Nat.le_of_ble_eq_true rfl) ?_
  intro z C E hT hnm hnl
  have C : jC (g, z) cX6_standing RX6 1 0 := C
  show J (g, z) h 0 0 [(0, .ref (ad 19)), (1, .int (nI i))] []
  have po : h (ad 19) = some (jO 5 [.ref (ad 0), .ref (ad 1), .ref (ad 2), .ref (ad 3), .ref (ad 4), .ref (ad 5), .ref (ad 6), .ref (ad 7), .int (nI (t.1 7 0 0)), .int (nI (turn t))]) := A.2.1
  refine j_aload_n C dX6_standing_0 0 rfl rfl ?_
  refine j_iload_n C dX6_standing_1 1 rfl rfl ?_
  refine j_iconst C (v := nI 0) dX6_standing_2 (by decide) ?_
  refine j_iconst C (v := nI 3) dX6_standing_3 (by decide) ?_
  refine j_callV C (as := [.int (nI i), .int (nI 0), .int (nI 3)]) (hc_X6_count G A (a := 0) (b := 3) hi (by decide) (by decide) hB) (jIs.ob po (ci := 5) rfl) q1514 q1409 q1410 q84 (by decide) (by decide +kernel : (parseMethodDescriptor (yX6_count).desc).map (fun d => d.parameters.length) = some 3) (by decide) (by first | decide | omega) rfl (Nat.le_of_ble_eq_true rfl) dX6_standing_4 (fun v1 h2 k3 => ?_) (fun E h' q => absurd q id)
  obtain ⟨rfl, hh⟩ := k3
  have hh := hh.symm
  subst hh
  exact j_iret C E rfl (Nat.le_refl _) (⟨rfl, rfl⟩) dX6_standing_7

set_option maxHeartbeats 4000000 in
theorem hc_X6_on {g : jG} (G : jOK g) {h : jH} {ad e : Nat → Nat} {t : MT} (A : MatsAt g h ad e t) {i : Nat} (hi : i < 2) (hB : ∀ p, p < 10 → t.1 0 i p < 2 ^ 31) : CT g 0 0 yX6_on [.ref (ad 19), .int (nI i)] h (jnx fun v h' => v = some (.int (nI (onSet t i))) ∧ h' = h) := by
  refine CT.of (bytes := cX6_on) (maxL := 4) (ret := (some .int)) G q1469 (by decide) (by decide +kernel) (Nat.le_of_ble_eq_true rfl) ?_
  intro z C E hT hnm hnl
  have C : jC (g, z) cX6_on RX6 0 0 := C
  show J (g, z) h 0 0 [(0, .ref (ad 19)), (1, .int (nI i))] []
  have po : h (ad 19) = some (jO 5 [.ref (ad 0), .ref (ad 1), .ref (ad 2), .ref (ad 3), .ref (ad 4), .ref (ad 5), .ref (ad 6), .ref (ad 7), .int (nI (t.1 7 0 0)), .int (nI (turn t))]) := A.2.1
  obtain ⟨s, ps, hs⟩ := A.2.2.2.1 0 i (by decide) hi
  refine j_iconst C (v := nI 0) dX6_on_0 (by decide) ?_
  refine j_istore_n C (L' := [(2, .int (nI 0)), (0, .ref (ad 19)), (1, .int (nI i))]) dX6_on_1 rfl (jlt hnl (by decide)) rfl ?_
  refine j_iconst C (v := nI 0) dX6_on_2 (by decide) ?_
  refine j_istore_n C (L' := [(3, .int (nI 0)), (2, .int (nI 0)), (0, .ref (ad 19)), (1, .int (nI i))]) dX6_on_3 rfl (jlt hnl (by decide)) rfl ?_
  refine J.sub (L' := [(0, .ref (ad 19)), (1, .int (nI i)), (2, .int (nI 0)), (3, .int (nI 0))]) ?_ [2, 3, 1, 0] rfl
  have loop4 : ∀ (mz : Nat) (k : Nat) (m : Nat), (k ≤ 10) → (m = onTo t i k) → (10 - k) < mz → J (g, z) h 0 4 [(0, .ref (ad 19)), (1, .int (nI i)), (2, .int (nI m)), (3, .int (nI k))] [] := by
    intro mz
    induction mz with
    | zero => intro k m; intros; omega
    | succ mz ih4 =>
      intro k m hk hmm hm4
      refine j_iload_n C dX6_on_4 3 rfl rfl ?_
      refine j_bipush C (v := nI 10) dX6_on_5 (by decide) ?_
      refine j_icn_ge C (by omega) (by decide) (tgt := 37) dX6_on_7 (by decide) ?_ ?_
      · intro c7
        refine j_iload_n C dX6_on_37 2 rfl rfl ?_
        exact j_iret C E rfl (Nat.le_refl _) (⟨by rw [hmm, show k = 10 by omega]; rfl, rfl⟩) dX6_on_38
      · intro c7
        refine j_iload_n C dX6_on_10 2 rfl rfl ?_
        refine j_aload_n C dX6_on_11 0 rfl rfl ?_
        refine j_get C po rfl in_X6 0 (by decide) q1104 (fun _ z => z) rfl dX6_on_12 ?_
        refine j_iload_n C dX6_on_15 1 rfl rfl ?_
        refine j_aald C 5 (A.2.2.1 0 (by decide)) rfl rfl (vp_in_nI hi (by omega)) dX6_on_16 ?_
        refine j_evr (v' := .ref (ad (8 + 2 * 0 + i))) (row_e hi) ?_
        refine j_iload_n C dX6_on_17 3 rfl rfl ?_
        refine j_iald C ps (vp_in_nI (by omega) (by decide)) dX6_on_18 ?_
        refine j_ev (v' := nI (t.1 0 i k)) (by rw [nI_clamp (by omega)]; exact hs k (by omega)) ?_
        have hBk := hB k (by omega)
        refine j_ifn_ne C (by omega) (tgt := 28) dX6_on_19 (by decide) ?_ ?_
        · intro c19
          refine j_iconst C (v := nI 0) dX6_on_28 (by decide) ?_
          refine j_ior C dX6_on_29 ?_
          refine j_ev (v' := nI (onTo t i (k + 1))) (by rw [or_0 (by rw [hmm]; exact onTo_lt hk), hmm]; show _ = nI (onTo t i k ||| (if t.1 0 i k = 0 then 2 ^ k else 0)); rw [if_neg (by omega), Nat.or_zero]) ?_
          refine j_istore_n C (L' := [(2, .int (nI (onTo t i (k + 1)))), (0, .ref (ad 19)), (1, .int (nI i)), (3, .int (nI k))]) dX6_on_30 rfl (jlt hnl (by decide)) rfl ?_
          refine j_iinc C (L' := [(3, .int (nI (k + 1))), (2, .int (nI (onTo t i (k + 1)))), (0, .ref (ad 19)), (1, .int (nI i))]) dX6_on_31 3 rfl (kinc k 1 (by decide)) (jlt hnl (by decide)) rfl ?_
          refine j_goto C (tgt := 4) dX6_on_34 (by decide) ?_
          refine J.sub (L' := [(0, .ref (ad 19)), (1, .int (nI i)), (2, .int (nI (onTo t i (k + 1)))), (3, .int (nI (k + 1)))]) ?_ [2, 3, 1, 0] rfl
          exact ih4 (k + 1) (onTo t i (k + 1)) (by omega) rfl (by omega)
        · intro c19
          refine j_iconst C (v := nI 1) dX6_on_22 (by decide) ?_
          refine j_iload_n C dX6_on_23 3 rfl rfl ?_
          refine j_ishl C dX6_on_24 ?_
          refine j_goto C (tgt := 29) dX6_on_25 (by decide) ?_
          refine j_ior C dX6_on_29 ?_
          refine j_ev (v' := nI (onTo t i (k + 1))) (by rw [or_J (by rw [hmm]; exact onTo_lt hk) (by omega), hmm]; show _ = nI (onTo t i k ||| (if t.1 0 i k = 0 then 2 ^ k else 0)); rw [if_pos (by omega)]) ?_
          refine j_istore_n C (L' := [(2, .int (nI (onTo t i (k + 1)))), (0, .ref (ad 19)), (1, .int (nI i)), (3, .int (nI k))]) dX6_on_30 rfl (jlt hnl (by decide)) rfl ?_
          refine j_iinc C (L' := [(3, .int (nI (k + 1))), (2, .int (nI (onTo t i (k + 1)))), (0, .ref (ad 19)), (1, .int (nI i))]) dX6_on_31 3 rfl (kinc k 1 (by decide)) (jlt hnl (by decide)) rfl ?_
          refine j_goto C (tgt := 4) dX6_on_34 (by decide) ?_
          refine J.sub (L' := [(0, .ref (ad 19)), (1, .int (nI i)), (2, .int (nI (onTo t i (k + 1)))), (3, .int (nI (k + 1)))]) ?_ [2, 3, 1, 0] rfl
          exact ih4 (k + 1) (onTo t i (k + 1)) (by omega) rfl (by omega)
  exact loop4 ((10 - 0) + 1) 0 0 (by omega) rfl (Nat.lt_succ_self _)
