set_option maxRecDepth 100000

theorem neg128 {n : Nat} (h : n < 2 ^ 31) : ¬ nI n < -128 := by
  have e : (-128 : Int32).toInt = -128 := by decide
  rw [Int32.lt_iff_toInt_lt, nI_toInt h, e]; omega

set_option maxHeartbeats 4000000 in
theorem hc_J22_valueOf {g : jG} (G : jOK g) (Kn : jKN g) {h : jH} {n : Nat} (hn : n < 128) : CT g 1 0 yJ22_valueOf [.int (nI n)] h (jnx fun v h' => v = some (.ref (bxN g n)) ∧ h' = h) := by
  refine CT.of (bytes := cJ22_valueOf) (maxL := 1) (ret := (some (.object "java/lang/Integer"))) G q1525 (by decide) (by decide +kernel) (Nat.le_of_ble_eq_true rfl) ?_
  intro z C E hT hnm hnl
  have C : jC (g, z) cJ22_valueOf RJ22 1 0 := C
  show J (g, z) h 0 0 [(0, .int (nI n))] []
  refine j_iload_n C dJ22_valueOf_0 0 rfl rfl ?_
  refine j_bipush C (v := -128) dJ22_valueOf_1 (by decide) ?_
  refine j_ic_lt C (tgt := 23) dJ22_valueOf_3 (by decide) ?_ ?_
  · intro c3
    exact absurd c3 (neg128 (by omega))
  · intro c3
    refine j_iload_n C dJ22_valueOf_6 0 rfl rfl ?_
    refine j_gets C Kn.2.2.2.1.1 q1526 (fun _ z => z) dJ22_valueOf_7 ?_
    refine j_icn_gt C (by omega) (by decide) (tgt := 23) dJ22_valueOf_10 (by decide) ?_ ?_
    · intro c10
      omega
    · intro c10
      refine j_gets C Kn.2.2.2.1.2.1 q1528 (fun _ z => z) dJ22_valueOf_13 ?_
      refine j_iload_n C dJ22_valueOf_16 0 rfl rfl ?_
      refine j_sipush C (v := nI 128) dJ22_valueOf_17 (by decide) ?_
      refine j_iaddn C dJ22_valueOf_20 ?_
      refine j_tq C Kn.2.2.2.1.2.2.1 (vp_in_nI (by omega) (by decide)) dJ22_valueOf_21 ?_
      refine j_evr (v' := .ref (bxN g n)) (by rw [nI_clamp (by omega)]) ?_
      exact j_aret C E (Or.inl ⟨_, rfl⟩) (Or.inr ⟨_, rfl⟩) (Nat.le_refl _) (⟨rfl, rfl⟩) dJ22_valueOf_22

set_option maxHeartbeats 4000000 in
theorem hc_J22_intValue {g : jG} (G : jOK g) (Kn : jKN g) {h : jH} {n : Nat} (hn : n < 128) : CT g 0 0 yJ22_intValue [.ref (bxN g n)] h (jnx fun v h' => v = some (.int (nI n)) ∧ h' = h) := by
  refine CT.of (bytes := cJ22_intValue) (maxL := 1) (ret := (some .int)) G q1495 (by decide) (by decide +kernel) (Nat.le_of_ble_eq_true rfl) ?_
  intro z C E hT hnm hnl
  have C : jC (g, z) cJ22_intValue RJ22 0 0 := C
  show J (g, z) h 0 0 [(0, .ref (bxN g n))] []
  refine j_aload_n C dJ22_intValue_0 0 rfl rfl ?_
  refine j_boxv C Kn.2.2.2.1.2.2.2 (k := n + 128) (by omega) q1539 (fun _ z => z) dJ22_intValue_1 ?_
  refine j_ev (bxc hn) ?_
  exact j_iret C E rfl (Nat.le_refl _) ⟨rfl, rfl⟩ dJ22_intValue_4
