set_option maxRecDepth 100000
theorem turn_lt {t : MT} : turn t < 2 := Nat.mod_lt _ (by decide)

set_option maxHeartbeats 4000000 in
theorem hc_X6_isDoOrDie {g : jG} (G : jOK g) {h : jH} {ad e : Nat → Nat} {t : MT} (A : MatsAt g h ad e t) {b : Nat} (hb : Bd t b) (hB : b < 2 ^ 30) : CT g 0 0 yX6_isDoOrDie [.ref (ad 19)] h (jnx fun v h' => v = some (.int (pI (t.1 5 (turn t) 0 = 2))) ∧ h' = h) := by
  refine CT.of (bytes := cX6_isDoOrDie) (maxL := 1) (ret := (some .boolean)) G q1509 (by decide) (by decide +kernel) (Nat.le_of_ble_eq_true rfl) ?_
  intro z C E hT hnm hnl
  have C : jC (g, z) cX6_isDoOrDie RX6 0 0 := C
  show J (g, z) h 0 0 [(0, .ref (ad 19))] []
  have po : h (ad 19) = some (jO 5 [.ref (ad 0), .ref (ad 1), .ref (ad 2), .ref (ad 3), .ref (ad 4), .ref (ad 5), .ref (ad 6), .ref (ad 7), .int (nI (t.1 7 0 0)), .int (nI (turn t))]) := A.2.1
  obtain ⟨s, ps, hs⟩ := A.2.2.2.2.1 5 (by decide) (by decide)
  have h5 : t.1 5 (turn t) 0 ≤ b := hb 5 (turn t) 0
  refine j_aload_n C dX6_isDoOrDie_0 0 rfl rfl ?_
  refine j_get C po rfl in_X6 6 (by decide) q1122 (fun _ z => z) rfl dX6_isDoOrDie_1 ?_
  refine j_aload_n C dX6_isDoOrDie_4 0 rfl rfl ?_
  refine j_get C po rfl in_X6 9 (by decide) q1132 (fun _ z => z) rfl dX6_isDoOrDie_5 ?_
  refine j_iald C ps (vp_in_nI turn_lt (by decide)) dX6_isDoOrDie_8 ?_
  refine j_ev (v' := nI (t.1 5 (turn t) 0)) (by rw [nI_clamp (by have := turn_lt (t := t); omega)]; exact hs _ turn_lt) ?_
  refine j_iconst C (v := nI 2) dX6_isDoOrDie_9 (by decide) ?_
  refine j_icn_ne C (by omega) (by decide) (tgt := 17) dX6_isDoOrDie_10 (by decide) ?_ ?_
  · intro c10
    refine j_iconst C (v := nI 0) dX6_isDoOrDie_17 (by decide) ?_
    exact j_iret C E (by decide) (Nat.le_refl _) (⟨rz0 c10, rfl⟩) dX6_isDoOrDie_18
  · intro c10
    refine j_iconst C (v := nI 1) dX6_isDoOrDie_13 (by decide) ?_
    refine j_goto C (tgt := 18) dX6_isDoOrDie_14 (by decide) ?_
    exact j_iret C E (by decide) (Nat.le_refl _) (⟨rz1 c10, rfl⟩) dX6_isDoOrDie_18
