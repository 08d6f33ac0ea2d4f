set_option maxRecDepth 100000

theorem jup_i2 {h : jH} {a t : Nat} {x y z z' w : va_E} (hat : a ≠ t) (hz : z = z') : jup (jup (jup (jup h a x) t w) a y) a z = jup (jup h t w) a z' := by
  subst hz
  rw [jup_jup, jup_o hat]
  exact jup_jup

set_option maxHeartbeats 4000000 in
theorem hc_J13_init_2 {g : jG} (G : jOK g) (Kn : jKN g) {h : jH} {a b e n cap : Nat} {m m0 n0 : Int32} {e0 : Value} {f : Nat → Option Nat} (pa : h a = some (jO 12 [.int m0, e0, .int n0])) (p : h b = some (jO 12 [.int m, .ref e, .int (nI n)])) (hab : a ≠ b) (q : QA g h e cap f) (hc : n ≤ cap) (hcap : cap < 900000) (hE : ∀ i : Nat, i < cap → okE g h (f i)) : CTI g 4 (n + 1) yJ13_init_2 [.ref a, .ref b] h (jnx fun v h' => v = none ∧ ∃ (t : Nat) (f' : Nat → Option Nat), h t = none ∧ jA g t ∧ (∀ k, k < n → f' k = f k) ∧ (∀ k, n ≤ k → f' k = none) ∧ h' = jup (jup h t (jQ g 4 n f')) a (jO 12 [.int (nI 0), .ref (if n = 0 then kE2 g else t), .int (nI n)])) := by
  refine CTI.of (bytes := cJ13_init_2) (maxL := 3) G q1431 (by decide) (by decide +kernel) (Nat.le_of_ble_eq_true rfl) ?_
  intro z C E hT hnm hnl
  have C : jC (g, z) cJ13_init_2 RJ13 4 (n + 1) := C
  show J (g, z) h 0 0 [(0, .ref a), (1, .ref b)] []
  refine j_aload_n C dJ13_init_2_0 0 rfl rfl ?_
  refine j_callI C (as := []) (hc_J12_init G pa) rfl q609 q610 q82 (by decide) (by decide +kernel : (parseMethodDescriptor (yJ12_init).desc).map (fun d => d.parameters.length) = some 0) (by decide) (by first | decide | omega) rfl (Nat.le_of_ble_eq_true rfl) dJ13_init_2_1 (fun v1 h2 k3 => ?_) (fun E h' q => absurd q id)
  obtain ⟨rfl, eh2⟩ := k3
  have eh2 := eh2.symm
  have ph2_b : h2 b = some (jO 12 [.int m, .ref e, .int (nI n)]) := by rw [← eh2, jup_ne (Ne.symm hab)]; exact p
  have ph2_e : QA g h2 e cap f := by rw [← eh2]; exact QA.up pa q
  have ph2_a : h2 a = some (jO 12 [.int (nI 0), e0, .int n0]) := by rw [← eh2]; exact jup_eq
  refine j_aload_n C dJ13_init_2_4 1 rfl rfl ?_
  refine j_callF C (as := []) (xi := ({ cls := "java/util/Collection", name := "toArray", desc := "()[Ljava/lang/Object;" } : Jvm.MethodName)) (ci := 12) (hc_J13_toArray G Kn ph2_b ph2_e hc hcap (fun i hi => by rw [← eh2]; exact (hE i hi).upd pa)) rfl (jIs.ob ph2_b (ci := 12) rfl) (by decide) q1435 q1434 q1440 q1438 q1436 q1433 q1437 q1439 q83 (by decide +kernel : (parseMethodDescriptor (({ cls := "java/util/Collection", name := "toArray", desc := "()[Ljava/lang/Object;" } : Jvm.MethodName)).desc).map (fun d => d.parameters.length) = some 0) (by decide) (by first | decide | omega) rfl (Nat.le_of_ble_eq_true rfl) dJ13_init_2_5 (fun v4 h5 k6 => ?_) (fun E h' q => absurd q id)
  obtain ⟨a7, rfl, na7, za7, eh5⟩ := k6
  have eh5 := eh5.symm
  have nh5_b : b ≠ a7 := jne ph2_b na7
  have nh5_a : a ≠ a7 := jne ph2_a na7
  have ph5_b : h5 b = some (jO 12 [.int m, .ref e, .int (nI n)]) := by rw [← eh5, jup_ne nh5_b]; exact ph2_b
  have ph5_e : QA g h5 e cap f := by rw [← eh5]; exact QA.fresh na7 ph2_e
  have ph5_a : h5 a = some (jO 12 [.int (nI 0), e0, .int n0]) := by rw [← eh5, jup_ne nh5_a]; exact ph2_a
  have ph5_a7 : h5 a7 = some (jQ g 4 n (va_cpy f (fun _ => none) 0 0 (min cap n))) := by rw [← eh5]; exact jup_eq
  refine j_astore_n C (L' := [(2, .ref a7), (0, .ref a), (1, .ref b)]) dJ13_init_2_10 rfl (jlt hnl (by decide)) rfl ?_
  refine j_aload_n C dJ13_init_2_11 1 rfl rfl ?_
  refine j_aload_n C dJ13_init_2_12 0 rfl rfl ?_
  refine j_alen C 4 ph5_a7 rfl dJ13_init_2_13 ?_
  refine j_dup_x1 C dJ13_init_2_14 rfl rfl ?_
  refine j_put C ph5_a (fs' := [.int (nI 0), e0, .int (nI n)]) rfl in_J13 tyJ13 tyJ13_ok nmJ13 2 (by decide) q621 (fun _ z => z) rfl rfl rfl (by show 2 < 3; decide) rfl dJ13_init_2_15 ?_
  generalize eh8 : jup h5 a (jO 12 [.int (nI 0), e0, .int (nI n)]) = h8
  have ph8_b : h8 b = some (jO 12 [.int m, .ref e, .int (nI n)]) := by rw [← eh8, jup_ne (Ne.symm hab)]; exact ph5_b
  have ph8_e : QA g h8 e cap f := by rw [← eh8]; exact QA.up ph5_a ph5_e
  have ph8_a7 : h8 a7 = some (jQ g 4 n (va_cpy f (fun _ => none) 0 0 (min cap n))) := by rw [← eh8, jup_ne (Ne.symm nh5_a)]; exact ph5_a7
  have ph8_a : h8 a = some (jO 12 [.int (nI 0), e0, .int (nI n)]) := by rw [← eh8]; exact jup_eq
  refine j_ifn_eq C (by omega) (tgt := 57) dJ13_init_2_18 (by decide) ?_ ?_
  · intro c18
    refine j_aload_n C dJ13_init_2_57 1 rfl rfl ?_
    refine j_gets C Kn.2.1.1 q1451 (fun _ z => z) dJ13_init_2_58 ?_
    refine j_put C ph8_a (fs' := [.int (nI 0), .ref (kE2 g), .int (nI n)]) rfl in_J13 tyJ13 tyJ13_ok nmJ13 1 (by decide) q618 (fun _ z => z) rfl rfl rfl (by show 1 < 3; decide) rfl dJ13_init_2_61 ?_
    generalize eh9 : jup h8 a (jO 12 [.int (nI 0), .ref (kE2 g), .int (nI n)]) = h9
    have ph9_b : h9 b = some (jO 12 [.int m, .ref e, .int (nI n)]) := by rw [← eh9, jup_ne (Ne.symm hab)]; exact ph8_b
    have ph9_e : QA g h9 e cap f := by rw [← eh9]; exact QA.up ph8_a ph8_e
    have ph9_a7 : h9 a7 = some (jQ g 4 n (va_cpy f (fun _ => none) 0 0 (min cap n))) := by rw [← eh9, jup_ne (Ne.symm nh5_a)]; exact ph8_a7
    have ph9_a : h9 a = some (jO 12 [.int (nI 0), .ref (kE2 g), .int (nI n)]) := by rw [← eh9]; exact jup_eq
    exact j_vret C E (by omega) (⟨rfl, a7, va_cpy f (fun _ => none) 0 0 (min cap n), jup_none (by rw [eh2]; exact na7), za7, fun k hk => by unfold va_cpy; rw [if_pos (by omega)]; congr 1; omega, fun k hk => by unfold va_cpy; rw [if_neg (by omega)], by rw [← eh9, ← eh8, ← eh5, ← eh2]; exact jup_i2 (jne pa (jup_none (by rw [eh2]; exact na7))) (by rw [if_pos c18])⟩) dJ13_init_2_64
  · intro c18
    refine j_aload_n C dJ13_init_2_21 2 rfl rfl ?_
    refine j_getCI C q1443 Kn.2.2.2.2.1.2.1 (jIs.ob ph8_b (ci := 12) rfl) (by decide) (Nat.le_of_ble_eq_true rfl) dJ13_init_2_22 ?_
    refine j_ldcM C q1448 Kn.2.2.2.2.1.2.1 dJ13_init_2_27 ?_
    refine j_ac_ne C (v := some (kML g)) (w := some (kML g)) (tgt := 40) dJ13_init_2_29 (by decide) ?_ ?_
    · intro c29
      exact absurd rfl c29
    · intro c29
      refine j_aload_n C dJ13_init_2_32 1 rfl rfl ?_
      refine j_aload_n C dJ13_init_2_33 0 rfl rfl ?_
      refine j_put C ph8_a (fs' := [.int (nI 0), .ref a7, .int (nI n)]) rfl in_J13 tyJ13 tyJ13_ok nmJ13 1 (by decide) q618 (fun _ z => z) rfl rfl rfl (by show 1 < 3; decide) rfl dJ13_init_2_34 ?_
      generalize eh10 : jup h8 a (jO 12 [.int (nI 0), .ref a7, .int (nI n)]) = h10
      have ph10_b : h10 b = some (jO 12 [.int m, .ref e, .int (nI n)]) := by rw [← eh10, jup_ne (Ne.symm hab)]; exact ph8_b
      have ph10_e : QA g h10 e cap f := by rw [← eh10]; exact QA.up ph8_a ph8_e
      have ph10_a7 : h10 a7 = some (jQ g 4 n (va_cpy f (fun _ => none) 0 0 (min cap n))) := by rw [← eh10, jup_ne (Ne.symm nh5_a)]; exact ph8_a7
      have ph10_a : h10 a = some (jO 12 [.int (nI 0), .ref a7, .int (nI n)]) := by rw [← eh10]; exact jup_eq
      refine j_goto C (tgt := 64) dJ13_init_2_37 (by decide) ?_
      exact j_vret C E (by omega) (⟨rfl, a7, va_cpy f (fun _ => none) 0 0 (min cap n), jup_none (by rw [eh2]; exact na7), za7, fun k hk => by unfold va_cpy; rw [if_pos (by omega)]; congr 1; omega, fun k hk => by unfold va_cpy; rw [if_neg (by omega)], by rw [← eh10, ← eh8, ← eh5, ← eh2]; exact jup_i2 (jne pa (jup_none (by rw [eh2]; exact na7))) (by rw [if_neg c18])⟩) dJ13_init_2_64
