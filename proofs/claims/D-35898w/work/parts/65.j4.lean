set_option maxRecDepth 100000

theorem jup_mix {h : jH} {a e : Nat} {x x' y z : va_E} (hae : a ≠ e) : jup (jup (jup (jup h a x) e y) a x') e z = jup (jup h e z) a x' := by
  funext q
  unfold jup
  by_cases c : q = a
  · rw [if_pos c, if_neg (by omega), if_pos c]
  · rw [if_neg c, if_neg c, if_neg c]
    by_cases c2 : q = e
    · rw [if_pos c2, if_pos c2]
    · rw [if_neg c2, if_neg c2, if_neg c2]
theorem jup_mix0 {h : jH} {a e : Nat} {x x' z : va_E} (hae : a ≠ e) : jup (jup (jup h a x) a x') e z = jup (jup h e z) a x' := by
  rw [jup_jup, jup_o hae]
theorem cpyv {f : Nat → Option Nat} {sp dp n k : Nat} : va_cpy f f sp dp n k = if dp ≤ k ∧ k < dp + n then f (sp + (k - dp)) else f k := rfl

set_option maxHeartbeats 4000000 in
theorem hc_J13_fastRemove {g : jG} (G : jOK g) {h : jH} {a e n cap i : Nat} {m : Int32} {f : Nat → Option Nat} (p : h a = some (jO 12 [.int m, .ref e, .int (nI (n + 1))])) (pe : h e = some (jQ g 4 cap f)) (hc : n + 1 ≤ cap) (hcap : cap < 2 ^ 20) (hi : i ≤ n) (hE : ∀ k : Nat, k ≤ n → okE g h (f k)) : CT g 1 0 yJ13_fastRemove [.ref a, .ref e, .int (nI i)] h (jnx fun v h' => v = none ∧ ∃ f' : Nat → Option Nat, (∀ k, k < i → f' k = f k) ∧ (∀ k, i ≤ k → k < n → f' k = f (k + 1)) ∧ f' n = none ∧ (∀ k, n < k → f' k = f k) ∧ h' = jup (jup h e (jQ g 4 cap f')) a (jO 12 [.int (m + nI 1), .ref e, .int (nI n)])) := by
  refine CT.of (bytes := cJ13_fastRemove) (maxL := 4) (ret := none) G q1489 (by decide) (by decide +kernel) (Nat.le_of_ble_eq_true rfl) ?_
  intro z C E hT hnm hnl
  have C : jC (g, z) cJ13_fastRemove RJ13 1 0 := C
  show J (g, z) h 0 0 [(0, .ref a), (1, .ref e), (2, .int (nI i))] []
  have hae := jne_k p pe
  refine j_aload_n C dJ13_fastRemove_0 0 rfl rfl ?_
  refine j_dup C dJ13_fastRemove_1 rfl ?_
  refine j_get C p rfl in_J13 0 (by decide) q625 (u_same (C.ts _ q624)) rfl dJ13_fastRemove_2 ?_
  refine j_iconst C (v := nI 1) dJ13_fastRemove_5 (by decide) ?_
  refine j_iadd C dJ13_fastRemove_6 ?_
  refine j_put C p (fs' := [.int (m + (nI 1)), .ref e, .int (nI (n + 1))]) rfl in_J13 tyJ13 tyJ13_ok nmJ13 0 (by decide) q625 (u_same (C.ts _ q624)) rfl rfl rfl (by show 0 < 3; decide) rfl dJ13_fastRemove_7 ?_
  generalize eh1 : jup h a (jO 12 [.int (m + (nI 1)), .ref e, .int (nI (n + 1))]) = h1
  have ph1_e : h1 e = some (jQ g 4 cap f) := by rw [← eh1, jup_ne (Ne.symm hae)]; exact pe
  have ph1_a : h1 a = some (jO 12 [.int (m + (nI 1)), .ref e, .int (nI (n + 1))]) := by rw [← eh1]; exact jup_eq
  have hE1 : ∀ k : Nat, k ≤ n → okE g h1 (f k) := fun k hk => by rw [← eh1]; exact (hE k hk).upd p
  refine j_aload_n C dJ13_fastRemove_10 0 rfl rfl ?_
  refine j_get C ph1_a rfl in_J13 2 (by decide) q621 (fun _ z => z) rfl dJ13_fastRemove_11 ?_
  refine j_iconst C (v := nI 1) dJ13_fastRemove_14 (by decide) ?_
  refine j_isubn C (by omega) dJ13_fastRemove_15 ?_
  refine j_ev (v' := nI n) (by rw [Nat.add_sub_cancel]) ?_
  refine j_dup C dJ13_fastRemove_16 rfl ?_
  refine j_istore_n C (L' := [(3, .int (nI n)), (0, .ref a), (1, .ref e), (2, .int (nI i))]) dJ13_fastRemove_17 rfl (jlt hnl (by decide)) rfl ?_
  refine j_iload_n C dJ13_fastRemove_18 3 rfl rfl ?_
  refine j_icn_le C (by omega) (by omega) (tgt := 34) dJ13_fastRemove_19 (by decide) ?_ ?_
  · intro c19
    refine j_aload_n C dJ13_fastRemove_34 2 rfl rfl ?_
    refine j_aload_n C dJ13_fastRemove_35 1 rfl rfl ?_
    refine j_iload_n C dJ13_fastRemove_36 0 rfl rfl ?_
    refine j_dup_x1 C dJ13_fastRemove_37 rfl rfl ?_
    refine j_put C ph1_a (fs' := [.int (m + (nI 1)), .ref e, .int (nI n)]) rfl in_J13 tyJ13 tyJ13_ok nmJ13 2 (by decide) q621 (fun _ z => z) rfl rfl rfl (by show 2 < 3; decide) rfl dJ13_fastRemove_38 ?_
    generalize eh2 : jup h1 a (jO 12 [.int (m + (nI 1)), .ref e, .int (nI n)]) = h2
    have ph2_e : h2 e = some (jQ g 4 cap f) := by rw [← eh2, jup_ne (Ne.symm hae)]; exact ph1_e
    have ph2_a : h2 a = some (jO 12 [.int (m + (nI 1)), .ref e, .int (nI n)]) := by rw [← eh2]; exact jup_eq
    refine j_null C dJ13_fastRemove_41 ?_
    refine j_aasto C (w := none) ph2_e (by omega) (by omega) (fun v z => by cases z) dJ13_fastRemove_42 ?_
    generalize eh3 : jup h2 e (jQ g 4 cap (va_up f n none)) = h3
    have ph3_a : h3 a = some (jO 12 [.int (m + (nI 1)), .ref e, .int (nI n)]) := by rw [← eh3, jup_ne hae]; exact ph2_a
    have ph3_e : h3 e = some (jQ g 4 cap (va_up f n none)) := by rw [← eh3]; exact jup_eq
    exact j_vret C E (Nat.le_refl _) (⟨rfl, va_up f n none, fun k hk => va_upn (by omega), fun k hk hk2 => by omega, va_ups, fun k hk => va_upn (by omega), by rw [← eh3, ← eh2, ← eh1]; exact jup_mix0 hae⟩) dJ13_fastRemove_43
  · intro c19
    refine j_aload_n C dJ13_fastRemove_22 2 rfl rfl ?_
    refine j_iload_n C dJ13_fastRemove_23 3 rfl rfl ?_
    refine j_iconst C (v := nI 1) dJ13_fastRemove_24 (by decide) ?_
    refine j_iaddn C dJ13_fastRemove_25 ?_
    refine j_aload_n C dJ13_fastRemove_26 2 rfl rfl ?_
    refine j_iload_n C dJ13_fastRemove_27 3 rfl rfl ?_
    refine j_iload_n C dJ13_fastRemove_28 0 rfl rfl ?_
    refine j_iload_n C dJ13_fastRemove_29 3 rfl rfl ?_
    refine j_isubn C (by omega) dJ13_fastRemove_30 ?_
    refine j_copyq C (sp := i + 1) (dp := i) (n := n - i) ph1_e ph1_e q1490 (by omega) (by omega) (by omega) (by omega) (fun j hj y hy => hE1 (i + 1 + j) (by omega) y hy) (by decide) (Nat.le_of_ble_eq_true rfl) dJ13_fastRemove_31 ?_
    generalize eh4 : jup h1 e (jQ g 4 cap (va_cpy f f (i + 1) i (n - i))) = h4
    have ph4_a : h4 a = some (jO 12 [.int (m + (nI 1)), .ref e, .int (nI (n + 1))]) := by rw [← eh4, jup_ne hae]; exact ph1_a
    have ph4_e : h4 e = some (jQ g 4 cap (va_cpy f f (i + 1) i (n - i))) := by rw [← eh4]; exact jup_eq
    refine j_aload_n C dJ13_fastRemove_34 2 rfl rfl ?_
    refine j_aload_n C dJ13_fastRemove_35 1 rfl rfl ?_
    refine j_iload_n C dJ13_fastRemove_36 0 rfl rfl ?_
    refine j_dup_x1 C dJ13_fastRemove_37 rfl rfl ?_
    refine j_put C ph4_a (fs' := [.int (m + (nI 1)), .ref e, .int (nI n)]) rfl in_J13 tyJ13 tyJ13_ok nmJ13 2 (by decide) q621 (fun _ z => z) rfl rfl rfl (by show 2 < 3; decide) rfl dJ13_fastRemove_38 ?_
    generalize eh5 : jup h4 a (jO 12 [.int (m + (nI 1)), .ref e, .int (nI n)]) = h5
    have ph5_e : h5 e = some (jQ g 4 cap (va_cpy f f (i + 1) i (n - i))) := by rw [← eh5, jup_ne (Ne.symm hae)]; exact ph4_e
    have ph5_a : h5 a = some (jO 12 [.int (m + (nI 1)), .ref e, .int (nI n)]) := by rw [← eh5]; exact jup_eq
    refine j_null C dJ13_fastRemove_41 ?_
    refine j_aasto C (w := none) ph5_e (by omega) (by omega) (fun v z => by cases z) dJ13_fastRemove_42 ?_
    generalize eh6 : jup h5 e (jQ g 4 cap (va_up (va_cpy f f (i + 1) i (n - i)) n none)) = h6
    have ph6_a : h6 a = some (jO 12 [.int (m + (nI 1)), .ref e, .int (nI n)]) := by rw [← eh6, jup_ne hae]; exact ph5_a
    have ph6_e : h6 e = some (jQ g 4 cap (va_up (va_cpy f f (i + 1) i (n - i)) n none)) := by rw [← eh6]; exact jup_eq
    exact j_vret C E (Nat.le_refl _) (⟨rfl, va_up (va_cpy f f (i + 1) i (n - i)) n none, fun k hk => by rw [va_upn (by omega), cpyv, if_neg (by omega)], fun k hk hk2 => by rw [va_upn (by omega), cpyv, if_pos (by omega), show i + 1 + (k - i) = k + 1 by omega], va_ups, fun k hk => by rw [va_upn (by omega), cpyv, if_neg (by omega)], by rw [← eh6, ← eh5, ← eh4, ← eh1]; exact jup_mix hae⟩) dJ13_fastRemove_43

set_option maxHeartbeats 4000000 in
theorem hc_J13_remove {g : jG} (G : jOK g) {h : jH} {a e n cap i : Nat} {m : Int32} {f : Nat → Option Nat} (p : h a = some (jO 12 [.int m, .ref e, .int (nI (n + 1))])) (pe : h e = some (jQ g 4 cap f)) (hc : n + 1 ≤ cap) (hcap : cap < 2 ^ 20) (hi : i ≤ n) (hE : ∀ k : Nat, k ≤ n → okE g h (f k)) : CT g 2 0 yJ13_remove [.ref a, .int (nI i)] h (jnx fun v h' => v = some (va_rf (f i)) ∧ ∃ f' : Nat → Option Nat, (∀ k, k < i → f' k = f k) ∧ (∀ k, i ≤ k → k < n → f' k = f (k + 1)) ∧ f' n = none ∧ (∀ k, n < k → f' k = f k) ∧ h' = jup (jup h e (jQ g 4 cap f')) a (jO 12 [.int (m + nI 1), .ref e, .int (nI n)])) := by
  refine CT.of (bytes := cJ13_remove) (maxL := 4) (ret := (some (.object "java/lang/Object"))) G q1485 (by decide) (by decide +kernel) (Nat.le_of_ble_eq_true rfl) ?_
  intro z C E hT hnm hnl
  have C : jC (g, z) cJ13_remove RJ13 2 0 := C
  show J (g, z) h 0 0 [(0, .ref a), (1, .int (nI i))] []
  refine j_iload_n C dJ13_remove_0 1 rfl rfl ?_
  refine j_aload_n C dJ13_remove_1 0 rfl rfl ?_
  refine j_get C p rfl in_J13 2 (by decide) q621 (fun _ z => z) rfl dJ13_remove_2 ?_
  refine j_callS C (as := [.int (nI i), .int (nI (n + 1))]) (hc_J17_checkIndex G (h := h) (n := n + 1) (by omega : i < n + 1) (by omega)) q1238 q1239 q90 (by decide) (by decide +kernel : (parseMethodDescriptor (yJ17_checkIndex).desc).map (fun d => d.parameters.length) = some 2) (by decide) (by first | decide | omega) rfl (Nat.le_of_ble_eq_true rfl) dJ13_remove_5 (fun v1 h2 k3 => ?_) (fun E h' q => absurd q id)
  obtain ⟨rfl, hh⟩ := k3
  have hh := hh.symm
  subst hh
  refine j_pop C dJ13_remove_8 rfl ?_
  refine j_aload_n C dJ13_remove_9 0 rfl rfl ?_
  refine j_get C p rfl in_J13 1 (by decide) q618 (fun _ z => z) rfl dJ13_remove_10 ?_
  refine j_astore_n C (L' := [(2, .ref e), (0, .ref a), (1, .int (nI i))]) dJ13_remove_13 rfl (jlt hnl (by decide)) rfl ?_
  refine j_aload_n C dJ13_remove_14 0 rfl rfl ?_
  refine j_iload_n C dJ13_remove_15 2 rfl rfl ?_
  refine j_aald C 4 pe rfl rfl (vp_in_nI (by omega) (by omega)) dJ13_remove_16 ?_
  refine j_evr (v' := va_rf (f i)) (by rw [nI_clamp (by omega)]) ?_
  refine j_qstore_n C (L' := [(3, va_rf (f i)), (2, .ref e), (0, .ref a), (1, .int (nI i))]) dJ13_remove_17 rfl (jlt hnl (by decide)) rfl ?_
  refine j_aload_n C dJ13_remove_18 2 rfl rfl ?_
  refine j_aload_n C dJ13_remove_19 1 rfl rfl ?_
  refine j_iload_n C dJ13_remove_20 3 rfl rfl ?_
  refine j_callV C (as := [.ref e, .int (nI i)]) (hc_J13_fastRemove G p pe hc hcap hi hE) (jIs.ob p (ci := 12) rfl) q1486 q1488 qs10 q83 (by decide) (by decide +kernel : (parseMethodDescriptor (yJ13_fastRemove).desc).map (fun d => d.parameters.length) = some 2) (by decide) (by first | decide | omega) rfl (Nat.le_of_ble_eq_true rfl) dJ13_remove_21 (fun v4 h5 k6 => ?_) (fun E h' q => absurd q id)
  obtain ⟨rfl, f2, k1, k2, k3, k4, eh⟩ := k6
  refine j_qload_n C dJ13_remove_24 0 rfl rfl ?_
  exact j_aret C E (Or.inl ⟨_, rfl⟩) va_rf_c (Nat.le_refl _) (⟨rfl, f2, k1, k2, k3, k4, eh⟩) dJ13_remove_25

set_option maxHeartbeats 4000000 in
theorem hc_J13_toArray {g : jG} (G : jOK g) (Kn : jKN g) {h : jH} {a e n cap : Nat} {m : Int32} {f : Nat → Option Nat} (p : h a = some (jO 12 [.int m, .ref e, .int (nI n)])) (q : QA g h e cap f) (hc : n ≤ cap) (hcap : cap < 900000) (hE : ∀ i : Nat, i < cap → okE g h (f i)) : CT g 3 (n + 1) yJ13_toArray [.ref a] h (jnx fun v h' => ∃ b : Nat, v = some (.ref b) ∧ h b = none ∧ jA g b ∧ h' = jup h b (jQ g 4 n (va_cpy f (fun _ => none) 0 0 (min cap n)))) := by
  refine CT.of (bytes := cJ13_toArray) (maxL := 1) (ret := (some (.array (.object "java/lang/Object")))) G q1441 (by decide) (by decide +kernel) (Nat.le_of_ble_eq_true rfl) ?_
  intro z C E hT hnm hnl
  have C : jC (g, z) cJ13_toArray RJ13 3 (n + 1) := C
  show J (g, z) h 0 0 [(0, .ref a)] []
  refine j_aload_n C dJ13_toArray_0 0 rfl rfl ?_
  refine j_get C p rfl in_J13 1 (by decide) q618 (fun _ z => z) rfl dJ13_toArray_1 ?_
  refine j_aload_n C dJ13_toArray_4 0 rfl rfl ?_
  refine j_get C p rfl in_J13 2 (by decide) q621 (fun _ z => z) rfl dJ13_toArray_5 ?_
  refine j_callS C (as := [.ref e, .int (nI n)]) (hc_J16_copyOf_2 G Kn (m := n) q (by omega) (by omega) hE) q962 q963 q87 (by decide) (by decide +kernel : (parseMethodDescriptor (yJ16_copyOf_2).desc).map (fun d => d.parameters.length) = some 2) (by decide) (by first | decide | omega) rfl (Nat.le_of_ble_eq_true rfl) dJ13_toArray_8 (fun v1 h2 k3 => ?_) (fun E h' q => absurd q id)
  obtain ⟨a4, rfl, na4, za4, eh2⟩ := k3
  have eh2 := eh2.symm
  have nh2_a : a ≠ a4 := jne p na4
  have ph2_a : h2 a = some (jO 12 [.int m, .ref e, .int (nI n)]) := by rw [← eh2, jup_ne nh2_a]; exact p
  have ph2_e : QA g h2 e cap f := by rw [← eh2]; exact QA.fresh na4 q
  have ph2_a4 : h2 a4 = some (jQ g 4 n (va_cpy f (fun _ => none) 0 0 (min cap n))) := by rw [← eh2]; exact jup_eq
  exact j_aret C E (Or.inr ⟨_, rfl⟩) (Or.inr ⟨_, rfl⟩) (by omega) (⟨_, rfl, na4, za4, by rw [← eh2]⟩) dJ13_toArray_11
