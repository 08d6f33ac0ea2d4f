set_option maxRecDepth 100000
theorem okE.upd {g : jG} {h : jH} {w : Option Nat} {a ci : Nat} {fs fs' : List Value} (p : h a = some (jO ci fs)) (k : okE g h w) : okE g (jup h a (jO ci fs')) w := fun v hv => by
  obtain ⟨Cn, h1, h2⟩ := k v hv
  refine ⟨Cn, ?_, h2⟩
  rcases h1 with ⟨cj, gs, T, N, a1, a2⟩ | h1
  · by_cases z : v = a
    · rw [z] at a1 ⊢
      rw [p] at a1
      cases a1
      exact Or.inl ⟨ci, fs', T, N, jup_eq, a2⟩
    · exact Or.inl ⟨cj, gs, T, N, by rw [jup_ne z]; exact a1, a2⟩
  · exact Or.inr h1
theorem okE.arr {g : jG} {h : jH} {w : Option Nat} {e t n t' n' : Nat} {f f' : Nat → Option Nat} (p : h e = some (jQ g t n f)) (k : okE g h w) : okE g (jup h e (jQ g t' n' f')) w := fun v hv => by
  obtain ⟨Cn, h1, h2⟩ := k v hv
  refine ⟨Cn, ?_, h2⟩
  rcases h1 with ⟨cj, gs, T, N, a1, a2⟩ | h1
  · have z : v ≠ e := fun z => by rw [z, p] at a1; cases a1
    exact Or.inl ⟨cj, gs, T, N, by rw [jup_ne z]; exact a1, a2⟩
  · exact Or.inr h1
theorem jup_c {h : jH} {a b : Nat} {x y x' y' : va_E} (hab : a ≠ b) : jup (jup (jup (jup h b x) a y) b x') a y' = jup (jup h b x') a y' := by
  funext q
  unfold jup
  by_cases z : q = a
  · rw [if_pos z, if_pos z]
  · rw [if_neg z, if_neg z]
    by_cases z2 : q = b
    · rw [if_pos z2, if_neg z, if_pos z2]
    · rw [if_neg z2, if_neg z, if_neg z2, if_neg z2]

set_option maxHeartbeats 4000000 in
theorem hc_add2r_n {g : jG} (G : jOK g) {h : jH} {a e n cap : Nat} {m : Int32} {f : Nat → Option Nat} (p : h a = some (jO 12 [.int m, .ref e, .int (nI n)])) (pe : h e = some (jQ g 4 cap f)) (hc : n < cap) (hcap : cap < 2 ^ 20) (hw : okE g h none) : CT g 0 0 yJ13_add_2 [.ref a, .null, .ref e, .int (nI n)] h (jnx fun v h' => v = none ∧ h' = jup (jup h e (jQ g 4 cap (va_up f n none))) a (jO 12 [.int m, .ref e, .int (nI (n + 1))])) := by
  refine CT.of (bytes := cJ13_add_2) (maxL := 4) (ret := none) G q952 (by decide) (by decide +kernel) (Nat.le_of_ble_eq_true rfl) ?_
  intro z C E hT hnm hnl
  have C : jC (g, z) cJ13_add_2 RJ13 0 0 := C
  show J (g, z) h 0 0 [(0, .ref a), (1, .null), (2, .ref e), (3, .int (nI n))] []
  refine j_iload_n C dJ13_add_2_0 3 rfl rfl ?_
  refine j_aload_n C dJ13_add_2_1 2 rfl rfl ?_
  refine j_alen C 4 pe rfl dJ13_add_2_2 ?_
  refine j_icn_ne C (by omega) (by omega) (tgt := 11) dJ13_add_2_3 (by decide) ?_ ?_
  · intro c3
    refine j_aload_n C dJ13_add_2_11 2 rfl rfl ?_
    refine j_iload_n C dJ13_add_2_12 3 rfl rfl ?_
    refine j_nload_n C dJ13_add_2_13 1 rfl rfl ?_
    refine j_aasto C (w := none) pe (by omega) (by omega) hw dJ13_add_2_14 ?_
    generalize eh1 : jup h e (jQ g 4 cap (va_up f n none)) = h1
    have ph1_a : h1 a = some (jO 12 [.int m, .ref e, .int (nI n)]) := by rw [← eh1, jup_ne (jne_k p pe)]; exact p
    have ph1_e : h1 e = some (jQ g 4 cap (va_up f n none)) := by rw [← eh1]; exact jup_eq
    refine j_aload_n C dJ13_add_2_15 0 rfl rfl ?_
    refine j_iload_n C dJ13_add_2_16 3 rfl rfl ?_
    refine j_iconst C (v := nI 1) dJ13_add_2_17 (by decide) ?_
    refine j_iaddn C dJ13_add_2_18 ?_
    refine j_put C ph1_a (fs' := [.int m, .ref e, .int (nI (n + 1))]) rfl in_J13 tyJ13 tyJ13_ok nmJ13 2 (by decide) q621 (fun _ z => z) rfl rfl rfl (by show 2 < 3; decide) rfl dJ13_add_2_19 ?_
    generalize eh2 : jup h1 a (jO 12 [.int m, .ref e, .int (nI (n + 1))]) = h2
    have ph2_e : h2 e = some (jQ g 4 cap (va_up f n none)) := by rw [← eh2, jup_ne (Ne.symm (jne_k p pe))]; exact ph1_e
    have ph2_a : h2 a = some (jO 12 [.int m, .ref e, .int (nI (n + 1))]) := by rw [← eh2]; exact jup_eq
    exact j_vret C E (Nat.le_refl _) (⟨rfl, by rw [← eh2, ← eh1]⟩) dJ13_add_2_22
  · intro c3
    omega

set_option maxHeartbeats 4000000 in
theorem hc_add2r_s {g : jG} (G : jOK g) {x : Nat} {h : jH} {a e n cap : Nat} {m : Int32} {f : Nat → Option Nat} (p : h a = some (jO 12 [.int m, .ref e, .int (nI n)])) (pe : h e = some (jQ g 4 cap f)) (hc : n < cap) (hcap : cap < 2 ^ 20) (hw : okE g h (some x)) : CT g 0 0 yJ13_add_2 [.ref a, .ref x, .ref e, .int (nI n)] h (jnx fun v h' => v = none ∧ h' = jup (jup h e (jQ g 4 cap (va_up f n (some x)))) a (jO 12 [.int m, .ref e, .int (nI (n + 1))])) := by
  refine CT.of (bytes := cJ13_add_2) (maxL := 4) (ret := none) G q952 (by decide) (by decide +kernel) (Nat.le_of_ble_eq_true rfl) ?_
  intro z C E hT hnm hnl
  have C : jC (g, z) cJ13_add_2 RJ13 0 0 := C
  show J (g, z) h 0 0 [(0, .ref a), (1, .ref x), (2, .ref e), (3, .int (nI n))] []
  refine j_iload_n C dJ13_add_2_0 3 rfl rfl ?_
  refine j_aload_n C dJ13_add_2_1 2 rfl rfl ?_
  refine j_alen C 4 pe rfl dJ13_add_2_2 ?_
  refine j_icn_ne C (by omega) (by omega) (tgt := 11) dJ13_add_2_3 (by decide) ?_ ?_
  · intro c3
    refine j_aload_n C dJ13_add_2_11 2 rfl rfl ?_
    refine j_iload_n C dJ13_add_2_12 3 rfl rfl ?_
    refine j_aload_n C dJ13_add_2_13 1 rfl rfl ?_
    refine j_aasto C (w := (some x)) pe (by omega) (by omega) hw dJ13_add_2_14 ?_
    generalize eh1 : jup h e (jQ g 4 cap (va_up f n (some x))) = h1
    have ph1_a : h1 a = some (jO 12 [.int m, .ref e, .int (nI n)]) := by rw [← eh1, jup_ne (jne_k p pe)]; exact p
    have ph1_e : h1 e = some (jQ g 4 cap (va_up f n (some x))) := by rw [← eh1]; exact jup_eq
    refine j_aload_n C dJ13_add_2_15 0 rfl rfl ?_
    refine j_iload_n C dJ13_add_2_16 3 rfl rfl ?_
    refine j_iconst C (v := nI 1) dJ13_add_2_17 (by decide) ?_
    refine j_iaddn C dJ13_add_2_18 ?_
    refine j_put C ph1_a (fs' := [.int m, .ref e, .int (nI (n + 1))]) rfl in_J13 tyJ13 tyJ13_ok nmJ13 2 (by decide) q621 (fun _ z => z) rfl rfl rfl (by show 2 < 3; decide) rfl dJ13_add_2_19 ?_
    generalize eh2 : jup h1 a (jO 12 [.int m, .ref e, .int (nI (n + 1))]) = h2
    have ph2_e : h2 e = some (jQ g 4 cap (va_up f n (some x))) := by rw [← eh2, jup_ne (Ne.symm (jne_k p pe))]; exact ph1_e
    have ph2_a : h2 a = some (jO 12 [.int m, .ref e, .int (nI (n + 1))]) := by rw [← eh2]; exact jup_eq
    exact j_vret C E (Nat.le_refl _) (⟨rfl, by rw [← eh2, ← eh1]⟩) dJ13_add_2_22
  · intro c3
    omega

theorem hc_add2r {g : jG} (G : jOK g) {w : Option Nat} {h : jH} {a e n cap : Nat} {m : Int32} {f : Nat → Option Nat} (p : h a = some (jO 12 [.int m, .ref e, .int (nI n)])) (pe : h e = some (jQ g 4 cap f)) (hc : n < cap) (hcap : cap < 2 ^ 20) (hw : okE g h w) : CT g 0 0 yJ13_add_2 [.ref a, va_rf w, .ref e, .int (nI n)] h (jnx fun v h' => v = none ∧ h' = jup (jup h e (jQ g 4 cap (va_up f n w))) a (jO 12 [.int m, .ref e, .int (nI (n + 1))])) := by
  cases w with
  | none => exact hc_add2r_n G p pe hc hcap hw
  | some x => exact hc_add2r_s G p pe hc hcap hw

theorem va_upn {f : Nat → Option Nat} {i k : Nat} {w : Option Nat} (h : k ≠ i) : va_up f i w k = f k := by simp [va_up, h]
theorem va_ups {f : Nat → Option Nat} {i : Nat} {w : Option Nat} : va_up f i w i = w := by simp [va_up]

set_option maxHeartbeats 4000000 in
theorem hc_add2f_n {g : jG} (G : jOK g) (Kn : jKN g) {h : jH} {a e n : Nat} {m : Int32} {f : Nat → Option Nat} (p : h a = some (jO 12 [.int m, .ref e, .int (nI n)])) (q : QA g h e n f) (hn : n ≤ 200) (hE : ∀ i : Nat, i < n → okE g h (f i)) (hw : okE g h none) : CT g 5 (growN g e n + 1) yJ13_add_2 [.ref a, .null, .ref e, .int (nI n)] h (jnx fun v h' => v = none ∧ ∃ (b : Nat) (f' : Nat → Option Nat), h b = none ∧ jA g b ∧ (∀ k, k < n → f' k = f k) ∧ f' n = none ∧ (∀ k, n < k → f' k = none) ∧ h' = jup (jup h b (jQ g 4 (growN g e n) f')) a (jO 12 [.int m, .ref b, .int (nI (n + 1))])) := by
  refine CT.of (bytes := cJ13_add_2) (maxL := 4) (ret := none) G q952 (by decide) (by decide +kernel) (Nat.le_of_ble_eq_true rfl) ?_
  intro z C E hT hnm hnl
  have C : jC (g, z) cJ13_add_2 RJ13 5 (growN g e n + 1) := C
  show J (g, z) h 0 0 [(0, .ref a), (1, .null), (2, .ref e), (3, .int (nI n))] []
  refine j_iload_n C dJ13_add_2_0 3 rfl rfl ?_
  refine j_aload_n C dJ13_add_2_1 2 rfl rfl ?_
  refine j_qalen C Kn q dJ13_add_2_2 ?_
  refine j_icn_ne C (by omega) (by omega) (tgt := 11) dJ13_add_2_3 (by decide) ?_ ?_
  · intro c3
    omega
  · intro c3
    refine j_aload_n C dJ13_add_2_6 0 rfl rfl ?_
    refine j_callV C (as := []) (hc_J13_grow G Kn p q hn hE) (jIs.ob p (ci := 12) rfl) q953 q955 qs7 q83 (by decide) (by decide +kernel : (parseMethodDescriptor (yJ13_grow).desc).map (fun d => d.parameters.length) = some 0) (by decide) (by first | decide | omega) rfl (Nat.le_of_ble_eq_true rfl) dJ13_add_2_7 (fun v1 h2 k3 => ?_) (fun E h' q => absurd q id)
    obtain ⟨b, f2, rfl, nb, zb, hf, hf0, eh⟩ := k3
    have hab : a ≠ b := jne p nb
    have pa2 : h2 a = some (jO 12 [.int m, .ref b, .int (nI n)]) := by rw [eh]; exact jup_eq
    have pb2 : h2 b = some (jQ g 4 (growN g e n) f2) := by rw [eh, jup_ne (Ne.symm hab)]; exact jup_eq
    have hgb := growN_b (g := g) (e := e) (n := n)
    refine j_astore_n C (L' := [(2, .ref b), (0, .ref a), (1, .null), (3, .int (nI n))]) dJ13_add_2_10 rfl (jlt hnl (by decide)) rfl ?_
    refine j_aload_n C dJ13_add_2_11 0 rfl rfl ?_
    refine j_iload_n C dJ13_add_2_12 3 rfl rfl ?_
    refine j_nload_n C dJ13_add_2_13 2 rfl rfl ?_
    refine j_aasto C (w := none) pb2 (by omega) (by omega) (by rw [eh]; exact (hw.push nb).upd (by rw [jup_ne hab]; exact p)) dJ13_add_2_14 ?_
    generalize eh4 : jup h2 b (jQ g 4 (growN g e n) (va_up f2 n none)) = h4
    have ph4_a : h4 a = some (jO 12 [.int m, .ref b, .int (nI n)]) := by rw [← eh4, jup_ne hab]; exact pa2
    have ph4_b : h4 b = some (jQ g 4 (growN g e n) (va_up f2 n none)) := by rw [← eh4]; exact jup_eq
    refine j_aload_n C dJ13_add_2_15 1 rfl rfl ?_
    refine j_iload_n C dJ13_add_2_16 3 rfl rfl ?_
    refine j_iconst C (v := nI 1) dJ13_add_2_17 (by decide) ?_
    refine j_iaddn C dJ13_add_2_18 ?_
    refine j_put C ph4_a (fs' := [.int m, .ref b, .int (nI (n + 1))]) rfl in_J13 tyJ13 tyJ13_ok nmJ13 2 (by decide) q621 (fun _ z => z) rfl rfl rfl (by show 2 < 3; decide) rfl dJ13_add_2_19 ?_
    generalize eh5 : jup h4 a (jO 12 [.int m, .ref b, .int (nI (n + 1))]) = h5
    have ph5_b : h5 b = some (jQ g 4 (growN g e n) (va_up f2 n none)) := by rw [← eh5, jup_ne (Ne.symm hab)]; exact ph4_b
    have ph5_a : h5 a = some (jO 12 [.int m, .ref b, .int (nI (n + 1))]) := by rw [← eh5]; exact jup_eq
    exact j_vret C E (by omega) (⟨rfl, b, va_up f2 n none, nb, zb, fun k hk => by rw [← hf k hk]; exact va_upn (by omega), va_ups, fun k hk => by rw [va_upn (by omega)]; exact hf0 k (by omega), by rw [← eh5, ← eh4, eh]; exact jup_c hab⟩) dJ13_add_2_22

set_option maxHeartbeats 4000000 in
theorem hc_add2f_s {g : jG} (G : jOK g) (Kn : jKN g) {x : Nat} {h : jH} {a e n : Nat} {m : Int32} {f : Nat → Option Nat} (p : h a = some (jO 12 [.int m, .ref e, .int (nI n)])) (q : QA g h e n f) (hn : n ≤ 200) (hE : ∀ i : Nat, i < n → okE g h (f i)) (hw : okE g h (some x)) : CT g 5 (growN g e n + 1) yJ13_add_2 [.ref a, .ref x, .ref e, .int (nI n)] h (jnx fun v h' => v = none ∧ ∃ (b : Nat) (f' : Nat → Option Nat), h b = none ∧ jA g b ∧ (∀ k, k < n → f' k = f k) ∧ f' n = (some x) ∧ (∀ k, n < k → f' k = none) ∧ h' = jup (jup h b (jQ g 4 (growN g e n) f')) a (jO 12 [.int m, .ref b, .int (nI (n + 1))])) := by
  refine CT.of (bytes := cJ13_add_2) (maxL := 4) (ret := none) G q952 (by decide) (by decide +kernel) (Nat.le_of_ble_eq_true rfl) ?_
  intro z C E hT hnm hnl
  have C : jC (g, z) cJ13_add_2 RJ13 5 (growN g e n + 1) := C
  show J (g, z) h 0 0 [(0, .ref a), (1, .ref x), (2, .ref e), (3, .int (nI n))] []
  refine j_iload_n C dJ13_add_2_0 3 rfl rfl ?_
  refine j_aload_n C dJ13_add_2_1 2 rfl rfl ?_
  refine j_qalen C Kn q dJ13_add_2_2 ?_
  refine j_icn_ne C (by omega) (by omega) (tgt := 11) dJ13_add_2_3 (by decide) ?_ ?_
  · intro c3
    omega
  · intro c3
    refine j_aload_n C dJ13_add_2_6 0 rfl rfl ?_
    refine j_callV C (as := []) (hc_J13_grow G Kn p q hn hE) (jIs.ob p (ci := 12) rfl) q953 q955 qs7 q83 (by decide) (by decide +kernel : (parseMethodDescriptor (yJ13_grow).desc).map (fun d => d.parameters.length) = some 0) (by decide) (by first | decide | omega) rfl (Nat.le_of_ble_eq_true rfl) dJ13_add_2_7 (fun v1 h2 k3 => ?_) (fun E h' q => absurd q id)
    obtain ⟨b, f2, rfl, nb, zb, hf, hf0, eh⟩ := k3
    have hab : a ≠ b := jne p nb
    have pa2 : h2 a = some (jO 12 [.int m, .ref b, .int (nI n)]) := by rw [eh]; exact jup_eq
    have pb2 : h2 b = some (jQ g 4 (growN g e n) f2) := by rw [eh, jup_ne (Ne.symm hab)]; exact jup_eq
    have hgb := growN_b (g := g) (e := e) (n := n)
    refine j_astore_n C (L' := [(2, .ref b), (0, .ref a), (1, .ref x), (3, .int (nI n))]) dJ13_add_2_10 rfl (jlt hnl (by decide)) rfl ?_
    refine j_aload_n C dJ13_add_2_11 0 rfl rfl ?_
    refine j_iload_n C dJ13_add_2_12 3 rfl rfl ?_
    refine j_aload_n C dJ13_add_2_13 2 rfl rfl ?_
    refine j_aasto C (w := (some x)) pb2 (by omega) (by omega) (by rw [eh]; exact (hw.push nb).upd (by rw [jup_ne hab]; exact p)) dJ13_add_2_14 ?_
    generalize eh4 : jup h2 b (jQ g 4 (growN g e n) (va_up f2 n (some x))) = h4
    have ph4_a : h4 a = some (jO 12 [.int m, .ref b, .int (nI n)]) := by rw [← eh4, jup_ne hab]; exact pa2
    have ph4_b : h4 b = some (jQ g 4 (growN g e n) (va_up f2 n (some x))) := by rw [← eh4]; exact jup_eq
    refine j_aload_n C dJ13_add_2_15 1 rfl rfl ?_
    refine j_iload_n C dJ13_add_2_16 3 rfl rfl ?_
    refine j_iconst C (v := nI 1) dJ13_add_2_17 (by decide) ?_
    refine j_iaddn C dJ13_add_2_18 ?_
    refine j_put C ph4_a (fs' := [.int m, .ref b, .int (nI (n + 1))]) rfl in_J13 tyJ13 tyJ13_ok nmJ13 2 (by decide) q621 (fun _ z => z) rfl rfl rfl (by show 2 < 3; decide) rfl dJ13_add_2_19 ?_
    generalize eh5 : jup h4 a (jO 12 [.int m, .ref b, .int (nI (n + 1))]) = h5
    have ph5_b : h5 b = some (jQ g 4 (growN g e n) (va_up f2 n (some x))) := by rw [← eh5, jup_ne (Ne.symm hab)]; exact ph4_b
    have ph5_a : h5 a = some (jO 12 [.int m, .ref b, .int (nI (n + 1))]) := by rw [← eh5]; exact jup_eq
    exact j_vret C E (by omega) (⟨rfl, b, va_up f2 n (some x), nb, zb, fun k hk => by rw [← hf k hk]; exact va_upn (by omega), va_ups, fun k hk => by rw [va_upn (by omega)]; exact hf0 k (by omega), by rw [← eh5, ← eh4, eh]; exact jup_c hab⟩) dJ13_add_2_22

theorem hc_add2f {g : jG} (G : jOK g) (Kn : jKN g) {w : Option Nat} {h : jH} {a e n : Nat} {m : Int32} {f : Nat → Option Nat} (p : h a = some (jO 12 [.int m, .ref e, .int (nI n)])) (q : QA g h e n f) (hn : n ≤ 200) (hE : ∀ i : Nat, i < n → okE g h (f i)) (hw : okE g h w) : CT g 5 (growN g e n + 1) yJ13_add_2 [.ref a, va_rf w, .ref e, .int (nI n)] h (jnx fun v h' => v = none ∧ ∃ (b : Nat) (f' : Nat → Option Nat), h b = none ∧ jA g b ∧ (∀ k, k < n → f' k = f k) ∧ f' n = w ∧ (∀ k, n < k → f' k = none) ∧ h' = jup (jup h b (jQ g 4 (growN g e n) f')) a (jO 12 [.int m, .ref b, .int (nI (n + 1))])) := by
  cases w with
  | none => exact hc_add2f_n G Kn p q hn hE hw
  | some x => exact hc_add2f_s G Kn p q hn hE hw

theorem jup_o {h : jH} {a e : Nat} {x y : va_E} (hae : a ≠ e) : jup (jup h a x) e y = jup (jup h e y) a x := by
  funext q
  unfold jup
  by_cases z : q = a
  · rw [if_pos z, if_neg (by omega), if_pos z]
  · rw [if_neg z, if_neg z]

set_option maxHeartbeats 4000000 in
theorem hc_addr_n {g : jG} (G : jOK g) {h : jH} {a e n cap : Nat} {m : Int32} {f : Nat → Option Nat} (p : h a = some (jO 12 [.int m, .ref e, .int (nI n)])) (pe : h e = some (jQ g 4 cap f)) (hc : n < cap) (hcap : cap < 2 ^ 20) (hw : okE g h none) : CT g 1 0 yJ13_add [.ref a, .null] h (jnx fun v h' => v = some (.int (nI 1)) ∧ h' = jup (jup h e (jQ g 4 cap (va_up f n none))) a (jO 12 [.int (m + nI 1), .ref e, .int (nI (n + 1))])) := by
  refine CT.of (bytes := cJ13_add) (maxL := 2) (ret := (some .boolean)) G q948 (by decide) (by decide +kernel) (Nat.le_of_ble_eq_true rfl) ?_
  intro z C E hT hnm hnl
  have C : jC (g, z) cJ13_add RJ13 1 0 := C
  show J (g, z) h 0 0 [(0, .ref a), (1, .null)] []
  have hae := jne_k p pe
  refine j_aload_n C dJ13_add_0 0 rfl rfl ?_
  refine j_dup C dJ13_add_1 rfl ?_
  refine j_get C p rfl in_J13 0 (by decide) q625 (u_same (C.ts _ q624)) rfl dJ13_add_2 ?_
  refine j_iconst C (v := nI 1) dJ13_add_5 (by decide) ?_
  refine j_iadd C dJ13_add_6 ?_
  refine j_put C p (fs' := [.int (m + (nI 1)), .ref e, .int (nI n)]) rfl in_J13 tyJ13 tyJ13_ok nmJ13 0 (by decide) q625 (u_same (C.ts _ q624)) rfl rfl rfl (by show 0 < 3; decide) rfl dJ13_add_7 ?_
  generalize eh1 : jup h a (jO 12 [.int (m + (nI 1)), .ref e, .int (nI n)]) = h1
  have ph1_e : h1 e = some (jQ g 4 cap f) := by rw [← eh1, jup_ne (Ne.symm hae)]; exact pe
  have ph1_a : h1 a = some (jO 12 [.int (m + (nI 1)), .ref e, .int (nI n)]) := by rw [← eh1]; exact jup_eq
  refine j_aload_n C dJ13_add_10 0 rfl rfl ?_
  refine j_nload_n C dJ13_add_11 1 rfl rfl ?_
  refine j_aload_n C dJ13_add_12 0 rfl rfl ?_
  refine j_get C ph1_a rfl in_J13 1 (by decide) q618 (fun _ z => z) rfl dJ13_add_13 ?_
  refine j_aload_n C dJ13_add_16 0 rfl rfl ?_
  refine j_get C ph1_a rfl in_J13 2 (by decide) q621 (fun _ z => z) rfl dJ13_add_17 ?_
  refine j_callV C (as := [.null, .ref e, .int (nI n)]) (hc_add2r G ph1_a ph1_e hc hcap (by rw [← eh1]; exact hw.upd p)) (jIs.ob ph1_a (ci := 12) rfl) q949 q951 qs6 q83 (by decide) (by decide +kernel : (parseMethodDescriptor (yJ13_add_2).desc).map (fun d => d.parameters.length) = some 3) (by decide) (by first | decide | omega) rfl (Nat.le_of_ble_eq_true rfl) dJ13_add_20 (fun v2 h3 k4 => ?_) (fun E h' q => absurd q id)
  obtain ⟨rfl, eh⟩ := k4
  refine j_iconst C (v := nI 1) dJ13_add_23 (by decide) ?_
  exact j_iret C E (by decide) (Nat.le_refl _) (⟨rfl, by rw [eh, ← eh1, jup_o hae]; exact jup_jup⟩) dJ13_add_24

set_option maxHeartbeats 4000000 in
theorem hc_addr_s {g : jG} (G : jOK g) {x : Nat} {h : jH} {a e n cap : Nat} {m : Int32} {f : Nat → Option Nat} (p : h a = some (jO 12 [.int m, .ref e, .int (nI n)])) (pe : h e = some (jQ g 4 cap f)) (hc : n < cap) (hcap : cap < 2 ^ 20) (hw : okE g h (some x)) : CT g 1 0 yJ13_add [.ref a, .ref x] h (jnx fun v h' => v = some (.int (nI 1)) ∧ h' = jup (jup h e (jQ g 4 cap (va_up f n (some x)))) a (jO 12 [.int (m + nI 1), .ref e, .int (nI (n + 1))])) := by
  refine CT.of (bytes := cJ13_add) (maxL := 2) (ret := (some .boolean)) G q948 (by decide) (by decide +kernel) (Nat.le_of_ble_eq_true rfl) ?_
  intro z C E hT hnm hnl
  have C : jC (g, z) cJ13_add RJ13 1 0 := C
  show J (g, z) h 0 0 [(0, .ref a), (1, .ref x)] []
  have hae := jne_k p pe
  refine j_aload_n C dJ13_add_0 0 rfl rfl ?_
  refine j_dup C dJ13_add_1 rfl ?_
  refine j_get C p rfl in_J13 0 (by decide) q625 (u_same (C.ts _ q624)) rfl dJ13_add_2 ?_
  refine j_iconst C (v := nI 1) dJ13_add_5 (by decide) ?_
  refine j_iadd C dJ13_add_6 ?_
  refine j_put C p (fs' := [.int (m + (nI 1)), .ref e, .int (nI n)]) rfl in_J13 tyJ13 tyJ13_ok nmJ13 0 (by decide) q625 (u_same (C.ts _ q624)) rfl rfl rfl (by show 0 < 3; decide) rfl dJ13_add_7 ?_
  generalize eh1 : jup h a (jO 12 [.int (m + (nI 1)), .ref e, .int (nI n)]) = h1
  have ph1_e : h1 e = some (jQ g 4 cap f) := by rw [← eh1, jup_ne (Ne.symm hae)]; exact pe
  have ph1_a : h1 a = some (jO 12 [.int (m + (nI 1)), .ref e, .int (nI n)]) := by rw [← eh1]; exact jup_eq
  refine j_aload_n C dJ13_add_10 0 rfl rfl ?_
  refine j_aload_n C dJ13_add_11 1 rfl rfl ?_
  refine j_aload_n C dJ13_add_12 0 rfl rfl ?_
  refine j_get C ph1_a rfl in_J13 1 (by decide) q618 (fun _ z => z) rfl dJ13_add_13 ?_
  refine j_aload_n C dJ13_add_16 0 rfl rfl ?_
  refine j_get C ph1_a rfl in_J13 2 (by decide) q621 (fun _ z => z) rfl dJ13_add_17 ?_
  refine j_callV C (as := [.ref x, .ref e, .int (nI n)]) (hc_add2r G ph1_a ph1_e hc hcap (by rw [← eh1]; exact hw.upd p)) (jIs.ob ph1_a (ci := 12) rfl) q949 q951 qs6 q83 (by decide) (by decide +kernel : (parseMethodDescriptor (yJ13_add_2).desc).map (fun d => d.parameters.length) = some 3) (by decide) (by first | decide | omega) rfl (Nat.le_of_ble_eq_true rfl) dJ13_add_20 (fun v2 h3 k4 => ?_) (fun E h' q => absurd q id)
  obtain ⟨rfl, eh⟩ := k4
  refine j_iconst C (v := nI 1) dJ13_add_23 (by decide) ?_
  exact j_iret C E (by decide) (Nat.le_refl _) (⟨rfl, by rw [eh, ← eh1, jup_o hae]; exact jup_jup⟩) dJ13_add_24

theorem hc_addr {g : jG} (G : jOK g) {w : Option Nat} {h : jH} {a e n cap : Nat} {m : Int32} {f : Nat → Option Nat} (p : h a = some (jO 12 [.int m, .ref e, .int (nI n)])) (pe : h e = some (jQ g 4 cap f)) (hc : n < cap) (hcap : cap < 2 ^ 20) (hw : okE g h w) : CT g 1 0 yJ13_add [.ref a, va_rf w] h (jnx fun v h' => v = some (.int (nI 1)) ∧ h' = jup (jup h e (jQ g 4 cap (va_up f n w))) a (jO 12 [.int (m + nI 1), .ref e, .int (nI (n + 1))])) := by
  cases w with
  | none => exact hc_addr_n G p pe hc hcap hw
  | some x => exact hc_addr_s G p pe hc hcap hw

theorem jup_none {h : jH} {a b : Nat} {x : va_E} (k : jup h a x b = none) : h b = none := by
  unfold jup at k
  by_cases z : b = a
  · rw [if_pos z] at k; cases k
  · rw [if_neg z] at k; exact k

set_option maxHeartbeats 4000000 in
theorem hc_addf_n {g : jG} (G : jOK g) (Kn : jKN g) {h : jH} {a e n : Nat} {m : Int32} {f : Nat → Option Nat} (p : h a = some (jO 12 [.int m, .ref e, .int (nI n)])) (q : QA g h e n f) (hn : n ≤ 200) (hE : ∀ i : Nat, i < n → okE g h (f i)) (hw : okE g h none) : CT g 6 (growN g e n + 1) yJ13_add [.ref a, .null] h (jnx fun v h' => v = some (.int (nI 1)) ∧ ∃ (b : Nat) (f' : Nat → Option Nat), h b = none ∧ jA g b ∧ (∀ k, k < n → f' k = f k) ∧ f' n = none ∧ (∀ k, n < k → f' k = none) ∧ h' = jup (jup h b (jQ g 4 (growN g e n) f')) a (jO 12 [.int (m + nI 1), .ref b, .int (nI (n + 1))])) := by
  refine CT.of (bytes := cJ13_add) (maxL := 2) (ret := (some .boolean)) G q948 (by decide) (by decide +kernel) (Nat.le_of_ble_eq_true rfl) ?_
  intro z C E hT hnm hnl
  have C : jC (g, z) cJ13_add RJ13 6 (growN g e n + 1) := C
  show J (g, z) h 0 0 [(0, .ref a), (1, .null)] []
  refine j_aload_n C dJ13_add_0 0 rfl rfl ?_
  refine j_dup C dJ13_add_1 rfl ?_
  refine j_get C p rfl in_J13 0 (by decide) q625 (u_same (C.ts _ q624)) rfl dJ13_add_2 ?_
  refine j_iconst C (v := nI 1) dJ13_add_5 (by decide) ?_
  refine j_iadd C dJ13_add_6 ?_
  refine j_put C p (fs' := [.int (m + (nI 1)), .ref e, .int (nI n)]) rfl in_J13 tyJ13 tyJ13_ok nmJ13 0 (by decide) q625 (u_same (C.ts _ q624)) rfl rfl rfl (by show 0 < 3; decide) rfl dJ13_add_7 ?_
  generalize eh1 : jup h a (jO 12 [.int (m + (nI 1)), .ref e, .int (nI n)]) = h1
  have ph1_e : QA g h1 e n f := by rw [← eh1]; exact QA.up p q
  have ph1_a : h1 a = some (jO 12 [.int (m + (nI 1)), .ref e, .int (nI n)]) := by rw [← eh1]; exact jup_eq
  refine j_aload_n C dJ13_add_10 0 rfl rfl ?_
  refine j_nload_n C dJ13_add_11 1 rfl rfl ?_
  refine j_aload_n C dJ13_add_12 0 rfl rfl ?_
  refine j_get C ph1_a rfl in_J13 1 (by decide) q618 (fun _ z => z) rfl dJ13_add_13 ?_
  refine j_aload_n C dJ13_add_16 0 rfl rfl ?_
  refine j_get C ph1_a rfl in_J13 2 (by decide) q621 (fun _ z => z) rfl dJ13_add_17 ?_
  refine j_callV C (as := [.null, .ref e, .int (nI n)]) (hc_add2f G Kn ph1_a ph1_e hn (fun i hi => by rw [← eh1]; exact (hE i hi).upd p) (by rw [← eh1]; exact hw.upd p)) (jIs.ob ph1_a (ci := 12) rfl) q949 q951 qs6 q83 (by decide) (by decide +kernel : (parseMethodDescriptor (yJ13_add_2).desc).map (fun d => d.parameters.length) = some 3) (by decide) (by first | decide | omega) rfl (Nat.le_of_ble_eq_true rfl) dJ13_add_20 (fun v2 h3 k4 => ?_) (fun E h' q => absurd q id)
  obtain ⟨rfl, b, f2, nb, zb, hf, hfn, hf0, eh⟩ := k4
  have nb0 : h b = none := jup_none (by rw [eh1]; exact nb)
  refine j_iconst C (v := nI 1) dJ13_add_23 (by decide) ?_
  exact j_iret C E (by decide) (by omega) (⟨rfl, b, f2, nb0, zb, hf, hfn, hf0, by rw [eh, ← eh1, jup_o (jne p nb0)]; exact jup_jup⟩) dJ13_add_24

set_option maxHeartbeats 4000000 in
theorem hc_addf_s {g : jG} (G : jOK g) (Kn : jKN g) {x : Nat} {h : jH} {a e n : Nat} {m : Int32} {f : Nat → Option Nat} (p : h a = some (jO 12 [.int m, .ref e, .int (nI n)])) (q : QA g h e n f) (hn : n ≤ 200) (hE : ∀ i : Nat, i < n → okE g h (f i)) (hw : okE g h (some x)) : CT g 6 (growN g e n + 1) yJ13_add [.ref a, .ref x] h (jnx fun v h' => v = some (.int (nI 1)) ∧ ∃ (b : Nat) (f' : Nat → Option Nat), h b = none ∧ jA g b ∧ (∀ k, k < n → f' k = f k) ∧ f' n = (some x) ∧ (∀ k, n < k → f' k = none) ∧ h' = jup (jup h b (jQ g 4 (growN g e n) f')) a (jO 12 [.int (m + nI 1), .ref b, .int (nI (n + 1))])) := by
  refine CT.of (bytes := cJ13_add) (maxL := 2) (ret := (some .boolean)) G q948 (by decide) (by decide +kernel) (Nat.le_of_ble_eq_true rfl) ?_
  intro z C E hT hnm hnl
  have C : jC (g, z) cJ13_add RJ13 6 (growN g e n + 1) := C
  show J (g, z) h 0 0 [(0, .ref a), (1, .ref x)] []
  refine j_aload_n C dJ13_add_0 0 rfl rfl ?_
  refine j_dup C dJ13_add_1 rfl ?_
  refine j_get C p rfl in_J13 0 (by decide) q625 (u_same (C.ts _ q624)) rfl dJ13_add_2 ?_
  refine j_iconst C (v := nI 1) dJ13_add_5 (by decide) ?_
  refine j_iadd C dJ13_add_6 ?_
  refine j_put C p (fs' := [.int (m + (nI 1)), .ref e, .int (nI n)]) rfl in_J13 tyJ13 tyJ13_ok nmJ13 0 (by decide) q625 (u_same (C.ts _ q624)) rfl rfl rfl (by show 0 < 3; decide) rfl dJ13_add_7 ?_
  generalize eh1 : jup h a (jO 12 [.int (m + (nI 1)), .ref e, .int (nI n)]) = h1
  have ph1_e : QA g h1 e n f := by rw [← eh1]; exact QA.up p q
  have ph1_a : h1 a = some (jO 12 [.int (m + (nI 1)), .ref e, .int (nI n)]) := by rw [← eh1]; exact jup_eq
  refine j_aload_n C dJ13_add_10 0 rfl rfl ?_
  refine j_aload_n C dJ13_add_11 1 rfl rfl ?_
  refine j_aload_n C dJ13_add_12 0 rfl rfl ?_
  refine j_get C ph1_a rfl in_J13 1 (by decide) q618 (fun _ z => z) rfl dJ13_add_13 ?_
  refine j_aload_n C dJ13_add_16 0 rfl rfl ?_
  refine j_get C ph1_a rfl in_J13 2 (by decide) q621 (fun _ z => z) rfl dJ13_add_17 ?_
  refine j_callV C (as := [.ref x, .ref e, .int (nI n)]) (hc_add2f G Kn ph1_a ph1_e hn (fun i hi => by rw [← eh1]; exact (hE i hi).upd p) (by rw [← eh1]; exact hw.upd p)) (jIs.ob ph1_a (ci := 12) rfl) q949 q951 qs6 q83 (by decide) (by decide +kernel : (parseMethodDescriptor (yJ13_add_2).desc).map (fun d => d.parameters.length) = some 3) (by decide) (by first | decide | omega) rfl (Nat.le_of_ble_eq_true rfl) dJ13_add_20 (fun v2 h3 k4 => ?_) (fun E h' q => absurd q id)
  obtain ⟨rfl, b, f2, nb, zb, hf, hfn, hf0, eh⟩ := k4
  have nb0 : h b = none := jup_none (by rw [eh1]; exact nb)
  refine j_iconst C (v := nI 1) dJ13_add_23 (by decide) ?_
  exact j_iret C E (by decide) (by omega) (⟨rfl, b, f2, nb0, zb, hf, hfn, hf0, by rw [eh, ← eh1, jup_o (jne p nb0)]; exact jup_jup⟩) dJ13_add_24

theorem hc_addf {g : jG} (G : jOK g) (Kn : jKN g) {w : Option Nat} {h : jH} {a e n : Nat} {m : Int32} {f : Nat → Option Nat} (p : h a = some (jO 12 [.int m, .ref e, .int (nI n)])) (q : QA g h e n f) (hn : n ≤ 200) (hE : ∀ i : Nat, i < n → okE g h (f i)) (hw : okE g h w) : CT g 6 (growN g e n + 1) yJ13_add [.ref a, va_rf w] h (jnx fun v h' => v = some (.int (nI 1)) ∧ ∃ (b : Nat) (f' : Nat → Option Nat), h b = none ∧ jA g b ∧ (∀ k, k < n → f' k = f k) ∧ f' n = w ∧ (∀ k, n < k → f' k = none) ∧ h' = jup (jup h b (jQ g 4 (growN g e n) f')) a (jO 12 [.int (m + nI 1), .ref b, .int (nI (n + 1))])) := by
  cases w with
  | none => exact hc_addf_n G Kn p q hn hE hw
  | some x => exact hc_addf_s G Kn p q hn hE hw
