set_option maxRecDepth 100000

set_option maxHeartbeats 4000000 in
theorem hc_J19_init {g : jG} (G : jOK g) {h : jH} {i b : Nat} {c lr x : Int32} {o : Value} {m : Int32} {e n : Nat} (p : h i = some (jO 13 [.int c, .int lr, .int x, o])) (pb : h b = some (jO 12 [.int m, .ref e, .int (nI n)])) (hib : i ≠ b) : CTI g 1 0 yJ19_init [.ref i, .ref b] h (jnx fun v h' => v = none ∧ h' = jup h i (jO 13 [.int c, .int (-1), .int m, .ref b])) := by
  refine CTI.of (bytes := cJ19_init) (maxL := 2) G q1267 (by decide) (by decide +kernel) (Nat.le_of_ble_eq_true rfl) ?_
  intro z C E hT hnm hnl
  have C : jC (g, z) cJ19_init RJ19 1 0 := C
  show J (g, z) h 0 0 [(0, .ref i), (1, .ref b)] []
  refine j_aload_n C dJ19_init_0 0 rfl rfl ?_
  refine j_aload_n C dJ19_init_1 1 rfl rfl ?_
  refine j_putF C p (fs' := [.int c, .int lr, .int x, .ref b]) rfl in_J19 tyJ19 tyJ19_ok nmJ19 3 (by decide) q1272 (fun _ z => z) rfl hnm rfl rfl rfl (by show 3 < 4; decide) rfl dJ19_init_2 ?_
  generalize eh1 : jup h i (jO 13 [.int c, .int lr, .int x, .ref b]) = h1
  have ph1_b : h1 b = some (jO 12 [.int m, .ref e, .int (nI n)]) := by rw [← eh1, jup_ne (Ne.symm hib)]; exact pb
  have ph1_i : h1 i = some (jO 13 [.int c, .int lr, .int x, .ref b]) := by rw [← eh1]; exact jup_eq
  refine j_aload_n C dJ19_init_5 0 rfl rfl ?_
  refine j_objInit C q1268 q113 q114 dJ19_init_6 (by decide) (by decide) ?_
  refine j_aload_n C dJ19_init_9 0 rfl rfl ?_
  refine j_iconst C (v := -1) dJ19_init_10 (by decide) ?_
  refine j_put C ph1_i (fs' := [.int c, .int (-1), .int x, .ref b]) rfl in_J19 tyJ19 tyJ19_ok nmJ19 1 (by decide) q1270 (fun _ z => z) rfl rfl rfl (by show 1 < 4; decide) rfl dJ19_init_11 ?_
  generalize eh2 : jup h1 i (jO 13 [.int c, .int (-1), .int x, .ref b]) = h2
  have ph2_b : h2 b = some (jO 12 [.int m, .ref e, .int (nI n)]) := by rw [← eh2, jup_ne (Ne.symm hib)]; exact ph1_b
  have ph2_i : h2 i = some (jO 13 [.int c, .int (-1), .int x, .ref b]) := by rw [← eh2]; exact jup_eq
  refine j_aload_n C dJ19_init_14 0 rfl rfl ?_
  refine j_aload_n C dJ19_init_15 0 rfl rfl ?_
  refine j_get C ph2_i rfl in_J19 3 (by decide) q1272 (fun _ z => z) rfl dJ19_init_16 ?_
  refine j_get C ph2_b rfl in_J13 0 (by decide) q623 (u_same (C.ts _ q624)) rfl dJ19_init_19 ?_
  refine j_put C ph2_i (fs' := [.int c, .int (-1), .int m, .ref b]) rfl in_J19 tyJ19 tyJ19_ok nmJ19 2 (by decide) q1271 (fun _ z => z) rfl rfl rfl (by show 2 < 4; decide) rfl dJ19_init_22 ?_
  generalize eh3 : jup h2 i (jO 13 [.int c, .int (-1), .int m, .ref b]) = h3
  have ph3_b : h3 b = some (jO 12 [.int m, .ref e, .int (nI n)]) := by rw [← eh3, jup_ne (Ne.symm hib)]; exact ph2_b
  have ph3_i : h3 i = some (jO 13 [.int c, .int (-1), .int m, .ref b]) := by rw [← eh3]; exact jup_eq
  exact j_vret C E (Nat.le_refl _) (⟨rfl, by rw [← eh3, ← eh2, ← eh1, jup_jup, jup_jup]⟩) dJ19_init_25

set_option maxHeartbeats 4000000 in
theorem hc_J19_hasNext {g : jG} (G : jOK g) {h : jH} {i b e n c : Nat} {lr m : Int32} (p : h i = some (jO 13 [.int (nI c), .int lr, .int m, .ref b])) (pb : h b = some (jO 12 [.int m, .ref e, .int (nI n)])) (hc : c < 2 ^ 31) (hn : n < 2 ^ 31) : CT g 0 0 yJ19_hasNext [.ref i] h (jnx fun v h' => v = some (.int (pI (¬ c = n))) ∧ h' = h) := by
  refine CT.of (bytes := cJ19_hasNext) (maxL := 1) (ret := (some .boolean)) G q1291 (by decide) (by decide +kernel) (Nat.le_of_ble_eq_true rfl) ?_
  intro z C E hT hnm hnl
  have C : jC (g, z) cJ19_hasNext RJ19 0 0 := C
  show J (g, z) h 0 0 [(0, .ref i)] []
  refine j_aload_n C dJ19_hasNext_0 0 rfl rfl ?_
  refine j_get C p rfl in_J19 0 (by decide) q1269 (fun _ z => z) rfl dJ19_hasNext_1 ?_
  refine j_aload_n C dJ19_hasNext_4 0 rfl rfl ?_
  refine j_get C p rfl in_J19 3 (by decide) q1272 (fun _ z => z) rfl dJ19_hasNext_5 ?_
  refine j_getN C pb rfl in_J13 2 (by decide) q620 (fun _ z => z) rfl dJ19_hasNext_8 ?_
  refine j_icn_eq C (by omega) (by omega) (tgt := 18) dJ19_hasNext_11 (by decide) ?_ ?_
  · intro c11
    refine j_iconst C (v := nI 0) dJ19_hasNext_18 (by decide) ?_
    exact j_iret C E (by decide) (Nat.le_refl _) (⟨rz0 (not_not_intro c11), rfl⟩) dJ19_hasNext_19
  · intro c11
    refine j_iconst C (v := nI 1) dJ19_hasNext_14 (by decide) ?_
    refine j_goto C (tgt := 19) dJ19_hasNext_15 (by decide) ?_
    exact j_iret C E (by decide) (Nat.le_refl _) (⟨rz1 c11, rfl⟩) dJ19_hasNext_19

set_option maxHeartbeats 4000000 in
theorem hc_J19_checkForComodification {g : jG} (G : jOK g) {h : jH} {i b e n c : Nat} {lr m : Int32} (p : h i = some (jO 13 [.int (nI c), .int lr, .int m, .ref b])) (pb : h b = some (jO 12 [.int m, .ref e, .int (nI n)])) : CT g 0 0 yJ19_checkForComodification [.ref i] h (jnx fun v h' => v = none ∧ h' = h) := by
  refine CT.of (bytes := cJ19_checkForComodification) (maxL := 1) (ret := none) G q1304 (by decide) (by decide +kernel) (Nat.le_of_ble_eq_true rfl) ?_
  intro z C E hT hnm hnl
  have C : jC (g, z) cJ19_checkForComodification RJ19 0 0 := C
  show J (g, z) h 0 0 [(0, .ref i)] []
  refine j_aload_n C dJ19_checkForComodification_0 0 rfl rfl ?_
  refine j_get C p rfl in_J19 3 (by decide) q1272 (fun _ z => z) rfl dJ19_checkForComodification_1 ?_
  refine j_get C pb rfl in_J13 0 (by decide) q623 (u_same (C.ts _ q624)) rfl dJ19_checkForComodification_4 ?_
  refine j_aload_n C dJ19_checkForComodification_7 0 rfl rfl ?_
  refine j_get C p rfl in_J19 2 (by decide) q1271 (fun _ z => z) rfl dJ19_checkForComodification_8 ?_
  refine j_ic_eq C (tgt := 22) dJ19_checkForComodification_11 (by decide) ?_ ?_
  · intro c11
    exact j_vret C E (Nat.le_refl _) (⟨rfl, rfl⟩) dJ19_checkForComodification_22
  · intro c11
    exact absurd rfl c11

set_option maxHeartbeats 4000000 in
theorem hc_J19_next {g : jG} (G : jOK g) {h : jH} {i b e n cap c : Nat} {lr m : Int32} {f : Nat → Option Nat} (p : h i = some (jO 13 [.int (nI c), .int lr, .int m, .ref b])) (pb : h b = some (jO 12 [.int m, .ref e, .int (nI n)])) (pe : h e = some (jQ g 4 cap f)) (hib : i ≠ b) (hcn : c < n) (hc : n ≤ cap) (hcap : cap < 2 ^ 30) : CT g 1 0 yJ19_next [.ref i] h (jnx fun v h' => v = some (va_rf (f c)) ∧ h' = jup h i (jO 13 [.int (nI (c + 1)), .int (nI c), .int m, .ref b])) := by
  refine CT.of (bytes := cJ19_next) (maxL := 3) (ret := (some (.object "java/lang/Object"))) G q1300 (by decide) (by decide +kernel) (Nat.le_of_ble_eq_true rfl) ?_
  intro z C E hT hnm hnl
  have C : jC (g, z) cJ19_next RJ19 1 0 := C
  show J (g, z) h 0 0 [(0, .ref i)] []
  refine j_aload_n C dJ19_next_0 0 rfl rfl ?_
  refine j_callV C (as := []) (hc_J19_checkForComodification G p pb) (jIs.ob p (ci := 13) rfl) q1301 q1302 q1303 q92 (by decide) (by decide +kernel : (parseMethodDescriptor (yJ19_checkForComodification).desc).map (fun d => d.parameters.length) = some 0) (by decide) (by first | decide | omega) rfl (Nat.le_of_ble_eq_true rfl) dJ19_next_1 (fun v1 h2 k3 => ?_) (fun E h' q => absurd q id)
  obtain ⟨rfl, hh⟩ := k3
  have hh := hh.symm
  subst hh
  refine j_aload_n C dJ19_next_4 0 rfl rfl ?_
  refine j_get C p rfl in_J19 0 (by decide) q1269 (fun _ z => z) rfl dJ19_next_5 ?_
  refine j_istore_n C (L' := [(1, .int (nI c)), (0, .ref i)]) dJ19_next_8 rfl (jlt hnl (by decide)) rfl ?_
  refine j_iload_n C dJ19_next_9 0 rfl rfl ?_
  refine j_aload_n C dJ19_next_10 1 rfl rfl ?_
  refine j_get C p rfl in_J19 3 (by decide) q1272 (fun _ z => z) rfl dJ19_next_11 ?_
  refine j_getN C pb rfl in_J13 2 (by decide) q620 (fun _ z => z) rfl dJ19_next_14 ?_
  refine j_icn_lt C (by omega) (by omega) (tgt := 28) dJ19_next_17 (by decide) ?_ ?_
  · intro c17
    refine j_aload_n C dJ19_next_28 1 rfl rfl ?_
    refine j_get C p rfl in_J19 3 (by decide) q1272 (fun _ z => z) rfl dJ19_next_29 ?_
    refine j_get C pb rfl in_J13 1 (by decide) q619 (fun _ z => z) rfl dJ19_next_32 ?_
    refine j_astore_n C (L' := [(2, .ref e), (1, .int (nI c)), (0, .ref i)]) dJ19_next_35 rfl (jlt hnl (by decide)) rfl ?_
    refine j_iload_n C dJ19_next_36 1 rfl rfl ?_
    refine j_aload_n C dJ19_next_37 0 rfl rfl ?_
    refine j_alen C 4 pe rfl dJ19_next_38 ?_
    refine j_icn_lt C (by omega) (by omega) (tgt := 50) dJ19_next_39 (by decide) ?_ ?_
    · intro c39
      refine j_aload_n C dJ19_next_50 2 rfl rfl ?_
      refine j_iload_n C dJ19_next_51 1 rfl rfl ?_
      refine j_iconst C (v := nI 1) dJ19_next_52 (by decide) ?_
      refine j_iaddn C dJ19_next_53 ?_
      refine j_put C p (fs' := [.int (nI (c + 1)), .int lr, .int m, .ref b]) rfl in_J19 tyJ19 tyJ19_ok nmJ19 0 (by decide) q1269 (fun _ z => z) rfl rfl rfl (by show 0 < 4; decide) rfl dJ19_next_54 ?_
      generalize eh4 : jup h i (jO 13 [.int (nI (c + 1)), .int lr, .int m, .ref b]) = h4
      have ph4_b : h4 b = some (jO 12 [.int m, .ref e, .int (nI n)]) := by rw [← eh4, jup_ne (Ne.symm hib)]; exact pb
      have ph4_e : h4 e = some (jQ g 4 cap f) := by rw [← eh4, jup_ne (Ne.symm (jne_k p pe))]; exact pe
      have ph4_i : h4 i = some (jO 13 [.int (nI (c + 1)), .int lr, .int m, .ref b]) := by rw [← eh4]; exact jup_eq
      refine j_aload_n C dJ19_next_57 0 rfl rfl ?_
      refine j_aload_n C dJ19_next_58 2 rfl rfl ?_
      refine j_iload_n C dJ19_next_59 1 rfl rfl ?_
      refine j_dup_x1 C dJ19_next_60 rfl rfl ?_
      refine j_put C ph4_i (fs' := [.int (nI (c + 1)), .int (nI c), .int m, .ref b]) rfl in_J19 tyJ19 tyJ19_ok nmJ19 1 (by decide) q1270 (fun _ z => z) rfl rfl rfl (by show 1 < 4; decide) rfl dJ19_next_61 ?_
      generalize eh5 : jup h4 i (jO 13 [.int (nI (c + 1)), .int (nI c), .int m, .ref b]) = h5
      have ph5_b : h5 b = some (jO 12 [.int m, .ref e, .int (nI n)]) := by rw [← eh5, jup_ne (Ne.symm hib)]; exact ph4_b
      have ph5_e : h5 e = some (jQ g 4 cap f) := by rw [← eh5, jup_ne (Ne.symm (jne_k p pe))]; exact ph4_e
      have ph5_i : h5 i = some (jO 13 [.int (nI (c + 1)), .int (nI c), .int m, .ref b]) := by rw [← eh5]; exact jup_eq
      refine j_aald C 4 ph5_e rfl rfl (vp_in_nI (by omega) (by omega)) dJ19_next_64 ?_
      refine j_evr (v' := va_rf (f c)) (by rw [nI_clamp (by omega)]) ?_
      exact j_aret C E (Or.inl ⟨_, rfl⟩) va_rf_c (Nat.le_refl _) (⟨rfl, by rw [← eh5, ← eh4, jup_jup]⟩) dJ19_next_65
    · intro c39
      omega
  · intro c17
    omega

set_option maxHeartbeats 4000000 in
theorem hc_J13_iterator {g : jG} (G : jOK g) {h : jH} {b e n : Nat} {m : Int32} (pb : h b = some (jO 12 [.int m, .ref e, .int (nI n)])) : CT g 2 5 yJ13_iterator [.ref b] h (jnx fun v h' => ∃ i : Nat, v = some (.ref i) ∧ h i = none ∧ jA g i ∧ h' = jup h i (jO 13 [.int (nI 0), .int (-1), .int m, .ref b])) := by
  refine CT.of (bytes := cJ13_iterator) (maxL := 1) (ret := (some (.object "java/util/Iterator"))) G q1262 (by decide) (by decide +kernel) (Nat.le_of_ble_eq_true rfl) ?_
  intro z C E hT hnm hnl
  have C : jC (g, z) cJ13_iterator RJ13 2 5 := C
  show J (g, z) h 0 0 [(0, .ref b)] []
  refine j_new C (ci := 13) rfl in_J19 tyJ19 tyJ19_ok q1263 q1264 q92 (fs := [.int (nI 0), .int (nI 0), .int (nI 0), .null]) (by decide) (by omega) dJ13_iterator_0 (fun a1 na1 za1 => ?_)
  generalize eh2 : jup h a1 (jO 13 [.int (nI 0), .int (nI 0), .int (nI 0), .null]) = h2
  have nh2_b : b ≠ a1 := jne pb na1
  have ph2_b : h2 b = some (jO 12 [.int m, .ref e, .int (nI n)]) := by rw [← eh2, jup_ne nh2_b]; exact pb
  have ph2_a1 : h2 a1 = some (jO 13 [.int (nI 0), .int (nI 0), .int (nI 0), .null]) := by rw [← eh2]; exact jup_eq
  refine j_dup C dJ13_iterator_3 rfl ?_
  refine j_aload_n C dJ13_iterator_4 0 rfl rfl ?_
  refine j_callI C (as := [.ref b]) (hc_J19_init G ph2_a1 ph2_b (Ne.symm nh2_b)) rfl q1265 q1266 q92 (by decide) (by decide +kernel : (parseMethodDescriptor (yJ19_init).desc).map (fun d => d.parameters.length) = some 1) (by decide) (by first | decide | omega) rfl (Nat.le_of_ble_eq_true rfl) dJ13_iterator_5 (fun v3 h4 k5 => ?_) (fun E h' q => absurd q id)
  obtain ⟨rfl, eh4⟩ := k5
  have eh4 := eh4.symm
  have ph4_b : h4 b = some (jO 12 [.int m, .ref e, .int (nI n)]) := by rw [← eh4, jup_ne nh2_b]; exact ph2_b
  have ph4_a1 : h4 a1 = some (jO 13 [.int (nI 0), .int (-1), .int m, .ref b]) := by rw [← eh4]; exact jup_eq
  exact j_aret C E (Or.inl ⟨_, rfl⟩) (Or.inr ⟨_, rfl⟩) (by omega) (⟨_, rfl, na1, za1, by rw [← eh4, ← eh2, jup_jup]⟩) dJ13_iterator_8
