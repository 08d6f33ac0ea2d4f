set_option maxRecDepth 100000
theorem jne {h : jH} {a b : Nat} {e : va_E} (hb : h b = some e) (ha : h a = none) : b ≠ a := fun z => by rw [z, ha] at hb; cases hb

set_option maxHeartbeats 4000000 in
theorem hc_J11_init {g : jG} (G : jOK g) {h : jH} {a : Nat} : CTI g 1 0 yJ11_init [.ref a] h (jnx fun v h' => v = none ∧ h' = h) := by
  refine CTI.of (bytes := cJ11_init) (maxL := 1) G q614 (by decide) (by decide +kernel) (Nat.le_of_ble_eq_true rfl) ?_
  intro z C E hT hnm hnl
  have C : jC (g, z) cJ11_init RJ11 1 0 := C
  show J (g, z) h 0 0 [(0, .ref a)] []
  refine j_aload_n C dJ11_init_0 0 rfl rfl ?_
  refine j_objInit C q615 q113 q114 dJ11_init_1 (by decide) (by decide) ?_
  exact j_vret C E (Nat.le_refl _) (⟨rfl, rfl⟩) dJ11_init_4

set_option maxHeartbeats 4000000 in
theorem hc_J12_init {g : jG} (G : jOK g) {h : jH} {a : Nat} {m n : Int32} {e : Value} (p : h a = some (jO 12 [.int m, e, .int n])) : CTI g 2 0 yJ12_init [.ref a] h (jnx fun v h' => v = none ∧ h' = jup h a (jO 12 [.int (nI 0), e, .int n])) := by
  refine CTI.of (bytes := cJ12_init) (maxL := 1) G q611 (by decide) (by decide +kernel) (Nat.le_of_ble_eq_true rfl) ?_
  intro z C E hT hnm hnl
  have C : jC (g, z) cJ12_init RJ12 2 0 := C
  show J (g, z) h 0 0 [(0, .ref a)] []
  refine j_aload_n C dJ12_init_0 0 rfl rfl ?_
  refine j_callI C (as := []) (hc_J11_init G (h := h) (a := a)) rfl q612 q613 q81 (by decide) (by decide +kernel : (parseMethodDescriptor (yJ11_init).desc).map (fun d => d.parameters.length) = some 0) (by decide) (by first | decide | omega) rfl (Nat.le_of_ble_eq_true rfl) dJ12_init_1 (fun v1 h2 k3 => ?_) (fun E h' q => absurd q id)
  obtain ⟨rfl, hh⟩ := k3
  have hh := hh.symm
  subst hh
  refine j_aload_n C dJ12_init_4 0 rfl rfl ?_
  refine j_iconst C (v := nI 0) dJ12_init_5 (by decide) ?_
  refine j_put C p (fs' := [.int (nI 0), e, .int n]) rfl in_J13 tyJ13 tyJ13_ok nmJ13 0 (by decide) q622 (fun _ z => z) rfl rfl rfl (by show 0 < 3; decide) rfl dJ12_init_6 ?_
  generalize eh4 : jup h a (jO 12 [.int (nI 0), e, .int n]) = h4
  have ph4_a : h4 a = some (jO 12 [.int (nI 0), e, .int n]) := by rw [← eh4]; exact jup_eq
  exact j_vret C E (Nat.le_refl _) (⟨rfl, by rw [← eh4]⟩) dJ12_init_9

theorem jup_jup {h : jH} {a : Nat} {e e' : va_E} : jup (jup h a e) a e' = jup h a e' := by
  funext q
  unfold jup
  by_cases z : q = a
  · rw [if_pos z, if_pos z]
  · rw [if_neg z, if_neg z, if_neg z]

set_option maxHeartbeats 4000000 in
theorem hc_J13_init {g : jG} (G : jOK g) (Kn : jKN g) {h : jH} {a : Nat} {m n : Int32} {e : Value} (p : h a = some (jO 12 [.int m, e, .int n])) : CTI g 3 0 yJ13_init [.ref a] h (jnx fun v h' => v = none ∧ h' = jup h a (jO 12 [.int (nI 0), .ref (kE1 g), .int n])) := by
  refine CTI.of (bytes := cJ13_init) (maxL := 1) G q608 (by decide) (by decide +kernel) (Nat.le_of_ble_eq_true rfl) ?_
  intro z C E hT hnm hnl
  have C : jC (g, z) cJ13_init RJ13 3 0 := C
  show J (g, z) h 0 0 [(0, .ref a)] []
  refine j_aload_n C dJ13_init_0 0 rfl rfl ?_
  refine j_callI C (as := []) (hc_J12_init G p) rfl q609 q610 q82 (by decide) (by decide +kernel : (parseMethodDescriptor (yJ12_init).desc).map (fun d => d.parameters.length) = some 0) (by decide) (by first | decide | omega) rfl (Nat.le_of_ble_eq_true rfl) dJ13_init_1 (fun v1 h2 k3 => ?_) (fun E h' q => absurd q id)
  obtain ⟨rfl, eh2⟩ := k3
  have eh2 := eh2.symm
  have ph2_a : h2 a = some (jO 12 [.int (nI 0), e, .int n]) := by rw [← eh2]; exact jup_eq
  refine j_aload_n C dJ13_init_4 0 rfl rfl ?_
  refine j_gets C Kn.1.1 q616 (fun _ z => z) dJ13_init_5 ?_
  refine j_put C ph2_a (fs' := [.int (nI 0), .ref (kE1 g), .int n]) rfl in_J13 tyJ13 tyJ13_ok nmJ13 1 (by decide) q618 (fun _ z => z) rfl rfl rfl (by show 1 < 3; decide) rfl dJ13_init_8 ?_
  generalize eh4 : jup h2 a (jO 12 [.int (nI 0), .ref (kE1 g), .int n]) = h4
  have ph4_a : h4 a = some (jO 12 [.int (nI 0), .ref (kE1 g), .int n]) := by rw [← eh4]; exact jup_eq
  exact j_vret C E (Nat.le_refl _) (⟨rfl, by rw [← eh4, ← eh2]; exact jup_jup⟩) dJ13_init_11

set_option maxHeartbeats 4000000 in
theorem hc_J13_size {g : jG} (G : jOK g) {h : jH} {a n : Nat} {m : Int32} {e : Value} (p : h a = some (jO 12 [.int m, e, .int (nI n)])) : CT g 0 0 yJ13_size [.ref a] h (jnx fun v h' => v = some (.int (nI n)) ∧ h' = h) := by
  refine CT.of (bytes := cJ13_size) (maxL := 1) (ret := (some .int)) G q1224 (by decide) (by decide +kernel) (Nat.le_of_ble_eq_true rfl) ?_
  intro z C E hT hnm hnl
  have C : jC (g, z) cJ13_size RJ13 0 0 := C
  show J (g, z) h 0 0 [(0, .ref a)] []
  refine j_aload_n C dJ13_size_0 0 rfl rfl ?_
  refine j_get C p rfl in_J13 2 (by decide) q621 (fun _ z => z) rfl dJ13_size_1 ?_
  exact j_iret C E rfl (Nat.le_refl _) (⟨rfl, rfl⟩) dJ13_size_4

set_option maxHeartbeats 4000000 in
theorem hc_J13_isEmpty {g : jG} (G : jOK g) {h : jH} {a n : Nat} {m : Int32} {e : Value} (p : h a = some (jO 12 [.int m, e, .int (nI n)])) (hn : n < 2 ^ 31) : CT g 0 0 yJ13_isEmpty [.ref a] h (jnx fun v h' => v = some (.int (pI (n = 0))) ∧ h' = h) := by
  refine CT.of (bytes := cJ13_isEmpty) (maxL := 1) (ret := (some .boolean)) G q1322 (by decide) (by decide +kernel) (Nat.le_of_ble_eq_true rfl) ?_
  intro z C E hT hnm hnl
  have C : jC (g, z) cJ13_isEmpty RJ13 0 0 := C
  show J (g, z) h 0 0 [(0, .ref a)] []
  refine j_aload_n C dJ13_isEmpty_0 0 rfl rfl ?_
  refine j_get C p rfl in_J13 2 (by decide) q621 (fun _ z => z) rfl dJ13_isEmpty_1 ?_
  refine j_ifn_ne C (by omega) (tgt := 11) dJ13_isEmpty_4 (by decide) ?_ ?_
  · intro c4
    refine j_iconst C (v := nI 0) dJ13_isEmpty_11 (by decide) ?_
    exact j_iret C E (by decide) (Nat.le_refl _) (⟨rz0 c4, rfl⟩) dJ13_isEmpty_12
  · intro c4
    refine j_iconst C (v := nI 1) dJ13_isEmpty_7 (by decide) ?_
    refine j_goto C (tgt := 12) dJ13_isEmpty_8 (by decide) ?_
    exact j_iret C E (by decide) (Nat.le_refl _) (⟨rz1 c4, rfl⟩) dJ13_isEmpty_12

set_option maxHeartbeats 4000000 in
theorem hc_J18_checkIndex {g : jG} (G : jOK g) {h : jH} {i n : Nat} (hi : i < n) (hn : n < 2 ^ 31) : CT g 0 0 yJ18_checkIndex [.int (nI i), .int (nI n), .null] h (jnx fun v h' => v = some (.int (nI i)) ∧ h' = h) := by
  refine CT.of (bytes := cJ18_checkIndex) (maxL := 3) (ret := (some .int)) G q700 (by decide) (by decide +kernel) (Nat.le_of_ble_eq_true rfl) ?_
  intro z C E hT hnm hnl
  have C : jC (g, z) cJ18_checkIndex RJ18 0 0 := C
  show J (g, z) h 0 0 [(0, .int (nI i)), (1, .int (nI n)), (2, .null)] []
  refine j_iload_n C dJ18_checkIndex_0 0 rfl rfl ?_
  refine j_ifn_lt C (by omega) (tgt := 9) dJ18_checkIndex_1 (by decide) ?_
  refine j_iload_n C dJ18_checkIndex_4 0 rfl rfl ?_
  refine j_iload_n C dJ18_checkIndex_5 1 rfl rfl ?_
  refine j_icn_lt C (by omega) (by omega) (tgt := 16) dJ18_checkIndex_6 (by decide) ?_ ?_
  · intro c6
    refine j_iload_n C dJ18_checkIndex_16 0 rfl rfl ?_
    exact j_iret C E rfl (Nat.le_refl _) (⟨rfl, rfl⟩) dJ18_checkIndex_17
  · intro c6
    omega

set_option maxHeartbeats 4000000 in
theorem hc_J17_checkIndex {g : jG} (G : jOK g) {h : jH} {i n : Nat} (hi : i < n) (hn : n < 2 ^ 31) : CT g 1 0 yJ17_checkIndex [.int (nI i), .int (nI n)] h (jnx fun v h' => v = some (.int (nI i)) ∧ h' = h) := by
  refine CT.of (bytes := cJ17_checkIndex) (maxL := 2) (ret := (some .int)) G q1240 (by decide) (by decide +kernel) (Nat.le_of_ble_eq_true rfl) ?_
  intro z C E hT hnm hnl
  have C : jC (g, z) cJ17_checkIndex RJ17 1 0 := C
  show J (g, z) h 0 0 [(0, .int (nI i)), (1, .int (nI n))] []
  refine j_iload_n C dJ17_checkIndex_0 0 rfl rfl ?_
  refine j_iload_n C dJ17_checkIndex_1 1 rfl rfl ?_
  refine j_null C dJ17_checkIndex_2 ?_
  refine j_callS C (as := [.int (nI i), .int (nI n), .null]) (hc_J18_checkIndex G (h := h) hi hn) q1241 q699 q91 (by decide) (by decide +kernel : (parseMethodDescriptor (yJ18_checkIndex).desc).map (fun d => d.parameters.length) = some 3) (by decide) (by first | decide | omega) rfl (Nat.le_of_ble_eq_true rfl) dJ17_checkIndex_3 (fun v1 h2 k3 => ?_) (fun E h' q => absurd q id)
  obtain ⟨rfl, hh⟩ := k3
  have hh := hh.symm
  subst hh
  exact j_iret C E rfl (Nat.le_refl _) (⟨rfl, rfl⟩) dJ17_checkIndex_6

theorem va_rf_c {w : Option Nat} : va_rf w = .null ∨ ∃ a, va_rf w = .ref a := by
  cases w with
  | none => exact Or.inl rfl
  | some a => exact Or.inr ⟨a, rfl⟩
section JQ
variable {x : jX} {cc : ByteArray} {own : String} {d K : Nat} {h : jH} {u pc : Nat} {L L' : List (Nat × Value)} {st rest : List Value}
theorem j_qload_n (C : jC x cc own d K) {kk : Fin 4} {i : Nat} {w : Option Nat} (hd : decode cc pc = .ok (.aload_n kk, 1)) (n : Nat) (hi : (kk : Nat) = i) (hl : L[n]? = some (i, va_rf w)) (k : J x h u (pc + 1) L (va_rf w :: rest)) : J x h u pc L rest := by
  cases w with
  | none => exact j_nload_n C hd n hi hl k
  | some a => exact j_aload_n C hd n hi hl k
theorem j_qload (C : jC x cc own d K) {i : Nat} {w : Option Nat} (hd : decode cc pc = .ok (.aload i, 2)) (n : Nat) (hl : L[n]? = some (i, va_rf w)) (k : J x h u (pc + 2) L (va_rf w :: rest)) : J x h u pc L rest := by
  cases w with
  | none => exact j_nload C hd n hl k
  | some a => exact j_aload C hd n hl k
theorem j_qstore_n (C : jC x cc own d K) {kk : Fin 4} {i : Nat} {w : Option Nat} (hd : decode cc pc = .ok (.astore_n kk, 1)) (hi : (kk : Nat) = i) (hn : i < x.nL) (hl : (i, va_rf w) :: L.filter (fun q : Nat × Value => !(q.1 == i) && !(q.1 + 1 == i && q.2.category == 2)) = L') (k : J x h u (pc + 1) L' rest) : J x h u pc L (va_rf w :: rest) := by
  cases w with
  | none => exact j_nstore_n C hd hi hn hl k
  | some a => exact j_astore_n C hd hi hn hl k
theorem j_qstore (C : jC x cc own d K) {i : Nat} {w : Option Nat} (hd : decode cc pc = .ok (.astore i, 2)) (hn : i < x.nL) (hl : (i, va_rf w) :: L.filter (fun q : Nat × Value => !(q.1 == i) && !(q.1 + 1 == i && q.2.category == 2)) = L') (k : J x h u (pc + 2) L' rest) : J x h u pc L (va_rf w :: rest) := by
  cases w with
  | none => exact j_nstore C hd hn hl k
  | some a => exact j_astore C hd hn hl k
/-- what may be an element of an array of Objects -/
def okE (g : jG) (h : jH) (w : Option Nat) : Prop := ∀ v, w = some v → ∃ Cn, jIs g h v Cn ∧ (Cond.castable Cn "java/lang/Object" ∈ lw_tbl ∨ Cn = "java/lang/Object")
theorem j_aasto (C : jC x cc own d K) {a n i : Nat} {f : Nat → Option Nat} {w : Option Nat} (hh : h a = some (jQ x.g 4 n f)) (hi : i < n) (hn : n < 2 ^ 31) (hw : okE x.g h w) (hd : decode cc pc = .ok (.aastore, 1)) (kk : J x (jup h a (jQ x.g 4 n (va_up f i w))) u (pc + 1) L rest) : J x h u pc L (va_rf w :: .int (nI i) :: .ref a :: rest) := by
  have hc : (nI i).toNatClampNeg = i := nI_clamp (by omega)
  cases w with
  | none => exact j_aastN C 4 hh rfl (vp_in_nI hi hn) hd (by rw [hc]; exact kk)
  | some v =>
    obtain ⟨Cn, h1, h2⟩ := hw v rfl
    exact j_aast C 4 hh rfl (vp_in_nI hi hn) h1 h2 hd (by rw [hc]; exact kk)
end JQ

set_option maxHeartbeats 4000000 in
theorem hc_J13_elementData {g : jG} (G : jOK g) {h : jH} {a e n cap : Nat} {m : Int32} {f : Nat → Option Nat} (p : h a = some (jO 12 [.int m, .ref e, .int (nI n)])) (pe : h e = some (jQ g 4 cap f)) (hc : n ≤ cap) (hcap : cap < 2 ^ 31) {i : Nat} (hi : i < n) : CT g 0 0 yJ13_elementData [.ref a, .int (nI i)] h (jnx fun v h' => v = some (va_rf (f i)) ∧ h' = h) := by
  refine CT.of (bytes := cJ13_elementData) (maxL := 2) (ret := (some (.object "java/lang/Object"))) G q1245 (by decide) (by decide +kernel) (Nat.le_of_ble_eq_true rfl) ?_
  intro z C E hT hnm hnl
  have C : jC (g, z) cJ13_elementData RJ13 0 0 := C
  show J (g, z) h 0 0 [(0, .ref a), (1, .int (nI i))] []
  refine j_aload_n C dJ13_elementData_0 0 rfl rfl ?_
  refine j_get C p rfl in_J13 1 (by decide) q618 (fun _ z => z) rfl dJ13_elementData_1 ?_
  refine j_iload_n C dJ13_elementData_4 1 rfl rfl ?_
  refine j_aald C 4 pe rfl rfl (vp_in_nI (by omega) (by omega)) dJ13_elementData_5 ?_
  refine j_evr (v' := va_rf (f i)) (by rw [nI_clamp (by omega)]) ?_
  exact j_aret C E (Or.inl ⟨_, rfl⟩) va_rf_c (Nat.le_refl _) (⟨rfl, rfl⟩) dJ13_elementData_6

set_option maxHeartbeats 4000000 in
theorem hc_J13_get {g : jG} (G : jOK g) {h : jH} {a e n cap : Nat} {m : Int32} {f : Nat → Option Nat} (p : h a = some (jO 12 [.int m, .ref e, .int (nI n)])) (pe : h e = some (jQ g 4 cap f)) (hc : n ≤ cap) (hcap : cap < 2 ^ 31) {i : Nat} (hi : i < n) : CT g 2 0 yJ13_get [.ref a, .int (nI i)] h (jnx fun v h' => v = some (va_rf (f i)) ∧ h' = h) := by
  refine CT.of (bytes := cJ13_get) (maxL := 2) (ret := (some (.object "java/lang/Object"))) G q1237 (by decide) (by decide +kernel) (Nat.le_of_ble_eq_true rfl) ?_
  intro z C E hT hnm hnl
  have C : jC (g, z) cJ13_get RJ13 2 0 := C
  show J (g, z) h 0 0 [(0, .ref a), (1, .int (nI i))] []
  refine j_iload_n C dJ13_get_0 1 rfl rfl ?_
  refine j_aload_n C dJ13_get_1 0 rfl rfl ?_
  refine j_get C p rfl in_J13 2 (by decide) q621 (fun _ z => z) rfl dJ13_get_2 ?_
  refine j_callS C (as := [.int (nI i), .int (nI n)]) (hc_J17_checkIndex G (h := h) hi (Nat.lt_of_le_of_lt hc hcap)) q1238 q1239 q90 (by decide) (by decide +kernel : (parseMethodDescriptor (yJ17_checkIndex).desc).map (fun d => d.parameters.length) = some 2) (by decide) (by first | decide | omega) rfl (Nat.le_of_ble_eq_true rfl) dJ13_get_5 (fun v1 h2 k3 => ?_) (fun E h' q => absurd q id)
  obtain ⟨rfl, hh⟩ := k3
  have hh := hh.symm
  subst hh
  refine j_pop C dJ13_get_8 rfl ?_
  refine j_aload_n C dJ13_get_9 0 rfl rfl ?_
  refine j_iload_n C dJ13_get_10 1 rfl rfl ?_
  refine j_callV C (as := [.int (nI i)]) (hc_J13_elementData G p pe hc hcap hi) (jIs.ob p (ci := 12) rfl) q1242 q1243 q1244 q83 (by decide) (by decide +kernel : (parseMethodDescriptor (yJ13_elementData).desc).map (fun d => d.parameters.length) = some 1) (by decide) (by first | decide | omega) rfl (Nat.le_of_ble_eq_true rfl) dJ13_get_11 (fun v4 h5 k6 => ?_) (fun E h' q => absurd q id)
  obtain ⟨rfl, hh⟩ := k6
  have hh := hh.symm
  subst hh
  exact j_aret C E (Or.inl ⟨_, rfl⟩) va_rf_c (Nat.le_refl _) (⟨rfl, rfl⟩) dJ13_get_14

theorem jne_k {g : jG} {h : jH} {a e ci n t : Nat} {fs : List Value} {f : Nat → Option Nat} (p : h a = some (jO ci fs)) (pe : h e = some (jQ g t n f)) : a ≠ e := fun z => by rw [z, pe] at p; cases p

set_option maxHeartbeats 4000000 in
theorem hc_J13_set_n {g : jG} (G : jOK g) {h : jH} {a e n cap : Nat} {m : Int32} {f : Nat → Option Nat} (p : h a = some (jO 12 [.int m, .ref e, .int (nI n)])) (pe : h e = some (jQ g 4 cap f)) (hc : n ≤ cap) (hcap : cap < 2 ^ 31) {i : Nat} (hi : i < n) (hw : okE g h none) : CT g 2 0 yJ13_set [.ref a, .int (nI i), .null] h (jnx fun v h' => v = some (va_rf (f i)) ∧ h' = jup h e (jQ g 4 cap (va_up f i none))) := by
  refine CT.of (bytes := cJ13_set) (maxL := 4) (ret := (some (.object "java/lang/Object"))) G q1636 (by decide) (by decide +kernel) (Nat.le_of_ble_eq_true rfl) ?_
  intro z C E hT hnm hnl
  have C : jC (g, z) cJ13_set RJ13 2 0 := C
  show J (g, z) h 0 0 [(0, .ref a), (1, .int (nI i)), (2, .null)] []
  refine j_iload_n C dJ13_set_0 1 rfl rfl ?_
  refine j_aload_n C dJ13_set_1 0 rfl rfl ?_
  refine j_get C p rfl in_J13 2 (by decide) q621 (fun _ z => z) rfl dJ13_set_2 ?_
  refine j_callS C (as := [.int (nI i), .int (nI n)]) (hc_J17_checkIndex G (h := h) hi (Nat.lt_of_le_of_lt hc hcap)) q1238 q1239 q90 (by decide) (by decide +kernel : (parseMethodDescriptor (yJ17_checkIndex).desc).map (fun d => d.parameters.length) = some 2) (by decide) (by first | decide | omega) rfl (Nat.le_of_ble_eq_true rfl) dJ13_set_5 (fun v1 h2 k3 => ?_) (fun E h' q => absurd q id)
  obtain ⟨rfl, hh⟩ := k3
  have hh := hh.symm
  subst hh
  refine j_pop C dJ13_set_8 rfl ?_
  refine j_aload_n C dJ13_set_9 0 rfl rfl ?_
  refine j_iload_n C dJ13_set_10 1 rfl rfl ?_
  refine j_callV C (as := [.int (nI i)]) (hc_J13_elementData G p pe hc hcap hi) (jIs.ob p (ci := 12) rfl) q1242 q1243 q1244 q83 (by decide) (by decide +kernel : (parseMethodDescriptor (yJ13_elementData).desc).map (fun d => d.parameters.length) = some 1) (by decide) (by first | decide | omega) rfl (Nat.le_of_ble_eq_true rfl) dJ13_set_11 (fun v4 h5 k6 => ?_) (fun E h' q => absurd q id)
  obtain ⟨rfl, hh⟩ := k6
  have hh := hh.symm
  subst hh
  refine j_qstore_n C (L' := [(3, va_rf (f i)), (0, .ref a), (1, .int (nI i)), (2, .null)]) dJ13_set_14 rfl (jlt hnl (by decide)) rfl ?_
  refine j_aload_n C dJ13_set_15 1 rfl rfl ?_
  refine j_get C p rfl in_J13 1 (by decide) q618 (fun _ z => z) rfl dJ13_set_16 ?_
  refine j_iload_n C dJ13_set_19 2 rfl rfl ?_
  refine j_nload_n C dJ13_set_20 3 rfl rfl ?_
  refine j_aasto C (w := none) pe (by omega) (by omega) hw dJ13_set_21 ?_
  generalize eh7 : jup h e (jQ g 4 cap (va_up f i none)) = h7
  have ph7_a : h7 a = some (jO 12 [.int m, .ref e, .int (nI n)]) := by rw [← eh7, jup_ne (jne_k p pe)]; exact p
  have ph7_e : h7 e = some (jQ g 4 cap (va_up f i none)) := by rw [← eh7]; exact jup_eq
  refine j_qload_n C dJ13_set_22 0 rfl rfl ?_
  exact j_aret C E (Or.inl ⟨_, rfl⟩) va_rf_c (Nat.le_refl _) (⟨rfl, by rw [← eh7]⟩) dJ13_set_23

set_option maxHeartbeats 4000000 in
theorem hc_J13_set_s {g : jG} (G : jOK g) {x : Nat} {h : jH} {a e n cap : Nat} {m : Int32} {f : Nat → Option Nat} (p : h a = some (jO 12 [.int m, .ref e, .int (nI n)])) (pe : h e = some (jQ g 4 cap f)) (hc : n ≤ cap) (hcap : cap < 2 ^ 31) {i : Nat} (hi : i < n) (hw : okE g h (some x)) : CT g 2 0 yJ13_set [.ref a, .int (nI i), .ref x] h (jnx fun v h' => v = some (va_rf (f i)) ∧ h' = jup h e (jQ g 4 cap (va_up f i (some x)))) := by
  refine CT.of (bytes := cJ13_set) (maxL := 4) (ret := (some (.object "java/lang/Object"))) G q1636 (by decide) (by decide +kernel) (Nat.le_of_ble_eq_true rfl) ?_
  intro z C E hT hnm hnl
  have C : jC (g, z) cJ13_set RJ13 2 0 := C
  show J (g, z) h 0 0 [(0, .ref a), (1, .int (nI i)), (2, .ref x)] []
  refine j_iload_n C dJ13_set_0 1 rfl rfl ?_
  refine j_aload_n C dJ13_set_1 0 rfl rfl ?_
  refine j_get C p rfl in_J13 2 (by decide) q621 (fun _ z => z) rfl dJ13_set_2 ?_
  refine j_callS C (as := [.int (nI i), .int (nI n)]) (hc_J17_checkIndex G (h := h) hi (Nat.lt_of_le_of_lt hc hcap)) q1238 q1239 q90 (by decide) (by decide +kernel : (parseMethodDescriptor (yJ17_checkIndex).desc).map (fun d => d.parameters.length) = some 2) (by decide) (by first | decide | omega) rfl (Nat.le_of_ble_eq_true rfl) dJ13_set_5 (fun v1 h2 k3 => ?_) (fun E h' q => absurd q id)
  obtain ⟨rfl, hh⟩ := k3
  have hh := hh.symm
  subst hh
  refine j_pop C dJ13_set_8 rfl ?_
  refine j_aload_n C dJ13_set_9 0 rfl rfl ?_
  refine j_iload_n C dJ13_set_10 1 rfl rfl ?_
  refine j_callV C (as := [.int (nI i)]) (hc_J13_elementData G p pe hc hcap hi) (jIs.ob p (ci := 12) rfl) q1242 q1243 q1244 q83 (by decide) (by decide +kernel : (parseMethodDescriptor (yJ13_elementData).desc).map (fun d => d.parameters.length) = some 1) (by decide) (by first | decide | omega) rfl (Nat.le_of_ble_eq_true rfl) dJ13_set_11 (fun v4 h5 k6 => ?_) (fun E h' q => absurd q id)
  obtain ⟨rfl, hh⟩ := k6
  have hh := hh.symm
  subst hh
  refine j_qstore_n C (L' := [(3, va_rf (f i)), (0, .ref a), (1, .int (nI i)), (2, .ref x)]) dJ13_set_14 rfl (jlt hnl (by decide)) rfl ?_
  refine j_aload_n C dJ13_set_15 1 rfl rfl ?_
  refine j_get C p rfl in_J13 1 (by decide) q618 (fun _ z => z) rfl dJ13_set_16 ?_
  refine j_iload_n C dJ13_set_19 2 rfl rfl ?_
  refine j_aload_n C dJ13_set_20 3 rfl rfl ?_
  refine j_aasto C (w := (some x)) pe (by omega) (by omega) hw dJ13_set_21 ?_
  generalize eh7 : jup h e (jQ g 4 cap (va_up f i (some x))) = h7
  have ph7_a : h7 a = some (jO 12 [.int m, .ref e, .int (nI n)]) := by rw [← eh7, jup_ne (jne_k p pe)]; exact p
  have ph7_e : h7 e = some (jQ g 4 cap (va_up f i (some x))) := by rw [← eh7]; exact jup_eq
  refine j_qload_n C dJ13_set_22 0 rfl rfl ?_
  exact j_aret C E (Or.inl ⟨_, rfl⟩) va_rf_c (Nat.le_refl _) (⟨rfl, by rw [← eh7]⟩) dJ13_set_23

theorem hc_J13_set {g : jG} (G : jOK g) {w : Option Nat} {h : jH} {a e n cap : Nat} {m : Int32} {f : Nat → Option Nat} (p : h a = some (jO 12 [.int m, .ref e, .int (nI n)])) (pe : h e = some (jQ g 4 cap f)) (hc : n ≤ cap) (hcap : cap < 2 ^ 31) {i : Nat} (hi : i < n) (hw : okE g h w) : CT g 2 0 yJ13_set [.ref a, .int (nI i), va_rf w] h (jnx fun v h' => v = some (va_rf (f i)) ∧ h' = jup h e (jQ g 4 cap (va_up f i w))) := by
  cases w with
  | none => exact hc_J13_set_n G p pe hc hcap hi hw
  | some x => exact hc_J13_set_s G p pe hc hcap hi hw
