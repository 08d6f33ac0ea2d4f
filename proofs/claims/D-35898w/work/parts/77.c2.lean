set_option maxRecDepth 100000

theorem okE.int {g : jG} {h : jH} {w : Option Nat} {a t n t' n' : Nat} {f f' : Nat → Int32} (p : h a = some (jI g t n f)) (k : okE g h w) : okE g (jup h a (jI g t' n' f')) w := fun v hv => by
  obtain ⟨Cn, h1, h2⟩ := k v hv
  refine ⟨Cn, ?_, h2⟩
  rcases h1 with ⟨cj, gs, T, N, a1, a2⟩ | h1
  · have z : v ≠ a := fun z => by rw [z, p] at a1; cases a1
    exact Or.inl ⟨cj, gs, T, N, by rw [jup_ne z]; exact a1, a2⟩
  · exact Or.inr h1

set_option maxHeartbeats 4000000 in
theorem hc_X6_goOut {g : jG} (G : jOK g) (Kn : jKN g) {h : jH} {ad e : Nat → Nat} {t : MT} (A : MatsAt g h ad e t) {i p : Nat} (hi : i < 2) (hp : p < 10) (hl : (t.2 i).length < 10) (hr : ∀ q, q ∈ t.2 i → q < 128) : CT g 7 24 yX6_goOut [.ref (ad 19), .int (nI i), .int (nI p)] h (jnx fun v h' => v = none ∧ ∃ e', MatsAt g h' ad e' (goOut t i p) ∧ MOp g h h' ad e e') := by
  refine CT.of (bytes := cX6_goOut) (maxL := 3) (ret := none) G q1522 (by decide) (by decide +kernel) (Nat.le_of_ble_eq_true rfl) ?_
  intro z C E hT hnm hnl
  have C : jC (g, z) cX6_goOut RX6 7 24 := C
  show J (g, z) h 0 0 [(0, .ref (ad 19)), (1, .int (nI i)), (2, .int (nI p))] []
  have po : h (ad 19) = some (jO 5 [.ref (ad 0), .ref (ad 1), .ref (ad 2), .ref (ad 3), .ref (ad 4), .ref (ad 5), .ref (ad 6), .ref (ad 7), .int (nI (t.1 7 0 0)), .int (nI (turn t))]) := A.2.1
  obtain ⟨s, ps, hs⟩ := A.2.2.2.1 0 i (by decide) hi
  refine j_aload_n C dX6_goOut_0 0 rfl rfl ?_
  refine j_get C po rfl in_X6 0 (by decide) q1104 (fun _ z => z) rfl dX6_goOut_1 ?_
  refine j_iload_n C dX6_goOut_4 1 rfl rfl ?_
  refine j_aald C 5 (A.2.2.1 0 (by decide)) rfl rfl (vp_in_nI hi (by omega)) dX6_goOut_5 ?_
  refine j_evr (v' := .ref (ad (8 + 2 * 0 + i))) (row_e hi) ?_
  refine j_iload_n C dX6_goOut_6 2 rfl rfl ?_
  refine j_iconst C (v := nI 2) dX6_goOut_7 (by decide) ?_
  refine j_iast C ps (vp_in_nI hp (by decide)) dX6_goOut_8 ?_
  generalize eh1 : jup h (ad (8 + 2 * 0 + i)) (jI g 0 10 (upd s (nI p).toNatClampNeg (nI 2))) = h1
  have ph1__ad_19_ : h1 (ad 19) = some (jO 5 [.ref (ad 0), .ref (ad 1), .ref (ad 2), .ref (ad 3), .ref (ad 4), .ref (ad 5), .ref (ad 6), .ref (ad 7), .int (nI (t.1 7 0 0)), .int (nI (turn t))]) := by rw [← eh1, jup_ne (A.1.ne (by decide) (by omega) (by omega))]; exact po
  have ph1__ad_0_ : h1 (ad 0) = some (jQ g 5 2 (rowF ad 0)) := by rw [← eh1, jup_ne (A.1.ne (by decide) (by omega) (by omega))]; exact (A.2.2.1 0 (by decide))
  have ph1__ad__8___2___0___i__ : h1 (ad (8 + 2 * 0 + i)) = some (jI g 0 10 (upd s (nI p).toNatClampNeg (nI 2))) := by rw [← eh1]; exact jup_eq
  have A1 : MatsAt g h1 ad e (tS t 0 i p 2) := by rw [← eh1, clamp_upd hp]; exact A.setI (by decide) hi ps
  have O1 : MOp g h h1 ad e e := by rw [← eh1]; exact MOp.up (by omega) ps (fun w k => okE.int ps k)
  obtain ⟨cap4, L4⟩ := A1.2.2.2.2.2.1
  obtain ⟨m4, pL⟩ := L4.1
  obtain ⟨capB, LB⟩ := A1.2.2.2.2.2.2 i hi
  obtain ⟨mB, pB⟩ := LB.1
  refine j_aload_n C dX6_goOut_9 0 rfl rfl ?_
  refine j_get C ph1__ad_19_ rfl in_X6 4 (by decide) q1116 (fun _ z => z) rfl dX6_goOut_10 ?_
  refine j_iload_n C dX6_goOut_13 1 rfl rfl ?_
  refine j_callF C (as := [.int (nI i)]) (xi := ({ cls := "java/util/List", name := "get", desc := "(I)Ljava/lang/Object;" } : Jvm.MethodName)) (ci := 12) (hc_AL_get G (i := i) L4 (lst_get hi)) rfl (jIs.ob pL (ci := 12) rfl) (by decide) q1232 q1231 q1236 q1234 q943 q1427 q1233 q1235 q83 (by decide +kernel : (parseMethodDescriptor (({ cls := "java/util/List", name := "get", desc := "(I)Ljava/lang/Object;" } : Jvm.MethodName)).desc).map (fun d => d.parameters.length) = some 1) (by decide) (by first | decide | omega) rfl (Nat.le_of_ble_eq_true rfl) dX6_goOut_14 (fun v2 h3 k4 => ?_) (fun E h' q => absurd q id)
  obtain ⟨rfl, hh⟩ := k4
  have hh := hh.symm
  subst hh
  refine j_cast C (Cn := "java/util/ArrayList") (jIs.ob pB (ci := 12) rfl) q1474 q943 dX6_goOut_19 ?_
  refine j_iload_n C dX6_goOut_22 2 rfl rfl ?_
  refine j_callS C (as := [.int (nI p)]) (hc_J22_valueOf G Kn (n := p) (h := h1) (by omega)) q1523 q1524 q96 (by decide) (by decide +kernel : (parseMethodDescriptor (yJ22_valueOf).desc).map (fun d => d.parameters.length) = some 1) (by decide) (by first | decide | omega) rfl (Nat.le_of_ble_eq_true rfl) dX6_goOut_23 (fun v5 h6 k7 => ?_) (fun E h' q => absurd q id)
  obtain ⟨rfl, hh⟩ := k7
  have hh := hh.symm
  subst hh
  refine j_callF C (as := [.ref (bxN g p)]) (xi := ({ cls := "java/util/List", name := "add", desc := "(Ljava/lang/Object;)Z" } : Jvm.MethodName)) (ci := 12) (CT.mono (k' := 24) (hc_AL_add G Kn LB (by rw [List.length_map]; show (t.2 i).length ≤ 200; omega) (box_L Kn hr) (box_ok Kn (n := p) (by omega))) (Nat.le_refl _) (by rw [List.length_map]; show 11 + (t.2 i).length + (t.2 i).length / 2 ≤ 24; omega)) rfl (jIs.ob pB (ci := 12) rfl) (by decide) q942 q941 q947 q945 q943 q1103 q944 q946 q83 (by decide +kernel : (parseMethodDescriptor (({ cls := "java/util/List", name := "add", desc := "(Ljava/lang/Object;)Z" } : Jvm.MethodName)).desc).map (fun d => d.parameters.length) = some 1) (by decide) (by first | decide | omega) rfl (Nat.le_of_ble_eq_true rfl) dX6_goOut_26 (fun v8 h9 k10 => ?_) (fun E h' q => absurd q id)
  obtain ⟨rfl, e1, cap1, B1, O2⟩ := k10
  have A2 : MatsAt g h9 ad (fun k => if k = i then e1 else e k) (goOut t i p) := A1.setL Kn hi ⟨cap1, by rw [List.map_append]; exact B1⟩ O2
  have O3 := O1.trans (O2.mop hi)
  refine j_pop C dX6_goOut_31 rfl ?_
  exact j_vret C E (by omega) (⟨rfl, _, A2, O3⟩) dX6_goOut_32
