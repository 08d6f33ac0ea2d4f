set_option maxRecDepth 100000
/-- e is an array of n Objects: in the world, or one of ArrayList's empty ones -/
def QA (g : jG) (h : jH) (e n : Nat) (f : Nat → Option Nat) : Prop := h e = some (jQ g 4 n f) ∨ ((e = kE1 g ∨ e = kE2 g) ∧ n = 0 ∧ f = fun _ => none)
theorem QA.up {g : jG} {h : jH} {a e n ci : Nat} {fs : List Value} {f : Nat → Option Nat} {x : va_E} (p : h a = some (jO ci fs)) (q : QA g h e n f) : QA g (jup h a x) e n f := by
  rcases q with q | q
  · exact Or.inl (by rw [jup_ne (Ne.symm (jne_k p q))]; exact q)
  · exact Or.inr q
theorem QA.fresh {g : jG} {h : jH} {a e n : Nat} {f : Nat → Option Nat} {x : va_E} (p : h a = none) (q : QA g h e n f) : QA g (jup h a x) e n f := by
  rcases q with q | q
  · exact Or.inl (by rw [jup_ne (jne q p)]; exact q)
  · exact Or.inr q
theorem QA.nq {g : jG} {h : jH} {a e n : Nat} {f : Nat → Option Nat} {x : va_E} (p : e ≠ a) (q : QA g h e n f) : QA g (jup h a x) e n f := by
  rcases q with q | q
  · exact Or.inl (by rw [jup_ne p]; exact q)
  · exact Or.inr q
theorem okE.push {g : jG} {h : jH} {w : Option Nat} {b : Nat} {x : va_E} (k : okE g h w) (hb : h b = none) : okE g (jup h b x) w := fun v hv => by
  obtain ⟨Cn, h1, h2⟩ := k v hv
  refine ⟨Cn, ?_, h2⟩
  rcases h1 with ⟨ci, fs, T, N, a1, a2⟩ | h1
  · exact Or.inl ⟨ci, fs, T, N, by rw [jup_ne (jne a1 hb)]; exact a1, a2⟩
  · exact Or.inr h1
theorem QA.is {g : jG} {h : jH} {e n : Nat} {f : Nat → Option Nat} (Kn : jKN g) (q : QA g h e n f) (G : jOK g) : ∀ x : jX, x.g = g → True := fun _ _ => trivial
section JV
variable {x : jX} {cc : ByteArray} {own : String} {d K : Nat} {h : jH} {u pc : Nat} {L L' : List (Nat × Value)} {st rest : List Value}
theorem j_qalen (C : jC x cc own d K) {e n : Nat} {f : Nat → Option Nat} (Kn : jKN x.g) (q : QA x.g h e n f) (hd : decode cc pc = .ok (.arraylength, 1)) (kk : J x h u (pc + 1) L (.int (nI n) :: rest)) : J x h u pc L (.ref e :: rest) := by
  rcases q with q | ⟨q, rfl, -⟩
  · exact j_alen C 4 q rfl hd kk
  · rcases q with rfl | rfl
    · exact j_tlen C Kn.1.2.1 hd kk
    · exact j_tlen C Kn.2.1.2.1 hd kk
theorem j_qaClass (C : jC x cc own d K) {e n index : Nat} {f : Nat → Option Nat} (Kn : jKN x.g) (q : QA x.g h e n f) (q1 : Cond.methodLink own index ⟨"java/lang/Object", "getClass", "()Ljava/lang/Class;"⟩ ∈ lw_all) (h1 : 1 ≤ d) (hW : (rest.map fun v => v.category).sum ≤ 8) (hd : decode cc pc = .ok (.invokevirtual index, 3)) (kk : J x h u (pc + 3) L (.ref (kMO x.g) :: rest)) : J x h u pc L (.ref e :: rest) := by
  have hM := Kn.2.2.2.2.1.1
  intro H locs ls hR hS hl
  have r := C.room
  have hcell : ∃ cell : Cell, H[e]? = some cell ∧ cell.vm.isStatics = false ∧ x.s.vm.findClass sAO = some cell.cls := by
    rcases q with q | ⟨q, -, -⟩
    · obtain ⟨ws, hP, hD, hw⟩ := hR
      obtain ⟨i, hi⟩ := hw _ _ q
      exact ⟨_, hP i _ hi, rfl, va_nmO (C.kv.2 4 _ rfl).2 (by decide)⟩
    · have hold : ∀ t, (∃ cell : Cell, x.g.1.heap[t]? = some cell ∧ cell.vm.isStatics = false ∧ x.g.1.vm.findClass sAO = some cell.cls) → ∃ cell : Cell, H[t]? = some cell ∧ cell.vm.isStatics = false ∧ x.s.vm.findClass sAO = some cell.cls := fun t hz => C.cell hR hS (Or.inr hz)
      rcases q with rfl | rfl
      · exact hold _ Kn.1.2.2
      · exact hold _ Kn.2.1.2.2
  exact va_getC C.exec C.bytes (C.maxL.trans hl.1.symm) C.ow (C.ts _ q1) ((va_Dc.moved C.sts.1.alike (va_Dc.of (C.ok.2.1 _ q1445))).use) (C.ts _ q2386) (C.ts _ q966) (C.ts _ q992) (va_Mi.moved C.sts.1.alike hM) hcell (by omega) (by omega) hd (kk H locs ls hR hS hl)
theorem j_copyQA (C : jC x cc own d K) {index a b n0 n1 n : Nat} {f g' : Nat → Option Nat} (Kn : jKN x.g) (hs : QA x.g h a n0 f) (hb : h b = some (jQ x.g 4 n1 g')) (q1 : Cond.methodLink own index arraycopyName ∈ lw_all) (h4 : n ≤ n0) (h5 : n ≤ n1) (hn0 : n0 < 2 ^ 31) (hn1 : n1 < 2 ^ 31)
    (hel : ∀ i : Nat, i < n → okE x.g h (f i)) (h1 : 1 ≤ d) (hW : (rest.map fun v => v.category).sum ≤ 8) (hd : decode cc pc = .ok (.invokestatic index, 3))
    (kk : J x (jup h b (jQ x.g 4 n1 (va_cpy f g' 0 0 n))) u (pc + 3) L rest) : J x h u pc L (.int (nI n) :: .int (nI 0) :: .ref b :: .int (nI 0) :: .ref a :: rest) := by
  rcases hs with q | ⟨q, rfl, rfl⟩
  · exact j_copyq C q hb q1 (by omega) (by omega) hn0 hn1 (fun i hi y hy => by rw [Nat.zero_add] at hy; exact hel i hi y hy) h1 hW hd kk
  · have key : ∀ t, va_T (.object "java/lang/Object") t 0 (fun _ => .null) (jA x.g) x.g.1 x.g.1.heap → J x h u pc L (.int (nI n) :: .int (nI 0) :: .ref b :: .int (nI 0) :: .ref t :: rest) := fun t hT => by
      intro H locs ls hR hS hl
      have r := C.room
      obtain ⟨ws, hP, hD, hw⟩ := hR
      obtain ⟨j, hj⟩ := hw _ _ hb
      refine va_copyg C.exec C.bytes (C.maxL.trans hl.1.symm) C.ow (C.ts _ q1) (C.ts _ q315) (C.ts _ q314) (C.ts _ q88) C.kv hP hD hS j 4 (C.T hT) hj rfl (nI_pos (by omega)) (nI_pos (by omega)) (nI_pos (by omega)) (by rw [nI_clamp (by omega), nI_clamp (by omega)]; omega) (by rw [nI_clamp (by omega), nI_clamp (by omega)]; omega) (by omega) ?_ hd (fun H1 locs1 p1 p2 p3 => ?_)
      · have e : nativeFrameWords "java/lang/System" "arraycopy" 5 + 11 ≤ 40 := by decide +kernel
        omega
      · rw [nI_clamp (by omega), nI_clamp (by omega)] at p1 p2
        exact kk H1 locs1 ls ⟨_, p1, p2, jmem_set hj hw⟩ p3 hl
    rcases q with rfl | rfl
    · exact key _ Kn.1.2.1
    · exact key _ Kn.2.1.2.1
theorem j_mmax (C : jC x cc own d K) {index a b : Nat} (q1 : Cond.methodLink own index Lib.Math.max.name ∈ lw_all) (ha : a < 2 ^ 31) (hb : b < 2 ^ 31) (hu : u ≤ K) (h1 : 1 ≤ d) (hW : (rest.map fun v => v.category).sum ≤ 8) (hd : decode cc pc = .ok (.invokestatic index, 3)) (kk : J x h u (pc + 3) L (.int (nI (max a b)) :: rest)) : J x h u pc L (.int (nI b) :: .int (nI a) :: rest) := by
  intro H locs ls hR hS hl
  have r := C.room
  refine va_mmax C.exec C.bytes (C.maxL.trans hl.1.symm) C.ow (C.ts _ q1) (C.ts _ q293) (C.ts _ q86) (C.ts _ q294) (by omega) (by omega) (by omega) (by omega) hd ?_
  have e : (if nI a < nI b then nI b else nI a) = nI (max a b) := by
    by_cases c : a < b
    · rw [if_pos ((nI_ltI ha hb).mpr c), show max a b = b by omega]
    · rw [if_neg (fun z => c ((nI_ltI ha hb).mp z)), show max a b = a by omega]
  rw [e]
  exact kk H locs ls hR hS hl
theorem j_mmin (C : jC x cc own d K) {index a b : Nat} (q1 : Cond.methodLink own index Lib.Math.min.name ∈ lw_all) (ha : a < 2 ^ 31) (hb : b < 2 ^ 31) (hu : u ≤ K) (h1 : 1 ≤ d) (hW : (rest.map fun v => v.category).sum ≤ 8) (hd : decode cc pc = .ok (.invokestatic index, 3)) (kk : J x h u (pc + 3) L (.int (nI (min a b)) :: rest)) : J x h u pc L (.int (nI b) :: .int (nI a) :: rest) := by
  intro H locs ls hR hS hl
  have r := C.room
  refine va_mmin C.exec C.bytes (C.maxL.trans hl.1.symm) C.ow (C.ts _ q1) (C.ts _ q311) (C.ts _ q86) (C.ts _ q312) (by omega) (by omega) (by omega) (by omega) hd ?_
  have e : (if nI b < nI a then nI b else nI a) = nI (min a b) := by
    by_cases c : b < a
    · rw [if_pos ((nI_ltI hb ha).mpr c), show min a b = b by omega]
    · rw [if_neg (fun z => c ((nI_ltI hb ha).mp z)), show min a b = a by omega]
  rw [e]
  exact kk H locs ls hR hS hl
end JV

set_option maxHeartbeats 4000000 in
theorem hc_J14_newLength {g : jG} (G : jOK g) {h : jH} (a b c : Nat) (ha : a < 2 ^ 20) (hb : b < 2 ^ 20) (hc : c < 2 ^ 20) (h0 : 0 < a + max b c) : CT g 1 0 yJ14_newLength [.int (nI a), .int (nI b), .int (nI c)] h (jnx fun v h' => v = some (.int (nI (a + max b c))) ∧ h' = h) := by
  refine CT.of (bytes := cJ14_newLength) (maxL := 4) (ret := (some .int)) G q291 (by decide) (by decide +kernel) (Nat.le_of_ble_eq_true rfl) ?_
  intro z C E hT hnm hnl
  have C : jC (g, z) cJ14_newLength RJ14 1 0 := C
  show J (g, z) h 0 0 [(0, .int (nI a)), (1, .int (nI b)), (2, .int (nI c))] []
  refine j_iload_n C dJ14_newLength_0 0 rfl rfl ?_
  refine j_iload_n C dJ14_newLength_1 1 rfl rfl ?_
  refine j_iload_n C dJ14_newLength_2 2 rfl rfl ?_
  refine j_mmax C q292 (by omega) (by omega) (by omega) (by decide) (Nat.le_of_ble_eq_true rfl) dJ14_newLength_3 ?_
  refine j_iaddn C dJ14_newLength_6 ?_
  refine j_istore_n C (L' := [(3, .int (nI (a + max b c))), (0, .int (nI a)), (1, .int (nI b)), (2, .int (nI c))]) dJ14_newLength_7 rfl (jlt hnl (by decide)) rfl ?_
  refine j_iconst C (v := nI 0) dJ14_newLength_8 (by decide) ?_
  refine j_iload_n C dJ14_newLength_9 0 rfl rfl ?_
  refine j_icn_ge C (by decide) (by omega) (tgt := 21) dJ14_newLength_10 (by decide) ?_ ?_
  · intro c10
    omega
  · intro c10
    refine j_iload_n C dJ14_newLength_13 0 rfl rfl ?_
    refine j_ldc C (v := nI 2147483639) q295 dJ14_newLength_14 ?_
    refine j_icn_gt C (by omega) (by decide) (tgt := 21) dJ14_newLength_16 (by decide) ?_ ?_
    · intro c16
      omega
    · intro c16
      refine j_iload_n C dJ14_newLength_19 0 rfl rfl ?_
      exact j_iret C E rfl (Nat.le_refl _) (⟨rfl, rfl⟩) dJ14_newLength_20

set_option maxHeartbeats 4000000 in
theorem hc_J16_copyOf_3 {g : jG} (G : jOK g) (Kn : jKN g) {h : jH} {e n m : Nat} {f : Nat → Option Nat} (q : QA g h e n f) (hn : n < 2 ^ 20) (hm : m < 900000) (hE : ∀ i : Nat, i < n → okE g h (f i)) : CT g 1 (m + 1) yJ16_copyOf_3 [.ref e, .int (nI m), .ref (kMO g)] h (jnx fun v h' => ∃ b : Nat, v = some (.ref b) ∧ h b = none ∧ jA g b ∧ h' = jup h b (jQ g 4 m (va_cpy f (fun _ => none) 0 0 (min n m)))) := by
  refine CT.of (bytes := cJ16_copyOf_3) (maxL := 4) (ret := (some (.array (.object "java/lang/Object")))) G q995 (by decide) (by decide +kernel) (Nat.le_of_ble_eq_true rfl) ?_
  intro z C E hT hnm hnl
  have C : jC (g, z) cJ16_copyOf_3 RJ16 1 (m + 1) := C
  show J (g, z) h 0 0 [(0, .ref e), (1, .int (nI m)), (2, .ref (kMO g))] []
  refine j_aload_n C dJ16_copyOf_3_0 2 rfl rfl ?_
  refine j_ldcM C q996 Kn.2.2.2.2.1.1 dJ16_copyOf_3_1 ?_
  refine j_ac_ne C (v := some (kMO g)) (w := some (kMO g)) (tgt := 13) dJ16_copyOf_3_3 (by decide) ?_ ?_
  · intro c3
    exact absurd rfl c3
  · intro c3
    refine j_iload_n C dJ16_copyOf_3_6 1 rfl rfl ?_
    refine j_newq C 4 rfl (by omega) q998 q997 (by omega) dJ16_copyOf_3_7 (fun a1 na1 za1 => ?_)
    generalize eh2 : jup h a1 (jQ g 4 m (fun _ => none)) = h2
    have ph2_e : QA g h2 e n f := by rw [← eh2]; exact QA.fresh na1 q
    have ph2_a1 : h2 a1 = some (jQ g 4 m (fun _ => none)) := by rw [← eh2]; exact jup_eq
    refine j_goto C (tgt := 24) dJ16_copyOf_3_10 (by decide) ?_
    refine j_astore_n C (L' := [(3, .ref a1), (0, .ref e), (1, .int (nI m)), (2, .ref (kMO g))]) dJ16_copyOf_3_24 rfl (jlt hnl (by decide)) rfl ?_
    refine j_aload_n C dJ16_copyOf_3_25 1 rfl rfl ?_
    refine j_iconst C (v := nI 0) dJ16_copyOf_3_26 (by decide) ?_
    refine j_aload_n C dJ16_copyOf_3_27 0 rfl rfl ?_
    refine j_iconst C (v := nI 0) dJ16_copyOf_3_28 (by decide) ?_
    refine j_aload_n C dJ16_copyOf_3_29 1 rfl rfl ?_
    refine j_qalen C Kn ph2_e dJ16_copyOf_3_30 ?_
    refine j_iload_n C dJ16_copyOf_3_31 2 rfl rfl ?_
    refine j_mmin C q310 (by omega) (by omega) (by omega) (by decide) (Nat.le_of_ble_eq_true rfl) dJ16_copyOf_3_32 ?_
    refine j_copyQA C Kn ph2_e ph2_a1 q313 (by omega) (by omega) (by omega) (by omega) (fun i hi => by rw [← eh2]; exact (hE i (by omega)).push na1) (by decide) (Nat.le_of_ble_eq_true rfl) dJ16_copyOf_3_35 ?_
    generalize eh3 : jup h2 a1 (jQ g 4 m (va_cpy f (fun _ => none) 0 0 (min n m))) = h3
    have ph3_a1 : h3 a1 = some (jQ g 4 m (va_cpy f (fun _ => none) 0 0 (min n m))) := by rw [← eh3]; exact jup_eq
    refine j_aload_n C dJ16_copyOf_3_38 0 rfl rfl ?_
    exact j_aret C E (Or.inr ⟨_, rfl⟩) (Or.inr ⟨_, rfl⟩) (by omega) (⟨_, rfl, na1, za1, by rw [← eh3, ← eh2]; exact jup_jup⟩) dJ16_copyOf_3_39

set_option maxHeartbeats 4000000 in
theorem hc_J16_copyOf_2 {g : jG} (G : jOK g) (Kn : jKN g) {h : jH} {e n m : Nat} {f : Nat → Option Nat} (q : QA g h e n f) (hn : n < 2 ^ 20) (hm : m < 900000) (hE : ∀ i : Nat, i < n → okE g h (f i)) : CT g 2 (m + 1) yJ16_copyOf_2 [.ref e, .int (nI m)] h (jnx fun v h' => ∃ b : Nat, v = some (.ref b) ∧ h b = none ∧ jA g b ∧ h' = jup h b (jQ g 4 m (va_cpy f (fun _ => none) 0 0 (min n m)))) := by
  refine CT.of (bytes := cJ16_copyOf_2) (maxL := 2) (ret := (some (.array (.object "java/lang/Object")))) G q964 (by decide) (by decide +kernel) (Nat.le_of_ble_eq_true rfl) ?_
  intro z C E hT hnm hnl
  have C : jC (g, z) cJ16_copyOf_2 RJ16 2 (m + 1) := C
  show J (g, z) h 0 0 [(0, .ref e), (1, .int (nI m))] []
  refine j_aload_n C dJ16_copyOf_2_0 0 rfl rfl ?_
  refine j_iload_n C dJ16_copyOf_2_1 1 rfl rfl ?_
  refine j_aload_n C dJ16_copyOf_2_2 0 rfl rfl ?_
  refine j_qaClass C Kn q q965 (by decide) (Nat.le_of_ble_eq_true rfl) dJ16_copyOf_2_3 ?_
  refine j_callS C (as := [.ref e, .int (nI m), .ref (kMO g)]) (hc_J16_copyOf_3 G Kn q hn hm hE) q993 q994 q87 (by decide) (by decide +kernel : (parseMethodDescriptor (yJ16_copyOf_3).desc).map (fun d => d.parameters.length) = some 3) (by decide) (by first | decide | omega) rfl (Nat.le_of_ble_eq_true rfl) dJ16_copyOf_2_6 (fun v1 h2 k3 => ?_) (fun E h' q => absurd q id)
  obtain ⟨a4, rfl, na4, za4, eh2⟩ := k3
  have eh2 := eh2.symm
  have ph2_e : QA g h2 e n f := by rw [← eh2]; exact QA.fresh na4 q
  have ph2_a4 : h2 a4 = some (jQ g 4 m (va_cpy f (fun _ => none) 0 0 (min n m))) := by rw [← eh2]; exact jup_eq
  exact j_aret C E (Or.inr ⟨_, rfl⟩) (Or.inr ⟨_, rfl⟩) (by omega) (⟨_, rfl, na4, za4, by rw [← eh2]⟩) dJ16_copyOf_2_9

noncomputable def growN (g : jG) (e n : Nat) : Nat := iF (n = 0 ∧ e = kE1 g) 10 (n + max 1 (n / 2))
theorem growN_b {g : jG} {e n : Nat} : n < growN g e n ∧ growN g e n ≤ 10 + n + n / 2 := by
  unfold growN
  by_cases h : n = 0 ∧ e = kE1 g
  · rw [iF_t h]; omega
  · rw [iF_f h]; omega
theorem cpy_lt {f : Nat → Option Nat} {n m k : Nat} (h : n ≤ m) (hk : k < n) : va_cpy f (fun _ => none) 0 0 (min n m) k = f k := by
  unfold va_cpy
  rw [if_pos (by omega)]
  congr 1
  omega
theorem cpy_ge {f : Nat → Option Nat} {n m k : Nat} (h : n ≤ m) (hk : n ≤ k) : va_cpy f (fun _ => none) 0 0 (min n m) k = none := by
  unfold va_cpy
  rw [if_neg (by omega)]
theorem shr1 {n : Nat} (h : n < 2 ^ 20) : nI n >>> (nI 1 &&& 31) = nI (n / 2) := by
  have k := pk_shrN (n := n) (by omega) ((1 : Int32) &&& 31) 1 (by decide)
  rw [Nat.pow_one] at k
  exact k

set_option maxHeartbeats 4000000 in
theorem hc_J13_grow_2 {g : jG} (G : jOK g) (Kn : jKN g) {h : jH} {a e n : Nat} {m : Int32} {f : Nat → Option Nat} (p : h a = some (jO 12 [.int m, .ref e, .int (nI n)])) (q : QA g h e n f) (hn : n ≤ 200) (hE : ∀ i : Nat, i < n → okE g h (f i)) : CT g 3 (growN g e n + 1) yJ13_grow_2 [.ref a, .int (nI (n + 1))] h (jnx fun v h' => ∃ (b : Nat) (f' : Nat → Option Nat), v = some (.ref b) ∧ h b = none ∧ jA g b ∧ (∀ k, k < n → f' k = f k) ∧ (∀ k, n ≤ k → f' k = none) ∧ h' = jup (jup h b (jQ g 4 (growN g e n) f')) a (jO 12 [.int m, .ref b, .int (nI n)])) := by
  refine CT.of (bytes := cJ13_grow_2) (maxL := 4) (ret := (some (.array (.object "java/lang/Object")))) G q960 (by decide) (by decide +kernel) (Nat.le_of_ble_eq_true rfl) ?_
  intro z C E hT hnm hnl
  have C : jC (g, z) cJ13_grow_2 RJ13 3 (growN g e n + 1) := C
  show J (g, z) h 0 0 [(0, .ref a), (1, .int (nI (n + 1)))] []
  refine j_aload_n C dJ13_grow_2_0 0 rfl rfl ?_
  refine j_get C p rfl in_J13 1 (by decide) q618 (fun _ z => z) rfl dJ13_grow_2_1 ?_
  refine j_qalen C Kn q dJ13_grow_2_4 ?_
  refine j_istore_n C (L' := [(2, .int (nI n)), (0, .ref a), (1, .int (nI (n + 1)))]) dJ13_grow_2_5 rfl (jlt hnl (by decide)) rfl ?_
  refine j_iload_n C dJ13_grow_2_6 0 rfl rfl ?_
  refine j_ifn_gt C (by omega) (tgt := 20) dJ13_grow_2_7 (by decide) ?_ ?_
  · intro c7
    have hgN : n + max 1 (n / 2) = growN g e n := by unfold growN; rw [iF_f (by grind)]
    refine j_iload_n C dJ13_grow_2_20 0 rfl rfl ?_
    refine j_iload_n C dJ13_grow_2_21 2 rfl rfl ?_
    refine j_iload_n C dJ13_grow_2_22 0 rfl rfl ?_
    refine j_isubn C (by omega) dJ13_grow_2_23 ?_
    refine j_ev (v' := nI 1) (by rw [Nat.add_sub_cancel_left]) ?_
    refine j_iload_n C dJ13_grow_2_24 0 rfl rfl ?_
    refine j_iconst C (v := nI 1) dJ13_grow_2_25 (by decide) ?_
    refine j_ishr C dJ13_grow_2_26 ?_
    refine j_ev (v' := nI (n / 2)) (shr1 (by omega)) ?_
    refine j_callS C (as := [.int (nI n), .int (nI 1), .int (nI (n / 2))]) (hc_J14_newLength G (h := h) n 1 (n / 2) (by omega) (by omega) (by omega) (by omega)) q961 q290 q85 (by decide) (by decide +kernel : (parseMethodDescriptor (yJ14_newLength).desc).map (fun d => d.parameters.length) = some 3) (by decide) (by first | decide | omega) rfl (Nat.le_of_ble_eq_true rfl) dJ13_grow_2_27 (fun v1 h2 k3 => ?_) (fun E h' q => absurd q id)
    obtain ⟨rfl, hh⟩ := k3
    have hh := hh.symm
    subst hh
    refine j_ev (v' := nI (growN g e n)) (by rw [hgN]) ?_
    refine j_istore_n C (L' := [(3, .int (nI (growN g e n))), (2, .int (nI n)), (0, .ref a), (1, .int (nI (n + 1)))]) dJ13_grow_2_30 rfl (jlt hnl (by decide)) rfl ?_
    refine j_aload_n C dJ13_grow_2_31 2 rfl rfl ?_
    refine j_aload_n C dJ13_grow_2_32 2 rfl rfl ?_
    refine j_get C p rfl in_J13 1 (by decide) q618 (fun _ z => z) rfl dJ13_grow_2_33 ?_
    refine j_iload_n C dJ13_grow_2_36 0 rfl rfl ?_
    refine j_callS C (as := [.ref e, .int (nI (growN g e n))]) (hc_J16_copyOf_2 G Kn (m := growN g e n) q (by omega) (by have := growN_b (g := g) (e := e) (n := n); omega) hE) q962 q963 q87 (by decide) (by decide +kernel : (parseMethodDescriptor (yJ16_copyOf_2).desc).map (fun d => d.parameters.length) = some 2) (by decide) (by first | decide | omega) rfl (Nat.le_of_ble_eq_true rfl) dJ13_grow_2_37 (fun v4 h5 k6 => ?_) (fun E h' q => absurd q id)
    obtain ⟨a7, rfl, na7, za7, eh5⟩ := k6
    have eh5 := eh5.symm
    have nh5_a : a ≠ a7 := jne p na7
    have ph5_a : h5 a = some (jO 12 [.int m, .ref e, .int (nI n)]) := by rw [← eh5, jup_ne nh5_a]; exact p
    have ph5_e : QA g h5 e n f := by rw [← eh5]; exact QA.fresh na7 q
    have ph5_a7 : h5 a7 = some (jQ g 4 (growN g e n) (va_cpy f (fun _ => none) 0 0 (min n (growN g e n)))) := by rw [← eh5]; exact jup_eq
    refine j_dup_x1 C dJ13_grow_2_40 rfl rfl ?_
    refine j_put C ph5_a (fs' := [.int m, .ref a7, .int (nI n)]) rfl in_J13 tyJ13 tyJ13_ok nmJ13 1 (by decide) q618 (fun _ z => z) rfl rfl rfl (by show 1 < 3; decide) rfl dJ13_grow_2_41 ?_
    generalize eh8 : jup h5 a (jO 12 [.int m, .ref a7, .int (nI n)]) = h8
    have ph8_e : QA g h8 e n f := by rw [← eh8]; exact QA.up ph5_a ph5_e
    have ph8_a7 : h8 a7 = some (jQ g 4 (growN g e n) (va_cpy f (fun _ => none) 0 0 (min n (growN g e n)))) := by rw [← eh8, jup_ne (Ne.symm nh5_a)]; exact ph5_a7
    have ph8_a : h8 a = some (jO 12 [.int m, .ref a7, .int (nI n)]) := by rw [← eh8]; exact jup_eq
    exact j_aret C E (Or.inr ⟨_, rfl⟩) (Or.inr ⟨_, rfl⟩) (by omega) (⟨_, _, rfl, na7, za7, fun k hk => cpy_lt (Nat.le_of_lt growN_b.1) hk, fun k hk => cpy_ge (Nat.le_of_lt growN_b.1) hk, by rw [← eh8, ← eh5]⟩) dJ13_grow_2_44
  · intro c7
    refine j_aload_n C dJ13_grow_2_10 1 rfl rfl ?_
    refine j_get C p rfl in_J13 1 (by decide) q618 (fun _ z => z) rfl dJ13_grow_2_11 ?_
    refine j_gets C Kn.1.1 q616 (fun _ z => z) dJ13_grow_2_14 ?_
    refine j_ac_eq C (v := some e) (w := some (kE1 g)) (tgt := 45) dJ13_grow_2_17 (by decide) ?_ ?_
    · intro c17
      have hgN : max 10 (n + 1) = growN g e n := by unfold growN; rw [iF_t ⟨by omega, by first | exact Option.some.inj c17 | exact (Option.some.inj c17)⟩]; omega
      refine j_aload_n C dJ13_grow_2_45 1 rfl rfl ?_
      refine j_bipush C (v := nI 10) dJ13_grow_2_46 (by decide) ?_
      refine j_iload_n C dJ13_grow_2_48 2 rfl rfl ?_
      refine j_mmax C q999 (by omega) (by omega) (by omega) (by decide) (Nat.le_of_ble_eq_true rfl) dJ13_grow_2_49 ?_
      refine j_ev (v' := nI (growN g e n)) (by rw [hgN]) ?_
      refine j_newq C 4 rfl (by have := growN_b (g := g) (e := e) (n := n); omega) q1000 q997 (by omega) dJ13_grow_2_52 (fun a9 na9 za9 => ?_)
      generalize eh10 : jup h a9 (jQ g 4 (growN g e n) (fun _ => none)) = h10
      have nh10_a : a ≠ a9 := jne p na9
      have ph10_a : h10 a = some (jO 12 [.int m, .ref e, .int (nI n)]) := by rw [← eh10, jup_ne nh10_a]; exact p
      have ph10_e : QA g h10 e n f := by rw [← eh10]; exact QA.fresh na9 q
      have ph10_a9 : h10 a9 = some (jQ g 4 (growN g e n) (fun _ => none)) := by rw [← eh10]; exact jup_eq
      refine j_dup_x1 C dJ13_grow_2_55 rfl rfl ?_
      refine j_put C ph10_a (fs' := [.int m, .ref a9, .int (nI n)]) rfl in_J13 tyJ13 tyJ13_ok nmJ13 1 (by decide) q618 (fun _ z => z) rfl rfl rfl (by show 1 < 3; decide) rfl dJ13_grow_2_56 ?_
      generalize eh11 : jup h10 a (jO 12 [.int m, .ref a9, .int (nI n)]) = h11
      have ph11_e : QA g h11 e n f := by rw [← eh11]; exact QA.up ph10_a ph10_e
      have ph11_a9 : h11 a9 = some (jQ g 4 (growN g e n) (fun _ => none)) := by rw [← eh11, jup_ne (Ne.symm nh10_a)]; exact ph10_a9
      have ph11_a : h11 a = some (jO 12 [.int m, .ref a9, .int (nI n)]) := by rw [← eh11]; exact jup_eq
      exact j_aret C E (Or.inr ⟨_, rfl⟩) (Or.inr ⟨_, rfl⟩) (by omega) (⟨_, _, rfl, na9, za9, fun k hk => by omega, fun k hk => rfl, by rw [← eh11, ← eh10]⟩) dJ13_grow_2_59
    · intro c17
      have hgN : n + max 1 (n / 2) = growN g e n := by unfold growN; rw [iF_f (by grind)]
      refine j_iload_n C dJ13_grow_2_20 0 rfl rfl ?_
      refine j_iload_n C dJ13_grow_2_21 2 rfl rfl ?_
      refine j_iload_n C dJ13_grow_2_22 0 rfl rfl ?_
      refine j_isubn C (by omega) dJ13_grow_2_23 ?_
      refine j_ev (v' := nI 1) (by rw [Nat.add_sub_cancel_left]) ?_
      refine j_iload_n C dJ13_grow_2_24 0 rfl rfl ?_
      refine j_iconst C (v := nI 1) dJ13_grow_2_25 (by decide) ?_
      refine j_ishr C dJ13_grow_2_26 ?_
      refine j_ev (v' := nI (n / 2)) (shr1 (by omega)) ?_
      refine j_callS C (as := [.int (nI n), .int (nI 1), .int (nI (n / 2))]) (hc_J14_newLength G (h := h) n 1 (n / 2) (by omega) (by omega) (by omega) (by omega)) q961 q290 q85 (by decide) (by decide +kernel : (parseMethodDescriptor (yJ14_newLength).desc).map (fun d => d.parameters.length) = some 3) (by decide) (by first | decide | omega) rfl (Nat.le_of_ble_eq_true rfl) dJ13_grow_2_27 (fun v12 h13 k14 => ?_) (fun E h' q => absurd q id)
      obtain ⟨rfl, hh⟩ := k14
      have hh := hh.symm
      subst hh
      refine j_ev (v' := nI (growN g e n)) (by rw [hgN]) ?_
      refine j_istore_n C (L' := [(3, .int (nI (growN g e n))), (2, .int (nI n)), (0, .ref a), (1, .int (nI (n + 1)))]) dJ13_grow_2_30 rfl (jlt hnl (by decide)) rfl ?_
      refine j_aload_n C dJ13_grow_2_31 2 rfl rfl ?_
      refine j_aload_n C dJ13_grow_2_32 2 rfl rfl ?_
      refine j_get C p rfl in_J13 1 (by decide) q618 (fun _ z => z) rfl dJ13_grow_2_33 ?_
      refine j_iload_n C dJ13_grow_2_36 0 rfl rfl ?_
      refine j_callS C (as := [.ref e, .int (nI (growN g e n))]) (hc_J16_copyOf_2 G Kn (m := growN g e n) q (by omega) (by have := growN_b (g := g) (e := e) (n := n); omega) hE) q962 q963 q87 (by decide) (by decide +kernel : (parseMethodDescriptor (yJ16_copyOf_2).desc).map (fun d => d.parameters.length) = some 2) (by decide) (by first | decide | omega) rfl (Nat.le_of_ble_eq_true rfl) dJ13_grow_2_37 (fun v15 h16 k17 => ?_) (fun E h' q => absurd q id)
      obtain ⟨a18, rfl, na18, za18, eh16⟩ := k17
      have eh16 := eh16.symm
      have nh16_a : a ≠ a18 := jne p na18
      have ph16_a : h16 a = some (jO 12 [.int m, .ref e, .int (nI n)]) := by rw [← eh16, jup_ne nh16_a]; exact p
      have ph16_e : QA g h16 e n f := by rw [← eh16]; exact QA.fresh na18 q
      have ph16_a18 : h16 a18 = some (jQ g 4 (growN g e n) (va_cpy f (fun _ => none) 0 0 (min n (growN g e n)))) := by rw [← eh16]; exact jup_eq
      refine j_dup_x1 C dJ13_grow_2_40 rfl rfl ?_
      refine j_put C ph16_a (fs' := [.int m, .ref a18, .int (nI n)]) rfl in_J13 tyJ13 tyJ13_ok nmJ13 1 (by decide) q618 (fun _ z => z) rfl rfl rfl (by show 1 < 3; decide) rfl dJ13_grow_2_41 ?_
      generalize eh19 : jup h16 a (jO 12 [.int m, .ref a18, .int (nI n)]) = h19
      have ph19_e : QA g h19 e n f := by rw [← eh19]; exact QA.up ph16_a ph16_e
      have ph19_a18 : h19 a18 = some (jQ g 4 (growN g e n) (va_cpy f (fun _ => none) 0 0 (min n (growN g e n)))) := by rw [← eh19, jup_ne (Ne.symm nh16_a)]; exact ph16_a18
      have ph19_a : h19 a = some (jO 12 [.int m, .ref a18, .int (nI n)]) := by rw [← eh19]; exact jup_eq
      exact j_aret C E (Or.inr ⟨_, rfl⟩) (Or.inr ⟨_, rfl⟩) (by omega) (⟨_, _, rfl, na18, za18, fun k hk => cpy_lt (Nat.le_of_lt growN_b.1) hk, fun k hk => cpy_ge (Nat.le_of_lt growN_b.1) hk, by rw [← eh19, ← eh16]⟩) dJ13_grow_2_44

set_option maxHeartbeats 4000000 in
theorem hc_J13_grow {g : jG} (G : jOK g) (Kn : jKN g) {h : jH} {a e n : Nat} {m : Int32} {f : Nat → Option Nat} (p : h a = some (jO 12 [.int m, .ref e, .int (nI n)])) (q : QA g h e n f) (hn : n ≤ 200) (hE : ∀ i : Nat, i < n → okE g h (f i)) : CT g 4 (growN g e n + 1) yJ13_grow [.ref a] h (jnx fun v h' => ∃ (b : Nat) (f' : Nat → Option Nat), v = some (.ref b) ∧ h b = none ∧ jA g b ∧ (∀ k, k < n → f' k = f k) ∧ (∀ k, n ≤ k → f' k = none) ∧ h' = jup (jup h b (jQ g 4 (growN g e n) f')) a (jO 12 [.int m, .ref b, .int (nI n)])) := by
  refine CT.of (bytes := cJ13_grow) (maxL := 1) (ret := (some (.array (.object "java/lang/Object")))) G q956 (by decide) (by decide +kernel) (Nat.le_of_ble_eq_true rfl) ?_
  intro z C E hT hnm hnl
  have C : jC (g, z) cJ13_grow RJ13 4 (growN g e n + 1) := C
  show J (g, z) h 0 0 [(0, .ref a)] []
  refine j_aload_n C dJ13_grow_0 0 rfl rfl ?_
  refine j_aload_n C dJ13_grow_1 0 rfl rfl ?_
  refine j_get C p rfl in_J13 2 (by decide) q621 (fun _ z => z) rfl dJ13_grow_2 ?_
  refine j_iconst C (v := nI 1) dJ13_grow_5 (by decide) ?_
  refine j_iaddn C dJ13_grow_6 ?_
  refine j_callV C (as := [.int (nI (n + 1))]) (hc_J13_grow_2 G Kn p q hn hE) (jIs.ob p (ci := 12) rfl) q957 q959 qs8 q83 (by decide) (by decide +kernel : (parseMethodDescriptor (yJ13_grow_2).desc).map (fun d => d.parameters.length) = some 1) (by decide) (by first | decide | omega) rfl (Nat.le_of_ble_eq_true rfl) dJ13_grow_7 (fun v1 h2 k3 => ?_) (fun E h' q => absurd q id)
  obtain ⟨b, f2, rfl, nb, zb, hf, hf0, eh⟩ := k3
  exact j_aret C E (Or.inr ⟨_, rfl⟩) (Or.inr ⟨_, rfl⟩) (by omega) (⟨_, _, rfl, nb, zb, hf, hf0, eh⟩) dJ13_grow_10
