set_option maxRecDepth 100000
/-- step j of l can stand: its own, none of the first k alike -/
def sameS (l : List Stp3) (k j : Nat) : Prop := (l.getD k z3).1 = (l.getD j z3).1 ∧ ((l.getD j z3).1 = 0 → (l.getD k z3).2.1 = (l.getD j z3).2.1)
def stPre (t : MT) (l : List Stp3) (j k : Nat) : Prop := ((l.getD j z3).1 = 0 → t.1 0 (1 - turn t) (l.getD j z3).2.1 = 0) ∧ ∀ m, m < k → ¬ sameS l m j
theorem stPre_0 {t : MT} {l : List Stp3} {j : Nat} : ((l.getD j z3).1 = 0 → t.1 0 (1 - turn t) (l.getD j z3).2.1 = 0) ↔ stPre t l j 0 := ⟨fun h => ⟨h, fun m hm => absurd hm (Nat.not_lt_zero _)⟩, fun h => h.1⟩
theorem stPre_s {t : MT} {l : List Stp3} {j k : Nat} : stPre t l j (k + 1) ↔ stPre t l j k ∧ ¬ sameS l k j := by
  constructor
  · intro h
    exact ⟨⟨h.1, fun m hm => h.2 m (by omega)⟩, h.2 k (Nat.lt_succ_self _)⟩
  · intro h
    refine ⟨h.1.1, fun m hm => ?_⟩
    by_cases hk : m = k
    · rw [hk]; exact h.2
    · exact h.1.2 m (by omega)
theorem getD_take {l : List Stp3} {m j : Nat} (h : m < j) : (l.take j).getD m z3 = l.getD m z3 := by
  rw [List.getD_eq_getElem?_getD, List.getD_eq_getElem?_getD, List.getElem?_take, if_pos h]
theorem getD_mem {l : List Stp3} {m : Nat} (h : m < l.length) : l.getD m z3 ∈ l := by
  rw [List.getD_eq_getElem?_getD, List.getElem?_eq_getElem h]; exact List.getElem_mem h
theorem mem_getD {l : List Stp3} {s : Stp3} (h : s ∈ l) : ∃ m, m < l.length ∧ l.getD m z3 = s := by
  obtain ⟨m, hm, rfl⟩ := List.mem_iff_getElem.mp h
  exact ⟨m, hm, by rw [List.getD_eq_getElem?_getD, List.getElem?_eq_getElem hm]; rfl⟩
theorem stPre_e {t : MT} {l : List Stp3} {j : Nat} (hj : j < l.length) : stepOK t (l.take j) (l.getD j z3) ↔ stPre t l j j ∧ ((l.getD j z3).1 = 6 → (l.getD j z3).2.2 = 300) := by
  unfold stepOK stPre
  rw [and_assoc]
  refine and_congr Iff.rfl (and_congr ⟨fun h m hm => ?_, fun h q hq => ?_⟩ Iff.rfl)
  · intro z
    have hm2 : m < (l.take j).length := by rw [List.length_take]; omega
    have := h _ (getD_mem hm2)
    rw [getD_take hm] at this
    exact this ⟨z.1, fun y => z.2 (by rw [← z.1]; exact z.1.trans y)⟩
  · obtain ⟨m, hm, rfl⟩ := mem_getD hq
    rw [List.length_take] at hm
    have hmj : m < j := by omega
    rw [getD_take hmj]
    intro z
    exact h m hmj ⟨z.1, fun y => z.2 y⟩
theorem itsCol_s {c k : Nat} (h : k < 2) (hb : c.testBit k = true) : itsCol c (k + 1) = itsCol c k := by
  have : k = 0 ∨ k = 1 := by omega
  rcases this with rfl | rfl
  · unfold itsCol; simp [hb]
  · unfold itsCol; simp [hb]
theorem itsCol_e {c k : Nat} (h : ¬ (k < 2 ∧ c.testBit k = true)) : itsCol c k = k := by unfold itsCol; rw [if_neg h]
def bitN (c k : Nat) : Nat := if c.testBit k = true then 1 else 0
theorem bit_I {c k : Nat} (hc : c < 8) (hk : k < 2) : (nI c >>> (nI k &&& 31)) &&& nI 1 = nI (bitN c k) := (by decide +kernel : ∀ c, c < 8 → ∀ k, k < 2 → (nI c >>> (nI k &&& 31)) &&& nI 1 = nI (bitN c k)) c hc k hk
theorem or_I {c k : Nat} (hc : c < 8) (hk : k < 3) : nI c ||| (nI 1 <<< (nI k &&& 31)) = nI (c ||| 2 ^ k) := (by decide +kernel : ∀ c, c < 8 → ∀ k, k < 3 → nI c ||| (nI 1 <<< (nI k &&& 31)) = nI (c ||| 2 ^ k)) c hc k hk
theorem or_J {c k : Nat} (hc : c < 1024) (hk : k < 10) : nI c ||| (nI 1 <<< (nI k &&& 31)) = nI (c ||| 2 ^ k) := (by decide +kernel : ∀ c, c < 1024 → ∀ k, k < 10 → nI c ||| (nI 1 <<< (nI k &&& 31)) = nI (c ||| 2 ^ k)) c hc k hk
theorem or_0 {c : Nat} (hc : c < 1024) : nI c ||| nI 0 = nI c := (by decide +kernel : ∀ c, c < 1024 → nI c ||| nI 0 = nI c) c hc
/-- who is on the mat, as bits -/
def onTo (t : MT) (i : Nat) : Nat → Nat
  | 0 => 0
  | k + 1 => onTo t i k ||| (if t.1 0 i k = 0 then 2 ^ k else 0)
def onSet (t : MT) (i : Nat) : Nat := onTo t i 10
theorem onTo_lt {t : MT} {i : Nat} : ∀ {k : Nat}, k ≤ 10 → onTo t i k < 1024 := by
  intro k
  induction k with
  | zero => intro _; exact Nat.zero_lt_succ _
  | succ k ih =>
    intro hk
    refine Nat.or_lt_two_pow (n := 10) (ih (by omega)) ?_
    split
    · exact Nat.pow_lt_pow_right (by decide) (by omega)
    · decide
theorem onTo_0 {t : MT} {i : Nat} : ∀ {k : Nat}, onTo t i k = 0 ↔ (List.range k).countP (fun p => t.1 0 i p == 0 || t.1 0 i p == 0) = 0 := by
  intro k
  induction k with
  | zero => exact ⟨fun _ => rfl, fun _ => rfl⟩
  | succ k ih =>
    rw [cnt_s]
    show onTo t i k ||| _ = 0 ↔ _
    rw [Nat.or_eq_zero_iff, ih]
    by_cases h : t.1 0 i k = 0
    · rw [if_pos h]; simp [h]
    · rw [if_neg h]; simp [h]
theorem onSet_0 {t : MT} {i : Nat} : onSet t i = 0 ↔ tMany t i 0 0 = 0 := onTo_0

set_option maxHeartbeats 4000000 in
theorem mc_canStep {g : jG} (G : jOK g) (M : jM) (t : MT) (e j : Nat) (l : List Stp3) (hS : SA (M.2 16) t) (he : e < 60) (hR : stRel M e l) (hK : stOK l) (hj : j < l.length) (hB : stB t) (hnr : t.1 8 0 0 < 2 ^ 31)  : MTQ g 1 yX4_canStep [.int (nI e), .int (nI j)] M (pI (stepOK t (l.take j) (l.getD j z3))) := by
  intro h o ad hO
  refine CT.of (bytes := cX4_canStep) (maxL := 8) (ret := (some .boolean)) G q2081 (by decide) (by decide +kernel) (Nat.le_of_ble_eq_true rfl) ?_
  intro z C E hT hnm hnl
  have C : jC (g, z) cX4_canStep RX4 1 0 := C
  show J (g, z) (mput g h o ad M) 0 0 [(0, .ref o), (1, .int (nI e)), (2, .int (nI j))] []
  refine j_bipush C (v := nI 14) dX4_canStep_0 (by decide) ?_
  refine j_iload_n C dX4_canStep_2 1 rfl rfl ?_
  refine j_imuln C dX4_canStep_3 ?_
  refine j_iload_n C dX4_canStep_4 2 rfl rfl ?_
  refine j_iaddn C dX4_canStep_5 ?_
  refine j_istore_n C (L' := [(3, .int (nI (14 * e + j))), (0, .ref o), (1, .int (nI e)), (2, .int (nI j))]) dX4_canStep_6 rfl (jlt hnl (by decide)) rfl ?_
  have hi : turn t < 2 := Nat.mod_lt _ (by decide)
  refine j_aload_n C dX4_canStep_7 1 rfl rfl ?_
  refine jm_get13 C dX4_canStep_8 ?_
  refine j_iload_n C dX4_canStep_11 0 rfl rfl ?_
  refine jm_ald13 C hO (by have := hK.1; omega) dX4_canStep_12 ?_
  refine j_ev (v' := nI ((l.getD j z3).1)) ((hR j hj).1) ?_
  refine j_istore C (L' := [(4, .int (nI ((l.getD j z3).1))), (3, .int (nI (14 * e + j))), (0, .ref o), (1, .int (nI e)), (2, .int (nI j))]) dX4_canStep_13 (jlt hnl (by decide)) rfl ?_
  have join45 : J (g, z) (mput g h o ad M) 0 45 [(0, .ref o), (1, .int (nI e)), (2, .int (nI j)), (3, .int (nI (14 * e + j))), (4, .int (nI ((l.getD j z3).1)))] [.int (pI ((l.getD j z3).1 = 0 → t.1 0 (1 - turn t) (l.getD j z3).2.1 = 0))] := by
    refine j_istore C (L' := [(5, .int (pI ((l.getD j z3).1 = 0 → t.1 0 (1 - turn t) (l.getD j z3).2.1 = 0))), (0, .ref o), (1, .int (nI e)), (2, .int (nI j)), (3, .int (nI (14 * e + j))), (4, .int (nI ((l.getD j z3).1)))]) dX4_canStep_45 (jlt hnl (by decide)) rfl ?_
    refine j_bipush C (v := nI 14) dX4_canStep_47 (by decide) ?_
    refine j_iload_n C dX4_canStep_49 2 rfl rfl ?_
    refine j_imuln C dX4_canStep_50 ?_
    refine j_istore C (L' := [(6, .int (nI (14 * e))), (5, .int (pI ((l.getD j z3).1 = 0 → t.1 0 (1 - turn t) (l.getD j z3).2.1 = 0))), (0, .ref o), (1, .int (nI e)), (2, .int (nI j)), (3, .int (nI (14 * e + j))), (4, .int (nI ((l.getD j z3).1)))]) dX4_canStep_51 (jlt hnl (by decide)) rfl ?_
    refine J.sub (L' := [(0, .ref o), (1, .int (nI e)), (2, .int (nI j)), (3, .int (nI (14 * e + j))), (4, .int (nI ((l.getD j z3).1))), (5, .int (pI ((l.getD j z3).1 = 0 → t.1 0 (1 - turn t) (l.getD j z3).2.1 = 0))), (6, .int (nI (14 * e)))]) ?_ [2, 3, 4, 5, 6, 1, 0] rfl
    refine J.sub (L' := [(0, .ref o), (1, .int (nI e)), (2, .int (nI j)), (3, .int (nI (14 * e + j))), (4, .int (nI (l.getD j z3).1)), (5, .int (pI (stPre t l j 0))), (6, .int (nI (14 * e + 0)))]) ?_ [0, 1, 2, 3, 4, 5, 6] (by rw [← pI_c stPre_0]; rfl)
    have loop53 : ∀ (n : Nat) (k : Nat), (k ≤ j) → (j - k) < n → J (g, z) (mput g h o ad M) 0 53 [(0, .ref o), (1, .int (nI e)), (2, .int (nI j)), (3, .int (nI (14 * e + j))), (4, .int (nI ((l.getD j z3).1))), (5, .int (pI (stPre t l j k))), (6, .int (nI (14 * e + k)))] [] := by
      intro n
      induction n with
      | zero => intro k; intros; omega
      | succ n ih53 =>
        intro k hk hm53
        refine j_iload C dX4_canStep_53 6 rfl ?_
        refine j_iload_n C dX4_canStep_55 3 rfl rfl ?_
        refine j_icn_ge C (by have := hK.1; omega) (by have := hK.1; omega) (tgt := 122) dX4_canStep_56 (by decide) ?_ ?_
        · intro c56
          have hkj : stPre t l j k ↔ stPre t l j j := by rw [show k = j by omega]
          have hse := stPre_e (t := t) hj
          refine j_iload C dX4_canStep_122 5 rfl ?_
          refine j_ifp_eq C (tgt := 150) dX4_canStep_124 (by decide) ?_ ?_
          · intro c124
            refine j_iconst C (v := nI 0) dX4_canStep_150 (by decide) ?_
            exact j_iret C E (by decide) (Nat.le_refl _) (⟨_, rfl, rz0 (by grind), rfl⟩) dX4_canStep_151
          · intro c124
            refine j_iload C dX4_canStep_127 4 rfl ?_
            refine j_bipush C (v := nI 6) dX4_canStep_129 (by decide) ?_
            refine j_icn_ne C (by have := (hK.2 j hj).1; omega) (by decide) (tgt := 146) dX4_canStep_131 (by decide) ?_ ?_
            · intro c131
              refine j_iconst C (v := nI 1) dX4_canStep_146 (by decide) ?_
              refine j_goto C (tgt := 151) dX4_canStep_147 (by decide) ?_
              exact j_iret C E (by decide) (Nat.le_refl _) (⟨_, rfl, rz1 (by grind), rfl⟩) dX4_canStep_151
            · intro c131
              refine j_aload_n C dX4_canStep_134 0 rfl rfl ?_
              refine jm_get15 C dX4_canStep_135 ?_
              refine j_iload_n C dX4_canStep_138 3 rfl rfl ?_
              refine jm_ald15 C hO (by have := hK.1; omega) dX4_canStep_139 ?_
              refine j_ev (v' := nI ((l.getD j z3).2.2)) ((hR j hj).2.2) ?_
              refine j_sipush C (v := nI 300) dX4_canStep_140 (by decide) ?_
              refine j_icn_ne C (by have := (hK.2 j hj).2.2; omega) (by decide) (tgt := 150) dX4_canStep_143 (by decide) ?_ ?_
              · intro c143
                refine j_iconst C (v := nI 0) dX4_canStep_150 (by decide) ?_
                exact j_iret C E (by decide) (Nat.le_refl _) (⟨_, rfl, rz0 (by grind), rfl⟩) dX4_canStep_151
              · intro c143
                refine j_iconst C (v := nI 1) dX4_canStep_146 (by decide) ?_
                refine j_goto C (tgt := 151) dX4_canStep_147 (by decide) ?_
                exact j_iret C E (by decide) (Nat.le_refl _) (⟨_, rfl, rz1 (by grind), rfl⟩) dX4_canStep_151
        · intro c56
          have join97 : J (g, z) (mput g h o ad M) 0 97 [(0, .ref o), (1, .int (nI e)), (2, .int (nI j)), (3, .int (nI (14 * e + j))), (4, .int (nI ((l.getD j z3).1))), (5, .int (pI (stPre t l j k))), (6, .int (nI (14 * e + k)))] [.int (pI (sameS l k j))] := by
            refine j_istore C (L' := [(7, .int (pI (sameS l k j))), (0, .ref o), (1, .int (nI e)), (2, .int (nI j)), (3, .int (nI (14 * e + j))), (4, .int (nI ((l.getD j z3).1))), (5, .int (pI (stPre t l j k))), (6, .int (nI (14 * e + k)))]) dX4_canStep_97 (jlt hnl (by decide)) rfl ?_
            have hPk := stPre_s (t := t) (l := l) (j := j) (k := k)
            have join114 : J (g, z) (mput g h o ad M) 0 114 [(0, .ref o), (1, .int (nI e)), (2, .int (nI j)), (3, .int (nI (14 * e + j))), (4, .int (nI ((l.getD j z3).1))), (6, .int (nI (14 * e + k)))] [.int (pI (stPre t l j (k + 1)))] := by
              refine j_istore C (L' := [(5, .int (pI (stPre t l j (k + 1)))), (0, .ref o), (1, .int (nI e)), (2, .int (nI j)), (3, .int (nI (14 * e + j))), (4, .int (nI ((l.getD j z3).1))), (6, .int (nI (14 * e + k)))]) dX4_canStep_114 (jlt hnl (by decide)) rfl ?_
              refine j_iinc C (L' := [(6, .int (nI (14 * e + k + 1))), (5, .int (pI (stPre t l j (k + 1)))), (0, .ref o), (1, .int (nI e)), (2, .int (nI j)), (3, .int (nI (14 * e + j))), (4, .int (nI ((l.getD j z3).1)))]) dX4_canStep_116 6 rfl (kinc (14 * e + k) 1 (by decide)) (jlt hnl (by decide)) rfl ?_
              refine j_goto C (tgt := 53) dX4_canStep_119 (by decide) ?_
              refine J.sub (L' := [(0, .ref o), (1, .int (nI e)), (2, .int (nI j)), (3, .int (nI (14 * e + j))), (4, .int (nI ((l.getD j z3).1))), (5, .int (pI (stPre t l j (k + 1)))), (6, .int (nI (14 * e + k + 1)))]) ?_ [2, 3, 4, 5, 6, 1, 0] rfl
              exact ih53 (k + 1) (by omega) (by omega)
            refine j_iload C dX4_canStep_99 6 rfl ?_
            refine j_ifp_eq C (tgt := 113) dX4_canStep_101 (by decide) ?_ ?_
            · intro c101
              refine j_iconst C (v := nI 0) dX4_canStep_113 (by decide) ?_
              refine J.sub (L' := [(0, .ref o), (1, .int (nI e)), (2, .int (nI j)), (3, .int (nI (14 * e + j))), (4, .int (nI ((l.getD j z3).1))), (6, .int (nI (14 * e + k)))]) ?_ [1, 2, 3, 4, 5, 7] rfl
              refine j_ev (v' := pI (stPre t l j (k + 1))) (by rw [pI_f (by grind)]; rfl) ?_
              exact join114
            · intro c101
              refine j_iload C dX4_canStep_104 0 rfl ?_
              refine j_ifp_ne C (tgt := 113) dX4_canStep_106 (by decide) ?_ ?_
              · intro c106
                refine j_iconst C (v := nI 0) dX4_canStep_113 (by decide) ?_
                refine J.sub (L' := [(0, .ref o), (1, .int (nI e)), (2, .int (nI j)), (3, .int (nI (14 * e + j))), (4, .int (nI ((l.getD j z3).1))), (6, .int (nI (14 * e + k)))]) ?_ [1, 2, 3, 4, 5, 7] rfl
                refine j_ev (v' := pI (stPre t l j (k + 1))) (by rw [pI_f (by grind)]; rfl) ?_
                exact join114
              · intro c106
                refine j_iconst C (v := nI 1) dX4_canStep_109 (by decide) ?_
                refine j_goto C (tgt := 114) dX4_canStep_110 (by decide) ?_
                refine J.sub (L' := [(0, .ref o), (1, .int (nI e)), (2, .int (nI j)), (3, .int (nI (14 * e + j))), (4, .int (nI ((l.getD j z3).1))), (6, .int (nI (14 * e + k)))]) ?_ [1, 2, 3, 4, 5, 7] rfl
                refine j_ev (v' := pI (stPre t l j (k + 1))) (by rw [pI_t (by grind)]; rfl) ?_
                exact join114
          refine j_aload_n C dX4_canStep_59 0 rfl rfl ?_
          refine jm_get13 C dX4_canStep_60 ?_
          refine j_iload C dX4_canStep_63 6 rfl ?_
          refine jm_ald13 C hO (by have := hK.1; omega) dX4_canStep_65 ?_
          refine j_ev (v' := nI ((l.getD k z3).1)) ((hR k (by omega)).1) ?_
          refine j_iload C dX4_canStep_66 4 rfl ?_
          refine j_icn_ne C (by have := (hK.2 j hj).1; have := (hK.2 k (by omega)).1; omega) (by have := (hK.2 j hj).1; have := (hK.2 k (by omega)).1; omega) (tgt := 96) dX4_canStep_68 (by decide) ?_ ?_
          · intro c68
            refine j_iconst C (v := nI 0) dX4_canStep_96 (by decide) ?_
            refine J.sub (L' := [(0, .ref o), (1, .int (nI e)), (2, .int (nI j)), (3, .int (nI (14 * e + j))), (4, .int (nI ((l.getD j z3).1))), (5, .int (pI (stPre t l j k))), (6, .int (nI (14 * e + k)))]) ?_ [0, 1, 2, 3, 4, 5, 6] rfl
            refine j_ev (v' := pI (sameS l k j)) (by rw [pI_f (by unfold sameS; omega)]; rfl) ?_
            exact join97
          · intro c68
            refine j_iload C dX4_canStep_71 4 rfl ?_
            refine j_ifn_ne C (by have := (hK.2 j hj).1; omega) (tgt := 92) dX4_canStep_73 (by decide) ?_ ?_
            · intro c73
              refine j_iconst C (v := nI 1) dX4_canStep_92 (by decide) ?_
              refine j_goto C (tgt := 97) dX4_canStep_93 (by decide) ?_
              refine J.sub (L' := [(0, .ref o), (1, .int (nI e)), (2, .int (nI j)), (3, .int (nI (14 * e + j))), (4, .int (nI ((l.getD j z3).1))), (5, .int (pI (stPre t l j k))), (6, .int (nI (14 * e + k)))]) ?_ [0, 1, 2, 3, 4, 5, 6] rfl
              refine j_ev (v' := pI (sameS l k j)) (by rw [pI_t (by unfold sameS; omega)]; rfl) ?_
              exact join97
            · intro c73
              refine j_aload_n C dX4_canStep_76 0 rfl rfl ?_
              refine jm_get14 C dX4_canStep_77 ?_
              refine j_iload C dX4_canStep_80 6 rfl ?_
              refine jm_ald14 C hO (by have := hK.1; omega) dX4_canStep_82 ?_
              refine j_ev (v' := nI ((l.getD k z3).2.1)) (((hR k (by omega)).2.1).trans (by rw [whoI, if_pos (by omega)])) ?_
              refine j_aload_n C dX4_canStep_83 0 rfl rfl ?_
              refine jm_get14 C dX4_canStep_84 ?_
              refine j_iload_n C dX4_canStep_87 3 rfl rfl ?_
              refine jm_ald14 C hO (by have := hK.1; omega) dX4_canStep_88 ?_
              refine j_ev (v' := nI ((l.getD j z3).2.1)) (((hR j hj).2.1).trans (by rw [whoI, if_pos (by omega)])) ?_
              refine j_icn_ne C (by have := (hK.2 j hj).2.1 (by omega); have := (hK.2 k (by omega)).2.1 (by omega); omega) (by have := (hK.2 j hj).2.1 (by omega); have := (hK.2 k (by omega)).2.1 (by omega); omega) (tgt := 96) dX4_canStep_89 (by decide) ?_ ?_
              · intro c89
                refine j_iconst C (v := nI 0) dX4_canStep_96 (by decide) ?_
                refine J.sub (L' := [(0, .ref o), (1, .int (nI e)), (2, .int (nI j)), (3, .int (nI (14 * e + j))), (4, .int (nI ((l.getD j z3).1))), (5, .int (pI (stPre t l j k))), (6, .int (nI (14 * e + k)))]) ?_ [0, 1, 2, 3, 4, 5, 6] rfl
                refine j_ev (v' := pI (sameS l k j)) (by rw [pI_f (by unfold sameS; omega)]; rfl) ?_
                exact join97
              · intro c89
                refine j_iconst C (v := nI 1) dX4_canStep_92 (by decide) ?_
                refine j_goto C (tgt := 97) dX4_canStep_93 (by decide) ?_
                refine J.sub (L' := [(0, .ref o), (1, .int (nI e)), (2, .int (nI j)), (3, .int (nI (14 * e + j))), (4, .int (nI ((l.getD j z3).1))), (5, .int (pI (stPre t l j k))), (6, .int (nI (14 * e + k)))]) ?_ [0, 1, 2, 3, 4, 5, 6] rfl
                refine j_ev (v' := pI (sameS l k j)) (by rw [pI_t (by unfold sameS; omega)]; rfl) ?_
                exact join97
    exact loop53 ((j - 0) + 1) 0 (Nat.zero_le _) (Nat.lt_succ_self _)
  refine j_iload C dX4_canStep_15 0 rfl ?_
  refine j_ifn_ne C (by have := (hK.2 j hj).1; omega) (tgt := 40) dX4_canStep_17 (by decide) ?_ ?_
  · intro c17
    refine j_iconst C (v := nI 1) dX4_canStep_40 (by decide) ?_
    refine j_goto C (tgt := 45) dX4_canStep_41 (by decide) ?_
    refine J.sub (L' := [(0, .ref o), (1, .int (nI e)), (2, .int (nI j)), (3, .int (nI (14 * e + j))), (4, .int (nI ((l.getD j z3).1)))]) ?_ [2, 3, 4, 1, 0] rfl
    refine j_ev (v' := pI ((l.getD j z3).1 = 0 → t.1 0 (1 - turn t) (l.getD j z3).2.1 = 0)) (by rw [pI_t (by grind)]; rfl) ?_
    exact join45
  · intro c17
    refine j_aload_n C dX4_canStep_20 2 rfl rfl ?_
    refine j_iconst C (v := nI 1) dX4_canStep_21 (by decide) ?_
    refine j_aload_n C dX4_canStep_22 2 rfl rfl ?_
    refine jm_callQ C hO (as := []) (mc_turn G M t hS hnr) mw_turn (by decide) (Nat.le_refl _) rfl (Nat.le_of_ble_eq_true rfl) dX4_canStep_23 ?_
    refine j_isubn C (by omega) dX4_canStep_26 ?_
    refine j_aload_n C dX4_canStep_27 2 rfl rfl ?_
    refine jm_get14 C dX4_canStep_28 ?_
    refine j_iload_n C dX4_canStep_31 1 rfl rfl ?_
    refine jm_ald14 C hO (by have := hK.1; omega) dX4_canStep_32 ?_
    refine j_ev (v' := nI ((l.getD j z3).2.1)) (((hR j hj).2.1).trans (by rw [whoI, if_pos (by omega)])) ?_
    refine j_iconst C (v := nI 0) dX4_canStep_33 (by decide) ?_
    refine jm_callQ C hO (as := [.int (nI (1 - (turn t))), .int (nI ((l.getD j z3).2.1)), .int (nI 0)]) (mc_is G M (1 - turn t) (l.getD j z3).2.1 (nI 0) (by omega) ((hK.2 j hj).2.1 (by omega))) mw_is (by decide) (Nat.le_refl _) rfl (Nat.le_of_ble_eq_true rfl) dX4_canStep_34 ?_
    refine j_ev (v' := pI (t.1 0 (1 - turn t) (l.getD j z3).2.1 = 0)) (pI_c (by rw [hS.st (i := 1 - turn t) (by omega) ((hK.2 j hj).2.1 (by omega)) rfl]; exact nI_eq (by have := hB (1 - turn t) (l.getD j z3).2.1; omega) (by decide))) ?_
    refine j_ifp_eq C (tgt := 44) dX4_canStep_37 (by decide) ?_ ?_
    · intro c37
      refine j_iconst C (v := nI 0) dX4_canStep_44 (by decide) ?_
      refine J.sub (L' := [(0, .ref o), (1, .int (nI e)), (2, .int (nI j)), (3, .int (nI (14 * e + j))), (4, .int (nI ((l.getD j z3).1)))]) ?_ [2, 3, 4, 1, 0] rfl
      refine j_ev (v' := pI ((l.getD j z3).1 = 0 → t.1 0 (1 - turn t) (l.getD j z3).2.1 = 0)) (by rw [pI_f (by grind)]; rfl) ?_
      exact join45
    · intro c37
      refine j_iconst C (v := nI 1) dX4_canStep_40 (by decide) ?_
      refine j_goto C (tgt := 45) dX4_canStep_41 (by decide) ?_
      refine J.sub (L' := [(0, .ref o), (1, .int (nI e)), (2, .int (nI j)), (3, .int (nI (14 * e + j))), (4, .int (nI ((l.getD j z3).1)))]) ?_ [2, 3, 4, 1, 0] rfl
      refine j_ev (v' := pI ((l.getD j z3).1 = 0 → t.1 0 (1 - turn t) (l.getD j z3).2.1 = 0)) (by rw [pI_t (by grind)]; rfl) ?_
      exact join45

set_option maxHeartbeats 4000000 in
theorem mc_colourFor {g : jG} (G : jOK g) (M : jM) (t : MT) (i p col : Nat) (hS : SA (M.2 16) t) (hi : i < 2) (hp : p < 10) (hc : col ≤ 2) (hC : cB t)  : MTQ g 0 yX4_colourFor [.int (nI i), .int (nI p), .int (nI col)] M (nI (itsCol (t.1 2 i p) col)) := by
  intro h o ad hO
  refine CT.of (bytes := cX4_colourFor) (maxL := 5) (ret := (some .int)) G q2132 (by decide) (by decide +kernel) (Nat.le_of_ble_eq_true rfl) ?_
  intro z C E hT hnm hnl
  have C : jC (g, z) cX4_colourFor RX4 0 0 := C
  show J (g, z) (mput g h o ad M) 0 0 [(0, .ref o), (1, .int (nI i)), (2, .int (nI p)), (3, .int (nI col))] []
  refine j_iload_n C dX4_colourFor_0 3 rfl rfl ?_
  refine j_istore C (L' := [(4, .int (nI col)), (0, .ref o), (1, .int (nI i)), (2, .int (nI p)), (3, .int (nI col))]) dX4_colourFor_1 (jlt hnl (by decide)) rfl ?_
  refine J.sub (L' := [(0, .ref o), (1, .int (nI i)), (2, .int (nI p)), (3, .int (nI col)), (4, .int (nI col))]) ?_ [1, 2, 3, 4, 0] rfl
  have loop3 : ∀ (n : Nat) (k : Nat), (k ≤ 2) → (itsCol (t.1 2 i p) k = itsCol (t.1 2 i p) col) → (2 - k) < n → J (g, z) (mput g h o ad M) 0 3 [(0, .ref o), (1, .int (nI i)), (2, .int (nI p)), (3, .int (nI col)), (4, .int (nI k))] [] := by
    intro n
    induction n with
    | zero => intro k; intros; omega
    | succ n ih3 =>
      intro k hk hkc hm3
      refine j_iload C dX4_colourFor_3 4 rfl ?_
      refine j_iconst C (v := nI 2) dX4_colourFor_5 (by decide) ?_
      refine j_icn_ge C (by omega) (by decide) (tgt := 38) dX4_colourFor_6 (by decide) ?_ ?_
      · intro c6
        refine j_iload C dX4_colourFor_38 4 rfl ?_
        exact j_iret C E rfl (Nat.le_refl _) (⟨_, rfl, by rw [← hkc, itsCol_e (by omega)], rfl⟩) dX4_colourFor_40
      · intro c6
        refine j_aload_n C dX4_colourFor_9 0 rfl rfl ?_
        refine jm_get16 C dX4_colourFor_10 ?_
        refine j_bipush C (v := nI 40) dX4_colourFor_13 (by decide) ?_
        refine j_bipush C (v := nI 10) dX4_colourFor_15 (by decide) ?_
        refine j_iload_n C dX4_colourFor_17 1 rfl rfl ?_
        refine j_imuln C dX4_colourFor_18 ?_
        refine j_iaddn C dX4_colourFor_19 ?_
        refine j_iload_n C dX4_colourFor_20 2 rfl rfl ?_
        refine j_iaddn C dX4_colourFor_21 ?_
        refine jm_ald16 C hO (by omega) dX4_colourFor_22 ?_
        refine j_ev (v' := nI (t.1 2 i p)) (hS.ca hi hp (by omega)) ?_
        refine j_iload C dX4_colourFor_23 4 rfl ?_
        refine j_ishr C dX4_colourFor_25 ?_
        refine j_iconst C (v := nI 1) dX4_colourFor_26 (by decide) ?_
        refine j_iand C dX4_colourFor_27 ?_
        refine j_ev (v' := nI (bitN (t.1 2 i p) k)) (bit_I (hC i p) (by omega)) ?_
        refine j_iconst C (v := nI 1) dX4_colourFor_28 (by decide) ?_
        refine j_icn_ne C (by unfold bitN; split <;> omega) (by decide) (tgt := 38) dX4_colourFor_29 (by decide) ?_ ?_
        · intro c29
          refine j_iload C dX4_colourFor_38 4 rfl ?_
          exact j_iret C E rfl (Nat.le_refl _) (⟨_, rfl, by rw [← hkc, itsCol_e (by unfold bitN at c29; grind)], rfl⟩) dX4_colourFor_40
        · intro c29
          refine j_iinc C (L' := [(4, .int (nI (k + 1))), (0, .ref o), (1, .int (nI i)), (2, .int (nI p)), (3, .int (nI col))]) dX4_colourFor_32 4 rfl (kinc k 1 (by decide)) (jlt hnl (by decide)) rfl ?_
          refine j_goto C (tgt := 3) dX4_colourFor_35 (by decide) ?_
          refine J.sub (L' := [(0, .ref o), (1, .int (nI i)), (2, .int (nI p)), (3, .int (nI col)), (4, .int (nI (k + 1)))]) ?_ [1, 2, 3, 4, 0] rfl
          exact ih3 (k + 1) (by omega) ((itsCol_s (by omega) (by unfold bitN at c29; grind)).trans hkc) (by omega)
  exact loop3 ((2 - col) + 1) col hc rfl (Nat.lt_succ_self _)

set_option maxHeartbeats 4000000 in
theorem mc_canCard {g : jG} (G : jOK g) (M : jM) (t : MT) (i p col : Nat) (hS : SA (M.2 16) t) (hi : i < 2) (hp : p < 10) (hc : col ≤ 2) (hC : cB t) (hB : stB t)  : MTQ g 2 yX4_canCard [.int (nI i), .int (nI p), .int (nI col)] M (pI (cardCan t i p col)) := by
  intro h o ad hO
  refine CT.of (bytes := cX4_canCard) (maxL := 4) (ret := (some .boolean)) G q2128 (by decide) (by decide +kernel) (Nat.le_of_ble_eq_true rfl) ?_
  intro z C E hT hnm hnl
  have C : jC (g, z) cX4_canCard RX4 2 0 := C
  show J (g, z) (mput g h o ad M) 0 0 [(0, .ref o), (1, .int (nI i)), (2, .int (nI p)), (3, .int (nI col))] []
  refine j_aload_n C dX4_canCard_0 0 rfl rfl ?_
  refine j_iload_n C dX4_canCard_1 1 rfl rfl ?_
  refine j_iload_n C dX4_canCard_2 2 rfl rfl ?_
  refine j_iconst C (v := nI 0) dX4_canCard_3 (by decide) ?_
  refine jm_callQ C hO (as := [.int (nI i), .int (nI p), .int (nI 0)]) (mc_is G M i p (nI 0) hi hp) mw_is (by decide) (Nat.le_refl _) rfl (Nat.le_of_ble_eq_true rfl) dX4_canCard_4 ?_
  refine j_ev (v' := pI (t.1 0 i p = 0)) (pI_c (by rw [hS.st hi hp rfl]; exact nI_eq (by have := hB i p; omega) (by decide))) ?_
  refine j_ifp_eq C (tgt := 35) dX4_canCard_7 (by decide) ?_ ?_
  · intro c7
    refine j_iconst C (v := nI 0) dX4_canCard_35 (by decide) ?_
    exact j_iret C E (by decide) (Nat.le_refl _) (⟨_, rfl, rz0 (by unfold cardCan; grind), rfl⟩) dX4_canCard_36
  · intro c7
    refine j_aload_n C dX4_canCard_10 0 rfl rfl ?_
    refine j_iload_n C dX4_canCard_11 1 rfl rfl ?_
    refine j_iload_n C dX4_canCard_12 2 rfl rfl ?_
    refine j_iload_n C dX4_canCard_13 3 rfl rfl ?_
    refine jm_callQ C hO (as := [.int (nI i), .int (nI p), .int (nI col)]) (mc_colourFor G M t i p col hS hi hp hc hC) mw_colourFor (by decide) (Nat.le_refl _) rfl (Nat.le_of_ble_eq_true rfl) dX4_canCard_14 ?_
    refine j_ifn_eq C (by have := itsCol_le (c := t.1 2 i p) hc; omega) (tgt := 31) dX4_canCard_17 (by decide) ?_ ?_
    · intro c17
      refine j_iconst C (v := nI 1) dX4_canCard_31 (by decide) ?_
      refine j_goto C (tgt := 36) dX4_canCard_32 (by decide) ?_
      exact j_iret C E (by decide) (Nat.le_refl _) (⟨_, rfl, rz1 (by unfold cardCan; grind), rfl⟩) dX4_canCard_36
    · intro c17
      refine j_aload_n C dX4_canCard_20 0 rfl rfl ?_
      refine j_iload_n C dX4_canCard_21 1 rfl rfl ?_
      refine j_iconst C (v := nI 3) dX4_canCard_22 (by decide) ?_
      refine j_iconst C (v := nI 4) dX4_canCard_23 (by decide) ?_
      refine jm_callQ C hO (as := [.int (nI i), .int (nI 3), .int (nI 4)]) (mc_manyThat G M t i 3 4 hS hi (by decide) (by decide) (fun q hq => by have := hB i q; omega)) mw_manyThat (by decide) (Nat.le_refl _) rfl (Nat.le_of_ble_eq_true rfl) dX4_canCard_24 ?_
      refine j_iconst C (v := nI 3) dX4_canCard_27 (by decide) ?_
      refine j_icn_ge C (by have : tMany t i 3 4 ≤ 10 := cnt_le; omega) (by decide) (tgt := 35) dX4_canCard_28 (by decide) ?_ ?_
      · intro c28
        refine j_iconst C (v := nI 0) dX4_canCard_35 (by decide) ?_
        exact j_iret C E (by decide) (Nat.le_refl _) (⟨_, rfl, rz0 (by unfold cardCan; grind), rfl⟩) dX4_canCard_36
      · intro c28
        refine j_iconst C (v := nI 1) dX4_canCard_31 (by decide) ?_
        refine j_goto C (tgt := 36) dX4_canCard_32 (by decide) ?_
        exact j_iret C E (by decide) (Nat.le_refl _) (⟨_, rfl, rz1 (by unfold cardCan; grind), rfl⟩) dX4_canCard_36

set_option maxHeartbeats 4000000 in
theorem mc_canChange {g : jG} (G : jOK g) (M : jM) (t : MT) (i a b : Nat) (hS : SA (M.2 16) t) (hi : i < 2) (ha : a < 10) (hb : b < 10) (hB : stB t) (hch : t.1 6 i 0 < 2 ^ 31)  : MTQ g 1 yX4_canChange [.int (nI i), .int (nI a), .int (nI b)] M (pI (chgCan t i a b)) := by
  intro h o ad hO
  refine CT.of (bytes := cX4_canChange) (maxL := 4) (ret := (some .boolean)) G q2144 (by decide) (by decide +kernel) (Nat.le_of_ble_eq_true rfl) ?_
  intro z C E hT hnm hnl
  have C : jC (g, z) cX4_canChange RX4 1 0 := C
  show J (g, z) (mput g h o ad M) 0 0 [(0, .ref o), (1, .int (nI i)), (2, .int (nI a)), (3, .int (nI b))] []
  refine j_aload_n C dX4_canChange_0 0 rfl rfl ?_
  refine j_iload_n C dX4_canChange_1 1 rfl rfl ?_
  refine j_iload_n C dX4_canChange_2 2 rfl rfl ?_
  refine j_iconst C (v := nI 0) dX4_canChange_3 (by decide) ?_
  refine jm_callQ C hO (as := [.int (nI i), .int (nI a), .int (nI 0)]) (mc_is G M i a (nI 0) hi ha) mw_is (by decide) (Nat.le_refl _) rfl (Nat.le_of_ble_eq_true rfl) dX4_canChange_4 ?_
  refine j_ev (v' := pI (t.1 0 i a = 0)) (pI_c (by rw [hS.st hi ha rfl]; exact nI_eq (by have := hB i a; omega) (by decide))) ?_
  refine j_ifp_eq C (tgt := 37) dX4_canChange_7 (by decide) ?_ ?_
  · intro c7
    refine j_iconst C (v := nI 0) dX4_canChange_37 (by decide) ?_
    exact j_iret C E (by decide) (Nat.le_refl _) (⟨_, rfl, rz0 (by unfold chgCan; grind), rfl⟩) dX4_canChange_38
  · intro c7
    refine j_aload_n C dX4_canChange_10 0 rfl rfl ?_
    refine j_iload_n C dX4_canChange_11 1 rfl rfl ?_
    refine j_iload_n C dX4_canChange_12 3 rfl rfl ?_
    refine j_iconst C (v := nI 1) dX4_canChange_13 (by decide) ?_
    refine jm_callQ C hO (as := [.int (nI i), .int (nI b), .int (nI 1)]) (mc_is G M i b (nI 1) hi hb) mw_is (by decide) (Nat.le_refl _) rfl (Nat.le_of_ble_eq_true rfl) dX4_canChange_14 ?_
    refine j_ev (v' := pI (t.1 0 i b = 1)) (pI_c (by rw [hS.st hi hb rfl]; exact nI_eq (by have := hB i b; omega) (by decide))) ?_
    refine j_ifp_eq C (tgt := 37) dX4_canChange_17 (by decide) ?_ ?_
    · intro c17
      refine j_iconst C (v := nI 0) dX4_canChange_37 (by decide) ?_
      exact j_iret C E (by decide) (Nat.le_refl _) (⟨_, rfl, rz0 (by unfold chgCan; grind), rfl⟩) dX4_canChange_38
    · intro c17
      refine j_aload_n C dX4_canChange_20 0 rfl rfl ?_
      refine jm_get16 C dX4_canChange_21 ?_
      refine j_bipush C (v := nI 102) dX4_canChange_24 (by decide) ?_
      refine j_iload_n C dX4_canChange_26 1 rfl rfl ?_
      refine j_iaddn C dX4_canChange_27 ?_
      refine jm_ald16 C hO (by omega) dX4_canChange_28 ?_
      refine j_ev (v' := nI (t.1 6 i 0)) (hS.ch hi rfl) ?_
      refine j_iconst C (v := nI 5) dX4_canChange_29 (by decide) ?_
      refine j_icn_ge C (by omega) (by decide) (tgt := 37) dX4_canChange_30 (by decide) ?_ ?_
      · intro c30
        refine j_iconst C (v := nI 0) dX4_canChange_37 (by decide) ?_
        exact j_iret C E (by decide) (Nat.le_refl _) (⟨_, rfl, rz0 (by unfold chgCan; grind), rfl⟩) dX4_canChange_38
      · intro c30
        refine j_iconst C (v := nI 1) dX4_canChange_33 (by decide) ?_
        refine j_goto C (tgt := 38) dX4_canChange_34 (by decide) ?_
        exact j_iret C E (by decide) (Nat.le_refl _) (⟨_, rfl, rz1 (by unfold chgCan; grind), rfl⟩) dX4_canChange_38
