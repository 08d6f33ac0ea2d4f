set_option maxRecDepth 100000
/-- as starts() fills the array -/
theorem SA.start {s : Nat → Int32} (h : ∀ j, j < 110 → s j = nI (if j < 20 ∧ 6 < j % 10 then 1 else 0)) : SA s mt0 := by
  refine ⟨fun f i p hv => ?_, fun i hi => ⟨?_, by simp [mt0], fun k hk => absurd hk (Nat.not_lt_zero _)⟩⟩
  · have a := ix_cs hv
    rw [h _ (ix_row hv).1]
    unfold mt0
    dsimp only
    generalize ix f i p = n at a ⊢
    congr 1
    by_cases c : n < 20 ∧ 6 < n % 10
    · rw [if_pos c, if_pos (by omega)]
    · rw [if_neg c, if_neg (by omega)]
  · rw [h _ (by omega), if_neg (by omega)]; rfl
/-- what a call of follows may change -/
def mF (e : Nat) (M M' : jM) : Prop := M'.1 = M.1 ∧ (∀ k, k ≠ 16 → k ≠ 17 → k ≠ 18 → M'.2 k = M.2 k) ∧ ∀ q, q ≠ 2 * e → q ≠ 2 * e + 1 → M'.2 17 q = M.2 17 q ∧ M'.2 18 q = M.2 18 q
theorem mF.rf {e : Nat} {M : jM} : mF e M M := ⟨rfl, fun _ _ _ _ => rfl, fun _ _ _ => ⟨rfl, rfl⟩⟩
theorem mF.tr {e : Nat} {M M' M'' : jM} (h : mF e M M') (h' : mF e M' M'') : mF e M M'' := ⟨h'.1.trans h.1, fun k a b c => (h'.2.1 k a b c).trans (h.2.1 k a b c), fun q a b => ⟨(h'.2.2 q a b).1.trans (h.2.2 q a b).1, (h'.2.2 q a b).2.trans (h.2.2 q a b).2⟩⟩
theorem mO.mF {e : Nat} {M M' : jM} (h : mO M M') : mF e M M' := ⟨h.1, fun k a _ _ => h.2 k a, fun q _ _ => by rw [h.2 17 (by decide), h.2 18 (by decide)]; exact ⟨rfl, rfl⟩⟩
theorem mF.set {e j k : Nat} {M M' : jM} {v : Int32} (hk : k = 17 ∨ k = 18) (hj : j = 2 * e ∨ j = 2 * e + 1) (h : M' = mSA M k j v) : mF e M M' := by
  subst h
  refine ⟨rfl, fun m a b c => by simp [mSA, show m ≠ k by omega], fun q a b => ⟨mSA_ne (Or.inr (by omega)), mSA_ne (Or.inr (by omega))⟩⟩
def NoteAt (M : jM) (e : Nat) (t : MT) : Prop := ∀ i, i < 2 → M.2 17 (2 * e + i) = nI (onSet t i) ∧ M.2 18 (2 * e + i) = nI (t.1 4 i 0)
theorem or_on {t : MT} {i k : Nat} {b : Int32} (hk : k < 10) (hb : b = if t.1 0 i k = 0 then nI 1 <<< (nI k &&& 31) else nI 0) : nI (onTo t i k) ||| b = nI (onTo t i (k + 1)) := by
  have hl := onTo_lt (t := t) (i := i) (k := k) (by omega)
  subst hb
  show _ = nI (onTo t i k ||| _)
  split
  · exact or_J hl hk
  · rw [or_0 hl, Nat.or_zero]
/-- an event of the arrays -/
def EvR (M : jM) (e : Nat) (ev : Ev5) : Prop := M.2 8 e = nI ev.1 ∧ M.2 9 e = nI ev.2.1 ∧ M.2 10 e = nI ev.2.2.1 ∧ M.2 11 e = nI ev.2.2.2.1 ∧ M.2 12 e = nI ev.2.2.2.2.length ∧ stRel M e ev.2.2.2.2
theorem evOK_a {kd a b c : Nat} {l : List Stp3} (h : evOK (kd, a, b, c, l)) : (kd = 0 → a < 10 ∧ stOK l ∧ l ≠ []) ∧ (kd = 1 → a < 2 ∧ b < 10 ∧ c ≤ 2) ∧ (kd ≠ 0 → kd ≠ 1 → a < 2 ∧ b < 10 ∧ c < 10) ∧ kd ≤ 2 := by
  rcases h with ⟨h0, h⟩ | ⟨h0, h⟩ | ⟨h0, h⟩ <;> dsimp only at h0 h <;> subst h0
  · exact ⟨fun _ => h, fun z => absurd z (by decide), fun z => absurd rfl z, by decide⟩
  · exact ⟨fun z => absurd z (by decide), fun _ => h, fun _ z => absurd rfl z, by decide⟩
  · exact ⟨fun z => absurd z (by decide), fun z => absurd z (by decide), fun _ _ => h, by decide⟩
def stepsTo (t : MT) (l : List Stp3) (k : Nat) : Prop := ∀ m, m < k → stepOK t (l.take m) (l.getD m z3)
theorem stepsTo_s {t : MT} {l : List Stp3} {k : Nat} : stepsTo t l (k + 1) ↔ stepsTo t l k ∧ stepOK t (l.take k) (l.getD k z3) := by
  constructor
  · intro h; exact ⟨fun m hm => h m (by omega), h k (Nat.lt_succ_self _)⟩
  · intro h m hm
    by_cases hk : m = k
    · rw [hk]; exact h.2
    · exact h.1 m (by omega)
theorem stepsTo_0 {t : MT} {l : List Stp3} {p : Prop} : p ↔ p ∧ stepsTo t l 0 := ⟨fun h => ⟨h, fun m hm => absurd hm (Nat.not_lt_zero _)⟩, fun h => h.1⟩
theorem evC0 {t : MT} {n a b c : Nat} {l : List Stp3} {kd : Nat} (h : kd = 0) : evCan t n (kd, a, b, c, l) ↔ raidCan t n a ∧ stepsTo t l l.length := by subst h; exact Iff.rfl
theorem evC1 {t : MT} {n a b c : Nat} {l : List Stp3} {kd : Nat} (h : kd = 1) : evCan t n (kd, a, b, c, l) ↔ cardCan t a b c := by subst h; exact Iff.rfl
theorem evC2 {t : MT} {n a b c : Nat} {l : List Stp3} {kd : Nat} (h : kd ≠ 0) (h' : kd ≠ 1) : evCan t n (kd, a, b, c, l) ↔ chgCan t a b c := by unfold evCan; rw [if_neg h, if_neg h']
theorem evD0 {t : MT} {a b c : Nat} {l : List Stp3} {kd : Nat} (h : kd = 0) : evDo t (kd, a, b, c, l) = raidEnd t a l := by subst h; rfl
theorem evD1 {t : MT} {a b c : Nat} {l : List Stp3} {kd : Nat} (h : kd = 1) : evDo t (kd, a, b, c, l) = cardDo t a b c := by subst h; rfl
theorem evD2 {t : MT} {a b c : Nat} {l : List Stp3} {kd : Nat} (h : kd ≠ 0) (h' : kd ≠ 1) : evDo t (kd, a, b, c, l) = chgDo t a b c := by unfold evDo; rw [if_neg h, if_neg h']

set_option maxHeartbeats 4000000 in
theorem mc_starts {g : jG} (G : jOK g) (M : jM)  : MTV g 0 yX4_starts [] M (fun M' => mO M M' ∧ SA (M'.2 16) mt0) := by
  intro h o ad hO
  refine CT.of (bytes := cX4_starts) (maxL := 2) (ret := none) G q2039 (by decide) (by decide +kernel) (Nat.le_of_ble_eq_true rfl) ?_
  intro z C E hT hnm hnl
  have C : jC (g, z) cX4_starts RX4 0 0 := C
  show J (g, z) (mput g h o ad M) 0 0 [(0, .ref o)] []
  refine j_iconst C (v := nI 0) dX4_starts_0 (by decide) ?_
  refine j_istore_n C (L' := [(1, .int (nI 0)), (0, .ref o)]) dX4_starts_1 rfl (jlt hnl (by decide)) rfl ?_
  refine J.sub (L' := [(0, .ref o), (1, .int (nI 0))]) ?_ [1, 0] rfl
  have loop2 : ∀ (mz : Nat) (k : Nat) (Mk : jM), (k ≤ 110) → (mO M Mk) → (∀ j, j < k → Mk.2 16 j = nI (if j < 20 ∧ 6 < j % 10 then 1 else 0)) → (110 - k) < mz → J (g, z) (mput g h o ad Mk) 0 2 [(0, .ref o), (1, .int (nI k))] [] := by
    intro mz
    induction mz with
    | zero => intro k Mk; intros; omega
    | succ mz ih2 =>
      intro k Mk hk hMo hv hm2
      refine j_iload_n C dX4_starts_2 1 rfl rfl ?_
      refine j_bipush C (v := nI 110) dX4_starts_3 (by decide) ?_
      refine j_icn_ge C (by omega) (by decide) (tgt := 40) dX4_starts_5 (by decide) ?_ ?_
      · intro c5
        exact j_vret C E (Nat.le_refl _) (⟨_, rfl, rfl, hMo, SA.start (fun j hj => hv j (by omega))⟩) dX4_starts_40
      · intro c5
        refine j_aload_n C dX4_starts_8 0 rfl rfl ?_
        refine jm_get16 C dX4_starts_9 ?_
        refine j_iload_n C dX4_starts_12 1 rfl rfl ?_
        refine j_iload_n C dX4_starts_13 1 rfl rfl ?_
        have join33 : ∀ (sv : Nat), (sv = if k < 20 ∧ 6 < k % 10 then 1 else 0) → J (g, z) (mput g h o ad Mk) 0 33 [(0, .ref o), (1, .int (nI k))] [.int (nI sv), .int (nI k), .ref (ad 16)] := by
          intro sv hsv
          refine jm_ast16 C hO (by omega) dX4_starts_33 (fun M1 hM1 => ?_)
          refine j_iinc C (L' := [(1, .int (nI (k + 1))), (0, .ref o)]) dX4_starts_34 1 rfl (kinc k 1 (by decide)) (jlt hnl (by decide)) rfl ?_
          refine j_goto C (tgt := 2) dX4_starts_37 (by decide) ?_
          refine J.sub (L' := [(0, .ref o), (1, .int (nI (k + 1)))]) ?_ [1, 0] rfl
          exact ih2 (k + 1) M1 (by omega) (hMo.tr (mO.set hM1)) (fun j hj => by
            rw [hM1, mSA_16]
            by_cases hjk : j = k
            · rw [hjk, pk_us, hsv]
            · rw [pk_un hjk]; exact hv j (by omega)) (by omega)
        refine j_bipush C (v := nI 20) dX4_starts_14 (by decide) ?_
        refine j_icn_ge C (by omega) (by decide) (tgt := 32) dX4_starts_16 (by decide) ?_ ?_
        · intro c16
          refine j_iconst C (v := nI 0) dX4_starts_32 (by decide) ?_
          refine J.sub (L' := [(0, .ref o), (1, .int (nI k))]) ?_ [0, 1] rfl
          exact join33 0 (by grind)
        · intro c16
          refine j_iload_n C dX4_starts_19 1 rfl rfl ?_
          refine j_bipush C (v := nI 10) dX4_starts_20 (by decide) ?_
          refine j_irem C dX4_starts_22 (by decide) ?_
          refine j_ev (pk_rem (by omega) (by decide) (by decide)) ?_
          refine j_bipush C (v := nI 6) dX4_starts_23 (by decide) ?_
          refine j_icn_le C (by omega) (by decide) (tgt := 32) dX4_starts_25 (by decide) ?_ ?_
          · intro c25
            refine j_iconst C (v := nI 0) dX4_starts_32 (by decide) ?_
            refine J.sub (L' := [(0, .ref o), (1, .int (nI k))]) ?_ [0, 1] rfl
            exact join33 0 (by grind)
          · intro c25
            refine j_iconst C (v := nI 1) dX4_starts_28 (by decide) ?_
            refine j_goto C (tgt := 33) dX4_starts_29 (by decide) ?_
            refine J.sub (L' := [(0, .ref o), (1, .int (nI k))]) ?_ [0, 1] rfl
            exact join33 1 (by grind)
  exact loop2 ((110 - 0) + 1) 0 M (by omega) mO.rf (fun j hj => absurd hj (Nat.not_lt_zero _)) (Nat.lt_succ_self _)

set_option maxHeartbeats 4000000 in
theorem mc_notes {g : jG} (G : jOK g) (M : jM) (t : MT) (e : Nat) (hS : SA (M.2 16) t) (he : e < 60) (hB : stB t)  : MTV g 1 yX4_notes [.int (nI e)] M (fun M' => mF e M M' ∧ M'.2 16 = M.2 16 ∧ NoteAt M' e t) := by
  intro h o ad hO
  refine CT.of (bytes := cX4_notes) (maxL := 5) (ret := none) G q2117 (by decide) (by decide +kernel) (Nat.le_of_ble_eq_true rfl) ?_
  intro z C E hT hnm hnl
  have C : jC (g, z) cX4_notes RX4 1 0 := C
  show J (g, z) (mput g h o ad M) 0 0 [(0, .ref o), (1, .int (nI e))] []
  refine j_iconst C (v := nI 0) dX4_notes_0 (by decide) ?_
  refine j_istore_n C (L' := [(2, .int (nI 0)), (0, .ref o), (1, .int (nI e))]) dX4_notes_1 rfl (jlt hnl (by decide)) rfl ?_
  refine J.sub (L' := [(0, .ref o), (1, .int (nI e)), (2, .int (nI 0))]) ?_ [1, 2, 0] rfl
  have loop2 : ∀ (mz : Nat) (i : Nat) (Mi : jM), (i ≤ 2) → (mF e M Mi) → (Mi.2 16 = M.2 16) → (∀ j, j < i → Mi.2 17 (2 * e + j) = nI (onSet t j) ∧ Mi.2 18 (2 * e + j) = nI (t.1 4 j 0)) → (2 - i) < mz → J (g, z) (mput g h o ad Mi) 0 2 [(0, .ref o), (1, .int (nI e)), (2, .int (nI i))] [] := by
    intro mz
    induction mz with
    | zero => intro i Mi; intros; omega
    | succ mz ih2 =>
      intro i Mi hi hMi h16 hN hm2
      refine j_iload_n C dX4_notes_2 2 rfl rfl ?_
      refine j_iconst C (v := nI 2) dX4_notes_3 (by decide) ?_
      refine j_icn_ge C (by omega) (by decide) (tgt := 83) dX4_notes_4 (by decide) ?_ ?_
      · intro c4
        exact j_vret C E (Nat.le_refl _) (⟨_, rfl, rfl, hMi, h16, fun j hj => hN j (by omega)⟩) dX4_notes_83
      · intro c4
        have hSi : SA (Mi.2 16) t := by rw [h16]; exact hS
        refine j_iconst C (v := nI 0) dX4_notes_7 (by decide) ?_
        refine j_istore_n C (L' := [(3, .int (nI 0)), (0, .ref o), (1, .int (nI e)), (2, .int (nI i))]) dX4_notes_8 rfl (jlt hnl (by decide)) rfl ?_
        refine j_iconst C (v := nI 0) dX4_notes_9 (by decide) ?_
        refine j_istore C (L' := [(4, .int (nI 0)), (3, .int (nI 0)), (0, .ref o), (1, .int (nI e)), (2, .int (nI i))]) dX4_notes_10 (jlt hnl (by decide)) rfl ?_
        refine J.sub (L' := [(0, .ref o), (1, .int (nI e)), (2, .int (nI i)), (3, .int (nI 0)), (4, .int (nI 0))]) ?_ [2, 3, 4, 1, 0] rfl
        have loop12 : ∀ (mz : Nat) (k : Nat), (k ≤ 10) → (10 - k) < mz → J (g, z) (mput g h o ad Mi) 0 12 [(0, .ref o), (1, .int (nI e)), (2, .int (nI i)), (3, .int (nI (onTo t i k))), (4, .int (nI k))] [] := by
          intro mz
          induction mz with
          | zero => intro k; intros; omega
          | succ mz ih12 =>
            intro k hk hm12
            refine j_iload C dX4_notes_12 4 rfl ?_
            refine j_bipush C (v := nI 10) dX4_notes_14 (by decide) ?_
            refine j_icn_ge C (by omega) (by decide) (tgt := 47) dX4_notes_16 (by decide) ?_ ?_
            · intro c16
              refine j_aload_n C dX4_notes_47 0 rfl rfl ?_
              refine jm_get17 C dX4_notes_48 ?_
              refine j_iconst C (v := nI 2) dX4_notes_51 (by decide) ?_
              refine j_iload_n C dX4_notes_52 1 rfl rfl ?_
              refine j_imuln C dX4_notes_53 ?_
              refine j_iload_n C dX4_notes_54 2 rfl rfl ?_
              refine j_iaddn C dX4_notes_55 ?_
              refine j_iload_n C dX4_notes_56 3 rfl rfl ?_
              refine jm_ast17 C hO (by omega) dX4_notes_57 (fun M1 hM1 => ?_)
              refine j_aload_n C dX4_notes_58 0 rfl rfl ?_
              refine jm_get18 C dX4_notes_59 ?_
              refine j_iconst C (v := nI 2) dX4_notes_62 (by decide) ?_
              refine j_iload_n C dX4_notes_63 1 rfl rfl ?_
              refine j_imuln C dX4_notes_64 ?_
              refine j_iload_n C dX4_notes_65 2 rfl rfl ?_
              refine j_iaddn C dX4_notes_66 ?_
              refine j_aload_n C dX4_notes_67 0 rfl rfl ?_
              refine jm_get16 C dX4_notes_68 ?_
              refine j_bipush C (v := nI 104) dX4_notes_71 (by decide) ?_
              refine j_iload_n C dX4_notes_73 2 rfl rfl ?_
              refine j_iaddn C dX4_notes_74 ?_
              refine jm_ald16 C hO (by omega) dX4_notes_75 ?_
              refine j_ev (v' := nI (t.1 4 i 0)) (by rw [hM1]; exact hSi.po (by omega) rfl) ?_
              refine jm_ast18 C hO (by omega) dX4_notes_76 (fun M2 hM2 => ?_)
              refine j_iinc C (L' := [(2, .int (nI (i + 1))), (0, .ref o), (1, .int (nI e)), (3, .int (nI (onTo t i k))), (4, .int (nI k))]) dX4_notes_77 2 rfl (kinc i 1 (by decide)) (jlt hnl (by decide)) rfl ?_
              refine j_goto C (tgt := 2) dX4_notes_80 (by decide) ?_
              refine J.sub (L' := [(0, .ref o), (1, .int (nI e)), (2, .int (nI (i + 1)))]) ?_ [1, 2, 0] rfl
              exact ih2 (i + 1) M2 (by omega) ((hMi.tr (mF.set (Or.inl rfl) (by omega) hM1)).tr (mF.set (Or.inr rfl) (by omega) hM2)) (by rw [hM2, hM1]; exact h16) (fun j hj => by
                rw [hM2, mSA_ne (Or.inl (by decide)), hM1]
                by_cases hji : j = i
                · subst hji; rw [mSA_eq, mSA_eq]; exact ⟨by rw [show k = 10 by omega]; rfl, rfl⟩
                · rw [mSA_ne (Or.inr (by omega)), mSA_ne (Or.inr (by omega)), mSA_ne (Or.inl (by decide))]; exact hN j (by omega)) (by omega)
            · intro c16
              refine j_iload_n C dX4_notes_19 3 rfl rfl ?_
              refine j_aload_n C dX4_notes_20 0 rfl rfl ?_
              refine j_iload_n C dX4_notes_21 2 rfl rfl ?_
              refine j_iload C dX4_notes_22 4 rfl ?_
              refine j_iconst C (v := nI 0) dX4_notes_24 (by decide) ?_
              refine jm_callQ C hO (as := [.int (nI i), .int (nI k), .int (nI 0)]) (mc_is G Mi i k (nI 0) (by omega) (by omega)) mw_is (by decide) (Nat.le_refl _) rfl (Nat.le_of_ble_eq_true rfl) dX4_notes_25 ?_
              refine j_ev (v' := pI (t.1 0 i k = 0)) (pI_c (by rw [hSi.st (by omega) (by omega) rfl]; exact nI_eq (by have := hB i k; omega) (by decide))) ?_
              have join39 : ∀ (bb : Int32), (bb = if t.1 0 i k = 0 then nI 1 <<< (nI k &&& 31) else nI 0) → J (g, z) (mput g h o ad Mi) 0 39 [(0, .ref o), (1, .int (nI e)), (2, .int (nI i)), (3, .int (nI (onTo t i k))), (4, .int (nI k))] [.int bb, .int (nI (onTo t i k))] := by
                intro bb hbb
                refine j_ior C dX4_notes_39 ?_
                refine j_ev (v' := nI (onTo t i (k + 1))) (or_on (by omega) hbb) ?_
                refine j_istore_n C (L' := [(3, .int (nI (onTo t i (k + 1)))), (0, .ref o), (1, .int (nI e)), (2, .int (nI i)), (4, .int (nI k))]) dX4_notes_40 rfl (jlt hnl (by decide)) rfl ?_
                refine j_iinc C (L' := [(4, .int (nI (k + 1))), (3, .int (nI (onTo t i (k + 1)))), (0, .ref o), (1, .int (nI e)), (2, .int (nI i))]) dX4_notes_41 4 rfl (kinc k 1 (by decide)) (jlt hnl (by decide)) rfl ?_
                refine j_goto C (tgt := 12) dX4_notes_44 (by decide) ?_
                refine J.sub (L' := [(0, .ref o), (1, .int (nI e)), (2, .int (nI i)), (3, .int (nI (onTo t i (k + 1)))), (4, .int (nI (k + 1)))]) ?_ [2, 3, 4, 1, 0] rfl
                exact ih12 (k + 1) (by omega) (by omega)
              refine j_ifp_eq C (tgt := 38) dX4_notes_28 (by decide) ?_ ?_
              · intro c28
                refine j_iconst C (v := nI 0) dX4_notes_38 (by decide) ?_
                refine J.sub (L' := [(0, .ref o), (1, .int (nI e)), (2, .int (nI i)), (3, .int (nI (onTo t i k))), (4, .int (nI k))]) ?_ [0, 1, 2, 3, 4] rfl
                exact join39 (nI 0) (by grind)
              · intro c28
                refine j_iconst C (v := nI 1) dX4_notes_31 (by decide) ?_
                refine j_iload C dX4_notes_32 4 rfl ?_
                refine j_ishl C dX4_notes_34 ?_
                refine j_goto C (tgt := 39) dX4_notes_35 (by decide) ?_
                refine J.sub (L' := [(0, .ref o), (1, .int (nI e)), (2, .int (nI i)), (3, .int (nI (onTo t i k))), (4, .int (nI k))]) ?_ [0, 1, 2, 3, 4] rfl
                exact join39 ((nI 1) <<< ((nI k) &&& 31)) (by grind)
        exact loop12 ((10 - 0) + 1) 0 (by omega) (Nat.lt_succ_self _)
  exact loop2 ((2 - 0) + 1) 0 M (by omega) mF.rf rfl (fun j hj => absurd hj (Nat.not_lt_zero _)) (Nat.lt_succ_self _)

set_option maxHeartbeats 4000000 in
theorem mc_givesCard {g : jG} (G : jOK g) (M : jM) (t : MT) (i p col : Nat) (hS : SA (M.2 16) t) (hi : i < 2) (hp : p < 10) (hc : col ≤ 2) (hC : cB t) (hB : stB t)  : MTV g 3 yX4_givesCard [.int (nI i), .int (nI p), .int (nI col)] M (fun M' => mO M M' ∧ SA (M'.2 16) (cardDo t i p col)) := by
  intro h o ad hO
  refine CT.of (bytes := cX4_givesCard) (maxL := 6) (ret := none) G q2140 (by decide) (by decide +kernel) (Nat.le_of_ble_eq_true rfl) ?_
  intro z C E hT hnm hnl
  have C : jC (g, z) cX4_givesCard RX4 3 0 := C
  show J (g, z) (mput g h o ad M) 0 0 [(0, .ref o), (1, .int (nI i)), (2, .int (nI p)), (3, .int (nI col))] []
  refine j_aload_n C dX4_givesCard_0 0 rfl rfl ?_
  refine j_iload_n C dX4_givesCard_1 1 rfl rfl ?_
  refine j_iload_n C dX4_givesCard_2 2 rfl rfl ?_
  refine j_iload_n C dX4_givesCard_3 3 rfl rfl ?_
  refine jm_callQ C hO (as := [.int (nI i), .int (nI p), .int (nI col)]) (mc_colourFor G M t i p col hS hi hp hc hC) mw_colourFor (by decide) (Nat.le_refl _) rfl (Nat.le_of_ble_eq_true rfl) dX4_givesCard_4 ?_
  refine j_istore C (L' := [(4, .int (nI (itsCol (t.1 2 i p) col))), (0, .ref o), (1, .int (nI i)), (2, .int (nI p)), (3, .int (nI col))]) dX4_givesCard_7 (jlt hnl (by decide)) rfl ?_
  have hkk := itsCol_le (c := t.1 2 i p) hc
  refine j_bipush C (v := nI 10) dX4_givesCard_9 (by decide) ?_
  refine j_iload_n C dX4_givesCard_11 2 rfl rfl ?_
  refine j_imuln C dX4_givesCard_12 ?_
  refine j_iload_n C dX4_givesCard_13 3 rfl rfl ?_
  refine j_iaddn C dX4_givesCard_14 ?_
  refine j_istore C (L' := [(5, .int (nI (10 * i + p))), (4, .int (nI (itsCol (t.1 2 i p) col))), (0, .ref o), (1, .int (nI i)), (2, .int (nI p)), (3, .int (nI col))]) dX4_givesCard_15 (jlt hnl (by decide)) rfl ?_
  refine j_aload_n C dX4_givesCard_17 2 rfl rfl ?_
  refine jm_get16 C dX4_givesCard_18 ?_
  refine j_bipush C (v := nI 40) dX4_givesCard_21 (by decide) ?_
  refine j_iload C dX4_givesCard_23 0 rfl ?_
  refine j_iaddn C dX4_givesCard_25 ?_
  refine j_dup2 C dX4_givesCard_26 rfl rfl ?_
  refine jm_ald16 C hO (by omega) dX4_givesCard_27 ?_
  refine j_ev (v' := nI (t.1 2 i p)) (hS.ca hi hp (by omega)) ?_
  refine j_iconst C (v := nI 1) dX4_givesCard_28 (by decide) ?_
  refine j_iload C dX4_givesCard_29 1 rfl ?_
  refine j_ishl C dX4_givesCard_31 ?_
  refine j_ior C dX4_givesCard_32 ?_
  refine j_ev (v' := nI (t.1 2 i p ||| 2 ^ itsCol (t.1 2 i p) col)) (or_I (hC i p) (by omega)) ?_
  refine jm_ast16 C hO (by omega) dX4_givesCard_33 (fun M1 hM1 => ?_)
  have hMa := hM1
  have hSa : SA (M1.2 16) (tS t 2 i p (t.1 2 i p ||| 2 ^ itsCol (t.1 2 i p) col)) := by rw [hM1, mSA_16]; exact hS.pca hi hp (by omega)
  refine j_iload C dX4_givesCard_34 1 rfl ?_
  refine j_ifn_le C (by omega) (tgt := 106) dX4_givesCard_36 (by decide) ?_ ?_
  · intro c36
    exact j_vret C E (Nat.le_refl _) (⟨_, rfl, rfl, mO.set hMa, by unfold cardDo; dsimp only; rw [if_neg (by omega)]; exact hSa⟩) dX4_givesCard_106
  · intro c36
    refine j_aload_n C dX4_givesCard_39 2 rfl rfl ?_
    refine jm_get16 C dX4_givesCard_40 ?_
    refine j_iload C dX4_givesCard_43 0 rfl ?_
    have join56 : ∀ (w : Nat), (w = if itsCol (t.1 2 i p) col = 1 then 3 else 4) → J (g, z) (mput g h o ad M1) 0 56 [(0, .ref o), (1, .int (nI i)), (2, .int (nI p)), (3, .int (nI col)), (4, .int (nI (itsCol (t.1 2 i p) col))), (5, .int (nI (10 * i + p)))] [.int (nI w), .int (nI (10 * i + p)), .ref (ad 16)] := by
      intro w hw
      refine jm_ast16 C hO (by omega) dX4_givesCard_56 (fun M2 hM2 => ?_)
      have hMb := hM2
      have hSb : SA (M2.2 16) (tS (tS t 2 i p (t.1 2 i p ||| 2 ^ itsCol (t.1 2 i p) col)) 0 i p w) := by rw [hM2, mSA_16]; exact hSa.pst hi hp rfl
      refine j_aload_n C dX4_givesCard_57 0 rfl rfl ?_
      refine jm_get16 C dX4_givesCard_58 ?_
      refine j_bipush C (v := nI 20) dX4_givesCard_61 (by decide) ?_
      refine j_iload C dX4_givesCard_63 5 rfl ?_
      refine j_iaddn C dX4_givesCard_65 ?_
      refine j_aload_n C dX4_givesCard_66 0 rfl rfl ?_
      refine jm_get16 C dX4_givesCard_67 ?_
      refine j_bipush C (v := nI 108) dX4_givesCard_70 (by decide) ?_
      refine jm_ald16 C hO (by omega) dX4_givesCard_72 ?_
      refine j_ev (v' := nI (t.1 7 0 0)) (hSb.ti.trans rfl) ?_
      refine j_sipush C (v := nI 1200) dX4_givesCard_73 (by decide) ?_
      refine j_iaddn C dX4_givesCard_76 ?_
      refine jm_ast16 C hO (by omega) dX4_givesCard_77 (fun M3 hM3 => ?_)
      have hMc := hM3
      have hSc : SA (M3.2 16) (tS (tS (tS t 2 i p (t.1 2 i p ||| 2 ^ itsCol (t.1 2 i p) col)) 0 i p w) 1 i p (t.1 7 0 0 + 1200)) := by rw [hM3, mSA_16]; exact hSb.pun hi hp (by omega)
      refine j_aload_n C dX4_givesCard_78 0 rfl rfl ?_
      refine jm_get16 C dX4_givesCard_79 ?_
      refine j_bipush C (v := nI 105) dX4_givesCard_82 (by decide) ?_
      refine j_iload_n C dX4_givesCard_84 1 rfl rfl ?_
      refine j_isubn C (by omega) dX4_givesCard_85 ?_
      refine j_dup2 C dX4_givesCard_86 rfl rfl ?_
      refine jm_ald16 C hO (by omega) dX4_givesCard_87 ?_
      refine j_ev (v' := nI (t.1 4 (1 - i) 0)) ((hSc.po (i := 1 - i) (by omega) (by omega)).trans rfl) ?_
      have join99 : ∀ (q : Nat), (q = if itsCol (t.1 2 i p) col = 2 then 1 else 0) → J (g, z) (mput g h o ad M3) 0 99 [(0, .ref o), (1, .int (nI i)), (2, .int (nI p)), (3, .int (nI col)), (4, .int (nI (itsCol (t.1 2 i p) col))), (5, .int (nI (10 * i + p)))] [.int (nI q), .int (nI (t.1 4 (1 - i) 0)), .int (nI (105 - i)), .ref (ad 16)] := by
        intro q hq
        refine j_iaddn C dX4_givesCard_99 ?_
        refine jm_ast16 C hO (by omega) dX4_givesCard_100 (fun M4 hM4 => ?_)
        have hMd := hM4
        have hSd : SA (M4.2 16) (tS (tS (tS (tS t 2 i p (t.1 2 i p ||| 2 ^ itsCol (t.1 2 i p) col)) 0 i p w) 1 i p (t.1 7 0 0 + 1200)) 4 (1 - i) 0 (t.1 4 (1 - i) 0 + q)) := by rw [hM4, mSA_16]; exact hSc.ppo (by omega) (by omega)
        have hBd : stB (tS (tS (tS (tS t 2 i p (t.1 2 i p ||| 2 ^ itsCol (t.1 2 i p) col)) 0 i p w) 1 i p (t.1 7 0 0 + 1200)) 4 (1 - i) 0 (t.1 4 (1 - i) 0 + q)) := (((hB.set (fun z => by omega)).set (fun _ => by rw [hw]; split <;> omega)).set (fun z => by omega)).set (fun z => by omega)
        refine j_aload_n C dX4_givesCard_101 0 rfl rfl ?_
        refine j_iload_n C dX4_givesCard_102 1 rfl rfl ?_
        refine jm_callV C hO (as := [.int (nI i)]) (mc_looksAtMat G M4 _ i hSd hi (fun z hz => by have := hBd i z; omega)) mw_looksAtMat (by decide) (Nat.le_refl _) rfl (Nat.le_of_ble_eq_true rfl) dX4_givesCard_103 (fun M5 hM5 => ?_)
        exact j_vret C E (Nat.le_refl _) (⟨_, rfl, rfl, ((((mO.set hMa).tr (mO.set hMb)).tr (mO.set hMc)).tr (mO.set hMd)).tr hM5.1, by unfold cardDo; dsimp only; rw [if_pos (by omega), ← hw, ← hq]; exact hM5.2⟩) dX4_givesCard_106
      refine j_iload C dX4_givesCard_88 4 rfl ?_
      refine j_iconst C (v := nI 2) dX4_givesCard_90 (by decide) ?_
      refine j_icn_ne C (by omega) (by decide) (tgt := 98) dX4_givesCard_91 (by decide) ?_ ?_
      · intro c91
        refine j_iconst C (v := nI 0) dX4_givesCard_98 (by decide) ?_
        refine J.sub (L' := [(0, .ref o), (1, .int (nI i)), (2, .int (nI p)), (3, .int (nI col)), (4, .int (nI (itsCol (t.1 2 i p) col))), (5, .int (nI (10 * i + p)))]) ?_ [0, 1, 2, 3, 4, 5] rfl
        exact join99 0 (by grind)
      · intro c91
        refine j_iconst C (v := nI 1) dX4_givesCard_94 (by decide) ?_
        refine j_goto C (tgt := 99) dX4_givesCard_95 (by decide) ?_
        refine J.sub (L' := [(0, .ref o), (1, .int (nI i)), (2, .int (nI p)), (3, .int (nI col)), (4, .int (nI (itsCol (t.1 2 i p) col))), (5, .int (nI (10 * i + p)))]) ?_ [0, 1, 2, 3, 4, 5] rfl
        exact join99 1 (by grind)
    refine j_iload C dX4_givesCard_45 1 rfl ?_
    refine j_iconst C (v := nI 1) dX4_givesCard_47 (by decide) ?_
    refine j_icn_ne C (by omega) (by decide) (tgt := 55) dX4_givesCard_48 (by decide) ?_ ?_
    · intro c48
      refine j_iconst C (v := nI 4) dX4_givesCard_55 (by decide) ?_
      refine J.sub (L' := [(0, .ref o), (1, .int (nI i)), (2, .int (nI p)), (3, .int (nI col)), (4, .int (nI (itsCol (t.1 2 i p) col))), (5, .int (nI (10 * i + p)))]) ?_ [2, 3, 4, 5, 1, 0] rfl
      exact join56 4 (by grind)
    · intro c48
      refine j_iconst C (v := nI 3) dX4_givesCard_51 (by decide) ?_
      refine j_goto C (tgt := 56) dX4_givesCard_52 (by decide) ?_
      refine J.sub (L' := [(0, .ref o), (1, .int (nI i)), (2, .int (nI p)), (3, .int (nI col)), (4, .int (nI (itsCol (t.1 2 i p) col))), (5, .int (nI (10 * i + p)))]) ?_ [2, 3, 4, 5, 1, 0] rfl
      exact join56 3 (by grind)

set_option maxHeartbeats 4000000 in
theorem mc_follows {g : jG} (G : jOK g) (M : jM) (t : MT) (e n B : Nat) (kd a b c : Nat) (l : List Stp3) (hS : SA (M.2 16) t) (he : e < 60) (hE : evOK (kd, a, b, c, l)) (hR : EvR M e (kd, a, b, c, l)) (hI : Inv t B) (hb : B ≤ 1000000) (h5 : M.1 5 = nI n) (hn : n < 2 ^ 31)  : MTR g 4 yX4_follows [.int (nI e)] M (fun r M' => r = pI (evCan t n (kd, a, b, c, l)) ∧ mF e M M' ∧ (evCan t n (kd, a, b, c, l) → SA (M'.2 16) (evDo t (kd, a, b, c, l)) ∧ NoteAt M' e (evDo t (kd, a, b, c, l)))) := by
  intro h o ad hO
  refine CT.of (bytes := cX4_follows) (maxL := 4) (ret := (some .boolean)) G q2136 (by decide) (by decide +kernel) (Nat.le_of_ble_eq_true rfl) ?_
  intro z C E hT hnm hnl
  have C : jC (g, z) cX4_follows RX4 4 0 := C
  show J (g, z) (mput g h o ad M) 0 0 [(0, .ref o), (1, .int (nI e))] []
  refine j_iconst C (v := nI 1) dX4_follows_0 (by decide) ?_
  refine j_istore_n C (L' := [(2, .int (nI 1)), (0, .ref o), (1, .int (nI e))]) dX4_follows_1 rfl (jlt hnl (by decide)) rfl ?_
  have hB : stB t := hI.1.1
  have hE4 := evOK_a hE
  refine j_aload_n C dX4_follows_2 1 rfl rfl ?_
  refine jm_get8 C dX4_follows_3 ?_
  refine j_iload_n C dX4_follows_6 2 rfl rfl ?_
  refine jm_ald8 C hO (by omega) dX4_follows_7 ?_
  refine j_ev (v' := nI kd) hR.1 ?_
  have join222 : ∀ (Mv : jM) (t' : MT), (mO M Mv) → (SA (Mv.2 16) t') → (stB t') → (evCan t n (kd, a, b, c, l) → t' = evDo t (kd, a, b, c, l)) → J (g, z) (mput g h o ad Mv) 0 222 [(0, .ref o), (1, .int (nI e)), (2, .int (pI (evCan t n (kd, a, b, c, l))))] [] := by
    intro Mv t' hMo hSv hBv htv
    refine j_aload_n C dX4_follows_222 0 rfl rfl ?_
    refine j_iload_n C dX4_follows_223 1 rfl rfl ?_
    refine jm_callV C hO (as := [.int (nI e)]) (mc_notes G Mv t' e hSv he hBv) mw_notes (by decide) (Nat.le_refl _) rfl (Nat.le_of_ble_eq_true rfl) dX4_follows_224 (fun M1 hM1 => ?_)
    refine j_iload_n C dX4_follows_227 2 rfl rfl ?_
    exact j_iret C E narrow_zp (Nat.le_refl _) (⟨_, rfl, _, rfl, rfl, hMo.mF.tr hM1.1, fun z => by have e9 := htv z; rw [hM1.2.1]; subst e9; exact ⟨hSv, hM1.2.2⟩⟩) dX4_follows_228
  refine j_ifn_ne C (by have := hE4.2.2.2; omega) (tgt := 71) dX4_follows_8 (by decide) ?_ ?_
  · intro c8
    refine j_aload_n C dX4_follows_71 1 rfl rfl ?_
    refine jm_get8 C dX4_follows_72 ?_
    refine j_iload_n C dX4_follows_75 2 rfl rfl ?_
    refine jm_ald8 C hO (by omega) dX4_follows_76 ?_
    refine j_ev (v' := nI kd) hR.1 ?_
    refine j_iconst C (v := nI 1) dX4_follows_77 (by decide) ?_
    refine j_icn_ne C (by have := hE4.2.2.2; omega) (by decide) (tgt := 133) dX4_follows_78 (by decide) ?_ ?_
    · intro c78
      have h2 := hE4.2.2.1 c8 c78
      refine j_aload_n C dX4_follows_133 1 rfl rfl ?_
      refine j_aload_n C dX4_follows_134 1 rfl rfl ?_
      refine jm_get9 C dX4_follows_135 ?_
      refine j_iload_n C dX4_follows_138 2 rfl rfl ?_
      refine jm_ald9 C hO (by omega) dX4_follows_139 ?_
      refine j_ev (v' := nI a) hR.2.1 ?_
      refine j_aload_n C dX4_follows_140 1 rfl rfl ?_
      refine jm_get10 C dX4_follows_141 ?_
      refine j_iload_n C dX4_follows_144 2 rfl rfl ?_
      refine jm_ald10 C hO (by omega) dX4_follows_145 ?_
      refine j_ev (v' := nI b) hR.2.2.1 ?_
      refine j_aload_n C dX4_follows_146 1 rfl rfl ?_
      refine jm_get11 C dX4_follows_147 ?_
      refine j_iload_n C dX4_follows_150 2 rfl rfl ?_
      refine jm_ald11 C hO (by omega) dX4_follows_151 ?_
      refine j_ev (v' := nI c) hR.2.2.2.1 ?_
      refine jm_callQ C hO (as := [.int (nI a), .int (nI b), .int (nI c)]) (mc_canChange G M t a b c hS h2.1 h2.2.1 h2.2.2 hB (by have := hI.2.2 6 a 0; omega)) mw_canChange (by decide) (Nat.le_refl _) rfl (Nat.le_of_ble_eq_true rfl) dX4_follows_152 ?_
      refine j_ev (v' := pI (evCan t n (kd, a, b, c, l))) (pI_c (evC2 c8 c78).symm) ?_
      refine j_istore_n C (L' := [(2, .int (pI (evCan t n (kd, a, b, c, l)))), (0, .ref o), (1, .int (nI e))]) dX4_follows_155 rfl (jlt hnl (by decide)) rfl ?_
      refine j_iload_n C dX4_follows_156 0 rfl rfl ?_
      refine j_ifp_eq C (tgt := 222) dX4_follows_157 (by decide) ?_ ?_
      · intro c157
        refine J.sub (L' := [(0, .ref o), (1, .int (nI e)), (2, .int (pI (evCan t n (kd, a, b, c, l))))]) ?_ [1, 2, 0] rfl
        exact join222 M t mO.rf hS hB (fun z => absurd z (by assumption))
      · intro c157
        refine j_aload_n C dX4_follows_160 1 rfl rfl ?_
        refine jm_get16 C dX4_follows_161 ?_
        refine j_bipush C (v := nI 10) dX4_follows_164 (by decide) ?_
        refine j_aload_n C dX4_follows_166 1 rfl rfl ?_
        refine jm_get9 C dX4_follows_167 ?_
        refine j_iload_n C dX4_follows_170 2 rfl rfl ?_
        refine jm_ald9 C hO (by omega) dX4_follows_171 ?_
        refine j_ev (v' := nI a) hR.2.1 ?_
        refine j_imuln C dX4_follows_172 ?_
        refine j_aload_n C dX4_follows_173 1 rfl rfl ?_
        refine jm_get10 C dX4_follows_174 ?_
        refine j_iload_n C dX4_follows_177 2 rfl rfl ?_
        refine jm_ald10 C hO (by omega) dX4_follows_178 ?_
        refine j_ev (v' := nI b) hR.2.2.1 ?_
        refine j_iaddn C dX4_follows_179 ?_
        refine j_iconst C (v := nI 1) dX4_follows_180 (by decide) ?_
        refine jm_ast16 C hO (by omega) dX4_follows_181 (fun M2 hM2 => ?_)
        have hMa := hM2
        have hSa2 : SA (M2.2 16) (tS t 0 a b 1) := by rw [hM2, mSA_16]; exact hS.pst h2.1 h2.2.1 rfl
        refine j_aload_n C dX4_follows_182 1 rfl rfl ?_
        refine jm_get16 C dX4_follows_183 ?_
        refine j_bipush C (v := nI 10) dX4_follows_186 (by decide) ?_
        refine j_aload_n C dX4_follows_188 1 rfl rfl ?_
        refine jm_get9 C dX4_follows_189 ?_
        refine j_iload_n C dX4_follows_192 2 rfl rfl ?_
        refine jm_ald9 C hO (by omega) dX4_follows_193 ?_
        refine j_ev (v' := nI a) (by rw [(mO.set hMa).2 9 (by decide)]; exact hR.2.1) ?_
        refine j_imuln C dX4_follows_194 ?_
        refine j_aload_n C dX4_follows_195 1 rfl rfl ?_
        refine jm_get11 C dX4_follows_196 ?_
        refine j_iload_n C dX4_follows_199 2 rfl rfl ?_
        refine jm_ald11 C hO (by omega) dX4_follows_200 ?_
        refine j_ev (v' := nI c) (by rw [(mO.set hMa).2 11 (by decide)]; exact hR.2.2.2.1) ?_
        refine j_iaddn C dX4_follows_201 ?_
        refine j_iconst C (v := nI 0) dX4_follows_202 (by decide) ?_
        refine jm_ast16 C hO (by omega) dX4_follows_203 (fun M3 hM3 => ?_)
        have hMb := hM3
        have hSb2 : SA (M3.2 16) (tS (tS t 0 a b 1) 0 a c 0) := by rw [hM3, mSA_16]; exact hSa2.pst h2.1 h2.2.2 rfl
        refine j_aload_n C dX4_follows_204 1 rfl rfl ?_
        refine jm_get16 C dX4_follows_205 ?_
        refine j_bipush C (v := nI 102) dX4_follows_208 (by decide) ?_
        refine j_aload_n C dX4_follows_210 1 rfl rfl ?_
        refine jm_get9 C dX4_follows_211 ?_
        refine j_iload_n C dX4_follows_214 2 rfl rfl ?_
        refine jm_ald9 C hO (by omega) dX4_follows_215 ?_
        refine j_ev (v' := nI a) (by rw [((mO.set hMa).tr (mO.set hMb)).2 9 (by decide)]; exact hR.2.1) ?_
        refine j_iaddn C dX4_follows_216 ?_
        refine j_dup2 C dX4_follows_217 rfl rfl ?_
        refine jm_ald16 C hO (by omega) dX4_follows_218 ?_
        refine j_ev (v' := nI ((tS (tS t 0 a b 1) 0 a c 0).1 6 a 0)) (hSb2.ch h2.1 rfl) ?_
        refine j_iconst C (v := nI 1) dX4_follows_219 (by decide) ?_
        refine j_iaddn C dX4_follows_220 ?_
        refine jm_ast16 C hO (by omega) dX4_follows_221 (fun M4 hM4 => ?_)
        refine J.sub (L' := [(0, .ref o), (1, .int (nI e)), (2, .int (pI (evCan t n (kd, a, b, c, l))))]) ?_ [1, 2, 0] rfl
        exact join222 M4 (chgDo t a b c) (((mO.set hMa).tr (mO.set hMb)).tr (mO.set hM4)) (by rw [hM4, mSA_16]; exact hSb2.pch h2.1 rfl) hB.chg (fun _ => (evD2 c8 c78).symm)
    · intro c78
      have h1 := hE4.2.1 c78
      refine j_aload_n C dX4_follows_81 1 rfl rfl ?_
      refine j_aload_n C dX4_follows_82 1 rfl rfl ?_
      refine jm_get9 C dX4_follows_83 ?_
      refine j_iload_n C dX4_follows_86 2 rfl rfl ?_
      refine jm_ald9 C hO (by omega) dX4_follows_87 ?_
      refine j_ev (v' := nI a) hR.2.1 ?_
      refine j_aload_n C dX4_follows_88 1 rfl rfl ?_
      refine jm_get10 C dX4_follows_89 ?_
      refine j_iload_n C dX4_follows_92 2 rfl rfl ?_
      refine jm_ald10 C hO (by omega) dX4_follows_93 ?_
      refine j_ev (v' := nI b) hR.2.2.1 ?_
      refine j_aload_n C dX4_follows_94 1 rfl rfl ?_
      refine jm_get11 C dX4_follows_95 ?_
      refine j_iload_n C dX4_follows_98 2 rfl rfl ?_
      refine jm_ald11 C hO (by omega) dX4_follows_99 ?_
      refine j_ev (v' := nI c) hR.2.2.2.1 ?_
      refine jm_callQ C hO (as := [.int (nI a), .int (nI b), .int (nI c)]) (mc_canCard G M t a b c hS h1.1 h1.2.1 h1.2.2 hI.1.2.1 hB) mw_canCard (by decide) (Nat.le_refl _) rfl (Nat.le_of_ble_eq_true rfl) dX4_follows_100 ?_
      refine j_ev (v' := pI (evCan t n (kd, a, b, c, l))) (pI_c (evC1 c78).symm) ?_
      refine j_istore_n C (L' := [(2, .int (pI (evCan t n (kd, a, b, c, l)))), (0, .ref o), (1, .int (nI e))]) dX4_follows_103 rfl (jlt hnl (by decide)) rfl ?_
      refine j_iload_n C dX4_follows_104 0 rfl rfl ?_
      refine j_ifp_eq C (tgt := 222) dX4_follows_105 (by decide) ?_ ?_
      · intro c105
        refine J.sub (L' := [(0, .ref o), (1, .int (nI e)), (2, .int (pI (evCan t n (kd, a, b, c, l))))]) ?_ [1, 2, 0] rfl
        exact join222 M t mO.rf hS hB (fun z => absurd z (by assumption))
      · intro c105
        refine j_aload_n C dX4_follows_108 1 rfl rfl ?_
        refine j_aload_n C dX4_follows_109 1 rfl rfl ?_
        refine jm_get9 C dX4_follows_110 ?_
        refine j_iload_n C dX4_follows_113 2 rfl rfl ?_
        refine jm_ald9 C hO (by omega) dX4_follows_114 ?_
        refine j_ev (v' := nI a) hR.2.1 ?_
        refine j_aload_n C dX4_follows_115 1 rfl rfl ?_
        refine jm_get10 C dX4_follows_116 ?_
        refine j_iload_n C dX4_follows_119 2 rfl rfl ?_
        refine jm_ald10 C hO (by omega) dX4_follows_120 ?_
        refine j_ev (v' := nI b) hR.2.2.1 ?_
        refine j_aload_n C dX4_follows_121 1 rfl rfl ?_
        refine jm_get11 C dX4_follows_122 ?_
        refine j_iload_n C dX4_follows_125 2 rfl rfl ?_
        refine jm_ald11 C hO (by omega) dX4_follows_126 ?_
        refine j_ev (v' := nI c) hR.2.2.2.1 ?_
        refine jm_callV C hO (as := [.int (nI a), .int (nI b), .int (nI c)]) (mc_givesCard G M t a b c hS h1.1 h1.2.1 h1.2.2 hI.1.2.1 hB) mw_givesCard (by decide) (Nat.le_refl _) rfl (Nat.le_of_ble_eq_true rfl) dX4_follows_127 (fun M5 hM5 => ?_)
        refine j_goto C (tgt := 222) dX4_follows_130 (by decide) ?_
        refine J.sub (L' := [(0, .ref o), (1, .int (nI e)), (2, .int (pI (evCan t n (kd, a, b, c, l))))]) ?_ [1, 2, 0] rfl
        exact join222 M5 _ hM5.1 hM5.2 hB.card (fun _ => (evD1 c78).symm)
  · intro c8
    have h0 := hE4.1 c8
    refine j_aload_n C dX4_follows_11 1 rfl rfl ?_
    refine j_aload_n C dX4_follows_12 1 rfl rfl ?_
    refine jm_get9 C dX4_follows_13 ?_
    refine j_iload_n C dX4_follows_16 2 rfl rfl ?_
    refine jm_ald9 C hO (by omega) dX4_follows_17 ?_
    refine j_ev (v' := nI a) hR.2.1 ?_
    refine jm_callQ C hO (as := [.int (nI a)]) (mc_canRaid G M t n a hS hB h0.1 h5 hn (by have := hI.2.2 7 0 0; omega) (by have := hI.2.2 8 0 0; omega)) mw_canRaid (by decide) (Nat.le_refl _) rfl (Nat.le_of_ble_eq_true rfl) dX4_follows_18 ?_
    refine j_istore_n C (L' := [(2, .int (pI (raidCan t n a))), (0, .ref o), (1, .int (nI e))]) dX4_follows_21 rfl (jlt hnl (by decide)) rfl ?_
    refine j_iconst C (v := nI 0) dX4_follows_22 (by decide) ?_
    refine j_istore_n C (L' := [(3, .int (nI 0)), (2, .int (pI (raidCan t n a))), (0, .ref o), (1, .int (nI e))]) dX4_follows_23 rfl (jlt hnl (by decide)) rfl ?_
    refine J.sub (L' := [(0, .ref o), (1, .int (nI e)), (2, .int (pI (raidCan t n a))), (3, .int (nI 0))]) ?_ [2, 3, 1, 0] rfl
    refine J.sub (L' := [(0, .ref o), (1, .int (nI e)), (2, .int (pI (raidCan t n a ∧ stepsTo t l 0))), (3, .int (nI 0))]) ?_ [0, 1, 2, 3] (by rw [← pI_c stepsTo_0]; rfl)
    have loop24 : ∀ (mz : Nat) (k : Nat), (k ≤ l.length) → (l.length - k) < mz → J (g, z) (mput g h o ad M) 0 24 [(0, .ref o), (1, .int (nI e)), (2, .int (pI (raidCan t n a ∧ stepsTo t l k))), (3, .int (nI k))] [] := by
      intro mz
      induction mz with
      | zero => intro k; intros; omega
      | succ mz ih24 =>
        intro k hk hm24
        refine j_iload_n C dX4_follows_24 3 rfl rfl ?_
        refine j_aload_n C dX4_follows_25 0 rfl rfl ?_
        refine jm_get12 C dX4_follows_26 ?_
        refine j_iload_n C dX4_follows_29 1 rfl rfl ?_
        refine jm_ald12 C hO (by omega) dX4_follows_30 ?_
        refine j_ev (v' := nI l.length) hR.2.2.2.2.1 ?_
        refine j_icn_ge C (by have := h0.2.1.1; omega) (by have := h0.2.1.1; omega) (tgt := 59) dX4_follows_31 (by decide) ?_ ?_
        · intro c31
          have hev : evCan t n (kd, a, b, c, l) ↔ raidCan t n a ∧ stepsTo t l k := by rw [evC0 c8, show k = l.length by omega]
          refine J.sub (L' := [(0, .ref o), (1, .int (nI e)), (2, .int (pI (evCan t n (kd, a, b, c, l))))]) ?_ [0, 1, 2] (by rw [pI_c hev]; rfl)
          refine j_iload_n C dX4_follows_59 2 rfl rfl ?_
          refine j_ifp_eq C (tgt := 222) dX4_follows_60 (by decide) ?_ ?_
          · intro c60
            refine J.sub (L' := [(0, .ref o), (1, .int (nI e)), (2, .int (pI (evCan t n (kd, a, b, c, l))))]) ?_ [0, 1, 2] rfl
            exact join222 M t mO.rf hS hB (fun z => absurd z (by assumption))
          · intro c60
            have hcan := (evC0 c8).mp c60
            have hcp := caps hI.1.2.2.1 hcan.1 hcan.2 h0.1 h0.2.1
            refine j_aload_n C dX4_follows_63 0 rfl rfl ?_
            refine j_iload_n C dX4_follows_64 1 rfl rfl ?_
            refine jm_callV C hO (as := [.int (nI e)]) (mc_endsRaid G M t e a l hS he hR.2.1 h0.1 hR.2.2.2.2.1 hR.2.2.2.2.2 h0.2.1 h0.2.2 hB (by have := hI.2.2 5 (turn t) 0; omega) (fun i p => by have := hI.2.2 1 i p; omega) (by have := hI.2.2 7 0 0; omega) (by have := hI.2.2 8 0 0; omega) hcp.1 hcp.2) mw_endsRaid (by decide) (Nat.le_refl _) rfl (Nat.le_of_ble_eq_true rfl) dX4_follows_65 (fun M6 hM6 => ?_)
            refine j_goto C (tgt := 222) dX4_follows_68 (by decide) ?_
            refine J.sub (L' := [(0, .ref o), (1, .int (nI e)), (2, .int (pI (evCan t n (kd, a, b, c, l))))]) ?_ [0, 1, 2] rfl
            exact join222 M6 _ hM6.1 hM6.2 hB.raid (fun _ => (evD0 c8).symm)
        · intro c31
          have hst := stepsTo_s (t := t) (l := l) (k := k)
          have join52 : J (g, z) (mput g h o ad M) 0 52 [(0, .ref o), (1, .int (nI e)), (3, .int (nI k))] [.int (pI (raidCan t n a ∧ stepsTo t l (k + 1)))] := by
            refine j_istore_n C (L' := [(2, .int (pI (raidCan t n a ∧ stepsTo t l (k + 1)))), (0, .ref o), (1, .int (nI e)), (3, .int (nI k))]) dX4_follows_52 rfl (jlt hnl (by decide)) rfl ?_
            refine j_iinc C (L' := [(3, .int (nI (k + 1))), (2, .int (pI (raidCan t n a ∧ stepsTo t l (k + 1)))), (0, .ref o), (1, .int (nI e))]) dX4_follows_53 3 rfl (kinc k 1 (by decide)) (jlt hnl (by decide)) rfl ?_
            refine j_goto C (tgt := 24) dX4_follows_56 (by decide) ?_
            refine J.sub (L' := [(0, .ref o), (1, .int (nI e)), (2, .int (pI (raidCan t n a ∧ stepsTo t l (k + 1)))), (3, .int (nI (k + 1)))]) ?_ [2, 3, 1, 0] rfl
            exact ih24 (k + 1) (by omega) (by omega)
          refine j_iload_n C dX4_follows_34 2 rfl rfl ?_
          refine j_ifp_eq C (tgt := 51) dX4_follows_35 (by decide) ?_ ?_
          · intro c35
            refine j_iconst C (v := nI 0) dX4_follows_51 (by decide) ?_
            refine J.sub (L' := [(0, .ref o), (1, .int (nI e)), (3, .int (nI k))]) ?_ [0, 1, 3] rfl
            refine j_ev (v' := pI (raidCan t n a ∧ stepsTo t l (k + 1))) (by rw [pI_f (by grind)]; rfl) ?_
            exact join52
          · intro c35
            refine j_aload_n C dX4_follows_38 0 rfl rfl ?_
            refine j_iload_n C dX4_follows_39 1 rfl rfl ?_
            refine j_iload_n C dX4_follows_40 3 rfl rfl ?_
            refine jm_callQ C hO (as := [.int (nI e), .int (nI k)]) (mc_canStep G M t e k l hS he hR.2.2.2.2.2 h0.2.1 (by omega) hB (by have := hI.2.2 8 0 0; omega)) mw_canStep (by decide) (Nat.le_refl _) rfl (Nat.le_of_ble_eq_true rfl) dX4_follows_41 ?_
            refine j_ifp_eq C (tgt := 51) dX4_follows_44 (by decide) ?_ ?_
            · intro c44
              refine j_iconst C (v := nI 0) dX4_follows_51 (by decide) ?_
              refine J.sub (L' := [(0, .ref o), (1, .int (nI e)), (3, .int (nI k))]) ?_ [0, 1, 3] rfl
              refine j_ev (v' := pI (raidCan t n a ∧ stepsTo t l (k + 1))) (by rw [pI_f (by grind)]; rfl) ?_
              exact join52
            · intro c44
              refine j_iconst C (v := nI 1) dX4_follows_47 (by decide) ?_
              refine j_goto C (tgt := 52) dX4_follows_48 (by decide) ?_
              refine J.sub (L' := [(0, .ref o), (1, .int (nI e)), (3, .int (nI k))]) ?_ [0, 1, 3] rfl
              refine j_ev (v' := pI (raidCan t n a ∧ stepsTo t l (k + 1))) (by rw [pI_t (by grind)]; rfl) ?_
              exact join52
    exact loop24 ((l.length - 0) + 1) 0 (Nat.zero_le _) (Nat.lt_succ_self _)
