set_option maxRecDepth 100000
/-! ===== reading the pad: where (and whether a fault is found) ===== -/
abbrev RS : Type := Nat × Bool
def nx (t : List Nat) (lo hi : Nat) (s : RS) : Bool := decide (s.2 = false ∧ s.1 < t.length ∧ lo ≤ t.getD s.1 0 ∧ t.getD s.1 0 ≤ hi)
theorem nx_i {t : List Nat} {lo hi : Nat} {s : RS} : nx t lo hi s = true ↔ s.2 = false ∧ s.1 < t.length ∧ lo ≤ t.getD s.1 0 ∧ t.getD s.1 0 ≤ hi := decide_eq_true_iff
def tkS (t : List Nat) (lo hi : Nat) (s : RS) : RS := if nx t lo hi s then (s.1 + 1, s.2) else (s.1, true)
def tkV (t : List Nat) (lo hi : Nat) (s : RS) : Nat := if nx t lo hi s then t.getD s.1 0 - lo else 0
def tkA (t : List Nat) (c : Nat) (s : RS) : RS := if c = 0 then s else tkS t c c s
def sgA (t : List Nat) (p : Nat) : Nat := if p < t.length then t.getD p 0 else 0
/-- a word: 9 for a raid's, and for a fault -/
def rdW (t : List Nat) (s : RS) : RS × Nat :=
  if sgA t s.1 = 114 then (tkA t 0 (tkA t 100 (tkA t 105 (tkS t 97 97 (s.1 + 1, s.2)))), 9)
  else if sgA t s.1 = 102 then (tkA t 0 (tkA t 108 (tkA t 108 (tkS t 97 97 (s.1 + 1, s.2)))), 4)
  else if sgA t s.1 = 108 then (tkA t 0 (tkA t 101 (tkA t 110 (tkS t 105 105 (s.1 + 1, s.2)))), 5)
  else if sgA t s.1 = 116 ∧ sgA t (s.1 + 1) = 105 then (tkA t 0 (tkA t 101 (tkA t 109 (tkS t 105 105 (s.1 + 1, s.2)))), 6)
  else if sgA t s.1 = 116 then (tkA t 104 (tkA t 99 (tkA t 117 (tkS t 111 111 (s.1 + 1, s.2)))), 0)
  else if sgA t s.1 = 98 ∧ sgA t (s.1 + 1) = 111 then (tkA t 115 (tkA t 117 (tkA t 110 (tkS t 111 111 (s.1 + 1, s.2)))), 1)
  else if sgA t s.1 = 98 then (if nx t 117 117 (tkS t 97 97 (s.1 + 1, s.2)) then (tkA t 0 (tkA t 107 (tkA t 108 (tkS t 117 117 (tkS t 97 97 (s.1 + 1, s.2))))), 2) else (tkA t 0 (tkA t 0 (tkA t 107 (tkS t 99 99 (tkS t 97 97 (s.1 + 1, s.2))))), 3))
  else ((s.1, true), 9)
def kI (k : Nat) : Int32 := if k = 9 then -1 else nI k
/-- up to three digits -/
def rdN2 (t : List Nat) (s : RS) : Bool := nx t 48 57 s && decide (1 < s.1 ∧ 48 ≤ t.getD (s.1 - 2) 0 ∧ t.getD (s.1 - 2) 0 ≤ 57)
def rdT (t : List Nat) (s : RS) : RS × Nat :=
  let s4 := tkS t 48 57 s
  let d1 := tkV t 48 57 s
  let s5 := if nx t 48 57 s4 then tkS t 48 57 s4 else s4
  let d2 := if nx t 48 57 s4 then 10 * d1 + tkV t 48 57 s4 else d1
  (if rdN2 t s5 then tkS t 48 57 s5 else s5, if rdN2 t s5 then 10 * d2 + tkV t 48 57 s5 else d2)
def rdS2 (t : List Nat) (s : RS) : RS := if (rdW t s).2 = 9 ∨ (rdW t s).2 = 0 then tkS t 48 57 (rdW t s).1 else (rdW t s).1
/-- an order: where it ends, its kind (9: a raid), who, when -/
def rdO (t : List Nat) (s : RS) : RS × Nat × Int32 × Nat :=
  (tkS t 59 59 (if (rdW t s).2 = 9 then rdS2 t s else (rdT t (tkS t 64 64 (rdS2 t s))).1), (rdW t s).2,
    if (rdW t s).2 = 9 ∨ (rdW t s).2 = 0 then nI (tkV t 48 57 (rdW t s).1) else -1, if (rdW t s).2 = 9 then 0 else (rdT t (tkS t 64 64 (rdS2 t s))).2)
def RD (M : jM) (t : List Nat) (s : RS) : Prop := TX M t ∧ M.1 21 = nI s.1 ∧ M.1 22 = pI (s.2 = true) ∧ s.1 ≤ t.length
theorem tkS_le {t : List Nat} {lo hi : Nat} {s : RS} (h : s.1 ≤ t.length) : (tkS t lo hi s).1 ≤ t.length := by
  unfold tkS
  split
  · rename_i c; exact (nx_i.mp c).2.1
  · exact h
theorem tkA_le {t : List Nat} {c : Nat} {s : RS} (h : s.1 ≤ t.length) : (tkA t c s).1 ≤ t.length := by
  unfold tkA; split
  · exact h
  · exact tkS_le h
theorem tkS_mono {t : List Nat} {lo hi : Nat} {s : RS} : s.1 ≤ (tkS t lo hi s).1 := by
  unfold tkS; split
  · exact Nat.le_succ _
  · exact Nat.le_refl _
theorem tkA_mono {t : List Nat} {c : Nat} {s : RS} : s.1 ≤ (tkA t c s).1 := by
  unfold tkA; split
  · exact Nat.le_refl _
  · exact tkS_mono
theorem tkS_ok {t : List Nat} {lo hi : Nat} {s : RS} (h : (tkS t lo hi s).2 = false) : nx t lo hi s = true ∧ tkS t lo hi s = (s.1 + 1, s.2) ∧ s.2 = false := by
  unfold tkS at h ⊢
  split at h
  · rename_i c; rw [if_pos c]; exact ⟨c, rfl, (nx_i.mp c).1⟩
  · exact absurd h (by simp)
theorem RD.fr {M M' : jM} {t : List Nat} {s : RS} (h : RD M t s) {F : List Nat} (hf : fr F [] M M') (h20 : 20 ∉ F) (h21 : 21 ∉ F) (h22 : 22 ∉ F) : RD M' t s := ⟨h.1.cg (hf.1 20 h20) (hf.2 19 (by decide)), by rw [hf.1 21 h21]; exact h.2.1, by rw [hf.1 22 h22]; exact h.2.2.1, h.2.2.2⟩
theorem fr.sub {F G A : List Nat} {M M' : jM} (h : fr F A M M') (hs : ∀ k ∈ F, k ∈ G) : fr G A M M' := ⟨fun k hk => h.1 k (fun z => hk (hs k z)), h.2⟩

set_option maxHeartbeats 4000000 in
theorem mc_isNext {g : jG} (G : jOK g) (M : jM) (t : List Nat) (s : RS) (hR : RD M t s) (lo hi : Nat) (hlo : lo < 2 ^ 31) (hhi : hi < 2 ^ 31)  : MTQ g 1 yX4_isNext [.int (nI lo), .int (nI hi)] M (pI (nx t lo hi s = true)) := by
  intro h o ad hO
  refine CT.of (bytes := cX4_isNext) (maxL := 3) (ret := (some .boolean)) G q2224 (by decide) (by decide +kernel) (Nat.le_of_ble_eq_true rfl) ?_
  intro z C E hT hnm hnl
  have C : jC (g, z) cX4_isNext RX4 1 0 := C
  show J (g, z) (mput g h o ad M) 0 0 [(0, .ref o), (1, .int (nI lo)), (2, .int (nI hi))] []
  refine j_aload_n C dX4_isNext_0 0 rfl rfl ?_
  refine jm_get22 C dX4_isNext_1 ?_
  refine j_ev (v' := pI (s.2 = true)) hR.2.2.1 ?_
  have hdummy := hR.2.2.2
  refine j_ifp_ne C (tgt := 39) dX4_isNext_4 (by decide) ?_ ?_
  · intro c4
    refine j_iconst C (v := nI 0) dX4_isNext_39 (by decide) ?_
    exact j_iret C E (by decide) (Nat.le_refl _) (⟨_, rfl, rz0 (by rw [nx_i]; grind), rfl⟩) dX4_isNext_40
  · intro c4
    have hbf : s.2 = false := by simpa using c4
    have h60 := hR.1.2.1
    have hsl := hR.2.2.2
    refine j_aload_n C dX4_isNext_7 0 rfl rfl ?_
    refine jm_get21 C dX4_isNext_8 ?_
    refine j_ev (v' := nI s.1) hR.2.1 ?_
    refine j_aload_n C dX4_isNext_11 0 rfl rfl ?_
    refine jm_get20 C dX4_isNext_12 ?_
    refine j_ev (v' := nI t.length) hR.1.1 ?_
    refine j_icn_ge C (by omega) (by omega) (tgt := 39) dX4_isNext_15 (by decide) ?_ ?_
    · intro c15
      refine j_iconst C (v := nI 0) dX4_isNext_39 (by decide) ?_
      exact j_iret C E (by decide) (Nat.le_refl _) (⟨_, rfl, rz0 (by rw [nx_i]; grind), rfl⟩) dX4_isNext_40
    · intro c15
      refine j_aload_n C dX4_isNext_18 0 rfl rfl ?_
      refine jm_get19 C dX4_isNext_19 ?_
      refine j_aload_n C dX4_isNext_22 0 rfl rfl ?_
      refine jm_get21 C dX4_isNext_23 ?_
      refine j_ev (v' := nI s.1) hR.2.1 ?_
      refine jm_ald19 C hO (by omega) dX4_isNext_26 ?_
      refine j_ev (v' := nI (t.getD s.1 0)) ((hR.1.2.2 s.1 (by omega)).1) ?_
      refine j_iload_n C dX4_isNext_27 1 rfl rfl ?_
      refine j_iload_n C dX4_isNext_28 2 rfl rfl ?_
      refine j_callSQ C (as := [.int (nI (t.getD s.1 0)), .int (nI lo), .int (nI hi)]) (mi_in G (nI (t.getD s.1 0)) lo hi) mw_in (by decide) (Nat.le_refl _) rfl (Nat.le_of_ble_eq_true rfl) dX4_isNext_29 ?_
      refine j_ev (v' := pI (lo ≤ t.getD s.1 0 ∧ t.getD s.1 0 ≤ hi)) (pI_c (inI_i hlo hhi (by have := (hR.1.2.2 s.1 (by omega)).2.2; omega))) ?_
      refine j_ifp_eq C (tgt := 39) dX4_isNext_32 (by decide) ?_ ?_
      · intro c32
        refine j_iconst C (v := nI 0) dX4_isNext_39 (by decide) ?_
        exact j_iret C E (by decide) (Nat.le_refl _) (⟨_, rfl, rz0 (by rw [nx_i]; grind), rfl⟩) dX4_isNext_40
      · intro c32
        refine j_iconst C (v := nI 1) dX4_isNext_35 (by decide) ?_
        refine j_goto C (tgt := 40) dX4_isNext_36 (by decide) ?_
        exact j_iret C E (by decide) (Nat.le_refl _) (⟨_, rfl, rz1 (by rw [nx_i]; grind), rfl⟩) dX4_isNext_40

set_option maxHeartbeats 4000000 in
theorem mc_takes {g : jG} (G : jOK g) (M : jM) (t : List Nat) (s : RS) (hR : RD M t s) (lo hi : Nat) (hlo : lo < 2 ^ 31) (hhi : hi < 2 ^ 31)  : MTR g 2 yX4_takes [.int (nI lo), .int (nI hi)] M (fun v M' => v = nI (tkV t lo hi s) ∧ RD M' t (tkS t lo hi s) ∧ fr [21, 22] [] M M') := by
  intro h o ad hO
  refine CT.of (bytes := cX4_takes) (maxL := 5) (ret := (some .int)) G q2220 (by decide) (by decide +kernel) (Nat.le_of_ble_eq_true rfl) ?_
  intro z C E hT hnm hnl
  have C : jC (g, z) cX4_takes RX4 2 0 := C
  show J (g, z) (mput g h o ad M) 0 0 [(0, .ref o), (1, .int (nI lo)), (2, .int (nI hi))] []
  refine j_aload_n C dX4_takes_0 0 rfl rfl ?_
  refine j_iload_n C dX4_takes_1 1 rfl rfl ?_
  refine j_iload_n C dX4_takes_2 2 rfl rfl ?_
  refine jm_callQ C hO (as := [.int (nI lo), .int (nI hi)]) (mc_isNext G M t s hR lo hi hlo hhi) mw_isNext (by decide) (Nat.le_refl _) rfl (Nat.le_of_ble_eq_true rfl) dX4_takes_3 ?_
  refine j_istore_n C (L' := [(3, .int (pI (nx t lo hi s = true))), (0, .ref o), (1, .int (nI lo)), (2, .int (nI hi))]) dX4_takes_6 rfl (jlt hnl (by decide)) rfl ?_
  refine j_iload_n C dX4_takes_7 0 rfl rfl ?_
  have join26 : ∀ (vv : Nat), (vv = tkV t lo hi s) → J (g, z) (mput g h o ad M) 0 26 [(0, .ref o), (1, .int (nI lo)), (2, .int (nI hi)), (3, .int (pI (nx t lo hi s = true)))] [.int (nI vv)] := by
    intro vv hvv
    refine j_istore C (L' := [(4, .int (nI vv)), (0, .ref o), (1, .int (nI lo)), (2, .int (nI hi)), (3, .int (pI (nx t lo hi s = true)))]) dX4_takes_26 (jlt hnl (by decide)) rfl ?_
    refine j_aload_n C dX4_takes_28 1 rfl rfl ?_
    refine j_dup C dX4_takes_29 rfl ?_
    refine jm_get21 C dX4_takes_30 ?_
    refine j_ev (v' := nI s.1) hR.2.1 ?_
    have join42 : ∀ (qq : Nat), (s.1 + qq = (tkS t lo hi s).1) → J (g, z) (mput g h o ad M) 0 42 [(0, .ref o), (1, .int (nI lo)), (2, .int (nI hi)), (3, .int (pI (nx t lo hi s = true))), (4, .int (nI vv))] [.int (nI qq), .int (nI s.1), .ref o] := by
      intro qq hqq
      refine j_iaddn C dX4_takes_42 ?_
      refine jm_put21 C hO dX4_takes_43 (fun M1 hM1 => ?_)
      refine j_aload_n C dX4_takes_46 0 rfl rfl ?_
      refine j_aload_n C dX4_takes_47 0 rfl rfl ?_
      refine jm_get22 C dX4_takes_48 ?_
      refine j_ev (v' := pI (s.2 = true)) (by rw [hM1, mSF_ne (by decide)]; exact hR.2.2.1) ?_
      have join63 : J (g, z) (mput g h o ad M1) 0 63 [(0, .ref o), (1, .int (nI lo)), (2, .int (nI hi)), (3, .int (pI (nx t lo hi s = true))), (4, .int (nI vv))] [.int (pI ((tkS t lo hi s).2 = true)), .ref o] := by
        refine jm_put22 C hO ⟨narrow_zp, fits_zp⟩ dX4_takes_63 (fun M2 hM2 => ?_)
        refine j_iload C dX4_takes_66 4 rfl ?_
        exact j_iret C E rfl (Nat.le_refl _) (⟨_, rfl, _, rfl, by rw [hvv], ⟨hR.1.cg (by rw [hM2, mSF_ne (by decide), hM1, mSF_ne (by decide)]) (by rw [hM2, hM1]; rfl), by rw [hM2, mSF_ne (by decide), hM1, mSF_eq, hqq], by rw [hM2, mSF_eq], tkS_le hR.2.2.2⟩, (fr.F hM1 (by decide)).tr (fr.F hM2 (by decide))⟩) dX4_takes_68
      refine j_ifp_ne C (tgt := 58) dX4_takes_51 (by decide) ?_ ?_
      · intro c51
        refine j_iconst C (v := nI 1) dX4_takes_58 (by decide) ?_
        refine j_goto C (tgt := 63) dX4_takes_59 (by decide) ?_
        refine J.sub (L' := [(0, .ref o), (1, .int (nI lo)), (2, .int (nI hi)), (3, .int (pI (nx t lo hi s = true))), (4, .int (nI vv))]) ?_ [0, 1, 2, 3, 4] rfl
        refine j_ev (v' := pI ((tkS t lo hi s).2 = true)) (by rw [pI_t (by unfold tkS; have hnd : nx t lo hi s = true → s.2 = false := (fun z => (nx_i.mp z).1); grind)]; rfl) ?_
        exact join63
      · intro c51
        refine j_iload_n C dX4_takes_54 3 rfl rfl ?_
        refine j_ifp_ne C (tgt := 62) dX4_takes_55 (by decide) ?_ ?_
        · intro c55
          refine j_iconst C (v := nI 0) dX4_takes_62 (by decide) ?_
          refine J.sub (L' := [(0, .ref o), (1, .int (nI lo)), (2, .int (nI hi)), (3, .int (pI (nx t lo hi s = true))), (4, .int (nI vv))]) ?_ [0, 1, 2, 3, 4] rfl
          refine j_ev (v' := pI ((tkS t lo hi s).2 = true)) (by rw [pI_f (by unfold tkS; have hnd : nx t lo hi s = true → s.2 = false := (fun z => (nx_i.mp z).1); grind)]; rfl) ?_
          exact join63
        · intro c55
          refine j_iconst C (v := nI 1) dX4_takes_58 (by decide) ?_
          refine j_goto C (tgt := 63) dX4_takes_59 (by decide) ?_
          refine J.sub (L' := [(0, .ref o), (1, .int (nI lo)), (2, .int (nI hi)), (3, .int (pI (nx t lo hi s = true))), (4, .int (nI vv))]) ?_ [0, 1, 2, 3, 4] rfl
          refine j_ev (v' := pI ((tkS t lo hi s).2 = true)) (by rw [pI_t (by unfold tkS; have hnd : nx t lo hi s = true → s.2 = false := (fun z => (nx_i.mp z).1); grind)]; rfl) ?_
          exact join63
    refine j_iload_n C dX4_takes_33 4 rfl rfl ?_
    refine j_ifp_eq C (tgt := 41) dX4_takes_34 (by decide) ?_ ?_
    · intro c34
      refine j_iconst C (v := nI 0) dX4_takes_41 (by decide) ?_
      refine J.sub (L' := [(0, .ref o), (1, .int (nI lo)), (2, .int (nI hi)), (3, .int (pI (nx t lo hi s = true))), (4, .int (nI vv))]) ?_ [1, 2, 3, 4, 0] rfl
      exact join42 0 (by unfold tkS; rw [if_neg c34]; rfl)
    · intro c34
      refine j_iconst C (v := nI 1) dX4_takes_37 (by decide) ?_
      refine j_goto C (tgt := 42) dX4_takes_38 (by decide) ?_
      refine J.sub (L' := [(0, .ref o), (1, .int (nI lo)), (2, .int (nI hi)), (3, .int (pI (nx t lo hi s = true))), (4, .int (nI vv))]) ?_ [1, 2, 3, 4, 0] rfl
      exact join42 1 (by unfold tkS; rw [if_pos c34])
  refine j_ifp_eq C (tgt := 25) dX4_takes_8 (by decide) ?_ ?_
  · intro c8
    refine j_iconst C (v := nI 0) dX4_takes_25 (by decide) ?_
    refine J.sub (L' := [(0, .ref o), (1, .int (nI lo)), (2, .int (nI hi)), (3, .int (pI (nx t lo hi s = true)))]) ?_ [1, 2, 3, 0] rfl
    exact join26 0 (by unfold tkV; rw [if_neg c8])
  · intro c8
    have h60 := hR.1.2.1
    have hnx := nx_i.mp c8
    have hsl := hnx.2.1
    have hlx := hnx.2.2.1
    refine j_aload_n C dX4_takes_11 1 rfl rfl ?_
    refine jm_get19 C dX4_takes_12 ?_
    refine j_aload_n C dX4_takes_15 1 rfl rfl ?_
    refine jm_get21 C dX4_takes_16 ?_
    refine j_ev (v' := nI s.1) hR.2.1 ?_
    refine jm_ald19 C hO (by omega) dX4_takes_19 ?_
    refine j_ev (v' := nI (t.getD s.1 0)) ((hR.1.2.2 s.1 (by omega)).1) ?_
    refine j_iload_n C dX4_takes_20 2 rfl rfl ?_
    refine j_isubn C (by omega) dX4_takes_21 ?_
    refine j_goto C (tgt := 26) dX4_takes_22 (by decide) ?_
    refine J.sub (L' := [(0, .ref o), (1, .int (nI lo)), (2, .int (nI hi)), (3, .int (pI (nx t lo hi s = true)))]) ?_ [1, 2, 3, 0] rfl
    exact join26 ((t.getD s.1 0) - lo) (by unfold tkV; rw [if_pos c8])

set_option maxHeartbeats 4000000 in
theorem mc_takesAll {g : jG} (G : jOK g) (M : jM) (t : List Nat) (s : RS) (hR : RD M t s) (a b c d : Nat) (ha : a < 128) (hb : b < 128) (hc : c < 128) (hd : d < 128)  : MTV g 3 yX4_takesAll [.int (nI a), .int (nI b), .int (nI c), .int (nI d)] M (fun M' => RD M' t (tkA t d (tkA t c (tkA t b (tkS t a a s)))) ∧ fr [21, 22] [] M M') := by
  intro h o ad hO
  refine CT.of (bytes := cX4_takesAll) (maxL := 6) (ret := none) G q2216 (by decide) (by decide +kernel) (Nat.le_of_ble_eq_true rfl) ?_
  intro z C E hT hnm hnl
  have C : jC (g, z) cX4_takesAll RX4 3 0 := C
  show J (g, z) (mput g h o ad M) 0 0 [(0, .ref o), (1, .int (nI a)), (2, .int (nI b)), (3, .int (nI c)), (4, .int (nI d))] []
  refine j_aload_n C dX4_takesAll_0 0 rfl rfl ?_
  refine j_iload_n C dX4_takesAll_1 1 rfl rfl ?_
  refine j_iload_n C dX4_takesAll_2 1 rfl rfl ?_
  refine jm_callR C hO (as := [.int (nI a), .int (nI a)]) (mc_takes G M t s hR a a (by omega) (by omega)) mw_takes (by decide) (Nat.le_refl _) rfl (Nat.le_of_ble_eq_true rfl) dX4_takesAll_3 (fun r2 M1 hM1 => ?_)
  refine j_istore C (L' := [(5, .int r2), (0, .ref o), (1, .int (nI a)), (2, .int (nI b)), (3, .int (nI c)), (4, .int (nI d))]) dX4_takesAll_6 (jlt hnl (by decide)) rfl ?_
  refine j_iload_n C dX4_takesAll_8 3 rfl rfl ?_
  have join22 : ∀ (vb : Int32) (Mb : jM), (RD Mb t (tkA t b (tkS t a a s))) → (fr [21, 22] [] M Mb) → J (g, z) (mput g h o ad Mb) 0 22 [(0, .ref o), (1, .int (nI a)), (2, .int (nI b)), (3, .int (nI c)), (4, .int (nI d))] [.int vb] := by
    intro vb Mb hRb hFb
    refine j_istore C (L' := [(5, .int vb), (0, .ref o), (1, .int (nI a)), (2, .int (nI b)), (3, .int (nI c)), (4, .int (nI d))]) dX4_takesAll_22 (jlt hnl (by decide)) rfl ?_
    refine j_iload_n C dX4_takesAll_24 4 rfl rfl ?_
    have join38 : ∀ (vc : Int32) (Mc : jM), (RD Mc t (tkA t c (tkA t b (tkS t a a s)))) → (fr [21, 22] [] M Mc) → J (g, z) (mput g h o ad Mc) 0 38 [(0, .ref o), (1, .int (nI a)), (2, .int (nI b)), (3, .int (nI c)), (4, .int (nI d))] [.int vc] := by
      intro vc Mc hRc hFc
      refine j_istore C (L' := [(5, .int vc), (0, .ref o), (1, .int (nI a)), (2, .int (nI b)), (3, .int (nI c)), (4, .int (nI d))]) dX4_takesAll_38 (jlt hnl (by decide)) rfl ?_
      refine j_iload C dX4_takesAll_40 5 rfl ?_
      have join57 : ∀ (vd : Int32) (Md : jM), (RD Md t (tkA t d (tkA t c (tkA t b (tkS t a a s))))) → (fr [21, 22] [] M Md) → J (g, z) (mput g h o ad Md) 0 57 [(0, .ref o), (1, .int (nI a)), (2, .int (nI b)), (3, .int (nI c)), (4, .int (nI d))] [.int vd] := by
        intro vd Md hRd hFd
        refine j_istore C (L' := [(5, .int vd), (0, .ref o), (1, .int (nI a)), (2, .int (nI b)), (3, .int (nI c)), (4, .int (nI d))]) dX4_takesAll_57 (jlt hnl (by decide)) rfl ?_
        exact j_vret C E (Nat.le_refl _) (⟨_, rfl, rfl, hRd, hFd⟩) dX4_takesAll_59
      refine j_ifn_ne C (by omega) (tgt := 49) dX4_takesAll_42 (by decide) ?_ ?_
      · intro c42
        refine j_aload_n C dX4_takesAll_49 1 rfl rfl ?_
        refine j_iload C dX4_takesAll_50 5 rfl ?_
        refine j_iload C dX4_takesAll_52 5 rfl ?_
        refine jm_callR C hO (as := [.int (nI d), .int (nI d)]) (mc_takes G Mc t (tkA t c (tkA t b (tkS t a a s))) hRc d d (by omega) (by omega)) mw_takes (by decide) (Nat.le_refl _) rfl (Nat.le_of_ble_eq_true rfl) dX4_takesAll_54 (fun r4 M3 hM3 => ?_)
        refine J.sub (L' := [(0, .ref o), (1, .int (nI a)), (2, .int (nI b)), (3, .int (nI c)), (4, .int (nI d))]) ?_ [1, 2, 3, 4, 5] rfl
        exact join57 r4 M3 (by unfold tkA; rw [if_neg c42]; exact hM3.2.1) (hFc.tr hM3.2.2)
      · intro c42
        refine j_iconst C (v := nI 0) dX4_takesAll_45 (by decide) ?_
        refine j_goto C (tgt := 57) dX4_takesAll_46 (by decide) ?_
        refine J.sub (L' := [(0, .ref o), (1, .int (nI a)), (2, .int (nI b)), (3, .int (nI c)), (4, .int (nI d))]) ?_ [1, 2, 3, 4, 5] rfl
        exact join57 (nI 0) Mc (by unfold tkA; rw [if_pos c42]; exact hRc) hFc
    refine j_ifn_ne C (by omega) (tgt := 32) dX4_takesAll_25 (by decide) ?_ ?_
    · intro c25
      refine j_aload_n C dX4_takesAll_32 1 rfl rfl ?_
      refine j_iload_n C dX4_takesAll_33 4 rfl rfl ?_
      refine j_iload_n C dX4_takesAll_34 4 rfl rfl ?_
      refine jm_callR C hO (as := [.int (nI c), .int (nI c)]) (mc_takes G Mb t (tkA t b (tkS t a a s)) hRb c c (by omega) (by omega)) mw_takes (by decide) (Nat.le_refl _) rfl (Nat.le_of_ble_eq_true rfl) dX4_takesAll_35 (fun r6 M5 hM5 => ?_)
      refine J.sub (L' := [(0, .ref o), (1, .int (nI a)), (2, .int (nI b)), (3, .int (nI c)), (4, .int (nI d))]) ?_ [1, 2, 3, 4, 5] rfl
      exact join38 r6 M5 (by unfold tkA; rw [if_neg c25]; exact hM5.2.1) (hFb.tr hM5.2.2)
    · intro c25
      refine j_iconst C (v := nI 0) dX4_takesAll_28 (by decide) ?_
      refine j_goto C (tgt := 38) dX4_takesAll_29 (by decide) ?_
      refine J.sub (L' := [(0, .ref o), (1, .int (nI a)), (2, .int (nI b)), (3, .int (nI c)), (4, .int (nI d))]) ?_ [1, 2, 3, 4, 5] rfl
      exact join38 (nI 0) Mb (by unfold tkA; rw [if_pos c25]; exact hRb) hFb
  refine j_ifn_ne C (by omega) (tgt := 16) dX4_takesAll_9 (by decide) ?_ ?_
  · intro c9
    refine j_aload_n C dX4_takesAll_16 1 rfl rfl ?_
    refine j_iload_n C dX4_takesAll_17 3 rfl rfl ?_
    refine j_iload_n C dX4_takesAll_18 3 rfl rfl ?_
    refine jm_callR C hO (as := [.int (nI b), .int (nI b)]) (mc_takes G M1 t (tkS t a a s) hM1.2.1 b b (by omega) (by omega)) mw_takes (by decide) (Nat.le_refl _) rfl (Nat.le_of_ble_eq_true rfl) dX4_takesAll_19 (fun r8 M7 hM7 => ?_)
    refine J.sub (L' := [(0, .ref o), (1, .int (nI a)), (2, .int (nI b)), (3, .int (nI c)), (4, .int (nI d))]) ?_ [1, 2, 3, 4, 5] rfl
    exact join22 r8 M7 (by unfold tkA; rw [if_neg c9]; exact hM7.2.1) (hM1.2.2.tr hM7.2.2)
  · intro c9
    refine j_iconst C (v := nI 0) dX4_takesAll_12 (by decide) ?_
    refine j_goto C (tgt := 22) dX4_takesAll_13 (by decide) ?_
    refine J.sub (L' := [(0, .ref o), (1, .int (nI a)), (2, .int (nI b)), (3, .int (nI c)), (4, .int (nI d))]) ?_ [1, 2, 3, 4, 5] rfl
    exact join22 (nI 0) M1 (by unfold tkA; rw [if_pos c9]; exact hM1.2.1) hM1.2.2

theorem sgA_le {M : jM} {t : List Nat} (hX : TX M t) {p : Nat} : sgA t p ≤ 126 := by
  unfold sgA
  by_cases h : p < t.length
  · rw [if_pos h]; exact (hX.2.2 _ h).2.2
  · rw [if_neg h]; omega
theorem rdW_k {t : List Nat} {s : RS} : (rdW t s).2 ≤ 6 ∨ (rdW t s).2 = 9 := by
  unfold rdW
  repeat (first | (split; dsimp only; omega) | split)
  all_goals (dsimp only; omega)
theorem rdW_le {t : List Nat} {s : RS} (h : s.1 < t.length) : (rdW t s).1.1 ≤ t.length := by
  have h1 : (s.1 + 1, s.2).1 ≤ t.length := h
  unfold rdW
  split
  · exact tkA_le (tkA_le (tkA_le (tkS_le h1)))
  split
  · exact tkA_le (tkA_le (tkA_le (tkS_le h1)))
  split
  · exact tkA_le (tkA_le (tkA_le (tkS_le h1)))
  split
  · exact tkA_le (tkA_le (tkA_le (tkS_le h1)))
  split
  · exact tkA_le (tkA_le (tkA_le (tkS_le h1)))
  split
  · exact tkA_le (tkA_le (tkA_le (tkS_le h1)))
  split
  · split
    · exact tkA_le (tkA_le (tkA_le (tkS_le (tkS_le h1))))
    · exact tkA_le (tkA_le (tkA_le (tkS_le (tkS_le h1))))
  · exact Nat.le_of_lt h

set_option maxHeartbeats 4000000 in
theorem mc_readWord {g : jG} (G : jOK g) (M : jM) (t : List Nat) (s : RS) (hR : RD M t s) (hs : s.1 < t.length)  : MTV g 4 yX4_readWord [] M (fun M' => RD M' t (rdW t s).1 ∧ M'.1 23 = kI (rdW t s).2 ∧ fr [21, 22, 23] [] M M') := by
  intro h o ad hO
  refine CT.of (bytes := cX4_readWord) (maxL := 4) (ret := none) G q2212 (by decide) (by decide +kernel) (Nat.le_of_ble_eq_true rfl) ?_
  intro z C E hT hnm hnl
  have C : jC (g, z) cX4_readWord RX4 4 0 := C
  show J (g, z) (mput g h o ad M) 0 0 [(0, .ref o)] []
  have hX := hR.1
  have h60 := hX.2.1
  refine j_aload_n C dX4_readWord_0 0 rfl rfl ?_
  refine jm_get21 C dX4_readWord_1 ?_
  refine j_ev (v' := nI s.1) hR.2.1 ?_
  refine j_aload_n C dX4_readWord_4 0 rfl rfl ?_
  refine jm_get20 C dX4_readWord_5 ?_
  refine j_ev (v' := nI t.length) hX.1 ?_
  have join24 : ∀ (c0 : Nat), (c0 = sgA t (s.1)) → J (g, z) (mput g h o ad M) 0 24 [(0, .ref o)] [.int (nI c0)] := by
    intro c0 hc0
    refine j_istore_n C (L' := [(1, .int (nI c0)), (0, .ref o)]) dX4_readWord_24 rfl (jlt hnl (by decide)) rfl ?_
    refine j_aload_n C dX4_readWord_25 1 rfl rfl ?_
    refine j_dup C dX4_readWord_26 rfl ?_
    refine jm_get21 C dX4_readWord_27 ?_
    refine j_ev (v' := nI s.1) hR.2.1 ?_
    refine j_iconst C (v := nI 1) dX4_readWord_30 (by decide) ?_
    refine j_iaddn C dX4_readWord_31 ?_
    refine jm_put21 C hO dX4_readWord_32 (fun M1 hM1 => ?_)
    refine j_aload_n C dX4_readWord_35 1 rfl rfl ?_
    refine jm_get21 C dX4_readWord_36 ?_
    refine j_ev (v' := nI (s.1 + 1)) (by rw [hM1, mSF_eq]) ?_
    refine j_aload_n C dX4_readWord_39 1 rfl rfl ?_
    refine jm_get20 C dX4_readWord_40 ?_
    refine j_ev (v' := nI t.length) (by rw [hM1, mSF_ne (by decide)]; exact hX.1) ?_
    have join59 : ∀ (c1 : Nat), (c1 = sgA t (s.1 + 1)) → J (g, z) (mput g h o ad M1) 0 59 [(0, .ref o), (1, .int (nI c0))] [.int (nI c1)] := by
      intro c1 hc1
      refine j_istore_n C (L' := [(2, .int (nI c1)), (0, .ref o), (1, .int (nI c0))]) dX4_readWord_59 rfl (jlt hnl (by decide)) rfl ?_
      refine j_aload_n C dX4_readWord_60 1 rfl rfl ?_
      refine j_iconst C (v := -1) dX4_readWord_61 (by decide) ?_
      refine jm_put23 C hO dX4_readWord_62 (fun M2 hM2 => ?_)
      have hRD2 : RD M2 t (s.1 + 1, s.2) := ⟨hX.cg (by rw [hM2, mSF_ne (by decide), hM1, mSF_ne (by decide)]) (by rw [hM2, hM1]; rfl), by rw [hM2, mSF_ne (by decide), hM1, mSF_eq], by rw [hM2, mSF_ne (by decide), hM1, mSF_ne (by decide)]; exact hR.2.2.1, hs⟩
      have hF2 : fr [21, 22, 23] [] M M2 := (fr.F hM1 (by decide)).tr (fr.F hM2 (by decide))
      have h23 : M2.1 23 = -1 := by rw [hM2, mSF_eq]
      have hb0 : c0 ≤ 126 := by rw [hc0]; exact sgA_le hX
      have hb1 : c1 ≤ 126 := by rw [hc1]; exact sgA_le hX
      refine j_iload_n C dX4_readWord_65 2 rfl rfl ?_
      refine j_bipush C (v := nI 114) dX4_readWord_66 (by decide) ?_
      refine j_icn_ne C (by omega) (by decide) (tgt := 85) dX4_readWord_68 (by decide) ?_ ?_
      · intro c68
        refine j_iload_n C dX4_readWord_85 2 rfl rfl ?_
        refine j_bipush C (v := nI 102) dX4_readWord_86 (by decide) ?_
        refine j_icn_ne C (by omega) (by decide) (tgt := 110) dX4_readWord_88 (by decide) ?_ ?_
        · intro c88
          refine j_iload_n C dX4_readWord_110 2 rfl rfl ?_
          refine j_bipush C (v := nI 108) dX4_readWord_111 (by decide) ?_
          refine j_icn_ne C (by omega) (by decide) (tgt := 135) dX4_readWord_113 (by decide) ?_ ?_
          · intro c113
            refine j_iload_n C dX4_readWord_135 2 rfl rfl ?_
            refine j_bipush C (v := nI 116) dX4_readWord_136 (by decide) ?_
            refine j_icn_ne C (by omega) (by decide) (tgt := 167) dX4_readWord_138 (by decide) ?_ ?_
            · intro c138
              refine j_iload_n C dX4_readWord_167 2 rfl rfl ?_
              refine j_bipush C (v := nI 116) dX4_readWord_168 (by decide) ?_
              refine j_icn_ne C (by omega) (by decide) (tgt := 193) dX4_readWord_170 (by decide) ?_ ?_
              · intro c170
                refine j_iload_n C dX4_readWord_193 2 rfl rfl ?_
                refine j_bipush C (v := nI 98) dX4_readWord_194 (by decide) ?_
                refine j_icn_ne C (by omega) (by decide) (tgt := 225) dX4_readWord_196 (by decide) ?_ ?_
                · intro c196
                  refine j_iload_n C dX4_readWord_225 2 rfl rfl ?_
                  refine j_bipush C (v := nI 98) dX4_readWord_226 (by decide) ?_
                  refine j_icn_ne C (by omega) (by decide) (tgt := 312) dX4_readWord_228 (by decide) ?_ ?_
                  · intro c228
                    refine j_aload_n C dX4_readWord_312 1 rfl rfl ?_
                    refine j_iconst C (v := nI 1) dX4_readWord_313 (by decide) ?_
                    refine jm_put22 C hO ⟨by decide, by decide⟩ dX4_readWord_314 (fun M3 hM3 => ?_)
                    refine j_aload_n C dX4_readWord_317 1 rfl rfl ?_
                    refine j_dup C dX4_readWord_318 rfl ?_
                    refine jm_get21 C dX4_readWord_319 ?_
                    refine j_ev (v' := nI (s.1 + 1)) (by rw [hM3, mSF_ne (by decide)]; exact hRD2.2.1) ?_
                    refine j_iconst C (v := nI 1) dX4_readWord_322 (by decide) ?_
                    refine j_isubn C (by omega) dX4_readWord_323 ?_
                    refine jm_put21 C hO dX4_readWord_324 (fun M4 hM4 => ?_)
                    exact j_vret C E (Nat.le_refl _) (⟨_, rfl, rfl, by unfold rdW; rw [← hc0, ← hc1, if_neg (show ¬ (c0 = 114) by omega), if_neg (show ¬ (c0 = 102) by omega), if_neg (show ¬ (c0 = 108) by omega), if_neg (show ¬ (c0 = 116 ∧ c1 = 105) by omega), if_neg (show ¬ (c0 = 116) by omega), if_neg (show ¬ (c0 = 98 ∧ c1 = 111) by omega), if_neg (show ¬ (c0 = 98) by omega)]; exact ⟨⟨hRD2.1.cg (by rw [hM4, mSF_ne (by decide), hM3, mSF_ne (by decide)]) (by rw [hM4, hM3]; rfl), by rw [hM4, mSF_eq, Nat.add_sub_cancel], by rw [hM4, mSF_ne (by decide), hM3, mSF_eq]; exact (pI_t rfl).symm, Nat.le_of_lt hs⟩, by rw [hM4, mSF_ne (by decide), hM3, mSF_ne (by decide)]; exact h23, (hF2.tr (fr.F hM3 (by decide))).tr (fr.F hM4 (by decide))⟩⟩) dX4_readWord_327
                  · intro c228
                    refine j_aload_n C dX4_readWord_231 1 rfl rfl ?_
                    refine j_bipush C (v := nI 97) dX4_readWord_232 (by decide) ?_
                    refine j_bipush C (v := nI 97) dX4_readWord_234 (by decide) ?_
                    refine jm_callR C hO (as := [.int (nI 97), .int (nI 97)]) (mc_takes G M2 t (s.1 + 1, s.2) hRD2 97 97 (by decide) (by decide)) mw_takes (by decide) (Nat.le_refl _) rfl (Nat.le_of_ble_eq_true rfl) dX4_readWord_236 (fun r6 M5 hM5 => ?_)
                    refine j_istore_n C (L' := [(3, .int r6), (2, .int (nI c1)), (0, .ref o), (1, .int (nI c0))]) dX4_readWord_239 rfl (jlt hnl (by decide)) rfl ?_
                    refine j_aload_n C dX4_readWord_240 2 rfl rfl ?_
                    refine j_aload_n C dX4_readWord_241 2 rfl rfl ?_
                    refine j_bipush C (v := nI 117) dX4_readWord_242 (by decide) ?_
                    refine j_bipush C (v := nI 117) dX4_readWord_244 (by decide) ?_
                    refine jm_callQ C hO (as := [.int (nI 117), .int (nI 117)]) (mc_isNext G M5 t (tkS t 97 97 (s.1 + 1, s.2)) hM5.2.1 117 117 (by decide) (by decide)) mw_isNext (by decide) (Nat.le_refl _) rfl (Nat.le_of_ble_eq_true rfl) dX4_readWord_246 ?_
                    refine j_ifp_eq C (tgt := 256) dX4_readWord_249 (by decide) ?_ ?_
                    · intro c249
                      refine j_iconst C (v := nI 3) dX4_readWord_256 (by decide) ?_
                      refine jm_put23 C hO dX4_readWord_257 (fun M7 hM7 => ?_)
                      refine j_aload_n C dX4_readWord_260 2 rfl rfl ?_
                      refine j_aload_n C dX4_readWord_261 2 rfl rfl ?_
                      refine jm_get23 C dX4_readWord_262 ?_
                      refine j_ev (v' := nI 3) (by rw [hM7, mSF_eq]) ?_
                      refine j_iconst C (v := nI 2) dX4_readWord_265 (by decide) ?_
                      refine j_icn_ne C (by decide) (by decide) (tgt := 274) dX4_readWord_266 (by decide) ?_ ?_
                      · intro c266
                        refine j_bipush C (v := nI 99) dX4_readWord_274 (by decide) ?_
                        refine j_aload_n C dX4_readWord_276 2 rfl rfl ?_
                        refine jm_get23 C dX4_readWord_277 ?_
                        refine j_ev (v' := nI 3) (by rw [hM7, mSF_eq]) ?_
                        refine j_iconst C (v := nI 2) dX4_readWord_280 (by decide) ?_
                        refine j_icn_ne C (by decide) (by decide) (tgt := 289) dX4_readWord_281 (by decide) ?_ ?_
                        · intro c281
                          refine j_bipush C (v := nI 107) dX4_readWord_289 (by decide) ?_
                          refine j_aload_n C dX4_readWord_291 2 rfl rfl ?_
                          refine jm_get23 C dX4_readWord_292 ?_
                          refine j_ev (v' := nI 3) (by rw [hM7, mSF_eq]) ?_
                          refine j_iconst C (v := nI 2) dX4_readWord_295 (by decide) ?_
                          refine j_icn_ne C (by decide) (by decide) (tgt := 304) dX4_readWord_296 (by decide) ?_ ?_
                          · intro c296
                            refine j_iconst C (v := nI 0) dX4_readWord_304 (by decide) ?_
                            refine j_iconst C (v := nI 0) dX4_readWord_305 (by decide) ?_
                            refine jm_callV C hO (as := [.int (nI 99), .int (nI 107), .int (nI 0), .int (nI 0)]) (mc_takesAll G M7 t (tkS t 97 97 (s.1 + 1, s.2)) (hM5.2.1.fr (fr.F (F := [23]) hM7 (by decide)) (by decide) (by decide) (by decide)) 99 107 0 0 (by decide) (by decide) (by decide) (by decide)) mw_takesAll (by decide) (Nat.le_refl _) rfl (Nat.le_of_ble_eq_true rfl) dX4_readWord_306 (fun M8 hM8 => ?_)
                            refine j_goto C (tgt := 327) dX4_readWord_309 (by decide) ?_
                            exact j_vret C E (Nat.le_refl _) (⟨_, rfl, rfl, by unfold rdW; rw [← hc0, ← hc1, if_neg (show ¬ (c0 = 114) by omega), if_neg (show ¬ (c0 = 102) by omega), if_neg (show ¬ (c0 = 108) by omega), if_neg (show ¬ (c0 = 116 ∧ c1 = 105) by omega), if_neg (show ¬ (c0 = 116) by omega), if_neg (show ¬ (c0 = 98 ∧ c1 = 111) by omega), if_pos (show c0 = 98 by omega), if_neg c249]; exact ⟨hM8.1, by rw [hM8.2.1 23 (by decide), hM7, mSF_eq]; rfl, ((hF2.tr (hM5.2.2.sub (by decide))).tr (fr.F hM7 (by decide))).tr (hM8.2.sub (by decide))⟩⟩) dX4_readWord_327
                          · intro c296
                            omega
                        · intro c281
                          omega
                      · intro c266
                        omega
                    · intro c249
                      refine j_iconst C (v := nI 2) dX4_readWord_252 (by decide) ?_
                      refine j_goto C (tgt := 257) dX4_readWord_253 (by decide) ?_
                      refine jm_put23 C hO dX4_readWord_257 (fun M9 hM9 => ?_)
                      refine j_aload_n C dX4_readWord_260 2 rfl rfl ?_
                      refine j_aload_n C dX4_readWord_261 2 rfl rfl ?_
                      refine jm_get23 C dX4_readWord_262 ?_
                      refine j_ev (v' := nI 2) (by rw [hM9, mSF_eq]) ?_
                      refine j_iconst C (v := nI 2) dX4_readWord_265 (by decide) ?_
                      refine j_icn_ne C (by decide) (by decide) (tgt := 274) dX4_readWord_266 (by decide) ?_ ?_
                      · intro c266
                        omega
                      · intro c266
                        refine j_bipush C (v := nI 117) dX4_readWord_269 (by decide) ?_
                        refine j_goto C (tgt := 276) dX4_readWord_271 (by decide) ?_
                        refine j_aload_n C dX4_readWord_276 2 rfl rfl ?_
                        refine jm_get23 C dX4_readWord_277 ?_
                        refine j_ev (v' := nI 2) (by rw [hM9, mSF_eq]) ?_
                        refine j_iconst C (v := nI 2) dX4_readWord_280 (by decide) ?_
                        refine j_icn_ne C (by decide) (by decide) (tgt := 289) dX4_readWord_281 (by decide) ?_ ?_
                        · intro c281
                          omega
                        · intro c281
                          refine j_bipush C (v := nI 108) dX4_readWord_284 (by decide) ?_
                          refine j_goto C (tgt := 291) dX4_readWord_286 (by decide) ?_
                          refine j_aload_n C dX4_readWord_291 2 rfl rfl ?_
                          refine jm_get23 C dX4_readWord_292 ?_
                          refine j_ev (v' := nI 2) (by rw [hM9, mSF_eq]) ?_
                          refine j_iconst C (v := nI 2) dX4_readWord_295 (by decide) ?_
                          refine j_icn_ne C (by decide) (by decide) (tgt := 304) dX4_readWord_296 (by decide) ?_ ?_
                          · intro c296
                            omega
                          · intro c296
                            refine j_bipush C (v := nI 107) dX4_readWord_299 (by decide) ?_
                            refine j_goto C (tgt := 305) dX4_readWord_301 (by decide) ?_
                            refine j_iconst C (v := nI 0) dX4_readWord_305 (by decide) ?_
                            refine jm_callV C hO (as := [.int (nI 117), .int (nI 108), .int (nI 107), .int (nI 0)]) (mc_takesAll G M9 t (tkS t 97 97 (s.1 + 1, s.2)) (hM5.2.1.fr (fr.F (F := [23]) hM9 (by decide)) (by decide) (by decide) (by decide)) 117 108 107 0 (by decide) (by decide) (by decide) (by decide)) mw_takesAll (by decide) (Nat.le_refl _) rfl (Nat.le_of_ble_eq_true rfl) dX4_readWord_306 (fun M10 hM10 => ?_)
                            refine j_goto C (tgt := 327) dX4_readWord_309 (by decide) ?_
                            exact j_vret C E (Nat.le_refl _) (⟨_, rfl, rfl, by unfold rdW; rw [← hc0, ← hc1, if_neg (show ¬ (c0 = 114) by omega), if_neg (show ¬ (c0 = 102) by omega), if_neg (show ¬ (c0 = 108) by omega), if_neg (show ¬ (c0 = 116 ∧ c1 = 105) by omega), if_neg (show ¬ (c0 = 116) by omega), if_neg (show ¬ (c0 = 98 ∧ c1 = 111) by omega), if_pos (show c0 = 98 by omega), if_pos c249]; exact ⟨hM10.1, by rw [hM10.2.1 23 (by decide), hM9, mSF_eq]; rfl, ((hF2.tr (hM5.2.2.sub (by decide))).tr (fr.F hM9 (by decide))).tr (hM10.2.sub (by decide))⟩⟩) dX4_readWord_327
                · intro c196
                  refine j_iload_n C dX4_readWord_199 0 rfl rfl ?_
                  refine j_bipush C (v := nI 111) dX4_readWord_200 (by decide) ?_
                  refine j_icn_ne C (by omega) (by decide) (tgt := 225) dX4_readWord_202 (by decide) ?_ ?_
                  · intro c202
                    refine j_iload_n C dX4_readWord_225 2 rfl rfl ?_
                    refine j_bipush C (v := nI 98) dX4_readWord_226 (by decide) ?_
                    refine j_icn_ne C (by omega) (by decide) (tgt := 312) dX4_readWord_228 (by decide) ?_ ?_
                    · intro c228
                      refine j_aload_n C dX4_readWord_312 1 rfl rfl ?_
                      refine j_iconst C (v := nI 1) dX4_readWord_313 (by decide) ?_
                      refine jm_put22 C hO ⟨by decide, by decide⟩ dX4_readWord_314 (fun M11 hM11 => ?_)
                      refine j_aload_n C dX4_readWord_317 1 rfl rfl ?_
                      refine j_dup C dX4_readWord_318 rfl ?_
                      refine jm_get21 C dX4_readWord_319 ?_
                      refine j_ev (v' := nI (s.1 + 1)) (by rw [hM11, mSF_ne (by decide)]; exact hRD2.2.1) ?_
                      refine j_iconst C (v := nI 1) dX4_readWord_322 (by decide) ?_
                      refine j_isubn C (by omega) dX4_readWord_323 ?_
                      refine jm_put21 C hO dX4_readWord_324 (fun M12 hM12 => ?_)
                      exact j_vret C E (Nat.le_refl _) (⟨_, rfl, rfl, by unfold rdW; rw [← hc0, ← hc1, if_neg (show ¬ (c0 = 114) by omega), if_neg (show ¬ (c0 = 102) by omega), if_neg (show ¬ (c0 = 108) by omega), if_neg (show ¬ (c0 = 116 ∧ c1 = 105) by omega), if_neg (show ¬ (c0 = 116) by omega), if_neg (show ¬ (c0 = 98 ∧ c1 = 111) by omega), if_neg (show ¬ (c0 = 98) by omega)]; exact ⟨⟨hRD2.1.cg (by rw [hM12, mSF_ne (by decide), hM11, mSF_ne (by decide)]) (by rw [hM12, hM11]; rfl), by rw [hM12, mSF_eq, Nat.add_sub_cancel], by rw [hM12, mSF_ne (by decide), hM11, mSF_eq]; exact (pI_t rfl).symm, Nat.le_of_lt hs⟩, by rw [hM12, mSF_ne (by decide), hM11, mSF_ne (by decide)]; exact h23, (hF2.tr (fr.F hM11 (by decide))).tr (fr.F hM12 (by decide))⟩⟩) dX4_readWord_327
                    · intro c228
                      refine j_aload_n C dX4_readWord_231 1 rfl rfl ?_
                      refine j_bipush C (v := nI 97) dX4_readWord_232 (by decide) ?_
                      refine j_bipush C (v := nI 97) dX4_readWord_234 (by decide) ?_
                      refine jm_callR C hO (as := [.int (nI 97), .int (nI 97)]) (mc_takes G M2 t (s.1 + 1, s.2) hRD2 97 97 (by decide) (by decide)) mw_takes (by decide) (Nat.le_refl _) rfl (Nat.le_of_ble_eq_true rfl) dX4_readWord_236 (fun r14 M13 hM13 => ?_)
                      refine j_istore_n C (L' := [(3, .int r14), (2, .int (nI c1)), (0, .ref o), (1, .int (nI c0))]) dX4_readWord_239 rfl (jlt hnl (by decide)) rfl ?_
                      refine j_aload_n C dX4_readWord_240 2 rfl rfl ?_
                      refine j_aload_n C dX4_readWord_241 2 rfl rfl ?_
                      refine j_bipush C (v := nI 117) dX4_readWord_242 (by decide) ?_
                      refine j_bipush C (v := nI 117) dX4_readWord_244 (by decide) ?_
                      refine jm_callQ C hO (as := [.int (nI 117), .int (nI 117)]) (mc_isNext G M13 t (tkS t 97 97 (s.1 + 1, s.2)) hM13.2.1 117 117 (by decide) (by decide)) mw_isNext (by decide) (Nat.le_refl _) rfl (Nat.le_of_ble_eq_true rfl) dX4_readWord_246 ?_
                      refine j_ifp_eq C (tgt := 256) dX4_readWord_249 (by decide) ?_ ?_
                      · intro c249
                        refine j_iconst C (v := nI 3) dX4_readWord_256 (by decide) ?_
                        refine jm_put23 C hO dX4_readWord_257 (fun M15 hM15 => ?_)
                        refine j_aload_n C dX4_readWord_260 2 rfl rfl ?_
                        refine j_aload_n C dX4_readWord_261 2 rfl rfl ?_
                        refine jm_get23 C dX4_readWord_262 ?_
                        refine j_ev (v' := nI 3) (by rw [hM15, mSF_eq]) ?_
                        refine j_iconst C (v := nI 2) dX4_readWord_265 (by decide) ?_
                        refine j_icn_ne C (by decide) (by decide) (tgt := 274) dX4_readWord_266 (by decide) ?_ ?_
                        · intro c266
                          refine j_bipush C (v := nI 99) dX4_readWord_274 (by decide) ?_
                          refine j_aload_n C dX4_readWord_276 2 rfl rfl ?_
                          refine jm_get23 C dX4_readWord_277 ?_
                          refine j_ev (v' := nI 3) (by rw [hM15, mSF_eq]) ?_
                          refine j_iconst C (v := nI 2) dX4_readWord_280 (by decide) ?_
                          refine j_icn_ne C (by decide) (by decide) (tgt := 289) dX4_readWord_281 (by decide) ?_ ?_
                          · intro c281
                            refine j_bipush C (v := nI 107) dX4_readWord_289 (by decide) ?_
                            refine j_aload_n C dX4_readWord_291 2 rfl rfl ?_
                            refine jm_get23 C dX4_readWord_292 ?_
                            refine j_ev (v' := nI 3) (by rw [hM15, mSF_eq]) ?_
                            refine j_iconst C (v := nI 2) dX4_readWord_295 (by decide) ?_
                            refine j_icn_ne C (by decide) (by decide) (tgt := 304) dX4_readWord_296 (by decide) ?_ ?_
                            · intro c296
                              refine j_iconst C (v := nI 0) dX4_readWord_304 (by decide) ?_
                              refine j_iconst C (v := nI 0) dX4_readWord_305 (by decide) ?_
                              refine jm_callV C hO (as := [.int (nI 99), .int (nI 107), .int (nI 0), .int (nI 0)]) (mc_takesAll G M15 t (tkS t 97 97 (s.1 + 1, s.2)) (hM13.2.1.fr (fr.F (F := [23]) hM15 (by decide)) (by decide) (by decide) (by decide)) 99 107 0 0 (by decide) (by decide) (by decide) (by decide)) mw_takesAll (by decide) (Nat.le_refl _) rfl (Nat.le_of_ble_eq_true rfl) dX4_readWord_306 (fun M16 hM16 => ?_)
                              refine j_goto C (tgt := 327) dX4_readWord_309 (by decide) ?_
                              exact j_vret C E (Nat.le_refl _) (⟨_, rfl, rfl, by unfold rdW; rw [← hc0, ← hc1, if_neg (show ¬ (c0 = 114) by omega), if_neg (show ¬ (c0 = 102) by omega), if_neg (show ¬ (c0 = 108) by omega), if_neg (show ¬ (c0 = 116 ∧ c1 = 105) by omega), if_neg (show ¬ (c0 = 116) by omega), if_neg (show ¬ (c0 = 98 ∧ c1 = 111) by omega), if_pos (show c0 = 98 by omega), if_neg c249]; exact ⟨hM16.1, by rw [hM16.2.1 23 (by decide), hM15, mSF_eq]; rfl, ((hF2.tr (hM13.2.2.sub (by decide))).tr (fr.F hM15 (by decide))).tr (hM16.2.sub (by decide))⟩⟩) dX4_readWord_327
                            · intro c296
                              omega
                          · intro c281
                            omega
                        · intro c266
                          omega
                      · intro c249
                        refine j_iconst C (v := nI 2) dX4_readWord_252 (by decide) ?_
                        refine j_goto C (tgt := 257) dX4_readWord_253 (by decide) ?_
                        refine jm_put23 C hO dX4_readWord_257 (fun M17 hM17 => ?_)
                        refine j_aload_n C dX4_readWord_260 2 rfl rfl ?_
                        refine j_aload_n C dX4_readWord_261 2 rfl rfl ?_
                        refine jm_get23 C dX4_readWord_262 ?_
                        refine j_ev (v' := nI 2) (by rw [hM17, mSF_eq]) ?_
                        refine j_iconst C (v := nI 2) dX4_readWord_265 (by decide) ?_
                        refine j_icn_ne C (by decide) (by decide) (tgt := 274) dX4_readWord_266 (by decide) ?_ ?_
                        · intro c266
                          omega
                        · intro c266
                          refine j_bipush C (v := nI 117) dX4_readWord_269 (by decide) ?_
                          refine j_goto C (tgt := 276) dX4_readWord_271 (by decide) ?_
                          refine j_aload_n C dX4_readWord_276 2 rfl rfl ?_
                          refine jm_get23 C dX4_readWord_277 ?_
                          refine j_ev (v' := nI 2) (by rw [hM17, mSF_eq]) ?_
                          refine j_iconst C (v := nI 2) dX4_readWord_280 (by decide) ?_
                          refine j_icn_ne C (by decide) (by decide) (tgt := 289) dX4_readWord_281 (by decide) ?_ ?_
                          · intro c281
                            omega
                          · intro c281
                            refine j_bipush C (v := nI 108) dX4_readWord_284 (by decide) ?_
                            refine j_goto C (tgt := 291) dX4_readWord_286 (by decide) ?_
                            refine j_aload_n C dX4_readWord_291 2 rfl rfl ?_
                            refine jm_get23 C dX4_readWord_292 ?_
                            refine j_ev (v' := nI 2) (by rw [hM17, mSF_eq]) ?_
                            refine j_iconst C (v := nI 2) dX4_readWord_295 (by decide) ?_
                            refine j_icn_ne C (by decide) (by decide) (tgt := 304) dX4_readWord_296 (by decide) ?_ ?_
                            · intro c296
                              omega
                            · intro c296
                              refine j_bipush C (v := nI 107) dX4_readWord_299 (by decide) ?_
                              refine j_goto C (tgt := 305) dX4_readWord_301 (by decide) ?_
                              refine j_iconst C (v := nI 0) dX4_readWord_305 (by decide) ?_
                              refine jm_callV C hO (as := [.int (nI 117), .int (nI 108), .int (nI 107), .int (nI 0)]) (mc_takesAll G M17 t (tkS t 97 97 (s.1 + 1, s.2)) (hM13.2.1.fr (fr.F (F := [23]) hM17 (by decide)) (by decide) (by decide) (by decide)) 117 108 107 0 (by decide) (by decide) (by decide) (by decide)) mw_takesAll (by decide) (Nat.le_refl _) rfl (Nat.le_of_ble_eq_true rfl) dX4_readWord_306 (fun M18 hM18 => ?_)
                              refine j_goto C (tgt := 327) dX4_readWord_309 (by decide) ?_
                              exact j_vret C E (Nat.le_refl _) (⟨_, rfl, rfl, by unfold rdW; rw [← hc0, ← hc1, if_neg (show ¬ (c0 = 114) by omega), if_neg (show ¬ (c0 = 102) by omega), if_neg (show ¬ (c0 = 108) by omega), if_neg (show ¬ (c0 = 116 ∧ c1 = 105) by omega), if_neg (show ¬ (c0 = 116) by omega), if_neg (show ¬ (c0 = 98 ∧ c1 = 111) by omega), if_pos (show c0 = 98 by omega), if_pos c249]; exact ⟨hM18.1, by rw [hM18.2.1 23 (by decide), hM17, mSF_eq]; rfl, ((hF2.tr (hM13.2.2.sub (by decide))).tr (fr.F hM17 (by decide))).tr (hM18.2.sub (by decide))⟩⟩) dX4_readWord_327
                  · intro c202
                    refine j_aload_n C dX4_readWord_205 1 rfl rfl ?_
                    refine j_iconst C (v := nI 1) dX4_readWord_206 (by decide) ?_
                    refine jm_put23 C hO dX4_readWord_207 (fun M19 hM19 => ?_)
                    refine j_aload_n C dX4_readWord_210 1 rfl rfl ?_
                    refine j_bipush C (v := nI 111) dX4_readWord_211 (by decide) ?_
                    refine j_bipush C (v := nI 110) dX4_readWord_213 (by decide) ?_
                    refine j_bipush C (v := nI 117) dX4_readWord_215 (by decide) ?_
                    refine j_bipush C (v := nI 115) dX4_readWord_217 (by decide) ?_
                    refine jm_callV C hO (as := [.int (nI 111), .int (nI 110), .int (nI 117), .int (nI 115)]) (mc_takesAll G M19 t (s.1 + 1, s.2) (hRD2.fr (fr.F (F := [23]) hM19 (by decide)) (by decide) (by decide) (by decide)) 111 110 117 115 (by decide) (by decide) (by decide) (by decide)) mw_takesAll (by decide) (Nat.le_refl _) rfl (Nat.le_of_ble_eq_true rfl) dX4_readWord_219 (fun M20 hM20 => ?_)
                    refine j_goto C (tgt := 327) dX4_readWord_222 (by decide) ?_
                    exact j_vret C E (Nat.le_refl _) (⟨_, rfl, rfl, by unfold rdW; rw [← hc0, ← hc1, if_neg (show ¬ (c0 = 114) by omega), if_neg (show ¬ (c0 = 102) by omega), if_neg (show ¬ (c0 = 108) by omega), if_neg (show ¬ (c0 = 116 ∧ c1 = 105) by omega), if_neg (show ¬ (c0 = 116) by omega), if_pos (show c0 = 98 ∧ c1 = 111 by omega)]; exact ⟨hM20.1, by rw [hM20.2.1 23 (by decide), hM19, mSF_eq]; rfl, (hF2.tr (fr.F hM19 (by decide))).tr (hM20.2.sub (by decide))⟩⟩) dX4_readWord_327
              · intro c170
                refine j_aload_n C dX4_readWord_173 1 rfl rfl ?_
                refine j_iconst C (v := nI 0) dX4_readWord_174 (by decide) ?_
                refine jm_put23 C hO dX4_readWord_175 (fun M21 hM21 => ?_)
                refine j_aload_n C dX4_readWord_178 1 rfl rfl ?_
                refine j_bipush C (v := nI 111) dX4_readWord_179 (by decide) ?_
                refine j_bipush C (v := nI 117) dX4_readWord_181 (by decide) ?_
                refine j_bipush C (v := nI 99) dX4_readWord_183 (by decide) ?_
                refine j_bipush C (v := nI 104) dX4_readWord_185 (by decide) ?_
                refine jm_callV C hO (as := [.int (nI 111), .int (nI 117), .int (nI 99), .int (nI 104)]) (mc_takesAll G M21 t (s.1 + 1, s.2) (hRD2.fr (fr.F (F := [23]) hM21 (by decide)) (by decide) (by decide) (by decide)) 111 117 99 104 (by decide) (by decide) (by decide) (by decide)) mw_takesAll (by decide) (Nat.le_refl _) rfl (Nat.le_of_ble_eq_true rfl) dX4_readWord_187 (fun M22 hM22 => ?_)
                refine j_goto C (tgt := 327) dX4_readWord_190 (by decide) ?_
                exact j_vret C E (Nat.le_refl _) (⟨_, rfl, rfl, by unfold rdW; rw [← hc0, ← hc1, if_neg (show ¬ (c0 = 114) by omega), if_neg (show ¬ (c0 = 102) by omega), if_neg (show ¬ (c0 = 108) by omega), if_neg (show ¬ (c0 = 116 ∧ c1 = 105) by omega), if_pos (show c0 = 116 by omega)]; exact ⟨hM22.1, by rw [hM22.2.1 23 (by decide), hM21, mSF_eq]; rfl, (hF2.tr (fr.F hM21 (by decide))).tr (hM22.2.sub (by decide))⟩⟩) dX4_readWord_327
            · intro c138
              refine j_iload_n C dX4_readWord_141 0 rfl rfl ?_
              refine j_bipush C (v := nI 105) dX4_readWord_142 (by decide) ?_
              refine j_icn_ne C (by omega) (by decide) (tgt := 167) dX4_readWord_144 (by decide) ?_ ?_
              · intro c144
                refine j_iload_n C dX4_readWord_167 2 rfl rfl ?_
                refine j_bipush C (v := nI 116) dX4_readWord_168 (by decide) ?_
                refine j_icn_ne C (by omega) (by decide) (tgt := 193) dX4_readWord_170 (by decide) ?_ ?_
                · intro c170
                  refine j_iload_n C dX4_readWord_193 2 rfl rfl ?_
                  refine j_bipush C (v := nI 98) dX4_readWord_194 (by decide) ?_
                  refine j_icn_ne C (by omega) (by decide) (tgt := 225) dX4_readWord_196 (by decide) ?_ ?_
                  · intro c196
                    refine j_iload_n C dX4_readWord_225 2 rfl rfl ?_
                    refine j_bipush C (v := nI 98) dX4_readWord_226 (by decide) ?_
                    refine j_icn_ne C (by omega) (by decide) (tgt := 312) dX4_readWord_228 (by decide) ?_ ?_
                    · intro c228
                      refine j_aload_n C dX4_readWord_312 1 rfl rfl ?_
                      refine j_iconst C (v := nI 1) dX4_readWord_313 (by decide) ?_
                      refine jm_put22 C hO ⟨by decide, by decide⟩ dX4_readWord_314 (fun M23 hM23 => ?_)
                      refine j_aload_n C dX4_readWord_317 1 rfl rfl ?_
                      refine j_dup C dX4_readWord_318 rfl ?_
                      refine jm_get21 C dX4_readWord_319 ?_
                      refine j_ev (v' := nI (s.1 + 1)) (by rw [hM23, mSF_ne (by decide)]; exact hRD2.2.1) ?_
                      refine j_iconst C (v := nI 1) dX4_readWord_322 (by decide) ?_
                      refine j_isubn C (by omega) dX4_readWord_323 ?_
                      refine jm_put21 C hO dX4_readWord_324 (fun M24 hM24 => ?_)
                      exact j_vret C E (Nat.le_refl _) (⟨_, rfl, rfl, by unfold rdW; rw [← hc0, ← hc1, if_neg (show ¬ (c0 = 114) by omega), if_neg (show ¬ (c0 = 102) by omega), if_neg (show ¬ (c0 = 108) by omega), if_neg (show ¬ (c0 = 116 ∧ c1 = 105) by omega), if_neg (show ¬ (c0 = 116) by omega), if_neg (show ¬ (c0 = 98 ∧ c1 = 111) by omega), if_neg (show ¬ (c0 = 98) by omega)]; exact ⟨⟨hRD2.1.cg (by rw [hM24, mSF_ne (by decide), hM23, mSF_ne (by decide)]) (by rw [hM24, hM23]; rfl), by rw [hM24, mSF_eq, Nat.add_sub_cancel], by rw [hM24, mSF_ne (by decide), hM23, mSF_eq]; exact (pI_t rfl).symm, Nat.le_of_lt hs⟩, by rw [hM24, mSF_ne (by decide), hM23, mSF_ne (by decide)]; exact h23, (hF2.tr (fr.F hM23 (by decide))).tr (fr.F hM24 (by decide))⟩⟩) dX4_readWord_327
                    · intro c228
                      refine j_aload_n C dX4_readWord_231 1 rfl rfl ?_
                      refine j_bipush C (v := nI 97) dX4_readWord_232 (by decide) ?_
                      refine j_bipush C (v := nI 97) dX4_readWord_234 (by decide) ?_
                      refine jm_callR C hO (as := [.int (nI 97), .int (nI 97)]) (mc_takes G M2 t (s.1 + 1, s.2) hRD2 97 97 (by decide) (by decide)) mw_takes (by decide) (Nat.le_refl _) rfl (Nat.le_of_ble_eq_true rfl) dX4_readWord_236 (fun r26 M25 hM25 => ?_)
                      refine j_istore_n C (L' := [(3, .int r26), (2, .int (nI c1)), (0, .ref o), (1, .int (nI c0))]) dX4_readWord_239 rfl (jlt hnl (by decide)) rfl ?_
                      refine j_aload_n C dX4_readWord_240 2 rfl rfl ?_
                      refine j_aload_n C dX4_readWord_241 2 rfl rfl ?_
                      refine j_bipush C (v := nI 117) dX4_readWord_242 (by decide) ?_
                      refine j_bipush C (v := nI 117) dX4_readWord_244 (by decide) ?_
                      refine jm_callQ C hO (as := [.int (nI 117), .int (nI 117)]) (mc_isNext G M25 t (tkS t 97 97 (s.1 + 1, s.2)) hM25.2.1 117 117 (by decide) (by decide)) mw_isNext (by decide) (Nat.le_refl _) rfl (Nat.le_of_ble_eq_true rfl) dX4_readWord_246 ?_
                      refine j_ifp_eq C (tgt := 256) dX4_readWord_249 (by decide) ?_ ?_
                      · intro c249
                        refine j_iconst C (v := nI 3) dX4_readWord_256 (by decide) ?_
                        refine jm_put23 C hO dX4_readWord_257 (fun M27 hM27 => ?_)
                        refine j_aload_n C dX4_readWord_260 2 rfl rfl ?_
                        refine j_aload_n C dX4_readWord_261 2 rfl rfl ?_
                        refine jm_get23 C dX4_readWord_262 ?_
                        refine j_ev (v' := nI 3) (by rw [hM27, mSF_eq]) ?_
                        refine j_iconst C (v := nI 2) dX4_readWord_265 (by decide) ?_
                        refine j_icn_ne C (by decide) (by decide) (tgt := 274) dX4_readWord_266 (by decide) ?_ ?_
                        · intro c266
                          refine j_bipush C (v := nI 99) dX4_readWord_274 (by decide) ?_
                          refine j_aload_n C dX4_readWord_276 2 rfl rfl ?_
                          refine jm_get23 C dX4_readWord_277 ?_
                          refine j_ev (v' := nI 3) (by rw [hM27, mSF_eq]) ?_
                          refine j_iconst C (v := nI 2) dX4_readWord_280 (by decide) ?_
                          refine j_icn_ne C (by decide) (by decide) (tgt := 289) dX4_readWord_281 (by decide) ?_ ?_
                          · intro c281
                            refine j_bipush C (v := nI 107) dX4_readWord_289 (by decide) ?_
                            refine j_aload_n C dX4_readWord_291 2 rfl rfl ?_
                            refine jm_get23 C dX4_readWord_292 ?_
                            refine j_ev (v' := nI 3) (by rw [hM27, mSF_eq]) ?_
                            refine j_iconst C (v := nI 2) dX4_readWord_295 (by decide) ?_
                            refine j_icn_ne C (by decide) (by decide) (tgt := 304) dX4_readWord_296 (by decide) ?_ ?_
                            · intro c296
                              refine j_iconst C (v := nI 0) dX4_readWord_304 (by decide) ?_
                              refine j_iconst C (v := nI 0) dX4_readWord_305 (by decide) ?_
                              refine jm_callV C hO (as := [.int (nI 99), .int (nI 107), .int (nI 0), .int (nI 0)]) (mc_takesAll G M27 t (tkS t 97 97 (s.1 + 1, s.2)) (hM25.2.1.fr (fr.F (F := [23]) hM27 (by decide)) (by decide) (by decide) (by decide)) 99 107 0 0 (by decide) (by decide) (by decide) (by decide)) mw_takesAll (by decide) (Nat.le_refl _) rfl (Nat.le_of_ble_eq_true rfl) dX4_readWord_306 (fun M28 hM28 => ?_)
                              refine j_goto C (tgt := 327) dX4_readWord_309 (by decide) ?_
                              exact j_vret C E (Nat.le_refl _) (⟨_, rfl, rfl, by unfold rdW; rw [← hc0, ← hc1, if_neg (show ¬ (c0 = 114) by omega), if_neg (show ¬ (c0 = 102) by omega), if_neg (show ¬ (c0 = 108) by omega), if_neg (show ¬ (c0 = 116 ∧ c1 = 105) by omega), if_neg (show ¬ (c0 = 116) by omega), if_neg (show ¬ (c0 = 98 ∧ c1 = 111) by omega), if_pos (show c0 = 98 by omega), if_neg c249]; exact ⟨hM28.1, by rw [hM28.2.1 23 (by decide), hM27, mSF_eq]; rfl, ((hF2.tr (hM25.2.2.sub (by decide))).tr (fr.F hM27 (by decide))).tr (hM28.2.sub (by decide))⟩⟩) dX4_readWord_327
                            · intro c296
                              omega
                          · intro c281
                            omega
                        · intro c266
                          omega
                      · intro c249
                        refine j_iconst C (v := nI 2) dX4_readWord_252 (by decide) ?_
                        refine j_goto C (tgt := 257) dX4_readWord_253 (by decide) ?_
                        refine jm_put23 C hO dX4_readWord_257 (fun M29 hM29 => ?_)
                        refine j_aload_n C dX4_readWord_260 2 rfl rfl ?_
                        refine j_aload_n C dX4_readWord_261 2 rfl rfl ?_
                        refine jm_get23 C dX4_readWord_262 ?_
                        refine j_ev (v' := nI 2) (by rw [hM29, mSF_eq]) ?_
                        refine j_iconst C (v := nI 2) dX4_readWord_265 (by decide) ?_
                        refine j_icn_ne C (by decide) (by decide) (tgt := 274) dX4_readWord_266 (by decide) ?_ ?_
                        · intro c266
                          omega
                        · intro c266
                          refine j_bipush C (v := nI 117) dX4_readWord_269 (by decide) ?_
                          refine j_goto C (tgt := 276) dX4_readWord_271 (by decide) ?_
                          refine j_aload_n C dX4_readWord_276 2 rfl rfl ?_
                          refine jm_get23 C dX4_readWord_277 ?_
                          refine j_ev (v' := nI 2) (by rw [hM29, mSF_eq]) ?_
                          refine j_iconst C (v := nI 2) dX4_readWord_280 (by decide) ?_
                          refine j_icn_ne C (by decide) (by decide) (tgt := 289) dX4_readWord_281 (by decide) ?_ ?_
                          · intro c281
                            omega
                          · intro c281
                            refine j_bipush C (v := nI 108) dX4_readWord_284 (by decide) ?_
                            refine j_goto C (tgt := 291) dX4_readWord_286 (by decide) ?_
                            refine j_aload_n C dX4_readWord_291 2 rfl rfl ?_
                            refine jm_get23 C dX4_readWord_292 ?_
                            refine j_ev (v' := nI 2) (by rw [hM29, mSF_eq]) ?_
                            refine j_iconst C (v := nI 2) dX4_readWord_295 (by decide) ?_
                            refine j_icn_ne C (by decide) (by decide) (tgt := 304) dX4_readWord_296 (by decide) ?_ ?_
                            · intro c296
                              omega
                            · intro c296
                              refine j_bipush C (v := nI 107) dX4_readWord_299 (by decide) ?_
                              refine j_goto C (tgt := 305) dX4_readWord_301 (by decide) ?_
                              refine j_iconst C (v := nI 0) dX4_readWord_305 (by decide) ?_
                              refine jm_callV C hO (as := [.int (nI 117), .int (nI 108), .int (nI 107), .int (nI 0)]) (mc_takesAll G M29 t (tkS t 97 97 (s.1 + 1, s.2)) (hM25.2.1.fr (fr.F (F := [23]) hM29 (by decide)) (by decide) (by decide) (by decide)) 117 108 107 0 (by decide) (by decide) (by decide) (by decide)) mw_takesAll (by decide) (Nat.le_refl _) rfl (Nat.le_of_ble_eq_true rfl) dX4_readWord_306 (fun M30 hM30 => ?_)
                              refine j_goto C (tgt := 327) dX4_readWord_309 (by decide) ?_
                              exact j_vret C E (Nat.le_refl _) (⟨_, rfl, rfl, by unfold rdW; rw [← hc0, ← hc1, if_neg (show ¬ (c0 = 114) by omega), if_neg (show ¬ (c0 = 102) by omega), if_neg (show ¬ (c0 = 108) by omega), if_neg (show ¬ (c0 = 116 ∧ c1 = 105) by omega), if_neg (show ¬ (c0 = 116) by omega), if_neg (show ¬ (c0 = 98 ∧ c1 = 111) by omega), if_pos (show c0 = 98 by omega), if_pos c249]; exact ⟨hM30.1, by rw [hM30.2.1 23 (by decide), hM29, mSF_eq]; rfl, ((hF2.tr (hM25.2.2.sub (by decide))).tr (fr.F hM29 (by decide))).tr (hM30.2.sub (by decide))⟩⟩) dX4_readWord_327
                  · intro c196
                    refine j_iload_n C dX4_readWord_199 0 rfl rfl ?_
                    refine j_bipush C (v := nI 111) dX4_readWord_200 (by decide) ?_
                    refine j_icn_ne C (by omega) (by decide) (tgt := 225) dX4_readWord_202 (by decide) ?_ ?_
                    · intro c202
                      refine j_iload_n C dX4_readWord_225 2 rfl rfl ?_
                      refine j_bipush C (v := nI 98) dX4_readWord_226 (by decide) ?_
                      refine j_icn_ne C (by omega) (by decide) (tgt := 312) dX4_readWord_228 (by decide) ?_ ?_
                      · intro c228
                        refine j_aload_n C dX4_readWord_312 1 rfl rfl ?_
                        refine j_iconst C (v := nI 1) dX4_readWord_313 (by decide) ?_
                        refine jm_put22 C hO ⟨by decide, by decide⟩ dX4_readWord_314 (fun M31 hM31 => ?_)
                        refine j_aload_n C dX4_readWord_317 1 rfl rfl ?_
                        refine j_dup C dX4_readWord_318 rfl ?_
                        refine jm_get21 C dX4_readWord_319 ?_
                        refine j_ev (v' := nI (s.1 + 1)) (by rw [hM31, mSF_ne (by decide)]; exact hRD2.2.1) ?_
                        refine j_iconst C (v := nI 1) dX4_readWord_322 (by decide) ?_
                        refine j_isubn C (by omega) dX4_readWord_323 ?_
                        refine jm_put21 C hO dX4_readWord_324 (fun M32 hM32 => ?_)
                        exact j_vret C E (Nat.le_refl _) (⟨_, rfl, rfl, by unfold rdW; rw [← hc0, ← hc1, if_neg (show ¬ (c0 = 114) by omega), if_neg (show ¬ (c0 = 102) by omega), if_neg (show ¬ (c0 = 108) by omega), if_neg (show ¬ (c0 = 116 ∧ c1 = 105) by omega), if_neg (show ¬ (c0 = 116) by omega), if_neg (show ¬ (c0 = 98 ∧ c1 = 111) by omega), if_neg (show ¬ (c0 = 98) by omega)]; exact ⟨⟨hRD2.1.cg (by rw [hM32, mSF_ne (by decide), hM31, mSF_ne (by decide)]) (by rw [hM32, hM31]; rfl), by rw [hM32, mSF_eq, Nat.add_sub_cancel], by rw [hM32, mSF_ne (by decide), hM31, mSF_eq]; exact (pI_t rfl).symm, Nat.le_of_lt hs⟩, by rw [hM32, mSF_ne (by decide), hM31, mSF_ne (by decide)]; exact h23, (hF2.tr (fr.F hM31 (by decide))).tr (fr.F hM32 (by decide))⟩⟩) dX4_readWord_327
                      · intro c228
                        refine j_aload_n C dX4_readWord_231 1 rfl rfl ?_
                        refine j_bipush C (v := nI 97) dX4_readWord_232 (by decide) ?_
                        refine j_bipush C (v := nI 97) dX4_readWord_234 (by decide) ?_
                        refine jm_callR C hO (as := [.int (nI 97), .int (nI 97)]) (mc_takes G M2 t (s.1 + 1, s.2) hRD2 97 97 (by decide) (by decide)) mw_takes (by decide) (Nat.le_refl _) rfl (Nat.le_of_ble_eq_true rfl) dX4_readWord_236 (fun r34 M33 hM33 => ?_)
                        refine j_istore_n C (L' := [(3, .int r34), (2, .int (nI c1)), (0, .ref o), (1, .int (nI c0))]) dX4_readWord_239 rfl (jlt hnl (by decide)) rfl ?_
                        refine j_aload_n C dX4_readWord_240 2 rfl rfl ?_
                        refine j_aload_n C dX4_readWord_241 2 rfl rfl ?_
                        refine j_bipush C (v := nI 117) dX4_readWord_242 (by decide) ?_
                        refine j_bipush C (v := nI 117) dX4_readWord_244 (by decide) ?_
                        refine jm_callQ C hO (as := [.int (nI 117), .int (nI 117)]) (mc_isNext G M33 t (tkS t 97 97 (s.1 + 1, s.2)) hM33.2.1 117 117 (by decide) (by decide)) mw_isNext (by decide) (Nat.le_refl _) rfl (Nat.le_of_ble_eq_true rfl) dX4_readWord_246 ?_
                        refine j_ifp_eq C (tgt := 256) dX4_readWord_249 (by decide) ?_ ?_
                        · intro c249
                          refine j_iconst C (v := nI 3) dX4_readWord_256 (by decide) ?_
                          refine jm_put23 C hO dX4_readWord_257 (fun M35 hM35 => ?_)
                          refine j_aload_n C dX4_readWord_260 2 rfl rfl ?_
                          refine j_aload_n C dX4_readWord_261 2 rfl rfl ?_
                          refine jm_get23 C dX4_readWord_262 ?_
                          refine j_ev (v' := nI 3) (by rw [hM35, mSF_eq]) ?_
                          refine j_iconst C (v := nI 2) dX4_readWord_265 (by decide) ?_
                          refine j_icn_ne C (by decide) (by decide) (tgt := 274) dX4_readWord_266 (by decide) ?_ ?_
                          · intro c266
                            refine j_bipush C (v := nI 99) dX4_readWord_274 (by decide) ?_
                            refine j_aload_n C dX4_readWord_276 2 rfl rfl ?_
                            refine jm_get23 C dX4_readWord_277 ?_
                            refine j_ev (v' := nI 3) (by rw [hM35, mSF_eq]) ?_
                            refine j_iconst C (v := nI 2) dX4_readWord_280 (by decide) ?_
                            refine j_icn_ne C (by decide) (by decide) (tgt := 289) dX4_readWord_281 (by decide) ?_ ?_
                            · intro c281
                              refine j_bipush C (v := nI 107) dX4_readWord_289 (by decide) ?_
                              refine j_aload_n C dX4_readWord_291 2 rfl rfl ?_
                              refine jm_get23 C dX4_readWord_292 ?_
                              refine j_ev (v' := nI 3) (by rw [hM35, mSF_eq]) ?_
                              refine j_iconst C (v := nI 2) dX4_readWord_295 (by decide) ?_
                              refine j_icn_ne C (by decide) (by decide) (tgt := 304) dX4_readWord_296 (by decide) ?_ ?_
                              · intro c296
                                refine j_iconst C (v := nI 0) dX4_readWord_304 (by decide) ?_
                                refine j_iconst C (v := nI 0) dX4_readWord_305 (by decide) ?_
                                refine jm_callV C hO (as := [.int (nI 99), .int (nI 107), .int (nI 0), .int (nI 0)]) (mc_takesAll G M35 t (tkS t 97 97 (s.1 + 1, s.2)) (hM33.2.1.fr (fr.F (F := [23]) hM35 (by decide)) (by decide) (by decide) (by decide)) 99 107 0 0 (by decide) (by decide) (by decide) (by decide)) mw_takesAll (by decide) (Nat.le_refl _) rfl (Nat.le_of_ble_eq_true rfl) dX4_readWord_306 (fun M36 hM36 => ?_)
                                refine j_goto C (tgt := 327) dX4_readWord_309 (by decide) ?_
                                exact j_vret C E (Nat.le_refl _) (⟨_, rfl, rfl, by unfold rdW; rw [← hc0, ← hc1, if_neg (show ¬ (c0 = 114) by omega), if_neg (show ¬ (c0 = 102) by omega), if_neg (show ¬ (c0 = 108) by omega), if_neg (show ¬ (c0 = 116 ∧ c1 = 105) by omega), if_neg (show ¬ (c0 = 116) by omega), if_neg (show ¬ (c0 = 98 ∧ c1 = 111) by omega), if_pos (show c0 = 98 by omega), if_neg c249]; exact ⟨hM36.1, by rw [hM36.2.1 23 (by decide), hM35, mSF_eq]; rfl, ((hF2.tr (hM33.2.2.sub (by decide))).tr (fr.F hM35 (by decide))).tr (hM36.2.sub (by decide))⟩⟩) dX4_readWord_327
                              · intro c296
                                omega
                            · intro c281
                              omega
                          · intro c266
                            omega
                        · intro c249
                          refine j_iconst C (v := nI 2) dX4_readWord_252 (by decide) ?_
                          refine j_goto C (tgt := 257) dX4_readWord_253 (by decide) ?_
                          refine jm_put23 C hO dX4_readWord_257 (fun M37 hM37 => ?_)
                          refine j_aload_n C dX4_readWord_260 2 rfl rfl ?_
                          refine j_aload_n C dX4_readWord_261 2 rfl rfl ?_
                          refine jm_get23 C dX4_readWord_262 ?_
                          refine j_ev (v' := nI 2) (by rw [hM37, mSF_eq]) ?_
                          refine j_iconst C (v := nI 2) dX4_readWord_265 (by decide) ?_
                          refine j_icn_ne C (by decide) (by decide) (tgt := 274) dX4_readWord_266 (by decide) ?_ ?_
                          · intro c266
                            omega
                          · intro c266
                            refine j_bipush C (v := nI 117) dX4_readWord_269 (by decide) ?_
                            refine j_goto C (tgt := 276) dX4_readWord_271 (by decide) ?_
                            refine j_aload_n C dX4_readWord_276 2 rfl rfl ?_
                            refine jm_get23 C dX4_readWord_277 ?_
                            refine j_ev (v' := nI 2) (by rw [hM37, mSF_eq]) ?_
                            refine j_iconst C (v := nI 2) dX4_readWord_280 (by decide) ?_
                            refine j_icn_ne C (by decide) (by decide) (tgt := 289) dX4_readWord_281 (by decide) ?_ ?_
                            · intro c281
                              omega
                            · intro c281
                              refine j_bipush C (v := nI 108) dX4_readWord_284 (by decide) ?_
                              refine j_goto C (tgt := 291) dX4_readWord_286 (by decide) ?_
                              refine j_aload_n C dX4_readWord_291 2 rfl rfl ?_
                              refine jm_get23 C dX4_readWord_292 ?_
                              refine j_ev (v' := nI 2) (by rw [hM37, mSF_eq]) ?_
                              refine j_iconst C (v := nI 2) dX4_readWord_295 (by decide) ?_
                              refine j_icn_ne C (by decide) (by decide) (tgt := 304) dX4_readWord_296 (by decide) ?_ ?_
                              · intro c296
                                omega
                              · intro c296
                                refine j_bipush C (v := nI 107) dX4_readWord_299 (by decide) ?_
                                refine j_goto C (tgt := 305) dX4_readWord_301 (by decide) ?_
                                refine j_iconst C (v := nI 0) dX4_readWord_305 (by decide) ?_
                                refine jm_callV C hO (as := [.int (nI 117), .int (nI 108), .int (nI 107), .int (nI 0)]) (mc_takesAll G M37 t (tkS t 97 97 (s.1 + 1, s.2)) (hM33.2.1.fr (fr.F (F := [23]) hM37 (by decide)) (by decide) (by decide) (by decide)) 117 108 107 0 (by decide) (by decide) (by decide) (by decide)) mw_takesAll (by decide) (Nat.le_refl _) rfl (Nat.le_of_ble_eq_true rfl) dX4_readWord_306 (fun M38 hM38 => ?_)
                                refine j_goto C (tgt := 327) dX4_readWord_309 (by decide) ?_
                                exact j_vret C E (Nat.le_refl _) (⟨_, rfl, rfl, by unfold rdW; rw [← hc0, ← hc1, if_neg (show ¬ (c0 = 114) by omega), if_neg (show ¬ (c0 = 102) by omega), if_neg (show ¬ (c0 = 108) by omega), if_neg (show ¬ (c0 = 116 ∧ c1 = 105) by omega), if_neg (show ¬ (c0 = 116) by omega), if_neg (show ¬ (c0 = 98 ∧ c1 = 111) by omega), if_pos (show c0 = 98 by omega), if_pos c249]; exact ⟨hM38.1, by rw [hM38.2.1 23 (by decide), hM37, mSF_eq]; rfl, ((hF2.tr (hM33.2.2.sub (by decide))).tr (fr.F hM37 (by decide))).tr (hM38.2.sub (by decide))⟩⟩) dX4_readWord_327
                    · intro c202
                      refine j_aload_n C dX4_readWord_205 1 rfl rfl ?_
                      refine j_iconst C (v := nI 1) dX4_readWord_206 (by decide) ?_
                      refine jm_put23 C hO dX4_readWord_207 (fun M39 hM39 => ?_)
                      refine j_aload_n C dX4_readWord_210 1 rfl rfl ?_
                      refine j_bipush C (v := nI 111) dX4_readWord_211 (by decide) ?_
                      refine j_bipush C (v := nI 110) dX4_readWord_213 (by decide) ?_
                      refine j_bipush C (v := nI 117) dX4_readWord_215 (by decide) ?_
                      refine j_bipush C (v := nI 115) dX4_readWord_217 (by decide) ?_
                      refine jm_callV C hO (as := [.int (nI 111), .int (nI 110), .int (nI 117), .int (nI 115)]) (mc_takesAll G M39 t (s.1 + 1, s.2) (hRD2.fr (fr.F (F := [23]) hM39 (by decide)) (by decide) (by decide) (by decide)) 111 110 117 115 (by decide) (by decide) (by decide) (by decide)) mw_takesAll (by decide) (Nat.le_refl _) rfl (Nat.le_of_ble_eq_true rfl) dX4_readWord_219 (fun M40 hM40 => ?_)
                      refine j_goto C (tgt := 327) dX4_readWord_222 (by decide) ?_
                      exact j_vret C E (Nat.le_refl _) (⟨_, rfl, rfl, by unfold rdW; rw [← hc0, ← hc1, if_neg (show ¬ (c0 = 114) by omega), if_neg (show ¬ (c0 = 102) by omega), if_neg (show ¬ (c0 = 108) by omega), if_neg (show ¬ (c0 = 116 ∧ c1 = 105) by omega), if_neg (show ¬ (c0 = 116) by omega), if_pos (show c0 = 98 ∧ c1 = 111 by omega)]; exact ⟨hM40.1, by rw [hM40.2.1 23 (by decide), hM39, mSF_eq]; rfl, (hF2.tr (fr.F hM39 (by decide))).tr (hM40.2.sub (by decide))⟩⟩) dX4_readWord_327
                · intro c170
                  refine j_aload_n C dX4_readWord_173 1 rfl rfl ?_
                  refine j_iconst C (v := nI 0) dX4_readWord_174 (by decide) ?_
                  refine jm_put23 C hO dX4_readWord_175 (fun M41 hM41 => ?_)
                  refine j_aload_n C dX4_readWord_178 1 rfl rfl ?_
                  refine j_bipush C (v := nI 111) dX4_readWord_179 (by decide) ?_
                  refine j_bipush C (v := nI 117) dX4_readWord_181 (by decide) ?_
                  refine j_bipush C (v := nI 99) dX4_readWord_183 (by decide) ?_
                  refine j_bipush C (v := nI 104) dX4_readWord_185 (by decide) ?_
                  refine jm_callV C hO (as := [.int (nI 111), .int (nI 117), .int (nI 99), .int (nI 104)]) (mc_takesAll G M41 t (s.1 + 1, s.2) (hRD2.fr (fr.F (F := [23]) hM41 (by decide)) (by decide) (by decide) (by decide)) 111 117 99 104 (by decide) (by decide) (by decide) (by decide)) mw_takesAll (by decide) (Nat.le_refl _) rfl (Nat.le_of_ble_eq_true rfl) dX4_readWord_187 (fun M42 hM42 => ?_)
                  refine j_goto C (tgt := 327) dX4_readWord_190 (by decide) ?_
                  exact j_vret C E (Nat.le_refl _) (⟨_, rfl, rfl, by unfold rdW; rw [← hc0, ← hc1, if_neg (show ¬ (c0 = 114) by omega), if_neg (show ¬ (c0 = 102) by omega), if_neg (show ¬ (c0 = 108) by omega), if_neg (show ¬ (c0 = 116 ∧ c1 = 105) by omega), if_pos (show c0 = 116 by omega)]; exact ⟨hM42.1, by rw [hM42.2.1 23 (by decide), hM41, mSF_eq]; rfl, (hF2.tr (fr.F hM41 (by decide))).tr (hM42.2.sub (by decide))⟩⟩) dX4_readWord_327
              · intro c144
                refine j_aload_n C dX4_readWord_147 1 rfl rfl ?_
                refine j_bipush C (v := nI 6) dX4_readWord_148 (by decide) ?_
                refine jm_put23 C hO dX4_readWord_150 (fun M43 hM43 => ?_)
                refine j_aload_n C dX4_readWord_153 1 rfl rfl ?_
                refine j_bipush C (v := nI 105) dX4_readWord_154 (by decide) ?_
                refine j_bipush C (v := nI 109) dX4_readWord_156 (by decide) ?_
                refine j_bipush C (v := nI 101) dX4_readWord_158 (by decide) ?_
                refine j_iconst C (v := nI 0) dX4_readWord_160 (by decide) ?_
                refine jm_callV C hO (as := [.int (nI 105), .int (nI 109), .int (nI 101), .int (nI 0)]) (mc_takesAll G M43 t (s.1 + 1, s.2) (hRD2.fr (fr.F (F := [23]) hM43 (by decide)) (by decide) (by decide) (by decide)) 105 109 101 0 (by decide) (by decide) (by decide) (by decide)) mw_takesAll (by decide) (Nat.le_refl _) rfl (Nat.le_of_ble_eq_true rfl) dX4_readWord_161 (fun M44 hM44 => ?_)
                refine j_goto C (tgt := 327) dX4_readWord_164 (by decide) ?_
                exact j_vret C E (Nat.le_refl _) (⟨_, rfl, rfl, by unfold rdW; rw [← hc0, ← hc1, if_neg (show ¬ (c0 = 114) by omega), if_neg (show ¬ (c0 = 102) by omega), if_neg (show ¬ (c0 = 108) by omega), if_pos (show c0 = 116 ∧ c1 = 105 by omega)]; exact ⟨hM44.1, by rw [hM44.2.1 23 (by decide), hM43, mSF_eq]; rfl, (hF2.tr (fr.F hM43 (by decide))).tr (hM44.2.sub (by decide))⟩⟩) dX4_readWord_327
          · intro c113
            refine j_aload_n C dX4_readWord_116 1 rfl rfl ?_
            refine j_iconst C (v := nI 5) dX4_readWord_117 (by decide) ?_
            refine jm_put23 C hO dX4_readWord_118 (fun M45 hM45 => ?_)
            refine j_aload_n C dX4_readWord_121 1 rfl rfl ?_
            refine j_bipush C (v := nI 105) dX4_readWord_122 (by decide) ?_
            refine j_bipush C (v := nI 110) dX4_readWord_124 (by decide) ?_
            refine j_bipush C (v := nI 101) dX4_readWord_126 (by decide) ?_
            refine j_iconst C (v := nI 0) dX4_readWord_128 (by decide) ?_
            refine jm_callV C hO (as := [.int (nI 105), .int (nI 110), .int (nI 101), .int (nI 0)]) (mc_takesAll G M45 t (s.1 + 1, s.2) (hRD2.fr (fr.F (F := [23]) hM45 (by decide)) (by decide) (by decide) (by decide)) 105 110 101 0 (by decide) (by decide) (by decide) (by decide)) mw_takesAll (by decide) (Nat.le_refl _) rfl (Nat.le_of_ble_eq_true rfl) dX4_readWord_129 (fun M46 hM46 => ?_)
            refine j_goto C (tgt := 327) dX4_readWord_132 (by decide) ?_
            exact j_vret C E (Nat.le_refl _) (⟨_, rfl, rfl, by unfold rdW; rw [← hc0, ← hc1, if_neg (show ¬ (c0 = 114) by omega), if_neg (show ¬ (c0 = 102) by omega), if_pos (show c0 = 108 by omega)]; exact ⟨hM46.1, by rw [hM46.2.1 23 (by decide), hM45, mSF_eq]; rfl, (hF2.tr (fr.F hM45 (by decide))).tr (hM46.2.sub (by decide))⟩⟩) dX4_readWord_327
        · intro c88
          refine j_aload_n C dX4_readWord_91 1 rfl rfl ?_
          refine j_iconst C (v := nI 4) dX4_readWord_92 (by decide) ?_
          refine jm_put23 C hO dX4_readWord_93 (fun M47 hM47 => ?_)
          refine j_aload_n C dX4_readWord_96 1 rfl rfl ?_
          refine j_bipush C (v := nI 97) dX4_readWord_97 (by decide) ?_
          refine j_bipush C (v := nI 108) dX4_readWord_99 (by decide) ?_
          refine j_bipush C (v := nI 108) dX4_readWord_101 (by decide) ?_
          refine j_iconst C (v := nI 0) dX4_readWord_103 (by decide) ?_
          refine jm_callV C hO (as := [.int (nI 97), .int (nI 108), .int (nI 108), .int (nI 0)]) (mc_takesAll G M47 t (s.1 + 1, s.2) (hRD2.fr (fr.F (F := [23]) hM47 (by decide)) (by decide) (by decide) (by decide)) 97 108 108 0 (by decide) (by decide) (by decide) (by decide)) mw_takesAll (by decide) (Nat.le_refl _) rfl (Nat.le_of_ble_eq_true rfl) dX4_readWord_104 (fun M48 hM48 => ?_)
          refine j_goto C (tgt := 327) dX4_readWord_107 (by decide) ?_
          exact j_vret C E (Nat.le_refl _) (⟨_, rfl, rfl, by unfold rdW; rw [← hc0, ← hc1, if_neg (show ¬ (c0 = 114) by omega), if_pos (show c0 = 102 by omega)]; exact ⟨hM48.1, by rw [hM48.2.1 23 (by decide), hM47, mSF_eq]; rfl, (hF2.tr (fr.F hM47 (by decide))).tr (hM48.2.sub (by decide))⟩⟩) dX4_readWord_327
      · intro c68
        refine j_aload_n C dX4_readWord_71 1 rfl rfl ?_
        refine j_bipush C (v := nI 97) dX4_readWord_72 (by decide) ?_
        refine j_bipush C (v := nI 105) dX4_readWord_74 (by decide) ?_
        refine j_bipush C (v := nI 100) dX4_readWord_76 (by decide) ?_
        refine j_iconst C (v := nI 0) dX4_readWord_78 (by decide) ?_
        refine jm_callV C hO (as := [.int (nI 97), .int (nI 105), .int (nI 100), .int (nI 0)]) (mc_takesAll G M2 t (s.1 + 1, s.2) hRD2 97 105 100 0 (by decide) (by decide) (by decide) (by decide)) mw_takesAll (by decide) (Nat.le_refl _) rfl (Nat.le_of_ble_eq_true rfl) dX4_readWord_79 (fun M49 hM49 => ?_)
        refine j_goto C (tgt := 327) dX4_readWord_82 (by decide) ?_
        exact j_vret C E (Nat.le_refl _) (⟨_, rfl, rfl, by unfold rdW; rw [← hc0, ← hc1, if_pos (show c0 = 114 by omega)]; exact ⟨hM49.1, by rw [hM49.2.1 23 (by decide)]; exact h23, hF2.tr (hM49.2.sub (by decide))⟩⟩) dX4_readWord_327
    refine j_icn_ge C (by omega) (by omega) (tgt := 58) dX4_readWord_43 (by decide) ?_ ?_
    · intro c43
      refine j_iconst C (v := nI 0) dX4_readWord_58 (by decide) ?_
      refine J.sub (L' := [(0, .ref o), (1, .int (nI c0))]) ?_ [1, 0] rfl
      exact join59 0 (by unfold sgA; rw [if_neg (by omega)])
    · intro c43
      refine j_aload_n C dX4_readWord_46 1 rfl rfl ?_
      refine jm_get19 C dX4_readWord_47 ?_
      refine j_aload_n C dX4_readWord_50 1 rfl rfl ?_
      refine jm_get21 C dX4_readWord_51 ?_
      refine j_ev (v' := nI (s.1 + 1)) (by rw [hM1, mSF_eq]) ?_
      refine jm_ald19 C hO (by omega) dX4_readWord_54 ?_
      refine j_ev (v' := nI (t.getD (s.1 + 1) 0)) (by rw [hM1]; exact (hX.2.2 (s.1 + 1) (by omega)).1) ?_
      refine j_goto C (tgt := 59) dX4_readWord_55 (by decide) ?_
      refine J.sub (L' := [(0, .ref o), (1, .int (nI c0))]) ?_ [1, 0] rfl
      exact join59 (t.getD (s.1 + 1) 0) (by unfold sgA; rw [if_pos (by omega)])
  refine j_icn_ge C (by omega) (by omega) (tgt := 23) dX4_readWord_8 (by decide) ?_ ?_
  · intro c8
    refine j_iconst C (v := nI 0) dX4_readWord_23 (by decide) ?_
    refine J.sub (L' := [(0, .ref o)]) ?_ [0] rfl
    exact join24 0 (by unfold sgA; rw [if_neg (by omega)])
  · intro c8
    refine j_aload_n C dX4_readWord_11 0 rfl rfl ?_
    refine jm_get19 C dX4_readWord_12 ?_
    refine j_aload_n C dX4_readWord_15 0 rfl rfl ?_
    refine jm_get21 C dX4_readWord_16 ?_
    refine j_ev (v' := nI s.1) hR.2.1 ?_
    refine jm_ald19 C hO (by omega) dX4_readWord_19 ?_
    refine j_ev (v' := nI (t.getD (s.1) 0)) ((hX.2.2 (s.1) (by omega)).1) ?_
    refine j_goto C (tgt := 24) dX4_readWord_20 (by decide) ?_
    refine J.sub (L' := [(0, .ref o)]) ?_ [0] rfl
    exact join24 (t.getD (s.1) 0) (by unfold sgA; rw [if_pos (by omega)])
