set_option maxRecDepth 100000
noncomputable def ordOp (Q : Option Mt) (o : Nat × Int32 × Nat) : Ans := iF (o.1 = 9) (opRaid Q o.2.1) (opStep Q (kI o.1) o.2.1 (nI o.2.2))
noncomputable def runF (t : List Nat) : Nat → RS → Option Mt → Nat → Option Mt × Nat
  | 0, _, Q, n => (Q, n)
  | f + 1, s, Q, n => iF (s.1 < t.length) (iF ((ordOp Q (rdO t s).2).1 = 0) (runF t f (rdO t s).1 (ordOp Q (rdO t s).2).2.2 (n + 1)) ((ordOp Q (rdO t s).2).2.2, n)) (Q, n)
noncomputable def opRun (Q : Option Mt) (t : List Nat) : Ans := iF (faultI t = -1) (0, nI (runF t 61 (0, false) Q 0).2, (runF t 61 (0, false) Q 0).1) (1, 0, Q)
theorem runF_e {t : List Nat} {f : Nat} {s : RS} {Q : Option Mt} {n : Nat} (h : ¬ s.1 < t.length) : runF t f s Q n = (Q, n) := by
  cases f with
  | zero => rfl
  | succ f => exact iF_f h
theorem runF_s {t : List Nat} {f : Nat} {s : RS} {Q : Option Mt} {n : Nat} (h : s.1 < t.length) (h0 : (ordOp Q (rdO t s).2).1 = 0) : runF t (f + 1) s Q n = runF t f (rdO t s).1 (ordOp Q (rdO t s).2).2.2 (n + 1) := by
  show iF _ _ _ = _
  rw [iF_t h, iF_t h0]
theorem runF_x {t : List Nat} {f : Nat} {s : RS} {Q : Option Mt} {n : Nat} (h : s.1 < t.length) (h0 : ¬ (ordOp Q (rdO t s).2).1 = 0) : runF t (f + 1) s Q n = ((ordOp Q (rdO t s).2).2.2, n) := by
  show iF _ _ _ = _
  rw [iF_t h, iF_f h0]
theorem raid_cd {Q : Option Mt} {r : Int32} : (opRaid Q r).1 ≤ 2 := by
  unfold opRaid
  by_cases h1 : inI r 0 9
  · rw [iF_t h1]
    by_cases h2 : isM Q ∧ ¬ isR (dM Q) ∧ nE (dM Q) < 60 ∧ raidCan (mNow (dM Q)) (mL (dM Q)) (iN r)
    · rw [iF_t h2]; exact Nat.zero_le _
    · rw [iF_f h2]; exact Nat.le_refl _
  · rw [iF_f h1]; exact Nat.le_succ _
theorem step_cd {Q : Option Mt} {k w t : Int32} : (opStep Q k w t).1 ≤ 2 := by
  unfold opStep
  by_cases h1 : inI k 0 6 ∧ whoOK k w ∧ inI t 1 300
  · rw [iF_t h1]
    by_cases h2 : isM Q ∧ isR (dM Q) ∧ tellOK (dM Q) (mkS k w t)
    · rw [iF_t h2]
      by_cases h3 : iN k < 3
      · rw [iF_t h3]; exact Nat.zero_le _
      · rw [iF_f h3]; exact Nat.zero_le _
    · rw [iF_f h2]; exact Nat.le_refl _
  · rw [iF_f h1]; exact Nat.le_succ _
theorem ord_cd {Q : Option Mt} {o : Nat × Int32 × Nat} : (ordOp Q o).1 ≤ 2 := by
  unfold ordOp
  by_cases h : o.1 = 9
  · rw [iF_t h]; exact raid_cd
  · rw [iF_f h]; exact step_cd
theorem VQ_ord {Q : Option Mt} {o : Nat × Int32 × Nat} (h : VQ Q) : VQ (ordOp Q o).2.2 := by
  unfold ordOp
  by_cases hh : o.1 = 9
  · rw [iF_t hh]; exact VQ_raid h
  · rw [iF_f hh]; exact VQ_step h
theorem VQ_runF {t : List Nat} : ∀ {f : Nat} {s : RS} {Q : Option Mt} {n : Nat}, VQ Q → VQ (runF t f s Q n).1 := by
  intro f
  induction f with
  | zero => intro s Q n h; exact h
  | succ f ih =>
    intro s Q n h
    by_cases h1 : s.1 < t.length
    · by_cases h2 : (ordOp Q (rdO t s).2).1 = 0
      · rw [runF_s h1 h2]; exact ih (VQ_ord h)
      · rw [runF_x h1 h2]; exact VQ_ord h
    · rw [runF_e h1]; exact h
theorem VQ_run {Q : Option Mt} {t : List Nat} (h : VQ Q) : VQ (opRun Q t).2.2 := by
  unfold opRun
  by_cases hh : faultI t = -1
  · rw [iF_t hh]; exact VQ_runF h
  · rw [iF_f hh]; exact h
def othR (M M' : jM) : Prop := (∀ k, k ∉ [0, 2, 3, 5, 7, 21, 22, 23, 24, 25] → M'.1 k = M.1 k) ∧ ∀ k, k = 19 ∨ 26 ≤ k → M'.2 k = M.2 k
theorem othR.rf {M : jM} : othR M M := ⟨fun _ _ => rfl, fun _ _ => rfl⟩
theorem othR.tr {M M' M'' : jM} (h : othR M M') (h' : othR M' M'') : othR M M'' := ⟨fun k a => (h'.1 k a).trans (h.1 k a), fun k a => (h'.2 k a).trans (h.2 k a)⟩
theorem oth.R {M M' : jM} (h : oth M M') : othR M M' := ⟨fun k a => h.1 k (fun z => a (by rw [z]; decide)) (fun z => a (by rw [z]; decide)) (fun z => a (by rw [z]; decide)) (fun z => a (by rw [z]; decide)) (fun z => a (by rw [z]; decide)), h.2⟩
theorem fr.R {F : List Nat} {M M' : jM} (h : fr F [] M M') (hF : ∀ k ∈ F, k ∈ [0, 2, 3, 5, 7, 21, 22, 23, 24, 25]) : othR M M' := ⟨fun k a => h.1 k (fun z => a (hF k z)), fun k _ => h.2 k (by simp)⟩
theorem RD.oth {M M' : jM} {t : List Nat} {s : RS} (h : RD M t s) (ho : oth M M') : RD M' t s := ⟨h.1.cg (ho.1 20 (by decide) (by decide) (by decide) (by decide) (by decide)) (ho.2 19 (Or.inl rfl)), by rw [ho.1 21 (by decide) (by decide) (by decide) (by decide) (by decide)]; exact h.2.1, by rw [ho.1 22 (by decide) (by decide) (by decide) (by decide) (by decide)]; exact h.2.2.1, h.2.2.2⟩
theorem RelM.fr {M M' : jM} {Q : Option Mt} (h : RelM M Q) {F : List Nat} (hf : fr F [] M M') (h2 : 2 ∉ F) (h3 : 3 ∉ F) (h5 : 5 ∉ F) (h7 : 7 ∉ F) : RelM M' Q := h.cg (fun k hk => hf.1 k (by rcases hk with z | z | z | z <;> rw [z] <;> assumption)) (fun k _ _ => hf.2 k (by simp))
theorem flS_ok {t : List Nat} {n : Nat} {s : RS} (h : (flS t n s).2 = false) : s.2 = false := by
  cases hs : s.2 with
  | false => rfl
  | true => rw [flS_e (by rw [hs]; simp)] at h; rw [hs] at h; exact h
theorem fault_ok {t : List Nat} (hl : t.length ≤ 60) (h : faultI t = -1) : (flS t 61 (0, false)).2 = false := by
  have hle : ∀ n s, s.1 ≤ t.length → (flS t n s).1 ≤ t.length := by
    intro n
    induction n with
    | zero => intro s hs; exact hs
    | succ n ih =>
      intro s hs
      by_cases h : s.2 = false ∧ s.1 < t.length
      · rw [flS_s h]
        refine ih _ ?_
        unfold rdO
        dsimp only
        refine tkS_le ?_
        split
        · exact rdS2_le h.2
        · unfold rdT
          dsimp only
          have h1 := tkS_le (lo := 64) (hi := 64) (rdS2_le h.2)
          have h2 := tkS_le (lo := 48) (hi := 57) h1
          have h3 : (if nx t 48 57 (tkS t 48 57 (tkS t 64 64 (rdS2 t s))) = true then tkS t 48 57 (tkS t 48 57 (tkS t 64 64 (rdS2 t s))) else tkS t 48 57 (tkS t 64 64 (rdS2 t s))).1 ≤ t.length := by
            split
            · exact tkS_le h2
            · exact h2
          generalize (if nx t 48 57 (tkS t 48 57 (tkS t 64 64 (rdS2 t s))) = true then tkS t 48 57 (tkS t 48 57 (tkS t 64 64 (rdS2 t s))) else tkS t 48 57 (tkS t 64 64 (rdS2 t s))) = s5 at h3 ⊢
          split
          · exact tkS_le h3
          · exact h3
      · rw [flS_e h]; exact hs
  unfold faultI at h
  cases hb : (flS t 61 (0, false)).2 with
  | false => rfl
  | true =>
    rw [if_pos hb] at h
    exact absurd h (nI_neg1 (by have := hle 61 (0, false) (Nat.zero_le _); omega))

set_option maxHeartbeats 4000000 in
theorem mc_run {g : jG} (G : jOK g) (M : jM) (Q : Option Mt) (t : List Nat) (hRel : RelM M Q) (hV : VQ Q) (hX : TX M t)  : MTR g 7 yX4_run [] M (fun v M' => M'.1 0 = nI (opRun Q t).1 ∧ ((opRun Q t).1 = 0 → v = (opRun Q t).2.1) ∧ RelM M' (opRun Q t).2.2 ∧ othR M M') := by
  intro h o ad hO
  refine CT.of (bytes := cX4_run) (maxL := 4) (ret := (some .int)) G q2228 (by decide) (by decide +kernel) (Nat.le_of_ble_eq_true rfl) ?_
  intro z C E hT hnm hnl
  have C : jC (g, z) cX4_run RX4 7 0 := C
  show J (g, z) (mput g h o ad M) 0 0 [(0, .ref o)] []
  refine j_aload_n C dX4_run_0 0 rfl rfl ?_
  refine j_aload_n C dX4_run_1 0 rfl rfl ?_
  refine jm_callR C hO (as := []) (mc_faultOf G M t hX) mw_faultOf (by decide) (Nat.le_refl _) rfl (Nat.le_of_ble_eq_true rfl) dX4_run_2 (fun r2 M1 hM1 => ?_)
  refine j_ev (v' := (faultI t)) hM1.1 ?_
  refine j_iconst C (v := -1) dX4_run_5 (by decide) ?_
  refine j_ic_ne C (tgt := 13) dX4_run_6 (by decide) ?_ ?_
  · intro c6
    refine j_iconst C (v := nI 1) dX4_run_13 (by decide) ?_
    refine jm_callR C hO (as := [.int (nI 1)]) (mc_holds G M1 (nI 1)) mw_holds (by decide) (Nat.le_refl _) rfl (Nat.le_of_ble_eq_true rfl) dX4_run_14 (fun r4 M3 hM3 => ?_)
    refine j_ev (v' := nI 0) (by rw [hM3.1, pI_f (by decide)]; rfl) ?_
    have eM3 := hM3.2
    refine j_ifn_ne C (by decide) (tgt := 22) dX4_run_17 (by decide) ?_ ?_
    · intro c17
      omega
    · intro c17
      refine j_iconst C (v := nI 0) dX4_run_20 (by decide) ?_
      exact j_iret C E rfl (Nat.le_refl _) (⟨_, rfl, _, rfl, by unfold opRun; rw [iF_f c6]; exact ⟨by rw [eM3, mSF_eq], fun z => absurd z (Nat.succ_ne_zero 0), (hRel.fr hM1.2.2 (by decide) (by decide) (by decide) (by decide)).fr (fr.F (F := [0]) eM3 (by decide)) (by decide) (by decide) (by decide) (by decide), (hM1.2.2.R (by decide)).tr ((fr.F (F := [0]) eM3 (by decide)).R (by decide))⟩⟩) dX4_run_21
  · intro c6
    refine j_iconst C (v := nI 0) dX4_run_9 (by decide) ?_
    refine j_goto C (tgt := 14) dX4_run_10 (by decide) ?_
    refine jm_callR C hO (as := [.int (nI 0)]) (mc_holds G M1 (nI 0)) mw_holds (by decide) (Nat.le_refl _) rfl (Nat.le_of_ble_eq_true rfl) dX4_run_14 (fun r6 M5 hM5 => ?_)
    refine j_ev (v' := nI 1) (by rw [hM5.1, pI_t (by decide)]; rfl) ?_
    have eM5 := hM5.2
    refine j_ifn_ne C (by decide) (tgt := 22) dX4_run_17 (by decide) ?_ ?_
    · intro c17
      have h60 := hX.2.1
      have hfok := fault_ok h60 c6
      refine j_aload_n C dX4_run_22 0 rfl rfl ?_
      refine j_iconst C (v := nI 0) dX4_run_23 (by decide) ?_
      refine jm_put21 C hO dX4_run_24 (fun M7 hM7 => ?_)
      refine j_aload_n C dX4_run_27 0 rfl rfl ?_
      refine j_iconst C (v := nI 0) dX4_run_28 (by decide) ?_
      refine jm_put22 C hO ⟨by decide, by decide⟩ dX4_run_29 (fun M8 hM8 => ?_)
      refine j_iconst C (v := nI 0) dX4_run_32 (by decide) ?_
      refine j_istore_n C (L' := [(1, .int (nI 0)), (0, .ref o)]) dX4_run_33 rfl (jlt hnl (by decide)) rfl ?_
      refine j_iconst C (v := nI 1) dX4_run_34 (by decide) ?_
      refine j_istore_n C (L' := [(2, .int (nI 1)), (1, .int (nI 0)), (0, .ref o)]) dX4_run_35 rfl (jlt hnl (by decide)) rfl ?_
      refine J.sub (L' := [(0, .ref o), (1, .int (nI 0)), (2, .int (nI 1))]) ?_ [2, 1, 0] rfl
      have loop36 : ∀ (mz : Nat) (s : RS) (fu : Nat) (Q2 : Option Mt) (nn : Nat) (Mk : jM), (RD Mk t s) → (othR M Mk) → (RelM Mk Q2) → (VQ Q2) → ((flS t fu s).2 = false) → (t.length - s.1 < fu) → (runF t 61 (0, false) Q 0 = runF t fu s Q2 nn) → (nn + fu ≤ 61) → fu < mz → J (g, z) (mput g h o ad Mk) 0 36 [(0, .ref o), (1, .int (nI nn)), (2, .int (nI 1))] [] := by
        intro mz
        induction mz with
        | zero => intro s fu Q2 nn Mk; intros; omega
        | succ mz ih36 =>
          intro s fu Q2 nn Mk hR hF hRel2 hV2 hfl hfu hnn hn6 hm36
          refine j_iload_n C dX4_run_36 2 rfl rfl ?_
          refine j_ifn_eq C (by decide) (tgt := 119) dX4_run_37 (by decide) ?_ ?_
          · intro c37
            omega
          · intro c37
            refine j_aload_n C dX4_run_40 0 rfl rfl ?_
            refine jm_get21 C dX4_run_41 ?_
            refine j_ev (v' := nI s.1) hR.2.1 ?_
            refine j_aload_n C dX4_run_44 0 rfl rfl ?_
            refine jm_get20 C dX4_run_45 ?_
            refine j_ev (v' := nI t.length) hR.1.1 ?_
            refine j_icn_ge C (by have := hR.2.2.2; have := hR.1.2.1; omega) (by have := hR.2.2.2; have := hR.1.2.1; omega) (tgt := 119) dX4_run_48 (by decide) ?_ ?_
            · intro c48
              refine j_aload_n C dX4_run_119 0 rfl rfl ?_
              refine j_iconst C (v := nI 0) dX4_run_120 (by decide) ?_
              refine jm_put0 C hO dX4_run_121 (fun M9 hM9 => ?_)
              refine j_iload_n C dX4_run_124 1 rfl rfl ?_
              exact j_iret C E rfl (Nat.le_refl _) (⟨_, rfl, _, rfl, by unfold opRun; rw [iF_t c6, hnn, runF_e (by omega)]; exact ⟨by rw [hM9, mSF_eq], fun _ => rfl, hRel2.fr (fr.F (F := [0]) hM9 (by decide)) (by decide) (by decide) (by decide) (by decide), hF.tr ((fr.F (F := [0]) hM9 (by decide)).R (by decide))⟩⟩) dX4_run_125
            · intro c48
              refine j_aload_n C dX4_run_51 0 rfl rfl ?_
              refine jm_callV C hO (as := []) (mc_readOrder G Mk t s hR c48) mw_readOrder (by decide) (Nat.le_refl _) rfl (Nat.le_of_ble_eq_true rfl) dX4_run_52 (fun M10 hM10 => ?_)
              refine j_aload_n C dX4_run_55 0 rfl rfl ?_
              refine jm_get23 C dX4_run_56 ?_
              refine j_ev (v' := (kI (rdO t s).2.1)) hM10.2.1 ?_
              refine j_iconst C (v := -1) dX4_run_59 (by decide) ?_
              refine j_ic_ne C (tgt := 74) dX4_run_60 (by decide) ?_ ?_
              · intro c60
                have hord : opStep Q2 (kI (rdO t s).2.1) (rdO t s).2.2.1 (nI (rdO t s).2.2.2) = ordOp Q2 (rdO t s).2 := (iF_f (fun z => c60 (by rw [show (rdO t s).2.1 = 9 from z]; rfl))).symm
                refine j_aload_n C dX4_run_74 0 rfl rfl ?_
                refine j_aload_n C dX4_run_75 0 rfl rfl ?_
                refine jm_get23 C dX4_run_76 ?_
                refine j_ev (v' := (kI (rdO t s).2.1)) hM10.2.1 ?_
                refine j_aload_n C dX4_run_79 0 rfl rfl ?_
                refine jm_get24 C dX4_run_80 ?_
                refine j_ev (v' := ((rdO t s).2.2.1)) hM10.2.2.1 ?_
                refine j_aload_n C dX4_run_83 0 rfl rfl ?_
                refine jm_get25 C dX4_run_84 ?_
                refine j_ev (v' := nI ((rdO t s).2.2.2)) hM10.2.2.2.1 ?_
                refine jm_callR C hO (as := [.int (kI (rdO t s).2.1), .int ((rdO t s).2.2.1), .int (nI ((rdO t s).2.2.2))]) (mc_step G M10 Q2 (kI (rdO t s).2.1) (rdO t s).2.2.1 (nI (rdO t s).2.2.2) (hRel2.fr hM10.2.2.2.2 (by decide) (by decide) (by decide) (by decide)) hV2) mw_step (by decide) (Nat.le_refl _) rfl (Nat.le_of_ble_eq_true rfl) dX4_run_87 (fun r12 M11 hM11 => ?_)
                refine j_istore_n C (L' := [(3, .int r12), (0, .ref o), (1, .int (nI nn)), (2, .int (nI 1))]) dX4_run_90 rfl (jlt hnl (by decide)) rfl ?_
                refine j_aload_n C dX4_run_91 1 rfl rfl ?_
                refine jm_get0 C dX4_run_92 ?_
                refine j_ev (v' := nI ((ordOp Q2 (rdO t s).2).1)) (by rw [hM11.1, hord]) ?_
                have hRB : RD M11 t (rdO t s).1 := hM10.1.oth hM11.2.2.2
                have hoB : othR M M11 := (hF.tr (hM10.2.2.2.2.R (by decide))).tr hM11.2.2.2.R
                have hrB : RelM M11 (ordOp Q2 (rdO t s).2).2.2 := by rw [← hord]; exact hM11.2.2.1
                obtain ⟨f2, hf2⟩ : ∃ f2, fu = f2 + 1 := ⟨fu - 1, by omega⟩
                refine j_ifn_ne C (by have := ord_cd (Q := Q2) (o := (rdO t s).2); omega) (tgt := 102) dX4_run_95 (by decide) ?_ ?_
                · intro c95
                  refine j_iconst C (v := nI 0) dX4_run_102 (by decide) ?_
                  refine j_istore_n C (L' := [(2, .int (nI 0)), (3, .int r12), (0, .ref o), (1, .int (nI nn))]) dX4_run_103 rfl (jlt hnl (by decide)) rfl ?_
                  refine j_iload_n C dX4_run_104 3 rfl rfl ?_
                  refine j_iload_n C dX4_run_105 0 rfl rfl ?_
                  refine j_ifn_eq C (by decide) (tgt := 113) dX4_run_106 (by decide) ?_ ?_
                  · intro c106
                    refine j_iconst C (v := nI 0) dX4_run_113 (by decide) ?_
                    refine j_iaddn C dX4_run_114 ?_
                    refine j_istore_n C (L' := [(1, .int (nI (nn + 0))), (2, .int (nI 0)), (3, .int r12), (0, .ref o)]) dX4_run_115 rfl (jlt hnl (by decide)) rfl ?_
                    refine j_goto C (tgt := 36) dX4_run_116 (by decide) ?_
                    refine j_iload_n C dX4_run_36 1 rfl rfl ?_
                    refine j_ifn_eq C (by decide) (tgt := 119) dX4_run_37 (by decide) ?_ ?_
                    · intro c37
                      refine j_aload_n C dX4_run_119 3 rfl rfl ?_
                      refine j_iconst C (v := nI 0) dX4_run_120 (by decide) ?_
                      refine jm_put0 C hO dX4_run_121 (fun M13 hM13 => ?_)
                      refine j_iload_n C dX4_run_124 0 rfl rfl ?_
                      exact j_iret C E rfl (Nat.le_refl _) (⟨_, rfl, _, rfl, by unfold opRun; rw [iF_t c6, hnn, hf2, runF_x c48 c95]; exact ⟨by rw [hM13, mSF_eq], fun _ => rfl, hrB.fr (fr.F (F := [0]) hM13 (by decide)) (by decide) (by decide) (by decide) (by decide), hoB.tr ((fr.F (F := [0]) hM13 (by decide)).R (by decide))⟩⟩) dX4_run_125
                    · intro c37
                      omega
                  · intro c106
                    omega
                · intro c95
                  refine j_iconst C (v := nI 1) dX4_run_98 (by decide) ?_
                  refine j_goto C (tgt := 103) dX4_run_99 (by decide) ?_
                  refine j_istore_n C (L' := [(2, .int (nI 1)), (3, .int r12), (0, .ref o), (1, .int (nI nn))]) dX4_run_103 rfl (jlt hnl (by decide)) rfl ?_
                  refine j_iload_n C dX4_run_104 3 rfl rfl ?_
                  refine j_iload_n C dX4_run_105 0 rfl rfl ?_
                  refine j_ifn_eq C (by decide) (tgt := 113) dX4_run_106 (by decide) ?_ ?_
                  · intro c106
                    omega
                  · intro c106
                    refine j_iconst C (v := nI 1) dX4_run_109 (by decide) ?_
                    refine j_goto C (tgt := 114) dX4_run_110 (by decide) ?_
                    refine j_iaddn C dX4_run_114 ?_
                    refine j_istore_n C (L' := [(1, .int (nI (nn + 1))), (2, .int (nI 1)), (3, .int r12), (0, .ref o)]) dX4_run_115 rfl (jlt hnl (by decide)) rfl ?_
                    refine j_goto C (tgt := 36) dX4_run_116 (by decide) ?_
                    refine J.sub (L' := [(0, .ref o), (1, .int (nI (nn + 1))), (2, .int (nI 1))]) ?_ [3, 0, 1] rfl
                    exact ih36 ((rdO t s).1) (fu - 1) ((ordOp Q2 (rdO t s).2).2.2) (nn + 1) M11 hRB hoB hrB (VQ_ord hV2) (by rw [hf2] at hfl; rw [flS_s ⟨flS_ok hfl, c48⟩] at hfl; rw [hf2]; exact hfl) (by
                      have hz : (rdO t s).1.2 = false := by rw [hf2] at hfl; rw [flS_s ⟨flS_ok hfl, c48⟩] at hfl; exact flS_ok hfl
                      have := rdO_prog hz
                      omega) (by rw [hnn, hf2]; exact runF_s c48 c95) (by omega) (by omega)
              · intro c60
                have hord : opRaid Q2 (rdO t s).2.2.1 = ordOp Q2 (rdO t s).2 := (iF_t ((kI_9 rdW_k).mp c60)).symm
                refine j_aload_n C dX4_run_63 0 rfl rfl ?_
                refine j_aload_n C dX4_run_64 0 rfl rfl ?_
                refine jm_get24 C dX4_run_65 ?_
                refine j_ev (v' := ((rdO t s).2.2.1)) hM10.2.2.1 ?_
                refine jm_callR C hO (as := [.int ((rdO t s).2.2.1)]) (mc_raid G M10 Q2 (rdO t s).2.2.1 (hRel2.fr hM10.2.2.2.2 (by decide) (by decide) (by decide) (by decide)) hV2) mw_raid (by decide) (Nat.le_refl _) rfl (Nat.le_of_ble_eq_true rfl) dX4_run_68 (fun r15 M14 hM14 => ?_)
                refine j_goto C (tgt := 90) dX4_run_71 (by decide) ?_
                refine j_istore_n C (L' := [(3, .int r15), (0, .ref o), (1, .int (nI nn)), (2, .int (nI 1))]) dX4_run_90 rfl (jlt hnl (by decide)) rfl ?_
                refine j_aload_n C dX4_run_91 1 rfl rfl ?_
                refine jm_get0 C dX4_run_92 ?_
                refine j_ev (v' := nI ((ordOp Q2 (rdO t s).2).1)) (by rw [hM14.1, hord]) ?_
                have hRB : RD M14 t (rdO t s).1 := hM10.1.oth hM14.2.2.2
                have hoB : othR M M14 := (hF.tr (hM10.2.2.2.2.R (by decide))).tr hM14.2.2.2.R
                have hrB : RelM M14 (ordOp Q2 (rdO t s).2).2.2 := by rw [← hord]; exact hM14.2.2.1
                obtain ⟨f2, hf2⟩ : ∃ f2, fu = f2 + 1 := ⟨fu - 1, by omega⟩
                refine j_ifn_ne C (by have := ord_cd (Q := Q2) (o := (rdO t s).2); omega) (tgt := 102) dX4_run_95 (by decide) ?_ ?_
                · intro c95
                  refine j_iconst C (v := nI 0) dX4_run_102 (by decide) ?_
                  refine j_istore_n C (L' := [(2, .int (nI 0)), (3, .int r15), (0, .ref o), (1, .int (nI nn))]) dX4_run_103 rfl (jlt hnl (by decide)) rfl ?_
                  refine j_iload_n C dX4_run_104 3 rfl rfl ?_
                  refine j_iload_n C dX4_run_105 0 rfl rfl ?_
                  refine j_ifn_eq C (by decide) (tgt := 113) dX4_run_106 (by decide) ?_ ?_
                  · intro c106
                    refine j_iconst C (v := nI 0) dX4_run_113 (by decide) ?_
                    refine j_iaddn C dX4_run_114 ?_
                    refine j_istore_n C (L' := [(1, .int (nI (nn + 0))), (2, .int (nI 0)), (3, .int r15), (0, .ref o)]) dX4_run_115 rfl (jlt hnl (by decide)) rfl ?_
                    refine j_goto C (tgt := 36) dX4_run_116 (by decide) ?_
                    refine j_iload_n C dX4_run_36 1 rfl rfl ?_
                    refine j_ifn_eq C (by decide) (tgt := 119) dX4_run_37 (by decide) ?_ ?_
                    · intro c37
                      refine j_aload_n C dX4_run_119 3 rfl rfl ?_
                      refine j_iconst C (v := nI 0) dX4_run_120 (by decide) ?_
                      refine jm_put0 C hO dX4_run_121 (fun M16 hM16 => ?_)
                      refine j_iload_n C dX4_run_124 0 rfl rfl ?_
                      exact j_iret C E rfl (Nat.le_refl _) (⟨_, rfl, _, rfl, by unfold opRun; rw [iF_t c6, hnn, hf2, runF_x c48 c95]; exact ⟨by rw [hM16, mSF_eq], fun _ => rfl, hrB.fr (fr.F (F := [0]) hM16 (by decide)) (by decide) (by decide) (by decide) (by decide), hoB.tr ((fr.F (F := [0]) hM16 (by decide)).R (by decide))⟩⟩) dX4_run_125
                    · intro c37
                      omega
                  · intro c106
                    omega
                · intro c95
                  refine j_iconst C (v := nI 1) dX4_run_98 (by decide) ?_
                  refine j_goto C (tgt := 103) dX4_run_99 (by decide) ?_
                  refine j_istore_n C (L' := [(2, .int (nI 1)), (3, .int r15), (0, .ref o), (1, .int (nI nn))]) dX4_run_103 rfl (jlt hnl (by decide)) rfl ?_
                  refine j_iload_n C dX4_run_104 3 rfl rfl ?_
                  refine j_iload_n C dX4_run_105 0 rfl rfl ?_
                  refine j_ifn_eq C (by decide) (tgt := 113) dX4_run_106 (by decide) ?_ ?_
                  · intro c106
                    omega
                  · intro c106
                    refine j_iconst C (v := nI 1) dX4_run_109 (by decide) ?_
                    refine j_goto C (tgt := 114) dX4_run_110 (by decide) ?_
                    refine j_iaddn C dX4_run_114 ?_
                    refine j_istore_n C (L' := [(1, .int (nI (nn + 1))), (2, .int (nI 1)), (3, .int r15), (0, .ref o)]) dX4_run_115 rfl (jlt hnl (by decide)) rfl ?_
                    refine j_goto C (tgt := 36) dX4_run_116 (by decide) ?_
                    refine J.sub (L' := [(0, .ref o), (1, .int (nI (nn + 1))), (2, .int (nI 1))]) ?_ [3, 0, 1] rfl
                    exact ih36 ((rdO t s).1) (fu - 1) ((ordOp Q2 (rdO t s).2).2.2) (nn + 1) M14 hRB hoB hrB (VQ_ord hV2) (by rw [hf2] at hfl; rw [flS_s ⟨flS_ok hfl, c48⟩] at hfl; rw [hf2]; exact hfl) (by
                      have hz : (rdO t s).1.2 = false := by rw [hf2] at hfl; rw [flS_s ⟨flS_ok hfl, c48⟩] at hfl; exact flS_ok hfl
                      have := rdO_prog hz
                      omega) (by rw [hnn, hf2]; exact runF_s c48 c95) (by omega) (by omega)
      exact loop36 (61 + 1) (0, false) 61 Q 0 M8 (by have hz := hM1.2.1; exact ⟨hz.cg (by rw [hM8, mSF_ne (by decide), hM7, mSF_ne (by decide), eM5, mSF_ne (by decide)]) (by rw [hM8, hM7, eM5]; rfl), by rw [hM8, mSF_ne (by decide), hM7, mSF_eq], by rw [hM8, mSF_eq]; exact (pI_f (by decide)).symm, Nat.zero_le _⟩) (((hM1.2.2.R (by decide)).tr ((fr.F (F := [0]) eM5 (by decide)).R (by decide))).tr (((fr.F (F := [21, 22]) hM7 (by decide)).tr (fr.F hM8 (by decide))).R (by decide))) (((hRel.fr hM1.2.2 (by decide) (by decide) (by decide) (by decide)).fr (fr.F (F := [0]) eM5 (by decide)) (by decide) (by decide) (by decide) (by decide)).fr ((fr.F (F := [21, 22]) hM7 (by decide)).tr (fr.F hM8 (by decide))) (by decide) (by decide) (by decide) (by decide)) hV hfok (by show t.length - 0 < 61; omega) rfl (by omega) (Nat.lt_succ_self _)
    · intro c17
      omega
