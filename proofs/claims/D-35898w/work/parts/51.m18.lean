set_option maxRecDepth 100000
theorem kI_9 {k : Nat} (h : k ≤ 6 ∨ k = 9) : kI k = -1 ↔ k = 9 := by
  unfold kI
  by_cases h9 : k = 9
  · rw [if_pos h9]; exact ⟨fun _ => h9, fun _ => rfl⟩
  · rw [if_neg h9]; exact ⟨fun z => absurd z (nI_neg1 (by omega)), fun z => absurd z h9⟩
theorem kI_0 {k : Nat} (h : k ≤ 6 ∨ k = 9) : kI k = 0 ↔ k = 0 := by
  unfold kI
  by_cases h9 : k = 9
  · rw [if_pos h9]; exact ⟨fun z => absurd z (by decide), fun z => by omega⟩
  · rw [if_neg h9]; exact nI_eq (b := 0) (by omega) (by decide)
theorem tkV_le {t : List Nat} {s : RS} : tkV t 48 57 s ≤ 9 := by
  unfold tkV
  split
  · rename_i c; have := (nx_i.mp c).2.2; omega
  · omega
theorem rdS2_le {t : List Nat} {s : RS} (h : s.1 < t.length) : (rdS2 t s).1 ≤ t.length := by
  unfold rdS2; split
  · exact tkS_le (rdW_le h)
  · exact rdW_le h

set_option maxHeartbeats 4000000 in
theorem mc_readOrder {g : jG} (G : jOK g) (M : jM) (t : List Nat) (s : RS) (hR : RD M t s) (hs : s.1 < t.length)  : MTV g 5 yX4_readOrder [] M (fun M' => RD M' t (rdO t s).1 ∧ M'.1 23 = kI (rdO t s).2.1 ∧ M'.1 24 = (rdO t s).2.2.1 ∧ M'.1 25 = nI (rdO t s).2.2.2 ∧ fr [21, 22, 23, 24, 25] [] M M') := by
  intro h o ad hO
  refine CT.of (bytes := cX4_readOrder) (maxL := 2) (ret := none) G q2208 (by decide) (by decide +kernel) (Nat.le_of_ble_eq_true rfl) ?_
  intro z C E hT hnm hnl
  have C : jC (g, z) cX4_readOrder RX4 5 0 := C
  show J (g, z) (mput g h o ad M) 0 0 [(0, .ref o)] []
  refine j_aload_n C dX4_readOrder_0 0 rfl rfl ?_
  refine jm_callV C hO (as := []) (mc_readWord G M t s hR hs) mw_readWord (by decide) (Nat.le_refl _) rfl (Nat.le_of_ble_eq_true rfl) dX4_readOrder_1 (fun M1 hM1 => ?_)
  obtain ⟨k, hk⟩ : ∃ k, k = (rdW t s).2 := ⟨_, rfl⟩
  have hkb : k ≤ 6 ∨ k = 9 := hk ▸ rdW_k
  have hk9 := kI_9 hkb
  have hk0 := kI_0 hkb
  rw [← hk] at hM1
  refine j_aload_n C dX4_readOrder_4 0 rfl rfl ?_
  refine j_aload_n C dX4_readOrder_5 0 rfl rfl ?_
  refine jm_get23 C dX4_readOrder_6 ?_
  refine j_ev (v' := (kI k)) hM1.2.1 ?_
  refine j_iconst C (v := -1) dX4_readOrder_9 (by decide) ?_
  have join32 : ∀ (wv : Int32) (Ma : jM), (wv = if k = 9 ∨ k = 0 then nI (tkV t 48 57 (rdW t s).1) else -1) → (RD Ma t (rdS2 t s)) → (Ma.1 23 = kI k) → (fr [21, 22, 23, 24, 25] [] M Ma) → J (g, z) (mput g h o ad Ma) 0 32 [(0, .ref o)] [.int wv, .ref o] := by
    intro wv Ma hwv hRa ha23 hFa
    refine jm_put24 C hO dX4_readOrder_32 (fun M2 hM2 => ?_)
    refine j_aload_n C dX4_readOrder_35 0 rfl rfl ?_
    refine j_iconst C (v := nI 0) dX4_readOrder_36 (by decide) ?_
    refine jm_put25 C hO dX4_readOrder_37 (fun M3 hM3 => ?_)
    refine j_aload_n C dX4_readOrder_40 0 rfl rfl ?_
    refine jm_get23 C dX4_readOrder_41 ?_
    refine j_ev (v' := (kI k)) (by rw [hM3, mSF_ne (by decide), hM2, mSF_ne (by decide)]; exact ha23) ?_
    refine j_iconst C (v := -1) dX4_readOrder_44 (by decide) ?_
    have join174 : ∀ (Mg : jM), (RD Mg t (if k = 9 then rdS2 t s else (rdT t (tkS t 64 64 (rdS2 t s))).1)) → (fr [21, 22, 23, 24, 25] [] M Mg) → (Mg.1 24 = wv) → (Mg.1 23 = kI k) → (Mg.1 25 = nI (if k = 9 then 0 else (rdT t (tkS t 64 64 (rdS2 t s))).2)) → J (g, z) (mput g h o ad Mg) 0 174 [(0, .ref o)] [] := by
      intro Mg hRg hFg hg24 hg23 hg25
      refine j_aload_n C dX4_readOrder_174 0 rfl rfl ?_
      refine j_bipush C (v := nI 59) dX4_readOrder_175 (by decide) ?_
      refine j_bipush C (v := nI 59) dX4_readOrder_177 (by decide) ?_
      refine jm_callR C hO (as := [.int (nI 59), .int (nI 59)]) (mc_takes G Mg t (if k = 9 then rdS2 t s else (rdT t (tkS t 64 64 (rdS2 t s))).1) hRg 59 59 (by decide) (by decide)) mw_takes (by decide) (Nat.le_refl _) rfl (Nat.le_of_ble_eq_true rfl) dX4_readOrder_179 (fun r5 M4 hM4 => ?_)
      refine j_istore_n C (L' := [(1, .int r5), (0, .ref o)]) dX4_readOrder_182 rfl (jlt hnl (by decide)) rfl ?_
      exact j_vret C E (Nat.le_refl _) (⟨_, rfl, rfl, by unfold rdO; rw [← hk]; exact hM4.2.1, by rw [hM4.2.2.1 23 (by decide), hg23, hk]; rfl, by rw [hM4.2.2.1 24 (by decide), hg24, hwv]; unfold rdO; rw [← hk], by rw [hM4.2.2.1 25 (by decide), hg25]; unfold rdO; rw [← hk], hFg.tr (hM4.2.2.sub (by decide))⟩) dX4_readOrder_183
    refine j_ic_eq C (tgt := 174) dX4_readOrder_45 (by decide) ?_ ?_
    · intro c45
      refine J.sub (L' := [(0, .ref o)]) ?_ [0] rfl
      exact join174 M3 (by rw [if_pos (by grind)]; exact hRa.fr ((fr.F (F := [24, 25]) hM2 (by decide)).tr (fr.F hM3 (by decide))) (by decide) (by decide) (by decide)) ((hFa.tr (fr.F hM2 (by decide))).tr (fr.F hM3 (by decide))) (by rw [hM3, mSF_ne (by decide), hM2, mSF_eq]) (by rw [hM3, mSF_ne (by decide), hM2, mSF_ne (by decide)]; exact ha23) (by rw [hM3, mSF_eq, if_pos (by grind)])
    · intro c45
      have hfb : fr [24, 25] [] Ma M3 := (fr.F hM2 (by decide)).tr (fr.F hM3 (by decide))
      have hRb : RD M3 t (rdS2 t s) := hRa.fr hfb (by decide) (by decide) (by decide)
      obtain ⟨s3, hs3⟩ : ∃ x, x = tkS t 64 64 (rdS2 t s) := ⟨_, rfl⟩
      obtain ⟨s4, hs4⟩ : ∃ x, x = tkS t 48 57 s3 := ⟨_, rfl⟩
      obtain ⟨d1, hd1⟩ : ∃ x, x = tkV t 48 57 s3 := ⟨_, rfl⟩
      obtain ⟨s5, hs5⟩ : ∃ x, x = (if nx t 48 57 s4 = true then tkS t 48 57 s4 else s4) := ⟨_, rfl⟩
      obtain ⟨d2, hd2⟩ : ∃ x, x = (if nx t 48 57 s4 = true then 10 * d1 + tkV t 48 57 s4 else d1) := ⟨_, rfl⟩
      have hd1b : d1 ≤ 9 := hd1 ▸ tkV_le
      have hd2b : d2 ≤ 99 := by
        have := tkV_le (t := t) (s := s4)
        rw [hd2]; split <;> omega
      refine j_aload_n C dX4_readOrder_48 0 rfl rfl ?_
      refine j_bipush C (v := nI 64) dX4_readOrder_49 (by decide) ?_
      refine j_bipush C (v := nI 64) dX4_readOrder_51 (by decide) ?_
      refine jm_callR C hO (as := [.int (nI 64), .int (nI 64)]) (mc_takes G M3 t (rdS2 t s) hRb 64 64 (by decide) (by decide)) mw_takes (by decide) (Nat.le_refl _) rfl (Nat.le_of_ble_eq_true rfl) dX4_readOrder_53 (fun r7 M6 hM6 => ?_)
      refine j_istore_n C (L' := [(1, .int r7), (0, .ref o)]) dX4_readOrder_56 rfl (jlt hnl (by decide)) rfl ?_
      refine j_aload_n C dX4_readOrder_57 1 rfl rfl ?_
      refine j_aload_n C dX4_readOrder_58 1 rfl rfl ?_
      refine j_bipush C (v := nI 48) dX4_readOrder_59 (by decide) ?_
      refine j_bipush C (v := nI 57) dX4_readOrder_61 (by decide) ?_
      refine jm_callR C hO (as := [.int (nI 48), .int (nI 57)]) (mc_takes G M6 t s3 (by rw [hs3]; exact hM6.2.1) 48 57 (by decide) (by decide)) mw_takes (by decide) (Nat.le_refl _) rfl (Nat.le_of_ble_eq_true rfl) dX4_readOrder_63 (fun r9 M8 hM8 => ?_)
      refine j_ev (v' := nI (tkV t 48 57 s3)) hM8.1 ?_
      refine jm_put25 C hO dX4_readOrder_66 (fun M10 hM10 => ?_)
      refine j_aload_n C dX4_readOrder_69 1 rfl rfl ?_
      refine j_aload_n C dX4_readOrder_70 1 rfl rfl ?_
      refine j_bipush C (v := nI 48) dX4_readOrder_71 (by decide) ?_
      refine j_bipush C (v := nI 57) dX4_readOrder_73 (by decide) ?_
      refine jm_callQ C hO (as := [.int (nI 48), .int (nI 57)]) (mc_isNext G M10 t s4 (by rw [hs4]; exact hM8.2.1.fr (fr.F (F := [25]) hM10 (by decide)) (by decide) (by decide) (by decide)) 48 57 (by decide) (by decide)) mw_isNext (by decide) (Nat.le_refl _) rfl (Nat.le_of_ble_eq_true rfl) dX4_readOrder_75 ?_
      have join104 : ∀ (Md : jM) (e2 : Nat), (e2 = d2) → (RD Md t s5) → (fr [21, 22, 23, 24, 25] [] M Md) → (Md.1 24 = wv) → (Md.1 23 = kI k) → J (g, z) (mput g h o ad Md) 0 104 [(0, .ref o)] [.int (nI e2), .ref o] := by
        intro Md e2 hd2e hRd hFd hd24 hd23
        refine jm_put25 C hO dX4_readOrder_104 (fun M11 hM11 => ?_)
        have hRe : RD M11 t s5 := hRd.fr (fr.F (F := [25]) hM11 (by decide)) (by decide) (by decide) (by decide)
        have he25 : M11.1 25 = nI d2 := by rw [hM11, mSF_eq, hd2e]
        have h60 := hRe.1.2.1
        have hn2 : rdN2 t s5 = true ↔ nx t 48 57 s5 = true ∧ 1 < s5.1 ∧ 48 ≤ t.getD (s5.1 - 2) 0 ∧ t.getD (s5.1 - 2) 0 ≤ 57 := by unfold rdN2; rw [Bool.and_eq_true, decide_eq_true_iff]
        have hFe : fr [21, 22, 23, 24, 25] [] M M11 := hFd.tr (fr.F hM11 (by decide))
        have he24 : M11.1 24 = wv := by rw [hM11, mSF_ne (by decide)]; exact hd24
        have he23 : M11.1 23 = kI k := by rw [hM11, mSF_ne (by decide)]; exact hd23
        have hTT : rdT t (tkS t 64 64 (rdS2 t s)) = (if rdN2 t s5 = true then tkS t 48 57 s5 else s5, if rdN2 t s5 = true then 10 * d2 + tkV t 48 57 s5 else d2) := by unfold rdT; dsimp only; rw [← hs3, ← hs4, ← hd1, ← hs5, ← hd2]
        refine j_aload_n C dX4_readOrder_107 0 rfl rfl ?_
        refine j_aload_n C dX4_readOrder_108 0 rfl rfl ?_
        refine j_bipush C (v := nI 48) dX4_readOrder_109 (by decide) ?_
        refine j_bipush C (v := nI 57) dX4_readOrder_111 (by decide) ?_
        refine jm_callQ C hO (as := [.int (nI 48), .int (nI 57)]) (mc_isNext G M11 t s5 hRe 48 57 (by decide) (by decide)) mw_isNext (by decide) (Nat.le_refl _) rfl (Nat.le_of_ble_eq_true rfl) dX4_readOrder_113 ?_
        have join171 : ∀ (Mf : jM) (e3 : Nat), (e3 = if rdN2 t s5 = true then 10 * d2 + tkV t 48 57 s5 else d2) → (RD Mf t (if rdN2 t s5 = true then tkS t 48 57 s5 else s5)) → (fr [21, 22, 23, 24, 25] [] M Mf) → (Mf.1 24 = wv) → (Mf.1 23 = kI k) → J (g, z) (mput g h o ad Mf) 0 171 [(0, .ref o)] [.int (nI e3), .ref o] := by
          intro Mf e3 he3 hRf hFf hf24 hf23
          refine jm_put25 C hO dX4_readOrder_171 (fun M12 hM12 => ?_)
          refine J.sub (L' := [(0, .ref o)]) ?_ [0] rfl
          exact join174 M12 (by rw [if_neg (by grind), hTT]; exact hRf.fr (fr.F (F := [25]) hM12 (by decide)) (by decide) (by decide) (by decide)) (hFf.tr (fr.F hM12 (by decide))) (by rw [hM12, mSF_ne (by decide)]; exact hf24) (by rw [hM12, mSF_ne (by decide)]; exact hf23) (by rw [hM12, mSF_eq, if_neg (by grind), hTT, he3])
        refine j_ifp_eq C (tgt := 167) dX4_readOrder_116 (by decide) ?_ ?_
        · intro c116
          refine j_aload_n C dX4_readOrder_167 0 rfl rfl ?_
          refine jm_get25 C dX4_readOrder_168 ?_
          refine j_ev (v' := nI d2) he25 ?_
          refine J.sub (L' := [(0, .ref o)]) ?_ [0] rfl
          exact join171 M11 (d2) (by rw [if_neg (fun z => by have := hn2.mp z; grind)]) (by rw [if_neg (fun z => by have := hn2.mp z; grind)]; exact hRe) hFe he24 he23
        · intro c116
          refine j_aload_n C dX4_readOrder_119 0 rfl rfl ?_
          refine jm_get21 C dX4_readOrder_120 ?_
          refine j_ev (v' := nI s5.1) hRe.2.1 ?_
          refine j_iconst C (v := nI 1) dX4_readOrder_123 (by decide) ?_
          refine j_icn_le C (by have := hRe.2.2.2; omega) (by decide) (tgt := 167) dX4_readOrder_124 (by decide) ?_ ?_
          · intro c124
            refine j_aload_n C dX4_readOrder_167 0 rfl rfl ?_
            refine jm_get25 C dX4_readOrder_168 ?_
            refine j_ev (v' := nI d2) he25 ?_
            refine J.sub (L' := [(0, .ref o)]) ?_ [0] rfl
            exact join171 M11 (d2) (by rw [if_neg (fun z => by have := hn2.mp z; grind)]) (by rw [if_neg (fun z => by have := hn2.mp z; grind)]; exact hRe) hFe he24 he23
          · intro c124
            refine j_aload_n C dX4_readOrder_127 0 rfl rfl ?_
            refine jm_get19 C dX4_readOrder_128 ?_
            refine j_aload_n C dX4_readOrder_131 0 rfl rfl ?_
            refine jm_get21 C dX4_readOrder_132 ?_
            refine j_ev (v' := nI s5.1) hRe.2.1 ?_
            refine j_iconst C (v := nI 2) dX4_readOrder_135 (by decide) ?_
            refine j_isubn C (by omega) dX4_readOrder_136 ?_
            refine jm_ald19 C hO (by have := hRe.2.2.2; omega) dX4_readOrder_137 ?_
            refine j_ev (v' := nI (t.getD (s5.1 - 2) 0)) ((hRe.1.2.2 (s5.1 - 2) (by have := hRe.2.2.2; omega)).1) ?_
            refine j_bipush C (v := nI 48) dX4_readOrder_138 (by decide) ?_
            refine j_bipush C (v := nI 57) dX4_readOrder_140 (by decide) ?_
            refine j_callSQ C (as := [.int (nI (t.getD (s5.1 - 2) 0)), .int (nI 48), .int (nI 57)]) (mi_in G (nI (t.getD (s5.1 - 2) 0)) 48 57) mw_in (by decide) (Nat.le_refl _) rfl (Nat.le_of_ble_eq_true rfl) dX4_readOrder_142 ?_
            refine j_ev (v' := pI (48 ≤ t.getD (s5.1 - 2) 0 ∧ t.getD (s5.1 - 2) 0 ≤ 57)) (pI_c (inI_i (by decide) (by decide) (by have := (hRe.1.2.2 (s5.1 - 2) (by have := hRe.2.2.2; omega)).2.2; omega))) ?_
            refine j_ifp_eq C (tgt := 167) dX4_readOrder_145 (by decide) ?_ ?_
            · intro c145
              refine j_aload_n C dX4_readOrder_167 0 rfl rfl ?_
              refine jm_get25 C dX4_readOrder_168 ?_
              refine j_ev (v' := nI d2) he25 ?_
              refine J.sub (L' := [(0, .ref o)]) ?_ [0] rfl
              exact join171 M11 (d2) (by rw [if_neg (fun z => by have := hn2.mp z; grind)]) (by rw [if_neg (fun z => by have := hn2.mp z; grind)]; exact hRe) hFe he24 he23
            · intro c145
              refine j_bipush C (v := nI 10) dX4_readOrder_148 (by decide) ?_
              refine j_aload_n C dX4_readOrder_150 0 rfl rfl ?_
              refine jm_get25 C dX4_readOrder_151 ?_
              refine j_ev (v' := nI d2) he25 ?_
              refine j_imuln C dX4_readOrder_154 ?_
              refine j_aload_n C dX4_readOrder_155 0 rfl rfl ?_
              refine j_bipush C (v := nI 48) dX4_readOrder_156 (by decide) ?_
              refine j_bipush C (v := nI 57) dX4_readOrder_158 (by decide) ?_
              refine jm_callR C hO (as := [.int (nI 48), .int (nI 57)]) (mc_takes G M11 t s5 hRe 48 57 (by decide) (by decide)) mw_takes (by decide) (Nat.le_refl _) rfl (Nat.le_of_ble_eq_true rfl) dX4_readOrder_160 (fun r14 M13 hM13 => ?_)
              refine j_ev (v' := nI (tkV t 48 57 s5)) hM13.1 ?_
              refine j_iaddn C dX4_readOrder_163 ?_
              refine j_goto C (tgt := 171) dX4_readOrder_164 (by decide) ?_
              refine J.sub (L' := [(0, .ref o)]) ?_ [0] rfl
              exact join171 M13 (10 * d2 + tkV t 48 57 s5) (by rw [if_pos (hn2.mpr (by grind))]) (by rw [if_pos (hn2.mpr (by grind))]; exact hM13.2.1) (hFe.tr (hM13.2.2.sub (by decide))) (by rw [hM13.2.2.1 24 (by decide)]; exact he24) (by rw [hM13.2.2.1 23 (by decide)]; exact he23)
      refine j_ifp_eq C (tgt := 100) dX4_readOrder_78 (by decide) ?_ ?_
      · intro c78
        refine j_aload_n C dX4_readOrder_100 1 rfl rfl ?_
        refine jm_get25 C dX4_readOrder_101 ?_
        refine j_ev (v' := nI (tkV t 48 57 s3)) (by rw [hM10, mSF_eq]) ?_
        refine J.sub (L' := [(0, .ref o)]) ?_ [1] rfl
        exact join104 M10 (tkV t 48 57 s3) (by rw [hd2, if_neg c78, hd1]) (by rw [hs5, if_neg c78]; exact hM8.2.1.fr (fr.F (F := [25]) hM10 (by decide)) (by decide) (by decide) (by decide) |> fun z => by rw [hs4]; exact z) ((((((hFa).tr (fr.F hM2 (by decide))).tr (fr.F hM3 (by decide))).tr (hM6.2.2.sub (by decide))).tr (hM8.2.2.sub (by decide))).tr (fr.F hM10 (by decide))) (by rw [hM10, mSF_ne (by decide), hM8.2.2.1 24 (by decide), hM6.2.2.1 24 (by decide), hM3, mSF_ne (by decide), hM2, mSF_eq]) (by rw [hM10, mSF_ne (by decide), hM8.2.2.1 23 (by decide), hM6.2.2.1 23 (by decide), hM3, mSF_ne (by decide), hM2, mSF_ne (by decide)]; exact ha23)
      · intro c78
        refine j_bipush C (v := nI 10) dX4_readOrder_81 (by decide) ?_
        refine j_aload_n C dX4_readOrder_83 1 rfl rfl ?_
        refine jm_get25 C dX4_readOrder_84 ?_
        refine j_ev (v' := nI (tkV t 48 57 s3)) (by rw [hM10, mSF_eq]) ?_
        refine j_imuln C dX4_readOrder_87 ?_
        refine j_aload_n C dX4_readOrder_88 1 rfl rfl ?_
        refine j_bipush C (v := nI 48) dX4_readOrder_89 (by decide) ?_
        refine j_bipush C (v := nI 57) dX4_readOrder_91 (by decide) ?_
        refine jm_callR C hO (as := [.int (nI 48), .int (nI 57)]) (mc_takes G M10 t s4 (by rw [hs4]; exact hM8.2.1.fr (fr.F (F := [25]) hM10 (by decide)) (by decide) (by decide) (by decide)) 48 57 (by decide) (by decide)) mw_takes (by decide) (Nat.le_refl _) rfl (Nat.le_of_ble_eq_true rfl) dX4_readOrder_93 (fun r16 M15 hM15 => ?_)
        refine j_ev (v' := nI (tkV t 48 57 s4)) hM15.1 ?_
        refine j_iaddn C dX4_readOrder_96 ?_
        refine j_goto C (tgt := 104) dX4_readOrder_97 (by decide) ?_
        refine J.sub (L' := [(0, .ref o)]) ?_ [1] rfl
        exact join104 M15 (10 * (tkV t 48 57 s3) + tkV t 48 57 s4) (by rw [hd2, if_pos c78, hd1]) (by rw [hs5, if_pos c78]; exact hM15.2.1) (((((((hFa).tr (fr.F hM2 (by decide))).tr (fr.F hM3 (by decide))).tr (hM6.2.2.sub (by decide))).tr (hM8.2.2.sub (by decide))).tr (fr.F hM10 (by decide))).tr (hM15.2.2.sub (by decide))) (by rw [hM15.2.2.1 24 (by decide), hM10, mSF_ne (by decide), hM8.2.2.1 24 (by decide), hM6.2.2.1 24 (by decide), hM3, mSF_ne (by decide), hM2, mSF_eq]) (by rw [hM15.2.2.1 23 (by decide), hM10, mSF_ne (by decide), hM8.2.2.1 23 (by decide), hM6.2.2.1 23 (by decide), hM3, mSF_ne (by decide), hM2, mSF_ne (by decide)]; exact ha23)
  refine j_ic_eq C (tgt := 20) dX4_readOrder_10 (by decide) ?_ ?_
  · intro c10
    refine j_aload_n C dX4_readOrder_20 0 rfl rfl ?_
    refine j_bipush C (v := nI 48) dX4_readOrder_21 (by decide) ?_
    refine j_bipush C (v := nI 57) dX4_readOrder_23 (by decide) ?_
    refine jm_callR C hO (as := [.int (nI 48), .int (nI 57)]) (mc_takes G M1 t (rdW t s).1 hM1.1 48 57 (by decide) (by decide)) mw_takes (by decide) (Nat.le_refl _) rfl (Nat.le_of_ble_eq_true rfl) dX4_readOrder_25 (fun r18 M17 hM17 => ?_)
    refine j_ev (v' := (nI (tkV t 48 57 (rdW t s).1))) hM17.1 ?_
    refine j_goto C (tgt := 32) dX4_readOrder_28 (by decide) ?_
    refine J.sub (L' := [(0, .ref o)]) ?_ [0] rfl
    exact join32 (nI (tkV t 48 57 (rdW t s).1)) M17 (by rw [if_pos (by grind)]) (by unfold rdS2; rw [← hk, if_pos (by grind)]; exact hM17.2.1) (by rw [hM17.2.2.1 23 (by decide)]; exact hM1.2.1) ((hM1.2.2.sub (by decide)).tr (hM17.2.2.sub (by decide)))
  · intro c10
    refine j_aload_n C dX4_readOrder_13 0 rfl rfl ?_
    refine jm_get23 C dX4_readOrder_14 ?_
    refine j_ev (v' := (kI k)) hM1.2.1 ?_
    refine j_if_ne C (tgt := 31) dX4_readOrder_17 (by decide) ?_ ?_
    · intro c17
      refine j_iconst C (v := -1) dX4_readOrder_31 (by decide) ?_
      refine J.sub (L' := [(0, .ref o)]) ?_ [0] rfl
      exact join32 (-1) M1 (by rw [if_neg (by grind)]) (by unfold rdS2; rw [← hk, if_neg (by grind)]; exact hM1.1) hM1.2.1 (hM1.2.2.sub (by decide))
    · intro c17
      refine j_aload_n C dX4_readOrder_20 0 rfl rfl ?_
      refine j_bipush C (v := nI 48) dX4_readOrder_21 (by decide) ?_
      refine j_bipush C (v := nI 57) dX4_readOrder_23 (by decide) ?_
      refine jm_callR C hO (as := [.int (nI 48), .int (nI 57)]) (mc_takes G M1 t (rdW t s).1 hM1.1 48 57 (by decide) (by decide)) mw_takes (by decide) (Nat.le_refl _) rfl (Nat.le_of_ble_eq_true rfl) dX4_readOrder_25 (fun r20 M19 hM19 => ?_)
      refine j_ev (v' := (nI (tkV t 48 57 (rdW t s).1))) hM19.1 ?_
      refine j_goto C (tgt := 32) dX4_readOrder_28 (by decide) ?_
      refine J.sub (L' := [(0, .ref o)]) ?_ [0] rfl
      exact join32 (nI (tkV t 48 57 (rdW t s).1)) M19 (by rw [if_pos (by grind)]) (by unfold rdS2; rw [← hk, if_pos (by grind)]; exact hM19.2.1) (by rw [hM19.2.2.1 23 (by decide)]; exact hM1.2.1) ((hM1.2.2.sub (by decide)).tr (hM19.2.2.sub (by decide)))

theorem tkS_st {t : List Nat} {lo hi : Nat} {s : RS} (h : (tkS t lo hi s).2 = false) : s.2 = false := (tkS_ok h).2.2
theorem rdT_st {t : List Nat} {s : RS} (h : (rdT t s).1.2 = false) : s.2 = false ∧ s.1 ≤ (rdT t s).1.1 := by
  unfold rdT at h ⊢
  dsimp only at h ⊢
  have h4 : s.1 ≤ (tkS t 48 57 s).1 := tkS_mono
  generalize hs4 : tkS t 48 57 s = s4 at h h4 ⊢
  have hst4 : s4.2 = false → s.2 = false := fun z => tkS_st (hs4 ▸ z)
  have h5 : s4.1 ≤ (if nx t 48 57 s4 = true then tkS t 48 57 s4 else s4).1 := by split; exact tkS_mono; exact Nat.le_refl _
  have hst5 : (if nx t 48 57 s4 = true then tkS t 48 57 s4 else s4).2 = false → s4.2 = false := fun z => by split at z; exact tkS_st z; exact z
  generalize (if nx t 48 57 s4 = true then tkS t 48 57 s4 else s4) = s5 at h h5 hst5 ⊢
  split at h
  · exact ⟨hst4 (hst5 (tkS_st h)), by have : s5.1 ≤ (tkS t 48 57 s5).1 := tkS_mono
                                      simp only [*, if_true]; omega⟩
  · rename_i c
    exact ⟨hst4 (hst5 h), by rw [if_neg c]; omega⟩
theorem tkA_st {t : List Nat} {c : Nat} {s : RS} (h : (tkA t c s).2 = false) : s.2 = false := by
  unfold tkA at h; split at h
  · exact h
  · exact tkS_st h
theorem rdW_prog {t : List Nat} {s : RS} (h : (rdW t s).1.2 = false) : s.1 + 1 ≤ (rdW t s).1.1 := by
  have key : ∀ a b c d : Nat, s.1 + 1 ≤ (tkA t a (tkA t b (tkA t c (tkS t d d (s.1 + 1, s.2))))).1 := fun a b c d => Nat.le_trans (tkS_mono (s := (s.1 + 1, s.2))) (Nat.le_trans tkA_mono (Nat.le_trans tkA_mono tkA_mono))
  have key2 : ∀ a b c d : Nat, s.1 + 1 ≤ (tkA t a (tkA t b (tkA t c (tkS t d d (tkS t 97 97 (s.1 + 1, s.2)))))).1 := fun a b c d => Nat.le_trans (tkS_mono (s := (s.1 + 1, s.2))) (Nat.le_trans tkS_mono (Nat.le_trans tkA_mono (Nat.le_trans tkA_mono tkA_mono)))
  unfold rdW at h ⊢
  split
  · exact key ..
  split
  · exact key ..
  split
  · exact key ..
  split
  · exact key ..
  split
  · exact key ..
  split
  · exact key ..
  split
  · split
    · exact key2 ..
    · exact key2 ..
  · simp only [*, if_false] at h
    exact absurd h (by simp)
theorem rdO_prog {t : List Nat} {s : RS} (h : (rdO t s).1.2 = false) : s.1 < (rdO t s).1.1 := by
  have hm : ∀ x : RS, x.1 ≤ (tkS t 59 59 x).1 := fun x => tkS_mono
  have h2 : (rdS2 t s).2 = false → s.1 + 1 ≤ (rdS2 t s).1 := fun z => by
    unfold rdS2 at z ⊢
    split
    · rename_i c
      rw [if_pos c] at z
      exact Nat.le_trans (rdW_prog (tkS_st z)) tkS_mono
    · rename_i c
      rw [if_neg c] at z
      exact rdW_prog z
  unfold rdO at h ⊢
  dsimp only at h ⊢
  have h3 := tkS_st h
  refine Nat.lt_of_lt_of_le ?_ (hm _)
  split
  · rename_i c
    rw [if_pos c] at h3
    exact h2 h3
  · rename_i c
    rw [if_neg c] at h3
    obtain ⟨a, b⟩ := rdT_st h3
    have : (rdS2 t s).1 ≤ (tkS t 64 64 (rdS2 t s)).1 := tkS_mono
    have := h2 (tkS_st a)
    omega
def flS (t : List Nat) : Nat → RS → RS
  | 0, s => s
  | n + 1, s => if s.2 = false ∧ s.1 < t.length then flS t n (rdO t s).1 else s
theorem flS_e {t : List Nat} {n : Nat} {s : RS} (h : ¬ (s.2 = false ∧ s.1 < t.length)) : flS t n s = s := by
  cases n with
  | zero => rfl
  | succ n => exact if_neg h
theorem flS_s {t : List Nat} {n : Nat} {s : RS} (h : s.2 = false ∧ s.1 < t.length) : flS t (n + 1) s = flS t n (rdO t s).1 := if_pos h
/-- where the first fault is, or -1 -/
def faultI (t : List Nat) : Int32 := if (flS t 61 (0, false)).2 = true then nI (flS t 61 (0, false)).1 else -1

set_option maxHeartbeats 4000000 in
theorem mc_faultOf {g : jG} (G : jOK g) (M : jM) (t : List Nat) (hX : TX M t)  : MTR g 6 yX4_faultOf [] M (fun v M' => v = faultI t ∧ TX M' t ∧ fr [21, 22, 23, 24, 25] [] M M') := by
  intro h o ad hO
  refine CT.of (bytes := cX4_faultOf) (maxL := 1) (ret := (some .int)) G q2204 (by decide) (by decide +kernel) (Nat.le_of_ble_eq_true rfl) ?_
  intro z C E hT hnm hnl
  have C : jC (g, z) cX4_faultOf RX4 6 0 := C
  show J (g, z) (mput g h o ad M) 0 0 [(0, .ref o)] []
  refine j_aload_n C dX4_faultOf_0 0 rfl rfl ?_
  refine j_iconst C (v := nI 0) dX4_faultOf_1 (by decide) ?_
  refine jm_put21 C hO dX4_faultOf_2 (fun M1 hM1 => ?_)
  refine j_aload_n C dX4_faultOf_5 0 rfl rfl ?_
  refine j_iconst C (v := nI 0) dX4_faultOf_6 (by decide) ?_
  refine jm_put22 C hO ⟨by decide, by decide⟩ dX4_faultOf_7 (fun M2 hM2 => ?_)
  refine J.sub (L' := [(0, .ref o)]) ?_ [0] rfl
  have loop10 : ∀ (mz : Nat) (s : RS) (fu : Nat) (Mk : jM), (RD Mk t s) → (fr [21, 22, 23, 24, 25] [] M Mk) → (flS t 61 (0, false) = flS t fu s) → (s.2 = true ∨ t.length - s.1 < fu) → fu < mz → J (g, z) (mput g h o ad Mk) 0 10 [(0, .ref o)] [] := by
    intro mz
    induction mz with
    | zero => intro s fu Mk; intros; omega
    | succ mz ih10 =>
      intro s fu Mk hR hF hfl hfu hm10
      refine j_aload_n C dX4_faultOf_10 0 rfl rfl ?_
      refine jm_get22 C dX4_faultOf_11 ?_
      refine j_ev (v' := pI (s.2 = true)) hR.2.2.1 ?_
      refine j_ifp_ne C (tgt := 35) dX4_faultOf_14 (by decide) ?_ ?_
      · intro c14
        have h60e := hR.1.2.1
        refine j_aload_n C dX4_faultOf_35 0 rfl rfl ?_
        refine jm_get22 C dX4_faultOf_36 ?_
        refine j_ev (v' := pI (s.2 = true)) hR.2.2.1 ?_
        refine j_ifp_eq C (tgt := 49) dX4_faultOf_39 (by decide) ?_ ?_
        · intro c39
          refine j_iconst C (v := -1) dX4_faultOf_49 (by decide) ?_
          exact j_iret C E rfl (Nat.le_refl _) (⟨_, rfl, _, rfl, by unfold faultI; rw [hfl, flS_e (by grind), if_neg c39], ⟨hR.1, hF⟩⟩) dX4_faultOf_50
        · intro c39
          refine j_aload_n C dX4_faultOf_42 0 rfl rfl ?_
          refine jm_get21 C dX4_faultOf_43 ?_
          refine j_ev (v' := nI s.1) hR.2.1 ?_
          refine j_goto C (tgt := 50) dX4_faultOf_46 (by decide) ?_
          exact j_iret C E rfl (Nat.le_refl _) (⟨_, rfl, _, rfl, by unfold faultI; rw [hfl, flS_e (by grind), if_pos c39], ⟨hR.1, hF⟩⟩) dX4_faultOf_50
      · intro c14
        have hsb : s.2 = false := by simpa using c14
        have h60 := hR.1.2.1
        refine j_aload_n C dX4_faultOf_17 0 rfl rfl ?_
        refine jm_get21 C dX4_faultOf_18 ?_
        refine j_ev (v' := nI s.1) hR.2.1 ?_
        refine j_aload_n C dX4_faultOf_21 0 rfl rfl ?_
        refine jm_get20 C dX4_faultOf_22 ?_
        refine j_ev (v' := nI t.length) hR.1.1 ?_
        refine j_icn_ge C (by have := hR.2.2.2; omega) (by have := hR.2.2.2; omega) (tgt := 35) dX4_faultOf_25 (by decide) ?_ ?_
        · intro c25
          have h60e := hR.1.2.1
          refine j_aload_n C dX4_faultOf_35 0 rfl rfl ?_
          refine jm_get22 C dX4_faultOf_36 ?_
          refine j_ev (v' := pI (s.2 = true)) hR.2.2.1 ?_
          refine j_ifp_eq C (tgt := 49) dX4_faultOf_39 (by decide) ?_ ?_
          · intro c39
            refine j_iconst C (v := -1) dX4_faultOf_49 (by decide) ?_
            exact j_iret C E rfl (Nat.le_refl _) (⟨_, rfl, _, rfl, by unfold faultI; rw [hfl, flS_e (by grind), if_neg c39], ⟨hR.1, hF⟩⟩) dX4_faultOf_50
          · intro c39
            refine j_aload_n C dX4_faultOf_42 0 rfl rfl ?_
            refine jm_get21 C dX4_faultOf_43 ?_
            refine j_ev (v' := nI s.1) hR.2.1 ?_
            refine j_goto C (tgt := 50) dX4_faultOf_46 (by decide) ?_
            exact j_iret C E rfl (Nat.le_refl _) (⟨_, rfl, _, rfl, by unfold faultI; rw [hfl, flS_e (by grind), if_pos c39], ⟨hR.1, hF⟩⟩) dX4_faultOf_50
        · intro c25
          have hfu2 : t.length - s.1 < fu := by rcases hfu with z | z; exact absurd z c14; exact z
          refine j_aload_n C dX4_faultOf_28 0 rfl rfl ?_
          refine jm_callV C hO (as := []) (mc_readOrder G Mk t s hR c25) mw_readOrder (by decide) (Nat.le_refl _) rfl (Nat.le_of_ble_eq_true rfl) dX4_faultOf_29 (fun M3 hM3 => ?_)
          refine j_goto C (tgt := 10) dX4_faultOf_32 (by decide) ?_
          refine J.sub (L' := [(0, .ref o)]) ?_ [0] rfl
          exact ih10 ((rdO t s).1) (fu - 1) M3 hM3.1 (hF.tr hM3.2.2.2.2) (by rw [hfl]; obtain ⟨f2, rfl⟩ : ∃ f2, fu = f2 + 1 := ⟨fu - 1, by omega⟩; exact flS_s ⟨hsb, c25⟩) (by
            by_cases z : (rdO t s).1.2 = true
            · exact Or.inl z
            · refine Or.inr ?_
              have := rdO_prog (t := t) (s := s) (by simpa using z)
              omega) (by omega)
  exact loop10 (61 + 1) (0, false) 61 M2 (⟨hX.cg (by rw [hM2, mSF_ne (by decide), hM1, mSF_ne (by decide)]) (by rw [hM2, hM1]; rfl), by rw [hM2, mSF_ne (by decide), hM1, mSF_eq], by rw [hM2, mSF_eq]; exact (pI_f (by decide)).symm, Nat.zero_le _⟩) ((fr.F hM1 (by decide)).tr (fr.F hM2 (by decide))) rfl (Or.inr (by have := hX.2.1; show t.length - 0 < 61; omega)) (Nat.lt_succ_self _)

set_option maxHeartbeats 4000000 in
theorem mc_fault {g : jG} (G : jOK g) (M : jM) (t : List Nat) (hX : TX M t)  : MTR g 7 yX4_fault [] M (fun v M' => v = faultI t ∧ M'.1 0 = nI 0 ∧ TX M' t ∧ fr [0, 21, 22, 23, 24, 25] [] M M') := by
  intro h o ad hO
  refine CT.of (bytes := cX4_fault) (maxL := 1) (ret := (some .int)) G q2200 (by decide) (by decide +kernel) (Nat.le_of_ble_eq_true rfl) ?_
  intro z C E hT hnm hnl
  have C : jC (g, z) cX4_fault RX4 7 0 := C
  show J (g, z) (mput g h o ad M) 0 0 [(0, .ref o)] []
  refine j_aload_n C dX4_fault_0 0 rfl rfl ?_
  refine j_iconst C (v := nI 0) dX4_fault_1 (by decide) ?_
  refine jm_put0 C hO dX4_fault_2 (fun M1 hM1 => ?_)
  refine j_aload_n C dX4_fault_5 0 rfl rfl ?_
  refine jm_callR C hO (as := []) (mc_faultOf G M1 t (hX.cg (by rw [hM1, mSF_ne (by decide)]) (by rw [hM1]; rfl))) mw_faultOf (by decide) (Nat.le_refl _) rfl (Nat.le_of_ble_eq_true rfl) dX4_fault_6 (fun r3 M2 hM2 => ?_)
  exact j_iret C E rfl (Nat.le_refl _) (⟨_, rfl, _, rfl, hM2.1, by rw [hM2.2.2.1 0 (by decide), hM1, mSF_eq], hM2.2.1, (fr.F hM1 (by decide)).tr (hM2.2.2.sub (by decide))⟩) dX4_fault_9
