set_option maxRecDepth 100000

set_option maxHeartbeats 4000000 in
theorem mc_canRaid {g : jG} (G : jOK g) (M : jM) (t : MT) (n r : Nat) (hS : SA (M.2 16) t) (hB : stB t) (hr : r < 10) (h5 : M.1 5 = nI n) (hn : n < 2 ^ 31) (hti : t.1 7 0 0 < 2 ^ 31) (hnr : t.1 8 0 0 < 2 ^ 31)  : MTQ g 1 yX4_canRaid [.int (nI r)] M (pI (raidCan t n r)) := by
  intro h o ad hO
  refine CT.of (bytes := cX4_canRaid) (maxL := 2) (ret := (some .boolean)) G q2054 (by decide) (by decide +kernel) (Nat.le_of_ble_eq_true rfl) ?_
  intro z C E hT hnm hnl
  have C : jC (g, z) cX4_canRaid RX4 1 0 := C
  show J (g, z) (mput g h o ad M) 0 0 [(0, .ref o), (1, .int (nI r))] []
  refine j_aload_n C dX4_canRaid_0 0 rfl rfl ?_
  refine jm_get16 C dX4_canRaid_1 ?_
  refine j_bipush C (v := nI 108) dX4_canRaid_4 (by decide) ?_
  refine jm_ald16 C hO (by omega) dX4_canRaid_6 ?_
  refine j_ev (v' := nI (t.1 7 0 0)) hS.ti ?_
  refine j_aload_n C dX4_canRaid_7 0 rfl rfl ?_
  refine jm_get5 C dX4_canRaid_8 ?_
  refine j_ev (v' := nI n) h5 ?_
  refine j_icn_ge C (by omega) (by omega) (tgt := 31) dX4_canRaid_11 (by decide) ?_ ?_
  · intro c11
    refine j_iconst C (v := nI 0) dX4_canRaid_31 (by decide) ?_
    exact j_iret C E (by decide) (Nat.le_refl _) (⟨_, rfl, rz0 (by unfold raidCan; grind), rfl⟩) dX4_canRaid_32
  · intro c11
    refine j_aload_n C dX4_canRaid_14 0 rfl rfl ?_
    refine j_aload_n C dX4_canRaid_15 0 rfl rfl ?_
    refine jm_callQ C hO (as := []) (mc_turn G M t hS hnr) mw_turn (by decide) (Nat.le_refl _) rfl (Nat.le_of_ble_eq_true rfl) dX4_canRaid_16 ?_
    refine j_iload_n C dX4_canRaid_19 1 rfl rfl ?_
    refine j_iconst C (v := nI 0) dX4_canRaid_20 (by decide) ?_
    refine jm_callQ C hO (as := [.int (nI (turn t)), .int (nI r), .int (nI 0)]) (mc_is G M (turn t) r (nI 0) (Nat.mod_lt _ (by decide)) hr) mw_is (by decide) (Nat.le_refl _) rfl (Nat.le_of_ble_eq_true rfl) dX4_canRaid_21 ?_
    refine j_ev (v' := pI (t.1 0 (turn t) r = 0)) (pI_c (by rw [hS.st (i := turn t) (Nat.mod_lt _ (by decide)) hr rfl]; exact nI_eq (by have := hB (turn t) r; omega) (by decide))) ?_
    refine j_ifp_eq C (tgt := 31) dX4_canRaid_24 (by decide) ?_ ?_
    · intro c24
      refine j_iconst C (v := nI 0) dX4_canRaid_31 (by decide) ?_
      exact j_iret C E (by decide) (Nat.le_refl _) (⟨_, rfl, rz0 (by unfold raidCan; grind), rfl⟩) dX4_canRaid_32
    · intro c24
      refine j_iconst C (v := nI 1) dX4_canRaid_27 (by decide) ?_
      refine j_goto C (tgt := 32) dX4_canRaid_28 (by decide) ?_
      exact j_iret C E (by decide) (Nat.le_refl _) (⟨_, rfl, rz1 (by unfold raidCan; grind), rfl⟩) dX4_canRaid_32

set_option maxHeartbeats 4000000 in
theorem mc_endsRaid {g : jG} (G : jOK g) (M : jM) (t : MT) (e r : Nat) (l : List Stp3) (hS : SA (M.2 16) t) (he : e < 60) (hf : M.2 9 e = nI r) (hr : r < 10) (hc : M.2 12 e = nI l.length) (hR : stRel M e l) (hK : stOK l) (hne : l ≠ []) (hB : stB t) (hem : t.1 5 (turn t) 0 < 2 ^ 31) (hun : ∀ i p, t.1 1 i p < 2 ^ 30) (hti : t.1 7 0 0 < 2 ^ 30) (hnr : t.1 8 0 0 < 2 ^ 30) (hl : (t.2 (turn t)).length < 10) (hcap : (t.2 (1 - turn t)).length + stN l 0 ≤ 10)  : MTV g 3 yX4_endsRaid [.int (nI e)] M (fun M' => mO M M' ∧ SA (M'.2 16) (raidEnd t r l)) := by
  intro h o ad hO
  refine CT.of (bytes := cX4_endsRaid) (maxL := 7) (ret := none) G q2085 (by decide) (by decide +kernel) (Nat.le_of_ble_eq_true rfl) ?_
  intro z C E hT hnm hnl
  have C : jC (g, z) cX4_endsRaid RX4 3 0 := C
  show J (g, z) (mput g h o ad M) 0 0 [(0, .ref o), (1, .int (nI e))] []
  refine j_aload_n C dX4_endsRaid_0 0 rfl rfl ?_
  refine jm_callQ C hO (as := []) (mc_turn G M t hS (by omega)) mw_turn (by decide) (Nat.le_refl _) rfl (Nat.le_of_ble_eq_true rfl) dX4_endsRaid_1 ?_
  refine j_istore_n C (L' := [(2, .int (nI (turn t))), (0, .ref o), (1, .int (nI e))]) dX4_endsRaid_4 rfl (jlt hnl (by decide)) rfl ?_
  have hi : turn t < 2 := Nat.mod_lt _ (by decide)
  refine j_aload_n C dX4_endsRaid_5 1 rfl rfl ?_
  refine j_iconst C (v := nI 1) dX4_endsRaid_6 (by decide) ?_
  refine j_iload_n C dX4_endsRaid_7 0 rfl rfl ?_
  refine j_isubn C (by omega) dX4_endsRaid_8 ?_
  refine j_iconst C (v := nI 0) dX4_endsRaid_9 (by decide) ?_
  refine j_iconst C (v := nI 3) dX4_endsRaid_10 (by decide) ?_
  refine jm_callQ C hO (as := [.int (nI (1 - (turn t))), .int (nI 0), .int (nI 3)]) (mc_manyThat G M t (1 - turn t) 0 3 hS (by omega) (by decide) (by decide) (fun p hp => by have := hB (1 - turn t) p; omega)) mw_manyThat (by decide) (Nat.le_refl _) rfl (Nat.le_of_ble_eq_true rfl) dX4_endsRaid_11 ?_
  refine j_istore_n C (L' := [(3, .int (nI (tMany t (1 - turn t) 0 3))), (2, .int (nI (turn t))), (0, .ref o), (1, .int (nI e))]) dX4_endsRaid_14 rfl (jlt hnl (by decide)) rfl ?_
  have join35 : ∀ (b : Nat), (b = bonusOf t (turn t) l) → J (g, z) (mput g h o ad M) 0 35 [(0, .ref o), (1, .int (nI e)), (2, .int (nI (turn t))), (3, .int (nI (tMany t (1 - turn t) 0 3)))] [.int (nI b)] := by
    intro b hb
    refine j_istore C (L' := [(4, .int (nI b)), (0, .ref o), (1, .int (nI e)), (2, .int (nI (turn t))), (3, .int (nI (tMany t (1 - turn t) 0 3)))]) dX4_endsRaid_35 (jlt hnl (by decide)) rfl ?_
    refine j_bipush C (v := nI 14) dX4_endsRaid_37 (by decide) ?_
    refine j_iload_n C dX4_endsRaid_39 2 rfl rfl ?_
    refine j_imuln C dX4_endsRaid_40 ?_
    refine j_aload_n C dX4_endsRaid_41 1 rfl rfl ?_
    refine jm_get12 C dX4_endsRaid_42 ?_
    refine j_iload_n C dX4_endsRaid_45 2 rfl rfl ?_
    refine jm_ald12 C hO (by omega) dX4_endsRaid_46 ?_
    refine j_ev (v' := nI l.length) hc ?_
    refine j_iaddn C dX4_endsRaid_47 ?_
    refine j_iconst C (v := nI 1) dX4_endsRaid_48 (by decide) ?_
    refine j_isubn C (by have := List.length_pos_iff.mpr hne; omega) dX4_endsRaid_49 ?_
    refine j_istore C (L' := [(5, .int (nI ((14 * e + l.length) - 1))), (4, .int (nI b)), (0, .ref o), (1, .int (nI e)), (2, .int (nI (turn t))), (3, .int (nI (tMany t (1 - turn t) 0 3)))]) dX4_endsRaid_50 (jlt hnl (by decide)) rfl ?_
    have hlast : M.2 13 (14 * e + l.length - 1) = nI (lastOf l).1 ∧ M.2 15 (14 * e + l.length - 1) = nI (lastOf l).2.2 := by
      have h1 := List.length_pos_iff.mpr hne
      have h2 := hR (l.length - 1) (by omega)
      rw [last_get hne, show 14 * e + (l.length - 1) = 14 * e + l.length - 1 by omega] at h2
      exact ⟨h2.1, h2.2.2⟩
    have hlk : (lastOf l).1 ≤ 6 := by rw [← last_get hne]; exact (hK.2 _ (by have := List.length_pos_iff.mpr hne; omega)).1
    have join154 : ∀ (Mv : jM), (mO M Mv) → (SA (Mv.2 16) (raidMid t (turn t) r l)) → J (g, z) (mput g h o ad Mv) 0 154 [(0, .ref o), (1, .int (nI e)), (2, .int (nI (turn t))), (3, .int (nI (tMany t (1 - turn t) 0 3))), (4, .int (nI b)), (5, .int (nI ((14 * e + l.length) - 1)))] [] := by
      intro Mv hMo hSu
      refine j_aload_n C dX4_endsRaid_154 0 rfl rfl ?_
      refine j_iconst C (v := nI 0) dX4_endsRaid_155 (by decide) ?_
      refine jm_callV C hO (as := [.int (nI 0)]) (mc_looksAtMat G Mv _ 0 hSu (by decide) (fun p hp => by have := hB.mid (i := turn t) (r := r) (l := l) 0 p; omega)) mw_looksAtMat (by decide) (Nat.le_refl _) rfl (Nat.le_of_ble_eq_true rfl) dX4_endsRaid_156 (fun M1 hM1 => ?_)
      refine j_aload_n C dX4_endsRaid_159 0 rfl rfl ?_
      refine j_iconst C (v := nI 1) dX4_endsRaid_160 (by decide) ?_
      refine jm_callV C hO (as := [.int (nI 1)]) (mc_looksAtMat G M1 _ 1 hM1.2 (by decide) (fun p hp => by have := (hB.mid (i := turn t) (r := r) (l := l)).look (i := 0) 1 p; omega)) mw_looksAtMat (by decide) (Nat.le_refl _) rfl (Nat.le_of_ble_eq_true rfl) dX4_endsRaid_161 (fun M2 hM2 => ?_)
      have hSv := hM2.2
      have hMv : mO M M2 := (hMo.tr hM1.1).tr hM2.1
      have hl15 : M2.2 15 (14 * e + l.length - 1) = nI (lastOf l).2.2 := by rw [hMv.2 15 (by decide)]; exact hlast.2
      refine j_aload_n C dX4_endsRaid_164 0 rfl rfl ?_
      refine jm_get16 C dX4_endsRaid_165 ?_
      refine j_bipush C (v := nI 108) dX4_endsRaid_168 (by decide) ?_
      refine j_dup2 C dX4_endsRaid_170 rfl rfl ?_
      refine jm_ald16 C hO (by omega) dX4_endsRaid_171 ?_
      refine j_ev (v' := nI ((lookOut (lookOut (raidMid t (turn t) r l) 0) 1).1 7 0 0)) hSv.ti ?_
      refine j_aload_n C dX4_endsRaid_172 0 rfl rfl ?_
      refine jm_get15 C dX4_endsRaid_173 ?_
      refine j_iload C dX4_endsRaid_176 5 rfl ?_
      refine jm_ald15 C hO (by have := hK.1; have := List.length_pos_iff.mpr hne; omega) dX4_endsRaid_178 ?_
      refine j_ev (v' := nI ((lastOf l).2.2)) hl15 ?_
      refine j_iaddn C dX4_endsRaid_179 ?_
      refine jm_ast16 C hO (by omega) dX4_endsRaid_180 (fun M3 hM3 => ?_)
      have hSw : SA (M3.2 16) (tS (lookOut (lookOut (raidMid t (turn t) r l) 0) 1) 7 0 0 ((lookOut (lookOut (raidMid t (turn t) r l) 0) 1).1 7 0 0 + (lastOf l).2.2)) := by rw [hM3, mSA_16]; exact hSv.pti
      have hMw : mO M M3 := hMv.tr (mO.set hM3)
      refine j_aload_n C dX4_endsRaid_181 0 rfl rfl ?_
      refine jm_get16 C dX4_endsRaid_182 ?_
      refine j_bipush C (v := nI 109) dX4_endsRaid_185 (by decide) ?_
      refine j_dup2 C dX4_endsRaid_187 rfl rfl ?_
      refine jm_ald16 C hO (by omega) dX4_endsRaid_188 ?_
      refine j_ev (v' := nI ((lookOut (lookOut (raidMid t (turn t) r l) 0) 1).1 8 0 0)) hSw.nr ?_
      refine j_iconst C (v := nI 1) dX4_endsRaid_189 (by decide) ?_
      refine j_iaddn C dX4_endsRaid_190 ?_
      refine jm_ast16 C hO (by omega) dX4_endsRaid_191 (fun M4 hM4 => ?_)
      obtain ⟨w0, hw0⟩ : ∃ w0, w0 = (tS (tS (lookOut (lookOut (raidMid t (turn t) r l) 0) 1) 7 0 0 ((lookOut (lookOut (raidMid t (turn t) r l) 0) 1).1 7 0 0 + (lastOf l).2.2)) 8 0 0 ((lookOut (lookOut (raidMid t (turn t) r l) 0) 1).1 8 0 0 + 1)) := ⟨_, rfl⟩
      have hSx : SA (M4.2 16) w0 := by rw [hw0, hM4, mSA_16]; exact hSw.pnr
      have hMx : mO M M4 := hMw.tr (mO.set hM4)
      have hw1 : stB w0 := by rw [hw0]; exact (hB.mid.look.look.set (fun z => by omega)).set (fun z => by omega)
      have hkk : tK t (lookOut (lookOut (raidMid t (turn t) r l) 0) 1) := (tK.mid.tr tK.look).tr tK.look
      have hw2 : ∀ i p, w0.1 1 i p = t.1 1 i p := fun i p => by rw [hw0, tS_ne (by omega), tS_ne (by omega)]; exact hkk 1 i p (by decide) (by decide) (by decide) (by decide)
      have hw3 : w0.1 7 0 0 = t.1 7 0 0 + (lastOf l).2.2 := by rw [hw0, tS_ne (by omega), tS_eq, hkk 7 0 0 (by decide) (by decide) (by decide) (by decide)]
      have hw4 : (lastOf l).2.2 ≤ 300 := by rw [← last_get hne]; exact (hK.2 _ (by have := List.length_pos_iff.mpr hne; omega)).2.2
      refine j_iconst C (v := nI 0) dX4_endsRaid_192 (by decide) ?_
      refine j_istore C (L' := [(6, .int (nI 0)), (0, .ref o), (1, .int (nI e)), (2, .int (nI (turn t))), (3, .int (nI (tMany t (1 - turn t) 0 3))), (4, .int (nI b)), (5, .int (nI ((14 * e + l.length) - 1)))]) dX4_endsRaid_193 (jlt hnl (by decide)) rfl ?_
      refine J.sub (L' := [(0, .ref o), (6, .int (nI 0))]) ?_ [1, 0] rfl
      have loop195 : ∀ (n : Nat) (k : Nat) (Mk : jM), (k ≤ 20) → (mO M Mk) → (SA (Mk.2 16) (suspTo w0 k)) → (20 - k) < n → J (g, z) (mput g h o ad Mk) 0 195 [(0, .ref o), (6, .int (nI k))] [] := by
        intro n
        induction n with
        | zero => intro k Mk; intros; omega
        | succ n ih195 =>
          intro k Mk hk hMk hSk hm195
          refine j_iload C dX4_endsRaid_195 1 rfl ?_
          refine j_bipush C (v := nI 20) dX4_endsRaid_197 (by decide) ?_
          refine j_icn_ge C (by omega) (by omega) (tgt := 257) dX4_endsRaid_199 (by decide) ?_ ?_
          · intro c199
            exact j_vret C E (Nat.le_refl _) (⟨_, rfl, rfl, hMk, by have e20 : k = 20 := (by omega); rw [e20] at hSk; rw [raidEnd, ← hw0]; exact hSk.congr (fun f i p hv => suspTo_20 hv) (fun _ _ => rfl)⟩) dX4_endsRaid_257
          · intro c199
            have hk20 : k < 20 := by omega
            have hs0 : (suspTo w0 k).1 0 (k / 10) (k % 10) = w0.1 0 (k / 10) (k % 10) := by unfold suspTo; dsimp only; rw [if_neg (by omega)]
            have hs1 : (suspTo w0 k).1 1 (k / 10) (k % 10) = w0.1 1 (k / 10) (k % 10) := by unfold suspTo; dsimp only; rw [if_neg (by omega)]
            have hs7 : (suspTo w0 k).1 7 0 0 = w0.1 7 0 0 := by unfold suspTo; dsimp only; rw [if_neg (by omega)]
            have hb0 := hw1 (k / 10) (k % 10)
            have hb1 := hun (k / 10) (k % 10)
            have hb2 := hw2 (k / 10) (k % 10)
            have join250 : ∀ (sv : Nat), (sv = if w0.1 0 (k / 10) (k % 10) = 3 ∧ w0.1 1 (k / 10) (k % 10) ≤ w0.1 7 0 0 then 0 else w0.1 0 (k / 10) (k % 10)) → J (g, z) (mput g h o ad Mk) 0 250 [(0, .ref o), (6, .int (nI k))] [.int (nI sv), .int (nI k), .ref (ad 16)] := by
              intro sv hsv
              refine jm_ast16 C hO (by omega) dX4_endsRaid_250 (fun M5 hM5 => ?_)
              refine j_iinc C (L' := [(6, .int (nI (k + 1))), (0, .ref o)]) dX4_endsRaid_251 1 rfl (kinc k 1 (by decide)) (jlt hnl (by decide)) rfl ?_
              refine j_goto C (tgt := 195) dX4_endsRaid_254 (by decide) ?_
              refine J.sub (L' := [(0, .ref o), (6, .int (nI (k + 1)))]) ?_ [1, 0] rfl
              exact ih195 (k + 1) M5 (by omega) (hMk.tr (mO.set hM5)) (by rw [hM5, mSA_16]; have h9 := hSk.pst (i := k / 10) (p := k % 10) (e := k) (v := sv) (by omega) (by omega) (by omega); have h8 := suspTo_s (t := w0) (i := k / 10) (p := k % 10) (v := sv) (by omega) hsv; rw [show 10 * (k / 10) + k % 10 = k from by omega] at h8; rw [h8] at h9; exact h9) (by omega)
            refine j_aload_n C dX4_endsRaid_202 0 rfl rfl ?_
            refine jm_get16 C dX4_endsRaid_203 ?_
            refine j_iload C dX4_endsRaid_206 1 rfl ?_
            refine j_aload_n C dX4_endsRaid_208 0 rfl rfl ?_
            refine jm_get16 C dX4_endsRaid_209 ?_
            refine j_iload C dX4_endsRaid_212 1 rfl ?_
            refine jm_ald16 C hO (by omega) dX4_endsRaid_214 ?_
            refine j_ev (v' := nI ((suspTo w0 k).1 0 (k / 10) (k % 10))) (hSk.st (i := k / 10) (p := k % 10) (by omega) (by omega) (by omega)) ?_
            refine j_iconst C (v := nI 3) dX4_endsRaid_215 (by decide) ?_
            refine j_icn_ne C (by omega) (by omega) (tgt := 243) dX4_endsRaid_216 (by decide) ?_ ?_
            · intro c216
              refine j_aload_n C dX4_endsRaid_243 0 rfl rfl ?_
              refine jm_get16 C dX4_endsRaid_244 ?_
              refine j_iload C dX4_endsRaid_247 1 rfl ?_
              refine jm_ald16 C hO (by omega) dX4_endsRaid_249 ?_
              refine j_ev (v' := nI ((suspTo w0 k).1 0 (k / 10) (k % 10))) (hSk.st (i := k / 10) (p := k % 10) (by omega) (by omega) (by omega)) ?_
              refine J.sub (L' := [(0, .ref o), (6, .int (nI k))]) ?_ [0, 1] rfl
              exact join250 ((suspTo w0 k).1 0 (k / 10) (k % 10)) (by grind)
            · intro c216
              refine j_aload_n C dX4_endsRaid_219 0 rfl rfl ?_
              refine jm_get16 C dX4_endsRaid_220 ?_
              refine j_bipush C (v := nI 20) dX4_endsRaid_223 (by decide) ?_
              refine j_iload C dX4_endsRaid_225 1 rfl ?_
              refine j_iaddn C dX4_endsRaid_227 ?_
              refine jm_ald16 C hO (by omega) dX4_endsRaid_228 ?_
              refine j_ev (v' := nI ((suspTo w0 k).1 1 (k / 10) (k % 10))) (hSk.un (i := k / 10) (p := k % 10) (by omega) (by omega) (by omega)) ?_
              refine j_aload_n C dX4_endsRaid_229 0 rfl rfl ?_
              refine jm_get16 C dX4_endsRaid_230 ?_
              refine j_bipush C (v := nI 108) dX4_endsRaid_233 (by decide) ?_
              refine jm_ald16 C hO (by omega) dX4_endsRaid_235 ?_
              refine j_ev (v' := nI ((suspTo w0 k).1 7 0 0)) hSk.ti ?_
              refine j_icn_gt C (by omega) (by omega) (tgt := 243) dX4_endsRaid_236 (by decide) ?_ ?_
              · intro c236
                refine j_aload_n C dX4_endsRaid_243 0 rfl rfl ?_
                refine jm_get16 C dX4_endsRaid_244 ?_
                refine j_iload C dX4_endsRaid_247 1 rfl ?_
                refine jm_ald16 C hO (by omega) dX4_endsRaid_249 ?_
                refine j_ev (v' := nI ((suspTo w0 k).1 0 (k / 10) (k % 10))) (hSk.st (i := k / 10) (p := k % 10) (by omega) (by omega) (by omega)) ?_
                refine J.sub (L' := [(0, .ref o), (6, .int (nI k))]) ?_ [0, 1] rfl
                exact join250 ((suspTo w0 k).1 0 (k / 10) (k % 10)) (by grind)
              · intro c236
                refine j_iconst C (v := nI 0) dX4_endsRaid_239 (by decide) ?_
                refine j_goto C (tgt := 250) dX4_endsRaid_240 (by decide) ?_
                refine J.sub (L' := [(0, .ref o), (6, .int (nI k))]) ?_ [0, 1] rfl
                exact join250 0 (by grind)
      exact loop195 ((20 - 0) + 1) 0 M4 (by omega) hMx (by rw [suspTo_0]; exact hSx) (Nat.lt_succ_self _)
    refine j_aload_n C dX4_endsRaid_52 2 rfl rfl ?_
    refine jm_get13 C dX4_endsRaid_53 ?_
    refine j_iload C dX4_endsRaid_56 0 rfl ?_
    refine jm_ald13 C hO (by have := hK.1; have := List.length_pos_iff.mpr hne; omega) dX4_endsRaid_58 ?_
    refine j_ev (v' := nI ((lastOf l).1)) hlast.1 ?_
    refine j_iconst C (v := nI 3) dX4_endsRaid_59 (by decide) ?_
    refine j_icn_ne C (by omega) (by omega) (tgt := 74) dX4_endsRaid_60 (by decide) ?_ ?_
    · intro c60
      refine j_aload_n C dX4_endsRaid_74 2 rfl rfl ?_
      refine jm_get16 C dX4_endsRaid_75 ?_
      refine j_bipush C (v := nI 106) dX4_endsRaid_78 (by decide) ?_
      refine j_iload_n C dX4_endsRaid_80 4 rfl rfl ?_
      refine j_iaddn C dX4_endsRaid_81 ?_
      refine j_iconst C (v := nI 0) dX4_endsRaid_82 (by decide) ?_
      refine jm_ast16 C hO (by omega) dX4_endsRaid_83 (fun M6 hM6 => ?_)
      have hM1 := hM6
      have hS1 : SA (M6.2 16) (tS t 5 (turn t) 0 0) := by rw [hM6, mSA_16]; exact hS.pem hi rfl
      refine j_aload_n C dX4_endsRaid_84 2 rfl rfl ?_
      refine jm_get16 C dX4_endsRaid_85 ?_
      refine j_bipush C (v := nI 104) dX4_endsRaid_88 (by decide) ?_
      refine j_iload_n C dX4_endsRaid_90 4 rfl rfl ?_
      refine j_iaddn C dX4_endsRaid_91 ?_
      refine j_dup2 C dX4_endsRaid_92 rfl rfl ?_
      refine jm_ald16 C hO (by omega) dX4_endsRaid_93 ?_
      refine j_ev (v' := nI ((tS t 5 (turn t) 0 0).1 4 (turn t) 0)) (hS1.po hi rfl) ?_
      refine j_iload C dX4_endsRaid_94 1 rfl ?_
      refine j_iaddn C dX4_endsRaid_96 ?_
      refine jm_ast16 C hO (by omega) dX4_endsRaid_97 (fun M7 hM7 => ?_)
      have hM2 := hM7
      have hS2 : SA (M7.2 16) (tS (tS t 5 (turn t) 0 0) 4 (turn t) 0 ((tS t 5 (turn t) 0 0).1 4 (turn t) 0 + b)) := by rw [hM7, mSA_16]; exact hS1.ppo hi rfl
      have hf9_M7 : M7.2 9 e = nI r := by rw [((mO.set hM1).tr (mO.set hM2)).2 9 (by decide)]; exact hf
      refine j_aload_n C dX4_endsRaid_98 2 rfl rfl ?_
      refine jm_get16 C dX4_endsRaid_99 ?_
      refine j_bipush C (v := nI 60) dX4_endsRaid_102 (by decide) ?_
      refine j_bipush C (v := nI 10) dX4_endsRaid_104 (by decide) ?_
      refine j_iload_n C dX4_endsRaid_106 4 rfl rfl ?_
      refine j_imuln C dX4_endsRaid_107 ?_
      refine j_iaddn C dX4_endsRaid_108 ?_
      refine j_aload_n C dX4_endsRaid_109 2 rfl rfl ?_
      refine jm_get9 C dX4_endsRaid_110 ?_
      refine j_iload_n C dX4_endsRaid_113 3 rfl rfl ?_
      refine jm_ald9 C hO (by omega) dX4_endsRaid_114 ?_
      refine j_ev (v' := nI r) (hf9_M7) ?_
      refine j_iaddn C dX4_endsRaid_115 ?_
      refine j_dup2 C dX4_endsRaid_116 rfl rfl ?_
      refine jm_ald16 C hO (by omega) dX4_endsRaid_117 ?_
      refine j_ev (v' := nI ((tS t 5 (turn t) 0 0).1 3 (turn t) r)) (hS2.ra hi hr (by omega)) ?_
      refine j_iload C dX4_endsRaid_118 1 rfl ?_
      refine j_iaddn C dX4_endsRaid_120 ?_
      refine jm_ast16 C hO (by omega) dX4_endsRaid_121 (fun M8 hM8 => ?_)
      have hM3 := hM8
      have hS3 : SA (M8.2 16) (scored (tS t 5 (turn t) 0 0) (turn t) r b) := by rw [hM8, mSA_16]; exact hS2.pra hi hr (by omega)
      have hf9_M8 : M8.2 9 e = nI r := by rw [(((mO.set hM1).tr (mO.set hM2)).tr (mO.set hM3)).2 9 (by decide)]; exact hf
      have hk13 : M8.2 13 (14 * e + l.length - 1) = nI (lastOf l).1 := by rw [(((mO.set hM1).tr (mO.set hM2)).tr (mO.set hM3)).2 13 (by decide)]; exact hlast.1
      have join151 : ∀ (n : Nat), (n = if (lastOf l).1 = 4 ∧ tMany t (1 - turn t) 0 3 ≤ 3 then 2 else 1) → J (g, z) (mput g h o ad M8) 0 151 [(0, .ref o), (1, .int (nI e)), (2, .int (nI (turn t))), (3, .int (nI (tMany t (1 - turn t) 0 3))), (4, .int (nI b)), (5, .int (nI ((14 * e + l.length) - 1)))] [.int (nI n), .int (nI r), .int (nI (turn t)), .ref o] := by
        intro n hn
        refine jm_callV C hO (as := [.int (nI (turn t)), .int (nI r), .int (nI n)]) (mc_raiderIsOut G M8 (scored (tS t 5 (turn t) 0 0) (turn t) r b) (turn t) r n hS3 hi hr hl) mw_raiderIsOut (by decide) (Nat.le_refl _) rfl (Nat.le_of_ble_eq_true rfl) dX4_endsRaid_151 (fun M9 hM9 => ?_)
        refine J.sub (L' := [(0, .ref o), (1, .int (nI e)), (2, .int (nI (turn t))), (3, .int (nI (tMany t (1 - turn t) 0 3))), (4, .int (nI b)), (5, .int (nI ((14 * e + l.length) - 1)))]) ?_ [0, 1, 2, 3, 4, 5] rfl
        exact join154 M9 ((((mO.set hM1).tr (mO.set hM2)).tr (mO.set hM3)).tr hM9.1) (by rw [raidMid, if_neg c60, ← hn, ← hb]; exact hM9.2)
      refine j_aload_n C dX4_endsRaid_122 2 rfl rfl ?_
      refine j_iload_n C dX4_endsRaid_123 4 rfl rfl ?_
      refine j_aload_n C dX4_endsRaid_124 2 rfl rfl ?_
      refine jm_get9 C dX4_endsRaid_125 ?_
      refine j_iload_n C dX4_endsRaid_128 3 rfl rfl ?_
      refine jm_ald9 C hO (by omega) dX4_endsRaid_129 ?_
      refine j_ev (v' := nI r) (hf9_M8) ?_
      refine j_aload_n C dX4_endsRaid_130 2 rfl rfl ?_
      refine jm_get13 C dX4_endsRaid_131 ?_
      refine j_iload C dX4_endsRaid_134 0 rfl ?_
      refine jm_ald13 C hO (by have := hK.1; have := List.length_pos_iff.mpr hne; omega) dX4_endsRaid_136 ?_
      refine j_ev (v' := nI ((lastOf l).1)) hk13 ?_
      refine j_iconst C (v := nI 4) dX4_endsRaid_137 (by decide) ?_
      refine j_icn_ne C (by omega) (by omega) (tgt := 150) dX4_endsRaid_138 (by decide) ?_ ?_
      · intro c138
        refine j_iconst C (v := nI 1) dX4_endsRaid_150 (by decide) ?_
        refine J.sub (L' := [(0, .ref o), (1, .int (nI e)), (2, .int (nI (turn t))), (3, .int (nI (tMany t (1 - turn t) 0 3))), (4, .int (nI b)), (5, .int (nI ((14 * e + l.length) - 1)))]) ?_ [2, 3, 4, 5, 1, 0] rfl
        exact join151 1 (by grind)
      · intro c138
        refine j_iload_n C dX4_endsRaid_141 5 rfl rfl ?_
        refine j_iconst C (v := nI 3) dX4_endsRaid_142 (by decide) ?_
        refine j_icn_gt C (by have : tMany t (1 - turn t) 0 3 ≤ 10 := cnt_le; omega) (by have : tMany t (1 - turn t) 0 3 ≤ 10 := cnt_le; omega) (tgt := 150) dX4_endsRaid_143 (by decide) ?_ ?_
        · intro c143
          refine j_iconst C (v := nI 1) dX4_endsRaid_150 (by decide) ?_
          refine J.sub (L' := [(0, .ref o), (1, .int (nI e)), (2, .int (nI (turn t))), (3, .int (nI (tMany t (1 - turn t) 0 3))), (4, .int (nI b)), (5, .int (nI ((14 * e + l.length) - 1)))]) ?_ [2, 3, 4, 5, 1, 0] rfl
          exact join151 1 (by grind)
        · intro c143
          refine j_iconst C (v := nI 2) dX4_endsRaid_146 (by decide) ?_
          refine j_goto C (tgt := 151) dX4_endsRaid_147 (by decide) ?_
          refine J.sub (L' := [(0, .ref o), (1, .int (nI e)), (2, .int (nI (turn t))), (3, .int (nI (tMany t (1 - turn t) 0 3))), (4, .int (nI b)), (5, .int (nI ((14 * e + l.length) - 1)))]) ?_ [2, 3, 4, 5, 1, 0] rfl
          exact join151 2 (by grind)
    · intro c60
      refine j_aload_n C dX4_endsRaid_63 2 rfl rfl ?_
      refine j_iload_n C dX4_endsRaid_64 3 rfl rfl ?_
      refine j_iload_n C dX4_endsRaid_65 4 rfl rfl ?_
      refine j_iload C dX4_endsRaid_66 1 rfl ?_
      refine jm_callV C hO (as := [.int (nI e), .int (nI (turn t)), .int (nI b)]) (mc_comesHome G M t e (turn t) r b l hS he hf hr hc hR hK hi (by rw [hb]; unfold bonusOf; split <;> omega) hem hl hcap) mw_comesHome (by decide) (Nat.le_refl _) rfl (Nat.le_of_ble_eq_true rfl) dX4_endsRaid_68 (fun M10 hM10 => ?_)
      refine j_goto C (tgt := 154) dX4_endsRaid_71 (by decide) ?_
      refine J.sub (L' := [(0, .ref o), (1, .int (nI e)), (2, .int (nI (turn t))), (3, .int (nI (tMany t (1 - turn t) 0 3))), (4, .int (nI b)), (5, .int (nI ((14 * e + l.length) - 1)))]) ?_ [2, 3, 4, 5, 1, 0] rfl
      exact join154 M10 (hM10.1) (by rw [raidMid, if_pos c60, ← hb]; exact hM10.2)
  refine j_aload_n C dX4_endsRaid_15 2 rfl rfl ?_
  refine j_iload_n C dX4_endsRaid_16 3 rfl rfl ?_
  refine j_iconst C (v := nI 1) dX4_endsRaid_17 (by decide) ?_
  refine jm_callQ C hO (as := [.int (nI e), .int (nI 1)]) (mc_stepsThat G M e 1 l he hc hR hK (by decide)) mw_stepsThat (by decide) (Nat.le_refl _) rfl (Nat.le_of_ble_eq_true rfl) dX4_endsRaid_18 ?_
  refine j_ifn_le C (by have := stN_le (l := l) (k := 1); have := hK.1; omega) (tgt := 34) dX4_endsRaid_21 (by decide) ?_ ?_
  · intro c21
    refine j_iconst C (v := nI 0) dX4_endsRaid_34 (by decide) ?_
    refine J.sub (L' := [(0, .ref o), (1, .int (nI e)), (2, .int (nI (turn t))), (3, .int (nI (tMany t (1 - turn t) 0 3)))]) ?_ [2, 3, 1, 0] rfl
    exact join35 0 (by unfold bonusOf; grind)
  · intro c21
    refine j_iload_n C dX4_endsRaid_24 0 rfl rfl ?_
    refine j_bipush C (v := nI 6) dX4_endsRaid_25 (by decide) ?_
    refine j_icn_lt C (by have : tMany t (1 - turn t) 0 3 ≤ 10 := cnt_le; omega) (by have : tMany t (1 - turn t) 0 3 ≤ 10 := cnt_le; omega) (tgt := 34) dX4_endsRaid_27 (by decide) ?_ ?_
    · intro c27
      refine j_iconst C (v := nI 0) dX4_endsRaid_34 (by decide) ?_
      refine J.sub (L' := [(0, .ref o), (1, .int (nI e)), (2, .int (nI (turn t))), (3, .int (nI (tMany t (1 - turn t) 0 3)))]) ?_ [2, 3, 1, 0] rfl
      exact join35 0 (by unfold bonusOf; grind)
    · intro c27
      refine j_iconst C (v := nI 1) dX4_endsRaid_30 (by decide) ?_
      refine j_goto C (tgt := 35) dX4_endsRaid_31 (by decide) ?_
      refine J.sub (L' := [(0, .ref o), (1, .int (nI e)), (2, .int (nI (turn t))), (3, .int (nI (tMany t (1 - turn t) 0 3)))]) ?_ [2, 3, 1, 0] rfl
      exact join35 1 (by unfold bonusOf; grind)
