set_option maxRecDepth 100000

set_option maxHeartbeats 4000000 in
theorem mc_comesHome {g : jG} (G : jOK g) (M : jM) (t : MT) (e i r b : Nat) (l : List Stp3) (hS : SA (M.2 16) t) (he : e < 60) (hf : M.2 9 e = nI r) (hr : r < 10) (hc : M.2 12 e = nI l.length) (hR : stRel M e l) (hK : stOK l) (hi : i < 2) (hb : b ≤ 1) (hem : t.1 5 i 0 < 2 ^ 31) (hl : (t.2 i).length < 10) (hcap : (t.2 (1 - i)).length + stN l 0 ≤ 10)  : MTV g 2 yX4_comesHome [.int (nI e), .int (nI i), .int (nI b)] M (fun M' => mO M M' ∧ SA (M'.2 16) (home t i r b l)) := by
  intro h o ad hO
  refine CT.of (bytes := cX4_comesHome) (maxL := 9) (ret := none) G q2097 (by decide) (by decide +kernel) (Nat.le_of_ble_eq_true rfl) ?_
  intro z C E hT hnm hnl
  have C : jC (g, z) cX4_comesHome RX4 2 0 := C
  show J (g, z) (mput g h o ad M) 0 0 [(0, .ref o), (1, .int (nI e)), (2, .int (nI i)), (3, .int (nI b))] []
  refine j_aload_n C dX4_comesHome_0 0 rfl rfl ?_
  refine j_iload_n C dX4_comesHome_1 1 rfl rfl ?_
  refine j_iconst C (v := nI 0) dX4_comesHome_2 (by decide) ?_
  refine jm_callQ C hO (as := [.int (nI e), .int (nI 0)]) (mc_stepsThat G M e 0 l he hc hR hK (by decide)) mw_stepsThat (by decide) (Nat.le_refl _) rfl (Nat.le_of_ble_eq_true rfl) dX4_comesHome_3 ?_
  refine j_istore C (L' := [(4, .int (nI (stN l 0))), (0, .ref o), (1, .int (nI e)), (2, .int (nI i)), (3, .int (nI b))]) dX4_comesHome_6 (jlt hnl (by decide)) rfl ?_
  have join26 : J (g, z) (mput g h o ad M) 0 26 [(0, .ref o), (1, .int (nI e)), (2, .int (nI i)), (3, .int (nI b)), (4, .int (nI (stN l 0)))] [.int (pI (t.1 5 i 0 = 2))] := by
    refine j_istore C (L' := [(5, .int (pI (t.1 5 i 0 = 2))), (0, .ref o), (1, .int (nI e)), (2, .int (nI i)), (3, .int (nI b)), (4, .int (nI (stN l 0)))]) dX4_comesHome_26 (jlt hnl (by decide)) rfl ?_
    have join56 : J (g, z) (mput g h o ad M) 0 56 [(0, .ref o), (1, .int (nI e)), (2, .int (nI i)), (3, .int (nI b)), (4, .int (nI (stN l 0))), (5, .int (pI (t.1 5 i 0 = 2)))] [.int (pI (stN l 0 = 0 ∧ stN l 1 = 0 ∧ stN l 2 = 0))] := by
      refine j_istore C (L' := [(6, .int (pI (stN l 0 = 0 ∧ stN l 1 = 0 ∧ stN l 2 = 0))), (0, .ref o), (1, .int (nI e)), (2, .int (nI i)), (3, .int (nI b)), (4, .int (nI (stN l 0))), (5, .int (pI (t.1 5 i 0 = 2)))]) dX4_comesHome_56 (jlt hnl (by decide)) rfl ?_
      refine j_aload_n C dX4_comesHome_58 1 rfl rfl ?_
      refine jm_get9 C dX4_comesHome_59 ?_
      refine j_iload_n C dX4_comesHome_62 2 rfl rfl ?_
      refine jm_ald9 C hO (by omega) dX4_comesHome_63 ?_
      refine j_ev (v' := nI r) hf ?_
      refine j_istore C (L' := [(7, .int (nI r)), (6, .int (pI (stN l 0 = 0 ∧ stN l 1 = 0 ∧ stN l 2 = 0))), (0, .ref o), (1, .int (nI e)), (2, .int (nI i)), (3, .int (nI b)), (4, .int (nI (stN l 0))), (5, .int (pI (t.1 5 i 0 = 2)))]) dX4_comesHome_64 (jlt hnl (by decide)) rfl ?_
      have join104 : (¬ ((stN l 0 = 0 ∧ stN l 1 = 0 ∧ stN l 2 = 0) ∨ (stN l 0 + b = 0 ∧ t.1 5 i 0 = 2))) → J (g, z) (mput g h o ad M) 0 104 [(0, .ref o), (1, .int (nI e)), (2, .int (nI i)), (3, .int (nI b)), (4, .int (nI (stN l 0))), (5, .int (pI (t.1 5 i 0 = 2))), (7, .int (nI r))] [] := by
        intro h104
        refine j_iload C dX4_comesHome_104 4 rfl ?_
        refine j_iload_n C dX4_comesHome_106 3 rfl rfl ?_
        refine j_iaddn C dX4_comesHome_107 ?_
        refine j_ifn_ne C (by have := stN_le (l := l) (k := 0); have := hK.1; omega) (tgt := 127) dX4_comesHome_108 (by decide) ?_ ?_
        · intro c108
          refine j_aload_n C dX4_comesHome_127 0 rfl rfl ?_
          refine jm_get16 C dX4_comesHome_128 ?_
          refine j_bipush C (v := nI 106) dX4_comesHome_131 (by decide) ?_
          refine j_iload_n C dX4_comesHome_133 2 rfl rfl ?_
          refine j_iaddn C dX4_comesHome_134 ?_
          refine j_iconst C (v := nI 0) dX4_comesHome_135 (by decide) ?_
          refine jm_ast16 C hO (by omega) dX4_comesHome_136 (fun M1 hM1 => ?_)
          have hS1 : SA (M1.2 16) (tS t 5 i 0 0) := by rw [hM1, mSA_16]; exact hS.pem hi rfl
          have hM1 := hM1
          refine j_aload_n C dX4_comesHome_137 0 rfl rfl ?_
          refine jm_get16 C dX4_comesHome_138 ?_
          refine j_bipush C (v := nI 104) dX4_comesHome_141 (by decide) ?_
          refine j_iload_n C dX4_comesHome_143 2 rfl rfl ?_
          refine j_iaddn C dX4_comesHome_144 ?_
          refine j_dup2 C dX4_comesHome_145 rfl rfl ?_
          refine jm_ald16 C hO (by omega) dX4_comesHome_146 ?_
          refine j_ev (v' := nI ((tS t 5 i 0 0).1 4 i 0)) (hS1.po hi rfl) ?_
          refine j_iload C dX4_comesHome_147 4 rfl ?_
          refine j_iload_n C dX4_comesHome_149 3 rfl rfl ?_
          refine j_iaddn C dX4_comesHome_150 ?_
          refine j_iaddn C dX4_comesHome_151 ?_
          refine jm_ast16 C hO (by omega) dX4_comesHome_152 (fun M2 hM2 => ?_)
          have hS2 : SA (M2.2 16) (tS (tS t 5 i 0 0) 4 i 0 ((tS t 5 i 0 0).1 4 i 0 + (stN l 0 + b))) := by rw [hM2, mSA_16]; exact hS1.ppo hi rfl
          have hM2 := hM2
          refine j_aload_n C dX4_comesHome_153 0 rfl rfl ?_
          refine jm_get16 C dX4_comesHome_154 ?_
          refine j_bipush C (v := nI 60) dX4_comesHome_157 (by decide) ?_
          refine j_bipush C (v := nI 10) dX4_comesHome_159 (by decide) ?_
          refine j_iload_n C dX4_comesHome_161 2 rfl rfl ?_
          refine j_imuln C dX4_comesHome_162 ?_
          refine j_iaddn C dX4_comesHome_163 ?_
          refine j_iload C dX4_comesHome_164 6 rfl ?_
          refine j_iaddn C dX4_comesHome_166 ?_
          refine j_dup2 C dX4_comesHome_167 rfl rfl ?_
          refine jm_ald16 C hO (by omega) dX4_comesHome_168 ?_
          refine j_ev (v' := nI ((tS t 5 i 0 0).1 3 i r)) (hS2.ra hi hr (by omega)) ?_
          refine j_iload C dX4_comesHome_169 4 rfl ?_
          refine j_iload_n C dX4_comesHome_171 3 rfl rfl ?_
          refine j_iaddn C dX4_comesHome_172 ?_
          refine j_iaddn C dX4_comesHome_173 ?_
          refine jm_ast16 C hO (by omega) dX4_comesHome_174 (fun M3 hM3 => ?_)
          have hS3 : SA (M3.2 16) (scored (tS t 5 i 0 0) i r (stN l 0 + b)) := by rw [hM3, mSA_16]; exact hS2.pra hi hr (by omega)
          have hM3 := hM3
          refine j_iconst C (v := nI 0) dX4_comesHome_175 (by decide) ?_
          refine j_istore C (L' := [(8, .int (nI 0)), (0, .ref o), (1, .int (nI e)), (2, .int (nI i)), (3, .int (nI b)), (4, .int (nI (stN l 0))), (5, .int (pI (t.1 5 i 0 = 2))), (7, .int (nI r))]) dX4_comesHome_176 (jlt hnl (by decide)) rfl ?_
          refine J.sub (L' := [(0, .ref o), (1, .int (nI e)), (2, .int (nI i)), (3, .int (nI b)), (4, .int (nI (stN l 0))), (7, .int (nI r)), (8, .int (nI 0))]) ?_ [1, 2, 3, 4, 5, 7, 0] rfl
          have loop178 : ∀ (n : Nat) (j : Nat) (Mk : jM), (j ≤ l.length) → (mO M Mk) → (SA (Mk.2 16) (outsAll (scored (tS t 5 i 0 0) i r (stN l 0 + b)) (1 - i) (l.take j))) → (l.length - j) < n → J (g, z) (mput g h o ad Mk) 0 178 [(0, .ref o), (1, .int (nI e)), (2, .int (nI i)), (3, .int (nI b)), (4, .int (nI (stN l 0))), (7, .int (nI r)), (8, .int (nI j))] [] := by
            intro n
            induction n with
            | zero => intro j Mk; intros; omega
            | succ n ih178 =>
              intro j Mk hj hMo hSk hm178
              refine j_iload C dX4_comesHome_178 6 rfl ?_
              refine j_aload_n C dX4_comesHome_180 0 rfl rfl ?_
              refine jm_get12 C dX4_comesHome_181 ?_
              refine j_iload_n C dX4_comesHome_184 1 rfl rfl ?_
              refine jm_ald12 C hO (by omega) dX4_comesHome_185 ?_
              refine j_ev (v' := nI l.length) (by rw [hMo.2 12 (by decide)]; exact hc) ?_
              refine j_icn_ge C (by have := hK.1; omega) (by have := hK.1; omega) (tgt := 229) dX4_comesHome_186 (by decide) ?_ ?_
              · intro c186
                refine j_iconst C (v := nI 0) dX4_comesHome_229 (by decide) ?_
                refine j_istore C (L' := [(8, .int (nI 0)), (0, .ref o), (1, .int (nI e)), (2, .int (nI i)), (3, .int (nI b)), (4, .int (nI (stN l 0))), (7, .int (nI r))]) dX4_comesHome_230 (jlt hnl (by decide)) rfl ?_
                refine J.sub (L' := [(0, .ref o), (1, .int (nI e)), (2, .int (nI i)), (3, .int (nI b)), (4, .int (nI (stN l 0))), (7, .int (nI r)), (8, .int (nI 0))]) ?_ [1, 2, 3, 4, 5, 6, 0] rfl
                have loop232 : ∀ (n : Nat) (k : Nat) (Mn : jM), (k ≤ stN l 0) → (mO M Mn) → (SA (Mn.2 16) (comeN (outsAll (scored (tS t 5 i 0 0) i r (stN l 0 + b)) (1 - i) l) i k)) → (stN l 0 - k) < n → J (g, z) (mput g h o ad Mn) 0 232 [(0, .ref o), (1, .int (nI e)), (2, .int (nI i)), (3, .int (nI b)), (4, .int (nI (stN l 0))), (7, .int (nI r)), (8, .int (nI k))] [] := by
                  intro n
                  induction n with
                  | zero => intro k Mn; intros; omega
                  | succ n ih232 =>
                    intro k Mn hk hMp hSn hm232
                    refine j_iload C dX4_comesHome_232 6 rfl ?_
                    refine j_iload C dX4_comesHome_234 4 rfl ?_
                    refine j_icn_ge C (by have := stN_le (l := l) (k := 0); have := hK.1; omega) (by have := stN_le (l := l) (k := 0); have := hK.1; omega) (tgt := 250) dX4_comesHome_236 (by decide) ?_ ?_
                    · intro c236
                      exact j_vret C E (Nat.le_refl _) (⟨_, rfl, rfl, hMp, by rw [home, if_neg h104, if_neg c108]; have e : k = stN l 0 := (by omega); rw [e] at hSn; exact hSn⟩) dX4_comesHome_250
                    · intro c236
                      refine j_aload_n C dX4_comesHome_239 0 rfl rfl ?_
                      refine j_iload_n C dX4_comesHome_240 2 rfl rfl ?_
                      refine jm_callV C hO (as := [.int (nI i)]) (mc_comesBack G Mn _ i hSn hi) mw_comesBack (by decide) (Nat.le_refl _) rfl (Nat.le_of_ble_eq_true rfl) dX4_comesHome_241 (fun M4 hM4 => ?_)
                      refine j_iinc C (L' := [(8, .int (nI (k + 1))), (0, .ref o), (1, .int (nI e)), (2, .int (nI i)), (3, .int (nI b)), (4, .int (nI (stN l 0))), (7, .int (nI r))]) dX4_comesHome_244 6 rfl (kinc k 1 (by decide)) (jlt hnl (by decide)) rfl ?_
                      refine j_goto C (tgt := 232) dX4_comesHome_247 (by decide) ?_
                      refine J.sub (L' := [(0, .ref o), (1, .int (nI e)), (2, .int (nI i)), (3, .int (nI b)), (4, .int (nI (stN l 0))), (7, .int (nI r)), (8, .int (nI (k + 1)))]) ?_ [1, 2, 3, 4, 5, 6, 0] rfl
                      exact ih232 (k + 1) M4 (by omega) (hMp.tr hM4.1) (by rw [comeN_s]; exact hM4.2) (by omega)
                exact loop232 ((stN l 0 - 0) + 1) 0 Mk (Nat.zero_le _) hMo (by have e : j = l.length := (by omega); rw [e, List.take_length] at hSk; exact hSk) (Nat.lt_succ_self _)
              · intro c186
                refine j_aload_n C dX4_comesHome_189 0 rfl rfl ?_
                refine jm_get13 C dX4_comesHome_190 ?_
                refine j_bipush C (v := nI 14) dX4_comesHome_193 (by decide) ?_
                refine j_iload_n C dX4_comesHome_195 1 rfl rfl ?_
                refine j_imuln C dX4_comesHome_196 ?_
                refine j_iload C dX4_comesHome_197 6 rfl ?_
                refine j_iaddn C dX4_comesHome_199 ?_
                refine jm_ald13 C hO (by have := hK.1; omega) dX4_comesHome_200 ?_
                refine j_ev (v' := nI ((l.getD j z3).1)) ((hR.mo hMo j c186).1) ?_
                refine j_ifn_ne C (by have := (hK.2 j c186).1; omega) (tgt := 223) dX4_comesHome_201 (by decide) ?_ ?_
                · intro c201
                  refine j_iinc C (L' := [(8, .int (nI (j + 1))), (0, .ref o), (1, .int (nI e)), (2, .int (nI i)), (3, .int (nI b)), (4, .int (nI (stN l 0))), (7, .int (nI r))]) dX4_comesHome_223 6 rfl (kinc j 1 (by decide)) (jlt hnl (by decide)) rfl ?_
                  refine j_goto C (tgt := 178) dX4_comesHome_226 (by decide) ?_
                  refine J.sub (L' := [(0, .ref o), (1, .int (nI e)), (2, .int (nI i)), (3, .int (nI b)), (4, .int (nI (stN l 0))), (7, .int (nI r)), (8, .int (nI (j + 1)))]) ?_ [1, 2, 3, 4, 5, 6, 0] rfl
                  exact ih178 (j + 1) Mk (by omega) hMo (by rw [take_s c186, outsAll_app]; show SA _ (if (l.getD j z3).1 = 0 then _ else _); rw [if_neg c201]; exact hSk) (by omega)
                · intro c201
                  have hrow : ((outsAll (scored (tS t 5 i 0 0) i r (stN l 0 + b)) (1 - i) (l.take j)).2 (1 - i)).length < 10 := by
                    rw [outsAll_len]
                    have e1 := stN_s (k := 0) c186
                    rw [if_pos c201] at e1
                    have e2 := stN_take (l := l) (j := j + 1) (k := 0)
                    show (t.2 (1 - i)).length + _ < 10
                    omega
                  refine j_aload_n C dX4_comesHome_204 0 rfl rfl ?_
                  refine j_iconst C (v := nI 1) dX4_comesHome_205 (by decide) ?_
                  refine j_iload_n C dX4_comesHome_206 2 rfl rfl ?_
                  refine j_isubn C (by omega) dX4_comesHome_207 ?_
                  refine j_aload_n C dX4_comesHome_208 0 rfl rfl ?_
                  refine jm_get14 C dX4_comesHome_209 ?_
                  refine j_bipush C (v := nI 14) dX4_comesHome_212 (by decide) ?_
                  refine j_iload_n C dX4_comesHome_214 1 rfl rfl ?_
                  refine j_imuln C dX4_comesHome_215 ?_
                  refine j_iload C dX4_comesHome_216 6 rfl ?_
                  refine j_iaddn C dX4_comesHome_218 ?_
                  refine jm_ald14 C hO (by have := hK.1; omega) dX4_comesHome_219 ?_
                  refine j_ev (v' := nI ((l.getD j z3).2.1)) (((hR.mo hMo j c186).2.1).trans (by rw [whoI, if_pos c201])) ?_
                  refine jm_callV C hO (as := [.int (nI (1 - i)), .int (nI ((l.getD j z3).2.1))]) (mc_goesOut G Mk _ (1 - i) (l.getD j z3).2.1 hSk (by omega) ((hK.2 j c186).2.1 c201) hrow) mw_goesOut (by decide) (Nat.le_refl _) rfl (Nat.le_of_ble_eq_true rfl) dX4_comesHome_220 (fun M5 hM5 => ?_)
                  refine j_iinc C (L' := [(8, .int (nI (j + 1))), (0, .ref o), (1, .int (nI e)), (2, .int (nI i)), (3, .int (nI b)), (4, .int (nI (stN l 0))), (7, .int (nI r))]) dX4_comesHome_223 6 rfl (kinc j 1 (by decide)) (jlt hnl (by decide)) rfl ?_
                  refine j_goto C (tgt := 178) dX4_comesHome_226 (by decide) ?_
                  refine J.sub (L' := [(0, .ref o), (1, .int (nI e)), (2, .int (nI i)), (3, .int (nI b)), (4, .int (nI (stN l 0))), (7, .int (nI r)), (8, .int (nI (j + 1)))]) ?_ [1, 2, 3, 4, 5, 6, 0] rfl
                  exact ih178 (j + 1) M5 (by omega) (hMo.tr hM5.1) (by rw [take_s c186, outsAll_app]; show SA _ (if (l.getD j z3).1 = 0 then _ else _); rw [if_pos c201]; exact hM5.2) (by omega)
          exact loop178 ((l.length - 0) + 1) 0 M3 (Nat.zero_le _) (((mO.set hM1).tr (mO.set hM2)).tr (mO.set hM3)) hS3 (Nat.lt_succ_self _)
        · intro c108
          refine j_aload_n C dX4_comesHome_111 0 rfl rfl ?_
          refine jm_get16 C dX4_comesHome_112 ?_
          refine j_bipush C (v := nI 106) dX4_comesHome_115 (by decide) ?_
          refine j_iload_n C dX4_comesHome_117 2 rfl rfl ?_
          refine j_iaddn C dX4_comesHome_118 ?_
          refine j_dup2 C dX4_comesHome_119 rfl rfl ?_
          refine jm_ald16 C hO (by omega) dX4_comesHome_120 ?_
          refine j_ev (v' := nI (t.1 5 i 0)) (hS.em hi rfl) ?_
          refine j_iconst C (v := nI 1) dX4_comesHome_121 (by decide) ?_
          refine j_iaddn C dX4_comesHome_122 ?_
          refine jm_ast16 C hO (by omega) dX4_comesHome_123 (fun M6 hM6 => ?_)
          refine j_goto C (tgt := 250) dX4_comesHome_124 (by decide) ?_
          exact j_vret C E (Nat.le_refl _) (⟨_, rfl, rfl, mO.set hM6, by rw [home, if_neg h104, if_pos c108]; rw [hM6, mSA_16]; exact hS.pem hi rfl⟩) dX4_comesHome_250
      refine j_iload C dX4_comesHome_66 1 rfl ?_
      refine j_ifp_ne C (tgt := 83) dX4_comesHome_68 (by decide) ?_ ?_
      · intro c68
        refine j_aload_n C dX4_comesHome_83 2 rfl rfl ?_
        refine jm_get16 C dX4_comesHome_84 ?_
        refine j_bipush C (v := nI 106) dX4_comesHome_87 (by decide) ?_
        refine j_iload_n C dX4_comesHome_89 4 rfl rfl ?_
        refine j_iaddn C dX4_comesHome_90 ?_
        refine j_iconst C (v := nI 0) dX4_comesHome_91 (by decide) ?_
        refine jm_ast16 C hO (by omega) dX4_comesHome_92 (fun M7 hM7 => ?_)
        refine j_aload_n C dX4_comesHome_93 2 rfl rfl ?_
        refine j_iload_n C dX4_comesHome_94 4 rfl rfl ?_
        refine j_iload C dX4_comesHome_95 0 rfl ?_
        refine j_iconst C (v := nI 1) dX4_comesHome_97 (by decide) ?_
        refine jm_callV C hO (as := [.int (nI i), .int (nI r), .int (nI 1)]) (mc_raiderIsOut G M7 (tS t 5 i 0 0) i r 1 (by rw [hM7, mSA_16]; exact hS.pem hi rfl) hi hr hl) mw_raiderIsOut (by decide) (Nat.le_refl _) rfl (Nat.le_of_ble_eq_true rfl) dX4_comesHome_98 (fun M8 hM8 => ?_)
        refine j_goto C (tgt := 250) dX4_comesHome_101 (by decide) ?_
        exact j_vret C E (Nat.le_refl _) (⟨_, rfl, rfl, (mO.set hM7).tr hM8.1, by rw [home, if_pos (by grind)]; exact hM8.2⟩) dX4_comesHome_250
      · intro c68
        refine j_iload C dX4_comesHome_71 6 rfl ?_
        refine j_iload_n C dX4_comesHome_73 5 rfl rfl ?_
        refine j_iaddn C dX4_comesHome_74 ?_
        refine j_ifn_ne C (by have := stN_le (l := l) (k := 0); have := hK.1; omega) (tgt := 104) dX4_comesHome_75 (by decide) ?_ ?_
        · intro c75
          refine J.sub (L' := [(0, .ref o), (1, .int (nI e)), (2, .int (nI i)), (3, .int (nI b)), (4, .int (nI (stN l 0))), (5, .int (pI (t.1 5 i 0 = 2))), (7, .int (nI r))]) ?_ [2, 3, 4, 5, 6, 7, 0] rfl
          exact join104 (by grind)
        · intro c75
          refine j_iload C dX4_comesHome_78 7 rfl ?_
          refine j_ifp_eq C (tgt := 104) dX4_comesHome_80 (by decide) ?_ ?_
          · intro c80
            refine J.sub (L' := [(0, .ref o), (1, .int (nI e)), (2, .int (nI i)), (3, .int (nI b)), (4, .int (nI (stN l 0))), (5, .int (pI (t.1 5 i 0 = 2))), (7, .int (nI r))]) ?_ [2, 3, 4, 5, 6, 7, 0] rfl
            exact join104 (by grind)
          · intro c80
            refine j_aload_n C dX4_comesHome_83 2 rfl rfl ?_
            refine jm_get16 C dX4_comesHome_84 ?_
            refine j_bipush C (v := nI 106) dX4_comesHome_87 (by decide) ?_
            refine j_iload_n C dX4_comesHome_89 4 rfl rfl ?_
            refine j_iaddn C dX4_comesHome_90 ?_
            refine j_iconst C (v := nI 0) dX4_comesHome_91 (by decide) ?_
            refine jm_ast16 C hO (by omega) dX4_comesHome_92 (fun M9 hM9 => ?_)
            refine j_aload_n C dX4_comesHome_93 2 rfl rfl ?_
            refine j_iload_n C dX4_comesHome_94 4 rfl rfl ?_
            refine j_iload C dX4_comesHome_95 0 rfl ?_
            refine j_iconst C (v := nI 1) dX4_comesHome_97 (by decide) ?_
            refine jm_callV C hO (as := [.int (nI i), .int (nI r), .int (nI 1)]) (mc_raiderIsOut G M9 (tS t 5 i 0 0) i r 1 (by rw [hM9, mSA_16]; exact hS.pem hi rfl) hi hr hl) mw_raiderIsOut (by decide) (Nat.le_refl _) rfl (Nat.le_of_ble_eq_true rfl) dX4_comesHome_98 (fun M10 hM10 => ?_)
            refine j_goto C (tgt := 250) dX4_comesHome_101 (by decide) ?_
            exact j_vret C E (Nat.le_refl _) (⟨_, rfl, rfl, (mO.set hM9).tr hM10.1, by rw [home, if_pos (by grind)]; exact hM10.2⟩) dX4_comesHome_250
    refine j_iload C dX4_comesHome_28 5 rfl ?_
    refine j_ifn_ne C (by have := stN_le (l := l) (k := 0); have := hK.1; omega) (tgt := 55) dX4_comesHome_30 (by decide) ?_ ?_
    · intro c30
      refine j_iconst C (v := nI 0) dX4_comesHome_55 (by decide) ?_
      refine J.sub (L' := [(0, .ref o), (1, .int (nI e)), (2, .int (nI i)), (3, .int (nI b)), (4, .int (nI (stN l 0))), (5, .int (pI (t.1 5 i 0 = 2)))]) ?_ [1, 2, 3, 4, 5, 0] rfl
      refine j_ev (v' := pI (stN l 0 = 0 ∧ stN l 1 = 0 ∧ stN l 2 = 0)) (by rw [pI_f (by grind)]; rfl) ?_
      exact join56
    · intro c30
      refine j_aload_n C dX4_comesHome_33 1 rfl rfl ?_
      refine j_iload_n C dX4_comesHome_34 2 rfl rfl ?_
      refine j_iconst C (v := nI 1) dX4_comesHome_35 (by decide) ?_
      refine jm_callQ C hO (as := [.int (nI e), .int (nI 1)]) (mc_stepsThat G M e 1 l he hc hR hK (by decide)) mw_stepsThat (by decide) (Nat.le_refl _) rfl (Nat.le_of_ble_eq_true rfl) dX4_comesHome_36 ?_
      refine j_ifn_ne C (by have := stN_le (l := l) (k := 1); have := hK.1; omega) (tgt := 55) dX4_comesHome_39 (by decide) ?_ ?_
      · intro c39
        refine j_iconst C (v := nI 0) dX4_comesHome_55 (by decide) ?_
        refine J.sub (L' := [(0, .ref o), (1, .int (nI e)), (2, .int (nI i)), (3, .int (nI b)), (4, .int (nI (stN l 0))), (5, .int (pI (t.1 5 i 0 = 2)))]) ?_ [1, 2, 3, 4, 5, 0] rfl
        refine j_ev (v' := pI (stN l 0 = 0 ∧ stN l 1 = 0 ∧ stN l 2 = 0)) (by rw [pI_f (by grind)]; rfl) ?_
        exact join56
      · intro c39
        refine j_aload_n C dX4_comesHome_42 1 rfl rfl ?_
        refine j_iload_n C dX4_comesHome_43 2 rfl rfl ?_
        refine j_iconst C (v := nI 2) dX4_comesHome_44 (by decide) ?_
        refine jm_callQ C hO (as := [.int (nI e), .int (nI 2)]) (mc_stepsThat G M e 2 l he hc hR hK (by decide)) mw_stepsThat (by decide) (Nat.le_refl _) rfl (Nat.le_of_ble_eq_true rfl) dX4_comesHome_45 ?_
        refine j_ifn_ne C (by have := stN_le (l := l) (k := 2); have := hK.1; omega) (tgt := 55) dX4_comesHome_48 (by decide) ?_ ?_
        · intro c48
          refine j_iconst C (v := nI 0) dX4_comesHome_55 (by decide) ?_
          refine J.sub (L' := [(0, .ref o), (1, .int (nI e)), (2, .int (nI i)), (3, .int (nI b)), (4, .int (nI (stN l 0))), (5, .int (pI (t.1 5 i 0 = 2)))]) ?_ [1, 2, 3, 4, 5, 0] rfl
          refine j_ev (v' := pI (stN l 0 = 0 ∧ stN l 1 = 0 ∧ stN l 2 = 0)) (by rw [pI_f (by grind)]; rfl) ?_
          exact join56
        · intro c48
          refine j_iconst C (v := nI 1) dX4_comesHome_51 (by decide) ?_
          refine j_goto C (tgt := 56) dX4_comesHome_52 (by decide) ?_
          refine J.sub (L' := [(0, .ref o), (1, .int (nI e)), (2, .int (nI i)), (3, .int (nI b)), (4, .int (nI (stN l 0))), (5, .int (pI (t.1 5 i 0 = 2)))]) ?_ [1, 2, 3, 4, 5, 0] rfl
          refine j_ev (v' := pI (stN l 0 = 0 ∧ stN l 1 = 0 ∧ stN l 2 = 0)) (by rw [pI_t (by grind)]; rfl) ?_
          exact join56
  refine j_aload_n C dX4_comesHome_8 1 rfl rfl ?_
  refine jm_get16 C dX4_comesHome_9 ?_
  refine j_bipush C (v := nI 106) dX4_comesHome_12 (by decide) ?_
  refine j_iload_n C dX4_comesHome_14 3 rfl rfl ?_
  refine j_iaddn C dX4_comesHome_15 ?_
  refine jm_ald16 C hO (by omega) dX4_comesHome_16 ?_
  refine j_ev (v' := nI (t.1 5 i 0)) (hS.em hi rfl) ?_
  refine j_iconst C (v := nI 2) dX4_comesHome_17 (by decide) ?_
  refine j_icn_ne C (by omega) (by omega) (tgt := 25) dX4_comesHome_18 (by decide) ?_ ?_
  · intro c18
    refine j_iconst C (v := nI 0) dX4_comesHome_25 (by decide) ?_
    refine J.sub (L' := [(0, .ref o), (1, .int (nI e)), (2, .int (nI i)), (3, .int (nI b)), (4, .int (nI (stN l 0)))]) ?_ [1, 2, 3, 4, 0] rfl
    refine j_ev (v' := pI (t.1 5 i 0 = 2)) (by rw [pI_f (by grind)]; rfl) ?_
    exact join26
  · intro c18
    refine j_iconst C (v := nI 1) dX4_comesHome_21 (by decide) ?_
    refine j_goto C (tgt := 26) dX4_comesHome_22 (by decide) ?_
    refine J.sub (L' := [(0, .ref o), (1, .int (nI e)), (2, .int (nI i)), (3, .int (nI b)), (4, .int (nI (stN l 0)))]) ?_ [1, 2, 3, 4, 0] rfl
    refine j_ev (v' := pI (t.1 5 i 0 = 2)) (by rw [pI_t (by grind)]; rfl) ?_
    exact join26
