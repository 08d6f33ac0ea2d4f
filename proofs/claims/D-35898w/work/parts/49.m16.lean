set_option maxRecDepth 100000
def sgnL (p q : Nat) : Int64 := lN p - lN q
theorem sgnL_i {p q : Nat} (hp : p < 2 ^ 62) (hq : q < 2 ^ 62) : (sgnL p q).toInt = (p : Int) - q := by
  unfold sgnL
  rw [Int64.toInt_sub, pk_lT (by omega), pk_lT (by omega)]
  rw [Int.bmod_def]
  omega
theorem sgnL_gt {p q : Nat} (hp : p < 2 ^ 62) (hq : q < 2 ^ 62) : 0 < sgnL p q ↔ q < p := by
  have e0 : (0 : Int64).toInt = 0 := by decide
  rw [Int64.lt_iff_toInt_lt, sgnL_i hp hq, e0]; omega
theorem sgnL_eq {p q : Nat} (hp : p < 2 ^ 62) (hq : q < 2 ^ 62) : sgnL p q = 0 ↔ p = q := by
  have e0 : (0 : Int64).toInt = 0 := by decide
  rw [← Int64.toInt_inj, sgnL_i hp hq, e0]; omega
theorem cmp_gt {x : Int64} : 0 < lg_cmp x 0 ↔ 0 < x := by
  unfold lg_cmp
  by_cases h : x > 0
  · rw [if_pos h]; exact ⟨fun _ => h, fun _ => by decide⟩
  · rw [if_neg h]
    refine ⟨fun z => ?_, fun z => absurd z h⟩
    split at z <;> exact absurd z (by decide)
theorem cmp_eq {x : Int64} : lg_cmp x 0 = 0 ↔ x = 0 := by
  unfold lg_cmp
  by_cases h : x > 0
  · rw [if_pos h]
    exact ⟨fun z => absurd z (by decide), fun z => by subst z; exact absurd h (by decide)⟩
  · rw [if_neg h]
    by_cases h2 : x = 0
    · rw [if_pos h2]; exact ⟨fun _ => h2, fun _ => rfl⟩
    · rw [if_neg h2]; exact ⟨fun z => absurd z (by decide), fun z => absurd z h2⟩
def numL (lg : Nat → Nat) (k : Nat) : Nat := if lg (6 * k + 5) = 0 then 1 else lg (6 * k + 4)
def denL (lg : Nat → Nat) (k : Nat) : Nat := if lg (6 * k + 5) = 0 ∧ lg (6 * k + 4) = 0 then 1 else lg (6 * k + 5)
def ahead (lg : Nat → Nat) (a b : Nat) : Prop := lg (6 * b + 3) < lg (6 * a + 3) ∨ (lg (6 * a + 3) = lg (6 * b + 3) ∧ (numL lg b * denL lg a < numL lg a * denL lg b ∨ (numL lg a * denL lg b = numL lg b * denL lg a ∧ a < b)))
def LG (M : jM) (lg : Nat → Nat) : Prop := (∀ j, j < 48 → M.2 26 j = nI (lg j)) ∧ ∀ j, lg j < 2 ^ 29
theorem numL_lt {lg : Nat → Nat} (h : ∀ j, lg j < 2 ^ 29) {k : Nat} : numL lg k < 2 ^ 29 := by unfold numL; have := h (6 * k + 4); split <;> omega
theorem denL_lt {lg : Nat → Nat} (h : ∀ j, lg j < 2 ^ 29) {k : Nat} : denL lg k < 2 ^ 29 := by unfold denL; have := h (6 * k + 5); split <;> omega
theorem prod_lt {a b : Nat} (ha : a < 2 ^ 29) (hb : b < 2 ^ 29) : a * b < 2 ^ 62 := by
  have : a * b ≤ 2 ^ 29 * 2 ^ 29 := Nat.mul_le_mul (Nat.le_of_lt ha) (Nat.le_of_lt hb)
  omega
noncomputable def rankN (lg : Nat → Nat) (c : Nat) : Nat → Nat
  | 0 => 0
  | k + 1 => rankN lg c k + iF (k ≠ c ∧ ahead lg k c) 1 0
theorem rankN_le {lg : Nat → Nat} {c : Nat} : ∀ {k : Nat}, rankN lg c k ≤ k := by
  intro k
  induction k with
  | zero => exact Nat.le_refl _
  | succ k ih =>
    show rankN lg c k + iF _ 1 0 ≤ _
    by_cases h : k ≠ c ∧ ahead lg k c
    · rw [iF_t h]; omega
    · rw [iF_f h]; omega
noncomputable def opClub (M : jM) (lg : Nat → Nat) (c w : Int32) : AnsA := iF (inI c 0 7) (iF (inI w 0 6) (0, iF (iN w < 6) (M.2 26 (6 * iN c + iN w)) (nI (rankN lg (iN c) 8)), M) (2, 0, M)) (1, 0, M)

set_option maxHeartbeats 4000000 in
theorem mc_isAhead {g : jG} (G : jOK g) (M : jM) (lg : Nat → Nat) (hL : LG M lg) (a b : Nat) (ha : a < 8) (hb : b < 8)  : MTQ g 0 yX4_isAhead [.int (nI a), .int (nI b)] M (pI (ahead lg a b)) := by
  intro h o ad hO
  refine CT.of (bytes := cX4_isAhead) (maxL := 10) (ret := (some .boolean)) G q2295 (by decide) (by decide +kernel) (Nat.le_of_ble_eq_true rfl) ?_
  intro z C E hT hnm hnl
  have C : jC (g, z) cX4_isAhead RX4 0 0 := C
  show J (g, z) (mput g h o ad M) 0 0 [(0, .ref o), (1, .int (nI a)), (2, .int (nI b))] []
  refine j_aload_n C dX4_isAhead_0 0 rfl rfl ?_
  refine jm_get26 C dX4_isAhead_1 ?_
  refine j_bipush C (v := nI 6) dX4_isAhead_4 (by decide) ?_
  refine j_iload_n C dX4_isAhead_6 1 rfl rfl ?_
  refine j_imuln C dX4_isAhead_7 ?_
  refine j_iconst C (v := nI 3) dX4_isAhead_8 (by decide) ?_
  refine j_iaddn C dX4_isAhead_9 ?_
  refine jm_ald26 C hO (by omega) dX4_isAhead_10 ?_
  refine j_ev (v' := (nI (lg (6 * a + 3)))) (hL.1 _ (by omega)) ?_
  refine j_aload_n C dX4_isAhead_11 0 rfl rfl ?_
  refine jm_get26 C dX4_isAhead_12 ?_
  refine j_bipush C (v := nI 6) dX4_isAhead_15 (by decide) ?_
  refine j_iload_n C dX4_isAhead_17 2 rfl rfl ?_
  refine j_imuln C dX4_isAhead_18 ?_
  refine j_iconst C (v := nI 3) dX4_isAhead_19 (by decide) ?_
  refine j_iaddn C dX4_isAhead_20 ?_
  refine jm_ald26 C hO (by omega) dX4_isAhead_21 ?_
  refine j_ev (v' := (nI (lg (6 * b + 3)))) (hL.1 _ (by omega)) ?_
  refine j_isub C dX4_isAhead_22 ?_
  refine j_ev (v' := sgn (lg (6 * a + 3)) (lg (6 * b + 3))) rfl ?_
  refine j_istore_n C (L' := [(3, .int (sgn (lg (6 * a + 3)) (lg (6 * b + 3)))), (0, .ref o), (1, .int (nI a)), (2, .int (nI b))]) dX4_isAhead_23 rfl (jlt hnl (by decide)) rfl ?_
  refine j_iload_n C dX4_isAhead_24 0 rfl rfl ?_
  refine j_if_ne C (tgt := 222) dX4_isAhead_25 (by decide) ?_ ?_
  · intro c25
    refine j_iload_n C dX4_isAhead_222 0 rfl rfl ?_
    refine j_if_le C (tgt := 230) dX4_isAhead_223 (by decide) ?_ ?_
    · intro c223
      refine j_iconst C (v := nI 0) dX4_isAhead_230 (by decide) ?_
      exact j_iret C E (by decide) (Nat.le_refl _) (⟨_, rfl, rz0 (fun z => by rcases z with z | z; exact absurd ((sgn_gt (by have := hL.2 (6 * a + 3); omega) (by have := hL.2 (6 * b + 3); omega)).mpr z) (Int32.not_lt.mpr c223); exact c25 ((sgn_eq (by have := hL.2 (6 * a + 3); omega) (by have := hL.2 (6 * b + 3); omega)).mpr z.1)), rfl⟩) dX4_isAhead_231
    · intro c223
      refine j_iconst C (v := nI 1) dX4_isAhead_226 (by decide) ?_
      refine j_goto C (tgt := 231) dX4_isAhead_227 (by decide) ?_
      exact j_iret C E (by decide) (Nat.le_refl _) (⟨_, rfl, rz1 (Or.inl ((sgn_gt (by have := hL.2 (6 * a + 3); omega) (by have := hL.2 (6 * b + 3); omega)).mp (Int32.not_le.mp c223))), rfl⟩) dX4_isAhead_231
  · intro c25
    refine j_aload_n C dX4_isAhead_28 1 rfl rfl ?_
    refine jm_get26 C dX4_isAhead_29 ?_
    refine j_bipush C (v := nI 6) dX4_isAhead_32 (by decide) ?_
    refine j_iload_n C dX4_isAhead_34 2 rfl rfl ?_
    refine j_imuln C dX4_isAhead_35 ?_
    refine j_iconst C (v := nI 4) dX4_isAhead_36 (by decide) ?_
    refine j_iaddn C dX4_isAhead_37 ?_
    refine jm_ald26 C hO (by omega) dX4_isAhead_38 ?_
    refine j_ev (v' := nI (lg (6 * a + 4))) (hL.1 _ (by omega)) ?_
    refine j_istore C (L' := [(4, .int (nI (lg (6 * a + 4)))), (3, .int (sgn (lg (6 * a + 3)) (lg (6 * b + 3)))), (0, .ref o), (1, .int (nI a)), (2, .int (nI b))]) dX4_isAhead_39 (jlt hnl (by decide)) rfl ?_
    refine j_aload_n C dX4_isAhead_41 2 rfl rfl ?_
    refine jm_get26 C dX4_isAhead_42 ?_
    refine j_bipush C (v := nI 6) dX4_isAhead_45 (by decide) ?_
    refine j_iload_n C dX4_isAhead_47 3 rfl rfl ?_
    refine j_imuln C dX4_isAhead_48 ?_
    refine j_iconst C (v := nI 5) dX4_isAhead_49 (by decide) ?_
    refine j_iaddn C dX4_isAhead_50 ?_
    refine jm_ald26 C hO (by omega) dX4_isAhead_51 ?_
    refine j_ev (v' := nI (lg (6 * a + 5))) (hL.1 _ (by omega)) ?_
    refine j_istore C (L' := [(5, .int (nI (lg (6 * a + 5)))), (4, .int (nI (lg (6 * a + 4)))), (3, .int (sgn (lg (6 * a + 3)) (lg (6 * b + 3)))), (0, .ref o), (1, .int (nI a)), (2, .int (nI b))]) dX4_isAhead_52 (jlt hnl (by decide)) rfl ?_
    refine j_aload_n C dX4_isAhead_54 3 rfl rfl ?_
    refine jm_get26 C dX4_isAhead_55 ?_
    refine j_bipush C (v := nI 6) dX4_isAhead_58 (by decide) ?_
    refine j_iload_n C dX4_isAhead_60 5 rfl rfl ?_
    refine j_imuln C dX4_isAhead_61 ?_
    refine j_iconst C (v := nI 4) dX4_isAhead_62 (by decide) ?_
    refine j_iaddn C dX4_isAhead_63 ?_
    refine jm_ald26 C hO (by omega) dX4_isAhead_64 ?_
    refine j_ev (v' := nI (lg (6 * b + 4))) (hL.1 _ (by omega)) ?_
    refine j_istore C (L' := [(6, .int (nI (lg (6 * b + 4)))), (5, .int (nI (lg (6 * a + 5)))), (4, .int (nI (lg (6 * a + 4)))), (3, .int (sgn (lg (6 * a + 3)) (lg (6 * b + 3)))), (0, .ref o), (1, .int (nI a)), (2, .int (nI b))]) dX4_isAhead_65 (jlt hnl (by decide)) rfl ?_
    refine j_aload_n C dX4_isAhead_67 4 rfl rfl ?_
    refine jm_get26 C dX4_isAhead_68 ?_
    refine j_bipush C (v := nI 6) dX4_isAhead_71 (by decide) ?_
    refine j_iload_n C dX4_isAhead_73 6 rfl rfl ?_
    refine j_imuln C dX4_isAhead_74 ?_
    refine j_iconst C (v := nI 5) dX4_isAhead_75 (by decide) ?_
    refine j_iaddn C dX4_isAhead_76 ?_
    refine jm_ald26 C hO (by omega) dX4_isAhead_77 ?_
    refine j_ev (v' := nI (lg (6 * b + 5))) (hL.1 _ (by omega)) ?_
    refine j_istore C (L' := [(7, .int (nI (lg (6 * b + 5)))), (6, .int (nI (lg (6 * b + 4)))), (5, .int (nI (lg (6 * a + 5)))), (4, .int (nI (lg (6 * a + 4)))), (3, .int (sgn (lg (6 * a + 3)) (lg (6 * b + 3)))), (0, .ref o), (1, .int (nI a)), (2, .int (nI b))]) dX4_isAhead_78 (jlt hnl (by decide)) rfl ?_
    have join103 : ∀ (ma : Nat), (ma = numL lg a) → J (g, z) (mput g h o ad M) 0 103 [(0, .ref o), (1, .int (nI a)), (2, .int (nI b)), (3, .int (sgn (lg (6 * a + 3)) (lg (6 * b + 3)))), (5, .int (nI (lg (6 * a + 5)))), (6, .int (nI (lg (6 * b + 4)))), (7, .int (nI (lg (6 * b + 5))))] [.int (nI ma)] := by
      intro ma hma
      refine j_istore C (L' := [(4, .int (nI ma)), (0, .ref o), (1, .int (nI a)), (2, .int (nI b)), (3, .int (sgn (lg (6 * a + 3)) (lg (6 * b + 3)))), (5, .int (nI (lg (6 * a + 5)))), (6, .int (nI (lg (6 * b + 4)))), (7, .int (nI (lg (6 * b + 5))))]) dX4_isAhead_103 (jlt hnl (by decide)) rfl ?_
      have join128 : ∀ (la : Nat), (la = denL lg a) → J (g, z) (mput g h o ad M) 0 128 [(0, .ref o), (1, .int (nI a)), (2, .int (nI b)), (4, .int (nI ma)), (5, .int (nI (lg (6 * a + 5)))), (6, .int (nI (lg (6 * b + 4)))), (7, .int (nI (lg (6 * b + 5))))] [.int (nI la)] := by
        intro la hla
        refine j_istore C (L' := [(5, .int (nI la)), (0, .ref o), (1, .int (nI a)), (2, .int (nI b)), (4, .int (nI ma)), (6, .int (nI (lg (6 * b + 4)))), (7, .int (nI (lg (6 * b + 5))))]) dX4_isAhead_128 (jlt hnl (by decide)) rfl ?_
        have join153 : ∀ (mb : Nat), (mb = numL lg b) → J (g, z) (mput g h o ad M) 0 153 [(0, .ref o), (1, .int (nI a)), (2, .int (nI b)), (4, .int (nI ma)), (5, .int (nI la)), (6, .int (nI (lg (6 * b + 4)))), (7, .int (nI (lg (6 * b + 5))))] [.int (nI mb)] := by
          intro mb hmb
          refine j_istore C (L' := [(6, .int (nI mb)), (0, .ref o), (1, .int (nI a)), (2, .int (nI b)), (4, .int (nI ma)), (5, .int (nI la)), (7, .int (nI (lg (6 * b + 5))))]) dX4_isAhead_153 (jlt hnl (by decide)) rfl ?_
          have join178 : ∀ (lb : Nat), (lb = denL lg b) → J (g, z) (mput g h o ad M) 0 178 [(0, .ref o), (1, .int (nI a)), (2, .int (nI b)), (4, .int (nI ma)), (5, .int (nI la)), (6, .int (nI mb)), (7, .int (nI (lg (6 * b + 5))))] [.int (nI lb)] := by
            intro lb hlb
            refine j_istore C (L' := [(7, .int (nI lb)), (0, .ref o), (1, .int (nI a)), (2, .int (nI b)), (4, .int (nI ma)), (5, .int (nI la)), (6, .int (nI mb))]) dX4_isAhead_178 (jlt hnl (by decide)) rfl ?_
            have hmaL : ma < 2 ^ 29 := by rw [hma]; exact numL_lt hL.2
            have hmbL : mb < 2 ^ 29 := by rw [hmb]; exact numL_lt hL.2
            have hlaL : la < 2 ^ 29 := by rw [hla]; exact denL_lt hL.2
            have hlbL : lb < 2 ^ 29 := by rw [hlb]; exact denL_lt hL.2
            refine j_iload C dX4_isAhead_180 4 rfl ?_
            refine j_i2l C dX4_isAhead_182 rfl ?_
            refine j_evl (v' := lN ma) (nI_l (by omega)) ?_
            refine j_iload C dX4_isAhead_183 0 rfl ?_
            refine j_i2l C dX4_isAhead_185 rfl ?_
            refine j_evl (v' := lN lb) (nI_l (by omega)) ?_
            refine j_lmul C dX4_isAhead_186 ?_
            refine j_evl (v' := lN (ma * lb)) (lN_mul _ _) ?_
            refine j_iload C dX4_isAhead_187 6 rfl ?_
            refine j_i2l C dX4_isAhead_189 rfl ?_
            refine j_evl (v' := lN mb) (nI_l (by omega)) ?_
            refine j_iload C dX4_isAhead_190 5 rfl ?_
            refine j_i2l C dX4_isAhead_192 rfl ?_
            refine j_evl (v' := lN la) (nI_l (by omega)) ?_
            refine j_lmul C dX4_isAhead_193 ?_
            refine j_evl (v' := lN (mb * la)) (lN_mul _ _) ?_
            refine j_lsub C dX4_isAhead_194 ?_
            refine j_evl (v' := sgnL (ma * lb) (mb * la)) rfl ?_
            refine j_lstore C (L' := [(8, .long (sgnL (ma * lb) (mb * la))), (7, .int (nI lb)), (0, .ref o), (1, .int (nI a)), (2, .int (nI b)), (4, .int (nI ma)), (5, .int (nI la)), (6, .int (nI mb))]) dX4_isAhead_195 (jlt hnl (by decide)) rfl ?_
            have h3 : lg (6 * a + 3) = lg (6 * b + 3) := (sgn_eq (by have := hL.2 (6 * a + 3); omega) (by have := hL.2 (6 * b + 3); omega)).mp c25
            have hp := prod_lt hmaL hlbL
            have hq := prod_lt hmbL hlaL
            have hgt : 0 < lg_cmp (sgnL (ma * lb) (mb * la)) 0 ↔ mb * la < ma * lb := cmp_gt.trans (sgnL_gt hp hq)
            have heq : lg_cmp (sgnL (ma * lb) (mb * la)) 0 = 0 ↔ ma * lb = mb * la := cmp_eq.trans (sgnL_eq hp hq)
            refine j_lload C dX4_isAhead_197 0 rfl ?_
            refine j_lconst C (v := 0) dX4_isAhead_199 (by decide) ?_
            refine j_lcmp C dX4_isAhead_200 ?_
            refine j_if_gt C (tgt := 216) dX4_isAhead_201 (by decide) ?_ ?_
            · intro c201
              refine j_iconst C (v := nI 1) dX4_isAhead_216 (by decide) ?_
              refine j_goto C (tgt := 221) dX4_isAhead_217 (by decide) ?_
              exact j_iret C E (by decide) (Nat.le_refl _) (⟨_, rfl, rz1 (by unfold ahead; rw [← hma, ← hmb, ← hla, ← hlb]; grind), rfl⟩) dX4_isAhead_221
            · intro c201
              refine j_lload C dX4_isAhead_204 0 rfl ?_
              refine j_lconst C (v := 0) dX4_isAhead_206 (by decide) ?_
              refine j_lcmp C dX4_isAhead_207 ?_
              refine j_if_ne C (tgt := 220) dX4_isAhead_208 (by decide) ?_ ?_
              · intro c208
                refine j_iconst C (v := nI 0) dX4_isAhead_220 (by decide) ?_
                exact j_iret C E (by decide) (Nat.le_refl _) (⟨_, rfl, rz0 (by unfold ahead; rw [← hma, ← hmb, ← hla, ← hlb]; grind), rfl⟩) dX4_isAhead_221
              · intro c208
                refine j_iload_n C dX4_isAhead_211 3 rfl rfl ?_
                refine j_iload_n C dX4_isAhead_212 4 rfl rfl ?_
                refine j_icn_ge C (by omega) (by omega) (tgt := 220) dX4_isAhead_213 (by decide) ?_ ?_
                · intro c213
                  refine j_iconst C (v := nI 0) dX4_isAhead_220 (by decide) ?_
                  exact j_iret C E (by decide) (Nat.le_refl _) (⟨_, rfl, rz0 (by unfold ahead; rw [← hma, ← hmb, ← hla, ← hlb]; grind), rfl⟩) dX4_isAhead_221
                · intro c213
                  refine j_iconst C (v := nI 1) dX4_isAhead_216 (by decide) ?_
                  refine j_goto C (tgt := 221) dX4_isAhead_217 (by decide) ?_
                  exact j_iret C E (by decide) (Nat.le_refl _) (⟨_, rfl, rz1 (by unfold ahead; rw [← hma, ← hmb, ← hla, ← hlb]; grind), rfl⟩) dX4_isAhead_221
          refine j_aload_n C dX4_isAhead_155 1 rfl rfl ?_
          refine jm_get26 C dX4_isAhead_156 ?_
          refine j_bipush C (v := nI 6) dX4_isAhead_159 (by decide) ?_
          refine j_iload_n C dX4_isAhead_161 3 rfl rfl ?_
          refine j_imuln C dX4_isAhead_162 ?_
          refine j_iconst C (v := nI 4) dX4_isAhead_163 (by decide) ?_
          refine j_iaddn C dX4_isAhead_164 ?_
          refine jm_ald26 C hO (by omega) dX4_isAhead_165 ?_
          refine j_ev (v' := nI (lg (6 * b + 4))) (hL.1 _ (by omega)) ?_
          refine j_iload C dX4_isAhead_166 6 rfl ?_
          refine j_iaddn C dX4_isAhead_168 ?_
          refine j_ifn_ne C (by have := hL.2 (6 * a + 4); have := hL.2 (6 * a + 5); have := hL.2 (6 * b + 4); have := hL.2 (6 * b + 5); omega) (tgt := 176) dX4_isAhead_169 (by decide) ?_ ?_
          · intro c169
            refine j_iload C dX4_isAhead_176 6 rfl ?_
            refine J.sub (L' := [(0, .ref o), (1, .int (nI a)), (2, .int (nI b)), (4, .int (nI ma)), (5, .int (nI la)), (6, .int (nI mb)), (7, .int (nI (lg (6 * b + 5))))]) ?_ [1, 2, 3, 4, 5, 0, 6] rfl
            exact join178 (lg (6 * b + 5)) (by unfold denL; grind)
          · intro c169
            refine j_iconst C (v := nI 1) dX4_isAhead_172 (by decide) ?_
            refine j_goto C (tgt := 178) dX4_isAhead_173 (by decide) ?_
            refine J.sub (L' := [(0, .ref o), (1, .int (nI a)), (2, .int (nI b)), (4, .int (nI ma)), (5, .int (nI la)), (6, .int (nI mb)), (7, .int (nI (lg (6 * b + 5))))]) ?_ [1, 2, 3, 4, 5, 0, 6] rfl
            exact join178 1 (by unfold denL; grind)
        refine j_iload C dX4_isAhead_130 5 rfl ?_
        refine j_iload C dX4_isAhead_132 6 rfl ?_
        refine j_iaddn C dX4_isAhead_134 ?_
        refine j_ifn_ne C (by have := hL.2 (6 * a + 4); have := hL.2 (6 * a + 5); have := hL.2 (6 * b + 4); have := hL.2 (6 * b + 5); omega) (tgt := 142) dX4_isAhead_135 (by decide) ?_ ?_
        · intro c135
          refine j_iload C dX4_isAhead_142 6 rfl ?_
          refine j_ifn_ne C (by have := hL.2 (6 * a + 4); have := hL.2 (6 * a + 5); have := hL.2 (6 * b + 4); have := hL.2 (6 * b + 5); omega) (tgt := 151) dX4_isAhead_144 (by decide) ?_ ?_
          · intro c144
            refine j_iload C dX4_isAhead_151 5 rfl ?_
            refine J.sub (L' := [(0, .ref o), (1, .int (nI a)), (2, .int (nI b)), (4, .int (nI ma)), (5, .int (nI la)), (6, .int (nI (lg (6 * b + 4)))), (7, .int (nI (lg (6 * b + 5))))]) ?_ [1, 2, 3, 4, 0, 5, 6] rfl
            exact join153 (lg (6 * b + 4)) (by unfold numL; grind)
          · intro c144
            refine j_iconst C (v := nI 1) dX4_isAhead_147 (by decide) ?_
            refine j_goto C (tgt := 153) dX4_isAhead_148 (by decide) ?_
            refine J.sub (L' := [(0, .ref o), (1, .int (nI a)), (2, .int (nI b)), (4, .int (nI ma)), (5, .int (nI la)), (6, .int (nI (lg (6 * b + 4)))), (7, .int (nI (lg (6 * b + 5))))]) ?_ [1, 2, 3, 4, 0, 5, 6] rfl
            exact join153 1 (by unfold numL; grind)
        · intro c135
          refine j_iconst C (v := nI 1) dX4_isAhead_138 (by decide) ?_
          refine j_goto C (tgt := 153) dX4_isAhead_139 (by decide) ?_
          refine J.sub (L' := [(0, .ref o), (1, .int (nI a)), (2, .int (nI b)), (4, .int (nI ma)), (5, .int (nI la)), (6, .int (nI (lg (6 * b + 4)))), (7, .int (nI (lg (6 * b + 5))))]) ?_ [1, 2, 3, 4, 0, 5, 6] rfl
          exact join153 1 (by unfold numL; grind)
      refine j_aload_n C dX4_isAhead_105 1 rfl rfl ?_
      refine jm_get26 C dX4_isAhead_106 ?_
      refine j_bipush C (v := nI 6) dX4_isAhead_109 (by decide) ?_
      refine j_iload_n C dX4_isAhead_111 2 rfl rfl ?_
      refine j_imuln C dX4_isAhead_112 ?_
      refine j_iconst C (v := nI 4) dX4_isAhead_113 (by decide) ?_
      refine j_iaddn C dX4_isAhead_114 ?_
      refine jm_ald26 C hO (by omega) dX4_isAhead_115 ?_
      refine j_ev (v' := nI (lg (6 * a + 4))) (hL.1 _ (by omega)) ?_
      refine j_iload C dX4_isAhead_116 5 rfl ?_
      refine j_iaddn C dX4_isAhead_118 ?_
      refine j_ifn_ne C (by have := hL.2 (6 * a + 4); have := hL.2 (6 * a + 5); have := hL.2 (6 * b + 4); have := hL.2 (6 * b + 5); omega) (tgt := 126) dX4_isAhead_119 (by decide) ?_ ?_
      · intro c119
        refine j_iload C dX4_isAhead_126 5 rfl ?_
        refine J.sub (L' := [(0, .ref o), (1, .int (nI a)), (2, .int (nI b)), (4, .int (nI ma)), (5, .int (nI (lg (6 * a + 5)))), (6, .int (nI (lg (6 * b + 4)))), (7, .int (nI (lg (6 * b + 5))))]) ?_ [1, 2, 3, 0, 5, 6, 7] rfl
        exact join128 (lg (6 * a + 5)) (by unfold denL; grind)
      · intro c119
        refine j_iconst C (v := nI 1) dX4_isAhead_122 (by decide) ?_
        refine j_goto C (tgt := 128) dX4_isAhead_123 (by decide) ?_
        refine J.sub (L' := [(0, .ref o), (1, .int (nI a)), (2, .int (nI b)), (4, .int (nI ma)), (5, .int (nI (lg (6 * a + 5)))), (6, .int (nI (lg (6 * b + 4)))), (7, .int (nI (lg (6 * b + 5))))]) ?_ [1, 2, 3, 0, 5, 6, 7] rfl
        exact join128 1 (by unfold denL; grind)
    refine j_iload C dX4_isAhead_80 3 rfl ?_
    refine j_iload C dX4_isAhead_82 2 rfl ?_
    refine j_iaddn C dX4_isAhead_84 ?_
    refine j_ifn_ne C (by have := hL.2 (6 * a + 4); have := hL.2 (6 * a + 5); have := hL.2 (6 * b + 4); have := hL.2 (6 * b + 5); omega) (tgt := 92) dX4_isAhead_85 (by decide) ?_ ?_
    · intro c85
      refine j_iload C dX4_isAhead_92 2 rfl ?_
      refine j_ifn_ne C (by have := hL.2 (6 * a + 4); have := hL.2 (6 * a + 5); have := hL.2 (6 * b + 4); have := hL.2 (6 * b + 5); omega) (tgt := 101) dX4_isAhead_94 (by decide) ?_ ?_
      · intro c94
        refine j_iload C dX4_isAhead_101 3 rfl ?_
        refine J.sub (L' := [(0, .ref o), (1, .int (nI a)), (2, .int (nI b)), (3, .int (sgn (lg (6 * a + 3)) (lg (6 * b + 3)))), (5, .int (nI (lg (6 * a + 5)))), (6, .int (nI (lg (6 * b + 4)))), (7, .int (nI (lg (6 * b + 5))))]) ?_ [5, 6, 7, 4, 2, 1, 0] rfl
        exact join103 (lg (6 * a + 4)) (by unfold numL; grind)
      · intro c94
        refine j_iconst C (v := nI 1) dX4_isAhead_97 (by decide) ?_
        refine j_goto C (tgt := 103) dX4_isAhead_98 (by decide) ?_
        refine J.sub (L' := [(0, .ref o), (1, .int (nI a)), (2, .int (nI b)), (3, .int (sgn (lg (6 * a + 3)) (lg (6 * b + 3)))), (5, .int (nI (lg (6 * a + 5)))), (6, .int (nI (lg (6 * b + 4)))), (7, .int (nI (lg (6 * b + 5))))]) ?_ [5, 6, 7, 4, 2, 1, 0] rfl
        exact join103 1 (by unfold numL; grind)
    · intro c85
      refine j_iconst C (v := nI 1) dX4_isAhead_88 (by decide) ?_
      refine j_goto C (tgt := 103) dX4_isAhead_89 (by decide) ?_
      refine J.sub (L' := [(0, .ref o), (1, .int (nI a)), (2, .int (nI b)), (3, .int (sgn (lg (6 * a + 3)) (lg (6 * b + 3)))), (5, .int (nI (lg (6 * a + 5)))), (6, .int (nI (lg (6 * b + 4)))), (7, .int (nI (lg (6 * b + 5))))]) ?_ [5, 6, 7, 4, 2, 1, 0] rfl
      exact join103 1 (by unfold numL; grind)

set_option maxHeartbeats 4000000 in
theorem mc_rankOf {g : jG} (G : jOK g) (M : jM) (lg : Nat → Nat) (hL : LG M lg) (c : Nat) (hc : c < 8)  : MTQ g 1 yX4_rankOf [.int (nI c)] M (nI (rankN lg c 8)) := by
  intro h o ad hO
  refine CT.of (bytes := cX4_rankOf) (maxL := 4) (ret := (some .int)) G q2291 (by decide) (by decide +kernel) (Nat.le_of_ble_eq_true rfl) ?_
  intro z C E hT hnm hnl
  have C : jC (g, z) cX4_rankOf RX4 1 0 := C
  show J (g, z) (mput g h o ad M) 0 0 [(0, .ref o), (1, .int (nI c))] []
  refine j_iconst C (v := nI 0) dX4_rankOf_0 (by decide) ?_
  refine j_istore_n C (L' := [(2, .int (nI 0)), (0, .ref o), (1, .int (nI c))]) dX4_rankOf_1 rfl (jlt hnl (by decide)) rfl ?_
  refine j_iconst C (v := nI 0) dX4_rankOf_2 (by decide) ?_
  refine j_istore_n C (L' := [(3, .int (nI 0)), (2, .int (nI 0)), (0, .ref o), (1, .int (nI c))]) dX4_rankOf_3 rfl (jlt hnl (by decide)) rfl ?_
  refine J.sub (L' := [(0, .ref o), (1, .int (nI c)), (2, .int (nI 0)), (3, .int (nI 0))]) ?_ [2, 3, 1, 0] rfl
  have loop4 : ∀ (mz : Nat) (k : Nat), (k ≤ 8) → (8 - k) < mz → J (g, z) (mput g h o ad M) 0 4 [(0, .ref o), (1, .int (nI c)), (2, .int (nI (rankN lg c k))), (3, .int (nI k))] [] := by
    intro mz
    induction mz with
    | zero => intro k; intros; omega
    | succ mz ih4 =>
      intro k hk hm4
      refine j_iload_n C dX4_rankOf_4 3 rfl rfl ?_
      refine j_bipush C (v := nI 8) dX4_rankOf_5 (by decide) ?_
      refine j_icn_ge C (by omega) (by decide) (tgt := 38) dX4_rankOf_7 (by decide) ?_ ?_
      · intro c7
        refine j_iload_n C dX4_rankOf_38 2 rfl rfl ?_
        exact j_iret C E rfl (Nat.le_refl _) (⟨_, rfl, by rw [show k = 8 by omega], rfl⟩) dX4_rankOf_39
      · intro c7
        refine j_iload_n C dX4_rankOf_10 2 rfl rfl ?_
        have join30 : ∀ (q : Nat), (q = iF (k ≠ c ∧ ahead lg k c) 1 0) → J (g, z) (mput g h o ad M) 0 30 [(0, .ref o), (1, .int (nI c)), (2, .int (nI (rankN lg c k))), (3, .int (nI k))] [.int (nI q), .int (nI (rankN lg c k))] := by
          intro q hq
          refine j_iaddn C dX4_rankOf_30 ?_
          refine j_ev (v' := nI (rankN lg c (k + 1))) (by rw [hq]; rfl) ?_
          refine j_istore_n C (L' := [(2, .int (nI (rankN lg c (k + 1)))), (0, .ref o), (1, .int (nI c)), (3, .int (nI k))]) dX4_rankOf_31 rfl (jlt hnl (by decide)) rfl ?_
          refine j_iinc C (L' := [(3, .int (nI (k + 1))), (2, .int (nI (rankN lg c (k + 1)))), (0, .ref o), (1, .int (nI c))]) dX4_rankOf_32 3 rfl (kinc k 1 (by decide)) (jlt hnl (by decide)) rfl ?_
          refine j_goto C (tgt := 4) dX4_rankOf_35 (by decide) ?_
          refine J.sub (L' := [(0, .ref o), (1, .int (nI c)), (2, .int (nI (rankN lg c (k + 1)))), (3, .int (nI (k + 1)))]) ?_ [2, 3, 1, 0] rfl
          exact ih4 (k + 1) (by omega) (by omega)
        refine j_iload_n C dX4_rankOf_11 3 rfl rfl ?_
        refine j_iload_n C dX4_rankOf_12 1 rfl rfl ?_
        refine j_icn_eq C (by omega) (by omega) (tgt := 29) dX4_rankOf_13 (by decide) ?_ ?_
        · intro c13
          refine j_iconst C (v := nI 0) dX4_rankOf_29 (by decide) ?_
          refine J.sub (L' := [(0, .ref o), (1, .int (nI c)), (2, .int (nI (rankN lg c k))), (3, .int (nI k))]) ?_ [0, 1, 2, 3] rfl
          exact join30 0 (by first | exact Eq.symm (iF_f (fun z => z.1 c13)) | exact Eq.symm (iF_f (fun z => c22 z.2)))
        · intro c13
          refine j_aload_n C dX4_rankOf_16 0 rfl rfl ?_
          refine j_iload_n C dX4_rankOf_17 3 rfl rfl ?_
          refine j_iload_n C dX4_rankOf_18 1 rfl rfl ?_
          refine jm_callQ C hO (as := [.int (nI k), .int (nI c)]) (mc_isAhead G M lg hL k c (by omega) hc) mw_isAhead (by decide) (Nat.le_refl _) rfl (Nat.le_of_ble_eq_true rfl) dX4_rankOf_19 ?_
          refine j_ifp_eq C (tgt := 29) dX4_rankOf_22 (by decide) ?_ ?_
          · intro c22
            refine j_iconst C (v := nI 0) dX4_rankOf_29 (by decide) ?_
            refine J.sub (L' := [(0, .ref o), (1, .int (nI c)), (2, .int (nI (rankN lg c k))), (3, .int (nI k))]) ?_ [0, 1, 2, 3] rfl
            exact join30 0 (by first | exact Eq.symm (iF_f (fun z => z.1 c13)) | exact Eq.symm (iF_f (fun z => c22 z.2)))
          · intro c22
            refine j_iconst C (v := nI 1) dX4_rankOf_25 (by decide) ?_
            refine j_goto C (tgt := 30) dX4_rankOf_26 (by decide) ?_
            refine J.sub (L' := [(0, .ref o), (1, .int (nI c)), (2, .int (nI (rankN lg c k))), (3, .int (nI k))]) ?_ [0, 1, 2, 3] rfl
            exact join30 1 (by rw [iF_t ⟨c13, c22⟩])
  exact loop4 ((8 - 0) + 1) 0 (by omega) (Nat.lt_succ_self _)

set_option maxHeartbeats 4000000 in
theorem mc_club {g : jG} (G : jOK g) (M : jM) (lg : Nat → Nat) (hL : LG M lg) (c w : Int32)  : MTR g 2 yX4_club [.int c, .int w] M (fun v M' => OUTA M' v (opClub M lg c w)) := by
  intro h o ad hO
  refine CT.of (bytes := cX4_club) (maxL := 3) (ret := (some .int)) G q2287 (by decide) (by decide +kernel) (Nat.le_of_ble_eq_true rfl) ?_
  intro z C E hT hnm hnl
  have C : jC (g, z) cX4_club RX4 2 0 := C
  show J (g, z) (mput g h o ad M) 0 0 [(0, .ref o), (1, .int c), (2, .int w)] []
  refine j_aload_n C dX4_club_0 0 rfl rfl ?_
  refine j_iload_n C dX4_club_1 1 rfl rfl ?_
  refine j_callSQ C (as := [.int c]) (mi_isClub G c) mw_isClub (by decide) (Nat.le_refl _) rfl (Nat.le_of_ble_eq_true rfl) dX4_club_2 ?_
  refine j_ifp_ne C (tgt := 12) dX4_club_5 (by decide) ?_ ?_
  · intro c5
    have hin := c5
    obtain ⟨nc, rfl, hnc0, hnc9⟩ := inI_n (by decide) (by decide) c5
    have iNnc : iN (nI nc) = nc := iN_nI (by omega)
    refine j_iload_n C dX4_club_12 2 rfl rfl ?_
    refine j_iconst C (v := nI 0) dX4_club_13 (by decide) ?_
    refine j_bipush C (v := nI 6) dX4_club_14 (by decide) ?_
    refine j_callSQ C (as := [.int w, .int (nI 0), .int (nI 6)]) (mi_in G w 0 6) mw_in (by decide) (Nat.le_refl _) rfl (Nat.le_of_ble_eq_true rfl) dX4_club_16 ?_
    refine j_ifp_eq C (tgt := 26) dX4_club_19 (by decide) ?_ ?_
    · intro c19
      refine j_iconst C (v := nI 2) dX4_club_26 (by decide) ?_
      refine jm_callR C hO (as := [.int (nI 2)]) (mc_holds G M (nI 2)) mw_holds (by decide) (Nat.le_refl _) rfl (Nat.le_of_ble_eq_true rfl) dX4_club_27 (fun r2 M1 hM1 => ?_)
      refine j_ev (v' := nI 0) (by rw [hM1.1, pI_f (by decide)]; rfl) ?_
      have eM1 := hM1.2
      refine j_ifn_ne C (by decide) (tgt := 35) dX4_club_30 (by decide) ?_ ?_
      · intro c30
        omega
      · intro c30
        refine j_iconst C (v := nI 0) dX4_club_33 (by decide) ?_
        exact j_iret C E rfl (Nat.le_refl _) (⟨_, rfl, _, rfl, OUTA.er (by decide) eM1 (by unfold opClub; rw [iF_t hin, iF_f c19])⟩) dX4_club_34
    · intro c19
      have hiw := c19
      obtain ⟨nw, rfl, hnw0, hnw9⟩ := inI_n (by decide) (by decide) c19
      have iNnw : iN (nI nw) = nw := iN_nI (by omega)
      refine j_iconst C (v := nI 0) dX4_club_22 (by decide) ?_
      refine j_goto C (tgt := 27) dX4_club_23 (by decide) ?_
      refine jm_callR C hO (as := [.int (nI 0)]) (mc_holds G M (nI 0)) mw_holds (by decide) (Nat.le_refl _) rfl (Nat.le_of_ble_eq_true rfl) dX4_club_27 (fun r4 M3 hM3 => ?_)
      refine j_ev (v' := nI 1) (by rw [hM3.1, pI_t (by decide)]; rfl) ?_
      have eM3 := hM3.2
      refine j_ifn_ne C (by decide) (tgt := 35) dX4_club_30 (by decide) ?_ ?_
      · intro c30
        refine j_iload_n C dX4_club_35 2 rfl rfl ?_
        refine j_bipush C (v := nI 6) dX4_club_36 (by decide) ?_
        refine j_icn_ge C (by omega) (by decide) (tgt := 55) dX4_club_38 (by decide) ?_ ?_
        · intro c38
          refine j_aload_n C dX4_club_55 0 rfl rfl ?_
          refine j_iload_n C dX4_club_56 1 rfl rfl ?_
          refine jm_callQ C hO (as := [.int (nI nc)]) (mc_rankOf G M3 lg ⟨fun j hj => by rw [eM3]; exact hL.1 j hj, hL.2⟩ nc (by omega)) mw_rankOf (by decide) (Nat.le_refl _) rfl (Nat.le_of_ble_eq_true rfl) dX4_club_57 ?_
          exact j_iret C E rfl (Nat.le_refl _) (⟨_, rfl, _, rfl, OUTA.rd eM3 (by unfold opClub; rw [iF_t hin, iF_t hiw, iNnc, iNnw, iF_f (by omega)]) rfl⟩) dX4_club_60
        · intro c38
          refine j_aload_n C dX4_club_41 0 rfl rfl ?_
          refine jm_get26 C dX4_club_42 ?_
          refine j_bipush C (v := nI 6) dX4_club_45 (by decide) ?_
          refine j_iload_n C dX4_club_47 1 rfl rfl ?_
          refine j_imuln C dX4_club_48 ?_
          refine j_iload_n C dX4_club_49 2 rfl rfl ?_
          refine j_iaddn C dX4_club_50 ?_
          refine jm_ald26 C hO (by omega) dX4_club_51 ?_
          refine j_ev (v' := (M.2 26 (6 * nc + nw))) (by rw [eM3, mSF_A]) ?_
          refine j_goto C (tgt := 60) dX4_club_52 (by decide) ?_
          exact j_iret C E rfl (Nat.le_refl _) (⟨_, rfl, _, rfl, OUTA.rd eM3 (by unfold opClub; rw [iF_t hin, iF_t hiw, iNnc, iNnw, iF_t (by omega)]) rfl⟩) dX4_club_60
      · intro c30
        omega
  · intro c5
    refine j_iconst C (v := nI 1) dX4_club_8 (by decide) ?_
    refine j_goto C (tgt := 27) dX4_club_9 (by decide) ?_
    refine jm_callR C hO (as := [.int (nI 1)]) (mc_holds G M (nI 1)) mw_holds (by decide) (Nat.le_refl _) rfl (Nat.le_of_ble_eq_true rfl) dX4_club_27 (fun r6 M5 hM5 => ?_)
    refine j_ev (v' := nI 0) (by rw [hM5.1, pI_f (by decide)]; rfl) ?_
    have eM5 := hM5.2
    refine j_ifn_ne C (by decide) (tgt := 35) dX4_club_30 (by decide) ?_ ?_
    · intro c30
      omega
    · intro c30
      refine j_iconst C (v := nI 0) dX4_club_33 (by decide) ?_
      exact j_iret C E rfl (Nat.le_refl _) (⟨_, rfl, _, rfl, OUTA.er (by decide) eM5 (by unfold opClub; rw [iF_f c5])⟩) dX4_club_34
