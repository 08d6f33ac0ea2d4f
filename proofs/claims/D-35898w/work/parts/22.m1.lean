set_option maxRecDepth 100000
theorem rz1 {p : Prop} (h : p) : some (Value.int (nI 1)) = some (.int (pI p)) := by rw [pI_t h]; rfl
theorem rz0 {p : Prop} (h : ¬ p) : some (Value.int (nI 0)) = some (.int (pI p)) := by rw [pI_f h]; rfl
theorem rzp {p q : Prop} (h : p ↔ q) : some (Value.int (pI p)) = some (.int (pI q)) := by rw [pI_c h]
theorem narrow_vzp {p : Prop} : vp_nar .boolean (pI p) = pI p := by
  by_cases hp : p
  · rw [pI_t hp]; decide
  · rw [pI_f hp]; decide

set_option maxHeartbeats 4000000 in
/-- in -/
theorem mc_in {g : jG} (G : jOK g) (v a b : Int32)  : STQ g 0 yX4_in [.int v, .int a, .int b] (pI (¬ v < a ∧ ¬ b < v)) := by
  intro h
  refine CT.of (bytes := cX4_in) (maxL := 3) (ret := (some .boolean)) G q2031 (by decide) (by decide +kernel) (Nat.le_of_ble_eq_true rfl) ?_
  intro z C E hT hnm hnl
  have C : jC (g, z) cX4_in RX4 0 0 := C
  show J (g, z) h 0 0 [(0, .int v), (1, .int a), (2, .int b)] []
  refine j_iload_n C dX4_in_0 0 rfl rfl ?_
  refine j_iload_n C dX4_in_1 1 rfl rfl ?_
  refine j_ic_lt C (tgt := 14) dX4_in_2 (by decide) ?_ ?_
  · intro c2
    refine j_iconst C (v := nI 0) dX4_in_14 (by decide) ?_
    exact j_iret C E (by decide) (Nat.le_refl _) (⟨rz0 (by grind), rfl⟩) dX4_in_15
  · intro c2
    refine j_iload_n C dX4_in_5 0 rfl rfl ?_
    refine j_iload_n C dX4_in_6 2 rfl rfl ?_
    refine j_ic_gt C (tgt := 14) dX4_in_7 (by decide) ?_ ?_
    · intro c7
      refine j_iconst C (v := nI 0) dX4_in_14 (by decide) ?_
      exact j_iret C E (by decide) (Nat.le_refl _) (⟨rz0 (by grind), rfl⟩) dX4_in_15
    · intro c7
      refine j_iconst C (v := nI 1) dX4_in_10 (by decide) ?_
      refine j_goto C (tgt := 15) dX4_in_11 (by decide) ?_
      exact j_iret C E (by decide) (Nat.le_refl _) (⟨rz1 (by grind), rfl⟩) dX4_in_15

set_option maxHeartbeats 4000000 in
theorem mc_isClub {g : jG} (G : jOK g) (v : Int32)  : STQ g 1 yX4_isClub [.int v] (pI (¬ v < nI 0 ∧ ¬ nI 7 < v)) := by
  intro h
  refine CT.of (bytes := cX4_isClub) (maxL := 1) (ret := (some .boolean)) G q2028 (by decide) (by decide +kernel) (Nat.le_of_ble_eq_true rfl) ?_
  intro z C E hT hnm hnl
  have C : jC (g, z) cX4_isClub RX4 1 0 := C
  show J (g, z) h 0 0 [(0, .int v)] []
  refine j_iload_n C dX4_isClub_0 0 rfl rfl ?_
  refine j_iconst C (v := nI 0) dX4_isClub_1 (by decide) ?_
  refine j_bipush C (v := nI 7) dX4_isClub_2 (by decide) ?_
  refine j_callSQ C (as := [.int v, .int (nI 0), .int (nI 7)]) (mc_in G v (nI 0) (nI 7)) mw_in (by decide) (Nat.le_refl _) rfl (Nat.le_of_ble_eq_true rfl) dX4_isClub_4 ?_
  exact j_iret C E narrow_zp (Nat.le_refl _) (⟨rzp (by grind), rfl⟩) dX4_isClub_7

set_option maxHeartbeats 4000000 in
theorem mc_isSide {g : jG} (G : jOK g) (v : Int32)  : STQ g 1 yX4_isSide [.int v] (pI (¬ v < nI 0 ∧ ¬ nI 1 < v)) := by
  intro h
  refine CT.of (bytes := cX4_isSide) (maxL := 1) (ret := (some .boolean)) G q2124 (by decide) (by decide +kernel) (Nat.le_of_ble_eq_true rfl) ?_
  intro z C E hT hnm hnl
  have C : jC (g, z) cX4_isSide RX4 1 0 := C
  show J (g, z) h 0 0 [(0, .int v)] []
  refine j_iload_n C dX4_isSide_0 0 rfl rfl ?_
  refine j_iconst C (v := nI 0) dX4_isSide_1 (by decide) ?_
  refine j_iconst C (v := nI 1) dX4_isSide_2 (by decide) ?_
  refine j_callSQ C (as := [.int v, .int (nI 0), .int (nI 1)]) (mc_in G v (nI 0) (nI 1)) mw_in (by decide) (Nat.le_refl _) rfl (Nat.le_of_ble_eq_true rfl) dX4_isSide_3 ?_
  exact j_iret C E narrow_zp (Nat.le_refl _) (⟨rzp (by grind), rfl⟩) dX4_isSide_6

set_option maxHeartbeats 4000000 in
theorem mc_isPlayer {g : jG} (G : jOK g) (v : Int32)  : STQ g 1 yX4_isPlayer [.int v] (pI (¬ v < nI 0 ∧ ¬ nI 9 < v)) := by
  intro h
  refine CT.of (bytes := cX4_isPlayer) (maxL := 1) (ret := (some .boolean)) G q2046 (by decide) (by decide +kernel) (Nat.le_of_ble_eq_true rfl) ?_
  intro z C E hT hnm hnl
  have C : jC (g, z) cX4_isPlayer RX4 1 0 := C
  show J (g, z) h 0 0 [(0, .int v)] []
  refine j_iload_n C dX4_isPlayer_0 0 rfl rfl ?_
  refine j_iconst C (v := nI 0) dX4_isPlayer_1 (by decide) ?_
  refine j_bipush C (v := nI 9) dX4_isPlayer_2 (by decide) ?_
  refine j_callSQ C (as := [.int v, .int (nI 0), .int (nI 9)]) (mc_in G v (nI 0) (nI 9)) mw_in (by decide) (Nat.le_refl _) rfl (Nat.le_of_ble_eq_true rfl) dX4_isPlayer_4 ?_
  exact j_iret C E narrow_zp (Nat.le_refl _) (⟨rzp (by grind), rfl⟩) dX4_isPlayer_7

set_option maxHeartbeats 4000000 in
theorem mc_isLot {g : jG} (G : jOK g) (v : Int32)  : STQ g 1 yX4_isLot [.int v] (pI (¬ v < nI 0 ∧ ¬ nI 23 < v)) := by
  intro h
  refine CT.of (bytes := cX4_isLot) (maxL := 1) (ret := (some .boolean)) G q2302 (by decide) (by decide +kernel) (Nat.le_of_ble_eq_true rfl) ?_
  intro z C E hT hnm hnl
  have C : jC (g, z) cX4_isLot RX4 1 0 := C
  show J (g, z) h 0 0 [(0, .int v)] []
  refine j_iload_n C dX4_isLot_0 0 rfl rfl ?_
  refine j_iconst C (v := nI 0) dX4_isLot_1 (by decide) ?_
  refine j_bipush C (v := nI 23) dX4_isLot_2 (by decide) ?_
  refine j_callSQ C (as := [.int v, .int (nI 0), .int (nI 23)]) (mc_in G v (nI 0) (nI 23)) mw_in (by decide) (Nat.le_refl _) rfl (Nat.le_of_ble_eq_true rfl) dX4_isLot_4 ?_
  exact j_iret C E narrow_zp (Nat.le_refl _) (⟨rzp (by grind), rfl⟩) dX4_isLot_7

set_option maxHeartbeats 4000000 in
theorem mc_isWho {g : jG} (G : jOK g) (k v : Int32)  : STQ g 2 yX4_isWho [.int k, .int v] (pI ((k = 0 → ¬ v < nI 0 ∧ ¬ nI 9 < v) ∧ (¬ k = 0 → v = -1))) := by
  intro h
  refine CT.of (bytes := cX4_isWho) (maxL := 2) (ret := (some .boolean)) G q2073 (by decide) (by decide +kernel) (Nat.le_of_ble_eq_true rfl) ?_
  intro z C E hT hnm hnl
  have C : jC (g, z) cX4_isWho RX4 2 0 := C
  show J (g, z) h 0 0 [(0, .int k), (1, .int v)] []
  refine j_iload_n C dX4_isWho_0 0 rfl rfl ?_
  refine j_if_ne C (tgt := 11) dX4_isWho_1 (by decide) ?_ ?_
  · intro c1
    refine j_iload_n C dX4_isWho_11 1 rfl rfl ?_
    refine j_iconst C (v := -1) dX4_isWho_12 (by decide) ?_
    refine j_ic_ne C (tgt := 20) dX4_isWho_13 (by decide) ?_ ?_
    · intro c13
      refine j_iconst C (v := nI 0) dX4_isWho_20 (by decide) ?_
      exact j_iret C E (by decide) (Nat.le_refl _) (⟨rz0 (by grind), rfl⟩) dX4_isWho_21
    · intro c13
      refine j_iconst C (v := nI 1) dX4_isWho_16 (by decide) ?_
      refine j_goto C (tgt := 21) dX4_isWho_17 (by decide) ?_
      exact j_iret C E (by decide) (Nat.le_refl _) (⟨rz1 (by grind), rfl⟩) dX4_isWho_21
  · intro c1
    refine j_iload_n C dX4_isWho_4 1 rfl rfl ?_
    refine j_callSQ C (as := [.int v]) (mc_isPlayer G v) mw_isPlayer (by decide) (Nat.le_refl _) rfl (Nat.le_of_ble_eq_true rfl) dX4_isWho_5 ?_
    refine j_goto C (tgt := 21) dX4_isWho_8 (by decide) ?_
    exact j_iret C E narrow_zp (Nat.le_refl _) (⟨rzp (by grind), rfl⟩) dX4_isWho_21

set_option maxHeartbeats 4000000 in
theorem mc_baseOf {g : jG} (G : jOK g) (n : Nat) (hn : n < 24)  : STQ g 0 yX4_baseOf [.int (nI n)] (nI (if n % 3 = 0 then 50 else if n % 3 = 1 then 30 else 10)) := by
  intro h
  refine CT.of (bytes := cX4_baseOf) (maxL := 1) (ret := (some .int)) G q2309 (by decide) (by decide +kernel) (Nat.le_of_ble_eq_true rfl) ?_
  intro z C E hT hnm hnl
  have C : jC (g, z) cX4_baseOf RX4 0 0 := C
  show J (g, z) h 0 0 [(0, .int (nI n))] []
  refine j_iload_n C dX4_baseOf_0 0 rfl rfl ?_
  refine j_iconst C (v := nI 3) dX4_baseOf_1 (by decide) ?_
  refine j_irem C dX4_baseOf_2 (by decide) ?_
  refine j_ev (pk_rem (by omega) (by decide) (by decide)) ?_
  refine j_ifn_ne C (by omega) (tgt := 11) dX4_baseOf_3 (by decide) ?_ ?_
  · intro c3
    refine j_iload_n C dX4_baseOf_11 0 rfl rfl ?_
    refine j_iconst C (v := nI 3) dX4_baseOf_12 (by decide) ?_
    refine j_irem C dX4_baseOf_13 (by decide) ?_
    refine j_ev (pk_rem (by omega) (by decide) (by decide)) ?_
    refine j_iconst C (v := nI 1) dX4_baseOf_14 (by decide) ?_
    refine j_icn_ne C (by omega) (by omega) (tgt := 23) dX4_baseOf_15 (by decide) ?_ ?_
    · intro c15
      refine j_bipush C (v := nI 10) dX4_baseOf_23 (by decide) ?_
      exact j_iret C E rfl (Nat.le_refl _) (⟨by grind, rfl⟩) dX4_baseOf_25
    · intro c15
      refine j_bipush C (v := nI 30) dX4_baseOf_18 (by decide) ?_
      refine j_goto C (tgt := 25) dX4_baseOf_20 (by decide) ?_
      exact j_iret C E rfl (Nat.le_refl _) (⟨by grind, rfl⟩) dX4_baseOf_25
  · intro c3
    refine j_bipush C (v := nI 50) dX4_baseOf_6 (by decide) ?_
    refine j_goto C (tgt := 25) dX4_baseOf_8 (by decide) ?_
    exact j_iret C E rfl (Nat.le_refl _) (⟨by grind, rfl⟩) dX4_baseOf_25

set_option maxHeartbeats 4000000 in
theorem mc_isForeign {g : jG} (G : jOK g) (n : Nat) (hn : n < 24)  : STQ g 0 yX4_isForeign [.int (nI n)] (pI (n % 4 = 0)) := by
  intro h
  refine CT.of (bytes := cX4_isForeign) (maxL := 1) (ret := (some .boolean)) G q2320 (by decide) (by decide +kernel) (Nat.le_of_ble_eq_true rfl) ?_
  intro z C E hT hnm hnl
  have C : jC (g, z) cX4_isForeign RX4 0 0 := C
  show J (g, z) h 0 0 [(0, .int (nI n))] []
  refine j_iload_n C dX4_isForeign_0 0 rfl rfl ?_
  refine j_iconst C (v := nI 4) dX4_isForeign_1 (by decide) ?_
  refine j_irem C dX4_isForeign_2 (by decide) ?_
  refine j_ev (pk_rem (by omega) (by decide) (by decide)) ?_
  refine j_ifn_ne C (by omega) (tgt := 10) dX4_isForeign_3 (by decide) ?_ ?_
  · intro c3
    refine j_iconst C (v := nI 0) dX4_isForeign_10 (by decide) ?_
    exact j_iret C E (by decide) (Nat.le_refl _) (⟨rz0 (by grind), rfl⟩) dX4_isForeign_11
  · intro c3
    refine j_iconst C (v := nI 1) dX4_isForeign_6 (by decide) ?_
    refine j_goto C (tgt := 11) dX4_isForeign_7 (by decide) ?_
    exact j_iret C E (by decide) (Nat.le_refl _) (⟨rz1 (by grind), rfl⟩) dX4_isForeign_11

set_option maxHeartbeats 4000000 in
theorem mc_thrown {g : jG} (G : jOK g) (M : jM)  : MTQ g 0 yX4_thrown [] M (M.1 0) := by
  intro h o ad hO
  refine CT.of (bytes := cX4_thrown) (maxL := 1) (ret := (some .int)) G q2021 (by decide) (by decide +kernel) (Nat.le_of_ble_eq_true rfl) ?_
  intro z C E hT hnm hnl
  have C : jC (g, z) cX4_thrown RX4 0 0 := C
  show J (g, z) (mput g h o ad M) 0 0 [(0, .ref o)] []
  refine j_aload_n C dX4_thrown_0 0 rfl rfl ?_
  refine jm_get0 C dX4_thrown_1 ?_
  exact j_iret C E rfl (Nat.le_refl _) (⟨_, rfl, rfl, rfl⟩) dX4_thrown_4

set_option maxHeartbeats 4000000 in
theorem mc_holds {g : jG} (G : jOK g) (M : jM) (v : Int32)  : MTR g 0 yX4_holds [.int v] M (fun r M' => r = pI (v = 0) ∧ M' = mSF M 0 v) := by
  intro h o ad hO
  refine CT.of (bytes := cX4_holds) (maxL := 2) (ret := (some .boolean)) G q2035 (by decide) (by decide +kernel) (Nat.le_of_ble_eq_true rfl) ?_
  intro z C E hT hnm hnl
  have C : jC (g, z) cX4_holds RX4 0 0 := C
  show J (g, z) (mput g h o ad M) 0 0 [(0, .ref o), (1, .int v)] []
  refine j_aload_n C dX4_holds_0 0 rfl rfl ?_
  refine j_iload_n C dX4_holds_1 1 rfl rfl ?_
  refine jm_put0 C hO dX4_holds_2 (fun M1 hM1 => ?_)
  refine j_iload_n C dX4_holds_5 1 rfl rfl ?_
  refine j_if_ne C (tgt := 13) dX4_holds_6 (by decide) ?_ ?_
  · intro c6
    refine j_iconst C (v := nI 0) dX4_holds_13 (by decide) ?_
    exact j_iret C E (by decide) (Nat.le_refl _) (⟨_, rfl, _, rfl, by first | exact (pI_t (by assumption)).symm | exact (pI_f (by assumption)).symm, hM1⟩) dX4_holds_14
  · intro c6
    refine j_iconst C (v := nI 1) dX4_holds_9 (by decide) ?_
    refine j_goto C (tgt := 14) dX4_holds_10 (by decide) ?_
    exact j_iret C E (by decide) (Nat.le_refl _) (⟨_, rfl, _, rfl, by first | exact (pI_t (by assumption)).symm | exact (pI_f (by assumption)).symm, hM1⟩) dX4_holds_14

set_option maxHeartbeats 4000000 in
theorem mc_is {g : jG} (G : jOK g) (M : jM) (i p : Nat) (v : Int32) (hi : i < 2) (hp : p < 10)  : MTQ g 0 yX4_is [.int (nI i), .int (nI p), .int v] M (pI (M.2 16 (10 * i + p) = v)) := by
  intro h o ad hO
  refine CT.of (bytes := cX4_is) (maxL := 4) (ret := (some .boolean)) G q2062 (by decide) (by decide +kernel) (Nat.le_of_ble_eq_true rfl) ?_
  intro z C E hT hnm hnl
  have C : jC (g, z) cX4_is RX4 0 0 := C
  show J (g, z) (mput g h o ad M) 0 0 [(0, .ref o), (1, .int (nI i)), (2, .int (nI p)), (3, .int v)] []
  refine j_aload_n C dX4_is_0 0 rfl rfl ?_
  refine jm_get16 C dX4_is_1 ?_
  refine j_bipush C (v := nI 10) dX4_is_4 (by decide) ?_
  refine j_iload_n C dX4_is_6 1 rfl rfl ?_
  refine j_imuln C dX4_is_7 ?_
  refine j_iload_n C dX4_is_8 2 rfl rfl ?_
  refine j_iaddn C dX4_is_9 ?_
  refine jm_ald16 C hO (by omega) dX4_is_10 ?_
  refine j_iload_n C dX4_is_11 3 rfl rfl ?_
  refine j_ic_ne C (tgt := 19) dX4_is_12 (by decide) ?_ ?_
  · intro c12
    refine j_iconst C (v := nI 0) dX4_is_19 (by decide) ?_
    exact j_iret C E (by decide) (Nat.le_refl _) (⟨_, rfl, rz0 (by grind), rfl⟩) dX4_is_20
  · intro c12
    refine j_iconst C (v := nI 1) dX4_is_15 (by decide) ?_
    refine j_goto C (tgt := 20) dX4_is_16 (by decide) ?_
    exact j_iret C E (by decide) (Nat.le_refl _) (⟨_, rfl, rz1 (by grind), rfl⟩) dX4_is_20

set_option maxHeartbeats 4000000 in
theorem mc_ended {g : jG} (G : jOK g) (M : jM) (n : Nat) (r : Prop) (h7 : M.1 7 = nI n) (h3 : M.1 3 = pI r) (hn : r → 0 < n)  : MTQ g 0 yX4_ended [] M (nI (@ite Nat r (Classical.propDecidable r) (n - 1) n)) := by
  intro h o ad hO
  refine CT.of (bytes := cX4_ended) (maxL := 1) (ret := (some .int)) G q2160 (by decide) (by decide +kernel) (Nat.le_of_ble_eq_true rfl) ?_
  intro z C E hT hnm hnl
  have C : jC (g, z) cX4_ended RX4 0 0 := C
  show J (g, z) (mput g h o ad M) 0 0 [(0, .ref o)] []
  refine j_aload_n C dX4_ended_0 0 rfl rfl ?_
  refine jm_get3 C dX4_ended_1 ?_
  refine j_ev (v' := pI r) h3 ?_
  refine j_ifp_eq C (tgt := 16) dX4_ended_4 (by decide) ?_ ?_
  · intro c4
    refine j_aload_n C dX4_ended_16 0 rfl rfl ?_
    refine jm_get7 C dX4_ended_17 ?_
    refine j_ev (v' := nI n) h7 ?_
    exact j_iret C E rfl (Nat.le_refl _) (⟨_, rfl, by rw [if_neg c4], rfl⟩) dX4_ended_20
  · intro c4
    refine j_aload_n C dX4_ended_7 0 rfl rfl ?_
    refine jm_get7 C dX4_ended_8 ?_
    refine j_ev (v' := nI n) h7 ?_
    refine j_iconst C (v := nI 1) dX4_ended_11 (by decide) ?_
    refine j_isubn C (hn c4) dX4_ended_12 ?_
    refine j_goto C (tgt := 20) dX4_ended_13 (by decide) ?_
    exact j_iret C E rfl (Nat.le_refl _) (⟨_, rfl, by rw [if_pos c4], rfl⟩) dX4_ended_20

set_option maxHeartbeats 4000000 in
theorem mc_isBetween {g : jG} (G : jOK g) (M : jM) (n : Nat) (r m : Prop) (hn : n < 2 ^ 31) (h7 : M.1 7 = nI n) (h3 : M.1 3 = pI r) (h2 : M.1 2 = pI m)  : MTQ g 0 yX4_isBetween [] M (pI (m ∧ ¬ r ∧ n < 60)) := by
  intro h o ad hO
  refine CT.of (bytes := cX4_isBetween) (maxL := 1) (ret := (some .boolean)) G q2050 (by decide) (by decide +kernel) (Nat.le_of_ble_eq_true rfl) ?_
  intro z C E hT hnm hnl
  have C : jC (g, z) cX4_isBetween RX4 0 0 := C
  show J (g, z) (mput g h o ad M) 0 0 [(0, .ref o)] []
  refine j_aload_n C dX4_isBetween_0 0 rfl rfl ?_
  refine jm_get2 C dX4_isBetween_1 ?_
  refine j_ev (v' := pI m) h2 ?_
  refine j_ifp_eq C (tgt := 27) dX4_isBetween_4 (by decide) ?_ ?_
  · intro c4
    refine j_iconst C (v := nI 0) dX4_isBetween_27 (by decide) ?_
    exact j_iret C E (by decide) (Nat.le_refl _) (⟨_, rfl, rz0 (by grind), rfl⟩) dX4_isBetween_28
  · intro c4
    refine j_aload_n C dX4_isBetween_7 0 rfl rfl ?_
    refine jm_get3 C dX4_isBetween_8 ?_
    refine j_ev (v' := pI r) h3 ?_
    refine j_ifp_ne C (tgt := 27) dX4_isBetween_11 (by decide) ?_ ?_
    · intro c11
      refine j_iconst C (v := nI 0) dX4_isBetween_27 (by decide) ?_
      exact j_iret C E (by decide) (Nat.le_refl _) (⟨_, rfl, rz0 (by grind), rfl⟩) dX4_isBetween_28
    · intro c11
      refine j_aload_n C dX4_isBetween_14 0 rfl rfl ?_
      refine jm_get7 C dX4_isBetween_15 ?_
      refine j_ev (v' := nI n) h7 ?_
      refine j_bipush C (v := nI 60) dX4_isBetween_18 (by decide) ?_
      refine j_icn_ge C (by omega) (by omega) (tgt := 27) dX4_isBetween_20 (by decide) ?_ ?_
      · intro c20
        refine j_iconst C (v := nI 0) dX4_isBetween_27 (by decide) ?_
        exact j_iret C E (by decide) (Nat.le_refl _) (⟨_, rfl, rz0 (by grind), rfl⟩) dX4_isBetween_28
      · intro c20
        refine j_iconst C (v := nI 1) dX4_isBetween_23 (by decide) ?_
        refine j_goto C (tgt := 28) dX4_isBetween_24 (by decide) ?_
        exact j_iret C E (by decide) (Nat.le_refl _) (⟨_, rfl, rz1 (by grind), rfl⟩) dX4_isBetween_28
