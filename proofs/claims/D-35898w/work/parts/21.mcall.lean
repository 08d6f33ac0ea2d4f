set_option maxRecDepth 100000
/-! ===== contracts of the reference's methods, and their calls ===== -/
theorem jlt {x : jX} {m i : Nat} (h : x.nL = m) (hi : i < m) : i < x.nL := h ▸ hi
theorem kinc (a k : Nat) {n : Int} (h : Int32.ofInt n = nI k) : nI a + Int32.ofInt n = nI (a + k) := by rw [h, nI_add]
theorem kdec {a : Nat} (h : 0 < a) : nI a + Int32.ofInt (-1) = nI (a - 1) := by rw [show Int32.ofInt (-1) = -1 from by decide]; exact sb_m1 h
theorem nI_neg1 {a : Nat} (h : a < 2 ^ 31) : ¬ nI a = -1 := by
  intro q
  have := nI_toInt h
  rw [q] at this
  have e : (-1 : Int32).toInt = -1 := by decide
  omega
def MCT (g : jG) (d : Nat) (y : MethodName) (as : List Value) (M : jM) (Q : Option Value → jM → Prop) : Prop := ∀ (h : jH) (o : Nat) (ad : Nat → Nat), mOK o ad → CT g d 0 y (.ref o :: as) (mput g h o ad M) (jnx fun v h' => ∃ M' : jM, h' = mput g h o ad M' ∧ Q v M')
/-- a question: the answer, nothing changed -/
def MTQ (g : jG) (d : Nat) (y : MethodName) (as : List Value) (M : jM) (r : Int32) : Prop := MCT g d y as M (fun v M' => v = some (.int r) ∧ M' = M)
/-- no answer, a new state -/
def MTV (g : jG) (d : Nat) (y : MethodName) (as : List Value) (M : jM) (Q : jM → Prop) : Prop := MCT g d y as M (fun v M' => v = none ∧ Q M')
/-- an answer and a new state -/
def MTR (g : jG) (d : Nat) (y : MethodName) (as : List Value) (M : jM) (Q : Int32 → jM → Prop) : Prop := MCT g d y as M (fun v M' => ∃ r : Int32, v = some (.int r) ∧ Q r M')
/-- a static method of numbers -/
def STQ (g : jG) (d : Nat) (y : MethodName) (as : List Value) (r : Int32) : Prop := ∀ h : jH, CT g d 0 y as h (jnx fun v h' => v = some (.int r) ∧ h' = h)
/-- the words of a call -/
def mW (own : String) (index : Nat) (Cn : String) (y : MethodName) (n : Nat) : Prop := Cond.methodLink own index y ∈ lw_all ∧ Cond.instanceMethod y ∈ lw_all ∧ Cond.selects Cn y y ∈ lw_all ∧ Cond.initialized y.cls ∈ lw_all ∧ (y.cls ≠ "java/lang/invoke/MethodHandle" ∧ y.cls ≠ "java/lang/invoke/VarHandle") ∧ (parseMethodDescriptor y.desc).map (fun d => d.parameters.length) = some n
def sW (own : String) (index : Nat) (y : MethodName) (n : Nat) : Prop := Cond.methodLink own index y ∈ lw_all ∧ Cond.static y ∈ lw_all ∧ Cond.initialized y.cls ∈ lw_all ∧ (y.cls ≠ "java/lang/invoke/MethodHandle" ∧ y.cls ≠ "java/lang/invoke/VarHandle") ∧ (parseMethodDescriptor y.desc).map (fun d => d.parameters.length) = some n
section JN
variable {x : jX} {cc : ByteArray} {own : String} {d K : Nat} {h : jH} {u pc : Nat} {L L' : List (Nat × Value)} {st rest : List Value} {o : Nat} {ad : Nat → Nat} {M : jM}
theorem jm_callM (C : jC x cc own d K) (hO : mOK o ad) {index d' : Nat} {y : MethodName} {as : List Value} {Q : Option Value → jM → Prop} (hM : MCT x.g d' y as M Q) (w : mW own index RX4 y as.length) (hd' : d' + 1 ≤ d) (hu : u ≤ K) (hst : st = as.reverse ++ .ref o :: rest) (hW : (rest.map fun v => v.category).sum ≤ 8) (hd : decode cc pc = .ok (.invokevirtual index, 3))
    (kk : ∀ (v : Option Value) (M' : jM), Q v M' → J x (mput x.g h o ad M') u (pc + 3) L (v.toList ++ rest)) : J x (mput x.g h o ad M) u pc L st :=
  j_callV C (hM h o ad hO) (jIs.ob mput_o (ci := 3) rfl) w.1 w.2.1 w.2.2.1 w.2.2.2.1 w.2.2.2.2.1 w.2.2.2.2.2 hd' hu hst hW hd (fun v h' q => by obtain ⟨M', rfl, hq⟩ := q; exact kk v M' hq) (fun E h' q => absurd q id)
theorem jm_callQ (C : jC x cc own d K) (hO : mOK o ad) {index d' : Nat} {y : MethodName} {as : List Value} {r : Int32} (hM : MTQ x.g d' y as M r) (w : mW own index RX4 y as.length) (hd' : d' + 1 ≤ d) (hu : u ≤ K) (hst : st = as.reverse ++ .ref o :: rest) (hW : (rest.map fun v => v.category).sum ≤ 8) (hd : decode cc pc = .ok (.invokevirtual index, 3))
    (kk : J x (mput x.g h o ad M) u (pc + 3) L (.int r :: rest)) : J x (mput x.g h o ad M) u pc L st :=
  jm_callM C hO hM w hd' hu hst hW hd (fun v M' q => by obtain ⟨rfl, rfl⟩ := q; exact kk)
theorem jm_callV (C : jC x cc own d K) (hO : mOK o ad) {index d' : Nat} {y : MethodName} {as : List Value} {Q : jM → Prop} (hM : MTV x.g d' y as M Q) (w : mW own index RX4 y as.length) (hd' : d' + 1 ≤ d) (hu : u ≤ K) (hst : st = as.reverse ++ .ref o :: rest) (hW : (rest.map fun v => v.category).sum ≤ 8) (hd : decode cc pc = .ok (.invokevirtual index, 3))
    (kk : ∀ M' : jM, Q M' → J x (mput x.g h o ad M') u (pc + 3) L rest) : J x (mput x.g h o ad M) u pc L st :=
  jm_callM C hO hM w hd' hu hst hW hd (fun v M' q => by obtain ⟨rfl, hq⟩ := q; exact kk M' hq)
theorem jm_callR (C : jC x cc own d K) (hO : mOK o ad) {index d' : Nat} {y : MethodName} {as : List Value} {Q : Int32 → jM → Prop} (hM : MTR x.g d' y as M Q) (w : mW own index RX4 y as.length) (hd' : d' + 1 ≤ d) (hu : u ≤ K) (hst : st = as.reverse ++ .ref o :: rest) (hW : (rest.map fun v => v.category).sum ≤ 8) (hd : decode cc pc = .ok (.invokevirtual index, 3))
    (kk : ∀ (r : Int32) (M' : jM), Q r M' → J x (mput x.g h o ad M') u (pc + 3) L (.int r :: rest)) : J x (mput x.g h o ad M) u pc L st :=
  jm_callM C hO hM w hd' hu hst hW hd (fun v M' q => by obtain ⟨r, rfl, hq⟩ := q; exact kk r M' hq)
theorem j_callSQ (C : jC x cc own d K) {index d' : Nat} {y : MethodName} {as : List Value} {r : Int32} (hM : STQ x.g d' y as r) (w : sW own index y as.length) (hd' : d' + 1 ≤ d) (hu : u ≤ K) (hst : st = as.reverse ++ rest) (hW : (rest.map fun v => v.category).sum ≤ 8) (hd : decode cc pc = .ok (.invokestatic index, 3))
    (kk : J x h u (pc + 3) L (.int r :: rest)) : J x h u pc L st :=
  j_callS C (hM h) w.1 w.2.1 w.2.2.1 w.2.2.2.1 w.2.2.2.2 hd' hu hst hW hd (fun v h' q => by obtain ⟨rfl, rfl⟩ := q; exact kk) (fun E h' q => absurd q id)
end JN
theorem mw_isClub : sW "RaidhallModel" 163 yX4_isClub 1 := ⟨q2026, q2027, q72, by decide, by decide +kernel⟩
theorem mw_in : sW "RaidhallModel" 81 yX4_in 3 := ⟨q2029, q2030, q72, by decide, by decide +kernel⟩
theorem mw_holds : mW "RaidhallModel" 169 RX4 yX4_holds 1 := ⟨q2032, q2034, qs22, q72, by decide, by decide +kernel⟩
theorem mw_starts : mW "RaidhallModel" 154 RX4 yX4_starts 0 := ⟨q2036, q2038, qs23, q72, by decide, by decide +kernel⟩
theorem mw_raid : mW "RaidhallModel" 247 RX4 yX4_raid 1 := ⟨q2229, q2041, q2042, q72, by decide, by decide +kernel⟩
theorem mw_isPlayer : sW "RaidhallModel" 175 yX4_isPlayer 1 := ⟨q2044, q2045, q72, by decide, by decide +kernel⟩
theorem mw_isBetween : mW "RaidhallModel" 178 RX4 yX4_isBetween 0 := ⟨q2047, q2049, qs24, q72, by decide, by decide +kernel⟩
theorem mw_canRaid : mW "RaidhallModel" 124 RX4 yX4_canRaid 1 := ⟨q2051, q2053, qs25, q72, by decide, by decide +kernel⟩
theorem mw_turn : mW "RaidhallModel" 108 RX4 yX4_turn 0 := ⟨q2055, q2057, qs26, q72, by decide, by decide +kernel⟩
theorem mw_is : mW "RaidhallModel" 85 RX4 yX4_is 3 := ⟨q2059, q2061, qs27, q72, by decide, by decide +kernel⟩
theorem mw_adds : mW "RaidhallModel" 182 RX4 yX4_adds 4 := ⟨q2063, q2065, qs28, q72, by decide, by decide +kernel⟩
theorem mw_step : mW "RaidhallModel" 251 RX4 yX4_step 3 := ⟨q2230, q2068, q2069, q72, by decide, by decide +kernel⟩
theorem mw_isWho : sW "RaidhallModel" 186 yX4_isWho 2 := ⟨q2071, q2072, q72, by decide, by decide +kernel⟩
theorem mw_canTell : mW "RaidhallModel" 189 RX4 yX4_canTell 3 := ⟨q2074, q2076, qs29, q72, by decide, by decide +kernel⟩
theorem mw_canStep : mW "RaidhallModel" 128 RX4 yX4_canStep 2 := ⟨q2078, q2080, qs30, q72, by decide, by decide +kernel⟩
theorem mw_endsRaid : mW "RaidhallModel" 132 RX4 yX4_endsRaid 1 := ⟨q2082, q2084, qs31, q72, by decide, by decide +kernel⟩
theorem mw_manyThat : mW "RaidhallModel" 88 RX4 yX4_manyThat 3 := ⟨q2086, q2088, qs32, q72, by decide, by decide +kernel⟩
theorem mw_stepsThat : mW "RaidhallModel" 100 RX4 yX4_stepsThat 2 := ⟨q2090, q2092, qs33, q72, by decide, by decide +kernel⟩
theorem mw_comesHome : mW "RaidhallModel" 112 RX4 yX4_comesHome 3 := ⟨q2094, q2096, qs34, q72, by decide, by decide +kernel⟩
theorem mw_raiderIsOut : mW "RaidhallModel" 104 RX4 yX4_raiderIsOut 3 := ⟨q2098, q2100, qs35, q72, by decide, by decide +kernel⟩
theorem mw_goesOut : mW "RaidhallModel" 96 RX4 yX4_goesOut 2 := ⟨q2102, q2104, qs36, q72, by decide, by decide +kernel⟩
theorem mw_comesBack : mW "RaidhallModel" 92 RX4 yX4_comesBack 1 := ⟨q2106, q2108, qs37, q72, by decide, by decide +kernel⟩
theorem mw_looksAtMat : mW "RaidhallModel" 115 RX4 yX4_looksAtMat 1 := ⟨q2110, q2112, qs38, q72, by decide, by decide +kernel⟩
theorem mw_notes : mW "RaidhallModel" 144 RX4 yX4_notes 1 := ⟨q2114, q2116, qs39, q72, by decide, by decide +kernel⟩
theorem mw_isSide : sW "RaidhallModel" 192 yX4_isSide 1 := ⟨q2122, q2123, q72, by decide, by decide +kernel⟩
theorem mw_canCard : mW "RaidhallModel" 135 RX4 yX4_canCard 3 := ⟨q2125, q2127, qs40, q72, by decide, by decide +kernel⟩
theorem mw_colourFor : mW "RaidhallModel" 121 RX4 yX4_colourFor 3 := ⟨q2129, q2131, qs41, q72, by decide, by decide +kernel⟩
theorem mw_follows : mW "RaidhallModel" 160 RX4 yX4_follows 1 := ⟨q2133, q2135, qs42, q72, by decide, by decide +kernel⟩
theorem mw_givesCard : mW "RaidhallModel" 138 RX4 yX4_givesCard 3 := ⟨q2137, q2139, qs43, q72, by decide, by decide +kernel⟩
theorem mw_canChange : mW "RaidhallModel" 141 RX4 yX4_canChange 3 := ⟨q2141, q2143, qs44, q72, by decide, by decide +kernel⟩
theorem mw_isStep : mW "RaidhallModel" 204 RX4 yX4_isStep 2 := ⟨q2153, q2155, qs45, q72, by decide, by decide +kernel⟩
theorem mw_ended : mW "RaidhallModel" 157 RX4 yX4_ended 0 := ⟨q2157, q2159, qs46, q72, by decide, by decide +kernel⟩
theorem mw_falls : mW "RaidhallModel" 207 RX4 yX4_falls 4 := ⟨q2161, q2163, qs47, q72, by decide, by decide +kernel⟩
theorem mw_canBeSaid : mW "RaidhallModel" 195 RX4 yX4_canBeSaid 3 := ⟨q2165, q2167, qs48, q72, by decide, by decide +kernel⟩
theorem mw_says : mW "RaidhallModel" 198 RX4 yX4_says 3 := ⟨q2169, q2171, qs49, q72, by decide, by decide +kernel⟩
theorem mw_plays : mW "RaidhallModel" 201 RX4 yX4_plays 0 := ⟨q2173, q2175, qs50, q72, by decide, by decide +kernel⟩
theorem mw_faultOf : mW "RaidhallModel" 244 RX4 yX4_faultOf 0 := ⟨q2201, q2203, qs51, q72, by decide, by decide +kernel⟩
theorem mw_readOrder : mW "RaidhallModel" 241 RX4 yX4_readOrder 0 := ⟨q2205, q2207, qs52, q72, by decide, by decide +kernel⟩
theorem mw_readWord : mW "RaidhallModel" 232 RX4 yX4_readWord 0 := ⟨q2209, q2211, qs53, q72, by decide, by decide +kernel⟩
theorem mw_takesAll : mW "RaidhallModel" 228 RX4 yX4_takesAll 4 := ⟨q2213, q2215, qs54, q72, by decide, by decide +kernel⟩
theorem mw_takes : mW "RaidhallModel" 222 RX4 yX4_takes 2 := ⟨q2217, q2219, qs55, q72, by decide, by decide +kernel⟩
theorem mw_isNext : mW "RaidhallModel" 219 RX4 yX4_isNext 2 := ⟨q2221, q2223, qs56, q72, by decide, by decide +kernel⟩
theorem mw_errorOfMatch : mW "RaidhallModel" 254 RX4 yX4_errorOfMatch 1 := ⟨q2235, q2237, qs57, q72, by decide, by decide +kernel⟩
theorem mw_outAt : mW "RaidhallModel" 258 RX4 yX4_outAt 2 := ⟨q2243, q2245, qs58, q72, by decide, by decide +kernel⟩
theorem mw_matAfter : mW "RaidhallModel" 264 RX4 yX4_matAfter 2 := ⟨q2275, q2264, q2265, q72, by decide, by decide +kernel⟩
theorem mw_hasEnded : mW "RaidhallModel" 261 RX4 yX4_hasEnded 2 := ⟨q2267, q2269, qs59, q72, by decide, by decide +kernel⟩
theorem mw_rankOf : mW "RaidhallModel" 270 RX4 yX4_rankOf 1 := ⟨q2288, q2290, qs60, q72, by decide, by decide +kernel⟩
theorem mw_isAhead : mW "RaidhallModel" 267 RX4 yX4_isAhead 2 := ⟨q2292, q2294, qs61, q72, by decide, by decide +kernel⟩
theorem mw_isLot : sW "RaidhallModel" 276 yX4_isLot 1 := ⟨q2300, q2301, q72, by decide, by decide +kernel⟩
theorem mw_baseOf : sW "RaidhallModel" 291 yX4_baseOf 1 := ⟨q2307, q2308, q72, by decide, by decide +kernel⟩
theorem mw_canBid : mW "RaidhallModel" 294 RX4 yX4_canBid 3 := ⟨q2314, q2316, qs62, q72, by decide, by decide +kernel⟩
theorem mw_isForeign : sW "RaidhallModel" 273 yX4_isForeign 1 := ⟨q2318, q2319, q72, by decide, by decide +kernel⟩
theorem mw_sells : mW "RaidhallModel" 297 RX4 yX4_sells 1 := ⟨q2325, q2327, qs63, q72, by decide, by decide +kernel⟩
theorem lwm_thrown : mW "RaidhallLaw" 120 RX4 yX4_thrown 0 := ⟨q2018, q2019, q2020, q72, by decide, by decide +kernel⟩
theorem lwm_begin : mW "RaidhallLaw" 119 RX4 yX4_begin 3 := ⟨q2022, q2023, q2024, q72, by decide, by decide +kernel⟩
theorem lwm_raid : mW "RaidhallLaw" 126 RX4 yX4_raid 1 := ⟨q2040, q2041, q2042, q72, by decide, by decide +kernel⟩
theorem lwm_step : mW "RaidhallLaw" 129 RX4 yX4_step 3 := ⟨q2067, q2068, q2069, q72, by decide, by decide +kernel⟩
theorem lwm_card : mW "RaidhallLaw" 132 RX4 yX4_card 3 := ⟨q2118, q2119, q2120, q72, by decide, by decide +kernel⟩
theorem lwm_change : mW "RaidhallLaw" 135 RX4 yX4_change 3 := ⟨q2145, q2146, q2147, q72, by decide, by decide +kernel⟩
theorem lwm_review : mW "RaidhallLaw" 139 RX4 yX4_review 5 := ⟨q2149, q2150, q2151, q72, by decide, by decide +kernel⟩
theorem lwm_wouldFall : mW "RaidhallLaw" 143 RX4 yX4_wouldFall 4 := ⟨q2177, q2178, q2179, q72, by decide, by decide +kernel⟩
theorem lwm_takeBack : mW "RaidhallLaw" 146 RX4 yX4_takeBack 1 := ⟨q2181, q2182, q2183, q72, by decide, by decide +kernel⟩
theorem lwm_enter : mW "RaidhallLaw" 150 RX4 yX4_enter 0 := ⟨q2185, q2186, q2187, q72, by decide, by decide +kernel⟩
theorem lwm_type : mW "RaidhallLaw" 153 RX4 yX4_type 1 := ⟨q2189, q2190, q2191, q72, by decide, by decide +kernel⟩
theorem lwm_clear : mW "RaidhallLaw" 157 RX4 yX4_clear 0 := ⟨q2193, q2194, q2195, q72, by decide, by decide +kernel⟩
theorem lwm_fault : mW "RaidhallLaw" 161 RX4 yX4_fault 0 := ⟨q2197, q2198, q2199, q72, by decide, by decide +kernel⟩
theorem lwm_run : mW "RaidhallLaw" 164 RX4 yX4_run 0 := ⟨q2225, q2226, q2227, q72, by decide, by decide +kernel⟩
theorem lwm_player : mW "RaidhallLaw" 168 RX4 yX4_player 2 := ⟨q2231, q2232, q2233, q72, by decide, by decide +kernel⟩
theorem lwm_out : mW "RaidhallLaw" 171 RX4 yX4_out 2 := ⟨q2239, q2240, q2241, q72, by decide, by decide +kernel⟩
theorem lwm_next : mW "RaidhallLaw" 174 RX4 yX4_next 1 := ⟨q2247, q2248, q2249, q72, by decide, by decide +kernel⟩
theorem lwm_points : mW "RaidhallLaw" 177 RX4 yX4_points 1 := ⟨q2251, q2252, q2253, q72, by decide, by decide +kernel⟩
theorem lwm_match : mW "RaidhallLaw" 180 RX4 yX4_match 1 := ⟨q2255, q2256, q2257, q72, by decide, by decide +kernel⟩
theorem lwm_hasReview : mW "RaidhallLaw" 183 RX4 yX4_hasReview 1 := ⟨q2259, q2260, q2261, q72, by decide, by decide +kernel⟩
theorem lwm_matAfter : mW "RaidhallLaw" 186 RX4 yX4_matAfter 2 := ⟨q2263, q2264, q2265, q72, by decide, by decide +kernel⟩
theorem lwm_matAnew : mW "RaidhallLaw" 189 RX4 yX4_matAnew 2 := ⟨q2271, q2272, q2273, q72, by decide, by decide +kernel⟩
theorem lwm_pointsAfter : mW "RaidhallLaw" 192 RX4 yX4_pointsAfter 2 := ⟨q2276, q2277, q2278, q72, by decide, by decide +kernel⟩
theorem lwm_raidPoints : mW "RaidhallLaw" 195 RX4 yX4_raidPoints 2 := ⟨q2280, q2281, q2282, q72, by decide, by decide +kernel⟩
theorem lwm_club : mW "RaidhallLaw" 198 RX4 yX4_club 2 := ⟨q2284, q2285, q2286, q72, by decide, by decide +kernel⟩
theorem lwm_right : mW "RaidhallLaw" 201 RX4 yX4_right 2 := ⟨q2296, q2297, q2298, q72, by decide, by decide +kernel⟩
theorem lwm_call : mW "RaidhallLaw" 204 RX4 yX4_call 1 := ⟨q2303, q2304, q2305, q72, by decide, by decide +kernel⟩
theorem lwm_bid : mW "RaidhallLaw" 207 RX4 yX4_bid 2 := ⟨q2310, q2311, q2312, q72, by decide, by decide +kernel⟩
theorem lwm_hammer : mW "RaidhallLaw" 210 RX4 yX4_hammer 0 := ⟨q2321, q2322, q2323, q72, by decide, by decide +kernel⟩
theorem lwm_answer : mW "RaidhallLaw" 214 RX4 yX4_answer 1 := ⟨q2329, q2330, q2331, q72, by decide, by decide +kernel⟩
theorem lwm_lot : mW "RaidhallLaw" 217 RX4 yX4_lot 2 := ⟨q2333, q2334, q2335, q72, by decide, by decide +kernel⟩
theorem lwm_squad : mW "RaidhallLaw" 220 RX4 yX4_squad 2 := ⟨q2337, q2338, q2339, q72, by decide, by decide +kernel⟩
