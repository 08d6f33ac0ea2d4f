set_option maxRecDepth 100000
/-! ===== J: contracts, calls, returns, exceptions ===== -/
def jRoom (d k : Nat) : Room := { frames := d, cells := k, slots := k, locals := 64 * d }
def jB (g : jG) (h : jH) (U : State) : Prop := jHR g h U.heap ∧ jSt g U
def jN (g : jG) (Po : jR → jH → Prop) : Array Value → State → Outcome → State → Prop := fun _ st o t => (∃ (v : Option Value) (h' : jH), o = .returned v ∧ Po (.inl v) h' ∧ jHR g h' t.heap) ∧ va_F (jA g) st t
def jXc (g : jG) (Po : jR → jH → Prop) : String → State → State → Prop := fun E st t => (∃ h' : jH, Po (.inr E) h' ∧ jHR g h' t.heap) ∧ va_F (jA g) st t
/-- THE CONTRACT: called with as in the world h, at depth d, the method y ends as Po says, at a cost of k at most -/
def CT (g : jG) (d k : Nat) (y : MethodName) (as : List Value) (h : jH) (Po : jR → jH → Prop) : Prop :=
  ∃ (bytes : ByteArray) (maxL : Nat) (ret : Option FieldType), Cond.code y bytes maxL ret ∈ lw_all ∧ maxL ≤ 45 ∧
    ∀ l : Launch, l.stackTraces = false → vx_Met l y (ws_ y bytes maxL ret) (jRoom d k) (va_Pc as (jB g h)) (jN g Po) (jXc g Po) k k (jA g)
/-- .. of a method with handlers -/
def CTW (g : jG) (d k : Nat) (y : MethodName) (as : List Value) (h : jH) (Po : jR → jH → Prop) : Prop :=
  ∃ (bytes : ByteArray) (maxL : Nat) (ret : Option FieldType) (hh : List (Nat × Nat × Nat × Nat)), Cond.codeWith y bytes maxL ret hh ∈ lw_all ∧ maxL ≤ 45 ∧
    ∀ l : Launch, l.stackTraces = false → vx_Met l y (wsW_ y bytes maxL ret hh) (jRoom d k) (va_Pc as (jB g h)) (jN g Po) (jXc g Po) k k (jA g)
/-- .. of a constructor -/
def CTI (g : jG) (d k : Nat) (y : MethodName) (as : List Value) (h : jH) (Po : jR → jH → Prop) : Prop :=
  ∃ (bytes : ByteArray) (maxL : Nat), Cond.code y bytes maxL none ∈ lw_all ∧ maxL ≤ 45 ∧
    ∀ l : Launch, l.stackTraces = false → vx_Met l y (ws_ y bytes maxL none) (jRoom d k) (va_Pc as (jB g h)) (jN g Po) (jXc g Po) k k (jA g)
/-- no exception: the answer and the world behind it -/
def jnx (Q : Option Value → jH → Prop) : jR → jH → Prop := fun r h => match r with
  | .inl v => Q v h
  | .inr _ => False
theorem jB_blind {g : jG} {h : jH} {as : List Value} : FrameBlind (va_Pc as (jB g h)) := fun a U g' mk q => ⟨q.1, q.2.1, q.2.2⟩
theorem CT.weak {g : jG} {d k k' : Nat} {y : MethodName} {as : List Value} {h : jH} {Po Po' : jR → jH → Prop} (hM : CT g d k y as h Po) (hP : ∀ r h', Po r h' → Po' r h') : CT g d k y as h Po' := by
  obtain ⟨bytes, maxL, ret, h1, h2, h3⟩ := hM
  refine ⟨bytes, maxL, ret, h1, h2, fun l hl => ?_⟩
  have M := h3 l hl
  intro p e ha hc hk s m args below hf happ hpre hK
  obtain ⟨t, o, a1, a2, a3, a4⟩ := M p e ha hc hk s m args below hf happ hpre hK
  refine ⟨t, o, a1, a2, a3, ?_⟩
  rcases a4 with ⟨⟨⟨v, h', e1, e2, e3⟩, e4⟩, e5⟩ | ⟨q, e0, E, ce, L, ⟨⟨h', e2, e3⟩, e4⟩, e5⟩
  · exact Or.inl ⟨⟨⟨v, h', e1, hP _ _ e2, e3⟩, e4⟩, e5⟩
  · exact Or.inr ⟨q, e0, E, ce, L, ⟨⟨h', hP _ _ e2, e3⟩, e4⟩, e5⟩
section JD
variable {x : jX} {cc : ByteArray} {own : String} {d K : Nat} {h : jH} {u pc : Nat} {L L' : List (Nat × Value)} {st rest : List Value}
theorem jC.next (C : jC x cc own d K) {H : Heap} {locs : List Loc} (hR : jHR x.g h H) (hS : va_S (jA x.g) x.s.heap H locs) : ∀ U : State, U.heap = H → x.s.WarmedH U.vm → jB x.g h U := by
  intro U hU hW
  have s := C.sts
  refine ⟨by rw [hU]; exact hR, State.WarmedH.trans s.1 hW, fun q hq => ?_, by rw [hU]; exact Nat.le_trans s.2.2 hS.1⟩
  rw [hU, hS.2.1 q (Nat.lt_of_lt_of_le hq s.2.2) (fun z => absurd hq (Nat.not_lt.mpr z))]
  exact s.2.1 q hq
/-- behind a call, whatever its kind -/
theorem j_run (C : jC x cc own d K) {k : Nat} {a : Array Value} {Po : jR → jH → Prop} {pc' : Nat}
    (hr : ∀ (H : Heap) (locs : List Loc) (ls : Array Slot), jHR x.g h H → va_S (jA x.g) x.s.heap H locs → lv_has ls x.nL L → ∀ T : State, T.heap = H → Stand x.p x.l x.e x.R x.s x.m x.args x.below x.meth x.c T locs u u →
      (∃ (v : Option Value) (st₀ t T' : State) (L : List Loc), st₀.heap = H ∧ Stand x.p x.l x.e x.R x.s x.m x.args x.below x.meth x.c T' (locs ++ L) (u + k) (u + k) ∧ (∀ q ∈ L, jA x.g q.base) ∧ T'.heap = t.heap ∧ T'.vm = t.vm ∧ jN x.g Po a st₀ (.returned v) t ∧ Goes x.p x.e x.below T (F0 x.m pc ls st) T' (F0 x.m pc' ls (v.toList ++ rest))) ∨
      (∃ (q : Addr) (st₀ t T' : State) (L : List Loc) (E : String) (ce : Cell), st₀.heap = H ∧ Stand x.p x.l x.e x.R x.s x.m x.args x.below x.meth x.c T' (locs ++ L) (u + k) (u + k) ∧ (∀ z ∈ L, jA x.g z.base) ∧ T'.heap = t.heap ∧ T'.vm = t.vm ∧ jXc x.g Po E st₀ t ∧ t.heap[q]? = some ce ∧ ce.vm = .none ∧ x.s.vm.findClass E = some ce.cls ∧
        Steps x.p.tables x.e x.below (T.setTop (F0 x.m pc ls st)) ((T'.setTop (F0 x.m pc ls rest)).pushFrame (.throwing q))))
    (kk : ∀ (v : Option Value) (h' : jH), Po (.inl v) h' → J x h' (u + k) pc' L (v.toList ++ rest)) (kx : ∀ (E : String) (h' : jH), Po (.inr E) h' → JX x h' (u + k) pc L rest E) : J x h u pc L st := by
  intro H locs ls hR hS hl T hT X
  rcases hr H locs ls hR hS hl T hT X with ⟨v, st₀, t, T', L1, h0, X', hL, e1, e2, ⟨⟨v', h', hv, hp, hb⟩, hF⟩, st1⟩ | ⟨q, st₀, t, T', L1, E, ce, h0, X', hL, e1, e2, ⟨⟨h', hp, hb⟩, hF⟩, hce, hcv, hcl, st1⟩
  · cases hv
    obtain ⟨k1, k2, k3⟩ := vx_keep h0 e1 hS (fun q _ z => z) (fun q z => z) hL hF
    obtain ⟨t2, a1, b1⟩ := kk v h' hp T'.heap (locs ++ L1) ls (by rw [e1]; exact hb) k3 hl T' rfl X'
    exact ⟨t2, st1 t2 a1, b1⟩
  · obtain ⟨k1, k2, k3⟩ := vx_keep h0 e1 hS (fun q _ z => z) (fun q z => z) hL hF
    obtain ⟨t2, a1, b1⟩ := kx E h' hp T'.heap (locs ++ L1) ls q ce (by rw [e1]; exact hb) k3 hl (by rw [e1]; exact hce) hcv hcl T' rfl X'
    exact ⟨t2, st1.trans a1, b1⟩
theorem jC.callB (C : jC x cc own d K) {index d' k n : Nat} {y : MethodName} {bytes : ByteArray} {maxL : Nat} {ret : Option FieldType} (hcode : Cond.code y bytes maxL ret ∈ lw_all) (hm : maxL ≤ 45) (hd' : d' + 1 ≤ d) (q1 : Cond.methodLink own index y ∈ lw_all) (q3 : Cond.initialized y.cls ∈ lw_all) (hy : y.cls ≠ "java/lang/invoke/MethodHandle" ∧ y.cls ≠ "java/lang/invoke/VarHandle") (hn : (parseMethodDescriptor y.desc).map (fun d => d.parameters.length) = some n) : CallB x.R x.s x.args own index y bytes maxL ret (ws_ y bytes maxL ret) (jRoom d' k) k k n := by
  have r := C.room
  refine ⟨rfl, rfl, ?_, ?_, pay_in C.ts (lw_meth hcode), List.mem_cons_self, C.ts _ hcode, C.ts _ q3, hy, fun sig hs => ?_, C.ts _ q1⟩
  · show d' + 1 ≤ _
    omega
  · show 8 + (maxL + 11) + 64 * d' ≤ _
    omega
  · rw [hs] at hn
    exact (Option.some.inj hn).symm
theorem j_callS (C : jC x cc own d K) {index d' k : Nat} {y : MethodName} {as : List Value} {Po : jR → jH → Prop} (hM : CT x.g d' k y as h Po) (q1 : Cond.methodLink own index y ∈ lw_all) (q2 : Cond.static y ∈ lw_all) (q3 : Cond.initialized y.cls ∈ lw_all) (hy : y.cls ≠ "java/lang/invoke/MethodHandle" ∧ y.cls ≠ "java/lang/invoke/VarHandle") (hn : (parseMethodDescriptor y.desc).map (fun d => d.parameters.length) = some as.length)
    (hd' : d' + 1 ≤ d) (hk : u + k ≤ K) (hst : st = as.reverse ++ rest) (hW : (rest.map fun v => v.category).sum ≤ 8) (hd : decode cc pc = .ok (.invokestatic index, 3))
    (kk : ∀ (v : Option Value) (h' : jH), Po (.inl v) h' → J x h' (u + k) (pc + 3) L (v.toList ++ rest)) (kx : ∀ (E : String) (h' : jH), Po (.inr E) h' → JX x h' (u + k) pc L rest E) : J x h u pc L st := by
  obtain ⟨bytes, maxL, ret, hcode, hm, M⟩ := hM
  have r := C.room
  refine j_run C (a := as.toArray) (Po := Po) (fun H locs ls hR hS hl T hT X => ?_) kk kx
  exact vx_runS C.fix (M x.l C.trc) ⟨C.callB hcode hm hd' q1 q3 hy hn, C.ts _ q2⟩ ⟨jB_blind, fun U hU hW => ⟨rfl, C.next hR hS U hU hW⟩⟩ rfl rfl hl.1 (g := F0 x.m pc ls st) hst (lv_room hW) hd ⟨by omega, by omega⟩ T hT X
theorem j_callV (C : jC x cc own d K) {index d' k b : Nat} {y : MethodName} {as : List Value} {Po : jR → jH → Prop} {Cn : String} (hM : CT x.g d' k y (.ref b :: as) h Po) (hv : jIs x.g h b Cn) (q1 : Cond.methodLink own index y ∈ lw_all) (q2 : Cond.instanceMethod y ∈ lw_all) (q3 : Cond.selects Cn y y ∈ lw_all) (q4 : Cond.initialized y.cls ∈ lw_all) (hy : y.cls ≠ "java/lang/invoke/MethodHandle" ∧ y.cls ≠ "java/lang/invoke/VarHandle") (hn : (parseMethodDescriptor y.desc).map (fun d => d.parameters.length) = some as.length)
    (hd' : d' + 1 ≤ d) (hk : u + k ≤ K) (hst : st = as.reverse ++ .ref b :: rest) (hW : (rest.map fun v => v.category).sum ≤ 8) (hd : decode cc pc = .ok (.invokevirtual index, 3))
    (kk : ∀ (v : Option Value) (h' : jH), Po (.inl v) h' → J x h' (u + k) (pc + 3) L (v.toList ++ rest)) (kx : ∀ (E : String) (h' : jH), Po (.inr E) h' → JX x h' (u + k) pc L rest E) : J x h u pc L st := by
  obtain ⟨bytes, maxL, ret, hcode, hm, M⟩ := hM
  have r := C.room
  refine j_run C (a := (Value.ref b :: as).toArray) (Po := Po) (fun H locs ls hR hS hl T hT X => ?_) kk kx
  exact vx_runV C.fix (M x.l C.trc) ⟨C.callB hcode hm hd' q1 q4 hy hn, C.ts _ q2, C.ts _ q3⟩ ⟨jB_blind, C.cell hR hS hv, fun U hU hW => ⟨rfl, C.next hR hS U hU hW⟩⟩ rfl rfl hl.1 (g := F0 x.m pc ls st) hst (lv_room hW) hd ⟨by omega, by omega⟩ T hT X
theorem j_callI (C : jC x cc own d K) {index d' k b : Nat} {y : MethodName} {as : List Value} {Po : jR → jH → Prop} (hM : CTI x.g d' k y (.ref b :: as) h Po) (hnm : y.name = "<init>") (q1 : Cond.methodLink own index y ∈ lw_all) (q2 : Cond.instanceMethod y ∈ lw_all) (q4 : Cond.initialized y.cls ∈ lw_all) (hy : y.cls ≠ "java/lang/invoke/MethodHandle" ∧ y.cls ≠ "java/lang/invoke/VarHandle") (hn : (parseMethodDescriptor y.desc).map (fun d => d.parameters.length) = some as.length)
    (hd' : d' + 1 ≤ d) (hk : u + k ≤ K) (hst : st = as.reverse ++ .ref b :: rest) (hW : (rest.map fun v => v.category).sum ≤ 8) (hd : decode cc pc = .ok (.invokespecial index, 3))
    (kk : ∀ (v : Option Value) (h' : jH), Po (.inl v) h' → J x h' (u + k) (pc + 3) L (v.toList ++ rest)) (kx : ∀ (E : String) (h' : jH), Po (.inr E) h' → JX x h' (u + k) pc L rest E) : J x h u pc L st := by
  obtain ⟨bytes, maxL, hcode, hm, M⟩ := hM
  have r := C.room
  refine j_run C (a := (Value.ref b :: as).toArray) (Po := Po) (fun H locs ls hR hS hl T hT X => ?_) kk kx
  exact vx_runI C.fix (M x.l C.trc) ⟨C.callB hcode hm hd' q1 q4 hy hn, hnm, C.ts _ q2⟩ ⟨jB_blind, fun U hU hW => ⟨rfl, C.next hR hS U hU hW⟩⟩ rfl rfl hl.1 (g := F0 x.m pc ls st) hst (lv_room hW) hd ⟨by omega, by omega⟩ T hT X
end JD
