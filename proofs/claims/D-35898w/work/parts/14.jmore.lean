set_option maxRecDepth 100000
/-! ===== J: calls of interface methods, defaults, nest mates, super, inherited; handlers ===== -/
theorem CTW.of {g : jG} {d k : Nat} {y : MethodName} {as : List Value} {h : jH} {Po : jR → jH → Prop} {bytes : ByteArray} {maxL : Nat} {ret : Option FieldType} {hh : List (Nat × Nat × Nat × Nat)} (G : jOK g) (hcode : Cond.codeWith y bytes maxL ret hh ∈ lw_all) (hm : maxL ≤ 45) (hp : plainName y.cls = true) (hlen : (lg_sl as).length ≤ maxL)
    (body : ∀ z, jC (g, z) bytes y.cls d k → jE (g, z) ret Po k → (jX.c (g, z)).exceptionTable.toList = tableOf hh → jX.nL (g, z) = maxL → J (g, z) h 0 0 (lv_args 0 as) []) : CTW g d k y as h Po := by
  refine ⟨bytes, maxL, ret, hh, hcode, hm, fun l hl => ?_⟩
  refine vx_ofWH (cc := bytes) (maxL := maxL) (ret := ret) (hh := hh) hp rfl ?_
  intro p e s m args below meth c s₁ B hml hv
  obtain ⟨rfl, hR, hSt⟩ := hv
  have hts := atoms_spec (ws := wsW_ y bytes maxL ret hh) B.pre
  have hown : s.vm.findClass y.cls = some m.cls := findClass_of_methodNamed B.named
  have htab := vx_table (x := y) B (hts _ List.mem_cons_self)
  rw [lg_entry_eq]
  exact body (p, l, e, jRoom d k, s, m, as.toArray, below, meth, c, maxL, vx_MQ below (jN g Po) (jXc g Po) as.toArray s k k (jA g))
    ⟨B.exec, B.bytes, hml, hown, fun w hw => hts w (List.mem_cons_of_mem _ hw), B.notSynchronized, G, hSt, hl, Nat.le_refl _, Nat.le_refl _, Nat.le_refl _, Nat.le_refl _⟩ ⟨B.returns, rfl⟩ htab rfl
    s.heap [] _ hR va_S.rf (lv_entry as hlen)
section JF
variable {x : jX} {cc : ByteArray} {own : String} {d K : Nat} {h : jH} {u pc : Nat} {L L' : List (Nat × Value)} {st rest : List Value}
theorem jC.fw (C : jC x cc own d K) {Cn : String} {xi y : MethodName} (hx : xi.cls ≠ "java/lang/invoke/MethodHandle" ∧ xi.cls ≠ "java/lang/invoke/VarHandle") (q1 : Cond.declares xi ∈ lw_tbl) (q2 : Cond.interfaceMethod xi.cls xi.cls xi.name xi.desc ∈ lw_tbl) (q3 : Cond.publicMethod y ∈ lw_tbl) (q4 : Cond.unhidden Cn xi.name xi.desc ∈ lw_tbl) (q5 : Cond.castable Cn xi.cls ∈ lw_tbl) : va_Fw Cn xi y x.s := va_Fw.moved hx C.sts.1.alike (va_Fw.of (C.ok.2.1 _ q1) (C.ok.2.1 _ q2) (C.ok.2.1 _ q3) (C.ok.2.1 _ q4) (C.ok.2.1 _ q5))
theorem j_callF (C : jC x cc own d K) {index count d' k b ci N : Nat} {xi y : MethodName} {as : List Value} {Po : jR → jH → Prop} {Cn : String} {T : u_T} (hM : CT x.g d' k y (.ref b :: as) h Po) (hc : jCl[ci]? = some (Cn, T, N)) (hv : jIs x.g h b Cn) (hx : xi.cls ≠ "java/lang/invoke/MethodHandle" ∧ xi.cls ≠ "java/lang/invoke/VarHandle") (q1 : Cond.declares xi ∈ lw_tbl) (q2 : Cond.interfaceMethod xi.cls xi.cls xi.name xi.desc ∈ lw_tbl) (q3 : Cond.publicMethod y ∈ lw_tbl) (q4 : Cond.unhidden Cn xi.name xi.desc ∈ lw_tbl) (q5 : Cond.castable Cn xi.cls ∈ lw_tbl)
    (q6 : Cond.methodLink own index xi ∈ lw_all) (q7 : Cond.selects Cn xi y ∈ lw_all) (q8 : Cond.instanceMethod y ∈ lw_all) (q9 : Cond.initialized y.cls ∈ lw_all) (hn : (parseMethodDescriptor xi.desc).map (fun d => d.parameters.length) = some as.length)
    (hd' : d' + 1 ≤ d) (hk : u + k ≤ K) (hst : st = as.reverse ++ .ref b :: rest) (hW : (rest.map fun v => v.category).sum ≤ 8) (hd : decode cc pc = .ok (.invokeinterface index count, 5))
    (kk : ∀ (v : Option Value) (h' : jH), Po (.inl v) h' → J x h' (u + k) (pc + 5) L (v.toList ++ rest)) (kx : ∀ (E : String) (h' : jH), Po (.inr E) h' → JX x h' (u + k) pc L rest E) : J x h u pc L st := by
  obtain ⟨bytes, maxL, ret, hcode, hm, M⟩ := hM
  have r := C.room
  have F := C.fw hx q1 q2 q3 q4 q5
  refine j_run C (a := (Value.ref b :: as).toArray) (Po := Po) (fun H locs ls hR hS hl T hT X => ?_) kk kx
  have cw : va_CI x.R x.s x.args own Cn index xi y bytes maxL ret (ws_ y bytes maxL ret) (jRoom d' k) k k as.length := by
    refine ⟨⟨rfl, rfl, ?_, ?_, pay_in C.ts (lw_meth hcode), List.mem_cons_self⟩, C.ts _ q6, va_tabs rfl rfl F.1, va_tabs rfl rfl F.2.1, C.ts _ q7, C.ts _ q8, va_tabs rfl rfl F.2.2.1, va_tabs rfl rfl F.2.2.2.1, va_tabs rfl rfl F.2.2.2.2, C.ts _ q9, C.ts _ hcode, hx, fun sig hs => ?_⟩
    · show d' + 1 ≤ _
      omega
    · show 8 + (maxL + 11) + 64 * d' ≤ _
      omega
    · rw [hs] at hn
      exact (Option.some.inj hn).symm
  exact vx_runF (C.kv.1 ci _ hc).2 C.fix (M x.l C.trc) cw ⟨jB_blind, C.cell hR hS hv, fun U hU hW => ⟨rfl, C.next hR hS U hU hW⟩⟩ rfl rfl hl.1 (g := F0 x.m pc ls st) hst (lv_room hW) hd ⟨by omega, by omega⟩ T hT X
theorem jC.cnB (C : jC x cc own d K) {index d' k n : Nat} {host : String} {y : MethodName} {bytes : ByteArray} {maxL : Nat} {ret : Option FieldType} (hcode : Cond.code y bytes maxL ret ∈ lw_all) (hm : maxL ≤ 45) (hd' : d' + 1 ≤ d) (q1 : Cond.methodLinkNest own index y host ∈ lw_tbl) (q3 : Cond.initialized y.cls ∈ lw_all) (hy : y.cls ≠ "java/lang/invoke/MethodHandle" ∧ y.cls ≠ "java/lang/invoke/VarHandle") (hn : (parseMethodDescriptor y.desc).map (fun d => d.parameters.length) = some n) : va_CN x.R x.s x.args own index y host bytes maxL ret (ws_ y bytes maxL ret) (jRoom d' k) k k n := by
  have r := C.room
  refine ⟨⟨rfl, rfl, ?_, ?_, pay_in C.ts (lw_meth hcode), List.mem_cons_self⟩, C.ts _ hcode, C.ts _ q3, hy, fun sig hs => ?_, C.nwM q1⟩
  · show d' + 1 ≤ _
    omega
  · show 8 + (maxL + 11) + 64 * d' ≤ _
    omega
  · rw [hs] at hn
    exact (Option.some.inj hn).symm
theorem j_callSN (C : jC x cc own d K) {index d' k : Nat} {host : String} {y : MethodName} {as : List Value} {Po : jR → jH → Prop} (hM : CT x.g d' k y as h Po) (q1 : Cond.methodLinkNest own index y host ∈ lw_tbl) (q2 : Cond.static y ∈ lw_all) (q3 : Cond.initialized y.cls ∈ lw_all) (hy : y.cls ≠ "java/lang/invoke/MethodHandle" ∧ y.cls ≠ "java/lang/invoke/VarHandle") (hn : (parseMethodDescriptor y.desc).map (fun d => d.parameters.length) = some as.length)
    (hd' : d' + 1 ≤ d) (hk : u + k ≤ K) (hst : st = as.reverse ++ rest) (hW : (rest.map fun v => v.category).sum ≤ 8) (hd : decode cc pc = .ok (.invokestatic index, 3))
    (kk : ∀ (v : Option Value) (h' : jH), Po (.inl v) h' → J x h' (u + k) (pc + 3) L (v.toList ++ rest)) (kx : ∀ (E : String) (h' : jH), Po (.inr E) h' → JX x h' (u + k) pc L rest E) : J x h u pc L st := by
  obtain ⟨bytes, maxL, ret, hcode, hm, M⟩ := hM
  have r := C.room
  refine j_run C (a := as.toArray) (Po := Po) (fun H locs ls hR hS hl T hT X => ?_) kk kx
  exact vx_runSN C.fix (M x.l C.trc) ⟨C.cnB hcode hm hd' q1 q3 hy hn, C.ts _ q2, trivial⟩ ⟨jB_blind, fun U hU hW => ⟨rfl, C.next hR hS U hU hW⟩⟩ rfl rfl hl.1 (g := F0 x.m pc ls st) hst (lv_room hW) hd ⟨by omega, by omega⟩ T hT X
theorem j_callIN (C : jC x cc own d K) {index d' k b : Nat} {host : String} {y : MethodName} {as : List Value} {Po : jR → jH → Prop} (hM : CTI x.g d' k y (.ref b :: as) h Po) (hnm : y.name = "<init>") (q1 : Cond.methodLinkNest own index y host ∈ lw_tbl) (q2 : Cond.instanceMethod y ∈ lw_all) (q4 : Cond.initialized y.cls ∈ lw_all) (hy : y.cls ≠ "java/lang/invoke/MethodHandle" ∧ y.cls ≠ "java/lang/invoke/VarHandle") (hn : (parseMethodDescriptor y.desc).map (fun d => d.parameters.length) = some as.length)
    (hd' : d' + 1 ≤ d) (hk : u + k ≤ K) (hst : st = as.reverse ++ .ref b :: rest) (hW : (rest.map fun v => v.category).sum ≤ 8) (hd : decode cc pc = .ok (.invokespecial index, 3))
    (kk : ∀ (v : Option Value) (h' : jH), Po (.inl v) h' → J x h' (u + k) (pc + 3) L (v.toList ++ rest)) (kx : ∀ (E : String) (h' : jH), Po (.inr E) h' → JX x h' (u + k) pc L rest E) : J x h u pc L st := by
  obtain ⟨bytes, maxL, hcode, hm, M⟩ := hM
  have r := C.room
  refine j_run C (a := (Value.ref b :: as).toArray) (Po := Po) (fun H locs ls hR hS hl T hT X => ?_) kk kx
  exact vx_runIN C.fix (M x.l C.trc) ⟨C.cnB hcode hm hd' q1 q4 hy hn, hnm, C.ts _ q2⟩ ⟨jB_blind, fun U hU hW => ⟨rfl, C.next hR hS U hU hW⟩⟩ rfl rfl hl.1 (g := F0 x.m pc ls st) hst (lv_room hW) hd ⟨by omega, by omega⟩ T hT X
/-- super.y(..) -/
theorem j_callSU (C : jC x cc own d K) {index d' k b ci N : Nat} {y : MethodName} {as : List Value} {Po : jR → jH → Prop} {Cn : String} {T : u_T} (hM : CT x.g d' k y (.ref b :: as) h Po) (hc : jCl[ci]? = some (Cn, T, N)) (hv : jIs x.g h b Cn) (q1 : Cond.methodLink own index y ∈ lw_all) (q2 : Cond.sameMethod y.cls y.cls y.name y.desc ∈ lw_all) (q3 : Cond.superclass own y.cls ∈ lw_all) (q4 : Cond.instanceMethod y ∈ lw_all) (q5 : Cond.initialized y.cls ∈ lw_all) (hno : y.name ≠ "<init>") (hn : (parseMethodDescriptor y.desc).map (fun d => d.parameters.length) = some as.length)
    (hd' : d' + 1 ≤ d) (hk : u + k ≤ K) (hst : st = as.reverse ++ .ref b :: rest) (hW : (rest.map fun v => v.category).sum ≤ 8) (hd : decode cc pc = .ok (.invokespecial index, 3))
    (kk : ∀ (v : Option Value) (h' : jH), Po (.inl v) h' → J x h' (u + k) (pc + 3) L (v.toList ++ rest)) (kx : ∀ (E : String) (h' : jH), Po (.inr E) h' → JX x h' (u + k) pc L rest E) : J x h u pc L st := by
  obtain ⟨bytes, maxL, ret, hcode, hm, M⟩ := hM
  have r := C.room
  refine j_run C (a := (Value.ref b :: as).toArray) (Po := Po) (fun H locs ls hR hS hl T hT X => ?_) kk kx
  have cw : va_CS x.R x.s x.args own index y bytes maxL ret (ws_ y bytes maxL ret) (jRoom d' k) k k as.length := by
    refine ⟨⟨rfl, rfl, ?_, ?_, pay_in C.ts (lw_meth hcode), List.mem_cons_self⟩, C.ts _ q1, C.ts _ q2, C.ts _ q3, C.ts _ q4, C.ts _ q5, C.ts _ hcode, hno, fun sig hs => ?_⟩
    · show d' + 1 ≤ _
      omega
    · show 8 + (maxL + 11) + 64 * d' ≤ _
      omega
    · rw [hs] at hn
      exact (Option.some.inj hn).symm
  exact vx_runSU (C.kv.1 ci _ hc).2 C.fix (M x.l C.trc) cw ⟨jB_blind, C.cell hR hS hv, fun U hU hW => ⟨rfl, C.next hR hS U hU hW⟩⟩ rfl rfl hl.1 (g := F0 x.m pc ls st) hst (lv_room hW) hd ⟨by omega, by omega⟩ T hT X
/-- an inherited method -/
theorem j_callU (C : jC x cc own d K) {index d' k b : Nat} {owner : String} {xi y : MethodName} {as : List Value} {Po : jR → jH → Prop} {Cn : String} (hM : CT x.g d' k y (.ref b :: as) h Po) (hv : jIs x.g h b Cn) (q1 : Cond.methodLink own index xi ∈ lw_all) (q2 : Cond.sameMethod xi.cls owner xi.name xi.desc ∈ lw_all) (hyo : y = ⟨owner, xi.name, xi.desc⟩) (q3 : Cond.selects Cn xi y ∈ lw_all) (q4 : Cond.instanceMethod y ∈ lw_all) (q5 : Cond.initialized y.cls ∈ lw_all) (hy : owner ≠ "java/lang/invoke/MethodHandle" ∧ owner ≠ "java/lang/invoke/VarHandle") (hn : (parseMethodDescriptor xi.desc).map (fun d => d.parameters.length) = some as.length)
    (hd' : d' + 1 ≤ d) (hk : u + k ≤ K) (hst : st = as.reverse ++ .ref b :: rest) (hW : (rest.map fun v => v.category).sum ≤ 8) (hd : decode cc pc = .ok (.invokevirtual index, 3))
    (kk : ∀ (v : Option Value) (h' : jH), Po (.inl v) h' → J x h' (u + k) (pc + 3) L (v.toList ++ rest)) (kx : ∀ (E : String) (h' : jH), Po (.inr E) h' → JX x h' (u + k) pc L rest E) : J x h u pc L st := by
  obtain ⟨bytes, maxL, ret, hcode, hm, M⟩ := hM
  have r := C.room
  refine j_run C (a := (Value.ref b :: as).toArray) (Po := Po) (fun H locs ls hR hS hl T hT X => ?_) kk kx
  have cw : va_CU x.R x.s x.args own Cn owner index xi y bytes maxL ret (ws_ y bytes maxL ret) (jRoom d' k) k k as.length := by
    refine ⟨⟨rfl, rfl, ?_, ?_, pay_in C.ts (lw_meth hcode), List.mem_cons_self⟩, C.ts _ hcode, C.ts _ q5, hy, fun sig hs => ?_, C.ts _ q1, C.ts _ q2, ?_, C.ts _ q3, C.ts _ q4⟩
    · show d' + 1 ≤ _
      omega
    · show 8 + (maxL + 11) + 64 * d' ≤ _
      omega
    · rw [hs] at hn
      exact (Option.some.inj hn).symm
    · rw [← hyo]
      exact va_Decl.of (C.ts _ q4) (C.ts _ hcode)
  exact vx_runU C.fix (M x.l C.trc) cw ⟨jB_blind, C.cell hR hS hv, fun U hU hW => ⟨rfl, C.next hR hS U hU hW⟩⟩ rfl rfl hl.1 (g := F0 x.m pc ls st) hst (lv_room hW) hd ⟨by omega, by omega⟩ T hT X
theorem j_callSW (C : jC x cc own d K) {index d' k : Nat} {y : MethodName} {as : List Value} {Po : jR → jH → Prop} (hM : CTW x.g d' k y as h Po) (q1 : Cond.methodLink own index y ∈ lw_all) (q2 : Cond.static y ∈ lw_all) (q3 : Cond.initialized y.cls ∈ lw_all) (hy : y.cls ≠ "java/lang/invoke/MethodHandle" ∧ y.cls ≠ "java/lang/invoke/VarHandle") (hn : (parseMethodDescriptor y.desc).map (fun d => d.parameters.length) = some as.length)
    (hd' : d' + 1 ≤ d) (hk : u + k ≤ K) (hst : st = as.reverse ++ rest) (hW : (rest.map fun v => v.category).sum ≤ 8) (hd : decode cc pc = .ok (.invokestatic index, 3))
    (kk : ∀ (v : Option Value) (h' : jH), Po (.inl v) h' → J x h' (u + k) (pc + 3) L (v.toList ++ rest)) (kx : ∀ (E : String) (h' : jH), Po (.inr E) h' → JX x h' (u + k) pc L rest E) : J x h u pc L st := by
  obtain ⟨bytes, maxL, ret, hh, hcode, hm, M⟩ := hM
  have r := C.room
  refine j_run C (a := as.toArray) (Po := Po) (fun H locs ls hR hS hl T hT X => ?_) kk kx
  have cw : vx_CSW x.R x.s x.args own index y bytes maxL ret hh (wsW_ y bytes maxL ret hh) (jRoom d' k) k k as.length := by
    refine ⟨⟨rfl, rfl, ?_, ?_, pay_in C.ts (lw_methW hcode), List.mem_cons_self⟩, C.ts _ hcode, C.ts _ q3, hy, fun sig hs => ?_, C.ts _ q1, C.ts _ q2⟩
    · show d' + 1 ≤ _
      omega
    · show 8 + (maxL + 11) + 64 * d' ≤ _
      omega
    · rw [hs] at hn
      exact (Option.some.inj hn).symm
  exact vx_runSX C.fix (M x.l C.trc) cw ⟨jB_blind, fun U hU hW => ⟨rfl, C.next hR hS U hU hW⟩⟩ rfl rfl hl.1 (g := F0 x.m pc ls st) hst (lv_room hW) hd ⟨by omega, by omega⟩ T hT X
theorem j_callVW (C : jC x cc own d K) {index d' k b : Nat} {y : MethodName} {as : List Value} {Po : jR → jH → Prop} {Cn : String} (hM : CTW x.g d' k y (.ref b :: as) h Po) (hv : jIs x.g h b Cn) (q1 : Cond.methodLink own index y ∈ lw_all) (q2 : Cond.instanceMethod y ∈ lw_all) (q3 : Cond.selects Cn y y ∈ lw_all) (q4 : Cond.initialized y.cls ∈ lw_all) (hy : y.cls ≠ "java/lang/invoke/MethodHandle" ∧ y.cls ≠ "java/lang/invoke/VarHandle") (hn : (parseMethodDescriptor y.desc).map (fun d => d.parameters.length) = some as.length)
    (hd' : d' + 1 ≤ d) (hk : u + k ≤ K) (hst : st = as.reverse ++ .ref b :: rest) (hW : (rest.map fun v => v.category).sum ≤ 8) (hd : decode cc pc = .ok (.invokevirtual index, 3))
    (kk : ∀ (v : Option Value) (h' : jH), Po (.inl v) h' → J x h' (u + k) (pc + 3) L (v.toList ++ rest)) (kx : ∀ (E : String) (h' : jH), Po (.inr E) h' → JX x h' (u + k) pc L rest E) : J x h u pc L st := by
  obtain ⟨bytes, maxL, ret, hh, hcode, hm, M⟩ := hM
  have r := C.room
  refine j_run C (a := (Value.ref b :: as).toArray) (Po := Po) (fun H locs ls hR hS hl T hT X => ?_) kk kx
  have cw : vx_CVW x.R x.s x.args own Cn index y bytes maxL ret hh (wsW_ y bytes maxL ret hh) (jRoom d' k) k k as.length := by
    refine ⟨⟨rfl, rfl, ?_, ?_, pay_in C.ts (lw_methW hcode), List.mem_cons_self⟩, C.ts _ hcode, C.ts _ q4, hy, fun sig hs => ?_, C.ts _ q1, C.ts _ q2, C.ts _ q3⟩
    · show d' + 1 ≤ _
      omega
    · show 8 + (maxL + 11) + 64 * d' ≤ _
      omega
    · rw [hs] at hn
      exact (Option.some.inj hn).symm
  exact vx_runVX C.fix (M x.l C.trc) cw ⟨jB_blind, C.cell hR hS hv, fun U hU hW => ⟨rfl, C.next hR hS U hU hW⟩⟩ rfl rfl hl.1 (g := F0 x.m pc ls st) hst (lv_room hW) hd ⟨by omega, by omega⟩ T hT X
/-- caught here -/
theorem jx_catch (C : jC x cc own d K) {name E : String} (pre : List ExceptionTableEntry) (w : ExceptionTableEntry) (suf : List ExceptionTableEntry) (hsplit : x.c.exceptionTable.toList = pre ++ w :: suf)
    (hpass : ∀ z ∈ pre, covers z pc = false ∨ (z.catchType ≠ 0 ∧ ∃ nm : String, Cond.classLink own z.catchType nm ∈ lw_all ∧ va_Nc E nm x.g.1)) (hx : covers w pc = true) (h0 : w.catchType ≠ 0) (q1 : Cond.classLink own w.catchType name ∈ lw_all) (q2 : Cond.castable E name ∈ lw_tbl)
    (kk : ∀ q : Nat, J x h u w.handlerPc L [.ref q]) : JX x h u pc L rest E := fun H locs ls q ce hR hS hl hq hce hcl =>
  vx_catch C.ow pre w suf hsplit (fun z hz => (hpass z hz).imp id (fun ⟨z0, nm, n1, n2⟩ => ⟨z0, nm, C.ts _ n1, va_Nc.moved C.sts.1.alike n2⟩)) hx h0 (C.ts _ q1) (va_Nw.use rfl (C.nwC q2)) hq hce hcl (kk q H locs ls hR hS hl)
end JF
