set_option maxRecDepth 100000
/-! ===== J: getClass() called through an interface ===== -/
abbrev gcO : MethodName := ⟨"java/lang/Object", "getClass", "()Ljava/lang/Class;"⟩
abbrev gcC : MethodName := ⟨"java/util/Collection", "getClass", "()Ljava/lang/Class;"⟩
theorem sel_face {Cn : String} {A : Array Value} {s : State} (hI : (Cond.interfaceMethod "java/util/Collection" "java/lang/Object" "getClass" "()Ljava/lang/Class;").before A s = true) (hS : (Cond.selects Cn gcO gcO).before A s = true) (hM : (Cond.sameMethod "java/lang/Object" "java/lang/Object" "getClass" "()Ljava/lang/Class;").before A s = true) : (Cond.selects Cn gcC gcO).before A s = true := by
  obtain ⟨c0, k0, m0, i1, i2, i3, i4, i5⟩ := Cond.interfaceMethod_spec hI
  obtain ⟨c, r, m, s1, s2, s3, s4, mk, s5, s6⟩ := Cond.selects_spec hS
  have e1 : m0 = m := Option.some.inj (i5.symm.trans s3)
  subst e1
  have hM' := hM
  simp only [Cond.before, Cond.holds, Cond.value] at hM'
  have e2 : r = m0 := by
    have h2 : s.methodFound? "java/lang/Object" "getClass" "()Ljava/lang/Class;" = some r := s2
    have h3 : s.methodNamed? ⟨"java/lang/Object", "getClass", "()Ljava/lang/Class;"⟩ = some m0 := i5
    rw [h2, h3] at hM'
    cases hf : s.vm.findClass "java/lang/Object" with
    | none => rw [hf] at hM'; simp at hM'
    | some c => rw [hf] at hM'; simp at hM'; exact hM'.1
  subst e2
  have h4 : s.methodFound? gcC.cls gcC.name gcC.desc = some r := i4
  have h5 : s.methodNamed? gcO = some r := i5
  simp only [Cond.before, Cond.holds, Cond.value]
  rw [s1, h4, h5]
  simp [s4, s5, s6]
theorem jtr {c : Cond} {U : State} (hc : c.onTables = true) (h : c.before #[] (U.setVm U.vm) = true) {A : Array Value} : c.before A U = true := va_any hc h
section JGI
variable {x : jX} {cc : ByteArray} {own : String} {d K : Nat} {h : jH} {u pc : Nat} {L L' : List (Nat × Value)} {st rest : List Value}
theorem jC.tb (C : jC x cc own d K) {w : Cond} (q : w ∈ lw_tbl) : w.before #[Value.ref (x.g.2.2.2 0)] x.g.1 = true := C.ok.2.1 _ q
theorem j_getCI (C : jC x cc own d K) {index count a mi : Nat} (q1 : Cond.methodLink own index gcC ∈ lw_all) (hM : va_Mi "java/util/ArrayList" mi x.g.1) (hv : jIs x.g h a "java/util/ArrayList") (h1 : 1 ≤ d) (hW : (rest.map fun v => v.category).sum ≤ 8) (hd : decode cc pc = .ok (.invokeinterface index count, 5)) (kk : J x h u (pc + 5) L (.ref mi :: rest)) : J x h u pc L (.ref a :: rest) := by
  intro H locs ls hR hS hl
  have r := C.room
  have hal := C.sts.1.alike
  have up : ∀ {w : Cond}, w ∈ lw_tbl → w.onTables = true → (∀ (A : Array Value), w.before A (x.g.1.setVm x.s.vm) = w.before A x.g.1) → w.before x.args x.s = true := fun {w} q hc he => by
    have e := Cond.onTables_vm (A := #[Value.ref (x.g.2.2.2 0)]) (A' := x.args) (U := x.g.1) (U' := x.s) x.s.vm w hc
    have hU : x.s.setVm x.s.vm = x.s := rfl
    rw [hU] at e
    rw [← e, he]
    exact C.tb q
  have hdecl : (Cond.declares gcO).before x.args x.s = true := up q1445 rfl (fun A => Cond.declares_setVm hal _)
  have hface : (Cond.interfaceMethod "java/util/Collection" "java/lang/Object" "getClass" "()Ljava/lang/Class;").before x.args x.s = true := by
    obtain ⟨c0, k0, m0, i1, i2, i3, i4, i5⟩ := Cond.interfaceMethod_spec (C.tb q1444)
    obtain ⟨k1, hk1, he⟩ := hal.2.2 _ _ i2
    have f1 : x.s.vm.findClass "java/util/Collection" = some c0 := by rw [hal.findClass]; exact i1
    have f2 : x.s.methodFound? "java/util/Collection" "getClass" "()Ljava/lang/Class;" = some m0 := (State.methodFound?_setVm hal _ _ _).trans i4
    have f3 : x.s.methodNamed? ⟨"java/lang/Object", "getClass", "()Ljava/lang/Class;"⟩ = some m0 := (State.methodNamed?_setVm hal _).trans i5
    have f4 : k1.isInterface = true := by rw [he]; exact i3
    simp only [Cond.before, Cond.holds, Cond.value]
    rw [f1, f2, f3]
    simp [hk1, f4]
  have hpub : (Cond.publicMethod gcO).before x.args x.s = true := up q1447 rfl (fun A => Cond.publicMethod_setVm hal _)
  have hunh : (Cond.unhidden "java/util/ArrayList" "getClass" "()Ljava/lang/Class;").before x.args x.s = true := up q1446 rfl (fun A => Cond.unhidden_setVm hal _ _ _)
  have hcast : (Cond.castable "java/util/ArrayList" "java/util/Collection").before x.args x.s = true := up q1436 rfl (fun A => Cond.castable_setVm hal _ _)
  have hsel := sel_face hface (C.ts _ q989) (C.ts _ q967)
  obtain ⟨c0, k0, m1, m2, m3⟩ := va_Mi.moved hal hM
  obtain ⟨cell, g1, g2, g3⟩ := C.cell hR hS hv
  cases m1.symm.trans g3
  intro T hT X
  obtain ⟨vm', X', stp⟩ := X.getClassOfI C.exec (own := own) (C := "java/util/ArrayList") (xi := gcC) C.ow (C.ts _ q1) hdecl hface hsel (C.ts _ q966) hpub hunh hcast (C.ts _ q992) (by decide) (by decide) rfl rfl m1 m2 ⟨cell, by rw [hT]; exact g1, rfl, g2⟩ m3 (g := F0 x.m pc ls (.ref a :: rest)) rfl (hl.1.trans C.maxL.symm) rfl (by rw [C.bytes]; exact hd) (by omega) (by show 2 * 0 + _ + _ ≤ _; have hw : nativeFrameWords "java/lang/Object" "getClass" 1 = 3 := (by decide); omega)
  obtain ⟨t, a1, b1⟩ := kk H locs ls hR hS hl (T.setVm vm') hT X'
  exact ⟨t, stp t a1, b1⟩
end JGI
