set_option maxRecDepth 100000
/-! ===== J: what stands at the start: ArrayList's two empty arrays, the cache of Integers, two class objects. Their addresses are g's numbers 1, 2; 3, 10 + k; 4, 5 ===== -/
abbrev sAL : String := "java/util/ArrayList"
abbrev sAO : String := "[Ljava/lang/Object;"
abbrev sIC : String := "java/lang/Integer$IntegerCache"
abbrev sAI : String := "[Ljava/lang/Integer;"
abbrev sIn : String := "java/lang/Integer"
abbrev sDE : String := "DEFAULTCAPACITY_EMPTY_ELEMENTDATA"
abbrev kE1 (g : jG) : Nat := g.2.2.2 1
abbrev kE2 (g : jG) : Nat := g.2.2.2 2
abbrev kIC (g : jG) : Nat := g.2.2.2 3
abbrev kMO (g : jG) : Nat := g.2.2.2 4
abbrev kML (g : jG) : Nat := g.2.2.2 5
abbrev kBx (g : jG) (k : Nat) : Nat := g.2.2.2 (10 + k)
/-- the box of a small number -/
abbrev bxN (g : jG) (n : Nat) : Nat := kBx g (n + 128)
def jEm (g : jG) (nm : String) (t : Nat) : Prop := va_Z sAL nm sAO (.ref t) (jA g) g.1 g.1.heap ∧ va_T (.object "java/lang/Object") t 0 (fun _ => .null) (jA g) g.1 g.1.heap ∧ ∃ cell : Cell, g.1.heap[t]? = some cell ∧ cell.vm.isStatics = false ∧ g.1.vm.findClass sAO = some cell.cls
def jKN (g : jG) : Prop := jEm g sDE (kE1 g) ∧ jEm g "EMPTY_ELEMENTDATA" (kE2 g) ∧ kE1 g ≠ kE2 g ∧ (va_Z sIC "high" "I" (.int (nI 127)) (jA g) g.1 g.1.heap ∧ va_Z sIC "cache" sAI (.ref (kIC g)) (jA g) g.1 g.1.heap ∧ va_T (.object sIn) (kIC g) 256 (fun k => .ref (kBx g k)) (jA g) g.1 g.1.heap ∧ vb_C (kBx g) (jA g) g.1 g.1.heap) ∧ (va_Mi sAO (kMO g) g.1 ∧ va_Mi sAL (kML g) g.1 ∧ kMO g ≠ kML g) ∧ va_Z "java/lang/String" "COMPACT_STRINGS" "Z" (.int (nI 1)) (jA g) g.1 g.1.heap
theorem jA_not {g : jG} : ∀ a : Nat, a < g.1.heap.size → ¬ jA g a := fun a h z => absurd h (Nat.not_lt.mpr z)
theorem jEm.of {g : jG} {nm : String} {args : Array Value} (hl : (Cond.laysStatic sAL nm sAO).before args g.1 = true) (hi : (Cond.initialized sAL).before args g.1 = true) (ha : (Cond.arrayOf (.static sAL nm sAO) (.object "java/lang/Object")).before args g.1 = true) (hn : (Cond.eq (.length (.static sAL nm sAO)) (.int (0 : Int32))).before args g.1 = true) (he : (Cond.exactly (.static sAL nm sAO) sAO).before args g.1 = true) : ∃ t : Nat, (Term.static sAL nm sAO).eval args g.1 none [] g.1 = some (.ref t) ∧ jEm g nm t := by
  obtain ⟨t, ht, hT⟩ := va_Tof (A := jA g) (N := 0) (f := fun _ => .null) (by decide) ha (va_eqt hn) (fun j hj => absurd hj (Nat.not_lt_zero _)) jA_not
  refine ⟨t, ht, va_Zof hl hi ht jA_not, hT, ?_⟩
  obtain ⟨a, c, cell, k, q1, q2, q3, q4, q5, q6, -⟩ := Cond.exactly_spec (args := args) (first := g.1) (o := none) (s := g.1) (idx := []) he
  have e : t = a := by
    have := ht.symm.trans q1
    simpa using this
  subst e
  exact ⟨cell, q3, q5, by rw [q6]; exact q2⟩
section JK
variable {x : jX} {cc : ByteArray} {own : String} {d K : Nat} {h : jH} {u pc : Nat} {L L' : List (Nat × Value)} {st rest : List Value}
theorem jC.kept (C : jC x cc own d K) : ∀ a : Nat, a < x.g.1.heap.size → ¬ jA x.g a → x.s.heap[a]? = x.g.1.heap[a]? := fun a hl _ => C.sts.2.1 a hl
theorem jC.T (C : jC x cc own d K) {ty : FieldType} {t N : Nat} {f : Nat → Value} (h : va_T ty t N f (jA x.g) x.g.1 x.g.1.heap) : va_T ty t N f (jA x.g) x.s x.s.heap := (va_T.moved C.sts.1.alike h).kept C.kept
theorem jC.B (C : jC x cc own d K) {ad : Nat → Nat} (h : vb_C ad (jA x.g) x.g.1 x.g.1.heap) : vb_C ad (jA x.g) x.s x.s.heap := (vb_C.moved C.sts.1.alike h).kept C.kept
theorem j_tlen (C : jC x cc own d K) {ty : FieldType} {t N : Nat} {f : Nat → Value} (hT : va_T ty t N f (jA x.g) x.g.1 x.g.1.heap) (hd : decode cc pc = .ok (.arraylength, 1)) (kk : J x h u (pc + 1) L (.int (nI N) :: rest)) : J x h u pc L (.ref t :: rest) := fun H locs ls hR hS hl => va_tlen C.exec C.bytes (C.T hT) hS rfl hd (kk H locs ls hR hS hl)
theorem j_tq (C : jC x cc own d K) {E : String} {t N : Nat} {f : Nat → Value} {i : Int32} (hT : va_T (.object E) t N f (jA x.g) x.g.1 x.g.1.heap) (hin : vp_in i N) (hd : decode cc pc = .ok (.aaload, 1)) (kk : J x h u (pc + 1) L (f i.toNatClampNeg :: rest)) : J x h u pc L (.int i :: .ref t :: rest) := fun H locs ls hR hS hl => vb_tq C.exec C.bytes (C.T hT) hS hin rfl hd (kk H locs ls hR hS hl)
theorem j_boxv (C : jC x cc own d K) {ad : Nat → Nat} (hB : vb_C ad (jA x.g) x.g.1 x.g.1.heap) {k index : Nat} {ref : String} (hk : k < 256) (q : Cond.fieldLink own index ref "value" "I" ∈ lw_all) (hsame : ∀ z, x.s.fieldFound? "java/lang/Integer" "value" "I" = some z → x.s.fieldFound? ref "value" "I" = some z) (hd : decode cc pc = .ok (.getfield index, 3)) (kk : J x h u (pc + 3) L (.int (vb_c k) :: rest)) : J x h u pc L (.ref (ad k) :: rest) := fun H locs ls hR hS hl => va_getX (i := k) (v := fun k => .int (vb_c k)) C.exec C.bytes (C.B hB).2 hk hS C.ow (C.ts _ q) hsame hd (kk H locs ls hR hS hl)
theorem j_ldcM (C : jC x cc own d K) {Cn : String} {index mi : Nat} (q : Cond.classLink own index Cn ∈ lw_all) (hM : va_Mi Cn mi x.g.1) (hd : decode cc pc = .ok (.ldc index, 2)) (kk : J x h u (pc + 2) L (.ref mi :: rest)) : J x h u pc L rest := fun H locs ls hR hS hl => va_ldcM C.exec C.bytes C.ow (C.ts _ q) (va_Mi.moved C.sts.1.alike hM) hd (kk H locs ls hR hS hl)
theorem j_getC (C : jC x cc own d K) {Cn : String} {index mi a : Nat} (q1 : Cond.methodLink own index ⟨"java/lang/Object", "getClass", "()Ljava/lang/Class;"⟩ ∈ lw_all) (q2 : Cond.declares ⟨"java/lang/Object", "getClass", "()Ljava/lang/Class;"⟩ ∈ lw_tbl) (q3 : Cond.selects Cn ⟨"java/lang/Object", "getClass", "()Ljava/lang/Class;"⟩ ⟨"java/lang/Object", "getClass", "()Ljava/lang/Class;"⟩ ∈ lw_all) (q4 : Cond.instanceMethod ⟨"java/lang/Object", "getClass", "()Ljava/lang/Class;"⟩ ∈ lw_all) (q5 : Cond.native ⟨"java/lang/Object", "getClass", "()Ljava/lang/Class;"⟩ ∈ lw_all) (hM : va_Mi Cn mi x.g.1) (hv : jIs x.g h a Cn) (h1 : 1 ≤ d) (hW : (rest.map fun v => v.category).sum ≤ 8) (hd : decode cc pc = .ok (.invokevirtual index, 3)) (kk : J x h u (pc + 3) L (.ref mi :: rest)) : J x h u pc L (.ref a :: rest) := by
  intro H locs ls hR hS hl
  have r := C.room
  exact va_getC C.exec C.bytes (C.maxL.trans hl.1.symm) C.ow (C.ts _ q1) ((va_Dc.moved C.sts.1.alike (va_Dc.of (C.ok.2.1 _ q2))).use) (C.ts _ q3) (C.ts _ q4) (C.ts _ q5) (va_Mi.moved C.sts.1.alike hM) (C.cell hR hS hv) (by omega) (by omega) hd (kk H locs ls hR hS hl)
end JK
theorem bxc {n : Nat} (h : n < 128) : vb_c (n + 128) = nI n := by
  have : ∀ n, n < 128 → vb_c (n + 128) = nI n := by decide
  exact this n h
