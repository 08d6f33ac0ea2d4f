set_option maxRecDepth 100000
/-! ===== J: rows of the heap ===== -/
/-- v is an object of class Cn: in the world, or from before the start -/
def jIs (g : jG) (h : jH) (v : Nat) (Cn : String) : Prop := (∃ (ci : Nat) (fs : List Value) (T : u_T) (N : Nat), h v = some (jO ci fs) ∧ jCl[ci]? = some (Cn, T, N)) ∨ ∃ cell : Cell, g.1.heap[v]? = some cell ∧ cell.vm.isStatics = false ∧ g.1.vm.findClass Cn = some cell.cls
theorem jIs.ob {g : jG} {h : jH} {v ci : Nat} {fs : List Value} {Cn : String} {T : u_T} {N : Nat} (hh : h v = some (jO ci fs)) (hc : jCl[ci]? = some (Cn, T, N)) : jIs g h v Cn := Or.inl ⟨ci, fs, T, N, hh, hc⟩
theorem jmem_set {ws : va_W} {i : Nat} {a : Nat} {e0 e : va_E} {h : jH} (hi : ws[i]? = some (a, e0)) (hw : ∀ (q : Nat) (y : va_E), h q = some y → ∃ j : Nat, ws[j]? = some (q, y)) : ∀ (q : Nat) (y : va_E), jup h a e q = some y → ∃ j : Nat, (ws.set i (a, e))[j]? = some (q, y) := by
  intro q y hq
  have hl := (List.getElem?_eq_some_iff.mp hi).1
  by_cases hqa : q = a
  · subst hqa
    rw [jup_eq] at hq
    cases hq
    exact ⟨i, by rw [List.getElem?_set_self hl]⟩
  · rw [jup_ne hqa] at hq
    obtain ⟨j, hj⟩ := hw q y hq
    refine ⟨j, ?_⟩
    rw [List.getElem?_set_ne (fun z => ?_)]
    · exact hj
    · subst z
      rw [hi] at hj
      cases hj
      exact hqa rfl
theorem jmem_push {ws : va_W} {a : Nat} {e : va_E} {h : jH} (hw : ∀ (q : Nat) (y : va_E), h q = some y → ∃ j : Nat, ws[j]? = some (q, y)) : ∀ (q : Nat) (y : va_E), jup h a e q = some y → ∃ j : Nat, (ws ++ [(a, e)])[j]? = some (q, y) := by
  intro q y hq
  by_cases hqa : q = a
  · subst hqa
    rw [jup_eq] at hq
    cases hq
    exact ⟨ws.length, by simp⟩
  · rw [jup_ne hqa] at hq
    obtain ⟨j, hj⟩ := hw q y hq
    exact ⟨j, by rw [List.getElem?_append_left (List.getElem?_eq_some_iff.mp hj).1]; exact hj⟩
theorem jHR.lt {g : jG} {h : jH} {H : Heap} (hR : jHR g h H) {q : Nat} {e : va_E} (hq : h q = some e) : q < H.size := by
  obtain ⟨ws, hP, -, hw⟩ := hR
  obtain ⟨i, hi⟩ := hw q e hq
  exact (hP i _ hi).lt
section JC
variable {x : jX} {cc : ByteArray} {own : String} {d K : Nat} {h : jH} {u pc : Nat} {L L' : List (Nat × Value)} {st rest : List Value}
theorem jC.nwF (C : jC x cc own d K) {o : String} {i : Nat} {r n t hst : String} (q : Cond.fieldLinkNest o i r n t hst ∈ lw_tbl) : (Cond.fieldLinkNest o i r n t hst).before x.args x.s = true := va_Nw.use rfl (va_Nw.warmF C.sts.1 (va_Nw.of rfl (C.ok.2.1 _ q)))
theorem jC.nwM (C : jC x cc own d K) {o : String} {i : Nat} {y : MethodName} {hst : String} (q : Cond.methodLinkNest o i y hst ∈ lw_tbl) : (Cond.methodLinkNest o i y hst).before x.args x.s = true := va_Nw.use rfl (va_Nw.warmM C.sts.1 (va_Nw.of rfl (C.ok.2.1 _ q)))
theorem jC.nwC (C : jC x cc own d K) {a b : String} (q : Cond.castable a b ∈ lw_tbl) : va_Nw (.castable a b) x.s := va_Nw.warmC C.sts.1 (va_Nw.of rfl (C.ok.2.1 _ q))
theorem jC.nwA (C : jC x cc own d K) {a : String} (q : Cond.arrayOver (.object a) ∈ lw_tbl) : va_AO a x.s := va_AO.moved C.sts.1.alike (va_AO.of (C.ok.2.1 _ q))
/-- what a receiver or an element is asked for -/
theorem jC.cell (C : jC x cc own d K) {H : Heap} {locs : List Loc} {v : Nat} {Cn : String} (hR : jHR x.g h H) (hS : va_S (jA x.g) x.s.heap H locs) (hv : jIs x.g h v Cn) : ∃ cell : Cell, H[v]? = some cell ∧ cell.vm.isStatics = false ∧ x.s.vm.findClass Cn = some cell.cls := by
  rcases hv with ⟨ci, fs, T, N, hh, hc⟩ | ⟨cell, h1, h2, h3⟩
  · obtain ⟨ws, hP, hD, hw⟩ := hR
    obtain ⟨i, hi⟩ := hw _ _ hh
    exact va_recv C.kv hP hc hi
  · have hl : v < x.g.1.heap.size := (Array.getElem?_eq_some_iff.mp h1).1
    refine ⟨cell, ?_, h2, ?_⟩
    · rw [hS.2.1 v (Nat.lt_of_lt_of_le hl C.sts.2.2) (fun z => absurd hl (Nat.not_lt.mpr z)), C.sts.2.1 v hl]
      exact h1
    · rw [C.sts.1.alike.findClass]
      exact h3
theorem jC.any (C : jC x cc own d K) {H : Heap} {locs : List Loc} {v : Nat} {Cn E : String} (hR : jHR x.g h H) (hS : va_S (jA x.g) x.s.heap H locs) (hv : jIs x.g h v Cn) (hE : Cond.castable Cn E ∈ lw_tbl ∨ Cn = E) : va_Any E x.s H v := by
  obtain ⟨cell, h1, h2, h3⟩ := C.cell hR hS hv
  obtain ⟨kC, hkC, -⟩ := Vm.findClass_spec h3
  refine ⟨cell, h1, h2, ⟨kC, hkC⟩, fun comp hq => ?_⟩
  rcases hE with q | rfl
  · exact vb_asgC (C.nwC q) comp _ hq h3
  · exact vb_asgS comp _ hq h3
theorem j_get (C : jC x cc own d K) {a ci N index : Nat} {fs : List Value} {T : u_T} {Cn ref : String} (hh : h a = some (jO ci fs)) (hc : jCl[ci]? = some (Cn, T, N)) (hin : ∀ w ∈ u_ws Cn T N, w ∈ lw_all) (k : Nat) (hk : k < N) (q : Cond.fieldLink own index ref (T k).2.1 (T k).2.2.1 ∈ lw_all)
    (hsame : ∀ z, x.s.fieldFound? (T k).1 (T k).2.1 (T k).2.2.1 = some z → x.s.fieldFound? ref (T k).2.1 (T k).2.2.1 = some z) {v : Value} (hv : fs[k]? = some v) (hd : decode cc pc = .ok (.getfield index, 3))
    (kk : J x h u (pc + 3) L (v :: rest)) : J x h u pc L (.ref a :: rest) := by
  intro H locs ls hR hS hl
  obtain ⟨ws, hP, hD, hw⟩ := hR
  obtain ⟨i, hi⟩ := hw _ _ hh
  exact va_get C.exec C.bytes C.ts hin C.ow C.kv hP i hi hc k hk (C.ts _ q) hsame hv hd (kk H locs ls ⟨ws, hP, hD, hw⟩ hS hl)
theorem j_getN (C : jC x cc own d K) {a ci N index : Nat} {fs : List Value} {T : u_T} {Cn ref host : String} (hh : h a = some (jO ci fs)) (hc : jCl[ci]? = some (Cn, T, N)) (hin : ∀ w ∈ u_ws Cn T N, w ∈ lw_all) (k : Nat) (hk : k < N) (q : Cond.fieldLinkNest own index ref (T k).2.1 (T k).2.2.1 host ∈ lw_tbl)
    (hsame : ∀ z, x.s.fieldFound? (T k).1 (T k).2.1 (T k).2.2.1 = some z → x.s.fieldFound? ref (T k).2.1 (T k).2.2.1 = some z) {v : Value} (hv : fs[k]? = some v) (hd : decode cc pc = .ok (.getfield index, 3))
    (kk : J x h u (pc + 3) L (v :: rest)) : J x h u pc L (.ref a :: rest) := by
  intro H locs ls hR hS hl
  obtain ⟨ws, hP, hD, hw⟩ := hR
  obtain ⟨i, hi⟩ := hw _ _ hh
  exact va_getN C.exec C.bytes C.ts hin C.ow C.kv hP i hi hc k hk (C.nwF q) hsame hv hd (kk H locs ls ⟨ws, hP, hD, hw⟩ hS hl)
theorem j_put (C : jC x cc own d K) {a ci N index : Nat} {fs fs' : List Value} {T : u_T} {Cn ref : String} (hh : h a = some (jO ci fs)) (hc : jCl[ci]? = some (Cn, T, N)) (hin : ∀ w ∈ u_ws Cn T N, w ∈ lw_all) (ty0 : Nat → FieldType) (hty : ∀ k, k < N → parseFieldDescriptor (T k).2.2.1 = some (ty0 k)) (hnm : ∀ a, a < N → ∀ b, b < N → a ≠ b → (T a).2.1 ≠ (T b).2.1)
    (k : Nat) (hk : k < N) (q : Cond.fieldLink own index ref (T k).2.1 (T k).2.2.1 ∈ lw_all) (hsame : ∀ z, x.s.fieldFound? (T k).1 (T k).2.1 (T k).2.2.1 = some z → x.s.fieldFound? ref (T k).2.1 (T k).2.2.1 = some z) (hfin : (T k).2.2.2 = false) {v : Value} (hn : narrow (ty0 k) v = v) (hfit : fits (ty0 k) v = true) (hl : k < fs.length) (hfs : fs.set k v = fs')
    (hd : decode cc pc = .ok (.putfield index, 3)) (kk : J x (jup h a (jO ci fs')) u (pc + 3) L rest) : J x h u pc L (v :: .ref a :: rest) := by
  intro H locs ls hR hS hl'
  subst hfs
  obtain ⟨ws, hP, hD, hw⟩ := hR
  obtain ⟨i, hi⟩ := hw _ _ hh
  exact va_put C.exec C.bytes C.ts hin ty0 hty hnm C.ow C.kv hP hD hS i hi hc k hk (C.ts _ q) hsame hfin (hty k hk) hn hfit hl hd (fun H1 locs1 p1 p2 p3 => kk H1 locs1 ls ⟨_, p1, p2, jmem_set hi hw⟩ p3 hl')
theorem j_putN (C : jC x cc own d K) {a ci N index : Nat} {fs fs' : List Value} {T : u_T} {Cn ref host : String} (hh : h a = some (jO ci fs)) (hc : jCl[ci]? = some (Cn, T, N)) (hin : ∀ w ∈ u_ws Cn T N, w ∈ lw_all) (ty0 : Nat → FieldType) (hty : ∀ k, k < N → parseFieldDescriptor (T k).2.2.1 = some (ty0 k)) (hnm : ∀ a, a < N → ∀ b, b < N → a ≠ b → (T a).2.1 ≠ (T b).2.1)
    (k : Nat) (hk : k < N) (q : Cond.fieldLinkNest own index ref (T k).2.1 (T k).2.2.1 host ∈ lw_tbl) (hsame : ∀ z, x.s.fieldFound? (T k).1 (T k).2.1 (T k).2.2.1 = some z → x.s.fieldFound? ref (T k).2.1 (T k).2.2.1 = some z) (hfin : (T k).2.2.2 = false) {v : Value} (hn : narrow (ty0 k) v = v) (hfit : fits (ty0 k) v = true) (hl : k < fs.length) (hfs : fs.set k v = fs')
    (hd : decode cc pc = .ok (.putfield index, 3)) (kk : J x (jup h a (jO ci fs')) u (pc + 3) L rest) : J x h u pc L (v :: .ref a :: rest) := by
  intro H locs ls hR hS hl'
  subst hfs
  obtain ⟨ws, hP, hD, hw⟩ := hR
  obtain ⟨i, hi⟩ := hw _ _ hh
  exact va_putN C.exec C.bytes C.ts hin ty0 hty hnm C.ow C.kv hP hD hS i hi hc k hk (C.nwF q) hsame hfin (hty k hk) hn hfit hl hd (fun H1 locs1 p1 p2 p3 => kk H1 locs1 ls ⟨_, p1, p2, jmem_set hi hw⟩ p3 hl')
theorem j_putF (C : jC x cc own d K) {a ci N index : Nat} {fs fs' : List Value} {T : u_T} {Cn ref : String} (hh : h a = some (jO ci fs)) (hc : jCl[ci]? = some (Cn, T, N)) (hin : ∀ w ∈ u_ws Cn T N, w ∈ lw_all) (ty0 : Nat → FieldType) (hty : ∀ k, k < N → parseFieldDescriptor (T k).2.2.1 = some (ty0 k)) (hnm : ∀ a, a < N → ∀ b, b < N → a ≠ b → (T a).2.1 ≠ (T b).2.1)
    (k : Nat) (hk : k < N) (q : Cond.fieldLink own index ref (T k).2.1 (T k).2.2.1 ∈ lw_all) (hsame : ∀ z, x.s.fieldFound? (T k).1 (T k).2.1 (T k).2.2.1 = some z → x.s.fieldFound? ref (T k).2.1 (T k).2.2.1 = some z) (hfin : (T k).2.2.2 = true) (hini : x.meth.name = "<init>") (hdecl : (T k).1 = own) {v : Value} (hn : narrow (ty0 k) v = v) (hfit : fits (ty0 k) v = true) (hl : k < fs.length) (hfs : fs.set k v = fs')
    (hd : decode cc pc = .ok (.putfield index, 3)) (kk : J x (jup h a (jO ci fs')) u (pc + 3) L rest) : J x h u pc L (v :: .ref a :: rest) := by
  intro H locs ls hR hS hl'
  subst hfs
  obtain ⟨ws, hP, hD, hw⟩ := hR
  obtain ⟨i, hi⟩ := hw _ _ hh
  exact va_putF C.exec C.bytes C.ts hin ty0 hty hnm C.ow C.kv hP hD hS i hi hc k hk (C.ts _ q) hsame hfin hini hdecl (hty k hk) hn hfit hl hd (fun H1 locs1 p1 p2 p3 => kk H1 locs1 ls ⟨_, p1, p2, jmem_set hi hw⟩ p3 hl')
theorem j_iald (C : jC x cc own d K) {a n : Nat} {f : Nat → Int32} {i : Int32} (hh : h a = some (jI x.g 0 n f)) (hin : vp_in i n) (hd : decode cc pc = .ok (.iaload, 1)) (kk : J x h u (pc + 1) L (.int (f i.toNatClampNeg) :: rest)) : J x h u pc L (.int i :: .ref a :: rest) := by
  intro H locs ls hR hS hl
  obtain ⟨ws, hP, hD, hw⟩ := hR
  obtain ⟨j, hj⟩ := hw _ _ hh
  exact va_iald C.exec C.bytes C.kv hP j 0 hj rfl hin hd (kk H locs ls ⟨ws, hP, hD, hw⟩ hS hl)
theorem j_zald (C : jC x cc own d K) {a n : Nat} {f : Nat → Int32} {i : Int32} (hh : h a = some (jI x.g 1 n f)) (hin : vp_in i n) (hd : decode cc pc = .ok (.baload, 1)) (kk : J x h u (pc + 1) L (.int (f i.toNatClampNeg) :: rest)) : J x h u pc L (.int i :: .ref a :: rest) := by
  intro H locs ls hR hS hl
  obtain ⟨ws, hP, hD, hw⟩ := hR
  obtain ⟨j, hj⟩ := hw _ _ hh
  exact va_zald C.exec C.bytes C.kv hP j 1 hj rfl hin hd (kk H locs ls ⟨ws, hP, hD, hw⟩ hS hl)
theorem j_bald (C : jC x cc own d K) {a n : Nat} {f : Nat → Int32} {i : Int32} (hh : h a = some (jI x.g 2 n f)) (hin : vp_in i n) (hd : decode cc pc = .ok (.baload, 1)) (kk : J x h u (pc + 1) L (.int (f i.toNatClampNeg) :: rest)) : J x h u pc L (.int i :: .ref a :: rest) := by
  intro H locs ls hR hS hl
  obtain ⟨ws, hP, hD, hw⟩ := hR
  obtain ⟨j, hj⟩ := hw _ _ hh
  exact va_bald C.exec C.bytes C.kv hP j 2 hj rfl hin hd (kk H locs ls ⟨ws, hP, hD, hw⟩ hS hl)
theorem j_lald (C : jC x cc own d K) {a n : Nat} {f : Nat → Int64} {i : Int32} (hh : h a = some (jL x.g n f)) (hin : vp_in i n) (hd : decode cc pc = .ok (.laload, 1)) (kk : J x h u (pc + 1) L (.long (f i.toNatClampNeg) :: rest)) : J x h u pc L (.int i :: .ref a :: rest) := by
  intro H locs ls hR hS hl
  obtain ⟨ws, hP, hD, hw⟩ := hR
  obtain ⟨j, hj⟩ := hw _ _ hh
  exact va_lald C.exec C.bytes C.kv hP j 3 hj rfl hin hd (kk H locs ls ⟨ws, hP, hD, hw⟩ hS hl)
theorem j_iast (C : jC x cc own d K) {a n : Nat} {f : Nat → Int32} {i v : Int32} (hh : h a = some (jI x.g 0 n f)) (hin : vp_in i n) (hd : decode cc pc = .ok (.iastore, 1)) (kk : J x (jup h a (jI x.g 0 n (upd f i.toNatClampNeg v))) u (pc + 1) L rest) : J x h u pc L (.int v :: .int i :: .ref a :: rest) := by
  intro H locs ls hR hS hl
  obtain ⟨ws, hP, hD, hw⟩ := hR
  obtain ⟨j, hj⟩ := hw _ _ hh
  exact va_iast C.exec C.bytes C.kv hP hD hS j 0 hj rfl hin hd (fun H1 locs1 p1 p2 p3 => kk H1 locs1 ls ⟨_, p1, p2, jmem_set hj hw⟩ p3 hl)
theorem j_zast (C : jC x cc own d K) {a n : Nat} {f : Nat → Int32} {i v : Int32} (hh : h a = some (jI x.g 1 n f)) (hin : vp_in i n) (hv : vp_nar .boolean v = v) (hd : decode cc pc = .ok (.bastore, 1)) (kk : J x (jup h a (jI x.g 1 n (upd f i.toNatClampNeg v))) u (pc + 1) L rest) : J x h u pc L (.int v :: .int i :: .ref a :: rest) := by
  intro H locs ls hR hS hl
  obtain ⟨ws, hP, hD, hw⟩ := hR
  obtain ⟨j, hj⟩ := hw _ _ hh
  exact va_zast C.exec C.bytes C.kv hP hD hS j 1 hj rfl hin hd (fun H1 locs1 p1 p2 p3 => by rw [hv] at p1 p2; exact kk H1 locs1 ls ⟨_, p1, p2, jmem_set hj hw⟩ p3 hl)
theorem j_bast (C : jC x cc own d K) {a n : Nat} {f : Nat → Int32} {i v : Int32} (hh : h a = some (jI x.g 2 n f)) (hin : vp_in i n) (hv : vp_nar .byte v = v) (hd : decode cc pc = .ok (.bastore, 1)) (kk : J x (jup h a (jI x.g 2 n (upd f i.toNatClampNeg v))) u (pc + 1) L rest) : J x h u pc L (.int v :: .int i :: .ref a :: rest) := by
  intro H locs ls hR hS hl
  obtain ⟨ws, hP, hD, hw⟩ := hR
  obtain ⟨j, hj⟩ := hw _ _ hh
  exact va_bast C.exec C.bytes C.kv hP hD hS j 2 hj rfl hin hd (fun H1 locs1 p1 p2 p3 => by rw [hv] at p1 p2; exact kk H1 locs1 ls ⟨_, p1, p2, jmem_set hj hw⟩ p3 hl)
theorem j_last (C : jC x cc own d K) {a n : Nat} {f : Nat → Int64} {i : Int32} {v : Int64} (hh : h a = some (jL x.g n f)) (hin : vp_in i n) (hd : decode cc pc = .ok (.lastore, 1)) (kk : J x (jup h a (jL x.g n (vp_updL f i.toNatClampNeg v))) u (pc + 1) L rest) : J x h u pc L (.long v :: .int i :: .ref a :: rest) := by
  intro H locs ls hR hS hl
  obtain ⟨ws, hP, hD, hw⟩ := hR
  obtain ⟨j, hj⟩ := hw _ _ hh
  exact va_last C.exec C.bytes C.kv hP hD hS j 3 hj rfl hin hd (fun H1 locs1 p1 p2 p3 => kk H1 locs1 ls ⟨_, p1, p2, jmem_set hj hw⟩ p3 hl)
/-- a reference out of an array of references of the kind t -/
theorem j_aald (C : jC x cc own d K) {a n : Nat} {f : Nat → Option Nat} {i : Int32} (t : Nat) {ty : FieldType} (hh : h a = some (jQ x.g t n f)) (ht : (jTys x.g)[t]? = some (x.g.2.2.1 t, ty)) (hty : ty.isReference = true) (hin : vp_in i n) (hd : decode cc pc = .ok (.aaload, 1)) (kk : J x h u (pc + 1) L (va_rf (f i.toNatClampNeg) :: rest)) : J x h u pc L (.int i :: .ref a :: rest) := by
  intro H locs ls hR hS hl
  obtain ⟨ws, hP, hD, hw⟩ := hR
  obtain ⟨j, hj⟩ := hw _ _ hh
  have hlt : i.toNatClampNeg < n := Nat.not_le.mp fun q => hin (Or.inr q)
  exact W.aald (v := va_rf (f i.toNatClampNeg)) (ty := ty) C.exec C.bytes (hP j _ hj) ((C.kv.2 t _ ht).1 n (fun j => va_rf (f j))) hty (fun q => by cases q) (by show ¬ (i < 0 ∨ (arrV _ _ _).slots.size ≤ _); rw [arrV_size]; exact hin) (by show (arrV _ _ _).slots[_]? = _; rw [arrV_read _ _ hlt]) rfl rfl hd (kk H locs ls ⟨ws, hP, hD, hw⟩ hS hl)
theorem j_aast (C : jC x cc own d K) {a n v : Nat} {f : Nat → Option Nat} {i : Int32} {Cn E : String} (t : Nat) (hh : h a = some (jQ x.g t n f)) (ht : (jTys x.g)[t]? = some (x.g.2.2.1 t, .object E)) (hin : vp_in i n) (hv : jIs x.g h v Cn) (hE : Cond.castable Cn E ∈ lw_tbl ∨ Cn = E) (hd : decode cc pc = .ok (.aastore, 1)) (kk : J x (jup h a (jQ x.g t n (va_up f i.toNatClampNeg (some v)))) u (pc + 1) L rest) : J x h u pc L (.ref v :: .int i :: .ref a :: rest) := by
  intro H locs ls hR hS hl
  have hany := C.any hR hS hv hE
  obtain ⟨ws, hP, hD, hw⟩ := hR
  obtain ⟨j, hj⟩ := hw _ _ hh
  exact va_astqM C.exec C.bytes C.kv hP hD hS j t hj ht hany hin hd (fun H1 locs1 p1 p2 p3 => kk H1 locs1 ls ⟨_, p1, p2, jmem_set hj hw⟩ p3 hl)
theorem j_aastN (C : jC x cc own d K) {a n : Nat} {f : Nat → Option Nat} {i : Int32} {E : String} (t : Nat) (hh : h a = some (jQ x.g t n f)) (ht : (jTys x.g)[t]? = some (x.g.2.2.1 t, .object E)) (hin : vp_in i n) (hd : decode cc pc = .ok (.aastore, 1)) (kk : J x (jup h a (jQ x.g t n (va_up f i.toNatClampNeg none))) u (pc + 1) L rest) : J x h u pc L (.null :: .int i :: .ref a :: rest) := by
  intro H locs ls hR hS hl
  obtain ⟨ws, hP, hD, hw⟩ := hR
  obtain ⟨j, hj⟩ := hw _ _ hh
  exact va_astqN C.exec C.bytes C.kv hP hD hS j t hj ht hin hd (fun H1 locs1 p1 p2 p3 => kk H1 locs1 ls ⟨_, p1, p2, jmem_set hj hw⟩ p3 hl)
theorem j_alen (C : jC x cc own d K) {a n : Nat} {y : (Nat → Int32) ⊕ (Nat → Int64) ⊕ (Nat → UInt32) ⊕ (Nat → UInt64) ⊕ (Nat → Option Nat)} (t : Nat) {ty : FieldType} (hh : h a = some (.inl (x.g.2.2.1 t, n, y))) (ht : (jTys x.g)[t]? = some (x.g.2.2.1 t, ty)) (hd : decode cc pc = .ok (.arraylength, 1)) (kk : J x h u (pc + 1) L (.int (nI n) :: rest)) : J x h u pc L (.ref a :: rest) := by
  intro H locs ls hR hS hl
  obtain ⟨ws, hP, hD, hw⟩ := hR
  obtain ⟨j, hj⟩ := hw _ _ hh
  exact va_alen C.exec C.bytes C.kv hP j t hj ht (v := nI n) rfl hd (kk H locs ls ⟨ws, hP, hD, hw⟩ hS hl)
theorem jra {s : State} {D : va_G} {cl : List vw_C} {tys : List (ClassId × FieldType)} {cA cB : ClassId} {ty : FieldType} (h1 : va_RA s cA ty) (h2 : va_RA s cB ty) : cA = cB := by
  cases ty with
  | object n =>
    obtain ⟨k1, c1, -, -, -, e1⟩ := h1
    obtain ⟨k2, c2, -, -, -, e2⟩ := h2
    exact Option.some.inj (e1.symm.trans e2)
  | _ => exact Option.some.inj ((show s.vm.findClass _ = some cA from h1).symm.trans (show s.vm.findClass _ = some cB from h2))
theorem jra_last {s : State} {D : va_G} {cl : List vw_C} {tys : List (ClassId × FieldType)} {cA : ClassId} {ty : FieldType} (h1 : va_K D cl (tys ++ [(cA, ty)]) s) : va_RA s cA ty := (h1.2 tys.length (cA, ty) (by simp)).2
theorem jfresh {A : Nat → Prop} {ws : va_W} {h : jH} {a : Nat} {e : va_E} (hD : va_D A (ws ++ [(a, e)])) (hw : ∀ (q : Nat) (y : va_E), h q = some y → ∃ j : Nat, ws[j]? = some (q, y)) : h a = none ∧ A a := by
  have hlast : (ws ++ [(a, e)])[ws.length]? = some (a, e) := by simp
  refine ⟨?_, hD.2 _ _ hlast⟩
  cases hq : h a with
  | none => rfl
  | some y =>
    obtain ⟨j, hj⟩ := hw a y hq
    have hl := (List.getElem?_eq_some_iff.mp hj).1
    have := hD.1 j ws.length (a, y) (a, e) (by rw [List.getElem?_append_left hl]; exact hj) hlast rfl
    omega
theorem j_new (C : jC x cc own d K) {index ci N : Nat} {Cn : String} {T : u_T} (hc : jCl[ci]? = some (Cn, T, N)) (hin : ∀ w ∈ u_ws Cn T N, w ∈ lw_all) (ty : Nat → FieldType) (hty : ∀ k, k < N → parseFieldDescriptor (T k).2.2.1 = some (ty k)) (q1 : Cond.classLink own index Cn ∈ lw_all) (q2 : Cond.instantiable Cn N ∈ lw_all) (q3 : Cond.initialized Cn ∈ lw_all) {fs : List Value} (hfs : ∀ j, j < N → defaultValue (ty j) = vp_V fs j) (hb : u + (N + 1) ≤ K)
    (hd : decode cc pc = .ok (.new index, 3)) (kk : ∀ a : Nat, h a = none → jA x.g a → J x (jup h a (jO ci fs)) (u + (N + 1)) (pc + 3) L (.ref a :: rest)) : J x h u pc L rest := by
  intro H locs ls hR hS hl
  obtain ⟨ws, hP, hD, hw⟩ := hR
  have r := C.room
  refine va_new C.exec C.bytes C.ts hin ty hty C.ow (C.ts _ q1) (C.ts _ q2) (C.ts _ q3) C.kv hP hD hS C.A hc hfs (by omega) (by omega) hd (fun a H1 p1 p2 p3 => ?_)
  obtain ⟨f1, f2⟩ := jfresh p2 hw
  exact W.widen (by omega) (by omega) (kk a f1 f2 H1 locs ls ⟨_, p1, p2, jmem_push hw⟩ p3 hl)
theorem j_newi (C : jC x cc own d K) {N : Nat} (hN : N ≤ 1000000) (q1 : Cond.arrayClass .int ∈ lw_all) (hb : u + (N + 1) ≤ K) (hd : decode cc pc = .ok (.newarray .int, 2))
    (kk : ∀ a : Nat, h a = none → jA x.g a → J x (jup h a (jI x.g 0 N (fun _ => 0))) (u + (N + 1)) (pc + 2) L (.ref a :: rest)) : J x h u pc L (.int (nI N) :: rest) := by
  intro H locs ls hR hS hl
  obtain ⟨ws, hP, hD, hw⟩ := hR
  have r := C.room
  refine va_newa (atype := .int) C.exec C.bytes (C.ts _ q1) (ty := .int) rfl C.kv hP hD hS C.A (N' := N) (a0 := (N, .inl (fun _ => 0))) (fun _ => rfl) (nI_pos (by omega)) (nI_clamp (by omega)) (by show N * _ ≤ _; simp only [componentBytes]; omega) (by omega) (by omega) hd (fun a cA H1 pK p1 p2 p3 => ?_)
  have e : cA = x.g.2.2.1 0 := jra (D := x.g.2.1) (cl := jCl) (tys := jTys x.g) (jra_last pK) (C.kv.2 0 _ rfl).2
  subst e
  obtain ⟨f1, f2⟩ := jfresh p2 hw
  exact W.widen (by omega) (by omega) (kk a f1 f2 H1 locs ls ⟨_, p1, p2, jmem_push hw⟩ p3 hl)
theorem j_newz (C : jC x cc own d K) {N : Nat} (hN : N ≤ 1000000) (q1 : Cond.arrayClass .boolean ∈ lw_all) (hb : u + (N + 1) ≤ K) (hd : decode cc pc = .ok (.newarray .boolean, 2))
    (kk : ∀ a : Nat, h a = none → jA x.g a → J x (jup h a (jI x.g 1 N (fun _ => 0))) (u + (N + 1)) (pc + 2) L (.ref a :: rest)) : J x h u pc L (.int (nI N) :: rest) := by
  intro H locs ls hR hS hl
  obtain ⟨ws, hP, hD, hw⟩ := hR
  have r := C.room
  refine va_newa (atype := .boolean) C.exec C.bytes (C.ts _ q1) (ty := .boolean) rfl C.kv hP hD hS C.A (N' := N) (a0 := (N, .inl (fun _ => 0))) (fun _ => rfl) (nI_pos (by omega)) (nI_clamp (by omega)) (by show N * _ ≤ _; simp only [componentBytes]; omega) (by omega) (by omega) hd (fun a cA H1 pK p1 p2 p3 => ?_)
  have e : cA = x.g.2.2.1 1 := jra (D := x.g.2.1) (cl := jCl) (tys := jTys x.g) (jra_last pK) (C.kv.2 1 _ rfl).2
  subst e
  obtain ⟨f1, f2⟩ := jfresh p2 hw
  exact W.widen (by omega) (by omega) (kk a f1 f2 H1 locs ls ⟨_, p1, p2, jmem_push hw⟩ p3 hl)
theorem j_newb (C : jC x cc own d K) {N : Nat} (hN : N ≤ 1000000) (q1 : Cond.arrayClass .byte ∈ lw_all) (hb : u + (N + 1) ≤ K) (hd : decode cc pc = .ok (.newarray .byte, 2))
    (kk : ∀ a : Nat, h a = none → jA x.g a → J x (jup h a (jI x.g 2 N (fun _ => 0))) (u + (N + 1)) (pc + 2) L (.ref a :: rest)) : J x h u pc L (.int (nI N) :: rest) := by
  intro H locs ls hR hS hl
  obtain ⟨ws, hP, hD, hw⟩ := hR
  have r := C.room
  refine va_newa (atype := .byte) C.exec C.bytes (C.ts _ q1) (ty := .byte) rfl C.kv hP hD hS C.A (N' := N) (a0 := (N, .inl (fun _ => 0))) (fun _ => rfl) (nI_pos (by omega)) (nI_clamp (by omega)) (by show N * _ ≤ _; simp only [componentBytes]; omega) (by omega) (by omega) hd (fun a cA H1 pK p1 p2 p3 => ?_)
  have e : cA = x.g.2.2.1 2 := jra (D := x.g.2.1) (cl := jCl) (tys := jTys x.g) (jra_last pK) (C.kv.2 2 _ rfl).2
  subst e
  obtain ⟨f1, f2⟩ := jfresh p2 hw
  exact W.widen (by omega) (by omega) (kk a f1 f2 H1 locs ls ⟨_, p1, p2, jmem_push hw⟩ p3 hl)
theorem j_newl (C : jC x cc own d K) {N : Nat} (hN : N ≤ 1000000) (q1 : Cond.arrayClass .long ∈ lw_all) (hb : u + (N + 1) ≤ K) (hd : decode cc pc = .ok (.newarray .long, 2))
    (kk : ∀ a : Nat, h a = none → jA x.g a → J x (jup h a (jL x.g N (fun _ => 0))) (u + (N + 1)) (pc + 2) L (.ref a :: rest)) : J x h u pc L (.int (nI N) :: rest) := by
  intro H locs ls hR hS hl
  obtain ⟨ws, hP, hD, hw⟩ := hR
  have r := C.room
  refine va_newa (atype := .long) C.exec C.bytes (C.ts _ q1) (ty := .long) rfl C.kv hP hD hS C.A (N' := N) (a0 := (N, .inr (.inl (fun _ => 0)))) (fun _ => rfl) (nI_pos (by omega)) (nI_clamp (by omega)) (by show N * _ ≤ _; simp only [componentBytes]; omega) (by omega) (by omega) hd (fun a cA H1 pK p1 p2 p3 => ?_)
  have e : cA = x.g.2.2.1 3 := jra (D := x.g.2.1) (cl := jCl) (tys := jTys x.g) (jra_last pK) (C.kv.2 3 _ rfl).2
  subst e
  obtain ⟨f1, f2⟩ := jfresh p2 hw
  exact W.widen (by omega) (by omega) (kk a f1 f2 H1 locs ls ⟨_, p1, p2, jmem_push hw⟩ p3 hl)
theorem j_newq (C : jC x cc own d K) {N index : Nat} {E : String} (t : Nat) (ht : (jTys x.g)[t]? = some (x.g.2.2.1 t, .object E)) (hN : N ≤ 1000000) (q1 : Cond.classLink own index E ∈ lw_all) (q2 : Cond.arrayOver (.object E) ∈ lw_tbl) (hb : u + (N + 1) ≤ K) (hd : decode cc pc = .ok (.anewarray index, 3))
    (kk : ∀ a : Nat, h a = none → jA x.g a → J x (jup h a (jQ x.g t N (fun _ => none))) (u + (N + 1)) (pc + 3) L (.ref a :: rest)) : J x h u pc L (.int (nI N) :: rest) := by
  intro H locs ls hR hS hl
  obtain ⟨ws, hP, hD, hw⟩ := hR
  have r := C.room
  refine va_newq C.exec C.bytes C.ow (C.ts _ q1) (C.nwA q2) C.kv hP hD hS C.A (N' := N) (nI_pos (by omega)) (nI_clamp (by omega)) (by omega) (by omega) (by omega) hd (fun a cA H1 pK p1 p2 p3 => ?_)
  have e : cA = x.g.2.2.1 t := jra (D := x.g.2.1) (cl := jCl) (tys := jTys x.g) (jra_last pK) (C.kv.2 t _ ht).2
  subst e
  obtain ⟨f1, f2⟩ := jfresh p2 hw
  exact W.widen (by omega) (by omega) (kk a f1 f2 H1 locs ls ⟨_, p1, p2, jmem_push hw⟩ p3 hl)
theorem j_cast (C : jC x cc own d K) {a index : Nat} {Cn nm : String} (hv : jIs x.g h a Cn) (q1 : Cond.classLink own index nm ∈ lw_all) (q2 : Cond.castable Cn nm ∈ lw_tbl) (hd : decode cc pc = .ok (.checkcast index, 3)) (kk : J x h u (pc + 3) L (.ref a :: rest)) : J x h u pc L (.ref a :: rest) := fun H locs ls hR hS hl => va_castY C.exec C.bytes C.ow (C.ts _ q1) (C.nwC q2) (C.cell hR hS hv) hd (kk H locs ls hR hS hl)
theorem j_castN (C : jC x cc own d K) {index : Nat} (hd : decode cc pc = .ok (.checkcast index, 3)) (kk : J x h u (pc + 3) L (.null :: rest)) : J x h u pc L (.null :: rest) := fun H locs ls hR hS hl => lv_castN C.exec C.bytes hd (kk H locs ls hR hS hl)
theorem j_castS (C : jC x cc own d K) {a index ci : Nat} {T : u_T} {N : Nat} {nm : String} (hc : jCl[ci]? = some (nm, T, N)) (hv : jIs x.g h a nm) (q1 : Cond.classLink own index nm ∈ lw_all) (hd : decode cc pc = .ok (.checkcast index, 3)) (kk : J x h u (pc + 3) L (.ref a :: rest)) : J x h u pc L (.ref a :: rest) := fun H locs ls hR hS hl => va_castS C.exec C.bytes C.ow (C.ts _ q1) (C.kv.1 ci _ hc).2 (C.cell hR hS hv) hd (kk H locs ls hR hS hl)
theorem j_castA (C : jC x cc own d K) {a index : Nat} {nm : String} {t : Nat} {y : vp_A} (hh : h a = some (.inl (x.g.2.2.1 t, y))) (q1 : Cond.classLink own index nm ∈ lw_all) (hnm : x.s.vm.findClass nm = some (x.g.2.2.1 t)) (hd : decode cc pc = .ok (.checkcast index, 3)) (kk : J x h u (pc + 3) L (.ref a :: rest)) : J x h u pc L (.ref a :: rest) := by
  intro H locs ls hR hS hl
  obtain ⟨ws, hP, hD, hw⟩ := hR
  obtain ⟨j, hj⟩ := hw _ _ hh
  exact va_castA C.exec C.bytes C.ow (C.ts _ q1) hP j hj hnm hd (kk H locs ls ⟨ws, hP, hD, hw⟩ hS hl)
theorem j_instY (C : jC x cc own d K) {a index : Nat} {Cn nm : String} (hv : jIs x.g h a Cn) (q1 : Cond.classLink own index nm ∈ lw_all) (q2 : Cond.castable Cn nm ∈ lw_tbl) (hd : decode cc pc = .ok (.instanceof index, 3)) (kk : J x h u (pc + 3) L (.int 1 :: rest)) : J x h u pc L (.ref a :: rest) := fun H locs ls hR hS hl => va_instY C.exec C.bytes C.ow (C.ts _ q1) (C.nwC q2) (C.cell hR hS hv) hd (kk H locs ls hR hS hl)
theorem j_instS (C : jC x cc own d K) {a index ci : Nat} {T : u_T} {N : Nat} {nm : String} (hc : jCl[ci]? = some (nm, T, N)) (hv : jIs x.g h a nm) (q1 : Cond.classLink own index nm ∈ lw_all) (hd : decode cc pc = .ok (.instanceof index, 3)) (kk : J x h u (pc + 3) L (.int 1 :: rest)) : J x h u pc L (.ref a :: rest) := fun H locs ls hR hS hl => va_instS C.exec C.bytes C.ow (C.ts _ q1) (C.kv.1 ci _ hc).2 (C.cell hR hS hv) hd (kk H locs ls hR hS hl)
theorem j_instNo (C : jC x cc own d K) {a index : Nat} {Cn nm : String} (hv : jIs x.g h a Cn) (q1 : Cond.classLink own index nm ∈ lw_all) (hno : va_Nc Cn nm x.s) (hd : decode cc pc = .ok (.instanceof index, 3)) (kk : J x h u (pc + 3) L (.int 0 :: rest)) : J x h u pc L (.ref a :: rest) := fun H locs ls hR hS hl => va_instNo C.exec C.bytes C.ow (C.ts _ q1) hno (C.cell hR hS hv) hd (kk H locs ls hR hS hl)
theorem jC.Z (C : jC x cc own d K) {Cn n t : String} {v : Value} (hZ : va_Z Cn n t v (jA x.g) x.g.1 x.g.1.heap) : va_Z Cn n t v (jA x.g) x.s x.s.heap := (va_Z.moved C.sts.1.alike hZ).kept (fun a hl _ => C.sts.2.1 a hl)
theorem j_gets (C : jC x cc own d K) {Cn n t ref : String} {v : Value} {index : Nat} (hZ : va_Z Cn n t v (jA x.g) x.g.1 x.g.1.heap) (q : Cond.fieldLink own index ref n t ∈ lw_all) (hsame : ∀ z, x.s.fieldFound? Cn n t = some z → x.s.fieldFound? ref n t = some z) (hd : decode cc pc = .ok (.getstatic index, 3)) (kk : J x h u (pc + 3) L (v :: rest)) : J x h u pc L rest := fun H locs ls hR hS hl => va_gets C.exec C.bytes (C.Z hZ) hS C.ow (C.ts _ q) hsame hd (kk H locs ls hR hS hl)
theorem j_objInit (C : jC x cc own d K) {a idx : Nat} (q1 : Cond.methodLink own idx Lib.objectInit ∈ lw_all) (q2 : Cond.instanceMethod Lib.objectInit ∈ lw_all) (q3 : Cond.code Lib.objectInit ⟨#[0xb1]⟩ 1 none ∈ lw_all) (hd : decode cc pc = .ok (.invokespecial idx, 3)) (h1 : 1 ≤ d) (hW : (rest.map fun v => v.category).sum ≤ 8) (kk : J x h u (pc + 3) L rest) : J x h u pc L (.ref a :: rest) := by
  intro H locs ls hR hS hl
  have r := C.room
  refine W.objInit C.exec C.bytes C.ow (C.ts _ q1) (C.ts _ q2) (C.ts _ q3) rfl (hl.1.trans C.maxL.symm) rfl hd (by omega) ?_ (kk H locs ls hR hS hl)
  have e : (F0 x.m pc ls (Value.ref a :: rest)).monitorRoom = 0 := rfl
  rw [e]
  omega
end JC
