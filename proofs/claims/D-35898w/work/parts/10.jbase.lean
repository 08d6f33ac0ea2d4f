set_option maxRecDepth 100000
/-! ===== J: one judgement for all methods. A world is a function h of addresses; what it says of an address, the heap holds. ===== -/
abbrev jG : Type := State × va_G × (Nat → ClassId) × (Nat → Nat)
abbrev jH : Type := Nat → Option va_E
abbrev jR : Type := Option Value ⊕ String
/-- the classes, by their numbers -/
abbrev jCl : List vw_C := [(RX1, TX1, 10), (RX2, TX2, 9), (RX3, TX3, 4), (RX4, TX4, 38), (RX5, TX5, 6), (RX6, TX6, 10), (RX7, TX7, 2), (RX8, TX8, 3), (RX9, TX9, 3), (RX10, TX10, 3), (RX11, TX11, 4), (RX12, TX12, 3), (RJ13, TJ13, 3), (RJ19, TJ19, 4), (RJ1, TJ1, 4), (RJ2, TJ2, 4)]
/-- the kinds of arrays, by their numbers: 0 int, 1 boolean, 2 byte, 3 long, 4 Object, 5 int[], 6 Club, 7 Lot -/
def jTys (g : jG) : List (ClassId × FieldType) := [(g.2.2.1 0, .int), (g.2.2.1 1, .boolean), (g.2.2.1 2, .byte), (g.2.2.1 3, .long), (g.2.2.1 4, .object "java/lang/Object"), (g.2.2.1 5, .array .int), (g.2.2.1 6, .object "Raidhall$Club"), (g.2.2.1 7, .object "Raidhall$Lot")]
def jA (g : jG) : Nat → Prop := fun q => g.1.heap.size ≤ q
abbrev jI (g : jG) (t n : Nat) (f : Nat → Int32) : va_E := .inl (g.2.2.1 t, n, .inl f)
abbrev jQ (g : jG) (t n : Nat) (f : Nat → Option Nat) : va_E := .inl (g.2.2.1 t, n, .inr (.inr (.inr (.inr f))))
abbrev jL (g : jG) (n : Nat) (f : Nat → Int64) : va_E := .inl (g.2.2.1 3, n, .inr (.inl f))
abbrev jO (ci : Nat) (fs : List Value) : va_E := .inr (ci, fs)
def jup (h : jH) (a : Nat) (e : va_E) : jH := fun q => if q = a then some e else h q
theorem jup_eq {h : jH} {a : Nat} {e : va_E} : jup h a e a = some e := by simp [jup]
theorem jup_ne {h : jH} {a q : Nat} {e : va_E} (hq : q ≠ a) : jup h a e q = h q := by simp [jup, hq]
/-- the heap holds what h says -/
def jHR (g : jG) (h : jH) (H : Heap) : Prop := ∃ ws : va_W, va_P g.2.1 jCl ws H ∧ va_D (jA g) ws ∧ ∀ (a : Nat) (e : va_E), h a = some e → ∃ i : Nat, ws[i]? = some (a, e)
/-- what holds of the start for good -/
def jOK (g : jG) : Prop := va_K g.2.1 jCl (jTys g) g.1 ∧ (∀ w ∈ lw_tbl, w.before #[Value.ref (g.2.2.2 0)] g.1 = true) ∧ (Jvm.Cond.and given_1 narrow_1).before #[Value.ref (g.2.2.2 0)] g.1 = true
/-- a state behind the start -/
def jSt (g : jG) (U : State) : Prop := g.1.WarmedH U.vm ∧ (∀ q : Nat, q < g.1.heap.size → U.heap[q]? = g.1.heap[q]?) ∧ g.1.heap.size ≤ U.heap.size
abbrev jX : Type := jG × Program × Launch × Env × Room × State × MethodId × Array Value × List Frame × Method × Code × Nat × (State → Prop)
abbrev jX.g (x : jX) : jG := x.1
abbrev jX.p (x : jX) : Program := x.2.1
abbrev jX.l (x : jX) : Launch := x.2.2.1
abbrev jX.e (x : jX) : Env := x.2.2.2.1
abbrev jX.R (x : jX) : Room := x.2.2.2.2.1
abbrev jX.s (x : jX) : State := x.2.2.2.2.2.1
abbrev jX.m (x : jX) : MethodId := x.2.2.2.2.2.2.1
abbrev jX.args (x : jX) : Array Value := x.2.2.2.2.2.2.2.1
abbrev jX.below (x : jX) : List Frame := x.2.2.2.2.2.2.2.2.1
abbrev jX.meth (x : jX) : Method := x.2.2.2.2.2.2.2.2.2.1
abbrev jX.c (x : jX) : Code := x.2.2.2.2.2.2.2.2.2.2.1
abbrev jX.nL (x : jX) : Nat := x.2.2.2.2.2.2.2.2.2.2.2.1
abbrev jX.Z (x : jX) : State → Prop := x.2.2.2.2.2.2.2.2.2.2.2.2
abbrev jW (x : jX) (H : Heap) (locs : List Loc) (k n : Nat) (f : JFrame) : Prop := W x.p x.l x.e x.R x.s x.m x.args x.below x.meth x.c H locs k n x.Z f
/-- THE JUDGEMENT: in the world h, u of the budget spent, at pc with locals L and stack st, the method comes to its end Z -/
def J (x : jX) (h : jH) (u pc : Nat) (L : List (Nat × Value)) (st : List Value) : Prop :=
  ∀ (H : Heap) (locs : List Loc) (ls : Array Slot), jHR x.g h H → va_S (jA x.g) x.s.heap H locs → lv_has ls x.nL L → jW x H locs u u (F0 x.m pc ls st)
/-- .. with an exception of class E thrown at pc -/
def JX (x : jX) (h : jH) (u pc : Nat) (L : List (Nat × Value)) (rest : List Value) (E : String) : Prop :=
  ∀ (H : Heap) (locs : List Loc) (ls : Array Slot) (q : Addr) (ce : Cell), jHR x.g h H → va_S (jA x.g) x.s.heap H locs → lv_has ls x.nL L → H[q]? = some ce → ce.vm = .none → x.s.vm.findClass E = some ce.cls →
    vx_W x.p x.l x.e x.R x.s x.m x.args x.below x.meth x.c H locs u u x.Z (F0 x.m pc ls rest) q
/-- the method's fixed facts: its code, its class, depth d, budget K -/
def jC (x : jX) (cc : ByteArray) (own : String) (d K : Nat) : Prop :=
  x.p.tables.exec = Jvm.exec ∧ x.c.code = cc ∧ x.c.maxLocals = x.nL ∧ x.s.vm.findClass own = some x.m.cls ∧ (∀ w ∈ lw_all, w.before x.args x.s = true) ∧ x.meth.locks = false ∧ jOK x.g ∧ jSt x.g x.s ∧ x.l.stackTraces = false ∧ (d ≤ x.R.frames ∧ 64 * d ≤ x.R.locals ∧ K ≤ x.R.cells ∧ K ≤ x.R.slots)
section JB
variable {x : jX} {cc : ByteArray} {own : String} {d K : Nat} {h : jH} {u pc : Nat} {L L' : List (Nat × Value)} {st : List Value}
theorem jC.exec (C : jC x cc own d K) : x.p.tables.exec = Jvm.exec := C.1
theorem jC.bytes (C : jC x cc own d K) : x.c.code = cc := C.2.1
theorem jC.maxL (C : jC x cc own d K) : x.c.maxLocals = x.nL := C.2.2.1
theorem jC.ow (C : jC x cc own d K) : x.s.vm.findClass own = some x.m.cls := C.2.2.2.1
theorem jC.ts (C : jC x cc own d K) : ∀ w ∈ lw_all, w.before x.args x.s = true := C.2.2.2.2.1
theorem jC.locks (C : jC x cc own d K) : x.meth.locks = false := C.2.2.2.2.2.1
theorem jC.ok (C : jC x cc own d K) : jOK x.g := C.2.2.2.2.2.2.1
theorem jC.sts (C : jC x cc own d K) : jSt x.g x.s := C.2.2.2.2.2.2.2.1
theorem jC.trc (C : jC x cc own d K) : x.l.stackTraces = false := C.2.2.2.2.2.2.2.2.1
theorem jC.room (C : jC x cc own d K) : d ≤ x.R.frames ∧ 64 * d ≤ x.R.locals ∧ K ≤ x.R.cells ∧ K ≤ x.R.slots := C.2.2.2.2.2.2.2.2.2
theorem jC.kv (C : jC x cc own d K) : va_K x.g.2.1 jCl (jTys x.g) x.s := va_K.moved C.sts.1.alike C.ok.1
theorem jC.A (C : jC x cc own d K) : ∀ q : Nat, x.s.heap.size ≤ q → jA x.g q := fun q hq => Nat.le_trans C.sts.2.2 hq
theorem jC.fix (C : jC x cc own d K) : CallFix x.p x.m x.c cc x.nL x.s x.args lw_all own := ⟨C.exec, C.bytes, C.maxL, C.ow, C.ts⟩
theorem J.sub (k : J x h u pc L' st) (is : List Nat) (hl : lv_pick L is = L') : J x h u pc L st := fun H locs ls a b c => k H locs ls a b (lv_sub c is hl)
theorem J.mem (k : J x h u pc L' st) (hl : ∀ q ∈ L', q ∈ L) : J x h u pc L st := fun H locs ls a b c => k H locs ls a b ⟨c.1, c.2.1, fun q hq => c.2.2 q (hl q hq)⟩
theorem J.up (k : J x h (u + d) pc L st) : J x h u pc L st := fun H locs ls a b c => W.widen (Nat.le_add_right _ _) (Nat.le_add_right _ _) (k H locs ls a b c)
theorem J.to {u' : Nat} (hu : u ≤ u') (k : J x h u' pc L st) : J x h u pc L st := fun H locs ls a b c => W.widen hu hu (k H locs ls a b c)
theorem J.ofH {h' : jH} (hh : ∀ (a : Nat) (e : va_E), h' a = some e → h a = some e) (k : J x h' u pc L st) : J x h u pc L st := fun H locs ls a b c => k H locs ls (by obtain ⟨ws, p1, p2, p3⟩ := a; exact ⟨ws, p1, p2, fun a e q => p3 a e (hh a e q)⟩) b c
theorem JX.to {u' : Nat} {rest : List Value} {E : String} (hu : u ≤ u') (k : JX x h u' pc L rest E) : JX x h u pc L rest E := fun H locs ls q ce a b c e1 e2 e3 => vx_widen hu hu (k H locs ls q ce a b c e1 e2 e3)
/-- another name for what is on top -/
theorem j_ev {v v' : Int32} {rest : List Value} (e : v = v') (k : J x h u pc L (.int v' :: rest)) : J x h u pc L (.int v :: rest) := e ▸ k
theorem j_evl {v v' : Int64} {rest : List Value} (e : v = v') (k : J x h u pc L (.long v' :: rest)) : J x h u pc L (.long v :: rest) := e ▸ k
theorem j_evr {v v' : Value} {rest : List Value} (e : v = v') (k : J x h u pc L (v' :: rest)) : J x h u pc L (v :: rest) := e ▸ k
theorem j_top {v : Int32} {rest : List Value} (k : ∀ y : Int32, y = v → J x h u pc L (.int y :: rest)) : J x h u pc L (.int v :: rest) := k v rfl

variable {rest : List Value}
theorem j_iconst (C : jC x cc own d K) {n : Int} {v : Int32} (hd : decode cc pc = .ok (.iconst n, 1)) (hv : Int32.ofInt n = v)
    (k : J x h u (pc + 1) L (.int v :: rest)) : J x h u pc L (rest) := fun H locs ls a b c => lv_iconst C.exec C.bytes hd hv (k H locs ls a b c)
theorem j_bipush (C : jC x cc own d K) {n : Int} {v : Int32} (hd : decode cc pc = .ok (.bipush n, 2)) (hv : (Int8.ofInt n).toInt32 = v)
    (k : J x h u (pc + 2) L (.int v :: rest)) : J x h u pc L (rest) := fun H locs ls a b c => lv_bipush C.exec C.bytes hd hv (k H locs ls a b c)
theorem j_sipush (C : jC x cc own d K) {n : Int} {v : Int32} (hd : decode cc pc = .ok (.sipush n, 3)) (hv : (Int16.ofInt n).toInt32 = v)
    (k : J x h u (pc + 3) L (.int v :: rest)) : J x h u pc L (rest) := fun H locs ls a b c => lv_sipush C.exec C.bytes hd hv (k H locs ls a b c)
theorem j_lconst (C : jC x cc own d K) {n : Fin 2} {v : Int64} (hd : decode cc pc = .ok (.lconst n, 1)) (hv : Int64.ofNat (n : Nat) = v)
    (k : J x h u (pc + 1) L (.long v :: rest)) : J x h u pc L (rest) := fun H locs ls a b c => lv_lconst C.exec C.bytes hd hv (k H locs ls a b c)
theorem j_null (C : jC x cc own d K)  (hd : decode cc pc = .ok (.aconst_null, 1)) 
    (k : J x h u (pc + 1) L (.null :: rest)) : J x h u pc L (rest) := fun H locs ls a b c => lv_null C.exec C.bytes hd (k H locs ls a b c)
theorem j_iadd (C : jC x cc own d K) {a b : Int32} (hd : decode cc pc = .ok (.iadd, 1)) 
    (k : J x h u (pc + 1) L (.int (a + b) :: rest)) : J x h u pc L (.int b :: .int a :: rest) := fun H locs ls a b c => lv_iadd C.exec C.bytes hd (k H locs ls a b c)
theorem j_isub (C : jC x cc own d K) {a b : Int32} (hd : decode cc pc = .ok (.isub, 1)) 
    (k : J x h u (pc + 1) L (.int (a - b) :: rest)) : J x h u pc L (.int b :: .int a :: rest) := fun H locs ls a b c => lv_isub C.exec C.bytes hd (k H locs ls a b c)
theorem j_imul (C : jC x cc own d K) {a b : Int32} (hd : decode cc pc = .ok (.imul, 1)) 
    (k : J x h u (pc + 1) L (.int (a * b) :: rest)) : J x h u pc L (.int b :: .int a :: rest) := fun H locs ls a b c => lv_imul C.exec C.bytes hd (k H locs ls a b c)
theorem j_iand (C : jC x cc own d K) {a b : Int32} (hd : decode cc pc = .ok (.iand, 1)) 
    (k : J x h u (pc + 1) L (.int (a &&& b) :: rest)) : J x h u pc L (.int b :: .int a :: rest) := fun H locs ls a b c => lv_iand C.exec C.bytes hd (k H locs ls a b c)
theorem j_ior (C : jC x cc own d K) {a b : Int32} (hd : decode cc pc = .ok (.ior, 1)) 
    (k : J x h u (pc + 1) L (.int (a ||| b) :: rest)) : J x h u pc L (.int b :: .int a :: rest) := fun H locs ls a b c => lv_ior C.exec C.bytes hd (k H locs ls a b c)
theorem j_ixor (C : jC x cc own d K) {a b : Int32} (hd : decode cc pc = .ok (.ixor, 1)) 
    (k : J x h u (pc + 1) L (.int (a ^^^ b) :: rest)) : J x h u pc L (.int b :: .int a :: rest) := fun H locs ls a b c => lv_ixor C.exec C.bytes hd (k H locs ls a b c)
theorem j_ladd (C : jC x cc own d K) {a b : Int64} (hd : decode cc pc = .ok (.ladd, 1)) 
    (k : J x h u (pc + 1) L (.long (a + b) :: rest)) : J x h u pc L (.long b :: .long a :: rest) := fun H locs ls a b c => lv_ladd C.exec C.bytes hd (k H locs ls a b c)
theorem j_lsub (C : jC x cc own d K) {a b : Int64} (hd : decode cc pc = .ok (.lsub, 1)) 
    (k : J x h u (pc + 1) L (.long (a - b) :: rest)) : J x h u pc L (.long b :: .long a :: rest) := fun H locs ls a b c => lv_lsub C.exec C.bytes hd (k H locs ls a b c)
theorem j_lmul (C : jC x cc own d K) {a b : Int64} (hd : decode cc pc = .ok (.lmul, 1)) 
    (k : J x h u (pc + 1) L (.long (a * b) :: rest)) : J x h u pc L (.long b :: .long a :: rest) := fun H locs ls a b c => lv_lmul C.exec C.bytes hd (k H locs ls a b c)
theorem j_ishl (C : jC x cc own d K) {a b : Int32} (hd : decode cc pc = .ok (.ishl, 1)) 
    (k : J x h u (pc + 1) L (.int (a <<< (b &&& 31)) :: rest)) : J x h u pc L (.int b :: .int a :: rest) := fun H locs ls a b c => lv_ishl C.exec C.bytes hd (k H locs ls a b c)
theorem j_ishr (C : jC x cc own d K) {a b : Int32} (hd : decode cc pc = .ok (.ishr, 1)) 
    (k : J x h u (pc + 1) L (.int (a >>> (b &&& 31)) :: rest)) : J x h u pc L (.int b :: .int a :: rest) := fun H locs ls a b c => lv_ishr C.exec C.bytes hd (k H locs ls a b c)
theorem j_iushr (C : jC x cc own d K) {a b v : Int32} (hd : decode cc pc = .ok (.iushr, 1)) (hv : (a.toUInt32 >>> (b.toUInt32 &&& Int32.toUInt32 31)).toInt32 = v)
    (k : J x h u (pc + 1) L (.int v :: rest)) : J x h u pc L (.int b :: .int a :: rest) := fun H locs ls a b c => lv_iushr C.exec C.bytes hd hv (k H locs ls a b c)
theorem j_irem (C : jC x cc own d K) {a b : Int32} (hd : decode cc pc = .ok (.irem, 1)) (hne : ¬ b = 0)
    (k : J x h u (pc + 1) L (.int (a - a / b * b) :: rest)) : J x h u pc L (.int b :: .int a :: rest) := fun H locs ls a b c => lv_irem C.exec C.bytes hd hne (k H locs ls a b c)
theorem j_idiv (C : jC x cc own d K) {a b : Int32} (hd : decode cc pc = .ok (.idiv, 1)) (hne : ¬ b = 0)
    (k : J x h u (pc + 1) L (.int (a / b) :: rest)) : J x h u pc L (.int b :: .int a :: rest) := fun H locs ls a b c => lv_idiv C.exec C.bytes hd hne (k H locs ls a b c)
theorem j_ineg (C : jC x cc own d K) {a : Int32} (hd : decode cc pc = .ok (.ineg, 1)) 
    (k : J x h u (pc + 1) L (.int (-a) :: rest)) : J x h u pc L (.int a :: rest) := fun H locs ls a b c => lv_ineg C.exec C.bytes hd (k H locs ls a b c)
theorem j_i2l (C : jC x cc own d K) {a : Int32} {v : Int64} (hd : decode cc pc = .ok (.i2l, 1)) (hv : a.toInt64 = v)
    (k : J x h u (pc + 1) L (.long v :: rest)) : J x h u pc L (.int a :: rest) := fun H locs ls a b c => lv_i2l C.exec C.bytes hd hv (k H locs ls a b c)
theorem j_l2i (C : jC x cc own d K) {a : Int64} {v : Int32} (hd : decode cc pc = .ok (.l2i, 1)) (hv : a.toInt32 = v)
    (k : J x h u (pc + 1) L (.int v :: rest)) : J x h u pc L (.long a :: rest) := fun H locs ls a b c => lv_l2i C.exec C.bytes hd hv (k H locs ls a b c)
theorem j_i2b (C : jC x cc own d K) {a v : Int32} (hd : decode cc pc = .ok (.i2b, 1)) (hv : a.toInt8.toInt32 = v)
    (k : J x h u (pc + 1) L (.int v :: rest)) : J x h u pc L (.int a :: rest) := fun H locs ls a b c => lv_i2b C.exec C.bytes hd hv (k H locs ls a b c)
theorem j_i2c (C : jC x cc own d K) {a v : Int32} (hd : decode cc pc = .ok (.i2c, 1)) (hv : (a.toUInt32 % 65536).toInt32 = v)
    (k : J x h u (pc + 1) L (.int v :: rest)) : J x h u pc L (.int a :: rest) := fun H locs ls a b c => lv_i2c C.exec C.bytes hd hv (k H locs ls a b c)
theorem j_dup (C : jC x cc own d K) {va : Value} (hd : decode cc pc = .ok (.dup, 1)) (hva : va.category = 1)
    (k : J x h u (pc + 1) L (va :: va :: rest)) : J x h u pc L (va :: rest) := fun H locs ls a b c => lv_dup C.exec C.bytes hd hva (k H locs ls a b c)
theorem j_pop (C : jC x cc own d K) {va : Value} (hd : decode cc pc = .ok (.pop, 1)) (hva : va.category = 1)
    (k : J x h u (pc + 1) L (rest)) : J x h u pc L (va :: rest) := fun H locs ls a b c => lv_pop C.exec C.bytes hd hva (k H locs ls a b c)
theorem j_dup_x1 (C : jC x cc own d K) {va vb : Value} (hd : decode cc pc = .ok (.dup_x1, 1)) (hva : va.category = 1) (hvb : vb.category = 1)
    (k : J x h u (pc + 1) L (va :: vb :: va :: rest)) : J x h u pc L (va :: vb :: rest) := fun H locs ls a b c => lv_dup_x1 C.exec C.bytes hd hva hvb (k H locs ls a b c)
theorem j_dup2 (C : jC x cc own d K) {va vb : Value} (hd : decode cc pc = .ok (.dup2, 1)) (hva : va.category = 1) (hvb : vb.category = 1)
    (k : J x h u (pc + 1) L (va :: vb :: va :: vb :: rest)) : J x h u pc L (va :: vb :: rest) := fun H locs ls a b c => lv_dup2_11 C.exec C.bytes hd hva hvb (k H locs ls a b c)
theorem j_iload_n (C : jC x cc own d K) {kk : Fin 4} {i : Nat} {v : Int32} (hd : decode cc pc = .ok (.iload_n kk, 1)) (n : Nat) (hi : (kk : Nat) = i) (hl : L[n]? = some (i, .int v))
    (k : J x h u (pc + 1) L (.int v :: rest)) : J x h u pc L rest := fun H locs ls a b c => lv_iload_n C.exec C.bytes hd hi (lv_at c n hl) (k H locs ls a b c)
theorem j_iload (C : jC x cc own d K) {i : Nat} {v : Int32} (hd : decode cc pc = .ok (.iload i, 2)) (n : Nat) (hl : L[n]? = some (i, .int v))
    (k : J x h u (pc + 2) L (.int v :: rest)) : J x h u pc L rest := fun H locs ls a b c => lv_iload C.exec C.bytes hd (lv_at c n hl) (k H locs ls a b c)
theorem j_aload_n (C : jC x cc own d K) {kk : Fin 4} {i : Nat} {v : Nat} (hd : decode cc pc = .ok (.aload_n kk, 1)) (n : Nat) (hi : (kk : Nat) = i) (hl : L[n]? = some (i, .ref v))
    (k : J x h u (pc + 1) L (.ref v :: rest)) : J x h u pc L rest := fun H locs ls a b c => lv_aload_n C.exec C.bytes hd hi (lv_at c n hl) (k H locs ls a b c)
theorem j_aload (C : jC x cc own d K) {i : Nat} {v : Nat} (hd : decode cc pc = .ok (.aload i, 2)) (n : Nat) (hl : L[n]? = some (i, .ref v))
    (k : J x h u (pc + 2) L (.ref v :: rest)) : J x h u pc L rest := fun H locs ls a b c => lv_aload C.exec C.bytes hd (lv_at c n hl) (k H locs ls a b c)
theorem j_lload_n (C : jC x cc own d K) {kk : Fin 4} {i : Nat} {v : Int64} (hd : decode cc pc = .ok (.lload_n kk, 1)) (n : Nat) (hi : (kk : Nat) = i) (hl : L[n]? = some (i, .long v))
    (k : J x h u (pc + 1) L (.long v :: rest)) : J x h u pc L rest := fun H locs ls a b c => lv_lload_n C.exec C.bytes hd hi (lv_at c n hl) (k H locs ls a b c)
theorem j_lload (C : jC x cc own d K) {i : Nat} {v : Int64} (hd : decode cc pc = .ok (.lload i, 2)) (n : Nat) (hl : L[n]? = some (i, .long v))
    (k : J x h u (pc + 2) L (.long v :: rest)) : J x h u pc L rest := fun H locs ls a b c => lv_lload C.exec C.bytes hd (lv_at c n hl) (k H locs ls a b c)
theorem j_nload_n (C : jC x cc own d K) {kk : Fin 4} {i : Nat} (hd : decode cc pc = .ok (.aload_n kk, 1)) (n : Nat) (hi : (kk : Nat) = i) (hl : L[n]? = some (i, .null))
    (k : J x h u (pc + 1) L (.null :: rest)) : J x h u pc L rest := fun H locs ls a b c => lv_aload_nN C.exec C.bytes hd hi (lv_at c n hl) (k H locs ls a b c)
theorem j_nload (C : jC x cc own d K) {i : Nat} (hd : decode cc pc = .ok (.aload i, 2)) (n : Nat) (hl : L[n]? = some (i, .null))
    (k : J x h u (pc + 2) L (.null :: rest)) : J x h u pc L rest := fun H locs ls a b c => lv_aloadN C.exec C.bytes hd (lv_at c n hl) (k H locs ls a b c)
theorem j_istore_n (C : jC x cc own d K) {kk : Fin 4} {i : Nat} {v : Int32} (hd : decode cc pc = .ok (.istore_n kk, 1)) (hi : (kk : Nat) = i) (hn : i < x.nL) (hl : (i, Value.int v) :: L.filter (fun q : Nat × Value => !(q.1 == i) && !(q.1 + 1 == i && q.2.category == 2)) = L')
    (k : J x h u (pc + 1) L' rest) : J x h u pc L (.int v :: rest) := fun H locs ls a b c => lv_istore_n C.exec C.bytes hd hi c hn hl (fun ls' c' => k H locs ls' a b c')
theorem j_istore (C : jC x cc own d K) {i : Nat} {v : Int32} (hd : decode cc pc = .ok (.istore i, 2)) (hn : i < x.nL) (hl : (i, Value.int v) :: L.filter (fun q : Nat × Value => !(q.1 == i) && !(q.1 + 1 == i && q.2.category == 2)) = L')
    (k : J x h u (pc + 2) L' rest) : J x h u pc L (.int v :: rest) := fun H locs ls a b c => lv_istore C.exec C.bytes hd c hn hl (fun ls' c' => k H locs ls' a b c')
theorem j_astore_n (C : jC x cc own d K) {kk : Fin 4} {i : Nat} {v : Nat} (hd : decode cc pc = .ok (.astore_n kk, 1)) (hi : (kk : Nat) = i) (hn : i < x.nL) (hl : (i, Value.ref v) :: L.filter (fun q : Nat × Value => !(q.1 == i) && !(q.1 + 1 == i && q.2.category == 2)) = L')
    (k : J x h u (pc + 1) L' rest) : J x h u pc L (.ref v :: rest) := fun H locs ls a b c => lv_astore_n C.exec C.bytes hd hi c hn hl (fun ls' c' => k H locs ls' a b c')
theorem j_astore (C : jC x cc own d K) {i : Nat} {v : Nat} (hd : decode cc pc = .ok (.astore i, 2)) (hn : i < x.nL) (hl : (i, Value.ref v) :: L.filter (fun q : Nat × Value => !(q.1 == i) && !(q.1 + 1 == i && q.2.category == 2)) = L')
    (k : J x h u (pc + 2) L' rest) : J x h u pc L (.ref v :: rest) := fun H locs ls a b c => lv_astore C.exec C.bytes hd c hn hl (fun ls' c' => k H locs ls' a b c')
theorem j_lstore_n (C : jC x cc own d K) {kk : Fin 4} {i : Nat} {v : Int64} (hd : decode cc pc = .ok (.lstore_n kk, 1)) (hi : (kk : Nat) = i) (hn : i + 1 < x.nL) (hl : (i, Value.long v) :: L.filter (fun q : Nat × Value => !(q.1 == i) && (!(q.1 == i + 1) && !(q.1 + 1 == i && q.2.category == 2))) = L')
    (k : J x h u (pc + 1) L' rest) : J x h u pc L (.long v :: rest) := fun H locs ls a b c => lv_lstore_n C.exec C.bytes hd hi c hn hl (fun ls' c' => k H locs ls' a b c')
theorem j_lstore (C : jC x cc own d K) {i : Nat} {v : Int64} (hd : decode cc pc = .ok (.lstore i, 2)) (hn : i + 1 < x.nL) (hl : (i, Value.long v) :: L.filter (fun q : Nat × Value => !(q.1 == i) && (!(q.1 == i + 1) && !(q.1 + 1 == i && q.2.category == 2))) = L')
    (k : J x h u (pc + 2) L' rest) : J x h u pc L (.long v :: rest) := fun H locs ls a b c => lv_lstore C.exec C.bytes hd c hn hl (fun ls' c' => k H locs ls' a b c')
theorem j_nstore_n (C : jC x cc own d K) {kk : Fin 4} {i : Nat}  (hd : decode cc pc = .ok (.astore_n kk, 1)) (hi : (kk : Nat) = i) (hn : i < x.nL) (hl : (i, Value.null) :: L.filter (fun q : Nat × Value => !(q.1 == i) && !(q.1 + 1 == i && q.2.category == 2)) = L')
    (k : J x h u (pc + 1) L' rest) : J x h u pc L (.null :: rest) := fun H locs ls a b c => lv_astore_nN C.exec C.bytes hd hi c hn hl (fun ls' c' => k H locs ls' a b c')
theorem j_nstore (C : jC x cc own d K) {i : Nat}  (hd : decode cc pc = .ok (.astore i, 2)) (hn : i < x.nL) (hl : (i, Value.null) :: L.filter (fun q : Nat × Value => !(q.1 == i) && !(q.1 + 1 == i && q.2.category == 2)) = L')
    (k : J x h u (pc + 2) L' rest) : J x h u pc L (.null :: rest) := fun H locs ls a b c => lv_astoreN C.exec C.bytes hd c hn hl (fun ls' c' => k H locs ls' a b c')
theorem j_iinc (C : jC x cc own d K) {i : Nat} {n : Int} {v w : Int32} (hd : decode cc pc = .ok (.iinc i n, 3)) (p : Nat) (hk : L[p]? = some (i, .int v)) (hv : v + Int32.ofInt n = w) (hn : i < x.nL) (hl : (i, Value.int w) :: L.filter (fun q : Nat × Value => !(q.1 == i) && !(q.1 + 1 == i && q.2.category == 2)) = L')
    (k : J x h u (pc + 3) L' rest) : J x h u pc L rest := fun H locs ls a b c => lv_iinc C.exec C.bytes hd c hk hv hn hl (fun ls' c' => k H locs ls' a b c')
theorem j_if_eq (C : jC x cc own d K) {v : Int32} {off : Int} {tgt : Nat} (hd : decode cc pc = .ok (.ifCond .eq off, 3)) (ht : (pc : Int) + off = (tgt : Int))
    (kt : v = 0 → J x h u tgt L rest) (kf : ¬ v = 0 → J x h u (pc + 3) L rest) : J x h u pc L (.int v :: rest) := fun H locs ls a b c => lv_if_eq C.exec C.bytes hd ht (fun q => kt q H locs ls a b c) (fun q => kf q H locs ls a b c)
theorem j_if_ne (C : jC x cc own d K) {v : Int32} {off : Int} {tgt : Nat} (hd : decode cc pc = .ok (.ifCond .ne off, 3)) (ht : (pc : Int) + off = (tgt : Int))
    (kt : ¬ v = 0 → J x h u tgt L rest) (kf : v = 0 → J x h u (pc + 3) L rest) : J x h u pc L (.int v :: rest) := fun H locs ls a b c => lv_if_ne C.exec C.bytes hd ht (fun q => kt q H locs ls a b c) (fun q => kf q H locs ls a b c)
theorem j_if_lt (C : jC x cc own d K) {v : Int32} {off : Int} {tgt : Nat} (hd : decode cc pc = .ok (.ifCond .lt off, 3)) (ht : (pc : Int) + off = (tgt : Int))
    (kt : v < 0 → J x h u tgt L rest) (kf : ¬ v < 0 → J x h u (pc + 3) L rest) : J x h u pc L (.int v :: rest) := fun H locs ls a b c => lv_if_lt C.exec C.bytes hd ht (fun q => kt q H locs ls a b c) (fun q => kf q H locs ls a b c)
theorem j_if_ge (C : jC x cc own d K) {v : Int32} {off : Int} {tgt : Nat} (hd : decode cc pc = .ok (.ifCond .ge off, 3)) (ht : (pc : Int) + off = (tgt : Int))
    (kt : 0 ≤ v → J x h u tgt L rest) (kf : ¬ 0 ≤ v → J x h u (pc + 3) L rest) : J x h u pc L (.int v :: rest) := fun H locs ls a b c => lv_if_ge C.exec C.bytes hd ht (fun q => kt q H locs ls a b c) (fun q => kf q H locs ls a b c)
theorem j_if_gt (C : jC x cc own d K) {v : Int32} {off : Int} {tgt : Nat} (hd : decode cc pc = .ok (.ifCond .gt off, 3)) (ht : (pc : Int) + off = (tgt : Int))
    (kt : 0 < v → J x h u tgt L rest) (kf : ¬ 0 < v → J x h u (pc + 3) L rest) : J x h u pc L (.int v :: rest) := fun H locs ls a b c => lv_if_gt C.exec C.bytes hd ht (fun q => kt q H locs ls a b c) (fun q => kf q H locs ls a b c)
theorem j_if_le (C : jC x cc own d K) {v : Int32} {off : Int} {tgt : Nat} (hd : decode cc pc = .ok (.ifCond .le off, 3)) (ht : (pc : Int) + off = (tgt : Int))
    (kt : v ≤ 0 → J x h u tgt L rest) (kf : ¬ v ≤ 0 → J x h u (pc + 3) L rest) : J x h u pc L (.int v :: rest) := fun H locs ls a b c => lv_if_le C.exec C.bytes hd ht (fun q => kt q H locs ls a b c) (fun q => kf q H locs ls a b c)
theorem j_ic_eq (C : jC x cc own d K) {v w : Int32} {off : Int} {tgt : Nat} (hd : decode cc pc = .ok (.if_icmp .eq off, 3)) (ht : (pc : Int) + off = (tgt : Int))
    (kt : v = w → J x h u tgt L rest) (kf : ¬ v = w → J x h u (pc + 3) L rest) : J x h u pc L (.int w :: .int v :: rest) := fun H locs ls a b c => lv_icmp_eq C.exec C.bytes hd ht (fun q => kt q H locs ls a b c) (fun q => kf q H locs ls a b c)
theorem j_ic_ne (C : jC x cc own d K) {v w : Int32} {off : Int} {tgt : Nat} (hd : decode cc pc = .ok (.if_icmp .ne off, 3)) (ht : (pc : Int) + off = (tgt : Int))
    (kt : ¬ v = w → J x h u tgt L rest) (kf : v = w → J x h u (pc + 3) L rest) : J x h u pc L (.int w :: .int v :: rest) := fun H locs ls a b c => lv_icmp_ne C.exec C.bytes hd ht (fun q => kt q H locs ls a b c) (fun q => kf q H locs ls a b c)
theorem j_ic_lt (C : jC x cc own d K) {v w : Int32} {off : Int} {tgt : Nat} (hd : decode cc pc = .ok (.if_icmp .lt off, 3)) (ht : (pc : Int) + off = (tgt : Int))
    (kt : v < w → J x h u tgt L rest) (kf : ¬ v < w → J x h u (pc + 3) L rest) : J x h u pc L (.int w :: .int v :: rest) := fun H locs ls a b c => lv_icmp_lt C.exec C.bytes hd ht (fun q => kt q H locs ls a b c) (fun q => kf q H locs ls a b c)
theorem j_ic_ge (C : jC x cc own d K) {v w : Int32} {off : Int} {tgt : Nat} (hd : decode cc pc = .ok (.if_icmp .ge off, 3)) (ht : (pc : Int) + off = (tgt : Int))
    (kt : w ≤ v → J x h u tgt L rest) (kf : ¬ w ≤ v → J x h u (pc + 3) L rest) : J x h u pc L (.int w :: .int v :: rest) := fun H locs ls a b c => lv_icmp_ge C.exec C.bytes hd ht (fun q => kt q H locs ls a b c) (fun q => kf q H locs ls a b c)
theorem j_ic_gt (C : jC x cc own d K) {v w : Int32} {off : Int} {tgt : Nat} (hd : decode cc pc = .ok (.if_icmp .gt off, 3)) (ht : (pc : Int) + off = (tgt : Int))
    (kt : w < v → J x h u tgt L rest) (kf : ¬ w < v → J x h u (pc + 3) L rest) : J x h u pc L (.int w :: .int v :: rest) := fun H locs ls a b c => lv_icmp_gt C.exec C.bytes hd ht (fun q => kt q H locs ls a b c) (fun q => kf q H locs ls a b c)
theorem j_ic_le (C : jC x cc own d K) {v w : Int32} {off : Int} {tgt : Nat} (hd : decode cc pc = .ok (.if_icmp .le off, 3)) (ht : (pc : Int) + off = (tgt : Int))
    (kt : v ≤ w → J x h u tgt L rest) (kf : ¬ v ≤ w → J x h u (pc + 3) L rest) : J x h u pc L (.int w :: .int v :: rest) := fun H locs ls a b c => lv_icmp_le C.exec C.bytes hd ht (fun q => kt q H locs ls a b c) (fun q => kf q H locs ls a b c)
theorem j_ifn_eq (C : jC x cc own d K) {a : Nat} (ha : a < 2 ^ 31) {off : Int} {tgt : Nat} (hd : decode cc pc = .ok (.ifCond .eq off, 3)) (ht : (pc : Int) + off = (tgt : Int))
    (kt : a = 0 → J x h u tgt L rest) (kf : a ≠ 0 → J x h u (pc + 3) L rest) : J x h u pc L (.int (nI a) :: rest) := by
  have e0 : nI a = 0 ↔ a = 0 := by rw [← nI_0]; exact nI_eq ha (by decide)
  have e1 : 0 < nI a ↔ 0 < a := by rw [← nI_0]; exact nI_ltI (by decide) ha
  have e2 : nI a ≤ 0 ↔ a ≤ 0 := by rw [← nI_0]; exact nI_leI ha (by decide)
  exact j_if_eq C hd ht (fun q => kt (by first | exact e0.mp q | exact fun z => q (e0.mpr z) | exact e1.mp q | (have := e2.mp q; omega))) (fun q => kf (by first | exact fun z => q (e0.mpr z) | exact e0.mp q | (have := mt e1.mpr q; omega) | (have := mt e2.mpr q; omega)))
theorem j_ifn_ne (C : jC x cc own d K) {a : Nat} (ha : a < 2 ^ 31) {off : Int} {tgt : Nat} (hd : decode cc pc = .ok (.ifCond .ne off, 3)) (ht : (pc : Int) + off = (tgt : Int))
    (kt : a ≠ 0 → J x h u tgt L rest) (kf : a = 0 → J x h u (pc + 3) L rest) : J x h u pc L (.int (nI a) :: rest) := by
  have e0 : nI a = 0 ↔ a = 0 := by rw [← nI_0]; exact nI_eq ha (by decide)
  have e1 : 0 < nI a ↔ 0 < a := by rw [← nI_0]; exact nI_ltI (by decide) ha
  have e2 : nI a ≤ 0 ↔ a ≤ 0 := by rw [← nI_0]; exact nI_leI ha (by decide)
  exact j_if_ne C hd ht (fun q => kt (by first | exact e0.mp q | exact fun z => q (e0.mpr z) | exact e1.mp q | (have := e2.mp q; omega))) (fun q => kf (by first | exact fun z => q (e0.mpr z) | exact e0.mp q | (have := mt e1.mpr q; omega) | (have := mt e2.mpr q; omega)))
theorem j_ifn_gt (C : jC x cc own d K) {a : Nat} (ha : a < 2 ^ 31) {off : Int} {tgt : Nat} (hd : decode cc pc = .ok (.ifCond .gt off, 3)) (ht : (pc : Int) + off = (tgt : Int))
    (kt : 0 < a → J x h u tgt L rest) (kf : a = 0 → J x h u (pc + 3) L rest) : J x h u pc L (.int (nI a) :: rest) := by
  have e0 : nI a = 0 ↔ a = 0 := by rw [← nI_0]; exact nI_eq ha (by decide)
  have e1 : 0 < nI a ↔ 0 < a := by rw [← nI_0]; exact nI_ltI (by decide) ha
  have e2 : nI a ≤ 0 ↔ a ≤ 0 := by rw [← nI_0]; exact nI_leI ha (by decide)
  exact j_if_gt C hd ht (fun q => kt (by first | exact e0.mp q | exact fun z => q (e0.mpr z) | exact e1.mp q | (have := e2.mp q; omega))) (fun q => kf (by first | exact fun z => q (e0.mpr z) | exact e0.mp q | (have := mt e1.mpr q; omega) | (have := mt e2.mpr q; omega)))
theorem j_ifn_le (C : jC x cc own d K) {a : Nat} (ha : a < 2 ^ 31) {off : Int} {tgt : Nat} (hd : decode cc pc = .ok (.ifCond .le off, 3)) (ht : (pc : Int) + off = (tgt : Int))
    (kt : a = 0 → J x h u tgt L rest) (kf : 0 < a → J x h u (pc + 3) L rest) : J x h u pc L (.int (nI a) :: rest) := by
  have e0 : nI a = 0 ↔ a = 0 := by rw [← nI_0]; exact nI_eq ha (by decide)
  have e1 : 0 < nI a ↔ 0 < a := by rw [← nI_0]; exact nI_ltI (by decide) ha
  have e2 : nI a ≤ 0 ↔ a ≤ 0 := by rw [← nI_0]; exact nI_leI ha (by decide)
  exact j_if_le C hd ht (fun q => kt (by first | exact e0.mp q | exact fun z => q (e0.mpr z) | exact e1.mp q | (have := e2.mp q; omega))) (fun q => kf (by first | exact fun z => q (e0.mpr z) | exact e0.mp q | (have := mt e1.mpr q; omega) | (have := mt e2.mpr q; omega)))
theorem j_ifn_lt (C : jC x cc own d K) {a : Nat} (ha : a < 2 ^ 31) {off : Int} {tgt : Nat} (hd : decode cc pc = .ok (.ifCond .lt off, 3)) (ht : (pc : Int) + off = (tgt : Int)) (kf : J x h u (pc + 3) L rest) : J x h u pc L (.int (nI a) :: rest) := j_if_lt C hd ht (fun q => absurd q (nI_pos ha)) (fun _ => kf)
theorem j_ifn_ge (C : jC x cc own d K) {a : Nat} (ha : a < 2 ^ 31) {off : Int} {tgt : Nat} (hd : decode cc pc = .ok (.ifCond .ge off, 3)) (ht : (pc : Int) + off = (tgt : Int)) (kt : J x h u tgt L rest) : J x h u pc L (.int (nI a) :: rest) := j_if_ge C hd ht (fun _ => kt) (fun q => absurd (nI_pos' ha) q)
theorem j_icn_eq (C : jC x cc own d K) {a b : Nat} (ha : a < 2 ^ 31) (hb : b < 2 ^ 31) {off : Int} {tgt : Nat} (hd : decode cc pc = .ok (.if_icmp .eq off, 3)) (ht : (pc : Int) + off = (tgt : Int))
    (kt : a = b → J x h u tgt L rest) (kf : a ≠ b → J x h u (pc + 3) L rest) : J x h u pc L (.int (nI b) :: .int (nI a) :: rest) := by
  have e0 := nI_eq ha hb
  have e1 := nI_ltI ha hb
  have e2 := nI_leI ha hb
  have e3 := nI_ltI hb ha
  have e4 := nI_leI hb ha
  exact j_ic_eq C hd ht (fun q => kt (by first | exact e0.mp q | exact fun z => q (e0.mpr z) | exact e1.mp q | exact e2.mp q | exact e3.mp q | exact e4.mp q)) (fun q => kf (by first | exact fun z => q (e0.mpr z) | exact e0.mp q | (have := mt e1.mpr q; omega) | (have := mt e2.mpr q; omega) | (have := mt e3.mpr q; omega) | (have := mt e4.mpr q; omega)))
theorem j_icn_ne (C : jC x cc own d K) {a b : Nat} (ha : a < 2 ^ 31) (hb : b < 2 ^ 31) {off : Int} {tgt : Nat} (hd : decode cc pc = .ok (.if_icmp .ne off, 3)) (ht : (pc : Int) + off = (tgt : Int))
    (kt : a ≠ b → J x h u tgt L rest) (kf : a = b → J x h u (pc + 3) L rest) : J x h u pc L (.int (nI b) :: .int (nI a) :: rest) := by
  have e0 := nI_eq ha hb
  have e1 := nI_ltI ha hb
  have e2 := nI_leI ha hb
  have e3 := nI_ltI hb ha
  have e4 := nI_leI hb ha
  exact j_ic_ne C hd ht (fun q => kt (by first | exact e0.mp q | exact fun z => q (e0.mpr z) | exact e1.mp q | exact e2.mp q | exact e3.mp q | exact e4.mp q)) (fun q => kf (by first | exact fun z => q (e0.mpr z) | exact e0.mp q | (have := mt e1.mpr q; omega) | (have := mt e2.mpr q; omega) | (have := mt e3.mpr q; omega) | (have := mt e4.mpr q; omega)))
theorem j_icn_lt (C : jC x cc own d K) {a b : Nat} (ha : a < 2 ^ 31) (hb : b < 2 ^ 31) {off : Int} {tgt : Nat} (hd : decode cc pc = .ok (.if_icmp .lt off, 3)) (ht : (pc : Int) + off = (tgt : Int))
    (kt : a < b → J x h u tgt L rest) (kf : b ≤ a → J x h u (pc + 3) L rest) : J x h u pc L (.int (nI b) :: .int (nI a) :: rest) := by
  have e0 := nI_eq ha hb
  have e1 := nI_ltI ha hb
  have e2 := nI_leI ha hb
  have e3 := nI_ltI hb ha
  have e4 := nI_leI hb ha
  exact j_ic_lt C hd ht (fun q => kt (by first | exact e0.mp q | exact fun z => q (e0.mpr z) | exact e1.mp q | exact e2.mp q | exact e3.mp q | exact e4.mp q)) (fun q => kf (by first | exact fun z => q (e0.mpr z) | exact e0.mp q | (have := mt e1.mpr q; omega) | (have := mt e2.mpr q; omega) | (have := mt e3.mpr q; omega) | (have := mt e4.mpr q; omega)))
theorem j_icn_ge (C : jC x cc own d K) {a b : Nat} (ha : a < 2 ^ 31) (hb : b < 2 ^ 31) {off : Int} {tgt : Nat} (hd : decode cc pc = .ok (.if_icmp .ge off, 3)) (ht : (pc : Int) + off = (tgt : Int))
    (kt : b ≤ a → J x h u tgt L rest) (kf : a < b → J x h u (pc + 3) L rest) : J x h u pc L (.int (nI b) :: .int (nI a) :: rest) := by
  have e0 := nI_eq ha hb
  have e1 := nI_ltI ha hb
  have e2 := nI_leI ha hb
  have e3 := nI_ltI hb ha
  have e4 := nI_leI hb ha
  exact j_ic_ge C hd ht (fun q => kt (by first | exact e0.mp q | exact fun z => q (e0.mpr z) | exact e1.mp q | exact e2.mp q | exact e3.mp q | exact e4.mp q)) (fun q => kf (by first | exact fun z => q (e0.mpr z) | exact e0.mp q | (have := mt e1.mpr q; omega) | (have := mt e2.mpr q; omega) | (have := mt e3.mpr q; omega) | (have := mt e4.mpr q; omega)))
theorem j_icn_gt (C : jC x cc own d K) {a b : Nat} (ha : a < 2 ^ 31) (hb : b < 2 ^ 31) {off : Int} {tgt : Nat} (hd : decode cc pc = .ok (.if_icmp .gt off, 3)) (ht : (pc : Int) + off = (tgt : Int))
    (kt : b < a → J x h u tgt L rest) (kf : a ≤ b → J x h u (pc + 3) L rest) : J x h u pc L (.int (nI b) :: .int (nI a) :: rest) := by
  have e0 := nI_eq ha hb
  have e1 := nI_ltI ha hb
  have e2 := nI_leI ha hb
  have e3 := nI_ltI hb ha
  have e4 := nI_leI hb ha
  exact j_ic_gt C hd ht (fun q => kt (by first | exact e0.mp q | exact fun z => q (e0.mpr z) | exact e1.mp q | exact e2.mp q | exact e3.mp q | exact e4.mp q)) (fun q => kf (by first | exact fun z => q (e0.mpr z) | exact e0.mp q | (have := mt e1.mpr q; omega) | (have := mt e2.mpr q; omega) | (have := mt e3.mpr q; omega) | (have := mt e4.mpr q; omega)))
theorem j_icn_le (C : jC x cc own d K) {a b : Nat} (ha : a < 2 ^ 31) (hb : b < 2 ^ 31) {off : Int} {tgt : Nat} (hd : decode cc pc = .ok (.if_icmp .le off, 3)) (ht : (pc : Int) + off = (tgt : Int))
    (kt : a ≤ b → J x h u tgt L rest) (kf : b < a → J x h u (pc + 3) L rest) : J x h u pc L (.int (nI b) :: .int (nI a) :: rest) := by
  have e0 := nI_eq ha hb
  have e1 := nI_ltI ha hb
  have e2 := nI_leI ha hb
  have e3 := nI_ltI hb ha
  have e4 := nI_leI hb ha
  exact j_ic_le C hd ht (fun q => kt (by first | exact e0.mp q | exact fun z => q (e0.mpr z) | exact e1.mp q | exact e2.mp q | exact e3.mp q | exact e4.mp q)) (fun q => kf (by first | exact fun z => q (e0.mpr z) | exact e0.mp q | (have := mt e1.mpr q; omega) | (have := mt e2.mpr q; omega) | (have := mt e3.mpr q; omega) | (have := mt e4.mpr q; omega)))
/-- a truth as an int -/
noncomputable def pI (p : Prop) : Int32 := @ite Int32 p (Classical.propDecidable p) 1 0
theorem pI_t {p : Prop} (hp : p) : pI p = 1 := by unfold pI; rw [if_pos hp]
theorem pI_f {p : Prop} (hp : ¬ p) : pI p = 0 := by unfold pI; rw [if_neg hp]
theorem pI_0 {p : Prop} : pI p = 0 ↔ ¬ p := by
  by_cases hp : p
  · rw [pI_t hp]; exact ⟨fun q => absurd q (by decide), fun q => absurd hp q⟩
  · rw [pI_f hp]; exact ⟨fun _ => hp, fun _ => rfl⟩
theorem pI_c {p q : Prop} (e : p ↔ q) : pI p = pI q := by
  have : p = q := propext e
  rw [this]
theorem j_ifp_eq (C : jC x cc own d K) {p : Prop} {off : Int} {tgt : Nat} (hd : decode cc pc = .ok (.ifCond .eq off, 3)) (ht : (pc : Int) + off = (tgt : Int))
    (kt : ¬ p → J x h u tgt L rest) (kf : p → J x h u (pc + 3) L rest) : J x h u pc L (.int (pI p) :: rest) := j_if_eq C hd ht (fun q => kt (pI_0.mp q)) (fun q => kf (Classical.not_not.mp (fun z => q (pI_0.mpr z))))
theorem j_ifp_ne (C : jC x cc own d K) {p : Prop} {off : Int} {tgt : Nat} (hd : decode cc pc = .ok (.ifCond .ne off, 3)) (ht : (pc : Int) + off = (tgt : Int))
    (kt : p → J x h u tgt L rest) (kf : ¬ p → J x h u (pc + 3) L rest) : J x h u pc L (.int (pI p) :: rest) := j_if_ne C hd ht (fun q => kt (Classical.not_not.mp (fun z => q (pI_0.mpr z)))) (fun q => kf (pI_0.mp q))
theorem j_iaddn (C : jC x cc own d K) {a b : Nat} (hd : decode cc pc = .ok (.iadd, 1)) (k : J x h u (pc + 1) L (.int (nI (a + b)) :: rest)) : J x h u pc L (.int (nI b) :: .int (nI a) :: rest) := j_iadd C hd (j_ev (nI_add a b) k)
theorem j_isubn (C : jC x cc own d K) {a b : Nat} (hba : b ≤ a) (hd : decode cc pc = .ok (.isub, 1)) (k : J x h u (pc + 1) L (.int (nI (a - b)) :: rest)) : J x h u pc L (.int (nI b) :: .int (nI a) :: rest) := j_isub C hd (j_ev (pk_sub hba) k)
theorem j_imuln (C : jC x cc own d K) {a b : Nat} (hd : decode cc pc = .ok (.imul, 1)) (k : J x h u (pc + 1) L (.int (nI (a * b)) :: rest)) : J x h u pc L (.int (nI b) :: .int (nI a) :: rest) := j_imul C hd (j_ev (pk_mul a b) k)
theorem j_lcmp (C : jC x cc own d K) {v w : Int64} (hd : decode cc pc = .ok (.lcmp, 1)) (k : J x h u (pc + 1) L (.int (lg_cmp v w) :: rest)) : J x h u pc L (.long w :: .long v :: rest) := fun H locs ls a b c => W.lcmp C.exec C.bytes hd (k H locs ls a b c)
theorem j_ac_eq (C : jC x cc own d K) {v w : Option Nat} {off : Int} {tgt : Nat} (hd : decode cc pc = .ok (.if_acmp .eq off, 3)) (ht : (pc : Int) + off = (tgt : Int))
    (kt : v = w → J x h u tgt L rest) (kf : ¬ v = w → J x h u (pc + 3) L rest) : J x h u pc L (va_rf w :: va_rf v :: rest) := fun H locs ls a b c => lv_acmp_eq C.exec C.bytes hd ht (fun q => kt q H locs ls a b c) (fun q => kf q H locs ls a b c)
theorem j_ac_ne (C : jC x cc own d K) {v w : Option Nat} {off : Int} {tgt : Nat} (hd : decode cc pc = .ok (.if_acmp .ne off, 3)) (ht : (pc : Int) + off = (tgt : Int))
    (kt : ¬ v = w → J x h u tgt L rest) (kf : v = w → J x h u (pc + 3) L rest) : J x h u pc L (va_rf w :: va_rf v :: rest) := fun H locs ls a b c => lv_acmp_ne C.exec C.bytes hd ht (fun q => kt q H locs ls a b c) (fun q => kf q H locs ls a b c)
theorem j_tableIn (C : jC x cc own d K) {dflt lo hi : Int} {offs : Array Int} {len : Nat} {v : Int32} {off : Int} {tgt : Nat} (hd : decode cc pc = .ok (.tableswitch dflt lo hi offs, len)) (h1 : ¬ v.toInt < lo) (h2 : ¬ hi < v.toInt) (ho : offs[(v.toInt - lo).toNat]? = some off) (ht : (pc : Int) + off = (tgt : Int))
    (k : J x h u tgt L rest) : J x h u pc L (.int v :: rest) := fun H locs ls a b c => lv_tableIn C.exec C.bytes hd h1 h2 ho ht (k H locs ls a b c)
theorem j_tableOut (C : jC x cc own d K) {dflt lo hi : Int} {offs : Array Int} {len : Nat} {v : Int32} {tgt : Nat} (hd : decode cc pc = .ok (.tableswitch dflt lo hi offs, len)) (h1 : v.toInt < lo ∨ hi < v.toInt) (ht : (pc : Int) + dflt = (tgt : Int))
    (k : J x h u tgt L rest) : J x h u pc L (.int v :: rest) := fun H locs ls a b c => lv_tableOut C.exec C.bytes hd h1 ht (k H locs ls a b c)
theorem j_lookup (C : jC x cc own d K) {dflt : Int} {ps : Array (Int × Int)} {len : Nat} {v : Int32} {off : Int} {tgt : Nat} (hd : decode cc pc = .ok (.lookupswitch dflt ps, len)) (hp : (ps.toList.zip (ps.toList.drop 1)).all (fun (a, next) => a.1 < next.1) = true) (ho : Op.lookupswitch.offset ps.toList dflt v.toInt = off) (ht : (pc : Int) + off = (tgt : Int))
    (k : J x h u tgt L rest) : J x h u pc L (.int v :: rest) := fun H locs ls a b c => lv_lookup C.exec C.bytes hd hp ho ht (k H locs ls a b c)
theorem j_ldc (C : jC x cc own d K) {index : Nat} {v : Int32} (q : Cond.constant own index v ∈ lw_all) (hd : decode cc pc = .ok (.ldc index, 2)) (k : J x h u (pc + 2) L (.int v :: rest)) : J x h u pc L rest := fun H locs ls a b c => lv_ldc C.exec C.bytes C.ow (C.ts _ q) hd (k H locs ls a b c)
theorem j_goto (C : jC x cc own d K) {off : Int} {tgt : Nat} (hd : decode cc pc = .ok (.goto off, 3)) (ht : (pc : Int) + off = (tgt : Int)) (k : J x h u tgt L st) : J x h u pc L st := fun H locs ls a b c => lv_goto C.exec C.bytes hd ht (k H locs ls a b c)
theorem j_ifnull (C : jC x cc own d K) {v : Nat} {off : Int} (hd : decode cc pc = .ok (.ifnull off, 3)) (k : J x h u (pc + 3) L rest) : J x h u pc L (.ref v :: rest) := fun H locs ls a b c => lv_ifnull C.exec C.bytes hd (k H locs ls a b c)
theorem j_ifnullN (C : jC x cc own d K) {off : Int} {tgt : Nat} (hd : decode cc pc = .ok (.ifnull off, 3)) (ht : (pc : Int) + off = (tgt : Int)) (k : J x h u tgt L rest) : J x h u pc L (.null :: rest) := fun H locs ls a b c => lv_ifnullN C.exec C.bytes hd ht (k H locs ls a b c)
theorem j_ifnonnull (C : jC x cc own d K) {v : Nat} {off : Int} {tgt : Nat} (hd : decode cc pc = .ok (.ifnonnull off, 3)) (ht : (pc : Int) + off = (tgt : Int)) (k : J x h u tgt L rest) : J x h u pc L (.ref v :: rest) := fun H locs ls a b c => lv_ifnonnull C.exec C.bytes hd ht (k H locs ls a b c)
theorem j_ifnonnullN (C : jC x cc own d K) {off : Int} (hd : decode cc pc = .ok (.ifnonnull off, 3)) (k : J x h u (pc + 3) L rest) : J x h u pc L (.null :: rest) := fun H locs ls a b c => lv_ifnonnullN C.exec C.bytes hd (k H locs ls a b c)
end JB
