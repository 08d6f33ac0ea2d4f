set_option maxRecDepth 100000
/-! ===== J: entry, returns, exceptions, the other calls ===== -/
/-- how the method is to end -/
def jE (x : jX) (ret : Option FieldType) (Po : jR → jH → Prop) (k : Nat) : Prop := x.meth.sig.returnType = ret ∧ x.Z = vx_MQ x.below (jN x.g Po) (jXc x.g Po) x.args x.s k k (jA x.g)
/-- .. a method with handlers -/
theorem CT.of {g : jG} {d k : Nat} {y : MethodName} {as : List Value} {h : jH} {Po : jR → jH → Prop} {bytes : ByteArray} {maxL : Nat} {ret : Option FieldType} (G : jOK g) (hcode : Cond.code y bytes maxL ret ∈ lw_all) (hm : maxL ≤ 45) (hp : plainName y.cls = true) (hlen : (lg_sl as).length ≤ maxL)
    (body : ∀ z, jC (g, z) bytes y.cls d k → jE (g, z) ret Po k → (∀ w ∈ jX.c (g, z) |>.exceptionTable.toList, False) → (jX.meth (g, z)).name = y.name → jX.nL (g, z) = maxL → J (g, z) h 0 0 (lv_args 0 as) []) : CT g d k y as h Po := by
  refine ⟨bytes, maxL, ret, hcode, hm, fun l hl => ?_⟩
  refine vx_ofW (cc := bytes) (maxL := maxL) (ret := ret) hp rfl ?_
  intro p e s m args below meth c s₁ B hml hex hv
  obtain ⟨rfl, hR, hSt⟩ := hv
  have hts := atoms_spec (ws := ws_ y bytes maxL ret) B.pre
  have hown : s.vm.findClass y.cls = some m.cls := findClass_of_methodNamed B.named
  rw [lg_entry_eq]
  exact body (p, l, e, jRoom d k, s, m, as.toArray, below, meth, c, maxL, vx_MQ below (jN g Po) (jXc g Po) as.toArray s k k (jA g))
    ⟨B.exec, B.bytes, hml, hown, fun w hw => hts w (List.mem_cons_of_mem _ hw), B.notSynchronized, G, hSt, hl, Nat.le_refl _, Nat.le_refl _, Nat.le_refl _, Nat.le_refl _⟩ ⟨B.returns, rfl⟩ hex (name_of_methodNamed B.named B.method).1 rfl
    s.heap [] _ hR va_S.rf (lv_entry as hlen)
theorem CTI.of {g : jG} {d k : Nat} {y : MethodName} {as : List Value} {h : jH} {Po : jR → jH → Prop} {bytes : ByteArray} {maxL : Nat} (G : jOK g) (hcode : Cond.code y bytes maxL none ∈ lw_all) (hm : maxL ≤ 45) (hp : plainName y.cls = true) (hlen : (lg_sl as).length ≤ maxL)
    (body : ∀ z, jC (g, z) bytes y.cls d k → jE (g, z) none Po k → (∀ w ∈ jX.c (g, z) |>.exceptionTable.toList, False) → (jX.meth (g, z)).name = y.name → jX.nL (g, z) = maxL → J (g, z) h 0 0 (lv_args 0 as) []) : CTI g d k y as h Po := by
  refine ⟨bytes, maxL, hcode, hm, fun l hl => ?_⟩
  refine vx_ofW (cc := bytes) (maxL := maxL) (ret := none) hp rfl ?_
  intro p e s m args below meth c s₁ B hml hex hv
  obtain ⟨rfl, hR, hSt⟩ := hv
  have hts := atoms_spec (ws := ws_ y bytes maxL none) B.pre
  have hown : s.vm.findClass y.cls = some m.cls := findClass_of_methodNamed B.named
  rw [lg_entry_eq]
  exact body (p, l, e, jRoom d k, s, m, as.toArray, below, meth, c, maxL, vx_MQ below (jN g Po) (jXc g Po) as.toArray s k k (jA g))
    ⟨B.exec, B.bytes, hml, hown, fun w hw => hts w (List.mem_cons_of_mem _ hw), B.notSynchronized, G, hSt, hl, Nat.le_refl _, Nat.le_refl _, Nat.le_refl _, Nat.le_refl _⟩ ⟨B.returns, rfl⟩ hex (name_of_methodNamed B.named B.method).1 rfl
    s.heap [] _ hR va_S.rf (lv_entry as hlen)
section JE
variable {x : jX} {cc : ByteArray} {own : String} {d K : Nat} {h : jH} {u pc : Nat} {L L' : List (Nat × Value)} {st rest : List Value}
theorem j_vret (C : jC x cc own d K) {Po : jR → jH → Prop} {k : Nat} (E : jE x none Po k) (hu : u ≤ k) (hp : Po (.inl none) h) (hd : decode cc pc = .ok (.return_, 1)) : J x h u pc L [] := by
  intro H locs ls hR hS hl
  obtain ⟨hr, hZ⟩ := E
  show W x.p x.l x.e x.R x.s x.m x.args x.below x.meth x.c H locs u u x.Z _
  rw [hZ]
  exact W.widen hu hu (vx_ret (W.vret C.exec C.bytes hr (fun t ht hW => ⟨⟨none, h, rfl, hp, by rw [ht]; exact hR⟩, hS.F ht⟩) hS.2.2 hd C.locks))
theorem j_iret (C : jC x cc own d K) {Po : jR → jH → Prop} {k : Nat} {ty : FieldType} {v : Int32} (E : jE x (some ty) Po k) (hn : narrow ty (.int v) = .int v) (hu : u ≤ k) (hp : Po (.inl (some (.int v))) h) (hd : decode cc pc = .ok (.ireturn, 1)) : J x h u pc L [.int v] := by
  intro H locs ls hR hS hl
  obtain ⟨hr, hZ⟩ := E
  show W x.p x.l x.e x.R x.s x.m x.args x.below x.meth x.c H locs u u x.Z _
  rw [hZ]
  exact W.widen hu hu (vx_ret (W.zret C.exec C.bytes hr hn (fun t ht hW => ⟨⟨_, h, rfl, hp, by rw [ht]; exact hR⟩, hS.F ht⟩) hS.2.2 hd C.locks))
theorem j_aret (C : jC x cc own d K) {Po : jR → jH → Prop} {k : Nat} {ty : FieldType} {v : Value} (E : jE x (some ty) Po k) (hty : (∃ n, ty = .object n) ∨ ∃ t, ty = .array t) (hv : v = .null ∨ ∃ a, v = .ref a) (hu : u ≤ k) (hp : Po (.inl (some v)) h) (hd : decode cc pc = .ok (.areturn, 1)) : J x h u pc L [v] := by
  intro H locs ls hR hS hl
  obtain ⟨hr, hZ⟩ := E
  show W x.p x.l x.e x.R x.s x.m x.args x.below x.meth x.c H locs u u x.Z _
  rw [hZ]
  exact W.widen hu hu (vx_ret (W.aret C.exec C.bytes hr hty hv (fun t ht hW => ⟨⟨_, h, rfl, hp, by rw [ht]; exact hR⟩, hS.F ht⟩) hS.2.2 hd C.locks))
theorem narrow_z0 : narrow .boolean (.int (nI 0)) = .int (nI 0) := by decide
theorem narrow_z1 : narrow .boolean (.int (nI 1)) = .int (nI 1) := by decide
theorem narrow_zp {p : Prop} : narrow .boolean (.int (pI p)) = .int (pI p) := by
  by_cases hp : p
  · rw [pI_t hp]; decide
  · rw [pI_f hp]; decide
theorem fits_zp {p : Prop} : fits .boolean (.int (pI p)) = true := by
  by_cases hp : p
  · rw [pI_t hp]; decide
  · rw [pI_f hp]; decide
/-- words that go along with the machine -/
def jmv (w : Cond) : Bool := goodWord w || (match w with
  | .castable _ _ => true
  | .declares _ => true
  | _ => false)
theorem jC.mv (C : jC x cc own d K) {w : Cond} (hw : w ∈ lw_tbl) (hm : jmv w = true) : w.before x.args x.s = true := by
  by_cases g : goodWord w = true
  · exact C.ts w (List.mem_filter.mpr ⟨hw, g⟩)
  · have hb := C.ok.2.1 w hw
    cases w with
    | castable a b => exact va_Nw.use rfl (C.nwC hw)
    | declares y => exact va_Nw.use rfl (va_Nw.warmD C.sts.1 (va_Nw.of rfl hb))
    | _ =>
      exfalso
      simp only [jmv, Bool.or_false, Bool.or_eq_true] at hm
      first | exact g hm | exact g (by simpa using hm)
/-- a list of words, by their places -/
theorem jC.mvs (C : jC x cc own d K) (ws : List Cond) (ps : List Nat) (hp : ws = ps.filterMap (fun i => lw_tbl[i]?)) (hg : ws.all jmv = true) : ∀ w ∈ ws, w.before x.args x.s = true := by
  intro w h
  have h1 := List.all_eq_true.mp hg w h
  rw [hp] at h
  obtain ⟨i, -, hi⟩ := List.mem_filterMap.mp h
  exact C.mv (List.mem_of_getElem? hi) h1
theorem jzq_U {g : jG} (G : jOK g) : vx_Zq Bundle.tN "UNASSIGNED_STACK" Bundle.steD (jA g) g.1 g.1.heap := by
  have hn := flat_of_before _ G.2.2
  exact vx_Zqof (G.2.1 _ q471) (G.2.1 _ (lw_all_tbl q73)) (hn _ (by decide +kernel)) (fun a ha hA => absurd ha (Nat.not_lt.mpr hA))
theorem jzq_N {g : jG} (G : jOK g) : vx_Zq Bundle.tN "SUPPRESSED_SENTINEL" Bundle.listD (jA g) g.1 g.1.heap := by
  have hn := flat_of_before _ G.2.2
  exact vx_Zqof (G.2.1 _ q473) (G.2.1 _ (lw_all_tbl q73)) (hn _ (by decide +kernel)) (fun a ha hA => absurd ha (Nat.not_lt.mpr hA))
/-- throw new E(), not caught here -/
theorem j_throw0 (C : jC x cc own d K) {ret : Option FieldType} {Po : jR → jH → Prop} {k : Nat} (E : jE x ret Po k) (hT : ∀ w ∈ x.c.exceptionTable.toList, False) {cls : String} {names : List String} {ik ic : Nat} (hcls : Bundle.fit cls = true) (hnames : ∀ n ∈ names, Bundle.fit n = true) (qk : Cond.classLink own ik cls ∈ lw_all) (qi : Cond.initialized cls ∈ lw_all) (ps : List Nat) (hps : vx_at0 own ic cls names = ps.filterMap (fun i => lw_tbl[i]?)) (hg : (vx_at0 own ic cls names).all (fun w => jmv w && vx_ot w) = true)
    (d0 : decode cc pc = .ok (.new ik, 3)) (d3 : decode cc (pc + 3) = .ok (.dup, 1)) (d4 : decode cc (pc + 4) = .ok (.invokespecial ic, 3)) (d7 : decode cc (pc + 7) = .ok (.athrow, 1)) (hd' : names.length + 4 ≤ d) (hlen : names.length ≤ 5) (hW : (st.map fun v => v.category).sum ≤ 8) (hu : u + 6 ≤ k) (hk : k ≤ K) (hp : Po (.inr cls) h) : J x h u pc L st := by
  intro H locs ls hR hS hl
  obtain ⟨hr, hZ⟩ := E
  have r := C.room
  show W x.p x.l x.e x.R x.s x.m x.args x.below x.meth x.c H locs u u x.Z _
  rw [hZ]
  have hall := List.all_eq_true.mp hg
  refine vx_throw0 C.exec C.bytes C.trc C.ow hcls hnames (C.ts _ qk) (C.ts _ qi) (C.mvs _ ps hps (List.all_eq_true.mpr fun w hw => by have := hall w hw; simp only [Bool.and_eq_true] at this; exact this.1)) (fun w hw => ?_) (vx_Zq.moved C.sts.1.alike ((jzq_U C.ok).kept (fun a hl _ => C.sts.2.1 a hl))) (vx_Zq.moved C.sts.1.alike ((jzq_N C.ok).kept (fun a hl _ => C.sts.2.1 a hl))) hS (hl.1.trans C.maxL.symm) d0 d3 d4 d7 (fun w hw => absurd hw (fun z => hT w z)) (by omega) (by omega) (by omega) (by omega) C.locks (fun t hvm hsz hq => ?_) hS.2.2 (by omega) (by omega)
  · rcases List.mem_cons.mp hw with rfl | hw
    · rfl
    · rcases List.mem_cons.mp hw with rfl | hw
      · rfl
      · have := hall w hw
        simp only [Bool.and_eq_true] at this
        exact this.2
  · refine ⟨⟨h, hp, ?_⟩, Nat.le_trans hS.1 hsz, fun q h1 h2 => by rw [hq q (Nat.lt_of_lt_of_le h1 hS.1)]; exact hS.2.1 q h1 h2⟩
    obtain ⟨ws, hP, hD, hw⟩ := hR
    exact ⟨ws, hP.kept (fun i q hi => hq q.1 (hP i q hi).lt), hD, hw⟩
/-- thrown by a callee, not caught here -/
theorem jx_out (C : jC x cc own d K) {ret : Option FieldType} {Po : jR → jH → Prop} {k : Nat} (E : jE x ret Po k) (hT : ∀ w ∈ x.c.exceptionTable.toList, False) {cls : String} (hu : u ≤ k) (hp : Po (.inr cls) h) : JX x h u pc L rest cls := by
  intro H locs ls q ce hR hS hl hq hce hcl
  obtain ⟨hr, hZ⟩ := E
  show vx_W x.p x.l x.e x.R x.s x.m x.args x.below x.meth x.c H locs u u x.Z _ q
  rw [hZ]
  exact vx_out (fun w hw => absurd hw (fun z => hT w z)) C.locks hq hce hcl (fun t ht hvm => ⟨⟨h, hp, by rw [ht]; exact hR⟩, hS.F ht⟩) hS.2.2 hu hu
end JE
