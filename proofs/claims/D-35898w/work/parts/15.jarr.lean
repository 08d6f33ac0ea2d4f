set_option maxRecDepth 100000
/-! ===== J: grids, copies of arrays, clones, default methods ===== -/
theorem jAO_spec {args : Array Value} {s : State} {t : FieldType} (h : (Cond.arrayOver (.array t)).before args s = true) :
    ∃ comp c k, s.vm.findClass (FieldType.array t).toString = some comp ∧ (s.vm.classes.findIdx? fun x => match x.kind with | .array component _ => component == comp | _ => false) = some c ∧ s.vm.classes[c]? = some k ∧ k.kind = .array comp (.array t) ∧ s.vm.findClass ("[" ++ (FieldType.array t).toString) = some c := by
  have h : (Cond.arrayOver (.array t)).holds args s none s [] = true := h
  simp only [Cond.holds, Cond.value, beq_iff_eq] at h
  cases hc : s.vm.findClass (FieldType.array t).toString with
  | none => simp [hc] at h
  | some comp =>
    simp only [hc, Option.bind_some, Option.bind_eq_some_iff, Option.map_eq_some_iff] at h
    obtain ⟨c, hi, k, hk, hb⟩ := h
    obtain ⟨hlt, hp, -⟩ := Array.findIdx?_eq_some_iff_getElem.mp hi
    have hkk : s.vm.classes[c] = k := (Array.getElem?_eq_some_iff.mp hk).2
    rw [hkk] at hp
    cases hkind : k.kind with
    | array component ty =>
      rw [hkind] at hb hp
      simp at hb hp
      exact ⟨comp, c, k, rfl, hi, hk, by rw [hkind, hp, hb.1], hb.2⟩
    | _ => rw [hkind] at hb; simp at hb
theorem jAO_moved {A A' : Array Value} {t : FieldType} {u U : State} (hvm : u.vm.Alike U.vm) (h : (Cond.arrayOver (.array t)).before A u = true) : (Cond.arrayOver (.array t)).before A' U = true := by
  obtain ⟨comp, c, k, h1, h2, h3, h4, h5⟩ := jAO_spec h
  obtain ⟨k', hk', he⟩ := hvm.2.2 _ _ h3
  have hi : (U.vm.classes.findIdx? fun (x : Class) => match x.kind with | .array component _ => component == comp | _ => false) = some c := by
    have b1 := va_idx_bare u.vm comp
    have b2 := va_idx_bare U.vm comp
    first | rw [hvm.bare_eq] at b2 | rw [← hvm.bare_eq] at b2
    exact (b2.symm.trans b1).trans h2
  have hkind : k'.kind = .array comp (.array t) := by rw [he]; exact h4
  have f1 : U.vm.findClass (FieldType.array t).toString = some comp := by rw [hvm.findClass]; exact h1
  have f2 : U.vm.findClass ("[" ++ (FieldType.array t).toString) = some c := by rw [hvm.findClass]; exact h5
  show (Cond.arrayOver (.array t)).holds A' U none U [] = true
  unfold Cond.holds
  simp only [Cond.value]
  rw [f1, Option.bind_some]
  refine (congrArg (fun o : Option Nat => (o.bind (fun c => (U.vm.classes[c]?).map fun (k : Class) => match k.kind with | .array _ ty => decide (ty = FieldType.array t) && decide (U.vm.findClass ("[" ++ (FieldType.array t).toString) = some c) | _ => false) == some true)) hi).trans ?_
  simp [hk', hkind, f2]
section JG
variable {x : jX} {cc : ByteArray} {own : String} {d K : Nat} {h : jH} {u pc : Nat} {L L' : List (Nat × Value)} {st rest : List Value}
/-- new int[2][10] -/
theorem j_newii (C : jC x cc own d K) {index : Nat} (q1 : Cond.classLink own index "[[I" ∈ lw_all) (q2 : Cond.arrayOver (.array .int) ∈ lw_tbl) (q3 : Cond.arrayClass .int ∈ lw_all) (hb : u + 25 ≤ K) (hd : decode cc pc = .ok (.multianewarray index 2, 4))
    (kk : ∀ a b c : Nat, h a = none → h b = none → h c = none → a ≠ b → a ≠ c → b ≠ c → jA x.g a → jA x.g b → jA x.g c → J x (jup (jup (jup h a (jQ x.g 5 2 (fun j => if j = 0 then some b else if j = 1 then some c else none))) b (jI x.g 0 10 (fun _ => 0))) c (jI x.g 0 10 (fun _ => 0))) (u + 25) (pc + 4) L (.ref a :: rest)) : J x h u pc L (.int (nI 10) :: .int (nI 2) :: rest) := by
  intro H locs ls hR hS hl T hT X
  have r := C.room
  have hK := C.kv
  obtain ⟨ws, hP, hD, hw⟩ := hR
  have e2 : (nI 2).toNatClampNeg = 2 := nI_clamp (by decide)
  have e10 : (nI 10).toNatClampNeg = 10 := nI_clamp (by decide)
  obtain ⟨vm₁, cA, comp, hW1, hfA, hfC, -, -, X1, step⟩ := X.multianewarray2F C.exec (own := own) (index := index) (ty := .int) C.ow (C.ts _ q1) (jAO_moved C.sts.1.alike (C.ok.2.1 _ q2)) (C.ts _ q3) (g := F0 x.m pc ls (.int (nI 10) :: .int (nI 2) :: rest)) rfl (by rw [C.bytes]; exact hd) (n := nI 2) (k := nI 10) (rest := rest) rfl (nI_pos (by decide)) (nI_pos (by decide)) (by rw [e2]; decide) (by rw [e10]; decide) (by rw [e10]; decide) rfl rfl (by rw [e2]; omega) (by rw [e2, e10]; omega)
  rw [e2, e10] at X1 step
  have e5 : cA = x.g.2.2.1 5 := Option.some.inj ((show x.s.vm.findClass ("[" ++ (FieldType.array .int).toString) = some cA from hfA).symm.trans (hK.2 5 _ rfl).2)
  have e0 : comp = x.g.2.2.1 0 := Option.some.inj ((show x.s.vm.findClass ("[" ++ (FieldType.int).toString) = some comp from hfC).symm.trans (hK.2 0 _ rfl).2)
  subst e5; subst e0
  have hh : (T.setVm vm₁).heap = H := hT
  obtain ⟨f1, f2, -, -⟩ := Jvm.Free.Multi.fill_facts (T.setVm vm₁) (x.g.2.2.1 5) (x.g.2.2.1 0) 2 10 (defaultValue .int) 2
  have f3 := Jvm.Free.Multi.fill_inner (T.setVm vm₁) (x.g.2.2.1 5) (x.g.2.2.1 0) 2 10 (defaultValue .int) 2
  have f4 := fun a ha => Jvm.Free.Multi.fill_old (T.setVm vm₁) (x.g.2.2.1 5) (x.g.2.2.1 0) 2 10 (defaultValue .int) (a := a) ha 2
  obtain ⟨o1, o2, o3⟩ := Jvm.Free.Multi.outerC_facts (x.g.2.2.1 5) 2 (T.setVm vm₁).heap.size 2
  have o4 := Jvm.Free.Multi.outerC_slot (x.g.2.2.1 5) 2 (T.setVm vm₁).heap.size 2
  generalize Jvm.Free.Multi.fill (T.setVm vm₁) (x.g.2.2.1 5) (x.g.2.2.1 0) 2 10 (defaultValue .int) 2 = T1 at X1 step f1 f2 f3 f4
  generalize hoc : Jvm.Free.Multi.outerC (x.g.2.2.1 5) 2 (T.setVm vm₁).heap.size 2 = oc at f2 o1 o2 o3 o4
  rw [hh] at f1 f2 f3 f4 o4
  have hin : Jvm.Free.Multi.innerC (x.g.2.2.1 0) 10 (defaultValue .int) = vp_cell (x.g.2.2.1 0) (10, .inl (fun _ => 0)) := arrV_new _ _ _
  have hout : oc = vp_cell (x.g.2.2.1 5) (2, .inr (.inr (.inr (.inr (fun j => if j = 0 then some (H.size + 1) else if j = 1 then some (H.size + 2) else none))))) := by
    rw [vp_cell_q]
    rw [← hoc, hh]
    show (((({ cls := x.g.2.2.1 5, slots := Array.replicate 2 .null, vm := .none } : Cell).setSlot 0 (.ref (H.size + 1 + 0))).setSlot 1 (.ref (H.size + 1 + 1)))) = _
    rw [arrV_new, arrV_store, arrV_store]
    congr 1
    funext j
    by_cases h1 : j = 1
    · subst h1; rfl
    · by_cases h0 : j = 0
      · subst h0; rfl
      · simp [updV, h0, h1, va_rf]
  rw [hout] at f2
  rw [hin] at f3
  have hlt : ∀ (i : Nat) (q : Nat × va_E), ws[i]? = some q → q.1 < H.size := fun i q hi => (hP i q hi).lt
  have p1 : va_P x.g.2.1 jCl (((ws ++ [(H.size, jQ x.g 5 2 (fun j => if j = 0 then some (H.size + 1) else if j = 1 then some (H.size + 2) else none))]) ++ [(H.size + 1, jI x.g 0 10 (fun _ => 0))]) ++ [(H.size + 2, jI x.g 0 10 (fun _ => 0))]) T1.heap := by
    refine va_P.app (va_P.app (va_P.app (hP.kept fun i q hi => f4 q.1 (hlt i q hi)) ?_) ?_) ?_
    · intro i q hi
      have hz : i < 1 := (List.getElem?_eq_some_iff.mp hi).1
      rw [show i = 0 by omega] at hi
      cases hi
      exact f2
    · intro i q hi
      have hz : i < 1 := (List.getElem?_eq_some_iff.mp hi).1
      rw [show i = 0 by omega] at hi
      cases hi
      exact f3 0 (by decide)
    · intro i q hi
      have hz : i < 1 := (List.getElem?_eq_some_iff.mp hi).1
      rw [show i = 0 by omega] at hi
      cases hi
      exact f3 1 (by decide)
  have hA : ∀ q : Nat, H.size ≤ q → jA x.g q := fun q hq => C.A q (Nat.le_trans hS.1 hq)
  have dis : ∀ (n1 : Nat) (w : va_W) (e : va_E), va_D (jA x.g) w → (∀ (i : Nat) (q : Nat × va_E), w[i]? = some q → q.1 < n1) → H.size ≤ n1 → va_D (jA x.g) (w ++ [(n1, e)]) := by
    intro n1 w e hw1 hw2 hn
    refine va_D.app hw1 ⟨fun i j p q hi hj hpq => ?_, fun i q hi => ?_⟩ (fun i j p q hi hj hpq => ?_)
    · have a1 : i < 1 := (List.getElem?_eq_some_iff.mp hi).1
      have a2 : j < 1 := (List.getElem?_eq_some_iff.mp hj).1
      omega
    · have a1 : i < 1 := (List.getElem?_eq_some_iff.mp hi).1
      rw [show i = 0 by omega] at hi
      cases hi
      exact hA _ hn
    · have a2 : j < 1 := (List.getElem?_eq_some_iff.mp hj).1
      rw [show j = 0 by omega] at hj
      cases hj
      have := hw2 i p hi
      simp only at hpq
      omega
  have lt1 : ∀ (n1 : Nat) (w : va_W) (e : va_E), (∀ (i : Nat) (q : Nat × va_E), w[i]? = some q → q.1 < n1) → ∀ (i : Nat) (q : Nat × va_E), (w ++ [(n1, e)])[i]? = some q → q.1 < n1 + 1 := by
    intro n1 w e hw2 i q hi
    rcases List.mem_append.mp (List.mem_of_getElem? hi) with hm | hm
    · obtain ⟨j, hj⟩ := List.getElem?_of_mem hm
      have := hw2 j q hj
      omega
    · rw [List.mem_singleton] at hm
      rw [hm]
      exact Nat.lt_succ_self _
  have d1 := dis H.size ws (jQ x.g 5 2 (fun j => if j = 0 then some (H.size + 1) else if j = 1 then some (H.size + 2) else none)) hD hlt (Nat.le_refl _)
  have d2 := dis (H.size + 1) _ (jI x.g 0 10 (fun _ => 0)) d1 (lt1 _ _ _ hlt) (by omega)
  have d3 := dis (H.size + 2) _ (jI x.g 0 10 (fun _ => 0)) d2 (lt1 _ _ _ (lt1 _ _ _ hlt)) (by omega)
  have none : ∀ q : Nat, H.size ≤ q → h q = none := by
    intro q hq
    cases hc : h q with
    | none => rfl
    | some e =>
      obtain ⟨i, hi⟩ := hw q e hc
      have := hlt i _ hi
      simp only at this
      omega
  have S1 : va_S (jA x.g) x.s.heap T1.heap locs := ⟨by rw [f1]; have := hS.1; omega, fun q hq hn => by rw [f4 q (Nat.lt_of_lt_of_le hq hS.1)]; exact hS.2.1 q hq hn, hS.2.2⟩
  have k := W.widen (k := u + 25) (n := u + 25) (cells := u + 1 + 2) (slots := u + 2 + 2 * 10) (by omega) (by omega) (kk H.size (H.size + 1) (H.size + 2) (none _ (Nat.le_refl _)) (none _ (by omega)) (none _ (by omega)) (by omega) (by omega) (by omega) (hA _ (Nat.le_refl _)) (hA _ (by omega)) (hA _ (by omega)) T1.heap locs ls ⟨_, p1, d3, jmem_push (jmem_push (jmem_push hw))⟩ S1 hl)
  obtain ⟨t, a1, b1⟩ := k T1 rfl X1
  refine ⟨t, step t ?_, b1⟩
  rw [hT]
  exact a1
/-- System.arraycopy of references -/
theorem j_copyq (C : jC x cc own d K) {index a b n0 n1 sp dp n : Nat} {f g' : Nat → Option Nat} (hs : h a = some (jQ x.g 4 n0 f)) (hb : h b = some (jQ x.g 4 n1 g')) (q1 : Cond.methodLink own index arraycopyName ∈ lw_all) (h4 : sp + n ≤ n0) (h5 : dp + n ≤ n1) (hn0 : n0 < 2 ^ 31) (hn1 : n1 < 2 ^ 31)
    (hel : ∀ i : Nat, i < n → ∀ y : Nat, f (sp + i) = some y → ∃ Cn : String, jIs x.g h y Cn ∧ (Cond.castable Cn "java/lang/Object" ∈ lw_tbl ∨ Cn = "java/lang/Object")) (h1 : 1 ≤ d) (hW : (rest.map fun v => v.category).sum ≤ 8) (hd : decode cc pc = .ok (.invokestatic index, 3))
    (kk : J x (jup h b (jQ x.g 4 n1 (va_cpy f g' sp dp n))) u (pc + 3) L rest) : J x h u pc L (.int (nI n) :: .int (nI dp) :: .ref b :: .int (nI sp) :: .ref a :: rest) := by
  intro H locs ls hR hS hl
  have r := C.room
  have hel' : ∀ i : Nat, i < (nI n).toNatClampNeg → ∀ y : Nat, f ((nI sp).toNatClampNeg + i) = some y → va_Any "java/lang/Object" x.s H y := by
    rw [nI_clamp (by omega), nI_clamp (by omega)]
    intro i hi y hy
    obtain ⟨Cn, c1, c2⟩ := hel i hi y hy
    exact C.any hR hS c1 c2
  obtain ⟨ws, hP, hD, hw⟩ := hR
  obtain ⟨i, hi⟩ := hw _ _ hs
  obtain ⟨j, hj⟩ := hw _ _ hb
  refine va_copyM C.exec C.bytes (C.maxL.trans hl.1.symm) C.ow (C.ts _ q1) (C.ts _ q315) (C.ts _ q314) (C.ts _ q88) C.kv hP hD hS i j 4 4 hi hj rfl rfl (nI_pos (by omega)) (nI_pos (by omega)) (nI_pos (by omega)) (by rw [nI_clamp (by omega), nI_clamp (by omega)]; exact h4) (by rw [nI_clamp (by omega), nI_clamp (by omega)]; exact h5) hel' (by omega) ?_ hd (fun H1 locs1 p1 p2 p3 => ?_)
  · have e : nativeFrameWords "java/lang/System" "arraycopy" 5 + 11 ≤ 40 := by decide +kernel
    omega
  · rw [nI_clamp (by omega), nI_clamp (by omega), nI_clamp (by omega)] at p1 p2
    exact kk H1 locs1 ls ⟨_, p1, p2, jmem_set hj hw⟩ p3 hl
/-- System.arraycopy of bytes -/
theorem j_copyb (C : jC x cc own d K) {index a b n0 n1 sp dp n : Nat} {f g' : Nat → Int32} (hs : h a = some (jI x.g 2 n0 f)) (hb : h b = some (jI x.g 2 n1 g')) (q1 : Cond.methodLink own index arraycopyName ∈ lw_all) (h4 : sp + n ≤ n0) (h5 : dp + n ≤ n1) (hn0 : n0 < 2 ^ 31) (hn1 : n1 < 2 ^ 31)
    (hfit : ∀ i, i < n → fits .byte (.int (f (sp + i))) = true) (h1 : 1 ≤ d) (hW : (rest.map fun v => v.category).sum ≤ 8) (hd : decode cc pc = .ok (.invokestatic index, 3))
    (kk : J x (jup h b (jI x.g 2 n1 (va_cpy f g' sp dp n))) u (pc + 3) L rest) : J x h u pc L (.int (nI n) :: .int (nI dp) :: .ref b :: .int (nI sp) :: .ref a :: rest) := by
  intro H locs ls hR hS hl
  have r := C.room
  obtain ⟨ws, hP, hD, hw⟩ := hR
  obtain ⟨i, hi⟩ := hw _ _ hs
  obtain ⟨j, hj⟩ := hw _ _ hb
  refine va_copyi C.exec C.bytes (C.maxL.trans hl.1.symm) C.ow (C.ts _ q1) (C.ts _ q315) (C.ts _ q314) (C.ts _ q88) C.kv hP hD hS i j 2 2 hi hj rfl rfl rfl (nI_pos (by omega)) (nI_pos (by omega)) (nI_pos (by omega)) (by rw [nI_clamp (by omega), nI_clamp (by omega)]; exact h4) (by rw [nI_clamp (by omega), nI_clamp (by omega)]; exact h5) (by rw [nI_clamp (by omega), nI_clamp (by omega)]; exact hfit) (by omega) ?_ hd (fun H1 locs1 p1 p2 p3 => ?_)
  · have e : nativeFrameWords "java/lang/System" "arraycopy" 5 + 11 ≤ 40 := by decide +kernel
    omega
  · rw [nI_clamp (by omega), nI_clamp (by omega), nI_clamp (by omega)] at p1 p2
    exact kk H1 locs1 ls ⟨_, p1, p2, jmem_set hj hw⟩ p3 hl
/-- bytes.clone() -/
theorem j_cloneb (C : jC x cc own d K) {index a n : Nat} {f : Nat → Int32} (hs : h a = some (jI x.g 2 n f)) (q1 : Cond.methodLink own index ⟨"[B", "clone", "()Ljava/lang/Object;"⟩ ∈ lw_all) (hfit : ∀ i, i < n → fits .byte (.int (f i)) = true) (h1 : 1 ≤ d) (hW : (rest.map fun v => v.category).sum ≤ 8) (hb : u + (n + 1) ≤ K) (hd : decode cc pc = .ok (.invokevirtual index, 3))
    (kk : ∀ b : Nat, h b = none → jA x.g b → J x (jup h b (jI x.g 2 n f)) (u + (n + 1)) (pc + 3) L (.ref b :: rest)) : J x h u pc L (.ref a :: rest) := by
  intro H locs ls hR hS hl
  have r := C.room
  obtain ⟨ws, hP, hD, hw⟩ := hR
  obtain ⟨i, hi⟩ := hw _ _ hs
  refine va_clone C.exec C.bytes (C.maxL.trans hl.1.symm) C.ow (C.ts _ q1) (C.ts _ q304) (C.ts _ q305) (C.ts _ q306) (C.ts _ q307) (C.nwC q308) C.kv hP hD hS C.A i 2 hi rfl ((C.kv.2 2 _ rfl).2) (fun j v hv => ?_) (by omega) (by omega) (by omega) (by show _ + n ≤ _; omega) hd (fun b H1 pK p1 p2 p3 => ?_)
  · have hlt : j < n := by
      have := (Array.getElem?_eq_some_iff.mp hv).1
      have e : (vp_cell (x.g.2.2.1 2) (n, .inl f)).slots.size = n := arrV_size _ _ _
      omega
    have e : (vp_cell (x.g.2.2.1 2) (n, .inl f)).slots[j]? = some (.int (f j)) := arrV_read _ _ hlt
    rw [e] at hv
    cases hv
    exact hfit j hlt
  · obtain ⟨f1, f2⟩ := jfresh p2 hw
    exact W.widen (by omega) (by show u + n ≤ _; omega) (kk b f1 f2 H1 locs ls ⟨_, p1, p2, jmem_push hw⟩ p3 hl)
end JG
