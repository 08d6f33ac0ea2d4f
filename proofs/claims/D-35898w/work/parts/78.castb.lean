set_option maxRecDepth 100000
section JCB
variable {x : jX} {cc : ByteArray} {own : String} {d K : Nat} {h : jH} {u pc : Nat} {L L' : List (Nat × Value)} {st rest : List Value}
/-- a box is cast to Integer -/
theorem j_castB (C : jC x cc own d K) (Kn : jKN x.g) {n index : Nat} (hn : n < 128) (q1 : Cond.classLink own index "java/lang/Integer" ∈ lw_all) (hd : decode cc pc = .ok (.checkcast index, 3)) (kk : J x h u (pc + 3) L (.ref (bxN x.g n) :: rest)) : J x h u pc L (.ref (bxN x.g n) :: rest) := fun H locs ls hR hS hl => by
  obtain ⟨cC, hC⟩ := classAt_of (C.ts _ q1531)
  exact va_castS C.exec C.bytes C.ow (C.ts _ q1) hC (C.cell hR hS (box_is Kn hn)) hd (kk H locs ls hR hS hl)
end JCB
