set_option maxRecDepth 100000
theorem box_is {g : jG} (Kn : jKN g) {h : jH} {n : Nat} (hn : n < 128) : jIs g h (bxN g n) "java/lang/Integer" := by
  obtain ⟨cell, h1, h2, h3, -⟩ := Kn.2.2.2.1.2.2.2.1 (n + 128) (by omega)
  exact Or.inr ⟨cell, h1, h2, h3⟩
theorem box_ok {g : jG} (Kn : jKN g) {h : jH} {n : Nat} (hn : n < 128) : okE g h (some (bxN g n)) := fun v hv => by
  cases hv
  exact ⟨_, box_is Kn hn, Or.inl (by decide +kernel)⟩
theorem box_L {g : jG} (Kn : jKN g) {h : jH} {l : List Nat} (hl : ∀ p, p ∈ l → p < 128) : okL g h (l.map (bxN g)) := fun x hx => by
  obtain ⟨p, h1, rfl⟩ := List.mem_map.mp hx
  exact box_ok Kn (hl p h1)
theorem clamp_upd {f : Nat → Int32} {p : Nat} {v : Int32} (hp : p < 10) : upd f (nI p).toNatClampNeg v = va_up f p v := by
  rw [nI_clamp (by omega)]
  rfl
theorem lst_get {ad : Nat → Nat} {i : Nat} (hi : i < 2) : [ad 16, ad 17][i]? = some (ad (16 + i)) := by
  have : i = 0 ∨ i = 1 := by omega
  rcases this with rfl | rfl
  · rfl
  · rfl
