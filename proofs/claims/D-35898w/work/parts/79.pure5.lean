set_option maxRecDepth 100000
theorem comeB_nil {t : MT} {i : Nat} (h : t.2 i = []) : comeB t i = t := by unfold comeB; rw [h]
theorem comeN_nil {i n : Nat} : ∀ {t : MT}, t.2 i = [] → comeN t i n = t := by
  induction n with
  | zero => intro t _; rfl
  | succ n ih => intro t h; show comeN (comeB t i) i n = t; rw [comeB_nil h]; exact ih h
theorem comeN_add {i k n : Nat} : ∀ {t : MT}, comeN t i (k + n) = comeN (comeN t i k) i n := by
  induction k with
  | zero => intro t; rw [Nat.zero_add]; rfl
  | succ k ih => intro t; rw [show k + 1 + n = k + n + 1 by omega]; exact ih
theorem comeN_end {i k n : Nat} {t : MT} (hk : k ≤ n) (h : (comeN t i k).2 i = []) : comeN t i n = comeN t i k := by
  rw [show n = k + (n - k) by omega, comeN_add, comeN_nil h]
