/-! ===== small facts for the reference's walks ===== -/
theorem cpy_s {f g : Nat → Int32} {i : Nat} {x : Int32} (h : ∀ k, k < i → f k = g k) (e : x = g i) : ∀ k, k < i + 1 → upd f i x k = g k := by
  intro k hk
  by_cases q : k = i
  · subst q; rw [upd_s, e]
  · rw [upd_n q]; exact h k (by omega)
theorem row_c {f g : Nat → Int32} {b i : Nat} (h : ∀ k, k < i → f (b + k) = g k) : ∀ k, k < i + 1 → upd f (b + i) (g i) (b + k) = g k := by
  intro k hk
  by_cases q : k = i
  · subst q; rw [upd_s]
  · rw [upd_n (by omega)]; exact h k (by omega)
theorem hsA_4 {h i : Nat} {hist hs : Nat → Int32} (g : ∀ k, k < i → hs k = hist (k + 66)) (hi : 198 ≤ i) (e : h = 4) : ∀ k, k < 66 * (acH h - 1) → hs k = (if h = 4 then hist (k + 66) else hist k) := by
  intro k hk
  subst e
  rw [if_pos rfl]
  exact g k (by have : acH 4 = 4 := rfl; omega)
theorem hsA_n {h : Nat} {hist : Nat → Int32} (e : h ≠ 4) : ∀ k, k < 66 * (acH h - 1) → hist k = (if h = 4 then hist (k + 66) else hist k) := fun k _ => by rw [if_neg e]
