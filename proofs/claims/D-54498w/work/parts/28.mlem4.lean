/-! ===== small facts for what is told ===== -/
theorem cnt_s {F : Nat → Nat → Int32} {k i : Nat} (hi : 0 < i) : cntN F k i = cntN F k (i - 1) + bitN F k (i - 1) := by
  obtain ⟨j, rfl⟩ : ∃ j, i = j + 1 := ⟨i - 1, by omega⟩
  rfl
theorem cnt_sub {F : Nat → Nat → Int32} {k i : Nat} (hi : 0 < i) : nI (cntN F k i) - nI (bitN F k (i - 1)) = nI (cntN F k (i - 1)) := by
  rw [cnt_s hi, pk_sub (by omega)]
  congr 1
  omega
theorem nI_dec {i : Nat} (hi : 0 < i) : nI i + Int32.ofInt (-1) = nI (i - 1) := by
  obtain ⟨j, rfl⟩ : ∃ j, i = j + 1 := ⟨i - 1, by omega⟩
  exact pk_m1 j
theorem wsI_s {e : Nat → Nat} {i : Nat} (hi : 0 < i) : wsI e i = if e (wsI e (i - 1)) < e i then i else wsI e (i - 1) := by
  obtain ⟨j, rfl⟩ : ∃ j, i = j + 1 := ⟨i - 1, by omega⟩
  rfl
theorem not_le_neg1 {n : Nat} (h : n < 2 ^ 31) : ¬ nI n ≤ (-1 : Int32) := by
  rw [Int32.le_iff_toInt_le, nI_toInt h]
  have : (-1 : Int32).toInt = -1 := by decide
  omega
theorem sw_n (x : Int32) (n : Nat) (hn : n < 2 ^ 31) : (x.toInt < 0 ∨ (n : Int) < x.toInt) ∨ ∃ w : Nat, w ≤ n ∧ x = nI w := by
  by_cases h : rng x 0 n = true
  · obtain ⟨k, -, h2, h3⟩ := rng_t h hn
    exact Or.inr ⟨k, h2, h3⟩
  · left
    have h1 := of_decide_eq_false (Bool.eq_false_iff.mpr h)
    omega
theorem rng_f {x : Int32} {n : Nat} (h : x.toInt < 0 ∨ (n : Int) < x.toInt) : rng x 0 n = false := decide_eq_false (by omega)
theorem sw8 (x : Int32) : (x.toInt < 0 ∨ 7 < x.toInt) ∨ x = nI 0 ∨ x = nI 1 ∨ x = nI 2 ∨ x = nI 3 ∨ x = nI 4 ∨ x = nI 5 ∨ x = nI 6 ∨ x = nI 7 := by
  rcases sw_n x 7 (by decide) with h | ⟨w, hw, e⟩
  · exact Or.inl (by omega)
  · rcases (by omega : w = 0 ∨ w = 1 ∨ w = 2 ∨ w = 3 ∨ w = 4 ∨ w = 5 ∨ w = 6 ∨ w = 7) with z | z | z | z | z | z | z | z <;> subst z <;> simp [e]
theorem ag_sum {b : nBe} {F : Nat → Nat → Int32} (h : agF b.1 F b.2.1) (ok : ∀ k, k < b.1 → lnOk b.2.1 k) {k : Nat} (hk : k < b.1) : errN F k b.2.2 = erE b k := ag_err h ok hk _
theorem qCount_at (S : oSt) {w : Nat} (h : w ≤ 7) : qCount S (nI w) = qCountAt S w := by
  unfold qCount
  rw [if_pos (rng_nI (Nat.zero_le _) h (by decide)), nI_clamp (by omega)]
