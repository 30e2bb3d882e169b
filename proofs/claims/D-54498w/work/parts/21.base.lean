/-! ===== numbers ===== -/
theorem lg_cmp_v (x y : Int64) : (x.toInt < y.toInt ∧ lg_cmp x y = -1) ∨ (x.toInt = y.toInt ∧ lg_cmp x y = 0) ∨ (y.toInt < x.toInt ∧ lg_cmp x y = 1) := by
  unfold lg_cmp
  simp only [gt_iff_lt, Int64.lt_iff_toInt_lt, ← Int64.toInt_inj]
  by_cases h1 : y.toInt < x.toInt
  · right; right; exact ⟨h1, by rw [if_pos h1]⟩
  · by_cases h2 : x.toInt = y.toInt
    · right; left; exact ⟨h2, by rw [if_neg h1, if_pos h2]⟩
    · left; exact ⟨by omega, by rw [if_neg h1, if_neg h2]⟩
theorem n_lcr_lt_t {x y : Int64} (h : lg_cmp x y < 0) : x.toInt < y.toInt := by
  rcases lg_cmp_v x y with ⟨a, b⟩ | ⟨a, b⟩ | ⟨a, b⟩ <;> rw [b] at h <;> first | exact a | exact absurd h (by decide)
theorem n_lcr_lt_f {x y : Int64} (h : ¬ lg_cmp x y < 0) : y.toInt ≤ x.toInt := by
  rcases lg_cmp_v x y with ⟨a, b⟩ | ⟨a, b⟩ | ⟨a, b⟩ <;> rw [b] at h <;> first | omega | exact absurd (by decide) h
theorem n_lcr_gt_t {x y : Int64} (h : 0 < lg_cmp x y) : y.toInt < x.toInt := by
  rcases lg_cmp_v x y with ⟨a, b⟩ | ⟨a, b⟩ | ⟨a, b⟩ <;> rw [b] at h <;> first | exact a | exact absurd h (by decide)
theorem n_lcr_gt_f {x y : Int64} (h : ¬ 0 < lg_cmp x y) : x.toInt ≤ y.toInt := by
  rcases lg_cmp_v x y with ⟨a, b⟩ | ⟨a, b⟩ | ⟨a, b⟩ <;> rw [b] at h <;> first | omega | exact absurd (by decide) h
theorem n_lcr_le_t {x y : Int64} (h : lg_cmp x y ≤ 0) : x.toInt ≤ y.toInt := by
  rcases lg_cmp_v x y with ⟨a, b⟩ | ⟨a, b⟩ | ⟨a, b⟩ <;> rw [b] at h <;> first | omega | exact absurd h (by decide)
theorem n_lcr_le_f {x y : Int64} (h : ¬ lg_cmp x y ≤ 0) : y.toInt < x.toInt := by
  rcases lg_cmp_v x y with ⟨a, b⟩ | ⟨a, b⟩ | ⟨a, b⟩ <;> rw [b] at h <;> first | omega | exact absurd (by decide) h
theorem n_lcr_ge_t {x y : Int64} (h : 0 ≤ lg_cmp x y) : y.toInt ≤ x.toInt := by
  rcases lg_cmp_v x y with ⟨a, b⟩ | ⟨a, b⟩ | ⟨a, b⟩ <;> rw [b] at h <;> first | omega | exact absurd h (by decide)
theorem n_lcr_ge_f {x y : Int64} (h : ¬ 0 ≤ lg_cmp x y) : x.toInt < y.toInt := by
  rcases lg_cmp_v x y with ⟨a, b⟩ | ⟨a, b⟩ | ⟨a, b⟩ <;> rw [b] at h <;> first | omega | exact absurd (by decide) h
/-- a long between two -/
def inL (v lo hi : Int64) : Bool := decide (lo.toInt ≤ v.toInt ∧ v.toInt ≤ hi.toInt)
/-- an int between two -/
def inI (v lo hi : Int32) : Bool := decide (lo.toInt ≤ v.toInt ∧ v.toInt ≤ hi.toInt)
/-- an int from a on up to b -/
def rng (x : Int32) (a b : Nat) : Bool := decide ((a : Int) ≤ x.toInt ∧ x.toInt ≤ b)
/-- an int is the number of one of n lines -/
def isLn (x : Int32) (n : Nat) : Bool := decide (0 ≤ x.toInt ∧ x.toInt < n)
theorem i32_l (x : Int32) : x.toInt64.toInt = x.toInt := by simp
theorem inL_rng (x : Int32) {a b : Nat} (ha : a < 2 ^ 62) (hb : b < 2 ^ 62) : inL x.toInt64 (lN a) (lN b) = rng x a b := by
  unfold inL rng
  rw [i32_l, pk_lT (by omega), pk_lT (by omega)]
theorem inI_rng (x : Int32) {a b : Nat} (ha : a < 2 ^ 31) (hb : b < 2 ^ 31) : inI x (nI a) (nI b) = rng x a b := by
  unfold inI rng
  rw [nI_toInt ha, nI_toInt hb]
theorem lN_pred {n : Nat} (h : n < 2 ^ 62) : (lN n - lN 1).toInt = (n : Int) - 1 := by
  have h1 : (lN n).toInt = n := pk_lT (by omega)
  have h2 : (lN 1).toInt = 1 := by decide
  rw [Int64.toInt_sub, h1, h2]
  exact Int.bmod_eq_of_le (by omega) (by omega)
theorem nI_pred' {n : Nat} (h : n < 2 ^ 30) : (nI n - nI 1).toInt = (n : Int) - 1 := by
  have h1 : (nI n).toInt = n := nI_toInt (by omega)
  have h2 : (nI 1).toInt = 1 := by decide
  rw [Int32.toInt_sub, h1, h2]
  exact Int.bmod_eq_of_le (by omega) (by omega)
theorem inL_ln (x : Int32) {n : Nat} (h : n < 2 ^ 62) : inL x.toInt64 (lN 0) (lN n - lN 1) = isLn x n := by
  unfold inL isLn
  rw [i32_l, lN_pred h, pk_lT (by omega)]
  exact decide_eq_decide.mpr (by omega)
theorem inI_ln (x : Int32) {n : Nat} (h : n < 2 ^ 30) : inI x (nI 0) (nI n - nI 1) = isLn x n := by
  unfold inI isLn
  rw [nI_pred' h, nI_toInt (by omega)]
  exact decide_eq_decide.mpr (by omega)
theorem isLn_t {x : Int32} {n : Nat} (h : isLn x n = true) (hn : n < 2 ^ 31) : ∃ k : Nat, k < n ∧ x = nI k := by
  have h1 := of_decide_eq_true h
  exact vp_in_of (vp_in_iff.mpr h1) hn
theorem isLn_nI {k n : Nat} (h : k < n) (hn : n < 2 ^ 31) : isLn (nI k) n = true := by
  unfold isLn
  rw [nI_toInt (by omega)]
  exact decide_eq_true (by omega)
theorem rng_t {x : Int32} {a b : Nat} (h : rng x a b = true) (hb : b < 2 ^ 31) : ∃ k : Nat, a ≤ k ∧ k ≤ b ∧ x = nI k := by
  have h1 := of_decide_eq_true h
  have hl := Int32.toInt_lt x
  obtain ⟨k, hk⟩ := Int.eq_ofNat_of_zero_le (a := x.toInt) (by omega)
  refine ⟨k, by omega, by omega, ?_⟩
  apply Int32.toInt_inj.mp
  rw [hk, nI_toInt (by omega)]
theorem rng_nI {k a b : Nat} (h1 : a ≤ k) (h2 : k ≤ b) (hb : b < 2 ^ 31) : rng (nI k) a b = true := by
  unfold rng
  rw [nI_toInt (by omega)]
  exact decide_eq_true (by omega)
/-- sums -/
def sumN (g : Nat → Nat) : Nat → Nat
  | 0 => 0
  | n + 1 => sumN g n + g n
theorem sumN_congr {g h : Nat → Nat} {n : Nat} (e : ∀ t, t < n → g t = h t) : sumN g n = sumN h n := by
  induction n with
  | zero => rfl
  | succ n ih => rw [sumN, sumN, ih (fun t ht => e t (by omega)), e n (by omega)]
theorem sumN_le {g : Nat → Nat} {n c : Nat} (e : ∀ t, t < n → g t ≤ c) : sumN g n ≤ n * c := by
  induction n with
  | zero => simp [sumN]
  | succ n ih => rw [sumN, Nat.succ_mul]; have := ih (fun t ht => e t (by omega)); have := e n (by omega); omega
/-- how many lines a line of a kind is made by -/
def lnBy (k : Nat) : Nat := if k = 0 then 0 else if k = 4 then 3 else if k < 4 then 2 else 1
/-! ===== the reference's world: its object q, its arrays at a 0 .. a 11 ===== -/
abbrev mO (q : Nat) (a : Nat → Nat) (hlo tk tl sp rm nu : Int32) : Nat × va_E := (q, .inr (2, [.ref (a 0), .ref (a 1), .ref (a 2), .int hlo, .ref (a 3), .int tk, .ref (a 4), .ref (a 5), .ref (a 6), .ref (a 7), .ref (a 8), .int tl, .int sp, .ref (a 9), .int rm, .int nu, .ref (a 10), .ref (a 11)]))
abbrev mW (G : nG) (q : Nat) (a : Nat → Nat) (wd : Nat → Int64) (all kept hist : Nat → Int32) (hlo : Int32) (snap : Nat → Int32) (tk : Int32) (bits reg exa text : Nat → Int32) (tl sp : Int32) (read : Nat → Int32) (rm nu : Int32) (deep src : Nat → Int32) : va_W := [mO q a hlo tk tl sp rm nu,
  (a 0, .inl (G.1.1 100, 66, .inl all)), (a 1, .inl (G.1.1 100, 66, .inl kept)), (a 2, .inl (G.1.1 100, 264, .inl hist)), (a 3, .inl (G.1.1 100, 66, .inl snap)), (a 4, .inl (G.1.1 103, 7, .inr (.inl wd))), (a 5, .inl (G.1.1 100, 16000, .inl bits)), (a 6, .inl (G.1.1 100, 16, .inl reg)), (a 7, .inl (G.1.1 100, 16, .inl exa)), (a 8, .inl (G.1.1 100, 80, .inl text)), (a 9, .inl (G.1.1 100, 80, .inl read)), (a 10, .inl (G.1.1 100, 16, .inl deep)), (a 11, .inl (G.1.1 100, 16, .inl src))]
