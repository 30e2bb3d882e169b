/-! ===== the reference reads: small facts ===== -/
theorem n_lcr_eq_t {x y : Int64} (h : lg_cmp x y = 0) : x.toInt = y.toInt := by
  rcases lg_cmp_v x y with ⟨a, b⟩ | ⟨a, b⟩ | ⟨a, b⟩ <;> rw [b] at h <;> first | exact a | exact absurd h (by decide)
theorem n_lcr_eq_f {x y : Int64} (h : ¬ lg_cmp x y = 0) : x.toInt ≠ y.toInt := by
  rcases lg_cmp_v x y with ⟨a, b⟩ | ⟨a, b⟩ | ⟨a, b⟩ <;> rw [b] at h <;> first | omega | exact absurd rfl h
theorem n_lcr_ne_t {x y : Int64} (h : ¬ lg_cmp x y = 0) : x.toInt ≠ y.toInt := n_lcr_eq_f h
theorem n_lcr_ne_f {x y : Int64} (h : lg_cmp x y = 0) : x.toInt = y.toInt := n_lcr_eq_t h
theorem n_lc_lt_t {a b : Nat} (h : lg_cmp (lN a) (lN b) < 0) (ha : a < 2 ^ 63) (hb : b < 2 ^ 63) : a < b := by
  have h1 := n_lcr_lt_t h
  rw [pk_lT ha, pk_lT hb] at h1
  omega
theorem n_lc_lt_f {a b : Nat} (h : ¬ lg_cmp (lN a) (lN b) < 0) (ha : a < 2 ^ 63) (hb : b < 2 ^ 63) : b ≤ a := by
  have h1 := n_lcr_lt_f h
  rw [pk_lT ha, pk_lT hb] at h1
  omega
theorem n_lc_ge_t {a b : Nat} (h : 0 ≤ lg_cmp (lN a) (lN b)) (ha : a < 2 ^ 63) (hb : b < 2 ^ 63) : b ≤ a := by
  have h1 := n_lcr_ge_t h
  rw [pk_lT ha, pk_lT hb] at h1
  omega
theorem n_lc_ge_f {a b : Nat} (h : ¬ 0 ≤ lg_cmp (lN a) (lN b)) (ha : a < 2 ^ 63) (hb : b < 2 ^ 63) : a < b := by
  have h1 := n_lcr_ge_f h
  rw [pk_lT ha, pk_lT hb] at h1
  omega
theorem n_lc_gt_t {a b : Nat} (h : 0 < lg_cmp (lN a) (lN b)) (ha : a < 2 ^ 63) (hb : b < 2 ^ 63) : b < a := by
  have h1 := n_lcr_gt_t h
  rw [pk_lT ha, pk_lT hb] at h1
  omega
theorem n_lc_gt_f {a b : Nat} (h : ¬ 0 < lg_cmp (lN a) (lN b)) (ha : a < 2 ^ 63) (hb : b < 2 ^ 63) : a ≤ b := by
  have h1 := n_lcr_gt_f h
  rw [pk_lT ha, pk_lT hb] at h1
  omega
theorem n_lc_le_t {a b : Nat} (h : lg_cmp (lN a) (lN b) ≤ 0) (ha : a < 2 ^ 63) (hb : b < 2 ^ 63) : a ≤ b := by
  have h1 := n_lcr_le_t h
  rw [pk_lT ha, pk_lT hb] at h1
  omega
theorem n_lc_le_f {a b : Nat} (h : ¬ lg_cmp (lN a) (lN b) ≤ 0) (ha : a < 2 ^ 63) (hb : b < 2 ^ 63) : b < a := by
  have h1 := n_lcr_le_f h
  rw [pk_lT ha, pk_lT hb] at h1
  omega
theorem n_lc_eq_t {a b : Nat} (h : lg_cmp (lN a) (lN b) = 0) (ha : a < 2 ^ 63) (hb : b < 2 ^ 63) : a = b := by
  have h1 := n_lcr_eq_t h
  rw [pk_lT ha, pk_lT hb] at h1
  omega
theorem n_lc_eq_f {a b : Nat} (h : ¬ lg_cmp (lN a) (lN b) = 0) (ha : a < 2 ^ 63) (hb : b < 2 ^ 63) : a ≠ b := by
  have h1 := n_lcr_eq_f h
  rw [pk_lT ha, pk_lT hb] at h1
  omega
theorem n_lc_ne_t {a b : Nat} (h : ¬ lg_cmp (lN a) (lN b) = 0) (ha : a < 2 ^ 63) (hb : b < 2 ^ 63) : a ≠ b := n_lc_eq_f h ha hb
theorem n_lc_ne_f {a b : Nat} (h : lg_cmp (lN a) (lN b) = 0) (ha : a < 2 ^ 63) (hb : b < 2 ^ 63) : a = b := n_lc_eq_t h ha hb
def shK (k : Nat) : Nat → Int64
  | 0 => wdF k
  | n + 1 => shK k n >>> ((nI 8).toInt64 &&& 63)
theorem shK_p : ∀ k, k < 7 → ∀ n, n < 7 → (n < (wC k).length → 0 < (shK k n).toInt) ∧ (n = (wC k).length → (shK k n).toInt ≤ 0) := by decide +kernel
theorem wtab : ∀ k, k < 7 → ∀ n, n < 6 → n < (wC k).length → (wdF k >>> ((nI (8 * ((wC k).length - 1 - n))).toInt64 &&& 63)) &&& lN 255 = lN ((wC k).getD n 0) := by decide +kernel
theorem wchr : ∀ k, k < 7 → ∀ n, n < 6 → (wC k).getD n 0 < 128 := by decide +kernel
/-- the text as the reference has it -/
def txR (T : List Nat) (text : Nat → Int32) (tl : Int32) : Prop := tl = nI T.length ∧ T.length ≤ 80 ∧ (∀ i, tC T i < 65536) ∧ ∀ i, i < T.length → text i = nI (tC T i)
theorem tC_lt {T : List Nat} (h : ∀ c ∈ T, c < 65536) (i : Nat) : tC T i < 65536 := by
  unfold tC
  rw [List.getD_eq_getElem?_getD]
  cases e : T[i]? with
  | none => decide
  | some c => exact h c (List.mem_of_getElem? e)
theorem mR_tx {S : oSt} {all hist : Nat → Int32} {hlo : Int32} {snap : Nat → Int32} {tk : Int32} {text : Nat → Int32} {tl : Int32} (h : mR S all hist hlo snap tk text tl) : txR S.2.2.2 text tl := by
  obtain ⟨so, -, -, -, et, tx⟩ := h
  refine ⟨et, so.2.2.2.1, fun i => tC_lt so.2.2.2.2 i, fun i hi => ?_⟩
  have e := List.getElem?_eq_getElem hi
  rw [tx i _ e]
  unfold tC
  rw [List.getD_eq_getElem?_getD, e]
  rfl
theorem isH_t {T : List Nat} {p lo hi : Nat} (h : isH T p lo hi = true) : p < T.length ∧ lo ≤ tC T p ∧ tC T p ≤ hi := of_decide_eq_true h
theorem isH_in {T : List Nat} {p lo hi : Nat} (h : p < T.length) (hc : tC T p < 65536) (hl : lo < 65536) (hh : hi < 65536) : inL (lN (tC T p)) (lN lo) (lN hi) = isH T p lo hi := by
  unfold inL isH
  rw [pk_lT (by omega), pk_lT (by omega), pk_lT (by omega)]
  exact decide_eq_decide.mpr (by omega)
theorem isH_no {T : List Nat} {p lo hi : Nat} (h : T.length ≤ p) : isH T p lo hi = false := decide_eq_false (by omega)
theorem tkP_le {T : List Nat} {p c : Nat} (h : p ≤ T.length) : p ≤ tkP T p c ∧ tkP T p c ≤ T.length := by
  unfold tkP
  split
  · rename_i q
    have := isH_t q
    omega
  · omega
theorem dgP_go {T : List Nat} {mo v p : Nat} (h1 : 0 < v) (h2 : isH T p 48 57 = true) (h3 : 10 * v + tC T p - 48 ≤ mo) : dgP T mo v p = dgP T mo (10 * v + tC T p - 48) (p + 1) := by
  rw [dgP, dif_pos ⟨h1, h2, h3⟩]
theorem dgP_end {T : List Nat} {mo v p : Nat} (h : ¬ (0 < v ∧ isH T p 48 57 = true ∧ 10 * v + tC T p - 48 ≤ mo)) : dgP T mo v p = (v, p) := by
  rw [dgP, dif_neg h]
theorem rdN_go {T : List Nat} {p le mo : Nat} (h1 : isH T p 32 32 = true) (h2 : isH T (p + 1) (48 + le) 57 = true) : rdN T p le mo = (true, dgP T mo (tC T (p + 1) - 48) (p + 2)) := by
  unfold rdN
  rw [if_pos h1, if_pos h2]
theorem rdN_1 {T : List Nat} {p le mo : Nat} (h1 : isH T p 32 32 = true) (h2 : isH T (p + 1) (48 + le) 57 = false) : rdN T p le mo = (false, 0, p + 1) := by
  unfold rdN
  rw [if_pos h1, if_neg (by rw [h2]; decide)]
theorem rdN_0 {T : List Nat} {p le mo : Nat} (h1 : isH T p 32 32 = false) : rdN T p le mo = (false, 0, p) := by
  unfold rdN
  rw [if_neg (by rw [h1]; decide)]
theorem wd_no {T : List Nat} {p k : Nat} {w1 : Int32} (g : ((∀ j, j < k → wFull T p j = false) ∧ w1 = cNONE) ∨ ∃ j, j < k ∧ wFull T p j = true ∧ w1 = nI j) (h : wFull T p k = false) : ((∀ j, j < k + 1 → wFull T p j = false) ∧ w1 = cNONE) ∨ ∃ j, j < k + 1 ∧ wFull T p j = true ∧ w1 = nI j := by
  rcases g with ⟨g, e⟩ | ⟨j, h1, h2, h3⟩
  · left
    refine ⟨fun j hj => ?_, e⟩
    by_cases q : j = k
    · subst q; exact h
    · exact g j (by omega)
  · exact Or.inr ⟨j, by omega, h2, h3⟩
theorem wd_end {T : List Nat} {p : Nat} {w1 : Int32} (g : ((∀ j, j < 7 → wFull T p j = false) ∧ w1 = cNONE) ∨ ∃ j, j < 7 ∧ wFull T p j = true ∧ w1 = nI j) : p + mxN (fun k => agC T p (wC k)) 7 = (rdW T p).2 ∧ w1 = (if (rdW T p).1 = 7 then cNONE else nI (rdW T p).1) := by
  rcases g with ⟨g, e⟩ | ⟨j, h1, h2, h3⟩
  · rw [rdW_none g]
    exact ⟨rfl, by rw [e]; rfl⟩
  · obtain ⟨a, b⟩ := rdW_full h1 h2
    rw [a, b]
    exact ⟨rfl, by rw [h3]; exact (if_neg (by show ¬ j = 7; omega)).symm⟩
