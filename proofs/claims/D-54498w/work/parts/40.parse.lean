/-! ===== circuits as they are read: T the text, p a place in it ===== -/
def tC (T : List Nat) (i : Nat) : Nat := T.getD i 0
def isH (T : List Nat) (p lo hi : Nat) : Bool := decide (p < T.length ∧ lo ≤ tC T p ∧ tC T p ≤ hi)
def tkP (T : List Nat) (p c : Nat) : Nat := if isH T p c c then p + 1 else p
def wC : Nat → List Nat := fun k => [[115, 111, 117, 114, 99, 101], [97, 110, 100], [111, 114], [120, 111, 114], [109, 117, 120], [110, 111, 116], [100, 101, 108, 97, 121]].getD k []
def agC (T : List Nat) : Nat → List Nat → Nat
  | _, [] => 0
  | p, c :: w => if p < T.length ∧ tC T p = c then agC T (p + 1) w + 1 else 0
def wFull (T : List Nat) (p k : Nat) : Bool := decide (agC T p (wC k) = (wC k).length)
def rdW (T : List Nat) (p : Nat) : Nat × Nat := match (List.range 7).find? (wFull T p) with
  | some k => (k, p + (wC k).length)
  | none => (7, p + mxN (fun k => agC T p (wC k)) 7)
def dgP (T : List Nat) (mo v p : Nat) : Nat × Nat := if h : 0 < v ∧ isH T p 48 57 = true ∧ 10 * v + tC T p - 48 ≤ mo then dgP T mo (10 * v + tC T p - 48) (p + 1) else (v, p)
termination_by T.length - p
decreasing_by
  have := of_decide_eq_true h.2.1
  omega
def rdN (T : List Nat) (p le mo : Nat) : Bool × Nat × Nat :=
  if isH T p 32 32 then (if isH T (p + 1) (48 + le) 57 then (true, dgP T mo (tC T (p + 1) - 48) (p + 2)) else (false, 0, p + 1)) else (false, 0, p)
def bLo (k pl : Nat) : Nat := if k = 6 ∧ pl = 2 then 1 else if k = 0 ∧ pl = 2 then 1 else 0
def bHi (k pl : Nat) : Nat := if k = 6 ∧ pl = 2 then 60 else if k = 0 ∧ pl = 2 then 255 else if k = 0 then 256 else 15
def ptN (k : Nat) : Nat := if k = 4 then 3 else if k = 5 then 1 else 2
def rdPs (T : List Nat) (k p : Nat) : Nat → Bool × (Nat → Int32) × Nat
  | 0 => (true, (fun w => if w = 0 then nI k else cNONE), p)
  | m + 1 => if (rdPs T k p m).1 then ((rdN T (rdPs T k p m).2.2 (bLo k (m + 1)) (bHi k (m + 1))).1, (fun w => if w = m + 1 then nI (rdN T (rdPs T k p m).2.2 (bLo k (m + 1)) (bHi k (m + 1))).2.1 else (rdPs T k p m).2.1 w), (rdN T (rdPs T k p m).2.2 (bLo k (m + 1)) (bHi k (m + 1))).2.2) else rdPs T k p m
def rdL (T : List Nat) (p : Nat) : Bool × (Nat → Int32) × Nat := if (rdW T p).1 = 7 then (false, (fun _ => 0), (rdW T p).2) else rdPs T (rdW T p).1 (rdW T p).2 (ptN (rdW T p).1)
def rdA (T : List Nat) : Nat → List (Nat → Int32) → Nat → Bool × List (Nat → Int32) × Nat
  | 0, ls, p => (false, ls, p)
  | f + 1, ls, p => if (rdL T p).1 then (if isH T (rdL T p).2.2 59 59 then rdA T f (ls ++ [(rdL T p).2.1]) ((rdL T p).2.2 + 1) else (decide ((rdL T p).2.2 = T.length), ls ++ [(rdL T p).2.1], (rdL T p).2.2)) else (false, ls, (rdL T p).2.2)
def rdAll (T : List Nat) : Bool × List (Nat → Int32) × Nat := rdA T (T.length + 1) [] 0
def ahd (row : Nat → Int32) (m : Nat) : Bool := decide ((lnBy (row 0).toNatClampNeg < 1 ∨ (row 1).toNatClampNeg < m) ∧ (lnBy (row 0).toNatClampNeg < 2 ∨ (row 2).toNatClampNeg < m) ∧ (lnBy (row 0).toNatClampNeg < 3 ∨ (row 3).toNatClampNeg < m))
def ahAll (n : Nat) : List (Nat → Int32) → Bool
  | [] => true
  | r :: ls => ahd r n && ahAll (n + 1) ls
def addAll (b : nBe) (ls : List (Nat → Int32)) : nBe := ls.foldl (fun b r => beAdd b (r 0) (r 1) (r 2) (r 3)) b
def spRead (S : oSt) : Int32 × oSt :=
  if (rdAll S.2.2.2).1 then (if ahAll S.1.1 (rdAll S.2.2.2).2.1 then (if 16 < S.1.1 + (rdAll S.2.2.2).2.1.length then (cFULL, S) else (nI (S.1.1 + (rdAll S.2.2.2).2.1.length), spAcc S (addAll S.1 (rdAll S.2.2.2).2.1))) else (cUNK, S)) else (cFAULT - nI (rdAll S.2.2.2).2.2, S)
/-! words -/
theorem agC_eq {T : List Nat} : ∀ (w : List Nat) (p n : Nat), (∀ i, i < n → p + i < T.length ∧ tC T (p + i) = w.getD i 0) → n ≤ w.length → (n = w.length ∨ ¬ (p + n < T.length ∧ tC T (p + n) = w.getD n 0)) → agC T p w = n := by
  intro w
  induction w with
  | nil => intro p n _ h _; have e : n = 0 := (by simpa using h); rw [e]; rfl
  | cons c w ih =>
    intro p n h1 h2 h3
    cases n with
    | zero =>
      rcases h3 with h3 | h3
      · simp at h3
      · rw [agC, if_neg (by simpa using h3)]
    | succ n =>
      have h0 := h1 0 (by omega)
      rw [agC, if_pos (by simpa using h0)]
      congr 1
      refine ih (p + 1) n (fun i hi => ?_) (by simp at h2; omega) ?_
      · have := h1 (i + 1) (by omega)
        rw [show p + 1 + i = p + (i + 1) by omega]
        simpa using this
      · rcases h3 with h3 | h3
        · left; simp at h3; exact h3
        · right
          rw [show p + 1 + n = p + (n + 1) by omega]
          simpa using h3
theorem agC_le {T : List Nat} : ∀ (w : List Nat) (p : Nat), agC T p w ≤ w.length := by
  intro w
  induction w with
  | nil => intro p; exact Nat.le_refl _
  | cons c w ih => intro p; rw [agC]; split <;> simp; exact ih _
theorem agC_room {T : List Nat} : ∀ (w : List Nat) (p : Nat), p ≤ T.length → p + agC T p w ≤ T.length := by
  intro w
  induction w with
  | nil => intro p h; exact h
  | cons c w ih =>
    intro p h
    rw [agC]
    split
    · rename_i q
      have := ih (p + 1) (by omega)
      omega
    · exact h
/-- how far two words go together -/
def lcp : List Nat → List Nat → Nat
  | c :: u, d :: v => if c = d then lcp u v + 1 else 0
  | _, _ => 0
theorem agC_lcp {T : List Nat} : ∀ (u v : List Nat) (p : Nat), agC T p u = u.length → lcp u v < u.length → agC T p v = lcp u v := by
  intro u
  induction u with
  | nil => intro v p _ h; simp at h
  | cons c u ih =>
    intro v p h1 h2
    rw [agC] at h1
    split at h1
    · rename_i q
      cases v with
      | nil => rfl
      | cons d v =>
        rw [lcp] at h2 ⊢
        rw [agC]
        by_cases e : c = d
        · rw [if_pos e] at h2 ⊢
          rw [if_pos ⟨q.1, by rw [q.2, e]⟩]
          congr 1
          exact ih v (p + 1) (by simpa using h1) (by simpa using h2)
        · rw [if_neg e, if_neg (fun z => e (q.2.symm.trans z.2))]
    · simp at h1
theorem wC_lcp : ∀ j, j < 7 → ∀ k, k < 7 → j ≠ k → lcp (wC j) (wC k) < (wC j).length ∧ lcp (wC j) (wC k) < (wC k).length := by decide +kernel
theorem wC_len : ∀ k, k < 7 → 2 ≤ (wC k).length ∧ (wC k).length ≤ 6 := by decide +kernel
theorem wFull_one {T : List Nat} {p j k : Nat} (hj : j < 7) (hk : k < 7) (h : wFull T p j = true) (hne : j ≠ k) : wFull T p k = false ∧ agC T p (wC k) < (wC j).length := by
  have h1 := of_decide_eq_true h
  obtain ⟨a, b⟩ := wC_lcp j hj k hk hne
  have e := agC_lcp _ (wC k) p h1 a
  exact ⟨decide_eq_false (by omega), by omega⟩
theorem rdW_full {T : List Nat} {p j : Nat} (hj : j < 7) (h : wFull T p j = true) : rdW T p = (j, p + (wC j).length) ∧ mxN (fun k => agC T p (wC k)) 7 = (wC j).length := by
  constructor
  · have hf : (List.range 7).find? (wFull T p) = some j := by
      cases hq : (List.range 7).find? (wFull T p) with
      | none =>
        have := List.find?_eq_none.mp hq j (List.mem_range.mpr hj)
        simp [h] at this
      | some k =>
        have h2 := List.find?_some hq
        have h3 := List.mem_range.mp (List.mem_of_find?_eq_some hq)
        by_cases e : k = j
        · rw [e]
        · have := (wFull_one hj h3 h (fun q => e q.symm)).1
          rw [h2] at this
          cases this
    unfold rdW
    rw [hf]
  · have h1 := of_decide_eq_true h
    have up : ∀ t, t < 7 → agC T p (wC t) ≤ (wC j).length := fun t ht => by
      by_cases e : j = t
      · subst e; omega
      · have := (wFull_one hj ht h e).2; omega
    have lo : ∀ n, j < n → agC T p (wC j) ≤ mxN (fun k => agC T p (wC k)) n := by
      intro n
      induction n with
      | zero => intro q; omega
      | succ n ih =>
        intro q
        rw [mxN]
        by_cases e : j = n
        · subst e; omega
        · have := ih (by omega); omega
    have a := mxN_le (g := fun k => agC T p (wC k)) up
    have b := lo 7 hj
    omega
theorem rdW_none {T : List Nat} {p : Nat} (h : ∀ j, j < 7 → wFull T p j = false) : rdW T p = (7, p + mxN (fun k => agC T p (wC k)) 7) := by
  unfold rdW
  rw [List.find?_eq_none.mpr (fun j hj => by rw [h j (List.mem_range.mp hj)]; decide)]
/-! what is read stays in the text, and is at least so long -/
theorem dgP_le {T : List Nat} {mo : Nat} : ∀ (d v p : Nat), T.length - p = d → p ≤ T.length → v ≤ mo → p ≤ (dgP T mo v p).2 ∧ (dgP T mo v p).2 ≤ T.length ∧ v ≤ (dgP T mo v p).1 ∧ (dgP T mo v p).1 ≤ mo := by
  intro d
  induction d using Nat.strongRecOn with
  | ind d ih =>
    intro v p hd hp hv
    rw [dgP]
    split
    · rename_i h
      have h1 := of_decide_eq_true h.2.1
      obtain ⟨a, b, c, e⟩ := ih (T.length - (p + 1)) (by omega) (10 * v + tC T p - 48) (p + 1) rfl (by omega) h.2.2
      exact ⟨by omega, b, by omega, e⟩
    · exact ⟨Nat.le_refl _, hp, Nat.le_refl _, hv⟩
theorem rdN_ok {T : List Nat} {p le mo : Nat} (hp : p ≤ T.length) (hm : 9 ≤ mo) (h : (rdN T p le mo).1 = true) : p + 2 ≤ (rdN T p le mo).2.2 ∧ (rdN T p le mo).2.2 ≤ T.length ∧ le ≤ (rdN T p le mo).2.1 ∧ (rdN T p le mo).2.1 ≤ mo := by
  unfold rdN at h ⊢
  split at h
  · split at h
    · rename_i h1 h2
      have a1 := of_decide_eq_true h1
      have a2 := of_decide_eq_true h2
      rw [if_pos h1, if_pos h2]
      obtain ⟨a, b, c, d⟩ := dgP_le (T := T) (mo := mo) _ (tC T (p + 1) - 48) (p + 2) rfl (by omega) (by omega)
      exact ⟨a, b, Nat.le_trans (by omega) c, d⟩
    · cases h
  · cases h
theorem rdN_room {T : List Nat} {p le mo : Nat} (hp : p ≤ T.length) (hm : 9 ≤ mo) : p ≤ (rdN T p le mo).2.2 ∧ (rdN T p le mo).2.2 ≤ T.length := by
  cases h : (rdN T p le mo).1 with
  | true => have := rdN_ok hp hm h; omega
  | false =>
    unfold rdN at h ⊢
    split at h
    · split at h
      · cases h
      · rename_i h1 h2
        have a1 := of_decide_eq_true h1
        rw [if_pos h1, if_neg h2]
        exact ⟨by show p ≤ p + 1; omega, by show p + 1 ≤ _; omega⟩
    · rename_i h1
      rw [if_neg h1]
      exact ⟨Nat.le_refl _, hp⟩
theorem bHi_9 (k pl : Nat) : 9 ≤ bHi k pl ∧ bHi k pl ≤ 256 ∧ bLo k pl ≤ 1 := by
  unfold bHi bLo
  refine ⟨?_, ?_, ?_⟩ <;> (repeat' split) <;> omega
theorem rdPs_room {T : List Nat} {k p : Nat} (hp : p ≤ T.length) (m : Nat) : p ≤ (rdPs T k p m).2.2 ∧ (rdPs T k p m).2.2 ≤ T.length ∧ ((rdPs T k p m).1 = true → p + 2 * m ≤ (rdPs T k p m).2.2) := by
  induction m with
  | zero => exact ⟨Nat.le_refl _, hp, fun _ => Nat.le_refl _⟩
  | succ m ih =>
    obtain ⟨a, b, c⟩ := ih
    have h9 := bHi_9 k (m + 1)
    rw [rdPs]
    split
    · rename_i h
      have r := rdN_room (T := T) (le := bLo k (m + 1)) b h9.1
      refine ⟨Nat.le_trans a r.1, r.2, fun q => ?_⟩
      have r2 := rdN_ok (T := T) b h9.1 q
      have := c h
      show p + 2 * (m + 1) ≤ (rdN T _ _ _).2.2
      omega
    · rename_i h
      exact ⟨a, b, fun q => absurd q h⟩
theorem rdW_room {T : List Nat} {p : Nat} (hp : p ≤ T.length) : p ≤ (rdW T p).2 ∧ (rdW T p).2 ≤ T.length ∧ (rdW T p).1 ≤ 7 ∧ ((rdW T p).1 ≠ 7 → (rdW T p).2 = p + (wC (rdW T p).1).length) := by
  by_cases h : ∃ j, j < 7 ∧ wFull T p j = true
  · obtain ⟨j, hj, h1⟩ := h
    have e := (rdW_full hj h1).1
    have a := of_decide_eq_true h1
    have r := agC_room (wC j) p hp
    rw [e]
    exact ⟨by show p ≤ p + _; omega, by show p + _ ≤ _; omega, by show j ≤ 7; omega, fun _ => rfl⟩
  · have e := rdW_none (T := T) (p := p) (fun j hj => by
      cases hq : wFull T p j with
      | false => rfl
      | true => exact absurd ⟨j, hj, hq⟩ h)
    rw [e]
    have m := mxN_le (g := fun k => agC T p (wC k)) (n := 7) (c := T.length - p) (fun t _ => by have := agC_room (wC t) p hp; show agC T p (wC t) ≤ _; omega)
    exact ⟨by show p ≤ p + _; omega, by show p + _ ≤ _; omega, Nat.le_refl _, fun q => absurd rfl q⟩
theorem rdL_room {T : List Nat} {p : Nat} (hp : p ≤ T.length) : p ≤ (rdL T p).2.2 ∧ (rdL T p).2.2 ≤ T.length ∧ ((rdL T p).1 = true → p + 5 ≤ (rdL T p).2.2) := by
  obtain ⟨a, b, c, d⟩ := rdW_room hp
  unfold rdL
  split
  · exact ⟨a, b, fun h => by cases h⟩
  · rename_i h
    obtain ⟨x, y, z⟩ := rdPs_room (T := T) (k := (rdW T p).1) b (ptN (rdW T p).1)
    refine ⟨Nat.le_trans a x, y, fun q => ?_⟩
    have q2 := z q
    have d2 := d h
    have hk : ∀ k, k < 7 → 5 ≤ (wC k).length + 2 * ptN k := by decide +kernel
    have := hk (rdW T p).1 (by omega)
    omega
