/-! ===== lines as they are read ===== -/
theorem nI_ne_none {k : Nat} (h : k < 2 ^ 31) : nI k ≠ cNONE := by
  intro e
  have h1 := nI_toInt h
  rw [e] at h1
  have : cNONE.toInt = -100000005 := by decide
  omega
theorem rdPs_stop {T : List Nat} {k p m : Nat} (h : (rdPs T k p m).1 = false) : ∀ j, m ≤ j → rdPs T k p j = rdPs T k p m := by
  intro j
  induction j with
  | zero => intro hj; have : m = 0 := by omega
            subst this; rfl
  | succ j ih =>
    intro hj
    by_cases e : m = j + 1
    · rw [e]
    · have i := ih (by omega)
      rw [rdPs, if_neg (by rw [i, h]; decide), i]
theorem rdPs_s1 {T : List Nat} {k p m : Nat} (h : (rdPs T k p m).1 = true) : (rdPs T k p (m + 1)).1 = (rdN T (rdPs T k p m).2.2 (bLo k (m + 1)) (bHi k (m + 1))).1 ∧ (rdPs T k p (m + 1)).2.2 = (rdN T (rdPs T k p m).2.2 (bLo k (m + 1)) (bHi k (m + 1))).2.2 ∧ (rdPs T k p (m + 1)).2.1 = fun w => if w = m + 1 then nI (rdN T (rdPs T k p m).2.2 (bLo k (m + 1)) (bHi k (m + 1))).2.1 else (rdPs T k p m).2.1 w := by
  rw [rdPs, if_pos h]
  exact ⟨rfl, rfl, rfl⟩
theorem rdL_go {T : List Nat} {p k p1 : Nat} (hk : k = (rdW T p).1) (hp : p1 = (rdW T p).2) (h7 : k ≠ 7) : rdL T p = rdPs T k p1 (ptN k) := by
  subst hk; subst hp
  unfold rdL
  rw [if_neg h7]
theorem rdL_no {T : List Nat} {p : Nat} (h7 : (rdW T p).1 = 7) : rdL T p = (false, (fun _ => 0), (rdW T p).2) := by
  unfold rdL
  rw [if_pos h7]
theorem row_s4 {T : List Nat} {k p m r : Nat} {rd : Nat → Int32} {x : Int32} (h : (rdPs T k p m).1 = true) (h2 : (rdPs T k p (m + 1)).1 = true) (g : ∀ w, w < 4 → rd (4 * r + w) = (rdPs T k p m).2.1 w) (hx : (rdN T (rdPs T k p m).2.2 (bLo k (m + 1)) (bHi k (m + 1))).1 = true → x = nI (rdN T (rdPs T k p m).2.2 (bLo k (m + 1)) (bHi k (m + 1))).2.1) : ∀ w, w < 4 → upd rd (4 * r + (m + 1)) x (4 * r + w) = (rdPs T k p (m + 1)).2.1 w := by
  obtain ⟨e1, e2, e3⟩ := rdPs_s1 h
  intro w hw
  rw [e3]
  by_cases q : w = m + 1
  · subst q
    rw [upd_s, hx (by rw [← e1]; exact h2)]
    simp
  · rw [upd_n (by omega), g w hw]
    simp [q]
def rowOk (row : Nat → Int32) : Prop := ∃ κ, κ < 7 ∧ row 0 = nI κ ∧ (∀ w, 1 ≤ w → w ≤ ptN κ → ∃ v, row w = nI v ∧ bLo κ w ≤ v ∧ v ≤ bHi κ w) ∧ ∀ w, ptN κ < w → w < 4 → row w = cNONE
theorem rdPs_row {T : List Nat} {k p : Nat} (hp : p ≤ T.length) (m : Nat) (h : (rdPs T k p m).1 = true) : (rdPs T k p m).2.1 0 = nI k ∧ (∀ w, 1 ≤ w → w ≤ m → ∃ v, (rdPs T k p m).2.1 w = nI v ∧ bLo k w ≤ v ∧ v ≤ bHi k w) ∧ ∀ w, m < w → w < 4 → (rdPs T k p m).2.1 w = cNONE := by
  induction m with
  | zero => exact ⟨rfl, fun w h1 h2 => by omega, fun w h1 _ => by show (if w = 0 then nI k else cNONE) = _; rw [if_neg (by omega)]⟩
  | succ m ih =>
    have h0 : (rdPs T k p m).1 = true := by
      cases q : (rdPs T k p m).1 with
      | true => rfl
      | false => rw [rdPs_stop q (m + 1) (by omega), q] at h; cases h
    obtain ⟨e1, e2, e3⟩ := rdPs_s1 h0
    obtain ⟨i1, i2, i3⟩ := ih h0
    have rm := rdPs_room (T := T) (k := k) hp m
    have ro := rdN_ok rm.2.1 (bHi_9 k (m + 1)).1 (by rw [← e1]; exact h)
    rw [e3]
    refine ⟨by simp [i1], fun w h1 h2 => ?_, fun w h1 h2 => ?_⟩
    · by_cases q : w = m + 1
      · subst q
        exact ⟨_, by simp, ro.2.2⟩
      · obtain ⟨v, v1, v2⟩ := i2 w h1 (by omega)
        exact ⟨v, by simp [q, v1], v2⟩
    · have q : ¬ w = m + 1 := by omega
      simp [q, i3 w (by omega) h2]
theorem rdL_row {T : List Nat} {p : Nat} (hp : p ≤ T.length) (h : (rdL T p).1 = true) : rowOk (rdL T p).2.1 := by
  obtain ⟨a, b, c, d⟩ := rdW_room hp
  by_cases h7 : (rdW T p).1 = 7
  · rw [rdL_no h7] at h; cases h
  · have e := rdL_go (T := T) (p := p) rfl rfl h7
    rw [e] at h ⊢
    have r := rdPs_row b _ h
    exact ⟨(rdW T p).1, by omega, r⟩
theorem ln_pt : ∀ κ, κ < 7 → lnBy κ ≤ ptN κ := by decide +kernel
/-! the whole text -/
theorem rdA_go {T : List Nat} {f p : Nat} {ls : List (Nat → Int32)} (h : (rdL T p).1 = true) (h2 : isH T (rdL T p).2.2 59 59 = true) : rdA T (f + 1) ls p = rdA T f (ls ++ [(rdL T p).2.1]) ((rdL T p).2.2 + 1) := by rw [rdA, if_pos h, if_pos h2]
theorem rdA_end {T : List Nat} {f p : Nat} {ls : List (Nat → Int32)} (h : (rdL T p).1 = true) (h2 : isH T (rdL T p).2.2 59 59 = false) : rdA T (f + 1) ls p = (decide ((rdL T p).2.2 = T.length), ls ++ [(rdL T p).2.1], (rdL T p).2.2) := by rw [rdA, if_pos h, if_neg (by rw [h2]; decide)]
theorem rdA_no {T : List Nat} {f p : Nat} {ls : List (Nat → Int32)} (h : (rdL T p).1 = false) : rdA T (f + 1) ls p = (false, ls, (rdL T p).2.2) := by rw [rdA, if_neg (by rw [h]; decide)]
/-- where the reading stands: going on, or at its end -/
def rdAt (T : List Nat) (mo : Bool) (f : Nat) (ls : List (Nat → Int32)) (pp : Nat) : Prop := (mo = true ∧ rdA T f ls pp = rdAll T ∧ T.length - pp < f) ∨ (mo = false ∧ rdAll T = (decide (pp = T.length), ls, pp))
theorem rdAt_0 (T : List Nat) : rdAt T true (T.length + 1) [] 0 := Or.inl ⟨rfl, rfl, by omega⟩
theorem rdAt_s {T : List Nat} {f pp : Nat} {ls : List (Nat → Int32)} (hp : pp ≤ T.length) (g : rdAt T true f ls pp) (h : (rdL T pp).1 = true) : rdAt T (isH T (rdL T pp).2.2 59 59) (f - 1) (ls ++ [(rdL T pp).2.1]) (tkP T (rdL T pp).2.2 59) := by
  rcases g with ⟨-, g1, g2⟩ | ⟨g0, -⟩
  · obtain ⟨f', rfl⟩ : ∃ f', f = f' + 1 := ⟨f - 1, by omega⟩
    have r := rdL_room hp
    have r5 := r.2.2 h
    cases q : isH T (rdL T pp).2.2 59 59 with
    | true =>
      have q2 := isH_t q
      left
      unfold tkP
      rw [if_pos q]
      exact ⟨rfl, by rw [← g1, rdA_go h q]; rfl, by omega⟩
    | false =>
      right
      unfold tkP
      rw [if_neg (by rw [q]; decide)]
      exact ⟨rfl, by rw [← g1, rdA_end h q]⟩
  · cases g0
theorem rdAt_f {T : List Nat} {f pp : Nat} {ls : List (Nat → Int32)} (g : rdAt T true f ls pp) (h : (rdL T pp).1 = false) : rdAll T = (false, ls, (rdL T pp).2.2) := by
  rcases g with ⟨-, g1, g2⟩ | ⟨g0, -⟩
  · obtain ⟨f', rfl⟩ : ∃ f', f = f' + 1 := ⟨f - 1, by omega⟩
    rw [← g1, rdA_no h]
  · cases g0
theorem rdAt_e {T : List Nat} {f pp : Nat} {ls : List (Nat → Int32)} (g : rdAt T false f ls pp) : rdAll T = (decide (pp = T.length), ls, pp) := by
  rcases g with ⟨g0, -⟩ | ⟨-, g1⟩
  · cases g0
  · exact g1
theorem rows_0 {T : List Nat} {k p r : Nat} {rd : Nat → Int32} (h0 : rd (4 * r + 0) = nI k) (h : ∀ w, 1 ≤ w → w < 4 → rd (4 * r + w) = cNONE) : ∀ w, w < 4 → rd (4 * r + w) = (rdPs T k p 0).2.1 w := by
  intro w hw
  show _ = (if w = 0 then nI k else cNONE)
  by_cases e : w = 0
  · subst e; rw [if_pos rfl]; exact h0
  · rw [if_neg e]; exact h w (by omega) hw
