/-! ===== circuits ===== -/
def rowsR (rd : Nat → Int32) (ls : List (Nat → Int32)) : Prop := ∀ (i : Nat) (row : Nat → Int32), ls[i]? = some row → ∀ w, w < 4 → rd (4 * i + w) = row w
theorem rowsR_s {rd rd1 : Nat → Int32} {ls : List (Nat → Int32)} {row : Nat → Int32} (g : rowsR rd ls) (h1 : ∀ v, v < 4 * ls.length → rd1 v = rd v) (h2 : ∀ w, w < 4 → rd1 (4 * ls.length + w) = row w) : rowsR rd1 (ls ++ [row]) := by
  intro i r hr w hw
  by_cases e : i < ls.length
  · rw [List.getElem?_append_left e] at hr
    rw [h1 _ (by omega)]
    exact g i r hr w hw
  · rw [List.getElem?_append_right (by omega)] at hr
    have hz := (List.getElem?_eq_some_iff.mp hr).1
    simp at hz
    have hi : i = ls.length := by omega
    subst hi
    simp at hr
    subst hr
    exact h2 w hw
theorem rdA_inv {T : List Nat} : ∀ (f p : Nat) (ls : List (Nat → Int32)), p ≤ T.length → 5 * ls.length ≤ p → (∀ r ∈ ls, rowOk r) → 5 * (rdA T f ls p).2.1.length ≤ T.length ∧ (∀ r ∈ (rdA T f ls p).2.1, rowOk r) ∧ (rdA T f ls p).2.2 ≤ T.length := by
  intro f
  induction f with
  | zero => intro p ls h1 h2 h3; exact ⟨by show 5 * ls.length ≤ _; omega, h3, h1⟩
  | succ f ih =>
    intro p ls h1 h2 h3
    have r := rdL_room (T := T) h1
    have h4 : (rdL T p).1 = true → ∀ r ∈ ls ++ [(rdL T p).2.1], rowOk r := fun h q hq => by
      rcases List.mem_append.mp hq with z | z
      · exact h3 q z
      · simp at z; subst z; exact rdL_row h1 h
    cases q : (rdL T p).1 with
    | false => rw [rdA_no q]; exact ⟨by show 5 * ls.length ≤ _; omega, h3, r.2.1⟩
    | true =>
      have r5 := r.2.2 q
      cases q2 : isH T (rdL T p).2.2 59 59 with
      | true =>
        rw [rdA_go q q2]
        have := isH_t q2
        exact ih _ _ (by omega) (by simp; omega) (h4 q)
      | false =>
        rw [rdA_end q q2]
        exact ⟨by show 5 * (ls ++ [_]).length ≤ _; simp; omega, h4 q, r.2.1⟩
theorem rdAll_inv (T : List Nat) : 5 * (rdAll T).2.1.length ≤ T.length ∧ (∀ r ∈ (rdAll T).2.1, rowOk r) ∧ (rdAll T).2.2 ≤ T.length := rdA_inv _ 0 [] (Nat.zero_le _) (Nat.zero_le _) (fun r h => by cases h)
theorem addAll_nil (b : nBe) : addAll b [] = b := rfl
theorem addAll_snoc (b : nBe) (ls : List (Nat → Int32)) (r : Nat → Int32) : addAll b (ls ++ [r]) = beAdd (addAll b ls) (r 0) (r 1) (r 2) (r 3) := by
  unfold addAll; rw [List.foldl_append]; rfl
theorem addAll_n (ls : List (Nat → Int32)) : ∀ b : nBe, (addAll b ls).1 = b.1 + ls.length := by
  induction ls with
  | nil => intro b; rfl
  | cons r ls ih =>
    intro b
    have h := ih (beAdd b (r 0) (r 1) (r 2) (r 3))
    have e : addAll b (r :: ls) = addAll (beAdd b (r 0) (r 1) (r 2) (r 3)) ls := rfl
    rw [e, h]
    show b.1 + 1 + ls.length = b.1 + (r :: ls).length
    simp; omega
def d0 : Nat → Int32 := fun _ => 0
theorem take_s {ls : List (Nat → Int32)} {i : Nat} (h : i < ls.length) : ls.take (i + 1) = ls.take i ++ [ls.getD i d0] := by
  rw [List.take_succ]
  congr 1
  rw [List.getD_eq_getElem?_getD, List.getElem?_eq_getElem h]
  rfl
theorem rowsR_at {rd : Nat → Int32} {ls : List (Nat → Int32)} (g : rowsR rd ls) {i : Nat} (h : i < ls.length) {w : Nat} (hw : w < 4) : rd (4 * i + w) = ls.getD i d0 w := by
  refine g i _ ?_ w hw
  rw [List.getD_eq_getElem?_getD, List.getElem?_eq_getElem h]
  rfl
theorem getD_mem {ls : List (Nat → Int32)} {i : Nat} (h : i < ls.length) : ls.getD i d0 ∈ ls := by
  rw [List.getD_eq_getElem?_getD, List.getElem?_eq_getElem h]
  exact List.getElem_mem h
theorem ahAll_t {ls : List (Nat → Int32)} : ∀ {n : Nat}, (∀ i, i < ls.length → ahd (ls.getD i d0) (n + i) = true) → ahAll n ls = true := by
  induction ls with
  | nil => intro n _; rfl
  | cons r ls ih =>
    intro n h
    rw [ahAll, Bool.and_eq_true]
    refine ⟨h 0 (by simp), ih (fun i hi => ?_)⟩
    have := h (i + 1) (by simp; omega)
    rw [show n + 1 + i = n + (i + 1) by omega]
    exact this
theorem ahAll_f {ls : List (Nat → Int32)} : ∀ {n i : Nat}, i < ls.length → ahd (ls.getD i d0) (n + i) = false → ahAll n ls = false := by
  induction ls with
  | nil => intro n i h; simp at h
  | cons r ls ih =>
    intro n i hi h
    rw [ahAll]
    cases i with
    | zero =>
      have h : ahd r n = false := h
      rw [h]; rfl
    | succ i =>
      have h : ahd (ls.getD i d0) (n + (i + 1)) = false := h
      rw [ih (n := n + 1) (i := i) (by simp at hi; omega) (by rw [show n + 1 + i = n + (i + 1) by omega]; exact h), Bool.and_false]
def ahU (row : Nat → Int32) (m : Nat) : Nat → Bool
  | 0 => true
  | w + 1 => ahU row m w && decide ((row (w + 1)).toNatClampNeg < m)
theorem ahU_t {row : Nat → Int32} {m w : Nat} (h1 : ahU row m w = true) (h2 : (row (w + 1)).toNatClampNeg < m) : nI 1 = bI (ahU row m (w + 1)) := by rw [ahU, h1, decide_eq_true h2]; rfl
theorem ahU_f1 {row : Nat → Int32} {m w : Nat} (h1 : ahU row m w = false) : nI 0 = bI (ahU row m (w + 1)) := by rw [ahU, h1]; rfl
theorem ahU_f2 {row : Nat → Int32} {m w : Nat} (h2 : m ≤ (row (w + 1)).toNatClampNeg) : nI 0 = bI (ahU row m (w + 1)) := by rw [ahU, decide_eq_false (by omega), Bool.and_false]; rfl
theorem ahU_ahd (row : Nat → Int32) (m : Nat) : ahU row m (lnBy (row 0).toNatClampNeg) = ahd row m := by
  unfold ahd
  have h3 := lnBy_le (row 0).toNatClampNeg
  rcases (by omega : lnBy (row 0).toNatClampNeg = 0 ∨ lnBy (row 0).toNatClampNeg = 1 ∨ lnBy (row 0).toNatClampNeg = 2 ∨ lnBy (row 0).toNatClampNeg = 3) with z | z | z | z <;> rw [z] <;> simp [ahU, Bool.and_assoc]
theorem row_ok {b : nBe} {row : Nat → Int32} (hn : b.1 ≤ 16) (h : rowOk row) (ha : ahd row b.1 = true) : lnOk (beAdd b (row 0) (row 1) (row 2) (row 3)).2.1 b.1 := by
  obtain ⟨e0, e1, e2, e3⟩ := beAdd_n b (row 0) (row 1) (row 2) (row 3)
  obtain ⟨κ, hκ, r0, r1, r2⟩ := h
  have hk : (row 0).toNatClampNeg = κ := by rw [r0, nI_clamp (by omega)]
  have a := of_decide_eq_true ha
  rw [hk] at a
  have nat : ∀ w, 1 ≤ w → w ≤ ptN κ → ∃ v, row w = nI v ∧ (row w).toNatClampNeg = v ∧ bLo κ w ≤ v ∧ v ≤ bHi κ w := fun w h1 h2 => by
    obtain ⟨v, v1, v2, v3⟩ := r1 w h1 h2
    have := bHi_9 κ w
    exact ⟨v, v1, by rw [v1, nI_clamp (by omega)], v2, v3⟩
  refine lnOk_of (κ := κ) hn (by rw [e0, r0]) (by omega) (fun z => ?_) (fun z => ?_) (fun z => ?_) (fun z => ?_) (fun z => ?_) (fun z => ?_) (fun z => ?_)
  · subst z
    obtain ⟨v, v1, v2, v3, v4⟩ := nat 1 (by decide) (by decide)
    obtain ⟨u, u1, u2, u3, u4⟩ := nat 2 (by decide) (by decide)
    exact ⟨v, u, by rw [e1, v1], v4, by rw [e2, u1], u3, u4⟩
  · have hp : 1 ≤ ptN κ ∧ 1 ≤ lnBy κ := by
      rcases (by omega : κ = 1 ∨ κ = 2 ∨ κ = 3 ∨ κ = 4 ∨ κ = 5 ∨ κ = 6) with q | q | q | q | q | q <;> subst q <;> decide
    obtain ⟨v, v1, v2, -⟩ := nat 1 (by decide) hp.1
    exact ⟨v, by rw [e1, v1], by omega⟩
  · have hp : 2 ≤ ptN κ ∧ 2 ≤ lnBy κ := by
      rcases (by omega : κ = 1 ∨ κ = 2 ∨ κ = 3 ∨ κ = 4) with q | q | q | q <;> subst q <;> decide
    obtain ⟨v, v1, v2, -⟩ := nat 2 (by decide) hp.1
    exact ⟨v, by rw [e2, v1], by omega⟩
  · subst z
    obtain ⟨v, v1, v2, -⟩ := nat 3 (by decide) (by decide)
    have : lnBy 4 = 3 := rfl
    exact ⟨v, by rw [e3, v1], by omega⟩
  · subst z
    obtain ⟨v, v1, v2, v3, v4⟩ := nat 2 (by decide) (by decide)
    exact ⟨v, by rw [e2, v1], v3, v4⟩
  · have hp : ptN κ < 3 := by unfold ptN; rw [if_neg z]; split <;> omega
    rw [e3]
    exact r2 3 hp (by decide)
  · subst z
    rw [e2]
    exact r2 2 (by decide) (by decide)
theorem addAll_ok {b : nBe} {ls : List (Nat → Int32)} (hb : beOk b) (hr : ∀ r ∈ ls, rowOk r) (ha : ∀ i, i < ls.length → ahd (ls.getD i d0) (b.1 + i) = true) (hn : b.1 + ls.length ≤ 16) : ∀ i, i ≤ ls.length → beOk (addAll b (ls.take i)) := by
  intro i
  induction i with
  | zero => intro _; exact hb
  | succ i ih =>
    intro hi
    have h1 := ih (by omega)
    have hl : (ls.take i).length = i := by simp; omega
    have h2 := addAll_n (ls.take i) b
    rw [hl] at h2
    rw [take_s (by omega), addAll_snoc]
    exact beAdd_ok h1 (by omega) (row_ok (by omega) (hr _ (getD_mem (by omega))) (by rw [h2]; exact ha i (by omega)))
theorem ms_dec {k_ L pp p2 : Nat} {m2 : Bool} (h : (if true = true then 1 else 0) + (L - pp) < k_ + 1) (h1 : pp + 5 ≤ p2) (h2 : p2 ≤ L) : (if m2 = true then 1 else 0) + (L - p2) < k_ := by
  cases m2 <;> simp at h ⊢ <;> omega
