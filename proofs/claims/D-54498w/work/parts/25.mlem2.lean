/-! ===== what the acts do to the reference's rows ===== -/
theorem bRow_set {all : Nat → Int32} {b : nBe} (h : bRow all b) {k : Nat} (hk : k < b.1) (x y : Int32) : bRow (upd (upd all (2 + 4 * k + 1) x) (2 + 4 * k + 2) y) (beSet b k x y) := by
  obtain ⟨h1, h2, h3⟩ := h
  refine ⟨by rw [upd_n (by omega), upd_n (by omega), h1]; rfl, by rw [upd_n (by omega), upd_n (by omega), h2]; rfl, fun j hj w hw => ?_⟩
  have hj : j < b.1 := hj
  by_cases e : j = k
  · subst e
    have h0 := h3 j hj
    rcases (by omega : w = 0 ∨ w = 1 ∨ w = 2 ∨ w = 3) with z | z | z | z <;> subst z
    · rw [upd_n (by omega), upd_n (by omega), h0 0 (by omega)]; simp [beSet]
    · rw [upd_n (by omega), upd_s]; simp [beSet]
    · rw [upd_s]; simp [beSet]
    · rw [upd_n (by omega), upd_n (by omega), h0 3 (by omega)]; simp [beSet]
  · rw [upd_n (by omega), upd_n (by omega), h3 j hj w hw]
    simp [beSet, e]
theorem bRow_pop {all : Nat → Int32} {b : nBe} (h : bRow all b) : bRow (upd all 0 (nI (b.1 - 1))) (b.1 - 1, b.2) := by
  obtain ⟨h1, h2, h3⟩ := h
  refine ⟨by rw [upd_s], by rw [upd_n (by omega), h2], fun j hj w hw => ?_⟩
  have hj : j < b.1 - 1 := hj
  rw [upd_n (by omega), h3 j (by omega) w hw]
theorem bRow_len {all : Nat → Int32} {b : nBe} (h : bRow all b) (m : Nat) : bRow (upd all 1 (nI m)) (b.1, b.2.1, m) := by
  obtain ⟨h1, h2, h3⟩ := h
  refine ⟨by rw [upd_n (by omega), h1], by rw [upd_s], fun j hj w hw => ?_⟩
  rw [upd_n (by omega), h3 j hj w hw]
theorem beOk_pop {b : nBe} (h : beOk b) : beOk (b.1 - 1, b.2) := ⟨by show b.1 - 1 ≤ 16; have := h.1; omega, h.2.1, fun k hk => h.2.2 k (by have hk : k < b.1 - 1 := hk; omega)⟩
theorem beOk_len {b : nBe} (h : beOk b) {m : Nat} (h1 : 1 ≤ m) (h2 : m ≤ 1000) : beOk (b.1, b.2.1, m) := ⟨h.1, ⟨h1, h2⟩, h.2.2⟩
section MR
variable {S : oSt} {all hist : Nat → Int32} {hlo : Int32} {snap : Nat → Int32} {tk : Int32} {text : Nat → Int32} {tl : Int32}
theorem getLast_at {α : Type} {L : List α} (h : L.length ≠ 0) : ∃ b, L.getLast? = some b ∧ L[L.length - 1]? = some b := by
  have e := List.getLast?_eq_getElem? (l := L)
  have hl : L.length - 1 < L.length := by omega
  refine ⟨L[L.length - 1], ?_, List.getElem?_eq_getElem hl⟩
  rw [e, List.getElem?_eq_getElem hl]
theorem mR_undo (h : mR S all hist hlo snap tk text tl) (hne : S.2.1.length ≠ 0) {al : Nat → Int32} (g : ∀ k, k < 66 → al k = hist (66 * (S.2.1.length - 1) + k)) : (spUndo S).1 = nI (S.2.1.length - 1) ∧ mR (spUndo S).2 al hist (nI (S.2.1.length - 1)) snap tk text tl := by
  obtain ⟨so, ba, ⟨eh, hh⟩, sn, tx⟩ := h
  obtain ⟨b, h1, h2⟩ := getLast_at hne
  unfold spUndo
  rw [h1]
  have hb := so.2.1.2 b (List.mem_of_getElem? h2)
  refine ⟨rfl, ⟨hb, ⟨?_, fun c hc => so.2.1.2 c (List.dropLast_subset _ hc)⟩, so.2.2⟩, bRow_to (hh _ b h2) hb.1 g, ⟨by simp, fun i c hc => ?_⟩, sn, tx⟩
  · have := so.2.1.1
    simp; omega
  · have hc : S.2.1.dropLast[i]? = some c := hc
    rw [List.getElem?_dropLast] at hc
    split at hc
    · exact hh i c hc
    · cases hc
theorem mR_keep (h : mR S all hist hlo snap tk text tl) {sn' : Nat → Int32} (g : ∀ k, k < 66 → sn' k = all k) : mR (spKeep S).2 all hist hlo sn' (nI 1) text tl := by
  obtain ⟨so, ba, hh, sn, tx⟩ := h
  refine ⟨⟨so.1, so.2.1, fun b hb => ?_, so.2.2.2⟩, ba, hh, ⟨rfl, fun b hb => ?_⟩, tx⟩
  · cases hb; exact so.1
  · cases hb; exact bRow_to ba so.1.1 g
theorem mR_type (h : mR S all hist hlo snap tk text tl) (hl : S.2.2.2.length < 80) {c : Nat} (hc : c < 65536) : mR (S.1, S.2.1, S.2.2.1, S.2.2.2 ++ [c]) all hist hlo snap tk (upd text S.2.2.2.length (nI c)) (nI (S.2.2.2.length + 1)) := by
  obtain ⟨so, ba, hh, sn, et, tx⟩ := h
  refine ⟨⟨so.1, so.2.1, so.2.2.1, by simp; omega, fun x hx => ?_⟩, ba, hh, sn, by simp, fun i x hx => ?_⟩
  · rcases List.mem_append.mp hx with q | q
    · exact so.2.2.2.2 x q
    · simp at q; omega
  · have hx : (S.2.2.2 ++ [c])[i]? = some x := hx
    by_cases e : i < S.2.2.2.length
    · rw [List.getElem?_append_left e] at hx
      rw [upd_n (by omega)]
      exact tx i x hx
    · rw [List.getElem?_append_right (by omega)] at hx
      have hz := (List.getElem?_eq_some_iff.mp hx).1
      simp at hz
      have hi : i = S.2.2.2.length := by omega
      subst hi
      simp at hx
      subst hx
      rw [upd_s]
theorem mR_clear (h : mR S all hist hlo snap tk text tl) : mR (spClear S).2 all hist hlo snap tk text (nI 0) := by
  obtain ⟨so, ba, hh, sn, et, tx⟩ := h
  exact ⟨⟨so.1, so.2.1, so.2.2.1, by show 0 ≤ 80; omega, fun x hx => by have hx : x ∈ ([] : List Nat) := hx; simp at hx⟩, ba, hh, sn, rfl, fun i x hx => by have hx : ([] : List Nat)[i]? = some x := hx; simp at hx⟩
end MR
