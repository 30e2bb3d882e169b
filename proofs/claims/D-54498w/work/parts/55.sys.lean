/-! the system's object, as a whole -/
theorem lsE_of {G : nG} {rc : va_W} {n : Nat} {f : Nat → Option Nat} {F : Nat → Nat → Int32} (h : ∀ i, i < n → ∃ y, f i = some y ∧ iLine G rc y (F i)) : lsE rc 4 n f := by
  intro i hi
  obtain ⟨y, h1, a, L, g, h2, -⟩ := h i hi
  exact ⟨y, _, h1, h2⟩
def iSnap (G : nG) (rc : va_W) (o : Option nBe) (sn : Option Nat) : Prop := match o with
  | none => sn = none
  | some B => ∃ y, sn = some y ∧ iBench G rc y B
def iHist (G : nG) (rc : va_W) (hs : List nBe) (n : Nat) (f : Nat → Option Nat) : Prop := n = hs.length ∧ ∀ i, i < n → ∃ y B, f i = some y ∧ hs[i]? = some B ∧ iBench G rc y B
def iSys (G : nG) (rc : va_W) (S : oSt) (b : Nat) (sn : Option Nat) (X : va_W) (ea n cap : Nat) (f : Nat → Option Nat) : Prop := iBench G rc b S.1 ∧ iSnap G rc S.2.2.1 sn ∧ lsX G X ea n cap f ∧ cap ≤ 30 ∧ iHist G rc S.2.1 n f
theorem iSnap.mono {G : nG} {r1 r2 : va_W} {o : Option nBe} {sn : Option Nat} (h : ∀ z ∈ r1, z ∈ r2) (hb : iSnap G r1 o sn) : iSnap G r2 o sn := by
  cases o with
  | none => exact hb
  | some B => obtain ⟨y, h1, h2⟩ := hb; exact ⟨y, h1, h2.mono h⟩
theorem iHist.mono {G : nG} {r1 r2 : va_W} {hs : List nBe} {n : Nat} {f : Nat → Option Nat} (h : ∀ z ∈ r1, z ∈ r2) (hb : iHist G r1 hs n f) : iHist G r2 hs n f := by
  refine ⟨hb.1, fun i hi => ?_⟩
  obtain ⟨y, B, h1, h2, h3⟩ := hb.2 i hi
  exact ⟨y, B, h1, h2, h3.mono h⟩
theorem iSys.mono {G : nG} {r1 r2 : va_W} {S : oSt} {b : Nat} {sn : Option Nat} {X : va_W} {ea n cap : Nat} {f : Nat → Option Nat} (h : ∀ z ∈ r1, z ∈ r2) (hb : iSys G r1 S b sn X ea n cap f) : iSys G r2 S b sn X ea n cap f :=
  ⟨hb.1.mono h, hb.2.1.mono h, hb.2.2.1, hb.2.2.2.1, hb.2.2.2.2.mono h⟩
theorem iHist.lsE {G : nG} {rc : va_W} {hs : List nBe} {n : Nat} {f : Nat → Option Nat} (hb : iHist G rc hs n f) : lsE rc 1 n f := by
  intro i hi
  obtain ⟨y, B, h1, -, b, h2, -⟩ := hb.2 i hi
  exact ⟨y, _, h1, h2⟩
theorem acc_sys {G : nG} {rc N : va_W} {S : oSt} {b p : Nat} {sn : Option Nat} {X X1 : va_W} {ea n cap e1 n1 cap1 : Nat} {f f1 : Nat → Option Nat} {B : nBe} (h : iSys G rc S b sn X ea n cap f) (hn : S.2.1.length ≤ 4) (hB : iBench G (N ++ rc) p B)
    (h1 : lsX G X1 e1 n1 cap1 f1) (h2 : cap1 ≤ 30) (h3 : n1 = if n = 4 then 4 else n + 1) (h4 : ∀ i, i < n1 - 1 → f1 i = if n = 4 then f (i + 1) else f i) (h5 : f1 (n1 - 1) = some b) : iSys G (N ++ rc) (spAcc S B) p sn X1 e1 n1 cap1 f1 := by
  have hm : ∀ z ∈ rc, z ∈ N ++ rc := fun z hz => List.mem_append_right _ hz
  obtain ⟨g1, g2, g3, g4, g5, g6⟩ := h
  refine ⟨hB, g2.mono hm, h1, h2, ?_, fun i hi => ?_⟩
  · show n1 = ((if S.2.1.length = 4 then S.2.1.tail else S.2.1) ++ [S.1]).length
    rw [h3, List.length_append, g5]
    split <;> simp_all
  · show ∃ y B, f1 i = some y ∧ ((if S.2.1.length = 4 then S.2.1.tail else S.2.1) ++ [S.1])[i]? = some B ∧ _
    have hl : (if S.2.1.length = 4 then S.2.1.tail else S.2.1).length = n1 - 1 := by
      rw [h3, g5]; split <;> simp_all
    by_cases e : i = n1 - 1
    · subst e
      refine ⟨b, S.1, h5, ?_, g1.mono hm⟩
      rw [List.getElem?_append_right (by omega), hl]
      simp
    · have hi2 : i < n1 - 1 := by omega
      rw [h4 i hi2, List.getElem?_append_left (by omega)]
      by_cases e4 : n = 4
      · have e5 : S.2.1.length = 4 := by omega
        rw [if_pos e4, if_pos e5]
        obtain ⟨y, B', q1, q2, q3⟩ := g6 (i + 1) (by rw [h3, if_pos e4] at hi2; omega)
        exact ⟨y, B', q1, by rw [List.getElem?_tail]; exact q2, q3.mono hm⟩
      · have e5 : ¬ S.2.1.length = 4 := by omega
        rw [if_neg e4, if_neg e5]
        obtain ⟨y, B', q1, q2, q3⟩ := g6 i (by rw [h3, if_neg e4] at hi2; omega)
        exact ⟨y, B', q1, q2, q3.mono hm⟩
theorem mem_sw {L N rc : va_W} : ∀ z ∈ N ++ (L ++ rc), z ∈ (L ++ N) ++ rc := by
  intro z hz
  simp only [List.mem_append] at hz ⊢
  rcases hz with h | h | h
  · exact Or.inl (Or.inr h)
  · exact Or.inl (Or.inl h)
  · exact Or.inr h
/-- lines with one more at the end -/
theorem iLine.add {G : nG} {rc : va_W} {B : nBe} {f f1 : Nat → Option Nat} {y : Nat} {row : Nat → Int32} (h : ∀ i, i < B.1 → ∃ y, f i = some y ∧ iLine G rc y (B.2.1 i)) (h1 : f1 B.1 = some y) (h2 : ∀ i, i < B.1 → f1 i = f i) (hl : iLine G rc y row) {r0 r1 r2 r3 : Int32} (e0 : row 0 = r0) (e1 : row 1 = r1) (e2 : row 2 = r2) (e3 : row 3 = r3) : ∀ i, i < (beAdd B r0 r1 r2 r3).1 → ∃ y, f1 i = some y ∧ iLine G rc y ((beAdd B r0 r1 r2 r3).2.1 i) := by
  intro i hi
  have hi : i < B.1 + 1 := hi
  by_cases e : i = B.1
  · subst e
    refine ⟨y, h1, hl.row (fun w hw => ?_)⟩
    have q := beAdd_n B r0 r1 r2 r3
    rcases (by omega : w = 0 ∨ w = 1 ∨ w = 2 ∨ w = 3) with z | z | z | z <;> subst z
    · rw [e0]; exact q.1.symm
    · rw [e1]; exact q.2.1.symm
    · rw [e2]; exact q.2.2.1.symm
    · rw [e3]; exact q.2.2.2.symm
  · obtain ⟨y', q1, q2⟩ := h i (by omega)
    exact ⟨y', by rw [h2 i (by omega)]; exact q1, q2.row (fun w _ => by simp [beAdd, e])⟩
