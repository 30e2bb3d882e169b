/-! what the JDK's and the system's frozen objects stand for, told by a list of cells rc -/
/-- a line: an object of ShareStreams$Plain, its numbers -/
def iLine (G : nG) (rc : va_W) (q : Nat) (row : Nat → Int32) : Prop := ∃ (a L : Nat) (f : Nat → Int32), (q, .inr (4, [.int (row 0), .ref a])) ∈ rc ∧ (a, .inl (G.1.1 100, L, .inl f)) ∈ rc ∧ L ≤ 3 ∧ ∀ w, w < 3 → row (w + 1) = if w < L then f w else cNONE
/-- a list of lines -/
def iLines (G : nG) (rc : va_W) (q n : Nat) (F : Nat → Nat → Int32) : Prop := ∃ (c0 : Int32) (ea cap : Nat) (f : Nat → Option Nat), (q, .inr (3, [.int c0, .ref ea, .int (nI n)])) ∈ rc ∧ (n = 0 ∨ ((ea, .inl (G.1.1 102, cap, .inr (.inr (.inr (.inr f))))) ∈ rc ∧ n ≤ cap ∧ cap < 2 ^ 20)) ∧ ∀ i, i < n → ∃ y, f i = some y ∧ iLine G rc y (F i)
/-- a bench -/
def iBench (G : nG) (rc : va_W) (q : Nat) (B : nBe) : Prop := ∃ b, (q, .inr (1, [.ref b, .int (nI B.2.2)])) ∈ rc ∧ iLines G rc b B.1 B.2.1
theorem iLine.mono {G : nG} {r1 r2 : va_W} {q : Nat} {row : Nat → Int32} (h : ∀ z ∈ r1, z ∈ r2) (hb : iLine G r1 q row) : iLine G r2 q row := by
  obtain ⟨a, L, f, h1, h2, h3⟩ := hb
  exact ⟨a, L, f, h _ h1, h _ h2, h3⟩
theorem iLines.mono {G : nG} {r1 r2 : va_W} {q n : Nat} {F : Nat → Nat → Int32} (h : ∀ z ∈ r1, z ∈ r2) (hb : iLines G r1 q n F) : iLines G r2 q n F := by
  obtain ⟨c0, ea, cap, f, h1, h2, h3⟩ := hb
  exact ⟨c0, ea, cap, f, h _ h1, h2.imp id (fun z => ⟨h _ z.1, z.2⟩), fun i hi => (h3 i hi).imp fun y z => ⟨z.1, z.2.mono h⟩⟩
theorem iBench.mono {G : nG} {r1 r2 : va_W} {q : Nat} {B : nBe} (h : ∀ z ∈ r1, z ∈ r2) (hb : iBench G r1 q B) : iBench G r2 q B := by
  obtain ⟨b, h1, h2⟩ := hb
  exact ⟨b, h _ h1, h2.mono h⟩
theorem iLine.row {G : nG} {rc : va_W} {q : Nat} {r1 r2 : Nat → Int32} (hb : iLine G rc q r1) (h : ∀ w, w < 4 → r1 w = r2 w) : iLine G rc q r2 := by
  obtain ⟨a, L, f, h1, h2, h3, h4⟩ := hb
  exact ⟨a, L, f, by rw [← h 0 (by omega)]; exact h1, h2, h3, fun w hw => by rw [← h (w + 1) (by omega)]; exact h4 w hw⟩
/-- one line's bit out of those before -/
def lbN (k x y z : Nat) : Nat := if k = 1 then x &&& y else if k = 2 then x ||| y else if k = 3 then x ^^^ y else if k = 4 then (if z = 1 then x else y) else if k = 5 then 1 - x else x
/-- one line's share -/
def leN (k v x y z : Nat) : Nat := if k = 0 then v * 256 else if k = 1 then x * y / 65536 else if k = 2 then x + y - x * y / 65536 else if k = 3 then x + y - 2 * (x * y / 65536) else if k = 4 then (x * z + y * (65536 - z)) / 65536 else if k = 5 then 65536 - x else x
theorem lc_7 {k : Nat} (h : k ≤ 6) : k = 0 ∨ k = 1 ∨ k = 2 ∨ k = 3 ∨ k = 4 ∨ k = 5 ∨ k = 6 := by omega
