/-! ===== what both sides compute, over a bench: n lines, F line what, the length ===== -/
theorem nx_and (a b : Nat) : nI a &&& nI b = nI (a &&& b) := by
  apply Int32.toBitVec_inj.mp
  rw [Int32.toBitVec_and]
  show BitVec.ofNat 32 a &&& BitVec.ofNat 32 b = BitVec.ofNat 32 (a &&& b)
  simp
theorem nx_or (a b : Nat) : nI a ||| nI b = nI (a ||| b) := by
  apply Int32.toBitVec_inj.mp
  rw [Int32.toBitVec_or]
  show BitVec.ofNat 32 a ||| BitVec.ofNat 32 b = BitVec.ofNat 32 (a ||| b)
  simp
theorem nx_xor (a b : Nat) : nI a ^^^ nI b = nI (a ^^^ b) := by
  apply Int32.toBitVec_inj.mp
  rw [Int32.toBitVec_xor]
  show BitVec.ofNat 32 a ^^^ BitVec.ofNat 32 b = BitVec.ofNat 32 (a ^^^ b)
  simp
/-- a table made line by line out of those before -/
def recK {α : Type} (d : α) (step : (Nat → α) → Nat → α) : Nat → Nat → α
  | 0, _ => d
  | f + 1, k => step (recK d step f) k
def recN {α : Type} (d : α) (step : (Nat → α) → Nat → α) (k : Nat) : α := recK d step (k + 1) k
theorem recN_eq {α : Type} {d : α} {step : (Nat → α) → Nat → α} {n : Nat} (hs : ∀ k, k < n → ∀ g h : Nat → α, (∀ j, j < k → g j = h j) → step g k = step h k) {k : Nat} (hk : k < n) : recN d step k = step (recN d step) k := by
  have key : ∀ f g k, k < n → k < f → k < g → recK d step f k = recK d step g k := by
    intro f
    induction f with
    | zero => intro g k _ h; omega
    | succ f ih =>
      intro g k hk hf hg
      cases g with
      | zero => omega
      | succ g =>
        show step (recK d step f) k = step (recK d step g) k
        exact hs k hk _ _ (fun j hj => ih g j (by omega) (by omega) (by omega))
  show step (recK d step k) k = step (recN d step) k
  exact hs k hk _ _ (fun j hj => key k (j + 1) j (by omega) hj (by omega))
/-- a line's kind, and the numbers by which it is made -/
def kd (F : Nat → Nat → Int32) (k : Nat) : Nat := (F k 0).toNatClampNeg
def nm (F : Nat → Nat → Int32) (k w : Nat) : Nat := (F k w).toNatClampNeg
abbrev cNONE : Int32 := (-100000005 : Int32)
/-- a line is well made, by lines ahead of it -/
def lnOk (F : Nat → Nat → Int32) (k : Nat) : Prop :=
  (F k 0 = nI (kd F k) ∧ kd F k ≤ 6) ∧
  (kd F k = 0 → (F k 1 = nI (nm F k 1) ∧ nm F k 1 ≤ 256) ∧ (F k 2 = nI (nm F k 2) ∧ 1 ≤ nm F k 2 ∧ nm F k 2 ≤ 255)) ∧
  (1 ≤ kd F k → F k 1 = nI (nm F k 1) ∧ nm F k 1 < k) ∧
  (1 ≤ kd F k ∧ kd F k ≤ 4 → F k 2 = nI (nm F k 2) ∧ nm F k 2 < k) ∧
  (kd F k = 4 → F k 3 = nI (nm F k 3) ∧ nm F k 3 < k) ∧
  (kd F k = 6 → F k 2 = nI (nm F k 2) ∧ 1 ≤ nm F k 2 ∧ nm F k 2 ≤ 60) ∧
  (kd F k ≠ 4 → F k 3 = cNONE) ∧ (kd F k = 5 → F k 2 = cNONE)
/-- registers -/
def nxt (r : Nat) : Nat := if 255 < 2 * r then (2 * r - 256) ^^^ 29 else 2 * r
theorem nxt_lt {r : Nat} (h : r < 256) : nxt r < 256 := by
  unfold nxt
  split
  · exact Nat.xor_lt_two_pow (n := 8) (by omega) (by omega)
  · omega
def regN (s : Nat) : Nat → Nat
  | 0 => s
  | t + 1 => nxt (regN s t)
theorem regN_lt {s : Nat} (h : s < 256) (t : Nat) : regN s t < 256 := by
  induction t with
  | zero => exact h
  | succ t ih => exact nxt_lt ih
/-- bits -/
def bStep (F : Nat → Nat → Int32) (g : Nat → Nat → Nat) (k : Nat) : Nat → Nat := fun t =>
  if kd F k = 0 then (if regN (nm F k 2) t ≤ nm F k 1 then 1 else 0)
  else if kd F k = 1 then g (nm F k 1) t &&& g (nm F k 2) t
  else if kd F k = 2 then g (nm F k 1) t ||| g (nm F k 2) t
  else if kd F k = 3 then g (nm F k 1) t ^^^ g (nm F k 2) t
  else if kd F k = 4 then (if g (nm F k 3) t = 1 then g (nm F k 1) t else g (nm F k 2) t)
  else if kd F k = 5 then 1 - g (nm F k 1) t
  else (if t < nm F k 2 then 0 else g (nm F k 1) (t - nm F k 2))
def bitN (F : Nat → Nat → Int32) : Nat → Nat → Nat := recN (fun _ => 0) (bStep F)
theorem bStep_dep {F : Nat → Nat → Int32} {k : Nat} (ok : lnOk F k) (g h : Nat → Nat → Nat) (e : ∀ j, j < k → g j = h j) : bStep F g k = bStep F h k := by
  obtain ⟨⟨-, o0⟩, -, o1, o2, o3, -⟩ := ok
  funext t
  unfold bStep
  rcases (by omega : kd F k = 0 ∨ kd F k = 1 ∨ kd F k = 2 ∨ kd F k = 3 ∨ kd F k = 4 ∨ kd F k = 5 ∨ kd F k = 6) with z | z | z | z | z | z | z
  · simp [z]
  · simp [z, e _ (o1 (by omega)).2, e _ (o2 (by omega)).2]
  · simp [z, e _ (o1 (by omega)).2, e _ (o2 (by omega)).2]
  · simp [z, e _ (o1 (by omega)).2, e _ (o2 (by omega)).2]
  · simp [z, e _ (o1 (by omega)).2, e _ (o2 (by omega)).2, e _ (o3 z).2]
  · simp [z, e _ (o1 (by omega)).2]
  · simp [z, e _ (o1 (by omega)).2]
theorem bitN_eq {F : Nat → Nat → Int32} {n : Nat} (ok : ∀ k, k < n → lnOk F k) {k : Nat} (hk : k < n) (t : Nat) : bitN F k t = bStep F (bitN F) k t :=
  congrFun (recN_eq (n := n) (fun j hj g h e => bStep_dep (ok j hj) g h e) hk) t
theorem bit_le {F : Nat → Nat → Int32} {n : Nat} (ok : ∀ k, k < n → lnOk F k) : ∀ {k : Nat}, k < n → ∀ t, bitN F k t ≤ 1 := by
  intro k
  induction k using Nat.strongRecOn with
  | ind k ih =>
    intro hk t
    rw [bitN_eq ok hk]
    obtain ⟨⟨-, o0⟩, -, o1, o2, o3, -⟩ := ok k hk
    unfold bStep
    rcases (by omega : kd F k = 0 ∨ kd F k = 1 ∨ kd F k = 2 ∨ kd F k = 3 ∨ kd F k = 4 ∨ kd F k = 5 ∨ kd F k = 6) with z | z | z | z | z | z | z
    · simp only [z, if_true]; split <;> omega
    all_goals have p1 := (o1 (by omega)).2
    all_goals have a1 := fun t => ih _ p1 (Nat.lt_trans p1 hk) t
    · have p2 := (o2 (by omega)).2
      have b1 := a1 t
      have b2 := ih _ p2 (Nat.lt_trans p2 hk) t
      rcases (by omega : bitN F (nm F k 1) t = 0 ∨ bitN F (nm F k 1) t = 1) with u | u <;> rcases (by omega : bitN F (nm F k 2) t = 0 ∨ bitN F (nm F k 2) t = 1) with v | v <;> simp [z, u, v]
    · have p2 := (o2 (by omega)).2
      have b1 := a1 t
      have b2 := ih _ p2 (Nat.lt_trans p2 hk) t
      rcases (by omega : bitN F (nm F k 1) t = 0 ∨ bitN F (nm F k 1) t = 1) with u | u <;> rcases (by omega : bitN F (nm F k 2) t = 0 ∨ bitN F (nm F k 2) t = 1) with v | v <;> simp [z, u, v]
    · have p2 := (o2 (by omega)).2
      have b1 := a1 t
      have b2 := ih _ p2 (Nat.lt_trans p2 hk) t
      rcases (by omega : bitN F (nm F k 1) t = 0 ∨ bitN F (nm F k 1) t = 1) with u | u <;> rcases (by omega : bitN F (nm F k 2) t = 0 ∨ bitN F (nm F k 2) t = 1) with v | v <;> simp [z, u, v]
    · have p2 := (o2 (by omega)).2
      have b1 := a1 t
      have b2 := ih _ p2 (Nat.lt_trans p2 hk) t
      simp only [z]
      simp
      split <;> assumption
    · have b1 := a1 t
      simp [z]
    · have b1 := a1 (t - nm F k 2)
      simp only [z]
      simp
      split <;> omega
/-- counts, shares, errors -/
def cntN (F : Nat → Nat → Int32) (k n : Nat) : Nat := sumN (bitN F k) n
theorem cntN_le {F : Nat → Nat → Int32} {n : Nat} (ok : ∀ k, k < n → lnOk F k) {k : Nat} (hk : k < n) (t : Nat) : cntN F k t ≤ t := by
  have := sumN_le (g := bitN F k) (n := t) (c := 1) (fun i _ => bit_le ok hk i)
  unfold cntN; omega
def eStep (F : Nat → Nat → Int32) (g : Nat → Nat) (k : Nat) : Nat :=
  if kd F k = 0 then nm F k 1 * 256
  else if kd F k = 1 then g (nm F k 1) * g (nm F k 2) / 65536
  else if kd F k = 2 then g (nm F k 1) + g (nm F k 2) - g (nm F k 1) * g (nm F k 2) / 65536
  else if kd F k = 3 then g (nm F k 1) + g (nm F k 2) - 2 * (g (nm F k 1) * g (nm F k 2) / 65536)
  else if kd F k = 4 then (g (nm F k 1) * g (nm F k 3) + g (nm F k 2) * (65536 - g (nm F k 3))) / 65536
  else if kd F k = 5 then 65536 - g (nm F k 1)
  else g (nm F k 1)
def exN (F : Nat → Nat → Int32) : Nat → Nat := recN 0 (eStep F)
theorem eStep_dep {F : Nat → Nat → Int32} {k : Nat} (ok : lnOk F k) (g h : Nat → Nat) (e : ∀ j, j < k → g j = h j) : eStep F g k = eStep F h k := by
  obtain ⟨⟨-, o0⟩, -, o1, o2, o3, -⟩ := ok
  unfold eStep
  rcases (by omega : kd F k = 0 ∨ kd F k = 1 ∨ kd F k = 2 ∨ kd F k = 3 ∨ kd F k = 4 ∨ kd F k = 5 ∨ kd F k = 6) with z | z | z | z | z | z | z
  · simp [z]
  · simp [z, e _ (o1 (by omega)).2, e _ (o2 (by omega)).2]
  · simp [z, e _ (o1 (by omega)).2, e _ (o2 (by omega)).2]
  · simp [z, e _ (o1 (by omega)).2, e _ (o2 (by omega)).2]
  · simp [z, e _ (o1 (by omega)).2, e _ (o2 (by omega)).2, e _ (o3 z).2]
  · simp [z, e _ (o1 (by omega)).2]
  · simp [z, e _ (o1 (by omega)).2]
theorem exN_eq {F : Nat → Nat → Int32} {n : Nat} (ok : ∀ k, k < n → lnOk F k) {k : Nat} (hk : k < n) : exN F k = eStep F (exN F) k :=
  recN_eq (n := n) (fun j hj g h e => eStep_dep (ok j hj) g h e) hk
theorem mul_le_w {a b W : Nat} (ha : a ≤ W) (hb : b ≤ W) : a * b / W ≤ a ∧ a * b / W ≤ b := by
  by_cases h : W = 0
  · subst h; simp
  · constructor
    · exact Nat.div_le_of_le_mul (by rw [Nat.mul_comm W a]; exact Nat.mul_le_mul_left a hb)
    · exact Nat.div_le_of_le_mul (Nat.mul_le_mul_right b ha)
theorem low_le_w {a b : Nat} (ha : a ≤ 65536) (hb : b ≤ 65536) : a + b - 65536 ≤ a * b / 65536 := by
  rw [Nat.le_div_iff_mul_le (by decide)]
  by_cases h : a + b ≤ 65536
  · rw [show a + b - 65536 = 0 by omega, Nat.zero_mul]; exact Nat.zero_le _
  · obtain ⟨d, hd⟩ : ∃ d, d = a + b - 65536 := ⟨_, rfl⟩
    obtain ⟨x, hx⟩ : ∃ x, b = d + x := ⟨65536 - a, by omega⟩
    obtain ⟨y, hy⟩ : ∃ y, a = d + y := ⟨65536 - b, by omega⟩
    have e : (d + y) * (d + x) = d * (d + x + y) + x * y := by grind
    rw [← hd, hx, hy, e, show d + x + y = 65536 by omega]
    exact Nat.le_add_right _ _
theorem sum_le_w {a b : Nat} (ha : a ≤ 65536) (hb : b ≤ 65536) : a + b - a * b / 65536 ≤ 65536 := by
  have := low_le_w ha hb
  omega
theorem dif_le_w {a b : Nat} (ha : a ≤ 65536) (hb : b ≤ 65536) : a + b - 2 * (a * b / 65536) ≤ 65536 := by
  have := low_le_w ha hb
  omega
theorem mux_le_w {a b c : Nat} (ha : a ≤ 65536) (hb : b ≤ 65536) (hc : c ≤ 65536) : (a * c + b * (65536 - c)) / 65536 ≤ 65536 := by
  have h1 : a * c ≤ 65536 * c := Nat.mul_le_mul_right c ha
  have h2 : b * (65536 - c) ≤ 65536 * (65536 - c) := Nat.mul_le_mul_right _ hb
  omega
theorem ex_le {F : Nat → Nat → Int32} {n : Nat} (ok : ∀ k, k < n → lnOk F k) : ∀ {k : Nat}, k < n → exN F k ≤ 65536 := by
  intro k
  induction k using Nat.strongRecOn with
  | ind k ih =>
    intro hk
    rw [exN_eq ok hk]
    obtain ⟨⟨-, o0⟩, s0, o1, o2, o3, -⟩ := ok k hk
    unfold eStep
    rcases (by omega : kd F k = 0 ∨ kd F k = 1 ∨ kd F k = 2 ∨ kd F k = 3 ∨ kd F k = 4 ∨ kd F k = 5 ∨ kd F k = 6) with z | z | z | z | z | z | z
    · have := (s0 z).1.2
      simp [z]; omega
    all_goals have p1 := (o1 (by omega)).2
    all_goals have b1 := ih _ p1 (Nat.lt_trans p1 hk)
    · have p2 := (o2 (by omega)).2
      have b2 := ih _ p2 (Nat.lt_trans p2 hk)
      have := (mul_le_w b1 b2).1
      simp [z]; omega
    · have p2 := (o2 (by omega)).2
      have b2 := ih _ p2 (Nat.lt_trans p2 hk)
      have := sum_le_w b1 b2
      simp [z]; omega
    · have p2 := (o2 (by omega)).2
      have b2 := ih _ p2 (Nat.lt_trans p2 hk)
      have := dif_le_w b1 b2
      simp [z]; omega
    · have p2 := (o2 (by omega)).2
      have b2 := ih _ p2 (Nat.lt_trans p2 hk)
      have p3 := (o3 z).2
      have b3 := ih _ p3 (Nat.lt_trans p3 hk)
      have := mux_le_w b1 b2 b3
      simp [z]; omega
    · simp [z]
    · simp [z]; omega
/-- how far two numbers lie apart -/
def apN (x y : Nat) : Nat := (x - y) + (y - x)
def shN (c n : Nat) : Nat := c * 65536 / n
def errN (F : Nat → Nat → Int32) (k n : Nat) : Nat := apN (shN (cntN F k n) n) (exN F k)
theorem shN_le {c n : Nat} (h : c ≤ n) (hn : 0 < n) : shN c n ≤ 65536 := by
  unfold shN
  exact Nat.div_le_of_le_mul (by omega)
theorem apN_le {x y : Nat} (hx : x ≤ 65536) (hy : y ≤ 65536) : apN x y ≤ 65536 := by unfold apN; omega
/-- the reference's lines -/
def mF (all : Nat → Int32) : Nat → Nat → Int32 := fun k w => all (2 + 4 * k + w)
/-- the bits of the lines below k are laid over T ticks -/
def laid (F : Nat → Nat → Int32) (bits : Nat → Int32) (k T : Nat) : Prop := ∀ j, j < k → ∀ t, t < T → bits (1000 * j + t) = nI (bitN F j t)
theorem upd_s {f : Nat → Int32} {k : Nat} {x : Int32} : upd f k x k = x := by simp [upd]
theorem upd_n {f : Nat → Int32} {k j : Nat} {x : Int32} (h : j ≠ k) : upd f k x j = f j := by simp [upd, h]
theorem laid_0 {F : Nat → Nat → Int32} {b : Nat → Int32} {T : Nat} : laid F b 0 T := fun j h => absurd h (Nat.not_lt_zero _)
theorem laid_s {F : Nat → Nat → Int32} {b : Nat → Int32} {k T : Nat} (h : laid F b k T) (h2 : ∀ t, t < T → b (1000 * k + t) = nI (bitN F k t)) : laid F b (k + 1) T := by
  intro j hj t ht
  by_cases e : j = k
  · subst e; exact h2 t ht
  · exact h j (by omega) t ht
theorem laid_u {F : Nat → Nat → Int32} {b : Nat → Int32} {k T t0 : Nat} {x : Int32} (h : laid F b k T) (hT : T ≤ 1000) : laid F (upd b (1000 * k + t0) x) k T := by
  intro j hj t ht
  rw [upd_n (by omega)]
  exact h j hj t ht
theorem row_s {F : Nat → Nat → Int32} {b : Nat → Int32} {k t0 : Nat} (h : ∀ t', t' < t0 → b (1000 * k + t') = nI (bitN F k t')) : ∀ t', t' < t0 + 1 → upd b (1000 * k + t0) (nI (bitN F k t0)) (1000 * k + t') = nI (bitN F k t') := by
  intro t' ht
  by_cases e : t' = t0
  · subst e; rw [upd_s]
  · rw [upd_n (by omega)]; exact h t' (by omega)
theorem exl_s {f : Nat → Nat} {ex : Nat → Int32} {k : Nat} {x : Int32} (h : ∀ j, j < k → ex j = nI (f j)) (e : x = nI (f k)) : ∀ j, j < k + 1 → upd ex k x j = nI (f j) := by
  intro j hj
  by_cases q : j = k
  · subst q; rw [upd_s, e]
  · rw [upd_n q]; exact h j (by omega)
