/-! ===== what is told of a bench ===== -/
def dpP (F : Nat → Nat → Int32) (g : Nat → Nat) (k : Nat) : Nat → Nat
  | 0 => 0
  | m + 1 => max (dpP F g k m) (1 + g (nm F k (m + 1)))
def orP (F : Nat → Nat → Int32) (g : Nat → Nat) (k : Nat) : Nat → Nat
  | 0 => 0
  | m + 1 => orP F g k m ||| g (nm F k (m + 1))
def dStep (F : Nat → Nat → Int32) (g : Nat → Nat) (k : Nat) : Nat := dpP F g k (lnBy (kd F k))
def oStep (F : Nat → Nat → Int32) (g : Nat → Nat) (k : Nat) : Nat := if lnBy (kd F k) = 0 then 2 ^ k else orP F g k (lnBy (kd F k))
def dpN (F : Nat → Nat → Int32) : Nat → Nat := recN 0 (dStep F)
def orN (F : Nat → Nat → Int32) : Nat → Nat := recN 0 (oStep F)
theorem lnBy_le (k : Nat) : lnBy k ≤ 3 := by unfold lnBy; split; omega; split; omega; split <;> omega
theorem by_lt {F : Nat → Nat → Int32} {k w : Nat} (ok : lnOk F k) (h1 : 1 ≤ w) (h2 : w ≤ lnBy (kd F k)) : F k w = nI (nm F k w) ∧ nm F k w < k := by
  obtain ⟨⟨-, o0⟩, -, o1, o2, o3, -⟩ := ok
  unfold lnBy at h2
  split at h2
  · omega
  · split at h2
    · rcases (by omega : w = 1 ∨ w = 2 ∨ w = 3) with z | z | z <;> subst z
      · exact o1 (by omega)
      · exact o2 (by omega)
      · exact o3 (by omega)
    · split at h2
      · rcases (by omega : w = 1 ∨ w = 2) with z | z <;> subst z
        · exact o1 (by omega)
        · exact o2 (by omega)
      · have z : w = 1 := by omega
        subst z
        exact o1 (by omega)
theorem dpP_dep {F : Nat → Nat → Int32} {k : Nat} (ok : lnOk F k) (g h : Nat → Nat) (e : ∀ j, j < k → g j = h j) {m : Nat} (hm : m ≤ lnBy (kd F k)) : dpP F g k m = dpP F h k m := by
  induction m with
  | zero => rfl
  | succ m ih => rw [dpP, dpP, ih (by omega), e _ (by_lt ok (by omega) hm).2]
theorem orP_dep {F : Nat → Nat → Int32} {k : Nat} (ok : lnOk F k) (g h : Nat → Nat) (e : ∀ j, j < k → g j = h j) {m : Nat} (hm : m ≤ lnBy (kd F k)) : orP F g k m = orP F h k m := by
  induction m with
  | zero => rfl
  | succ m ih => rw [orP, orP, ih (by omega), e _ (by_lt ok (by omega) hm).2]
theorem dStep_dep {F : Nat → Nat → Int32} {k : Nat} (ok : lnOk F k) (g h : Nat → Nat) (e : ∀ j, j < k → g j = h j) : dStep F g k = dStep F h k := dpP_dep ok g h e (Nat.le_refl _)
theorem oStep_dep {F : Nat → Nat → Int32} {k : Nat} (ok : lnOk F k) (g h : Nat → Nat) (e : ∀ j, j < k → g j = h j) : oStep F g k = oStep F h k := by
  unfold oStep
  rw [orP_dep ok g h e (Nat.le_refl _)]
theorem dpN_eq {F : Nat → Nat → Int32} {n : Nat} (ok : ∀ k, k < n → lnOk F k) {k : Nat} (hk : k < n) : dpN F k = dStep F (dpN F) k := recN_eq (n := n) (fun j hj g h e => dStep_dep (ok j hj) g h e) hk
theorem orN_eq {F : Nat → Nat → Int32} {n : Nat} (ok : ∀ k, k < n → lnOk F k) {k : Nat} (hk : k < n) : orN F k = oStep F (orN F) k := recN_eq (n := n) (fun j hj g h e => oStep_dep (ok j hj) g h e) hk
theorem dpP_le {F : Nat → Nat → Int32} {k : Nat} (ok : lnOk F k) {g : Nat → Nat} (e : ∀ j, j < k → g j ≤ j) {m : Nat} (hm : m ≤ lnBy (kd F k)) : dpP F g k m ≤ k := by
  induction m with
  | zero => exact Nat.zero_le _
  | succ m ih =>
    have h1 := (by_lt ok (w := m + 1) (by omega) hm).2
    have h2 := e _ h1
    have h3 := ih (by omega)
    rw [dpP]
    omega
theorem dp_le {F : Nat → Nat → Int32} {n : Nat} (ok : ∀ k, k < n → lnOk F k) : ∀ {k : Nat}, k < n → dpN F k ≤ k := by
  intro k
  induction k using Nat.strongRecOn with
  | ind k ih =>
    intro hk
    rw [dpN_eq ok hk]
    exact dpP_le (ok k hk) (fun j hj => ih j hj (by omega)) (Nat.le_refl _)
theorem orP_lt {F : Nat → Nat → Int32} {k : Nat} (ok : lnOk F k) {g : Nat → Nat} (e : ∀ j, j < k → g j < 2 ^ (j + 1)) {m : Nat} (hm : m ≤ lnBy (kd F k)) : orP F g k m < 2 ^ (k + 1) := by
  induction m with
  | zero => exact Nat.two_pow_pos _
  | succ m ih =>
    have h1 := (by_lt ok (w := m + 1) (by omega) hm).2
    rw [orP]
    exact Nat.or_lt_two_pow (ih (by omega)) (Nat.lt_of_lt_of_le (e _ h1) (Nat.pow_le_pow_right (by decide) (by omega)))
theorem or_lt {F : Nat → Nat → Int32} {n : Nat} (ok : ∀ k, k < n → lnOk F k) : ∀ {k : Nat}, k < n → orN F k < 2 ^ (k + 1) := by
  intro k
  induction k using Nat.strongRecOn with
  | ind k ih =>
    intro hk
    rw [orN_eq ok hk]
    unfold oStep
    split
    · exact Nat.pow_lt_pow_right (by decide) (by omega)
    · exact orP_lt (ok k hk) (fun j hj => ih j hj (by omega)) (Nat.le_refl _)
theorem or_lt16 {F : Nat → Nat → Int32} {n : Nat} (ok : ∀ k, k < n → lnOk F k) (hn : n ≤ 16) {k : Nat} (hk : k < n) : orN F k < 65536 :=
  Nat.lt_of_lt_of_le (or_lt ok hk) (by
    have : 2 ^ (k + 1) ≤ 2 ^ 16 := Nat.pow_le_pow_right (by decide) (by omega)
    simpa using this)
/-- how many bits are set -/
def popN (x : Nat) : Nat := if h : x = 0 then 0 else 1 + popN (x &&& (x - 1))
termination_by x
decreasing_by exact Nat.lt_of_le_of_lt Nat.and_le_right (by omega)
/-- the first place from which on all are well -/
def stF (p : Nat → Bool) : Nat → Nat
  | 0 => 1
  | n + 1 => if p (n + 1) then stF p n else n + 2
theorem stF_eq {p : Nat → Bool} {n N : Nat} (hn : n ≤ N) (h : ∀ m, n < m → m ≤ N → p m = true) (h2 : n = 0 ∨ p n = false) : stF p N = n + 1 := by
  induction N with
  | zero =>
    have : n = 0 := by omega
    subst this; rfl
  | succ N ih =>
    by_cases e : n = N + 1
    · subst e
      rcases h2 with h2 | h2
      · omega
      · rw [stF, h2]; rfl
    · rw [stF, h (N + 1) (by omega) (by omega), if_pos rfl]
      exact ih (by omega) (fun m h3 h4 => h m h3 (by omega))
/-- the best seed and its error, behind n + 1 seeds -/
def bsF (e : Nat → Nat) : Nat → Nat × Nat
  | 0 => (1, e 1)
  | n + 1 => if e (n + 2) < (bsF e n).2 then (n + 2, e (n + 2)) else bsF e n
theorem bsF_le (e : Nat → Nat) (n : Nat) : 1 ≤ (bsF e n).1 ∧ (bsF e n).1 ≤ n + 1 := by
  induction n with
  | zero => simp [bsF]
  | succ n ih =>
    rw [bsF]
    split
    · show 1 ≤ n + 2 ∧ n + 2 ≤ n + 1 + 1; omega
    · omega
theorem bsF_val (e : Nat → Nat) (n : Nat) : (bsF e n).2 = e (bsF e n).1 := by
  induction n with
  | zero => rfl
  | succ n ih => rw [bsF]; split; rfl; exact ih
def seedF (F : Nat → Nat → Int32) (k s : Nat) : Nat → Nat → Int32 := fun j w => if j = k ∧ w = 2 then nI s else F j w
/-- the first greatest of n + 1 -/
def wsI (e : Nat → Nat) : Nat → Nat
  | 0 => 0
  | n + 1 => if e (wsI e n) < e (n + 1) then n + 1 else wsI e n
theorem wsI_le (e : Nat → Nat) (n : Nat) : wsI e n ≤ n := by
  induction n with
  | zero => exact Nat.le_refl _
  | succ n ih => rw [wsI]; split <;> omega
def mxN (g : Nat → Nat) : Nat → Nat
  | 0 => 0
  | n + 1 => max (mxN g n) (g n)
theorem mxN_le {g : Nat → Nat} {n c : Nat} (e : ∀ t, t < n → g t ≤ c) : mxN g n ≤ c := by
  induction n with
  | zero => exact Nat.zero_le _
  | succ n ih => rw [mxN]; have := ih (fun t ht => e t (by omega)); have := e n (by omega); omega
def ovB (F : Nat → Nat → Int32) (i j n : Nat) : Nat := sumN (fun t => bitN F i t &&& bitN F j t) n
def ovI (F : Nat → Nat → Int32) (i j n : Nat) : Int32 := ((lN (ovB F i j n * n) - lN (cntN F i n * cntN F j n)) * lN 65536 / lN (n * n)).toInt32
def unN (F : Nat → Nat → Int32) (k : Nat) : Nat := sumN (fun i => if bitN F k (60 + i) = bitN F k (60 + i + 255) then 0 else 1) 195
def qLineAt (b : nBe) (k w : Nat) : Int32 := if w < 4 then b.2.1 k w else if w = 4 then nI (cntN b.2.1 k b.2.2) else if w = 5 then nI (shN (cntN b.2.1 k b.2.2) b.2.2) else if w = 6 then nI (exN b.2.1 k) else if w = 7 then nI (errN b.2.1 k b.2.2) else if w = 8 then nI (dpN b.2.1 k) else nI (popN (orN b.2.1 k))
def qLine (b : nBe) (x y : Int32) : Int32 := if isLn x b.1 then (if rng y 0 9 then qLineAt b x.toNatClampNeg y.toNatClampNeg else cBAD) else cUNK
def qBit (b : nBe) (x y : Int32) : Int32 := if isLn x b.1 then (if rng y 0 999 then nI (bitN b.2.1 x.toNatClampNeg y.toNatClampNeg) else cBAD) else cUNK
def qOverlap (b : nBe) (x y : Int32) : Int32 := if isLn x b.1 && isLn y b.1 then ovI b.2.1 x.toNatClampNeg y.toNatClampNeg b.2.2 else cUNK
def qErrorAt (b : nBe) (x y : Int32) : Int32 := if isLn x b.1 then (if rng y 1 1000 then nI (errN b.2.1 x.toNatClampNeg y.toNatClampNeg) else cBAD) else cUNK
def stP (F : Nat → Nat → Int32) (k bd : Nat) : Nat → Bool := fun n => decide (errN F k n ≤ bd)
def stR (n : Nat) : Int32 := if 1000 < n then cNONE else nI n
def qSettles (b : nBe) (x y : Int32) : Int32 := if isLn x b.1 then (if rng y 0 65536 then stR (stF (stP b.2.1 x.toNatClampNeg y.toNatClampNeg) 1000) else cBAD) else cUNK
def bsE (b : nBe) (src ln : Nat) : Nat → Nat := fun s => errN (seedF b.2.1 src s) ln b.2.2
def qBest (b : nBe) (x y z : Int32) : Int32 := if isLn x b.1 && isLn y b.1 then (if rng z 0 1 then (if kd b.2.1 x.toNatClampNeg = 0 then
  (if z.toNatClampNeg = 0 then nI (bsF (bsE b x.toNatClampNeg y.toNatClampNeg) 254).1 else nI (bsF (bsE b x.toNatClampNeg y.toNatClampNeg) 254).2) else cNOTP) else cBAD) else cUNK
def qUnlike (b : nBe) (x : Int32) : Int32 := if isLn x b.1 then nI (unN b.2.1 x.toNatClampNeg) else cUNK
def srcN (b : nBe) : Nat := sumN (fun k => if kd b.2.1 k = 0 then 1 else 0) b.1
def erE (b : nBe) : Nat → Nat := fun k => errN b.2.1 k b.2.2
def qCountAt (S : oSt) (w : Nat) : Int32 := if w = 0 then nI S.1.1 else if w = 1 then nI S.1.2.2 else if w = 2 then nI (srcN S.1) else if w = 3 then nI (sumN (erE S.1) S.1.1) else if w = 4 then (if S.1.1 = 0 then cNONE else nI (wsI (erE S.1) (S.1.1 - 1))) else if w = 5 then nI (mxN (dpN S.1.2.1) S.1.1) else if w = 6 then nI S.2.1.length else nI S.2.2.2.length
def qCount (S : oSt) (x : Int32) : Int32 := if rng x 0 7 then qCountAt S x.toNatClampNeg else cBAD
/-! the same for lines that are the same -/
def agF (n : Nat) (F F' : Nat → Nat → Int32) : Prop := ∀ k, k < n → ∀ w, w < 4 → F k w = F' k w
theorem bRow_ag {all : Nat → Int32} {b : nBe} (h : bRow all b) : agF b.1 (mF all) b.2.1 := h.2.2
theorem recN_cong {α : Type} {d : α} {st st' : (Nat → α) → Nat → α} {n : Nat} (hs : ∀ k, k < n → ∀ g h : Nat → α, (∀ j, j < k → g j = h j) → st' g k = st' h k) (e : ∀ k, k < n → ∀ g, st g k = st' g k) {k : Nat} (hk : k < n) : recN d st k = recN d st' k := by
  have key : ∀ f k, k < n → recK d st f k = recK d st' f k := by
    intro f
    induction f with
    | zero => intro k _; rfl
    | succ f ih =>
      intro k hk
      show st (recK d st f) k = st' (recK d st' f) k
      rw [e k hk]
      exact hs k hk _ _ (fun j hj => ih j (by omega))
  exact key _ k hk
section AG
variable {n : Nat} {F F' : Nat → Nat → Int32}
theorem ag_kd (h : agF n F F') {k : Nat} (hk : k < n) : kd F k = kd F' k := by unfold kd; rw [h k hk 0 (by decide)]
theorem ag_nm (h : agF n F F') {k w : Nat} (hk : k < n) (hw : w < 4) : nm F k w = nm F' k w := by unfold nm; rw [h k hk w hw]
theorem ag_ok (h : agF n F F') (ok : ∀ k, k < n → lnOk F' k) : ∀ k, k < n → lnOk F k := fun k hk => lnOk_row (fun w hw => (h k hk w hw).symm) (ok k hk)
theorem ag_bit (h : agF n F F') (ok : ∀ k, k < n → lnOk F' k) {k : Nat} (hk : k < n) : bitN F k = bitN F' k :=
  recN_cong (fun k hk g g' e => bStep_dep (ok k hk) g g' e) (fun k hk g => by unfold bStep; rw [ag_kd h hk, ag_nm h hk (w := 1) (by decide), ag_nm h hk (w := 2) (by decide), ag_nm h hk (w := 3) (by decide)]) hk
theorem ag_ex (h : agF n F F') (ok : ∀ k, k < n → lnOk F' k) {k : Nat} (hk : k < n) : exN F k = exN F' k :=
  recN_cong (fun k hk g g' e => eStep_dep (ok k hk) g g' e) (fun k hk g => by unfold eStep; rw [ag_kd h hk, ag_nm h hk (w := 1) (by decide), ag_nm h hk (w := 2) (by decide), ag_nm h hk (w := 3) (by decide)]) hk
theorem ag_dpP (h : agF n F F') {k : Nat} (hk : k < n) (g : Nat → Nat) {m : Nat} (hm : m ≤ 3) : dpP F g k m = dpP F' g k m := by
  induction m with
  | zero => rfl
  | succ m ih => rw [dpP, dpP, ih (by omega), ag_nm h hk (by omega)]
theorem ag_orP (h : agF n F F') {k : Nat} (hk : k < n) (g : Nat → Nat) {m : Nat} (hm : m ≤ 3) : orP F g k m = orP F' g k m := by
  induction m with
  | zero => rfl
  | succ m ih => rw [orP, orP, ih (by omega), ag_nm h hk (by omega)]
theorem ag_dp (h : agF n F F') (ok : ∀ k, k < n → lnOk F' k) {k : Nat} (hk : k < n) : dpN F k = dpN F' k :=
  recN_cong (fun k hk g g' e => dStep_dep (ok k hk) g g' e) (fun k hk g => by unfold dStep; rw [ag_kd h hk, ag_dpP h hk g (lnBy_le _)]) hk
theorem ag_or (h : agF n F F') (ok : ∀ k, k < n → lnOk F' k) {k : Nat} (hk : k < n) : orN F k = orN F' k :=
  recN_cong (fun k hk g g' e => oStep_dep (ok k hk) g g' e) (fun k hk g => by unfold oStep; rw [ag_kd h hk, ag_orP h hk g (lnBy_le _)]) hk
theorem ag_cnt (h : agF n F F') (ok : ∀ k, k < n → lnOk F' k) {k : Nat} (hk : k < n) (t : Nat) : cntN F k t = cntN F' k t := by unfold cntN; rw [ag_bit h ok hk]
theorem ag_err (h : agF n F F') (ok : ∀ k, k < n → lnOk F' k) {k : Nat} (hk : k < n) (t : Nat) : errN F k t = errN F' k t := by unfold errN; rw [ag_cnt h ok hk, ag_ex h ok hk]
end AG
theorem sumN_le1 {n : Nat} {g : Nat → Nat} (h : ∀ t, t < n → g t ≤ 1) : sumN g n ≤ n := by
  have := sumN_le h; omega
theorem err_le {F : Nat → Nat → Int32} {n : Nat} (ok : ∀ k, k < n → lnOk F k) {k : Nat} (hk : k < n) {t : Nat} (ht : 0 < t) : errN F k t ≤ 65536 := apN_le (shN_le (cntN_le ok hk t) ht) (ex_le ok hk)
theorem seed_ok {F : Nat → Nat → Int32} {n : Nat} (ok : ∀ k, k < n → lnOk F k) {k s : Nat} (h0 : kd F k = 0) (h1 : 1 ≤ s) (h2 : s ≤ 255) (hn : n ≤ 16) : ∀ j, j < n → lnOk (seedF F k s) j := by
  intro j hj
  by_cases e : j = k
  · subst e
    obtain ⟨⟨o1, o2⟩, o3, -, -, -, -, o4, -⟩ := ok j hj
    rw [h0] at o1
    exact lnOk_of (κ := 0) (by omega) (by simp [seedF, o1]) (by omega) (fun _ => ⟨nm F j 1, s, by simp [seedF, (o3 h0).1.1], (o3 h0).1.2, by simp [seedF], h1, h2⟩) (fun h => by omega) (fun h => by omega) (fun h => by omega) (fun h => by omega) (fun _ => by simp [seedF, o4 (by omega)]) (fun h => by omega)
  · exact lnOk_row (fun w _ => by simp [seedF, e]) (ok j hj)
