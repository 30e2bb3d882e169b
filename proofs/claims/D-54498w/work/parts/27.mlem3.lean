/-! ===== depths and origins, place by place ===== -/
def dpV (F : Nat → Nat → Int32) (g : Nat → Nat) (k mm p : Nat) : Nat := if mm = 0 then 0 else max 1 (dpP F g k p)
def orV (F : Nat → Nat → Int32) (g : Nat → Nat) (k mm p : Nat) : Nat := if mm = 0 then 2 ^ k else orP F g k p
theorem dpV_s {F : Nat → Nat → Int32} {g : Nat → Nat} {k mm p : Nat} (h : mm ≠ 0) : dpV F g k mm (p + 1) = max (dpV F g k mm p) (g (nm F k (p + 1)) + 1) := by
  unfold dpV
  rw [if_neg h, if_neg h, dpP]
  omega
theorem orV_s {F : Nat → Nat → Int32} {g : Nat → Nat} {k mm p : Nat} (h : mm ≠ 0) : orV F g k mm (p + 1) = orV F g k mm p ||| g (nm F k (p + 1)) := by
  unfold orV
  rw [if_neg h, if_neg h, orP]
theorem dpV_e {F : Nat → Nat → Int32} {n k : Nat} (ok : ∀ k, k < n → lnOk F k) (hk : k < n) : dpV F (dpN F) k (lnBy (kd F k)) (lnBy (kd F k)) = dpN F k := by
  rw [dpN_eq ok hk]
  unfold dpV dStep
  split
  · rename_i h; rw [h]; rfl
  · rename_i h
    obtain ⟨m, hm⟩ : ∃ m, lnBy (kd F k) = m + 1 := ⟨lnBy (kd F k) - 1, by omega⟩
    rw [hm, dpP]
    omega
theorem orV_e {F : Nat → Nat → Int32} {n k : Nat} (ok : ∀ k, k < n → lnOk F k) (hk : k < n) : orV F (orN F) k (lnBy (kd F k)) (lnBy (kd F k)) = orN F k := by
  rw [orN_eq ok hk]
  rfl
theorem dpV_le {F : Nat → Nat → Int32} {n k : Nat} (ok : ∀ k, k < n → lnOk F k) (hk : k < n) {p : Nat} (hp : p ≤ lnBy (kd F k)) : dpV F (dpN F) k (lnBy (kd F k)) p ≤ k + 1 := by
  have h := dpP_le (ok k hk) (g := dpN F) (fun j hj => dp_le ok (Nat.lt_trans hj hk)) hp
  unfold dpV
  split <;> omega
theorem shl1 : ∀ k, k < 16 → nI 1 <<< (nI k &&& 31) = nI (2 ^ k) := by decide +kernel
theorem upd_lt {f : Nat → Int32} {g : Nat → Nat} {k : Nat} {x : Int32} (h : ∀ j, j < k → f j = nI (g j)) : ∀ j, j < k → upd f k x j = nI (g j) := fun j hj => by rw [upd_n (by omega)]; exact h j hj
theorem lt_succ_of {f : Nat → Int32} {g : Nat → Nat} {k : Nat} (h : ∀ j, j < k → f j = nI (g j)) (e : f k = nI (g k)) : ∀ j, j < k + 1 → f j = nI (g j) := by
  intro j hj
  by_cases q : j = k
  · subst q; exact e
  · exact h j (by omega)
