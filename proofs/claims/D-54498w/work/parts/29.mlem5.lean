/-! ===== seeds; the reference's start ===== -/
theorem bsF_s {e : Nat → Nat} {sd : Nat} (h : 2 ≤ sd) : bsF e (sd + 1 - 2) = if e sd < (bsF e (sd - 2)).2 then (sd, e sd) else bsF e (sd - 2) := by
  obtain ⟨j, rfl⟩ : ∃ j, sd = j + 2 := ⟨sd - 2, by omega⟩
  rfl
theorem ag_seed {all al : Nat → Int32} {b : nBe} (ba : bRow all b) {k sd : Nat} (g : ∀ v, v ≠ 2 + 4 * k + 2 → al v = all v) : agF b.1 (mF (upd al (2 + 4 * k + 2) (nI sd))) (seedF b.2.1 k sd) := by
  intro i hi w hw
  show upd al (2 + 4 * k + 2) (nI sd) (2 + 4 * i + w) = _
  by_cases e : i = k ∧ w = 2
  · obtain ⟨rfl, rfl⟩ := e
    rw [upd_s]
    simp [seedF]
  · rw [upd_n (by omega), g _ (by omega), ba.2.2 i hi w hw]
    simp [seedF, e]
theorem mR_all {S : oSt} {all hist : Nat → Int32} {hlo : Int32} {snap : Nat → Int32} {tk : Int32} {text : Nat → Int32} {tl : Int32} (h : mR S all hist hlo snap tk text tl) {al : Nat → Int32} (g : ∀ k, k < 66 → al k = all k) : mR S al hist hlo snap tk text tl := ⟨h.1, bRow_to h.2.1 h.1.1.1 g, h.2.2⟩
def wdF : Nat → Int64 := vp_updL (vp_updL (vp_updL (vp_updL (vp_updL (vp_updL (vp_updL (fun _ => 0) 0 (lN 126922548994917)) 1 (lN 6385252)) 2 (lN 28530)) 3 (lN 7892850)) 4 (lN 7173496)) 5 (lN 7237492)) 6 (lN 431198331257)
def S0 : oSt := ((0, fun _ _ => 0, 256), [], none, [])
theorem mR_0 {hist snap text : Nat → Int32} : mR S0 (upd (fun _ => 0) 1 (nI 256)) hist (nI 0) snap (nI 0) text (nI 0) :=
  ⟨⟨⟨by decide, ⟨by decide, by decide⟩, fun k hk => absurd hk (Nat.not_lt_zero _)⟩, ⟨by decide, fun b hb => (by cases hb)⟩, fun b hb => (by cases hb), by decide, fun c hc => (by cases hc)⟩, ⟨rfl, by rw [upd_s]; rfl, fun k hk => absurd hk (Nat.not_lt_zero _)⟩, ⟨rfl, fun i b h => (by simp [S0] at h)⟩, ⟨rfl, fun b hb => (by cases hb)⟩, rfl, fun i c h => (by simp [S0] at h)⟩
theorem upd_back {al all : Nat → Int32} {at_ : Nat} (g : ∀ v, v ≠ at_ → al v = all v) : ∀ v, v < 66 → upd al at_ (all at_) v = all v := by
  intro v _
  by_cases e : v = at_
  · subst e; rw [upd_s]
  · rw [upd_n e]; exact g v e
