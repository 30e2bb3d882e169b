/-! ===== the state both sides stand for: a bench, the history, what is kept, the text ===== -/
/-- a bench: how many lines, the lines, the length -/
abbrev nBe : Type := Nat × (Nat → Nat → Int32) × Nat
abbrev oSt : Type := nBe × List nBe × Option nBe × List Nat
def beOk (b : nBe) : Prop := b.1 ≤ 16 ∧ (1 ≤ b.2.2 ∧ b.2.2 ≤ 1000) ∧ ∀ k, k < b.1 → lnOk b.2.1 k
def stOk (S : oSt) : Prop := beOk S.1 ∧ (S.2.1.length ≤ 4 ∧ ∀ b ∈ S.2.1, beOk b) ∧ (∀ b, S.2.2.1 = some b → beOk b) ∧ S.2.2.2.length ≤ 80 ∧ ∀ c ∈ S.2.2.2, c < 65536
abbrev cUNK : Int32 := (-100000001 : Int32)
abbrev cBAD : Int32 := (-100000002 : Int32)
abbrev cFULL : Int32 := (-100000003 : Int32)
abbrev cNOTP : Int32 := (-100000004 : Int32)
abbrev cFAULT : Int32 := (-100000100 : Int32)
def beAdd (b : nBe) (k f s t : Int32) : nBe := (b.1 + 1, fun j w => if j = b.1 then (if w = 0 then k else if w = 1 then f else if w = 2 then s else t) else b.2.1 j w, b.2.2)
def beSet (b : nBe) (k : Nat) (x y : Int32) : nBe := (b.1, fun j w => if j = k ∧ w = 1 then x else if j = k ∧ w = 2 then y else b.2.1 j w, b.2.2)
def spAcc (S : oSt) (b : nBe) : oSt := (b, (if S.2.1.length = 4 then S.2.1.tail else S.2.1) ++ [S.1], S.2.2)
def spAdd (S : oSt) (k f s t : Int32) : Int32 × oSt := if S.1.1 = 16 then (cFULL, S) else (nI S.1.1, spAcc S (beAdd S.1 k f s t))
def spSource (S : oSt) (x y : Int32) : Int32 × oSt := if rng x 0 256 && rng y 1 255 then spAdd S (nI 0) x y cNONE else (cBAD, S)
def spGate (S : oSt) (k x y : Int32) : Int32 × oSt := if isLn x S.1.1 && isLn y S.1.1 then (if rng k 1 3 then spAdd S k x y cNONE else (cBAD, S)) else (cUNK, S)
def spChoose (S : oSt) (x y z : Int32) : Int32 × oSt := if isLn x S.1.1 && isLn y S.1.1 && isLn z S.1.1 then spAdd S (nI 4) x y z else (cUNK, S)
def spTurn (S : oSt) (x : Int32) : Int32 × oSt := if isLn x S.1.1 then spAdd S (nI 5) x cNONE cNONE else (cUNK, S)
def spDelay (S : oSt) (x y : Int32) : Int32 × oSt := if isLn x S.1.1 then (if rng y 1 60 then spAdd S (nI 6) x y cNONE else (cBAD, S)) else (cUNK, S)
def spReseed (S : oSt) (x sh sd : Int32) : Int32 × oSt :=
  if isLn x S.1.1 then (if rng sh 0 256 && rng sd 1 255 then
    (if kd S.1.2.1 x.toNatClampNeg = 0 then (if S.1.2.1 x.toNatClampNeg 1 = sh ∧ S.1.2.1 x.toNatClampNeg 2 = sd then (cNONE, S) else (S.1.2.1 x.toNatClampNeg 1, spAcc S (beSet S.1 x.toNatClampNeg sh sd))) else (cNOTP, S))
    else (cBAD, S)) else (cUNK, S)
def spRemove (S : oSt) : Int32 × oSt := if S.1.1 = 0 then (cNONE, S) else (nI (S.1.1 - 1), spAcc S (S.1.1 - 1, S.1.2))
def spSetLen (S : oSt) (x : Int32) : Int32 × oSt := if rng x 1 1000 then (if nI S.1.2.2 = x then (cNONE, S) else (nI S.1.2.2, spAcc S (S.1.1, S.1.2.1, x.toNatClampNeg))) else (cBAD, S)
def spUndo (S : oSt) : Int32 × oSt := match S.2.1.getLast? with
  | none => (cNONE, S)
  | some b => (nI (S.2.1.length - 1), (b, S.2.1.dropLast, S.2.2))
def spKeep (S : oSt) : Int32 × oSt := (nI S.1.1, (S.1, S.2.1, some S.1, S.2.2.2))
def spRestore (S : oSt) : Int32 × oSt := match S.2.2.1 with
  | none => (cNONE, S)
  | some b => (nI b.1, spAcc S b)
def spType (S : oSt) (c : Nat) : Int32 × oSt := if S.2.2.2.length = 80 then (cFULL, S) else (nI (S.2.2.2.length + 1), (S.1, S.2.1, S.2.2.1, S.2.2.2 ++ [c]))
def spClear (S : oSt) : Int32 × oSt := (nI S.2.2.2.length, (S.1, S.2.1, S.2.2.1, []))
/-! lines that are well made -/
theorem lnOk_of {F : Nat → Nat → Int32} {n κ : Nat} (hn : n ≤ 16) (e0 : F n 0 = nI κ) (hκ : κ ≤ 6) (c0 : κ = 0 → ∃ a b : Nat, F n 1 = nI a ∧ a ≤ 256 ∧ F n 2 = nI b ∧ 1 ≤ b ∧ b ≤ 255) (c1 : 1 ≤ κ → ∃ a : Nat, F n 1 = nI a ∧ a < n) (c2 : 1 ≤ κ ∧ κ ≤ 4 → ∃ a : Nat, F n 2 = nI a ∧ a < n) (c3 : κ = 4 → ∃ a : Nat, F n 3 = nI a ∧ a < n) (c6 : κ = 6 → ∃ a : Nat, F n 2 = nI a ∧ 1 ≤ a ∧ a ≤ 60) (n3 : κ ≠ 4 → F n 3 = cNONE) (n2 : κ = 5 → F n 2 = cNONE) : lnOk F n := by
  have hk : kd F n = κ := by unfold kd; rw [e0, nI_clamp (by omega)]
  have hm : ∀ (w a : Nat), F n w = nI a → a < 2 ^ 31 → nm F n w = a := fun w a h ha => by unfold nm; rw [h, nI_clamp ha]
  unfold lnOk
  rw [hk]
  refine ⟨⟨e0, hκ⟩, fun z => ?_, fun z => ?_, fun z => ?_, fun z => ?_, fun z => ?_, n3, n2⟩
  · obtain ⟨a, b, h1, h2, h3, h4, h5⟩ := c0 z
    rw [hm 1 a h1 (by omega), hm 2 b h3 (by omega)]
    exact ⟨⟨h1, h2⟩, h3, h4, h5⟩
  · obtain ⟨a, h1, h2⟩ := c1 z
    rw [hm 1 a h1 (by omega)]
    exact ⟨h1, h2⟩
  · obtain ⟨a, h1, h2⟩ := c2 z
    rw [hm 2 a h1 (by omega)]
    exact ⟨h1, h2⟩
  · obtain ⟨a, h1, h2⟩ := c3 z
    rw [hm 3 a h1 (by omega)]
    exact ⟨h1, h2⟩
  · obtain ⟨a, h1, h2, h3⟩ := c6 z
    rw [hm 2 a h1 (by omega)]
    exact ⟨h1, h2, h3⟩
theorem lnOk_row {F F' : Nat → Nat → Int32} {k : Nat} (e : ∀ w, w < 4 → F k w = F' k w) (h : lnOk F k) : lnOk F' k := by
  have e0 : kd F' k = kd F k := by unfold kd; rw [e 0 (by omega)]
  have e1 : nm F' k 1 = nm F k 1 := by unfold nm; rw [e 1 (by omega)]
  have e2 : nm F' k 2 = nm F k 2 := by unfold nm; rw [e 2 (by omega)]
  have e3 : nm F' k 3 = nm F k 3 := by unfold nm; rw [e 3 (by omega)]
  unfold lnOk at h ⊢
  rw [e0, e1, e2, e3, ← e 0 (by omega), ← e 1 (by omega), ← e 2 (by omega), ← e 3 (by omega)]
  exact h
theorem beAdd_n (b : nBe) (k f s t : Int32) : (beAdd b k f s t).2.1 b.1 0 = k ∧ (beAdd b k f s t).2.1 b.1 1 = f ∧ (beAdd b k f s t).2.1 b.1 2 = s ∧ (beAdd b k f s t).2.1 b.1 3 = t := by simp [beAdd]
theorem beAdd_ok {b : nBe} {k f s t : Int32} (h : beOk b) (hn : b.1 < 16) (hl : lnOk (beAdd b k f s t).2.1 b.1) : beOk (beAdd b k f s t) := by
  refine ⟨by show b.1 + 1 ≤ 16; omega, h.2.1, fun j hj => ?_⟩
  by_cases e : j = b.1
  · subst e; exact hl
  · have hj : j < b.1 + 1 := hj
    exact lnOk_row (fun w _ => by simp [beAdd, e]) (h.2.2 j (by omega))
theorem src_ok {b : nBe} {x y : Int32} (hn : b.1 ≤ 16) (hx : rng x 0 256 = true) (hy : rng y 1 255 = true) : lnOk (beAdd b (nI 0) x y cNONE).2.1 b.1 := by
  obtain ⟨e0, e1, e2, e3⟩ := beAdd_n b (nI 0) x y cNONE
  obtain ⟨a, -, a2, a3⟩ := rng_t hx (by decide)
  obtain ⟨c, c1, c2, c3⟩ := rng_t hy (by decide)
  exact lnOk_of hn e0 (by omega) (fun _ => ⟨a, c, by rw [e1, a3], a2, by rw [e2, c3], c1, c2⟩) (fun h => by omega) (fun h => by omega) (fun h => by omega) (fun h => by omega) (fun _ => e3) (fun h => by omega)
theorem gate_ok {b : nBe} {k x y : Int32} (hn : b.1 ≤ 16) (hk : rng k 1 3 = true) (hx : isLn x b.1 = true) (hy : isLn y b.1 = true) : lnOk (beAdd b k x y cNONE).2.1 b.1 := by
  obtain ⟨e0, e1, e2, e3⟩ := beAdd_n b k x y cNONE
  obtain ⟨κ, k1, k2, k3⟩ := rng_t hk (by decide)
  obtain ⟨a, a2, a3⟩ := isLn_t hx (by omega)
  obtain ⟨c, c2, c3⟩ := isLn_t hy (by omega)
  exact lnOk_of (κ := κ) hn (by rw [e0, k3]) (by omega) (fun h => by omega) (fun _ => ⟨a, by rw [e1, a3], a2⟩) (fun _ => ⟨c, by rw [e2, c3], c2⟩) (fun h => by omega) (fun h => by omega) (fun _ => e3) (fun h => by omega)
theorem choose_ok {b : nBe} {x y z : Int32} (hn : b.1 ≤ 16) (hx : isLn x b.1 = true) (hy : isLn y b.1 = true) (hz : isLn z b.1 = true) : lnOk (beAdd b (nI 4) x y z).2.1 b.1 := by
  obtain ⟨e0, e1, e2, e3⟩ := beAdd_n b (nI 4) x y z
  obtain ⟨a, a2, a3⟩ := isLn_t hx (by omega)
  obtain ⟨c, c2, c3⟩ := isLn_t hy (by omega)
  obtain ⟨d, d2, d3⟩ := isLn_t hz (by omega)
  exact lnOk_of (κ := 4) hn e0 (by omega) (fun h => by omega) (fun _ => ⟨a, by rw [e1, a3], a2⟩) (fun _ => ⟨c, by rw [e2, c3], c2⟩) (fun _ => ⟨d, by rw [e3, d3], d2⟩) (fun h => by omega) (fun h => by omega) (fun h => by omega)
theorem turn_ok {b : nBe} {x : Int32} (hn : b.1 ≤ 16) (hx : isLn x b.1 = true) : lnOk (beAdd b (nI 5) x cNONE cNONE).2.1 b.1 := by
  obtain ⟨e0, e1, e2, e3⟩ := beAdd_n b (nI 5) x cNONE cNONE
  obtain ⟨a, a2, a3⟩ := isLn_t hx (by omega)
  exact lnOk_of (κ := 5) hn e0 (by omega) (fun h => by omega) (fun _ => ⟨a, by rw [e1, a3], a2⟩) (fun h => by omega) (fun h => by omega) (fun h => by omega) (fun _ => e3) (fun _ => e2)
theorem delay_ok {b : nBe} {x y : Int32} (hn : b.1 ≤ 16) (hx : isLn x b.1 = true) (hy : rng y 1 60 = true) : lnOk (beAdd b (nI 6) x y cNONE).2.1 b.1 := by
  obtain ⟨e0, e1, e2, e3⟩ := beAdd_n b (nI 6) x y cNONE
  obtain ⟨a, a2, a3⟩ := isLn_t hx (by omega)
  obtain ⟨c, c1, c2, c3⟩ := rng_t hy (by decide)
  exact lnOk_of (κ := 6) hn e0 (by omega) (fun h => by omega) (fun _ => ⟨a, by rw [e1, a3], a2⟩) (fun h => by omega) (fun h => by omega) (fun _ => ⟨c, by rw [e2, c3], c1, c2⟩) (fun _ => e3) (fun h => by omega)
theorem set_ok {b : nBe} {k : Nat} {x y : Int32} (h : beOk b) (hk : k < b.1) (h0 : kd b.2.1 k = 0) (hx : rng x 0 256 = true) (hy : rng y 1 255 = true) : beOk (beSet b k x y) := by
  obtain ⟨a, -, a2, a3⟩ := rng_t hx (by decide)
  obtain ⟨c, c1, c2, c3⟩ := rng_t hy (by decide)
  obtain ⟨hn, hl, ok⟩ := h
  refine ⟨hn, hl, fun j hj => ?_⟩
  by_cases e : j = k
  · subst e
    have o := ok j hj
    have e0 : (beSet b j x y).2.1 j 0 = nI 0 := by
      have := o.1.1
      rw [h0] at this
      simp [beSet, this]
    exact lnOk_of (κ := 0) (by have : j < b.1 := hj; omega) e0 (by omega) (fun _ => ⟨a, c, by simp [beSet, a3], a2, by simp [beSet, c3], c1, c2⟩) (fun h => by omega) (fun h => by omega) (fun h => by omega) (fun h => by omega) (fun _ => by
      have := o.2.2.2.2.2.2.1 (by omega)
      simp [beSet, this]) (fun h => by omega)
  · exact lnOk_row (fun w _ => by simp [beSet, e]) (ok j hj)
/-! the reference's rows -/
def bRow (f : Nat → Int32) (b : nBe) : Prop := f 0 = nI b.1 ∧ f 1 = nI b.2.2 ∧ ∀ k, k < b.1 → ∀ w, w < 4 → f (2 + 4 * k + w) = b.2.1 k w
theorem bRow_to {f g : Nat → Int32} {b : nBe} (h : bRow f b) (hn : b.1 ≤ 16) (e : ∀ k, k < 66 → g k = f k) : bRow g b := by
  obtain ⟨h1, h2, h3⟩ := h
  exact ⟨by rw [e 0 (by omega), h1], by rw [e 1 (by omega), h2], fun k hk w hw => by rw [e _ (by omega), h3 k hk w hw]⟩
def hRow (hist : Nat → Int32) (L : List nBe) : Prop := ∀ (i : Nat) (b : nBe), L[i]? = some b → bRow (fun k => hist (66 * i + k)) b
def tkN : Option nBe → Nat
  | none => 0
  | some _ => 1
def mR (S : oSt) (all hist : Nat → Int32) (hlo : Int32) (snap : Nat → Int32) (tk : Int32) (text : Nat → Int32) (tl : Int32) : Prop :=
  stOk S ∧ bRow all S.1 ∧ (hlo = nI S.2.1.length ∧ hRow hist S.2.1) ∧ (tk = nI (tkN S.2.2.1) ∧ ∀ b, S.2.2.1 = some b → bRow snap b) ∧ (tl = nI S.2.2.2.length ∧ ∀ (i c : Nat), S.2.2.2[i]? = some c → text i = nI c)
def acH (h : Nat) : Nat := if h = 4 then 4 else h + 1
/-- what was kept has come into the history -/
def hsP (h : Nat) (hist kept hs : Nat → Int32) : Prop := (∀ k, k < 66 * (acH h - 1) → hs k = (if h = 4 then hist (k + 66) else hist k)) ∧ ∀ k, k < 66 → hs (66 * (acH h - 1) + k) = kept k
theorem hRow_push {L : List nBe} {hist kept hs : Nat → Int32} {b : nBe} (hL : L.length ≤ 4) (h : hRow hist L) (ok : ∀ b ∈ L, beOk b) (hp : hsP L.length hist kept hs) (hb : bRow kept b) (hn : b.1 ≤ 16) : hRow hs ((if L.length = 4 then L.tail else L) ++ [b]) ∧ acH L.length = ((if L.length = 4 then L.tail else L) ++ [b]).length := by
  obtain ⟨p1, p2⟩ := hp
  by_cases h4 : L.length = 4
  · have ha : acH L.length = 4 := by simp [acH, h4]
    rw [ha] at p1 p2
    rw [if_pos h4]
    refine ⟨fun i c hc => ?_, by rw [ha]; simp [h4]⟩
    by_cases hi : i < 3
    · rw [List.getElem?_append_left (by simp; omega), List.getElem?_tail] at hc
      refine bRow_to (h _ c hc) (ok c (List.mem_of_getElem? hc)).1 (fun k hk => ?_)
      rw [p1 _ (by omega), if_pos h4]
      congr 1
      omega
    · rw [List.getElem?_append_right (by simp; omega)] at hc
      have hl := (List.getElem?_eq_some_iff.mp hc).1
      simp [h4] at hl
      have hi3 : i = 3 := by omega
      subst hi3
      simp [h4] at hc
      subst hc
      exact bRow_to hb hn (fun k hk => p2 k hk)
  · have ha : acH L.length = L.length + 1 := by simp [acH, h4]
    rw [ha] at p1 p2
    rw [if_neg h4]
    refine ⟨fun i c hc => ?_, by rw [ha]; simp⟩
    by_cases hi : i < L.length
    · rw [List.getElem?_append_left hi] at hc
      refine bRow_to (h _ c hc) (ok c (List.mem_of_getElem? hc)).1 (fun k hk => ?_)
      rw [p1 _ (by omega), if_neg h4]
    · rw [List.getElem?_append_right (by omega)] at hc
      have hl := (List.getElem?_eq_some_iff.mp hc).1
      simp at hl
      have hi3 : i = L.length := by omega
      subst hi3
      simp at hc
      subst hc
      exact bRow_to hb hn (fun k hk => by rw [show L.length + 1 - 1 = L.length by omega] at p2; exact p2 k hk)
theorem spAcc_ok {S : oSt} {b : nBe} (h : stOk S) (hb : beOk b) : stOk (spAcc S b) := by
  obtain ⟨h1, ⟨h2, h3⟩, h4, h5⟩ := h
  refine ⟨hb, ⟨?_, fun c hc => ?_⟩, h4, h5⟩
  · show ((if S.2.1.length = 4 then S.2.1.tail else S.2.1) ++ [S.1]).length ≤ 4
    split
    · simp; omega
    · simp; omega
  · have hc : c ∈ (if S.2.1.length = 4 then S.2.1.tail else S.2.1) ++ [S.1] := hc
    rcases List.mem_append.mp hc with q | q
    · split at q
      · exact h3 c (List.mem_of_mem_tail q)
      · exact h3 c q
    · simp at q
      subst q
      exact h1
theorem mR_acc {S : oSt} {all hist kp hs all' : Nat → Int32} {hlo : Int32} {snap : Nat → Int32} {tk : Int32} {text : Nat → Int32} {tl : Int32} {b : nBe} (h : mR S all hist hlo snap tk text tl) (hb : beOk b) (ha : bRow all' b) (hk : ∀ k, k < 66 → kp k = all k) (hp : hsP S.2.1.length hist kp hs) : mR (spAcc S b) all' hs (nI (acH S.2.1.length)) snap tk text tl := by
  obtain ⟨so, ba, ⟨eh, hh⟩, sn, tx⟩ := h
  obtain ⟨r1, r2⟩ := hRow_push so.2.1.1 hh so.2.1.2 hp (bRow_to ba so.1.1 hk) so.1.1
  exact ⟨spAcc_ok so hb, ha, ⟨congrArg nI r2, r1⟩, sn, tx⟩
def putA (all : Nat → Int32) (n : Nat) (k f s t : Int32) : Nat → Int32 := upd (upd (upd (upd (upd all (2 + 4 * n) k) (2 + 4 * n + 1) f) (2 + 4 * n + 2) s) (2 + 4 * n + 3) t) 0 (nI (n + 1))
theorem bRow_add {all : Nat → Int32} {b : nBe} (h : bRow all b) (k f s t : Int32) : bRow (putA all b.1 k f s t) (beAdd b k f s t) := by
  obtain ⟨h1, h2, h3⟩ := h
  unfold putA
  refine ⟨by rw [upd_s]; rfl, ?_, fun j hj w hw => ?_⟩
  · rw [upd_n (by omega), upd_n (by omega), upd_n (by omega), upd_n (by omega), upd_n (by omega), h2]
    rfl
  · have hj : j < b.1 + 1 := hj
    rw [upd_n (by omega)]
    by_cases e : j = b.1
    · subst e
      rcases (by omega : w = 0 ∨ w = 1 ∨ w = 2 ∨ w = 3) with z | z | z | z <;> subst z <;> simp [upd, beAdd]
    · rw [upd_n (by omega), upd_n (by omega), upd_n (by omega), upd_n (by omega), h3 j (by omega) w hw]
      simp [beAdd, e]
