/-! THE OWN LAYER: one class list, one bundle of what holds at every launch, worlds as a bundle, contracts by few words -/
abbrev vwCl : List vw_C := [(RX0, TX0, 4), (RX1, TX1, 2), (RX2, TX2, 18), (RJ2, TJ2, 3), (RX4, TX4, 2), (RX5, TX5, 3), (RX6, TX6, 4), (RJ4, TJ4, 4)]
/-- the array classes: their numbers stand behind 100 in D -/
abbrev nTys (D : va_G) : List (ClassId × FieldType) := [(D.1 100, .int), (D.1 101, .byte), (D.1 102, .object "java/lang/Object"), (D.1 103, .long), (D.1 104, .object "java/lang/String")]
def gK (D : va_G) (U : State) : Prop := va_K D vwCl (nTys D) U
theorem gK.go {D : va_G} {s U : State} (h : gK D s) (hW : s.WarmedH U.vm) : gK D U := va_K.moved hW.alike h
def nwKind : Cond → Bool
  | .fieldLinkNest _ _ _ _ _ _ => true
  | .methodLinkNest _ _ _ _ => true
  | .castable _ _ => true
  | .arrayOver (.object _) => true
  | .privateMethod _ => true
  | _ => false
def gN (U : State) : Prop := ∀ w ∈ lw_tbl, nwKind w = true → va_Nw w U
theorem gN.go {s U : State} (h : gN s) (hW : s.WarmedH U.vm) : gN U := by
  intro w hw hk
  have h1 := h w hw hk
  cases w <;> first | (cases hk; done) | exact va_Nw.warmF hW h1 | exact va_Nw.warmM hW h1 | exact va_Nw.warmC hW h1 | exact Cond.privateMethod_warm hW h1 | (rename_i ty; cases ty <;> first | (cases hk; done) | exact va_AO.moved hW.alike h1)
/-- the interface calls: class, the interface's method, the one that runs -/
def nFw : List (String × MethodName × MethodName) := [
  ("java/util/ArrayList", ⟨"java/util/List", "size", "()I"⟩, ⟨"java/util/ArrayList", "size", "()I"⟩),
  ("java/util/ArrayList", ⟨"java/util/List", "get", "(I)Ljava/lang/Object;"⟩, ⟨"java/util/ArrayList", "get", "(I)Ljava/lang/Object;"⟩),
  ("java/util/ArrayList", ⟨"java/util/List", "add", "(Ljava/lang/Object;)Z"⟩, ⟨"java/util/ArrayList", "add", "(Ljava/lang/Object;)Z"⟩),
  ("java/util/ArrayList", ⟨"java/util/List", "remove", "(I)Ljava/lang/Object;"⟩, ⟨"java/util/ArrayList", "remove", "(I)Ljava/lang/Object;"⟩),
  ("java/util/ArrayList", ⟨"java/util/List", "set", "(ILjava/lang/Object;)Ljava/lang/Object;"⟩, ⟨"java/util/ArrayList", "set", "(ILjava/lang/Object;)Ljava/lang/Object;"⟩),
  ("java/util/ArrayList", ⟨"java/util/List", "isEmpty", "()Z"⟩, ⟨"java/util/ArrayList", "isEmpty", "()Z"⟩),
  ("ShareStreams$Plain", ⟨"ShareStreams$Line", "kind", "()I"⟩, ⟨"ShareStreams$Plain", "kind", "()I"⟩),
  ("ShareStreams$Plain", ⟨"ShareStreams$Line", "number", "(I)I"⟩, ⟨"ShareStreams$Plain", "number", "(I)I"⟩),
  ("java/lang/StringBuilder", ⟨"java/lang/CharSequence", "length", "()I"⟩, ⟨"java/lang/StringBuilder", "length", "()I"⟩),
  ("java/lang/StringBuilder", ⟨"java/lang/CharSequence", "charAt", "(I)C"⟩, ⟨"java/lang/StringBuilder", "charAt", "(I)C"⟩)]
def gF (U : State) : Prop := ∀ q ∈ nFw, va_Fw q.1 q.2.1 q.2.2 U
theorem nFw_ok : ∀ q ∈ nFw, q.2.1.cls ≠ "java/lang/invoke/MethodHandle" ∧ q.2.1.cls ≠ "java/lang/invoke/VarHandle" := by decide +kernel
theorem gF.go {s U : State} (h : gF s) (hW : s.WarmedH U.vm) : gF U := fun q hq => va_Fw.moved (nFw_ok q hq) hW.alike (h q hq)
/-- the default methods of ShareStreams$Line, run on a ShareStreams$Plain -/
def nDf : List MethodName := [⟨"ShareStreams$Line", "isLine", "(I)Z"⟩, ⟨"ShareStreams$Line", "isBehind", "(I)Z"⟩, ⟨"ShareStreams$Line", "bit", "(III)I"⟩, ⟨"ShareStreams$Line", "share", "(JJJ)I"⟩]
theorem nDf_ok : ∀ y ∈ nDf, y.cls ≠ "java/lang/invoke/MethodHandle" ∧ y.cls ≠ "java/lang/invoke/VarHandle" := by decide +kernel
def nDw (C : String) (y : MethodName) (U : State) : Prop := (Cond.declares y).before #[] U = true ∧ (Cond.interfaceMethod y.cls y.cls y.name y.desc).before #[] U = true ∧ (Cond.landsInDefault C y y).before #[] U = true ∧ (Cond.publicMethod y).before #[] U = true ∧ (Cond.castable C y.cls).before #[] U = true
theorem nDw.moved {C : String} {y : MethodName} (hx : y.cls ≠ "java/lang/invoke/MethodHandle" ∧ y.cls ≠ "java/lang/invoke/VarHandle") {u U : State} (hvm : u.vm.Alike U.vm) (h : nDw C y u) : nDw C y U := by
  obtain ⟨h1, h2, h3, h4, h5⟩ := h
  obtain ⟨r, meth, hn, -⟩ := Cond.declares_spec h1
  have tr : ∀ {c : Cond}, c.onTables = true → c.before #[] (u.setVm U.vm) = true → c.before #[] U = true := by
    intro c hc h
    have e := Cond.onTables_vm (A := #[]) (A' := #[]) (U := u) (U' := U) U.vm c hc
    have hU : U.setVm U.vm = U := rfl
    rw [hU] at e
    rw [← e]
    exact h
  exact ⟨tr rfl (by rw [Cond.declares_setVm hvm]; exact h1), tr rfl (by rw [Cond.interfaceMethod_setVm hvm (r := r) hn hx]; exact h2), (by have h := (Cond.landsInDefault_setVm (args := #[]) (args' := #[]) hvm (State.methodFound?_setVm hvm _ _ _)).trans h3; exact h), tr rfl (by rw [Cond.publicMethod_setVm hvm]; exact h4), tr rfl (by rw [Cond.castable_setVm hvm]; exact h5)⟩
def gD (U : State) : Prop := ∀ y ∈ nDf, nDw "ShareStreams$Plain" y U
theorem gD.go {s U : State} (h : gD s) (hW : s.WarmedH U.vm) : gD U := fun q hq => nDw.moved (nDf_ok q hq) hW.alike (h q hq)
/-- ArrayList's own empty array, at the address t -/
def gE (b0 t : Nat) (U : State) (H : Heap) : Prop := va_Z "java/util/ArrayList" "DEFAULTCAPACITY_EMPTY_ELEMENTDATA" "[Ljava/lang/Object;" (.ref t) (fun q => b0 ≤ q) U H ∧ va_T (.object "java/lang/Object") t 0 (fun _ => .null) (fun q => b0 ≤ q) U H ∧ t < b0
/-- statics of the JDK that are read -/
def gS (b0 : Nat) (U : State) (H : Heap) : Prop := va_Z "java/lang/String" "COMPACT_STRINGS" "Z" (.int 1) (fun q => b0 ≤ q) U H ∧ va_Z "java/lang/StringUTF16" "$assertionsDisabled" "Z" (.int 1) (fun q => b0 ≤ q) U H ∧ va_Z "java/lang/StringUTF16" "HI_BYTE_SHIFT" "I" (.int 0) (fun q => b0 ≤ q) U H ∧ va_Z "java/lang/StringUTF16" "LO_BYTE_SHIFT" "I" (.int 8) (fun q => b0 ≤ q) U H ∧ va_Zq "jdk/internal/util/Preconditions" "SIOOBE_FORMATTER" "Ljava/util/function/BiFunction;" (fun q => b0 ≤ q) U H
/-- the texts of ShareStreams$Reader: lengths, bytes, hashes, places in the pool, texts -/
def nSl : List Nat := [6, 3, 2, 3, 3, 3, 5, 0]
def nSb : List (List Int32) := [[115, 111, 117, 114, 99, 101], [97, 110, 100], [111, 114], [120, 111, 114], [109, 117, 120], [110, 111, 116], [100, 101, 108, 97, 121], []]
def nSh : List Int32 := [-896505829, 96727, 3555, 118875, 108496, 109267, 95467907, 0]
def nSz : List Int32 := [0, 0, 0, 0, 0, 0, 0, 1]
def nSx : List Nat := [68, 70, 72, 74, 76, 78, 80, 50]
def nSt : List String := ["source", "and", "or", "xor", "mux", "not", "delay", ""]
/-- everything that goes with a launch: class numbers and slots, the heap's size at the law's start, the empty array of ArrayList, the texts' addresses, those of their bytes -/
abbrev nG : Type := va_G × Nat × Nat × (Nat → Nat) × (Nat → Nat)
abbrev nB (G : nG) : Nat → Prop := fun q => G.2.1 ≤ q
def gT (G : nG) (U : State) (H : Heap) : Prop := vk_S 8 nSl nSb G.2.2.2.1 G.2.2.2.2 (nB G) U H ∧ (∀ i : Nat, i < 8 → va_OF "java/lang/String" "hash" "I" (.int (nSh.getD i 0)) (G.2.2.2.1 i) (nB G) U H ∧ va_OF "java/lang/String" "hashIsZero" "Z" (.int (nSz.getD i 0)) (G.2.2.2.1 i) (nB G) U H) ∧ ∀ i : Nat, i < 8 → vk_R "ShareStreams$Reader" (nSx.getD i 0) (nSt.getD i "") (G.2.2.2.1 i) U
/-- the Class object of Object[]; getClass is declared -/
def gM (G : nG) (U : State) : Prop := va_Mi "[Ljava/lang/Object;" (G.2.2.2.1 8) U ∧ va_Dc U
theorem gM.go {G : nG} {s U : State} (h : gM G s) (hW : s.WarmedH U.vm) : gM G U := ⟨va_Mi.moved hW.alike h.1, va_Dc.moved hW.alike h.2⟩
/-- what holds at every state of the run: the tables' facts, the statics -/
def gG (G : nG) (U : State) : Prop := gK G.1 U ∧ gN U ∧ gF U ∧ gD U ∧ gE G.2.1 G.2.2.1 U U.heap ∧ gS G.2.1 U U.heap ∧ gM G U ∧ gT G U U.heap
theorem gE.go {b0 t : Nat} {s U : State} {H : Heap} (h : gE b0 t s H) (hW : s.WarmedH U.vm) {H1 : Heap} (hq : ∀ a : Nat, a < H.size → ¬ b0 ≤ a → H1[a]? = H[a]?) : gE b0 t U H1 :=
  ⟨va_Z.moved hW.alike (h.1.kept hq), va_T.moved hW.alike (h.2.1.kept hq), h.2.2⟩
theorem gS.go {b0 : Nat} {s U : State} {H : Heap} (h : gS b0 s H) (hW : s.WarmedH U.vm) {H1 : Heap} (hq : ∀ a : Nat, a < H.size → ¬ b0 ≤ a → H1[a]? = H[a]?) : gS b0 U H1 :=
  ⟨va_Z.moved hW.alike (h.1.kept hq), va_Z.moved hW.alike (h.2.1.kept hq), va_Z.moved hW.alike (h.2.2.1.kept hq), va_Z.moved hW.alike (h.2.2.2.1.kept hq), va_Zq.moved hW.alike (h.2.2.2.2.kept hq)⟩
theorem gT.go {G : nG} {s U : State} {H : Heap} (h : gT G s H) (hW : s.WarmedH U.vm) {H1 : Heap} (hq : ∀ a : Nat, a < H.size → ¬ G.2.1 ≤ a → H1[a]? = H[a]?) : gT G U H1 :=
  ⟨vk_S.moved hW.alike (h.1.kept hq), fun i hi => ⟨va_OF.moved hW.alike ((h.2.1 i hi).1.kept hq), va_OF.moved hW.alike ((h.2.1 i hi).2.kept hq)⟩, fun i hi => (h.2.2 i hi).warm hW⟩
theorem gG.go {G : nG} {s U : State} (h : gG G s) (hW : s.WarmedH U.vm) (hq : ∀ a : Nat, a < s.heap.size → ¬ G.2.1 ≤ a → U.heap[a]? = s.heap[a]?) : gG G U :=
  ⟨h.1.go hW, h.2.1.go hW, h.2.2.1.go hW, h.2.2.2.1.go hW, h.2.2.2.2.1.go hW hq, h.2.2.2.2.2.1.go hW hq, h.2.2.2.2.2.2.1.go hW, h.2.2.2.2.2.2.2.go hW hq⟩
theorem gG.blind {G : nG} {U : State} (h : gG G U) (g : JFrame) (mk : MethodId) (a : Array Value) : gG G (U.calling g mk a) :=
  h.go (U := U.calling g mk a) (State.WarmedH.refl U) (fun _ _ _ => rfl)
/-! ===== worlds: own cells wc (each by itself), own cells fz (any number, not changed any more), read cells rc (older, apart) ===== -/
theorem va_P.mono {D : va_G} {cl : List vw_C} {r1 r2 : va_W} {H : Heap} (h1 : va_P D cl r1 H) (h : ∀ q ∈ r2, q ∈ r1) : va_P D cl r2 H := by
  intro k q hk
  obtain ⟨i, hi⟩ := List.getElem?_of_mem (h q (List.mem_of_getElem? hk))
  exact h1 i q hi
def nX (w1 w2 : va_W) : Prop := ∀ p ∈ w1, ∀ q ∈ w2, p.1 ≠ q.1
theorem n_mem {w : va_W} {q : Nat × va_E} : q ∈ w ↔ ∃ k : Nat, w[k]? = some q := List.mem_iff_getElem?
theorem va_D.parts {A : Nat → Prop} {w1 w2 : va_W} (h : va_D A (w1 ++ w2)) : va_D A w1 ∧ va_D A w2 ∧ nX w1 w2 := by
  refine ⟨⟨fun i j x y hi hj hxy => ?_, fun k q hk => ?_⟩, ⟨fun i j x y hi hj hxy => ?_, fun k q hk => ?_⟩, fun x hx y hy hxy => ?_⟩
  · have li := (List.getElem?_eq_some_iff.mp hi).1
    have lj := (List.getElem?_eq_some_iff.mp hj).1
    exact h.1 i j x y (by rw [List.getElem?_append_left li]; exact hi) (by rw [List.getElem?_append_left lj]; exact hj) hxy
  · have lk := (List.getElem?_eq_some_iff.mp hk).1
    exact h.2 k q (by rw [List.getElem?_append_left lk]; exact hk)
  · have e := h.1 (w1.length + i) (w1.length + j) x y (by rw [List.getElem?_append_right (by omega)]; simpa using hi) (by rw [List.getElem?_append_right (by omega)]; simpa using hj) hxy
    omega
  · exact h.2 (w1.length + k) q (by rw [List.getElem?_append_right (by omega)]; simpa using hk)
  · obtain ⟨i, hi⟩ := n_mem.mp hx
    obtain ⟨j, hj⟩ := n_mem.mp hy
    have li := (List.getElem?_eq_some_iff.mp hi).1
    have e := h.1 i (w1.length + j) x y (by rw [List.getElem?_append_left li]; exact hi) (by rw [List.getElem?_append_right (by omega)]; simpa using hj) hxy
    omega
theorem va_D.both {A : Nat → Prop} {w1 w2 : va_W} (h1 : va_D A w1) (h2 : va_D A w2) (hx : nX w1 w2) : va_D A (w1 ++ w2) :=
  va_D.app h1 h2 (fun i j p q hp hq => hx p (List.mem_of_getElem? hp) q (List.mem_of_getElem? hq))
def nW (G : nG) (A : Nat → Prop) (wc fz rc : va_W) (H0 H : Heap) (locs : List Loc) : Prop :=
  va_P G.1 vwCl (wc ++ fz) H ∧ va_D A (wc ++ fz) ∧ va_S A H0 H locs ∧ va_P G.1 vwCl rc H ∧ (∀ q : Nat, H0.size ≤ q → A q) ∧ (∀ q : Nat, A q → G.2.1 ≤ q) ∧ ∀ (k : Nat) (q : Nat × va_E), rc[k]? = some q → q.1 < H0.size ∧ ¬ A q.1
theorem nW.rc {G : nG} {A : Nat → Prop} {wc fz rc : va_W} {H0 H : Heap} {locs : List Loc} (Z : nW G A wc fz rc H0 H locs) : va_P G.1 vwCl rc H := Z.2.2.2.1
theorem nW.w {G : nG} {A : Nat → Prop} {wc fz rc : va_W} {H0 H : Heap} {locs : List Loc} (Z : nW G A wc fz rc H0 H locs) : va_P G.1 vwCl wc H := Z.1.mono (fun q h => List.mem_append_left _ h)
theorem nW.f {G : nG} {A : Nat → Prop} {wc fz rc : va_W} {H0 H : Heap} {locs : List Loc} (Z : nW G A wc fz rc H0 H locs) : va_P G.1 vwCl fz H := Z.1.mono (fun q h => List.mem_append_right _ h)
theorem nW.d {G : nG} {A : Nat → Prop} {wc fz rc : va_W} {H0 H : Heap} {locs : List Loc} (Z : nW G A wc fz rc H0 H locs) : va_D A wc := Z.2.1.parts.1
/-- all that is only read -/
theorem nW.fr {G : nG} {A : Nat → Prop} {wc fz rc : va_W} {H0 H : Heap} {locs : List Loc} (Z : nW G A wc fz rc H0 H locs) : va_P G.1 vwCl (fz ++ rc) H := Z.f.app Z.rc
theorem nW.upd {G : nG} {A : Nat → Prop} {wc wc' fz fz' rc : va_W} {H0 H H1 : Heap} {locs locs1 : List Loc} (Z : nW G A wc fz rc H0 H locs) (h1 : va_P G.1 vwCl (wc' ++ fz') H1) (h2 : va_D A (wc' ++ fz')) (h3 : va_S A H0 H1 locs1) : nW G A wc' fz' rc H0 H1 locs1 := by
  obtain ⟨-, -, z3, z4, z5, z6, z7⟩ := Z
  refine ⟨h1, h2, h3, z4.kept (fun k q hq => ?_), z5, z6, z7⟩
  obtain ⟨a1, a2⟩ := z7 k q hq
  rw [h3.2.1 q.1 a1 a2, z3.2.1 q.1 a1 a2]
theorem n_pick {wc wcc : va_W} {is : List Nat} (hs : is.map (fun i => wc[i]?) = wcc.map some) : is.filterMap (fun i => wc[i]?) = wcc := by
  have h2 : ∀ (l : List Nat) (w : va_W), l.map (fun i => wc[i]?) = w.map some → l.filterMap (fun i => wc[i]?) = w := by
    intro l
    induction l with
    | nil => intro w h; cases w with
      | nil => rfl
      | cons a b => cases h
    | cons i l ih => intro w h; cases w with
      | nil => cases h
      | cons a b =>
        simp only [List.map_cons, List.cons.injEq] at h
        rw [List.filterMap_cons, h.1, ih b h.2]
  exact h2 is wcc hs
theorem n_at {wc wcc : va_W} {is : List Nat} (hs : is.map (fun i => wc[i]?) = wcc.map some) (k : Nat) (q : Nat × va_E) (hk : wcc[k]? = some q) : ∃ i, is[k]? = some i ∧ wc[i]? = some q := by
  have h1 : (is.map (fun i => wc[i]?))[k]? = some (some q) := by rw [hs, List.getElem?_map, hk]; rfl
  rw [List.getElem?_map] at h1
  cases hi : is[k]? with
  | none => rw [hi] at h1; cases h1
  | some i => rw [hi] at h1; exact ⟨i, rfl, Option.some.inj h1⟩
theorem n_sub {wc wcc : va_W} {is : List Nat} (hs : is.map (fun i => wc[i]?) = wcc.map some) : ∀ q ∈ wcc, q ∈ wc := by
  intro q hq
  obtain ⟨k, hk⟩ := n_mem.mp hq
  obtain ⟨i, -, hi⟩ := n_at hs k q hk
  exact List.mem_of_getElem? hi
theorem nX.mono {w1 w2 v1 v2 : va_W} (h : nX w1 w2) (h1 : ∀ q ∈ v1, q ∈ w1) (h2 : ∀ q ∈ v2, q ∈ w2) : nX v1 v2 := fun p hp q hq => h p (h1 p hp) q (h2 q hq)
/-- the own cells in another order, or fewer -/
theorem nW.perm {G : nG} {A : Nat → Prop} {wc fz rc : va_W} {H0 H : Heap} {locs : List Loc} (Z : nW G A wc fz rc H0 H locs) (wc' : va_W) (is : List Nat) (hn : va_nd is = true) (hs : is.map (fun i => wc[i]?) = wc'.map some) : nW G A wc' fz rc H0 H locs := by
  obtain ⟨d1, d2, d3⟩ := Z.2.1.parts
  exact Z.upd ((Z.w.sub is (n_pick hs)).app Z.f) ((d1.sub is hn hs).both d2 (d3.mono (n_sub hs) (fun q h => h))) Z.2.2.1
/-- own cells that won't change any more -/
theorem nW.freeze {G : nG} {A : Nat → Prop} {wc fz rc N : va_W} {H0 H : Heap} {locs : List Loc} (Z : nW G A (wc ++ N) fz rc H0 H locs) : nW G A wc (N ++ fz) rc H0 H locs :=
  Z.upd (by rw [← List.append_assoc]; exact Z.1) (by rw [← List.append_assoc]; exact Z.2.1) Z.2.2.1
theorem nW.thaw {G : nG} {A : Nat → Prop} {wc fz rc N : va_W} {H0 H : Heap} {locs : List Loc} (Z : nW G A wc (N ++ fz) rc H0 H locs) : nW G A (wc ++ N) fz rc H0 H locs :=
  Z.upd (by rw [List.append_assoc]; exact Z.1) (by rw [List.append_assoc]; exact Z.2.1) Z.2.2.1
/-! lists of any length among the own cells -/
theorem nW.re {G : nG} {A : Nat → Prop} {wc wc' fz fz' rc : va_W} {H0 H : Heap} {locs : List Loc} (Z : nW G A wc fz rc H0 H locs) (e : wc ++ fz = wc' ++ fz') : nW G A wc' fz' rc H0 H locs :=
  Z.upd (by rw [← e]; exact Z.1) (by rw [← e]; exact Z.2.1) Z.2.2.1
/-- the first list of fz comes to the own cells -/
theorem nW.th1 {G : nG} {A : Nat → Prop} {wc N r rc : va_W} {H0 H : Heap} {locs : List Loc} (Z : nW G A wc (N ++ r) rc H0 H locs) : nW G A (wc ++ (N ++ [])) r rc H0 H locs := Z.re (by simp)
theorem nW.swap {G : nG} {A : Nat → Prop} {wc N M r rc : va_W} {H0 H : Heap} {locs : List Loc} (Z : nW G A wc (N ++ (M ++ r)) rc H0 H locs) : nW G A wc (M ++ (N ++ r)) rc H0 H locs := by
  obtain ⟨d1, d2, d3⟩ := Z.2.1.parts
  obtain ⟨e1, e2, e3⟩ := d2.parts
  obtain ⟨f1, f2, f3⟩ := e2.parts
  have hm : ∀ q, q ∈ M ++ (N ++ r) → q ∈ N ++ (M ++ r) := fun q h => by simp only [List.mem_append] at h ⊢; rcases h with h | h | h <;> simp [h]
  refine Z.upd (Z.1.mono (fun q h => by rcases List.mem_append.mp h with h | h; exact List.mem_append_left _ h; exact List.mem_append_right _ (hm q h))) (d1.both (f1.both (e1.both f2 (e3.mono (fun q h => h) (fun q h => List.mem_append_right _ h))) ?_) (d3.mono (fun q h => h) hm)) Z.2.2.1
  intro x hx y hy hxy
  rcases List.mem_append.mp hy with h | h
  · exact e3 y h x (List.mem_append_left _ hx) hxy.symm
  · exact f3 x hx y h hxy
theorem nW.fz1 {G : nG} {A : Nat → Prop} {a b N r rc : va_W} {H0 H : Heap} {locs : List Loc} (Z : nW G A (a ++ (b ++ (N ++ []))) r rc H0 H locs) : nW G A (a ++ b) (N ++ r) rc H0 H locs := Z.re (by simp)
theorem nW.fz2 {G : nG} {A : Nat → Prop} {a b N M r rc : va_W} {H0 H : Heap} {locs : List Loc} (Z : nW G A (a ++ (b ++ (N ++ (M ++ [])))) r rc H0 H locs) : nW G A (a ++ b) (N ++ (M ++ r)) rc H0 H locs := Z.re (by simp)
theorem nW.in1 {G : nG} {A : Nat → Prop} {a f rc : va_W} {H0 H : Heap} {locs : List Loc} (Z : nW G A (a ++ f) [] rc H0 H locs) : nW G A a f rc H0 H locs := Z.re (by simp)
theorem nW.out1 {G : nG} {A : Nat → Prop} {a f rc : va_W} {H0 H : Heap} {locs : List Loc} (Z : nW G A a f rc H0 H locs) : nW G A (a ++ f) [] rc H0 H locs := Z.re (by simp)
theorem n_rng {wc N r : va_W} : (List.range' wc.length N.length).map (fun i => (wc ++ (N ++ r))[i]?) = N.map some := by
  apply List.ext_getElem?
  intro i
  rw [List.getElem?_map, List.getElem?_map]
  by_cases h : i < N.length
  · rw [List.getElem?_range' h, List.getElem?_eq_getElem h]
    simp only [Option.map_some, Nat.one_mul]
    rw [List.getElem?_append_right (by omega), Nat.add_sub_cancel_left, List.getElem?_append_left h, List.getElem?_eq_getElem h]
  · rw [List.getElem?_eq_none (by simp; omega), List.getElem?_eq_none (by omega)]
    rfl
/-- the places of a callee's own cells, with a list of any length behind -/
theorem n_withC {wc wcc N : va_W} {isC : List Nat} (hC : isC.map (fun i => wc[i]?) = wcc.map some) : (isC ++ List.range' wc.length N.length).map (fun i => (wc ++ (N ++ []))[i]?) = (wcc ++ (N ++ [])).map some := by
  rw [List.map_append, n_rng, List.append_nil, List.map_append]
  congr 1
  rw [← hC]
  apply List.map_congr_left
  intro i hi
  have h := hC ▸ List.mem_map_of_mem (f := fun i => wc[i]?) hi
  obtain ⟨q, -, hq⟩ := List.mem_map.mp h
  have hl : i < wc.length := (List.getElem?_eq_some_iff.mp hq.symm).1
  rw [List.getElem?_append_left hl]
theorem n_withR {wc wr N : va_W} {isR : List Nat} (hR : isR.map (fun i => wc[i]?) = wr.map some) : isR.map (fun i => (wc ++ (N ++ []))[i]?) = wr.map some := by
  rw [← hR]
  apply List.map_congr_left
  intro i hi
  have h := hR ▸ List.mem_map_of_mem (f := fun i => wc[i]?) hi
  obtain ⟨q, -, hq⟩ := List.mem_map.mp h
  have hl : i < wc.length := (List.getElem?_eq_some_iff.mp hq.symm).1
  rw [List.getElem?_append_left hl]
theorem n_withD {wc wr N : va_W} {isC isR : List Nat} (hR : isR.map (fun i => wc[i]?) = wr.map some) (hd : ∀ i ∈ isR, i ∉ isC) : ∀ i ∈ isR, i ∉ isC ++ List.range' wc.length N.length := by
  intro i hi h
  rcases List.mem_append.mp h with h | h
  · exact hd i hi h
  · have h2 := hR ▸ List.mem_map_of_mem (f := fun i => wc[i]?) hi
    obtain ⟨q, -, hq⟩ := List.mem_map.mp h2
    have hl : i < wc.length := (List.getElem?_eq_some_iff.mp hq.symm).1
    have := (List.mem_range'_1.mp h).1
    omega
theorem n_withN {wc wcc N : va_W} {isC : List Nat} (hC : isC.map (fun i => wc[i]?) = wcc.map some) (hn : va_nd isC = true) : va_nd (isC ++ List.range' wc.length N.length) = true := by
  have key : ∀ (l : List Nat), va_nd l = true ↔ l.Nodup := by
    intro l
    induction l with
    | nil => simp [va_nd]
    | cons a l ih => simp [va_nd, ih]
  rw [key] at hn ⊢
  refine List.nodup_append.mpr ⟨hn, List.nodup_range', fun i hi j hj e => ?_⟩
  subst e
  have h2 := hC ▸ List.mem_map_of_mem (f := fun i => wc[i]?) hi
  obtain ⟨q, -, hq⟩ := List.mem_map.mp h2
  have hl : i < wc.length := (List.getElem?_eq_some_iff.mp hq.symm).1
  have := (List.mem_range'_1.mp hj).1
  omega
theorem va_P.m0 {D : va_G} {cl : List vw_C} {H : Heap} : va_P D cl [] H := fun k q h => by simp at h
theorem va_P.m1 {D : va_G} {cl : List vw_C} {w l : va_W} {H : Heap} {a : Nat × va_E} (h : va_P D cl w H) (h1 : a ∈ w) (hl : va_P D cl l H) : va_P D cl (a :: l) H := by
  intro k q hk
  cases k with
  | zero =>
    cases hk
    obtain ⟨i, hi⟩ := List.getElem?_of_mem h1
    exact h i _ hi
  | succ k => exact hl k q hk
/-- the start of a method: words of the launch, own cells, read cells -/
def nP (G : nG) (av : List Value) (wc rc : va_W) (sz : Nat) : Array Value → State → Prop := va_Pc av (fun U => U.heap.size = sz ∧ gG G U ∧ va_P G.1 vwCl wc U.heap ∧ va_D (nB G) wc ∧ va_P G.1 vwCl rc U.heap ∧ (∀ (k : Nat) (q : Nat × va_E), rc[k]? = some q → q.1 < sz ∧ ¬ va_A wc sz q.1) ∧ G.2.1 ≤ sz)
theorem nP.blind {G : nG} {av : List Value} {wc rc : va_W} {sz : Nat} : FrameBlind (nP G av wc rc sz) := by
  intro a U g mk h
  obtain ⟨h0, h1, h2, h3⟩ := h
  exact ⟨h0, h1, h2.blind g mk a, h3⟩
/-- .. of a method that only reads -/
def nPs (G : nG) (av : List Value) (rc : va_W) : Array Value → State → Prop := va_Pc av (fun U => gG G U ∧ va_P G.1 vwCl rc U.heap)
theorem nPs.blind {G : nG} {av : List Value} {rc : va_W} : FrameBlind (nPs G av rc) := by
  intro a U g mk h
  obtain ⟨h0, h1, h2⟩ := h
  exact ⟨h0, h1.blind g mk a, h2⟩
abbrev nRm (fr mc ms lo : Nat) : Room := { frames := fr, cells := mc, slots := ms, locals := lo }
def nBq (G : nG) (A : Nat → Prop) (w : va_W) : State → Prop := fun t => va_P G.1 vwCl w t.heap ∧ va_D A w
/-! contracts: that change cells (i v l q r: what is answered), that only read (Si Sv Sl Sq) -/
def nMi {S : Type} (l : Launch) (y : MethodName) (cc : ByteArray) (nL : Nat) (ret : FieldType) (fr mc ms lo : Nat) (G : nG) (av : List Value) (wc rc : va_W) (w' : S → va_W) (post : Int32 → S → Prop) : Prop := ∀ sz, Met l y (ws_ y cc nL (some ret)) (nRm fr mc ms lo) (nP G av wc rc sz) (va_Qi post (fun u => nBq G (va_A wc sz) (w' u)) (va_A wc sz)) mc ms (va_A wc sz)
def nMv {S : Type} (l : Launch) (y : MethodName) (cc : ByteArray) (nL : Nat) (fr mc ms lo : Nat) (G : nG) (av : List Value) (wc rc : va_W) (w' : S → va_W) (post : S → Prop) : Prop := ∀ sz, Met l y (ws_ y cc nL none) (nRm fr mc ms lo) (nP G av wc rc sz) (va_Qv post (fun u => nBq G (va_A wc sz) (w' u)) (va_A wc sz)) mc ms (va_A wc sz)
def nMl {S : Type} (l : Launch) (y : MethodName) (cc : ByteArray) (nL : Nat) (ret : FieldType) (fr mc ms lo : Nat) (G : nG) (av : List Value) (wc rc : va_W) (w' : S → va_W) (post : Int64 → S → Prop) : Prop := ∀ sz, Met l y (ws_ y cc nL (some ret)) (nRm fr mc ms lo) (nP G av wc rc sz) (va_Ql post (fun u => nBq G (va_A wc sz) (w' u)) (va_A wc sz)) mc ms (va_A wc sz)
def nMq {S : Type} (l : Launch) (y : MethodName) (cc : ByteArray) (nL : Nat) (ret : FieldType) (fr mc ms lo : Nat) (G : nG) (av : List Value) (wc rc : va_W) (w' : S → va_W) (post : Option Nat → S → Prop) : Prop := ∀ sz, Met l y (ws_ y cc nL (some ret)) (nRm fr mc ms lo) (nP G av wc rc sz) (va_Qq post (fun u => nBq G (va_A wc sz) (w' u)) (va_A wc sz)) mc ms (va_A wc sz)
def nSi (l : Launch) (y : MethodName) (cc : ByteArray) (nL : Nat) (ret : FieldType) (fr lo : Nat) (G : nG) (av : List Value) (rc : va_W) (post : Int32 → Prop) : Prop := Met l y (ws_ y cc nL (some ret)) (nRm fr 0 0 lo) (nPs G av rc) (vp_Si post) 0 0 (fun _ => False)
def nSv (l : Launch) (y : MethodName) (cc : ByteArray) (nL : Nat) (fr lo : Nat) (G : nG) (av : List Value) (rc : va_W) (post : Unit → Prop) : Prop := Met l y (ws_ y cc nL none) (nRm fr 0 0 lo) (nPs G av rc) (va_Sv post) 0 0 (fun _ => False)
def nSl_ (l : Launch) (y : MethodName) (cc : ByteArray) (nL : Nat) (ret : FieldType) (fr lo : Nat) (G : nG) (av : List Value) (rc : va_W) (post : Int64 → Prop) : Prop := Met l y (ws_ y cc nL (some ret)) (nRm fr 0 0 lo) (nPs G av rc) (vp_Sl post) 0 0 (fun _ => False)
def nSq (l : Launch) (y : MethodName) (cc : ByteArray) (nL : Nat) (ret : FieldType) (fr lo : Nat) (G : nG) (av : List Value) (rc : va_W) (post : Option Nat → Prop) : Prop := Met l y (ws_ y cc nL (some ret)) (nRm fr 0 0 lo) (nPs G av rc) (va_Sq post) 0 0 (fun _ => False)
/-! ===== entries ===== -/
section NE
variable {l : Launch} {y : MethodName} {cc : ByteArray} {nL fr mc ms lo : Nat} {G : nG} {av : List Value} {wc rc : va_W}
theorem nW.start {av : List Value} {args : Array Value} {s : State} (h : nP G av wc rc s.heap.size args s) : nW G (va_A wc s.heap.size) wc [] rc s.heap s.heap [] := by
  obtain ⟨-, -, hG, hP, hD, hR, hr, hb⟩ := h
  exact ⟨by rw [List.append_nil]; exact hP, by rw [List.append_nil]; exact hD.self, va_S.rf, hR, fun q hq => Or.inr hq, fun q hq => by
    rcases hq with ⟨k, e, hk⟩ | hq
    · exact hD.2 k _ hk
    · exact Nat.le_trans hb hq, hr⟩
theorem nMi.of {S : Type} {ret : FieldType} {w' : S → va_W} {post : Int32 → S → Prop} {own : String} (ho : y.cls = own) (hy : plainName own = true) (hE : (lg_sl av).length ≤ nL) (hn : ∀ r u, post r u → narrow ret (.int r) = .int r)
    (body : ∀ {p : Program} {e : Env} {s : State} {m : MethodId} {args : Array Value} {below : List Frame} {meth : Method} {c : Code} {A : Nat → Prop} {Q : State → Prop} {ls : Array Slot},
      p.tables.exec = Jvm.exec → c.code = cc → c.maxLocals = nL → s.vm.findClass own = some m.cls → (∀ w ∈ lw_all, w.before args s = true) → meth.name = y.name → gG G s → nW G A wc [] rc s.heap s.heap [] → lv_has ls nL (lv_args 0 av) →
      (∀ {pc : Nat} {ls : Array Slot} {H : Heap} {locs : List Loc} {cells slots : Nat} (r : Int32) (u : S), decode cc pc = .ok (.ireturn, 1) → post r u → nW G A (w' u) [] rc s.heap H locs → cells ≤ mc → slots ≤ ms → W p l e (nRm fr mc ms lo) s m args below meth c H locs cells slots Q (F0 m pc ls [.int r])) →
      W p l e (nRm fr mc ms lo) s m args below meth c s.heap [] 0 0 Q (F0 m 0 ls [])) : nMi l y cc nL ret fr mc ms lo G av wc rc w' post := by
  subst ho
  intro sz
  refine Met.ofW (cc := cc) (maxL := nL) (ret := some ret) hy rfl ?_
  intro p e s m args below meth c s₁ B hml hv
  have h0 := hv.1
  have hsz : s.heap.size = sz := hv.2.1
  subst hsz
  have hlocks := B.notSynchronized
  have hr := B.returns
  have hts := atoms_spec (ws := ws_ y cc nL (some ret)) B.pre
  have hts : ∀ w ∈ lw_all, w.before args s = true := fun w h => hts w (List.mem_cons_of_mem _ h)
  have Z := nW.start hv
  have hl := lv_entry av (n := nL) hE
  subst h0
  rw [lg_entry_eq]
  refine body B.exec B.bytes hml (findClass_of_methodNamed B.named) hts (name_of_methodNamed B.named B.method).1 hv.2.2.1 Z hl ?_
  intro pc ls H locs cells slots r u hdg hp Z' h1 h2
  refine W.widen h1 h2 ?_
  exact W.zret (v := r) (ty := ret) B.exec B.bytes hr (hn r u hp) (fun t ht hW => ⟨⟨r, u, rfl, hp, by rw [ht]; exact Z'.w, Z'.d⟩, Z'.2.2.1.F ht⟩) Z'.2.2.1.2.2 hdg
theorem nMv.of {S : Type} {w' : S → va_W} {post : S → Prop} {own : String} (ho : y.cls = own) (hy : plainName own = true) (hE : (lg_sl av).length ≤ nL)
    (body : ∀ {p : Program} {e : Env} {s : State} {m : MethodId} {args : Array Value} {below : List Frame} {meth : Method} {c : Code} {A : Nat → Prop} {Q : State → Prop} {ls : Array Slot},
      p.tables.exec = Jvm.exec → c.code = cc → c.maxLocals = nL → s.vm.findClass own = some m.cls → (∀ w ∈ lw_all, w.before args s = true) → meth.name = y.name → gG G s → nW G A wc [] rc s.heap s.heap [] → lv_has ls nL (lv_args 0 av) →
      (∀ {pc : Nat} {ls : Array Slot} {H : Heap} {locs : List Loc} {cells slots : Nat} (u : S), decode cc pc = .ok (.return_, 1) → post u → nW G A (w' u) [] rc s.heap H locs → cells ≤ mc → slots ≤ ms → W p l e (nRm fr mc ms lo) s m args below meth c H locs cells slots Q (F0 m pc ls [])) →
      W p l e (nRm fr mc ms lo) s m args below meth c s.heap [] 0 0 Q (F0 m 0 ls [])) : nMv l y cc nL fr mc ms lo G av wc rc w' post := by
  subst ho
  intro sz
  refine Met.ofW (cc := cc) (maxL := nL) (ret := none) hy rfl ?_
  intro p e s m args below meth c s₁ B hml hv
  have h0 := hv.1
  have hsz : s.heap.size = sz := hv.2.1
  subst hsz
  have hlocks := B.notSynchronized
  have hr := B.returns
  have hts := atoms_spec (ws := ws_ y cc nL none) B.pre
  have hts : ∀ w ∈ lw_all, w.before args s = true := fun w h => hts w (List.mem_cons_of_mem _ h)
  have Z := nW.start hv
  have hl := lv_entry av (n := nL) hE
  subst h0
  rw [lg_entry_eq]
  refine body B.exec B.bytes hml (findClass_of_methodNamed B.named) hts (name_of_methodNamed B.named B.method).1 hv.2.2.1 Z hl ?_
  intro pc ls H locs cells slots u hdg hp Z' h1 h2
  refine W.widen h1 h2 ?_
  exact W.vret B.exec B.bytes hr (fun t ht hW => ⟨⟨u, rfl, hp, by rw [ht]; exact Z'.w, Z'.d⟩, Z'.2.2.1.F ht⟩) Z'.2.2.1.2.2 hdg
theorem nMl.of {S : Type} {w' : S → va_W} {post : Int64 → S → Prop} {own : String} (ho : y.cls = own) (hy : plainName own = true) (hE : (lg_sl av).length ≤ nL)
    (body : ∀ {p : Program} {e : Env} {s : State} {m : MethodId} {args : Array Value} {below : List Frame} {meth : Method} {c : Code} {A : Nat → Prop} {Q : State → Prop} {ls : Array Slot},
      p.tables.exec = Jvm.exec → c.code = cc → c.maxLocals = nL → s.vm.findClass own = some m.cls → (∀ w ∈ lw_all, w.before args s = true) → meth.name = y.name → gG G s → nW G A wc [] rc s.heap s.heap [] → lv_has ls nL (lv_args 0 av) →
      (∀ {pc : Nat} {ls : Array Slot} {H : Heap} {locs : List Loc} {cells slots : Nat} (r : Int64) (u : S), decode cc pc = .ok (.lreturn, 1) → post r u → nW G A (w' u) [] rc s.heap H locs → cells ≤ mc → slots ≤ ms → W p l e (nRm fr mc ms lo) s m args below meth c H locs cells slots Q (F0 m pc ls [.long r])) →
      W p l e (nRm fr mc ms lo) s m args below meth c s.heap [] 0 0 Q (F0 m 0 ls [])) : nMl l y cc nL .long fr mc ms lo G av wc rc w' post := by
  subst ho
  intro sz
  refine Met.ofW (cc := cc) (maxL := nL) (ret := some .long) hy rfl ?_
  intro p e s m args below meth c s₁ B hml hv
  have h0 := hv.1
  have hsz : s.heap.size = sz := hv.2.1
  subst hsz
  have hlocks := B.notSynchronized
  have hr := B.returns
  have hts := atoms_spec (ws := ws_ y cc nL (some .long)) B.pre
  have hts : ∀ w ∈ lw_all, w.before args s = true := fun w h => hts w (List.mem_cons_of_mem _ h)
  have Z := nW.start hv
  have hl := lv_entry av (n := nL) hE
  subst h0
  rw [lg_entry_eq]
  refine body B.exec B.bytes hml (findClass_of_methodNamed B.named) hts (name_of_methodNamed B.named B.method).1 hv.2.2.1 Z hl ?_
  intro pc ls H locs cells slots r u hdg hp Z' h1 h2
  refine W.widen h1 h2 ?_
  exact W.lret (v := r) B.exec B.bytes hr (fun t ht hW => ⟨⟨r, u, rfl, hp, by rw [ht]; exact Z'.w, Z'.d⟩, Z'.2.2.1.F ht⟩) Z'.2.2.1.2.2 hdg
theorem nMq.of {S : Type} {ret : FieldType} {w' : S → va_W} {post : Option Nat → S → Prop} {own : String} (ho : y.cls = own) (hy : plainName own = true) (hE : (lg_sl av).length ≤ nL) (hrt : (∃ n, ret = .object n) ∨ ∃ t, ret = .array t)
    (body : ∀ {p : Program} {e : Env} {s : State} {m : MethodId} {args : Array Value} {below : List Frame} {meth : Method} {c : Code} {A : Nat → Prop} {Q : State → Prop} {ls : Array Slot},
      p.tables.exec = Jvm.exec → c.code = cc → c.maxLocals = nL → s.vm.findClass own = some m.cls → (∀ w ∈ lw_all, w.before args s = true) → meth.name = y.name → gG G s → nW G A wc [] rc s.heap s.heap [] → lv_has ls nL (lv_args 0 av) →
      (∀ {pc : Nat} {ls : Array Slot} {H : Heap} {locs : List Loc} {cells slots : Nat} (r : Option Nat) (u : S), decode cc pc = .ok (.areturn, 1) → post r u → nW G A (w' u) [] rc s.heap H locs → cells ≤ mc → slots ≤ ms → W p l e (nRm fr mc ms lo) s m args below meth c H locs cells slots Q (F0 m pc ls [va_rf r])) →
      W p l e (nRm fr mc ms lo) s m args below meth c s.heap [] 0 0 Q (F0 m 0 ls [])) : nMq l y cc nL ret fr mc ms lo G av wc rc w' post := by
  subst ho
  intro sz
  refine Met.ofW (cc := cc) (maxL := nL) (ret := some ret) hy rfl ?_
  intro p e s m args below meth c s₁ B hml hv
  have h0 := hv.1
  have hsz : s.heap.size = sz := hv.2.1
  subst hsz
  have hlocks := B.notSynchronized
  have hr := B.returns
  have hts := atoms_spec (ws := ws_ y cc nL (some ret)) B.pre
  have hts : ∀ w ∈ lw_all, w.before args s = true := fun w h => hts w (List.mem_cons_of_mem _ h)
  have Z := nW.start hv
  have hl := lv_entry av (n := nL) hE
  subst h0
  rw [lg_entry_eq]
  refine body B.exec B.bytes hml (findClass_of_methodNamed B.named) hts (name_of_methodNamed B.named B.method).1 hv.2.2.1 Z hl ?_
  intro pc ls H locs cells slots r u hdg hp Z' h1 h2
  refine W.widen h1 h2 ?_
  exact W.aret (v := va_rf r) B.exec B.bytes hr hrt (by cases r with | none => exact Or.inl rfl | some a => exact Or.inr ⟨a, rfl⟩) (fun t ht hW => ⟨⟨r, u, rfl, hp, by rw [ht]; exact Z'.w, Z'.d⟩, Z'.2.2.1.F ht⟩) Z'.2.2.1.2.2 hdg
theorem nSi.of {ret : FieldType} {post : Int32 → Prop} {own : String} (ho : y.cls = own) (hy : plainName own = true) (hE : (lg_sl av).length ≤ nL) (hn : ∀ r, post r → narrow ret (.int r) = .int r)
    (body : ∀ {p : Program} {e : Env} {s : State} {m : MethodId} {args : Array Value} {below : List Frame} {meth : Method} {c : Code} {Q : State → Prop} {ls : Array Slot},
      p.tables.exec = Jvm.exec → c.code = cc → c.maxLocals = nL → s.vm.findClass own = some m.cls → (∀ w ∈ lw_all, w.before args s = true) → gG G s → va_P G.1 vwCl rc s.heap → lv_has ls nL (lv_args 0 av) →
      (∀ {pc : Nat} {ls : Array Slot} (r : Int32), decode cc pc = .ok (.ireturn, 1) → post r → W p l e (nRm fr 0 0 lo) s m args below meth c s.heap [] 0 0 Q (F0 m pc ls [.int r])) →
      W p l e (nRm fr 0 0 lo) s m args below meth c s.heap [] 0 0 Q (F0 m 0 ls [])) : nSi l y cc nL ret fr lo G av rc post := by
  subst ho
  refine Met.ofW (cc := cc) (maxL := nL) (ret := some ret) hy rfl ?_
  intro p e s m args below meth c s₁ B hml hv
  have h0 := hv.1
  have hlocks := B.notSynchronized
  have hr := B.returns
  have hts := atoms_spec (ws := ws_ y cc nL (some ret)) B.pre
  have hts : ∀ w ∈ lw_all, w.before args s = true := fun w h => hts w (List.mem_cons_of_mem _ h)
  have hl := lv_entry av (n := nL) hE
  have hG := hv.2.1
  have hP := hv.2.2
  subst h0
  rw [lg_entry_eq]
  refine body B.exec B.bytes hml (findClass_of_methodNamed B.named) hts hG hP hl ?_
  intro pc ls r hdg hp
  exact W.zret (v := r) (ty := ret) B.exec B.bytes hr (hn r hp) (fun t ht hW => ⟨r, rfl, hp, ht⟩) (fun q h => by cases h) hdg
theorem nSv.of {post : Unit → Prop} {own : String} (ho : y.cls = own) (hy : plainName own = true) (hE : (lg_sl av).length ≤ nL)
    (body : ∀ {p : Program} {e : Env} {s : State} {m : MethodId} {args : Array Value} {below : List Frame} {meth : Method} {c : Code} {Q : State → Prop} {ls : Array Slot},
      p.tables.exec = Jvm.exec → c.code = cc → c.maxLocals = nL → s.vm.findClass own = some m.cls → (∀ w ∈ lw_all, w.before args s = true) → gG G s → va_P G.1 vwCl rc s.heap → lv_has ls nL (lv_args 0 av) →
      (∀ {pc : Nat} {ls : Array Slot}, decode cc pc = .ok (.return_, 1) → post () → W p l e (nRm fr 0 0 lo) s m args below meth c s.heap [] 0 0 Q (F0 m pc ls [])) →
      W p l e (nRm fr 0 0 lo) s m args below meth c s.heap [] 0 0 Q (F0 m 0 ls [])) : nSv l y cc nL fr lo G av rc post := by
  subst ho
  refine Met.ofW (cc := cc) (maxL := nL) (ret := none) hy rfl ?_
  intro p e s m args below meth c s₁ B hml hv
  have h0 := hv.1
  have hlocks := B.notSynchronized
  have hr := B.returns
  have hts := atoms_spec (ws := ws_ y cc nL none) B.pre
  have hts : ∀ w ∈ lw_all, w.before args s = true := fun w h => hts w (List.mem_cons_of_mem _ h)
  have hl := lv_entry av (n := nL) hE
  have hG := hv.2.1
  have hP := hv.2.2
  subst h0
  rw [lg_entry_eq]
  refine body B.exec B.bytes hml (findClass_of_methodNamed B.named) hts hG hP hl ?_
  intro pc ls hdg hp
  exact W.vret B.exec B.bytes hr (fun t ht hW => ⟨rfl, hp, ht⟩) (fun q h => by cases h) hdg
theorem nSl_.of {post : Int64 → Prop} {own : String} (ho : y.cls = own) (hy : plainName own = true) (hE : (lg_sl av).length ≤ nL)
    (body : ∀ {p : Program} {e : Env} {s : State} {m : MethodId} {args : Array Value} {below : List Frame} {meth : Method} {c : Code} {Q : State → Prop} {ls : Array Slot},
      p.tables.exec = Jvm.exec → c.code = cc → c.maxLocals = nL → s.vm.findClass own = some m.cls → (∀ w ∈ lw_all, w.before args s = true) → gG G s → va_P G.1 vwCl rc s.heap → lv_has ls nL (lv_args 0 av) →
      (∀ {pc : Nat} {ls : Array Slot} (r : Int64), decode cc pc = .ok (.lreturn, 1) → post r → W p l e (nRm fr 0 0 lo) s m args below meth c s.heap [] 0 0 Q (F0 m pc ls [.long r])) →
      W p l e (nRm fr 0 0 lo) s m args below meth c s.heap [] 0 0 Q (F0 m 0 ls [])) : nSl_ l y cc nL .long fr lo G av rc post := by
  subst ho
  refine Met.ofW (cc := cc) (maxL := nL) (ret := some .long) hy rfl ?_
  intro p e s m args below meth c s₁ B hml hv
  have h0 := hv.1
  have hlocks := B.notSynchronized
  have hr := B.returns
  have hts := atoms_spec (ws := ws_ y cc nL (some .long)) B.pre
  have hts : ∀ w ∈ lw_all, w.before args s = true := fun w h => hts w (List.mem_cons_of_mem _ h)
  have hl := lv_entry av (n := nL) hE
  have hG := hv.2.1
  have hP := hv.2.2
  subst h0
  rw [lg_entry_eq]
  refine body B.exec B.bytes hml (findClass_of_methodNamed B.named) hts hG hP hl ?_
  intro pc ls r hdg hp
  exact W.lret (v := r) B.exec B.bytes hr (fun t ht hW => ⟨r, rfl, hp, ht⟩) (fun q h => by cases h) hdg
theorem nSq.of {ret : FieldType} {post : Option Nat → Prop} {own : String} (ho : y.cls = own) (hy : plainName own = true) (hE : (lg_sl av).length ≤ nL) (hrt : (∃ n, ret = .object n) ∨ ∃ t, ret = .array t)
    (body : ∀ {p : Program} {e : Env} {s : State} {m : MethodId} {args : Array Value} {below : List Frame} {meth : Method} {c : Code} {Q : State → Prop} {ls : Array Slot},
      p.tables.exec = Jvm.exec → c.code = cc → c.maxLocals = nL → s.vm.findClass own = some m.cls → (∀ w ∈ lw_all, w.before args s = true) → gG G s → va_P G.1 vwCl rc s.heap → lv_has ls nL (lv_args 0 av) →
      (∀ {pc : Nat} {ls : Array Slot} (r : Option Nat), decode cc pc = .ok (.areturn, 1) → post r → W p l e (nRm fr 0 0 lo) s m args below meth c s.heap [] 0 0 Q (F0 m pc ls [va_rf r])) →
      W p l e (nRm fr 0 0 lo) s m args below meth c s.heap [] 0 0 Q (F0 m 0 ls [])) : nSq l y cc nL ret fr lo G av rc post := by
  subst ho
  refine Met.ofW (cc := cc) (maxL := nL) (ret := some ret) hy rfl ?_
  intro p e s m args below meth c s₁ B hml hv
  have h0 := hv.1
  have hlocks := B.notSynchronized
  have hr := B.returns
  have hts := atoms_spec (ws := ws_ y cc nL (some ret)) B.pre
  have hts : ∀ w ∈ lw_all, w.before args s = true := fun w h => hts w (List.mem_cons_of_mem _ h)
  have hl := lv_entry av (n := nL) hE
  have hG := hv.2.1
  have hP := hv.2.2
  subst h0
  rw [lg_entry_eq]
  refine body B.exec B.bytes hml (findClass_of_methodNamed B.named) hts hG hP hl ?_
  intro pc ls r hdg hp
  exact W.aret (v := va_rf r) B.exec B.bytes hr hrt (by cases r with | none => exact Or.inl rfl | some a => exact Or.inr ⟨a, rfl⟩) (fun t ht hW => ⟨r, rfl, hp, ht⟩) (fun q h => by cases h) hdg
end NE
/-! ===== calls ===== -/
def nAp (wcc : va_W) (sz : Nat) (rcc : va_W) : Prop := ∀ (k : Nat) (q : Nat × va_E), rcc[k]? = some q → q.1 < sz ∧ ¬ va_A wcc sz q.1
theorem nAp.nil {wcc : va_W} {sz : Nat} : nAp wcc sz [] := fun k q h => by simp at h
theorem nAp.app {wcc : va_W} {sz : Nat} {r1 r2 : va_W} (h1 : nAp wcc sz r1) (h2 : nAp wcc sz r2) : nAp wcc sz (r1 ++ r2) := by
  intro k q hk
  rcases List.mem_append.mp (List.mem_of_getElem? hk) with h | h
  · obtain ⟨i, hi⟩ := List.getElem?_of_mem h
    exact h1 i q hi
  · obtain ⟨i, hi⟩ := List.getElem?_of_mem h
    exact h2 i q hi
theorem nAp.mono {wcc : va_W} {sz : Nat} {r1 r2 : va_W} (h1 : nAp wcc sz r1) (h : ∀ q ∈ r2, q ∈ r1) : nAp wcc sz r2 := by
  intro k q hk
  obtain ⟨i, hi⟩ := List.getElem?_of_mem (h q (List.mem_of_getElem? hk))
  exact h1 i q hi
/-- read cells stay apart from any own cells -/
theorem nW.apR {G : nG} {A : Nat → Prop} {wc fz rc wcc : va_W} {H0 H : Heap} {locs : List Loc} (Z : nW G A wc fz rc H0 H locs) (isC : List Nat) (hC : isC.map (fun i => wc[i]?) = wcc.map some) : nAp wcc H.size rc := by
  intro k q hk
  obtain ⟨a1, a2⟩ := Z.2.2.2.2.2.2 k q hk
  have hl := Nat.lt_of_lt_of_le a1 Z.2.2.1.1
  refine ⟨hl, fun h => ?_⟩
  rcases h with ⟨j, e, h⟩ | h
  · obtain ⟨i, -, hi⟩ := n_at hC j _ h
    exact a2 (show A q.1 from Z.d.2 i (q.1, e) hi)
  · omega
theorem nW.apF {G : nG} {A : Nat → Prop} {wc fz rc wcc : va_W} {H0 H : Heap} {locs : List Loc} (Z : nW G A wc fz rc H0 H locs) (isC : List Nat) (hC : isC.map (fun i => wc[i]?) = wcc.map some) : nAp wcc H.size fz := by
  intro k q hk
  have hl := (Z.f k q hk).lt
  refine ⟨hl, fun h => ?_⟩
  rcases h with ⟨j, e, h⟩ | h
  · obtain ⟨i, -, hi⟩ := n_at hC j _ h
    exact Z.2.1.parts.2.2 _ (List.mem_of_getElem? hi) _ (List.mem_of_getElem? hk) rfl
  · omega
theorem nW.apFR {G : nG} {A : Nat → Prop} {wc fz rc wcc : va_W} {H0 H : Heap} {locs : List Loc} (Z : nW G A wc fz rc H0 H locs) (isC : List Nat) (hC : isC.map (fun i => wc[i]?) = wcc.map some) : nAp wcc H.size (fz ++ rc) := (Z.apF isC hC).app (Z.apR isC hC)
/-- own cells stay apart from others -/
theorem nW.apW {G : nG} {A : Nat → Prop} {wc fz rc wcc rcc : va_W} {H0 H : Heap} {locs : List Loc} (Z : nW G A wc fz rc H0 H locs) (isC isX : List Nat) (hC : isC.map (fun i => wc[i]?) = wcc.map some) (hX : isX.map (fun i => wc[i]?) = rcc.map some) (hd : ∀ i ∈ isX, i ∉ isC) : nAp wcc H.size rcc := by
  intro k q hk
  obtain ⟨i, h1, h2⟩ := n_at hX k q hk
  have hl := (Z.w i q h2).lt
  refine ⟨hl, fun h => ?_⟩
  rcases h with ⟨j, e, h⟩ | h
  · obtain ⟨i2, h3, h4⟩ := n_at hC j _ h
    have hij := Z.d.1 i i2 _ _ h2 h4 rfl
    subst hij
    exact hd _ (List.mem_of_getElem? h1) (List.mem_of_getElem? h3)
  · omega
section NR
variable {p : Program} {l : Launch} {e : Env} {R : Room} {s : State} {m : MethodId} {args : Array Value} {below : List Frame} {meth : Method} {c : Code} {H : Heap} {locs : List Loc} {cells slots : Nat} {Q : State → Prop} {cc : ByteArray} {nL pc : Nat} {ls : Array Slot} {rest st0 : List Value} {own : String} {G : nG} {A : Nat → Prop} {wc fz rc : va_W}
theorem nP_of {av : List Value} {wcc rcc : va_W} (hG : gG G s) (Z : nW G A wc fz rc s.heap H locs) (isC : List Nat) (hC : isC.map (fun i => wc[i]?) = wcc.map some) (hn : va_nd isC = true) (hrc : va_P G.1 vwCl rcc H) (hap : nAp wcc H.size rcc) : ∀ U : State, U.heap = H → s.WarmedH U.vm → nP G av wcc rcc H.size av.toArray U := by
  intro U hU hW
  refine ⟨rfl, by rw [hU], hG.go hW (fun a h1 h2 => ?_), by rw [hU]; exact Z.w.sub isC (n_pick hC), (Z.d.sub isC hn hC).weaken (fun k q _ h => Z.2.2.2.2.2.1 _ h), by rw [hU]; exact hrc, hap, ?_⟩
  · rw [hU]
    exact Z.2.2.1.2.1 a h1 (fun h => h2 (Z.2.2.2.2.2.1 _ h))
  · exact Z.2.2.2.2.2.1 _ (Z.2.2.2.2.1 _ Z.2.2.1.1)
theorem nPs_of {av : List Value} {rcc : va_W} (hG : gG G s) (Z : nW G A wc fz rc s.heap H locs) (hrc : va_P G.1 vwCl rcc H) : ∀ U : State, U.heap = H → s.WarmedH U.vm → nPs G av rcc av.toArray U := by
  intro U hU hW
  refine ⟨rfl, hG.go hW (fun a h1 h2 => ?_), by rw [hU]; exact hrc⟩
  rw [hU]
  exact Z.2.2.1.2.1 a h1 (fun h => h2 (Z.2.2.2.2.2.1 _ h))
theorem nPs_of0 {av : List Value} {rcc : va_W} (hG : gG G s) (hrc : va_P G.1 vwCl rcc s.heap) : ∀ U : State, U.heap = s.heap → s.WarmedH U.vm → nPs G av rcc av.toArray U :=
  fun U hU hW => ⟨rfl, hG.go hW (fun a h1 h2 => by rw [hU]), by rw [hU]; exact hrc⟩
/-- a call's run, k: the bytes of the instruction -/
def nRun (k : Nat) (p : Program) (l : Launch) (e : Env) (R : Room) (s : State) (m : MethodId) (args : Array Value) (below : List Frame) (meth : Method) (c : Code) (H : Heap) (locs : List Loc) (cells slots mc ms : Nat) (g : JFrame) (rest : List Value) (Qa : State → Outcome → State → Prop) (free : Addr → Prop) : Prop :=
  ∀ T : State, T.heap = H → Stand p l e R s m args below meth c T locs cells slots → ∃ (v : Option Value) (st₀ t T' : State) (L : List Loc), st₀.heap = H ∧ Stand p l e R s m args below meth c T' (locs ++ L) (cells + mc) (slots + ms) ∧ (∀ q ∈ L, free q.base) ∧ T'.heap = t.heap ∧ T'.vm = t.vm ∧ Qa st₀ (.returned v) t ∧
    Goes p e below T g T' { g with pc := g.pc + k, stack := v.toList ++ rest }
variable {y : MethodName} {bytes : ByteArray} {maxL fr mc ms lo : Nat} {ret : Option FieldType} {Pc : Array Value → State → Prop} {Qc : Array Value → State → Outcome → State → Prop} {free : Addr → Prop} {index : Nat} {b : Addr} {As : List Value}
/-- what every call gives besides: room -/
abbrev nRo (R : Room) (fr maxL lo mc ms cells slots : Nat) : Prop := (fr + 1 ≤ R.frames ∧ 8 + (maxL + 11) + lo ≤ R.locals) ∧ cells + mc ≤ R.cells ∧ slots + ms ≤ R.slots
theorem nr_V {C : String} (hx : p.tables.exec = Jvm.exec) (hb : c.code = cc) (hml : c.maxLocals = nL) (hown : s.vm.findClass own = some m.cls) (hts : ∀ w ∈ lw_all, w.before args s = true) (hM : Met l y (ws_ y bytes maxL ret) (nRm fr mc ms lo) Pc Qc mc ms free) (hbl : FrameBlind Pc) (n : Nat)
    (h1 : Cond.methodLink own index y ∈ lw_all) (h2 : Cond.instanceMethod y ∈ lw_all) (h3 : Cond.selects C y y ∈ lw_all) (h4 : Cond.initialized C ∈ lw_all) (h5 : Cond.code y bytes maxL ret ∈ lw_all)
    (hd : y.cls = C ∧ y.cls ≠ "java/lang/invoke/MethodHandle" ∧ y.cls ≠ "java/lang/invoke/VarHandle" ∧ (parseMethodDescriptor y.desc).map (fun d => d.parameters.length) = some n)
    (hro : nRo R fr maxL lo mc ms cells slots) (hrecv : ∃ cellB : Cell, H[b]? = some cellB ∧ cellB.vm.isStatics = false ∧ s.vm.findClass C = some cellB.cls) (hPc : ∀ U : State, U.heap = H → s.WarmedH U.vm → Pc (Value.ref b :: As).toArray U)
    (hn : As.length = n) (hsize : ls.size = nL) (hst : st0 = As.reverse ++ .ref b :: rest) (hW : (rest.map fun v => v.category).sum ≤ 8) (hdg : decode cc pc = .ok (.invokevirtual index, 3)) :
    nRun 3 p l e R s m args below meth c H locs cells slots mc ms (F0 m pc ls st0) rest (Qc (Value.ref b :: As).toArray) free :=
  va_runV (g := F0 m pc ls st0) ⟨hx, hb, hml, hown, hts⟩ hM (cwV n hts (lw_V h1 h2 h3 h4 h5) rfl rfl rfl hd hro.1) ⟨hbl, hrecv, hPc⟩ rfl hn hsize hst (lv_room hW) hdg hro.2
theorem nr_S (hx : p.tables.exec = Jvm.exec) (hb : c.code = cc) (hml : c.maxLocals = nL) (hown : s.vm.findClass own = some m.cls) (hts : ∀ w ∈ lw_all, w.before args s = true) (hM : Met l y (ws_ y bytes maxL ret) (nRm fr mc ms lo) Pc Qc mc ms free) (hbl : FrameBlind Pc) (n : Nat)
    (h1 : Cond.methodLink own index y ∈ lw_all) (h2 : Cond.static y ∈ lw_all) (h3 : Cond.initialized y.cls ∈ lw_all) (h5 : Cond.code y bytes maxL ret ∈ lw_all)
    (hd : y.cls ≠ "java/lang/invoke/MethodHandle" ∧ y.cls ≠ "java/lang/invoke/VarHandle" ∧ (parseMethodDescriptor y.desc).map (fun d => d.parameters.length) = some n)
    (hro : nRo R fr maxL lo mc ms cells slots) (hPc : ∀ U : State, U.heap = H → s.WarmedH U.vm → Pc As.toArray U)
    (hn : As.length = n) (hsize : ls.size = nL) (hst : st0 = As.reverse ++ rest) (hW : (rest.map fun v => v.category).sum ≤ 8) (hdg : decode cc pc = .ok (.invokestatic index, 3)) :
    nRun 3 p l e R s m args below meth c H locs cells slots mc ms (F0 m pc ls st0) rest (Qc As.toArray) free :=
  va_runS (g := F0 m pc ls st0) ⟨hx, hb, hml, hown, hts⟩ hM (va_cwS n hts (lw_S h1 h2 h3 h5) rfl rfl rfl hd hro.1) ⟨hbl, hPc⟩ rfl hn hsize hst (lv_room hW) hdg hro.2
theorem nr_SN {host : String} (hx : p.tables.exec = Jvm.exec) (hb : c.code = cc) (hml : c.maxLocals = nL) (hown : s.vm.findClass own = some m.cls) (hts : ∀ w ∈ lw_all, w.before args s = true) (hG : gG G s) (hM : Met l y (ws_ y bytes maxL ret) (nRm fr mc ms lo) Pc Qc mc ms free) (hbl : FrameBlind Pc) (n : Nat)
    (h1 : Cond.methodLinkNest own index y host ∈ lw_tbl) (h2 : Cond.static y ∈ lw_all) (h3 : Cond.initialized y.cls ∈ lw_all) (h5 : Cond.code y bytes maxL ret ∈ lw_all)
    (hd : y.cls ≠ "java/lang/invoke/MethodHandle" ∧ y.cls ≠ "java/lang/invoke/VarHandle" ∧ (parseMethodDescriptor y.desc).map (fun d => d.parameters.length) = some n)
    (hro : nRo R fr maxL lo mc ms cells slots) (hPc : ∀ U : State, U.heap = H → s.WarmedH U.vm → Pc As.toArray U)
    (hn : As.length = n) (hsize : ls.size = nL) (hst : st0 = As.reverse ++ rest) (hW : (rest.map fun v => v.category).sum ≤ 8) (hdg : decode cc pc = .ok (.invokestatic index, 3)) :
    nRun 3 p l e R s m args below meth c H locs cells slots mc ms (F0 m pc ls st0) rest (Qc As.toArray) free :=
  va_runSN (g := F0 m pc ls st0) ⟨hx, hb, hml, hown, hts⟩ hM ⟨va_cnB n hts (lw_meth h5) rfl rfl rfl (hG.2.1 _ h1 rfl) (hts _ h3) hd hro.1, hts _ h2, trivial⟩ ⟨hbl, hPc⟩ rfl hn hsize hst (lv_room hW) hdg hro.2
theorem nr_I (hx : p.tables.exec = Jvm.exec) (hb : c.code = cc) (hml : c.maxLocals = nL) (hown : s.vm.findClass own = some m.cls) (hts : ∀ w ∈ lw_all, w.before args s = true) (hM : Met l y (ws_ y bytes maxL none) (nRm fr mc ms lo) Pc Qc mc ms free) (hbl : FrameBlind Pc) (n : Nat)
    (h1 : Cond.methodLink own index y ∈ lw_all) (h2 : Cond.instanceMethod y ∈ lw_all) (h4 : Cond.initialized y.cls ∈ lw_all) (h5 : Cond.code y bytes maxL none ∈ lw_all) (hyn : y.name = "<init>")
    (hd : y.cls ≠ "java/lang/invoke/MethodHandle" ∧ y.cls ≠ "java/lang/invoke/VarHandle" ∧ (parseMethodDescriptor y.desc).map (fun d => d.parameters.length) = some n)
    (hro : nRo R fr maxL lo mc ms cells slots) (hPc : ∀ U : State, U.heap = H → s.WarmedH U.vm → Pc (Value.ref b :: As).toArray U)
    (hn : As.length = n) (hsize : ls.size = nL) (hst : st0 = As.reverse ++ .ref b :: rest) (hW : (rest.map fun v => v.category).sum ≤ 8) (hdg : decode cc pc = .ok (.invokespecial index, 3)) :
    nRun 3 p l e R s m args below meth c H locs cells slots mc ms (F0 m pc ls st0) rest (Qc (Value.ref b :: As).toArray) free :=
  va_runI (g := F0 m pc ls st0) ⟨hx, hb, hml, hown, hts⟩ hM (cwI n hts (lw_meth h5) rfl rfl rfl (hts _ h4) (hts _ h1) (hts _ h2) hyn hd hro.1) ⟨hbl, hPc⟩ rfl hn hsize hst (lv_room hW) hdg hro.2
/-- a superclass' method on an object of a class of the list -/
theorem nr_U {C : String} {ci : Nat} {q : vw_C} (hx : p.tables.exec = Jvm.exec) (hb : c.code = cc) (hml : c.maxLocals = nL) (hown : s.vm.findClass own = some m.cls) (hts : ∀ w ∈ lw_all, w.before args s = true) (hG : gG G s) (hM : Met l y (ws_ y bytes maxL ret) (nRm fr mc ms lo) Pc Qc mc ms free) (hbl : FrameBlind Pc) (n : Nat)
    (hin : ∀ w ∈ ([.methodLink own index y, .sameMethod y.cls y.cls y.name y.desc, .superclass own y.cls, .instanceMethod y, .initialized y.cls] : List Cond), w ∈ lw_all) (h5 : Cond.code y bytes maxL ret ∈ lw_all)
    (hd : y.name ≠ "<init>" ∧ (parseMethodDescriptor y.desc).map (fun d => d.parameters.length) = some n)
    (hro : nRo R fr maxL lo mc ms cells slots) (hci : vwCl[ci]? = some q) (hq : q.1 = C) (hrecv : ∃ cellB : Cell, H[b]? = some cellB ∧ cellB.vm.isStatics = false ∧ s.vm.findClass C = some cellB.cls) (hPc : ∀ U : State, U.heap = H → s.WarmedH U.vm → Pc (Value.ref b :: As).toArray U)
    (hn : As.length = n) (hsize : ls.size = nL) (hst : st0 = As.reverse ++ .ref b :: rest) (hW : (rest.map fun v => v.category).sum ≤ 8) (hdg : decode cc pc = .ok (.invokespecial index, 3)) :
    nRun 3 p l e R s m args below meth c H locs cells slots mc ms (F0 m pc ls st0) rest (Qc (Value.ref b :: As).toArray) free := by
  subst hq
  exact va_runSU (g := F0 m pc ls st0) (hG.1.1 ci q hci).2 ⟨hx, hb, hml, hown, hts⟩ hM (va_cwSU n hts (lw_app hin (lw_meth h5)) rfl rfl rfl hd hro.1) ⟨hbl, hrecv, hPc⟩ rfl hn hsize hst (lv_room hW) hdg hro.2
theorem nr_F {x : MethodName} {C : String} {ci count : Nat} {q : vw_C} (hx : p.tables.exec = Jvm.exec) (hb : c.code = cc) (hml : c.maxLocals = nL) (hown : s.vm.findClass own = some m.cls) (hts : ∀ w ∈ lw_all, w.before args s = true) (hG : gG G s) (hM : Met l y (ws_ y bytes maxL ret) (nRm fr mc ms lo) Pc Qc mc ms free) (hbl : FrameBlind Pc) (n : Nat)
    (h1 : Cond.methodLink own index x ∈ lw_all) (h3 : Cond.selects C x y ∈ lw_all) (h2 : Cond.instanceMethod y ∈ lw_all) (h4 : Cond.initialized y.cls ∈ lw_all) (h5 : Cond.code y bytes maxL ret ∈ lw_all) (hF : (C, x, y) ∈ nFw)
    (hd : x.cls ≠ "java/lang/invoke/MethodHandle" ∧ x.cls ≠ "java/lang/invoke/VarHandle" ∧ (parseMethodDescriptor x.desc).map (fun d => d.parameters.length) = some n)
    (hro : nRo R fr maxL lo mc ms cells slots) (hci : vwCl[ci]? = some q) (hq : q.1 = C) (hrecv : ∃ cellB : Cell, H[b]? = some cellB ∧ cellB.vm.isStatics = false ∧ s.vm.findClass C = some cellB.cls) (hPc : ∀ U : State, U.heap = H → s.WarmedH U.vm → Pc (Value.ref b :: As).toArray U)
    (hn : As.length = n) (hsize : ls.size = nL) (hst : st0 = As.reverse ++ .ref b :: rest) (hW : (rest.map fun v => v.category).sum ≤ 8) (hdg : decode cc pc = .ok (.invokeinterface index count, 5)) :
    nRun 5 p l e R s m args below meth c H locs cells slots mc ms (F0 m pc ls st0) rest (Qc (Value.ref b :: As).toArray) free := by
  subst hq
  refine va_runF (g := F0 m pc ls st0) (x := x) (hG.1.1 ci q hci).2 ⟨hx, hb, hml, hown, hts⟩ hM (va_cwF n hts (lw_app ?_ (lw_meth h5)) rfl rfl rfl (hG.2.2.1 _ hF) hd hro.1) ⟨hbl, hrecv, hPc⟩ rfl hn hsize hst (lv_room hW) hdg hro.2
  intro w hw
  simp only [List.mem_cons, List.not_mem_nil, or_false] at hw
  rcases hw with e | e | e | e
  · rw [e]; exact h1
  · rw [e]; exact h3
  · rw [e]; exact h2
  · rw [e]; exact h4
/-- a default method of ShareStreams$Line on a ShareStreams$Plain -/
theorem nr_D {count : Nat} (hx : p.tables.exec = Jvm.exec) (hb : c.code = cc) (hml : c.maxLocals = nL) (hown : s.vm.findClass own = some m.cls) (hts : ∀ w ∈ lw_all, w.before args s = true) (hG : gG G s) (hM : Met l y (ws_ y bytes maxL ret) (nRm fr mc ms lo) Pc Qc mc ms free) (hbl : FrameBlind Pc) (n : Nat)
    (h1 : Cond.methodLink own index y ∈ lw_all) (h2 : Cond.instanceMethod y ∈ lw_all) (h4 : Cond.initialized y.cls ∈ lw_all) (h5 : Cond.code y bytes maxL ret ∈ lw_all) (hF : y ∈ nDf)
    (hd : (parseMethodDescriptor y.desc).map (fun d => d.parameters.length) = some n)
    (hro : nRo R fr maxL lo mc ms cells slots) (hrecv : ∃ cellB : Cell, H[b]? = some cellB ∧ cellB.vm.isStatics = false ∧ s.vm.findClass "ShareStreams$Plain" = some cellB.cls) (hPc : ∀ U : State, U.heap = H → s.WarmedH U.vm → Pc (Value.ref b :: As).toArray U)
    (hn : As.length = n) (hsize : ls.size = nL) (hst : st0 = As.reverse ++ .ref b :: rest) (hW : (rest.map fun v => v.category).sum ≤ 8) (hdg : decode cc pc = .ok (.invokeinterface index count, 5)) :
    nRun 5 p l e R s m args below meth c H locs cells slots mc ms (F0 m pc ls st0) rest (Qc (Value.ref b :: As).toArray) free := by
  have hG5 : GoodIn lw_all (ws_ y bytes maxL ret) := lw_meth h5
  have hini := hts _ h4
  have hK : Back l R p e below s args y 5 8 (PreOf R mc ms Pc) (PostOf Qc mc ms free) := back_of (bytes := bytes) (maxL := maxL) (ret := ret) hM hbl rfl rfl hro.1.1 hro.1.2 (pay_in hts hG5) List.mem_cons_self (fun a' U hW => word_at hW (Or.inl (by first | rfl | simp [Cond.onTables, Cond.keeps, Cond.steady])) hini)
  obtain ⟨d1, d2, d3, d4, d5⟩ := hG.2.2.2.1 y hF
  have hno := nDf_ok y hF
  obtain ⟨cellB, hcB, hoB, hclB⟩ := hrecv
  obtain ⟨hfc, kB, hkB, -⟩ := (hG.1.1 4 _ rfl).2
  have hfc : s.vm.findClass "ShareStreams$Plain" = some (G.1.1 4) := hfc
  have hce := Option.some.inj (hfc.symm.trans hclB)
  intro T hT X
  obtain ⟨v, vm₁, ⟨U', l2, c2, s2⟩, hW₁, X', ⟨g', mk, t, L, e1, e2, hq, h1', hL, h2', h3'⟩, st⟩ := X.interfaceBackD hx (C := "ShareStreams$Plain") hown (hts _ h1) (va_any rfl d1) (va_any rfl d2) (by have h := (Cond.landsInDefault_setVm (args := #[]) (args' := args) (Vm.Alike.refl s.vm) (State.methodFound?_setVm (Vm.Alike.refl s.vm) _ _ _)).trans d3; exact h) (hts _ h2) (va_any rfl d4) (va_any rfl d5) hno hK hfc hkB ⟨cellB, by rw [hT]; exact hcB, hce.symm, hoB⟩ (g := F0 m pc ls st0) rfl (hsize.trans hml.symm) (Steps.refl _) (argsL := As) (rest := rest) (fun sig h => by
      rw [h] at hd
      exact hn.trans (Option.some.inj hd).symm) hst (lv_room hW) (by rw [hb]; exact hdg)
    (fun vm₁ hW₁ => ⟨hro.2.1, hro.2.2, hPc (T.setVm vm₁) hT hW₁⟩)
  dsimp only [Pt.U, Pt.locs, Pt.cells, Pt.slots] at X' e1 e2 h1' h2' h3' st
  subst h1'; subst h2'; subst h3'
  exact ⟨v, (T.setVm vm₁).calling g' mk (Value.ref b :: As).toArray, t, U', L, hT, X', hL, e1, e2, hq, fun target h => st.trans h⟩
/-! what comes back -/
theorem nW.post {wcc wr w1 : va_W} {H1 : Heap} {locs1 : List Loc} (Z : nW G A wc fz rc s.heap H locs) (isC isR : List Nat) (hC : isC.map (fun i => wc[i]?) = wcc.map some) (hR : isR.map (fun i => wc[i]?) = wr.map some) (hn : va_nd isR = true) (hd : ∀ i ∈ isR, i ∉ isC)
    (hk : ∀ q : Nat, q < H.size → ¬ va_A wcc H.size q → H1[q]? = H[q]?) (hS1 : va_S A s.heap H1 locs1) (hP1 : va_P G.1 vwCl w1 H1) (hD1 : va_D (va_A wcc H.size) w1) : nW G A (wr ++ w1) fz rc s.heap H1 locs1 := by
  obtain ⟨d1, d2, d3⟩ := Z.2.1.parts
  obtain ⟨hP, hD⟩ := va_join Z.w d1 isC isR hC hR hn hd hk (va_free d1 Z.2.2.1 Z.2.2.2.2.1 isC hC) hP1 hD1
  have hap := Z.apF isC hC
  refine Z.upd (hP.app (Z.f.kept (fun k q hq => hk q.1 (hap k q hq).1 (hap k q hq).2))) (hD.both d2 (fun x hx y hy hxy => ?_)) hS1
  obtain ⟨j, hj⟩ := n_mem.mp hy
  rcases List.mem_append.mp hx with h | h
  · exact d3 x (n_sub hR x h) y hy hxy
  · obtain ⟨i, hi⟩ := n_mem.mp h
    exact (hap j y hj).2 (by rw [← hxy]; exact hD1.2 i x hi)
variable {k : Nat} {wcc wr : va_W} {a : Array Value}
theorem nc_i {S : Type} {post : Int32 → S → Prop} {w1 : S → va_W} (hr : nRun k p l e R s m args below meth c H locs cells slots mc ms (F0 m pc ls st0) rest (va_Qi post (fun u => nBq G (va_A wcc H.size) (w1 u)) (va_A wcc H.size) a) (va_A wcc H.size)) (Z : nW G A wc fz rc s.heap H locs) (isC isR : List Nat) (hC : isC.map (fun i => wc[i]?) = wcc.map some) (hR : isR.map (fun i => wc[i]?) = wr.map some) (hn : va_nd isR = true) (hd : ∀ i ∈ isR, i ∉ isC)
    (kk : ∀ (r : Int32) (u : S) (H1 : Heap) (locs1 : List Loc), post r u → nW G A (wr ++ w1 u) fz rc s.heap H1 locs1 → W p l e R s m args below meth c H1 locs1 (cells + mc) (slots + ms) Q (F0 m (pc + k) ls (.int r :: rest))) : W p l e R s m args below meth c H locs cells slots Q (F0 m pc ls st0) := by
  intro T hT X
  obtain ⟨v, st₀, t, T', L, h0, X', hL, e1, e2, ⟨⟨r, u, hv, hp, hb⟩, hz, hk⟩, st⟩ := hr T hT X
  cases hv
  rw [h0] at hz hk
  have hF := va_free Z.d Z.2.2.1 Z.2.2.2.2.1 isC hC
  have hS := Z.2.2.1
  have hk' : ∀ q : Nat, q < H.size → ¬ va_A wcc H.size q → T'.heap[q]? = H[q]? := fun q h1 h2 => by rw [e1]; exact hk q h1 h2
  have Z' : nW G A (wr ++ w1 u) fz rc s.heap T'.heap (locs ++ L) := Z.post isC isR hC hR hn hd hk' ⟨Nat.le_trans hS.1 (by rw [e1]; exact hz), fun q h1 h2 => by rw [hk' q (Nat.lt_of_lt_of_le h1 hS.1) (fun z => h2 (hF q z))]; exact hS.2.1 q h1 h2, fun q hq => by
      rcases List.mem_append.mp hq with h | h
      · exact hS.2.2 q h
      · exact hF _ (hL q h)⟩ (by rw [e1]; exact hb.1) hb.2
  obtain ⟨t2, a1, b1⟩ := kk r u T'.heap (locs ++ L) hp Z' T' rfl X'
  exact ⟨t2, st t2 a1, b1⟩
theorem nc_l {S : Type} {post : Int64 → S → Prop} {w1 : S → va_W} (hr : nRun k p l e R s m args below meth c H locs cells slots mc ms (F0 m pc ls st0) rest (va_Ql post (fun u => nBq G (va_A wcc H.size) (w1 u)) (va_A wcc H.size) a) (va_A wcc H.size)) (Z : nW G A wc fz rc s.heap H locs) (isC isR : List Nat) (hC : isC.map (fun i => wc[i]?) = wcc.map some) (hR : isR.map (fun i => wc[i]?) = wr.map some) (hn : va_nd isR = true) (hd : ∀ i ∈ isR, i ∉ isC)
    (kk : ∀ (r : Int64) (u : S) (H1 : Heap) (locs1 : List Loc), post r u → nW G A (wr ++ w1 u) fz rc s.heap H1 locs1 → W p l e R s m args below meth c H1 locs1 (cells + mc) (slots + ms) Q (F0 m (pc + k) ls (.long r :: rest))) : W p l e R s m args below meth c H locs cells slots Q (F0 m pc ls st0) := by
  intro T hT X
  obtain ⟨v, st₀, t, T', L, h0, X', hL, e1, e2, ⟨⟨r, u, hv, hp, hb⟩, hz, hk⟩, st⟩ := hr T hT X
  cases hv
  rw [h0] at hz hk
  have hF := va_free Z.d Z.2.2.1 Z.2.2.2.2.1 isC hC
  have hS := Z.2.2.1
  have hk' : ∀ q : Nat, q < H.size → ¬ va_A wcc H.size q → T'.heap[q]? = H[q]? := fun q h1 h2 => by rw [e1]; exact hk q h1 h2
  have Z' : nW G A (wr ++ w1 u) fz rc s.heap T'.heap (locs ++ L) := Z.post isC isR hC hR hn hd hk' ⟨Nat.le_trans hS.1 (by rw [e1]; exact hz), fun q h1 h2 => by rw [hk' q (Nat.lt_of_lt_of_le h1 hS.1) (fun z => h2 (hF q z))]; exact hS.2.1 q h1 h2, fun q hq => by
      rcases List.mem_append.mp hq with h | h
      · exact hS.2.2 q h
      · exact hF _ (hL q h)⟩ (by rw [e1]; exact hb.1) hb.2
  obtain ⟨t2, a1, b1⟩ := kk r u T'.heap (locs ++ L) hp Z' T' rfl X'
  exact ⟨t2, st t2 a1, b1⟩
theorem nc_q {S : Type} {post : Option Nat → S → Prop} {w1 : S → va_W} (hr : nRun k p l e R s m args below meth c H locs cells slots mc ms (F0 m pc ls st0) rest (va_Qq post (fun u => nBq G (va_A wcc H.size) (w1 u)) (va_A wcc H.size) a) (va_A wcc H.size)) (Z : nW G A wc fz rc s.heap H locs) (isC isR : List Nat) (hC : isC.map (fun i => wc[i]?) = wcc.map some) (hR : isR.map (fun i => wc[i]?) = wr.map some) (hn : va_nd isR = true) (hd : ∀ i ∈ isR, i ∉ isC)
    (kk : ∀ (r : Option Nat) (u : S) (H1 : Heap) (locs1 : List Loc), post r u → nW G A (wr ++ w1 u) fz rc s.heap H1 locs1 → W p l e R s m args below meth c H1 locs1 (cells + mc) (slots + ms) Q (F0 m (pc + k) ls (va_rf r :: rest))) : W p l e R s m args below meth c H locs cells slots Q (F0 m pc ls st0) := by
  intro T hT X
  obtain ⟨v, st₀, t, T', L, h0, X', hL, e1, e2, ⟨⟨r, u, hv, hp, hb⟩, hz, hk⟩, st⟩ := hr T hT X
  cases hv
  rw [h0] at hz hk
  have hF := va_free Z.d Z.2.2.1 Z.2.2.2.2.1 isC hC
  have hS := Z.2.2.1
  have hk' : ∀ q : Nat, q < H.size → ¬ va_A wcc H.size q → T'.heap[q]? = H[q]? := fun q h1 h2 => by rw [e1]; exact hk q h1 h2
  have Z' : nW G A (wr ++ w1 u) fz rc s.heap T'.heap (locs ++ L) := Z.post isC isR hC hR hn hd hk' ⟨Nat.le_trans hS.1 (by rw [e1]; exact hz), fun q h1 h2 => by rw [hk' q (Nat.lt_of_lt_of_le h1 hS.1) (fun z => h2 (hF q z))]; exact hS.2.1 q h1 h2, fun q hq => by
      rcases List.mem_append.mp hq with h | h
      · exact hS.2.2 q h
      · exact hF _ (hL q h)⟩ (by rw [e1]; exact hb.1) hb.2
  obtain ⟨t2, a1, b1⟩ := kk r u T'.heap (locs ++ L) hp Z' T' rfl X'
  exact ⟨t2, st t2 a1, b1⟩
theorem nc_v {S : Type} {post : S → Prop} {w1 : S → va_W} (hr : nRun k p l e R s m args below meth c H locs cells slots mc ms (F0 m pc ls st0) rest (va_Qv post (fun u => nBq G (va_A wcc H.size) (w1 u)) (va_A wcc H.size) a) (va_A wcc H.size)) (Z : nW G A wc fz rc s.heap H locs) (isC isR : List Nat) (hC : isC.map (fun i => wc[i]?) = wcc.map some) (hR : isR.map (fun i => wc[i]?) = wr.map some) (hn : va_nd isR = true) (hd : ∀ i ∈ isR, i ∉ isC)
    (kk : ∀ (u : S) (H1 : Heap) (locs1 : List Loc), post u → nW G A (wr ++ w1 u) fz rc s.heap H1 locs1 → W p l e R s m args below meth c H1 locs1 (cells + mc) (slots + ms) Q (F0 m (pc + k) ls rest)) : W p l e R s m args below meth c H locs cells slots Q (F0 m pc ls st0) := by
  intro T hT X
  obtain ⟨v, st₀, t, T', L, h0, X', hL, e1, e2, ⟨⟨u, hv, hp, hb⟩, hz, hk⟩, st⟩ := hr T hT X
  cases hv
  rw [h0] at hz hk
  have hF := va_free Z.d Z.2.2.1 Z.2.2.2.2.1 isC hC
  have hS := Z.2.2.1
  have hk' : ∀ q : Nat, q < H.size → ¬ va_A wcc H.size q → T'.heap[q]? = H[q]? := fun q h1 h2 => by rw [e1]; exact hk q h1 h2
  have Z' : nW G A (wr ++ w1 u) fz rc s.heap T'.heap (locs ++ L) := Z.post isC isR hC hR hn hd hk' ⟨Nat.le_trans hS.1 (by rw [e1]; exact hz), fun q h1 h2 => by rw [hk' q (Nat.lt_of_lt_of_le h1 hS.1) (fun z => h2 (hF q z))]; exact hS.2.1 q h1 h2, fun q hq => by
      rcases List.mem_append.mp hq with h | h
      · exact hS.2.2 q h
      · exact hF _ (hL q h)⟩ (by rw [e1]; exact hb.1) hb.2
  obtain ⟨t2, a1, b1⟩ := kk u T'.heap (locs ++ L) hp Z' T' rfl X'
  exact ⟨t2, st t2 a1, b1⟩
theorem ns_i {post : Int32 → Prop} (hr : nRun k p l e R s m args below meth c H locs cells slots 0 0 (F0 m pc ls st0) rest (vp_Si post a) (fun _ => False))
    (kk : ∀ r : Int32, post r → W p l e R s m args below meth c H locs cells slots Q (F0 m (pc + k) ls (.int r :: rest))) : W p l e R s m args below meth c H locs cells slots Q (F0 m pc ls st0) := by
  intro T hT X
  obtain ⟨v, st₀, t, T', L, h0, X', hL, e1, -, ⟨r, hv, hp, hh⟩, st⟩ := hr T hT X
  cases hv
  obtain ⟨t2, a1, b1⟩ := kk r hp T' (by rw [e1, hh, h0]) (Stand.forget X' (fun q h => (hL q h).elim))
  exact ⟨t2, st t2 a1, b1⟩
theorem ns_l {post : Int64 → Prop} (hr : nRun k p l e R s m args below meth c H locs cells slots 0 0 (F0 m pc ls st0) rest (vp_Sl post a) (fun _ => False))
    (kk : ∀ r : Int64, post r → W p l e R s m args below meth c H locs cells slots Q (F0 m (pc + k) ls (.long r :: rest))) : W p l e R s m args below meth c H locs cells slots Q (F0 m pc ls st0) := by
  intro T hT X
  obtain ⟨v, st₀, t, T', L, h0, X', hL, e1, -, ⟨r, hv, hp, hh⟩, st⟩ := hr T hT X
  cases hv
  obtain ⟨t2, a1, b1⟩ := kk r hp T' (by rw [e1, hh, h0]) (Stand.forget X' (fun q h => (hL q h).elim))
  exact ⟨t2, st t2 a1, b1⟩
theorem ns_q {post : Option Nat → Prop} (hr : nRun k p l e R s m args below meth c H locs cells slots 0 0 (F0 m pc ls st0) rest (va_Sq post a) (fun _ => False))
    (kk : ∀ r : Option Nat, post r → W p l e R s m args below meth c H locs cells slots Q (F0 m (pc + k) ls (va_rf r :: rest))) : W p l e R s m args below meth c H locs cells slots Q (F0 m pc ls st0) := by
  intro T hT X
  obtain ⟨v, st₀, t, T', L, h0, X', hL, e1, -, ⟨r, hv, hp, hh⟩, st⟩ := hr T hT X
  cases hv
  obtain ⟨t2, a1, b1⟩ := kk r hp T' (by rw [e1, hh, h0]) (Stand.forget X' (fun q h => (hL q h).elim))
  exact ⟨t2, st t2 a1, b1⟩
theorem ns_v {post : Unit → Prop} (hr : nRun k p l e R s m args below meth c H locs cells slots 0 0 (F0 m pc ls st0) rest (va_Sv post a) (fun _ => False))
    (kk : post () → W p l e R s m args below meth c H locs cells slots Q (F0 m (pc + k) ls rest)) : W p l e R s m args below meth c H locs cells slots Q (F0 m pc ls st0) := by
  intro T hT X
  obtain ⟨v, st₀, t, T', L, h0, X', hL, e1, -, ⟨hv, hp, hh⟩, st⟩ := hr T hT X
  cases hv
  obtain ⟨t2, a1, b1⟩ := kk hp T' (by rw [e1, hh, h0]) (Stand.forget X' (fun q h => (hL q h).elim))
  exact ⟨t2, st t2 a1, b1⟩
end NR
/-! ===== rows ===== -/
theorem n_cl {j n : Nat} (hj : j < n) (hn : n < 2 ^ 31) : vp_in (nI j) n := vp_in_nI hj hn
section NS
variable {p : Program} {l : Launch} {e : Env} {R : Room} {s : State} {m : MethodId} {args : Array Value} {below : List Frame} {meth : Method} {c : Code} {H : Heap} {locs : List Loc} {cells slots : Nat} {Q : State → Prop} {cc : ByteArray} {nL pc : Nat} {ls : Array Slot} {rest : List Value} {own : String} {G : nG} {A : Nat → Prop} {wc fz rc ws wc' : va_W} {a : Nat}
theorem n_get {x : Nat × va_E} {q0 : Nat} (h : wc[q0]? = some x) : (wc ++ fz)[q0]? = some x := by rw [List.getElem?_append_left (List.getElem?_eq_some_iff.mp h).1]; exact h
theorem n_set {x z : Nat × va_E} {q0 : Nat} (h : wc[q0]? = some x) : (wc ++ fz).set q0 z = wc.set q0 z ++ fz := List.set_append_left q0 z (List.getElem?_eq_some_iff.mp h).1
theorem n_pushP {D : va_G} {cl : List vw_C} {H : Heap} {x : Nat × va_E} (h : va_P D cl ((wc ++ fz) ++ [x]) H) : va_P D cl ((wc ++ [x]) ++ fz) H := h.mono (fun q hq => by simp only [List.mem_append] at hq ⊢; rcases hq with (h | h) | h <;> simp [h])
theorem n_pushD {x : Nat × va_E} (h : va_D A ((wc ++ fz) ++ [x])) : va_D A ((wc ++ [x]) ++ fz) := by
  obtain ⟨h1, h2, h3⟩ := h.parts
  obtain ⟨h4, h5, h6⟩ := h1.parts
  refine (h4.both h2 (h3.mono (fun q h => List.mem_append_left _ h) (fun q h => h))).both h5 (fun p hp q hq e => ?_)
  rcases List.mem_append.mp hp with h | h
  · exact h6 p h q hq e
  · exact h3 q (List.mem_append_right _ hq) p h e.symm
/-- the number on top by another expression -/
theorem r_as {x z : Int32} (hz : x = z) (k : W p l e R s m args below meth c H locs cells slots Q (F0 m pc ls (.int z :: rest))) : W p l e R s m args below meth c H locs cells slots Q (F0 m pc ls (.int x :: rest)) := by
  subst hz; exact k
theorem r_asl {x z : Int64} (hz : x = z) (k : W p l e R s m args below meth c H locs cells slots Q (F0 m pc ls (.long z :: rest))) : W p l e R s m args below meth c H locs cells slots Q (F0 m pc ls (.long x :: rest)) := by
  subst hz; exact k
theorem r_asv {x z : Value} (hz : x = z) (k : W p l e R s m args below meth c H locs cells slots Q (F0 m pc ls (z :: rest))) : W p l e R s m args below meth c H locs cells slots Q (F0 m pc ls (x :: rest)) := by
  subst hz; exact k
/-! reading arrays: ints, bytes, longs, references -/
theorem r_iald (hx : p.tables.exec = Jvm.exec) (hb : c.code = cc) (hG : gG G s) (hP : va_P G.1 vwCl ws H) (q0 : Nat) {n : Nat} {f : Nat → Int32} (ha : ws[q0]? = some (a, .inl (G.1.1 100, n, .inl f))) {j : Nat} (hj : j < n) (hn : n < 2 ^ 31) {v : Int32} (hv : f j = v) (hdg : decode cc pc = .ok (.iaload, 1))
    (kk : W p l e R s m args below meth c H locs cells slots Q (F0 m (pc + 1) ls (.int v :: rest))) : W p l e R s m args below meth c H locs cells slots Q (F0 m pc ls (.int (nI j) :: .ref a :: rest)) := by
  refine va_iald hx hb hG.1 hP q0 0 ha rfl (vp_in_nI hj hn) hdg ?_
  rw [nI_clamp (Nat.lt_trans hj hn), hv]
  exact kk
theorem r_bald (hx : p.tables.exec = Jvm.exec) (hb : c.code = cc) (hG : gG G s) (hP : va_P G.1 vwCl ws H) (q0 : Nat) {n : Nat} {f : Nat → Int32} (ha : ws[q0]? = some (a, .inl (G.1.1 101, n, .inl f))) {j : Nat} (hj : j < n) (hn : n < 2 ^ 31) {v : Int32} (hv : f j = v) (hdg : decode cc pc = .ok (.baload, 1))
    (kk : W p l e R s m args below meth c H locs cells slots Q (F0 m (pc + 1) ls (.int v :: rest))) : W p l e R s m args below meth c H locs cells slots Q (F0 m pc ls (.int (nI j) :: .ref a :: rest)) := by
  refine va_bald hx hb hG.1 hP q0 1 ha rfl (vp_in_nI hj hn) hdg ?_
  rw [nI_clamp (Nat.lt_trans hj hn), hv]
  exact kk
theorem r_lald (hx : p.tables.exec = Jvm.exec) (hb : c.code = cc) (hG : gG G s) (hP : va_P G.1 vwCl ws H) (q0 : Nat) {n : Nat} {f : Nat → Int64} (ha : ws[q0]? = some (a, .inl (G.1.1 103, n, .inr (.inl f)))) {j : Nat} (hj : j < n) (hn : n < 2 ^ 31) {v : Int64} (hv : f j = v) (hdg : decode cc pc = .ok (.laload, 1))
    (kk : W p l e R s m args below meth c H locs cells slots Q (F0 m (pc + 1) ls (.long v :: rest))) : W p l e R s m args below meth c H locs cells slots Q (F0 m pc ls (.int (nI j) :: .ref a :: rest)) := by
  refine va_lald hx hb hG.1 hP q0 3 ha rfl (vp_in_nI hj hn) hdg ?_
  rw [nI_clamp (Nat.lt_trans hj hn), hv]
  exact kk
theorem r_aald (hx : p.tables.exec = Jvm.exec) (hb : c.code = cc) (hG : gG G s) (hP : va_P G.1 vwCl ws H) (q0 : Nat) {n : Nat} {f : Nat → Option Nat} (ha : ws[q0]? = some (a, .inl (G.1.1 102, n, .inr (.inr (.inr (.inr f)))))) {j : Nat} (hj : j < n) (hn : n < 2 ^ 31) {v : Value} (hv : va_rf (f j) = v) (hdg : decode cc pc = .ok (.aaload, 1))
    (kk : W p l e R s m args below meth c H locs cells slots Q (F0 m (pc + 1) ls (v :: rest))) : W p l e R s m args below meth c H locs cells slots Q (F0 m pc ls (.int (nI j) :: .ref a :: rest)) := by
  refine va_aldq hx hb hG.1 hP q0 2 ha rfl (vp_in_nI hj hn) hdg ?_
  rw [nI_clamp (Nat.lt_trans hj hn), hv]
  exact kk
theorem r_saald (hx : p.tables.exec = Jvm.exec) (hb : c.code = cc) (hG : gG G s) (hP : va_P G.1 vwCl ws H) (q0 : Nat) {n : Nat} {f : Nat → Option Nat} (ha : ws[q0]? = some (a, .inl (G.1.1 104, n, .inr (.inr (.inr (.inr f)))))) {j : Nat} (hj : j < n) (hn : n < 2 ^ 31) {v : Value} (hv : va_rf (f j) = v) (hdg : decode cc pc = .ok (.aaload, 1))
    (kk : W p l e R s m args below meth c H locs cells slots Q (F0 m (pc + 1) ls (v :: rest))) : W p l e R s m args below meth c H locs cells slots Q (F0 m pc ls (.int (nI j) :: .ref a :: rest)) := by
  refine va_aldq hx hb hG.1 hP q0 4 ha rfl (vp_in_nI hj hn) hdg ?_
  rw [nI_clamp (Nat.lt_trans hj hn), hv]
  exact kk
/-- an array's length; ty: its place among the array classes -/
theorem r_alen (hx : p.tables.exec = Jvm.exec) (hb : c.code = cc) (hG : gG G s) (hP : va_P G.1 vwCl ws H) (q0 t0 : Nat) {cA : ClassId} {ty : FieldType} {n : Nat} {x : (Nat → Int32) ⊕ (Nat → Int64) ⊕ (Nat → UInt32) ⊕ (Nat → UInt64) ⊕ (Nat → Option Nat)} (ha : ws[q0]? = some (a, .inl (cA, n, x))) (ht : (nTys G.1)[t0]? = some (cA, ty)) (hdg : decode cc pc = .ok (.arraylength, 1))
    (kk : W p l e R s m args below meth c H locs cells slots Q (F0 m (pc + 1) ls (.int (nI n) :: rest))) : W p l e R s m args below meth c H locs cells slots Q (F0 m pc ls (.ref a :: rest)) :=
  va_alen hx hb hG.1 hP q0 t0 ha ht rfl hdg kk
/-! writing -/
theorem r_iast (hx : p.tables.exec = Jvm.exec) (hb : c.code = cc) (hG : gG G s) (Z : nW G A wc fz rc s.heap H locs) (q0 : Nat) {n : Nat} {f : Nat → Int32} (ha : wc[q0]? = some (a, .inl (G.1.1 100, n, .inl f))) {j : Nat} {x : Int32} (hj : j < n) (hn : n < 2 ^ 31) (hw : wc.set q0 (a, .inl (G.1.1 100, n, .inl (upd f j x))) = wc') (hdg : decode cc pc = .ok (.iastore, 1))
    (kk : ∀ (H1 : Heap) (locs1 : List Loc), nW G A wc' fz rc s.heap H1 locs1 → W p l e R s m args below meth c H1 locs1 cells slots Q (F0 m (pc + 1) ls rest)) : W p l e R s m args below meth c H locs cells slots Q (F0 m pc ls (.int x :: .int (nI j) :: .ref a :: rest)) := by
  refine va_iast hx hb hG.1 Z.1 Z.2.1 Z.2.2.1 q0 0 (n_get ha) rfl (vp_in_nI hj hn) hdg (fun H1 locs1 h1 h2 h3 => ?_)
  rw [nI_clamp (Nat.lt_trans hj hn), n_set ha, hw] at h1 h2
  exact kk H1 locs1 (Z.upd h1 h2 h3)
theorem r_bast (hx : p.tables.exec = Jvm.exec) (hb : c.code = cc) (hG : gG G s) (Z : nW G A wc fz rc s.heap H locs) (q0 : Nat) {n : Nat} {f : Nat → Int32} (ha : wc[q0]? = some (a, .inl (G.1.1 101, n, .inl f))) {j : Nat} {x z : Int32} (hz : vp_nar .byte x = z) (hj : j < n) (hn : n < 2 ^ 31) (hw : wc.set q0 (a, .inl (G.1.1 101, n, .inl (upd f j z))) = wc') (hdg : decode cc pc = .ok (.bastore, 1))
    (kk : ∀ (H1 : Heap) (locs1 : List Loc), nW G A wc' fz rc s.heap H1 locs1 → W p l e R s m args below meth c H1 locs1 cells slots Q (F0 m (pc + 1) ls rest)) : W p l e R s m args below meth c H locs cells slots Q (F0 m pc ls (.int x :: .int (nI j) :: .ref a :: rest)) := by
  subst hz
  refine va_bast hx hb hG.1 Z.1 Z.2.1 Z.2.2.1 q0 1 (n_get ha) rfl (vp_in_nI hj hn) hdg (fun H1 locs1 h1 h2 h3 => ?_)
  rw [nI_clamp (Nat.lt_trans hj hn), n_set ha, hw] at h1 h2
  exact kk H1 locs1 (Z.upd h1 h2 h3)
theorem r_last (hx : p.tables.exec = Jvm.exec) (hb : c.code = cc) (hG : gG G s) (Z : nW G A wc fz rc s.heap H locs) (q0 : Nat) {n : Nat} {f : Nat → Int64} (ha : wc[q0]? = some (a, .inl (G.1.1 103, n, .inr (.inl f)))) {j : Nat} {x : Int64} (hj : j < n) (hn : n < 2 ^ 31) (hw : wc.set q0 (a, .inl (G.1.1 103, n, .inr (.inl (vp_updL f j x)))) = wc') (hdg : decode cc pc = .ok (.lastore, 1))
    (kk : ∀ (H1 : Heap) (locs1 : List Loc), nW G A wc' fz rc s.heap H1 locs1 → W p l e R s m args below meth c H1 locs1 cells slots Q (F0 m (pc + 1) ls rest)) : W p l e R s m args below meth c H locs cells slots Q (F0 m pc ls (.long x :: .int (nI j) :: .ref a :: rest)) := by
  refine va_last hx hb hG.1 Z.1 Z.2.1 Z.2.2.1 q0 3 (n_get ha) rfl (vp_in_nI hj hn) hdg (fun H1 locs1 h1 h2 h3 => ?_)
  rw [nI_clamp (Nat.lt_trans hj hn), n_set ha, hw] at h1 h2
  exact kk H1 locs1 (Z.upd h1 h2 h3)
/-! fields -/
theorem r_put (hx : p.tables.exec = Jvm.exec) (hb : c.code = cc) (hts : ∀ w ∈ lw_all, w.before args s = true) {ref C : String} {T : u_T} {N ci index : Nat} (hin : ∀ w ∈ u_ws C T N, w ∈ lw_all) (ty0 : Nat → FieldType) (hty : ∀ k, k < N → parseFieldDescriptor (T k).2.2.1 = some (ty0 k)) (hnm : ∀ a, a < N → ∀ b, b < N → a ≠ b → (T a).2.1 ≠ (T b).2.1) (hown : s.vm.findClass own = some m.cls) (hG : gG G s) (Z : nW G A wc fz rc s.heap H locs) (q0 : Nat) {fs : List Value} (he : wc[q0]? = some (a, .inr (ci, fs))) (hc : vwCl[ci]? = some (C, T, N)) (k : Nat) (hk : k < N) (hlink : Cond.fieldLink own index ref (T k).2.1 (T k).2.2.1 ∈ lw_all) (hsame : ∀ x, s.fieldFound? (T k).1 (T k).2.1 (T k).2.2.1 = some x → s.fieldFound? ref (T k).2.1 (T k).2.2.1 = some x) (hfin : (T k).2.2.2 = false) {ty : FieldType} {v : Value} (hd : parseFieldDescriptor (T k).2.2.1 = some ty) (hn : narrow ty v = v) (hfit : fits ty v = true) (hl : k < fs.length) (hw : wc.set q0 (a, .inr (ci, fs.set k v)) = wc')
    (hdg : decode cc pc = .ok (.putfield index, 3)) (kk : ∀ (H1 : Heap) (locs1 : List Loc), nW G A wc' fz rc s.heap H1 locs1 → W p l e R s m args below meth c H1 locs1 cells slots Q (F0 m (pc + 3) ls rest)) : W p l e R s m args below meth c H locs cells slots Q (F0 m pc ls (v :: .ref a :: rest)) := by
  subst hw
  exact va_put (D := G.1) hx hb hts hin ty0 hty hnm hown hG.1 Z.1 Z.2.1 Z.2.2.1 q0 (n_get he) hc k hk (hts _ hlink) hsame hfin hd hn hfit hl hdg (fun H1 locs1 h1 h2 h3 => kk H1 locs1 (Z.upd (by rw [n_set he] at h1; exact h1) (by rw [n_set he] at h2; exact h2) h3))
theorem r_putF (hx : p.tables.exec = Jvm.exec) (hb : c.code = cc) (hts : ∀ w ∈ lw_all, w.before args s = true) {ref C : String} {T : u_T} {N ci index : Nat} (hin : ∀ w ∈ u_ws C T N, w ∈ lw_all) (ty0 : Nat → FieldType) (hty : ∀ k, k < N → parseFieldDescriptor (T k).2.2.1 = some (ty0 k)) (hnm : ∀ a, a < N → ∀ b, b < N → a ≠ b → (T a).2.1 ≠ (T b).2.1) (hown : s.vm.findClass own = some m.cls) (hG : gG G s) (Z : nW G A wc fz rc s.heap H locs) (q0 : Nat) {fs : List Value} (he : wc[q0]? = some (a, .inr (ci, fs))) (hc : vwCl[ci]? = some (C, T, N)) (k : Nat) (hk : k < N) (hlink : Cond.fieldLink own index ref (T k).2.1 (T k).2.2.1 ∈ lw_all) (hsame : ∀ x, s.fieldFound? (T k).1 (T k).2.1 (T k).2.2.1 = some x → s.fieldFound? ref (T k).2.1 (T k).2.2.1 = some x) (hfin : (T k).2.2.2 = true) (hin2 : meth.name = "<init>") (hdecl : (T k).1 = own) {ty : FieldType} {v : Value} (hd : parseFieldDescriptor (T k).2.2.1 = some ty) (hn : narrow ty v = v) (hfit : fits ty v = true) (hl : k < fs.length) (hw : wc.set q0 (a, .inr (ci, fs.set k v)) = wc')
    (hdg : decode cc pc = .ok (.putfield index, 3)) (kk : ∀ (H1 : Heap) (locs1 : List Loc), nW G A wc' fz rc s.heap H1 locs1 → W p l e R s m args below meth c H1 locs1 cells slots Q (F0 m (pc + 3) ls rest)) : W p l e R s m args below meth c H locs cells slots Q (F0 m pc ls (v :: .ref a :: rest)) := by
  subst hw
  exact va_putF (D := G.1) hx hb hts hin ty0 hty hnm hown hG.1 Z.1 Z.2.1 Z.2.2.1 q0 (n_get he) hc k hk (hts _ hlink) hsame hfin hin2 hdecl hd hn hfit hl hdg (fun H1 locs1 h1 h2 h3 => kk H1 locs1 (Z.upd (by rw [n_set he] at h1; exact h1) (by rw [n_set he] at h2; exact h2) h3))
theorem r_get (hx : p.tables.exec = Jvm.exec) (hb : c.code = cc) (hts : ∀ w ∈ lw_all, w.before args s = true) {ref C : String} {T : u_T} {N ci index : Nat} (hin : ∀ w ∈ u_ws C T N, w ∈ lw_all) (hown : s.vm.findClass own = some m.cls) (hG : gG G s) (hP : va_P G.1 vwCl ws H) (q0 : Nat) {fs : List Value} (he : ws[q0]? = some (a, .inr (ci, fs))) (hc : vwCl[ci]? = some (C, T, N)) (k : Nat) (hk : k < N) (hlink : Cond.fieldLink own index ref (T k).2.1 (T k).2.2.1 ∈ lw_all) (hsame : ∀ x, s.fieldFound? (T k).1 (T k).2.1 (T k).2.2.1 = some x → s.fieldFound? ref (T k).2.1 (T k).2.2.1 = some x) {v : Value} (hv : fs[k]? = some v) (hdg : decode cc pc = .ok (.getfield index, 3))
    (kk : W p l e R s m args below meth c H locs cells slots Q (F0 m (pc + 3) ls (v :: rest))) : W p l e R s m args below meth c H locs cells slots Q (F0 m pc ls (.ref a :: rest)) :=
  va_get (D := G.1) hx hb hts hin hown hG.1 hP q0 he hc k hk (hts _ hlink) hsame hv hdg kk
theorem r_getN {host : String} (hx : p.tables.exec = Jvm.exec) (hb : c.code = cc) (hts : ∀ w ∈ lw_all, w.before args s = true) {ref C : String} {T : u_T} {N ci index : Nat} (hin : ∀ w ∈ u_ws C T N, w ∈ lw_all) (hown : s.vm.findClass own = some m.cls) (hG : gG G s) (hP : va_P G.1 vwCl ws H) (q0 : Nat) {fs : List Value} (he : ws[q0]? = some (a, .inr (ci, fs))) (hc : vwCl[ci]? = some (C, T, N)) (k : Nat) (hk : k < N) (hlink : Cond.fieldLinkNest own index ref (T k).2.1 (T k).2.2.1 host ∈ lw_tbl) (hsame : ∀ x, s.fieldFound? (T k).1 (T k).2.1 (T k).2.2.1 = some x → s.fieldFound? ref (T k).2.1 (T k).2.2.1 = some x) {v : Value} (hv : fs[k]? = some v) (hdg : decode cc pc = .ok (.getfield index, 3))
    (kk : W p l e R s m args below meth c H locs cells slots Q (F0 m (pc + 3) ls (v :: rest))) : W p l e R s m args below meth c H locs cells slots Q (F0 m pc ls (.ref a :: rest)) :=
  va_getN (D := G.1) hx hb hts hin hown hG.1 hP q0 he hc k hk (va_Nw.use rfl (hG.2.1 _ hlink rfl)) hsame hv hdg kk
/-! new cells -/
theorem r_new (hx : p.tables.exec = Jvm.exec) (hb : c.code = cc) (hts : ∀ w ∈ lw_all, w.before args s = true) {C : String} {T : u_T} {N ci index : Nat} (hin : ∀ w ∈ u_ws C T N, w ∈ lw_all) (ty : Nat → FieldType) (hty : ∀ k, k < N → parseFieldDescriptor (T k).2.2.1 = some (ty k)) (hown : s.vm.findClass own = some m.cls) (hcl : Cond.classLink own index C ∈ lw_all) (hinst : Cond.instantiable C N ∈ lw_all) (hini : Cond.initialized C ∈ lw_all) (hG : gG G s) (Z : nW G A wc fz rc s.heap H locs) (hc : vwCl[ci]? = some (C, T, N)) {fs : List Value} (hfs : ∀ j, j < N → defaultValue (ty j) = vp_V fs j) (hcells : cells + 1 ≤ R.cells) (hslots : slots + N ≤ R.slots) (hdg : decode cc pc = .ok (.new index, 3))
    (kk : ∀ (q : Nat) (H1 : Heap), nW G A (wc ++ [(q, .inr (ci, fs))]) fz rc s.heap H1 locs → W p l e R s m args below meth c H1 locs (cells + 1) (slots + N) Q (F0 m (pc + 3) ls (.ref q :: rest))) : W p l e R s m args below meth c H locs cells slots Q (F0 m pc ls rest) :=
  va_new (D := G.1) hx hb hts hin ty hty hown (hts _ hcl) (hts _ hinst) (hts _ hini) hG.1 Z.1 Z.2.1 Z.2.2.1 Z.2.2.2.2.1 hc hfs hcells hslots hdg (fun q H1 h1 h2 h3 => kk q H1 (Z.upd (n_pushP h1) (n_pushD h2) h3))
theorem r_newi (hx : p.tables.exec = Jvm.exec) (hb : c.code = cc) (hts : ∀ w ∈ lw_all, w.before args s = true) (hq : Cond.arrayClass .int ∈ lw_all) (hG : gG G s) (Z : nW G A wc fz rc s.heap H locs) {n : Nat} (hn : n < 2 ^ 27) (hcells : cells + 1 ≤ R.cells) (hslots : slots + n ≤ R.slots) (hdg : decode cc pc = .ok (.newarray .int, 2))
    (kk : ∀ (q : Nat) (H1 : Heap), nW G A (wc ++ [(q, .inl (G.1.1 100, n, .inl (fun _ => 0)))]) fz rc s.heap H1 locs → W p l e R s m args below meth c H1 locs (cells + 1) (slots + n) Q (F0 m (pc + 2) ls (.ref q :: rest))) : W p l e R s m args below meth c H locs cells slots Q (F0 m pc ls (.int (nI n) :: rest)) := by
  refine va_newa (D := G.1) (cl := vwCl) (tys := nTys G.1) (atype := .int) (ty := .int) (a0 := (n, .inl (fun _ => 0))) hx hb (hts _ hq) rfl hG.1 Z.1 Z.2.1 Z.2.2.1 Z.2.2.2.2.1 (fun cA => rfl) (nI_pos (by omega)) (nI_clamp (by omega)) (by show n * 4 ≤ _; omega) hcells hslots hdg (fun q cA H1 hk h1 h2 h3 => ?_)
  have e1 : s.vm.findClass ("[" ++ FieldType.int.toString) = some cA := (hk.2 5 _ rfl).2
  have e2 : s.vm.findClass ("[" ++ FieldType.int.toString) = some (G.1.1 100) := (hG.1.2 0 _ rfl).2
  obtain rfl := Option.some.inj (e1.symm.trans e2)
  exact kk q H1 (Z.upd (n_pushP h1) (n_pushD h2) h3)
theorem r_newb (hx : p.tables.exec = Jvm.exec) (hb : c.code = cc) (hts : ∀ w ∈ lw_all, w.before args s = true) (hq : Cond.arrayClass .byte ∈ lw_all) (hG : gG G s) (Z : nW G A wc fz rc s.heap H locs) {n : Nat} (hn : n < 2 ^ 27) (hcells : cells + 1 ≤ R.cells) (hslots : slots + n ≤ R.slots) (hdg : decode cc pc = .ok (.newarray .byte, 2))
    (kk : ∀ (q : Nat) (H1 : Heap), nW G A (wc ++ [(q, .inl (G.1.1 101, n, .inl (fun _ => 0)))]) fz rc s.heap H1 locs → W p l e R s m args below meth c H1 locs (cells + 1) (slots + n) Q (F0 m (pc + 2) ls (.ref q :: rest))) : W p l e R s m args below meth c H locs cells slots Q (F0 m pc ls (.int (nI n) :: rest)) := by
  refine va_newa (D := G.1) (cl := vwCl) (tys := nTys G.1) (atype := .byte) (ty := .byte) (a0 := (n, .inl (fun _ => 0))) hx hb (hts _ hq) rfl hG.1 Z.1 Z.2.1 Z.2.2.1 Z.2.2.2.2.1 (fun cA => rfl) (nI_pos (by omega)) (nI_clamp (by omega)) (by show n * 1 ≤ _; omega) hcells hslots hdg (fun q cA H1 hk h1 h2 h3 => ?_)
  have e1 : s.vm.findClass ("[" ++ FieldType.byte.toString) = some cA := (hk.2 5 _ rfl).2
  have e2 : s.vm.findClass ("[" ++ FieldType.byte.toString) = some (G.1.1 101) := (hG.1.2 1 _ rfl).2
  obtain rfl := Option.some.inj (e1.symm.trans e2)
  exact kk q H1 (Z.upd (n_pushP h1) (n_pushD h2) h3)
theorem r_newl (hx : p.tables.exec = Jvm.exec) (hb : c.code = cc) (hts : ∀ w ∈ lw_all, w.before args s = true) (hq : Cond.arrayClass .long ∈ lw_all) (hG : gG G s) (Z : nW G A wc fz rc s.heap H locs) {n : Nat} (hn : n < 2 ^ 26) (hcells : cells + 1 ≤ R.cells) (hslots : slots + n ≤ R.slots) (hdg : decode cc pc = .ok (.newarray .long, 2))
    (kk : ∀ (q : Nat) (H1 : Heap), nW G A (wc ++ [(q, .inl (G.1.1 103, n, .inr (.inl (fun _ => 0))))]) fz rc s.heap H1 locs → W p l e R s m args below meth c H1 locs (cells + 1) (slots + n) Q (F0 m (pc + 2) ls (.ref q :: rest))) : W p l e R s m args below meth c H locs cells slots Q (F0 m pc ls (.int (nI n) :: rest)) := by
  refine va_newa (D := G.1) (cl := vwCl) (tys := nTys G.1) (atype := .long) (ty := .long) (a0 := (n, .inr (.inl (fun _ => 0)))) hx hb (hts _ hq) rfl hG.1 Z.1 Z.2.1 Z.2.2.1 Z.2.2.2.2.1 (fun cA => rfl) (nI_pos (by omega)) (nI_clamp (by omega)) (by show n * 8 ≤ _; omega) hcells hslots hdg (fun q cA H1 hk h1 h2 h3 => ?_)
  have e1 : s.vm.findClass ("[" ++ FieldType.long.toString) = some cA := (hk.2 5 _ rfl).2
  have e2 : s.vm.findClass ("[" ++ FieldType.long.toString) = some (G.1.1 103) := (hG.1.2 3 _ rfl).2
  obtain rfl := Option.some.inj (e1.symm.trans e2)
  exact kk q H1 (Z.upd (n_pushP h1) (n_pushD h2) h3)
theorem r_newo (hx : p.tables.exec = Jvm.exec) (hb : c.code = cc) (hts : ∀ w ∈ lw_all, w.before args s = true) {index : Nat} (hown : s.vm.findClass own = some m.cls) (hcl : Cond.classLink own index "java/lang/Object" ∈ lw_all) (ho : Cond.arrayOver (.object "java/lang/Object") ∈ lw_tbl) (hG : gG G s) (Z : nW G A wc fz rc s.heap H locs) {n : Nat} (hn : n < 2 ^ 27) (hcells : cells + 1 ≤ R.cells) (hslots : slots + n ≤ R.slots) (hdg : decode cc pc = .ok (.anewarray index, 3))
    (kk : ∀ (q : Nat) (H1 : Heap), nW G A (wc ++ [(q, .inl (G.1.1 102, n, .inr (.inr (.inr (.inr (fun _ => none))))))]) fz rc s.heap H1 locs → W p l e R s m args below meth c H1 locs (cells + 1) (slots + n) Q (F0 m (pc + 3) ls (.ref q :: rest))) : W p l e R s m args below meth c H locs cells slots Q (F0 m pc ls (.int (nI n) :: rest)) := by
  refine va_newq (D := G.1) (cl := vwCl) (tys := nTys G.1) hx hb hown (hts _ hcl) (hG.2.1 _ ho rfl) hG.1 Z.1 Z.2.1 Z.2.2.1 Z.2.2.2.2.1 (nI_pos (by omega)) (nI_clamp (by omega)) (by omega) hcells hslots hdg (fun q cA H1 hk h1 h2 h3 => ?_)
  obtain ⟨-, -, -, -, -, e1⟩ := (hk.2 5 _ rfl).2
  obtain ⟨-, -, -, -, -, e2⟩ := (hG.1.2 2 _ rfl).2
  obtain rfl := Option.some.inj (e1.symm.trans e2)
  exact kk q H1 (Z.upd (n_pushP h1) (n_pushD h2) h3)
theorem r_newS (hx : p.tables.exec = Jvm.exec) (hb : c.code = cc) (hts : ∀ w ∈ lw_all, w.before args s = true) {index : Nat} (hown : s.vm.findClass own = some m.cls) (hcl : Cond.classLink own index "java/lang/String" ∈ lw_all) (ho : Cond.arrayOver (.object "java/lang/String") ∈ lw_tbl) (hG : gG G s) (Z : nW G A wc fz rc s.heap H locs) {n : Nat} (hn : n < 2 ^ 27) (hcells : cells + 1 ≤ R.cells) (hslots : slots + n ≤ R.slots) (hdg : decode cc pc = .ok (.anewarray index, 3))
    (kk : ∀ (q : Nat) (H1 : Heap), nW G A (wc ++ [(q, .inl (G.1.1 104, n, .inr (.inr (.inr (.inr (fun _ => none))))))]) fz rc s.heap H1 locs → W p l e R s m args below meth c H1 locs (cells + 1) (slots + n) Q (F0 m (pc + 3) ls (.ref q :: rest))) : W p l e R s m args below meth c H locs cells slots Q (F0 m pc ls (.int (nI n) :: rest)) := by
  refine va_newq (D := G.1) (cl := vwCl) (tys := nTys G.1) hx hb hown (hts _ hcl) (hG.2.1 _ ho rfl) hG.1 Z.1 Z.2.1 Z.2.2.1 Z.2.2.2.2.1 (nI_pos (by omega)) (nI_clamp (by omega)) (by omega) hcells hslots hdg (fun q cA H1 hk h1 h2 h3 => ?_)
  obtain ⟨-, -, -, -, -, e1⟩ := (hk.2 5 _ rfl).2
  obtain ⟨-, -, -, -, -, e2⟩ := (hG.1.2 4 _ rfl).2
  obtain rfl := Option.some.inj (e1.symm.trans e2)
  exact kk q H1 (Z.upd (n_pushP h1) (n_pushD h2) h3)
/-- the receiver of a call -/
theorem r_recv (hG : gG G s) (hP : va_P G.1 vwCl ws H) (q0 : Nat) {ci : Nat} {q : vw_C} {C : String} {fs : List Value} (he : ws[q0]? = some (a, .inr (ci, fs))) (hc : vwCl[ci]? = some q) (hq : q.1 = C) : ∃ cell : Cell, H[a]? = some cell ∧ cell.vm.isStatics = false ∧ s.vm.findClass C = some cell.cls := by
  subst hq
  exact va_recv hG.1 hP hc he
/-- checkcast to a class or interface that an object's class is castable to -/
theorem r_cast (hx : p.tables.exec = Jvm.exec) (hb : c.code = cc) (hts : ∀ w ∈ lw_all, w.before args s = true) {C nm : String} {index : Nat} (hown : s.vm.findClass own = some m.cls) (hlink : Cond.classLink own index nm ∈ lw_all) (hc : Cond.castable C nm ∈ lw_tbl) (hG : gG G s)
    (hr : ∃ cell : Cell, H[a]? = some cell ∧ cell.vm.isStatics = false ∧ s.vm.findClass C = some cell.cls) (hdg : decode cc pc = .ok (.checkcast index, 3))
    (k : W p l e R s m args below meth c H locs cells slots Q (F0 m (pc + 3) ls (.ref a :: rest))) : W p l e R s m args below meth c H locs cells slots Q (F0 m pc ls (.ref a :: rest)) :=
  va_castY hx hb hown (hts _ hlink) (hG.2.1 _ hc rfl) hr hdg k
end NS
/-! truths -/
def bI (b : Bool) : Int32 := if b then 1 else 0
theorem bI_t {b : Bool} (h : ¬ bI b = 0) : b = true := by cases b <;> simp_all [bI]
theorem bI_f {b : Bool} (h : bI b = 0) : b = false := by cases b <;> simp_all [bI]
theorem bI_n (b : Bool) : narrow .boolean (.int (bI b)) = .int (bI b) := by cases b <;> rfl
theorem bI_1 : (1 : Int32) = bI true := rfl
theorem bI_0 : (0 : Int32) = bI false := rfl
/-! branches on numbers -/
theorem n_lt_t {a b : Nat} (h : nI a < nI b) (ha : a < 2 ^ 31) (hb : b < 2 ^ 31) : a < b := (nI_ltI ha hb).mp h
theorem n_lt_f {a b : Nat} (h : ¬ nI a < nI b) (ha : a < 2 ^ 31) (hb : b < 2 ^ 31) : b ≤ a := Nat.le_of_not_lt fun q => h ((nI_ltI ha hb).mpr q)
theorem n_le_t {a b : Nat} (h : nI a ≤ nI b) (ha : a < 2 ^ 31) (hb : b < 2 ^ 31) : a ≤ b := (nI_leI ha hb).mp h
theorem n_le_f {a b : Nat} (h : ¬ nI a ≤ nI b) (ha : a < 2 ^ 31) (hb : b < 2 ^ 31) : b < a := Nat.lt_of_not_le fun q => h ((nI_leI ha hb).mpr q)
theorem n_eq_t {a b : Nat} (h : nI a = nI b) (ha : a < 2 ^ 31) (hb : b < 2 ^ 31) : a = b := (nI_eq ha hb).mp h
theorem n_eq_f {a b : Nat} (h : ¬ nI a = nI b) : a ≠ b := fun q => h (by rw [q])
