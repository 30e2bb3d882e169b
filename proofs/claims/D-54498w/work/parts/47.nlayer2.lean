/-! ===== more rows: inherited calls, arrays of objects, statics ===== -/
section NR2
variable {p : Program} {l : Launch} {e : Env} {R : Room} {s : State} {m : MethodId} {args : Array Value} {below : List Frame} {meth : Method} {c : Code} {H : Heap} {locs : List Loc} {cells slots : Nat} {Q : State → Prop} {cc : ByteArray} {nL pc : Nat} {ls : Array Slot} {rest st0 : List Value} {own : String} {G : nG} {A : Nat → Prop} {wc fz rc ws wc' : va_W} {a : Nat}
variable {y : MethodName} {bytes : ByteArray} {maxL fr mc ms lo : Nat} {ret : Option FieldType} {Pc : Array Value → State → Prop} {Qc : Array Value → State → Outcome → State → Prop} {free : Addr → Prop} {index : Nat} {b : Addr} {As : List Value}
/-- a superclass' method by invokevirtual on an object of the class C -/
theorem nr_W {C : String} (hx : p.tables.exec = Jvm.exec) (hb : c.code = cc) (hml : c.maxLocals = nL) (hown : s.vm.findClass own = some m.cls) (hts : ∀ w ∈ lw_all, w.before args s = true) (hM : Met l y (ws_ y bytes maxL ret) (nRm fr mc ms lo) Pc Qc mc ms free) (hbl : FrameBlind Pc) (n : Nat)
    (hin : ∀ w ∈ ([.methodLink own index y, .sameMethod y.cls y.cls y.name y.desc, .selects C y y, .instanceMethod y, .initialized y.cls] : List Cond), w ∈ lw_all) (h5 : Cond.code y bytes maxL ret ∈ lw_all)
    (hd : y.cls ≠ "java/lang/invoke/MethodHandle" ∧ y.cls ≠ "java/lang/invoke/VarHandle" ∧ (parseMethodDescriptor y.desc).map (fun d => d.parameters.length) = some n)
    (hro : nRo R fr maxL lo mc ms cells slots) (hrecv : ∃ cellB : Cell, H[b]? = some cellB ∧ cellB.vm.isStatics = false ∧ s.vm.findClass C = some cellB.cls) (hPc : ∀ U : State, U.heap = H → s.WarmedH U.vm → Pc (Value.ref b :: As).toArray U)
    (hn : As.length = n) (hsize : ls.size = nL) (hst : st0 = As.reverse ++ .ref b :: rest) (hW : (rest.map fun v => v.category).sum ≤ 8) (hdg : decode cc pc = .ok (.invokevirtual index, 3)) :
    nRun 3 p l e R s m args below meth c H locs cells slots mc ms (F0 m pc ls st0) rest (Qc (Value.ref b :: As).toArray) free :=
  va_runU (x := y) (owner := y.cls) (g := F0 m pc ls st0) ⟨hx, hb, hml, hown, hts⟩ hM (va_cwU n hts (lw_app hin (lw_meth h5)) rfl rfl rfl rfl hd hro.1) ⟨hbl, hrecv, hPc⟩ rfl hn hsize hst (lv_room hW) hdg hro.2
theorem r_asg (hts : gN s) {C : String} (hc : Cond.castable C "java/lang/Object" ∈ lw_tbl) : ∀ comp c0 : ClassId, s.vm.findClass "java/lang/Object" = some comp → s.vm.findClass C = some c0 → s.vm.assignable c0 comp = true := by
  intro comp c0 h1 h2
  obtain ⟨c1, t1, f1, f2, f3⟩ := Cond.castable_spec (va_Nw.use (A := #[]) rfl (hts _ hc rfl))
  cases h1.symm.trans f2
  cases h2.symm.trans f1
  exact f3
/-- an object of the class list into an Object[] -/
theorem r_aast (hx : p.tables.exec = Jvm.exec) (hb : c.code = cc) (hG : gG G s) (Z : nW G A wc fz rc s.heap H locs) (q0 : Nat) {n ci v : Nat} {r : vw_C} {vs : List Value} {f : Nat → Option Nat} (ha : wc[q0]? = some (a, .inl (G.1.1 102, n, .inr (.inr (.inr (.inr f)))))) (hv : va_P G.1 vwCl [(v, .inr (ci, vs))] H) (hc : vwCl[ci]? = some r) (hca : Cond.castable r.1 "java/lang/Object" ∈ lw_tbl) {j : Nat} (hj : j < n) (hn : n < 2 ^ 31) (hw : wc.set q0 (a, .inl (G.1.1 102, n, .inr (.inr (.inr (.inr (va_up f j (some v))))))) = wc') (hdg : decode cc pc = .ok (.aastore, 1))
    (kk : ∀ (H1 : Heap) (locs1 : List Loc), nW G A wc' fz rc s.heap H1 locs1 → W p l e R s m args below meth c H1 locs1 cells slots Q (F0 m (pc + 1) ls rest)) : W p l e R s m args below meth c H locs cells slots Q (F0 m pc ls (.ref v :: .int (nI j) :: .ref a :: rest)) := by
  refine va_astqM hx hb hG.1 Z.1 Z.2.1 Z.2.2.1 q0 2 (n_get ha) rfl (va_rAny hG.1 hv (q0 := 0) rfl hc (r_asg hG.2.1 hca)) (vp_in_nI hj hn) hdg (fun H1 locs1 h1 h2 h3 => ?_)
  rw [nI_clamp (Nat.lt_trans hj hn), n_set ha, hw] at h1 h2
  exact kk H1 locs1 (Z.upd h1 h2 h3)
theorem r_aastN (hx : p.tables.exec = Jvm.exec) (hb : c.code = cc) (hG : gG G s) (Z : nW G A wc fz rc s.heap H locs) (q0 : Nat) {n : Nat} {f : Nat → Option Nat} (ha : wc[q0]? = some (a, .inl (G.1.1 102, n, .inr (.inr (.inr (.inr f)))))) {j : Nat} (hj : j < n) (hn : n < 2 ^ 31) (hw : wc.set q0 (a, .inl (G.1.1 102, n, .inr (.inr (.inr (.inr (va_up f j none)))))) = wc') (hdg : decode cc pc = .ok (.aastore, 1))
    (kk : ∀ (H1 : Heap) (locs1 : List Loc), nW G A wc' fz rc s.heap H1 locs1 → W p l e R s m args below meth c H1 locs1 cells slots Q (F0 m (pc + 1) ls rest)) : W p l e R s m args below meth c H locs cells slots Q (F0 m pc ls (.null :: .int (nI j) :: .ref a :: rest)) := by
  refine va_astqN hx hb hG.1 Z.1 Z.2.1 Z.2.2.1 q0 2 (n_get ha) rfl (vp_in_nI hj hn) hdg (fun H1 locs1 h1 h2 h3 => ?_)
  rw [nI_clamp (Nat.lt_trans hj hn), n_set ha, hw] at h1 h2
  exact kk H1 locs1 (Z.upd h1 h2 h3)
/-- System.arraycopy among own Object[]s, whose elements are of one class -/
theorem r_copyq (hx : p.tables.exec = Jvm.exec) (hb : c.code = cc) (hml : c.maxLocals = nL) (hsz : ls.size = nL) (hown : s.vm.findClass own = some m.cls) (hts : ∀ w ∈ lw_all, w.before args s = true) (hlink : Cond.methodLink own index arraycopyName ∈ lw_all) (hnat : Cond.native arraycopyName ∈ lw_all) (hstat : Cond.static arraycopyName ∈ lw_all) (hini : Cond.initialized "java/lang/System" ∈ lw_all) (hG : gG G s) (Z : nW G A wc fz rc s.heap H locs) (q0 q1 : Nat) {a0 : Nat} {n0 n1 : Nat} {f g : Nat → Option Nat} {C : String} (hca : Cond.castable C "java/lang/Object" ∈ lw_tbl)
    (ha0 : wc[q0]? = some (a0, .inl (G.1.1 102, n0, .inr (.inr (.inr (.inr f)))))) (ha1 : wc[q1]? = some (a, .inl (G.1.1 102, n1, .inr (.inr (.inr (.inr g))))))
    {sp dp n : Nat} (h4 : sp + n ≤ n0) (h5 : dp + n ≤ n1) (hs0 : n0 < 2 ^ 31) (hs1 : n1 < 2 ^ 31) (hel : ∀ i : Nat, i < n → ∀ y : Nat, f (sp + i) = some y → ∃ cellV : Cell, H[y]? = some cellV ∧ cellV.vm.isStatics = false ∧ s.vm.findClass C = some cellV.cls)
    (hframes : 1 ≤ R.frames) (hlocals : (rest.map fun v => v.category).sum + (nativeFrameWords "java/lang/System" "arraycopy" 5 + 11) ≤ R.locals) (hw : wc.set q1 (a, .inl (G.1.1 102, n1, .inr (.inr (.inr (.inr (va_cpy f g sp dp n)))))) = wc') (hdg : decode cc pc = .ok (.invokestatic index, 3))
    (kk : ∀ (H1 : Heap) (locs1 : List Loc), nW G A wc' fz rc s.heap H1 locs1 → W p l e R s m args below meth c H1 locs1 cells slots Q (F0 m (pc + 3) ls rest)) : W p l e R s m args below meth c H locs cells slots Q (F0 m pc ls (.int (nI n) :: .int (nI dp) :: .ref a :: .int (nI sp) :: .ref a0 :: rest)) := by
  have e1 : (nI sp).toNatClampNeg = sp := nI_clamp (by omega)
  have e2 : (nI dp).toNatClampNeg = dp := nI_clamp (by omega)
  have e3 : (nI n).toNatClampNeg = n := nI_clamp (by omega)
  refine va_copyq (C := C) hx hb (hml.trans hsz.symm) hown (hts _ hlink) (hts _ hnat) (hts _ hstat) (hts _ hini) hG.1 Z.1 Z.2.1 Z.2.2.1 q0 q1 2 2 (n_get ha0) (n_get ha1) rfl rfl (nI_pos (by omega)) (nI_pos (by omega)) (nI_pos (by omega)) (by rw [e1, e3]; exact h4) (by rw [e2, e3]; exact h5) (by rw [e1, e3]; exact hel) (r_asg hG.2.1 hca) hframes hlocals hdg (fun H1 locs1 h1 h2 h3 => ?_)
  rw [e1, e2, e3, n_set ha1, hw] at h1 h2
  exact kk H1 locs1 (Z.upd h1 h2 h3)
/-- ArrayList's own empty array -/
theorem r_gsE (hx : p.tables.exec = Jvm.exec) (hb : c.code = cc) (hts : ∀ w ∈ lw_all, w.before args s = true) (hown : s.vm.findClass own = some m.cls) (hlink : Cond.fieldLink own index "java/util/ArrayList" "DEFAULTCAPACITY_EMPTY_ELEMENTDATA" "[Ljava/lang/Object;" ∈ lw_all) (hG : gG G s) (Z : nW G A wc fz rc s.heap H locs) (hdg : decode cc pc = .ok (.getstatic index, 3))
    (kk : W p l e R s m args below meth c H locs cells slots Q (F0 m (pc + 3) ls (.ref G.2.2.1 :: rest))) : W p l e R s m args below meth c H locs cells slots Q (F0 m pc ls rest) :=
  va_gets hx hb (hG.2.2.2.2.1.1.narrow (fun q h => Z.2.2.2.2.2.1 q h)) Z.2.2.1 hown (hts _ hlink) (fun _ h => h) hdg kk
/-- .. and its length -/
theorem r_lenE (hx : p.tables.exec = Jvm.exec) (hb : c.code = cc) (hG : gG G s) (Z : nW G A wc fz rc s.heap H locs) (hdg : decode cc pc = .ok (.arraylength, 1))
    (kk : W p l e R s m args below meth c H locs cells slots Q (F0 m (pc + 1) ls (.int (nI 0) :: rest))) : W p l e R s m args below meth c H locs cells slots Q (F0 m pc ls (.ref G.2.2.1 :: rest)) :=
  va_tlen hx hb ⟨_, hG.2.2.2.2.1.2.1.choose_spec.1, hG.2.2.2.2.1.2.1.choose_spec.2.1, hG.2.2.2.2.1.2.1.choose_spec.2.2.1, hG.2.2.2.2.1.2.1.choose_spec.2.2.2.1, hG.2.2.2.2.1.2.1.choose_spec.2.2.2.2.1, hG.2.2.2.2.1.2.1.choose_spec.2.2.2.2.2.1, fun z => hG.2.2.2.2.1.2.1.choose_spec.2.2.2.2.2.2 (Z.2.2.2.2.2.1 _ z)⟩ Z.2.2.1 rfl hdg kk
theorem r_putN {host : String} (hx : p.tables.exec = Jvm.exec) (hb : c.code = cc) (hts : ∀ w ∈ lw_all, w.before args s = true) {ref C : String} {T : u_T} {N ci index : Nat} (hin : ∀ w ∈ u_ws C T N, w ∈ lw_all) (ty0 : Nat → FieldType) (hty : ∀ k, k < N → parseFieldDescriptor (T k).2.2.1 = some (ty0 k)) (hnm : ∀ a, a < N → ∀ b, b < N → a ≠ b → (T a).2.1 ≠ (T b).2.1) (hown : s.vm.findClass own = some m.cls) (hG : gG G s) (Z : nW G A wc fz rc s.heap H locs) (q0 : Nat) {fs : List Value} (he : wc[q0]? = some (a, .inr (ci, fs))) (hc : vwCl[ci]? = some (C, T, N)) (k : Nat) (hk : k < N) (hlink : Cond.fieldLinkNest own index ref (T k).2.1 (T k).2.2.1 host ∈ lw_tbl) (hsame : ∀ x, s.fieldFound? (T k).1 (T k).2.1 (T k).2.2.1 = some x → s.fieldFound? ref (T k).2.1 (T k).2.2.1 = some x) (hfin : (T k).2.2.2 = false) {ty : FieldType} {v : Value} (hd : parseFieldDescriptor (T k).2.2.1 = some ty) (hn : narrow ty v = v) (hfit : fits ty v = true) (hl : k < fs.length) (hw : wc.set q0 (a, .inr (ci, fs.set k v)) = wc')
    (hdg : decode cc pc = .ok (.putfield index, 3)) (kk : ∀ (H1 : Heap) (locs1 : List Loc), nW G A wc' fz rc s.heap H1 locs1 → W p l e R s m args below meth c H1 locs1 cells slots Q (F0 m (pc + 3) ls rest)) : W p l e R s m args below meth c H locs cells slots Q (F0 m pc ls (v :: .ref a :: rest)) := by
  subst hw
  exact va_putN (D := G.1) hx hb hts hin ty0 hty hnm hown hG.1 Z.1 Z.2.1 Z.2.2.1 q0 (n_get he) hc k hk (va_Nw.use rfl (hG.2.1 _ hlink rfl)) hsame hfin hd hn hfit hl hdg (fun H1 locs1 h1 h2 h3 => kk H1 locs1 (Z.upd (by rw [n_set he] at h1; exact h1) (by rw [n_set he] at h2; exact h2) h3))
/-- an Object[] as a receiver -/
theorem r_recvO (hG : gG G s) (hP : va_P G.1 vwCl ws H) (q0 : Nat) {n : Nat} {f : Nat → Option Nat} (ha : ws[q0]? = some (a, .inl (G.1.1 102, n, .inr (.inr (.inr (.inr f)))))) : ∃ cell : Cell, H[a]? = some cell ∧ cell.vm.isStatics = false ∧ s.vm.findClass "[Ljava/lang/Object;" = some cell.cls := by
  obtain ⟨-, -, -, -, -, e1⟩ := (hG.1.2 2 _ rfl).2
  exact ⟨_, hP q0 _ ha, by rw [vp_cell_q]; rfl, by rw [vp_cell_q]; exact e1⟩
/-- getClass on an Object[] -/
theorem r_getC (hx : p.tables.exec = Jvm.exec) (hb : c.code = cc) (hml : c.maxLocals = nL) (hsz : ls.size = nL) (hown : s.vm.findClass own = some m.cls) (hts : ∀ w ∈ lw_all, w.before args s = true) (hlink : Cond.methodLink own index ⟨"java/lang/Object", "getClass", "()Ljava/lang/Class;"⟩ ∈ lw_all) (hin : ∀ w ∈ ([.selects "[Ljava/lang/Object;" ⟨"java/lang/Object", "getClass", "()Ljava/lang/Class;"⟩ ⟨"java/lang/Object", "getClass", "()Ljava/lang/Class;"⟩, .instanceMethod ⟨"java/lang/Object", "getClass", "()Ljava/lang/Class;"⟩, .native ⟨"java/lang/Object", "getClass", "()Ljava/lang/Class;"⟩] : List Cond), w ∈ lw_all) (hG : gG G s) (hP : va_P G.1 vwCl ws H) (q0 : Nat) {n : Nat} {f : Nat → Option Nat} (ha : ws[q0]? = some (a, .inl (G.1.1 102, n, .inr (.inr (.inr (.inr f))))))
    (hframes : 1 ≤ R.frames) (hlocals : (rest.map fun v => v.category).sum + 14 ≤ R.locals) (hdg : decode cc pc = .ok (.invokevirtual index, 3))
    (kk : W p l e R s m args below meth c H locs cells slots Q (F0 m (pc + 3) ls (.ref (G.2.2.2.1 8) :: rest))) : W p l e R s m args below meth c H locs cells slots Q (F0 m pc ls (.ref a :: rest)) :=
  va_getC (C := "[Ljava/lang/Object;") hx hb (hml.trans hsz.symm) hown (hts _ hlink) (va_Dc.use hG.2.2.2.2.2.2.1.2) (hts _ (hin _ (List.mem_cons_self ..))) (hts _ (hin _ (List.mem_cons_of_mem _ (List.mem_cons_self ..)))) (hts _ (hin _ (List.mem_cons_of_mem _ (List.mem_cons_of_mem _ (List.mem_cons_self ..))))) hG.2.2.2.2.2.2.1.1 (r_recvO hG hP q0 ha) hframes hlocals hdg kk
end NR2
/-- an array list's array: the common empty one, or its own -/
def lsX (G : nG) (X : va_W) (e n cap : Nat) (f : Nat → Option Nat) : Prop := (X = [] ∧ e = G.2.2.1 ∧ n = 0) ∨ (X = [(e, .inl (G.1.1 102, cap, .inr (.inr (.inr (.inr f)))))] ∧ n ≤ cap ∧ 10 ≤ cap)
/-- its elements are objects of one class -/
def lsE (rc : va_W) (ci n : Nat) (f : Nat → Option Nat) : Prop := ∀ i, i < n → ∃ (y : Nat) (vs : List Value), f i = some y ∧ (y, .inr (ci, vs)) ∈ rc
