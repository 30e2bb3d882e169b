/-! a private method of a superclass, called by invokevirtual -/
theorem sel_priv {args : Array Value} {s : State} {C : String} {c : ClassId} {y z : MethodName} (hc : s.vm.findClass C = some c) (hp : (Cond.privateMethod y).before args s = true) (hi : (Cond.instanceMethod y).before args s = true) (hz : (Cond.selects C z z).before args s = true) (hzy : z.cls = y.cls) (hy : y.cls ≠ "java/lang/invoke/MethodHandle" ∧ y.cls ≠ "java/lang/invoke/VarHandle") : (Cond.selects C y y).before args s = true := by
  obtain ⟨mk, methM, hnamed, hmethM, -, -⟩ := Cond.instanceMethod_spec hi
  have hfound : s.methodFound? y.cls y.name y.desc = some mk := State.methodFound?_of_named hnamed hy
  obtain ⟨c2, r2, m2, -, -, q3, -, kP, hkP, hkPi⟩ := Cond.selects_spec hz
  have e : m2.cls = mk.cls := by
    have h1 := findClass_of_methodNamed q3
    have h2 := findClass_of_methodNamed hnamed
    rw [hzy] at h1
    exact Option.some.inj (h1.symm.trans h2)
  rw [e] at hkP
  have hsel : selectMethod {} s.vm c mk = .method mk := selectMethod_private hmethM (Cond.privateMethod_at hp mk methM hnamed hmethM)
  simp only [Cond.before, Cond.holds, Cond.value, hc, hfound, hnamed, hsel, hkP]
  simp; exact hkPi
section NR3
variable {p : Program} {l : Launch} {e : Env} {R : Room} {s : State} {m : MethodId} {args : Array Value} {below : List Frame} {meth : Method} {c : Code} {H : Heap} {locs : List Loc} {cells slots : Nat} {Q : State → Prop} {cc : ByteArray} {nL pc : Nat} {ls : Array Slot} {rest st0 : List Value} {own : String} {G : nG}
variable {y : MethodName} {bytes : ByteArray} {maxL fr mc ms lo : Nat} {ret : Option FieldType} {Pc : Array Value → State → Prop} {Qc : Array Value → State → Outcome → State → Prop} {free : Addr → Prop} {index : Nat} {b : Addr} {As : List Value}
theorem nr_P {C : String} {z : MethodName} (hx : p.tables.exec = Jvm.exec) (hb : c.code = cc) (hml : c.maxLocals = nL) (hown : s.vm.findClass own = some m.cls) (hts : ∀ w ∈ lw_all, w.before args s = true) (hG : gG G s) (hM : Met l y (ws_ y bytes maxL ret) (nRm fr mc ms lo) Pc Qc mc ms free) (hbl : FrameBlind Pc) (n : Nat)
    (h1 : Cond.methodLink own index y ∈ lw_all) (h2 : Cond.sameMethod y.cls y.cls y.name y.desc ∈ lw_all) (hz : Cond.selects C z z ∈ lw_all) (hzy : z.cls = y.cls) (hpr : Cond.privateMethod y ∈ lw_tbl) (h3 : Cond.instanceMethod y ∈ lw_all) (h4 : Cond.initialized y.cls ∈ lw_all) (h5 : Cond.code y bytes maxL ret ∈ lw_all)
    (hd : y.cls ≠ "java/lang/invoke/MethodHandle" ∧ y.cls ≠ "java/lang/invoke/VarHandle" ∧ (parseMethodDescriptor y.desc).map (fun d => d.parameters.length) = some n)
    (hro : nRo R fr maxL lo mc ms cells slots) (hrecv : ∃ cellB : Cell, H[b]? = some cellB ∧ cellB.vm.isStatics = false ∧ s.vm.findClass C = some cellB.cls) (hPc : ∀ U : State, U.heap = H → s.WarmedH U.vm → Pc (Value.ref b :: As).toArray U)
    (hn : As.length = n) (hsize : ls.size = nL) (hst : st0 = As.reverse ++ .ref b :: rest) (hW : (rest.map fun v => v.category).sum ≤ 8) (hdg : decode cc pc = .ok (.invokevirtual index, 3)) :
    nRun 3 p l e R s m args below meth c H locs cells slots mc ms (F0 m pc ls st0) rest (Qc (Value.ref b :: As).toArray) free := by
  obtain ⟨cellB, -, -, hcB⟩ := id hrecv
  have hsel := sel_priv (args := args) hcB (va_Nw.use rfl (hG.2.1 _ hpr rfl)) (hts _ h3) (hts _ hz) hzy ⟨hd.1, hd.2.1⟩
  refine va_runU (x := y) (owner := y.cls) (g := F0 m pc ls st0) ⟨hx, hb, hml, hown, hts⟩ hM ⟨⟨rfl, rfl, hro.1.1, hro.1.2, pay_in hts (lw_meth h5), List.mem_cons_self⟩, hts _ h5, hts _ h4, ⟨hd.1, hd.2.1⟩, fun sig h => ?_, hts _ h1, hts _ h2, va_Decl.of (hts _ h3) (hts _ h5), hsel, hts _ h3⟩ ⟨hbl, hrecv, hPc⟩ rfl hn hsize hst (lv_room hW) hdg hro.2
  have q2 := hd.2.2
  rw [h] at q2
  exact (Option.some.inj q2).symm
end NR3
