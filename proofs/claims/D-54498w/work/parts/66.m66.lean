section NR4
variable {p : Program} {l : Launch} {e : Env} {R : Room} {s : State} {m : MethodId} {args : Array Value} {below : List Frame} {meth : Method} {c : Code} {H : Heap} {locs : List Loc} {cells slots : Nat} {Q : State → Prop} {cc : ByteArray} {nL pc : Nat} {ls : Array Slot} {rest st0 : List Value} {own : String} {G : nG} {A : Nat → Prop} {wc fz rc ws wc' : va_W} {a index : Nat}
/-- System.arraycopy among own byte arrays -/
theorem r_copyb (hx : p.tables.exec = Jvm.exec) (hb : c.code = cc) (hml : c.maxLocals = nL) (hsz : ls.size = nL) (hown : s.vm.findClass own = some m.cls) (hts : ∀ w ∈ lw_all, w.before args s = true) (hlink : Cond.methodLink own index arraycopyName ∈ lw_all) (hnat : Cond.native arraycopyName ∈ lw_all) (hstat : Cond.static arraycopyName ∈ lw_all) (hini : Cond.initialized "java/lang/System" ∈ lw_all) (hG : gG G s) (Z : nW G A wc fz rc s.heap H locs) (q0 q1 : Nat) {a0 : Nat} {n0 n1 : Nat} {f g : Nat → Int32}
    (ha0 : wc[q0]? = some (a0, .inl (G.1.1 101, n0, .inl f))) (ha1 : wc[q1]? = some (a, .inl (G.1.1 101, n1, .inl g)))
    {sp dp n : Nat} (h4 : sp + n ≤ n0) (h5 : dp + n ≤ n1) (hs0 : n0 < 2 ^ 31) (hs1 : n1 < 2 ^ 31) (hfit : ∀ i, fits .byte (.int (f i)) = true)
    (hframes : 1 ≤ R.frames) (hlocals : (rest.map fun v => v.category).sum + (nativeFrameWords "java/lang/System" "arraycopy" 5 + 11) ≤ R.locals) (hw : wc.set q1 (a, .inl (G.1.1 101, n1, .inl (va_cpy f g sp dp n))) = wc') (hdg : decode cc pc = .ok (.invokestatic index, 3))
    (kk : ∀ (H1 : Heap) (locs1 : List Loc), nW G A wc' fz rc s.heap H1 locs1 → W p l e R s m args below meth c H1 locs1 cells slots Q (F0 m (pc + 3) ls rest)) : W p l e R s m args below meth c H locs cells slots Q (F0 m pc ls (.int (nI n) :: .int (nI dp) :: .ref a :: .int (nI sp) :: .ref a0 :: rest)) := by
  have e1 : (nI sp).toNatClampNeg = sp := nI_clamp (by omega)
  have e2 : (nI dp).toNatClampNeg = dp := nI_clamp (by omega)
  have e3 : (nI n).toNatClampNeg = n := nI_clamp (by omega)
  refine va_copyi hx hb (hml.trans hsz.symm) hown (hts _ hlink) (hts _ hnat) (hts _ hstat) (hts _ hini) hG.1 Z.1 Z.2.1 Z.2.2.1 q0 q1 1 1 (n_get ha0) (n_get ha1) rfl rfl rfl (nI_pos (by omega)) (nI_pos (by omega)) (nI_pos (by omega)) (by rw [e1, e3]; exact h4) (by rw [e2, e3]; exact h5) (fun i _ => hfit _) hframes hlocals hdg (fun H1 locs1 h1 h2 h3 => ?_)
  rw [e1, e2, e3, n_set ha1, hw] at h1 h2
  exact kk H1 locs1 (Z.upd h1 h2 h3)
end NR4
set_option maxHeartbeats 4000000 in
set_option maxRecDepth 100000 in
theorem J9_nl2 (l : Launch) (G : nG) (n : Nat) (a_ : Nat) (g : Nat) (h1 : a_ ≤ g) (h0 : 1 ≤ g) (h2 : n + g < 2147483639) : nSi l yJ9_newLength cJ9_newLength 4 (.int) 1 24 G [.int (nI n), .int (nI a_), .int (nI g)] ([]) (fun r : Int32 => r = (nI (n + g))) := by
  refine nSi.of (own := "jdk/internal/util/ArraysSupport") rfl (by decide +kernel) (Nat.le_of_ble_eq_true rfl) (fun _ _ => rfl) ?_
  intro p e s m args below meth c Q ls hx hb hml hown hts hG hP hl ret
  have hl : lv_has ls 4 [(0, .int (nI n)), (1, .int (nI a_)), (2, .int (nI g))] := hl
  refine lv_iload_n hx hb dJ9_newLength_0 rfl (lv_at hl 0 rfl) ?_
  refine lv_iload_n hx hb dJ9_newLength_1 rfl (lv_at hl 1 rfl) ?_
  refine lv_iload_n hx hb dJ9_newLength_2 rfl (lv_at hl 2 rfl) ?_
  refine va_mmax hx hb (hml.trans hl.1.symm) hown (hts _ q251) (hts _ q252) (hts _ q59) (hts _ q253) (Nat.le_of_ble_eq_true rfl) (Nat.le_of_ble_eq_true rfl) (by show _ ≤ 0; omega) (by show _ ≤ 0; omega) dJ9_newLength_3 ?_
  refine r_as (z := nI g) (by show (if nI a_ < nI g then nI g else nI a_) = nI g; by_cases h : a_ < g; { rw [if_pos ((nI_ltI (by omega) (by omega)).mpr h)] }; { rw [if_neg (fun q => h ((nI_ltI (by omega) (by omega)).mp q))]; congr 1; omega }) ?_
  refine lv_iadd hx hb dJ9_newLength_6 ?_
  refine r_as (z := nI (n + g)) (nI_add _ _) ?_
  refine lv_istore_n (lv' := [(3, .int (nI (n + g))), (0, .int (nI n)), (1, .int (nI a_)), (2, .int (nI g))]) hx hb dJ9_newLength_7 rfl hl (by decide) rfl (fun ls hl => ?_)
  refine lv_iconst (v := nI 0) hx hb dJ9_newLength_8 rfl ?_
  refine lv_iload_n hx hb dJ9_newLength_9 rfl (lv_at hl 0 rfl) ?_
  refine lv_icmp_ge (tgt := 21) hx hb dJ9_newLength_10 (by decide) (fun c10 => ?_) (fun c10 => ?_)
  · skip
    have c10 := n_le_t (a := n + g) (b := 0) c10 (by omega) (by decide)
    exfalso; omega
  · skip
    have c10 := n_le_f (a := n + g) (b := 0) c10 (by omega) (by decide)
    refine lv_iload_n hx hb dJ9_newLength_13 rfl (lv_at hl 0 rfl) ?_
    refine lv_ldc hx hb hown (hts _ q254) dJ9_newLength_14 ?_
    refine r_as (z := nI 2147483639) rfl ?_
    refine lv_icmp_gt (tgt := 21) hx hb dJ9_newLength_16 (by decide) (fun c16 => ?_) (fun c16 => ?_)
    · skip
      have c16 := n_lt_t (a := 2147483639) (b := n + g) c16 (by decide) (by omega)
      exfalso; omega
    · skip
      have c16 := n_lt_f (a := 2147483639) (b := n + g) c16 (by decide) (by omega)
      refine lv_iload_n hx hb dJ9_newLength_19 rfl (lv_at hl 0 rfl) ?_
      exact ret (nI (n + g)) dJ9_newLength_20 (by first | rfl | assumption | omega | simp_all)
set_option maxHeartbeats 4000000 in
set_option maxRecDepth 100000 in
theorem J11_cb (l : Launch) (G : nG) (va : Nat) (mm : Nat) (g : Nat → Int32) (n : Nat) (hft : ∀ i, fits .byte (.int (g i)) = true) (hn : mm < n) (hn2 : n ≤ 400) : nMq (S := Nat) l yJ11_copyOf_3 cJ11_copyOf_3 3 ((.array .byte)) 2 1 n 90 G [.ref va, .int (nI n)] ([(va, .inl (G.1.1 101, mm, .inl g))]) ([]) (fun (u : Nat) => [(va, .inl (G.1.1 101, mm, .inl g)), (u, .inl (G.1.1 101, n, .inl (va_cpy g (fun _ => 0) 0 0 mm)))]) (fun (r : Option Nat) (u : Nat) => r = (some u)) := by
  refine nMq.of (own := "java/util/Arrays") rfl (by decide +kernel) (Nat.le_of_ble_eq_true rfl) (Or.inr ⟨_, rfl⟩) ?_
  intro p e s m args below meth c A Q ls hx hb hml hown hts hin hG Z hl ret
  have hl : lv_has ls 3 [(0, .ref va), (1, .int (nI n))] := hl
  have Z : nW G A ([(va, .inl (G.1.1 101, mm, .inl g))]) ([]) ([]) s.heap _ _ := Z
  refine lv_iload_n hx hb dJ11_copyOf_3_0 rfl (lv_at hl 1 rfl) ?_
  refine lv_aload_n hx hb dJ11_copyOf_3_1 rfl (lv_at hl 0 rfl) ?_
  refine r_alen hx hb hG Z.w 0 1 rfl rfl dJ11_copyOf_3_2 ?_
  refine lv_icmp_ne (tgt := 14) hx hb dJ11_copyOf_3_3 (by decide) (fun c3 => ?_) (fun c3 => ?_)
  · skip
    have c3 := n_eq_f (a := n) (b := mm) c3
    refine lv_iload_n hx hb dJ11_copyOf_3_14 rfl (lv_at hl 1 rfl) ?_
    refine r_newb hx hb hts q149 hG Z (by omega) (Nat.le_of_ble_eq_true rfl) (by show _ ≤ n; omega) dJ11_copyOf_3_15 (fun v1 H Z => ?_)
    have Z : nW G A ([(va, .inl (G.1.1 101, mm, .inl g)), (v1, .inl (G.1.1 101, n, .inl (fun _ => 0)))]) ([]) ([]) s.heap _ _ := Z
    refine lv_astore_n (lv' := [(2, .ref v1), (0, .ref va), (1, .int (nI n))]) hx hb dJ11_copyOf_3_17 rfl hl (by decide) rfl (fun ls hl => ?_)
    refine lv_aload_n hx hb dJ11_copyOf_3_18 rfl (lv_at hl 1 rfl) ?_
    refine lv_iconst (v := nI 0) hx hb dJ11_copyOf_3_19 rfl ?_
    refine lv_aload_n hx hb dJ11_copyOf_3_20 rfl (lv_at hl 0 rfl) ?_
    refine lv_iconst (v := nI 0) hx hb dJ11_copyOf_3_21 rfl ?_
    refine lv_aload_n hx hb dJ11_copyOf_3_22 rfl (lv_at hl 1 rfl) ?_
    refine r_alen hx hb hG Z.w 0 1 rfl rfl dJ11_copyOf_3_23 ?_
    refine lv_iload_n hx hb dJ11_copyOf_3_24 rfl (lv_at hl 2 rfl) ?_
    refine va_mmin hx hb (hml.trans hl.1.symm) hown (hts _ q280) (hts _ q281) (hts _ q59) (hts _ q282) (Nat.le_of_ble_eq_true rfl) (Nat.le_of_ble_eq_true rfl) (by show _ ≤ 1; omega) (by show _ ≤ n; omega) dJ11_copyOf_3_25 ?_
    refine r_as (z := nI mm) (by show (if nI n < nI mm then nI n else nI mm) = nI mm; rw [if_neg (fun q => by have := (nI_ltI (by omega) (by omega)).mp q; omega)]) ?_
    refine r_copyb hx hb hml hl.1 hown hts q283 q285 q284 q61 hG Z 0 1 rfl rfl (sp := 0) (dp := 0) (n := mm) (by omega) (by omega) (by omega) (by omega) hft (Nat.le_of_ble_eq_true rfl) (Nat.le_of_ble_eq_true rfl) (wc' := [(va, .inl (G.1.1 101, mm, .inl g)), (v1, .inl (G.1.1 101, n, .inl (va_cpy g (fun _ => 0) 0 0 mm)))]) rfl dJ11_copyOf_3_28 (fun H locs Z => ?_)
    refine lv_aload_n hx hb dJ11_copyOf_3_31 rfl (lv_at hl 0 rfl) ?_
    exact ret (some v1) v1 dJ11_copyOf_3_32 rfl Z (Nat.le_of_ble_eq_true rfl) (by omega)
  · skip
    have c3 := n_eq_t (a := n) (b := mm) c3 (by omega) (by omega)
    exfalso; omega
set_option maxHeartbeats 4000000 in
set_option maxRecDepth 100000 in
theorem J3_nc (l : Launch) (G : nG) (sb : Nat) (va : Nat) (co : Nat) (ml : Int32) (T : List Nat) (k : Nat) (mm : Nat) (g : Nat → Int32) (hsb : sbI T co k mm g) (hk79 : k ≤ 79) : nSi l yJ3_newCapacity cJ3_newCapacity 6 (.int) 2 47 G [.ref sb, .int (nI (k + 1))] ([(sb, .inr (7, [.ref va, .int (nI co), .int ml, .int (nI T.length)])), (va, .inl (G.1.1 101, mm, .inl g))]) (fun r : Int32 => r = (nI (2 * k + 2))) := by
  refine nSi.of (own := "java/lang/AbstractStringBuilder") rfl (by decide +kernel) (Nat.le_of_ble_eq_true rfl) (fun _ _ => rfl) ?_
  intro p e s m args below meth c Q ls hx hb hml hown hts hG hP hl ret
  have hl : lv_has ls 6 [(0, .ref sb), (1, .int (nI (k + 1)))] := hl
  obtain ⟨hk, hlk, hc6, hft, ⟨rfl, rfl, hg⟩ | ⟨rfl, rfl, hg⟩⟩ := hsb
  · skip
    refine lv_aload_n hx hb dJ3_newCapacity_0 rfl (lv_at hl 0 rfl) ?_
    refine r_get (v := .ref va) hx hb hts in_J4 hown hG hP 0 rfl rfl 0 (by decide) q136 (fun _ h9 => h9) rfl dJ3_newCapacity_1 ?_
    refine r_alen hx hb hG hP 1 1 rfl rfl dJ3_newCapacity_4 ?_
    refine lv_istore_n (lv' := [(2, .int (nI mm)), (0, .ref sb), (1, .int (nI (mm + 1)))]) hx hb dJ3_newCapacity_5 rfl hl (by decide) rfl (fun ls hl => ?_)
    refine lv_iload_n hx hb dJ3_newCapacity_6 rfl (lv_at hl 2 rfl) ?_
    refine lv_aload_n hx hb dJ3_newCapacity_7 rfl (lv_at hl 1 rfl) ?_
    refine r_get (v := .int (nI 0)) hx hb hts in_J4 hown hG hP 0 rfl rfl 1 (by decide) q137 (fun _ h9 => h9) rfl dJ3_newCapacity_8 ?_
    refine lv_ishl hx hb dJ3_newCapacity_11 ?_
    refine r_as (z := nI (mm + 1)) (shl_0 (by omega)) ?_
    refine lv_istore_n (lv' := [(3, .int (nI (mm + 1))), (2, .int (nI mm)), (0, .ref sb), (1, .int (nI (mm + 1)))]) hx hb dJ3_newCapacity_12 rfl hl (by decide) rfl (fun ls hl => ?_)
    refine lv_iload_n hx hb dJ3_newCapacity_13 rfl (lv_at hl 0 rfl) ?_
    refine lv_iload_n hx hb dJ3_newCapacity_14 rfl (lv_at hl 1 rfl) ?_
    refine lv_isub hx hb dJ3_newCapacity_15 ?_
    refine r_as (z := nI ((mm + 1) - mm)) (pk_sub (by omega)) ?_
    refine lv_istore (lv' := [(4, .int (nI ((mm + 1) - mm))), (3, .int (nI (mm + 1))), (2, .int (nI mm)), (0, .ref sb), (1, .int (nI (mm + 1)))]) hx hb dJ3_newCapacity_16 hl (by decide) rfl (fun ls hl => ?_)
    refine lv_iload_n hx hb dJ3_newCapacity_18 rfl (lv_at hl 2 rfl) ?_
    refine lv_iload hx hb dJ3_newCapacity_19 (lv_at hl 0 rfl) ?_
    refine lv_iload_n hx hb dJ3_newCapacity_21 rfl (lv_at hl 2 rfl) ?_
    refine lv_iconst (v := nI 2) hx hb dJ3_newCapacity_22 rfl ?_
    refine lv_aload_n hx hb dJ3_newCapacity_23 rfl (lv_at hl 3 rfl) ?_
    refine r_get (v := .int (nI 0)) hx hb hts in_J4 hown hG hP 0 rfl rfl 1 (by decide) q137 (fun _ h9 => h9) rfl dJ3_newCapacity_24 ?_
    refine lv_ishl hx hb dJ3_newCapacity_27 ?_
    refine r_as (z := nI 2) (shl_0 (by omega)) ?_
    refine lv_iadd hx hb dJ3_newCapacity_28 ?_
    refine r_as (z := nI (mm + 2)) (nI_add _ _) ?_
    refine ns_i (k := 3) (nr_S (As := [.int (nI mm), .int (nI ((mm + 1) - mm)), .int (nI (mm + 2))]) (rest := []) hx hb hml hown hts (J9_nl2 l G mm ((mm + 1) - mm) (mm + 2) (by first | assumption | omega | rfl) (by first | assumption | omega | rfl) (by first | assumption | omega | rfl)) nPs.blind 3 q630 q249 q58 q250 (by decide +kernel) ⟨⟨Nat.le_of_ble_eq_true rfl, Nat.le_of_ble_eq_true rfl⟩, Nat.le_of_ble_eq_true rfl, Nat.le_of_ble_eq_true rfl⟩ (nPs_of0 hG va_P.m0) rfl hl.1 rfl (Nat.le_of_ble_eq_true rfl) dJ3_newCapacity_29) (fun r29 hp29 => ?_)
    have he29 := hp29
    have he29 : r29 = nI (mm + (mm + 2)) := he29
    subst he29
    refine lv_istore (lv' := [(5, .int (nI (mm + (mm + 2)))), (4, .int (nI ((mm + 1) - mm))), (3, .int (nI (mm + 1))), (2, .int (nI mm)), (0, .ref sb), (1, .int (nI (mm + 1)))]) hx hb dJ3_newCapacity_32 hl (by decide) rfl (fun ls hl => ?_)
    refine lv_iload hx hb dJ3_newCapacity_34 (lv_at hl 0 rfl) ?_
    refine lv_ldc hx hb hown (hts _ q631) dJ3_newCapacity_36 ?_
    refine r_as (z := nI 2147483647) rfl ?_
    refine lv_icmp_ne (tgt := 51) hx hb dJ3_newCapacity_38 (by decide) (fun c38 => ?_) (fun c38 => ?_)
    · skip
      have c38 := n_eq_f (a := mm + (mm + 2)) (b := 2147483647) c38
      refine lv_iload hx hb dJ3_newCapacity_51 (lv_at hl 0 rfl) ?_
      refine lv_aload_n hx hb dJ3_newCapacity_53 rfl (lv_at hl 4 rfl) ?_
      refine r_get (v := .int (nI 0)) hx hb hts in_J4 hown hG hP 0 rfl rfl 1 (by decide) q137 (fun _ h9 => h9) rfl dJ3_newCapacity_54 ?_
      refine lv_ishr hx hb dJ3_newCapacity_57 ?_
      refine r_as (z := nI (2 * mm + 2)) (by rw [shr_0 (by omega)]; congr 1; omega) ?_
      exact ret (nI (2 * mm + 2)) dJ3_newCapacity_58 rfl
    · skip
      have c38 := n_eq_t (a := mm + (mm + 2)) (b := 2147483647) c38 (by omega) (by decide)
      exfalso; omega
  · skip
    refine lv_aload_n hx hb dJ3_newCapacity_0 rfl (lv_at hl 0 rfl) ?_
    refine r_get (v := .ref va) hx hb hts in_J4 hown hG hP 0 rfl rfl 0 (by decide) q136 (fun _ h9 => h9) rfl dJ3_newCapacity_1 ?_
    refine r_alen hx hb hG hP 1 1 rfl rfl dJ3_newCapacity_4 ?_
    refine lv_istore_n (lv' := [(2, .int (nI (2 * k))), (0, .ref sb), (1, .int (nI (k + 1)))]) hx hb dJ3_newCapacity_5 rfl hl (by decide) rfl (fun ls hl => ?_)
    refine lv_iload_n hx hb dJ3_newCapacity_6 rfl (lv_at hl 2 rfl) ?_
    refine lv_aload_n hx hb dJ3_newCapacity_7 rfl (lv_at hl 1 rfl) ?_
    refine r_get (v := .int (nI 1)) hx hb hts in_J4 hown hG hP 0 rfl rfl 1 (by decide) q137 (fun _ h9 => h9) rfl dJ3_newCapacity_8 ?_
    refine lv_ishl hx hb dJ3_newCapacity_11 ?_
    refine r_as (z := nI (2 * (k + 1))) (shl_1 (by omega)) ?_
    refine lv_istore_n (lv' := [(3, .int (nI (2 * (k + 1)))), (2, .int (nI (2 * k))), (0, .ref sb), (1, .int (nI (k + 1)))]) hx hb dJ3_newCapacity_12 rfl hl (by decide) rfl (fun ls hl => ?_)
    refine lv_iload_n hx hb dJ3_newCapacity_13 rfl (lv_at hl 0 rfl) ?_
    refine lv_iload_n hx hb dJ3_newCapacity_14 rfl (lv_at hl 1 rfl) ?_
    refine lv_isub hx hb dJ3_newCapacity_15 ?_
    refine r_as (z := nI ((2 * (k + 1)) - (2 * k))) (pk_sub (by omega)) ?_
    refine lv_istore (lv' := [(4, .int (nI ((2 * (k + 1)) - (2 * k)))), (3, .int (nI (2 * (k + 1)))), (2, .int (nI (2 * k))), (0, .ref sb), (1, .int (nI (k + 1)))]) hx hb dJ3_newCapacity_16 hl (by decide) rfl (fun ls hl => ?_)
    refine lv_iload_n hx hb dJ3_newCapacity_18 rfl (lv_at hl 2 rfl) ?_
    refine lv_iload hx hb dJ3_newCapacity_19 (lv_at hl 0 rfl) ?_
    refine lv_iload_n hx hb dJ3_newCapacity_21 rfl (lv_at hl 2 rfl) ?_
    refine lv_iconst (v := nI 2) hx hb dJ3_newCapacity_22 rfl ?_
    refine lv_aload_n hx hb dJ3_newCapacity_23 rfl (lv_at hl 3 rfl) ?_
    refine r_get (v := .int (nI 1)) hx hb hts in_J4 hown hG hP 0 rfl rfl 1 (by decide) q137 (fun _ h9 => h9) rfl dJ3_newCapacity_24 ?_
    refine lv_ishl hx hb dJ3_newCapacity_27 ?_
    refine r_as (z := nI (2 * 2)) (shl_1 (by omega)) ?_
    refine lv_iadd hx hb dJ3_newCapacity_28 ?_
    refine r_as (z := nI (2 * k + (2 * 2))) (nI_add _ _) ?_
    refine ns_i (k := 3) (nr_S (As := [.int (nI (2 * k)), .int (nI ((2 * (k + 1)) - (2 * k))), .int (nI (2 * k + (2 * 2)))]) (rest := []) hx hb hml hown hts (J9_nl2 l G (2 * k) ((2 * (k + 1)) - (2 * k)) (2 * k + (2 * 2)) (by first | assumption | omega | rfl) (by first | assumption | omega | rfl) (by first | assumption | omega | rfl)) nPs.blind 3 q630 q249 q58 q250 (by decide +kernel) ⟨⟨Nat.le_of_ble_eq_true rfl, Nat.le_of_ble_eq_true rfl⟩, Nat.le_of_ble_eq_true rfl, Nat.le_of_ble_eq_true rfl⟩ (nPs_of0 hG va_P.m0) rfl hl.1 rfl (Nat.le_of_ble_eq_true rfl) dJ3_newCapacity_29) (fun r29 hp29 => ?_)
    have he29 := hp29
    have he29 : r29 = nI ((2 * k) + (2 * k + (2 * 2))) := he29
    subst he29
    refine lv_istore (lv' := [(5, .int (nI ((2 * k) + (2 * k + (2 * 2))))), (4, .int (nI ((2 * (k + 1)) - (2 * k)))), (3, .int (nI (2 * (k + 1)))), (2, .int (nI (2 * k))), (0, .ref sb), (1, .int (nI (k + 1)))]) hx hb dJ3_newCapacity_32 hl (by decide) rfl (fun ls hl => ?_)
    refine lv_iload hx hb dJ3_newCapacity_34 (lv_at hl 0 rfl) ?_
    refine lv_ldc hx hb hown (hts _ q631) dJ3_newCapacity_36 ?_
    refine r_as (z := nI 2147483647) rfl ?_
    refine lv_icmp_ne (tgt := 51) hx hb dJ3_newCapacity_38 (by decide) (fun c38 => ?_) (fun c38 => ?_)
    · skip
      have c38 := n_eq_f (a := (2 * k) + (2 * k + (2 * 2))) (b := 2147483647) c38
      refine lv_iload hx hb dJ3_newCapacity_51 (lv_at hl 0 rfl) ?_
      refine lv_aload_n hx hb dJ3_newCapacity_53 rfl (lv_at hl 4 rfl) ?_
      refine r_get (v := .int (nI 1)) hx hb hts in_J4 hown hG hP 0 rfl rfl 1 (by decide) q137 (fun _ h9 => h9) rfl dJ3_newCapacity_54 ?_
      refine lv_ishr hx hb dJ3_newCapacity_57 ?_
      refine r_as (z := nI (2 * k + 2)) (by rw [sh1 (by omega)]; congr 1; omega) ?_
      exact ret (nI (2 * k + 2)) dJ3_newCapacity_58 rfl
    · skip
      have c38 := n_eq_t (a := (2 * k) + (2 * k + (2 * 2))) (b := 2147483647) c38 (by omega) (by decide)
      exfalso; omega
theorem sb_grow {T : List Nat} {co k mm n1 : Nat} {g : Nat → Int32} (h : sbI T co k mm g) (hk : k ≤ 79) (hn : n1 = if co = 0 then 2 * k + 2 else 2 * (2 * k + 2)) : sbI T co (2 * k + 2) n1 (va_cpy g (fun _ => 0) 0 0 mm) := by
  obtain ⟨h1, h2, h3, h4, h5⟩ := h
  have hg : ∀ i, i < mm → va_cpy g (fun _ => (0 : Int32)) 0 0 mm i = g i := fun i hi => by simp [va_cpy, hi]
  refine ⟨by omega, by omega, h3, fun i => ?_, ?_⟩
  · by_cases e : i < mm
    · rw [hg i e]; exact h4 i
    · have : va_cpy g (fun _ => (0 : Int32)) 0 0 mm i = 0 := by simp [va_cpy, e]
      rw [this]; rfl
  · rcases h5 with ⟨e0, e1, e2⟩ | ⟨e0, e1, e2⟩
    · left
      refine ⟨e0, by rw [hn, if_pos e0], fun i hi => ?_⟩
      rw [hg i (by omega)]; exact e2 i hi
    · right
      refine ⟨e0, by rw [hn, if_neg (by omega)], fun i hi => ?_⟩
      rw [hg _ (by omega), hg _ (by omega)]; exact e2 i hi
set_option maxHeartbeats 4000000 in
set_option maxRecDepth 100000 in
theorem J3_en1 (l : Launch) (G : nG) (sb : Nat) (va : Nat) (co : Nat) (ml : Int32) (T : List Nat) (k : Nat) (mm : Nat) (g : Nat → Int32) (hsb : sbI T co k mm g) (hk79 : k ≤ 79) : nMv (S := Nat × Nat) l yJ3_ensureCapacityInternal cJ3_ensureCapacityInternal 3 3 1 400 112 G [.ref sb, .int (nI (k + 1))] ([(sb, .inr (7, [.ref va, .int (nI co), .int ml, .int (nI T.length)])), (va, .inl (G.1.1 101, mm, .inl g))]) ([]) (fun (u : Nat × Nat) => [(sb, .inr (7, [.ref u.1, .int (nI co), .int ml, .int (nI T.length)])), (u.1, .inl (G.1.1 101, u.2, .inl (va_cpy g (fun _ => 0) 0 0 mm)))]) (fun (u : Nat × Nat) => sbI T co (2 * k + 2) u.2 (va_cpy g (fun _ => 0) 0 0 mm)) := by
  refine nMv.of (own := "java/lang/AbstractStringBuilder") rfl (by decide +kernel) (Nat.le_of_ble_eq_true rfl) ?_
  intro p e s m args below meth c A Q ls hx hb hml hown hts hin hG Z hl ret
  have hl : lv_has ls 3 [(0, .ref sb), (1, .int (nI (k + 1)))] := hl
  have Z : nW G A ([(sb, .inr (7, [.ref va, .int (nI co), .int ml, .int (nI T.length)])), (va, .inl (G.1.1 101, mm, .inl g))]) ([]) ([]) s.heap _ _ := Z
  obtain ⟨hk, hlk, hc6, hft, ⟨rfl, rfl, hg⟩ | ⟨rfl, rfl, hg⟩⟩ := id hsb
  · skip
    refine lv_aload_n hx hb dJ3_ensureCapacityInternal_0 rfl (lv_at hl 0 rfl) ?_
    refine r_get (v := .ref va) hx hb hts in_J4 hown hG Z.w 0 rfl rfl 0 (by decide) q136 (fun _ h9 => h9) rfl dJ3_ensureCapacityInternal_1 ?_
    refine r_alen hx hb hG Z.w 1 1 rfl rfl dJ3_ensureCapacityInternal_4 ?_
    refine lv_aload_n hx hb dJ3_ensureCapacityInternal_5 rfl (lv_at hl 0 rfl) ?_
    refine r_get (v := .int (nI 0)) hx hb hts in_J4 hown hG Z.w 0 rfl rfl 1 (by decide) q137 (fun _ h9 => h9) rfl dJ3_ensureCapacityInternal_6 ?_
    refine lv_ishr hx hb dJ3_ensureCapacityInternal_9 ?_
    refine r_as (z := nI mm) (shr_0 (by omega)) ?_
    refine lv_istore_n (lv' := [(2, .int (nI mm)), (0, .ref sb), (1, .int (nI (mm + 1)))]) hx hb dJ3_ensureCapacityInternal_10 rfl hl (by decide) rfl (fun ls hl => ?_)
    refine lv_iload_n hx hb dJ3_ensureCapacityInternal_11 rfl (lv_at hl 2 rfl) ?_
    refine lv_iload_n hx hb dJ3_ensureCapacityInternal_12 rfl (lv_at hl 0 rfl) ?_
    refine lv_isub hx hb dJ3_ensureCapacityInternal_13 ?_
    refine r_as (z := nI ((mm + 1) - mm)) (pk_sub (by omega)) ?_
    refine lv_if_le (tgt := 38) hx hb dJ3_ensureCapacityInternal_14 (by decide) (fun c14 => ?_) (fun c14 => ?_)
    · skip
      have c14 := n_le_t (a := (mm + 1) - mm) (b := 0) c14 (by omega) (by decide)
      exfalso; omega
    · skip
      have c14 := n_le_f (a := (mm + 1) - mm) (b := 0) c14 (by omega) (by decide)
      refine lv_aload_n hx hb dJ3_ensureCapacityInternal_17 rfl (lv_at hl 1 rfl) ?_
      refine lv_aload_n hx hb dJ3_ensureCapacityInternal_18 rfl (lv_at hl 1 rfl) ?_
      refine r_get (v := .ref va) hx hb hts in_J4 hown hG Z.w 0 rfl rfl 0 (by decide) q136 (fun _ h9 => h9) rfl dJ3_ensureCapacityInternal_19 ?_
      refine lv_aload_n hx hb dJ3_ensureCapacityInternal_22 rfl (lv_at hl 1 rfl) ?_
      refine lv_iload_n hx hb dJ3_ensureCapacityInternal_23 rfl (lv_at hl 2 rfl) ?_
      refine ns_i (k := 3) (nr_P (C := "java/lang/StringBuilder") (z := ⟨"java/lang/AbstractStringBuilder", "isLatin1", "()Z"⟩) (As := [.int (nI (mm + 1))]) (rest := [.ref va, .ref sb]) hx hb hml hown hts hG (J3_nc l G sb va 0 ml T mm mm g hsb (by omega)) nPs.blind 1 q626 q1230 q645 rfl q627 q628 q49 q629 (by decide +kernel) ⟨⟨Nat.le_of_ble_eq_true rfl, Nat.le_of_ble_eq_true rfl⟩, Nat.le_of_ble_eq_true rfl, Nat.le_of_ble_eq_true rfl⟩ (r_recv hG Z.w 0 (C := "java/lang/StringBuilder") rfl rfl rfl) (nPs_of hG Z Z.w) rfl hl.1 rfl (Nat.le_of_ble_eq_true rfl) dJ3_ensureCapacityInternal_24) (fun r24 hp24 => ?_)
      have he24 := hp24
      have he24 : r24 = nI (2 * mm + 2) := he24
      subst he24
      refine lv_aload_n hx hb dJ3_ensureCapacityInternal_27 rfl (lv_at hl 1 rfl) ?_
      refine r_get (v := .int (nI 0)) hx hb hts in_J4 hown hG Z.w 0 rfl rfl 1 (by decide) q137 (fun _ h9 => h9) rfl dJ3_ensureCapacityInternal_28 ?_
      refine lv_ishl hx hb dJ3_ensureCapacityInternal_31 ?_
      refine r_as (z := nI (2 * mm + 2)) (shl_0 (by omega)) ?_
      refine nc_q (k := 3) (wcc := [(va, .inl (G.1.1 101, mm, .inl g))]) (wr := [(sb, .inr (7, [.ref va, .int (nI 0), .int ml, .int (nI T.length)]))]) (nr_S (As := [.ref va, .int (nI (2 * mm + 2))]) (rest := [.ref sb]) hx hb hml hown hts ((J11_cb l G va mm g (2 * mm + 2) hft (by omega) (by omega)) _) nP.blind 2 q632 q633 q60 q634 (by decide +kernel) ⟨⟨Nat.le_of_ble_eq_true rfl, Nat.le_of_ble_eq_true rfl⟩, Nat.le_of_ble_eq_true rfl, (by show _ ≤ 400; omega)⟩ (nP_of hG Z [1] rfl (by decide) va_P.m0 nAp.nil) rfl hl.1 rfl (Nat.le_of_ble_eq_true rfl) dJ3_ensureCapacityInternal_32) Z [1] [0] rfl rfl (by decide) (by decide) (fun r32 u H locs hp32 Z => ?_)
      obtain ⟨v1_32, rfl⟩ : ∃ z, z = u := ⟨_, rfl⟩
      have he32 := hp32
      have he32 : r32 = some v1_32 := he32
      subst he32
      have Z : nW G A ([(sb, .inr (7, [.ref va, .int (nI 0), .int ml, .int (nI T.length)])), (va, .inl (G.1.1 101, mm, .inl g)), (v1_32, .inl (G.1.1 101, 2 * mm + 2, .inl (va_cpy g (fun _ => 0) 0 0 mm)))]) ([]) ([]) s.heap _ _ := Z
      refine r_put (ty := .array .byte) hx hb hts in_J4 tyJ4 tyJ4_ok nmJ4 hown hG Z 0 rfl rfl 0 (by decide) q136 (fun _ h9 => h9) rfl (by decide +kernel) rfl rfl (Nat.le_of_ble_eq_true rfl) (wc' := [(sb, .inr (7, [.ref v1_32, .int (nI 0), .int ml, .int (nI T.length)])), (va, .inl (G.1.1 101, mm, .inl g)), (v1_32, .inl (G.1.1 101, 2 * mm + 2, .inl (va_cpy g (fun _ => 0) 0 0 mm)))]) rfl dJ3_ensureCapacityInternal_35 (fun H locs Z => ?_)
      exact ret (v1_32, 2 * mm + 2) dJ3_ensureCapacityInternal_38 (sb_grow hsb (by omega) (by first | (rw [if_pos rfl]; done) | (rw [if_neg (by decide)]))) (Z.perm _ [0, 2] (by decide) rfl) (Nat.le_of_ble_eq_true rfl) (by omega)
  · skip
    refine lv_aload_n hx hb dJ3_ensureCapacityInternal_0 rfl (lv_at hl 0 rfl) ?_
    refine r_get (v := .ref va) hx hb hts in_J4 hown hG Z.w 0 rfl rfl 0 (by decide) q136 (fun _ h9 => h9) rfl dJ3_ensureCapacityInternal_1 ?_
    refine r_alen hx hb hG Z.w 1 1 rfl rfl dJ3_ensureCapacityInternal_4 ?_
    refine lv_aload_n hx hb dJ3_ensureCapacityInternal_5 rfl (lv_at hl 0 rfl) ?_
    refine r_get (v := .int (nI 1)) hx hb hts in_J4 hown hG Z.w 0 rfl rfl 1 (by decide) q137 (fun _ h9 => h9) rfl dJ3_ensureCapacityInternal_6 ?_
    refine lv_ishr hx hb dJ3_ensureCapacityInternal_9 ?_
    refine r_as (z := nI k) (by rw [sh1 (by omega)]; congr 1; omega) ?_
    refine lv_istore_n (lv' := [(2, .int (nI k)), (0, .ref sb), (1, .int (nI (k + 1)))]) hx hb dJ3_ensureCapacityInternal_10 rfl hl (by decide) rfl (fun ls hl => ?_)
    refine lv_iload_n hx hb dJ3_ensureCapacityInternal_11 rfl (lv_at hl 2 rfl) ?_
    refine lv_iload_n hx hb dJ3_ensureCapacityInternal_12 rfl (lv_at hl 0 rfl) ?_
    refine lv_isub hx hb dJ3_ensureCapacityInternal_13 ?_
    refine r_as (z := nI ((k + 1) - k)) (pk_sub (by omega)) ?_
    refine lv_if_le (tgt := 38) hx hb dJ3_ensureCapacityInternal_14 (by decide) (fun c14 => ?_) (fun c14 => ?_)
    · skip
      have c14 := n_le_t (a := (k + 1) - k) (b := 0) c14 (by omega) (by decide)
      exfalso; omega
    · skip
      have c14 := n_le_f (a := (k + 1) - k) (b := 0) c14 (by omega) (by decide)
      refine lv_aload_n hx hb dJ3_ensureCapacityInternal_17 rfl (lv_at hl 1 rfl) ?_
      refine lv_aload_n hx hb dJ3_ensureCapacityInternal_18 rfl (lv_at hl 1 rfl) ?_
      refine r_get (v := .ref va) hx hb hts in_J4 hown hG Z.w 0 rfl rfl 0 (by decide) q136 (fun _ h9 => h9) rfl dJ3_ensureCapacityInternal_19 ?_
      refine lv_aload_n hx hb dJ3_ensureCapacityInternal_22 rfl (lv_at hl 1 rfl) ?_
      refine lv_iload_n hx hb dJ3_ensureCapacityInternal_23 rfl (lv_at hl 2 rfl) ?_
      refine ns_i (k := 3) (nr_P (C := "java/lang/StringBuilder") (z := ⟨"java/lang/AbstractStringBuilder", "isLatin1", "()Z"⟩) (As := [.int (nI (k + 1))]) (rest := [.ref va, .ref sb]) hx hb hml hown hts hG (J3_nc l G sb va 1 ml T k (2 * k) g hsb (by omega)) nPs.blind 1 q626 q1230 q645 rfl q627 q628 q49 q629 (by decide +kernel) ⟨⟨Nat.le_of_ble_eq_true rfl, Nat.le_of_ble_eq_true rfl⟩, Nat.le_of_ble_eq_true rfl, Nat.le_of_ble_eq_true rfl⟩ (r_recv hG Z.w 0 (C := "java/lang/StringBuilder") rfl rfl rfl) (nPs_of hG Z Z.w) rfl hl.1 rfl (Nat.le_of_ble_eq_true rfl) dJ3_ensureCapacityInternal_24) (fun r24 hp24 => ?_)
      have he24 := hp24
      have he24 : r24 = nI (2 * k + 2) := he24
      subst he24
      refine lv_aload_n hx hb dJ3_ensureCapacityInternal_27 rfl (lv_at hl 1 rfl) ?_
      refine r_get (v := .int (nI 1)) hx hb hts in_J4 hown hG Z.w 0 rfl rfl 1 (by decide) q137 (fun _ h9 => h9) rfl dJ3_ensureCapacityInternal_28 ?_
      refine lv_ishl hx hb dJ3_ensureCapacityInternal_31 ?_
      refine r_as (z := nI (2 * (2 * k + 2))) (shl_1 (by omega)) ?_
      refine nc_q (k := 3) (wcc := [(va, .inl (G.1.1 101, 2 * k, .inl g))]) (wr := [(sb, .inr (7, [.ref va, .int (nI 1), .int ml, .int (nI T.length)]))]) (nr_S (As := [.ref va, .int (nI (2 * (2 * k + 2)))]) (rest := [.ref sb]) hx hb hml hown hts ((J11_cb l G va (2 * k) g (2 * (2 * k + 2)) hft (by omega) (by omega)) _) nP.blind 2 q632 q633 q60 q634 (by decide +kernel) ⟨⟨Nat.le_of_ble_eq_true rfl, Nat.le_of_ble_eq_true rfl⟩, Nat.le_of_ble_eq_true rfl, (by show _ ≤ 400; omega)⟩ (nP_of hG Z [1] rfl (by decide) va_P.m0 nAp.nil) rfl hl.1 rfl (Nat.le_of_ble_eq_true rfl) dJ3_ensureCapacityInternal_32) Z [1] [0] rfl rfl (by decide) (by decide) (fun r32 u H locs hp32 Z => ?_)
      obtain ⟨v1_32, rfl⟩ : ∃ z, z = u := ⟨_, rfl⟩
      have he32 := hp32
      have he32 : r32 = some v1_32 := he32
      subst he32
      have Z : nW G A ([(sb, .inr (7, [.ref va, .int (nI 1), .int ml, .int (nI T.length)])), (va, .inl (G.1.1 101, 2 * k, .inl g)), (v1_32, .inl (G.1.1 101, 2 * (2 * k + 2), .inl (va_cpy g (fun _ => 0) 0 0 (2 * k))))]) ([]) ([]) s.heap _ _ := Z
      refine r_put (ty := .array .byte) hx hb hts in_J4 tyJ4 tyJ4_ok nmJ4 hown hG Z 0 rfl rfl 0 (by decide) q136 (fun _ h9 => h9) rfl (by decide +kernel) rfl rfl (Nat.le_of_ble_eq_true rfl) (wc' := [(sb, .inr (7, [.ref v1_32, .int (nI 1), .int ml, .int (nI T.length)])), (va, .inl (G.1.1 101, 2 * k, .inl g)), (v1_32, .inl (G.1.1 101, 2 * (2 * k + 2), .inl (va_cpy g (fun _ => 0) 0 0 (2 * k))))]) rfl dJ3_ensureCapacityInternal_35 (fun H locs Z => ?_)
      exact ret (v1_32, 2 * (2 * k + 2)) dJ3_ensureCapacityInternal_38 (sb_grow hsb (by omega) (by first | (rw [if_pos rfl]; done) | (rw [if_neg (by decide)]))) (Z.perm _ [0, 2] (by decide) rfl) (Nat.le_of_ble_eq_true rfl) (by omega)
