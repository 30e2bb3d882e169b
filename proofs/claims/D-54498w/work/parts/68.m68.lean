set_option maxHeartbeats 4000000 in
set_option maxRecDepth 100000 in
theorem J12_in (l : Launch) (G : nG) (va : Nat) (mm : Nat) (g : Nat → Int32) (v1 : Nat) (n1 : Nat) (g1 : Nat → Int32) (T : List Nat) (hl_ : T.length ≤ mm) (hm : mm ≤ 400) (hn1 : T.length ≤ n1 / 2) (hn2 : n1 ≤ 400) (hg : ∀ i, i < T.length → tC T i < 256 ∧ g i = sb_b (tC T i)) (hf1 : ∀ i, fits .byte (.int (g1 i)) = true) : nMv (S := (Nat → Int32)) l yJ12_inflate cJ12_inflate 5 4 0 0 92 G [.ref va, .int (nI 0), .ref v1, .int (nI 0), .int (nI T.length)] ([(va, .inl (G.1.1 101, mm, .inl g)), (v1, .inl (G.1.1 101, n1, .inl g1))]) ([]) (fun (u : (Nat → Int32)) => [(va, .inl (G.1.1 101, mm, .inl g)), (v1, .inl (G.1.1 101, n1, .inl u))]) (fun (u : (Nat → Int32)) => (∀ v_, v_ < T.length → u (2 * v_) = cLo (tC T v_) ∧ u (2 * v_ + 1) = cHi (tC T v_)) ∧ ∀ v_, fits .byte (.int (u v_)) = true) := by
  refine nMv.of (own := "java/lang/StringLatin1") rfl (by decide +kernel) (Nat.le_of_ble_eq_true rfl) ?_
  intro p e s m args below meth c A Q ls hx hb hml hown hts hin hG Z hl ret
  have hl : lv_has ls 5 [(0, .ref va), (1, .int (nI 0)), (2, .ref v1), (3, .int (nI 0)), (4, .int (nI T.length))] := hl
  have Z : nW G A ([(va, .inl (G.1.1 101, mm, .inl g)), (v1, .inl (G.1.1 101, n1, .inl g1))]) ([]) ([]) s.heap _ _ := Z
  refine lv_aload_n hx hb dJ12_inflate_0 rfl (lv_at hl 0 rfl) ?_
  refine lv_iload_n hx hb dJ12_inflate_1 rfl (lv_at hl 1 rfl) ?_
  refine lv_aload_n hx hb dJ12_inflate_2 rfl (lv_at hl 2 rfl) ?_
  refine lv_iload_n hx hb dJ12_inflate_3 rfl (lv_at hl 3 rfl) ?_
  refine lv_iload hx hb dJ12_inflate_4 (lv_at hl 4 rfl) ?_
  refine nc_v (k := 3) (wcc := [(va, .inl (G.1.1 101, mm, .inl g)), (v1, .inl (G.1.1 101, n1, .inl g1))]) (wr := []) (nr_S (As := [.ref va, .int (nI 0), .ref v1, .int (nI 0), .int (nI T.length)]) (rest := []) hx hb hml hown hts ((J6_in l G va mm g v1 n1 g1 T (by first | assumption | omega | rfl) (by first | assumption | omega | rfl) (by first | assumption | omega | rfl) (by first | assumption | omega | rfl) (by first | assumption | omega | rfl) (by first | assumption | omega | rfl)) _) nP.blind 5 q657 q658 q52 q659 (by decide +kernel) ⟨⟨Nat.le_of_ble_eq_true rfl, Nat.le_of_ble_eq_true rfl⟩, Nat.le_of_ble_eq_true rfl, Nat.le_of_ble_eq_true rfl⟩ (nP_of hG Z [0, 1] rfl (by decide) va_P.m0 nAp.nil) rfl hl.1 rfl (Nat.le_of_ble_eq_true rfl) dJ12_inflate_6) Z [0, 1] [] rfl rfl (by decide) (by decide) (fun u H locs hp6 Z => ?_)
  obtain ⟨g2_6, rfl⟩ : ∃ z, z = u := ⟨_, rfl⟩
  have hp6 : (∀ v_, v_ < T.length → g2_6 (2 * v_) = cLo (tC T v_) ∧ g2_6 (2 * v_ + 1) = cHi (tC T v_)) ∧ ∀ v_, fits .byte (.int (g2_6 v_)) = true := hp6
  have Z : nW G A ([(va, .inl (G.1.1 101, mm, .inl g)), (v1, .inl (G.1.1 101, n1, .inl g2_6))]) ([]) ([]) s.heap _ _ := Z
  exact ret g2_6 dJ12_inflate_9 hp6 Z (Nat.le_of_ble_eq_true rfl) (Nat.le_of_ble_eq_true rfl)
set_option maxHeartbeats 4000000 in
set_option maxRecDepth 100000 in
theorem J6_nl (l : Launch) (G : nG) (n : Nat) (hn : n < 1000) : nSi l yJ6_newBytesLength cJ6_newBytesLength 1 (.int) 0 0 G [.int (nI n)] ([]) (fun r : Int32 => r = (nI (2 * n))) := by
  refine nSi.of (own := "java/lang/StringUTF16") rfl (by decide +kernel) (Nat.le_of_ble_eq_true rfl) (fun _ _ => rfl) ?_
  intro p e s m args below meth c Q ls hx hb hml hown hts hG hP hl ret
  have hl : lv_has ls 1 [(0, .int (nI n))] := hl
  refine lv_iload_n hx hb dJ6_newBytesLength_0 rfl (lv_at hl 0 rfl) ?_
  refine lv_if_ge (tgt := 12) hx hb dJ6_newBytesLength_1 (by decide) (fun c1 => ?_) (fun c1 => ?_)
  · skip
    have c1 := n_le_t (a := 0) (b := n) c1 (by decide) (by omega)
    refine lv_iload_n hx hb dJ6_newBytesLength_12 rfl (lv_at hl 0 rfl) ?_
    refine lv_ldc hx hb hown (hts _ q135) dJ6_newBytesLength_13 ?_
    refine r_as (z := nI 1073741823) rfl ?_
    refine lv_icmp_lt (tgt := 55) hx hb dJ6_newBytesLength_15 (by decide) (fun c15 => ?_) (fun c15 => ?_)
    · skip
      have c15 := n_lt_t (a := n) (b := 1073741823) c15 (by omega) (by decide)
      refine lv_iload_n hx hb dJ6_newBytesLength_55 rfl (lv_at hl 0 rfl) ?_
      refine lv_iconst (v := nI 1) hx hb dJ6_newBytesLength_56 rfl ?_
      refine lv_ishl hx hb dJ6_newBytesLength_57 ?_
      refine r_as (z := nI (2 * n)) (shl_1 (by omega)) ?_
      exact ret (nI (2 * n)) dJ6_newBytesLength_58 rfl
    · skip
      have c15 := n_lt_f (a := n) (b := 1073741823) c15 (by omega) (by decide)
      exfalso; omega
  · skip
    have c1 := n_le_f (a := 0) (b := n) c1 (by decide) (by omega)
    exfalso; omega
set_option maxHeartbeats 4000000 in
set_option maxRecDepth 100000 in
theorem J6_nb (l : Launch) (G : nG) (n : Nat) (hn : n < 1000) : nMq (S := Nat) l yJ6_newBytesFor cJ6_newBytesFor 1 ((.array .byte)) 1 1 2 * n 20 G [.int (nI n)] ([]) ([]) (fun (u : Nat) => [(u, .inl (G.1.1 101, 2 * n, .inl (fun _ => 0)))]) (fun (r : Option Nat) (u : Nat) => r = (some u)) := by
  refine nMq.of (own := "java/lang/StringUTF16") rfl (by decide +kernel) (Nat.le_of_ble_eq_true rfl) (Or.inr ⟨_, rfl⟩) ?_
  intro p e s m args below meth c A Q ls hx hb hml hown hts hin hG Z hl ret
  have hl : lv_has ls 1 [(0, .int (nI n))] := hl
  have Z : nW G A ([]) ([]) ([]) s.heap _ _ := Z
  refine lv_iload_n hx hb dJ6_newBytesFor_0 rfl (lv_at hl 0 rfl) ?_
  refine ns_i (k := 3) (nr_S (As := [.int (nI n)]) (rest := []) hx hb hml hown hts (J6_nl l G n (by first | assumption | omega | rfl)) nPs.blind 1 q132 q133 q52 q134 (by decide +kernel) ⟨⟨Nat.le_of_ble_eq_true rfl, Nat.le_of_ble_eq_true rfl⟩, Nat.le_of_ble_eq_true rfl, (by show _ ≤ 2 * n; omega)⟩ (nPs_of hG Z va_P.m0) rfl hl.1 rfl (Nat.le_of_ble_eq_true rfl) dJ6_newBytesFor_1) (fun r1 hp1 => ?_)
  have he1 := hp1
  have he1 : r1 = nI (2 * n) := he1
  subst he1
  refine r_newb hx hb hts q149 hG Z (by omega) (Nat.le_of_ble_eq_true rfl) (by show _ ≤ 2 * n; omega) dJ6_newBytesFor_4 (fun v1 H Z => ?_)
  have Z : nW G A ([(v1, .inl (G.1.1 101, 2 * n, .inl (fun _ => 0)))]) ([]) ([]) s.heap _ _ := Z
  exact ret (some v1) v1 dJ6_newBytesFor_6 rfl Z (Nat.le_of_ble_eq_true rfl) (by omega)
set_option maxHeartbeats 4000000 in
set_option maxRecDepth 100000 in
theorem J3_in (l : Launch) (G : nG) (sb : Nat) (va : Nat) (ml : Int32) (T : List Nat) (mm : Nat) (g : Nat → Int32) (hsb : sbI T 0 mm mm g) : nMv (S := Nat × (Nat → Int32)) l yJ3_inflate cJ3_inflate 2 5 1 400 116 G [.ref sb] ([(sb, .inr (7, [.ref va, .int (nI 0), .int ml, .int (nI T.length)])), (va, .inl (G.1.1 101, mm, .inl g))]) ([]) (fun (u : Nat × (Nat → Int32)) => [(sb, .inr (7, [.ref u.1, .int (nI 1), .int ml, .int (nI T.length)])), (u.1, .inl (G.1.1 101, 2 * mm, .inl u.2))]) (fun (u : Nat × (Nat → Int32)) => sbI T 1 mm (2 * mm) u.2) := by
  refine nMv.of (own := "java/lang/AbstractStringBuilder") rfl (by decide +kernel) (Nat.le_of_ble_eq_true rfl) ?_
  intro p e s m args below meth c A Q ls hx hb hml hown hts hin hG Z hl ret
  have hl : lv_has ls 2 [(0, .ref sb)] := hl
  have Z : nW G A ([(sb, .inr (7, [.ref va, .int (nI 0), .int ml, .int (nI T.length)])), (va, .inl (G.1.1 101, mm, .inl g))]) ([]) ([]) s.heap _ _ := Z
  obtain ⟨hk, hlk, hc6, hft, ⟨-, -, hg⟩ | ⟨he, -, -⟩⟩ := id hsb
  swap
  exact absurd he (by decide)
  refine lv_aload_n hx hb dJ3_inflate_0 rfl (lv_at hl 0 rfl) ?_
  refine ns_i (k := 3) (nr_W (C := "java/lang/StringBuilder") (As := []) (rest := []) hx hb hml hown hts (J3_isL l G sb va 0 ml T.length (by first | assumption | omega | rfl)) nPs.blind 0 (List.forall_mem_cons.mpr ⟨q642, List.forall_mem_cons.mpr ⟨q644, List.forall_mem_cons.mpr ⟨q645, List.forall_mem_cons.mpr ⟨q643, List.forall_mem_cons.mpr ⟨q49, fun _ h => absurd h List.not_mem_nil⟩⟩⟩⟩⟩) q646 (by decide +kernel) ⟨⟨Nat.le_of_ble_eq_true rfl, Nat.le_of_ble_eq_true rfl⟩, Nat.le_of_ble_eq_true rfl, Nat.le_of_ble_eq_true rfl⟩ (r_recv hG Z.w 0 (C := "java/lang/StringBuilder") rfl rfl rfl) (nPs_of hG Z (Z.w.sub [0] rfl)) rfl hl.1 rfl (Nat.le_of_ble_eq_true rfl) dJ3_inflate_1) (fun r1 hp1 => ?_)
  have he1 := hp1
  have he1 : r1 = bI (decide (0 = 0)) := he1
  subst he1
  refine lv_if_ne (tgt := 8) hx hb dJ3_inflate_4 (by decide) (fun c4 => ?_) (fun c4 => ?_)
  · skip
    have c4 := bI_t c4
    refine lv_aload_n hx hb dJ3_inflate_8 rfl (lv_at hl 0 rfl) ?_
    refine r_get (v := .ref va) hx hb hts in_J4 hown hG Z.w 0 rfl rfl 0 (by decide) q136 (fun _ h9 => h9) rfl dJ3_inflate_9 ?_
    refine r_alen hx hb hG Z.w 1 1 rfl rfl dJ3_inflate_12 ?_
    refine nc_q (k := 3) (wcc := []) (wr := [(sb, .inr (7, [.ref va, .int (nI 0), .int ml, .int (nI T.length)])), (va, .inl (G.1.1 101, mm, .inl g))]) (nr_S (As := [.int (nI mm)]) (rest := []) hx hb hml hown hts ((J6_nb l G mm (by first | assumption | omega | rfl)) _) nP.blind 1 q129 q130 q52 q131 (by decide +kernel) ⟨⟨Nat.le_of_ble_eq_true rfl, Nat.le_of_ble_eq_true rfl⟩, Nat.le_of_ble_eq_true rfl, (by show _ ≤ 400; omega)⟩ (nP_of hG Z [] rfl (by decide) va_P.m0 nAp.nil) rfl hl.1 rfl (Nat.le_of_ble_eq_true rfl) dJ3_inflate_13) Z [] [0, 1] rfl rfl (by decide) (by decide) (fun r13 u H locs hp13 Z => ?_)
    obtain ⟨v1_13, rfl⟩ : ∃ z, z = u := ⟨_, rfl⟩
    have he13 := hp13
    have he13 : r13 = some v1_13 := he13
    subst he13
    have Z : nW G A ([(sb, .inr (7, [.ref va, .int (nI 0), .int ml, .int (nI T.length)])), (va, .inl (G.1.1 101, mm, .inl g)), (v1_13, .inl (G.1.1 101, 2 * mm, .inl (fun _ => 0)))]) ([]) ([]) s.heap _ _ := Z
    refine lv_astore_n (lv' := [(1, .ref v1_13), (0, .ref sb)]) hx hb dJ3_inflate_16 rfl hl (by decide) rfl (fun ls hl => ?_)
    refine lv_aload_n hx hb dJ3_inflate_17 rfl (lv_at hl 1 rfl) ?_
    refine r_get (v := .ref va) hx hb hts in_J4 hown hG Z.w 0 rfl rfl 0 (by decide) q136 (fun _ h9 => h9) rfl dJ3_inflate_18 ?_
    refine lv_iconst (v := nI 0) hx hb dJ3_inflate_21 rfl ?_
    refine lv_aload_n hx hb dJ3_inflate_22 rfl (lv_at hl 0 rfl) ?_
    refine lv_iconst (v := nI 0) hx hb dJ3_inflate_23 rfl ?_
    refine lv_aload_n hx hb dJ3_inflate_24 rfl (lv_at hl 1 rfl) ?_
    refine r_get (v := .int (nI T.length)) hx hb hts in_J4 hown hG Z.w 0 rfl rfl 3 (by decide) q139 (fun _ h9 => h9) rfl dJ3_inflate_25 ?_
    refine nc_v (k := 3) (wcc := [(va, .inl (G.1.1 101, mm, .inl g)), (v1_13, .inl (G.1.1 101, 2 * mm, .inl (fun _ => 0)))]) (wr := [(sb, .inr (7, [.ref va, .int (nI 0), .int ml, .int (nI T.length)]))]) (nr_S (As := [.ref va, .int (nI 0), .ref v1_13, .int (nI 0), .int (nI T.length)]) (rest := []) hx hb hml hown hts ((J12_in l G va mm g v1_13 (2 * mm) (fun _ => 0) T (by first | assumption | omega | rfl) (by omega) (by omega) (by omega) (by first | assumption | omega | rfl) (fun _ => rfl)) _) nP.blind 5 q654 q655 q63 q656 (by decide +kernel) ⟨⟨Nat.le_of_ble_eq_true rfl, Nat.le_of_ble_eq_true rfl⟩, Nat.le_of_ble_eq_true rfl, (by show _ ≤ 400; omega)⟩ (nP_of hG Z [1, 2] rfl (by decide) va_P.m0 nAp.nil) rfl hl.1 rfl (Nat.le_of_ble_eq_true rfl) dJ3_inflate_28) Z [1, 2] [0] rfl rfl (by decide) (by decide) (fun u H locs hp28 Z => ?_)
    obtain ⟨g2_28, rfl⟩ : ∃ z, z = u := ⟨_, rfl⟩
    have hp28 : (∀ v_, v_ < T.length → g2_28 (2 * v_) = cLo (tC T v_) ∧ g2_28 (2 * v_ + 1) = cHi (tC T v_)) ∧ ∀ v_, fits .byte (.int (g2_28 v_)) = true := hp28
    have Z : nW G A ([(sb, .inr (7, [.ref va, .int (nI 0), .int ml, .int (nI T.length)])), (va, .inl (G.1.1 101, mm, .inl g)), (v1_13, .inl (G.1.1 101, 2 * mm, .inl g2_28))]) ([]) ([]) s.heap _ _ := Z
    refine lv_aload_n hx hb dJ3_inflate_31 rfl (lv_at hl 1 rfl) ?_
    refine lv_aload_n hx hb dJ3_inflate_32 rfl (lv_at hl 0 rfl) ?_
    refine r_put (ty := .array .byte) hx hb hts in_J4 tyJ4 tyJ4_ok nmJ4 hown hG Z 0 rfl rfl 0 (by decide) q136 (fun _ h9 => h9) rfl (by decide +kernel) rfl rfl (Nat.le_of_ble_eq_true rfl) (wc' := [(sb, .inr (7, [.ref v1_13, .int (nI 0), .int ml, .int (nI T.length)])), (va, .inl (G.1.1 101, mm, .inl g)), (v1_13, .inl (G.1.1 101, 2 * mm, .inl g2_28))]) rfl dJ3_inflate_33 (fun H locs Z => ?_)
    refine lv_aload_n hx hb dJ3_inflate_36 rfl (lv_at hl 1 rfl) ?_
    refine lv_iconst (v := nI 1) hx hb dJ3_inflate_37 rfl ?_
    refine r_put (ty := .byte) hx hb hts in_J4 tyJ4 tyJ4_ok nmJ4 hown hG Z 0 rfl rfl 1 (by decide) q137 (fun _ h9 => h9) rfl (by decide +kernel) rfl rfl (Nat.le_of_ble_eq_true rfl) (wc' := [(sb, .inr (7, [.ref v1_13, .int (nI 1), .int ml, .int (nI T.length)])), (va, .inl (G.1.1 101, mm, .inl g)), (v1_13, .inl (G.1.1 101, 2 * mm, .inl g2_28))]) rfl dJ3_inflate_38 (fun H locs Z => ?_)
    exact ret (v1_13, g2_28) dJ3_inflate_41 (⟨hk, hlk, hc6, hp28.2, Or.inr ⟨rfl, rfl, hp28.1⟩⟩) (Z.perm ([(sb, .inr (7, [.ref v1_13, .int (nI 1), .int ml, .int (nI T.length)])), (v1_13, .inl (G.1.1 101, 2 * mm, .inl g2_28))]) [0, 2] (by decide) rfl) (Nat.le_of_ble_eq_true rfl) (by omega)
  · skip
    have c4 := bI_f c4
    exact absurd c4 (by decide)
