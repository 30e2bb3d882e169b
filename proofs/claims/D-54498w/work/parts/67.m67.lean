theorem b_lo {c : Nat} (h : c < 65536) : (nI c >>> (nI 0 &&& 31)).toInt8.toInt32 = cLo c := by
  rw [show nI c >>> (nI 0 &&& 31) = nI c from by
    have k := pk_shrN (n := c) (by omega) (nI 0 &&& 31) 0 (by decide)
    rw [Nat.pow_zero, Nat.div_one] at k
    exact k]
  unfold cLo sb_b
  have q : (nI c).toInt8 = (nI (c % 256)).toInt8 := by
    show (Int32.ofNat c).toInt8 = (Int32.ofNat (c % 256)).toInt8
    rw [Int32.toInt8_ofNat', Int32.toInt8_ofNat']
    apply Int8.toBitVec_inj.mp
    show BitVec.ofNat 8 c = BitVec.ofNat 8 (c % 256)
    apply BitVec.eq_of_toNat_eq
    simp
  rw [q]
theorem b_hi {c : Nat} (h : c < 65536) : (nI c >>> (nI 8 &&& 31)).toInt8.toInt32 = cHi c := by
  rw [show nI c >>> (nI 8 &&& 31) = nI (c / 256) from pk_shrN (n := c) (by omega) (nI 8 &&& 31) 8 (by decide)]
  rfl
set_option maxHeartbeats 4000000 in
set_option maxRecDepth 100000 in
theorem J6_pc (l : Launch) (G : nG) (va : Nat) (mm : Nat) (g : Nat → Int32) (i : Nat) (ch : Nat) (hi : 2 * i + 1 < mm) (hm : mm ≤ 400) (hc : ch < 65536) : nMv (S := Unit) l yJ6_putChar cJ6_putChar 3 1 0 0 20 G [.ref va, .int (nI i), .int (nI ch)] ([(va, .inl (G.1.1 101, mm, .inl g))]) ([]) (fun (u : Unit) => [(va, .inl (G.1.1 101, mm, .inl (upd (upd g (2 * i) (cLo ch)) (2 * i + 1) (cHi ch))))]) (fun (u : Unit) => True) := by
  refine nMv.of (own := "java/lang/StringUTF16") rfl (by decide +kernel) (Nat.le_of_ble_eq_true rfl) ?_
  intro p e s m args below meth c A Q ls hx hb hml hown hts hin hG Z hl ret
  have hl : lv_has ls 3 [(0, .ref va), (1, .int (nI i)), (2, .int (nI ch))] := hl
  have Z : nW G A ([(va, .inl (G.1.1 101, mm, .inl g))]) ([]) ([]) s.heap _ _ := Z
  refine va_gets hx hb (hG.2.2.2.2.2.1.2.1.narrow (fun q h => Z.2.2.2.2.2.1 q h)) Z.2.2.1 hown (hts _ q487) (fun _ h => h) dJ6_putChar_0 ?_
  refine r_as (z := nI 1) rfl ?_
  refine lv_if_ne (tgt := 28) hx hb dJ6_putChar_3 (by decide) (fun c3 => ?_) (fun c3 => ?_)
  · skip
    have c3 := n_eq_f (a := 1) (b := 0) c3
    refine lv_iload_n hx hb dJ6_putChar_28 rfl (lv_at hl 1 rfl) ?_
    refine lv_iconst (v := nI 1) hx hb dJ6_putChar_29 rfl ?_
    refine lv_ishl hx hb dJ6_putChar_30 ?_
    refine r_as (z := nI (2 * i)) (shl_1 (by omega)) ?_
    refine lv_istore_n (lv' := [(1, .int (nI (2 * i))), (0, .ref va), (2, .int (nI ch))]) hx hb dJ6_putChar_31 rfl hl (by decide) rfl (fun ls hl => ?_)
    refine lv_aload_n hx hb dJ6_putChar_32 rfl (lv_at hl 1 rfl) ?_
    refine lv_iload_n hx hb dJ6_putChar_33 rfl (lv_at hl 0 rfl) ?_
    refine lv_iinc (v := nI (2 * i + 1)) (lv' := [(1, .int (nI (2 * i + 1))), (0, .ref va), (2, .int (nI ch))]) hx hb dJ6_putChar_34 hl (k := 0) rfl (nI_add _ _) (by decide) rfl (fun ls hl => ?_)
    refine lv_iload_n hx hb dJ6_putChar_37 rfl (lv_at hl 2 rfl) ?_
    refine va_gets hx hb (hG.2.2.2.2.2.1.2.2.1.narrow (fun q h => Z.2.2.2.2.2.1 q h)) Z.2.2.1 hown (hts _ q489) (fun _ h => h) dJ6_putChar_38 ?_
    refine r_as (z := nI 0) rfl ?_
    refine lv_ishr hx hb dJ6_putChar_41 ?_
    refine lv_i2b (v := cLo ch) hx hb dJ6_putChar_42 (b_lo hc) ?_
    refine r_bast hx hb hG Z 0 rfl (j := 2 * i) (z := cLo ch) (pk_vb _) (by omega) (by omega) (wc' := [(va, .inl (G.1.1 101, mm, .inl (upd g (2 * i) (cLo ch))))]) rfl dJ6_putChar_43 (fun H locs Z => ?_)
    refine lv_aload_n hx hb dJ6_putChar_44 rfl (lv_at hl 1 rfl) ?_
    refine lv_iload_n hx hb dJ6_putChar_45 rfl (lv_at hl 0 rfl) ?_
    refine lv_iload_n hx hb dJ6_putChar_46 rfl (lv_at hl 2 rfl) ?_
    refine va_gets hx hb (hG.2.2.2.2.2.1.2.2.2.1.narrow (fun q h => Z.2.2.2.2.2.1 q h)) Z.2.2.1 hown (hts _ q491) (fun _ h => h) dJ6_putChar_47 ?_
    refine r_as (z := nI 8) rfl ?_
    refine lv_ishr hx hb dJ6_putChar_50 ?_
    refine lv_i2b (v := cHi ch) hx hb dJ6_putChar_51 (b_hi hc) ?_
    refine r_bast hx hb hG Z 0 rfl (j := 2 * i + 1) (z := cHi ch) (pk_vb _) (by omega) (by omega) (wc' := [(va, .inl (G.1.1 101, mm, .inl (upd (upd g (2 * i) (cLo ch)) (2 * i + 1) (cHi ch))))]) rfl dJ6_putChar_52 (fun H locs Z => ?_)
    exact ret () dJ6_putChar_53 trivial Z (Nat.le_of_ble_eq_true rfl) (Nat.le_of_ble_eq_true rfl)
  · skip
    exact absurd c3 (by decide)
set_option maxHeartbeats 4000000 in
set_option maxRecDepth 100000 in
theorem J6_ci (l : Launch) (G : nG) (va : Nat) (mm : Nat) (g : Nat → Int32) (i : Nat) (hi : i < mm / 2) (hm : mm ≤ 400) : nSv l yJ6_checkIndex cJ6_checkIndex 2 2 43 G [.int (nI i), .ref va] ([(va, .inl (G.1.1 101, mm, .inl g))]) (fun _ : Unit => True) := by
  refine nSv.of (own := "java/lang/StringUTF16") rfl (by decide +kernel) (Nat.le_of_ble_eq_true rfl) ?_
  intro p e s m args below meth c Q ls hx hb hml hown hts hG hP hl ret
  have hl : lv_has ls 2 [(0, .int (nI i)), (1, .ref va)] := hl
  refine lv_iload_n hx hb dJ6_checkIndex_0 rfl (lv_at hl 0 rfl) ?_
  refine lv_aload_n hx hb dJ6_checkIndex_1 rfl (lv_at hl 1 rfl) ?_
  refine ns_i (k := 3) (nr_S (As := [.ref va]) (rest := [.int (nI i)]) hx hb hml hown hts (J6_len l G va mm g (by first | assumption | omega | rfl)) nPs.blind 1 q480 q481 q52 q482 (by decide +kernel) ⟨⟨Nat.le_of_ble_eq_true rfl, Nat.le_of_ble_eq_true rfl⟩, Nat.le_of_ble_eq_true rfl, Nat.le_of_ble_eq_true rfl⟩ (nPs_of0 hG hP) rfl hl.1 rfl (Nat.le_of_ble_eq_true rfl) dJ6_checkIndex_2) (fun r2 hp2 => ?_)
  have he2 := hp2
  have he2 : r2 = nI (mm / 2) := he2
  subst he2
  refine ns_v (k := 3) (nr_S (As := [.int (nI i), .int (nI (mm / 2))]) (rest := []) hx hb hml hown hts (J5_ci l G i (mm / 2) (by first | assumption | omega | rfl) (by first | assumption | omega | rfl)) nPs.blind 2 q483 q469 q51 q470 (by decide +kernel) ⟨⟨Nat.le_of_ble_eq_true rfl, Nat.le_of_ble_eq_true rfl⟩, Nat.le_of_ble_eq_true rfl, Nat.le_of_ble_eq_true rfl⟩ (nPs_of0 hG va_P.m0) rfl hl.1 rfl (Nat.le_of_ble_eq_true rfl) dJ6_checkIndex_5) (fun hp5 => ?_)
  exact ret dJ6_checkIndex_8 trivial
set_option maxHeartbeats 4000000 in
set_option maxRecDepth 100000 in
theorem J6_ps (l : Launch) (G : nG) (va : Nat) (mm : Nat) (g : Nat → Int32) (i : Nat) (ch : Nat) (hi : i < mm / 2) (hm : mm ≤ 400) (hc : ch < 65536) : nMv (S := Unit) l yJ6_putCharSB cJ6_putCharSB 3 3 0 0 64 G [.ref va, .int (nI i), .int (nI ch)] ([(va, .inl (G.1.1 101, mm, .inl g))]) ([]) (fun (u : Unit) => [(va, .inl (G.1.1 101, mm, .inl (upd (upd g (2 * i) (cLo ch)) (2 * i + 1) (cHi ch))))]) (fun (u : Unit) => True) := by
  refine nMv.of (own := "java/lang/StringUTF16") rfl (by decide +kernel) (Nat.le_of_ble_eq_true rfl) ?_
  intro p e s m args below meth c A Q ls hx hb hml hown hts hin hG Z hl ret
  have hl : lv_has ls 3 [(0, .ref va), (1, .int (nI i)), (2, .int (nI ch))] := hl
  have Z : nW G A ([(va, .inl (G.1.1 101, mm, .inl g))]) ([]) ([]) s.heap _ _ := Z
  refine lv_iload_n hx hb dJ6_putCharSB_0 rfl (lv_at hl 1 rfl) ?_
  refine lv_aload_n hx hb dJ6_putCharSB_1 rfl (lv_at hl 0 rfl) ?_
  refine ns_v (k := 3) (nr_S (As := [.int (nI i), .ref va]) (rest := []) hx hb hml hown hts (J6_ci l G va mm g i (by first | assumption | omega | rfl) (by first | assumption | omega | rfl)) nPs.blind 2 q477 q478 q52 q479 (by decide +kernel) ⟨⟨Nat.le_of_ble_eq_true rfl, Nat.le_of_ble_eq_true rfl⟩, Nat.le_of_ble_eq_true rfl, Nat.le_of_ble_eq_true rfl⟩ (nPs_of hG Z Z.w) rfl hl.1 rfl (Nat.le_of_ble_eq_true rfl) dJ6_putCharSB_2) (fun hp2 => ?_)
  refine lv_aload_n hx hb dJ6_putCharSB_5 rfl (lv_at hl 0 rfl) ?_
  refine lv_iload_n hx hb dJ6_putCharSB_6 rfl (lv_at hl 1 rfl) ?_
  refine lv_iload_n hx hb dJ6_putCharSB_7 rfl (lv_at hl 2 rfl) ?_
  refine nc_v (k := 3) (wcc := [(va, .inl (G.1.1 101, mm, .inl g))]) (wr := []) (nr_S (As := [.ref va, .int (nI i), .int (nI ch)]) (rest := []) hx hb hml hown hts ((J6_pc l G va mm g i ch (by first | assumption | omega | rfl) (by first | assumption | omega | rfl) (by first | assumption | omega | rfl)) _) nP.blind 3 q669 q670 q52 q671 (by decide +kernel) ⟨⟨Nat.le_of_ble_eq_true rfl, Nat.le_of_ble_eq_true rfl⟩, Nat.le_of_ble_eq_true rfl, Nat.le_of_ble_eq_true rfl⟩ (nP_of hG Z [0] rfl (by decide) va_P.m0 nAp.nil) rfl hl.1 rfl (Nat.le_of_ble_eq_true rfl) dJ6_putCharSB_8) Z [0] [] rfl rfl (by decide) (by decide) (fun u H locs hp8 Z => ?_)
  have Z : nW G A ([(va, .inl (G.1.1 101, mm, .inl (upd (upd g (2 * i) (cLo ch)) (2 * i + 1) (cHi ch))))]) ([]) ([]) s.heap _ _ := Z
  exact ret () dJ6_putCharSB_11 trivial Z (Nat.le_of_ble_eq_true rfl) (Nat.le_of_ble_eq_true rfl)
