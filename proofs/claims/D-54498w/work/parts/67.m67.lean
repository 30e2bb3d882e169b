theorem b_lo {c : Nat} (h : c < 65536) : (nI c >>> (nI 0 &&& 31)).toInt8.toInt32 = cLo c := by
  rw [show nI c >>> (nI 0 &&& 31) = nI c from by
    have k := pk_shrN (n := c) (by omega) (nI 0 &&& 31) 0 (by decide)
    rw [Nat.pow_zero, Nat.div_one] at k
    exact k]
  unfold cLo sb_b
  have q : (nI c).toInt8 = (nI (c % 256)).toInt8 := by
    show (Int32.ofNat c).toInt8 = (Int32.ofNat (c % 256)).toInt8
    rw [Int32.toInt8_ofNat', Int32.toInt8_ofNat']
    apply Int8.toBitVec_inj.mp
    show BitVec.ofNat 8 c = BitVec.ofNat 8 (c % 256)
    apply BitVec.eq_of_toNat_eq
    simp
  rw [q]
theorem b_hi {c : Nat} (h : c < 65536) : (nI c >>> (nI 8 &&& 31)).toInt8.toInt32 = cHi c := by
  rw [show nI c >>> (nI 8 &&& 31) = nI (c / 256) from pk_shrN (n := c) (by omega) (nI 8 &&& 31) 8 (by decide)]
  rfl
theorem in_s {T : List Nat} {g : Nat → Int32} {k : Nat} (h : ∀ i, i < k → g (2 * i) = cLo (tC T i) ∧ g (2 * i + 1) = cHi (tC T i)) : ∀ i, i < k + 1 → upd (upd g (2 * k) (cLo (tC T k))) (2 * k + 1) (cHi (tC T k)) (2 * i) = cLo (tC T i) ∧ upd (upd g (2 * k) (cLo (tC T k))) (2 * k + 1) (cHi (tC T k)) (2 * i + 1) = cHi (tC T i) := by
  intro i hi
  by_cases e : i = k
  · subst e
    exact ⟨by rw [upd_n (by omega), upd_s], upd_s⟩
  · rw [upd_n (by omega), upd_n (by omega), upd_n (by omega), upd_n (by omega)]
    exact h i (by omega)
theorem in_f {g : Nat → Int32} {i j a b : Nat} (h : ∀ i, fits .byte (.int (g i)) = true) : ∀ v, fits .byte (.int (upd (upd g i (sb_b a)) j (sb_b b) v)) = true := by
  intro v
  unfold upd
  split
  · exact pk_fb _
  · split
    · exact pk_fb _
    · exact h v
set_option maxHeartbeats 4000000 in
set_option maxRecDepth 100000 in
theorem J6_pc (l : Launch) (G : nG) (va : Nat) (mm : Nat) (g : Nat → Int32) (i : Nat) (ch : Nat) (hi : 2 * i + 1 < mm) (hm : mm ≤ 400) (hc : ch < 65536) : nMv (S := Unit) l yJ6_putChar cJ6_putChar 3 1 0 0 20 G [.ref va, .int (nI i), .int (nI ch)] ([(va, .inl (G.1.1 101, mm, .inl g))]) ([]) (fun (u : Unit) => [(va, .inl (G.1.1 101, mm, .inl (upd (upd g (2 * i) (cLo ch)) (2 * i + 1) (cHi ch))))]) (fun (u : Unit) => True) := by
  refine nMv.of (own := "java/lang/StringUTF16") rfl (by decide +kernel) (Nat.le_of_ble_eq_true rfl) ?_
  intro p e s m args below meth c A Q ls hx hb hml hown hts hin hG Z hl ret
  have hl : lv_has ls 3 [(0, .ref va), (1, .int (nI i)), (2, .int (nI ch))] := hl
  have Z : nW G A ([(va, .inl (G.1.1 101, mm, .inl g))]) ([]) ([]) s.heap _ _ := Z
  refine va_gets hx hb (hG.2.2.2.2.2.1.2.1.narrow (fun q h => Z.2.2.2.2.2.1 q h)) Z.2.2.1 hown (hts _ q487) (fun _ h => h) dJ6_putChar_0 ?_
  refine r_as (z := nI 1) rfl ?_
  refine lv_if_ne (tgt := 28) hx hb dJ6_putChar_3 (by decide) (fun c3 => ?_) (fun c3 => ?_)
  · skip
    have c3 := n_eq_f (a := 1) (b := 0) c3
    refine lv_iload_n hx hb dJ6_putChar_28 rfl (lv_at hl 1 rfl) ?_
    refine lv_iconst (v := nI 1) hx hb dJ6_putChar_29 rfl ?_
    refine lv_ishl hx hb dJ6_putChar_30 ?_
    refine r_as (z := nI (2 * i)) (shl_1 (by omega)) ?_
    refine lv_istore_n (lv' := [(1, .int (nI (2 * i))), (0, .ref va), (2, .int (nI ch))]) hx hb dJ6_putChar_31 rfl hl (by decide) rfl (fun ls hl => ?_)
    refine lv_aload_n hx hb dJ6_putChar_32 rfl (lv_at hl 1 rfl) ?_
    refine lv_iload_n hx hb dJ6_putChar_33 rfl (lv_at hl 0 rfl) ?_
    refine lv_iinc (v := nI (2 * i + 1)) (lv' := [(1, .int (nI (2 * i + 1))), (0, .ref va), (2, .int (nI ch))]) hx hb dJ6_putChar_34 hl (k := 0) rfl (nI_add _ _) (by decide) rfl (fun ls hl => ?_)
    refine lv_iload_n hx hb dJ6_putChar_37 rfl (lv_at hl 2 rfl) ?_
    refine va_gets hx hb (hG.2.2.2.2.2.1.2.2.1.narrow (fun q h => Z.2.2.2.2.2.1 q h)) Z.2.2.1 hown (hts _ q489) (fun _ h => h) dJ6_putChar_38 ?_
    refine r_as (z := nI 0) rfl ?_
    refine lv_ishr hx hb dJ6_putChar_41 ?_
    refine lv_i2b (v := cLo ch) hx hb dJ6_putChar_42 (b_lo hc) ?_
    refine r_bast hx hb hG Z 0 rfl (j := 2 * i) (z := cLo ch) (pk_vb _) (by omega) (by omega) (wc' := [(va, .inl (G.1.1 101, mm, .inl (upd g (2 * i) (cLo ch))))]) rfl dJ6_putChar_43 (fun H locs Z => ?_)
    refine lv_aload_n hx hb dJ6_putChar_44 rfl (lv_at hl 1 rfl) ?_
    refine lv_iload_n hx hb dJ6_putChar_45 rfl (lv_at hl 0 rfl) ?_
    refine lv_iload_n hx hb dJ6_putChar_46 rfl (lv_at hl 2 rfl) ?_
    refine va_gets hx hb (hG.2.2.2.2.2.1.2.2.2.1.narrow (fun q h => Z.2.2.2.2.2.1 q h)) Z.2.2.1 hown (hts _ q491) (fun _ h => h) dJ6_putChar_47 ?_
    refine r_as (z := nI 8) rfl ?_
    refine lv_ishr hx hb dJ6_putChar_50 ?_
    refine lv_i2b (v := cHi ch) hx hb dJ6_putChar_51 (b_hi hc) ?_
    refine r_bast hx hb hG Z 0 rfl (j := 2 * i + 1) (z := cHi ch) (pk_vb _) (by omega) (by omega) (wc' := [(va, .inl (G.1.1 101, mm, .inl (upd (upd g (2 * i) (cLo ch)) (2 * i + 1) (cHi ch))))]) rfl dJ6_putChar_52 (fun H locs Z => ?_)
    exact ret () dJ6_putChar_53 trivial Z (Nat.le_of_ble_eq_true rfl) (Nat.le_of_ble_eq_true rfl)
  · skip
    exact absurd c3 (by decide)
set_option maxHeartbeats 4000000 in
set_option maxRecDepth 100000 in
theorem J6_ci (l : Launch) (G : nG) (va : Nat) (mm : Nat) (g : Nat → Int32) (i : Nat) (hi : i < mm / 2) (hm : mm ≤ 400) : nSv l yJ6_checkIndex cJ6_checkIndex 2 2 43 G [.int (nI i), .ref va] ([(va, .inl (G.1.1 101, mm, .inl g))]) (fun _ : Unit => True) := by
  refine nSv.of (own := "java/lang/StringUTF16") rfl (by decide +kernel) (Nat.le_of_ble_eq_true rfl) ?_
  intro p e s m args below meth c Q ls hx hb hml hown hts hG hP hl ret
  have hl : lv_has ls 2 [(0, .int (nI i)), (1, .ref va)] := hl
  refine lv_iload_n hx hb dJ6_checkIndex_0 rfl (lv_at hl 0 rfl) ?_
  refine lv_aload_n hx hb dJ6_checkIndex_1 rfl (lv_at hl 1 rfl) ?_
  refine ns_i (k := 3) (nr_S (As := [.ref va]) (rest := [.int (nI i)]) hx hb hml hown hts (J6_len l G va mm g (by first | assumption | omega | rfl)) nPs.blind 1 q480 q481 q52 q482 (by decide +kernel) ⟨⟨Nat.le_of_ble_eq_true rfl, Nat.le_of_ble_eq_true rfl⟩, Nat.le_of_ble_eq_true rfl, Nat.le_of_ble_eq_true rfl⟩ (nPs_of0 hG hP) rfl hl.1 rfl (Nat.le_of_ble_eq_true rfl) dJ6_checkIndex_2) (fun r2 hp2 => ?_)
  have he2 := hp2
  have he2 : r2 = nI (mm / 2) := he2
  subst he2
  refine ns_v (k := 3) (nr_S (As := [.int (nI i), .int (nI (mm / 2))]) (rest := []) hx hb hml hown hts (J5_ci l G i (mm / 2) (by first | assumption | omega | rfl) (by first | assumption | omega | rfl)) nPs.blind 2 q483 q469 q51 q470 (by decide +kernel) ⟨⟨Nat.le_of_ble_eq_true rfl, Nat.le_of_ble_eq_true rfl⟩, Nat.le_of_ble_eq_true rfl, Nat.le_of_ble_eq_true rfl⟩ (nPs_of0 hG va_P.m0) rfl hl.1 rfl (Nat.le_of_ble_eq_true rfl) dJ6_checkIndex_5) (fun hp5 => ?_)
  exact ret dJ6_checkIndex_8 trivial
set_option maxHeartbeats 4000000 in
set_option maxRecDepth 100000 in
theorem J6_ps (l : Launch) (G : nG) (va : Nat) (mm : Nat) (g : Nat → Int32) (i : Nat) (ch : Nat) (hi : i < mm / 2) (hm : mm ≤ 400) (hc : ch < 65536) : nMv (S := Unit) l yJ6_putCharSB cJ6_putCharSB 3 3 0 0 64 G [.ref va, .int (nI i), .int (nI ch)] ([(va, .inl (G.1.1 101, mm, .inl g))]) ([]) (fun (u : Unit) => [(va, .inl (G.1.1 101, mm, .inl (upd (upd g (2 * i) (cLo ch)) (2 * i + 1) (cHi ch))))]) (fun (u : Unit) => True) := by
  refine nMv.of (own := "java/lang/StringUTF16") rfl (by decide +kernel) (Nat.le_of_ble_eq_true rfl) ?_
  intro p e s m args below meth c A Q ls hx hb hml hown hts hin hG Z hl ret
  have hl : lv_has ls 3 [(0, .ref va), (1, .int (nI i)), (2, .int (nI ch))] := hl
  have Z : nW G A ([(va, .inl (G.1.1 101, mm, .inl g))]) ([]) ([]) s.heap _ _ := Z
  refine lv_iload_n hx hb dJ6_putCharSB_0 rfl (lv_at hl 1 rfl) ?_
  refine lv_aload_n hx hb dJ6_putCharSB_1 rfl (lv_at hl 0 rfl) ?_
  refine ns_v (k := 3) (nr_S (As := [.int (nI i), .ref va]) (rest := []) hx hb hml hown hts (J6_ci l G va mm g i (by first | assumption | omega | rfl) (by first | assumption | omega | rfl)) nPs.blind 2 q477 q478 q52 q479 (by decide +kernel) ⟨⟨Nat.le_of_ble_eq_true rfl, Nat.le_of_ble_eq_true rfl⟩, Nat.le_of_ble_eq_true rfl, Nat.le_of_ble_eq_true rfl⟩ (nPs_of hG Z Z.w) rfl hl.1 rfl (Nat.le_of_ble_eq_true rfl) dJ6_putCharSB_2) (fun hp2 => ?_)
  refine lv_aload_n hx hb dJ6_putCharSB_5 rfl (lv_at hl 0 rfl) ?_
  refine lv_iload_n hx hb dJ6_putCharSB_6 rfl (lv_at hl 1 rfl) ?_
  refine lv_iload_n hx hb dJ6_putCharSB_7 rfl (lv_at hl 2 rfl) ?_
  refine nc_v (k := 3) (wcc := [(va, .inl (G.1.1 101, mm, .inl g))]) (wr := []) (nr_S (As := [.ref va, .int (nI i), .int (nI ch)]) (rest := []) hx hb hml hown hts ((J6_pc l G va mm g i ch (by first | assumption | omega | rfl) (by first | assumption | omega | rfl) (by first | assumption | omega | rfl)) _) nP.blind 3 q669 q670 q52 q671 (by decide +kernel) ⟨⟨Nat.le_of_ble_eq_true rfl, Nat.le_of_ble_eq_true rfl⟩, Nat.le_of_ble_eq_true rfl, Nat.le_of_ble_eq_true rfl⟩ (nP_of hG Z [0] rfl (by decide) va_P.m0 nAp.nil) rfl hl.1 rfl (Nat.le_of_ble_eq_true rfl) dJ6_putCharSB_8) Z [0] [] rfl rfl (by decide) (by decide) (fun u H locs hp8 Z => ?_)
  have Z : nW G A ([(va, .inl (G.1.1 101, mm, .inl (upd (upd g (2 * i) (cLo ch)) (2 * i + 1) (cHi ch))))]) ([]) ([]) s.heap _ _ := Z
  exact ret () dJ6_putCharSB_11 trivial Z (Nat.le_of_ble_eq_true rfl) (Nat.le_of_ble_eq_true rfl)
set_option maxHeartbeats 4000000 in
set_option maxRecDepth 100000 in
theorem J8_cf (l : Launch) (G : nG) (a_ : Nat) (b_ : Nat) (n_ : Nat) (h1 : a_ + b_ ≤ n_) (h2 : n_ < 65536) : nSi l yJ8_checkFromIndexSize cJ8_checkFromIndexSize 4 (.int) 0 0 G [.int (nI a_), .int (nI b_), .int (nI n_), .null] ([]) (fun r : Int32 => r = (nI a_)) := by
  refine nSi.of (own := "jdk/internal/util/Preconditions") rfl (by decide +kernel) (Nat.le_of_ble_eq_true rfl) (fun _ _ => rfl) ?_
  intro p e s m args below meth c Q ls hx hb hml hown hts hG hP hl ret
  have hl : lv_has ls 4 [(0, .int (nI a_)), (1, .int (nI b_)), (2, .int (nI n_)), (3, .null)] := hl
  have ho1 : n_ ||| a_ < 2 ^ 16 := Nat.or_lt_two_pow (by omega) (by omega)
  have ho : n_ ||| a_ ||| b_ < 2 ^ 16 := Nat.or_lt_two_pow ho1 (by omega)
  refine lv_iload_n hx hb dJ8_checkFromIndexSize_0 rfl (lv_at hl 2 rfl) ?_
  refine lv_iload_n hx hb dJ8_checkFromIndexSize_1 rfl (lv_at hl 0 rfl) ?_
  refine lv_ior hx hb dJ8_checkFromIndexSize_2 ?_
  refine r_as (z := nI (n_ ||| a_)) (nx_or _ _) ?_
  refine lv_iload_n hx hb dJ8_checkFromIndexSize_3 rfl (lv_at hl 1 rfl) ?_
  refine lv_ior hx hb dJ8_checkFromIndexSize_4 ?_
  refine r_as (z := nI (n_ ||| a_ ||| b_)) (nx_or _ _) ?_
  refine lv_if_lt (tgt := 15) hx hb dJ8_checkFromIndexSize_5 (by decide) (fun c5 => ?_) (fun c5 => ?_)
  · skip
    have c5 := n_lt_t (a := n_ ||| a_ ||| b_) (b := 0) c5 (by omega) (by decide)
    exfalso; omega
  · skip
    have c5 := n_lt_f (a := n_ ||| a_ ||| b_) (b := 0) c5 (by omega) (by decide)
    refine lv_iload_n hx hb dJ8_checkFromIndexSize_8 rfl (lv_at hl 1 rfl) ?_
    refine lv_iload_n hx hb dJ8_checkFromIndexSize_9 rfl (lv_at hl 2 rfl) ?_
    refine lv_iload_n hx hb dJ8_checkFromIndexSize_10 rfl (lv_at hl 0 rfl) ?_
    refine lv_isub hx hb dJ8_checkFromIndexSize_11 ?_
    refine r_as (z := nI (n_ - a_)) (pk_sub (by omega)) ?_
    refine lv_icmp_le (tgt := 23) hx hb dJ8_checkFromIndexSize_12 (by decide) (fun c12 => ?_) (fun c12 => ?_)
    · skip
      have c12 := n_le_t (a := b_) (b := n_ - a_) c12 (by omega) (by omega)
      refine lv_iload_n hx hb dJ8_checkFromIndexSize_23 rfl (lv_at hl 0 rfl) ?_
      exact ret (nI a_) dJ8_checkFromIndexSize_24 (by first | rfl | assumption | omega | simp_all)
    · skip
      have c12 := n_le_f (a := b_) (b := n_ - a_) c12 (by omega) (by omega)
      exfalso; omega
set_option maxHeartbeats 4000000 in
set_option maxRecDepth 100000 in
theorem J8_cfR (l : Launch) (G : nG) (a_ : Nat) (b_ : Nat) (n_ : Nat) (t_ : Nat) (h1 : a_ + b_ ≤ n_) (h2 : n_ < 65536) : nSi l yJ8_checkFromIndexSize cJ8_checkFromIndexSize 4 (.int) 0 0 G [.int (nI a_), .int (nI b_), .int (nI n_), .ref t_] ([]) (fun r : Int32 => r = (nI a_)) := by
  refine nSi.of (own := "jdk/internal/util/Preconditions") rfl (by decide +kernel) (Nat.le_of_ble_eq_true rfl) (fun _ _ => rfl) ?_
  intro p e s m args below meth c Q ls hx hb hml hown hts hG hP hl ret
  have hl : lv_has ls 4 [(0, .int (nI a_)), (1, .int (nI b_)), (2, .int (nI n_)), (3, .ref t_)] := hl
  have ho1 : n_ ||| a_ < 2 ^ 16 := Nat.or_lt_two_pow (by omega) (by omega)
  have ho : n_ ||| a_ ||| b_ < 2 ^ 16 := Nat.or_lt_two_pow ho1 (by omega)
  refine lv_iload_n hx hb dJ8_checkFromIndexSize_0 rfl (lv_at hl 2 rfl) ?_
  refine lv_iload_n hx hb dJ8_checkFromIndexSize_1 rfl (lv_at hl 0 rfl) ?_
  refine lv_ior hx hb dJ8_checkFromIndexSize_2 ?_
  refine r_as (z := nI (n_ ||| a_)) (nx_or _ _) ?_
  refine lv_iload_n hx hb dJ8_checkFromIndexSize_3 rfl (lv_at hl 1 rfl) ?_
  refine lv_ior hx hb dJ8_checkFromIndexSize_4 ?_
  refine r_as (z := nI (n_ ||| a_ ||| b_)) (nx_or _ _) ?_
  refine lv_if_lt (tgt := 15) hx hb dJ8_checkFromIndexSize_5 (by decide) (fun c5 => ?_) (fun c5 => ?_)
  · skip
    have c5 := n_lt_t (a := n_ ||| a_ ||| b_) (b := 0) c5 (by omega) (by decide)
    exfalso; omega
  · skip
    have c5 := n_lt_f (a := n_ ||| a_ ||| b_) (b := 0) c5 (by omega) (by decide)
    refine lv_iload_n hx hb dJ8_checkFromIndexSize_8 rfl (lv_at hl 1 rfl) ?_
    refine lv_iload_n hx hb dJ8_checkFromIndexSize_9 rfl (lv_at hl 2 rfl) ?_
    refine lv_iload_n hx hb dJ8_checkFromIndexSize_10 rfl (lv_at hl 0 rfl) ?_
    refine lv_isub hx hb dJ8_checkFromIndexSize_11 ?_
    refine r_as (z := nI (n_ - a_)) (pk_sub (by omega)) ?_
    refine lv_icmp_le (tgt := 23) hx hb dJ8_checkFromIndexSize_12 (by decide) (fun c12 => ?_) (fun c12 => ?_)
    · skip
      have c12 := n_le_t (a := b_) (b := n_ - a_) c12 (by omega) (by omega)
      refine lv_iload_n hx hb dJ8_checkFromIndexSize_23 rfl (lv_at hl 0 rfl) ?_
      exact ret (nI a_) dJ8_checkFromIndexSize_24 (by first | rfl | assumption | omega | simp_all)
    · skip
      have c12 := n_le_f (a := b_) (b := n_ - a_) c12 (by omega) (by omega)
      exfalso; omega
set_option maxHeartbeats 4000000 in
set_option maxRecDepth 100000 in
theorem J5_cb (l : Launch) (G : nG) (a_ : Nat) (b_ : Nat) (n_ : Nat) (h1 : a_ + b_ ≤ n_) (h2 : n_ < 65536) : nSi l yJ5_checkBoundsOffCount cJ5_checkBoundsOffCount 3 (.int) 1 23 G [.int (nI a_), .int (nI b_), .int (nI n_)] ([]) (fun r : Int32 => r = (nI a_)) := by
  refine nSi.of (own := "java/lang/String") rfl (by decide +kernel) (Nat.le_of_ble_eq_true rfl) (fun _ _ => rfl) ?_
  intro p e s m args below meth c Q ls hx hb hml hown hts hG hP hl ret
  have hl : lv_has ls 3 [(0, .int (nI a_)), (1, .int (nI b_)), (2, .int (nI n_))] := hl
  refine lv_iload_n hx hb dJ5_checkBoundsOffCount_0 rfl (lv_at hl 0 rfl) ?_
  refine lv_iload_n hx hb dJ5_checkBoundsOffCount_1 rfl (lv_at hl 1 rfl) ?_
  refine lv_iload_n hx hb dJ5_checkBoundsOffCount_2 rfl (lv_at hl 2 rfl) ?_
  rcases hG.2.2.2.2.2.1.2.2.2.2 with hz | ⟨t9, hz⟩
  · skip
    refine va_gets (A := nB G) hx hb hz va_S.rf hown (hts _ q471) (fun _ h => h) dJ5_checkBoundsOffCount_3 ?_
    refine ns_i (k := 3) (nr_S (As := [.int (nI a_), .int (nI b_), .int (nI n_), .null]) (rest := []) hx hb hml hown hts (J8_cf l G a_ b_ n_ (by first | assumption | omega | rfl) (by first | assumption | omega | rfl)) nPs.blind 4 q666 q667 q57 q668 (by decide +kernel) ⟨⟨Nat.le_of_ble_eq_true rfl, Nat.le_of_ble_eq_true rfl⟩, Nat.le_of_ble_eq_true rfl, Nat.le_of_ble_eq_true rfl⟩ (nPs_of0 hG va_P.m0) rfl hl.1 rfl (Nat.le_of_ble_eq_true rfl) dJ5_checkBoundsOffCount_6) (fun r6 hp6 => ?_)
    have he6 := hp6
    have he6 : r6 = nI a_ := he6
    subst he6
    exact ret (nI a_) dJ5_checkBoundsOffCount_9 (by first | rfl | assumption | omega | simp_all)
  · skip
    refine va_gets (A := nB G) hx hb hz va_S.rf hown (hts _ q471) (fun _ h => h) dJ5_checkBoundsOffCount_3 ?_
    refine ns_i (k := 3) (nr_S (As := [.int (nI a_), .int (nI b_), .int (nI n_), .ref t9]) (rest := []) hx hb hml hown hts (J8_cfR l G a_ b_ n_ t9 (by first | assumption | omega | rfl) (by first | assumption | omega | rfl)) nPs.blind 4 q666 q667 q57 q668 (by decide +kernel) ⟨⟨Nat.le_of_ble_eq_true rfl, Nat.le_of_ble_eq_true rfl⟩, Nat.le_of_ble_eq_true rfl, Nat.le_of_ble_eq_true rfl⟩ (nPs_of0 hG va_P.m0) rfl hl.1 rfl (Nat.le_of_ble_eq_true rfl) dJ5_checkBoundsOffCount_6) (fun r6 hp6 => ?_)
    have he6 := hp6
    have he6 : r6 = nI a_ := he6
    subst he6
    exact ret (nI a_) dJ5_checkBoundsOffCount_9 (by first | rfl | assumption | omega | simp_all)
set_option maxHeartbeats 4000000 in
set_option maxRecDepth 100000 in
theorem J6_cb (l : Launch) (G : nG) (va : Nat) (mm : Nat) (g : Nat → Int32) (b_ : Nat) (h1 : b_ ≤ mm / 2) (hm : mm ≤ 400) : nSv l yJ6_checkBoundsOffCount cJ6_checkBoundsOffCount 3 2 45 G [.int (nI 0), .int (nI b_), .ref va] ([(va, .inl (G.1.1 101, mm, .inl g))]) (fun _ : Unit => True) := by
  refine nSv.of (own := "java/lang/StringUTF16") rfl (by decide +kernel) (Nat.le_of_ble_eq_true rfl) ?_
  intro p e s m args below meth c Q ls hx hb hml hown hts hG hP hl ret
  have hl : lv_has ls 3 [(0, .int (nI 0)), (1, .int (nI b_)), (2, .ref va)] := hl
  refine lv_iload_n hx hb dJ6_checkBoundsOffCount_0 rfl (lv_at hl 0 rfl) ?_
  refine lv_iload_n hx hb dJ6_checkBoundsOffCount_1 rfl (lv_at hl 1 rfl) ?_
  refine lv_aload_n hx hb dJ6_checkBoundsOffCount_2 rfl (lv_at hl 2 rfl) ?_
  refine ns_i (k := 3) (nr_S (As := [.ref va]) (rest := [.int (nI b_), .int (nI 0)]) hx hb hml hown hts (J6_len l G va mm g (by first | assumption | omega | rfl)) nPs.blind 1 q480 q481 q52 q482 (by decide +kernel) ⟨⟨Nat.le_of_ble_eq_true rfl, Nat.le_of_ble_eq_true rfl⟩, Nat.le_of_ble_eq_true rfl, Nat.le_of_ble_eq_true rfl⟩ (nPs_of0 hG hP) rfl hl.1 rfl (Nat.le_of_ble_eq_true rfl) dJ6_checkBoundsOffCount_3) (fun r3 hp3 => ?_)
  have he3 := hp3
  have he3 : r3 = nI (mm / 2) := he3
  subst he3
  refine ns_i (k := 3) (nr_S (As := [.int (nI 0), .int (nI b_), .int (nI (mm / 2))]) (rest := []) hx hb hml hown hts (J5_cb l G 0 b_ (mm / 2) (by omega) (by omega)) nPs.blind 3 q663 q664 q51 q665 (by decide +kernel) ⟨⟨Nat.le_of_ble_eq_true rfl, Nat.le_of_ble_eq_true rfl⟩, Nat.le_of_ble_eq_true rfl, Nat.le_of_ble_eq_true rfl⟩ (nPs_of0 hG va_P.m0) rfl hl.1 rfl (Nat.le_of_ble_eq_true rfl) dJ6_checkBoundsOffCount_6) (fun r6 hp6 => ?_)
  have he6 := hp6
  have he6 : r6 = nI 0 := he6
  subst he6
  refine lv_pop hx hb dJ6_checkBoundsOffCount_9 rfl ?_
  exact ret dJ6_checkBoundsOffCount_10 trivial
set_option maxHeartbeats 4000000 in
set_option maxRecDepth 100000 in
theorem J6_in (l : Launch) (G : nG) (va : Nat) (mm : Nat) (g : Nat → Int32) (v1 : Nat) (n1 : Nat) (g1 : Nat → Int32) (T : List Nat) (hl_ : T.length ≤ mm) (hm : mm ≤ 400) (hn1 : T.length ≤ n1 / 2) (hn2 : n1 ≤ 400) (hg : ∀ i, i < T.length → tC T i < 256 ∧ g i = sb_b (tC T i)) (hf1 : ∀ i, fits .byte (.int (g1 i)) = true) : nMv (S := (Nat → Int32)) l yJ6_inflate cJ6_inflate 6 3 0 0 67 G [.ref va, .int (nI 0), .ref v1, .int (nI 0), .int (nI T.length)] ([(va, .inl (G.1.1 101, mm, .inl g)), (v1, .inl (G.1.1 101, n1, .inl g1))]) ([]) (fun (u : (Nat → Int32)) => [(va, .inl (G.1.1 101, mm, .inl g)), (v1, .inl (G.1.1 101, n1, .inl u))]) (fun (u : (Nat → Int32)) => (∀ v_, v_ < T.length → u (2 * v_) = cLo (tC T v_) ∧ u (2 * v_ + 1) = cHi (tC T v_)) ∧ ∀ v_, fits .byte (.int (u v_)) = true) := by
  refine nMv.of (own := "java/lang/StringUTF16") rfl (by decide +kernel) (Nat.le_of_ble_eq_true rfl) ?_
  intro p e s m args below meth c A Q ls hx hb hml hown hts hin hG Z hl ret
  have hl : lv_has ls 6 [(0, .ref va), (1, .int (nI 0)), (2, .ref v1), (3, .int (nI 0)), (4, .int (nI T.length))] := hl
  have Z : nW G A ([(va, .inl (G.1.1 101, mm, .inl g)), (v1, .inl (G.1.1 101, n1, .inl g1))]) ([]) ([]) s.heap _ _ := Z
  refine lv_iload_n hx hb dJ6_inflate_0 rfl (lv_at hl 3 rfl) ?_
  refine lv_iload hx hb dJ6_inflate_1 (lv_at hl 4 rfl) ?_
  refine lv_aload_n hx hb dJ6_inflate_3 rfl (lv_at hl 2 rfl) ?_
  refine ns_v (k := 3) (nr_S (As := [.int (nI 0), .int (nI T.length), .ref v1]) (rest := []) hx hb hml hown hts (J6_cb l G v1 n1 g1 T.length hn1 (by first | assumption | omega | rfl)) nPs.blind 3 q660 q661 q52 q662 (by decide +kernel) ⟨⟨Nat.le_of_ble_eq_true rfl, Nat.le_of_ble_eq_true rfl⟩, Nat.le_of_ble_eq_true rfl, Nat.le_of_ble_eq_true rfl⟩ (nPs_of hG Z (Z.w.sub [1] rfl)) rfl hl.1 rfl (Nat.le_of_ble_eq_true rfl) dJ6_inflate_4) (fun hp4 => ?_)
  refine lv_iconst (v := nI 0) hx hb dJ6_inflate_7 rfl ?_
  refine lv_istore (lv' := [(5, .int (nI 0)), (0, .ref va), (1, .int (nI 0)), (2, .ref v1), (3, .int (nI 0)), (4, .int (nI T.length))]) hx hb dJ6_inflate_8 hl (by decide) rfl (fun ls hl => ?_)
  have L10 : ∀ (k_ : Nat) (k : Nat) (g2 : Nat → Int32) (q1 : k ≤ T.length) (q2 : ∀ i, i < k → g2 (2 * i) = cLo (tC T i) ∧ g2 (2 * i + 1) = cHi (tC T i)) (q3 : ∀ i, fits .byte (.int (g2 i)) = true) (hk_ : T.length - k < k_) (H : Heap) (locs : List Loc), nW G A ([(va, .inl (G.1.1 101, mm, .inl g)), (v1, .inl (G.1.1 101, n1, .inl g2))]) ([]) ([]) s.heap H locs → ∀ (ls : Array Slot), lv_has ls 6 [(5, .int (nI k)), (3, .int (nI k)), (1, .int (nI k)), (0, .ref va), (2, .ref v1), (4, .int (nI T.length))] → W p l e (nRm 3 0 0 67) s m args below meth c H locs 0 0 Q (F0 m 10 ls []) := by
    intro k_
    induction k_ with
    | zero => intro k g2 q1 q2 q3 hk_; exact absurd hk_ (Nat.not_lt_zero _)
    | succ k_ ih_L10 =>
      intro k g2 q1 q2 q3 hk_ H locs Z ls hl
      refine lv_iload hx hb dJ6_inflate_10 (lv_at hl 0 rfl) ?_
      refine lv_iload hx hb dJ6_inflate_12 (lv_at hl 5 rfl) ?_
      refine lv_icmp_ge (tgt := 41) hx hb dJ6_inflate_14 (by decide) (fun c14 => ?_) (fun c14 => ?_)
      · skip
        have c14 := n_le_t (a := T.length) (b := k) c14 (by omega) (by omega)
        have c14 : k = T.length := by omega
        subst c14
        exact ret g2 dJ6_inflate_41 (⟨q2, q3⟩) Z (Nat.le_of_ble_eq_true rfl) (Nat.le_of_ble_eq_true rfl)
      · skip
        have c14 := n_le_f (a := T.length) (b := k) c14 (by omega) (by omega)
        refine lv_aload_n hx hb dJ6_inflate_17 rfl (lv_at hl 4 rfl) ?_
        refine lv_iload_n hx hb dJ6_inflate_18 rfl (lv_at hl 1 rfl) ?_
        refine lv_iinc (v := nI (k + 1)) (lv' := [(3, .int (nI (k + 1))), (5, .int (nI k)), (1, .int (nI k)), (0, .ref va), (2, .ref v1), (4, .int (nI T.length))]) hx hb dJ6_inflate_19 hl (k := 1) rfl (nI_add _ _) (by decide) rfl (fun ls hl => ?_)
        refine lv_aload_n hx hb dJ6_inflate_22 rfl (lv_at hl 3 rfl) ?_
        refine lv_iload_n hx hb dJ6_inflate_23 rfl (lv_at hl 2 rfl) ?_
        refine lv_iinc (v := nI (k + 1)) (lv' := [(1, .int (nI (k + 1))), (3, .int (nI (k + 1))), (5, .int (nI k)), (0, .ref va), (2, .ref v1), (4, .int (nI T.length))]) hx hb dJ6_inflate_24 hl (k := 2) rfl (nI_add _ _) (by decide) rfl (fun ls hl => ?_)
        refine r_bald hx hb hG Z.w 0 rfl (j := k) (by omega) (by omega) (v := sb_b (tC T k)) ((hg k (by omega)).2) dJ6_inflate_27 ?_
        refine lv_sipush (v := nI 255) hx hb dJ6_inflate_28 rfl ?_
        refine lv_iand hx hb dJ6_inflate_31 ?_
        refine r_as (z := nI (tC T k)) (by rw [show nI 255 = (255 : Int32) from rfl]; exact (sb_byte _ (hg k (by omega)).1).1) ?_
        refine nc_v (k := 3) (wcc := [(v1, .inl (G.1.1 101, n1, .inl g2))]) (wr := [(va, .inl (G.1.1 101, mm, .inl g))]) (nr_S (As := [.ref v1, .int (nI k), .int (nI (tC T k))]) (rest := []) hx hb hml hown hts ((J6_pc l G v1 n1 g2 k (tC T k) (by omega) (by first | assumption | omega | rfl) (by have := (hg k (by omega)).1; omega)) _) nP.blind 3 q669 q670 q52 q671 (by decide +kernel) ⟨⟨Nat.le_of_ble_eq_true rfl, Nat.le_of_ble_eq_true rfl⟩, Nat.le_of_ble_eq_true rfl, Nat.le_of_ble_eq_true rfl⟩ (nP_of hG Z [1] rfl (by decide) va_P.m0 nAp.nil) rfl hl.1 rfl (Nat.le_of_ble_eq_true rfl) dJ6_inflate_32) Z [1] [0] rfl rfl (by decide) (by decide) (fun u H locs hp32 Z => ?_)
        have Z : nW G A ([(va, .inl (G.1.1 101, mm, .inl g)), (v1, .inl (G.1.1 101, n1, .inl (upd (upd g2 (2 * k) (cLo (tC T k))) (2 * k + 1) (cHi (tC T k)))))]) ([]) ([]) s.heap _ _ := Z
        refine lv_iinc (v := nI (k + 1)) (lv' := [(5, .int (nI (k + 1))), (1, .int (nI (k + 1))), (3, .int (nI (k + 1))), (0, .ref va), (2, .ref v1), (4, .int (nI T.length))]) hx hb dJ6_inflate_35 hl (k := 2) rfl (nI_add _ _) (by decide) rfl (fun ls hl => ?_)
        refine lv_goto (tgt := 10) hx hb dJ6_inflate_38 (by decide) ?_
        exact ih_L10 (k + 1) (upd (upd g2 (2 * k) (cLo (tC T k))) (2 * k + 1) (cHi (tC T k))) (by first | assumption | omega) (in_s q2) (in_f q3) (by omega) _ _ Z _ (lv_sub hl [0, 2, 1, 3, 4, 5] rfl)
  exact L10 _ 0 g1 (by first | assumption | omega) (fun i hi => absurd hi (Nat.not_lt_zero _)) hf1 (Nat.lt_succ_self _) _ _ Z _ (lv_sub hl [0, 4, 2, 1, 3, 5] rfl)
