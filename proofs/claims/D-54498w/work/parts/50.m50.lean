theorem sh1 {n : Nat} (h : n < 2 ^ 31) : nI n >>> (nI 1 &&& 31) = nI (n / 2) := by
  have k := pk_shrN (n := n) h (nI 1 &&& 31) 1 (by decide)
  rw [Nat.pow_one] at k
  exact k
theorem rm_eq1 {f : Nat → Option Nat} {n i j : Nat} (hi : i < n) (hj : j < n - 1) : va_up (va_cpy f f (i + 1) i (n - 1 - i)) (n - 1) none j = if j < i then f j else f (j + 1) := by
  unfold va_up va_cpy
  rw [if_neg (by omega)]
  by_cases h : j < i
  · rw [if_pos h, if_neg (by omega)]
  · rw [if_neg h, if_pos (by omega)]
    congr 1; omega
theorem rm_eq2 {f : Nat → Option Nat} {n i j : Nat} (hi : i < n) (hj : j < n - 1) (h : n - 1 ≤ i) : va_up f (n - 1) none j = if j < i then f j else f (j + 1) := by
  unfold va_up
  rw [if_neg (by omega), if_pos (by omega)]
set_option maxHeartbeats 4000000 in
set_option maxRecDepth 100000 in
theorem J0_i (l : Launch) (G : nG) (x : Nat)  : nSv l yJ0_init cJ0_init 1 2 60 G [.ref x] ([]) (fun _ : Unit => True) := by
  refine nSv.of (own := "java/util/AbstractCollection") rfl (by decide +kernel) (Nat.le_of_ble_eq_true rfl) ?_
  intro p e s m args below meth c Q ls hx hb hml hown hts hG hP hl ret
  have hl : lv_has ls 1 [(0, .ref x)] := hl
  refine lv_aload_n hx hb dJ0_init_0 rfl (lv_at hl 0 rfl) ?_
  refine W.objInit hx hb hown (hts _ q91) (hts _ q72) (hts _ q73) rfl (by rw [hml]; exact hl.1) rfl dJ0_init_1 (Nat.le_of_ble_eq_true rfl) (Nat.le_of_ble_eq_true rfl) ?_
  refine W.eq (g2 := F0 m 4 ls []) rfl ?_
  exact ret dJ0_init_4 trivial
set_option maxHeartbeats 4000000 in
set_option maxRecDepth 100000 in
theorem J1_i (l : Launch) (G : nG) (x : Nat) (c0 : Int32) (n : Nat)  : nMv (S := Unit) l yJ1_init cJ1_init 1 3 0 0 90 G [.ref x] ([(x, .inr (3, [.int c0, .null, .int (nI n)]))]) ([]) (fun (u : Unit) => [(x, .inr (3, [.int (nI 0), .null, .int (nI n)]))]) (fun (u : Unit) => True) := by
  refine nMv.of (own := "java/util/AbstractList") rfl (by decide +kernel) (Nat.le_of_ble_eq_true rfl) ?_
  intro p e s m args below meth c A Q ls hx hb hml hown hts hin hG Z hl ret
  have hl : lv_has ls 1 [(0, .ref x)] := hl
  have Z : nW G A ([(x, .inr (3, [.int c0, .null, .int (nI n)]))]) ([]) ([]) s.heap _ _ := Z
  refine lv_aload_n hx hb dJ1_init_0 rfl (lv_at hl 0 rfl) ?_
  refine ns_v (k := 3) (nr_I (As := []) (rest := []) hx hb hml hown hts (J0_i l G x) nPs.blind 0 q88 q89 q46 q90 rfl (by decide +kernel) ⟨⟨Nat.le_of_ble_eq_true rfl, Nat.le_of_ble_eq_true rfl⟩, Nat.le_of_ble_eq_true rfl, Nat.le_of_ble_eq_true rfl⟩ (nPs_of hG Z va_P.m0) rfl hl.1 rfl (Nat.le_of_ble_eq_true rfl) dJ1_init_1) (fun hp1 => ?_)
  refine lv_aload_n hx hb dJ1_init_4 rfl (lv_at hl 0 rfl) ?_
  refine lv_iconst (v := nI 0) hx hb dJ1_init_5 rfl ?_
  refine r_put (ty := .int) hx hb hts in_J2 tyJ2 tyJ2_ok nmJ2 hown hG Z 0 rfl rfl 0 (by decide) q96 (fun _ h9 => h9) rfl (by decide +kernel) rfl rfl (Nat.le_of_ble_eq_true rfl) (wc' := [(x, .inr (3, [.int (nI 0), .null, .int (nI n)]))]) rfl dJ1_init_6 (fun H locs Z => ?_)
  exact ret () dJ1_init_9 trivial Z (Nat.le_of_ble_eq_true rfl) (Nat.le_of_ble_eq_true rfl)
set_option maxHeartbeats 4000000 in
set_option maxRecDepth 100000 in
theorem J2_i (l : Launch) (G : nG) (x : Nat) (c0 : Int32) (n : Nat)  : nMv (S := Unit) l yJ2_init cJ2_init 1 4 0 0 120 G [.ref x] ([(x, .inr (3, [.int c0, .null, .int (nI n)]))]) ([]) (fun (u : Unit) => [(x, .inr (3, [.int (nI 0), .ref G.2.2.1, .int (nI n)]))]) (fun (u : Unit) => True) := by
  refine nMv.of (own := "java/util/ArrayList") rfl (by decide +kernel) (Nat.le_of_ble_eq_true rfl) ?_
  intro p e s m args below meth c A Q ls hx hb hml hown hts hin hG Z hl ret
  have hl : lv_has ls 1 [(0, .ref x)] := hl
  have Z : nW G A ([(x, .inr (3, [.int c0, .null, .int (nI n)]))]) ([]) ([]) s.heap _ _ := Z
  refine lv_aload_n hx hb dJ2_init_0 rfl (lv_at hl 0 rfl) ?_
  refine nc_v (k := 3) (wcc := [(x, .inr (3, [.int c0, .null, .int (nI n)]))]) (wr := []) (nr_I (As := []) (rest := []) hx hb hml hown hts ((J1_i l G x c0 n) _) nP.blind 0 q85 q86 q47 q87 rfl (by decide +kernel) ⟨⟨Nat.le_of_ble_eq_true rfl, Nat.le_of_ble_eq_true rfl⟩, Nat.le_of_ble_eq_true rfl, Nat.le_of_ble_eq_true rfl⟩ (nP_of hG Z [0] rfl (by decide) va_P.m0 nAp.nil) rfl hl.1 rfl (Nat.le_of_ble_eq_true rfl) dJ2_init_1) Z [0] [] rfl rfl (by decide) (by decide) (fun u H locs hp1 Z => ?_)
  have Z : nW G A ([(x, .inr (3, [.int (nI 0), .null, .int (nI n)]))]) ([]) ([]) s.heap _ _ := Z
  refine lv_aload_n hx hb dJ2_init_4 rfl (lv_at hl 0 rfl) ?_
  refine r_gsE hx hb hts hown q92 hG Z dJ2_init_5 ?_
  refine r_put (ty := .array (.object "java/lang/Object")) hx hb hts in_J2 tyJ2 tyJ2_ok nmJ2 hown hG Z 0 rfl rfl 1 (by decide) q94 (fun _ h9 => h9) rfl (by decide +kernel) rfl rfl (Nat.le_of_ble_eq_true rfl) (wc' := [(x, .inr (3, [.int (nI 0), .ref G.2.2.1, .int (nI n)]))]) rfl dJ2_init_8 (fun H locs Z => ?_)
  exact ret () dJ2_init_11 trivial Z (Nat.le_of_ble_eq_true rfl) (Nat.le_of_ble_eq_true rfl)
set_option maxHeartbeats 4000000 in
set_option maxRecDepth 100000 in
theorem J2_sz (l : Launch) (G : nG) (x : Nat) (c0 : Int32) (ea : Nat) (n : Nat)  : nSi l yJ2_size cJ2_size 1 (.int) 0 0 G [.ref x] ([(x, .inr (3, [.int c0, .ref ea, .int (nI n)]))]) (fun r : Int32 => r = (nI n)) := by
  refine nSi.of (own := "java/util/ArrayList") rfl (by decide +kernel) (Nat.le_of_ble_eq_true rfl) (fun _ _ => rfl) ?_
  intro p e s m args below meth c Q ls hx hb hml hown hts hG hP hl ret
  have hl : lv_has ls 1 [(0, .ref x)] := hl
  refine lv_aload_n hx hb dJ2_size_0 rfl (lv_at hl 0 rfl) ?_
  refine r_get (v := .int (nI n)) hx hb hts in_J2 hown hG hP 0 rfl rfl 2 (by decide) q95 (fun _ h9 => h9) rfl dJ2_size_1 ?_
  exact ret (nI n) dJ2_size_4 (by first | rfl | assumption | omega | simp_all)
set_option maxHeartbeats 4000000 in
set_option maxRecDepth 100000 in
theorem J2_em (l : Launch) (G : nG) (x : Nat) (c0 : Int32) (ea : Nat) (n : Nat) (hn : n < 2 ^ 31) : nSi l yJ2_isEmpty cJ2_isEmpty 1 (.boolean) 0 0 G [.ref x] ([(x, .inr (3, [.int c0, .ref ea, .int (nI n)]))]) (fun r : Int32 => r = (bI (decide (n = 0)))) := by
  refine nSi.of (own := "java/util/ArrayList") rfl (by decide +kernel) (Nat.le_of_ble_eq_true rfl) (fun r h => by rw [h]; exact bI_n _) ?_
  intro p e s m args below meth c Q ls hx hb hml hown hts hG hP hl ret
  have hl : lv_has ls 1 [(0, .ref x)] := hl
  refine lv_aload_n hx hb dJ2_isEmpty_0 rfl (lv_at hl 0 rfl) ?_
  refine r_get (v := .int (nI n)) hx hb hts in_J2 hown hG hP 0 rfl rfl 2 (by decide) q95 (fun _ h9 => h9) rfl dJ2_isEmpty_1 ?_
  refine lv_if_ne (tgt := 11) hx hb dJ2_isEmpty_4 (by decide) (fun c4 => ?_) (fun c4 => ?_)
  · skip
    have c4 := n_eq_f (a := n) (b := 0) c4
    refine lv_iconst (v := nI 0) hx hb dJ2_isEmpty_11 rfl ?_
    refine r_as (z := bI false) rfl ?_
    exact ret (bI false) dJ2_isEmpty_12 (by simp [c4])
  · skip
    have c4 := n_eq_t (a := n) (b := 0) c4 (by omega) (by decide)
    refine lv_iconst (v := nI 1) hx hb dJ2_isEmpty_7 rfl ?_
    refine lv_goto (tgt := 12) hx hb dJ2_isEmpty_8 (by decide) ?_
    refine r_as (z := bI true) rfl ?_
    exact ret (bI true) dJ2_isEmpty_12 (by simp [c4])
set_option maxHeartbeats 4000000 in
set_option maxRecDepth 100000 in
theorem J8_ci (l : Launch) (G : nG) (i : Nat) (n : Nat) (hi : i < n) (hn : n < 2 ^ 31) : nSi l yJ8_checkIndex cJ8_checkIndex 3 (.int) 0 0 G [.int (nI i), .int (nI n), .null] ([]) (fun r : Int32 => r = (nI i)) := by
  refine nSi.of (own := "jdk/internal/util/Preconditions") rfl (by decide +kernel) (Nat.le_of_ble_eq_true rfl) (fun _ _ => rfl) ?_
  intro p e s m args below meth c Q ls hx hb hml hown hts hG hP hl ret
  have hl : lv_has ls 3 [(0, .int (nI i)), (1, .int (nI n)), (2, .null)] := hl
  refine lv_iload_n hx hb dJ8_checkIndex_0 rfl (lv_at hl 0 rfl) ?_
  refine lv_if_lt (tgt := 9) hx hb dJ8_checkIndex_1 (by decide) (fun c1 => ?_) (fun c1 => ?_)
  · skip
    have c1 := n_lt_t (a := i) (b := 0) c1 (by omega) (by decide)
    exfalso; omega
  · skip
    have c1 := n_lt_f (a := i) (b := 0) c1 (by omega) (by decide)
    refine lv_iload_n hx hb dJ8_checkIndex_4 rfl (lv_at hl 0 rfl) ?_
    refine lv_iload_n hx hb dJ8_checkIndex_5 rfl (lv_at hl 1 rfl) ?_
    refine lv_icmp_lt (tgt := 16) hx hb dJ8_checkIndex_6 (by decide) (fun c6 => ?_) (fun c6 => ?_)
    · skip
      have c6 := n_lt_t (a := i) (b := n) c6 (by omega) (by omega)
      refine lv_iload_n hx hb dJ8_checkIndex_16 rfl (lv_at hl 0 rfl) ?_
      exact ret (nI i) dJ8_checkIndex_17 (by first | rfl | assumption | omega | simp_all)
    · skip
      have c6 := n_lt_f (a := i) (b := n) c6 (by omega) (by omega)
      exfalso; omega
set_option maxHeartbeats 4000000 in
set_option maxRecDepth 100000 in
theorem J7_ci (l : Launch) (G : nG) (i : Nat) (n : Nat) (hi : i < n) (hn : n < 2 ^ 31) : nSi l yJ7_checkIndex cJ7_checkIndex 2 (.int) 1 22 G [.int (nI i), .int (nI n)] ([]) (fun r : Int32 => r = (nI i)) := by
  refine nSi.of (own := "java/util/Objects") rfl (by decide +kernel) (Nat.le_of_ble_eq_true rfl) (fun _ _ => rfl) ?_
  intro p e s m args below meth c Q ls hx hb hml hown hts hG hP hl ret
  have hl : lv_has ls 2 [(0, .int (nI i)), (1, .int (nI n))] := hl
  refine lv_iload_n hx hb dJ7_checkIndex_0 rfl (lv_at hl 0 rfl) ?_
  refine lv_iload_n hx hb dJ7_checkIndex_1 rfl (lv_at hl 1 rfl) ?_
  refine lv_null hx hb dJ7_checkIndex_2 ?_
  refine ns_i (k := 3) (nr_S (As := [.int (nI i), .int (nI n), .null]) (rest := []) hx hb hml hown hts (J8_ci l G i n (by first | assumption | omega | rfl) (by first | assumption | omega | rfl)) nPs.blind 3 q219 q220 q57 q221 (by decide +kernel) ⟨⟨Nat.le_of_ble_eq_true rfl, Nat.le_of_ble_eq_true rfl⟩, Nat.le_of_ble_eq_true rfl, Nat.le_of_ble_eq_true rfl⟩ (nPs_of0 hG va_P.m0) rfl hl.1 rfl (Nat.le_of_ble_eq_true rfl) dJ7_checkIndex_3) (fun r3 hp3 => ?_)
  have he3 := hp3
  have he3 : r3 = nI i := he3
  subst he3
  exact ret (nI i) dJ7_checkIndex_6 (by first | rfl | assumption | omega | simp_all)
set_option maxHeartbeats 4000000 in
set_option maxRecDepth 100000 in
theorem J2_ed (l : Launch) (G : nG) (x : Nat) (c0 : Int32) (ea : Nat) (n : Nat) (cap : Nat) (f : Nat → Option Nat) (i : Nat) (hi : i < n) (hnc : n ≤ cap) (hcp : cap < 2 ^ 31) : nSq l yJ2_elementData cJ2_elementData 2 ((.object "java/lang/Object")) 0 0 G [.ref x, .int (nI i)] ([(x, .inr (3, [.int c0, .ref ea, .int (nI n)])), (ea, .inl (G.1.1 102, cap, .inr (.inr (.inr (.inr f)))))]) (fun r : Option Nat => r = (f i)) := by
  refine nSq.of (own := "java/util/ArrayList") rfl (by decide +kernel) (Nat.le_of_ble_eq_true rfl) (Or.inl ⟨_, rfl⟩) ?_
  intro p e s m args below meth c Q ls hx hb hml hown hts hG hP hl ret
  have hl : lv_has ls 2 [(0, .ref x), (1, .int (nI i))] := hl
  refine lv_aload_n hx hb dJ2_elementData_0 rfl (lv_at hl 0 rfl) ?_
  refine r_get (v := .ref ea) hx hb hts in_J2 hown hG hP 0 rfl rfl 1 (by decide) q94 (fun _ h9 => h9) rfl dJ2_elementData_1 ?_
  refine lv_iload_n hx hb dJ2_elementData_4 rfl (lv_at hl 1 rfl) ?_
  refine r_aald hx hb hG hP 1 rfl (j := i) (by omega) (by omega) (v := va_rf (f i)) rfl dJ2_elementData_5 ?_
  exact ret (f i) dJ2_elementData_6 (by first | rfl | assumption | omega | simp_all)
set_option maxHeartbeats 4000000 in
set_option maxRecDepth 100000 in
theorem J2_g (l : Launch) (G : nG) (x : Nat) (c0 : Int32) (ea : Nat) (n : Nat) (cap : Nat) (f : Nat → Option Nat) (i : Nat) (hi : i < n) (hnc : n ≤ cap) (hcp : cap < 2 ^ 31) : nSq l yJ2_get cJ2_get 2 ((.object "java/lang/Object")) 2 43 G [.ref x, .int (nI i)] ([(x, .inr (3, [.int c0, .ref ea, .int (nI n)])), (ea, .inl (G.1.1 102, cap, .inr (.inr (.inr (.inr f)))))]) (fun r : Option Nat => r = (f i)) := by
  refine nSq.of (own := "java/util/ArrayList") rfl (by decide +kernel) (Nat.le_of_ble_eq_true rfl) (Or.inl ⟨_, rfl⟩) ?_
  intro p e s m args below meth c Q ls hx hb hml hown hts hG hP hl ret
  have hl : lv_has ls 2 [(0, .ref x), (1, .int (nI i))] := hl
  refine lv_iload_n hx hb dJ2_get_0 rfl (lv_at hl 1 rfl) ?_
  refine lv_aload_n hx hb dJ2_get_1 rfl (lv_at hl 0 rfl) ?_
  refine r_get (v := .int (nI n)) hx hb hts in_J2 hown hG hP 0 rfl rfl 2 (by decide) q95 (fun _ h9 => h9) rfl dJ2_get_2 ?_
  refine ns_i (k := 3) (nr_S (As := [.int (nI i), .int (nI n)]) (rest := []) hx hb hml hown hts (J7_ci l G i n (by first | assumption | omega | rfl) (by first | assumption | omega | rfl)) nPs.blind 2 q216 q217 q56 q218 (by decide +kernel) ⟨⟨Nat.le_of_ble_eq_true rfl, Nat.le_of_ble_eq_true rfl⟩, Nat.le_of_ble_eq_true rfl, Nat.le_of_ble_eq_true rfl⟩ (nPs_of0 hG va_P.m0) rfl hl.1 rfl (Nat.le_of_ble_eq_true rfl) dJ2_get_5) (fun r5 hp5 => ?_)
  have he5 := hp5
  have he5 : r5 = nI i := he5
  subst he5
  refine lv_pop hx hb dJ2_get_8 rfl ?_
  refine lv_aload_n hx hb dJ2_get_9 rfl (lv_at hl 0 rfl) ?_
  refine lv_iload_n hx hb dJ2_get_10 rfl (lv_at hl 1 rfl) ?_
  refine ns_q (k := 3) (nr_V (As := [.int (nI i)]) (rest := []) hx hb hml hown hts (J2_ed l G x c0 ea n cap f i (by first | assumption | omega | rfl) (by first | assumption | omega | rfl) (by first | assumption | omega | rfl)) nPs.blind 1 q222 q223 q224 q48 q225 (by decide +kernel) ⟨⟨Nat.le_of_ble_eq_true rfl, Nat.le_of_ble_eq_true rfl⟩, Nat.le_of_ble_eq_true rfl, Nat.le_of_ble_eq_true rfl⟩ (r_recv hG hP 0 (C := "java/util/ArrayList") rfl rfl rfl) (nPs_of0 hG hP) rfl hl.1 rfl (Nat.le_of_ble_eq_true rfl) dJ2_get_11) (fun r11 hp11 => ?_)
  have he11 := hp11
  have he11 : r11 = f i := he11
  subst he11
  exact ret (f i) dJ2_get_14 (by first | rfl | assumption | omega | simp_all)
set_option maxHeartbeats 4000000 in
set_option maxRecDepth 100000 in
theorem J9_nl (l : Launch) (G : nG) (n : Nat) (g : Nat) (h1 : 1 ≤ g) (h2 : n + g < 2147483639) : nSi l yJ9_newLength cJ9_newLength 4 (.int) 1 24 G [.int (nI n), .int (nI 1), .int (nI g)] ([]) (fun r : Int32 => r = (nI (n + g))) := by
  refine nSi.of (own := "jdk/internal/util/ArraysSupport") rfl (by decide +kernel) (Nat.le_of_ble_eq_true rfl) (fun _ _ => rfl) ?_
  intro p e s m args below meth c Q ls hx hb hml hown hts hG hP hl ret
  have hl : lv_has ls 4 [(0, .int (nI n)), (1, .int (nI 1)), (2, .int (nI g))] := hl
  refine lv_iload_n hx hb dJ9_newLength_0 rfl (lv_at hl 0 rfl) ?_
  refine lv_iload_n hx hb dJ9_newLength_1 rfl (lv_at hl 1 rfl) ?_
  refine lv_iload_n hx hb dJ9_newLength_2 rfl (lv_at hl 2 rfl) ?_
  refine va_mmax hx hb (hml.trans hl.1.symm) hown (hts _ q251) (hts _ q252) (hts _ q59) (hts _ q253) (Nat.le_of_ble_eq_true rfl) (Nat.le_of_ble_eq_true rfl) (by show _ ≤ 0; omega) (by show _ ≤ 0; omega) dJ9_newLength_3 ?_
  refine r_as (z := nI g) (by show (if nI 1 < nI g then nI g else nI 1) = nI g; by_cases h : 1 < g; { rw [if_pos ((nI_ltI (by omega) (by omega)).mpr h)] }; { rw [if_neg (fun q => h ((nI_ltI (by omega) (by omega)).mp q))]; congr 1; omega }) ?_
  refine lv_iadd hx hb dJ9_newLength_6 ?_
  refine r_as (z := nI (n + g)) (nI_add _ _) ?_
  refine lv_istore_n (lv' := [(3, .int (nI (n + g))), (0, .int (nI n)), (1, .int (nI 1)), (2, .int (nI g))]) hx hb dJ9_newLength_7 rfl hl (by decide) rfl (fun ls hl => ?_)
  refine lv_iconst (v := nI 0) hx hb dJ9_newLength_8 rfl ?_
  refine lv_iload_n hx hb dJ9_newLength_9 rfl (lv_at hl 0 rfl) ?_
  refine lv_icmp_ge (tgt := 21) hx hb dJ9_newLength_10 (by decide) (fun c10 => ?_) (fun c10 => ?_)
  · skip
    have c10 := n_le_t (a := n + g) (b := 0) c10 (by omega) (by decide)
    exfalso; omega
  · skip
    have c10 := n_le_f (a := n + g) (b := 0) c10 (by omega) (by decide)
    refine lv_iload_n hx hb dJ9_newLength_13 rfl (lv_at hl 0 rfl) ?_
    refine lv_ldc hx hb hown (hts _ q254) dJ9_newLength_14 ?_
    refine r_as (z := nI 2147483639) rfl ?_
    refine lv_icmp_gt (tgt := 21) hx hb dJ9_newLength_16 (by decide) (fun c16 => ?_) (fun c16 => ?_)
    · skip
      have c16 := n_lt_t (a := 2147483639) (b := n + g) c16 (by decide) (by omega)
      exfalso; omega
    · skip
      have c16 := n_lt_f (a := 2147483639) (b := n + g) c16 (by decide) (by omega)
      refine lv_iload_n hx hb dJ9_newLength_19 rfl (lv_at hl 0 rfl) ?_
      exact ret (nI (n + g)) dJ9_newLength_20 (by first | rfl | assumption | omega | simp_all)
set_option maxHeartbeats 4000000 in
set_option maxRecDepth 100000 in
theorem J11_c2 (l : Launch) (G : nG) (ea : Nat) (n : Nat) (f : Nat → Option Nat) (k : Nat) (rc : va_W) (ci : Nat) (cl : vw_C) (hnk : n ≤ k) (hk : k < 2 ^ 20) (hc : vwCl[ci]? = some cl) (hca : Cond.castable cl.1 "java/lang/Object" ∈ lw_tbl) (he : lsE rc ci n f) : nMq (S := Nat) l yJ11_copyOf_2 cJ11_copyOf_2 4 ((.array (.object "java/lang/Object"))) 2 1 k 90 G [.ref ea, .int (nI k), .ref (G.2.2.2.1 8)] ([(ea, .inl (G.1.1 102, n, .inr (.inr (.inr (.inr f)))))]) rc (fun (u : Nat) => [(ea, .inl (G.1.1 102, n, .inr (.inr (.inr (.inr f))))), (u, .inl (G.1.1 102, k, .inr (.inr (.inr (.inr (va_cpy f (fun _ => none) 0 0 n))))))]) (fun (r : Option Nat) (u : Nat) => r = (some u)) := by
  refine nMq.of (own := "java/util/Arrays") rfl (by decide +kernel) (Nat.le_of_ble_eq_true rfl) (Or.inr ⟨_, rfl⟩) ?_
  intro p e s m args below meth c A Q ls hx hb hml hown hts hin hG Z hl ret
  have hl : lv_has ls 4 [(0, .ref ea), (1, .int (nI k)), (2, .ref (G.2.2.2.1 8))] := hl
  have Z : nW G A ([(ea, .inl (G.1.1 102, n, .inr (.inr (.inr (.inr f)))))]) ([]) rc s.heap _ _ := Z
  refine lv_aload_n hx hb dJ11_copyOf_2_0 rfl (lv_at hl 2 rfl) ?_
  refine va_ldcM hx hb hown (hts _ q277) hG.2.2.2.2.2.2.1.1 dJ11_copyOf_2_1 ?_
  refine lv_acmp_ne (rx := (some (G.2.2.2.1 8))) (ry := (some (G.2.2.2.1 8))) (tgt := 13) hx hb dJ11_copyOf_2_3 (by decide) (fun c3 => ?_) (fun c3 => ?_)
  · skip
    exact absurd rfl c3
  · skip
    refine lv_iload_n hx hb dJ11_copyOf_2_6 rfl (lv_at hl 1 rfl) ?_
    refine r_newo hx hb hts hown q279 q278 hG Z (by omega) (Nat.le_of_ble_eq_true rfl) (by show _ ≤ k; omega) dJ11_copyOf_2_7 (fun e1 H Z => ?_)
    have Z : nW G A ([(ea, .inl (G.1.1 102, n, .inr (.inr (.inr (.inr f))))), (e1, .inl (G.1.1 102, k, .inr (.inr (.inr (.inr (fun _ => none))))))]) ([]) rc s.heap _ _ := Z
    refine lv_goto (tgt := 24) hx hb dJ11_copyOf_2_10 (by decide) ?_
    refine lv_astore_n (lv' := [(3, .ref e1), (0, .ref ea), (1, .int (nI k)), (2, .ref (G.2.2.2.1 8))]) hx hb dJ11_copyOf_2_24 rfl hl (by decide) rfl (fun ls hl => ?_)
    refine lv_aload_n hx hb dJ11_copyOf_2_25 rfl (lv_at hl 1 rfl) ?_
    refine lv_iconst (v := nI 0) hx hb dJ11_copyOf_2_26 rfl ?_
    refine lv_aload_n hx hb dJ11_copyOf_2_27 rfl (lv_at hl 0 rfl) ?_
    refine lv_iconst (v := nI 0) hx hb dJ11_copyOf_2_28 rfl ?_
    refine lv_aload_n hx hb dJ11_copyOf_2_29 rfl (lv_at hl 1 rfl) ?_
    refine r_alen hx hb hG Z.w 0 2 rfl rfl dJ11_copyOf_2_30 ?_
    refine lv_iload_n hx hb dJ11_copyOf_2_31 rfl (lv_at hl 2 rfl) ?_
    refine va_mmin hx hb (hml.trans hl.1.symm) hown (hts _ q280) (hts _ q281) (hts _ q59) (hts _ q282) (Nat.le_of_ble_eq_true rfl) (Nat.le_of_ble_eq_true rfl) (by show _ ≤ 1; omega) (by show _ ≤ k; omega) dJ11_copyOf_2_32 ?_
    refine r_as (z := nI n) (by show (if nI k < nI n then nI k else nI n) = nI n; rw [if_neg (fun q => by have := (nI_ltI (by omega) (by omega)).mp q; omega)]) ?_
    refine r_copyq (C := cl.1) hx hb hml hl.1 hown hts q283 q285 q284 q61 hG Z 0 1 hca rfl rfl (sp := 0) (dp := 0) (n := n) (by omega) (by omega) (by omega) (by omega) ?_ (Nat.le_of_ble_eq_true rfl) (Nat.le_of_ble_eq_true rfl) (wc' := [(ea, .inl (G.1.1 102, n, .inr (.inr (.inr (.inr f))))), (e1, .inl (G.1.1 102, k, .inr (.inr (.inr (.inr (va_cpy f (fun _ => none) 0 0 n))))))]) rfl dJ11_copyOf_2_35 (fun H locs Z => ?_)
    · intro i hi y hy
      obtain ⟨y1, vs1, h1, h2⟩ := he i hi
      rw [Nat.zero_add, h1] at hy
      obtain rfl := Option.some.inj hy
      exact r_recv hG (va_P.m1 Z.rc h2 va_P.m0) 0 rfl hc rfl
    refine lv_aload_n hx hb dJ11_copyOf_2_38 rfl (lv_at hl 0 rfl) ?_
    exact ret (some e1) e1 dJ11_copyOf_2_39 rfl Z (Nat.le_of_ble_eq_true rfl) (by omega)
set_option maxHeartbeats 4000000 in
set_option maxRecDepth 100000 in
theorem J11_c1 (l : Launch) (G : nG) (ea : Nat) (n : Nat) (f : Nat → Option Nat) (k : Nat) (rc : va_W) (ci : Nat) (cl : vw_C) (hnk : n ≤ k) (hk : k < 2 ^ 20) (hc : vwCl[ci]? = some cl) (hca : Cond.castable cl.1 "java/lang/Object" ∈ lw_tbl) (he : lsE rc ci n f) : nMq (S := Nat) l yJ11_copyOf cJ11_copyOf 2 ((.array (.object "java/lang/Object"))) 3 1 k 120 G [.ref ea, .int (nI k)] ([(ea, .inl (G.1.1 102, n, .inr (.inr (.inr (.inr f)))))]) rc (fun (u : Nat) => [(ea, .inl (G.1.1 102, n, .inr (.inr (.inr (.inr f))))), (u, .inl (G.1.1 102, k, .inr (.inr (.inr (.inr (va_cpy f (fun _ => none) 0 0 n))))))]) (fun (r : Option Nat) (u : Nat) => r = (some u)) := by
  refine nMq.of (own := "java/util/Arrays") rfl (by decide +kernel) (Nat.le_of_ble_eq_true rfl) (Or.inr ⟨_, rfl⟩) ?_
  intro p e s m args below meth c A Q ls hx hb hml hown hts hin hG Z hl ret
  have hl : lv_has ls 2 [(0, .ref ea), (1, .int (nI k))] := hl
  have Z : nW G A ([(ea, .inl (G.1.1 102, n, .inr (.inr (.inr (.inr f)))))]) ([]) rc s.heap _ _ := Z
  refine lv_aload_n hx hb dJ11_copyOf_0 rfl (lv_at hl 0 rfl) ?_
  refine lv_iload_n hx hb dJ11_copyOf_1 rfl (lv_at hl 1 rfl) ?_
  refine lv_aload_n hx hb dJ11_copyOf_2 rfl (lv_at hl 0 rfl) ?_
  refine r_getC hx hb hml hl.1 hown hts q261 (List.forall_mem_cons.mpr ⟨q1245, List.forall_mem_cons.mpr ⟨q262, List.forall_mem_cons.mpr ⟨q273, fun _ h => absurd h List.not_mem_nil⟩⟩⟩) hG Z.w 0 rfl (Nat.le_of_ble_eq_true rfl) (Nat.le_of_ble_eq_true rfl) dJ11_copyOf_3 ?_
  refine nc_q (k := 3) (wcc := [(ea, .inl (G.1.1 102, n, .inr (.inr (.inr (.inr f)))))]) (wr := []) (nr_S (As := [.ref ea, .int (nI k), .ref (G.2.2.2.1 8)]) (rest := []) hx hb hml hown hts ((J11_c2 l G ea n f k rc ci cl (by first | assumption | omega | rfl) (by first | assumption | omega | rfl) (by first | assumption | omega | rfl) (by first | assumption | omega | rfl) (by first | assumption | omega | rfl)) _) nP.blind 3 q274 q275 q60 q276 (by decide +kernel) ⟨⟨Nat.le_of_ble_eq_true rfl, Nat.le_of_ble_eq_true rfl⟩, Nat.le_of_ble_eq_true rfl, (by show _ ≤ k; omega)⟩ (nP_of hG Z [0] rfl (by decide) Z.rc (Z.apR [0] rfl)) rfl hl.1 rfl (Nat.le_of_ble_eq_true rfl) dJ11_copyOf_6) Z [0] [] rfl rfl (by decide) (by decide) (fun r6 u H locs hp6 Z => ?_)
  obtain ⟨e1_6, rfl⟩ : ∃ z, z = u := ⟨_, rfl⟩
  have he6 := hp6
  have he6 : r6 = some e1_6 := he6
  subst he6
  have Z : nW G A ([(ea, .inl (G.1.1 102, n, .inr (.inr (.inr (.inr f))))), (e1_6, .inl (G.1.1 102, k, .inr (.inr (.inr (.inr (va_cpy f (fun _ => none) 0 0 n))))))]) ([]) rc s.heap _ _ := Z
  exact ret (some e1_6) e1_6 dJ11_copyOf_9 rfl Z (Nat.le_of_ble_eq_true rfl) (by omega)
set_option maxHeartbeats 4000000 in
set_option maxRecDepth 100000 in
theorem J2_gA2 (l : Launch) (G : nG) (x : Nat) (c0 : Int32)  : nMq (S := Nat) l yJ2_grow_2 cJ2_grow_2 4 ((.array (.object "java/lang/Object"))) 4 1 10 150 G [.ref x, .int (nI 1)] ([(x, .inr (3, [.int c0, .ref G.2.2.1, .int (nI 0)]))]) ([]) (fun (u : Nat) => [(x, .inr (3, [.int c0, .ref u, .int (nI 0)])), (u, .inl (G.1.1 102, 10, .inr (.inr (.inr (.inr (fun _ => none))))))]) (fun (r : Option Nat) (u : Nat) => r = (some u)) := by
  refine nMq.of (own := "java/util/ArrayList") rfl (by decide +kernel) (Nat.le_of_ble_eq_true rfl) (Or.inr ⟨_, rfl⟩) ?_
  intro p e s m args below meth c A Q ls hx hb hml hown hts hin hG Z hl ret
  have hl : lv_has ls 4 [(0, .ref x), (1, .int (nI 1))] := hl
  have Z : nW G A ([(x, .inr (3, [.int c0, .ref G.2.2.1, .int (nI 0)]))]) ([]) ([]) s.heap _ _ := Z
  refine lv_aload_n hx hb dJ2_grow_2_0 rfl (lv_at hl 0 rfl) ?_
  refine r_get (v := .ref G.2.2.1) hx hb hts in_J2 hown hG Z.w 0 rfl rfl 1 (by decide) q94 (fun _ h9 => h9) rfl dJ2_grow_2_1 ?_
  refine r_lenE hx hb hG Z dJ2_grow_2_4 ?_
  refine lv_istore_n (lv' := [(2, .int (nI 0)), (0, .ref x), (1, .int (nI 1))]) hx hb dJ2_grow_2_5 rfl hl (by decide) rfl (fun ls hl => ?_)
  refine lv_iload_n hx hb dJ2_grow_2_6 rfl (lv_at hl 0 rfl) ?_
  refine lv_if_gt (tgt := 20) hx hb dJ2_grow_2_7 (by decide) (fun c7 => ?_) (fun c7 => ?_)
  · skip
    exact absurd c7 (by decide)
  · skip
    have c7 := n_lt_f (a := 0) (b := 0) c7 (by decide) (by decide)
    refine lv_aload_n hx hb dJ2_grow_2_10 rfl (lv_at hl 1 rfl) ?_
    refine r_get (v := .ref G.2.2.1) hx hb hts in_J2 hown hG Z.w 0 rfl rfl 1 (by decide) q94 (fun _ h9 => h9) rfl dJ2_grow_2_11 ?_
    refine r_gsE hx hb hts hown q92 hG Z dJ2_grow_2_14 ?_
    refine lv_acmp_eq (rx := (some G.2.2.1)) (ry := (some G.2.2.1)) (tgt := 45) hx hb dJ2_grow_2_17 (by decide) (fun c17 => ?_) (fun c17 => ?_)
    · skip
      refine lv_aload_n hx hb dJ2_grow_2_45 rfl (lv_at hl 1 rfl) ?_
      refine lv_bipush (v := nI 10) hx hb dJ2_grow_2_46 rfl ?_
      refine lv_iload_n hx hb dJ2_grow_2_48 rfl (lv_at hl 2 rfl) ?_
      refine va_mmax hx hb (hml.trans hl.1.symm) hown (hts _ q286) (hts _ q252) (hts _ q59) (hts _ q253) (Nat.le_of_ble_eq_true rfl) (Nat.le_of_ble_eq_true rfl) (by show _ ≤ 1; omega) (by show _ ≤ 10; omega) dJ2_grow_2_49 ?_
      refine r_as (z := nI 10) rfl ?_
      refine r_newo hx hb hts hown q287 q278 hG Z (by decide) (Nat.le_of_ble_eq_true rfl) (Nat.le_of_ble_eq_true rfl) dJ2_grow_2_52 (fun e1 H Z => ?_)
      have Z : nW G A ([(x, .inr (3, [.int c0, .ref G.2.2.1, .int (nI 0)])), (e1, .inl (G.1.1 102, 10, .inr (.inr (.inr (.inr (fun _ => none))))))]) ([]) ([]) s.heap _ _ := Z
      refine lv_dup_x1 hx hb dJ2_grow_2_55 rfl rfl ?_
      refine r_put (ty := .array (.object "java/lang/Object")) hx hb hts in_J2 tyJ2 tyJ2_ok nmJ2 hown hG Z 0 rfl rfl 1 (by decide) q94 (fun _ h9 => h9) rfl (by decide +kernel) rfl rfl (Nat.le_of_ble_eq_true rfl) (wc' := [(x, .inr (3, [.int c0, .ref e1, .int (nI 0)])), (e1, .inl (G.1.1 102, 10, .inr (.inr (.inr (.inr (fun _ => none))))))]) rfl dJ2_grow_2_56 (fun H locs Z => ?_)
      exact ret (some e1) e1 dJ2_grow_2_59 rfl Z (Nat.le_of_ble_eq_true rfl) (Nat.le_of_ble_eq_true rfl)
    · skip
      exact absurd rfl c17
set_option maxHeartbeats 4000000 in
set_option maxRecDepth 100000 in
theorem J2_gA (l : Launch) (G : nG) (x : Nat) (c0 : Int32)  : nMq (S := Nat) l yJ2_grow cJ2_grow 1 ((.array (.object "java/lang/Object"))) 5 1 10 180 G [.ref x] ([(x, .inr (3, [.int c0, .ref G.2.2.1, .int (nI 0)]))]) ([]) (fun (u : Nat) => [(x, .inr (3, [.int c0, .ref u, .int (nI 0)])), (u, .inl (G.1.1 102, 10, .inr (.inr (.inr (.inr (fun _ => none))))))]) (fun (r : Option Nat) (u : Nat) => r = (some u)) := by
  refine nMq.of (own := "java/util/ArrayList") rfl (by decide +kernel) (Nat.le_of_ble_eq_true rfl) (Or.inr ⟨_, rfl⟩) ?_
  intro p e s m args below meth c A Q ls hx hb hml hown hts hin hG Z hl ret
  have hl : lv_has ls 1 [(0, .ref x)] := hl
  have Z : nW G A ([(x, .inr (3, [.int c0, .ref G.2.2.1, .int (nI 0)]))]) ([]) ([]) s.heap _ _ := Z
  refine lv_aload_n hx hb dJ2_grow_0 rfl (lv_at hl 0 rfl) ?_
  refine lv_aload_n hx hb dJ2_grow_1 rfl (lv_at hl 0 rfl) ?_
  refine r_get (v := .int (nI 0)) hx hb hts in_J2 hown hG Z.w 0 rfl rfl 2 (by decide) q95 (fun _ h9 => h9) rfl dJ2_grow_2 ?_
  refine lv_iconst (v := nI 1) hx hb dJ2_grow_5 rfl ?_
  refine lv_iadd hx hb dJ2_grow_6 ?_
  refine r_as (z := nI 1) (nI_add _ _) ?_
  refine nc_q (k := 3) (wcc := [(x, .inr (3, [.int c0, .ref G.2.2.1, .int (nI 0)]))]) (wr := []) (nr_V (As := [.int (nI 1)]) (rest := []) hx hb hml hown hts ((J2_gA2 l G x c0) _) nP.blind 1 q244 q246 qs3 q48 q247 (by decide +kernel) ⟨⟨Nat.le_of_ble_eq_true rfl, Nat.le_of_ble_eq_true rfl⟩, Nat.le_of_ble_eq_true rfl, Nat.le_of_ble_eq_true rfl⟩ (r_recv hG Z.w 0 (C := "java/util/ArrayList") rfl rfl rfl) (nP_of hG Z [0] rfl (by decide) va_P.m0 nAp.nil) rfl hl.1 rfl (Nat.le_of_ble_eq_true rfl) dJ2_grow_7) Z [0] [] rfl rfl (by decide) (by decide) (fun r7 u H locs hp7 Z => ?_)
  obtain ⟨e1_7, rfl⟩ : ∃ z, z = u := ⟨_, rfl⟩
  have he7 := hp7
  have he7 : r7 = some e1_7 := he7
  subst he7
  have Z : nW G A ([(x, .inr (3, [.int c0, .ref e1_7, .int (nI 0)])), (e1_7, .inl (G.1.1 102, 10, .inr (.inr (.inr (.inr (fun _ => none))))))]) ([]) ([]) s.heap _ _ := Z
  exact ret (some e1_7) e1_7 dJ2_grow_10 rfl Z (Nat.le_of_ble_eq_true rfl) (Nat.le_of_ble_eq_true rfl)
set_option maxHeartbeats 4000000 in
set_option maxRecDepth 100000 in
theorem J2_gB2 (l : Launch) (G : nG) (x : Nat) (c0 : Int32) (ea : Nat) (n : Nat) (f : Nat → Option Nat) (rc : va_W) (ci : Nat) (cl : vw_C) (hn1 : 10 ≤ n) (hn : n ≤ 20) (hc : vwCl[ci]? = some cl) (hca : Cond.castable cl.1 "java/lang/Object" ∈ lw_tbl) (he : lsE rc ci n f) : nMq (S := Nat) l yJ2_grow_2 cJ2_grow_2 4 ((.array (.object "java/lang/Object"))) 4 1 30 150 G [.ref x, .int (nI (n + 1))] ([(x, .inr (3, [.int c0, .ref ea, .int (nI n)])), (ea, .inl (G.1.1 102, n, .inr (.inr (.inr (.inr f)))))]) rc (fun (u : Nat) => [(x, .inr (3, [.int c0, .ref u, .int (nI n)])), (ea, .inl (G.1.1 102, n, .inr (.inr (.inr (.inr f))))), (u, .inl (G.1.1 102, n + n / 2, .inr (.inr (.inr (.inr (va_cpy f (fun _ => none) 0 0 n))))))]) (fun (r : Option Nat) (u : Nat) => r = (some u)) := by
  refine nMq.of (own := "java/util/ArrayList") rfl (by decide +kernel) (Nat.le_of_ble_eq_true rfl) (Or.inr ⟨_, rfl⟩) ?_
  intro p e s m args below meth c A Q ls hx hb hml hown hts hin hG Z hl ret
  have hl : lv_has ls 4 [(0, .ref x), (1, .int (nI (n + 1)))] := hl
  have Z : nW G A ([(x, .inr (3, [.int c0, .ref ea, .int (nI n)])), (ea, .inl (G.1.1 102, n, .inr (.inr (.inr (.inr f)))))]) ([]) rc s.heap _ _ := Z
  refine lv_aload_n hx hb dJ2_grow_2_0 rfl (lv_at hl 0 rfl) ?_
  refine r_get (v := .ref ea) hx hb hts in_J2 hown hG Z.w 0 rfl rfl 1 (by decide) q94 (fun _ h9 => h9) rfl dJ2_grow_2_1 ?_
  refine r_alen hx hb hG Z.w 1 2 rfl rfl dJ2_grow_2_4 ?_
  refine lv_istore_n (lv' := [(2, .int (nI n)), (0, .ref x), (1, .int (nI (n + 1)))]) hx hb dJ2_grow_2_5 rfl hl (by decide) rfl (fun ls hl => ?_)
  refine lv_iload_n hx hb dJ2_grow_2_6 rfl (lv_at hl 0 rfl) ?_
  refine lv_if_gt (tgt := 20) hx hb dJ2_grow_2_7 (by decide) (fun c7 => ?_) (fun c7 => ?_)
  · skip
    have c7 := n_lt_t (a := 0) (b := n) c7 (by decide) (by omega)
    refine lv_iload_n hx hb dJ2_grow_2_20 rfl (lv_at hl 0 rfl) ?_
    refine lv_iload_n hx hb dJ2_grow_2_21 rfl (lv_at hl 2 rfl) ?_
    refine lv_iload_n hx hb dJ2_grow_2_22 rfl (lv_at hl 0 rfl) ?_
    refine lv_isub hx hb dJ2_grow_2_23 ?_
    refine r_as (z := nI 1) (by rw [pk_sub (by omega)]; congr 1; omega) ?_
    refine lv_iload_n hx hb dJ2_grow_2_24 rfl (lv_at hl 0 rfl) ?_
    refine lv_iconst (v := nI 1) hx hb dJ2_grow_2_25 rfl ?_
    refine lv_ishr hx hb dJ2_grow_2_26 ?_
    refine r_as (z := nI (n / 2)) (sh1 (by omega)) ?_
    refine ns_i (k := 3) (nr_S (As := [.int (nI n), .int (nI 1), .int (nI (n / 2))]) (rest := []) hx hb hml hown hts (J9_nl l G n (n / 2) (by first | assumption | omega | rfl) (by first | assumption | omega | rfl)) nPs.blind 3 q248 q249 q58 q250 (by decide +kernel) ⟨⟨Nat.le_of_ble_eq_true rfl, Nat.le_of_ble_eq_true rfl⟩, Nat.le_of_ble_eq_true rfl, Nat.le_of_ble_eq_true rfl⟩ (nPs_of hG Z va_P.m0) rfl hl.1 rfl (Nat.le_of_ble_eq_true rfl) dJ2_grow_2_27) (fun r27 hp27 => ?_)
    have he27 := hp27
    have he27 : r27 = nI (n + (n / 2)) := he27
    subst he27
    refine lv_istore_n (lv' := [(3, .int (nI (n + (n / 2)))), (2, .int (nI n)), (0, .ref x), (1, .int (nI (n + 1)))]) hx hb dJ2_grow_2_30 rfl hl (by decide) rfl (fun ls hl => ?_)
    refine lv_aload_n hx hb dJ2_grow_2_31 rfl (lv_at hl 2 rfl) ?_
    refine lv_aload_n hx hb dJ2_grow_2_32 rfl (lv_at hl 2 rfl) ?_
    refine r_get (v := .ref ea) hx hb hts in_J2 hown hG Z.w 0 rfl rfl 1 (by decide) q94 (fun _ h9 => h9) rfl dJ2_grow_2_33 ?_
    refine lv_iload_n hx hb dJ2_grow_2_36 rfl (lv_at hl 0 rfl) ?_
    refine nc_q (k := 3) (wcc := [(ea, .inl (G.1.1 102, n, .inr (.inr (.inr (.inr f)))))]) (wr := [(x, .inr (3, [.int c0, .ref ea, .int (nI n)]))]) (nr_S (As := [.ref ea, .int (nI (n + (n / 2)))]) (rest := [.ref x]) hx hb hml hown hts ((J11_c1 l G ea n f (n + (n / 2)) rc ci cl (by first | assumption | omega | rfl) (by first | assumption | omega | rfl) (by first | assumption | omega | rfl) (by first | assumption | omega | rfl) (by first | assumption | omega | rfl)) _) nP.blind 2 q258 q259 q60 q260 (by decide +kernel) ⟨⟨Nat.le_of_ble_eq_true rfl, Nat.le_of_ble_eq_true rfl⟩, Nat.le_of_ble_eq_true rfl, (by show _ ≤ 30; omega)⟩ (nP_of hG Z [1] rfl (by decide) Z.rc (Z.apR [1] rfl)) rfl hl.1 rfl (Nat.le_of_ble_eq_true rfl) dJ2_grow_2_37) Z [1] [0] rfl rfl (by decide) (by decide) (fun r37 u H locs hp37 Z => ?_)
    obtain ⟨e1_37, rfl⟩ : ∃ z, z = u := ⟨_, rfl⟩
    have he37 := hp37
    have he37 : r37 = some e1_37 := he37
    subst he37
    have Z : nW G A ([(x, .inr (3, [.int c0, .ref ea, .int (nI n)])), (ea, .inl (G.1.1 102, n, .inr (.inr (.inr (.inr f))))), (e1_37, .inl (G.1.1 102, n + (n / 2), .inr (.inr (.inr (.inr (va_cpy f (fun _ => none) 0 0 n))))))]) ([]) rc s.heap _ _ := Z
    refine lv_dup_x1 hx hb dJ2_grow_2_40 rfl rfl ?_
    refine r_put (ty := .array (.object "java/lang/Object")) hx hb hts in_J2 tyJ2 tyJ2_ok nmJ2 hown hG Z 0 rfl rfl 1 (by decide) q94 (fun _ h9 => h9) rfl (by decide +kernel) rfl rfl (Nat.le_of_ble_eq_true rfl) (wc' := [(x, .inr (3, [.int c0, .ref e1_37, .int (nI n)])), (ea, .inl (G.1.1 102, n, .inr (.inr (.inr (.inr f))))), (e1_37, .inl (G.1.1 102, n + (n / 2), .inr (.inr (.inr (.inr (va_cpy f (fun _ => none) 0 0 n))))))]) rfl dJ2_grow_2_41 (fun H locs Z => ?_)
    exact ret (some e1_37) e1_37 dJ2_grow_2_44 rfl Z (Nat.le_of_ble_eq_true rfl) (by omega)
  · skip
    have c7 := n_lt_f (a := 0) (b := n) c7 (by decide) (by omega)
    exfalso; omega
set_option maxHeartbeats 4000000 in
set_option maxRecDepth 100000 in
theorem J2_gB (l : Launch) (G : nG) (x : Nat) (c0 : Int32) (ea : Nat) (n : Nat) (f : Nat → Option Nat) (rc : va_W) (ci : Nat) (cl : vw_C) (hn1 : 10 ≤ n) (hn : n ≤ 20) (hc : vwCl[ci]? = some cl) (hca : Cond.castable cl.1 "java/lang/Object" ∈ lw_tbl) (he : lsE rc ci n f) : nMq (S := Nat) l yJ2_grow cJ2_grow 1 ((.array (.object "java/lang/Object"))) 5 1 30 180 G [.ref x] ([(x, .inr (3, [.int c0, .ref ea, .int (nI n)])), (ea, .inl (G.1.1 102, n, .inr (.inr (.inr (.inr f)))))]) rc (fun (u : Nat) => [(x, .inr (3, [.int c0, .ref u, .int (nI n)])), (ea, .inl (G.1.1 102, n, .inr (.inr (.inr (.inr f))))), (u, .inl (G.1.1 102, n + n / 2, .inr (.inr (.inr (.inr (va_cpy f (fun _ => none) 0 0 n))))))]) (fun (r : Option Nat) (u : Nat) => r = (some u)) := by
  refine nMq.of (own := "java/util/ArrayList") rfl (by decide +kernel) (Nat.le_of_ble_eq_true rfl) (Or.inr ⟨_, rfl⟩) ?_
  intro p e s m args below meth c A Q ls hx hb hml hown hts hin hG Z hl ret
  have hl : lv_has ls 1 [(0, .ref x)] := hl
  have Z : nW G A ([(x, .inr (3, [.int c0, .ref ea, .int (nI n)])), (ea, .inl (G.1.1 102, n, .inr (.inr (.inr (.inr f)))))]) ([]) rc s.heap _ _ := Z
  refine lv_aload_n hx hb dJ2_grow_0 rfl (lv_at hl 0 rfl) ?_
  refine lv_aload_n hx hb dJ2_grow_1 rfl (lv_at hl 0 rfl) ?_
  refine r_get (v := .int (nI n)) hx hb hts in_J2 hown hG Z.w 0 rfl rfl 2 (by decide) q95 (fun _ h9 => h9) rfl dJ2_grow_2 ?_
  refine lv_iconst (v := nI 1) hx hb dJ2_grow_5 rfl ?_
  refine lv_iadd hx hb dJ2_grow_6 ?_
  refine r_as (z := nI (n + 1)) (nI_add _ _) ?_
  refine nc_q (k := 3) (wcc := [(x, .inr (3, [.int c0, .ref ea, .int (nI n)])), (ea, .inl (G.1.1 102, n, .inr (.inr (.inr (.inr f)))))]) (wr := []) (nr_V (As := [.int (nI (n + 1))]) (rest := []) hx hb hml hown hts ((J2_gB2 l G x c0 ea n f rc ci cl (by first | assumption | omega | rfl) (by first | assumption | omega | rfl) (by first | assumption | omega | rfl) (by first | assumption | omega | rfl) (by first | assumption | omega | rfl)) _) nP.blind 1 q244 q246 qs3 q48 q247 (by decide +kernel) ⟨⟨Nat.le_of_ble_eq_true rfl, Nat.le_of_ble_eq_true rfl⟩, Nat.le_of_ble_eq_true rfl, Nat.le_of_ble_eq_true rfl⟩ (r_recv hG Z.w 0 (C := "java/util/ArrayList") rfl rfl rfl) (nP_of hG Z [0, 1] rfl (by decide) Z.rc (Z.apR [0, 1] rfl)) rfl hl.1 rfl (Nat.le_of_ble_eq_true rfl) dJ2_grow_7) Z [0, 1] [] rfl rfl (by decide) (by decide) (fun r7 u H locs hp7 Z => ?_)
  obtain ⟨e1_7, rfl⟩ : ∃ z, z = u := ⟨_, rfl⟩
  have he7 := hp7
  have he7 : r7 = some e1_7 := he7
  subst he7
  have Z : nW G A ([(x, .inr (3, [.int c0, .ref e1_7, .int (nI n)])), (ea, .inl (G.1.1 102, n, .inr (.inr (.inr (.inr f))))), (e1_7, .inl (G.1.1 102, n + n / 2, .inr (.inr (.inr (.inr (va_cpy f (fun _ => none) 0 0 n))))))]) ([]) rc s.heap _ _ := Z
  exact ret (some e1_7) e1_7 dJ2_grow_10 rfl Z (Nat.le_of_ble_eq_true rfl) (Nat.le_of_ble_eq_true rfl)
set_option maxHeartbeats 4000000 in
set_option maxRecDepth 100000 in
theorem J2_a2 (l : Launch) (G : nG) (x : Nat) (c0 : Int32) (ea : Nat) (n : Nat) (cap : Nat) (f : Nat → Option Nat) (X : va_W) (v : Nat) (rc : va_W) (ci : Nat) (cl : vw_C) (vs : List Value) (hX : lsX G X ea n cap f) (hn : n ≤ 20) (hcap : cap ≤ 30) (hc : vwCl[ci]? = some cl) (hca : Cond.castable cl.1 "java/lang/Object" ∈ lw_tbl) (he : lsE rc ci n f) (hv : (v, .inr (ci, vs)) ∈ rc) : nMv (S := Nat × Nat × (Nat → Option Nat) × va_W) l yJ2_add_2 cJ2_add_2 4 6 1 30 210 G [.ref x, .ref v, .ref ea, .int (nI n)] ([(x, .inr (3, [.int c0, .ref ea, .int (nI n)]))] ++ (X ++ [])) rc (fun (u : Nat × Nat × (Nat → Option Nat) × va_W) => [(x, .inr (3, [.int c0, .ref u.1, .int (nI (n + 1))]))] ++ (u.2.2.2 ++ ([]))) (fun (u : Nat × Nat × (Nat → Option Nat) × va_W) => lsX G u.2.2.2 u.1 (n + 1) u.2.1 u.2.2.1 ∧ u.2.1 ≤ 30 ∧ u.2.2.1 n = some v ∧ ∀ v_, v_ < n → u.2.2.1 v_ = f v_) := by
  refine nMv.of (own := "java/util/ArrayList") rfl (by decide +kernel) (Nat.le_of_ble_eq_true rfl) ?_
  intro p e s m args below meth c A Q ls hx hb hml hown hts hin hG Z hl ret
  have hl : lv_has ls 4 [(0, .ref x), (1, .ref v), (2, .ref ea), (3, .int (nI n))] := hl
  have Z := Z.in1 (a := [(x, .inr (3, [.int c0, .ref ea, .int (nI n)]))]) (f := X ++ [])
  have Z : nW G A ([(x, .inr (3, [.int c0, .ref ea, .int (nI n)]))]) (X ++ ([])) rc s.heap _ _ := Z
  rcases hX with ⟨rfl, rfl, rfl⟩ | ⟨rfl, hnc, hcp⟩
  · skip
    have Z := Z.re (wc' := [(x, .inr (3, [.int c0, .ref G.2.2.1, .int (nI 0)]))]) (fz' := []) rfl
    have Z : nW G A ([(x, .inr (3, [.int c0, .ref G.2.2.1, .int (nI 0)]))]) ([]) rc s.heap _ _ := Z
    refine lv_iload_n hx hb dJ2_add_2_0 rfl (lv_at hl 3 rfl) ?_
    refine lv_aload_n hx hb dJ2_add_2_1 rfl (lv_at hl 2 rfl) ?_
    refine r_lenE hx hb hG Z dJ2_add_2_2 ?_
    refine lv_icmp_ne (tgt := 11) hx hb dJ2_add_2_3 (by decide) (fun c3 => ?_) (fun c3 => ?_)
    · skip
      exact absurd c3 (by decide)
    · skip
      have c3 := n_eq_t (a := 0) (b := 0) c3 (by decide) (by decide)
      refine lv_aload_n hx hb dJ2_add_2_6 rfl (lv_at hl 0 rfl) ?_
      refine nc_q (k := 3) (wcc := [(x, .inr (3, [.int c0, .ref G.2.2.1, .int (nI 0)]))]) (wr := []) (nr_V (As := []) (rest := []) hx hb hml hown hts ((J2_gA l G x c0) _) nP.blind 0 q240 q242 qs2 q48 q243 (by decide +kernel) ⟨⟨Nat.le_of_ble_eq_true rfl, Nat.le_of_ble_eq_true rfl⟩, Nat.le_of_ble_eq_true rfl, Nat.le_of_ble_eq_true rfl⟩ (r_recv hG Z.w 0 (C := "java/util/ArrayList") rfl rfl rfl) (nP_of hG Z [0] rfl (by decide) va_P.m0 nAp.nil) rfl hl.1 rfl (Nat.le_of_ble_eq_true rfl) dJ2_add_2_7) Z [0] [] rfl rfl (by decide) (by decide) (fun r7 u H locs hp7 Z => ?_)
      obtain ⟨e1_7, rfl⟩ : ∃ z, z = u := ⟨_, rfl⟩
      have he7 := hp7
      have he7 : r7 = some e1_7 := he7
      subst he7
      have Z : nW G A ([(x, .inr (3, [.int c0, .ref e1_7, .int (nI 0)])), (e1_7, .inl (G.1.1 102, 10, .inr (.inr (.inr (.inr (fun _ => none))))))]) ([]) rc s.heap _ _ := Z
      refine lv_astore_n (lv' := [(2, .ref e1_7), (0, .ref x), (1, .ref v), (3, .int (nI 0))]) hx hb dJ2_add_2_10 rfl hl (by decide) rfl (fun ls hl => ?_)
      refine lv_aload_n hx hb dJ2_add_2_11 rfl (lv_at hl 0 rfl) ?_
      refine lv_iload_n hx hb dJ2_add_2_12 rfl (lv_at hl 3 rfl) ?_
      refine lv_aload_n hx hb dJ2_add_2_13 rfl (lv_at hl 2 rfl) ?_
      refine r_aast hx hb hG Z 1 rfl (va_P.m1 Z.rc hv va_P.m0) hc hca (j := 0) (by omega) (by omega) (wc' := [(x, .inr (3, [.int c0, .ref e1_7, .int (nI 0)])), (e1_7, .inl (G.1.1 102, 10, .inr (.inr (.inr (.inr (va_up (fun _ => none) 0 (some v)))))))]) rfl dJ2_add_2_14 (fun H locs Z => ?_)
      refine lv_aload_n hx hb dJ2_add_2_15 rfl (lv_at hl 1 rfl) ?_
      refine lv_iload_n hx hb dJ2_add_2_16 rfl (lv_at hl 3 rfl) ?_
      refine lv_iconst (v := nI 1) hx hb dJ2_add_2_17 rfl ?_
      refine lv_iadd hx hb dJ2_add_2_18 ?_
      refine r_as (z := nI 1) (nI_add _ _) ?_
      refine r_put (ty := .int) hx hb hts in_J2 tyJ2 tyJ2_ok nmJ2 hown hG Z 0 rfl rfl 2 (by decide) q95 (fun _ h9 => h9) rfl (by decide +kernel) rfl rfl (Nat.le_of_ble_eq_true rfl) (wc' := [(x, .inr (3, [.int c0, .ref e1_7, .int (nI 1)])), (e1_7, .inl (G.1.1 102, 10, .inr (.inr (.inr (.inr (va_up (fun _ => none) 0 (some v)))))))]) rfl dJ2_add_2_19 (fun H locs Z => ?_)
      have hpp : lsX G [(e1_7, .inl (G.1.1 102, 10, .inr (.inr (.inr (.inr (va_up (fun _ => none) 0 (some v)))))))] e1_7 (0 + 1) (10) (va_up (fun _ => none) 0 (some v)) ∧ 10 ≤ 30 ∧ (va_up (fun _ => none) 0 (some v)) 0 = some v ∧ ∀ v_, v_ < 0 → (va_up (fun _ => none) 0 (some v)) v_ = f v_ := ⟨Or.inr ⟨rfl, by omega, by omega⟩, by omega, by simp [va_up], fun i_ hi_ => by first | omega | (have hi9 : i_ ≠ 0 := (by omega); simp [va_up, va_cpy, hi9]; try omega)⟩
      exact ret (e1_7, 10, va_up (fun _ => none) 0 (some v), [(e1_7, .inl (G.1.1 102, 10, .inr (.inr (.inr (.inr (va_up (fun _ => none) 0 (some v)))))))]) dJ2_add_2_22 hpp (Z.perm [(x, .inr (3, [.int c0, .ref e1_7, .int (nI 1)])), (e1_7, .inl (G.1.1 102, 10, .inr (.inr (.inr (.inr (va_up (fun _ => none) 0 (some v)))))))] [0, 1] (by decide) rfl) (Nat.le_of_ble_eq_true rfl) (Nat.le_of_ble_eq_true rfl)
  · skip
    have Z := Z.re (wc' := [(x, .inr (3, [.int c0, .ref ea, .int (nI n)])), (ea, .inl (G.1.1 102, cap, .inr (.inr (.inr (.inr f)))))]) (fz' := []) rfl
    have Z : nW G A ([(x, .inr (3, [.int c0, .ref ea, .int (nI n)])), (ea, .inl (G.1.1 102, cap, .inr (.inr (.inr (.inr f)))))]) ([]) rc s.heap _ _ := Z
    refine lv_iload_n hx hb dJ2_add_2_0 rfl (lv_at hl 3 rfl) ?_
    refine lv_aload_n hx hb dJ2_add_2_1 rfl (lv_at hl 2 rfl) ?_
    refine r_alen hx hb hG Z.w 1 2 rfl rfl dJ2_add_2_2 ?_
    refine lv_icmp_ne (tgt := 11) hx hb dJ2_add_2_3 (by decide) (fun c3 => ?_) (fun c3 => ?_)
    · skip
      have c3 := n_eq_f (a := n) (b := cap) c3
      refine lv_aload_n hx hb dJ2_add_2_11 rfl (lv_at hl 2 rfl) ?_
      refine lv_iload_n hx hb dJ2_add_2_12 rfl (lv_at hl 3 rfl) ?_
      refine lv_aload_n hx hb dJ2_add_2_13 rfl (lv_at hl 1 rfl) ?_
      refine r_aast hx hb hG Z 1 rfl (va_P.m1 Z.rc hv va_P.m0) hc hca (j := n) (by omega) (by omega) (wc' := [(x, .inr (3, [.int c0, .ref ea, .int (nI n)])), (ea, .inl (G.1.1 102, cap, .inr (.inr (.inr (.inr (va_up f n (some v)))))))]) rfl dJ2_add_2_14 (fun H locs Z => ?_)
      refine lv_aload_n hx hb dJ2_add_2_15 rfl (lv_at hl 0 rfl) ?_
      refine lv_iload_n hx hb dJ2_add_2_16 rfl (lv_at hl 3 rfl) ?_
      refine lv_iconst (v := nI 1) hx hb dJ2_add_2_17 rfl ?_
      refine lv_iadd hx hb dJ2_add_2_18 ?_
      refine r_as (z := nI (n + 1)) (nI_add _ _) ?_
      refine r_put (ty := .int) hx hb hts in_J2 tyJ2 tyJ2_ok nmJ2 hown hG Z 0 rfl rfl 2 (by decide) q95 (fun _ h9 => h9) rfl (by decide +kernel) rfl rfl (Nat.le_of_ble_eq_true rfl) (wc' := [(x, .inr (3, [.int c0, .ref ea, .int (nI (n + 1))])), (ea, .inl (G.1.1 102, cap, .inr (.inr (.inr (.inr (va_up f n (some v)))))))]) rfl dJ2_add_2_19 (fun H locs Z => ?_)
      have hpp : lsX G [(ea, .inl (G.1.1 102, cap, .inr (.inr (.inr (.inr (va_up f n (some v)))))))] ea (n + 1) (cap) (va_up f n (some v)) ∧ cap ≤ 30 ∧ (va_up f n (some v)) n = some v ∧ ∀ v_, v_ < n → (va_up f n (some v)) v_ = f v_ := ⟨Or.inr ⟨rfl, by omega, by omega⟩, by omega, by simp [va_up], fun i_ hi_ => by first | omega | (have hi9 : i_ ≠ n := (by omega); simp [va_up, va_cpy, hi9]; try omega)⟩
      exact ret (ea, cap, va_up f n (some v), [(ea, .inl (G.1.1 102, cap, .inr (.inr (.inr (.inr (va_up f n (some v)))))))]) dJ2_add_2_22 hpp (Z.perm [(x, .inr (3, [.int c0, .ref ea, .int (nI (n + 1))])), (ea, .inl (G.1.1 102, cap, .inr (.inr (.inr (.inr (va_up f n (some v)))))))] [0, 1] (by decide) rfl) (Nat.le_of_ble_eq_true rfl) (Nat.le_of_ble_eq_true rfl)
    · skip
      have c3 := n_eq_t (a := n) (b := cap) c3 (by omega) (by omega)
      subst c3
      refine lv_aload_n hx hb dJ2_add_2_6 rfl (lv_at hl 0 rfl) ?_
      refine nc_q (k := 3) (wcc := [(x, .inr (3, [.int c0, .ref ea, .int (nI n)])), (ea, .inl (G.1.1 102, n, .inr (.inr (.inr (.inr f)))))]) (wr := []) (nr_V (As := []) (rest := []) hx hb hml hown hts ((J2_gB l G x c0 ea n f rc ci cl (by first | assumption | omega | rfl) (by first | assumption | omega | rfl) (by first | assumption | omega | rfl) (by first | assumption | omega | rfl) (by first | assumption | omega | rfl)) _) nP.blind 0 q240 q242 qs2 q48 q243 (by decide +kernel) ⟨⟨Nat.le_of_ble_eq_true rfl, Nat.le_of_ble_eq_true rfl⟩, Nat.le_of_ble_eq_true rfl, Nat.le_of_ble_eq_true rfl⟩ (r_recv hG Z.w 0 (C := "java/util/ArrayList") rfl rfl rfl) (nP_of hG Z [0, 1] rfl (by decide) Z.rc (Z.apR [0, 1] rfl)) rfl hl.1 rfl (Nat.le_of_ble_eq_true rfl) dJ2_add_2_7) Z [0, 1] [] rfl rfl (by decide) (by decide) (fun r7 u H locs hp7 Z => ?_)
      obtain ⟨e1_7, rfl⟩ : ∃ z, z = u := ⟨_, rfl⟩
      have he7 := hp7
      have he7 : r7 = some e1_7 := he7
      subst he7
      have Z : nW G A ([(x, .inr (3, [.int c0, .ref e1_7, .int (nI n)])), (ea, .inl (G.1.1 102, n, .inr (.inr (.inr (.inr f))))), (e1_7, .inl (G.1.1 102, n + n / 2, .inr (.inr (.inr (.inr (va_cpy f (fun _ => none) 0 0 n))))))]) ([]) rc s.heap _ _ := Z
      refine lv_astore_n (lv' := [(2, .ref e1_7), (0, .ref x), (1, .ref v), (3, .int (nI n))]) hx hb dJ2_add_2_10 rfl hl (by decide) rfl (fun ls hl => ?_)
      refine lv_aload_n hx hb dJ2_add_2_11 rfl (lv_at hl 0 rfl) ?_
      refine lv_iload_n hx hb dJ2_add_2_12 rfl (lv_at hl 3 rfl) ?_
      refine lv_aload_n hx hb dJ2_add_2_13 rfl (lv_at hl 2 rfl) ?_
      refine r_aast hx hb hG Z 2 rfl (va_P.m1 Z.rc hv va_P.m0) hc hca (j := n) (by omega) (by omega) (wc' := [(x, .inr (3, [.int c0, .ref e1_7, .int (nI n)])), (ea, .inl (G.1.1 102, n, .inr (.inr (.inr (.inr f))))), (e1_7, .inl (G.1.1 102, n + n / 2, .inr (.inr (.inr (.inr (va_up (va_cpy f (fun _ => none) 0 0 n) n (some v)))))))]) rfl dJ2_add_2_14 (fun H locs Z => ?_)
      refine lv_aload_n hx hb dJ2_add_2_15 rfl (lv_at hl 1 rfl) ?_
      refine lv_iload_n hx hb dJ2_add_2_16 rfl (lv_at hl 3 rfl) ?_
      refine lv_iconst (v := nI 1) hx hb dJ2_add_2_17 rfl ?_
      refine lv_iadd hx hb dJ2_add_2_18 ?_
      refine r_as (z := nI (n + 1)) (nI_add _ _) ?_
      refine r_put (ty := .int) hx hb hts in_J2 tyJ2 tyJ2_ok nmJ2 hown hG Z 0 rfl rfl 2 (by decide) q95 (fun _ h9 => h9) rfl (by decide +kernel) rfl rfl (Nat.le_of_ble_eq_true rfl) (wc' := [(x, .inr (3, [.int c0, .ref e1_7, .int (nI (n + 1))])), (ea, .inl (G.1.1 102, n, .inr (.inr (.inr (.inr f))))), (e1_7, .inl (G.1.1 102, n + n / 2, .inr (.inr (.inr (.inr (va_up (va_cpy f (fun _ => none) 0 0 n) n (some v)))))))]) rfl dJ2_add_2_19 (fun H locs Z => ?_)
      have hpp : lsX G [(e1_7, .inl (G.1.1 102, n + n / 2, .inr (.inr (.inr (.inr (va_up (va_cpy f (fun _ => none) 0 0 n) n (some v)))))))] e1_7 (n + 1) (n + n / 2) (va_up (va_cpy f (fun _ => none) 0 0 n) n (some v)) ∧ n + n / 2 ≤ 30 ∧ (va_up (va_cpy f (fun _ => none) 0 0 n) n (some v)) n = some v ∧ ∀ v_, v_ < n → (va_up (va_cpy f (fun _ => none) 0 0 n) n (some v)) v_ = f v_ := ⟨Or.inr ⟨rfl, by omega, by omega⟩, by omega, by simp [va_up], fun i_ hi_ => by first | omega | (have hi9 : i_ ≠ n := (by omega); simp [va_up, va_cpy, hi9]; try omega)⟩
      exact ret (e1_7, n + n / 2, va_up (va_cpy f (fun _ => none) 0 0 n) n (some v), [(e1_7, .inl (G.1.1 102, n + n / 2, .inr (.inr (.inr (.inr (va_up (va_cpy f (fun _ => none) 0 0 n) n (some v)))))))]) dJ2_add_2_22 hpp (Z.perm [(x, .inr (3, [.int c0, .ref e1_7, .int (nI (n + 1))])), (e1_7, .inl (G.1.1 102, n + n / 2, .inr (.inr (.inr (.inr (va_up (va_cpy f (fun _ => none) 0 0 n) n (some v)))))))] [0, 2] (by decide) rfl) (Nat.le_of_ble_eq_true rfl) (Nat.le_of_ble_eq_true rfl)
set_option maxHeartbeats 4000000 in
set_option maxRecDepth 100000 in
theorem J2_a (l : Launch) (G : nG) (x : Nat) (c0 : Int32) (ea : Nat) (n : Nat) (cap : Nat) (f : Nat → Option Nat) (X : va_W) (v : Nat) (rc : va_W) (ci : Nat) (cl : vw_C) (vs : List Value) (hX : lsX G X ea n cap f) (hn : n ≤ 20) (hcap : cap ≤ 30) (hc : vwCl[ci]? = some cl) (hca : Cond.castable cl.1 "java/lang/Object" ∈ lw_tbl) (he : lsE rc ci n f) (hv : (v, .inr (ci, vs)) ∈ rc) : nMi (S := Int32 × Nat × Nat × (Nat → Option Nat) × va_W) l yJ2_add cJ2_add 2 (.boolean) 7 1 30 240 G [.ref x, .ref v] ([(x, .inr (3, [.int c0, .ref ea, .int (nI n)]))] ++ (X ++ [])) rc (fun (u : Int32 × Nat × Nat × (Nat → Option Nat) × va_W) => [(x, .inr (3, [.int u.1, .ref u.2.1, .int (nI (n + 1))]))] ++ (u.2.2.2.2 ++ ([]))) (fun (r : Int32) (u : Int32 × Nat × Nat × (Nat → Option Nat) × va_W) => r = (bI true) ∧ (lsX G u.2.2.2.2 u.2.1 (n + 1) u.2.2.1 u.2.2.2.1 ∧ u.2.2.1 ≤ 30 ∧ u.2.2.2.1 n = some v ∧ ∀ v_, v_ < n → u.2.2.2.1 v_ = f v_)) := by
  refine nMi.of (own := "java/util/ArrayList") rfl (by decide +kernel) (Nat.le_of_ble_eq_true rfl) (fun r u h => by rw [h.1]; exact bI_n _) ?_
  intro p e s m args below meth c A Q ls hx hb hml hown hts hin hG Z hl ret
  have hl : lv_has ls 2 [(0, .ref x), (1, .ref v)] := hl
  have Z := Z.in1 (a := [(x, .inr (3, [.int c0, .ref ea, .int (nI n)]))]) (f := X ++ [])
  have Z : nW G A ([(x, .inr (3, [.int c0, .ref ea, .int (nI n)]))]) (X ++ ([])) rc s.heap _ _ := Z
  refine lv_aload_n hx hb dJ2_add_0 rfl (lv_at hl 0 rfl) ?_
  refine lv_dup hx hb dJ2_add_1 rfl ?_
  refine r_get (v := .int c0) hx hb hts in_J2 hown hG Z.w 0 rfl rfl 0 (by decide) q97 (fun x9 h9 => u_same (hts _ q98) x9 h9) rfl dJ2_add_2 ?_
  refine lv_iconst (v := nI 1) hx hb dJ2_add_5 rfl ?_
  refine lv_iadd hx hb dJ2_add_6 ?_
  refine r_put (ty := .int) hx hb hts in_J2 tyJ2 tyJ2_ok nmJ2 hown hG Z 0 rfl rfl 0 (by decide) q97 (fun x9 h9 => u_same (hts _ q98) x9 h9) rfl (by decide +kernel) rfl rfl (Nat.le_of_ble_eq_true rfl) (wc' := [(x, .inr (3, [.int (c0 + (nI 1)), .ref ea, .int (nI n)]))]) rfl dJ2_add_7 (fun H locs Z => ?_)
  refine lv_aload_n hx hb dJ2_add_10 rfl (lv_at hl 0 rfl) ?_
  refine lv_aload_n hx hb dJ2_add_11 rfl (lv_at hl 1 rfl) ?_
  refine lv_aload_n hx hb dJ2_add_12 rfl (lv_at hl 0 rfl) ?_
  refine r_get (v := .ref ea) hx hb hts in_J2 hown hG Z.w 0 rfl rfl 1 (by decide) q94 (fun _ h9 => h9) rfl dJ2_add_13 ?_
  refine lv_aload_n hx hb dJ2_add_16 rfl (lv_at hl 0 rfl) ?_
  refine r_get (v := .int (nI n)) hx hb hts in_J2 hown hG Z.w 0 rfl rfl 2 (by decide) q95 (fun _ h9 => h9) rfl dJ2_add_17 ?_
  have Z := Z.th1
  refine nc_v (k := 3) (wcc := [(x, .inr (3, [.int (c0 + (nI 1)), .ref ea, .int (nI n)]))] ++ (X ++ [])) (wr := []) (nr_V (As := [.ref v, .ref ea, .int (nI n)]) (rest := []) hx hb hml hown hts ((J2_a2 l G x (c0 + (nI 1)) ea n cap f X v rc ci cl vs (by first | assumption | omega | rfl) (by first | assumption | omega | rfl) (by first | assumption | omega | rfl) (by first | assumption | omega | rfl) (by first | assumption | omega | rfl) (by first | assumption | omega | rfl) (by first | assumption | omega | rfl)) _) nP.blind 3 q236 q238 qs1 q48 q239 (by decide +kernel) ⟨⟨Nat.le_of_ble_eq_true rfl, Nat.le_of_ble_eq_true rfl⟩, Nat.le_of_ble_eq_true rfl, Nat.le_of_ble_eq_true rfl⟩ (r_recv hG Z.w 0 (C := "java/util/ArrayList") rfl rfl rfl) (nP_of hG Z ([0] ++ List.range' (List.length ([(x, .inr (3, [.int (c0 + (nI 1)), .ref ea, .int (nI n)]))])) (List.length X)) (n_withC (wc := [(x, .inr (3, [.int (c0 + (nI 1)), .ref ea, .int (nI n)]))]) (wcc := [(x, .inr (3, [.int (c0 + (nI 1)), .ref ea, .int (nI n)]))]) (N := X) (isC := [0]) rfl) (n_withN (wc := [(x, .inr (3, [.int (c0 + (nI 1)), .ref ea, .int (nI n)]))]) (wcc := [(x, .inr (3, [.int (c0 + (nI 1)), .ref ea, .int (nI n)]))]) (N := X) (isC := [0]) rfl (by decide)) Z.rc (Z.apR ([0] ++ List.range' (List.length ([(x, .inr (3, [.int (c0 + (nI 1)), .ref ea, .int (nI n)]))])) (List.length X)) (n_withC (wc := [(x, .inr (3, [.int (c0 + (nI 1)), .ref ea, .int (nI n)]))]) (wcc := [(x, .inr (3, [.int (c0 + (nI 1)), .ref ea, .int (nI n)]))]) (N := X) (isC := [0]) rfl))) rfl hl.1 rfl (Nat.le_of_ble_eq_true rfl) dJ2_add_20) Z ([0] ++ List.range' (List.length ([(x, .inr (3, [.int (c0 + (nI 1)), .ref ea, .int (nI n)]))])) (List.length X)) [] (n_withC (wc := [(x, .inr (3, [.int (c0 + (nI 1)), .ref ea, .int (nI n)]))]) (wcc := [(x, .inr (3, [.int (c0 + (nI 1)), .ref ea, .int (nI n)]))]) (N := X) (isC := [0]) rfl) (n_withR (wc := [(x, .inr (3, [.int (c0 + (nI 1)), .ref ea, .int (nI n)]))]) (wr := []) (N := X) (isR := []) rfl) (by decide) (n_withD (wc := [(x, .inr (3, [.int (c0 + (nI 1)), .ref ea, .int (nI n)]))]) (wr := []) (N := X) (isC := [0]) (isR := []) rfl (by decide)) (fun u H locs hp20 Z => ?_)
  obtain ⟨e1_20, cap1_20, f1_20, X1_20⟩ := u
  have Z := Z.fz1 (a := []) (b := [(x, .inr (3, [.int (c0 + (nI 1)), .ref e1_20, .int (nI (n + 1))]))])
  have hp20 : lsX G X1_20 e1_20 (n + 1) cap1_20 f1_20 ∧ cap1_20 ≤ 30 ∧ f1_20 n = some v ∧ ∀ v_, v_ < n → f1_20 v_ = f v_ := hp20
  have Z : nW G A ([(x, .inr (3, [.int (c0 + (nI 1)), .ref e1_20, .int (nI (n + 1))]))]) (X1_20 ++ ([])) rc s.heap _ _ := Z
  refine lv_iconst (v := nI 1) hx hb dJ2_add_23 rfl ?_
  refine r_as (z := bI true) rfl ?_
  exact ret (bI true) (c0 + (nI 1), e1_20, cap1_20, f1_20, X1_20) dJ2_add_24 (⟨(by first | rfl | assumption | omega | simp_all), hp20⟩) Z.out1 (Nat.le_of_ble_eq_true rfl) (Nat.le_of_ble_eq_true rfl)
set_option maxHeartbeats 4000000 in
set_option maxRecDepth 100000 in
theorem J2_fr (l : Launch) (G : nG) (x : Nat) (c0 : Int32) (ea : Nat) (n : Nat) (cap : Nat) (f : Nat → Option Nat) (i : Nat) (rc : va_W) (ci : Nat) (cl : vw_C) (hi : i < n) (hnc : n ≤ cap) (hcap : cap ≤ 30) (hc : vwCl[ci]? = some cl) (hca : Cond.castable cl.1 "java/lang/Object" ∈ lw_tbl) (he : lsE rc ci n f) : nMv (S := Int32 × (Nat → Option Nat)) l yJ2_fastRemove cJ2_fastRemove 4 2 0 0 90 G [.ref x, .ref ea, .int (nI i)] ([(x, .inr (3, [.int c0, .ref ea, .int (nI n)])), (ea, .inl (G.1.1 102, cap, .inr (.inr (.inr (.inr f)))))]) rc (fun (u : Int32 × (Nat → Option Nat)) => [(x, .inr (3, [.int u.1, .ref ea, .int (nI (n - 1))])), (ea, .inl (G.1.1 102, cap, .inr (.inr (.inr (.inr u.2)))))]) (fun (u : Int32 × (Nat → Option Nat)) => ∀ v_, v_ < n - 1 → u.2 v_ = if v_ < i then f v_ else f (v_ + 1)) := by
  refine nMv.of (own := "java/util/ArrayList") rfl (by decide +kernel) (Nat.le_of_ble_eq_true rfl) ?_
  intro p e s m args below meth c A Q ls hx hb hml hown hts hin hG Z hl ret
  have hl : lv_has ls 4 [(0, .ref x), (1, .ref ea), (2, .int (nI i))] := hl
  have Z : nW G A ([(x, .inr (3, [.int c0, .ref ea, .int (nI n)])), (ea, .inl (G.1.1 102, cap, .inr (.inr (.inr (.inr f)))))]) ([]) rc s.heap _ _ := Z
  refine lv_aload_n hx hb dJ2_fastRemove_0 rfl (lv_at hl 0 rfl) ?_
  refine lv_dup hx hb dJ2_fastRemove_1 rfl ?_
  refine r_get (v := .int c0) hx hb hts in_J2 hown hG Z.w 0 rfl rfl 0 (by decide) q97 (fun x9 h9 => u_same (hts _ q98) x9 h9) rfl dJ2_fastRemove_2 ?_
  refine lv_iconst (v := nI 1) hx hb dJ2_fastRemove_5 rfl ?_
  refine lv_iadd hx hb dJ2_fastRemove_6 ?_
  refine r_put (ty := .int) hx hb hts in_J2 tyJ2 tyJ2_ok nmJ2 hown hG Z 0 rfl rfl 0 (by decide) q97 (fun x9 h9 => u_same (hts _ q98) x9 h9) rfl (by decide +kernel) rfl rfl (Nat.le_of_ble_eq_true rfl) (wc' := [(x, .inr (3, [.int (c0 + (nI 1)), .ref ea, .int (nI n)])), (ea, .inl (G.1.1 102, cap, .inr (.inr (.inr (.inr f)))))]) rfl dJ2_fastRemove_7 (fun H locs Z => ?_)
  refine lv_aload_n hx hb dJ2_fastRemove_10 rfl (lv_at hl 0 rfl) ?_
  refine r_get (v := .int (nI n)) hx hb hts in_J2 hown hG Z.w 0 rfl rfl 2 (by decide) q95 (fun _ h9 => h9) rfl dJ2_fastRemove_11 ?_
  refine lv_iconst (v := nI 1) hx hb dJ2_fastRemove_14 rfl ?_
  refine lv_isub hx hb dJ2_fastRemove_15 ?_
  refine r_as (z := nI (n - 1)) (pk_sub (by omega)) ?_
  refine lv_dup hx hb dJ2_fastRemove_16 rfl ?_
  refine lv_istore_n (lv' := [(3, .int (nI (n - 1))), (0, .ref x), (1, .ref ea), (2, .int (nI i))]) hx hb dJ2_fastRemove_17 rfl hl (by decide) rfl (fun ls hl => ?_)
  refine lv_iload_n hx hb dJ2_fastRemove_18 rfl (lv_at hl 3 rfl) ?_
  refine lv_icmp_le (tgt := 34) hx hb dJ2_fastRemove_19 (by decide) (fun c19 => ?_) (fun c19 => ?_)
  · skip
    have c19 := n_le_t (a := n - 1) (b := i) c19 (by omega) (by omega)
    refine lv_aload_n hx hb dJ2_fastRemove_34 rfl (lv_at hl 2 rfl) ?_
    refine lv_aload_n hx hb dJ2_fastRemove_35 rfl (lv_at hl 1 rfl) ?_
    refine lv_iload_n hx hb dJ2_fastRemove_36 rfl (lv_at hl 0 rfl) ?_
    refine lv_dup_x1 hx hb dJ2_fastRemove_37 rfl rfl ?_
    refine r_put (ty := .int) hx hb hts in_J2 tyJ2 tyJ2_ok nmJ2 hown hG Z 0 rfl rfl 2 (by decide) q95 (fun _ h9 => h9) rfl (by decide +kernel) rfl rfl (Nat.le_of_ble_eq_true rfl) (wc' := [(x, .inr (3, [.int (c0 + (nI 1)), .ref ea, .int (nI (n - 1))])), (ea, .inl (G.1.1 102, cap, .inr (.inr (.inr (.inr f)))))]) rfl dJ2_fastRemove_38 (fun H locs Z => ?_)
    refine lv_null hx hb dJ2_fastRemove_41 ?_
    refine r_aastN hx hb hG Z 1 rfl (j := n - 1) (by omega) (by omega) (wc' := [(x, .inr (3, [.int (c0 + (nI 1)), .ref ea, .int (nI (n - 1))])), (ea, .inl (G.1.1 102, cap, .inr (.inr (.inr (.inr (va_up f (n - 1) none))))))]) rfl dJ2_fastRemove_42 (fun H locs Z => ?_)
    exact ret (c0 + (nI 1), va_up f (n - 1) none) dJ2_fastRemove_43 (fun v_ hv_ => rm_eq2 hi hv_ (by omega)) Z (Nat.le_of_ble_eq_true rfl) (Nat.le_of_ble_eq_true rfl)
  · skip
    have c19 := n_le_f (a := n - 1) (b := i) c19 (by omega) (by omega)
    refine lv_aload_n hx hb dJ2_fastRemove_22 rfl (lv_at hl 2 rfl) ?_
    refine lv_iload_n hx hb dJ2_fastRemove_23 rfl (lv_at hl 3 rfl) ?_
    refine lv_iconst (v := nI 1) hx hb dJ2_fastRemove_24 rfl ?_
    refine lv_iadd hx hb dJ2_fastRemove_25 ?_
    refine r_as (z := nI (i + 1)) (nI_add _ _) ?_
    refine lv_aload_n hx hb dJ2_fastRemove_26 rfl (lv_at hl 2 rfl) ?_
    refine lv_iload_n hx hb dJ2_fastRemove_27 rfl (lv_at hl 3 rfl) ?_
    refine lv_iload_n hx hb dJ2_fastRemove_28 rfl (lv_at hl 0 rfl) ?_
    refine lv_iload_n hx hb dJ2_fastRemove_29 rfl (lv_at hl 3 rfl) ?_
    refine lv_isub hx hb dJ2_fastRemove_30 ?_
    refine r_as (z := nI ((n - 1) - i)) (pk_sub (by omega)) ?_
    refine r_copyq (C := cl.1) hx hb hml hl.1 hown hts q307 q285 q284 q61 hG Z 1 1 hca rfl rfl (sp := i + 1) (dp := i) (n := n - 1 - i) (by omega) (by omega) (by omega) (by omega) ?_ (Nat.le_of_ble_eq_true rfl) (Nat.le_of_ble_eq_true rfl) (wc' := [(x, .inr (3, [.int (c0 + (nI 1)), .ref ea, .int (nI n)])), (ea, .inl (G.1.1 102, cap, .inr (.inr (.inr (.inr (va_cpy f f (i + 1) i (n - 1 - i)))))))]) rfl dJ2_fastRemove_31 (fun H locs Z => ?_)
    · intro i_ hi_ y hy
      obtain ⟨y1, vs1, h1, h2⟩ := he (i + 1 + i_) (by omega)
      rw [h1] at hy
      obtain rfl := Option.some.inj hy
      exact r_recv hG (va_P.m1 Z.rc h2 va_P.m0) 0 rfl hc rfl
    refine lv_aload_n hx hb dJ2_fastRemove_34 rfl (lv_at hl 2 rfl) ?_
    refine lv_aload_n hx hb dJ2_fastRemove_35 rfl (lv_at hl 1 rfl) ?_
    refine lv_iload_n hx hb dJ2_fastRemove_36 rfl (lv_at hl 0 rfl) ?_
    refine lv_dup_x1 hx hb dJ2_fastRemove_37 rfl rfl ?_
    refine r_put (ty := .int) hx hb hts in_J2 tyJ2 tyJ2_ok nmJ2 hown hG Z 0 rfl rfl 2 (by decide) q95 (fun _ h9 => h9) rfl (by decide +kernel) rfl rfl (Nat.le_of_ble_eq_true rfl) (wc' := [(x, .inr (3, [.int (c0 + (nI 1)), .ref ea, .int (nI (n - 1))])), (ea, .inl (G.1.1 102, cap, .inr (.inr (.inr (.inr (va_cpy f f (i + 1) i (n - 1 - i)))))))]) rfl dJ2_fastRemove_38 (fun H locs Z => ?_)
    refine lv_null hx hb dJ2_fastRemove_41 ?_
    refine r_aastN hx hb hG Z 1 rfl (j := n - 1) (by omega) (by omega) (wc' := [(x, .inr (3, [.int (c0 + (nI 1)), .ref ea, .int (nI (n - 1))])), (ea, .inl (G.1.1 102, cap, .inr (.inr (.inr (.inr (va_up (va_cpy f f (i + 1) i (n - 1 - i)) (n - 1) none))))))]) rfl dJ2_fastRemove_42 (fun H locs Z => ?_)
    exact ret (c0 + (nI 1), va_up (va_cpy f f (i + 1) i (n - 1 - i)) (n - 1) none) dJ2_fastRemove_43 (fun v_ hv_ => rm_eq1 hi hv_) Z (Nat.le_of_ble_eq_true rfl) (Nat.le_of_ble_eq_true rfl)
set_option maxHeartbeats 4000000 in
set_option maxRecDepth 100000 in
theorem J2_r (l : Launch) (G : nG) (x : Nat) (c0 : Int32) (ea : Nat) (n : Nat) (cap : Nat) (f : Nat → Option Nat) (X : va_W) (i : Nat) (rc : va_W) (ci : Nat) (cl : vw_C) (hX : lsX G X ea n cap f) (hi : i < n) (hcap : cap ≤ 30) (hc : vwCl[ci]? = some cl) (hca : Cond.castable cl.1 "java/lang/Object" ∈ lw_tbl) (he : lsE rc ci n f) : nMq (S := Int32 × (Nat → Option Nat) × va_W) l yJ2_remove cJ2_remove 4 ((.object "java/lang/Object")) 4 0 0 120 G [.ref x, .int (nI i)] ([(x, .inr (3, [.int c0, .ref ea, .int (nI n)]))] ++ (X ++ [])) rc (fun (u : Int32 × (Nat → Option Nat) × va_W) => [(x, .inr (3, [.int u.1, .ref ea, .int (nI (n - 1))]))] ++ (u.2.2 ++ ([]))) (fun (r : Option Nat) (u : Int32 × (Nat → Option Nat) × va_W) => r = (f i) ∧ (lsX G u.2.2 ea (n - 1) cap u.2.1 ∧ (∀ v_, v_ < n - 1 → u.2.1 v_ = if v_ < i then f v_ else f (v_ + 1)))) := by
  refine nMq.of (own := "java/util/ArrayList") rfl (by decide +kernel) (Nat.le_of_ble_eq_true rfl) (Or.inl ⟨_, rfl⟩) ?_
  intro p e s m args below meth c A Q ls hx hb hml hown hts hin hG Z hl ret
  have hl : lv_has ls 4 [(0, .ref x), (1, .int (nI i))] := hl
  have Z := Z.in1 (a := [(x, .inr (3, [.int c0, .ref ea, .int (nI n)]))]) (f := X ++ [])
  have Z : nW G A ([(x, .inr (3, [.int c0, .ref ea, .int (nI n)]))]) (X ++ ([])) rc s.heap _ _ := Z
  rcases hX with ⟨-, -, e9⟩ | ⟨rfl, hnc, hcp⟩
  exact absurd hi (by omega)
  have Z := Z.re (wc' := [(x, .inr (3, [.int c0, .ref ea, .int (nI n)])), (ea, .inl (G.1.1 102, cap, .inr (.inr (.inr (.inr f)))))]) (fz' := []) rfl
  have Z : nW G A ([(x, .inr (3, [.int c0, .ref ea, .int (nI n)])), (ea, .inl (G.1.1 102, cap, .inr (.inr (.inr (.inr f)))))]) ([]) rc s.heap _ _ := Z
  refine lv_iload_n hx hb dJ2_remove_0 rfl (lv_at hl 1 rfl) ?_
  refine lv_aload_n hx hb dJ2_remove_1 rfl (lv_at hl 0 rfl) ?_
  refine r_get (v := .int (nI n)) hx hb hts in_J2 hown hG Z.w 0 rfl rfl 2 (by decide) q95 (fun _ h9 => h9) rfl dJ2_remove_2 ?_
  refine ns_i (k := 3) (nr_S (As := [.int (nI i), .int (nI n)]) (rest := []) hx hb hml hown hts (J7_ci l G i n (by first | assumption | omega | rfl) (by first | assumption | omega | rfl)) nPs.blind 2 q216 q217 q56 q218 (by decide +kernel) ⟨⟨Nat.le_of_ble_eq_true rfl, Nat.le_of_ble_eq_true rfl⟩, Nat.le_of_ble_eq_true rfl, Nat.le_of_ble_eq_true rfl⟩ (nPs_of hG Z va_P.m0) rfl hl.1 rfl (Nat.le_of_ble_eq_true rfl) dJ2_remove_5) (fun r5 hp5 => ?_)
  have he5 := hp5
  have he5 : r5 = nI i := he5
  subst he5
  refine lv_pop hx hb dJ2_remove_8 rfl ?_
  refine lv_aload_n hx hb dJ2_remove_9 rfl (lv_at hl 0 rfl) ?_
  refine r_get (v := .ref ea) hx hb hts in_J2 hown hG Z.w 0 rfl rfl 1 (by decide) q94 (fun _ h9 => h9) rfl dJ2_remove_10 ?_
  refine lv_astore_n (lv' := [(2, .ref ea), (0, .ref x), (1, .int (nI i))]) hx hb dJ2_remove_13 rfl hl (by decide) rfl (fun ls hl => ?_)
  refine lv_aload_n hx hb dJ2_remove_14 rfl (lv_at hl 0 rfl) ?_
  refine lv_iload_n hx hb dJ2_remove_15 rfl (lv_at hl 2 rfl) ?_
  refine r_aald hx hb hG Z.w 1 rfl (j := i) (by omega) (by omega) (v := va_rf (f i)) rfl dJ2_remove_16 ?_
  obtain ⟨y9, vs9, h91, h92⟩ := he i hi
  rw [h91]
  refine lv_astore_n (lv' := [(3, .ref y9), (2, .ref ea), (0, .ref x), (1, .int (nI i))]) hx hb dJ2_remove_17 rfl hl (by decide) rfl (fun ls hl => ?_)
  refine lv_aload_n hx hb dJ2_remove_18 rfl (lv_at hl 2 rfl) ?_
  refine lv_aload_n hx hb dJ2_remove_19 rfl (lv_at hl 1 rfl) ?_
  refine lv_iload_n hx hb dJ2_remove_20 rfl (lv_at hl 3 rfl) ?_
  refine nc_v (k := 3) (wcc := [(x, .inr (3, [.int c0, .ref ea, .int (nI n)])), (ea, .inl (G.1.1 102, cap, .inr (.inr (.inr (.inr f)))))]) (wr := []) (nr_V (As := [.ref ea, .int (nI i)]) (rest := []) hx hb hml hown hts ((J2_fr l G x c0 ea n cap f i rc ci cl (by first | assumption | omega | rfl) (by first | assumption | omega | rfl) (by first | assumption | omega | rfl) (by first | assumption | omega | rfl) (by first | assumption | omega | rfl) (by first | assumption | omega | rfl)) _) nP.blind 2 q303 q305 qs5 q48 q306 (by decide +kernel) ⟨⟨Nat.le_of_ble_eq_true rfl, Nat.le_of_ble_eq_true rfl⟩, Nat.le_of_ble_eq_true rfl, Nat.le_of_ble_eq_true rfl⟩ (r_recv hG Z.w 0 (C := "java/util/ArrayList") rfl rfl rfl) (nP_of hG Z [0, 1] rfl (by decide) Z.rc (Z.apR [0, 1] rfl)) rfl hl.1 rfl (Nat.le_of_ble_eq_true rfl) dJ2_remove_21) Z [0, 1] [] rfl rfl (by decide) (by decide) (fun u H locs hp21 Z => ?_)
  obtain ⟨c1_21, f1_21⟩ := u
  have hp21 : ∀ v_, v_ < n - 1 → f1_21 v_ = if v_ < i then f v_ else f (v_ + 1) := hp21
  have Z : nW G A ([(x, .inr (3, [.int c1_21, .ref ea, .int (nI (n - 1))])), (ea, .inl (G.1.1 102, cap, .inr (.inr (.inr (.inr f1_21)))))]) ([]) rc s.heap _ _ := Z
  refine lv_aload_n hx hb dJ2_remove_24 rfl (lv_at hl 0 rfl) ?_
  exact ret (some y9) (c1_21, f1_21, [(ea, .inl (G.1.1 102, cap, .inr (.inr (.inr (.inr f1_21)))))]) dJ2_remove_25 (⟨h91.symm, Or.inr ⟨rfl, by omega, hcp⟩, hp21⟩) Z (Nat.le_of_ble_eq_true rfl) (Nat.le_of_ble_eq_true rfl)
set_option maxHeartbeats 4000000 in
set_option maxRecDepth 100000 in
theorem J2_s (l : Launch) (G : nG) (x : Nat) (c0 : Int32) (ea : Nat) (n : Nat) (cap : Nat) (f : Nat → Option Nat) (X : va_W) (i : Nat) (rc : va_W) (ci : Nat) (cl : vw_C) (v : Nat) (vs : List Value) (hX : lsX G X ea n cap f) (hi : i < n) (hcap : cap ≤ 30) (hc : vwCl[ci]? = some cl) (hca : Cond.castable cl.1 "java/lang/Object" ∈ lw_tbl) (he : lsE rc ci n f) (hv : (v, .inr (ci, vs)) ∈ rc) : nMq (S := va_W) l yJ2_set cJ2_set 4 ((.object "java/lang/Object")) 4 0 0 120 G [.ref x, .int (nI i), .ref v] ([(x, .inr (3, [.int c0, .ref ea, .int (nI n)]))] ++ (X ++ [])) rc (fun (u : va_W) => [(x, .inr (3, [.int c0, .ref ea, .int (nI n)]))] ++ (u ++ ([]))) (fun (r : Option Nat) (u : va_W) => r = (f i) ∧ lsX G u ea n cap (va_up f i (some v))) := by
  refine nMq.of (own := "java/util/ArrayList") rfl (by decide +kernel) (Nat.le_of_ble_eq_true rfl) (Or.inl ⟨_, rfl⟩) ?_
  intro p e s m args below meth c A Q ls hx hb hml hown hts hin hG Z hl ret
  have hl : lv_has ls 4 [(0, .ref x), (1, .int (nI i)), (2, .ref v)] := hl
  have Z := Z.in1 (a := [(x, .inr (3, [.int c0, .ref ea, .int (nI n)]))]) (f := X ++ [])
  have Z : nW G A ([(x, .inr (3, [.int c0, .ref ea, .int (nI n)]))]) (X ++ ([])) rc s.heap _ _ := Z
  rcases hX with ⟨-, -, e9⟩ | ⟨rfl, hnc, hcp⟩
  exact absurd hi (by omega)
  have Z := Z.re (wc' := [(x, .inr (3, [.int c0, .ref ea, .int (nI n)])), (ea, .inl (G.1.1 102, cap, .inr (.inr (.inr (.inr f)))))]) (fz' := []) rfl
  have Z : nW G A ([(x, .inr (3, [.int c0, .ref ea, .int (nI n)])), (ea, .inl (G.1.1 102, cap, .inr (.inr (.inr (.inr f)))))]) ([]) rc s.heap _ _ := Z
  refine lv_iload_n hx hb dJ2_set_0 rfl (lv_at hl 1 rfl) ?_
  refine lv_aload_n hx hb dJ2_set_1 rfl (lv_at hl 0 rfl) ?_
  refine r_get (v := .int (nI n)) hx hb hts in_J2 hown hG Z.w 0 rfl rfl 2 (by decide) q95 (fun _ h9 => h9) rfl dJ2_set_2 ?_
  refine ns_i (k := 3) (nr_S (As := [.int (nI i), .int (nI n)]) (rest := []) hx hb hml hown hts (J7_ci l G i n (by first | assumption | omega | rfl) (by first | assumption | omega | rfl)) nPs.blind 2 q216 q217 q56 q218 (by decide +kernel) ⟨⟨Nat.le_of_ble_eq_true rfl, Nat.le_of_ble_eq_true rfl⟩, Nat.le_of_ble_eq_true rfl, Nat.le_of_ble_eq_true rfl⟩ (nPs_of hG Z va_P.m0) rfl hl.1 rfl (Nat.le_of_ble_eq_true rfl) dJ2_set_5) (fun r5 hp5 => ?_)
  have he5 := hp5
  have he5 : r5 = nI i := he5
  subst he5
  refine lv_pop hx hb dJ2_set_8 rfl ?_
  refine lv_aload_n hx hb dJ2_set_9 rfl (lv_at hl 0 rfl) ?_
  refine lv_iload_n hx hb dJ2_set_10 rfl (lv_at hl 1 rfl) ?_
  refine ns_q (k := 3) (nr_V (As := [.int (nI i)]) (rest := []) hx hb hml hown hts (J2_ed l G x c0 ea n cap f i (by first | assumption | omega | rfl) (by first | assumption | omega | rfl) (by first | assumption | omega | rfl)) nPs.blind 1 q222 q223 q224 q48 q225 (by decide +kernel) ⟨⟨Nat.le_of_ble_eq_true rfl, Nat.le_of_ble_eq_true rfl⟩, Nat.le_of_ble_eq_true rfl, Nat.le_of_ble_eq_true rfl⟩ (r_recv hG Z.w 0 (C := "java/util/ArrayList") rfl rfl rfl) (nPs_of hG Z Z.w) rfl hl.1 rfl (Nat.le_of_ble_eq_true rfl) dJ2_set_11) (fun r11 hp11 => ?_)
  have he11 := hp11
  have he11 : r11 = f i := he11
  subst he11
  obtain ⟨y9, vs9, h91, h92⟩ := he i hi
  rw [h91]
  refine lv_astore_n (lv' := [(3, .ref y9), (0, .ref x), (1, .int (nI i)), (2, .ref v)]) hx hb dJ2_set_14 rfl hl (by decide) rfl (fun ls hl => ?_)
  refine lv_aload_n hx hb dJ2_set_15 rfl (lv_at hl 1 rfl) ?_
  refine r_get (v := .ref ea) hx hb hts in_J2 hown hG Z.w 0 rfl rfl 1 (by decide) q94 (fun _ h9 => h9) rfl dJ2_set_16 ?_
  refine lv_iload_n hx hb dJ2_set_19 rfl (lv_at hl 2 rfl) ?_
  refine lv_aload_n hx hb dJ2_set_20 rfl (lv_at hl 3 rfl) ?_
  refine r_aast hx hb hG Z 1 rfl (va_P.m1 Z.rc hv va_P.m0) hc hca (j := i) (by omega) (by omega) (wc' := [(x, .inr (3, [.int c0, .ref ea, .int (nI n)])), (ea, .inl (G.1.1 102, cap, .inr (.inr (.inr (.inr (va_up f i (some v)))))))]) rfl dJ2_set_21 (fun H locs Z => ?_)
  refine lv_aload_n hx hb dJ2_set_22 rfl (lv_at hl 0 rfl) ?_
  exact ret (some y9) ([(ea, .inl (G.1.1 102, cap, .inr (.inr (.inr (.inr (va_up f i (some v)))))))]) dJ2_set_23 (⟨h91.symm, Or.inr ⟨rfl, hnc, hcp⟩⟩) Z (Nat.le_of_ble_eq_true rfl) (Nat.le_of_ble_eq_true rfl)
