/-- a letter's low and high byte -/
def cLo (c : Nat) : Int32 := sb_b (c % 256)
def cHi (c : Nat) : Int32 := sb_b (c / 256)
/-- the bytes of a text, by coder and room in letters -/
def sbI (T : List Nat) (co k mm : Nat) (g : Nat → Int32) : Prop := k ≤ 160 ∧ T.length ≤ k ∧ (∀ i, i < T.length → tC T i < 65536) ∧ (∀ i, fits .byte (.int (g i)) = true) ∧ ((co = 0 ∧ mm = k ∧ ∀ i, i < T.length → tC T i < 256 ∧ g i = sb_b (tC T i)) ∨ (co = 1 ∧ mm = 2 * k ∧ ∀ i, i < T.length → g (2 * i) = cLo (tC T i) ∧ g (2 * i + 1) = cHi (tC T i)))
theorem c_join {c : Nat} (h : c < 65536) : nI (c % 256) ||| nI (c / 256) <<< (nI 8 &&& 31) = nI c := by
  have e1 : nI (c / 256) <<< (nI 8 &&& 31) = nI (c / 256 * 256) := by
    have q : ∀ y, y < 256 → nI y <<< (nI 8 &&& 31) = nI (y * 256) := by decide +kernel
    exact q _ (by omega)
  rw [e1, nx_or]
  congr 1
  have h1 : (c % 256 ||| c / 256 * 256) % 2 ^ 8 = c % 256 % 2 ^ 8 ||| c / 256 * 256 % 2 ^ 8 := Nat.or_mod_two_pow
  have h2 : (c % 256 ||| c / 256 * 256) / 2 ^ 8 = c % 256 / 2 ^ 8 ||| c / 256 * 256 / 2 ^ 8 := Nat.or_div_two_pow
  rw [show c % 256 % 2 ^ 8 = c % 256 by omega, show c / 256 * 256 % 2 ^ 8 = 0 by omega, Nat.or_zero] at h1
  rw [show c % 256 / 2 ^ 8 = 0 by omega, show c / 256 * 256 / 2 ^ 8 = c / 256 by omega, Nat.zero_or] at h2
  omega
theorem shl_1 : ∀ {i : Nat}, i < 1024 → nI i <<< (nI 1 &&& 31) = nI (2 * i) := by
  intro i hi
  have q : ∀ y, y < 1024 → nI y <<< (nI 1 &&& 31) = nI (2 * y) := by decide +kernel
  exact q i hi
theorem shl_0 : ∀ {i : Nat}, i < 256 → nI i <<< (nI 0 &&& 31) = nI i := by
  intro i hi
  have q : ∀ y, y < 256 → nI y <<< (nI 0 &&& 31) = nI y := by decide +kernel
  exact q i hi
theorem c16 {c : Nat} (h : c < 65536) : ((nI c).toUInt32 % 65536).toInt32 = nI c := by
  rw [pk_char]
  congr 1
  show (BitVec.ofNat 32 c).toNat % 65536 = c
  rw [BitVec.toNat_ofNat]
  omega
set_option maxHeartbeats 4000000 in
set_option maxRecDepth 100000 in
theorem J8_ciR (l : Launch) (G : nG) (i : Nat) (n : Nat) (t_ : Nat) (hi : i < n) (hn : n < 2 ^ 31) : nSi l yJ8_checkIndex cJ8_checkIndex 3 (.int) 0 0 G [.int (nI i), .int (nI n), .ref t_] ([]) (fun r : Int32 => r = (nI i)) := by
  refine nSi.of (own := "jdk/internal/util/Preconditions") rfl (by decide +kernel) (Nat.le_of_ble_eq_true rfl) (fun _ _ => rfl) ?_
  intro p e s m args below meth c Q ls hx hb hml hown hts hG hP hl ret
  have hl : lv_has ls 3 [(0, .int (nI i)), (1, .int (nI n)), (2, .ref t_)] := hl
  refine lv_iload_n hx hb dJ8_checkIndex_0 rfl (lv_at hl 0 rfl) ?_
  refine lv_if_lt (tgt := 9) hx hb dJ8_checkIndex_1 (by decide) (fun c1 => ?_) (fun c1 => ?_)
  · skip
    have c1 := n_lt_t (a := i) (b := 0) c1 (by omega) (by decide)
    exfalso; omega
  · skip
    have c1 := n_lt_f (a := i) (b := 0) c1 (by omega) (by decide)
    refine lv_iload_n hx hb dJ8_checkIndex_4 rfl (lv_at hl 0 rfl) ?_
    refine lv_iload_n hx hb dJ8_checkIndex_5 rfl (lv_at hl 1 rfl) ?_
    refine lv_icmp_lt (tgt := 16) hx hb dJ8_checkIndex_6 (by decide) (fun c6 => ?_) (fun c6 => ?_)
    · skip
      have c6 := n_lt_t (a := i) (b := n) c6 (by omega) (by omega)
      refine lv_iload_n hx hb dJ8_checkIndex_16 rfl (lv_at hl 0 rfl) ?_
      exact ret (nI i) dJ8_checkIndex_17 (by first | rfl | assumption | omega | simp_all)
    · skip
      have c6 := n_lt_f (a := i) (b := n) c6 (by omega) (by omega)
      exfalso; omega
set_option maxHeartbeats 4000000 in
set_option maxRecDepth 100000 in
theorem J5_ci (l : Launch) (G : nG) (i : Nat) (n : Nat) (hi : i < n) (hn : n < 2 ^ 31) : nSv l yJ5_checkIndex cJ5_checkIndex 2 1 22 G [.int (nI i), .int (nI n)] ([]) (fun _ : Unit => True) := by
  refine nSv.of (own := "java/lang/String") rfl (by decide +kernel) (Nat.le_of_ble_eq_true rfl) ?_
  intro p e s m args below meth c Q ls hx hb hml hown hts hG hP hl ret
  have hl : lv_has ls 2 [(0, .int (nI i)), (1, .int (nI n))] := hl
  refine lv_iload_n hx hb dJ5_checkIndex_0 rfl (lv_at hl 0 rfl) ?_
  refine lv_iload_n hx hb dJ5_checkIndex_1 rfl (lv_at hl 1 rfl) ?_
  rcases hG.2.2.2.2.2.1.2.2.2.2 with hz | ⟨t9, hz⟩
  · skip
    refine va_gets (A := nB G) hx hb hz va_S.rf hown (hts _ q471) (fun _ h => h) dJ5_checkIndex_2 ?_
    refine ns_i (k := 3) (nr_S (As := [.int (nI i), .int (nI n), .null]) (rest := []) hx hb hml hown hts (J8_ci l G i n (by first | assumption | omega | rfl) (by first | assumption | omega | rfl)) nPs.blind 3 q473 q220 q57 q221 (by decide +kernel) ⟨⟨Nat.le_of_ble_eq_true rfl, Nat.le_of_ble_eq_true rfl⟩, Nat.le_of_ble_eq_true rfl, Nat.le_of_ble_eq_true rfl⟩ (nPs_of0 hG va_P.m0) rfl hl.1 rfl (Nat.le_of_ble_eq_true rfl) dJ5_checkIndex_5) (fun r5 hp5 => ?_)
    have he5 := hp5
    have he5 : r5 = nI i := he5
    subst he5
    refine lv_pop hx hb dJ5_checkIndex_8 rfl ?_
    exact ret dJ5_checkIndex_9 trivial
  · skip
    refine va_gets (A := nB G) hx hb hz va_S.rf hown (hts _ q471) (fun _ h => h) dJ5_checkIndex_2 ?_
    refine ns_i (k := 3) (nr_S (As := [.int (nI i), .int (nI n), .ref t9]) (rest := []) hx hb hml hown hts (J8_ciR l G i n t9 (by first | assumption | omega | rfl) (by first | assumption | omega | rfl)) nPs.blind 3 q473 q220 q57 q221 (by decide +kernel) ⟨⟨Nat.le_of_ble_eq_true rfl, Nat.le_of_ble_eq_true rfl⟩, Nat.le_of_ble_eq_true rfl, Nat.le_of_ble_eq_true rfl⟩ (nPs_of0 hG va_P.m0) rfl hl.1 rfl (Nat.le_of_ble_eq_true rfl) dJ5_checkIndex_5) (fun r5 hp5 => ?_)
    have he5 := hp5
    have he5 : r5 = nI i := he5
    subst he5
    refine lv_pop hx hb dJ5_checkIndex_8 rfl ?_
    exact ret dJ5_checkIndex_9 trivial
set_option maxHeartbeats 4000000 in
set_option maxRecDepth 100000 in
theorem J3_len (l : Launch) (G : nG) (sb : Nat) (va : Nat) (co : Nat) (ml : Int32) (len : Nat)  : nSi l yJ3_length cJ3_length 1 (.int) 0 0 G [.ref sb] ([(sb, .inr (7, [.ref va, .int (nI co), .int ml, .int (nI len)]))]) (fun r : Int32 => r = (nI len)) := by
  refine nSi.of (own := "java/lang/AbstractStringBuilder") rfl (by decide +kernel) (Nat.le_of_ble_eq_true rfl) (fun _ _ => rfl) ?_
  intro p e s m args below meth c Q ls hx hb hml hown hts hG hP hl ret
  have hl : lv_has ls 1 [(0, .ref sb)] := hl
  refine lv_aload_n hx hb dJ3_length_0 rfl (lv_at hl 0 rfl) ?_
  refine r_get (v := .int (nI len)) hx hb hts in_J4 hown hG hP 0 rfl rfl 3 (by decide) q139 (fun _ h9 => h9) rfl dJ3_length_1 ?_
  exact ret (nI len) dJ3_length_4 (by first | rfl | assumption | omega | simp_all)
set_option maxHeartbeats 4000000 in
set_option maxRecDepth 100000 in
theorem J4_len (l : Launch) (G : nG) (sb : Nat) (va : Nat) (co : Nat) (ml : Int32) (len : Nat)  : nSi l yJ4_length cJ4_length 1 (.int) 1 20 G [.ref sb] ([(sb, .inr (7, [.ref va, .int (nI co), .int ml, .int (nI len)]))]) (fun r : Int32 => r = (nI len)) := by
  refine nSi.of (own := "java/lang/StringBuilder") rfl (by decide +kernel) (Nat.le_of_ble_eq_true rfl) (fun _ _ => rfl) ?_
  intro p e s m args below meth c Q ls hx hb hml hown hts hG hP hl ret
  have hl : lv_has ls 1 [(0, .ref sb)] := hl
  refine lv_aload_n hx hb dJ4_length_0 rfl (lv_at hl 0 rfl) ?_
  refine ns_i (k := 3) (nr_U (C := "java/lang/StringBuilder") (ci := 7) (As := []) (rest := []) hx hb hml hown hts hG (J3_len l G sb va co ml len) nPs.blind 0 (List.forall_mem_cons.mpr ⟨q449, List.forall_mem_cons.mpr ⟨q1224, List.forall_mem_cons.mpr ⟨q148, List.forall_mem_cons.mpr ⟨q450, List.forall_mem_cons.mpr ⟨q49, fun _ h => absurd h List.not_mem_nil⟩⟩⟩⟩⟩) q451 (by decide +kernel) ⟨⟨Nat.le_of_ble_eq_true rfl, Nat.le_of_ble_eq_true rfl⟩, Nat.le_of_ble_eq_true rfl, Nat.le_of_ble_eq_true rfl⟩ rfl rfl (r_recv hG hP 0 (C := "java/lang/StringBuilder") rfl rfl rfl) (nPs_of0 hG hP) rfl hl.1 rfl (Nat.le_of_ble_eq_true rfl) dJ4_length_1) (fun r1 hp1 => ?_)
  have he1 := hp1
  have he1 : r1 = nI len := he1
  subst he1
  exact ret (nI len) dJ4_length_4 (by first | rfl | assumption | omega | simp_all)
set_option maxHeartbeats 4000000 in
set_option maxRecDepth 100000 in
theorem J3_isL (l : Launch) (G : nG) (sb : Nat) (va : Nat) (co : Nat) (ml : Int32) (len : Nat) (hco : co ≤ 1) : nSi l yJ3_isLatin1 cJ3_isLatin1 1 (.boolean) 0 0 G [.ref sb] ([(sb, .inr (7, [.ref va, .int (nI co), .int ml, .int (nI len)]))]) (fun r : Int32 => r = (bI (decide (co = 0)))) := by
  refine nSi.of (own := "java/lang/AbstractStringBuilder") rfl (by decide +kernel) (Nat.le_of_ble_eq_true rfl) (fun r h => by rw [h]; exact bI_n _) ?_
  intro p e s m args below meth c Q ls hx hb hml hown hts hG hP hl ret
  have hl : lv_has ls 1 [(0, .ref sb)] := hl
  refine va_gets (A := nB G) hx hb hG.2.2.2.2.2.1.1 va_S.rf hown (hts _ q127) (fun _ h => h) dJ3_isLatin1_0 ?_
  refine r_as (z := nI 1) rfl ?_
  refine lv_if_eq (tgt := 17) hx hb dJ3_isLatin1_3 (by decide) (fun c3 => ?_) (fun c3 => ?_)
  · skip
    exact absurd c3 (by decide)
  · skip
    have c3 := n_eq_f (a := 1) (b := 0) c3
    refine lv_aload_n hx hb dJ3_isLatin1_6 rfl (lv_at hl 0 rfl) ?_
    refine r_get (v := .int (nI co)) hx hb hts in_J4 hown hG hP 0 rfl rfl 1 (by decide) q137 (fun _ h9 => h9) rfl dJ3_isLatin1_7 ?_
    refine lv_if_ne (tgt := 17) hx hb dJ3_isLatin1_10 (by decide) (fun c10 => ?_) (fun c10 => ?_)
    · skip
      have c10 := n_eq_f (a := co) (b := 0) c10
      refine lv_iconst (v := nI 0) hx hb dJ3_isLatin1_17 rfl ?_
      refine r_as (z := bI false) rfl ?_
      exact ret (bI false) dJ3_isLatin1_18 (by simp [c10])
    · skip
      have c10 := n_eq_t (a := co) (b := 0) c10 (by omega) (by decide)
      refine lv_iconst (v := nI 1) hx hb dJ3_isLatin1_13 rfl ?_
      refine lv_goto (tgt := 18) hx hb dJ3_isLatin1_14 (by decide) ?_
      refine r_as (z := bI true) rfl ?_
      exact ret (bI true) dJ3_isLatin1_18 (by simp [c10])
set_option maxHeartbeats 4000000 in
set_option maxRecDepth 100000 in
theorem J3_i (l : Launch) (G : nG) (sb : Nat)  : nMv (S := Nat) l yJ3_init cJ3_init 2 1 1 16 24 G [.ref sb, .int (nI 16)] ([(sb, .inr (7, [.null, .int (nI 0), .int (nI 0), .int (nI 0)]))]) ([]) (fun (u : Nat) => [(sb, .inr (7, [.ref u, .int (nI 0), .int (nI 0), .int (nI 0)])), (u, .inl (G.1.1 101, 16, .inl (fun _ => 0)))]) (fun (u : Nat) => True) := by
  refine nMv.of (own := "java/lang/AbstractStringBuilder") rfl (by decide +kernel) (Nat.le_of_ble_eq_true rfl) ?_
  intro p e s m args below meth c A Q ls hx hb hml hown hts hin hG Z hl ret
  have hl : lv_has ls 2 [(0, .ref sb), (1, .int (nI 16))] := hl
  have Z : nW G A ([(sb, .inr (7, [.null, .int (nI 0), .int (nI 0), .int (nI 0)]))]) ([]) ([]) s.heap _ _ := Z
  refine lv_aload_n hx hb dJ3_init_0 rfl (lv_at hl 0 rfl) ?_
  refine W.objInit hx hb hown (hts _ q126) (hts _ q72) (hts _ q73) rfl (by rw [hml]; exact hl.1) rfl dJ3_init_1 (Nat.le_of_ble_eq_true rfl) (Nat.le_of_ble_eq_true rfl) ?_
  refine W.eq (g2 := F0 m 4 ls []) rfl ?_
  refine va_gets hx hb (hG.2.2.2.2.2.1.1.narrow (fun q h => Z.2.2.2.2.2.1 q h)) Z.2.2.1 hown (hts _ q127) (fun _ h => h) dJ3_init_4 ?_
  refine r_as (z := nI 1) rfl ?_
  refine lv_if_eq (tgt := 25) hx hb dJ3_init_7 (by decide) (fun c7 => ?_) (fun c7 => ?_)
  · skip
    exact absurd c7 (by decide)
  · skip
    have c7 := n_eq_f (a := 1) (b := 0) c7
    refine lv_aload_n hx hb dJ3_init_10 rfl (lv_at hl 0 rfl) ?_
    refine lv_iload_n hx hb dJ3_init_11 rfl (lv_at hl 1 rfl) ?_
    refine r_newb hx hb hts q149 hG Z (by decide) (Nat.le_of_ble_eq_true rfl) (Nat.le_of_ble_eq_true rfl) dJ3_init_12 (fun va H Z => ?_)
    have Z : nW G A ([(sb, .inr (7, [.null, .int (nI 0), .int (nI 0), .int (nI 0)])), (va, .inl (G.1.1 101, 16, .inl (fun _ => 0)))]) ([]) ([]) s.heap _ _ := Z
    refine r_put (ty := .array .byte) hx hb hts in_J4 tyJ4 tyJ4_ok nmJ4 hown hG Z 0 rfl rfl 0 (by decide) q136 (fun _ h9 => h9) rfl (by decide +kernel) rfl rfl (Nat.le_of_ble_eq_true rfl) (wc' := [(sb, .inr (7, [.ref va, .int (nI 0), .int (nI 0), .int (nI 0)])), (va, .inl (G.1.1 101, 16, .inl (fun _ => 0)))]) rfl dJ3_init_14 (fun H locs Z => ?_)
    refine lv_aload_n hx hb dJ3_init_17 rfl (lv_at hl 0 rfl) ?_
    refine lv_iconst (v := nI 0) hx hb dJ3_init_18 rfl ?_
    refine r_put (ty := .byte) hx hb hts in_J4 tyJ4 tyJ4_ok nmJ4 hown hG Z 0 rfl rfl 1 (by decide) q137 (fun _ h9 => h9) rfl (by decide +kernel) rfl rfl (Nat.le_of_ble_eq_true rfl) (wc' := [(sb, .inr (7, [.ref va, .int (nI 0), .int (nI 0), .int (nI 0)])), (va, .inl (G.1.1 101, 16, .inl (fun _ => 0)))]) rfl dJ3_init_19 (fun H locs Z => ?_)
    refine lv_goto (tgt := 38) hx hb dJ3_init_22 (by decide) ?_
    exact ret va dJ3_init_38 trivial Z (Nat.le_of_ble_eq_true rfl) (Nat.le_of_ble_eq_true rfl)
set_option maxHeartbeats 4000000 in
set_option maxRecDepth 100000 in
theorem J4_i (l : Launch) (G : nG) (sb : Nat)  : nMv (S := Nat) l yJ4_init cJ4_init 1 2 1 16 45 G [.ref sb] ([(sb, .inr (7, [.null, .int (nI 0), .int (nI 0), .int (nI 0)]))]) ([]) (fun (u : Nat) => [(sb, .inr (7, [.ref u, .int (nI 0), .int (nI 0), .int (nI 0)])), (u, .inl (G.1.1 101, 16, .inl (fun _ => 0)))]) (fun (u : Nat) => True) := by
  refine nMv.of (own := "java/lang/StringBuilder") rfl (by decide +kernel) (Nat.le_of_ble_eq_true rfl) ?_
  intro p e s m args below meth c A Q ls hx hb hml hown hts hin hG Z hl ret
  have hl : lv_has ls 1 [(0, .ref sb)] := hl
  have Z : nW G A ([(sb, .inr (7, [.null, .int (nI 0), .int (nI 0), .int (nI 0)]))]) ([]) ([]) s.heap _ _ := Z
  refine lv_aload_n hx hb dJ4_init_0 rfl (lv_at hl 0 rfl) ?_
  refine lv_bipush (v := nI 16) hx hb dJ4_init_1 rfl ?_
  refine nc_v (k := 3) (wcc := [(sb, .inr (7, [.null, .int (nI 0), .int (nI 0), .int (nI 0)]))]) (wr := []) (nr_I (As := [.int (nI 16)]) (rest := []) hx hb hml hown hts ((J3_i l G sb) _) nP.blind 1 q123 q124 q49 q125 rfl (by decide +kernel) ⟨⟨Nat.le_of_ble_eq_true rfl, Nat.le_of_ble_eq_true rfl⟩, Nat.le_of_ble_eq_true rfl, Nat.le_of_ble_eq_true rfl⟩ (nP_of hG Z [0] rfl (by decide) va_P.m0 nAp.nil) rfl hl.1 rfl (Nat.le_of_ble_eq_true rfl) dJ4_init_3) Z [0] [] rfl rfl (by decide) (by decide) (fun u H locs hp3 Z => ?_)
  obtain ⟨va_3, rfl⟩ : ∃ z, z = u := ⟨_, rfl⟩
  have Z : nW G A ([(sb, .inr (7, [.ref va_3, .int (nI 0), .int (nI 0), .int (nI 0)])), (va_3, .inl (G.1.1 101, 16, .inl (fun _ => 0)))]) ([]) ([]) s.heap _ _ := Z
  exact ret va_3 dJ4_init_6 trivial Z (Nat.le_of_ble_eq_true rfl) (Nat.le_of_ble_eq_true rfl)
set_option maxHeartbeats 4000000 in
set_option maxRecDepth 100000 in
theorem J6_len (l : Launch) (G : nG) (va : Nat) (mm : Nat) (g : Nat → Int32) (hm : mm ≤ 400) : nSi l yJ6_length cJ6_length 1 (.int) 0 0 G [.ref va] ([(va, .inl (G.1.1 101, mm, .inl g))]) (fun r : Int32 => r = (nI (mm / 2))) := by
  refine nSi.of (own := "java/lang/StringUTF16") rfl (by decide +kernel) (Nat.le_of_ble_eq_true rfl) (fun _ _ => rfl) ?_
  intro p e s m args below meth c Q ls hx hb hml hown hts hG hP hl ret
  have hl : lv_has ls 1 [(0, .ref va)] := hl
  refine lv_aload_n hx hb dJ6_length_0 rfl (lv_at hl 0 rfl) ?_
  refine r_alen hx hb hG hP 0 1 rfl rfl dJ6_length_1 ?_
  refine lv_iconst (v := nI 1) hx hb dJ6_length_2 rfl ?_
  refine lv_ishr hx hb dJ6_length_3 ?_
  refine r_as (z := nI (mm / 2)) (sh1 (by omega)) ?_
  exact ret (nI (mm / 2)) dJ6_length_4 rfl
set_option maxHeartbeats 4000000 in
set_option maxRecDepth 100000 in
theorem J6_gc (l : Launch) (G : nG) (va : Nat) (mm : Nat) (g : Nat → Int32) (i : Nat) (ch : Nat) (hi : 2 * i + 1 < mm) (hm : mm ≤ 400) (hc : ch < 65536) (h0 : g (2 * i) = cLo ch) (h1 : g (2 * i + 1) = cHi ch) : nSi l yJ6_getChar cJ6_getChar 2 (.char) 1 20 G [.ref va, .int (nI i)] ([(va, .inl (G.1.1 101, mm, .inl g))]) (fun r : Int32 => r = (nI ch)) := by
  refine nSi.of (own := "java/lang/StringUTF16") rfl (by decide +kernel) (Nat.le_of_ble_eq_true rfl) (fun r h => by rw [h]; exact (pk_charN hc).1) ?_
  intro p e s m args below meth c Q ls hx hb hml hown hts hG hP hl ret
  have hl : lv_has ls 2 [(0, .ref va), (1, .int (nI i))] := hl
  refine va_gets (A := nB G) hx hb hG.2.2.2.2.2.1.2.1 va_S.rf hown (hts _ q487) (fun _ h => h) dJ6_getChar_0 ?_
  refine r_as (z := nI 1) rfl ?_
  refine lv_if_ne (tgt := 28) hx hb dJ6_getChar_3 (by decide) (fun c3 => ?_) (fun c3 => ?_)
  · skip
    have c3 := n_eq_f (a := 1) (b := 0) c3
    refine lv_iload_n hx hb dJ6_getChar_28 rfl (lv_at hl 1 rfl) ?_
    refine lv_iconst (v := nI 1) hx hb dJ6_getChar_29 rfl ?_
    refine lv_ishl hx hb dJ6_getChar_30 ?_
    refine r_as (z := nI (2 * i)) (by show nI i <<< (nI 1 &&& 31) = _; exact shl_1 (by omega)) ?_
    refine lv_istore_n (lv' := [(1, .int (nI (2 * i))), (0, .ref va)]) hx hb dJ6_getChar_31 rfl hl (by decide) rfl (fun ls hl => ?_)
    refine lv_aload_n hx hb dJ6_getChar_32 rfl (lv_at hl 1 rfl) ?_
    refine lv_iload_n hx hb dJ6_getChar_33 rfl (lv_at hl 0 rfl) ?_
    refine lv_iinc (v := nI (2 * i + 1)) (lv' := [(1, .int (nI (2 * i + 1))), (0, .ref va)]) hx hb dJ6_getChar_34 hl (k := 0) rfl (nI_add _ _) (by decide) rfl (fun ls hl => ?_)
    refine r_bald hx hb hG hP 0 rfl (j := 2 * i) (by omega) (by omega) (v := cLo ch) h0 dJ6_getChar_37 ?_
    refine lv_sipush (v := nI 255) hx hb dJ6_getChar_38 rfl ?_
    refine lv_iand hx hb dJ6_getChar_41 ?_
    refine r_as (z := nI (ch % 256)) (by rw [show nI 255 = (255 : Int32) from rfl]; exact (sb_byte _ (by omega)).1) ?_
    refine va_gets (A := nB G) hx hb hG.2.2.2.2.2.1.2.2.1 va_S.rf hown (hts _ q489) (fun _ h => h) dJ6_getChar_42 ?_
    refine r_as (z := nI 0) rfl ?_
    refine lv_ishl hx hb dJ6_getChar_45 ?_
    refine r_as (z := nI (ch % 256)) (shl_0 (by omega)) ?_
    refine lv_aload_n hx hb dJ6_getChar_46 rfl (lv_at hl 1 rfl) ?_
    refine lv_iload_n hx hb dJ6_getChar_47 rfl (lv_at hl 0 rfl) ?_
    refine r_bald hx hb hG hP 0 rfl (j := 2 * i + 1) (by omega) (by omega) (v := cHi ch) h1 dJ6_getChar_48 ?_
    refine lv_sipush (v := nI 255) hx hb dJ6_getChar_49 rfl ?_
    refine lv_iand hx hb dJ6_getChar_52 ?_
    refine r_as (z := nI (ch / 256)) (by rw [show nI 255 = (255 : Int32) from rfl]; exact (sb_byte _ (by omega)).1) ?_
    refine va_gets (A := nB G) hx hb hG.2.2.2.2.2.1.2.2.2.1 va_S.rf hown (hts _ q491) (fun _ h => h) dJ6_getChar_53 ?_
    refine r_as (z := nI 8) rfl ?_
    refine lv_ishl hx hb dJ6_getChar_56 ?_
    refine lv_ior hx hb dJ6_getChar_57 ?_
    refine r_as (z := nI ch) (c_join hc) ?_
    refine lv_i2c (v := nI ch) hx hb dJ6_getChar_58 (c16 hc) ?_
    exact ret (nI ch) dJ6_getChar_59 rfl
  · skip
    exact absurd c3 (by decide)
