theorem shr_0 {i : Nat} (hi : i < 1024) : nI i >>> (nI 0 &&& 31) = nI i := by
  have q : ∀ y, y < 1024 → nI y >>> (nI 0 &&& 31) = nI y := by decide +kernel
  exact q i hi
set_option maxHeartbeats 4000000 in
set_option maxRecDepth 100000 in
theorem J3_ca (l : Launch) (G : nG) (sb : Nat) (va : Nat) (co : Nat) (ml : Int32) (T : List Nat) (k : Nat) (mm : Nat) (g : Nat → Int32) (i : Nat) (hsb : sbI T co k mm g) (hi : i < T.length) : nSi l yJ3_charAt cJ3_charAt 5 (.char) 2 43 G [.ref sb, .int (nI i)] ([(sb, .inr (7, [.ref va, .int (nI co), .int ml, .int (nI T.length)])), (va, .inl (G.1.1 101, mm, .inl g))]) (fun r : Int32 => r = (nI (tC T i))) := by
  refine nSi.of (own := "java/lang/AbstractStringBuilder") rfl (by decide +kernel) (Nat.le_of_ble_eq_true rfl) (fun r h => by rw [h]; exact (pk_charN (hsb.2.2.1 i hi)).1) ?_
  intro p e s m args below meth c Q ls hx hb hml hown hts hG hP hl ret
  have hl : lv_has ls 5 [(0, .ref sb), (1, .int (nI i))] := hl
  obtain ⟨hk, hlk, hc6, hft, ⟨rfl, rfl, hg⟩ | ⟨rfl, rfl, hg⟩⟩ := hsb
  · skip
    refine lv_aload_n hx hb dJ3_charAt_0 rfl (lv_at hl 0 rfl) ?_
    refine r_get (v := .int (nI 0)) hx hb hts in_J4 hown hG hP 0 rfl rfl 1 (by decide) q137 (fun _ h9 => h9) rfl dJ3_charAt_1 ?_
    refine lv_istore_n (lv' := [(2, .int (nI 0)), (0, .ref sb), (1, .int (nI i))]) hx hb dJ3_charAt_4 rfl hl (by decide) rfl (fun ls hl => ?_)
    refine lv_aload_n hx hb dJ3_charAt_5 rfl (lv_at hl 1 rfl) ?_
    refine r_get (v := .ref va) hx hb hts in_J4 hown hG hP 0 rfl rfl 0 (by decide) q136 (fun _ h9 => h9) rfl dJ3_charAt_6 ?_
    refine lv_astore_n (lv' := [(3, .ref va), (2, .int (nI 0)), (0, .ref sb), (1, .int (nI i))]) hx hb dJ3_charAt_9 rfl hl (by decide) rfl (fun ls hl => ?_)
    refine lv_aload_n hx hb dJ3_charAt_10 rfl (lv_at hl 2 rfl) ?_
    refine r_get (v := .int (nI T.length)) hx hb hts in_J4 hown hG hP 0 rfl rfl 3 (by decide) q139 (fun _ h9 => h9) rfl dJ3_charAt_11 ?_
    refine lv_aload_n hx hb dJ3_charAt_14 rfl (lv_at hl 0 rfl) ?_
    refine r_alen hx hb hG hP 1 1 rfl rfl dJ3_charAt_15 ?_
    refine lv_iload_n hx hb dJ3_charAt_16 rfl (lv_at hl 1 rfl) ?_
    refine lv_ishr hx hb dJ3_charAt_17 ?_
    refine r_as (z := nI mm) (shr_0 (by omega)) ?_
    refine va_mmin hx hb (hml.trans hl.1.symm) hown (hts _ q501) (hts _ q281) (hts _ q59) (hts _ q282) (Nat.le_of_ble_eq_true rfl) (Nat.le_of_ble_eq_true rfl) (by show _ ≤ 0; omega) (by show _ ≤ 0; omega) dJ3_charAt_18 ?_
    refine r_as (z := nI T.length) (by show (if _ < nI T.length then _ else nI T.length) = _; rw [if_neg (fun q => by have := (nI_ltI (by omega) (by omega)).mp q; omega)]) ?_
    refine lv_istore (lv' := [(4, .int (nI T.length)), (3, .ref va), (2, .int (nI 0)), (0, .ref sb), (1, .int (nI i))]) hx hb dJ3_charAt_21 hl (by decide) rfl (fun ls hl => ?_)
    refine lv_iload_n hx hb dJ3_charAt_23 rfl (lv_at hl 4 rfl) ?_
    refine lv_iload hx hb dJ3_charAt_24 (lv_at hl 0 rfl) ?_
    refine ns_v (k := 3) (nr_S (As := [.int (nI i), .int (nI T.length)]) (rest := []) hx hb hml hown hts (J5_ci l G i T.length (by first | assumption | omega | rfl) (by first | assumption | omega | rfl)) nPs.blind 2 q502 q469 q51 q470 (by decide +kernel) ⟨⟨Nat.le_of_ble_eq_true rfl, Nat.le_of_ble_eq_true rfl⟩, Nat.le_of_ble_eq_true rfl, Nat.le_of_ble_eq_true rfl⟩ (nPs_of0 hG va_P.m0) rfl hl.1 rfl (Nat.le_of_ble_eq_true rfl) dJ3_charAt_26) (fun hp26 => ?_)
    refine lv_iload_n hx hb dJ3_charAt_29 rfl (lv_at hl 2 rfl) ?_
    refine lv_if_ne (tgt := 42) hx hb dJ3_charAt_30 (by decide) (fun c30 => ?_) (fun c30 => ?_)
    · skip
      exact absurd c30 (by decide)
    · skip
      have c30 := n_eq_t (a := 0) (b := 0) c30 (by decide) (by decide)
      refine lv_aload_n hx hb dJ3_charAt_33 rfl (lv_at hl 1 rfl) ?_
      refine lv_iload_n hx hb dJ3_charAt_34 rfl (lv_at hl 4 rfl) ?_
      refine r_bald hx hb hG hP 1 rfl (j := i) (by omega) (by omega) (v := sb_b (tC T i)) ((hg i hi).2) dJ3_charAt_35 ?_
      refine lv_sipush (v := nI 255) hx hb dJ3_charAt_36 rfl ?_
      refine lv_iand hx hb dJ3_charAt_39 ?_
      refine r_as (z := nI (tC T i)) (by rw [show nI 255 = (255 : Int32) from rfl]; exact (sb_byte _ (hg i hi).1).1) ?_
      refine lv_i2c (v := nI (tC T i)) hx hb dJ3_charAt_40 (c16 (hc6 i hi)) ?_
      exact ret (nI (tC T i)) dJ3_charAt_41 rfl
  · skip
    refine lv_aload_n hx hb dJ3_charAt_0 rfl (lv_at hl 0 rfl) ?_
    refine r_get (v := .int (nI 1)) hx hb hts in_J4 hown hG hP 0 rfl rfl 1 (by decide) q137 (fun _ h9 => h9) rfl dJ3_charAt_1 ?_
    refine lv_istore_n (lv' := [(2, .int (nI 1)), (0, .ref sb), (1, .int (nI i))]) hx hb dJ3_charAt_4 rfl hl (by decide) rfl (fun ls hl => ?_)
    refine lv_aload_n hx hb dJ3_charAt_5 rfl (lv_at hl 1 rfl) ?_
    refine r_get (v := .ref va) hx hb hts in_J4 hown hG hP 0 rfl rfl 0 (by decide) q136 (fun _ h9 => h9) rfl dJ3_charAt_6 ?_
    refine lv_astore_n (lv' := [(3, .ref va), (2, .int (nI 1)), (0, .ref sb), (1, .int (nI i))]) hx hb dJ3_charAt_9 rfl hl (by decide) rfl (fun ls hl => ?_)
    refine lv_aload_n hx hb dJ3_charAt_10 rfl (lv_at hl 2 rfl) ?_
    refine r_get (v := .int (nI T.length)) hx hb hts in_J4 hown hG hP 0 rfl rfl 3 (by decide) q139 (fun _ h9 => h9) rfl dJ3_charAt_11 ?_
    refine lv_aload_n hx hb dJ3_charAt_14 rfl (lv_at hl 0 rfl) ?_
    refine r_alen hx hb hG hP 1 1 rfl rfl dJ3_charAt_15 ?_
    refine lv_iload_n hx hb dJ3_charAt_16 rfl (lv_at hl 1 rfl) ?_
    refine lv_ishr hx hb dJ3_charAt_17 ?_
    refine r_as (z := nI k) (by rw [sh1 (by omega)]; congr 1; omega) ?_
    refine va_mmin hx hb (hml.trans hl.1.symm) hown (hts _ q501) (hts _ q281) (hts _ q59) (hts _ q282) (Nat.le_of_ble_eq_true rfl) (Nat.le_of_ble_eq_true rfl) (by show _ ≤ 0; omega) (by show _ ≤ 0; omega) dJ3_charAt_18 ?_
    refine r_as (z := nI T.length) (by show (if _ < nI T.length then _ else nI T.length) = _; rw [if_neg (fun q => by have := (nI_ltI (by omega) (by omega)).mp q; omega)]) ?_
    refine lv_istore (lv' := [(4, .int (nI T.length)), (3, .ref va), (2, .int (nI 1)), (0, .ref sb), (1, .int (nI i))]) hx hb dJ3_charAt_21 hl (by decide) rfl (fun ls hl => ?_)
    refine lv_iload_n hx hb dJ3_charAt_23 rfl (lv_at hl 4 rfl) ?_
    refine lv_iload hx hb dJ3_charAt_24 (lv_at hl 0 rfl) ?_
    refine ns_v (k := 3) (nr_S (As := [.int (nI i), .int (nI T.length)]) (rest := []) hx hb hml hown hts (J5_ci l G i T.length (by first | assumption | omega | rfl) (by first | assumption | omega | rfl)) nPs.blind 2 q502 q469 q51 q470 (by decide +kernel) ⟨⟨Nat.le_of_ble_eq_true rfl, Nat.le_of_ble_eq_true rfl⟩, Nat.le_of_ble_eq_true rfl, Nat.le_of_ble_eq_true rfl⟩ (nPs_of0 hG va_P.m0) rfl hl.1 rfl (Nat.le_of_ble_eq_true rfl) dJ3_charAt_26) (fun hp26 => ?_)
    refine lv_iload_n hx hb dJ3_charAt_29 rfl (lv_at hl 2 rfl) ?_
    refine lv_if_ne (tgt := 42) hx hb dJ3_charAt_30 (by decide) (fun c30 => ?_) (fun c30 => ?_)
    · skip
      have c30 := n_eq_f (a := 1) (b := 0) c30
      refine lv_aload_n hx hb dJ3_charAt_42 rfl (lv_at hl 1 rfl) ?_
      refine lv_iload_n hx hb dJ3_charAt_43 rfl (lv_at hl 4 rfl) ?_
      refine ns_i (k := 3) (nr_S (As := [.ref va, .int (nI i)]) (rest := []) hx hb hml hown hts (J6_gc l G va (2 * k) g i (tC T i) (by omega) (by omega) (hc6 i hi) ((hg i hi).1) ((hg i hi).2)) nPs.blind 2 q503 q485 q52 q486 (by decide +kernel) ⟨⟨Nat.le_of_ble_eq_true rfl, Nat.le_of_ble_eq_true rfl⟩, Nat.le_of_ble_eq_true rfl, Nat.le_of_ble_eq_true rfl⟩ (nPs_of0 hG (hP.sub [1] rfl)) rfl hl.1 rfl (Nat.le_of_ble_eq_true rfl) dJ3_charAt_44) (fun r44 hp44 => ?_)
      have he44 := hp44
      have he44 : r44 = nI (tC T i) := he44
      subst he44
      exact ret (nI (tC T i)) dJ3_charAt_47 rfl
    · skip
      exact absurd c30 (by decide)
set_option maxHeartbeats 4000000 in
set_option maxRecDepth 100000 in
theorem J4_ca (l : Launch) (G : nG) (sb : Nat) (va : Nat) (co : Nat) (ml : Int32) (T : List Nat) (k : Nat) (mm : Nat) (g : Nat → Int32) (i : Nat) (hsb : sbI T co k mm g) (hi : i < T.length) : nSi l yJ4_charAt cJ4_charAt 2 (.char) 3 67 G [.ref sb, .int (nI i)] ([(sb, .inr (7, [.ref va, .int (nI co), .int ml, .int (nI T.length)])), (va, .inl (G.1.1 101, mm, .inl g))]) (fun r : Int32 => r = (nI (tC T i))) := by
  refine nSi.of (own := "java/lang/StringBuilder") rfl (by decide +kernel) (Nat.le_of_ble_eq_true rfl) (fun r h => by rw [h]; exact (pk_charN (hsb.2.2.1 i hi)).1) ?_
  intro p e s m args below meth c Q ls hx hb hml hown hts hG hP hl ret
  have hl : lv_has ls 2 [(0, .ref sb), (1, .int (nI i))] := hl
  refine lv_aload_n hx hb dJ4_charAt_0 rfl (lv_at hl 0 rfl) ?_
  refine lv_iload_n hx hb dJ4_charAt_1 rfl (lv_at hl 1 rfl) ?_
  refine ns_i (k := 3) (nr_U (C := "java/lang/StringBuilder") (ci := 7) (As := [.int (nI i)]) (rest := []) hx hb hml hown hts hG (J3_ca l G sb va co ml T k mm g i (by first | assumption | omega | rfl) (by first | assumption | omega | rfl)) nPs.blind 1 (List.forall_mem_cons.mpr ⟨q498, List.forall_mem_cons.mpr ⟨q1225, List.forall_mem_cons.mpr ⟨q148, List.forall_mem_cons.mpr ⟨q499, List.forall_mem_cons.mpr ⟨q49, fun _ h => absurd h List.not_mem_nil⟩⟩⟩⟩⟩) q500 (by decide +kernel) ⟨⟨Nat.le_of_ble_eq_true rfl, Nat.le_of_ble_eq_true rfl⟩, Nat.le_of_ble_eq_true rfl, Nat.le_of_ble_eq_true rfl⟩ rfl rfl (r_recv hG hP 0 (C := "java/lang/StringBuilder") rfl rfl rfl) (nPs_of0 hG hP) rfl hl.1 rfl (Nat.le_of_ble_eq_true rfl) dJ4_charAt_2) (fun r2 hp2 => ?_)
  have he2 := hp2
  have he2 : r2 = nI (tC T i) := he2
  subst he2
  exact ret (nI (tC T i)) dJ4_charAt_5 rfl
set_option maxHeartbeats 4000000 in
set_option maxRecDepth 100000 in
theorem J3_en0 (l : Launch) (G : nG) (sb : Nat) (va : Nat) (co : Nat) (ml : Int32) (T : List Nat) (k : Nat) (mm : Nat) (g : Nat → Int32) (q : Nat) (hsb : sbI T co k mm g) (hq : q ≤ k) : nSv l yJ3_ensureCapacityInternal cJ3_ensureCapacityInternal 3 0 0 G [.ref sb, .int (nI q)] ([(sb, .inr (7, [.ref va, .int (nI co), .int ml, .int (nI T.length)])), (va, .inl (G.1.1 101, mm, .inl g))]) (fun _ : Unit => True) := by
  refine nSv.of (own := "java/lang/AbstractStringBuilder") rfl (by decide +kernel) (Nat.le_of_ble_eq_true rfl) ?_
  intro p e s m args below meth c Q ls hx hb hml hown hts hG hP hl ret
  have hl : lv_has ls 3 [(0, .ref sb), (1, .int (nI q))] := hl
  obtain ⟨hk, hlk, hc6, hft, ⟨rfl, rfl, hg⟩ | ⟨rfl, rfl, hg⟩⟩ := hsb
  · skip
    refine lv_aload_n hx hb dJ3_ensureCapacityInternal_0 rfl (lv_at hl 0 rfl) ?_
    refine r_get (v := .ref va) hx hb hts in_J4 hown hG hP 0 rfl rfl 0 (by decide) q136 (fun _ h9 => h9) rfl dJ3_ensureCapacityInternal_1 ?_
    refine r_alen hx hb hG hP 1 1 rfl rfl dJ3_ensureCapacityInternal_4 ?_
    refine lv_aload_n hx hb dJ3_ensureCapacityInternal_5 rfl (lv_at hl 0 rfl) ?_
    refine r_get (v := .int (nI 0)) hx hb hts in_J4 hown hG hP 0 rfl rfl 1 (by decide) q137 (fun _ h9 => h9) rfl dJ3_ensureCapacityInternal_6 ?_
    refine lv_ishr hx hb dJ3_ensureCapacityInternal_9 ?_
    refine r_as (z := nI mm) (shr_0 (by omega)) ?_
    refine lv_istore_n (lv' := [(2, .int (nI mm)), (0, .ref sb), (1, .int (nI q))]) hx hb dJ3_ensureCapacityInternal_10 rfl hl (by decide) rfl (fun ls hl => ?_)
    refine lv_iload_n hx hb dJ3_ensureCapacityInternal_11 rfl (lv_at hl 2 rfl) ?_
    refine lv_iload_n hx hb dJ3_ensureCapacityInternal_12 rfl (lv_at hl 0 rfl) ?_
    refine lv_isub hx hb dJ3_ensureCapacityInternal_13 ?_
    refine lv_if_le (tgt := 38) hx hb dJ3_ensureCapacityInternal_14 (by decide) (fun c14 => ?_) (fun c14 => ?_)
    · skip
      exact ret dJ3_ensureCapacityInternal_38 trivial
    · skip
      exact absurd (show (nI q - nI _) ≤ 0 by rw [Int32.le_iff_toInt_le, pk_sub_toInt (by omega) (by omega), Int32.toInt_zero]; omega) c14
  · skip
    refine lv_aload_n hx hb dJ3_ensureCapacityInternal_0 rfl (lv_at hl 0 rfl) ?_
    refine r_get (v := .ref va) hx hb hts in_J4 hown hG hP 0 rfl rfl 0 (by decide) q136 (fun _ h9 => h9) rfl dJ3_ensureCapacityInternal_1 ?_
    refine r_alen hx hb hG hP 1 1 rfl rfl dJ3_ensureCapacityInternal_4 ?_
    refine lv_aload_n hx hb dJ3_ensureCapacityInternal_5 rfl (lv_at hl 0 rfl) ?_
    refine r_get (v := .int (nI 1)) hx hb hts in_J4 hown hG hP 0 rfl rfl 1 (by decide) q137 (fun _ h9 => h9) rfl dJ3_ensureCapacityInternal_6 ?_
    refine lv_ishr hx hb dJ3_ensureCapacityInternal_9 ?_
    refine r_as (z := nI k) (by rw [sh1 (by omega)]; congr 1; omega) ?_
    refine lv_istore_n (lv' := [(2, .int (nI k)), (0, .ref sb), (1, .int (nI q))]) hx hb dJ3_ensureCapacityInternal_10 rfl hl (by decide) rfl (fun ls hl => ?_)
    refine lv_iload_n hx hb dJ3_ensureCapacityInternal_11 rfl (lv_at hl 2 rfl) ?_
    refine lv_iload_n hx hb dJ3_ensureCapacityInternal_12 rfl (lv_at hl 0 rfl) ?_
    refine lv_isub hx hb dJ3_ensureCapacityInternal_13 ?_
    refine lv_if_le (tgt := 38) hx hb dJ3_ensureCapacityInternal_14 (by decide) (fun c14 => ?_) (fun c14 => ?_)
    · skip
      exact ret dJ3_ensureCapacityInternal_38 trivial
    · skip
      exact absurd (show (nI q - nI _) ≤ 0 by rw [Int32.le_iff_toInt_le, pk_sub_toInt (by omega) (by omega), Int32.toInt_zero]; omega) c14
set_option maxHeartbeats 4000000 in
set_option maxRecDepth 100000 in
theorem J3_sl (l : Launch) (G : nG) (sb : Nat) (va : Nat) (co : Nat) (ml : Int32) (T : List Nat) (k : Nat) (mm : Nat) (g : Nat → Int32) (hsb : sbI T co k mm g) : nMv (S := Int32) l yJ3_setLength cJ3_setLength 2 1 0 0 22 G [.ref sb, .int (nI 0)] ([(sb, .inr (7, [.ref va, .int (nI co), .int ml, .int (nI T.length)])), (va, .inl (G.1.1 101, mm, .inl g))]) ([]) (fun (u : Int32) => [(sb, .inr (7, [.ref va, .int (nI co), .int u, .int (nI 0)])), (va, .inl (G.1.1 101, mm, .inl g))]) (fun (u : Int32) => True) := by
  refine nMv.of (own := "java/lang/AbstractStringBuilder") rfl (by decide +kernel) (Nat.le_of_ble_eq_true rfl) ?_
  intro p e s m args below meth c A Q ls hx hb hml hown hts hin hG Z hl ret
  have hl : lv_has ls 2 [(0, .ref sb), (1, .int (nI 0))] := hl
  have Z : nW G A ([(sb, .inr (7, [.ref va, .int (nI co), .int ml, .int (nI T.length)])), (va, .inl (G.1.1 101, mm, .inl g))]) ([]) ([]) s.heap _ _ := Z
  obtain ⟨hk, hlk, -⟩ := id hsb
  refine lv_iload_n hx hb dJ3_setLength_0 rfl (lv_at hl 1 rfl) ?_
  refine lv_if_ge (tgt := 13) hx hb dJ3_setLength_1 (by decide) (fun c1 => ?_) (fun c1 => ?_)
  · skip
    have c1 := n_le_t (a := 0) (b := 0) c1 (by decide) (by decide)
    refine lv_aload_n hx hb dJ3_setLength_13 rfl (lv_at hl 0 rfl) ?_
    refine lv_iload_n hx hb dJ3_setLength_14 rfl (lv_at hl 1 rfl) ?_
    refine ns_v (k := 3) (nr_P (C := "java/lang/StringBuilder") (z := ⟨"java/lang/AbstractStringBuilder", "isLatin1", "()Z"⟩) (As := [.int (nI 0)]) (rest := []) hx hb hml hown hts hG (J3_en0 l G sb va co ml T k mm g 0 (by first | assumption | omega | rfl) (Nat.zero_le _)) nPs.blind 1 q622 q1229 q645 rfl q623 q624 q49 q625 (by decide +kernel) ⟨⟨Nat.le_of_ble_eq_true rfl, Nat.le_of_ble_eq_true rfl⟩, Nat.le_of_ble_eq_true rfl, Nat.le_of_ble_eq_true rfl⟩ (r_recv hG Z.w 0 (C := "java/lang/StringBuilder") rfl rfl rfl) (nPs_of hG Z Z.w) rfl hl.1 rfl (Nat.le_of_ble_eq_true rfl) dJ3_setLength_15) (fun hp15 => ?_)
    refine lv_aload_n hx hb dJ3_setLength_18 rfl (lv_at hl 0 rfl) ?_
    refine r_get (v := .int (nI T.length)) hx hb hts in_J4 hown hG Z.w 0 rfl rfl 3 (by decide) q139 (fun _ h9 => h9) rfl dJ3_setLength_19 ?_
    refine lv_iload_n hx hb dJ3_setLength_22 rfl (lv_at hl 1 rfl) ?_
    refine lv_icmp_ge (tgt := 63) hx hb dJ3_setLength_23 (by decide) (fun c23 => ?_) (fun c23 => ?_)
    · skip
      have c23 := n_le_t (a := 0) (b := T.length) c23 (by decide) (by omega)
      refine lv_aload_n hx hb dJ3_setLength_63 rfl (lv_at hl 0 rfl) ?_
      refine r_get (v := .int (nI T.length)) hx hb hts in_J4 hown hG Z.w 0 rfl rfl 3 (by decide) q139 (fun _ h9 => h9) rfl dJ3_setLength_64 ?_
      refine lv_iload_n hx hb dJ3_setLength_67 rfl (lv_at hl 1 rfl) ?_
      refine lv_icmp_le (tgt := 76) hx hb dJ3_setLength_68 (by decide) (fun c68 => ?_) (fun c68 => ?_)
      · skip
        have c68 := n_le_t (a := T.length) (b := 0) c68 (by omega) (by decide)
        refine lv_aload_n hx hb dJ3_setLength_76 rfl (lv_at hl 0 rfl) ?_
        refine lv_iload_n hx hb dJ3_setLength_77 rfl (lv_at hl 1 rfl) ?_
        refine r_put (ty := .int) hx hb hts in_J4 tyJ4 tyJ4_ok nmJ4 hown hG Z 0 rfl rfl 3 (by decide) q139 (fun _ h9 => h9) rfl (by decide +kernel) rfl rfl (Nat.le_of_ble_eq_true rfl) (wc' := [(sb, .inr (7, [.ref va, .int (nI co), .int ml, .int (nI 0)])), (va, .inl (G.1.1 101, mm, .inl g))]) rfl dJ3_setLength_78 (fun H locs Z => ?_)
        exact ret ml dJ3_setLength_81 trivial Z (Nat.le_of_ble_eq_true rfl) (Nat.le_of_ble_eq_true rfl)
      · skip
        have c68 := n_le_f (a := T.length) (b := 0) c68 (by omega) (by decide)
        refine lv_aload_n hx hb dJ3_setLength_71 rfl (lv_at hl 0 rfl) ?_
        refine lv_iconst (v := nI 1) hx hb dJ3_setLength_72 rfl ?_
        refine r_put (ty := .boolean) hx hb hts in_J4 tyJ4 tyJ4_ok nmJ4 hown hG Z 0 rfl rfl 2 (by decide) q138 (fun _ h9 => h9) rfl (by decide +kernel) rfl rfl (Nat.le_of_ble_eq_true rfl) (wc' := [(sb, .inr (7, [.ref va, .int (nI co), .int (nI 1), .int (nI T.length)])), (va, .inl (G.1.1 101, mm, .inl g))]) rfl dJ3_setLength_73 (fun H locs Z => ?_)
        refine lv_aload_n hx hb dJ3_setLength_76 rfl (lv_at hl 0 rfl) ?_
        refine lv_iload_n hx hb dJ3_setLength_77 rfl (lv_at hl 1 rfl) ?_
        refine r_put (ty := .int) hx hb hts in_J4 tyJ4 tyJ4_ok nmJ4 hown hG Z 0 rfl rfl 3 (by decide) q139 (fun _ h9 => h9) rfl (by decide +kernel) rfl rfl (Nat.le_of_ble_eq_true rfl) (wc' := [(sb, .inr (7, [.ref va, .int (nI co), .int (nI 1), .int (nI 0)])), (va, .inl (G.1.1 101, mm, .inl g))]) rfl dJ3_setLength_78 (fun H locs Z => ?_)
        exact ret (nI 1) dJ3_setLength_81 trivial Z (Nat.le_of_ble_eq_true rfl) (Nat.le_of_ble_eq_true rfl)
    · skip
      have c23 := n_le_f (a := 0) (b := T.length) c23 (by decide) (by omega)
      exfalso; omega
  · skip
    exact absurd c1 (by decide)
set_option maxHeartbeats 4000000 in
set_option maxRecDepth 100000 in
theorem J4_sl (l : Launch) (G : nG) (sb : Nat) (va : Nat) (co : Nat) (ml : Int32) (T : List Nat) (k : Nat) (mm : Nat) (g : Nat → Int32) (hsb : sbI T co k mm g) : nMv (S := Int32) l yJ4_setLength cJ4_setLength 2 2 0 0 43 G [.ref sb, .int (nI 0)] ([(sb, .inr (7, [.ref va, .int (nI co), .int ml, .int (nI T.length)])), (va, .inl (G.1.1 101, mm, .inl g))]) ([]) (fun (u : Int32) => [(sb, .inr (7, [.ref va, .int (nI co), .int u, .int (nI 0)])), (va, .inl (G.1.1 101, mm, .inl g))]) (fun (u : Int32) => True) := by
  refine nMv.of (own := "java/lang/StringBuilder") rfl (by decide +kernel) (Nat.le_of_ble_eq_true rfl) ?_
  intro p e s m args below meth c A Q ls hx hb hml hown hts hin hG Z hl ret
  have hl : lv_has ls 2 [(0, .ref sb), (1, .int (nI 0))] := hl
  have Z : nW G A ([(sb, .inr (7, [.ref va, .int (nI co), .int ml, .int (nI T.length)])), (va, .inl (G.1.1 101, mm, .inl g))]) ([]) ([]) s.heap _ _ := Z
  obtain ⟨hk, hlk, -⟩ := id hsb
  refine lv_aload_n hx hb dJ4_setLength_0 rfl (lv_at hl 0 rfl) ?_
  refine lv_iload_n hx hb dJ4_setLength_1 rfl (lv_at hl 1 rfl) ?_
  refine nc_v (k := 3) (wcc := [(sb, .inr (7, [.ref va, .int (nI co), .int ml, .int (nI T.length)])), (va, .inl (G.1.1 101, mm, .inl g))]) (wr := []) (nr_U (C := "java/lang/StringBuilder") (ci := 7) (As := [.int (nI 0)]) (rest := []) hx hb hml hown hts hG ((J3_sl l G sb va co ml T k mm g (by first | assumption | omega | rfl)) _) nP.blind 1 (List.forall_mem_cons.mpr ⟨q683, List.forall_mem_cons.mpr ⟨q1232, List.forall_mem_cons.mpr ⟨q148, List.forall_mem_cons.mpr ⟨q684, List.forall_mem_cons.mpr ⟨q49, fun _ h => absurd h List.not_mem_nil⟩⟩⟩⟩⟩) q685 (by decide +kernel) ⟨⟨Nat.le_of_ble_eq_true rfl, Nat.le_of_ble_eq_true rfl⟩, Nat.le_of_ble_eq_true rfl, Nat.le_of_ble_eq_true rfl⟩ rfl rfl (r_recv hG Z.w 0 (C := "java/lang/StringBuilder") rfl rfl rfl) (nP_of hG Z [0, 1] rfl (by decide) va_P.m0 nAp.nil) rfl hl.1 rfl (Nat.le_of_ble_eq_true rfl) dJ4_setLength_2) Z [0, 1] [] rfl rfl (by decide) (by decide) (fun u H locs hp2 Z => ?_)
  obtain ⟨ml1_2, rfl⟩ : ∃ z, z = u := ⟨_, rfl⟩
  have Z : nW G A ([(sb, .inr (7, [.ref va, .int (nI co), .int ml1_2, .int (nI 0)])), (va, .inl (G.1.1 101, mm, .inl g))]) ([]) ([]) s.heap _ _ := Z
  exact ret ml1_2 dJ4_setLength_5 trivial Z (Nat.le_of_ble_eq_true rfl) (Nat.le_of_ble_eq_true rfl)
