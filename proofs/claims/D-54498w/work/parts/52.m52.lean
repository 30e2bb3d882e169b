set_option maxHeartbeats 4000000 in
set_option maxRecDepth 100000 in
theorem L_kind (l : Launch) (G : nG) (rc : va_W) (q : Nat) (row : Nat → Int32) (hln : iLine G rc q row) : nSi l yX4_kind cX4_kind 1 (.int) 0 0 G [.ref q] rc (fun r : Int32 => r = (row 0)) := by
  refine nSi.of (own := "ShareStreams$Plain") rfl (by decide +kernel) (Nat.le_of_ble_eq_true rfl) (fun _ _ => rfl) ?_
  intro p e s m args below meth c Q ls hx hb hml hown hts hG hP hl ret
  have hl : lv_has ls 1 [(0, .ref q)] := hl
  have hln0 := hln
  obtain ⟨a_, L_, f_, hm4, hm5, hL_, hrow⟩ := hln0
  refine lv_aload_n hx hb dX4_kind_0 rfl (lv_at hl 0 rfl) ?_
  refine r_get (v := .int (row 0)) hx hb hts in_X4 hown hG (va_P.m1 hP hm4 va_P.m0) 0 rfl rfl 0 (by decide) q179 (fun _ h9 => h9) rfl dX4_kind_1 ?_
  exact ret (row 0) dX4_kind_4 (by first | rfl | assumption | omega | simp_all)
set_option maxHeartbeats 4000000 in
set_option maxRecDepth 100000 in
theorem L_num (l : Launch) (G : nG) (rc : va_W) (q : Nat) (row : Nat → Int32) (w : Nat) (hln : iLine G rc q row) (hw : w < 3) : nSi l yX4_number cX4_number 2 (.int) 0 0 G [.ref q, .int (nI w)] rc (fun r : Int32 => r = (row (w + 1))) := by
  refine nSi.of (own := "ShareStreams$Plain") rfl (by decide +kernel) (Nat.le_of_ble_eq_true rfl) (fun _ _ => rfl) ?_
  intro p e s m args below meth c Q ls hx hb hml hown hts hG hP hl ret
  have hl : lv_has ls 2 [(0, .ref q), (1, .int (nI w))] := hl
  have hln0 := hln
  obtain ⟨a_, L_, f_, hm4, hm5, hL_, hrow⟩ := hln0
  refine lv_iload_n hx hb dX4_number_0 rfl (lv_at hl 1 rfl) ?_
  refine lv_aload_n hx hb dX4_number_1 rfl (lv_at hl 0 rfl) ?_
  refine r_get (v := .ref a_) hx hb hts in_X4 hown hG (va_P.m1 hP hm4 va_P.m0) 0 rfl rfl 1 (by decide) q180 (fun _ h9 => h9) rfl dX4_number_2 ?_
  refine r_alen hx hb hG (va_P.m1 hP hm5 va_P.m0) 0 0 rfl rfl dX4_number_5 ?_
  refine lv_icmp_ge (tgt := 18) hx hb dX4_number_6 (by decide) (fun c6 => ?_) (fun c6 => ?_)
  · skip
    have c6 := n_le_t (a := L_) (b := w) c6 (by omega) (by omega)
    refine lv_ldc hx hb hown (hts _ q358) dX4_number_18 ?_
    exact ret (-100000005 : Int32) dX4_number_20 (by rw [hrow w hw]; first | (rw [if_pos (by omega)]; done) | (rw [if_neg (by omega)]; done))
  · skip
    have c6 := n_le_f (a := L_) (b := w) c6 (by omega) (by omega)
    refine lv_aload_n hx hb dX4_number_9 rfl (lv_at hl 0 rfl) ?_
    refine r_get (v := .ref a_) hx hb hts in_X4 hown hG (va_P.m1 hP hm4 va_P.m0) 0 rfl rfl 1 (by decide) q180 (fun _ h9 => h9) rfl dX4_number_10 ?_
    refine lv_iload_n hx hb dX4_number_13 rfl (lv_at hl 1 rfl) ?_
    refine r_iald hx hb hG (va_P.m1 hP hm5 va_P.m0) 0 rfl (j := w) (by omega) (by omega) (v := f_ w) rfl dX4_number_14 ?_
    refine lv_goto (tgt := 20) hx hb dX4_number_15 (by decide) ?_
    exact ret (f_ w) dX4_number_20 (by rw [hrow w hw]; first | (rw [if_pos (by omega)]; done) | (rw [if_neg (by omega)]; done))
set_option maxHeartbeats 4000000 in
set_option maxRecDepth 100000 in
theorem L_isLine (l : Launch) (G : nG) (rc : va_W) (q : Nat) (row : Nat → Int32) (kk : Nat) (w : Nat) (hln : iLine G rc q row) (hk0 : row 0 = nI kk) (hk6 : kk ≤ 6) (hw : w < 3) : nSi l yX3_isLine cX3_isLine 2 (.boolean) 1 20 G [.ref q, .int (nI w)] rc (fun r : Int32 => r = (bI (decide (w < lnBy kk)))) := by
  refine nSi.of (own := "ShareStreams$Line") rfl (by decide +kernel) (Nat.le_of_ble_eq_true rfl) (fun r h => by rw [h]; exact bI_n _) ?_
  intro p e s m args below meth c Q ls hx hb hml hown hts hG hP hl ret
  have hl : lv_has ls 2 [(0, .ref q), (1, .int (nI w))] := hl
  have hln0 := hln
  obtain ⟨a_, L_, f_, hm4, hm5, hL_, hrow⟩ := hln0
  refine lv_aload_n hx hb dX3_isLine_0 rfl (lv_at hl 0 rfl) ?_
  refine ns_i (k := 5) (nr_F (C := "ShareStreams$Plain") (ci := 4) (As := []) (rest := []) hx hb hml hown hts hG (L_kind l G rc q row (by first | assumption | omega | rfl)) nPs.blind 0 q607 q343 q345 q55 q347 (by decide +kernel) (by decide +kernel) ⟨⟨Nat.le_of_ble_eq_true rfl, Nat.le_of_ble_eq_true rfl⟩, Nat.le_of_ble_eq_true rfl, Nat.le_of_ble_eq_true rfl⟩ rfl rfl (r_recv hG (va_P.m1 hP hm4 va_P.m0) 0 (C := "ShareStreams$Plain") rfl rfl rfl) (nPs_of0 hG hP) rfl hl.1 rfl (Nat.le_of_ble_eq_true rfl) dX3_isLine_1) (fun r1 hp1 => ?_)
  have he1 := hp1
  have he1 : r1 = row 0 := he1
  subst he1
  rcases lc_7 hk6 with z | z | z | z | z | z | z
  · skip
    refine r_as (z := nI 0) (by rw [hk0, z]) ?_
    refine lv_tableIn (off := 42) (tgt := 48) hx hb dX3_isLine_6 (by decide +kernel) (by decide +kernel) (by decide +kernel) (by decide) ?_
    refine lv_iconst (v := nI 0) hx hb dX3_isLine_48 rfl ?_
    refine lv_goto (tgt := 78) hx hb dX3_isLine_49 (by decide) ?_
    refine r_as (z := bI false) rfl ?_
    exact ret (bI false) dX3_isLine_78 (congrArg bI (by subst z; simp [lnBy]; try omega))
  · skip
    refine r_as (z := nI 1) (by rw [hk0, z]) ?_
    refine lv_tableIn (off := 62) (tgt := 68) hx hb dX3_isLine_6 (by decide +kernel) (by decide +kernel) (by decide +kernel) (by decide) ?_
    refine lv_iload_n hx hb dX3_isLine_68 rfl (lv_at hl 1 rfl) ?_
    refine lv_iconst (v := nI 2) hx hb dX3_isLine_69 rfl ?_
    refine lv_icmp_ge (tgt := 77) hx hb dX3_isLine_70 (by decide) (fun c70 => ?_) (fun c70 => ?_)
    · skip
      have c70 := n_le_t (a := 2) (b := w) c70 (by decide) (by omega)
      refine lv_iconst (v := nI 0) hx hb dX3_isLine_77 rfl ?_
      refine r_as (z := bI false) rfl ?_
      exact ret (bI false) dX3_isLine_78 (congrArg bI (by subst z; simp [lnBy]; try omega))
    · skip
      have c70 := n_le_f (a := 2) (b := w) c70 (by decide) (by omega)
      refine lv_iconst (v := nI 1) hx hb dX3_isLine_73 rfl ?_
      refine lv_goto (tgt := 78) hx hb dX3_isLine_74 (by decide) ?_
      refine r_as (z := bI true) rfl ?_
      exact ret (bI true) dX3_isLine_78 (congrArg bI (by subst z; simp [lnBy]; try omega))
  · skip
    refine r_as (z := nI 2) (by rw [hk0, z]) ?_
    refine lv_tableIn (off := 62) (tgt := 68) hx hb dX3_isLine_6 (by decide +kernel) (by decide +kernel) (by decide +kernel) (by decide) ?_
    refine lv_iload_n hx hb dX3_isLine_68 rfl (lv_at hl 1 rfl) ?_
    refine lv_iconst (v := nI 2) hx hb dX3_isLine_69 rfl ?_
    refine lv_icmp_ge (tgt := 77) hx hb dX3_isLine_70 (by decide) (fun c70 => ?_) (fun c70 => ?_)
    · skip
      have c70 := n_le_t (a := 2) (b := w) c70 (by decide) (by omega)
      refine lv_iconst (v := nI 0) hx hb dX3_isLine_77 rfl ?_
      refine r_as (z := bI false) rfl ?_
      exact ret (bI false) dX3_isLine_78 (congrArg bI (by subst z; simp [lnBy]; try omega))
    · skip
      have c70 := n_le_f (a := 2) (b := w) c70 (by decide) (by omega)
      refine lv_iconst (v := nI 1) hx hb dX3_isLine_73 rfl ?_
      refine lv_goto (tgt := 78) hx hb dX3_isLine_74 (by decide) ?_
      refine r_as (z := bI true) rfl ?_
      exact ret (bI true) dX3_isLine_78 (congrArg bI (by subst z; simp [lnBy]; try omega))
  · skip
    refine r_as (z := nI 3) (by rw [hk0, z]) ?_
    refine lv_tableIn (off := 62) (tgt := 68) hx hb dX3_isLine_6 (by decide +kernel) (by decide +kernel) (by decide +kernel) (by decide) ?_
    refine lv_iload_n hx hb dX3_isLine_68 rfl (lv_at hl 1 rfl) ?_
    refine lv_iconst (v := nI 2) hx hb dX3_isLine_69 rfl ?_
    refine lv_icmp_ge (tgt := 77) hx hb dX3_isLine_70 (by decide) (fun c70 => ?_) (fun c70 => ?_)
    · skip
      have c70 := n_le_t (a := 2) (b := w) c70 (by decide) (by omega)
      refine lv_iconst (v := nI 0) hx hb dX3_isLine_77 rfl ?_
      refine r_as (z := bI false) rfl ?_
      exact ret (bI false) dX3_isLine_78 (congrArg bI (by subst z; simp [lnBy]; try omega))
    · skip
      have c70 := n_le_f (a := 2) (b := w) c70 (by decide) (by omega)
      refine lv_iconst (v := nI 1) hx hb dX3_isLine_73 rfl ?_
      refine lv_goto (tgt := 78) hx hb dX3_isLine_74 (by decide) ?_
      refine r_as (z := bI true) rfl ?_
      exact ret (bI true) dX3_isLine_78 (congrArg bI (by subst z; simp [lnBy]; try omega))
  · skip
    refine r_as (z := nI 4) (by rw [hk0, z]) ?_
    refine lv_tableIn (off := 46) (tgt := 52) hx hb dX3_isLine_6 (by decide +kernel) (by decide +kernel) (by decide +kernel) (by decide) ?_
    refine lv_iconst (v := nI 1) hx hb dX3_isLine_52 rfl ?_
    refine lv_goto (tgt := 78) hx hb dX3_isLine_53 (by decide) ?_
    refine r_as (z := bI true) rfl ?_
    exact ret (bI true) dX3_isLine_78 (congrArg bI (by subst z; simp [lnBy]; try omega))
  · skip
    refine r_as (z := nI 5) (by rw [hk0, z]) ?_
    refine lv_tableIn (off := 50) (tgt := 56) hx hb dX3_isLine_6 (by decide +kernel) (by decide +kernel) (by decide +kernel) (by decide) ?_
    refine lv_iload_n hx hb dX3_isLine_56 rfl (lv_at hl 1 rfl) ?_
    refine lv_if_ne (tgt := 64) hx hb dX3_isLine_57 (by decide) (fun c57 => ?_) (fun c57 => ?_)
    · skip
      have c57 := n_eq_f (a := w) (b := 0) c57
      refine lv_iconst (v := nI 0) hx hb dX3_isLine_64 rfl ?_
      refine lv_goto (tgt := 78) hx hb dX3_isLine_65 (by decide) ?_
      refine r_as (z := bI false) rfl ?_
      exact ret (bI false) dX3_isLine_78 (congrArg bI (by subst z; simp [lnBy]; try omega))
    · skip
      have c57 := n_eq_t (a := w) (b := 0) c57 (by omega) (by decide)
      refine lv_iconst (v := nI 1) hx hb dX3_isLine_60 rfl ?_
      refine lv_goto (tgt := 78) hx hb dX3_isLine_61 (by decide) ?_
      refine r_as (z := bI true) rfl ?_
      exact ret (bI true) dX3_isLine_78 (congrArg bI (by subst z; simp [lnBy]; try omega))
  · skip
    refine r_as (z := nI 6) (by rw [hk0, z]) ?_
    refine lv_tableIn (off := 50) (tgt := 56) hx hb dX3_isLine_6 (by decide +kernel) (by decide +kernel) (by decide +kernel) (by decide) ?_
    refine lv_iload_n hx hb dX3_isLine_56 rfl (lv_at hl 1 rfl) ?_
    refine lv_if_ne (tgt := 64) hx hb dX3_isLine_57 (by decide) (fun c57 => ?_) (fun c57 => ?_)
    · skip
      have c57 := n_eq_f (a := w) (b := 0) c57
      refine lv_iconst (v := nI 0) hx hb dX3_isLine_64 rfl ?_
      refine lv_goto (tgt := 78) hx hb dX3_isLine_65 (by decide) ?_
      refine r_as (z := bI false) rfl ?_
      exact ret (bI false) dX3_isLine_78 (congrArg bI (by subst z; simp [lnBy]; try omega))
    · skip
      have c57 := n_eq_t (a := w) (b := 0) c57 (by omega) (by decide)
      refine lv_iconst (v := nI 1) hx hb dX3_isLine_60 rfl ?_
      refine lv_goto (tgt := 78) hx hb dX3_isLine_61 (by decide) ?_
      refine r_as (z := bI true) rfl ?_
      exact ret (bI true) dX3_isLine_78 (congrArg bI (by subst z; simp [lnBy]; try omega))
set_option maxHeartbeats 4000000 in
set_option maxRecDepth 100000 in
theorem L_bit (l : Launch) (G : nG) (rc : va_W) (q : Nat) (row : Nat → Int32) (kk : Nat) (x : Nat) (y : Nat) (z_ : Nat) (hln : iLine G rc q row) (hk0 : row 0 = nI kk) (hk6 : kk ≤ 6) (hk1 : 1 ≤ kk) (hx_ : x ≤ 1) (hy_ : y ≤ 1) (hz_ : z_ ≤ 1) : nSi l yX3_bit cX3_bit 4 (.int) 1 20 G [.ref q, .int (nI x), .int (nI y), .int (nI z_)] rc (fun r : Int32 => r = (nI (lbN kk x y z_))) := by
  refine nSi.of (own := "ShareStreams$Line") rfl (by decide +kernel) (Nat.le_of_ble_eq_true rfl) (fun _ _ => rfl) ?_
  intro p e s m args below meth c Q ls hx hb hml hown hts hG hP hl ret
  have hl : lv_has ls 4 [(0, .ref q), (1, .int (nI x)), (2, .int (nI y)), (3, .int (nI z_))] := hl
  have hln0 := hln
  obtain ⟨a_, L_, f_, hm4, hm5, hL_, hrow⟩ := hln0
  refine lv_aload_n hx hb dX3_bit_0 rfl (lv_at hl 0 rfl) ?_
  refine ns_i (k := 5) (nr_F (C := "ShareStreams$Plain") (ci := 4) (As := []) (rest := []) hx hb hml hown hts hG (L_kind l G rc q row (by first | assumption | omega | rfl)) nPs.blind 0 q607 q343 q345 q55 q347 (by decide +kernel) (by decide +kernel) ⟨⟨Nat.le_of_ble_eq_true rfl, Nat.le_of_ble_eq_true rfl⟩, Nat.le_of_ble_eq_true rfl, Nat.le_of_ble_eq_true rfl⟩ rfl rfl (r_recv hG (va_P.m1 hP hm4 va_P.m0) 0 (C := "ShareStreams$Plain") rfl rfl rfl) (nPs_of0 hG hP) rfl hl.1 rfl (Nat.le_of_ble_eq_true rfl) dX3_bit_1) (fun r1 hp1 => ?_)
  have he1 := hp1
  have he1 : r1 = row 0 := he1
  subst he1
  rcases lc_7 hk6 with z | z | z | z | z | z | z
  · skip
    exact absurd z (by omega)
  · skip
    refine r_as (z := nI 1) (by rw [hk0, z]) ?_
    refine lv_tableIn (off := 34) (tgt := 40) hx hb dX3_bit_6 (by decide +kernel) (by decide +kernel) (by decide +kernel) (by decide) ?_
    refine lv_iload_n hx hb dX3_bit_40 rfl (lv_at hl 1 rfl) ?_
    refine lv_iload_n hx hb dX3_bit_41 rfl (lv_at hl 2 rfl) ?_
    refine lv_iand hx hb dX3_bit_42 ?_
    refine r_as (z := nI (x &&& y)) (nx_and _ _) ?_
    refine lv_goto (tgt := 78) hx hb dX3_bit_43 (by decide) ?_
    exact ret (nI (x &&& y)) dX3_bit_78 (by subst z; simp [lbN]; try (first | (rw [if_pos (by assumption)]; done) | (rw [if_neg (by assumption)]; done) | (intros; omega)))
  · skip
    refine r_as (z := nI 2) (by rw [hk0, z]) ?_
    refine lv_tableIn (off := 40) (tgt := 46) hx hb dX3_bit_6 (by decide +kernel) (by decide +kernel) (by decide +kernel) (by decide) ?_
    refine lv_iload_n hx hb dX3_bit_46 rfl (lv_at hl 1 rfl) ?_
    refine lv_iload_n hx hb dX3_bit_47 rfl (lv_at hl 2 rfl) ?_
    refine lv_ior hx hb dX3_bit_48 ?_
    refine r_as (z := nI (x ||| y)) (nx_or _ _) ?_
    refine lv_goto (tgt := 78) hx hb dX3_bit_49 (by decide) ?_
    exact ret (nI (x ||| y)) dX3_bit_78 (by subst z; simp [lbN]; try (first | (rw [if_pos (by assumption)]; done) | (rw [if_neg (by assumption)]; done) | (intros; omega)))
  · skip
    refine r_as (z := nI 3) (by rw [hk0, z]) ?_
    refine lv_tableIn (off := 46) (tgt := 52) hx hb dX3_bit_6 (by decide +kernel) (by decide +kernel) (by decide +kernel) (by decide) ?_
    refine lv_iload_n hx hb dX3_bit_52 rfl (lv_at hl 1 rfl) ?_
    refine lv_iload_n hx hb dX3_bit_53 rfl (lv_at hl 2 rfl) ?_
    refine lv_ixor hx hb dX3_bit_54 ?_
    refine r_as (z := nI (x ^^^ y)) (nx_xor _ _) ?_
    refine lv_goto (tgt := 78) hx hb dX3_bit_55 (by decide) ?_
    exact ret (nI (x ^^^ y)) dX3_bit_78 (by subst z; simp [lbN]; try (first | (rw [if_pos (by assumption)]; done) | (rw [if_neg (by assumption)]; done) | (intros; omega)))
  · skip
    refine r_as (z := nI 4) (by rw [hk0, z]) ?_
    refine lv_tableIn (off := 52) (tgt := 58) hx hb dX3_bit_6 (by decide +kernel) (by decide +kernel) (by decide +kernel) (by decide) ?_
    refine lv_iload_n hx hb dX3_bit_58 rfl (lv_at hl 3 rfl) ?_
    refine lv_iconst (v := nI 1) hx hb dX3_bit_59 rfl ?_
    refine lv_icmp_ne (tgt := 67) hx hb dX3_bit_60 (by decide) (fun c60 => ?_) (fun c60 => ?_)
    · skip
      have c60 := n_eq_f (a := z_) (b := 1) c60
      refine lv_iload_n hx hb dX3_bit_67 rfl (lv_at hl 2 rfl) ?_
      refine lv_goto (tgt := 78) hx hb dX3_bit_68 (by decide) ?_
      exact ret (nI y) dX3_bit_78 (by subst z; simp [lbN]; try (first | (rw [if_pos (by assumption)]; done) | (rw [if_neg (by assumption)]; done) | (intros; omega)))
    · skip
      have c60 := n_eq_t (a := z_) (b := 1) c60 (by omega) (by decide)
      refine lv_iload_n hx hb dX3_bit_63 rfl (lv_at hl 1 rfl) ?_
      refine lv_goto (tgt := 78) hx hb dX3_bit_64 (by decide) ?_
      exact ret (nI x) dX3_bit_78 (by subst z; simp [lbN]; try (first | (rw [if_pos (by assumption)]; done) | (rw [if_neg (by assumption)]; done) | (intros; omega)))
  · skip
    refine r_as (z := nI 5) (by rw [hk0, z]) ?_
    refine lv_tableIn (off := 65) (tgt := 71) hx hb dX3_bit_6 (by decide +kernel) (by decide +kernel) (by decide +kernel) (by decide) ?_
    refine lv_iconst (v := nI 1) hx hb dX3_bit_71 rfl ?_
    refine lv_iload_n hx hb dX3_bit_72 rfl (lv_at hl 1 rfl) ?_
    refine lv_isub hx hb dX3_bit_73 ?_
    refine r_as (z := nI (1 - x)) (pk_sub (by omega)) ?_
    refine lv_goto (tgt := 78) hx hb dX3_bit_74 (by decide) ?_
    exact ret (nI (1 - x)) dX3_bit_78 (by subst z; simp [lbN]; try (first | (rw [if_pos (by assumption)]; done) | (rw [if_neg (by assumption)]; done) | (intros; omega)))
  · skip
    refine r_as (z := nI 6) (by rw [hk0, z]) ?_
    refine lv_tableOut (tgt := 77) hx hb dX3_bit_6 (by decide +kernel) (by decide) ?_
    refine lv_iload_n hx hb dX3_bit_77 rfl (lv_at hl 1 rfl) ?_
    exact ret (nI x) dX3_bit_78 (by subst z; simp [lbN]; try (first | (rw [if_pos (by assumption)]; done) | (rw [if_neg (by assumption)]; done) | (intros; omega)))
set_option maxHeartbeats 4000000 in
set_option maxRecDepth 100000 in
theorem L_share (l : Launch) (G : nG) (rc : va_W) (q : Nat) (row : Nat → Int32) (kk : Nat) (v : Nat) (x : Nat) (y : Nat) (z_ : Nat) (hln : iLine G rc q row) (hk0 : row 0 = nI kk) (hk6 : kk ≤ 6) (hv : kk = 0 → row 1 = nI v ∧ v ≤ 256) (hx_ : x ≤ 65536) (hy_ : y ≤ 65536) (hz_ : z_ ≤ 65536) : nSi l yX3_share cX3_share 9 (.int) 1 21 G [.ref q, .long (lN x), .long (lN y), .long (lN z_)] rc (fun r : Int32 => r = (nI (leN kk v x y z_))) := by
  refine nSi.of (own := "ShareStreams$Line") rfl (by decide +kernel) (Nat.le_of_ble_eq_true rfl) (fun _ _ => rfl) ?_
  intro p e s m args below meth c Q ls hx hb hml hown hts hG hP hl ret
  have hl : lv_has ls 9 [(0, .ref q), (1, .long (lN x)), (3, .long (lN y)), (5, .long (lN z_))] := hl
  have hln0 := hln
  obtain ⟨a_, L_, f_, hm4, hm5, hL_, hrow⟩ := hln0
  have m1 := mul_le_w hx_ hy_
  have m2 := Nat.mul_le_mul hx_ hy_
  have m3 := Nat.mul_le_mul hx_ hz_
  have m4 : y * (65536 - z_) ≤ 65536 * 65536 := Nat.mul_le_mul hy_ (Nat.sub_le _ _)
  have m5 := sum_le_w hx_ hy_
  have m6 := dif_le_w hx_ hy_
  refine lv_lload_n hx hb dX3_share_0 rfl (lv_at hl 1 rfl) ?_
  refine lv_lload_n hx hb dX3_share_1 rfl (lv_at hl 2 rfl) ?_
  refine lv_lmul hx hb dX3_share_2 ?_
  refine r_asl (z := lN (x * y)) (lN_mul _ _) ?_
  refine lv_ldc2 hx hb hown (hts _ q823) dX3_share_3 ?_
  refine r_asl (z := lN 65536) rfl ?_
  refine lv_ldiv hx hb dX3_share_6 (by decide) ?_
  refine r_asl (z := lN ((x * y) / 65536)) (pk_lDiv (by omega) (by decide) (by decide)) ?_
  refine lv_lstore (lv' := [(7, .long (lN ((x * y) / 65536))), (0, .ref q), (1, .long (lN x)), (3, .long (lN y)), (5, .long (lN z_))]) hx hb dX3_share_7 hl (by decide) rfl (fun ls hl => ?_)
  refine lv_aload_n hx hb dX3_share_9 rfl (lv_at hl 1 rfl) ?_
  refine ns_i (k := 5) (nr_F (C := "ShareStreams$Plain") (ci := 4) (As := []) (rest := []) hx hb hml hown hts hG (L_kind l G rc q row (by first | assumption | omega | rfl)) nPs.blind 0 q607 q343 q345 q55 q347 (by decide +kernel) (by decide +kernel) ⟨⟨Nat.le_of_ble_eq_true rfl, Nat.le_of_ble_eq_true rfl⟩, Nat.le_of_ble_eq_true rfl, Nat.le_of_ble_eq_true rfl⟩ rfl rfl (r_recv hG (va_P.m1 hP hm4 va_P.m0) 0 (C := "ShareStreams$Plain") rfl rfl rfl) (nPs_of0 hG hP) rfl hl.1 rfl (Nat.le_of_ble_eq_true rfl) dX3_share_10) (fun r10 hp10 => ?_)
  have he10 := hp10
  have he10 : r10 = row 0 := he10
  subst he10
  rcases lc_7 hk6 with z | z | z | z | z | z | z
  · skip
    obtain ⟨hv1, hv2⟩ := hv z
    refine r_as (z := nI 0) (by rw [hk0, z]) ?_
    refine lv_tableIn (off := 37) (tgt := 52) hx hb dX3_share_15 (by decide +kernel) (by decide +kernel) (by decide +kernel) (by decide) ?_
    refine lv_aload_n hx hb dX3_share_52 rfl (lv_at hl 1 rfl) ?_
    refine lv_iconst (v := nI 0) hx hb dX3_share_53 rfl ?_
    refine ns_i (k := 5) (nr_F (C := "ShareStreams$Plain") (ci := 4) (As := [.int (nI 0)]) (rest := []) hx hb hml hown hts hG (L_num l G rc q row 0 (by first | assumption | omega | rfl) (by first | assumption | omega | rfl)) nPs.blind 1 q609 q353 q355 q55 q357 (by decide +kernel) (by decide +kernel) ⟨⟨Nat.le_of_ble_eq_true rfl, Nat.le_of_ble_eq_true rfl⟩, Nat.le_of_ble_eq_true rfl, Nat.le_of_ble_eq_true rfl⟩ rfl rfl (r_recv hG (va_P.m1 hP hm4 va_P.m0) 0 (C := "ShareStreams$Plain") rfl rfl rfl) (nPs_of0 hG hP) rfl hl.1 rfl (Nat.le_of_ble_eq_true rfl) dX3_share_54) (fun r54 hp54 => ?_)
    have he54 := hp54
    have he54 : r54 = row (0 + 1) := he54
    subst he54
    refine r_as (z := nI v) hv1 ?_
    refine lv_i2l (v := lN v) hx hb dX3_share_59 (nI_l (by omega)) ?_
    refine lv_ldc2 hx hb hown (hts _ q824) dX3_share_60 ?_
    refine r_asl (z := lN 256) rfl ?_
    refine lv_lmul hx hb dX3_share_63 ?_
    refine r_asl (z := lN (v * 256)) (lN_mul _ _) ?_
    refine lv_l2i (v := nI (v * 256)) hx hb dX3_share_64 (lN_i _) ?_
    refine lv_goto (tgt := 130) hx hb dX3_share_65 (by decide) ?_
    exact ret (nI (v * 256)) dX3_share_130 (by subst z; simp [leN])
  · skip
    refine r_as (z := nI 1) (by rw [hk0, z]) ?_
    refine lv_tableIn (off := 53) (tgt := 68) hx hb dX3_share_15 (by decide +kernel) (by decide +kernel) (by decide +kernel) (by decide) ?_
    refine lv_lload hx hb dX3_share_68 (lv_at hl 0 rfl) ?_
    refine lv_l2i (v := nI ((x * y) / 65536)) hx hb dX3_share_70 (lN_i _) ?_
    refine lv_goto (tgt := 130) hx hb dX3_share_71 (by decide) ?_
    exact ret (nI ((x * y) / 65536)) dX3_share_130 (by subst z; simp [leN])
  · skip
    refine r_as (z := nI 2) (by rw [hk0, z]) ?_
    refine lv_tableIn (off := 59) (tgt := 74) hx hb dX3_share_15 (by decide +kernel) (by decide +kernel) (by decide +kernel) (by decide) ?_
    refine lv_lload_n hx hb dX3_share_74 rfl (lv_at hl 2 rfl) ?_
    refine lv_lload_n hx hb dX3_share_75 rfl (lv_at hl 3 rfl) ?_
    refine lv_ladd hx hb dX3_share_76 ?_
    refine r_asl (z := lN (x + y)) (lN_add _ _) ?_
    refine lv_lload hx hb dX3_share_77 (lv_at hl 0 rfl) ?_
    refine lv_lsub hx hb dX3_share_79 ?_
    refine r_asl (z := lN ((x + y) - ((x * y) / 65536))) (lN_sub (by omega)) ?_
    refine lv_l2i (v := nI ((x + y) - ((x * y) / 65536))) hx hb dX3_share_80 (lN_i _) ?_
    refine lv_goto (tgt := 130) hx hb dX3_share_81 (by decide) ?_
    exact ret (nI ((x + y) - ((x * y) / 65536))) dX3_share_130 (by subst z; simp [leN])
  · skip
    refine r_as (z := nI 3) (by rw [hk0, z]) ?_
    refine lv_tableIn (off := 69) (tgt := 84) hx hb dX3_share_15 (by decide +kernel) (by decide +kernel) (by decide +kernel) (by decide) ?_
    refine lv_lload_n hx hb dX3_share_84 rfl (lv_at hl 2 rfl) ?_
    refine lv_lload_n hx hb dX3_share_85 rfl (lv_at hl 3 rfl) ?_
    refine lv_ladd hx hb dX3_share_86 ?_
    refine r_asl (z := lN (x + y)) (lN_add _ _) ?_
    refine lv_ldc2 hx hb hown (hts _ q825) dX3_share_87 ?_
    refine r_asl (z := lN 2) rfl ?_
    refine lv_lload hx hb dX3_share_90 (lv_at hl 0 rfl) ?_
    refine lv_lmul hx hb dX3_share_92 ?_
    refine r_asl (z := lN (2 * ((x * y) / 65536))) (lN_mul _ _) ?_
    refine lv_lsub hx hb dX3_share_93 ?_
    refine r_asl (z := lN ((x + y) - (2 * ((x * y) / 65536)))) (lN_sub (by omega)) ?_
    refine lv_l2i (v := nI ((x + y) - (2 * ((x * y) / 65536)))) hx hb dX3_share_94 (lN_i _) ?_
    refine lv_goto (tgt := 130) hx hb dX3_share_95 (by decide) ?_
    exact ret (nI ((x + y) - (2 * ((x * y) / 65536)))) dX3_share_130 (by subst z; simp [leN])
  · skip
    refine r_as (z := nI 4) (by rw [hk0, z]) ?_
    refine lv_tableIn (off := 83) (tgt := 98) hx hb dX3_share_15 (by decide +kernel) (by decide +kernel) (by decide +kernel) (by decide) ?_
    refine lv_lload_n hx hb dX3_share_98 rfl (lv_at hl 2 rfl) ?_
    refine lv_lload hx hb dX3_share_99 (lv_at hl 4 rfl) ?_
    refine lv_lmul hx hb dX3_share_101 ?_
    refine r_asl (z := lN (x * z_)) (lN_mul _ _) ?_
    refine lv_lload_n hx hb dX3_share_102 rfl (lv_at hl 3 rfl) ?_
    refine lv_ldc2 hx hb hown (hts _ q823) dX3_share_103 ?_
    refine r_asl (z := lN 65536) rfl ?_
    refine lv_lload hx hb dX3_share_106 (lv_at hl 4 rfl) ?_
    refine lv_lsub hx hb dX3_share_108 ?_
    refine r_asl (z := lN (65536 - z_)) (lN_sub (by omega)) ?_
    refine lv_lmul hx hb dX3_share_109 ?_
    refine r_asl (z := lN (y * (65536 - z_))) (lN_mul _ _) ?_
    refine lv_ladd hx hb dX3_share_110 ?_
    refine r_asl (z := lN (x * z_ + (y * (65536 - z_)))) (lN_add _ _) ?_
    refine lv_ldc2 hx hb hown (hts _ q823) dX3_share_111 ?_
    refine r_asl (z := lN 65536) rfl ?_
    refine lv_ldiv hx hb dX3_share_114 (by decide) ?_
    refine r_asl (z := lN ((x * z_ + (y * (65536 - z_))) / 65536)) (pk_lDiv (by omega) (by decide) (by decide)) ?_
    refine lv_l2i (v := nI ((x * z_ + (y * (65536 - z_))) / 65536)) hx hb dX3_share_115 (lN_i _) ?_
    refine lv_goto (tgt := 130) hx hb dX3_share_116 (by decide) ?_
    exact ret (nI ((x * z_ + (y * (65536 - z_))) / 65536)) dX3_share_130 (by subst z; simp [leN])
  · skip
    refine r_as (z := nI 5) (by rw [hk0, z]) ?_
    refine lv_tableIn (off := 104) (tgt := 119) hx hb dX3_share_15 (by decide +kernel) (by decide +kernel) (by decide +kernel) (by decide) ?_
    refine lv_ldc2 hx hb hown (hts _ q823) dX3_share_119 ?_
    refine r_asl (z := lN 65536) rfl ?_
    refine lv_lload_n hx hb dX3_share_122 rfl (lv_at hl 2 rfl) ?_
    refine lv_lsub hx hb dX3_share_123 ?_
    refine r_asl (z := lN (65536 - x)) (lN_sub (by omega)) ?_
    refine lv_l2i (v := nI (65536 - x)) hx hb dX3_share_124 (lN_i _) ?_
    refine lv_goto (tgt := 130) hx hb dX3_share_125 (by decide) ?_
    exact ret (nI (65536 - x)) dX3_share_130 (by subst z; simp [leN])
  · skip
    refine r_as (z := nI 6) (by rw [hk0, z]) ?_
    refine lv_tableOut (tgt := 128) hx hb dX3_share_15 (by decide +kernel) (by decide) ?_
    refine lv_lload_n hx hb dX3_share_128 rfl (lv_at hl 2 rfl) ?_
    refine lv_l2i (v := nI x) hx hb dX3_share_129 (lN_i _) ?_
    exact ret (nI x) dX3_share_130 (by subst z; simp [leN])
