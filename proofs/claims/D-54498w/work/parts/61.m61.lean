set_option maxHeartbeats 4000000 in
set_option maxRecDepth 100000 in
theorem S_bit (l : Launch) (G : nG) (rc : va_W) (x : Nat) (b : Nat) (sn : Option Nat) (hq : Nat) (sb : Nat) (B : nBe) (p1 : Int32) (p2 : Int32) (hB : iBench G rc b B) (hok : beOk B) : nMi (S := Unit) l yX0_bit cX0_bit 3 (.int) 6 10 2200 135 G [.ref x, .int p1, .int p2] ([(x, .inr (0, [.ref b, va_rf sn, .ref hq, .ref sb]))]) rc (fun (u : Unit) => [(x, .inr (0, [.ref b, va_rf sn, .ref hq, .ref sb]))]) (fun (r : Int32) (u : Unit) => r = (qBit B p1 p2)) := by
  refine nMi.of (own := "ShareStreams") rfl (by decide +kernel) (Nat.le_of_ble_eq_true rfl) (fun _ _ _ => rfl) ?_
  intro p e s m args below meth c A Q ls hx hb hml hown hts hin hG Z hl ret
  have hl : lv_has ls 3 [(0, .ref x), (1, .int p1), (2, .int p2)] := hl
  have Z : nW G A ([(x, .inr (0, [.ref b, va_rf sn, .ref hq, .ref sb]))]) ([]) rc s.heap _ _ := Z
  obtain ⟨b_, hm1, hL⟩ := id hB
  have hL0 := hL
  obtain ⟨c_, ea_, cap_, f_, hm2, hm3, hel⟩ := hL0
  obtain ⟨hn, ⟨hlen1, hlen2⟩, ok⟩ := id hok
  refine lv_aload_n hx hb dX0_bit_0 rfl (lv_at hl 0 rfl) ?_
  refine r_get (v := .ref b) hx hb hts in_X0 hown hG Z.w 0 rfl rfl 0 (by decide) q150 (fun _ h9 => h9) rfl dX0_bit_1 ?_
  refine lv_iload_n hx hb dX0_bit_4 rfl (lv_at hl 1 rfl) ?_
  refine ns_i (k := 3) (nr_V (As := [.int p1]) (rest := []) hx hb hml hown hts (B_isLine l G rc b B p1 (by first | assumption | omega | rfl) (by first | assumption | omega | rfl)) nPs.blind 1 q313 q314 q315 q45 q316 (by decide +kernel) ⟨⟨Nat.le_of_ble_eq_true rfl, Nat.le_of_ble_eq_true rfl⟩, Nat.le_of_ble_eq_true rfl, Nat.le_of_ble_eq_true rfl⟩ (r_recv hG (va_P.m1 Z.rc hm1 va_P.m0) 0 (C := "ShareStreams$Bench") rfl rfl rfl) (nPs_of hG Z Z.rc) rfl hl.1 rfl (Nat.le_of_ble_eq_true rfl) dX0_bit_5) (fun r5 hp5 => ?_)
  have he5 := hp5
  have he5 : r5 = bI (isLn p1 B.1) := he5
  subst he5
  refine lv_if_ne (tgt := 14) hx hb dX0_bit_8 (by decide) (fun c8 => ?_) (fun c8 => ?_)
  · skip
    have c8 := bI_t c8
    refine lv_iload_n hx hb dX0_bit_14 rfl (lv_at hl 2 rfl) ?_
    refine lv_iconst (v := nI 0) hx hb dX0_bit_15 rfl ?_
    refine lv_sipush (v := nI 999) hx hb dX0_bit_16 rfl ?_
    refine ns_i (k := 3) (nr_S (As := [.int p2, .int (nI 0), .int (nI 999)]) (rest := []) hx hb hml hown hts (S_in l G p2 (nI 0) (nI 999)) nPs.blind 3 q167 q168 q44 q169 (by decide +kernel) ⟨⟨Nat.le_of_ble_eq_true rfl, Nat.le_of_ble_eq_true rfl⟩, Nat.le_of_ble_eq_true rfl, Nat.le_of_ble_eq_true rfl⟩ (nPs_of hG Z va_P.m0) rfl hl.1 rfl (Nat.le_of_ble_eq_true rfl) dX0_bit_19) (fun r19 hp19 => ?_)
    have he19 := hp19
    have he19 : r19 = bI (inI p2 (nI 0) (nI 999)) := he19
    subst he19
    refine r_as (z := bI (rng p2 0 999)) (congrArg bI (inI_rng p2 (a := 0) (b := 999) (by decide) (by decide))) ?_
    refine lv_if_eq (tgt := 49) hx hb dX0_bit_22 (by decide) (fun c22 => ?_) (fun c22 => ?_)
    · skip
      have c22 := bI_f c22
      refine lv_ldc hx hb hown (hts _ q308) dX0_bit_49 ?_
      exact ret (-100000002 : Int32) () dX0_bit_51 (by unfold qBit; first | (simp [c8, c22]; done) | (simp [c8]; done)) Z (Nat.le_of_ble_eq_true rfl) (Nat.le_of_ble_eq_true rfl)
    · skip
      have c22 := bI_t c22
      obtain ⟨k, hk, ek⟩ := isLn_t c8 (by omega)
      subst ek
      have hck : (nI k).toNatClampNeg = k := nI_clamp (by omega)
      obtain ⟨w, hw1, hw2, ew⟩ := rng_t c22 (by decide)
      subst ew
      have hcw : (nI w).toNatClampNeg = w := nI_clamp (by omega)
      refine lv_aload_n hx hb dX0_bit_25 rfl (lv_at hl 0 rfl) ?_
      refine r_get (v := .ref b) hx hb hts in_X0 hown hG Z.w 0 rfl rfl 0 (by decide) q150 (fun _ h9 => h9) rfl dX0_bit_26 ?_
      refine lv_iload_n hx hb dX0_bit_29 rfl (lv_at hl 1 rfl) ?_
      refine lv_iload_n hx hb dX0_bit_30 rfl (lv_at hl 2 rfl) ?_
      refine lv_iconst (v := nI 1) hx hb dX0_bit_31 rfl ?_
      refine lv_iadd hx hb dX0_bit_32 ?_
      refine r_as (z := nI (w + 1)) (nI_add _ _) ?_
      refine nc_i (k := 3) (wcc := []) (wr := [(x, .inr (0, [.ref b, va_rf sn, .ref hq, .ref sb]))]) (nr_V (As := [.int (nI k), .int (nI (w + 1))]) (rest := []) hx hb hml hown hts ((B_countOf l G rc b B k (w + 1) (by first | assumption | omega | rfl) (by first | assumption | omega | rfl) (by first | assumption | omega | rfl) (by first | assumption | omega | rfl)) _) nP.blind 2 q724 q725 q726 q45 q727 (by decide +kernel) ⟨⟨Nat.le_of_ble_eq_true rfl, Nat.le_of_ble_eq_true rfl⟩, Nat.le_of_ble_eq_true rfl, Nat.le_of_ble_eq_true rfl⟩ (r_recv hG (va_P.m1 Z.rc hm1 va_P.m0) 0 (C := "ShareStreams$Bench") rfl rfl rfl) (nP_of hG Z [] rfl (by decide) Z.rc (Z.apR [] rfl)) rfl hl.1 rfl (Nat.le_of_ble_eq_true rfl) dX0_bit_33) Z [] [0] rfl rfl (by decide) (by decide) (fun r33 u H locs hp33 Z => ?_)
      have he33 := hp33
      have he33 : r33 = nI (cntN B.2.1 k (w + 1)) := he33
      subst he33
      have Z : nW G A ([(x, .inr (0, [.ref b, va_rf sn, .ref hq, .ref sb]))]) ([]) rc s.heap _ _ := Z
      refine lv_aload_n hx hb dX0_bit_36 rfl (lv_at hl 0 rfl) ?_
      refine r_get (v := .ref b) hx hb hts in_X0 hown hG Z.w 0 rfl rfl 0 (by decide) q150 (fun _ h9 => h9) rfl dX0_bit_37 ?_
      refine lv_iload_n hx hb dX0_bit_40 rfl (lv_at hl 1 rfl) ?_
      refine lv_iload_n hx hb dX0_bit_41 rfl (lv_at hl 2 rfl) ?_
      refine nc_i (k := 3) (wcc := []) (wr := [(x, .inr (0, [.ref b, va_rf sn, .ref hq, .ref sb]))]) (nr_V (As := [.int (nI k), .int (nI w)]) (rest := [.int (nI (cntN B.2.1 k (w + 1)))]) hx hb hml hown hts ((B_countOf l G rc b B k w (by first | assumption | omega | rfl) (by first | assumption | omega | rfl) (by first | assumption | omega | rfl) (by first | assumption | omega | rfl)) _) nP.blind 2 q724 q725 q726 q45 q727 (by decide +kernel) ⟨⟨Nat.le_of_ble_eq_true rfl, Nat.le_of_ble_eq_true rfl⟩, Nat.le_of_ble_eq_true rfl, Nat.le_of_ble_eq_true rfl⟩ (r_recv hG (va_P.m1 Z.rc hm1 va_P.m0) 0 (C := "ShareStreams$Bench") rfl rfl rfl) (nP_of hG Z [] rfl (by decide) Z.rc (Z.apR [] rfl)) rfl hl.1 rfl (Nat.le_of_ble_eq_true rfl) dX0_bit_42) Z [] [0] rfl rfl (by decide) (by decide) (fun r42 u H locs hp42 Z => ?_)
      have he42 := hp42
      have he42 : r42 = nI (cntN B.2.1 k w) := he42
      subst he42
      have Z : nW G A ([(x, .inr (0, [.ref b, va_rf sn, .ref hq, .ref sb]))]) ([]) rc s.heap _ _ := Z
      have hcs : cntN B.2.1 k (w + 1) = cntN B.2.1 k w + bitN B.2.1 k w := rfl
      refine lv_isub hx hb dX0_bit_45 ?_
      refine r_as (z := nI ((cntN B.2.1 k (w + 1)) - (cntN B.2.1 k w))) (pk_sub (by omega)) ?_
      refine lv_goto (tgt := 51) hx hb dX0_bit_46 (by decide) ?_
      exact ret (nI ((cntN B.2.1 k (w + 1)) - (cntN B.2.1 k w))) () dX0_bit_51 (by unfold qBit; rw [if_pos c8, if_pos c22, hck, hcw]; congr 1; omega) Z (Nat.le_of_ble_eq_true rfl) (Nat.le_of_ble_eq_true rfl)
  · skip
    have c8 := bI_f c8
    refine lv_ldc hx hb hown (hts _ q318) dX0_bit_11 ?_
    exact ret (-100000001 : Int32) () dX0_bit_13 (by unfold qBit; first | (simp [c8, c22]; done) | (simp [c8]; done)) Z (Nat.le_of_ble_eq_true rfl) (Nat.le_of_ble_eq_true rfl)
set_option maxHeartbeats 4000000 in
set_option maxRecDepth 100000 in
theorem S_overlap (l : Launch) (G : nG) (rc : va_W) (x : Nat) (b : Nat) (sn : Option Nat) (hq : Nat) (sb : Nat) (B : nBe) (p1 : Int32) (p2 : Int32) (hB : iBench G rc b B) (hok : beOk B) : nMi (S := Unit) l yX0_overlap cX0_overlap 3 (.int) 6 10 1200 136 G [.ref x, .int p1, .int p2] ([(x, .inr (0, [.ref b, va_rf sn, .ref hq, .ref sb]))]) rc (fun (u : Unit) => [(x, .inr (0, [.ref b, va_rf sn, .ref hq, .ref sb]))]) (fun (r : Int32) (u : Unit) => r = (qOverlap B p1 p2)) := by
  refine nMi.of (own := "ShareStreams") rfl (by decide +kernel) (Nat.le_of_ble_eq_true rfl) (fun _ _ _ => rfl) ?_
  intro p e s m args below meth c A Q ls hx hb hml hown hts hin hG Z hl ret
  have hl : lv_has ls 3 [(0, .ref x), (1, .int p1), (2, .int p2)] := hl
  have Z : nW G A ([(x, .inr (0, [.ref b, va_rf sn, .ref hq, .ref sb]))]) ([]) rc s.heap _ _ := Z
  obtain ⟨b_, hm1, hL⟩ := id hB
  have hL0 := hL
  obtain ⟨c_, ea_, cap_, f_, hm2, hm3, hel⟩ := hL0
  obtain ⟨hn, ⟨hlen1, hlen2⟩, ok⟩ := id hok
  refine lv_aload_n hx hb dX0_overlap_0 rfl (lv_at hl 0 rfl) ?_
  refine r_get (v := .ref b) hx hb hts in_X0 hown hG Z.w 0 rfl rfl 0 (by decide) q150 (fun _ h9 => h9) rfl dX0_overlap_1 ?_
  refine lv_iload_n hx hb dX0_overlap_4 rfl (lv_at hl 1 rfl) ?_
  refine ns_i (k := 3) (nr_V (As := [.int p1]) (rest := []) hx hb hml hown hts (B_isLine l G rc b B p1 (by first | assumption | omega | rfl) (by first | assumption | omega | rfl)) nPs.blind 1 q313 q314 q315 q45 q316 (by decide +kernel) ⟨⟨Nat.le_of_ble_eq_true rfl, Nat.le_of_ble_eq_true rfl⟩, Nat.le_of_ble_eq_true rfl, Nat.le_of_ble_eq_true rfl⟩ (r_recv hG (va_P.m1 Z.rc hm1 va_P.m0) 0 (C := "ShareStreams$Bench") rfl rfl rfl) (nPs_of hG Z Z.rc) rfl hl.1 rfl (Nat.le_of_ble_eq_true rfl) dX0_overlap_5) (fun r5 hp5 => ?_)
  have he5 := hp5
  have he5 : r5 = bI (isLn p1 B.1) := he5
  subst he5
  refine lv_if_eq (tgt := 22) hx hb dX0_overlap_8 (by decide) (fun c8 => ?_) (fun c8 => ?_)
  · skip
    have c8 := bI_f c8
    refine lv_ldc hx hb hown (hts _ q318) dX0_overlap_22 ?_
    exact ret (-100000001 : Int32) () dX0_overlap_24 (by unfold qOverlap; first | (simp [c8, c19]; done) | (simp [c8]; done)) Z (Nat.le_of_ble_eq_true rfl) (Nat.le_of_ble_eq_true rfl)
  · skip
    have c8 := bI_t c8
    refine lv_aload_n hx hb dX0_overlap_11 rfl (lv_at hl 0 rfl) ?_
    refine r_get (v := .ref b) hx hb hts in_X0 hown hG Z.w 0 rfl rfl 0 (by decide) q150 (fun _ h9 => h9) rfl dX0_overlap_12 ?_
    refine lv_iload_n hx hb dX0_overlap_15 rfl (lv_at hl 2 rfl) ?_
    refine ns_i (k := 3) (nr_V (As := [.int p2]) (rest := []) hx hb hml hown hts (B_isLine l G rc b B p2 (by first | assumption | omega | rfl) (by first | assumption | omega | rfl)) nPs.blind 1 q313 q314 q315 q45 q316 (by decide +kernel) ⟨⟨Nat.le_of_ble_eq_true rfl, Nat.le_of_ble_eq_true rfl⟩, Nat.le_of_ble_eq_true rfl, Nat.le_of_ble_eq_true rfl⟩ (r_recv hG (va_P.m1 Z.rc hm1 va_P.m0) 0 (C := "ShareStreams$Bench") rfl rfl rfl) (nPs_of hG Z Z.rc) rfl hl.1 rfl (Nat.le_of_ble_eq_true rfl) dX0_overlap_16) (fun r16 hp16 => ?_)
    have he16 := hp16
    have he16 : r16 = bI (isLn p2 B.1) := he16
    subst he16
    refine lv_if_ne (tgt := 25) hx hb dX0_overlap_19 (by decide) (fun c19 => ?_) (fun c19 => ?_)
    · skip
      have c19 := bI_t c19
      obtain ⟨k, hk, ek⟩ := isLn_t c8 (by omega)
      subst ek
      have hck : (nI k).toNatClampNeg = k := nI_clamp (by omega)
      obtain ⟨w, hw, ew⟩ := isLn_t c19 (by omega)
      subst ew
      have hcw : (nI w).toNatClampNeg = w := nI_clamp (by omega)
      refine lv_aload_n hx hb dX0_overlap_25 rfl (lv_at hl 0 rfl) ?_
      refine r_get (v := .ref b) hx hb hts in_X0 hown hG Z.w 0 rfl rfl 0 (by decide) q150 (fun _ h9 => h9) rfl dX0_overlap_26 ?_
      refine lv_iload_n hx hb dX0_overlap_29 rfl (lv_at hl 1 rfl) ?_
      refine lv_iload_n hx hb dX0_overlap_30 rfl (lv_at hl 2 rfl) ?_
      refine nc_l (k := 3) (wcc := []) (wr := [(x, .inr (0, [.ref b, va_rf sn, .ref hq, .ref sb]))]) (nr_V (As := [.int (nI k), .int (nI w)]) (rest := []) hx hb hml hown hts ((B_overlap l G rc b B k w (by first | assumption | omega | rfl) (by first | assumption | omega | rfl) (by first | assumption | omega | rfl) (by first | assumption | omega | rfl)) _) nP.blind 2 q860 q861 q862 q45 q863 (by decide +kernel) ⟨⟨Nat.le_of_ble_eq_true rfl, Nat.le_of_ble_eq_true rfl⟩, Nat.le_of_ble_eq_true rfl, Nat.le_of_ble_eq_true rfl⟩ (r_recv hG (va_P.m1 Z.rc hm1 va_P.m0) 0 (C := "ShareStreams$Bench") rfl rfl rfl) (nP_of hG Z [] rfl (by decide) Z.rc (Z.apR [] rfl)) rfl hl.1 rfl (Nat.le_of_ble_eq_true rfl) dX0_overlap_31) Z [] [0] rfl rfl (by decide) (by decide) (fun r31 u H locs hp31 Z => ?_)
      have he31 := hp31
      have he31 : r31 = lN (ovB B.2.1 k w B.2.2 * B.2.2) - lN (cntN B.2.1 k B.2.2 * cntN B.2.1 w B.2.2) := he31
      subst he31
      have Z : nW G A ([(x, .inr (0, [.ref b, va_rf sn, .ref hq, .ref sb]))]) ([]) rc s.heap _ _ := Z
      refine lv_ldc2 hx hb hown (hts _ q866) dX0_overlap_34 ?_
      refine r_asl (z := lN 65536) rfl ?_
      refine lv_lmul hx hb dX0_overlap_37 ?_
      refine lv_aload_n hx hb dX0_overlap_38 rfl (lv_at hl 0 rfl) ?_
      refine r_get (v := .ref b) hx hb hts in_X0 hown hG Z.w 0 rfl rfl 0 (by decide) q150 (fun _ h9 => h9) rfl dX0_overlap_39 ?_
      refine r_getN (v := .int (nI B.2.2)) hx hb hts in_X1 hown hG (va_P.m1 Z.rc hm1 va_P.m0) 0 rfl rfl 1 (by decide) q110 (fun _ h9 => h9) rfl dX0_overlap_42 ?_
      refine lv_i2l (v := lN B.2.2) hx hb dX0_overlap_45 (nI_l (by omega)) ?_
      refine lv_aload_n hx hb dX0_overlap_46 rfl (lv_at hl 0 rfl) ?_
      refine r_get (v := .ref b) hx hb hts in_X0 hown hG Z.w 0 rfl rfl 0 (by decide) q150 (fun _ h9 => h9) rfl dX0_overlap_47 ?_
      refine r_getN (v := .int (nI B.2.2)) hx hb hts in_X1 hown hG (va_P.m1 Z.rc hm1 va_P.m0) 0 rfl rfl 1 (by decide) q110 (fun _ h9 => h9) rfl dX0_overlap_50 ?_
      refine lv_i2l (v := lN B.2.2) hx hb dX0_overlap_53 (nI_l (by omega)) ?_
      refine lv_lmul hx hb dX0_overlap_54 ?_
      refine r_asl (z := lN (B.2.2 * B.2.2)) (lN_mul _ _) ?_
      refine lv_ldiv hx hb dX0_overlap_55 (fun h => by have hmm := Nat.mul_le_mul hlen2 hlen2; have hmp := Nat.mul_pos hlen1 hlen1; have := (pk_lEQ (a := B.2.2 * B.2.2) (b := 0) (by omega) (by decide)).mp h; omega) ?_
      refine lv_l2i hx hb dX0_overlap_56 rfl ?_
      exact ret (Int64.toInt32 (((lN (ovB B.2.1 k w B.2.2 * B.2.2) - lN (cntN B.2.1 k B.2.2 * cntN B.2.1 w B.2.2)) * (lN 65536)) / (lN (B.2.2 * B.2.2)))) () dX0_overlap_57 (by unfold qOverlap; rw [if_pos (by simp [c8, c19]), hck, hcw]; rfl) Z (Nat.le_of_ble_eq_true rfl) (Nat.le_of_ble_eq_true rfl)
    · skip
      have c19 := bI_f c19
      refine lv_ldc hx hb hown (hts _ q318) dX0_overlap_22 ?_
      exact ret (-100000001 : Int32) () dX0_overlap_24 (by unfold qOverlap; first | (simp [c8, c19]; done) | (simp [c8]; done)) Z (Nat.le_of_ble_eq_true rfl) (Nat.le_of_ble_eq_true rfl)
set_option maxHeartbeats 4000000 in
set_option maxRecDepth 100000 in
theorem S_errorAt (l : Launch) (G : nG) (rc : va_W) (x : Nat) (b : Nat) (sn : Option Nat) (hq : Nat) (sb : Nat) (B : nBe) (p1 : Int32) (p2 : Int32) (hB : iBench G rc b B) (hok : beOk B) : nMi (S := Unit) l yX0_errorAt cX0_errorAt 3 (.int) 8 10 1200 179 G [.ref x, .int p1, .int p2] ([(x, .inr (0, [.ref b, va_rf sn, .ref hq, .ref sb]))]) rc (fun (u : Unit) => [(x, .inr (0, [.ref b, va_rf sn, .ref hq, .ref sb]))]) (fun (r : Int32) (u : Unit) => r = (qErrorAt B p1 p2)) := by
  refine nMi.of (own := "ShareStreams") rfl (by decide +kernel) (Nat.le_of_ble_eq_true rfl) (fun _ _ _ => rfl) ?_
  intro p e s m args below meth c A Q ls hx hb hml hown hts hin hG Z hl ret
  have hl : lv_has ls 3 [(0, .ref x), (1, .int p1), (2, .int p2)] := hl
  have Z : nW G A ([(x, .inr (0, [.ref b, va_rf sn, .ref hq, .ref sb]))]) ([]) rc s.heap _ _ := Z
  obtain ⟨b_, hm1, hL⟩ := id hB
  have hL0 := hL
  obtain ⟨c_, ea_, cap_, f_, hm2, hm3, hel⟩ := hL0
  obtain ⟨hn, ⟨hlen1, hlen2⟩, ok⟩ := id hok
  refine lv_aload_n hx hb dX0_errorAt_0 rfl (lv_at hl 0 rfl) ?_
  refine r_get (v := .ref b) hx hb hts in_X0 hown hG Z.w 0 rfl rfl 0 (by decide) q150 (fun _ h9 => h9) rfl dX0_errorAt_1 ?_
  refine lv_iload_n hx hb dX0_errorAt_4 rfl (lv_at hl 1 rfl) ?_
  refine ns_i (k := 3) (nr_V (As := [.int p1]) (rest := []) hx hb hml hown hts (B_isLine l G rc b B p1 (by first | assumption | omega | rfl) (by first | assumption | omega | rfl)) nPs.blind 1 q313 q314 q315 q45 q316 (by decide +kernel) ⟨⟨Nat.le_of_ble_eq_true rfl, Nat.le_of_ble_eq_true rfl⟩, Nat.le_of_ble_eq_true rfl, Nat.le_of_ble_eq_true rfl⟩ (r_recv hG (va_P.m1 Z.rc hm1 va_P.m0) 0 (C := "ShareStreams$Bench") rfl rfl rfl) (nPs_of hG Z Z.rc) rfl hl.1 rfl (Nat.le_of_ble_eq_true rfl) dX0_errorAt_5) (fun r5 hp5 => ?_)
  have he5 := hp5
  have he5 : r5 = bI (isLn p1 B.1) := he5
  subst he5
  refine lv_if_ne (tgt := 14) hx hb dX0_errorAt_8 (by decide) (fun c8 => ?_) (fun c8 => ?_)
  · skip
    have c8 := bI_t c8
    refine lv_iload_n hx hb dX0_errorAt_14 rfl (lv_at hl 2 rfl) ?_
    refine lv_iconst (v := nI 1) hx hb dX0_errorAt_15 rfl ?_
    refine lv_sipush (v := nI 1000) hx hb dX0_errorAt_16 rfl ?_
    refine ns_i (k := 3) (nr_S (As := [.int p2, .int (nI 1), .int (nI 1000)]) (rest := []) hx hb hml hown hts (S_in l G p2 (nI 1) (nI 1000)) nPs.blind 3 q167 q168 q44 q169 (by decide +kernel) ⟨⟨Nat.le_of_ble_eq_true rfl, Nat.le_of_ble_eq_true rfl⟩, Nat.le_of_ble_eq_true rfl, Nat.le_of_ble_eq_true rfl⟩ (nPs_of hG Z va_P.m0) rfl hl.1 rfl (Nat.le_of_ble_eq_true rfl) dX0_errorAt_19) (fun r19 hp19 => ?_)
    have he19 := hp19
    have he19 : r19 = bI (inI p2 (nI 1) (nI 1000)) := he19
    subst he19
    refine r_as (z := bI (rng p2 1 1000)) (congrArg bI (inI_rng p2 (a := 1) (b := 1000) (by decide) (by decide))) ?_
    refine lv_if_eq (tgt := 37) hx hb dX0_errorAt_22 (by decide) (fun c22 => ?_) (fun c22 => ?_)
    · skip
      have c22 := bI_f c22
      refine lv_ldc hx hb hown (hts _ q308) dX0_errorAt_37 ?_
      exact ret (-100000002 : Int32) () dX0_errorAt_39 (by unfold qErrorAt; first | (simp [c8, c22]; done) | (simp [c8]; done)) Z (Nat.le_of_ble_eq_true rfl) (Nat.le_of_ble_eq_true rfl)
    · skip
      have c22 := bI_t c22
      obtain ⟨k, hk, ek⟩ := isLn_t c8 (by omega)
      subst ek
      have hck : (nI k).toNatClampNeg = k := nI_clamp (by omega)
      obtain ⟨w, hw1, hw2, ew⟩ := rng_t c22 (by decide)
      subst ew
      have hcw : (nI w).toNatClampNeg = w := nI_clamp (by omega)
      refine lv_aload_n hx hb dX0_errorAt_25 rfl (lv_at hl 0 rfl) ?_
      refine r_get (v := .ref b) hx hb hts in_X0 hown hG Z.w 0 rfl rfl 0 (by decide) q150 (fun _ h9 => h9) rfl dX0_errorAt_26 ?_
      refine lv_iload_n hx hb dX0_errorAt_29 rfl (lv_at hl 1 rfl) ?_
      refine lv_iload_n hx hb dX0_errorAt_30 rfl (lv_at hl 2 rfl) ?_
      refine nc_i (k := 3) (wcc := []) (wr := [(x, .inr (0, [.ref b, va_rf sn, .ref hq, .ref sb]))]) (nr_V (As := [.int (nI k), .int (nI w)]) (rest := []) hx hb hml hown hts ((B_error l G rc b B k w (by first | assumption | omega | rfl) (by first | assumption | omega | rfl) (by first | assumption | omega | rfl) (by first | assumption | omega | rfl) (by first | assumption | omega | rfl)) _) nP.blind 2 q826 q827 q828 q45 q829 (by decide +kernel) ⟨⟨Nat.le_of_ble_eq_true rfl, Nat.le_of_ble_eq_true rfl⟩, Nat.le_of_ble_eq_true rfl, Nat.le_of_ble_eq_true rfl⟩ (r_recv hG (va_P.m1 Z.rc hm1 va_P.m0) 0 (C := "ShareStreams$Bench") rfl rfl rfl) (nP_of hG Z [] rfl (by decide) Z.rc (Z.apR [] rfl)) rfl hl.1 rfl (Nat.le_of_ble_eq_true rfl) dX0_errorAt_31) Z [] [0] rfl rfl (by decide) (by decide) (fun r31 u H locs hp31 Z => ?_)
      have he31 := hp31
      have he31 : r31 = nI (errN B.2.1 k w) := he31
      subst he31
      have Z : nW G A ([(x, .inr (0, [.ref b, va_rf sn, .ref hq, .ref sb]))]) ([]) rc s.heap _ _ := Z
      refine lv_goto (tgt := 39) hx hb dX0_errorAt_34 (by decide) ?_
      exact ret (nI (errN B.2.1 k w)) () dX0_errorAt_39 (by unfold qErrorAt; rw [if_pos c8, if_pos c22, hck, hcw]) Z (Nat.le_of_ble_eq_true rfl) (Nat.le_of_ble_eq_true rfl)
  · skip
    have c8 := bI_f c8
    refine lv_ldc hx hb hown (hts _ q318) dX0_errorAt_11 ?_
    exact ret (-100000001 : Int32) () dX0_errorAt_13 (by unfold qErrorAt; first | (simp [c8, c22]; done) | (simp [c8]; done)) Z (Nat.le_of_ble_eq_true rfl) (Nat.le_of_ble_eq_true rfl)
set_option maxHeartbeats 4000000 in
set_option maxRecDepth 100000 in
theorem S_settles (l : Launch) (G : nG) (rc : va_W) (x : Nat) (b : Nat) (sn : Option Nat) (hq : Nat) (sb : Nat) (B : nBe) (p1 : Int32) (p2 : Int32) (hB : iBench G rc b B) (hok : beOk B) : nMi (S := Unit) l yX0_settles cX0_settles 3 (.int) 6 10 1200 133 G [.ref x, .int p1, .int p2] ([(x, .inr (0, [.ref b, va_rf sn, .ref hq, .ref sb]))]) rc (fun (u : Unit) => [(x, .inr (0, [.ref b, va_rf sn, .ref hq, .ref sb]))]) (fun (r : Int32) (u : Unit) => r = (qSettles B p1 p2)) := by
  refine nMi.of (own := "ShareStreams") rfl (by decide +kernel) (Nat.le_of_ble_eq_true rfl) (fun _ _ _ => rfl) ?_
  intro p e s m args below meth c A Q ls hx hb hml hown hts hin hG Z hl ret
  have hl : lv_has ls 3 [(0, .ref x), (1, .int p1), (2, .int p2)] := hl
  have Z : nW G A ([(x, .inr (0, [.ref b, va_rf sn, .ref hq, .ref sb]))]) ([]) rc s.heap _ _ := Z
  obtain ⟨b_, hm1, hL⟩ := id hB
  have hL0 := hL
  obtain ⟨c_, ea_, cap_, f_, hm2, hm3, hel⟩ := hL0
  obtain ⟨hn, ⟨hlen1, hlen2⟩, ok⟩ := id hok
  refine lv_aload_n hx hb dX0_settles_0 rfl (lv_at hl 0 rfl) ?_
  refine r_get (v := .ref b) hx hb hts in_X0 hown hG Z.w 0 rfl rfl 0 (by decide) q150 (fun _ h9 => h9) rfl dX0_settles_1 ?_
  refine lv_iload_n hx hb dX0_settles_4 rfl (lv_at hl 1 rfl) ?_
  refine ns_i (k := 3) (nr_V (As := [.int p1]) (rest := []) hx hb hml hown hts (B_isLine l G rc b B p1 (by first | assumption | omega | rfl) (by first | assumption | omega | rfl)) nPs.blind 1 q313 q314 q315 q45 q316 (by decide +kernel) ⟨⟨Nat.le_of_ble_eq_true rfl, Nat.le_of_ble_eq_true rfl⟩, Nat.le_of_ble_eq_true rfl, Nat.le_of_ble_eq_true rfl⟩ (r_recv hG (va_P.m1 Z.rc hm1 va_P.m0) 0 (C := "ShareStreams$Bench") rfl rfl rfl) (nPs_of hG Z Z.rc) rfl hl.1 rfl (Nat.le_of_ble_eq_true rfl) dX0_settles_5) (fun r5 hp5 => ?_)
  have he5 := hp5
  have he5 : r5 = bI (isLn p1 B.1) := he5
  subst he5
  refine lv_if_ne (tgt := 14) hx hb dX0_settles_8 (by decide) (fun c8 => ?_) (fun c8 => ?_)
  · skip
    have c8 := bI_t c8
    refine lv_iload_n hx hb dX0_settles_14 rfl (lv_at hl 2 rfl) ?_
    refine lv_iconst (v := nI 0) hx hb dX0_settles_15 rfl ?_
    refine lv_ldc hx hb hown (hts _ q875) dX0_settles_16 ?_
    refine r_as (z := nI 65536) rfl ?_
    refine ns_i (k := 3) (nr_S (As := [.int p2, .int (nI 0), .int (nI 65536)]) (rest := []) hx hb hml hown hts (S_in l G p2 (nI 0) (nI 65536)) nPs.blind 3 q167 q168 q44 q169 (by decide +kernel) ⟨⟨Nat.le_of_ble_eq_true rfl, Nat.le_of_ble_eq_true rfl⟩, Nat.le_of_ble_eq_true rfl, Nat.le_of_ble_eq_true rfl⟩ (nPs_of hG Z va_P.m0) rfl hl.1 rfl (Nat.le_of_ble_eq_true rfl) dX0_settles_18) (fun r18 hp18 => ?_)
    have he18 := hp18
    have he18 : r18 = bI (inI p2 (nI 0) (nI 65536)) := he18
    subst he18
    refine r_as (z := bI (rng p2 0 65536)) (congrArg bI (inI_rng p2 (a := 0) (b := 65536) (by decide) (by decide))) ?_
    refine lv_if_eq (tgt := 36) hx hb dX0_settles_21 (by decide) (fun c21 => ?_) (fun c21 => ?_)
    · skip
      have c21 := bI_f c21
      refine lv_ldc hx hb hown (hts _ q308) dX0_settles_36 ?_
      exact ret (-100000002 : Int32) () dX0_settles_38 (by unfold qSettles; first | (simp [c8, c21]; done) | (simp [c8]; done)) Z (Nat.le_of_ble_eq_true rfl) (Nat.le_of_ble_eq_true rfl)
    · skip
      have c21 := bI_t c21
      obtain ⟨k, hk, ek⟩ := isLn_t c8 (by omega)
      subst ek
      have hck : (nI k).toNatClampNeg = k := nI_clamp (by omega)
      obtain ⟨w, hw1, hw2, ew⟩ := rng_t c21 (by decide)
      subst ew
      have hcw : (nI w).toNatClampNeg = w := nI_clamp (by omega)
      refine lv_aload_n hx hb dX0_settles_24 rfl (lv_at hl 0 rfl) ?_
      refine r_get (v := .ref b) hx hb hts in_X0 hown hG Z.w 0 rfl rfl 0 (by decide) q150 (fun _ h9 => h9) rfl dX0_settles_25 ?_
      refine lv_iload_n hx hb dX0_settles_28 rfl (lv_at hl 1 rfl) ?_
      refine lv_iload_n hx hb dX0_settles_29 rfl (lv_at hl 2 rfl) ?_
      refine nc_i (k := 3) (wcc := []) (wr := [(x, .inr (0, [.ref b, va_rf sn, .ref hq, .ref sb]))]) (nr_V (As := [.int (nI k), .int (nI w)]) (rest := []) hx hb hml hown hts ((B_settles l G rc b B k w (by first | assumption | omega | rfl) (by first | assumption | omega | rfl) (by first | assumption | omega | rfl) (by first | assumption | omega | rfl)) _) nP.blind 2 q876 q877 q878 q45 q879 (by decide +kernel) ⟨⟨Nat.le_of_ble_eq_true rfl, Nat.le_of_ble_eq_true rfl⟩, Nat.le_of_ble_eq_true rfl, Nat.le_of_ble_eq_true rfl⟩ (r_recv hG (va_P.m1 Z.rc hm1 va_P.m0) 0 (C := "ShareStreams$Bench") rfl rfl rfl) (nP_of hG Z [] rfl (by decide) Z.rc (Z.apR [] rfl)) rfl hl.1 rfl (Nat.le_of_ble_eq_true rfl) dX0_settles_30) Z [] [0] rfl rfl (by decide) (by decide) (fun r30 u H locs hp30 Z => ?_)
      have he30 := hp30
      have he30 : r30 = stR (stF (stP B.2.1 k w) 1000) := he30
      subst he30
      have Z : nW G A ([(x, .inr (0, [.ref b, va_rf sn, .ref hq, .ref sb]))]) ([]) rc s.heap _ _ := Z
      refine lv_goto (tgt := 38) hx hb dX0_settles_33 (by decide) ?_
      exact ret (stR (stF (stP B.2.1 k w) 1000)) () dX0_settles_38 (by unfold qSettles; rw [if_pos c8, if_pos c21, hck, hcw]) Z (Nat.le_of_ble_eq_true rfl) (Nat.le_of_ble_eq_true rfl)
  · skip
    have c8 := bI_f c8
    refine lv_ldc hx hb hown (hts _ q318) dX0_settles_11 ?_
    exact ret (-100000001 : Int32) () dX0_settles_13 (by unfold qSettles; first | (simp [c8, c21]; done) | (simp [c8]; done)) Z (Nat.le_of_ble_eq_true rfl) (Nat.le_of_ble_eq_true rfl)
set_option maxHeartbeats 4000000 in
set_option maxRecDepth 100000 in
theorem S_unlike (l : Launch) (G : nG) (rc : va_W) (x : Nat) (b : Nat) (sn : Option Nat) (hq : Nat) (sb : Nat) (B : nBe) (p1 : Int32) (hB : iBench G rc b B) (hok : beOk B) : nMi (S := Unit) l yX0_unlike cX0_unlike 2 (.int) 6 10 1400 131 G [.ref x, .int p1] ([(x, .inr (0, [.ref b, va_rf sn, .ref hq, .ref sb]))]) rc (fun (u : Unit) => [(x, .inr (0, [.ref b, va_rf sn, .ref hq, .ref sb]))]) (fun (r : Int32) (u : Unit) => r = (qUnlike B p1)) := by
  refine nMi.of (own := "ShareStreams") rfl (by decide +kernel) (Nat.le_of_ble_eq_true rfl) (fun _ _ _ => rfl) ?_
  intro p e s m args below meth c A Q ls hx hb hml hown hts hin hG Z hl ret
  have hl : lv_has ls 2 [(0, .ref x), (1, .int p1)] := hl
  have Z : nW G A ([(x, .inr (0, [.ref b, va_rf sn, .ref hq, .ref sb]))]) ([]) rc s.heap _ _ := Z
  obtain ⟨b_, hm1, hL⟩ := id hB
  have hL0 := hL
  obtain ⟨c_, ea_, cap_, f_, hm2, hm3, hel⟩ := hL0
  obtain ⟨hn, ⟨hlen1, hlen2⟩, ok⟩ := id hok
  refine lv_aload_n hx hb dX0_unlike_0 rfl (lv_at hl 0 rfl) ?_
  refine r_get (v := .ref b) hx hb hts in_X0 hown hG Z.w 0 rfl rfl 0 (by decide) q150 (fun _ h9 => h9) rfl dX0_unlike_1 ?_
  refine lv_iload_n hx hb dX0_unlike_4 rfl (lv_at hl 1 rfl) ?_
  refine ns_i (k := 3) (nr_V (As := [.int p1]) (rest := []) hx hb hml hown hts (B_isLine l G rc b B p1 (by first | assumption | omega | rfl) (by first | assumption | omega | rfl)) nPs.blind 1 q313 q314 q315 q45 q316 (by decide +kernel) ⟨⟨Nat.le_of_ble_eq_true rfl, Nat.le_of_ble_eq_true rfl⟩, Nat.le_of_ble_eq_true rfl, Nat.le_of_ble_eq_true rfl⟩ (r_recv hG (va_P.m1 Z.rc hm1 va_P.m0) 0 (C := "ShareStreams$Bench") rfl rfl rfl) (nPs_of hG Z Z.rc) rfl hl.1 rfl (Nat.le_of_ble_eq_true rfl) dX0_unlike_5) (fun r5 hp5 => ?_)
  have he5 := hp5
  have he5 : r5 = bI (isLn p1 B.1) := he5
  subst he5
  refine lv_if_eq (tgt := 22) hx hb dX0_unlike_8 (by decide) (fun c8 => ?_) (fun c8 => ?_)
  · skip
    have c8 := bI_f c8
    refine lv_ldc hx hb hown (hts _ q318) dX0_unlike_22 ?_
    exact ret (-100000001 : Int32) () dX0_unlike_24 (by unfold qUnlike; first | (simp [c8]; done)) Z (Nat.le_of_ble_eq_true rfl) (Nat.le_of_ble_eq_true rfl)
  · skip
    have c8 := bI_t c8
    obtain ⟨k, hk, ek⟩ := isLn_t c8 (by omega)
    subst ek
    have hck : (nI k).toNatClampNeg = k := nI_clamp (by omega)
    refine lv_aload_n hx hb dX0_unlike_11 rfl (lv_at hl 0 rfl) ?_
    refine r_get (v := .ref b) hx hb hts in_X0 hown hG Z.w 0 rfl rfl 0 (by decide) q150 (fun _ h9 => h9) rfl dX0_unlike_12 ?_
    refine lv_iload_n hx hb dX0_unlike_15 rfl (lv_at hl 1 rfl) ?_
    refine nc_i (k := 3) (wcc := []) (wr := [(x, .inr (0, [.ref b, va_rf sn, .ref hq, .ref sb]))]) (nr_V (As := [.int (nI k)]) (rest := []) hx hb hml hown hts ((B_unlike l G rc b B k (by first | assumption | omega | rfl) (by first | assumption | omega | rfl) (by first | assumption | omega | rfl)) _) nP.blind 1 q896 q897 q898 q45 q899 (by decide +kernel) ⟨⟨Nat.le_of_ble_eq_true rfl, Nat.le_of_ble_eq_true rfl⟩, Nat.le_of_ble_eq_true rfl, Nat.le_of_ble_eq_true rfl⟩ (r_recv hG (va_P.m1 Z.rc hm1 va_P.m0) 0 (C := "ShareStreams$Bench") rfl rfl rfl) (nP_of hG Z [] rfl (by decide) Z.rc (Z.apR [] rfl)) rfl hl.1 rfl (Nat.le_of_ble_eq_true rfl) dX0_unlike_16) Z [] [0] rfl rfl (by decide) (by decide) (fun r16 u H locs hp16 Z => ?_)
    have he16 := hp16
    have he16 : r16 = nI (unN B.2.1 k) := he16
    subst he16
    have Z : nW G A ([(x, .inr (0, [.ref b, va_rf sn, .ref hq, .ref sb]))]) ([]) rc s.heap _ _ := Z
    refine lv_goto (tgt := 24) hx hb dX0_unlike_19 (by decide) ?_
    exact ret (nI (unN B.2.1 k)) () dX0_unlike_24 (by unfold qUnlike; rw [if_pos c8, hck]) Z (Nat.le_of_ble_eq_true rfl) (Nat.le_of_ble_eq_true rfl)
set_option maxHeartbeats 4000000 in
set_option maxRecDepth 100000 in
theorem S_best (l : Launch) (G : nG) (rc : va_W) (x : Nat) (b : Nat) (sn : Option Nat) (hq : Nat) (sb : Nat) (B : nBe) (p1 : Int32) (p2 : Int32) (p3 : Int32) (hB : iBench G rc b B) (hok : beOk B) : nMi (S := Unit) l yX0_bestSeed cX0_bestSeed 9 (.int) 6 300 5300 137 G [.ref x, .int p1, .int p2, .int p3] ([(x, .inr (0, [.ref b, va_rf sn, .ref hq, .ref sb]))]) rc (fun (u : Unit) => [(x, .inr (0, [.ref b, va_rf sn, .ref hq, .ref sb]))]) (fun (r : Int32) (u : Unit) => r = (qBest B p1 p2 p3)) := by
  refine nMi.of (own := "ShareStreams") rfl (by decide +kernel) (Nat.le_of_ble_eq_true rfl) (fun _ _ _ => rfl) ?_
  intro p e s m args below meth c A Q ls hx hb hml hown hts hin hG Z hl ret
  have hl : lv_has ls 9 [(0, .ref x), (1, .int p1), (2, .int p2), (3, .int p3)] := hl
  have Z : nW G A ([(x, .inr (0, [.ref b, va_rf sn, .ref hq, .ref sb]))]) ([]) rc s.heap _ _ := Z
  obtain ⟨b_, hm1, hL⟩ := id hB
  have hL0 := hL
  obtain ⟨c_, ea_, cap_, f_, hm2, hm3, hel⟩ := hL0
  obtain ⟨hn, ⟨hlen1, hlen2⟩, ok⟩ := id hok
  refine lv_aload_n hx hb dX0_bestSeed_0 rfl (lv_at hl 0 rfl) ?_
  refine r_get (v := .ref b) hx hb hts in_X0 hown hG Z.w 0 rfl rfl 0 (by decide) q150 (fun _ h9 => h9) rfl dX0_bestSeed_1 ?_
  refine lv_iload_n hx hb dX0_bestSeed_4 rfl (lv_at hl 1 rfl) ?_
  refine ns_i (k := 3) (nr_V (As := [.int p1]) (rest := []) hx hb hml hown hts (B_isLine l G rc b B p1 (by first | assumption | omega | rfl) (by first | assumption | omega | rfl)) nPs.blind 1 q313 q314 q315 q45 q316 (by decide +kernel) ⟨⟨Nat.le_of_ble_eq_true rfl, Nat.le_of_ble_eq_true rfl⟩, Nat.le_of_ble_eq_true rfl, Nat.le_of_ble_eq_true rfl⟩ (r_recv hG (va_P.m1 Z.rc hm1 va_P.m0) 0 (C := "ShareStreams$Bench") rfl rfl rfl) (nPs_of hG Z Z.rc) rfl hl.1 rfl (Nat.le_of_ble_eq_true rfl) dX0_bestSeed_5) (fun r5 hp5 => ?_)
  have he5 := hp5
  have he5 : r5 = bI (isLn p1 B.1) := he5
  subst he5
  refine lv_if_eq (tgt := 22) hx hb dX0_bestSeed_8 (by decide) (fun c8 => ?_) (fun c8 => ?_)
  · skip
    have c8 := bI_f c8
    refine lv_ldc hx hb hown (hts _ q318) dX0_bestSeed_22 ?_
    exact ret (-100000001 : Int32) () dX0_bestSeed_24 (by unfold qBest; first | (rw [if_pos (by simp [c8, c19]), if_pos c31, hck, if_neg c58]; done) | (simp [c8, c19, c31]; done) | (simp [c8, c19]; done) | (simp [c8]; done)) Z (Nat.le_of_ble_eq_true rfl) (Nat.le_of_ble_eq_true rfl)
  · skip
    have c8 := bI_t c8
    refine lv_aload_n hx hb dX0_bestSeed_11 rfl (lv_at hl 0 rfl) ?_
    refine r_get (v := .ref b) hx hb hts in_X0 hown hG Z.w 0 rfl rfl 0 (by decide) q150 (fun _ h9 => h9) rfl dX0_bestSeed_12 ?_
    refine lv_iload_n hx hb dX0_bestSeed_15 rfl (lv_at hl 2 rfl) ?_
    refine ns_i (k := 3) (nr_V (As := [.int p2]) (rest := []) hx hb hml hown hts (B_isLine l G rc b B p2 (by first | assumption | omega | rfl) (by first | assumption | omega | rfl)) nPs.blind 1 q313 q314 q315 q45 q316 (by decide +kernel) ⟨⟨Nat.le_of_ble_eq_true rfl, Nat.le_of_ble_eq_true rfl⟩, Nat.le_of_ble_eq_true rfl, Nat.le_of_ble_eq_true rfl⟩ (r_recv hG (va_P.m1 Z.rc hm1 va_P.m0) 0 (C := "ShareStreams$Bench") rfl rfl rfl) (nPs_of hG Z Z.rc) rfl hl.1 rfl (Nat.le_of_ble_eq_true rfl) dX0_bestSeed_16) (fun r16 hp16 => ?_)
    have he16 := hp16
    have he16 : r16 = bI (isLn p2 B.1) := he16
    subst he16
    refine lv_if_ne (tgt := 25) hx hb dX0_bestSeed_19 (by decide) (fun c19 => ?_) (fun c19 => ?_)
    · skip
      have c19 := bI_t c19
      refine lv_iload_n hx hb dX0_bestSeed_25 rfl (lv_at hl 3 rfl) ?_
      refine lv_iconst (v := nI 0) hx hb dX0_bestSeed_26 rfl ?_
      refine lv_iconst (v := nI 1) hx hb dX0_bestSeed_27 rfl ?_
      refine ns_i (k := 3) (nr_S (As := [.int p3, .int (nI 0), .int (nI 1)]) (rest := []) hx hb hml hown hts (S_in l G p3 (nI 0) (nI 1)) nPs.blind 3 q167 q168 q44 q169 (by decide +kernel) ⟨⟨Nat.le_of_ble_eq_true rfl, Nat.le_of_ble_eq_true rfl⟩, Nat.le_of_ble_eq_true rfl, Nat.le_of_ble_eq_true rfl⟩ (nPs_of hG Z va_P.m0) rfl hl.1 rfl (Nat.le_of_ble_eq_true rfl) dX0_bestSeed_28) (fun r28 hp28 => ?_)
      have he28 := hp28
      have he28 : r28 = bI (inI p3 (nI 0) (nI 1)) := he28
      subst he28
      refine r_as (z := bI (rng p3 0 1)) (congrArg bI (inI_rng p3 (a := 0) (b := 1) (by decide) (by decide))) ?_
      refine lv_if_ne (tgt := 37) hx hb dX0_bestSeed_31 (by decide) (fun c31 => ?_) (fun c31 => ?_)
      · skip
        have c31 := bI_t c31
        obtain ⟨k, hk, ek⟩ := isLn_t c8 (by omega)
        subst ek
        have hck : (nI k).toNatClampNeg = k := nI_clamp (by omega)
        obtain ⟨w, hw, ew⟩ := isLn_t c19 (by omega)
        subst ew
        have hcw : (nI w).toNatClampNeg = w := nI_clamp (by omega)
        obtain ⟨w3, hw31, hw32, ew3⟩ := rng_t c31 (by decide)
        subst ew3
        have hcw3 : (nI w3).toNatClampNeg = w3 := nI_clamp (by omega)
        have hokk := ok k hk
        obtain ⟨⟨hk0, hk6⟩, ls0, ls1, ls2, ls3, ls6, ln3, ln2⟩ := id hokk
        obtain ⟨hm3a, hm3b, hm3c⟩ := hm3.resolve_left (by omega)
        obtain ⟨y_, hy_, hln⟩ := hel k hk
        obtain ⟨a_, L_, fl_, hm4, hm5, hL_, hrow⟩ := id hln
        refine lv_aload_n hx hb dX0_bestSeed_37 rfl (lv_at hl 0 rfl) ?_
        refine r_get (v := .ref b) hx hb hts in_X0 hown hG Z.w 0 rfl rfl 0 (by decide) q150 (fun _ h9 => h9) rfl dX0_bestSeed_38 ?_
        refine r_getN (v := .ref b_) hx hb hts in_X1 hown hG (va_P.m1 Z.rc hm1 va_P.m0) 0 rfl rfl 0 (by decide) q108 (fun _ h9 => h9) rfl dX0_bestSeed_41 ?_
        refine lv_iload_n hx hb dX0_bestSeed_44 rfl (lv_at hl 1 rfl) ?_
        refine ns_q (k := 5) (nr_F (C := "java/util/ArrayList") (ci := 3) (As := [.int (nI k)]) (rest := []) hx hb hml hown hts hG (J2_g l G b_ c_ ea_ B.1 cap_ f_ k hk hm3b (by omega)) nPs.blind 1 q336 q211 q213 q48 q215 (by decide +kernel) (by decide +kernel) ⟨⟨Nat.le_of_ble_eq_true rfl, Nat.le_of_ble_eq_true rfl⟩, Nat.le_of_ble_eq_true rfl, Nat.le_of_ble_eq_true rfl⟩ rfl rfl (r_recv hG (va_P.m1 Z.rc hm2 va_P.m0) 0 (C := "java/util/ArrayList") rfl rfl rfl) (nPs_of hG Z (va_P.m1 Z.rc hm2 (va_P.m1 Z.rc hm3a va_P.m0))) rfl hl.1 rfl (Nat.le_of_ble_eq_true rfl) dX0_bestSeed_45) (fun r45 hp45 => ?_)
        have he45 := hp45
        have he45 : r45 = f_ k := he45
        subst he45
        rw [hy_]
        refine r_cast (C := "ShareStreams$Plain") hx hb hts hown q337 q342 hG (r_recv hG (va_P.m1 Z.rc hm4 va_P.m0) 0 (C := "ShareStreams$Plain") rfl rfl rfl) dX0_bestSeed_50 ?_
        refine ns_i (k := 5) (nr_F (C := "ShareStreams$Plain") (ci := 4) (As := []) (rest := []) hx hb hml hown hts hG (L_kind l G rc y_ (B.2.1 k) (by first | assumption | omega | rfl)) nPs.blind 0 q339 q343 q345 q55 q347 (by decide +kernel) (by decide +kernel) ⟨⟨Nat.le_of_ble_eq_true rfl, Nat.le_of_ble_eq_true rfl⟩, Nat.le_of_ble_eq_true rfl, Nat.le_of_ble_eq_true rfl⟩ rfl rfl (r_recv hG (va_P.m1 Z.rc hm4 va_P.m0) 0 (C := "ShareStreams$Plain") rfl rfl rfl) (nPs_of hG Z Z.rc) rfl hl.1 rfl (Nat.le_of_ble_eq_true rfl) dX0_bestSeed_53) (fun r53 hp53 => ?_)
        have he53 := hp53
        have he53 : r53 = (B.2.1 k) 0 := he53
        subst he53
        refine r_as (z := nI (kd B.2.1 k)) hk0 ?_
        refine lv_if_eq (tgt := 64) hx hb dX0_bestSeed_58 (by decide) (fun c58 => ?_) (fun c58 => ?_)
        · skip
          have c58 := n_eq_t (a := kd B.2.1 k) (b := 0) c58 (by omega) (by decide)
          refine r_new (ci := 6) (fs := [.null, .null, .null, .int (nI 0)]) hx hb hts in_X6 tyX6 tyX6_ok hown q885 q729 q64 hG Z rfl (fun j hj => by rcases (show j = 0 ∨ j = 1 ∨ j = 2 ∨ j = 3 by omega) with rfl | rfl | rfl | rfl <;> rfl) (Nat.le_of_ble_eq_true rfl) (Nat.le_of_ble_eq_true rfl) dX0_bestSeed_64 (fun r H Z => ?_)
          have Z : nW G A ([(x, .inr (0, [.ref b, va_rf sn, .ref hq, .ref sb])), (r, .inr (6, [.null, .null, .null, .int (nI 0)]))]) ([]) rc s.heap _ _ := Z
          refine lv_dup hx hb dX0_bestSeed_67 rfl ?_
          refine lv_aload_n hx hb dX0_bestSeed_68 rfl (lv_at hl 0 rfl) ?_
          refine r_get (v := .ref b) hx hb hts in_X0 hown hG Z.w 0 rfl rfl 0 (by decide) q150 (fun _ h9 => h9) rfl dX0_bestSeed_69 ?_
          refine nc_v (k := 3) (wcc := [(r, .inr (6, [.null, .null, .null, .int (nI 0)]))]) (wr := [(x, .inr (0, [.ref b, va_rf sn, .ref hq, .ref sb]))]) (nr_I (As := [.ref b]) (rest := [.ref r]) hx hb hml hown hts ((R_init l G rc b_ B.1 B.2.1 r b B.2.2 (by first | assumption | omega | rfl) (by first | assumption | omega | rfl) (by omega) (by first | assumption | omega | rfl)) _) nP.blind 1 q886 q731 q64 q732 rfl (by decide +kernel) ⟨⟨Nat.le_of_ble_eq_true rfl, Nat.le_of_ble_eq_true rfl⟩, Nat.le_of_ble_eq_true rfl, Nat.le_of_ble_eq_true rfl⟩ (nP_of hG Z [1] rfl (by decide) Z.rc (Z.apR [1] rfl)) rfl hl.1 rfl (Nat.le_of_ble_eq_true rfl) dX0_bestSeed_72) Z [1] [0] rfl rfl (by decide) (by decide) (fun u H locs hp72 Z => ?_)
          obtain ⟨rg, lt, rf_72, lf_72⟩ := u
          have hp72 : rgI B.2.1 B.1 rf_72 0 := hp72
          have Z : nW G A ([(x, .inr (0, [.ref b, va_rf sn, .ref hq, .ref sb])), (r, .inr (6, [.ref b_, .ref rg, .ref lt, .int (nI 0)])), (rg, .inl (G.1.1 100, 16, .inl rf_72)), (lt, .inl (G.1.1 101, 1024, .inl lf_72))]) ([]) rc s.heap _ _ := Z
          refine lv_astore (lv' := [(4, .ref r), (0, .ref x), (1, .int (nI k)), (2, .int (nI w)), (3, .int (nI w3))]) hx hb dX0_bestSeed_75 hl (by decide) rfl (fun ls hl => ?_)
          refine lv_iconst (v := nI 1) hx hb dX0_bestSeed_77 rfl ?_
          refine lv_istore (lv' := [(5, .int (nI 1)), (4, .ref r), (0, .ref x), (1, .int (nI k)), (2, .int (nI w)), (3, .int (nI w3))]) hx hb dX0_bestSeed_78 hl (by decide) rfl (fun ls hl => ?_)
          refine lv_aload_n hx hb dX0_bestSeed_80 rfl (lv_at hl 2 rfl) ?_
          refine r_get (v := .ref b) hx hb hts in_X0 hown hG Z.w 0 rfl rfl 0 (by decide) q150 (fun _ h9 => h9) rfl dX0_bestSeed_81 ?_
          refine lv_aload hx hb dX0_bestSeed_84 (lv_at hl 1 rfl) ?_
          refine lv_iload_n hx hb dX0_bestSeed_86 rfl (lv_at hl 3 rfl) ?_
          refine lv_iconst (v := nI 1) hx hb dX0_bestSeed_87 rfl ?_
          refine lv_iload_n hx hb dX0_bestSeed_88 rfl (lv_at hl 4 rfl) ?_
          refine nc_i (k := 3) (wcc := [(r, .inr (6, [.ref b_, .ref rg, .ref lt, .int (nI 0)])), (rg, .inl (G.1.1 100, 16, .inl rf_72)), (lt, .inl (G.1.1 101, 1024, .inl lf_72))]) (wr := [(x, .inr (0, [.ref b, va_rf sn, .ref hq, .ref sb]))]) (nr_V (As := [.ref r, .int (nI k), .int (nI 1), .int (nI w)]) (rest := []) hx hb hml hown hts ((B_errorWith l G rc b B r b_ rg lt rf_72 lf_72 0 k 1 w hm1 hL (by first | assumption | omega | rfl) hk c58 (by omega) (by omega) hw) _) nP.blind 4 q887 q888 q889 q45 q890 (by decide +kernel) ⟨⟨Nat.le_of_ble_eq_true rfl, Nat.le_of_ble_eq_true rfl⟩, Nat.le_of_ble_eq_true rfl, Nat.le_of_ble_eq_true rfl⟩ (r_recv hG (va_P.m1 Z.rc hm1 va_P.m0) 0 (C := "ShareStreams$Bench") rfl rfl rfl) (nP_of hG Z [1, 2, 3] rfl (by decide) Z.rc (Z.apR [1, 2, 3] rfl)) rfl hl.1 rfl (Nat.le_of_ble_eq_true rfl) dX0_bestSeed_89) Z [1, 2, 3] [0] rfl rfl (by decide) (by decide) (fun r89 u H locs hp89 Z => ?_)
          obtain ⟨rf1_89, lf1_89⟩ := u
          have he89 := hp89
          have he89 : r89 = nI (bsE B k w 1) := he89
          subst he89
          have Z : nW G A ([(x, .inr (0, [.ref b, va_rf sn, .ref hq, .ref sb])), (r, .inr (6, [.ref b_, .ref rg, .ref lt, .int (nI B.2.2)])), (rg, .inl (G.1.1 100, 16, .inl rf1_89)), (lt, .inl (G.1.1 101, 1024, .inl lf1_89))]) ([]) rc s.heap _ _ := Z
          refine lv_istore (lv' := [(6, .int (nI (bsE B k w 1))), (5, .int (nI 1)), (4, .ref r), (0, .ref x), (1, .int (nI k)), (2, .int (nI w)), (3, .int (nI w3))]) hx hb dX0_bestSeed_92 hl (by decide) rfl (fun ls hl => ?_)
          refine lv_iconst (v := nI 2) hx hb dX0_bestSeed_94 rfl ?_
          refine lv_istore (lv' := [(7, .int (nI 2)), (6, .int (nI (bsE B k w 1))), (5, .int (nI 1)), (4, .ref r), (0, .ref x), (1, .int (nI k)), (2, .int (nI w)), (3, .int (nI w3))]) hx hb dX0_bestSeed_95 hl (by decide) rfl (fun ls hl => ?_)
          have L97 : ∀ (k_ : Nat) (s_ : Nat) (rf : Nat → Int32) (lf : Nat → Int32) (T : Nat) (e5 : Nat) (e6 : Nat) (g1 : s_ ≤ 254) (g5 : e5 = (bsF (bsE B k w) s_).1) (g6 : e6 = (bsF (bsE B k w) s_).2) (hk_ : 254 - s_ < k_) (H : Heap) (locs : List Loc), nW G A ([(x, .inr (0, [.ref b, va_rf sn, .ref hq, .ref sb])), (r, .inr (6, [.ref b_, .ref rg, .ref lt, .int (nI T)])), (rg, .inl (G.1.1 100, 16, .inl rf)), (lt, .inl (G.1.1 101, 1024, .inl lf))]) ([]) rc s.heap H locs → ∀ (ls : Array Slot), lv_has ls 9 [(7, .int (nI (s_ + 2))), (5, .int (nI e5)), (6, .int (nI e6)), (4, .ref r), (0, .ref x), (1, .int (nI k)), (2, .int (nI w)), (3, .int (nI w3))] → W p l e (nRm 6 300 5300 137) s m args below meth c H locs (5 + s_) (1100 + 16 * s_) Q (F0 m 97 ls []) := by
            intro k_
            induction k_ with
            | zero => intro s_ rf lf T e5 e6 g1 g5 g6 hk_; exact absurd hk_ (Nat.not_lt_zero _)
            | succ k_ ih_L97 =>
              intro s_ rf lf T e5 e6 g1 g5 g6 hk_ H locs Z ls hl
              refine lv_iload hx hb dX0_bestSeed_97 (lv_at hl 0 rfl) ?_
              refine lv_sipush (v := nI 255) hx hb dX0_bestSeed_99 rfl ?_
              refine lv_icmp_gt (tgt := 144) hx hb dX0_bestSeed_102 (by decide) (fun c102 => ?_) (fun c102 => ?_)
              · skip
                have c102 := n_lt_t (a := 255) (b := s_ + 2) c102 (by decide) (by omega)
                refine lv_iload_n hx hb dX0_bestSeed_144 rfl (lv_at hl 7 rfl) ?_
                refine lv_if_ne (tgt := 153) hx hb dX0_bestSeed_145 (by decide) (fun c145 => ?_) (fun c145 => ?_)
                · skip
                  have c145 := n_eq_f (a := w3) (b := 0) c145
                  refine lv_iload hx hb dX0_bestSeed_153 (lv_at hl 2 rfl) ?_
                  exact ret (nI e6) () dX0_bestSeed_155 (by unfold qBest; rw [if_pos (by simp [c8, c19]), if_pos c31, hck, hcw, if_pos c58]; have e9 : s_ = 254 := (by omega); subst e9; rw [g6, hcw3]; first | (rw [if_pos c145]; done) | (rw [if_neg c145]; done)) (Z.perm ([(x, .inr (0, [.ref b, va_rf sn, .ref hq, .ref sb]))]) [0] (by decide) rfl) (by omega) (by omega)
                · skip
                  have c145 := n_eq_t (a := w3) (b := 0) c145 (by omega) (by decide)
                  refine lv_iload hx hb dX0_bestSeed_148 (lv_at hl 1 rfl) ?_
                  refine lv_goto (tgt := 155) hx hb dX0_bestSeed_150 (by decide) ?_
                  exact ret (nI e5) () dX0_bestSeed_155 (by unfold qBest; rw [if_pos (by simp [c8, c19]), if_pos c31, hck, hcw, if_pos c58]; have e9 : s_ = 254 := (by omega); subst e9; rw [g5, hcw3]; first | (rw [if_pos c145]; done) | (rw [if_neg c145]; done)) (Z.perm ([(x, .inr (0, [.ref b, va_rf sn, .ref hq, .ref sb]))]) [0] (by decide) rfl) (by omega) (by omega)
              · skip
                have c102 := n_lt_f (a := 255) (b := s_ + 2) c102 (by decide) (by omega)
                refine lv_aload_n hx hb dX0_bestSeed_105 rfl (lv_at hl 4 rfl) ?_
                refine r_get (v := .ref b) hx hb hts in_X0 hown hG Z.w 0 rfl rfl 0 (by decide) q150 (fun _ h9 => h9) rfl dX0_bestSeed_106 ?_
                refine lv_aload hx hb dX0_bestSeed_109 (lv_at hl 3 rfl) ?_
                refine lv_iload_n hx hb dX0_bestSeed_111 rfl (lv_at hl 5 rfl) ?_
                refine lv_iload hx hb dX0_bestSeed_112 (lv_at hl 0 rfl) ?_
                refine lv_iload_n hx hb dX0_bestSeed_114 rfl (lv_at hl 6 rfl) ?_
                refine nc_i (k := 3) (wcc := [(r, .inr (6, [.ref b_, .ref rg, .ref lt, .int (nI T)])), (rg, .inl (G.1.1 100, 16, .inl rf)), (lt, .inl (G.1.1 101, 1024, .inl lf))]) (wr := [(x, .inr (0, [.ref b, va_rf sn, .ref hq, .ref sb]))]) (nr_V (As := [.ref r, .int (nI k), .int (nI (s_ + 2)), .int (nI w)]) (rest := []) hx hb hml hown hts ((B_errorWith l G rc b B r b_ rg lt rf lf T k (s_ + 2) w hm1 hL (by first | assumption | omega | rfl) hk c58 (by omega) (by omega) hw) _) nP.blind 4 q887 q888 q889 q45 q890 (by decide +kernel) ⟨⟨Nat.le_of_ble_eq_true rfl, Nat.le_of_ble_eq_true rfl⟩, (by show _ ≤ 300; omega), (by show _ ≤ 5300; omega)⟩ (r_recv hG (va_P.m1 Z.rc hm1 va_P.m0) 0 (C := "ShareStreams$Bench") rfl rfl rfl) (nP_of hG Z [1, 2, 3] rfl (by decide) Z.rc (Z.apR [1, 2, 3] rfl)) rfl hl.1 rfl (Nat.le_of_ble_eq_true rfl) dX0_bestSeed_115) Z [1, 2, 3] [0] rfl rfl (by decide) (by decide) (fun r115 u H locs hp115 Z => ?_)
                obtain ⟨rf1_115, lf1_115⟩ := u
                have he115 := hp115
                have he115 : r115 = nI (bsE B k w (s_ + 2)) := he115
                subst he115
                have Z : nW G A ([(x, .inr (0, [.ref b, va_rf sn, .ref hq, .ref sb])), (r, .inr (6, [.ref b_, .ref rg, .ref lt, .int (nI B.2.2)])), (rg, .inl (G.1.1 100, 16, .inl rf1_115)), (lt, .inl (G.1.1 101, 1024, .inl lf1_115))]) ([]) rc s.heap _ _ := Z
                refine lv_istore (lv' := [(8, .int (nI (bsE B k w (s_ + 2)))), (7, .int (nI (s_ + 2))), (5, .int (nI e5)), (6, .int (nI e6)), (4, .ref r), (0, .ref x), (1, .int (nI k)), (2, .int (nI w)), (3, .int (nI w3))]) hx hb dX0_bestSeed_118 hl (by decide) rfl (fun ls hl => ?_)
                have hee := err_le (seed_ok ok c58 (show 1 ≤ s_ + 2 by omega) (by omega) (by omega)) hw hlen1
                have hee : bsE B k w (s_ + 2) < 2 ^ 31 := by unfold bsE; omega
                have he6 : e6 < 2 ^ 31 := by rw [g6, bsF_val]; have hbl := bsF_le (bsE B k w) s_; have hbb : bsE B k w (bsF (bsE B k w) s_).1 ≤ 65536 := err_le (seed_ok ok c58 hbl.1 (by omega) (by omega)) hw hlen1; omega
                refine lv_iload hx hb dX0_bestSeed_120 (lv_at hl 0 rfl) ?_
                refine lv_iload hx hb dX0_bestSeed_122 (lv_at hl 3 rfl) ?_
                refine lv_icmp_lt (tgt := 130) hx hb dX0_bestSeed_124 (by decide) (fun c124 => ?_) (fun c124 => ?_)
                · skip
                  have c124 := n_lt_t (a := bsE B k w (s_ + 2)) (b := e6) c124 (by omega) (by omega)
                  refine lv_iload hx hb dX0_bestSeed_130 (lv_at hl 1 rfl) ?_
                  refine lv_istore (lv' := [(5, .int (nI (s_ + 2))), (8, .int (nI (bsE B k w (s_ + 2)))), (7, .int (nI (s_ + 2))), (6, .int (nI e6)), (4, .ref r), (0, .ref x), (1, .int (nI k)), (2, .int (nI w)), (3, .int (nI w3))]) hx hb dX0_bestSeed_132 hl (by decide) rfl (fun ls hl => ?_)
                  refine lv_iload hx hb dX0_bestSeed_134 (lv_at hl 1 rfl) ?_
                  refine lv_istore (lv' := [(6, .int (nI (bsE B k w (s_ + 2)))), (5, .int (nI (s_ + 2))), (8, .int (nI (bsE B k w (s_ + 2)))), (7, .int (nI (s_ + 2))), (4, .ref r), (0, .ref x), (1, .int (nI k)), (2, .int (nI w)), (3, .int (nI w3))]) hx hb dX0_bestSeed_136 hl (by decide) rfl (fun ls hl => ?_)
                  refine lv_iinc (v := nI (s_ + 2 + 1)) (lv' := [(7, .int (nI (s_ + 2 + 1))), (6, .int (nI (bsE B k w (s_ + 2)))), (5, .int (nI (s_ + 2))), (8, .int (nI (bsE B k w (s_ + 2)))), (4, .ref r), (0, .ref x), (1, .int (nI k)), (2, .int (nI w)), (3, .int (nI w3))]) hx hb dX0_bestSeed_138 hl (k := 3) rfl (nI_add _ _) (by decide) rfl (fun ls hl => ?_)
                  refine lv_goto (tgt := 97) hx hb dX0_bestSeed_141 (by decide) ?_
                  refine W.widen (k := 5 + (s_ + 1)) (n := 1100 + 16 * (s_ + 1)) (by omega) (by omega) ?_
                  exact ih_L97 (s_ + 1) rf1_115 lf1_115 B.2.2 (s_ + 2) (bsE B k w (s_ + 2)) (by first | assumption | omega) (by rw [bsF]; first | (rw [if_pos (by rw [← g6]; exact c124)]; done) | (rw [if_neg (by rw [← g6]; omega)]; exact g5)) (by rw [bsF]; first | (rw [if_pos (by rw [← g6]; exact c124)]; done) | (rw [if_neg (by rw [← g6]; omega)]; exact g6)) (by omega) _ _ Z _ (lv_sub hl [0, 2, 1, 4, 5, 6, 7, 8] rfl)
                · skip
                  have c124 := n_lt_f (a := bsE B k w (s_ + 2)) (b := e6) c124 (by omega) (by omega)
                  refine lv_goto (tgt := 138) hx hb dX0_bestSeed_127 (by decide) ?_
                  refine lv_iinc (v := nI (s_ + 2 + 1)) (lv' := [(7, .int (nI (s_ + 2 + 1))), (8, .int (nI (bsE B k w (s_ + 2)))), (5, .int (nI e5)), (6, .int (nI e6)), (4, .ref r), (0, .ref x), (1, .int (nI k)), (2, .int (nI w)), (3, .int (nI w3))]) hx hb dX0_bestSeed_138 hl (k := 1) rfl (nI_add _ _) (by decide) rfl (fun ls hl => ?_)
                  refine lv_goto (tgt := 97) hx hb dX0_bestSeed_141 (by decide) ?_
                  refine W.widen (k := 5 + (s_ + 1)) (n := 1100 + 16 * (s_ + 1)) (by omega) (by omega) ?_
                  exact ih_L97 (s_ + 1) rf1_115 lf1_115 B.2.2 e5 e6 (by first | assumption | omega) (by rw [bsF]; first | (rw [if_pos (by rw [← g6]; exact c124)]; done) | (rw [if_neg (by rw [← g6]; omega)]; exact g5)) (by rw [bsF]; first | (rw [if_pos (by rw [← g6]; exact c124)]; done) | (rw [if_neg (by rw [← g6]; omega)]; exact g6)) (by omega) _ _ Z _ (lv_sub hl [0, 2, 3, 4, 5, 6, 7, 8] rfl)
          refine W.widen (k := 5 + 0) (n := 1100 + 16 * 0) (by omega) (by omega) ?_
          exact L97 _ 0 rf1_89 lf1_89 B.2.2 1 (bsE B k w 1) (by first | assumption | omega) rfl rfl (Nat.lt_succ_self _) _ _ Z _ (lv_sub hl [0, 2, 1, 3, 4, 5, 6, 7] rfl)
        · skip
          have c58 := n_eq_f (a := kd B.2.1 k) (b := 0) c58
          refine lv_ldc hx hb hown (hts _ q348) dX0_bestSeed_61 ?_
          exact ret (-100000004 : Int32) () dX0_bestSeed_63 (by unfold qBest; first | (rw [if_pos (by simp [c8, c19]), if_pos c31, hck, if_neg c58]; done) | (simp [c8, c19, c31]; done) | (simp [c8, c19]; done) | (simp [c8]; done)) Z (Nat.le_of_ble_eq_true rfl) (Nat.le_of_ble_eq_true rfl)
      · skip
        have c31 := bI_f c31
        refine lv_ldc hx hb hown (hts _ q308) dX0_bestSeed_34 ?_
        exact ret (-100000002 : Int32) () dX0_bestSeed_36 (by unfold qBest; first | (rw [if_pos (by simp [c8, c19]), if_pos c31, hck, if_neg c58]; done) | (simp [c8, c19, c31]; done) | (simp [c8, c19]; done) | (simp [c8]; done)) Z (Nat.le_of_ble_eq_true rfl) (Nat.le_of_ble_eq_true rfl)
    · skip
      have c19 := bI_f c19
      refine lv_ldc hx hb hown (hts _ q318) dX0_bestSeed_22 ?_
      exact ret (-100000001 : Int32) () dX0_bestSeed_24 (by unfold qBest; first | (rw [if_pos (by simp [c8, c19]), if_pos c31, hck, if_neg c58]; done) | (simp [c8, c19, c31]; done) | (simp [c8, c19]; done) | (simp [c8]; done)) Z (Nat.le_of_ble_eq_true rfl) (Nat.le_of_ble_eq_true rfl)
