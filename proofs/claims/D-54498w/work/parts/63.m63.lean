theorem sw10 (x : Int32) : (x.toInt < 0 ∨ 9 < x.toInt) ∨ x = nI 0 ∨ x = nI 1 ∨ x = nI 2 ∨ x = nI 3 ∨ x = nI 4 ∨ x = nI 5 ∨ x = nI 6 ∨ x = nI 7 ∨ x = nI 8 ∨ x = nI 9 := by
  rcases sw_n x 9 (by decide) with h | ⟨w, hw, e⟩
  · exact Or.inl (by omega)
  · rcases (by omega : w = 0 ∨ w = 1 ∨ w = 2 ∨ w = 3 ∨ w = 4 ∨ w = 5 ∨ w = 6 ∨ w = 7 ∨ w = 8 ∨ w = 9) with z | z | z | z | z | z | z | z | z | z <;> subst z <;> simp [e]
theorem qLine_at {B : nBe} {k w : Nat} (h : isLn (nI k) B.1 = true) (hk : k < 2 ^ 31) (hw : w ≤ 9) : qLine B (nI k) (nI w) = qLineAt B k w := by
  unfold qLine
  rw [if_pos h, if_pos (rng_nI (Nat.zero_le _) hw (by decide)), nI_clamp hk, nI_clamp (by omega)]
set_option maxHeartbeats 4000000 in
set_option maxRecDepth 100000 in
theorem S_line (l : Launch) (G : nG) (rc : va_W) (x : Nat) (b : Nat) (sn : Option Nat) (hq : Nat) (sb : Nat) (B : nBe) (p1 : Int32) (p2 : Int32) (hB : iBench G rc b B) (hok : beOk B) : nMi (S := Unit) l yX0_line cX0_line 4 (.int) 8 10 1200 179 G [.ref x, .int p1, .int p2] ([(x, .inr (0, [.ref b, va_rf sn, .ref hq, .ref sb]))]) rc (fun (u : Unit) => [(x, .inr (0, [.ref b, va_rf sn, .ref hq, .ref sb]))]) (fun (r : Int32) (u : Unit) => r = (qLine B p1 p2)) := by
  refine nMi.of (own := "ShareStreams") rfl (by decide +kernel) (Nat.le_of_ble_eq_true rfl) (fun _ _ _ => rfl) ?_
  intro p e s m args below meth c A Q ls hx hb hml hown hts hin hG Z hl ret
  have hl : lv_has ls 4 [(0, .ref x), (1, .int p1), (2, .int p2)] := hl
  have Z : nW G A ([(x, .inr (0, [.ref b, va_rf sn, .ref hq, .ref sb]))]) ([]) rc s.heap _ _ := Z
  obtain ⟨b_, hm1, hL⟩ := id hB
  have hL0 := hL
  obtain ⟨c_, ea_, cap_, f_, hm2, hm3, hel⟩ := hL0
  obtain ⟨hn, ⟨hlen1, hlen2⟩, ok⟩ := id hok
  refine lv_aload_n hx hb dX0_line_0 rfl (lv_at hl 0 rfl) ?_
  refine r_get (v := .ref b) hx hb hts in_X0 hown hG Z.w 0 rfl rfl 0 (by decide) q150 (fun _ h9 => h9) rfl dX0_line_1 ?_
  refine lv_iload_n hx hb dX0_line_4 rfl (lv_at hl 1 rfl) ?_
  refine ns_i (k := 3) (nr_V (As := [.int p1]) (rest := []) hx hb hml hown hts (B_isLine l G rc b B p1 (by first | assumption | omega | rfl) (by first | assumption | omega | rfl)) nPs.blind 1 q313 q314 q315 q45 q316 (by decide +kernel) ⟨⟨Nat.le_of_ble_eq_true rfl, Nat.le_of_ble_eq_true rfl⟩, Nat.le_of_ble_eq_true rfl, Nat.le_of_ble_eq_true rfl⟩ (r_recv hG (va_P.m1 Z.rc hm1 va_P.m0) 0 (C := "ShareStreams$Bench") rfl rfl rfl) (nPs_of hG Z Z.rc) rfl hl.1 rfl (Nat.le_of_ble_eq_true rfl) dX0_line_5) (fun r5 hp5 => ?_)
  have he5 := hp5
  have he5 : r5 = bI (isLn p1 B.1) := he5
  subst he5
  refine lv_if_ne (tgt := 14) hx hb dX0_line_8 (by decide) (fun c8 => ?_) (fun c8 => ?_)
  · skip
    have c8 := bI_t c8
    obtain ⟨k, hk, ek⟩ := isLn_t c8 (by omega)
    subst ek
    have hck : (nI k).toNatClampNeg = k := nI_clamp (by omega)
    have hokk := ok k hk
    obtain ⟨⟨hk0, hk6⟩, ls0, ls1, ls2, ls3, ls6, ln3, ln2⟩ := id hokk
    obtain ⟨hm3a, hm3b, hm3c⟩ := hm3.resolve_left (by omega)
    obtain ⟨y_, hy_, hln⟩ := hel k hk
    obtain ⟨a_, L_, fl_, hm4, hm5, hL_, hrow⟩ := id hln
    refine lv_aload_n hx hb dX0_line_14 rfl (lv_at hl 0 rfl) ?_
    refine r_get (v := .ref b) hx hb hts in_X0 hown hG Z.w 0 rfl rfl 0 (by decide) q150 (fun _ h9 => h9) rfl dX0_line_15 ?_
    refine r_getN (v := .ref b_) hx hb hts in_X1 hown hG (va_P.m1 Z.rc hm1 va_P.m0) 0 rfl rfl 0 (by decide) q108 (fun _ h9 => h9) rfl dX0_line_18 ?_
    refine lv_iload_n hx hb dX0_line_21 rfl (lv_at hl 1 rfl) ?_
    refine ns_q (k := 5) (nr_F (C := "java/util/ArrayList") (ci := 3) (As := [.int (nI k)]) (rest := []) hx hb hml hown hts hG (J2_g l G b_ c_ ea_ B.1 cap_ f_ k hk hm3b (by omega)) nPs.blind 1 q336 q211 q213 q48 q215 (by decide +kernel) (by decide +kernel) ⟨⟨Nat.le_of_ble_eq_true rfl, Nat.le_of_ble_eq_true rfl⟩, Nat.le_of_ble_eq_true rfl, Nat.le_of_ble_eq_true rfl⟩ rfl rfl (r_recv hG (va_P.m1 Z.rc hm2 va_P.m0) 0 (C := "java/util/ArrayList") rfl rfl rfl) (nPs_of hG Z (va_P.m1 Z.rc hm2 (va_P.m1 Z.rc hm3a va_P.m0))) rfl hl.1 rfl (Nat.le_of_ble_eq_true rfl) dX0_line_22) (fun r22 hp22 => ?_)
    have he22 := hp22
    have he22 : r22 = f_ k := he22
    subst he22
    rw [hy_]
    refine r_cast (C := "ShareStreams$Plain") hx hb hts hown q337 q342 hG (r_recv hG (va_P.m1 Z.rc hm4 va_P.m0) 0 (C := "ShareStreams$Plain") rfl rfl rfl) dX0_line_27 ?_
    refine lv_astore_n (lv' := [(3, .ref y_), (0, .ref x), (1, .int (nI k)), (2, .int p2)]) hx hb dX0_line_30 rfl hl (by decide) rfl (fun ls hl => ?_)
    refine lv_iload_n hx hb dX0_line_31 rfl (lv_at hl 3 rfl) ?_
    rcases sw10 p2 with z | z | z | z | z | z | z | z | z | z | z
    · skip
      have es : qLine B (nI k) p2 = cBAD := by simp [qLine, c8, rng_f z]
      refine lv_tableOut (tgt := 202) hx hb dX0_line_32 z (by decide) ?_
      refine lv_ldc hx hb hown (hts _ q308) dX0_line_202 ?_
      exact ret (-100000002 : Int32) () dX0_line_204 (by first | (rw [es]; done) | (rw [es]; rfl) | (rw [es]; simp [qLineAt]; done) | (simp [qLine, c8]; done)) Z (Nat.le_of_ble_eq_true rfl) (Nat.le_of_ble_eq_true rfl)
    · skip
      subst z
      have es : qLine B (nI k) (nI 0) = qLineAt B k 0 := qLine_at c8 (by omega) (by decide)
      refine r_as (z := nI 0) rfl ?_
      refine lv_tableIn (off := 56) (tgt := 88) hx hb dX0_line_32 (by decide +kernel) (by decide +kernel) (by decide +kernel) (by decide) ?_
      refine lv_aload_n hx hb dX0_line_88 rfl (lv_at hl 0 rfl) ?_
      refine ns_i (k := 5) (nr_F (C := "ShareStreams$Plain") (ci := 4) (As := []) (rest := []) hx hb hml hown hts hG (L_kind l G rc y_ (B.2.1 k) (by first | assumption | omega | rfl)) nPs.blind 0 q339 q343 q345 q55 q347 (by decide +kernel) (by decide +kernel) ⟨⟨Nat.le_of_ble_eq_true rfl, Nat.le_of_ble_eq_true rfl⟩, Nat.le_of_ble_eq_true rfl, Nat.le_of_ble_eq_true rfl⟩ rfl rfl (r_recv hG (va_P.m1 Z.rc hm4 va_P.m0) 0 (C := "ShareStreams$Plain") rfl rfl rfl) (nPs_of hG Z Z.rc) rfl hl.1 rfl (Nat.le_of_ble_eq_true rfl) dX0_line_89) (fun r89 hp89 => ?_)
      have he89 := hp89
      have he89 : r89 = (B.2.1 k) 0 := he89
      subst he89
      refine lv_goto (tgt := 204) hx hb dX0_line_94 (by decide) ?_
      exact ret ((B.2.1 k) 0) () dX0_line_204 (by first | (rw [es]; done) | (rw [es]; rfl) | (rw [es]; simp [qLineAt]; done) | (simp [qLine, c8]; done)) Z (Nat.le_of_ble_eq_true rfl) (Nat.le_of_ble_eq_true rfl)
    · skip
      subst z
      have es : qLine B (nI k) (nI 1) = qLineAt B k 1 := qLine_at c8 (by omega) (by decide)
      refine r_as (z := nI 1) rfl ?_
      refine lv_tableIn (off := 65) (tgt := 97) hx hb dX0_line_32 (by decide +kernel) (by decide +kernel) (by decide +kernel) (by decide) ?_
      refine lv_aload_n hx hb dX0_line_97 rfl (lv_at hl 0 rfl) ?_
      refine lv_iload_n hx hb dX0_line_98 rfl (lv_at hl 3 rfl) ?_
      refine lv_iconst (v := nI 1) hx hb dX0_line_99 rfl ?_
      refine lv_isub hx hb dX0_line_100 ?_
      refine r_as (z := nI (1 - 1)) (pk_sub (by omega)) ?_
      refine ns_i (k := 5) (nr_F (C := "ShareStreams$Plain") (ci := 4) (As := [.int (nI (1 - 1))]) (rest := []) hx hb hml hown hts hG (L_num l G rc y_ (B.2.1 k) (1 - 1) (by first | assumption | omega | rfl) (by first | assumption | omega | rfl)) nPs.blind 1 q350 q353 q355 q55 q357 (by decide +kernel) (by decide +kernel) ⟨⟨Nat.le_of_ble_eq_true rfl, Nat.le_of_ble_eq_true rfl⟩, Nat.le_of_ble_eq_true rfl, Nat.le_of_ble_eq_true rfl⟩ rfl rfl (r_recv hG (va_P.m1 Z.rc hm4 va_P.m0) 0 (C := "ShareStreams$Plain") rfl rfl rfl) (nPs_of hG Z Z.rc) rfl hl.1 rfl (Nat.le_of_ble_eq_true rfl) dX0_line_101) (fun r101 hp101 => ?_)
      have he101 := hp101
      have he101 : r101 = (B.2.1 k) ((1 - 1) + 1) := he101
      subst he101
      refine lv_goto (tgt := 204) hx hb dX0_line_106 (by decide) ?_
      exact ret ((B.2.1 k) ((1 - 1) + 1)) () dX0_line_204 (by first | (rw [es]; done) | (rw [es]; rfl) | (rw [es]; simp [qLineAt]; done) | (simp [qLine, c8]; done)) Z (Nat.le_of_ble_eq_true rfl) (Nat.le_of_ble_eq_true rfl)
    · skip
      subst z
      have es : qLine B (nI k) (nI 2) = qLineAt B k 2 := qLine_at c8 (by omega) (by decide)
      refine r_as (z := nI 2) rfl ?_
      refine lv_tableIn (off := 65) (tgt := 97) hx hb dX0_line_32 (by decide +kernel) (by decide +kernel) (by decide +kernel) (by decide) ?_
      refine lv_aload_n hx hb dX0_line_97 rfl (lv_at hl 0 rfl) ?_
      refine lv_iload_n hx hb dX0_line_98 rfl (lv_at hl 3 rfl) ?_
      refine lv_iconst (v := nI 1) hx hb dX0_line_99 rfl ?_
      refine lv_isub hx hb dX0_line_100 ?_
      refine r_as (z := nI (2 - 1)) (pk_sub (by omega)) ?_
      refine ns_i (k := 5) (nr_F (C := "ShareStreams$Plain") (ci := 4) (As := [.int (nI (2 - 1))]) (rest := []) hx hb hml hown hts hG (L_num l G rc y_ (B.2.1 k) (2 - 1) (by first | assumption | omega | rfl) (by first | assumption | omega | rfl)) nPs.blind 1 q350 q353 q355 q55 q357 (by decide +kernel) (by decide +kernel) ⟨⟨Nat.le_of_ble_eq_true rfl, Nat.le_of_ble_eq_true rfl⟩, Nat.le_of_ble_eq_true rfl, Nat.le_of_ble_eq_true rfl⟩ rfl rfl (r_recv hG (va_P.m1 Z.rc hm4 va_P.m0) 0 (C := "ShareStreams$Plain") rfl rfl rfl) (nPs_of hG Z Z.rc) rfl hl.1 rfl (Nat.le_of_ble_eq_true rfl) dX0_line_101) (fun r101 hp101 => ?_)
      have he101 := hp101
      have he101 : r101 = (B.2.1 k) ((2 - 1) + 1) := he101
      subst he101
      refine lv_goto (tgt := 204) hx hb dX0_line_106 (by decide) ?_
      exact ret ((B.2.1 k) ((2 - 1) + 1)) () dX0_line_204 (by first | (rw [es]; done) | (rw [es]; rfl) | (rw [es]; simp [qLineAt]; done) | (simp [qLine, c8]; done)) Z (Nat.le_of_ble_eq_true rfl) (Nat.le_of_ble_eq_true rfl)
    · skip
      subst z
      have es : qLine B (nI k) (nI 3) = qLineAt B k 3 := qLine_at c8 (by omega) (by decide)
      refine r_as (z := nI 3) rfl ?_
      refine lv_tableIn (off := 65) (tgt := 97) hx hb dX0_line_32 (by decide +kernel) (by decide +kernel) (by decide +kernel) (by decide) ?_
      refine lv_aload_n hx hb dX0_line_97 rfl (lv_at hl 0 rfl) ?_
      refine lv_iload_n hx hb dX0_line_98 rfl (lv_at hl 3 rfl) ?_
      refine lv_iconst (v := nI 1) hx hb dX0_line_99 rfl ?_
      refine lv_isub hx hb dX0_line_100 ?_
      refine r_as (z := nI (3 - 1)) (pk_sub (by omega)) ?_
      refine ns_i (k := 5) (nr_F (C := "ShareStreams$Plain") (ci := 4) (As := [.int (nI (3 - 1))]) (rest := []) hx hb hml hown hts hG (L_num l G rc y_ (B.2.1 k) (3 - 1) (by first | assumption | omega | rfl) (by first | assumption | omega | rfl)) nPs.blind 1 q350 q353 q355 q55 q357 (by decide +kernel) (by decide +kernel) ⟨⟨Nat.le_of_ble_eq_true rfl, Nat.le_of_ble_eq_true rfl⟩, Nat.le_of_ble_eq_true rfl, Nat.le_of_ble_eq_true rfl⟩ rfl rfl (r_recv hG (va_P.m1 Z.rc hm4 va_P.m0) 0 (C := "ShareStreams$Plain") rfl rfl rfl) (nPs_of hG Z Z.rc) rfl hl.1 rfl (Nat.le_of_ble_eq_true rfl) dX0_line_101) (fun r101 hp101 => ?_)
      have he101 := hp101
      have he101 : r101 = (B.2.1 k) ((3 - 1) + 1) := he101
      subst he101
      refine lv_goto (tgt := 204) hx hb dX0_line_106 (by decide) ?_
      exact ret ((B.2.1 k) ((3 - 1) + 1)) () dX0_line_204 (by first | (rw [es]; done) | (rw [es]; rfl) | (rw [es]; simp [qLineAt]; done) | (simp [qLine, c8]; done)) Z (Nat.le_of_ble_eq_true rfl) (Nat.le_of_ble_eq_true rfl)
    · skip
      subst z
      have es : qLine B (nI k) (nI 4) = qLineAt B k 4 := qLine_at c8 (by omega) (by decide)
      refine r_as (z := nI 4) rfl ?_
      refine lv_tableIn (off := 77) (tgt := 109) hx hb dX0_line_32 (by decide +kernel) (by decide +kernel) (by decide +kernel) (by decide) ?_
      refine lv_aload_n hx hb dX0_line_109 rfl (lv_at hl 1 rfl) ?_
      refine r_get (v := .ref b) hx hb hts in_X0 hown hG Z.w 0 rfl rfl 0 (by decide) q150 (fun _ h9 => h9) rfl dX0_line_110 ?_
      refine lv_iload_n hx hb dX0_line_113 rfl (lv_at hl 2 rfl) ?_
      refine lv_aload_n hx hb dX0_line_114 rfl (lv_at hl 1 rfl) ?_
      refine r_get (v := .ref b) hx hb hts in_X0 hown hG Z.w 0 rfl rfl 0 (by decide) q150 (fun _ h9 => h9) rfl dX0_line_115 ?_
      refine r_getN (v := .int (nI B.2.2)) hx hb hts in_X1 hown hG (va_P.m1 Z.rc hm1 va_P.m0) 0 rfl rfl 1 (by decide) q110 (fun _ h9 => h9) rfl dX0_line_118 ?_
      refine nc_i (k := 3) (wcc := []) (wr := [(x, .inr (0, [.ref b, va_rf sn, .ref hq, .ref sb]))]) (nr_V (As := [.int (nI k), .int (nI B.2.2)]) (rest := []) hx hb hml hown hts ((B_countOf l G rc b B k B.2.2 (by first | assumption | omega | rfl) (by first | assumption | omega | rfl) (by first | assumption | omega | rfl) (by first | assumption | omega | rfl)) _) nP.blind 2 q724 q725 q726 q45 q727 (by decide +kernel) ⟨⟨Nat.le_of_ble_eq_true rfl, Nat.le_of_ble_eq_true rfl⟩, Nat.le_of_ble_eq_true rfl, Nat.le_of_ble_eq_true rfl⟩ (r_recv hG (va_P.m1 Z.rc hm1 va_P.m0) 0 (C := "ShareStreams$Bench") rfl rfl rfl) (nP_of hG Z [] rfl (by decide) Z.rc (Z.apR [] rfl)) rfl hl.1 rfl (Nat.le_of_ble_eq_true rfl) dX0_line_121) Z [] [0] rfl rfl (by decide) (by decide) (fun r121 u H locs hp121 Z => ?_)
      have he121 := hp121
      have he121 : r121 = nI (cntN B.2.1 k B.2.2) := he121
      subst he121
      have Z : nW G A ([(x, .inr (0, [.ref b, va_rf sn, .ref hq, .ref sb]))]) ([]) rc s.heap _ _ := Z
      refine lv_goto (tgt := 204) hx hb dX0_line_124 (by decide) ?_
      exact ret (nI (cntN B.2.1 k B.2.2)) () dX0_line_204 (by first | (rw [es]; done) | (rw [es]; rfl) | (rw [es]; simp [qLineAt]; done) | (simp [qLine, c8]; done)) Z (Nat.le_of_ble_eq_true rfl) (Nat.le_of_ble_eq_true rfl)
    · skip
      subst z
      have es : qLine B (nI k) (nI 5) = qLineAt B k 5 := qLine_at c8 (by omega) (by decide)
      refine r_as (z := nI 5) rfl ?_
      refine lv_tableIn (off := 95) (tgt := 127) hx hb dX0_line_32 (by decide +kernel) (by decide +kernel) (by decide +kernel) (by decide) ?_
      refine lv_aload_n hx hb dX0_line_127 rfl (lv_at hl 1 rfl) ?_
      refine r_get (v := .ref b) hx hb hts in_X0 hown hG Z.w 0 rfl rfl 0 (by decide) q150 (fun _ h9 => h9) rfl dX0_line_128 ?_
      refine lv_iload_n hx hb dX0_line_131 rfl (lv_at hl 2 rfl) ?_
      refine lv_aload_n hx hb dX0_line_132 rfl (lv_at hl 1 rfl) ?_
      refine r_get (v := .ref b) hx hb hts in_X0 hown hG Z.w 0 rfl rfl 0 (by decide) q150 (fun _ h9 => h9) rfl dX0_line_133 ?_
      refine r_getN (v := .int (nI B.2.2)) hx hb hts in_X1 hown hG (va_P.m1 Z.rc hm1 va_P.m0) 0 rfl rfl 1 (by decide) q110 (fun _ h9 => h9) rfl dX0_line_136 ?_
      refine nc_i (k := 3) (wcc := []) (wr := [(x, .inr (0, [.ref b, va_rf sn, .ref hq, .ref sb]))]) (nr_V (As := [.int (nI k), .int (nI B.2.2)]) (rest := []) hx hb hml hown hts ((B_share l G rc b B k B.2.2 (by first | assumption | omega | rfl) (by first | assumption | omega | rfl) (by first | assumption | omega | rfl) (by first | assumption | omega | rfl) (by first | assumption | omega | rfl)) _) nP.blind 2 q798 q799 q800 q45 q801 (by decide +kernel) ⟨⟨Nat.le_of_ble_eq_true rfl, Nat.le_of_ble_eq_true rfl⟩, Nat.le_of_ble_eq_true rfl, Nat.le_of_ble_eq_true rfl⟩ (r_recv hG (va_P.m1 Z.rc hm1 va_P.m0) 0 (C := "ShareStreams$Bench") rfl rfl rfl) (nP_of hG Z [] rfl (by decide) Z.rc (Z.apR [] rfl)) rfl hl.1 rfl (Nat.le_of_ble_eq_true rfl) dX0_line_139) Z [] [0] rfl rfl (by decide) (by decide) (fun r139 u H locs hp139 Z => ?_)
      have he139 := hp139
      have he139 : r139 = nI (shN (cntN B.2.1 k B.2.2) B.2.2) := he139
      subst he139
      have Z : nW G A ([(x, .inr (0, [.ref b, va_rf sn, .ref hq, .ref sb]))]) ([]) rc s.heap _ _ := Z
      refine lv_goto (tgt := 204) hx hb dX0_line_142 (by decide) ?_
      exact ret (nI (shN (cntN B.2.1 k B.2.2) B.2.2)) () dX0_line_204 (by first | (rw [es]; done) | (rw [es]; rfl) | (rw [es]; simp [qLineAt]; done) | (simp [qLine, c8]; done)) Z (Nat.le_of_ble_eq_true rfl) (Nat.le_of_ble_eq_true rfl)
    · skip
      subst z
      have es : qLine B (nI k) (nI 6) = qLineAt B k 6 := qLine_at c8 (by omega) (by decide)
      refine r_as (z := nI 6) rfl ?_
      refine lv_tableIn (off := 113) (tgt := 145) hx hb dX0_line_32 (by decide +kernel) (by decide +kernel) (by decide +kernel) (by decide) ?_
      refine lv_aload_n hx hb dX0_line_145 rfl (lv_at hl 1 rfl) ?_
      refine r_get (v := .ref b) hx hb hts in_X0 hown hG Z.w 0 rfl rfl 0 (by decide) q150 (fun _ h9 => h9) rfl dX0_line_146 ?_
      refine nc_q (k := 3) (wcc := []) (wr := [(x, .inr (0, [.ref b, va_rf sn, .ref hq, .ref sb]))]) (nr_V (As := []) (rest := []) hx hb hml hown hts ((B_exact l G rc b B (by first | assumption | omega | rfl) (by first | assumption | omega | rfl)) _) nP.blind 0 q807 q808 q809 q45 q810 (by decide +kernel) ⟨⟨Nat.le_of_ble_eq_true rfl, Nat.le_of_ble_eq_true rfl⟩, Nat.le_of_ble_eq_true rfl, Nat.le_of_ble_eq_true rfl⟩ (r_recv hG (va_P.m1 Z.rc hm1 va_P.m0) 0 (C := "ShareStreams$Bench") rfl rfl rfl) (nP_of hG Z [] rfl (by decide) Z.rc (Z.apR [] rfl)) rfl hl.1 rfl (Nat.le_of_ble_eq_true rfl) dX0_line_149) Z [] [0] rfl rfl (by decide) (by decide) (fun r149 u H locs hp149 Z => ?_)
      obtain ⟨e1_149, ex_149⟩ := u
      obtain ⟨he149, hp149⟩ := hp149
      have he149 : r149 = some e1_149 := he149
      subst he149
      have hp149 : ∀ v_, v_ < B.1 → ex_149 v_ = nI (exN B.2.1 v_) := hp149
      have Z : nW G A ([(x, .inr (0, [.ref b, va_rf sn, .ref hq, .ref sb])), (e1_149, .inl (G.1.1 100, 16, .inl ex_149))]) ([]) rc s.heap _ _ := Z
      refine lv_iload_n hx hb dX0_line_152 rfl (lv_at hl 2 rfl) ?_
      refine r_iald hx hb hG Z.w 1 rfl (j := k) (by omega) (by decide) (v := nI (exN B.2.1 k)) (hp149 k hk) dX0_line_153 ?_
      refine lv_goto (tgt := 204) hx hb dX0_line_154 (by decide) ?_
      exact ret (nI (exN B.2.1 k)) () dX0_line_204 (by first | (rw [es]; done) | (rw [es]; rfl) | (rw [es]; simp [qLineAt]; done) | (simp [qLine, c8]; done)) (Z.perm ([(x, .inr (0, [.ref b, va_rf sn, .ref hq, .ref sb]))]) [0] (by decide) rfl) (Nat.le_of_ble_eq_true rfl) (Nat.le_of_ble_eq_true rfl)
    · skip
      subst z
      have es : qLine B (nI k) (nI 7) = qLineAt B k 7 := qLine_at c8 (by omega) (by decide)
      refine r_as (z := nI 7) rfl ?_
      refine lv_tableIn (off := 125) (tgt := 157) hx hb dX0_line_32 (by decide +kernel) (by decide +kernel) (by decide +kernel) (by decide) ?_
      refine lv_aload_n hx hb dX0_line_157 rfl (lv_at hl 1 rfl) ?_
      refine r_get (v := .ref b) hx hb hts in_X0 hown hG Z.w 0 rfl rfl 0 (by decide) q150 (fun _ h9 => h9) rfl dX0_line_158 ?_
      refine lv_iload_n hx hb dX0_line_161 rfl (lv_at hl 2 rfl) ?_
      refine lv_aload_n hx hb dX0_line_162 rfl (lv_at hl 1 rfl) ?_
      refine r_get (v := .ref b) hx hb hts in_X0 hown hG Z.w 0 rfl rfl 0 (by decide) q150 (fun _ h9 => h9) rfl dX0_line_163 ?_
      refine r_getN (v := .int (nI B.2.2)) hx hb hts in_X1 hown hG (va_P.m1 Z.rc hm1 va_P.m0) 0 rfl rfl 1 (by decide) q110 (fun _ h9 => h9) rfl dX0_line_166 ?_
      refine nc_i (k := 3) (wcc := []) (wr := [(x, .inr (0, [.ref b, va_rf sn, .ref hq, .ref sb]))]) (nr_V (As := [.int (nI k), .int (nI B.2.2)]) (rest := []) hx hb hml hown hts ((B_error l G rc b B k B.2.2 (by first | assumption | omega | rfl) (by first | assumption | omega | rfl) (by first | assumption | omega | rfl) (by first | assumption | omega | rfl) (by first | assumption | omega | rfl)) _) nP.blind 2 q826 q827 q828 q45 q829 (by decide +kernel) ⟨⟨Nat.le_of_ble_eq_true rfl, Nat.le_of_ble_eq_true rfl⟩, Nat.le_of_ble_eq_true rfl, Nat.le_of_ble_eq_true rfl⟩ (r_recv hG (va_P.m1 Z.rc hm1 va_P.m0) 0 (C := "ShareStreams$Bench") rfl rfl rfl) (nP_of hG Z [] rfl (by decide) Z.rc (Z.apR [] rfl)) rfl hl.1 rfl (Nat.le_of_ble_eq_true rfl) dX0_line_169) Z [] [0] rfl rfl (by decide) (by decide) (fun r169 u H locs hp169 Z => ?_)
      have he169 := hp169
      have he169 : r169 = nI (errN B.2.1 k B.2.2) := he169
      subst he169
      have Z : nW G A ([(x, .inr (0, [.ref b, va_rf sn, .ref hq, .ref sb]))]) ([]) rc s.heap _ _ := Z
      refine lv_goto (tgt := 204) hx hb dX0_line_172 (by decide) ?_
      exact ret (nI (errN B.2.1 k B.2.2)) () dX0_line_204 (by first | (rw [es]; done) | (rw [es]; rfl) | (rw [es]; simp [qLineAt]; done) | (simp [qLine, c8]; done)) Z (Nat.le_of_ble_eq_true rfl) (Nat.le_of_ble_eq_true rfl)
    · skip
      subst z
      have es : qLine B (nI k) (nI 8) = qLineAt B k 8 := qLine_at c8 (by omega) (by decide)
      refine r_as (z := nI 8) rfl ?_
      refine lv_tableIn (off := 143) (tgt := 175) hx hb dX0_line_32 (by decide +kernel) (by decide +kernel) (by decide +kernel) (by decide) ?_
      refine lv_aload_n hx hb dX0_line_175 rfl (lv_at hl 1 rfl) ?_
      refine r_get (v := .ref b) hx hb hts in_X0 hown hG Z.w 0 rfl rfl 0 (by decide) q150 (fun _ h9 => h9) rfl dX0_line_176 ?_
      refine nc_q (k := 3) (wcc := []) (wr := [(x, .inr (0, [.ref b, va_rf sn, .ref hq, .ref sb]))]) (nr_V (As := []) (rest := []) hx hb hml hown hts ((B_depths l G rc b B (by first | assumption | omega | rfl) (by first | assumption | omega | rfl)) _) nP.blind 0 q835 q836 q837 q45 q838 (by decide +kernel) ⟨⟨Nat.le_of_ble_eq_true rfl, Nat.le_of_ble_eq_true rfl⟩, Nat.le_of_ble_eq_true rfl, Nat.le_of_ble_eq_true rfl⟩ (r_recv hG (va_P.m1 Z.rc hm1 va_P.m0) 0 (C := "ShareStreams$Bench") rfl rfl rfl) (nP_of hG Z [] rfl (by decide) Z.rc (Z.apR [] rfl)) rfl hl.1 rfl (Nat.le_of_ble_eq_true rfl) dX0_line_179) Z [] [0] rfl rfl (by decide) (by decide) (fun r179 u H locs hp179 Z => ?_)
      obtain ⟨e1_179, dp_179⟩ := u
      obtain ⟨he179, hp179⟩ := hp179
      have he179 : r179 = some e1_179 := he179
      subst he179
      have hp179 : (∀ v_, v_ < B.1 → dp_179 v_ = nI (dpN B.2.1 v_)) ∧ ∀ v_, B.1 ≤ v_ → v_ < 16 → dp_179 v_ = 0 := hp179
      have Z : nW G A ([(x, .inr (0, [.ref b, va_rf sn, .ref hq, .ref sb])), (e1_179, .inl (G.1.1 100, 16, .inl dp_179))]) ([]) rc s.heap _ _ := Z
      refine lv_iload_n hx hb dX0_line_182 rfl (lv_at hl 2 rfl) ?_
      refine r_iald hx hb hG Z.w 1 rfl (j := k) (by omega) (by decide) (v := nI (dpN B.2.1 k)) (hp179.1 k hk) dX0_line_183 ?_
      refine lv_goto (tgt := 204) hx hb dX0_line_184 (by decide) ?_
      exact ret (nI (dpN B.2.1 k)) () dX0_line_204 (by first | (rw [es]; done) | (rw [es]; rfl) | (rw [es]; simp [qLineAt]; done) | (simp [qLine, c8]; done)) (Z.perm ([(x, .inr (0, [.ref b, va_rf sn, .ref hq, .ref sb]))]) [0] (by decide) rfl) (Nat.le_of_ble_eq_true rfl) (Nat.le_of_ble_eq_true rfl)
    · skip
      subst z
      have es : qLine B (nI k) (nI 9) = qLineAt B k 9 := qLine_at c8 (by omega) (by decide)
      refine r_as (z := nI 9) rfl ?_
      refine lv_tableIn (off := 155) (tgt := 187) hx hb dX0_line_32 (by decide +kernel) (by decide +kernel) (by decide +kernel) (by decide) ?_
      refine lv_aload_n hx hb dX0_line_187 rfl (lv_at hl 1 rfl) ?_
      refine r_get (v := .ref b) hx hb hts in_X0 hown hG Z.w 0 rfl rfl 0 (by decide) q150 (fun _ h9 => h9) rfl dX0_line_188 ?_
      refine nc_q (k := 3) (wcc := []) (wr := [(x, .inr (0, [.ref b, va_rf sn, .ref hq, .ref sb]))]) (nr_V (As := []) (rest := []) hx hb hml hown hts ((B_origins l G rc b B (by first | assumption | omega | rfl) (by first | assumption | omega | rfl)) _) nP.blind 0 q840 q841 q842 q45 q843 (by decide +kernel) ⟨⟨Nat.le_of_ble_eq_true rfl, Nat.le_of_ble_eq_true rfl⟩, Nat.le_of_ble_eq_true rfl, Nat.le_of_ble_eq_true rfl⟩ (r_recv hG (va_P.m1 Z.rc hm1 va_P.m0) 0 (C := "ShareStreams$Bench") rfl rfl rfl) (nP_of hG Z [] rfl (by decide) Z.rc (Z.apR [] rfl)) rfl hl.1 rfl (Nat.le_of_ble_eq_true rfl) dX0_line_191) Z [] [0] rfl rfl (by decide) (by decide) (fun r191 u H locs hp191 Z => ?_)
      obtain ⟨e1_191, og_191⟩ := u
      obtain ⟨he191, hp191⟩ := hp191
      have he191 : r191 = some e1_191 := he191
      subst he191
      have hp191 : ∀ v_, v_ < B.1 → og_191 v_ = nI (orN B.2.1 v_) := hp191
      have Z : nW G A ([(x, .inr (0, [.ref b, va_rf sn, .ref hq, .ref sb])), (e1_191, .inl (G.1.1 100, 16, .inl og_191))]) ([]) rc s.heap _ _ := Z
      refine lv_iload_n hx hb dX0_line_194 rfl (lv_at hl 2 rfl) ?_
      refine r_iald hx hb hG Z.w 1 rfl (j := k) (by omega) (by decide) (v := nI (orN B.2.1 k)) (hp191 k hk) dX0_line_195 ?_
      refine ns_i (k := 3) (nr_S (As := [.int (nI (orN B.2.1 k))]) (rest := []) hx hb hml hown hts (I_bits l G (orN B.2.1 k) (or_lt16 ok hn hk)) nPs.blind 1 q846 q847 q65 q848 (by decide +kernel) ⟨⟨Nat.le_of_ble_eq_true rfl, Nat.le_of_ble_eq_true rfl⟩, Nat.le_of_ble_eq_true rfl, Nat.le_of_ble_eq_true rfl⟩ (nPs_of hG Z va_P.m0) rfl hl.1 rfl (Nat.le_of_ble_eq_true rfl) dX0_line_196) (fun r196 hp196 => ?_)
      have he196 := hp196
      have he196 : r196 = nI (popN (orN B.2.1 k)) := he196
      subst he196
      refine lv_goto (tgt := 204) hx hb dX0_line_199 (by decide) ?_
      exact ret (nI (popN (orN B.2.1 k))) () dX0_line_204 (by first | (rw [es]; done) | (rw [es]; rfl) | (rw [es]; simp [qLineAt]; done) | (simp [qLine, c8]; done)) (Z.perm ([(x, .inr (0, [.ref b, va_rf sn, .ref hq, .ref sb]))]) [0] (by decide) rfl) (Nat.le_of_ble_eq_true rfl) (Nat.le_of_ble_eq_true rfl)
  · skip
    have c8 := bI_f c8
    refine lv_ldc hx hb hown (hts _ q318) dX0_line_11 ?_
    exact ret (-100000001 : Int32) () dX0_line_13 (by first | (rw [es]; done) | (rw [es]; rfl) | (rw [es]; simp [qLineAt]; done) | (simp [qLine, c8]; done)) Z (Nat.le_of_ble_eq_true rfl) (Nat.le_of_ble_eq_true rfl)
