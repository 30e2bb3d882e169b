theorem ex_w {F : Nat → Nat → Int32} {n k w : Nat} (ok : ∀ k, k < n → lnOk F k) (hk : k < n) : (if w < lnBy (kd F k) then exN F (nm F k (w + 1)) else 0) ≤ 65536 := by
  split
  · rename_i h
    exact ex_le ok (Nat.lt_trans (by_lt (ok k hk) (w := w + 1) (by omega) h).2 hk)
  · exact Nat.zero_le _
theorem ex_leN {F : Nat → Nat → Int32} {n k : Nat} (ok : ∀ k, k < n → lnOk F k) (hk : k < n) : leN (kd F k) (nm F k 1) (if 0 < lnBy (kd F k) then exN F (nm F k (0 + 1)) else 0) (if 1 < lnBy (kd F k) then exN F (nm F k (1 + 1)) else 0) (if 2 < lnBy (kd F k) then exN F (nm F k (2 + 1)) else 0) = exN F k := by
  rw [exN_eq ok hk]
  unfold eStep leN
  have h6 := (ok k hk).1.2
  rcases (by omega : kd F k = 0 ∨ kd F k = 1 ∨ kd F k = 2 ∨ kd F k = 3 ∨ kd F k = 4 ∨ kd F k = 5 ∨ kd F k = 6) with z | z | z | z | z | z | z <;> simp [z, lnBy]
theorem ab_ap {x y : Nat} (hx : x < 2 ^ 30) (hy : y < 2 ^ 30) : (if 0 ≤ nI x - nI y then nI x - nI y else 0 - (nI x - nI y)) = nI (apN x y) := by
  have h := pk_sub_toInt hx hy
  unfold apN
  by_cases c : y ≤ x
  · rw [if_pos (by rw [Int32.le_iff_toInt_le, h, Int32.toInt_zero]; omega), pk_sub c]; congr 1; omega
  · rw [if_neg (by rw [Int32.le_iff_toInt_le, h, Int32.toInt_zero]; omega)]
    have e : (0 : Int32) - (nI x - nI y) = nI y - nI x := by
      rw [show (0 : Int32) - (nI x - nI y) = -(nI x - nI y) from Int32.zero_sub _, Int32.neg_sub]
    rw [e, pk_sub (by omega)]; congr 1; omega
theorem mx_n {x y : Nat} (hx : x < 2 ^ 31) (hy : y < 2 ^ 31) : (if nI x < nI y then nI y else nI x) = nI (max x y) := by
  by_cases c : x < y
  · rw [if_pos ((nI_ltI hx hy).mpr c), Nat.max_eq_right (by omega)]
  · rw [if_neg (fun q => c ((nI_ltI hx hy).mp q)), Nat.max_eq_left (by omega)]
theorem inI_t {x lo hi : Int32} (h1 : ¬ x < lo) (h2 : ¬ hi < x) : inI x lo hi = true := by
  rw [Int32.lt_iff_toInt_lt] at h1 h2
  exact decide_eq_true (by omega)
theorem inI_f1 {x lo hi : Int32} (h1 : x < lo) : inI x lo hi = false := by
  rw [Int32.lt_iff_toInt_lt] at h1
  exact decide_eq_false (by omega)
theorem inI_f2 {x lo hi : Int32} (h1 : hi < x) : inI x lo hi = false := by
  rw [Int32.lt_iff_toInt_lt] at h1
  exact decide_eq_false (by omega)
set_option maxHeartbeats 4000000 in
set_option maxRecDepth 100000 in
theorem S_in (l : Launch) (G : nG) (x : Int32) (lo : Int32) (hi : Int32)  : nSi l yX0_inRange cX0_inRange 3 (.boolean) 0 0 G [.int x, .int lo, .int hi] ([]) (fun r : Int32 => r = (bI (inI x lo hi))) := by
  refine nSi.of (own := "ShareStreams") rfl (by decide +kernel) (Nat.le_of_ble_eq_true rfl) (fun r h => by rw [h]; exact bI_n _) ?_
  intro p e s m args below meth c Q ls hx hb hml hown hts hG hP hl ret
  have hl : lv_has ls 3 [(0, .int x), (1, .int lo), (2, .int hi)] := hl
  refine lv_iload_n hx hb dX0_inRange_0 rfl (lv_at hl 0 rfl) ?_
  refine lv_iload_n hx hb dX0_inRange_1 rfl (lv_at hl 1 rfl) ?_
  refine lv_icmp_lt (tgt := 14) hx hb dX0_inRange_2 (by decide) (fun c2 => ?_) (fun c2 => ?_)
  · skip
    refine lv_iconst (v := nI 0) hx hb dX0_inRange_14 rfl ?_
    refine r_as (z := bI false) rfl ?_
    exact ret (bI false) dX0_inRange_15 (congrArg bI (by first | exact (inI_t c2 c7).symm | exact (inI_f1 c2).symm | exact (inI_f2 c7).symm))
  · skip
    refine lv_iload_n hx hb dX0_inRange_5 rfl (lv_at hl 0 rfl) ?_
    refine lv_iload_n hx hb dX0_inRange_6 rfl (lv_at hl 2 rfl) ?_
    refine lv_icmp_gt (tgt := 14) hx hb dX0_inRange_7 (by decide) (fun c7 => ?_) (fun c7 => ?_)
    · skip
      refine lv_iconst (v := nI 0) hx hb dX0_inRange_14 rfl ?_
      refine r_as (z := bI false) rfl ?_
      exact ret (bI false) dX0_inRange_15 (congrArg bI (by first | exact (inI_t c2 c7).symm | exact (inI_f1 c2).symm | exact (inI_f2 c7).symm))
    · skip
      refine lv_iconst (v := nI 1) hx hb dX0_inRange_10 rfl ?_
      refine lv_goto (tgt := 15) hx hb dX0_inRange_11 (by decide) ?_
      refine r_as (z := bI true) rfl ?_
      exact ret (bI true) dX0_inRange_15 (congrArg bI (by first | exact (inI_t c2 c7).symm | exact (inI_f1 c2).symm | exact (inI_f2 c7).symm))
set_option maxHeartbeats 4000000 in
set_option maxRecDepth 100000 in
theorem B_isLine (l : Launch) (G : nG) (rc : va_W) (q : Nat) (B : nBe) (x : Int32) (hB : iBench G rc q B) (hok : beOk B) : nSi l yX1_isLine cX1_isLine 2 (.boolean) 1 22 G [.ref q, .int x] rc (fun r : Int32 => r = (bI (isLn x B.1))) := by
  refine nSi.of (own := "ShareStreams$Bench") rfl (by decide +kernel) (Nat.le_of_ble_eq_true rfl) (fun r h => by rw [h]; exact bI_n _) ?_
  intro p e s m args below meth c Q ls hx hb hml hown hts hG hP hl ret
  have hl : lv_has ls 2 [(0, .ref q), (1, .int x)] := hl
  obtain ⟨b_, hm1, hL⟩ := id hB
  have hL0 := hL
  obtain ⟨c_, ea_, cap_, f_, hm2, hm3, hel⟩ := hL0
  obtain ⟨hn, ⟨hlen1, hlen2⟩, ok⟩ := id hok
  refine lv_iload_n hx hb dX1_isLine_0 rfl (lv_at hl 1 rfl) ?_
  refine lv_iconst (v := nI 0) hx hb dX1_isLine_1 rfl ?_
  refine lv_aload_n hx hb dX1_isLine_2 rfl (lv_at hl 0 rfl) ?_
  refine r_get (v := .ref b_) hx hb hts in_X1 hown hG (va_P.m1 hP hm1 va_P.m0) 0 rfl rfl 0 (by decide) q106 (fun _ h9 => h9) rfl dX1_isLine_3 ?_
  refine ns_i (k := 5) (nr_F (C := "java/util/ArrayList") (ci := 3) (As := []) (rest := [.int (nI 0), .int x]) hx hb hml hown hts hG (J2_sz l G b_ c_ ea_ B.1) nPs.blind 0 q206 q196 q198 q48 q200 (by decide +kernel) (by decide +kernel) ⟨⟨Nat.le_of_ble_eq_true rfl, Nat.le_of_ble_eq_true rfl⟩, Nat.le_of_ble_eq_true rfl, Nat.le_of_ble_eq_true rfl⟩ rfl rfl (r_recv hG (va_P.m1 hP hm2 va_P.m0) 0 (C := "java/util/ArrayList") rfl rfl rfl) (nPs_of0 hG (va_P.m1 hP hm2 va_P.m0)) rfl hl.1 rfl (Nat.le_of_ble_eq_true rfl) dX1_isLine_6) (fun r6 hp6 => ?_)
  have he6 := hp6
  have he6 : r6 = nI B.1 := he6
  subst he6
  refine lv_iconst (v := nI 1) hx hb dX1_isLine_11 rfl ?_
  refine lv_isub hx hb dX1_isLine_12 ?_
  refine ns_i (k := 3) (nr_SN (As := [.int x, .int (nI 0), .int ((nI B.1) - (nI 1))]) (rest := []) hx hb hml hown hts hG (S_in l G x (nI 0) ((nI B.1) - (nI 1))) nPs.blind 3 q317 q168 q44 q169 (by decide +kernel) ⟨⟨Nat.le_of_ble_eq_true rfl, Nat.le_of_ble_eq_true rfl⟩, Nat.le_of_ble_eq_true rfl, Nat.le_of_ble_eq_true rfl⟩ (nPs_of0 hG va_P.m0) rfl hl.1 rfl (Nat.le_of_ble_eq_true rfl) dX1_isLine_13) (fun r13 hp13 => ?_)
  have he13 := hp13
  have he13 : r13 = bI (inI x (nI 0) ((nI B.1) - (nI 1))) := he13
  subst he13
  refine r_as (z := bI (isLn x B.1)) (by rw [inI_ln x (by omega)]) ?_
  exact ret (bI (isLn x B.1)) dX1_isLine_16 (by first | rfl | assumption | omega | simp_all)
set_option maxHeartbeats 4000000 in
set_option maxRecDepth 100000 in
theorem B_shareOf (l : Launch) (G : nG) (c_ : Nat) (n : Nat) (h1 : c_ ≤ n) (h2 : 0 < n) (h3 : n ≤ 1000) : nSi l yX1_shareOf cX1_shareOf 2 (.int) 0 0 G [.int (nI c_), .int (nI n)] ([]) (fun r : Int32 => r = (nI (shN c_ n))) := by
  refine nSi.of (own := "ShareStreams$Bench") rfl (by decide +kernel) (Nat.le_of_ble_eq_true rfl) (fun _ _ => rfl) ?_
  intro p e s m args below meth c Q ls hx hb hml hown hts hG hP hl ret
  have hl : lv_has ls 2 [(0, .int (nI c_)), (1, .int (nI n))] := hl
  refine lv_iload_n hx hb dX1_shareOf_0 rfl (lv_at hl 0 rfl) ?_
  refine lv_i2l (v := lN c_) hx hb dX1_shareOf_1 (nI_l (by omega)) ?_
  refine lv_ldc2 hx hb hown (hts _ q806) dX1_shareOf_2 ?_
  refine r_asl (z := lN 65536) rfl ?_
  refine lv_lmul hx hb dX1_shareOf_5 ?_
  refine r_asl (z := lN (c_ * 65536)) (lN_mul _ _) ?_
  refine lv_iload_n hx hb dX1_shareOf_6 rfl (lv_at hl 1 rfl) ?_
  refine lv_i2l (v := lN n) hx hb dX1_shareOf_7 (nI_l (by omega)) ?_
  refine lv_ldiv hx hb dX1_shareOf_8 (fun h => by have := (pk_lEQ (a := n) (b := 0) (by omega) (by decide)).mp h; omega) ?_
  refine r_asl (z := lN ((c_ * 65536) / n)) (pk_lDiv (by omega) (by omega) (by omega)) ?_
  refine lv_l2i (v := nI ((c_ * 65536) / n)) hx hb dX1_shareOf_9 (lN_i _) ?_
  exact ret (nI ((c_ * 65536) / n)) dX1_shareOf_10 rfl
set_option maxHeartbeats 4000000 in
set_option maxRecDepth 100000 in
theorem B_countOf (l : Launch) (G : nG) (rc : va_W) (q : Nat) (B : nBe) (k : Nat) (m_ : Nat) (hB : iBench G rc q B) (hok : beOk B) (hk : k < B.1) (hm : m_ ≤ 1000) : nMi (S := Unit) l yX1_countOf cX1_countOf 3 (.int) 5 3 1050 113 G [.ref q, .int (nI k), .int (nI m_)] ([]) rc (fun (u : Unit) => []) (fun (r : Int32) (u : Unit) => r = (nI (cntN B.2.1 k m_))) := by
  refine nMi.of (own := "ShareStreams$Bench") rfl (by decide +kernel) (Nat.le_of_ble_eq_true rfl) (fun _ _ _ => rfl) ?_
  intro p e s m args below meth c A Q ls hx hb hml hown hts hin hG Z hl ret
  have hl : lv_has ls 3 [(0, .ref q), (1, .int (nI k)), (2, .int (nI m_))] := hl
  have Z : nW G A ([]) ([]) rc s.heap _ _ := Z
  obtain ⟨b_, hm1, hL⟩ := id hB
  have hL0 := hL
  obtain ⟨c_, ea_, cap_, f_, hm2, hm3, hel⟩ := hL0
  obtain ⟨hn, ⟨hlen1, hlen2⟩, ok⟩ := id hok
  refine r_new (ci := 6) (fs := [.null, .null, .null, .int (nI 0)]) hx hb hts in_X6 tyX6 tyX6_ok hown q728 q729 q64 hG Z rfl (fun j hj => by rcases (show j = 0 ∨ j = 1 ∨ j = 2 ∨ j = 3 by omega) with rfl | rfl | rfl | rfl <;> rfl) (Nat.le_of_ble_eq_true rfl) (Nat.le_of_ble_eq_true rfl) dX1_countOf_0 (fun r H Z => ?_)
  have Z : nW G A ([(r, .inr (6, [.null, .null, .null, .int (nI 0)]))]) ([]) rc s.heap _ _ := Z
  refine lv_dup hx hb dX1_countOf_3 rfl ?_
  refine lv_aload_n hx hb dX1_countOf_4 rfl (lv_at hl 0 rfl) ?_
  refine nc_v (k := 3) (wcc := [(r, .inr (6, [.null, .null, .null, .int (nI 0)]))]) (wr := []) (nr_I (As := [.ref q]) (rest := [.ref r]) hx hb hml hown hts ((R_init l G rc b_ B.1 B.2.1 r q B.2.2 (by first | assumption | omega | rfl) (by first | assumption | omega | rfl) (by first | assumption | omega | rfl) (by first | assumption | omega | rfl)) _) nP.blind 1 q730 q731 q64 q732 rfl (by decide +kernel) ⟨⟨Nat.le_of_ble_eq_true rfl, Nat.le_of_ble_eq_true rfl⟩, Nat.le_of_ble_eq_true rfl, Nat.le_of_ble_eq_true rfl⟩ (nP_of hG Z [0] rfl (by decide) Z.rc (Z.apR [0] rfl)) rfl hl.1 rfl (Nat.le_of_ble_eq_true rfl) dX1_countOf_5) Z [0] [] rfl rfl (by decide) (by decide) (fun u H locs hp5 Z => ?_)
  obtain ⟨rg_5, lt_5, rf_5, lf_5⟩ := u
  have hp5 : rgI B.2.1 B.1 rf_5 0 := hp5
  have Z : nW G A ([(r, .inr (6, [.ref b_, .ref rg_5, .ref lt_5, .int (nI 0)])), (rg_5, .inl (G.1.1 100, 16, .inl rf_5)), (lt_5, .inl (G.1.1 101, 1024, .inl lf_5))]) ([]) rc s.heap _ _ := Z
  refine lv_iload_n hx hb dX1_countOf_8 rfl (lv_at hl 1 rfl) ?_
  refine lv_iload_n hx hb dX1_countOf_9 rfl (lv_at hl 2 rfl) ?_
  refine nc_i (k := 3) (wcc := [(r, .inr (6, [.ref b_, .ref rg_5, .ref lt_5, .int (nI 0)])), (rg_5, .inl (G.1.1 100, 16, .inl rf_5)), (lt_5, .inl (G.1.1 101, 1024, .inl lf_5))]) (wr := []) (nr_V (As := [.int (nI k), .int (nI m_)]) (rest := []) hx hb hml hown hts ((R_count l G rc b_ B.1 B.2.1 B.2.1 r rg_5 lt_5 rf_5 lf_5 k m_ (by first | assumption | omega | rfl) (by first | assumption | omega | rfl) (by first | assumption | omega | rfl) lnAg.rfl' (by first | assumption | omega | rfl) (by first | assumption | omega | rfl) hp5) _) nP.blind 2 q761 q762 q763 q64 q764 (by decide +kernel) ⟨⟨Nat.le_of_ble_eq_true rfl, Nat.le_of_ble_eq_true rfl⟩, Nat.le_of_ble_eq_true rfl, Nat.le_of_ble_eq_true rfl⟩ (r_recv hG Z.w 0 (C := "ShareStreams$Run") rfl rfl rfl) (nP_of hG Z [0, 1, 2] rfl (by decide) Z.rc (Z.apR [0, 1, 2] rfl)) rfl hl.1 rfl (Nat.le_of_ble_eq_true rfl) dX1_countOf_10) Z [0, 1, 2] [] rfl rfl (by decide) (by decide) (fun r10 u H locs hp10 Z => ?_)
  obtain ⟨rf1_10, lf1_10⟩ := u
  have he10 := hp10
  have he10 : r10 = nI (cntN B.2.1 k m_) := he10
  subst he10
  have Z : nW G A ([(r, .inr (6, [.ref b_, .ref rg_5, .ref lt_5, .int (nI m_)])), (rg_5, .inl (G.1.1 100, 16, .inl rf1_10)), (lt_5, .inl (G.1.1 101, 1024, .inl lf1_10))]) ([]) rc s.heap _ _ := Z
  exact ret (nI (cntN B.2.1 k m_)) () dX1_countOf_13 (by first | rfl | assumption | omega | simp_all) (Z.perm ([]) [] (by decide) rfl) (Nat.le_of_ble_eq_true rfl) (Nat.le_of_ble_eq_true rfl)
set_option maxHeartbeats 4000000 in
set_option maxRecDepth 100000 in
theorem B_share (l : Launch) (G : nG) (rc : va_W) (q : Nat) (B : nBe) (k : Nat) (m_ : Nat) (hB : iBench G rc q B) (hok : beOk B) (hk : k < B.1) (hm : m_ ≤ 1000) (hm0 : 0 < m_) : nMi (S := Unit) l yX1_share cX1_share 3 (.int) 6 3 1050 135 G [.ref q, .int (nI k), .int (nI m_)] ([]) rc (fun (u : Unit) => []) (fun (r : Int32) (u : Unit) => r = (nI (shN (cntN B.2.1 k m_) m_))) := by
  refine nMi.of (own := "ShareStreams$Bench") rfl (by decide +kernel) (Nat.le_of_ble_eq_true rfl) (fun _ _ _ => rfl) ?_
  intro p e s m args below meth c A Q ls hx hb hml hown hts hin hG Z hl ret
  have hl : lv_has ls 3 [(0, .ref q), (1, .int (nI k)), (2, .int (nI m_))] := hl
  have Z : nW G A ([]) ([]) rc s.heap _ _ := Z
  obtain ⟨b_, hm1, hL⟩ := id hB
  have hL0 := hL
  obtain ⟨c_, ea_, cap_, f_, hm2, hm3, hel⟩ := hL0
  obtain ⟨hn, ⟨hlen1, hlen2⟩, ok⟩ := id hok
  refine lv_aload_n hx hb dX1_share_0 rfl (lv_at hl 0 rfl) ?_
  refine lv_iload_n hx hb dX1_share_1 rfl (lv_at hl 1 rfl) ?_
  refine lv_iload_n hx hb dX1_share_2 rfl (lv_at hl 2 rfl) ?_
  refine nc_i (k := 3) (wcc := []) (wr := []) (nr_V (As := [.int (nI k), .int (nI m_)]) (rest := []) hx hb hml hown hts ((B_countOf l G rc q B k m_ (by first | assumption | omega | rfl) (by first | assumption | omega | rfl) (by first | assumption | omega | rfl) (by first | assumption | omega | rfl)) _) nP.blind 2 q802 q725 q726 q45 q727 (by decide +kernel) ⟨⟨Nat.le_of_ble_eq_true rfl, Nat.le_of_ble_eq_true rfl⟩, Nat.le_of_ble_eq_true rfl, Nat.le_of_ble_eq_true rfl⟩ (r_recv hG (va_P.m1 Z.rc hm1 va_P.m0) 0 (C := "ShareStreams$Bench") rfl rfl rfl) (nP_of hG Z [] rfl (by decide) Z.rc (Z.apR [] rfl)) rfl hl.1 rfl (Nat.le_of_ble_eq_true rfl) dX1_share_3) Z [] [] rfl rfl (by decide) (by decide) (fun r3 u H locs hp3 Z => ?_)
  have he3 := hp3
  have he3 : r3 = nI (cntN B.2.1 k m_) := he3
  subst he3
  have Z : nW G A ([]) ([]) rc s.heap _ _ := Z
  refine lv_iload_n hx hb dX1_share_6 rfl (lv_at hl 2 rfl) ?_
  refine ns_i (k := 3) (nr_S (As := [.int (nI (cntN B.2.1 k m_)), .int (nI m_)]) (rest := []) hx hb hml hown hts (B_shareOf l G (cntN B.2.1 k m_) m_ (cntN_le hok.2.2 hk _) (by first | assumption | omega | rfl) (by first | assumption | omega | rfl)) nPs.blind 2 q803 q804 q45 q805 (by decide +kernel) ⟨⟨Nat.le_of_ble_eq_true rfl, Nat.le_of_ble_eq_true rfl⟩, Nat.le_of_ble_eq_true rfl, Nat.le_of_ble_eq_true rfl⟩ (nPs_of hG Z va_P.m0) rfl hl.1 rfl (Nat.le_of_ble_eq_true rfl) dX1_share_7) (fun r7 hp7 => ?_)
  have he7 := hp7
  have he7 : r7 = nI (shN (cntN B.2.1 k m_) m_) := he7
  subst he7
  exact ret (nI (shN (cntN B.2.1 k m_) m_)) () dX1_share_10 (by first | rfl | assumption | omega | simp_all) Z (Nat.le_of_ble_eq_true rfl) (Nat.le_of_ble_eq_true rfl)
set_option maxHeartbeats 4000000 in
set_option maxRecDepth 100000 in
theorem B_exact (l : Launch) (G : nG) (rc : va_W) (q : Nat) (B : nBe) (hB : iBench G rc q B) (hok : beOk B) : nMq (S := Nat × (Nat → Int32)) l yX1_exact cX1_exact 4 ((.array .int)) 3 1 16 64 G [.ref q] ([]) rc (fun (u : Nat × (Nat → Int32)) => [(u.1, .inl (G.1.1 100, 16, .inl u.2))]) (fun (r : Option Nat) (u : Nat × (Nat → Int32)) => r = (some u.1) ∧ (∀ v_, v_ < B.1 → u.2 v_ = nI (exN B.2.1 v_))) := by
  refine nMq.of (own := "ShareStreams$Bench") rfl (by decide +kernel) (Nat.le_of_ble_eq_true rfl) (Or.inr ⟨_, rfl⟩) ?_
  intro p e s m args below meth c A Q ls hx hb hml hown hts hin hG Z hl ret
  have hl : lv_has ls 4 [(0, .ref q)] := hl
  have Z : nW G A ([]) ([]) rc s.heap _ _ := Z
  obtain ⟨b_, hm1, hL⟩ := id hB
  have hL0 := hL
  obtain ⟨c_, ea_, cap_, f_, hm2, hm3, hel⟩ := hL0
  obtain ⟨hn, ⟨hlen1, hlen2⟩, ok⟩ := id hok
  refine lv_bipush (v := nI 16) hx hb dX1_exact_0 rfl ?_
  refine r_newi hx hb hts q186 hG Z (by decide) (Nat.le_of_ble_eq_true rfl) (Nat.le_of_ble_eq_true rfl) dX1_exact_2 (fun e1 H Z => ?_)
  have Z : nW G A ([(e1, .inl (G.1.1 100, 16, .inl (fun _ => 0)))]) ([]) rc s.heap _ _ := Z
  refine lv_astore_n (lv' := [(1, .ref e1), (0, .ref q)]) hx hb dX1_exact_4 rfl hl (by decide) rfl (fun ls hl => ?_)
  refine lv_iconst (v := nI 0) hx hb dX1_exact_5 rfl ?_
  refine lv_istore_n (lv' := [(2, .int (nI 0)), (1, .ref e1), (0, .ref q)]) hx hb dX1_exact_6 rfl hl (by decide) rfl (fun ls hl => ?_)
  have L7 : ∀ (k_ : Nat) (k : Nat) (ex : Nat → Int32) (g1 : k ≤ B.1) (g2 : ∀ j, j < k → ex j = nI (exN B.2.1 j)) (hk_ : B.1 - k < k_) (H : Heap) (locs : List Loc), nW G A ([(e1, .inl (G.1.1 100, 16, .inl ex))]) ([]) rc s.heap H locs → ∀ (ls : Array Slot), lv_has ls 4 [(2, .int (nI k)), (1, .ref e1), (0, .ref q)] → W p l e (nRm 3 1 16 64) s m args below meth c H locs 1 16 Q (F0 m 7 ls []) := by
    intro k_
    induction k_ with
    | zero => intro k ex g1 g2 hk_; exact absurd hk_ (Nat.not_lt_zero _)
    | succ k_ ih_L7 =>
      intro k ex g1 g2 hk_ H locs Z ls hl
      refine lv_iload_n hx hb dX1_exact_7 rfl (lv_at hl 0 rfl) ?_
      refine lv_aload_n hx hb dX1_exact_8 rfl (lv_at hl 2 rfl) ?_
      refine r_get (v := .ref b_) hx hb hts in_X1 hown hG (va_P.m1 Z.rc hm1 va_P.m0) 0 rfl rfl 0 (by decide) q106 (fun _ h9 => h9) rfl dX1_exact_9 ?_
      refine ns_i (k := 5) (nr_F (C := "java/util/ArrayList") (ci := 3) (As := []) (rest := [.int (nI k)]) hx hb hml hown hts hG (J2_sz l G b_ c_ ea_ B.1) nPs.blind 0 q206 q196 q198 q48 q200 (by decide +kernel) (by decide +kernel) ⟨⟨Nat.le_of_ble_eq_true rfl, Nat.le_of_ble_eq_true rfl⟩, Nat.le_of_ble_eq_true rfl, Nat.le_of_ble_eq_true rfl⟩ rfl rfl (r_recv hG (va_P.m1 Z.rc hm2 va_P.m0) 0 (C := "java/util/ArrayList") rfl rfl rfl) (nPs_of hG Z (va_P.m1 Z.rc hm2 va_P.m0)) rfl hl.1 rfl (Nat.le_of_ble_eq_true rfl) dX1_exact_12) (fun r12 hp12 => ?_)
      have he12 := hp12
      have he12 : r12 = nI B.1 := he12
      subst he12
      refine lv_icmp_ge (tgt := 121) hx hb dX1_exact_17 (by decide) (fun c17 => ?_) (fun c17 => ?_)
      · skip
        have c17 := n_le_t (a := B.1) (b := k) c17 (by omega) (by omega)
        have c17 : k = B.1 := by omega
        subst c17
        refine lv_aload_n hx hb dX1_exact_121 rfl (lv_at hl 1 rfl) ?_
        exact ret (some e1) (e1, ex) dX1_exact_122 (⟨rfl, g2⟩) Z (Nat.le_of_ble_eq_true rfl) (Nat.le_of_ble_eq_true rfl)
      · skip
        have c17 := n_le_f (a := B.1) (b := k) c17 (by omega) (by omega)
        obtain ⟨hm3a, hm3b, hm3c⟩ := hm3.resolve_left (by omega)
        obtain ⟨y_, hy_, hln⟩ := hel k (by omega)
        have hln0 := hln
        obtain ⟨a_, L_, fl_, hm4, hm5, hL_, hrow⟩ := hln0
        have hi_ := hm3c
        have hokk := ok k (by omega)
        obtain ⟨⟨hk0, hk6⟩, ls0, ls1, ls2, ls3, ls6, ln3, ln2⟩ := id hokk
        refine lv_aload_n hx hb dX1_exact_20 rfl (lv_at hl 2 rfl) ?_
        refine r_get (v := .ref b_) hx hb hts in_X1 hown hG (va_P.m1 Z.rc hm1 va_P.m0) 0 rfl rfl 0 (by decide) q106 (fun _ h9 => h9) rfl dX1_exact_21 ?_
        refine lv_iload_n hx hb dX1_exact_24 rfl (lv_at hl 0 rfl) ?_
        refine ns_q (k := 5) (nr_F (C := "java/util/ArrayList") (ci := 3) (As := [.int (nI k)]) (rest := []) hx hb hml hown hts hG (J2_g l G b_ c_ ea_ B.1 cap_ f_ k (by omega) hm3b (by omega)) nPs.blind 1 q208 q211 q213 q48 q215 (by decide +kernel) (by decide +kernel) ⟨⟨Nat.le_of_ble_eq_true rfl, Nat.le_of_ble_eq_true rfl⟩, Nat.le_of_ble_eq_true rfl, Nat.le_of_ble_eq_true rfl⟩ rfl rfl (r_recv hG (va_P.m1 Z.rc hm2 va_P.m0) 0 (C := "java/util/ArrayList") rfl rfl rfl) (nPs_of hG Z (va_P.m1 Z.rc hm2 (va_P.m1 Z.rc hm3a va_P.m0))) rfl hl.1 rfl (Nat.le_of_ble_eq_true rfl) dX1_exact_25) (fun r25 hp25 => ?_)
        have he25 := hp25
        have he25 : r25 = f_ k := he25
        subst he25
        rw [hy_]
        refine r_cast (C := "ShareStreams$Plain") hx hb hts hown q226 q342 hG (r_recv hG (va_P.m1 Z.rc hm4 va_P.m0) 0 (C := "ShareStreams$Plain") rfl rfl rfl) dX1_exact_30 ?_
        refine lv_astore_n (lv' := [(3, .ref y_), (2, .int (nI k)), (1, .ref e1), (0, .ref q)]) hx hb dX1_exact_33 rfl hl (by decide) rfl (fun ls hl => ?_)
        refine lv_aload_n hx hb dX1_exact_34 rfl (lv_at hl 2 rfl) ?_
        refine lv_iload_n hx hb dX1_exact_35 rfl (lv_at hl 1 rfl) ?_
        refine lv_aload_n hx hb dX1_exact_36 rfl (lv_at hl 0 rfl) ?_
        refine lv_aload_n hx hb dX1_exact_37 rfl (lv_at hl 0 rfl) ?_
        refine lv_iconst (v := nI 0) hx hb dX1_exact_38 rfl ?_
        refine ns_i (k := 5) (nr_D (As := [.int (nI 0)]) (rest := [.ref y_, .int (nI k), .ref e1]) hx hb hml hown hts hG (L_isLine l G rc y_ (B.2.1 k) (kd B.2.1 k) 0 (by first | assumption | omega | rfl) (by first | assumption | omega | rfl) (by first | assumption | omega | rfl) (by first | assumption | omega | rfl)) nPs.blind 1 q812 q603 q54 q605 (by decide +kernel) (by decide +kernel) ⟨⟨Nat.le_of_ble_eq_true rfl, Nat.le_of_ble_eq_true rfl⟩, Nat.le_of_ble_eq_true rfl, Nat.le_of_ble_eq_true rfl⟩ (r_recv hG (va_P.m1 Z.rc hm4 va_P.m0) 0 (C := "ShareStreams$Plain") rfl rfl rfl) (nPs_of hG Z Z.rc) rfl hl.1 rfl (Nat.le_of_ble_eq_true rfl) dX1_exact_39) (fun r39 hp39 => ?_)
        have he39 := hp39
        have he39 : r39 = bI (decide (0 < lnBy (kd B.2.1 k))) := he39
        subst he39
        have J61 : ∀ (x0 : Nat) (hx0 : x0 = if 0 < lnBy (kd B.2.1 k) then exN B.2.1 (nm B.2.1 k (0 + 1)) else 0) (H : Heap) (locs : List Loc), nW G A ([(e1, .inl (G.1.1 100, 16, .inl ex))]) ([]) rc s.heap H locs → ∀ (ls : Array Slot), lv_has ls 4 [(3, .ref y_), (2, .int (nI k)), (1, .ref e1), (0, .ref q)] → W p l e (nRm 3 1 16 64) s m args below meth c H locs 1 16 Q (F0 m 61 ls [.long (lN x0), .ref y_, .int (nI k), .ref e1]) := by
          intro x0 hx0 H locs Z ls hl
          refine lv_aload_n hx hb dX1_exact_61 rfl (lv_at hl 0 rfl) ?_
          refine lv_iconst (v := nI 1) hx hb dX1_exact_62 rfl ?_
          refine ns_i (k := 5) (nr_D (As := [.int (nI 1)]) (rest := [.long (lN x0), .ref y_, .int (nI k), .ref e1]) hx hb hml hown hts hG (L_isLine l G rc y_ (B.2.1 k) (kd B.2.1 k) 1 (by first | assumption | omega | rfl) (by first | assumption | omega | rfl) (by first | assumption | omega | rfl) (by first | assumption | omega | rfl)) nPs.blind 1 q812 q603 q54 q605 (by decide +kernel) (by decide +kernel) ⟨⟨Nat.le_of_ble_eq_true rfl, Nat.le_of_ble_eq_true rfl⟩, Nat.le_of_ble_eq_true rfl, Nat.le_of_ble_eq_true rfl⟩ (r_recv hG (va_P.m1 Z.rc hm4 va_P.m0) 0 (C := "ShareStreams$Plain") rfl rfl rfl) (nPs_of hG Z Z.rc) rfl hl.1 rfl (Nat.le_of_ble_eq_true rfl) dX1_exact_63) (fun r63 hp63 => ?_)
          have he63 := hp63
          have he63 : r63 = bI (decide (1 < lnBy (kd B.2.1 k))) := he63
          subst he63
          have J85 : ∀ (x1 : Nat) (hx1 : x1 = if 1 < lnBy (kd B.2.1 k) then exN B.2.1 (nm B.2.1 k (1 + 1)) else 0) (H : Heap) (locs : List Loc), nW G A ([(e1, .inl (G.1.1 100, 16, .inl ex))]) ([]) rc s.heap H locs → ∀ (ls : Array Slot), lv_has ls 4 [(3, .ref y_), (2, .int (nI k)), (1, .ref e1), (0, .ref q)] → W p l e (nRm 3 1 16 64) s m args below meth c H locs 1 16 Q (F0 m 85 ls [.long (lN x1), .long (lN x0), .ref y_, .int (nI k), .ref e1]) := by
            intro x1 hx1 H locs Z ls hl
            refine lv_aload_n hx hb dX1_exact_85 rfl (lv_at hl 0 rfl) ?_
            refine lv_iconst (v := nI 2) hx hb dX1_exact_86 rfl ?_
            refine ns_i (k := 5) (nr_D (As := [.int (nI 2)]) (rest := [.long (lN x1), .long (lN x0), .ref y_, .int (nI k), .ref e1]) hx hb hml hown hts hG (L_isLine l G rc y_ (B.2.1 k) (kd B.2.1 k) 2 (by first | assumption | omega | rfl) (by first | assumption | omega | rfl) (by first | assumption | omega | rfl) (by first | assumption | omega | rfl)) nPs.blind 1 q812 q603 q54 q605 (by decide +kernel) (by decide +kernel) ⟨⟨Nat.le_of_ble_eq_true rfl, Nat.le_of_ble_eq_true rfl⟩, Nat.le_of_ble_eq_true rfl, Nat.le_of_ble_eq_true rfl⟩ (r_recv hG (va_P.m1 Z.rc hm4 va_P.m0) 0 (C := "ShareStreams$Plain") rfl rfl rfl) (nPs_of hG Z Z.rc) rfl hl.1 rfl (Nat.le_of_ble_eq_true rfl) dX1_exact_87) (fun r87 hp87 => ?_)
            have he87 := hp87
            have he87 : r87 = bI (decide (2 < lnBy (kd B.2.1 k))) := he87
            subst he87
            have J109 : ∀ (x2 : Nat) (hx2 : x2 = if 2 < lnBy (kd B.2.1 k) then exN B.2.1 (nm B.2.1 k (2 + 1)) else 0) (H : Heap) (locs : List Loc), nW G A ([(e1, .inl (G.1.1 100, 16, .inl ex))]) ([]) rc s.heap H locs → ∀ (ls : Array Slot), lv_has ls 4 [(3, .ref y_), (2, .int (nI k)), (1, .ref e1), (0, .ref q)] → W p l e (nRm 3 1 16 64) s m args below meth c H locs 1 16 Q (F0 m 109 ls [.long (lN x2), .long (lN x1), .long (lN x0), .ref y_, .int (nI k), .ref e1]) := by
              intro x2 hx2 H locs Z ls hl
              have hw0 := ex_w (w := 0) ok (show k < B.1 by omega)
              have hw1 := ex_w (w := 1) ok (show k < B.1 by omega)
              have hw2 := ex_w (w := 2) ok (show k < B.1 by omega)
              refine ns_i (k := 5) (nr_D (As := [.long (lN x0), .long (lN x1), .long (lN x2)]) (rest := [.int (nI k), .ref e1]) hx hb hml hown hts hG (L_share l G rc y_ (B.2.1 k) (kd B.2.1 k) (nm B.2.1 k 1) x0 x1 x2 (by first | assumption | omega | rfl) (by first | assumption | omega | rfl) (by first | assumption | omega | rfl) (fun z => (ls0 z).1) (by rw [hx0]; exact hw0) (by rw [hx1]; exact hw1) (by rw [hx2]; exact hw2)) nPs.blind 3 q816 q820 q54 q822 (by decide +kernel) (by decide +kernel) ⟨⟨Nat.le_of_ble_eq_true rfl, Nat.le_of_ble_eq_true rfl⟩, Nat.le_of_ble_eq_true rfl, Nat.le_of_ble_eq_true rfl⟩ (r_recv hG (va_P.m1 Z.rc hm4 va_P.m0) 0 (C := "ShareStreams$Plain") rfl rfl rfl) (nPs_of hG Z Z.rc) rfl hl.1 rfl (Nat.le_of_ble_eq_true rfl) dX1_exact_109) (fun r109 hp109 => ?_)
              have he109 := hp109
              have he109 : r109 = nI (leN (kd B.2.1 k) (nm B.2.1 k 1) x0 x1 x2) := he109
              subst he109
              refine r_iast hx hb hG Z 0 rfl (j := k) (by omega) (by decide) (wc' := [(e1, .inl (G.1.1 100, 16, .inl (upd ex k (nI (leN (kd B.2.1 k) (nm B.2.1 k 1) x0 x1 x2)))))]) rfl dX1_exact_114 (fun H locs Z => ?_)
              refine lv_iinc (v := nI (k + 1)) (lv' := [(2, .int (nI (k + 1))), (3, .ref y_), (1, .ref e1), (0, .ref q)]) hx hb dX1_exact_115 hl (k := 1) rfl (nI_add _ _) (by decide) rfl (fun ls hl => ?_)
              refine lv_goto (tgt := 7) hx hb dX1_exact_118 (by decide) ?_
              exact ih_L7 (k + 1) (upd ex k (nI (leN (kd B.2.1 k) (nm B.2.1 k 1) x0 x1 x2))) (by first | assumption | omega) (lt_succ_of (upd_lt g2) (by rw [upd_s, hx0, hx1, hx2, ex_leN ok (by omega)])) (by omega) _ _ Z _ (lv_sub hl [0, 2, 3] rfl)
            refine lv_if_eq (tgt := 108) hx hb dX1_exact_92 (by decide) (fun c92 => ?_) (fun c92 => ?_)
            · skip
              have c92 := bI_f c92
              refine lv_lconst (v := lN 0) hx hb dX1_exact_108 rfl ?_
              exact J109 0 (by first | (rw [if_pos (of_decide_eq_true c92)]; done) | (rw [if_neg (of_decide_eq_false c92)]; done)) _ _ Z _ (lv_sub hl [0, 1, 2, 3] rfl)
            · skip
              have c92 := bI_t c92
              have hb2 := by_lt hokk (w := 2 + 1) (by omega) (of_decide_eq_true c92)
              have hxl2 := ex_le ok (Nat.lt_trans hb2.2 (show k < B.1 by omega))
              refine lv_aload_n hx hb dX1_exact_95 rfl (lv_at hl 2 rfl) ?_
              refine lv_aload_n hx hb dX1_exact_96 rfl (lv_at hl 0 rfl) ?_
              refine lv_iconst (v := nI 2) hx hb dX1_exact_97 rfl ?_
              refine ns_i (k := 5) (nr_F (C := "ShareStreams$Plain") (ci := 4) (As := [.int (nI 2)]) (rest := [.ref e1, .long (lN x1), .long (lN x0), .ref y_, .int (nI k), .ref e1]) hx hb hml hown hts hG (L_num l G rc y_ (B.2.1 k) 2 (by first | assumption | omega | rfl) (by first | assumption | omega | rfl)) nPs.blind 1 q814 q353 q355 q55 q357 (by decide +kernel) (by decide +kernel) ⟨⟨Nat.le_of_ble_eq_true rfl, Nat.le_of_ble_eq_true rfl⟩, Nat.le_of_ble_eq_true rfl, Nat.le_of_ble_eq_true rfl⟩ rfl rfl (r_recv hG (va_P.m1 Z.rc hm4 va_P.m0) 0 (C := "ShareStreams$Plain") rfl rfl rfl) (nPs_of hG Z Z.rc) rfl hl.1 rfl (Nat.le_of_ble_eq_true rfl) dX1_exact_98) (fun r98 hp98 => ?_)
              have he98 := hp98
              have he98 : r98 = (B.2.1 k) (2 + 1) := he98
              subst he98
              refine r_as (z := nI (nm B.2.1 k (2 + 1))) hb2.1 ?_
              refine r_iald hx hb hG Z.w 0 rfl (j := nm B.2.1 k (2 + 1)) (by omega) (by decide) (v := nI (exN B.2.1 (nm B.2.1 k (2 + 1)))) (g2 _ hb2.2) dX1_exact_103 ?_
              refine lv_i2l (v := lN (exN B.2.1 (nm B.2.1 k (2 + 1)))) hx hb dX1_exact_104 (nI_l (by omega)) ?_
              refine lv_goto (tgt := 109) hx hb dX1_exact_105 (by decide) ?_
              exact J109 (exN B.2.1 (nm B.2.1 k (2 + 1))) (by first | (rw [if_pos (of_decide_eq_true c92)]; done) | (rw [if_neg (of_decide_eq_false c92)]; done)) _ _ Z _ (lv_sub hl [0, 1, 2, 3] rfl)
          refine lv_if_eq (tgt := 84) hx hb dX1_exact_68 (by decide) (fun c68 => ?_) (fun c68 => ?_)
          · skip
            have c68 := bI_f c68
            refine lv_lconst (v := lN 0) hx hb dX1_exact_84 rfl ?_
            exact J85 0 (by first | (rw [if_pos (of_decide_eq_true c68)]; done) | (rw [if_neg (of_decide_eq_false c68)]; done)) _ _ Z _ (lv_sub hl [0, 1, 2, 3] rfl)
          · skip
            have c68 := bI_t c68
            have hb1 := by_lt hokk (w := 1 + 1) (by omega) (of_decide_eq_true c68)
            have hxl1 := ex_le ok (Nat.lt_trans hb1.2 (show k < B.1 by omega))
            refine lv_aload_n hx hb dX1_exact_71 rfl (lv_at hl 2 rfl) ?_
            refine lv_aload_n hx hb dX1_exact_72 rfl (lv_at hl 0 rfl) ?_
            refine lv_iconst (v := nI 1) hx hb dX1_exact_73 rfl ?_
            refine ns_i (k := 5) (nr_F (C := "ShareStreams$Plain") (ci := 4) (As := [.int (nI 1)]) (rest := [.ref e1, .long (lN x0), .ref y_, .int (nI k), .ref e1]) hx hb hml hown hts hG (L_num l G rc y_ (B.2.1 k) 1 (by first | assumption | omega | rfl) (by first | assumption | omega | rfl)) nPs.blind 1 q814 q353 q355 q55 q357 (by decide +kernel) (by decide +kernel) ⟨⟨Nat.le_of_ble_eq_true rfl, Nat.le_of_ble_eq_true rfl⟩, Nat.le_of_ble_eq_true rfl, Nat.le_of_ble_eq_true rfl⟩ rfl rfl (r_recv hG (va_P.m1 Z.rc hm4 va_P.m0) 0 (C := "ShareStreams$Plain") rfl rfl rfl) (nPs_of hG Z Z.rc) rfl hl.1 rfl (Nat.le_of_ble_eq_true rfl) dX1_exact_74) (fun r74 hp74 => ?_)
            have he74 := hp74
            have he74 : r74 = (B.2.1 k) (1 + 1) := he74
            subst he74
            refine r_as (z := nI (nm B.2.1 k (1 + 1))) hb1.1 ?_
            refine r_iald hx hb hG Z.w 0 rfl (j := nm B.2.1 k (1 + 1)) (by omega) (by decide) (v := nI (exN B.2.1 (nm B.2.1 k (1 + 1)))) (g2 _ hb1.2) dX1_exact_79 ?_
            refine lv_i2l (v := lN (exN B.2.1 (nm B.2.1 k (1 + 1)))) hx hb dX1_exact_80 (nI_l (by omega)) ?_
            refine lv_goto (tgt := 85) hx hb dX1_exact_81 (by decide) ?_
            exact J85 (exN B.2.1 (nm B.2.1 k (1 + 1))) (by first | (rw [if_pos (of_decide_eq_true c68)]; done) | (rw [if_neg (of_decide_eq_false c68)]; done)) _ _ Z _ (lv_sub hl [0, 1, 2, 3] rfl)
        refine lv_if_eq (tgt := 60) hx hb dX1_exact_44 (by decide) (fun c44 => ?_) (fun c44 => ?_)
        · skip
          have c44 := bI_f c44
          refine lv_lconst (v := lN 0) hx hb dX1_exact_60 rfl ?_
          exact J61 0 (by first | (rw [if_pos (of_decide_eq_true c44)]; done) | (rw [if_neg (of_decide_eq_false c44)]; done)) _ _ Z _ (lv_sub hl [0, 1, 2, 3] rfl)
        · skip
          have c44 := bI_t c44
          have hb0 := by_lt hokk (w := 0 + 1) (by omega) (of_decide_eq_true c44)
          have hxl0 := ex_le ok (Nat.lt_trans hb0.2 (show k < B.1 by omega))
          refine lv_aload_n hx hb dX1_exact_47 rfl (lv_at hl 2 rfl) ?_
          refine lv_aload_n hx hb dX1_exact_48 rfl (lv_at hl 0 rfl) ?_
          refine lv_iconst (v := nI 0) hx hb dX1_exact_49 rfl ?_
          refine ns_i (k := 5) (nr_F (C := "ShareStreams$Plain") (ci := 4) (As := [.int (nI 0)]) (rest := [.ref e1, .ref y_, .int (nI k), .ref e1]) hx hb hml hown hts hG (L_num l G rc y_ (B.2.1 k) 0 (by first | assumption | omega | rfl) (by first | assumption | omega | rfl)) nPs.blind 1 q814 q353 q355 q55 q357 (by decide +kernel) (by decide +kernel) ⟨⟨Nat.le_of_ble_eq_true rfl, Nat.le_of_ble_eq_true rfl⟩, Nat.le_of_ble_eq_true rfl, Nat.le_of_ble_eq_true rfl⟩ rfl rfl (r_recv hG (va_P.m1 Z.rc hm4 va_P.m0) 0 (C := "ShareStreams$Plain") rfl rfl rfl) (nPs_of hG Z Z.rc) rfl hl.1 rfl (Nat.le_of_ble_eq_true rfl) dX1_exact_50) (fun r50 hp50 => ?_)
          have he50 := hp50
          have he50 : r50 = (B.2.1 k) (0 + 1) := he50
          subst he50
          refine r_as (z := nI (nm B.2.1 k (0 + 1))) hb0.1 ?_
          refine r_iald hx hb hG Z.w 0 rfl (j := nm B.2.1 k (0 + 1)) (by omega) (by decide) (v := nI (exN B.2.1 (nm B.2.1 k (0 + 1)))) (g2 _ hb0.2) dX1_exact_55 ?_
          refine lv_i2l (v := lN (exN B.2.1 (nm B.2.1 k (0 + 1)))) hx hb dX1_exact_56 (nI_l (by omega)) ?_
          refine lv_goto (tgt := 61) hx hb dX1_exact_57 (by decide) ?_
          exact J61 (exN B.2.1 (nm B.2.1 k (0 + 1))) (by first | (rw [if_pos (of_decide_eq_true c44)]; done) | (rw [if_neg (of_decide_eq_false c44)]; done)) _ _ Z _ (lv_sub hl [0, 1, 2, 3] rfl)
  exact L7 _ 0 (fun _ => 0) (by first | assumption | omega) (fun j hj => absurd hj (Nat.not_lt_zero _)) (Nat.lt_succ_self _) _ _ Z _ (lv_sub hl [0, 1, 2] rfl)
theorem ex_seed {F : Nat → Nat → Int32} {n k s : Nat} (ok : ∀ k, k < n → lnOk F k) (h0 : kd F k = 0) {j : Nat} (hj : j < n) : exN (seedF F k s) j = exN F j :=
  recN_cong (fun k hk g g' e => eStep_dep (ok k hk) g g' e) (fun i hi g => by
    by_cases e : i = k
    · subst e
      have e1 : kd (seedF F i s) i = 0 := by rw [← h0]; simp [kd, seedF]
      have e2 : nm (seedF F i s) i 1 = nm F i 1 := by simp [nm, seedF]
      unfold eStep
      rw [if_pos e1, if_pos h0, e2]
    · have e1 : kd (seedF F k s) i = kd F i := by simp [kd, seedF, e]
      have e2 : ∀ w, nm (seedF F k s) i w = nm F i w := fun w => by simp [nm, seedF, e]
      unfold eStep
      rw [e1, e2, e2, e2]) hj
theorem stF_le (p : Nat → Bool) (n : Nat) : 1 ≤ stF p n ∧ stF p n ≤ n + 1 := by
  induction n with
  | zero => simp [stF]
  | succ n ih => rw [stF]; split <;> omega
theorem min_s {w m : Nat} (h : w < m) : min w m = w ∧ min (w + 1) m = w + 1 := by omega
theorem min_n {w m : Nat} (h : ¬ w < m) : min (w + 1) m = min w m := by omega
set_option maxHeartbeats 4000000 in
set_option maxRecDepth 100000 in
theorem B_error (l : Launch) (G : nG) (rc : va_W) (q : Nat) (B : nBe) (k : Nat) (m_ : Nat) (hB : iBench G rc q B) (hok : beOk B) (hk : k < B.1) (hm : m_ ≤ 1000) (hm0 : 0 < m_) : nMi (S := Unit) l yX1_error cX1_error 3 (.int) 7 4 1066 157 G [.ref q, .int (nI k), .int (nI m_)] ([]) rc (fun (u : Unit) => []) (fun (r : Int32) (u : Unit) => r = (nI (errN B.2.1 k m_))) := by
  refine nMi.of (own := "ShareStreams$Bench") rfl (by decide +kernel) (Nat.le_of_ble_eq_true rfl) (fun _ _ _ => rfl) ?_
  intro p e s m args below meth c A Q ls hx hb hml hown hts hin hG Z hl ret
  have hl : lv_has ls 3 [(0, .ref q), (1, .int (nI k)), (2, .int (nI m_))] := hl
  have Z : nW G A ([]) ([]) rc s.heap _ _ := Z
  obtain ⟨b_, hm1, hL⟩ := id hB
  have hL0 := hL
  obtain ⟨c_, ea_, cap_, f_, hm2, hm3, hel⟩ := hL0
  obtain ⟨hn, ⟨hlen1, hlen2⟩, ok⟩ := id hok
  refine lv_aload_n hx hb dX1_error_0 rfl (lv_at hl 0 rfl) ?_
  refine lv_iload_n hx hb dX1_error_1 rfl (lv_at hl 1 rfl) ?_
  refine lv_iload_n hx hb dX1_error_2 rfl (lv_at hl 2 rfl) ?_
  refine nc_i (k := 3) (wcc := []) (wr := []) (nr_V (As := [.int (nI k), .int (nI m_)]) (rest := []) hx hb hml hown hts ((B_share l G rc q B k m_ (by first | assumption | omega | rfl) (by first | assumption | omega | rfl) (by first | assumption | omega | rfl) (by first | assumption | omega | rfl) (by first | assumption | omega | rfl)) _) nP.blind 2 q830 q799 q800 q45 q801 (by decide +kernel) ⟨⟨Nat.le_of_ble_eq_true rfl, Nat.le_of_ble_eq_true rfl⟩, Nat.le_of_ble_eq_true rfl, Nat.le_of_ble_eq_true rfl⟩ (r_recv hG (va_P.m1 Z.rc hm1 va_P.m0) 0 (C := "ShareStreams$Bench") rfl rfl rfl) (nP_of hG Z [] rfl (by decide) Z.rc (Z.apR [] rfl)) rfl hl.1 rfl (Nat.le_of_ble_eq_true rfl) dX1_error_3) Z [] [] rfl rfl (by decide) (by decide) (fun r3 u H locs hp3 Z => ?_)
  have he3 := hp3
  have he3 : r3 = nI (shN (cntN B.2.1 k m_) m_) := he3
  subst he3
  have Z : nW G A ([]) ([]) rc s.heap _ _ := Z
  refine lv_aload_n hx hb dX1_error_6 rfl (lv_at hl 0 rfl) ?_
  refine nc_q (k := 3) (wcc := []) (wr := []) (nr_V (As := []) (rest := [.int (nI (shN (cntN B.2.1 k m_) m_))]) hx hb hml hown hts ((B_exact l G rc q B (by first | assumption | omega | rfl) (by first | assumption | omega | rfl)) _) nP.blind 0 q831 q808 q809 q45 q810 (by decide +kernel) ⟨⟨Nat.le_of_ble_eq_true rfl, Nat.le_of_ble_eq_true rfl⟩, Nat.le_of_ble_eq_true rfl, Nat.le_of_ble_eq_true rfl⟩ (r_recv hG (va_P.m1 Z.rc hm1 va_P.m0) 0 (C := "ShareStreams$Bench") rfl rfl rfl) (nP_of hG Z [] rfl (by decide) Z.rc (Z.apR [] rfl)) rfl hl.1 rfl (Nat.le_of_ble_eq_true rfl) dX1_error_7) Z [] [] rfl rfl (by decide) (by decide) (fun r7 u H locs hp7 Z => ?_)
  obtain ⟨e1_7, ex_7⟩ := u
  obtain ⟨he7, hp7⟩ := hp7
  have he7 : r7 = some e1_7 := he7
  subst he7
  have hp7 : ∀ v_, v_ < B.1 → ex_7 v_ = nI (exN B.2.1 v_) := hp7
  have Z : nW G A ([(e1_7, .inl (G.1.1 100, 16, .inl ex_7))]) ([]) rc s.heap _ _ := Z
  refine lv_iload_n hx hb dX1_error_10 rfl (lv_at hl 1 rfl) ?_
  refine r_iald hx hb hG Z.w 0 rfl (j := k) (by omega) (by decide) (v := nI (exN B.2.1 k)) (hp7 k hk) dX1_error_11 ?_
  refine lv_isub hx hb dX1_error_12 ?_
  refine va_mabs hx hb (hml.trans hl.1.symm) hown (hts _ q832) (hts _ q833) (hts _ q59) (hts _ q834) (Nat.le_of_ble_eq_true rfl) (Nat.le_of_ble_eq_true rfl) (by show _ ≤ 4; omega) (by show _ ≤ 1066; omega) dX1_error_13 ?_
  refine r_as (z := nI (errN B.2.1 k m_)) (ab_ap (by have := shN_le (cntN_le ok hk m_) hm0; omega) (by have := ex_le ok hk; omega)) ?_
  exact ret (nI (errN B.2.1 k m_)) () dX1_error_16 (by first | rfl | assumption | omega | simp_all) (Z.perm ([]) [] (by decide) rfl) (Nat.le_of_ble_eq_true rfl) (Nat.le_of_ble_eq_true rfl)
set_option maxHeartbeats 4000000 in
set_option maxRecDepth 100000 in
theorem B_depths (l : Launch) (G : nG) (rc : va_W) (q : Nat) (B : nBe) (hB : iBench G rc q B) (hok : beOk B) : nMq (S := Nat × (Nat → Int32)) l yX1_depths cX1_depths 5 ((.array .int)) 3 1 16 64 G [.ref q] ([]) rc (fun (u : Nat × (Nat → Int32)) => [(u.1, .inl (G.1.1 100, 16, .inl u.2))]) (fun (r : Option Nat) (u : Nat × (Nat → Int32)) => r = (some u.1) ∧ ((∀ v_, v_ < B.1 → u.2 v_ = nI (dpN B.2.1 v_)) ∧ ∀ v_, B.1 ≤ v_ → v_ < 16 → u.2 v_ = 0)) := by
  refine nMq.of (own := "ShareStreams$Bench") rfl (by decide +kernel) (Nat.le_of_ble_eq_true rfl) (Or.inr ⟨_, rfl⟩) ?_
  intro p e s m args below meth c A Q ls hx hb hml hown hts hin hG Z hl ret
  have hl : lv_has ls 5 [(0, .ref q)] := hl
  have Z : nW G A ([]) ([]) rc s.heap _ _ := Z
  obtain ⟨b_, hm1, hL⟩ := id hB
  have hL0 := hL
  obtain ⟨c_, ea_, cap_, f_, hm2, hm3, hel⟩ := hL0
  obtain ⟨hn, ⟨hlen1, hlen2⟩, ok⟩ := id hok
  refine lv_bipush (v := nI 16) hx hb dX1_depths_0 rfl ?_
  refine r_newi hx hb hts q186 hG Z (by decide) (Nat.le_of_ble_eq_true rfl) (Nat.le_of_ble_eq_true rfl) dX1_depths_2 (fun e1 H Z => ?_)
  have Z : nW G A ([(e1, .inl (G.1.1 100, 16, .inl (fun _ => 0)))]) ([]) rc s.heap _ _ := Z
  refine lv_astore_n (lv' := [(1, .ref e1), (0, .ref q)]) hx hb dX1_depths_4 rfl hl (by decide) rfl (fun ls hl => ?_)
  refine lv_iconst (v := nI 0) hx hb dX1_depths_5 rfl ?_
  refine lv_istore_n (lv' := [(2, .int (nI 0)), (1, .ref e1), (0, .ref q)]) hx hb dX1_depths_6 rfl hl (by decide) rfl (fun ls hl => ?_)
  have L7 : ∀ (k_ : Nat) (k : Nat) (dp : Nat → Int32) (g1 : k ≤ B.1) (g2 : ∀ j, j < k → dp j = nI (dpN B.2.1 j)) (g3 : ∀ j, k ≤ j → j < 16 → dp j = 0) (hk_ : B.1 - k < k_) (H : Heap) (locs : List Loc), nW G A ([(e1, .inl (G.1.1 100, 16, .inl dp))]) ([]) rc s.heap H locs → ∀ (ls : Array Slot), lv_has ls 5 [(2, .int (nI k)), (1, .ref e1), (0, .ref q)] → W p l e (nRm 3 1 16 64) s m args below meth c H locs 1 16 Q (F0 m 7 ls []) := by
    intro k_
    induction k_ with
    | zero => intro k dp g1 g2 g3 hk_; exact absurd hk_ (Nat.not_lt_zero _)
    | succ k_ ih_L7 =>
      intro k dp g1 g2 g3 hk_ H locs Z ls hl
      refine lv_iload_n hx hb dX1_depths_7 rfl (lv_at hl 0 rfl) ?_
      refine lv_aload_n hx hb dX1_depths_8 rfl (lv_at hl 2 rfl) ?_
      refine r_get (v := .ref b_) hx hb hts in_X1 hown hG (va_P.m1 Z.rc hm1 va_P.m0) 0 rfl rfl 0 (by decide) q106 (fun _ h9 => h9) rfl dX1_depths_9 ?_
      refine ns_i (k := 5) (nr_F (C := "java/util/ArrayList") (ci := 3) (As := []) (rest := [.int (nI k)]) hx hb hml hown hts hG (J2_sz l G b_ c_ ea_ B.1) nPs.blind 0 q206 q196 q198 q48 q200 (by decide +kernel) (by decide +kernel) ⟨⟨Nat.le_of_ble_eq_true rfl, Nat.le_of_ble_eq_true rfl⟩, Nat.le_of_ble_eq_true rfl, Nat.le_of_ble_eq_true rfl⟩ rfl rfl (r_recv hG (va_P.m1 Z.rc hm2 va_P.m0) 0 (C := "java/util/ArrayList") rfl rfl rfl) (nPs_of hG Z (va_P.m1 Z.rc hm2 va_P.m0)) rfl hl.1 rfl (Nat.le_of_ble_eq_true rfl) dX1_depths_12) (fun r12 hp12 => ?_)
      have he12 := hp12
      have he12 : r12 = nI B.1 := he12
      subst he12
      refine lv_icmp_ge (tgt := 87) hx hb dX1_depths_17 (by decide) (fun c17 => ?_) (fun c17 => ?_)
      · skip
        have c17 := n_le_t (a := B.1) (b := k) c17 (by omega) (by omega)
        have c17 : k = B.1 := by omega
        subst c17
        refine lv_aload_n hx hb dX1_depths_87 rfl (lv_at hl 1 rfl) ?_
        exact ret (some e1) (e1, dp) dX1_depths_88 (⟨rfl, ⟨g2, g3⟩⟩) Z (Nat.le_of_ble_eq_true rfl) (Nat.le_of_ble_eq_true rfl)
      · skip
        have c17 := n_le_f (a := B.1) (b := k) c17 (by omega) (by omega)
        obtain ⟨hm3a, hm3b, hm3c⟩ := hm3.resolve_left (by omega)
        obtain ⟨y_, hy_, hln⟩ := hel k (by omega)
        have hln0 := hln
        obtain ⟨a_, L_, fl_, hm4, hm5, hL_, hrow⟩ := hln0
        have hi_ := hm3c
        have hokk := ok k (by omega)
        obtain ⟨⟨hk0, hk6⟩, ls0, ls1, ls2, ls3, ls6, ln3, ln2⟩ := id hokk
        refine lv_aload_n hx hb dX1_depths_20 rfl (lv_at hl 2 rfl) ?_
        refine r_get (v := .ref b_) hx hb hts in_X1 hown hG (va_P.m1 Z.rc hm1 va_P.m0) 0 rfl rfl 0 (by decide) q106 (fun _ h9 => h9) rfl dX1_depths_21 ?_
        refine lv_iload_n hx hb dX1_depths_24 rfl (lv_at hl 0 rfl) ?_
        refine ns_q (k := 5) (nr_F (C := "java/util/ArrayList") (ci := 3) (As := [.int (nI k)]) (rest := []) hx hb hml hown hts hG (J2_g l G b_ c_ ea_ B.1 cap_ f_ k (by omega) hm3b (by omega)) nPs.blind 1 q208 q211 q213 q48 q215 (by decide +kernel) (by decide +kernel) ⟨⟨Nat.le_of_ble_eq_true rfl, Nat.le_of_ble_eq_true rfl⟩, Nat.le_of_ble_eq_true rfl, Nat.le_of_ble_eq_true rfl⟩ rfl rfl (r_recv hG (va_P.m1 Z.rc hm2 va_P.m0) 0 (C := "java/util/ArrayList") rfl rfl rfl) (nPs_of hG Z (va_P.m1 Z.rc hm2 (va_P.m1 Z.rc hm3a va_P.m0))) rfl hl.1 rfl (Nat.le_of_ble_eq_true rfl) dX1_depths_25) (fun r25 hp25 => ?_)
        have he25 := hp25
        have he25 : r25 = f_ k := he25
        subst he25
        rw [hy_]
        refine r_cast (C := "ShareStreams$Plain") hx hb hts hown q226 q342 hG (r_recv hG (va_P.m1 Z.rc hm4 va_P.m0) 0 (C := "ShareStreams$Plain") rfl rfl rfl) dX1_depths_30 ?_
        refine lv_astore_n (lv' := [(3, .ref y_), (2, .int (nI k)), (1, .ref e1), (0, .ref q)]) hx hb dX1_depths_33 rfl hl (by decide) rfl (fun ls hl => ?_)
        refine lv_iconst (v := nI 0) hx hb dX1_depths_34 rfl ?_
        refine lv_istore (lv' := [(4, .int (nI 0)), (3, .ref y_), (2, .int (nI k)), (1, .ref e1), (0, .ref q)]) hx hb dX1_depths_35 hl (by decide) rfl (fun ls hl => ?_)
        have L37 : ∀ (k_ : Nat) (w : Nat) (dp : Nat → Int32) (g4 : w ≤ 3) (g2 : ∀ j, j < k → dp j = nI (dpN B.2.1 j)) (g5 : dp k = nI (dpP B.2.1 (dpN B.2.1) k (min w (lnBy (kd B.2.1 k))))) (g3 : ∀ j, k + 1 ≤ j → j < 16 → dp j = 0) (hk_ : 3 - w < k_) (H : Heap) (locs : List Loc), nW G A ([(e1, .inl (G.1.1 100, 16, .inl dp))]) ([]) rc s.heap H locs → ∀ (ls : Array Slot), lv_has ls 5 [(4, .int (nI w)), (3, .ref y_), (2, .int (nI k)), (1, .ref e1), (0, .ref q)] → W p l e (nRm 3 1 16 64) s m args below meth c H locs 1 16 Q (F0 m 37 ls []) := by
          intro k_
          induction k_ with
          | zero => intro w dp g4 g2 g5 g3 hk_; exact absurd hk_ (Nat.not_lt_zero _)
          | succ k_ ih_L37 =>
            intro w dp g4 g2 g5 g3 hk_ H locs Z ls hl
            refine lv_iload hx hb dX1_depths_37 (lv_at hl 0 rfl) ?_
            refine lv_iconst (v := nI 3) hx hb dX1_depths_39 rfl ?_
            refine lv_icmp_ge (tgt := 81) hx hb dX1_depths_40 (by decide) (fun c40 => ?_) (fun c40 => ?_)
            · skip
              have c40 := n_le_t (a := 3) (b := w) c40 (by decide) (by omega)
              have c40 : w = 3 := by omega
              refine lv_iinc (v := nI (k + 1)) (lv' := [(2, .int (nI (k + 1))), (4, .int (nI w)), (3, .ref y_), (1, .ref e1), (0, .ref q)]) hx hb dX1_depths_81 hl (k := 2) rfl (nI_add _ _) (by decide) rfl (fun ls hl => ?_)
              refine lv_goto (tgt := 7) hx hb dX1_depths_84 (by decide) ?_
              exact ih_L7 (k + 1) dp (by first | assumption | omega) (lt_succ_of g2 (by rw [g5, Nat.min_eq_right (by have := lnBy_le (kd B.2.1 k); omega), dpN_eq ok (show k < B.1 by omega)]; rfl)) (fun j h1_ h2_ => g3 j (by omega) h2_) (by omega) _ _ Z _ (lv_sub hl [0, 3, 4] rfl)
            · skip
              have c40 := n_le_f (a := 3) (b := w) c40 (by decide) (by omega)
              refine lv_aload_n hx hb dX1_depths_43 rfl (lv_at hl 1 rfl) ?_
              refine lv_iload hx hb dX1_depths_44 (lv_at hl 0 rfl) ?_
              refine ns_i (k := 5) (nr_D (As := [.int (nI w)]) (rest := []) hx hb hml hown hts hG (L_isLine l G rc y_ (B.2.1 k) (kd B.2.1 k) w (by first | assumption | omega | rfl) (by first | assumption | omega | rfl) (by first | assumption | omega | rfl) (by first | assumption | omega | rfl)) nPs.blind 1 q812 q603 q54 q605 (by decide +kernel) (by decide +kernel) ⟨⟨Nat.le_of_ble_eq_true rfl, Nat.le_of_ble_eq_true rfl⟩, Nat.le_of_ble_eq_true rfl, Nat.le_of_ble_eq_true rfl⟩ (r_recv hG (va_P.m1 Z.rc hm4 va_P.m0) 0 (C := "ShareStreams$Plain") rfl rfl rfl) (nPs_of hG Z Z.rc) rfl hl.1 rfl (Nat.le_of_ble_eq_true rfl) dX1_depths_46) (fun r46 hp46 => ?_)
              have he46 := hp46
              have he46 : r46 = bI (decide (w < lnBy (kd B.2.1 k))) := he46
              subst he46
              refine lv_if_eq (tgt := 75) hx hb dX1_depths_51 (by decide) (fun c51 => ?_) (fun c51 => ?_)
              · skip
                have c51 := bI_f c51
                refine lv_iinc (v := nI (w + 1)) (lv' := [(4, .int (nI (w + 1))), (3, .ref y_), (2, .int (nI k)), (1, .ref e1), (0, .ref q)]) hx hb dX1_depths_75 hl (k := 0) rfl (nI_add _ _) (by decide) rfl (fun ls hl => ?_)
                refine lv_goto (tgt := 37) hx hb dX1_depths_78 (by decide) ?_
                exact ih_L37 (w + 1) dp (by first | assumption | omega) (by first | exact g2 | exact upd_lt g2) (by first | (rw [upd_s, (min_s (of_decide_eq_true c51)).2]; done) | (rw [min_n (of_decide_eq_false c51)]; exact g5)) (by first | exact g3 | exact fun j h1_ h2_ => by rw [upd_n (by omega)]; exact g3 j h1_ h2_) (by omega) _ _ Z _ (lv_sub hl [0, 1, 2, 3, 4] rfl)
              · skip
                have c51 := bI_t c51
                have hw9 := of_decide_eq_true c51
                have hbw := by_lt hokk (w := w + 1) (by omega) hw9
                refine lv_aload_n hx hb dX1_depths_54 rfl (lv_at hl 3 rfl) ?_
                refine lv_iload_n hx hb dX1_depths_55 rfl (lv_at hl 2 rfl) ?_
                refine lv_aload_n hx hb dX1_depths_56 rfl (lv_at hl 3 rfl) ?_
                refine lv_iload_n hx hb dX1_depths_57 rfl (lv_at hl 2 rfl) ?_
                refine r_iald hx hb hG Z.w 0 rfl (j := k) (by omega) (by decide) (v := nI (dpP B.2.1 (dpN B.2.1) k w)) (by rw [g5, (min_s hw9).1]) dX1_depths_58 ?_
                refine lv_iconst (v := nI 1) hx hb dX1_depths_59 rfl ?_
                refine lv_aload_n hx hb dX1_depths_60 rfl (lv_at hl 3 rfl) ?_
                refine lv_aload_n hx hb dX1_depths_61 rfl (lv_at hl 1 rfl) ?_
                refine lv_iload hx hb dX1_depths_62 (lv_at hl 0 rfl) ?_
                refine ns_i (k := 5) (nr_F (C := "ShareStreams$Plain") (ci := 4) (As := [.int (nI w)]) (rest := [.ref e1, .int (nI 1), .int (nI (dpP B.2.1 (dpN B.2.1) k w)), .int (nI k), .ref e1]) hx hb hml hown hts hG (L_num l G rc y_ (B.2.1 k) w (by first | assumption | omega | rfl) (by first | assumption | omega | rfl)) nPs.blind 1 q814 q353 q355 q55 q357 (by decide +kernel) (by decide +kernel) ⟨⟨Nat.le_of_ble_eq_true rfl, Nat.le_of_ble_eq_true rfl⟩, Nat.le_of_ble_eq_true rfl, Nat.le_of_ble_eq_true rfl⟩ rfl rfl (r_recv hG (va_P.m1 Z.rc hm4 va_P.m0) 0 (C := "ShareStreams$Plain") rfl rfl rfl) (nPs_of hG Z Z.rc) rfl hl.1 rfl (Nat.le_of_ble_eq_true rfl) dX1_depths_64) (fun r64 hp64 => ?_)
                have he64 := hp64
                have he64 : r64 = (B.2.1 k) (w + 1) := he64
                subst he64
                refine r_as (z := nI (nm B.2.1 k (w + 1))) hbw.1 ?_
                refine r_iald hx hb hG Z.w 0 rfl (j := nm B.2.1 k (w + 1)) (by omega) (by decide) (v := nI (dpN B.2.1 (nm B.2.1 k (w + 1)))) (g2 _ hbw.2) dX1_depths_69 ?_
                have hd1 := dpP_le hokk (g := dpN B.2.1) (fun j hj => dp_le ok (Nat.lt_trans hj (show k < B.1 by omega))) (m := w) (by omega)
                have hd2 := dp_le ok (Nat.lt_trans hbw.2 (show k < B.1 by omega))
                refine lv_iadd hx hb dX1_depths_70 ?_
                refine r_as (z := nI (1 + (dpN B.2.1 (nm B.2.1 k (w + 1))))) (nI_add _ _) ?_
                refine va_mmax hx hb (hml.trans hl.1.symm) hown (hts _ q839) (hts _ q252) (hts _ q59) (hts _ q253) (Nat.le_of_ble_eq_true rfl) (Nat.le_of_ble_eq_true rfl) (by show _ ≤ 1; omega) (by show _ ≤ 16; omega) dX1_depths_71 ?_
                refine r_as (z := nI (dpP B.2.1 (dpN B.2.1) k (w + 1))) (mx_n (by omega) (by omega)) ?_
                refine r_iast hx hb hG Z 0 rfl (j := k) (by omega) (by decide) (wc' := [(e1, .inl (G.1.1 100, 16, .inl (upd dp k (nI (dpP B.2.1 (dpN B.2.1) k (w + 1))))))]) rfl dX1_depths_74 (fun H locs Z => ?_)
                refine lv_iinc (v := nI (w + 1)) (lv' := [(4, .int (nI (w + 1))), (3, .ref y_), (2, .int (nI k)), (1, .ref e1), (0, .ref q)]) hx hb dX1_depths_75 hl (k := 0) rfl (nI_add _ _) (by decide) rfl (fun ls hl => ?_)
                refine lv_goto (tgt := 37) hx hb dX1_depths_78 (by decide) ?_
                exact ih_L37 (w + 1) (upd dp k (nI (dpP B.2.1 (dpN B.2.1) k (w + 1)))) (by first | assumption | omega) (by first | exact g2 | exact upd_lt g2) (by first | (rw [upd_s, (min_s (of_decide_eq_true c51)).2]; done) | (rw [min_n (of_decide_eq_false c51)]; exact g5)) (by first | exact g3 | exact fun j h1_ h2_ => by rw [upd_n (by omega)]; exact g3 j h1_ h2_) (by omega) _ _ Z _ (lv_sub hl [0, 1, 2, 3, 4] rfl)
        exact L37 _ 0 dp (by first | assumption | omega) (by first | assumption | omega) (by rw [Nat.zero_min]; exact g3 k (Nat.le_refl _) (by omega)) (fun j h1_ h2_ => g3 j (by omega) h2_) (Nat.lt_succ_self _) _ _ Z _ (lv_sub hl [0, 1, 2, 3, 4] rfl)
  exact L7 _ 0 (fun _ => 0) (by first | assumption | omega) (fun j hj => absurd hj (Nat.not_lt_zero _)) (fun j _ _ => rfl) (Nat.lt_succ_self _) _ _ Z _ (lv_sub hl [0, 1, 2] rfl)
set_option maxHeartbeats 4000000 in
set_option maxRecDepth 100000 in
theorem B_origins (l : Launch) (G : nG) (rc : va_W) (q : Nat) (B : nBe) (hB : iBench G rc q B) (hok : beOk B) : nMq (S := Nat × (Nat → Int32)) l yX1_origins cX1_origins 5 ((.array .int)) 3 1 16 64 G [.ref q] ([]) rc (fun (u : Nat × (Nat → Int32)) => [(u.1, .inl (G.1.1 100, 16, .inl u.2))]) (fun (r : Option Nat) (u : Nat × (Nat → Int32)) => r = (some u.1) ∧ (∀ v_, v_ < B.1 → u.2 v_ = nI (orN B.2.1 v_))) := by
  refine nMq.of (own := "ShareStreams$Bench") rfl (by decide +kernel) (Nat.le_of_ble_eq_true rfl) (Or.inr ⟨_, rfl⟩) ?_
  intro p e s m args below meth c A Q ls hx hb hml hown hts hin hG Z hl ret
  have hl : lv_has ls 5 [(0, .ref q)] := hl
  have Z : nW G A ([]) ([]) rc s.heap _ _ := Z
  obtain ⟨b_, hm1, hL⟩ := id hB
  have hL0 := hL
  obtain ⟨c_, ea_, cap_, f_, hm2, hm3, hel⟩ := hL0
  obtain ⟨hn, ⟨hlen1, hlen2⟩, ok⟩ := id hok
  refine lv_bipush (v := nI 16) hx hb dX1_origins_0 rfl ?_
  refine r_newi hx hb hts q186 hG Z (by decide) (Nat.le_of_ble_eq_true rfl) (Nat.le_of_ble_eq_true rfl) dX1_origins_2 (fun e1 H Z => ?_)
  have Z : nW G A ([(e1, .inl (G.1.1 100, 16, .inl (fun _ => 0)))]) ([]) rc s.heap _ _ := Z
  refine lv_astore_n (lv' := [(1, .ref e1), (0, .ref q)]) hx hb dX1_origins_4 rfl hl (by decide) rfl (fun ls hl => ?_)
  refine lv_iconst (v := nI 0) hx hb dX1_origins_5 rfl ?_
  refine lv_istore_n (lv' := [(2, .int (nI 0)), (1, .ref e1), (0, .ref q)]) hx hb dX1_origins_6 rfl hl (by decide) rfl (fun ls hl => ?_)
  have L7 : ∀ (k_ : Nat) (k : Nat) (og : Nat → Int32) (g1 : k ≤ B.1) (g2 : ∀ j, j < k → og j = nI (orN B.2.1 j)) (hk_ : B.1 - k < k_) (H : Heap) (locs : List Loc), nW G A ([(e1, .inl (G.1.1 100, 16, .inl og))]) ([]) rc s.heap H locs → ∀ (ls : Array Slot), lv_has ls 5 [(2, .int (nI k)), (1, .ref e1), (0, .ref q)] → W p l e (nRm 3 1 16 64) s m args below meth c H locs 1 16 Q (F0 m 7 ls []) := by
    intro k_
    induction k_ with
    | zero => intro k og g1 g2 hk_; exact absurd hk_ (Nat.not_lt_zero _)
    | succ k_ ih_L7 =>
      intro k og g1 g2 hk_ H locs Z ls hl
      refine lv_iload_n hx hb dX1_origins_7 rfl (lv_at hl 0 rfl) ?_
      refine lv_aload_n hx hb dX1_origins_8 rfl (lv_at hl 2 rfl) ?_
      refine r_get (v := .ref b_) hx hb hts in_X1 hown hG (va_P.m1 Z.rc hm1 va_P.m0) 0 rfl rfl 0 (by decide) q106 (fun _ h9 => h9) rfl dX1_origins_9 ?_
      refine ns_i (k := 5) (nr_F (C := "java/util/ArrayList") (ci := 3) (As := []) (rest := [.int (nI k)]) hx hb hml hown hts hG (J2_sz l G b_ c_ ea_ B.1) nPs.blind 0 q206 q196 q198 q48 q200 (by decide +kernel) (by decide +kernel) ⟨⟨Nat.le_of_ble_eq_true rfl, Nat.le_of_ble_eq_true rfl⟩, Nat.le_of_ble_eq_true rfl, Nat.le_of_ble_eq_true rfl⟩ rfl rfl (r_recv hG (va_P.m1 Z.rc hm2 va_P.m0) 0 (C := "java/util/ArrayList") rfl rfl rfl) (nPs_of hG Z (va_P.m1 Z.rc hm2 va_P.m0)) rfl hl.1 rfl (Nat.le_of_ble_eq_true rfl) dX1_origins_12) (fun r12 hp12 => ?_)
      have he12 := hp12
      have he12 : r12 = nI B.1 := he12
      subst he12
      refine lv_icmp_ge (tgt := 101) hx hb dX1_origins_17 (by decide) (fun c17 => ?_) (fun c17 => ?_)
      · skip
        have c17 := n_le_t (a := B.1) (b := k) c17 (by omega) (by omega)
        have c17 : k = B.1 := by omega
        subst c17
        refine lv_aload_n hx hb dX1_origins_101 rfl (lv_at hl 1 rfl) ?_
        exact ret (some e1) (e1, og) dX1_origins_102 (⟨rfl, g2⟩) Z (Nat.le_of_ble_eq_true rfl) (Nat.le_of_ble_eq_true rfl)
      · skip
        have c17 := n_le_f (a := B.1) (b := k) c17 (by omega) (by omega)
        obtain ⟨hm3a, hm3b, hm3c⟩ := hm3.resolve_left (by omega)
        obtain ⟨y_, hy_, hln⟩ := hel k (by omega)
        have hln0 := hln
        obtain ⟨a_, L_, fl_, hm4, hm5, hL_, hrow⟩ := hln0
        have hi_ := hm3c
        have hokk := ok k (by omega)
        obtain ⟨⟨hk0, hk6⟩, ls0, ls1, ls2, ls3, ls6, ln3, ln2⟩ := id hokk
        refine lv_aload_n hx hb dX1_origins_20 rfl (lv_at hl 2 rfl) ?_
        refine r_get (v := .ref b_) hx hb hts in_X1 hown hG (va_P.m1 Z.rc hm1 va_P.m0) 0 rfl rfl 0 (by decide) q106 (fun _ h9 => h9) rfl dX1_origins_21 ?_
        refine lv_iload_n hx hb dX1_origins_24 rfl (lv_at hl 0 rfl) ?_
        refine ns_q (k := 5) (nr_F (C := "java/util/ArrayList") (ci := 3) (As := [.int (nI k)]) (rest := []) hx hb hml hown hts hG (J2_g l G b_ c_ ea_ B.1 cap_ f_ k (by omega) hm3b (by omega)) nPs.blind 1 q208 q211 q213 q48 q215 (by decide +kernel) (by decide +kernel) ⟨⟨Nat.le_of_ble_eq_true rfl, Nat.le_of_ble_eq_true rfl⟩, Nat.le_of_ble_eq_true rfl, Nat.le_of_ble_eq_true rfl⟩ rfl rfl (r_recv hG (va_P.m1 Z.rc hm2 va_P.m0) 0 (C := "java/util/ArrayList") rfl rfl rfl) (nPs_of hG Z (va_P.m1 Z.rc hm2 (va_P.m1 Z.rc hm3a va_P.m0))) rfl hl.1 rfl (Nat.le_of_ble_eq_true rfl) dX1_origins_25) (fun r25 hp25 => ?_)
        have he25 := hp25
        have he25 : r25 = f_ k := he25
        subst he25
        rw [hy_]
        refine r_cast (C := "ShareStreams$Plain") hx hb hts hown q226 q342 hG (r_recv hG (va_P.m1 Z.rc hm4 va_P.m0) 0 (C := "ShareStreams$Plain") rfl rfl rfl) dX1_origins_30 ?_
        refine lv_astore_n (lv' := [(3, .ref y_), (2, .int (nI k)), (1, .ref e1), (0, .ref q)]) hx hb dX1_origins_33 rfl hl (by decide) rfl (fun ls hl => ?_)
        refine lv_aload_n hx hb dX1_origins_34 rfl (lv_at hl 2 rfl) ?_
        refine lv_iload_n hx hb dX1_origins_35 rfl (lv_at hl 1 rfl) ?_
        refine lv_aload_n hx hb dX1_origins_36 rfl (lv_at hl 0 rfl) ?_
        refine ns_i (k := 5) (nr_F (C := "ShareStreams$Plain") (ci := 4) (As := []) (rest := [.int (nI k), .ref e1]) hx hb hml hown hts hG (L_kind l G rc y_ (B.2.1 k) (by first | assumption | omega | rfl)) nPs.blind 0 q845 q343 q345 q55 q347 (by decide +kernel) (by decide +kernel) ⟨⟨Nat.le_of_ble_eq_true rfl, Nat.le_of_ble_eq_true rfl⟩, Nat.le_of_ble_eq_true rfl, Nat.le_of_ble_eq_true rfl⟩ rfl rfl (r_recv hG (va_P.m1 Z.rc hm4 va_P.m0) 0 (C := "ShareStreams$Plain") rfl rfl rfl) (nPs_of hG Z Z.rc) rfl hl.1 rfl (Nat.le_of_ble_eq_true rfl) dX1_origins_37) (fun r37 hp37 => ?_)
        have he37 := hp37
        have he37 : r37 = (B.2.1 k) 0 := he37
        subst he37
        refine r_as (z := nI (kd B.2.1 k)) hk0 ?_
        have J52 : ∀ (iv : Nat) (hiv : iv = if kd B.2.1 k = 0 then 2 ^ k else 0) (H : Heap) (locs : List Loc), nW G A ([(e1, .inl (G.1.1 100, 16, .inl og))]) ([]) rc s.heap H locs → ∀ (ls : Array Slot), lv_has ls 5 [(3, .ref y_), (2, .int (nI k)), (1, .ref e1), (0, .ref q)] → W p l e (nRm 3 1 16 64) s m args below meth c H locs 1 16 Q (F0 m 52 ls [.int (nI iv), .int (nI k), .ref e1]) := by
          intro iv hiv H locs Z ls hl
          refine r_iast hx hb hG Z 0 rfl (j := k) (by omega) (by decide) (wc' := [(e1, .inl (G.1.1 100, 16, .inl (upd og k (nI iv))))]) rfl dX1_origins_52 (fun H locs Z => ?_)
          refine lv_iconst (v := nI 0) hx hb dX1_origins_53 rfl ?_
          refine lv_istore (lv' := [(4, .int (nI 0)), (3, .ref y_), (2, .int (nI k)), (1, .ref e1), (0, .ref q)]) hx hb dX1_origins_54 hl (by decide) rfl (fun ls hl => ?_)
          have L56 : ∀ (k_ : Nat) (w : Nat) (og : Nat → Int32) (g4 : w ≤ 3) (g2 : ∀ j, j < k → og j = nI (orN B.2.1 j)) (g5 : og k = nI (if kd B.2.1 k = 0 then 2 ^ k else orP B.2.1 (orN B.2.1) k (min w (lnBy (kd B.2.1 k))))) (hk_ : 3 - w < k_) (H : Heap) (locs : List Loc), nW G A ([(e1, .inl (G.1.1 100, 16, .inl og))]) ([]) rc s.heap H locs → ∀ (ls : Array Slot), lv_has ls 5 [(4, .int (nI w)), (3, .ref y_), (2, .int (nI k)), (1, .ref e1), (0, .ref q)] → W p l e (nRm 3 1 16 64) s m args below meth c H locs 1 16 Q (F0 m 56 ls []) := by
            intro k_
            induction k_ with
            | zero => intro w og g4 g2 g5 hk_; exact absurd hk_ (Nat.not_lt_zero _)
            | succ k_ ih_L56 =>
              intro w og g4 g2 g5 hk_ H locs Z ls hl
              refine lv_iload hx hb dX1_origins_56 (lv_at hl 0 rfl) ?_
              refine lv_iconst (v := nI 3) hx hb dX1_origins_58 rfl ?_
              refine lv_icmp_ge (tgt := 95) hx hb dX1_origins_59 (by decide) (fun c59 => ?_) (fun c59 => ?_)
              · skip
                have c59 := n_le_t (a := 3) (b := w) c59 (by decide) (by omega)
                have c59 : w = 3 := by omega
                refine lv_iinc (v := nI (k + 1)) (lv' := [(2, .int (nI (k + 1))), (4, .int (nI w)), (3, .ref y_), (1, .ref e1), (0, .ref q)]) hx hb dX1_origins_95 hl (k := 2) rfl (nI_add _ _) (by decide) rfl (fun ls hl => ?_)
                refine lv_goto (tgt := 7) hx hb dX1_origins_98 (by decide) ?_
                exact ih_L7 (k + 1) og (by first | assumption | omega) (lt_succ_of g2 (by rw [g5, orN_eq ok (show k < B.1 by omega)]; unfold oStep; rw [Nat.min_eq_right (by have := lnBy_le (kd B.2.1 k); omega)]; congr 1; by_cases z : kd B.2.1 k = 0; { rw [if_pos z, if_pos (by simp [lnBy, z])] }; { rw [if_neg z, if_neg (by unfold lnBy; rw [if_neg z]; split; omega; split <;> omega)] })) (by omega) _ _ Z _ (lv_sub hl [0, 3, 4] rfl)
              · skip
                have c59 := n_le_f (a := 3) (b := w) c59 (by decide) (by omega)
                refine lv_aload_n hx hb dX1_origins_62 rfl (lv_at hl 1 rfl) ?_
                refine lv_iload hx hb dX1_origins_63 (lv_at hl 0 rfl) ?_
                refine ns_i (k := 5) (nr_D (As := [.int (nI w)]) (rest := []) hx hb hml hown hts hG (L_isLine l G rc y_ (B.2.1 k) (kd B.2.1 k) w (by first | assumption | omega | rfl) (by first | assumption | omega | rfl) (by first | assumption | omega | rfl) (by first | assumption | omega | rfl)) nPs.blind 1 q812 q603 q54 q605 (by decide +kernel) (by decide +kernel) ⟨⟨Nat.le_of_ble_eq_true rfl, Nat.le_of_ble_eq_true rfl⟩, Nat.le_of_ble_eq_true rfl, Nat.le_of_ble_eq_true rfl⟩ (r_recv hG (va_P.m1 Z.rc hm4 va_P.m0) 0 (C := "ShareStreams$Plain") rfl rfl rfl) (nPs_of hG Z Z.rc) rfl hl.1 rfl (Nat.le_of_ble_eq_true rfl) dX1_origins_65) (fun r65 hp65 => ?_)
                have he65 := hp65
                have he65 : r65 = bI (decide (w < lnBy (kd B.2.1 k))) := he65
                subst he65
                refine lv_if_eq (tgt := 89) hx hb dX1_origins_70 (by decide) (fun c70 => ?_) (fun c70 => ?_)
                · skip
                  have c70 := bI_f c70
                  refine lv_iinc (v := nI (w + 1)) (lv' := [(4, .int (nI (w + 1))), (3, .ref y_), (2, .int (nI k)), (1, .ref e1), (0, .ref q)]) hx hb dX1_origins_89 hl (k := 0) rfl (nI_add _ _) (by decide) rfl (fun ls hl => ?_)
                  refine lv_goto (tgt := 56) hx hb dX1_origins_92 (by decide) ?_
                  exact ih_L56 (w + 1) og (by first | assumption | omega) (by first | exact g2 | exact upd_lt g2) (by first | (rw [upd_s, if_neg hz9, (min_s (of_decide_eq_true c70)).2]; done) | (rw [min_n (of_decide_eq_false c70)]; exact g5)) (by omega) _ _ Z _ (lv_sub hl [0, 1, 2, 3, 4] rfl)
                · skip
                  have c70 := bI_t c70
                  have hw9 := of_decide_eq_true c70
                  have hz9 : kd B.2.1 k ≠ 0 := fun z => by rw [z] at hw9; exact absurd hw9 (Nat.not_lt_zero _)
                  have hbw := by_lt hokk (w := w + 1) (by omega) hw9
                  refine lv_aload_n hx hb dX1_origins_73 rfl (lv_at hl 3 rfl) ?_
                  refine lv_iload_n hx hb dX1_origins_74 rfl (lv_at hl 2 rfl) ?_
                  refine lv_dup2_11 hx hb dX1_origins_75 rfl rfl ?_
                  refine r_iald hx hb hG Z.w 0 rfl (j := k) (by omega) (by decide) (v := nI (orP B.2.1 (orN B.2.1) k w)) (by rw [g5, if_neg hz9, (min_s hw9).1]) dX1_origins_76 ?_
                  refine lv_aload_n hx hb dX1_origins_77 rfl (lv_at hl 3 rfl) ?_
                  refine lv_aload_n hx hb dX1_origins_78 rfl (lv_at hl 1 rfl) ?_
                  refine lv_iload hx hb dX1_origins_79 (lv_at hl 0 rfl) ?_
                  refine ns_i (k := 5) (nr_F (C := "ShareStreams$Plain") (ci := 4) (As := [.int (nI w)]) (rest := [.ref e1, .int (nI (orP B.2.1 (orN B.2.1) k w)), .int (nI k), .ref e1]) hx hb hml hown hts hG (L_num l G rc y_ (B.2.1 k) w (by first | assumption | omega | rfl) (by first | assumption | omega | rfl)) nPs.blind 1 q814 q353 q355 q55 q357 (by decide +kernel) (by decide +kernel) ⟨⟨Nat.le_of_ble_eq_true rfl, Nat.le_of_ble_eq_true rfl⟩, Nat.le_of_ble_eq_true rfl, Nat.le_of_ble_eq_true rfl⟩ rfl rfl (r_recv hG (va_P.m1 Z.rc hm4 va_P.m0) 0 (C := "ShareStreams$Plain") rfl rfl rfl) (nPs_of hG Z Z.rc) rfl hl.1 rfl (Nat.le_of_ble_eq_true rfl) dX1_origins_81) (fun r81 hp81 => ?_)
                  have he81 := hp81
                  have he81 : r81 = (B.2.1 k) (w + 1) := he81
                  subst he81
                  refine r_as (z := nI (nm B.2.1 k (w + 1))) hbw.1 ?_
                  refine r_iald hx hb hG Z.w 0 rfl (j := nm B.2.1 k (w + 1)) (by omega) (by decide) (v := nI (orN B.2.1 (nm B.2.1 k (w + 1)))) (g2 _ hbw.2) dX1_origins_86 ?_
                  refine lv_ior hx hb dX1_origins_87 ?_
                  refine r_as (z := nI (orP B.2.1 (orN B.2.1) k (w + 1))) (nx_or _ _) ?_
                  refine r_iast hx hb hG Z 0 rfl (j := k) (by omega) (by decide) (wc' := [(e1, .inl (G.1.1 100, 16, .inl (upd og k (nI (orP B.2.1 (orN B.2.1) k (w + 1))))))]) rfl dX1_origins_88 (fun H locs Z => ?_)
                  refine lv_iinc (v := nI (w + 1)) (lv' := [(4, .int (nI (w + 1))), (3, .ref y_), (2, .int (nI k)), (1, .ref e1), (0, .ref q)]) hx hb dX1_origins_89 hl (k := 0) rfl (nI_add _ _) (by decide) rfl (fun ls hl => ?_)
                  refine lv_goto (tgt := 56) hx hb dX1_origins_92 (by decide) ?_
                  exact ih_L56 (w + 1) (upd og k (nI (orP B.2.1 (orN B.2.1) k (w + 1)))) (by first | assumption | omega) (by first | exact g2 | exact upd_lt g2) (by first | (rw [upd_s, if_neg hz9, (min_s (of_decide_eq_true c70)).2]; done) | (rw [min_n (of_decide_eq_false c70)]; exact g5)) (by omega) _ _ Z _ (lv_sub hl [0, 1, 2, 3, 4] rfl)
          exact L56 _ 0 (upd og k (nI iv)) (by first | assumption | omega) (upd_lt g2) (by rw [upd_s, hiv, Nat.zero_min]; rfl) (Nat.lt_succ_self _) _ _ Z _ (lv_sub hl [0, 1, 2, 3, 4] rfl)
        refine lv_if_ne (tgt := 51) hx hb dX1_origins_42 (by decide) (fun c42 => ?_) (fun c42 => ?_)
        · skip
          have c42 := n_eq_f (a := kd B.2.1 k) (b := 0) c42
          refine lv_iconst (v := nI 0) hx hb dX1_origins_51 rfl ?_
          exact J52 0 (by first | (rw [if_pos c42]; done) | (rw [if_neg c42]; done)) _ _ Z _ (lv_sub hl [0, 1, 2, 3] rfl)
        · skip
          have c42 := n_eq_t (a := kd B.2.1 k) (b := 0) c42 (by omega) (by decide)
          refine lv_iconst (v := nI 1) hx hb dX1_origins_45 rfl ?_
          refine lv_iload_n hx hb dX1_origins_46 rfl (lv_at hl 1 rfl) ?_
          refine lv_ishl hx hb dX1_origins_47 ?_
          refine r_as (z := nI (2 ^ k)) (shl1 _ (by omega)) ?_
          refine lv_goto (tgt := 52) hx hb dX1_origins_48 (by decide) ?_
          exact J52 (2 ^ k) (by first | (rw [if_pos c42]; done) | (rw [if_neg c42]; done)) _ _ Z _ (lv_sub hl [0, 1, 2, 3] rfl)
  exact L7 _ 0 (fun _ => 0) (by first | assumption | omega) (fun j hj => absurd hj (Nat.not_lt_zero _)) (Nat.lt_succ_self _) _ _ Z _ (lv_sub hl [0, 1, 2] rfl)
set_option maxHeartbeats 4000000 in
set_option maxRecDepth 100000 in
theorem B_overlap (l : Launch) (G : nG) (rc : va_W) (q : Nat) (B : nBe) (i : Nat) (j : Nat) (hB : iBench G rc q B) (hok : beOk B) (hi : i < B.1) (hj : j < B.1) : nMl (S := Unit) l yX1_overlap cX1_overlap 11 (.long) 5 3 1050 106 G [.ref q, .int (nI i), .int (nI j)] ([]) rc (fun (u : Unit) => []) (fun (r : Int64) (u : Unit) => r = (lN (ovB B.2.1 i j B.2.2 * B.2.2) - lN (cntN B.2.1 i B.2.2 * cntN B.2.1 j B.2.2))) := by
  refine nMl.of (own := "ShareStreams$Bench") rfl (by decide +kernel) (Nat.le_of_ble_eq_true rfl) ?_
  intro p e s m args below meth c A Q ls hx hb hml hown hts hin hG Z hl ret
  have hl : lv_has ls 11 [(0, .ref q), (1, .int (nI i)), (2, .int (nI j))] := hl
  have Z : nW G A ([]) ([]) rc s.heap _ _ := Z
  obtain ⟨b_, hm1, hL⟩ := id hB
  have hL0 := hL
  obtain ⟨c_, ea_, cap_, f_, hm2, hm3, hel⟩ := hL0
  obtain ⟨hn, ⟨hlen1, hlen2⟩, ok⟩ := id hok
  refine r_new (ci := 6) (fs := [.null, .null, .null, .int (nI 0)]) hx hb hts in_X6 tyX6 tyX6_ok hown q728 q729 q64 hG Z rfl (fun j hj => by rcases (show j = 0 ∨ j = 1 ∨ j = 2 ∨ j = 3 by omega) with rfl | rfl | rfl | rfl <;> rfl) (Nat.le_of_ble_eq_true rfl) (Nat.le_of_ble_eq_true rfl) dX1_overlap_0 (fun r H Z => ?_)
  have Z : nW G A ([(r, .inr (6, [.null, .null, .null, .int (nI 0)]))]) ([]) rc s.heap _ _ := Z
  refine lv_dup hx hb dX1_overlap_3 rfl ?_
  refine lv_aload_n hx hb dX1_overlap_4 rfl (lv_at hl 0 rfl) ?_
  refine nc_v (k := 3) (wcc := [(r, .inr (6, [.null, .null, .null, .int (nI 0)]))]) (wr := []) (nr_I (As := [.ref q]) (rest := [.ref r]) hx hb hml hown hts ((R_init l G rc b_ B.1 B.2.1 r q B.2.2 (by first | assumption | omega | rfl) (by first | assumption | omega | rfl) (by first | assumption | omega | rfl) (by first | assumption | omega | rfl)) _) nP.blind 1 q730 q731 q64 q732 rfl (by decide +kernel) ⟨⟨Nat.le_of_ble_eq_true rfl, Nat.le_of_ble_eq_true rfl⟩, Nat.le_of_ble_eq_true rfl, Nat.le_of_ble_eq_true rfl⟩ (nP_of hG Z [0] rfl (by decide) Z.rc (Z.apR [0] rfl)) rfl hl.1 rfl (Nat.le_of_ble_eq_true rfl) dX1_overlap_5) Z [0] [] rfl rfl (by decide) (by decide) (fun u H locs hp5 Z => ?_)
  obtain ⟨rg, lt, rf_5, lf_5⟩ := u
  have hp5 : rgI B.2.1 B.1 rf_5 0 := hp5
  have Z : nW G A ([(r, .inr (6, [.ref b_, .ref rg, .ref lt, .int (nI 0)])), (rg, .inl (G.1.1 100, 16, .inl rf_5)), (lt, .inl (G.1.1 101, 1024, .inl lf_5))]) ([]) rc s.heap _ _ := Z
  refine lv_astore_n (lv' := [(3, .ref r), (0, .ref q), (1, .int (nI i)), (2, .int (nI j))]) hx hb dX1_overlap_8 rfl hl (by decide) rfl (fun ls hl => ?_)
  refine lv_lconst (v := lN 0) hx hb dX1_overlap_9 rfl ?_
  refine lv_lstore (lv' := [(4, .long (lN 0)), (3, .ref r), (0, .ref q), (1, .int (nI i)), (2, .int (nI j))]) hx hb dX1_overlap_10 hl (by decide) rfl (fun ls hl => ?_)
  refine lv_lconst (v := lN 0) hx hb dX1_overlap_12 rfl ?_
  refine lv_lstore (lv' := [(6, .long (lN 0)), (4, .long (lN 0)), (3, .ref r), (0, .ref q), (1, .int (nI i)), (2, .int (nI j))]) hx hb dX1_overlap_13 hl (by decide) rfl (fun ls hl => ?_)
  refine lv_lconst (v := lN 0) hx hb dX1_overlap_15 rfl ?_
  refine lv_lstore (lv' := [(8, .long (lN 0)), (6, .long (lN 0)), (4, .long (lN 0)), (3, .ref r), (0, .ref q), (1, .int (nI i)), (2, .int (nI j))]) hx hb dX1_overlap_16 hl (by decide) rfl (fun ls hl => ?_)
  refine lv_iconst (v := nI 0) hx hb dX1_overlap_18 rfl ?_
  refine lv_istore (lv' := [(10, .int (nI 0)), (8, .long (lN 0)), (6, .long (lN 0)), (4, .long (lN 0)), (3, .ref r), (0, .ref q), (1, .int (nI i)), (2, .int (nI j))]) hx hb dX1_overlap_19 hl (by decide) rfl (fun ls hl => ?_)
  have L21 : ∀ (k_ : Nat) (t : Nat) (rf : Nat → Int32) (lf : Nat → Int32) (g1 : t ≤ B.2.2) (g7 : rgI B.2.1 B.1 rf t) (g8 : ltI B.2.1 B.1 lf t) (hk_ : B.2.2 - t < k_) (H : Heap) (locs : List Loc), nW G A ([(r, .inr (6, [.ref b_, .ref rg, .ref lt, .int (nI t)])), (rg, .inl (G.1.1 100, 16, .inl rf)), (lt, .inl (G.1.1 101, 1024, .inl lf))]) ([]) rc s.heap H locs → ∀ (ls : Array Slot), lv_has ls 11 [(10, .int (nI t)), (4, .long (lN (ovB B.2.1 i j t))), (6, .long (lN (cntN B.2.1 i t))), (8, .long (lN (cntN B.2.1 j t))), (3, .ref r), (0, .ref q), (1, .int (nI i)), (2, .int (nI j))] → W p l e (nRm 5 3 1050 106) s m args below meth c H locs 3 1044 Q (F0 m 21 ls []) := by
    intro k_
    induction k_ with
    | zero => intro t rf lf g1 g7 g8 hk_; exact absurd hk_ (Nat.not_lt_zero _)
    | succ k_ ih_L21 =>
      intro t rf lf g1 g7 g8 hk_ H locs Z ls hl
      refine lv_iload hx hb dX1_overlap_21 (lv_at hl 0 rfl) ?_
      refine lv_aload_n hx hb dX1_overlap_23 rfl (lv_at hl 5 rfl) ?_
      refine r_get (v := .int (nI B.2.2)) hx hb hts in_X1 hown hG (va_P.m1 Z.rc hm1 va_P.m0) 0 rfl rfl 1 (by decide) q109 (fun _ h9 => h9) rfl dX1_overlap_24 ?_
      refine lv_icmp_ge (tgt := 79) hx hb dX1_overlap_27 (by decide) (fun c27 => ?_) (fun c27 => ?_)
      · skip
        have c27 := n_le_t (a := B.2.2) (b := t) c27 (by omega) (by omega)
        have c27 : t = B.2.2 := by omega
        refine lv_lload hx hb dX1_overlap_79 (lv_at hl 1 rfl) ?_
        refine lv_aload_n hx hb dX1_overlap_81 rfl (lv_at hl 5 rfl) ?_
        refine r_get (v := .int (nI B.2.2)) hx hb hts in_X1 hown hG (va_P.m1 Z.rc hm1 va_P.m0) 0 rfl rfl 1 (by decide) q109 (fun _ h9 => h9) rfl dX1_overlap_82 ?_
        refine lv_i2l (v := lN B.2.2) hx hb dX1_overlap_85 (nI_l (by omega)) ?_
        refine lv_lmul hx hb dX1_overlap_86 ?_
        refine r_asl (z := lN ((ovB B.2.1 i j t) * B.2.2)) (lN_mul _ _) ?_
        refine lv_lload hx hb dX1_overlap_87 (lv_at hl 2 rfl) ?_
        refine lv_lload hx hb dX1_overlap_89 (lv_at hl 3 rfl) ?_
        refine lv_lmul hx hb dX1_overlap_91 ?_
        refine r_asl (z := lN ((cntN B.2.1 i t) * (cntN B.2.1 j t))) (lN_mul _ _) ?_
        refine lv_lsub hx hb dX1_overlap_92 ?_
        exact ret ((lN ((ovB B.2.1 i j t) * B.2.2)) - (lN ((cntN B.2.1 i t) * (cntN B.2.1 j t)))) () dX1_overlap_93 (by rw [c27]) (Z.perm ([]) [] (by decide) rfl) (Nat.le_of_ble_eq_true rfl) (Nat.le_of_ble_eq_true rfl)
      · skip
        have c27 := n_le_f (a := B.2.2) (b := t) c27 (by omega) (by omega)
        refine lv_aload_n hx hb dX1_overlap_30 rfl (lv_at hl 4 rfl) ?_
        refine nc_v (k := 3) (wcc := [(r, .inr (6, [.ref b_, .ref rg, .ref lt, .int (nI t)])), (rg, .inl (G.1.1 100, 16, .inl rf)), (lt, .inl (G.1.1 101, 1024, .inl lf))]) (wr := []) (nr_V (As := []) (rest := []) hx hb hml hown hts ((R_step l G rc b_ B.1 B.2.1 B.2.1 r rg lt rf lf t (by first | assumption | omega | rfl) (by first | assumption | omega | rfl) (by first | assumption | omega | rfl) lnAg.rfl' (by first | assumption | omega | rfl) (by first | assumption | omega | rfl) (by first | assumption | omega | rfl)) _) nP.blind 0 q864 q766 q767 q64 q768 (by decide +kernel) ⟨⟨Nat.le_of_ble_eq_true rfl, Nat.le_of_ble_eq_true rfl⟩, Nat.le_of_ble_eq_true rfl, Nat.le_of_ble_eq_true rfl⟩ (r_recv hG Z.w 0 (C := "ShareStreams$Run") rfl rfl rfl) (nP_of hG Z [0, 1, 2] rfl (by decide) Z.rc (Z.apR [0, 1, 2] rfl)) rfl hl.1 rfl (Nat.le_of_ble_eq_true rfl) dX1_overlap_31) Z [0, 1, 2] [] rfl rfl (by decide) (by decide) (fun u H locs hp31 Z => ?_)
        obtain ⟨rf1_31, lf1_31⟩ := u
        have hp31 : rgI B.2.1 B.1 rf1_31 (t + 1) ∧ ltI B.2.1 B.1 lf1_31 (t + 1) := hp31
        have Z : nW G A ([(r, .inr (6, [.ref b_, .ref rg, .ref lt, .int (nI (t + 1))])), (rg, .inl (G.1.1 100, 16, .inl rf1_31)), (lt, .inl (G.1.1 101, 1024, .inl lf1_31))]) ([]) rc s.heap _ _ := Z
        have hbi := bit_le ok hi t
        have hbj := bit_le ok hj t
        refine lv_lload hx hb dX1_overlap_34 (lv_at hl 1 rfl) ?_
        refine lv_aload_n hx hb dX1_overlap_36 rfl (lv_at hl 4 rfl) ?_
        refine lv_iload_n hx hb dX1_overlap_37 rfl (lv_at hl 6 rfl) ?_
        refine ns_i (k := 3) (nr_V (As := [.int (nI i)]) (rest := [.long (lN (ovB B.2.1 i j t))]) hx hb hml hown hts (R_bit l G r b_ rg lt B.1 B.2.1 lf1_31 (t + 1) i (by first | assumption | omega | rfl) (by first | assumption | omega | rfl) (by first | assumption | omega | rfl) (by first | assumption | omega | rfl) hp31.2) nPs.blind 1 q865 q795 q796 q64 q797 (by decide +kernel) ⟨⟨Nat.le_of_ble_eq_true rfl, Nat.le_of_ble_eq_true rfl⟩, Nat.le_of_ble_eq_true rfl, Nat.le_of_ble_eq_true rfl⟩ (r_recv hG Z.w 0 (C := "ShareStreams$Run") rfl rfl rfl) (nPs_of hG Z (Z.w.sub [0, 2] rfl)) rfl hl.1 rfl (Nat.le_of_ble_eq_true rfl) dX1_overlap_38) (fun r38 hp38 => ?_)
        have he38 := hp38
        have he38 : r38 = nI (bitN B.2.1 i ((t + 1) - 1)) := he38
        subst he38
        refine r_as (z := nI (bitN B.2.1 i t)) rfl ?_
        refine lv_aload_n hx hb dX1_overlap_41 rfl (lv_at hl 4 rfl) ?_
        refine lv_iload_n hx hb dX1_overlap_42 rfl (lv_at hl 7 rfl) ?_
        refine ns_i (k := 3) (nr_V (As := [.int (nI j)]) (rest := [.int (nI (bitN B.2.1 i t)), .long (lN (ovB B.2.1 i j t))]) hx hb hml hown hts (R_bit l G r b_ rg lt B.1 B.2.1 lf1_31 (t + 1) j (by first | assumption | omega | rfl) (by first | assumption | omega | rfl) (by first | assumption | omega | rfl) (by first | assumption | omega | rfl) hp31.2) nPs.blind 1 q865 q795 q796 q64 q797 (by decide +kernel) ⟨⟨Nat.le_of_ble_eq_true rfl, Nat.le_of_ble_eq_true rfl⟩, Nat.le_of_ble_eq_true rfl, Nat.le_of_ble_eq_true rfl⟩ (r_recv hG Z.w 0 (C := "ShareStreams$Run") rfl rfl rfl) (nPs_of hG Z (Z.w.sub [0, 2] rfl)) rfl hl.1 rfl (Nat.le_of_ble_eq_true rfl) dX1_overlap_43) (fun r43 hp43 => ?_)
        have he43 := hp43
        have he43 : r43 = nI (bitN B.2.1 j ((t + 1) - 1)) := he43
        subst he43
        refine r_as (z := nI (bitN B.2.1 j t)) rfl ?_
        refine lv_iand hx hb dX1_overlap_46 ?_
        refine r_as (z := nI (bitN B.2.1 i t &&& bitN B.2.1 j t)) (nx_and _ _) ?_
        have hand : bitN B.2.1 i t &&& bitN B.2.1 j t ≤ 1 := Nat.le_trans Nat.and_le_left hbi
        refine lv_i2l (v := lN (bitN B.2.1 i t &&& bitN B.2.1 j t)) hx hb dX1_overlap_47 (nI_l (by omega)) ?_
        refine lv_ladd hx hb dX1_overlap_48 ?_
        refine r_asl (z := lN (ovB B.2.1 i j (t + 1))) (lN_add _ _) ?_
        refine lv_lstore (lv' := [(4, .long (lN (ovB B.2.1 i j (t + 1)))), (10, .int (nI t)), (6, .long (lN (cntN B.2.1 i t))), (8, .long (lN (cntN B.2.1 j t))), (3, .ref r), (0, .ref q), (1, .int (nI i)), (2, .int (nI j))]) hx hb dX1_overlap_49 hl (by decide) rfl (fun ls hl => ?_)
        refine lv_lload hx hb dX1_overlap_51 (lv_at hl 2 rfl) ?_
        refine lv_aload_n hx hb dX1_overlap_53 rfl (lv_at hl 4 rfl) ?_
        refine lv_iload_n hx hb dX1_overlap_54 rfl (lv_at hl 6 rfl) ?_
        refine ns_i (k := 3) (nr_V (As := [.int (nI i)]) (rest := [.long (lN (cntN B.2.1 i t))]) hx hb hml hown hts (R_bit l G r b_ rg lt B.1 B.2.1 lf1_31 (t + 1) i (by first | assumption | omega | rfl) (by first | assumption | omega | rfl) (by first | assumption | omega | rfl) (by first | assumption | omega | rfl) hp31.2) nPs.blind 1 q865 q795 q796 q64 q797 (by decide +kernel) ⟨⟨Nat.le_of_ble_eq_true rfl, Nat.le_of_ble_eq_true rfl⟩, Nat.le_of_ble_eq_true rfl, Nat.le_of_ble_eq_true rfl⟩ (r_recv hG Z.w 0 (C := "ShareStreams$Run") rfl rfl rfl) (nPs_of hG Z (Z.w.sub [0, 2] rfl)) rfl hl.1 rfl (Nat.le_of_ble_eq_true rfl) dX1_overlap_55) (fun r55 hp55 => ?_)
        have he55 := hp55
        have he55 : r55 = nI (bitN B.2.1 i ((t + 1) - 1)) := he55
        subst he55
        refine r_as (z := nI (bitN B.2.1 i t)) rfl ?_
        refine lv_i2l (v := lN (bitN B.2.1 i t)) hx hb dX1_overlap_58 (nI_l (by omega)) ?_
        refine lv_ladd hx hb dX1_overlap_59 ?_
        refine r_asl (z := lN (cntN B.2.1 i (t + 1))) (lN_add _ _) ?_
        refine lv_lstore (lv' := [(6, .long (lN (cntN B.2.1 i (t + 1)))), (4, .long (lN (ovB B.2.1 i j (t + 1)))), (10, .int (nI t)), (8, .long (lN (cntN B.2.1 j t))), (3, .ref r), (0, .ref q), (1, .int (nI i)), (2, .int (nI j))]) hx hb dX1_overlap_60 hl (by decide) rfl (fun ls hl => ?_)
        refine lv_lload hx hb dX1_overlap_62 (lv_at hl 3 rfl) ?_
        refine lv_aload_n hx hb dX1_overlap_64 rfl (lv_at hl 4 rfl) ?_
        refine lv_iload_n hx hb dX1_overlap_65 rfl (lv_at hl 7 rfl) ?_
        refine ns_i (k := 3) (nr_V (As := [.int (nI j)]) (rest := [.long (lN (cntN B.2.1 j t))]) hx hb hml hown hts (R_bit l G r b_ rg lt B.1 B.2.1 lf1_31 (t + 1) j (by first | assumption | omega | rfl) (by first | assumption | omega | rfl) (by first | assumption | omega | rfl) (by first | assumption | omega | rfl) hp31.2) nPs.blind 1 q865 q795 q796 q64 q797 (by decide +kernel) ⟨⟨Nat.le_of_ble_eq_true rfl, Nat.le_of_ble_eq_true rfl⟩, Nat.le_of_ble_eq_true rfl, Nat.le_of_ble_eq_true rfl⟩ (r_recv hG Z.w 0 (C := "ShareStreams$Run") rfl rfl rfl) (nPs_of hG Z (Z.w.sub [0, 2] rfl)) rfl hl.1 rfl (Nat.le_of_ble_eq_true rfl) dX1_overlap_66) (fun r66 hp66 => ?_)
        have he66 := hp66
        have he66 : r66 = nI (bitN B.2.1 j ((t + 1) - 1)) := he66
        subst he66
        refine r_as (z := nI (bitN B.2.1 j t)) rfl ?_
        refine lv_i2l (v := lN (bitN B.2.1 j t)) hx hb dX1_overlap_69 (nI_l (by omega)) ?_
        refine lv_ladd hx hb dX1_overlap_70 ?_
        refine r_asl (z := lN (cntN B.2.1 j (t + 1))) (lN_add _ _) ?_
        refine lv_lstore (lv' := [(8, .long (lN (cntN B.2.1 j (t + 1)))), (6, .long (lN (cntN B.2.1 i (t + 1)))), (4, .long (lN (ovB B.2.1 i j (t + 1)))), (10, .int (nI t)), (3, .ref r), (0, .ref q), (1, .int (nI i)), (2, .int (nI j))]) hx hb dX1_overlap_71 hl (by decide) rfl (fun ls hl => ?_)
        refine lv_iinc (v := nI (t + 1)) (lv' := [(10, .int (nI (t + 1))), (8, .long (lN (cntN B.2.1 j (t + 1)))), (6, .long (lN (cntN B.2.1 i (t + 1)))), (4, .long (lN (ovB B.2.1 i j (t + 1)))), (3, .ref r), (0, .ref q), (1, .int (nI i)), (2, .int (nI j))]) hx hb dX1_overlap_73 hl (k := 3) rfl (nI_add _ _) (by decide) rfl (fun ls hl => ?_)
        refine lv_goto (tgt := 21) hx hb dX1_overlap_76 (by decide) ?_
        exact ih_L21 (t + 1) rf1_31 lf1_31 (by first | assumption | omega) hp31.1 hp31.2 (by omega) _ _ Z _ (lv_sub hl [0, 3, 2, 1, 4, 5, 6, 7] rfl)
  exact L21 _ 0 rf_5 lf_5 (by first | assumption | omega) hp5 (fun j hj t ht => absurd ht (Nat.not_lt_zero _)) (Nat.lt_succ_self _) _ _ Z _ (lv_sub hl [0, 3, 2, 1, 4, 5, 6, 7] rfl)
set_option maxHeartbeats 4000000 in
set_option maxRecDepth 100000 in
theorem B_settles (l : Launch) (G : nG) (rc : va_W) (q : Nat) (B : nBe) (k : Nat) (bd : Nat) (hB : iBench G rc q B) (hok : beOk B) (hk : k < B.1) (hbd : bd ≤ 65536) : nMi (S := Unit) l yX1_settles cX1_settles 8 (.int) 5 4 1066 106 G [.ref q, .int (nI k), .int (nI bd)] ([]) rc (fun (u : Unit) => []) (fun (r : Int32) (u : Unit) => r = (stR (stF (stP B.2.1 k bd) 1000))) := by
  refine nMi.of (own := "ShareStreams$Bench") rfl (by decide +kernel) (Nat.le_of_ble_eq_true rfl) (fun _ _ _ => rfl) ?_
  intro p e s m args below meth c A Q ls hx hb hml hown hts hin hG Z hl ret
  have hl : lv_has ls 8 [(0, .ref q), (1, .int (nI k)), (2, .int (nI bd))] := hl
  have Z : nW G A ([]) ([]) rc s.heap _ _ := Z
  obtain ⟨b_, hm1, hL⟩ := id hB
  have hL0 := hL
  obtain ⟨c_, ea_, cap_, f_, hm2, hm3, hel⟩ := hL0
  obtain ⟨hn, ⟨hlen1, hlen2⟩, ok⟩ := id hok
  refine lv_aload_n hx hb dX1_settles_0 rfl (lv_at hl 0 rfl) ?_
  refine nc_q (k := 3) (wcc := []) (wr := []) (nr_V (As := []) (rest := []) hx hb hml hown hts ((B_exact l G rc q B (by first | assumption | omega | rfl) (by first | assumption | omega | rfl)) _) nP.blind 0 q831 q808 q809 q45 q810 (by decide +kernel) ⟨⟨Nat.le_of_ble_eq_true rfl, Nat.le_of_ble_eq_true rfl⟩, Nat.le_of_ble_eq_true rfl, Nat.le_of_ble_eq_true rfl⟩ (r_recv hG (va_P.m1 Z.rc hm1 va_P.m0) 0 (C := "ShareStreams$Bench") rfl rfl rfl) (nP_of hG Z [] rfl (by decide) Z.rc (Z.apR [] rfl)) rfl hl.1 rfl (Nat.le_of_ble_eq_true rfl) dX1_settles_1) Z [] [] rfl rfl (by decide) (by decide) (fun r1 u H locs hp1 Z => ?_)
  obtain ⟨e1_1, ex_1⟩ := u
  obtain ⟨he1, hp1⟩ := hp1
  have he1 : r1 = some e1_1 := he1
  subst he1
  have hp1 : ∀ v_, v_ < B.1 → ex_1 v_ = nI (exN B.2.1 v_) := hp1
  have Z : nW G A ([(e1_1, .inl (G.1.1 100, 16, .inl ex_1))]) ([]) rc s.heap _ _ := Z
  refine lv_iload_n hx hb dX1_settles_4 rfl (lv_at hl 1 rfl) ?_
  refine r_iald hx hb hG Z.w 0 rfl (j := k) (by omega) (by decide) (v := nI (exN B.2.1 k)) (hp1 k hk) dX1_settles_5 ?_
  refine lv_istore_n (lv' := [(3, .int (nI (exN B.2.1 k))), (0, .ref q), (1, .int (nI k)), (2, .int (nI bd))]) hx hb dX1_settles_6 rfl hl (by decide) rfl (fun ls hl => ?_)
  refine r_new (ci := 6) (fs := [.null, .null, .null, .int (nI 0)]) hx hb hts in_X6 tyX6 tyX6_ok hown q728 q729 q64 hG Z rfl (fun j hj => by rcases (show j = 0 ∨ j = 1 ∨ j = 2 ∨ j = 3 by omega) with rfl | rfl | rfl | rfl <;> rfl) (Nat.le_of_ble_eq_true rfl) (Nat.le_of_ble_eq_true rfl) dX1_settles_7 (fun r H Z => ?_)
  have Z : nW G A ([(e1_1, .inl (G.1.1 100, 16, .inl ex_1)), (r, .inr (6, [.null, .null, .null, .int (nI 0)]))]) ([]) rc s.heap _ _ := Z
  refine lv_dup hx hb dX1_settles_10 rfl ?_
  refine lv_aload_n hx hb dX1_settles_11 rfl (lv_at hl 1 rfl) ?_
  refine nc_v (k := 3) (wcc := [(r, .inr (6, [.null, .null, .null, .int (nI 0)]))]) (wr := [(e1_1, .inl (G.1.1 100, 16, .inl ex_1))]) (nr_I (As := [.ref q]) (rest := [.ref r]) hx hb hml hown hts ((R_init l G rc b_ B.1 B.2.1 r q B.2.2 (by first | assumption | omega | rfl) (by first | assumption | omega | rfl) (by first | assumption | omega | rfl) (by first | assumption | omega | rfl)) _) nP.blind 1 q730 q731 q64 q732 rfl (by decide +kernel) ⟨⟨Nat.le_of_ble_eq_true rfl, Nat.le_of_ble_eq_true rfl⟩, Nat.le_of_ble_eq_true rfl, Nat.le_of_ble_eq_true rfl⟩ (nP_of hG Z [1] rfl (by decide) Z.rc (Z.apR [1] rfl)) rfl hl.1 rfl (Nat.le_of_ble_eq_true rfl) dX1_settles_12) Z [1] [0] rfl rfl (by decide) (by decide) (fun u H locs hp12 Z => ?_)
  obtain ⟨rg, lt, rf_12, lf_12⟩ := u
  have hp12 : rgI B.2.1 B.1 rf_12 0 := hp12
  have Z : nW G A ([(e1_1, .inl (G.1.1 100, 16, .inl ex_1)), (r, .inr (6, [.ref b_, .ref rg, .ref lt, .int (nI 0)])), (rg, .inl (G.1.1 100, 16, .inl rf_12)), (lt, .inl (G.1.1 101, 1024, .inl lf_12))]) ([]) rc s.heap _ _ := Z
  have Z := Z.perm ([(r, .inr (6, [.ref b_, .ref rg, .ref lt, .int (nI 0)])), (rg, .inl (G.1.1 100, 16, .inl rf_12)), (lt, .inl (G.1.1 101, 1024, .inl lf_12)), (e1_1, .inl (G.1.1 100, 16, .inl ex_1))]) [1, 2, 3, 0] (by decide) rfl
  refine lv_astore (lv' := [(4, .ref r), (3, .int (nI (exN B.2.1 k))), (0, .ref q), (1, .int (nI k)), (2, .int (nI bd))]) hx hb dX1_settles_15 hl (by decide) rfl (fun ls hl => ?_)
  refine lv_iconst (v := nI 0) hx hb dX1_settles_17 rfl ?_
  refine lv_istore (lv' := [(5, .int (nI 0)), (4, .ref r), (3, .int (nI (exN B.2.1 k))), (0, .ref q), (1, .int (nI k)), (2, .int (nI bd))]) hx hb dX1_settles_18 hl (by decide) rfl (fun ls hl => ?_)
  refine lv_iconst (v := nI 1) hx hb dX1_settles_20 rfl ?_
  refine lv_istore (lv' := [(6, .int (nI 1)), (5, .int (nI 0)), (4, .ref r), (3, .int (nI (exN B.2.1 k))), (0, .ref q), (1, .int (nI k)), (2, .int (nI bd))]) hx hb dX1_settles_21 hl (by decide) rfl (fun ls hl => ?_)
  refine lv_iconst (v := nI 1) hx hb dX1_settles_23 rfl ?_
  refine lv_istore (lv' := [(7, .int (nI 1)), (6, .int (nI 1)), (5, .int (nI 0)), (4, .ref r), (3, .int (nI (exN B.2.1 k))), (0, .ref q), (1, .int (nI k)), (2, .int (nI bd))]) hx hb dX1_settles_24 hl (by decide) rfl (fun ls hl => ?_)
  have L26 : ∀ (k_ : Nat) (u : Nat) (s6 : Nat) (rf : Nat → Int32) (lf : Nat → Int32) (g1 : u ≤ 1000) (g9 : s6 = stF (stP B.2.1 k bd) u) (g7 : rgI B.2.1 B.1 rf u) (g8 : ltI B.2.1 B.1 lf u) (hk_ : 1000 - u < k_) (H : Heap) (locs : List Loc), nW G A ([(r, .inr (6, [.ref b_, .ref rg, .ref lt, .int (nI u)])), (rg, .inl (G.1.1 100, 16, .inl rf)), (lt, .inl (G.1.1 101, 1024, .inl lf))]) ([]) rc s.heap H locs → ∀ (ls : Array Slot), lv_has ls 8 [(7, .int (nI (u + 1))), (5, .int (nI (cntN B.2.1 k u))), (6, .int (nI s6)), (4, .ref r), (3, .int (nI (exN B.2.1 k))), (0, .ref q), (1, .int (nI k)), (2, .int (nI bd))] → W p l e (nRm 5 4 1066 106) s m args below meth c H locs 4 1060 Q (F0 m 26 ls []) := by
    intro k_
    induction k_ with
    | zero => intro u s6 rf lf g1 g9 g7 g8 hk_; exact absurd hk_ (Nat.not_lt_zero _)
    | succ k_ ih_L26 =>
      intro u s6 rf lf g1 g9 g7 g8 hk_ H locs Z ls hl
      refine lv_iload hx hb dX1_settles_26 (lv_at hl 0 rfl) ?_
      refine lv_sipush (v := nI 1000) hx hb dX1_settles_28 rfl ?_
      refine lv_icmp_gt (tgt := 78) hx hb dX1_settles_31 (by decide) (fun c31 => ?_) (fun c31 => ?_)
      · skip
        have c31 := n_lt_t (a := 1000) (b := u + 1) c31 (by decide) (by omega)
        have c31 : u = 1000 := by omega
        have hsf := stF_le (stP B.2.1 k bd) u
        have hs6 : s6 < 2 ^ 30 := by omega
        refine lv_iload hx hb dX1_settles_78 (lv_at hl 2 rfl) ?_
        refine lv_sipush (v := nI 1000) hx hb dX1_settles_80 rfl ?_
        refine lv_icmp_le (tgt := 91) hx hb dX1_settles_83 (by decide) (fun c83 => ?_) (fun c83 => ?_)
        · skip
          have c83 := n_le_t (a := s6) (b := 1000) c83 (by omega) (by decide)
          refine lv_iload hx hb dX1_settles_91 (lv_at hl 2 rfl) ?_
          exact ret (nI s6) () dX1_settles_93 (by rw [c31] at g9; rw [← g9]; unfold stR; first | (rw [if_pos (by omega)]; done) | (rw [if_neg (by omega)]; done)) (Z.perm ([]) [] (by decide) rfl) (Nat.le_of_ble_eq_true rfl) (Nat.le_of_ble_eq_true rfl)
        · skip
          have c83 := n_le_f (a := s6) (b := 1000) c83 (by omega) (by decide)
          refine lv_ldc hx hb hown (hts _ q880) dX1_settles_86 ?_
          refine lv_goto (tgt := 93) hx hb dX1_settles_88 (by decide) ?_
          exact ret (-100000005 : Int32) () dX1_settles_93 (by rw [c31] at g9; rw [← g9]; unfold stR; first | (rw [if_pos (by omega)]; done) | (rw [if_neg (by omega)]; done)) (Z.perm ([]) [] (by decide) rfl) (Nat.le_of_ble_eq_true rfl) (Nat.le_of_ble_eq_true rfl)
      · skip
        have c31 := n_lt_f (a := 1000) (b := u + 1) c31 (by decide) (by omega)
        refine lv_aload hx hb dX1_settles_34 (lv_at hl 3 rfl) ?_
        refine nc_v (k := 3) (wcc := [(r, .inr (6, [.ref b_, .ref rg, .ref lt, .int (nI u)])), (rg, .inl (G.1.1 100, 16, .inl rf)), (lt, .inl (G.1.1 101, 1024, .inl lf))]) (wr := []) (nr_V (As := []) (rest := []) hx hb hml hown hts ((R_step l G rc b_ B.1 B.2.1 B.2.1 r rg lt rf lf u (by first | assumption | omega | rfl) (by first | assumption | omega | rfl) (by first | assumption | omega | rfl) lnAg.rfl' (by first | assumption | omega | rfl) (by first | assumption | omega | rfl) (by first | assumption | omega | rfl)) _) nP.blind 0 q864 q766 q767 q64 q768 (by decide +kernel) ⟨⟨Nat.le_of_ble_eq_true rfl, Nat.le_of_ble_eq_true rfl⟩, Nat.le_of_ble_eq_true rfl, Nat.le_of_ble_eq_true rfl⟩ (r_recv hG Z.w 0 (C := "ShareStreams$Run") rfl rfl rfl) (nP_of hG Z [0, 1, 2] rfl (by decide) Z.rc (Z.apR [0, 1, 2] rfl)) rfl hl.1 rfl (Nat.le_of_ble_eq_true rfl) dX1_settles_36) Z [0, 1, 2] [] rfl rfl (by decide) (by decide) (fun u H locs hp36 Z => ?_)
        obtain ⟨rf1_36, lf1_36⟩ := u
        have hp36 : rgI B.2.1 B.1 rf1_36 (u + 1) ∧ ltI B.2.1 B.1 lf1_36 (u + 1) := hp36
        have Z : nW G A ([(r, .inr (6, [.ref b_, .ref rg, .ref lt, .int (nI (u + 1))])), (rg, .inl (G.1.1 100, 16, .inl rf1_36)), (lt, .inl (G.1.1 101, 1024, .inl lf1_36))]) ([]) rc s.heap _ _ := Z
        refine lv_iload hx hb dX1_settles_39 (lv_at hl 1 rfl) ?_
        refine lv_aload hx hb dX1_settles_41 (lv_at hl 3 rfl) ?_
        refine lv_iload_n hx hb dX1_settles_43 rfl (lv_at hl 6 rfl) ?_
        refine ns_i (k := 3) (nr_V (As := [.int (nI k)]) (rest := [.int (nI (cntN B.2.1 k u))]) hx hb hml hown hts (R_bit l G r b_ rg lt B.1 B.2.1 lf1_36 (u + 1) k (by first | assumption | omega | rfl) (by first | assumption | omega | rfl) (by first | assumption | omega | rfl) (by first | assumption | omega | rfl) hp36.2) nPs.blind 1 q865 q795 q796 q64 q797 (by decide +kernel) ⟨⟨Nat.le_of_ble_eq_true rfl, Nat.le_of_ble_eq_true rfl⟩, Nat.le_of_ble_eq_true rfl, Nat.le_of_ble_eq_true rfl⟩ (r_recv hG Z.w 0 (C := "ShareStreams$Run") rfl rfl rfl) (nPs_of hG Z (Z.w.sub [0, 2] rfl)) rfl hl.1 rfl (Nat.le_of_ble_eq_true rfl) dX1_settles_44) (fun r44 hp44 => ?_)
        have he44 := hp44
        have he44 : r44 = nI (bitN B.2.1 k ((u + 1) - 1)) := he44
        subst he44
        refine r_as (z := nI (bitN B.2.1 k u)) rfl ?_
        refine lv_iadd hx hb dX1_settles_47 ?_
        refine r_as (z := nI (cntN B.2.1 k (u + 1))) (nI_add _ _) ?_
        refine lv_istore (lv' := [(5, .int (nI (cntN B.2.1 k (u + 1)))), (7, .int (nI (u + 1))), (6, .int (nI s6)), (4, .ref r), (3, .int (nI (exN B.2.1 k))), (0, .ref q), (1, .int (nI k)), (2, .int (nI bd))]) hx hb dX1_settles_48 hl (by decide) rfl (fun ls hl => ?_)
        refine lv_iload hx hb dX1_settles_50 (lv_at hl 0 rfl) ?_
        refine lv_iload hx hb dX1_settles_52 (lv_at hl 1 rfl) ?_
        have hcu := cntN_le ok hk (u + 1)
        refine ns_i (k := 3) (nr_S (As := [.int (nI (cntN B.2.1 k (u + 1))), .int (nI (u + 1))]) (rest := []) hx hb hml hown hts (B_shareOf l G (cntN B.2.1 k (u + 1)) (u + 1) hcu (by first | assumption | omega | rfl) (by first | assumption | omega | rfl)) nPs.blind 2 q803 q804 q45 q805 (by decide +kernel) ⟨⟨Nat.le_of_ble_eq_true rfl, Nat.le_of_ble_eq_true rfl⟩, Nat.le_of_ble_eq_true rfl, Nat.le_of_ble_eq_true rfl⟩ (nPs_of hG Z va_P.m0) rfl hl.1 rfl (Nat.le_of_ble_eq_true rfl) dX1_settles_54) (fun r54 hp54 => ?_)
        have he54 := hp54
        have he54 : r54 = nI (shN (cntN B.2.1 k (u + 1)) (u + 1)) := he54
        subst he54
        refine lv_iload_n hx hb dX1_settles_57 rfl (lv_at hl 4 rfl) ?_
        refine lv_isub hx hb dX1_settles_58 ?_
        refine va_mabs hx hb (hml.trans hl.1.symm) hown (hts _ q832) (hts _ q833) (hts _ q59) (hts _ q834) (Nat.le_of_ble_eq_true rfl) (Nat.le_of_ble_eq_true rfl) (by show _ ≤ 4; omega) (by show _ ≤ 1066; omega) dX1_settles_59 ?_
        refine r_as (z := nI (errN B.2.1 k (u + 1))) (ab_ap (by have := shN_le hcu (Nat.succ_pos u); omega) (by have := ex_le ok hk; omega)) ?_
        have her : errN B.2.1 k (u + 1) < 2 ^ 31 := by have h1_ := shN_le hcu (Nat.succ_pos u); have h2_ := ex_le ok hk; unfold errN apN; omega
        refine lv_iload_n hx hb dX1_settles_62 rfl (lv_at hl 7 rfl) ?_
        refine lv_icmp_le (tgt := 72) hx hb dX1_settles_63 (by decide) (fun c63 => ?_) (fun c63 => ?_)
        · skip
          have c63 := n_le_t (a := errN B.2.1 k (u + 1)) (b := bd) c63 (by omega) (by omega)
          refine lv_iinc (v := nI (u + 1 + 1)) (lv' := [(7, .int (nI (u + 1 + 1))), (5, .int (nI (cntN B.2.1 k (u + 1)))), (6, .int (nI s6)), (4, .ref r), (3, .int (nI (exN B.2.1 k))), (0, .ref q), (1, .int (nI k)), (2, .int (nI bd))]) hx hb dX1_settles_72 hl (k := 1) rfl (nI_add _ _) (by decide) rfl (fun ls hl => ?_)
          refine lv_goto (tgt := 26) hx hb dX1_settles_75 (by decide) ?_
          exact ih_L26 (u + 1) s6 rf1_36 lf1_36 (by first | assumption | omega) (by rw [stF]; first | (rw [if_pos (show stP B.2.1 k bd (u + 1) = true from decide_eq_true c63)]; exact g9) | (rw [if_neg (by simp [stP]; omega)])) hp36.1 hp36.2 (by omega) _ _ Z _ (lv_sub hl [0, 1, 2, 3, 4, 5, 6, 7] rfl)
        · skip
          have c63 := n_le_f (a := errN B.2.1 k (u + 1)) (b := bd) c63 (by omega) (by omega)
          refine lv_iload hx hb dX1_settles_66 (lv_at hl 1 rfl) ?_
          refine lv_iconst (v := nI 1) hx hb dX1_settles_68 rfl ?_
          refine lv_iadd hx hb dX1_settles_69 ?_
          refine r_as (z := nI (u + 1 + 1)) (nI_add _ _) ?_
          refine lv_istore (lv' := [(6, .int (nI (u + 1 + 1))), (5, .int (nI (cntN B.2.1 k (u + 1)))), (7, .int (nI (u + 1))), (4, .ref r), (3, .int (nI (exN B.2.1 k))), (0, .ref q), (1, .int (nI k)), (2, .int (nI bd))]) hx hb dX1_settles_70 hl (by decide) rfl (fun ls hl => ?_)
          refine lv_iinc (v := nI (u + 1 + 1)) (lv' := [(7, .int (nI (u + 1 + 1))), (6, .int (nI (u + 1 + 1))), (5, .int (nI (cntN B.2.1 k (u + 1)))), (4, .ref r), (3, .int (nI (exN B.2.1 k))), (0, .ref q), (1, .int (nI k)), (2, .int (nI bd))]) hx hb dX1_settles_72 hl (k := 2) rfl (nI_add _ _) (by decide) rfl (fun ls hl => ?_)
          refine lv_goto (tgt := 26) hx hb dX1_settles_75 (by decide) ?_
          exact ih_L26 (u + 1) (u + 1 + 1) rf1_36 lf1_36 (by first | assumption | omega) (by rw [stF]; first | (rw [if_pos (show stP B.2.1 k bd (u + 1) = true from decide_eq_true c63)]; exact g9) | (rw [if_neg (by simp [stP]; omega)])) hp36.1 hp36.2 (by omega) _ _ Z _ (lv_sub hl [0, 2, 1, 3, 4, 5, 6, 7] rfl)
  exact L26 _ 0 1 rf_12 lf_12 (by first | assumption | omega) rfl hp12 (fun j hj t ht => absurd ht (Nat.not_lt_zero _)) (Nat.lt_succ_self _) _ _ (Z.perm ([(r, .inr (6, [.ref b_, .ref rg, .ref lt, .int (nI 0)])), (rg, .inl (G.1.1 100, 16, .inl rf_12)), (lt, .inl (G.1.1 101, 1024, .inl lf_12))]) [0, 1, 2] (by decide) rfl) _ (lv_sub hl [0, 2, 1, 3, 4, 5, 6, 7] rfl)
set_option maxHeartbeats 4000000 in
set_option maxRecDepth 100000 in
theorem B_errorWith (l : Launch) (G : nG) (rc : va_W) (q : Nat) (B : nBe) (r : Nat) (b_ : Nat) (rg : Nat) (lt : Nat) (rf : Nat → Int32) (lf : Nat → Int32) (T : Nat) (src : Nat) (sd : Nat) (k : Nat) (hm1 : (q, .inr (1, [.ref b_, .int (nI B.2.2)])) ∈ rc) (hL : iLines G rc b_ B.1 B.2.1) (hok : beOk B) (hsrc : src < B.1) (h0 : kd B.2.1 src = 0) (hs1 : 1 ≤ sd) (hs2 : sd ≤ 255) (hk : k < B.1) : nMi (S := (Nat → Int32) × (Nat → Int32)) l yX1_errorWith cX1_errorWith 5 (.int) 5 1 16 113 G [.ref q, .ref r, .int (nI src), .int (nI sd), .int (nI k)] ([(r, .inr (6, [.ref b_, .ref rg, .ref lt, .int (nI T)])), (rg, .inl (G.1.1 100, 16, .inl rf)), (lt, .inl (G.1.1 101, 1024, .inl lf))]) rc (fun (u : (Nat → Int32) × (Nat → Int32)) => [(r, .inr (6, [.ref b_, .ref rg, .ref lt, .int (nI B.2.2)])), (rg, .inl (G.1.1 100, 16, .inl u.1)), (lt, .inl (G.1.1 101, 1024, .inl u.2))]) (fun (r : Int32) (u : (Nat → Int32) × (Nat → Int32)) => r = (nI (bsE B src k sd))) := by
  refine nMi.of (own := "ShareStreams$Bench") rfl (by decide +kernel) (Nat.le_of_ble_eq_true rfl) (fun _ _ _ => rfl) ?_
  intro p e s m args below meth c A Q ls hx hb hml hown hts hin hG Z hl ret
  have hl : lv_has ls 5 [(0, .ref q), (1, .ref r), (2, .int (nI src)), (3, .int (nI sd)), (4, .int (nI k))] := hl
  have Z : nW G A ([(r, .inr (6, [.ref b_, .ref rg, .ref lt, .int (nI T)])), (rg, .inl (G.1.1 100, 16, .inl rf)), (lt, .inl (G.1.1 101, 1024, .inl lf))]) ([]) rc s.heap _ _ := Z
  obtain ⟨hn, ⟨hlen1, hlen2⟩, ok⟩ := id hok
  have hB : iBench G rc q B := ⟨b_, hm1, hL⟩
  have okS := seed_ok ok h0 hs1 hs2 hn
  refine lv_aload_n hx hb dX1_errorWith_0 rfl (lv_at hl 1 rfl) ?_
  refine nc_v (k := 3) (wcc := [(r, .inr (6, [.ref b_, .ref rg, .ref lt, .int (nI T)])), (rg, .inl (G.1.1 100, 16, .inl rf)), (lt, .inl (G.1.1 101, 1024, .inl lf))]) (wr := []) (nr_V (As := []) (rest := []) hx hb hml hown hts ((R_begin l G rc b_ B.1 B.2.1 r rg lt rf lf T (by first | assumption | omega | rfl) (by first | assumption | omega | rfl) (by first | assumption | omega | rfl)) _) nP.blind 0 q891 q735 q736 q64 q737 (by decide +kernel) ⟨⟨Nat.le_of_ble_eq_true rfl, Nat.le_of_ble_eq_true rfl⟩, Nat.le_of_ble_eq_true rfl, Nat.le_of_ble_eq_true rfl⟩ (r_recv hG Z.w 0 (C := "ShareStreams$Run") rfl rfl rfl) (nP_of hG Z [0, 1, 2] rfl (by decide) Z.rc (Z.apR [0, 1, 2] rfl)) rfl hl.1 rfl (Nat.le_of_ble_eq_true rfl) dX1_errorWith_1) Z [0, 1, 2] [] rfl rfl (by decide) (by decide) (fun u H locs hp1 Z => ?_)
  obtain ⟨rf1_1, rfl⟩ : ∃ z, z = u := ⟨_, rfl⟩
  have hp1 : rgI B.2.1 B.1 rf1_1 0 := hp1
  have Z : nW G A ([(r, .inr (6, [.ref b_, .ref rg, .ref lt, .int (nI 0)])), (rg, .inl (G.1.1 100, 16, .inl rf1_1)), (lt, .inl (G.1.1 101, 1024, .inl lf))]) ([]) rc s.heap _ _ := Z
  refine lv_aload_n hx hb dX1_errorWith_4 rfl (lv_at hl 1 rfl) ?_
  refine r_getN (v := .ref rg) hx hb hts in_X6 hown hG Z.w 0 rfl rfl 1 (by decide) q749 (fun _ h9 => h9) rfl dX1_errorWith_5 ?_
  refine lv_iload_n hx hb dX1_errorWith_8 rfl (lv_at hl 2 rfl) ?_
  refine lv_iload_n hx hb dX1_errorWith_9 rfl (lv_at hl 3 rfl) ?_
  refine r_iast hx hb hG Z 1 rfl (j := src) (by omega) (by decide) (wc' := [(r, .inr (6, [.ref b_, .ref rg, .ref lt, .int (nI 0)])), (rg, .inl (G.1.1 100, 16, .inl (upd rf1_1 src (nI sd)))), (lt, .inl (G.1.1 101, 1024, .inl lf))]) rfl dX1_errorWith_10 (fun H locs Z => ?_)
  refine lv_aload_n hx hb dX1_errorWith_11 rfl (lv_at hl 1 rfl) ?_
  refine lv_iload hx hb dX1_errorWith_12 (lv_at hl 4 rfl) ?_
  refine lv_aload_n hx hb dX1_errorWith_14 rfl (lv_at hl 0 rfl) ?_
  refine r_get (v := .int (nI B.2.2)) hx hb hts in_X1 hown hG (va_P.m1 Z.rc hm1 va_P.m0) 0 rfl rfl 1 (by decide) q109 (fun _ h9 => h9) rfl dX1_errorWith_15 ?_
  refine nc_i (k := 3) (wcc := [(r, .inr (6, [.ref b_, .ref rg, .ref lt, .int (nI 0)])), (rg, .inl (G.1.1 100, 16, .inl (upd rf1_1 src (nI sd)))), (lt, .inl (G.1.1 101, 1024, .inl lf))]) (wr := []) (nr_V (As := [.int (nI k), .int (nI B.2.2)]) (rest := []) hx hb hml hown hts ((R_count l G rc b_ B.1 (seedF B.2.1 src sd) B.2.1 r rg lt (upd rf1_1 src (nI sd)) lf k B.2.2 (by first | assumption | omega | rfl) (by first | assumption | omega | rfl) okS (fun k_ hk_ => ⟨by simp [seedF], by simp [seedF], fun hz_ => by by_cases e_ : k_ = src; { subst e_; exact absurd (by rw [← h0]; simp [kd, seedF]) hz_ }; { simp [seedF, e_] }, by simp [seedF]⟩) (by first | assumption | omega | rfl) (by first | assumption | omega | rfl) (fun k_ hk_ hz_ => by by_cases e_ : k_ = src; { subst e_; rw [upd_s]; simp [regN, nm, seedF, nI_clamp (show sd < 2 ^ 31 by omega)] }; { rw [upd_n (by omega), hp1 k_ hk_ (by rw [← hz_]; simp [kd, seedF, e_])]; simp [regN, nm, seedF, e_] })) _) nP.blind 2 q761 q762 q763 q64 q764 (by decide +kernel) ⟨⟨Nat.le_of_ble_eq_true rfl, Nat.le_of_ble_eq_true rfl⟩, Nat.le_of_ble_eq_true rfl, Nat.le_of_ble_eq_true rfl⟩ (r_recv hG Z.w 0 (C := "ShareStreams$Run") rfl rfl rfl) (nP_of hG Z [0, 1, 2] rfl (by decide) Z.rc (Z.apR [0, 1, 2] rfl)) rfl hl.1 rfl (Nat.le_of_ble_eq_true rfl) dX1_errorWith_18) Z [0, 1, 2] [] rfl rfl (by decide) (by decide) (fun r18 u H locs hp18 Z => ?_)
  obtain ⟨rf1_18, lf1_18⟩ := u
  have he18 := hp18
  have he18 : r18 = nI (cntN (seedF B.2.1 src sd) k B.2.2) := he18
  subst he18
  have Z : nW G A ([(r, .inr (6, [.ref b_, .ref rg, .ref lt, .int (nI B.2.2)])), (rg, .inl (G.1.1 100, 16, .inl rf1_18)), (lt, .inl (G.1.1 101, 1024, .inl lf1_18))]) ([]) rc s.heap _ _ := Z
  refine lv_aload_n hx hb dX1_errorWith_21 rfl (lv_at hl 0 rfl) ?_
  refine r_get (v := .int (nI B.2.2)) hx hb hts in_X1 hown hG (va_P.m1 Z.rc hm1 va_P.m0) 0 rfl rfl 1 (by decide) q109 (fun _ h9 => h9) rfl dX1_errorWith_22 ?_
  have hcu := cntN_le okS hk B.2.2
  refine ns_i (k := 3) (nr_S (As := [.int (nI (cntN (seedF B.2.1 src sd) k B.2.2)), .int (nI B.2.2)]) (rest := []) hx hb hml hown hts (B_shareOf l G (cntN (seedF B.2.1 src sd) k B.2.2) B.2.2 hcu (by omega) (by omega)) nPs.blind 2 q803 q804 q45 q805 (by decide +kernel) ⟨⟨Nat.le_of_ble_eq_true rfl, Nat.le_of_ble_eq_true rfl⟩, Nat.le_of_ble_eq_true rfl, Nat.le_of_ble_eq_true rfl⟩ (nPs_of hG Z va_P.m0) rfl hl.1 rfl (Nat.le_of_ble_eq_true rfl) dX1_errorWith_25) (fun r25 hp25 => ?_)
  have he25 := hp25
  have he25 : r25 = nI (shN (cntN (seedF B.2.1 src sd) k B.2.2) B.2.2) := he25
  subst he25
  refine lv_aload_n hx hb dX1_errorWith_28 rfl (lv_at hl 0 rfl) ?_
  refine nc_q (k := 3) (wcc := []) (wr := [(r, .inr (6, [.ref b_, .ref rg, .ref lt, .int (nI B.2.2)])), (rg, .inl (G.1.1 100, 16, .inl rf1_18)), (lt, .inl (G.1.1 101, 1024, .inl lf1_18))]) (nr_V (As := []) (rest := [.int (nI (shN (cntN (seedF B.2.1 src sd) k B.2.2) B.2.2))]) hx hb hml hown hts ((B_exact l G rc q B (by first | assumption | omega | rfl) (by first | assumption | omega | rfl)) _) nP.blind 0 q831 q808 q809 q45 q810 (by decide +kernel) ⟨⟨Nat.le_of_ble_eq_true rfl, Nat.le_of_ble_eq_true rfl⟩, Nat.le_of_ble_eq_true rfl, Nat.le_of_ble_eq_true rfl⟩ (r_recv hG (va_P.m1 Z.rc hm1 va_P.m0) 0 (C := "ShareStreams$Bench") rfl rfl rfl) (nP_of hG Z [] rfl (by decide) Z.rc (Z.apR [] rfl)) rfl hl.1 rfl (Nat.le_of_ble_eq_true rfl) dX1_errorWith_29) Z [] [0, 1, 2] rfl rfl (by decide) (by decide) (fun r29 u H locs hp29 Z => ?_)
  obtain ⟨e1_29, ex_29⟩ := u
  obtain ⟨he29, hp29⟩ := hp29
  have he29 : r29 = some e1_29 := he29
  subst he29
  have hp29 : ∀ v_, v_ < B.1 → ex_29 v_ = nI (exN B.2.1 v_) := hp29
  have Z : nW G A ([(r, .inr (6, [.ref b_, .ref rg, .ref lt, .int (nI B.2.2)])), (rg, .inl (G.1.1 100, 16, .inl rf1_18)), (lt, .inl (G.1.1 101, 1024, .inl lf1_18)), (e1_29, .inl (G.1.1 100, 16, .inl ex_29))]) ([]) rc s.heap _ _ := Z
  refine lv_iload hx hb dX1_errorWith_32 (lv_at hl 4 rfl) ?_
  refine r_iald hx hb hG Z.w 3 rfl (j := k) (by omega) (by decide) (v := nI (exN B.2.1 k)) (hp29 k hk) dX1_errorWith_34 ?_
  refine lv_isub hx hb dX1_errorWith_35 ?_
  refine va_mabs hx hb (hml.trans hl.1.symm) hown (hts _ q832) (hts _ q833) (hts _ q59) (hts _ q834) (Nat.le_of_ble_eq_true rfl) (Nat.le_of_ble_eq_true rfl) (by show _ ≤ 1; omega) (by show _ ≤ 16; omega) dX1_errorWith_36 ?_
  refine r_as (z := nI (bsE B src k sd)) (by unfold bsE errN; rw [ex_seed ok h0 hk]; exact ab_ap (by have := shN_le hcu (by omega); omega) (by have := ex_le ok hk; omega)) ?_
  exact ret (nI (bsE B src k sd)) (rf1_18, lf1_18) dX1_errorWith_39 rfl (Z.perm ([(r, .inr (6, [.ref b_, .ref rg, .ref lt, .int (nI B.2.2)])), (rg, .inl (G.1.1 100, 16, .inl rf1_18)), (lt, .inl (G.1.1 101, 1024, .inl lf1_18))]) [0, 1, 2] (by decide) rfl) (Nat.le_of_ble_eq_true rfl) (Nat.le_of_ble_eq_true rfl)
theorem un_kp {F : Nat → Nat → Int32} {kp : Nat → Int32} {k t : Nat} (h : ∀ i, i < t → i < 255 → kp i = nI (bitN F k i)) : ∀ i, i < t + 1 → i < 255 → upd kp t (nI (bitN F k t)) i = nI (bitN F k i) := by
  intro i h1 h2
  by_cases e : i = t
  · subst e; rw [upd_s]
  · rw [upd_n e]; exact h i (by omega) h2
theorem un_0 {F : Nat → Nat → Int32} {k t : Nat} (h : t + 1 ≤ 315) : sumN (fun i => if bitN F k (60 + i) = bitN F k (60 + i + 255) then 0 else 1) (t - 315) = sumN (fun i => if bitN F k (60 + i) = bitN F k (60 + i + 255) then 0 else 1) (t + 1 - 315) := by
  rw [show t - 315 = 0 by omega, show t + 1 - 315 = 0 by omega]
theorem un_s {F : Nat → Nat → Int32} {k t v : Nat} (h : 315 ≤ t) (hv : v = if bitN F k (t - 255) = bitN F k t then 0 else 1) : sumN (fun i => if bitN F k (60 + i) = bitN F k (60 + i + 255) then 0 else 1) (t - 315) + v = sumN (fun i => if bitN F k (60 + i) = bitN F k (60 + i + 255) then 0 else 1) (t + 1 - 315) := by
  rw [show t + 1 - 315 = (t - 315) + 1 by omega, sumN, hv, show 60 + (t - 315) = t - 255 by omega, show t - 255 + 255 = t by omega]
set_option maxHeartbeats 4000000 in
set_option maxRecDepth 100000 in
theorem B_unlike (l : Launch) (G : nG) (rc : va_W) (q : Nat) (B : nBe) (k : Nat) (hB : iBench G rc q B) (hok : beOk B) (hk : k < B.1) : nMi (S := Unit) l yX1_unlike cX1_unlike 6 (.int) 5 4 1305 106 G [.ref q, .int (nI k)] ([]) rc (fun (u : Unit) => []) (fun (r : Int32) (u : Unit) => r = (nI (unN B.2.1 k))) := by
  refine nMi.of (own := "ShareStreams$Bench") rfl (by decide +kernel) (Nat.le_of_ble_eq_true rfl) (fun _ _ _ => rfl) ?_
  intro p e s m args below meth c A Q ls hx hb hml hown hts hin hG Z hl ret
  have hl : lv_has ls 6 [(0, .ref q), (1, .int (nI k))] := hl
  have Z : nW G A ([]) ([]) rc s.heap _ _ := Z
  obtain ⟨b_, hm1, hL⟩ := id hB
  have hL0 := hL
  obtain ⟨c_, ea_, cap_, f_, hm2, hm3, hel⟩ := hL0
  obtain ⟨hn, ⟨hlen1, hlen2⟩, ok⟩ := id hok
  refine r_new (ci := 6) (fs := [.null, .null, .null, .int (nI 0)]) hx hb hts in_X6 tyX6 tyX6_ok hown q728 q729 q64 hG Z rfl (fun j hj => by rcases (show j = 0 ∨ j = 1 ∨ j = 2 ∨ j = 3 by omega) with rfl | rfl | rfl | rfl <;> rfl) (Nat.le_of_ble_eq_true rfl) (Nat.le_of_ble_eq_true rfl) dX1_unlike_0 (fun r H Z => ?_)
  have Z : nW G A ([(r, .inr (6, [.null, .null, .null, .int (nI 0)]))]) ([]) rc s.heap _ _ := Z
  refine lv_dup hx hb dX1_unlike_3 rfl ?_
  refine lv_aload_n hx hb dX1_unlike_4 rfl (lv_at hl 0 rfl) ?_
  refine nc_v (k := 3) (wcc := [(r, .inr (6, [.null, .null, .null, .int (nI 0)]))]) (wr := []) (nr_I (As := [.ref q]) (rest := [.ref r]) hx hb hml hown hts ((R_init l G rc b_ B.1 B.2.1 r q B.2.2 (by first | assumption | omega | rfl) (by first | assumption | omega | rfl) (by first | assumption | omega | rfl) (by first | assumption | omega | rfl)) _) nP.blind 1 q730 q731 q64 q732 rfl (by decide +kernel) ⟨⟨Nat.le_of_ble_eq_true rfl, Nat.le_of_ble_eq_true rfl⟩, Nat.le_of_ble_eq_true rfl, Nat.le_of_ble_eq_true rfl⟩ (nP_of hG Z [0] rfl (by decide) Z.rc (Z.apR [0] rfl)) rfl hl.1 rfl (Nat.le_of_ble_eq_true rfl) dX1_unlike_5) Z [0] [] rfl rfl (by decide) (by decide) (fun u H locs hp5 Z => ?_)
  obtain ⟨rg, lt, rf_5, lf_5⟩ := u
  have hp5 : rgI B.2.1 B.1 rf_5 0 := hp5
  have Z : nW G A ([(r, .inr (6, [.ref b_, .ref rg, .ref lt, .int (nI 0)])), (rg, .inl (G.1.1 100, 16, .inl rf_5)), (lt, .inl (G.1.1 101, 1024, .inl lf_5))]) ([]) rc s.heap _ _ := Z
  refine lv_astore_n (lv' := [(2, .ref r), (0, .ref q), (1, .int (nI k))]) hx hb dX1_unlike_8 rfl hl (by decide) rfl (fun ls hl => ?_)
  refine lv_sipush (v := nI 255) hx hb dX1_unlike_9 rfl ?_
  refine r_newb hx hb hts q149 hG Z (by decide) (Nat.le_of_ble_eq_true rfl) (Nat.le_of_ble_eq_true rfl) dX1_unlike_12 (fun kp_ H Z => ?_)
  have Z : nW G A ([(r, .inr (6, [.ref b_, .ref rg, .ref lt, .int (nI 0)])), (rg, .inl (G.1.1 100, 16, .inl rf_5)), (lt, .inl (G.1.1 101, 1024, .inl lf_5)), (kp_, .inl (G.1.1 101, 255, .inl (fun _ => 0)))]) ([]) rc s.heap _ _ := Z
  refine lv_astore_n (lv' := [(3, .ref kp_), (2, .ref r), (0, .ref q), (1, .int (nI k))]) hx hb dX1_unlike_14 rfl hl (by decide) rfl (fun ls hl => ?_)
  refine lv_iconst (v := nI 0) hx hb dX1_unlike_15 rfl ?_
  refine lv_istore (lv' := [(4, .int (nI 0)), (3, .ref kp_), (2, .ref r), (0, .ref q), (1, .int (nI k))]) hx hb dX1_unlike_16 hl (by decide) rfl (fun ls hl => ?_)
  refine lv_iconst (v := nI 0) hx hb dX1_unlike_18 rfl ?_
  refine lv_istore (lv' := [(5, .int (nI 0)), (4, .int (nI 0)), (3, .ref kp_), (2, .ref r), (0, .ref q), (1, .int (nI k))]) hx hb dX1_unlike_19 hl (by decide) rfl (fun ls hl => ?_)
  have L21 : ∀ (k_ : Nat) (t : Nat) (kp : Nat → Int32) (cn : Nat) (rf : Nat → Int32) (lf : Nat → Int32) (g1 : t ≤ 510) (g9 : cn = sumN (fun i => if bitN B.2.1 k (60 + i) = bitN B.2.1 k (60 + i + 255) then 0 else 1) (t - 315)) (g2 : ∀ i, i < t → i < 255 → kp i = nI (bitN B.2.1 k i)) (g7 : rgI B.2.1 B.1 rf t) (g8 : ltI B.2.1 B.1 lf t) (hk_ : 510 - t < k_) (H : Heap) (locs : List Loc), nW G A ([(r, .inr (6, [.ref b_, .ref rg, .ref lt, .int (nI t)])), (rg, .inl (G.1.1 100, 16, .inl rf)), (lt, .inl (G.1.1 101, 1024, .inl lf)), (kp_, .inl (G.1.1 101, 255, .inl kp))]) ([]) rc s.heap H locs → ∀ (ls : Array Slot), lv_has ls 6 [(5, .int (nI t)), (4, .int (nI cn)), (3, .ref kp_), (2, .ref r), (0, .ref q), (1, .int (nI k))] → W p l e (nRm 5 4 1305 106) s m args below meth c H locs 4 1299 Q (F0 m 21 ls []) := by
    intro k_
    induction k_ with
    | zero => intro t kp cn rf lf g1 g9 g2 g7 g8 hk_; exact absurd hk_ (Nat.not_lt_zero _)
    | succ k_ ih_L21 =>
      intro t kp cn rf lf g1 g9 g2 g7 g8 hk_ H locs Z ls hl
      refine lv_iload hx hb dX1_unlike_21 (lv_at hl 0 rfl) ?_
      refine lv_sipush (v := nI 510) hx hb dX1_unlike_23 rfl ?_
      refine lv_icmp_ge (tgt := 97) hx hb dX1_unlike_26 (by decide) (fun c26 => ?_) (fun c26 => ?_)
      · skip
        have c26 := n_le_t (a := 510) (b := t) c26 (by decide) (by omega)
        have c26 : t = 510 := by omega
        refine lv_iload hx hb dX1_unlike_97 (lv_at hl 1 rfl) ?_
        exact ret (nI cn) () dX1_unlike_99 (by rw [g9, c26]; rfl) (Z.perm ([]) [] (by decide) rfl) (Nat.le_of_ble_eq_true rfl) (Nat.le_of_ble_eq_true rfl)
      · skip
        have c26 := n_le_f (a := 510) (b := t) c26 (by decide) (by omega)
        refine lv_aload_n hx hb dX1_unlike_29 rfl (lv_at hl 3 rfl) ?_
        refine nc_v (k := 3) (wcc := [(r, .inr (6, [.ref b_, .ref rg, .ref lt, .int (nI t)])), (rg, .inl (G.1.1 100, 16, .inl rf)), (lt, .inl (G.1.1 101, 1024, .inl lf))]) (wr := [(kp_, .inl (G.1.1 101, 255, .inl kp))]) (nr_V (As := []) (rest := []) hx hb hml hown hts ((R_step l G rc b_ B.1 B.2.1 B.2.1 r rg lt rf lf t (by first | assumption | omega | rfl) (by first | assumption | omega | rfl) (by first | assumption | omega | rfl) lnAg.rfl' (by first | assumption | omega | rfl) (by first | assumption | omega | rfl) (by first | assumption | omega | rfl)) _) nP.blind 0 q864 q766 q767 q64 q768 (by decide +kernel) ⟨⟨Nat.le_of_ble_eq_true rfl, Nat.le_of_ble_eq_true rfl⟩, Nat.le_of_ble_eq_true rfl, Nat.le_of_ble_eq_true rfl⟩ (r_recv hG Z.w 0 (C := "ShareStreams$Run") rfl rfl rfl) (nP_of hG Z [0, 1, 2] rfl (by decide) Z.rc (Z.apR [0, 1, 2] rfl)) rfl hl.1 rfl (Nat.le_of_ble_eq_true rfl) dX1_unlike_30) Z [0, 1, 2] [3] rfl rfl (by decide) (by decide) (fun u H locs hp30 Z => ?_)
        obtain ⟨rf1_30, lf1_30⟩ := u
        have hp30 : rgI B.2.1 B.1 rf1_30 (t + 1) ∧ ltI B.2.1 B.1 lf1_30 (t + 1) := hp30
        have Z : nW G A ([(kp_, .inl (G.1.1 101, 255, .inl kp)), (r, .inr (6, [.ref b_, .ref rg, .ref lt, .int (nI (t + 1))])), (rg, .inl (G.1.1 100, 16, .inl rf1_30)), (lt, .inl (G.1.1 101, 1024, .inl lf1_30))]) ([]) rc s.heap _ _ := Z
        have Z := Z.perm ([(r, .inr (6, [.ref b_, .ref rg, .ref lt, .int (nI (t + 1))])), (rg, .inl (G.1.1 100, 16, .inl rf1_30)), (lt, .inl (G.1.1 101, 1024, .inl lf1_30)), (kp_, .inl (G.1.1 101, 255, .inl kp))]) [1, 2, 3, 0] (by decide) rfl
        have hbk := bit_le ok hk t
        refine lv_iload hx hb dX1_unlike_33 (lv_at hl 0 rfl) ?_
        refine lv_sipush (v := nI 255) hx hb dX1_unlike_35 rfl ?_
        refine lv_icmp_ge (tgt := 54) hx hb dX1_unlike_38 (by decide) (fun c38 => ?_) (fun c38 => ?_)
        · skip
          have c38 := n_le_t (a := 255) (b := t) c38 (by decide) (by omega)
          refine lv_iload hx hb dX1_unlike_54 (lv_at hl 1 rfl) ?_
          refine lv_iload hx hb dX1_unlike_56 (lv_at hl 0 rfl) ?_
          refine lv_sipush (v := nI 255) hx hb dX1_unlike_58 rfl ?_
          refine lv_isub hx hb dX1_unlike_61 ?_
          refine r_as (z := nI (t - 255)) (pk_sub (by omega)) ?_
          refine lv_bipush (v := nI 60) hx hb dX1_unlike_62 rfl ?_
          have J88 : ∀ (v : Nat) (hv : cn + v = sumN (fun i => if bitN B.2.1 k (60 + i) = bitN B.2.1 k (60 + i + 255) then 0 else 1) (t + 1 - 315)) (H : Heap) (locs : List Loc), nW G A ([(r, .inr (6, [.ref b_, .ref rg, .ref lt, .int (nI (t + 1))])), (rg, .inl (G.1.1 100, 16, .inl rf1_30)), (lt, .inl (G.1.1 101, 1024, .inl lf1_30)), (kp_, .inl (G.1.1 101, 255, .inl kp))]) ([]) rc s.heap H locs → ∀ (ls : Array Slot), lv_has ls 6 [(5, .int (nI t)), (4, .int (nI cn)), (3, .ref kp_), (2, .ref r), (0, .ref q), (1, .int (nI k))] → W p l e (nRm 5 4 1305 106) s m args below meth c H locs 4 1299 Q (F0 m 88 ls [.int (nI v), .int (nI cn)]) := by
            intro v hv H locs Z ls hl
            refine lv_iadd hx hb dX1_unlike_88 ?_
            refine r_as (z := nI (cn + v)) (nI_add _ _) ?_
            refine lv_istore (lv' := [(4, .int (nI (cn + v))), (5, .int (nI t)), (3, .ref kp_), (2, .ref r), (0, .ref q), (1, .int (nI k))]) hx hb dX1_unlike_89 hl (by decide) rfl (fun ls hl => ?_)
            refine lv_iinc (v := nI (t + 1)) (lv' := [(5, .int (nI (t + 1))), (4, .int (nI (cn + v))), (3, .ref kp_), (2, .ref r), (0, .ref q), (1, .int (nI k))]) hx hb dX1_unlike_91 hl (k := 1) rfl (nI_add _ _) (by decide) rfl (fun ls hl => ?_)
            refine lv_goto (tgt := 21) hx hb dX1_unlike_94 (by decide) ?_
            exact ih_L21 (t + 1) kp (cn + v) rf1_30 lf1_30 (by first | assumption | omega) (by first | exact hv | (rw [g9]; exact un_0 (by omega))) (by first | exact un_kp g2 | exact fun i h1_ h2_ => g2 i (by omega) h2_) hp30.1 hp30.2 (by omega) _ _ Z _ (lv_sub hl [0, 1, 2, 3, 4, 5] rfl)
          refine lv_icmp_lt (tgt := 87) hx hb dX1_unlike_64 (by decide) (fun c64 => ?_) (fun c64 => ?_)
          · skip
            have c64 := n_lt_t (a := t - 255) (b := 60) c64 (by omega) (by decide)
            refine lv_iconst (v := nI 0) hx hb dX1_unlike_87 rfl ?_
            exact J88 0 (by rw [g9]; first | exact un_0 (by omega) | exact un_s (by omega) (by first | (rw [if_pos c80]; done) | (rw [if_neg c80]; done))) _ _ Z _ (lv_sub hl [0, 1, 2, 3, 4, 5] rfl)
          · skip
            have c64 := n_lt_f (a := t - 255) (b := 60) c64 (by omega) (by decide)
            refine lv_aload_n hx hb dX1_unlike_67 rfl (lv_at hl 2 rfl) ?_
            refine lv_iload hx hb dX1_unlike_68 (lv_at hl 0 rfl) ?_
            refine lv_sipush (v := nI 255) hx hb dX1_unlike_70 rfl ?_
            refine lv_isub hx hb dX1_unlike_73 ?_
            refine r_as (z := nI (t - 255)) (pk_sub (by omega)) ?_
            refine r_bald hx hb hG Z.w 3 rfl (j := t - 255) (by omega) (by decide) (v := nI (bitN B.2.1 k (t - 255))) (g2 _ (by omega) (by omega)) dX1_unlike_74 ?_
            have hbo := bit_le ok hk (t - 255)
            refine lv_aload_n hx hb dX1_unlike_75 rfl (lv_at hl 3 rfl) ?_
            refine lv_iload_n hx hb dX1_unlike_76 rfl (lv_at hl 5 rfl) ?_
            refine ns_i (k := 3) (nr_V (As := [.int (nI k)]) (rest := [.int (nI (bitN B.2.1 k (t - 255))), .int (nI cn)]) hx hb hml hown hts (R_bit l G r b_ rg lt B.1 B.2.1 lf1_30 (t + 1) k (by first | assumption | omega | rfl) (by first | assumption | omega | rfl) (by first | assumption | omega | rfl) (by first | assumption | omega | rfl) hp30.2) nPs.blind 1 q865 q795 q796 q64 q797 (by decide +kernel) ⟨⟨Nat.le_of_ble_eq_true rfl, Nat.le_of_ble_eq_true rfl⟩, Nat.le_of_ble_eq_true rfl, Nat.le_of_ble_eq_true rfl⟩ (r_recv hG Z.w 0 (C := "ShareStreams$Run") rfl rfl rfl) (nPs_of hG Z (Z.w.sub [0, 2] rfl)) rfl hl.1 rfl (Nat.le_of_ble_eq_true rfl) dX1_unlike_77) (fun r77 hp77 => ?_)
            have he77 := hp77
            have he77 : r77 = nI (bitN B.2.1 k ((t + 1) - 1)) := he77
            subst he77
            refine r_as (z := nI (bitN B.2.1 k t)) rfl ?_
            refine lv_icmp_eq (tgt := 87) hx hb dX1_unlike_80 (by decide) (fun c80 => ?_) (fun c80 => ?_)
            · skip
              have c80 := n_eq_t (a := bitN B.2.1 k (t - 255)) (b := bitN B.2.1 k t) c80 (by omega) (by omega)
              refine lv_iconst (v := nI 0) hx hb dX1_unlike_87 rfl ?_
              exact J88 0 (by rw [g9]; first | exact un_0 (by omega) | exact un_s (by omega) (by first | (rw [if_pos c80]; done) | (rw [if_neg c80]; done))) _ _ Z _ (lv_sub hl [0, 1, 2, 3, 4, 5] rfl)
            · skip
              have c80 := n_eq_f (a := bitN B.2.1 k (t - 255)) (b := bitN B.2.1 k t) c80
              refine lv_iconst (v := nI 1) hx hb dX1_unlike_83 rfl ?_
              refine lv_goto (tgt := 88) hx hb dX1_unlike_84 (by decide) ?_
              exact J88 1 (by rw [g9]; first | exact un_0 (by omega) | exact un_s (by omega) (by first | (rw [if_pos c80]; done) | (rw [if_neg c80]; done))) _ _ Z _ (lv_sub hl [0, 1, 2, 3, 4, 5] rfl)
        · skip
          have c38 := n_le_f (a := 255) (b := t) c38 (by decide) (by omega)
          refine lv_aload_n hx hb dX1_unlike_41 rfl (lv_at hl 2 rfl) ?_
          refine lv_iload hx hb dX1_unlike_42 (lv_at hl 0 rfl) ?_
          refine lv_aload_n hx hb dX1_unlike_44 rfl (lv_at hl 3 rfl) ?_
          refine lv_iload_n hx hb dX1_unlike_45 rfl (lv_at hl 5 rfl) ?_
          refine ns_i (k := 3) (nr_V (As := [.int (nI k)]) (rest := [.int (nI t), .ref kp_]) hx hb hml hown hts (R_bit l G r b_ rg lt B.1 B.2.1 lf1_30 (t + 1) k (by first | assumption | omega | rfl) (by first | assumption | omega | rfl) (by first | assumption | omega | rfl) (by first | assumption | omega | rfl) hp30.2) nPs.blind 1 q865 q795 q796 q64 q797 (by decide +kernel) ⟨⟨Nat.le_of_ble_eq_true rfl, Nat.le_of_ble_eq_true rfl⟩, Nat.le_of_ble_eq_true rfl, Nat.le_of_ble_eq_true rfl⟩ (r_recv hG Z.w 0 (C := "ShareStreams$Run") rfl rfl rfl) (nPs_of hG Z (Z.w.sub [0, 2] rfl)) rfl hl.1 rfl (Nat.le_of_ble_eq_true rfl) dX1_unlike_46) (fun r46 hp46 => ?_)
          have he46 := hp46
          have he46 : r46 = nI (bitN B.2.1 k ((t + 1) - 1)) := he46
          subst he46
          refine r_as (z := nI (bitN B.2.1 k t)) rfl ?_
          refine lv_i2b (v := nI (bitN B.2.1 k t)) hx hb dX1_unlike_49 (i8_01 _ hbk) ?_
          refine r_bast hx hb hG Z 3 rfl (j := t) (z := nI (bitN B.2.1 k t)) (by rw [vp_nar_byte]; exact i8_01 _ hbk) (by omega) (by decide) (wc' := [(r, .inr (6, [.ref b_, .ref rg, .ref lt, .int (nI (t + 1))])), (rg, .inl (G.1.1 100, 16, .inl rf1_30)), (lt, .inl (G.1.1 101, 1024, .inl lf1_30)), (kp_, .inl (G.1.1 101, 255, .inl (upd kp t (nI (bitN B.2.1 k t)))))]) rfl dX1_unlike_50 (fun H locs Z => ?_)
          refine lv_goto (tgt := 91) hx hb dX1_unlike_51 (by decide) ?_
          refine lv_iinc (v := nI (t + 1)) (lv' := [(5, .int (nI (t + 1))), (4, .int (nI cn)), (3, .ref kp_), (2, .ref r), (0, .ref q), (1, .int (nI k))]) hx hb dX1_unlike_91 hl (k := 0) rfl (nI_add _ _) (by decide) rfl (fun ls hl => ?_)
          refine lv_goto (tgt := 21) hx hb dX1_unlike_94 (by decide) ?_
          exact ih_L21 (t + 1) (upd kp t (nI (bitN B.2.1 k t))) cn rf1_30 lf1_30 (by first | assumption | omega) (by first | exact hv | (rw [g9]; exact un_0 (by omega))) (by first | exact un_kp g2 | exact fun i h1_ h2_ => g2 i (by omega) h2_) hp30.1 hp30.2 (by omega) _ _ Z _ (lv_sub hl [0, 1, 2, 3, 4, 5] rfl)
  exact L21 _ 0 (fun _ => 0) 0 rf_5 lf_5 (by first | assumption | omega) rfl (fun i hi => absurd hi (Nat.not_lt_zero _)) hp5 (fun j hj t ht => absurd ht (Nat.not_lt_zero _)) (Nat.lt_succ_self _) _ _ Z _ (lv_sub hl [0, 1, 2, 3, 4, 5] rfl)
set_option maxHeartbeats 4000000 in
set_option maxRecDepth 100000 in
theorem B_sources (l : Launch) (G : nG) (rc : va_W) (q : Nat) (B : nBe) (hB : iBench G rc q B) (hok : beOk B) : nSi l yX1_sources cX1_sources 3 (.int) 3 64 G [.ref q] rc (fun r : Int32 => r = (nI (srcN B))) := by
  refine nSi.of (own := "ShareStreams$Bench") rfl (by decide +kernel) (Nat.le_of_ble_eq_true rfl) (fun _ _ => rfl) ?_
  intro p e s m args below meth c Q ls hx hb hml hown hts hG hP hl ret
  have hl : lv_has ls 3 [(0, .ref q)] := hl
  obtain ⟨b_, hm1, hL⟩ := id hB
  have hL0 := hL
  obtain ⟨c_, ea_, cap_, f_, hm2, hm3, hel⟩ := hL0
  obtain ⟨hn, ⟨hlen1, hlen2⟩, ok⟩ := id hok
  refine lv_iconst (v := nI 0) hx hb dX1_sources_0 rfl ?_
  refine lv_istore_n (lv' := [(1, .int (nI 0)), (0, .ref q)]) hx hb dX1_sources_1 rfl hl (by decide) rfl (fun ls hl => ?_)
  refine lv_iconst (v := nI 0) hx hb dX1_sources_2 rfl ?_
  refine lv_istore_n (lv' := [(2, .int (nI 0)), (1, .int (nI 0)), (0, .ref q)]) hx hb dX1_sources_3 rfl hl (by decide) rfl (fun ls hl => ?_)
  have L4 : ∀ (k_ : Nat) (k : Nat) (s1 : Nat) (g1 : k ≤ B.1) (g2 : s1 = sumN (fun k => if kd B.2.1 k = 0 then 1 else 0) k) (hk_ : B.1 - k < k_) (ls : Array Slot), lv_has ls 3 [(2, .int (nI k)), (1, .int (nI s1)), (0, .ref q)] → W p l e (nRm 3 0 0 64) s m args below meth c s.heap [] 0 0 Q (F0 m 4 ls []) := by
    intro k_
    induction k_ with
    | zero => intro k s1 g1 g2 hk_; exact absurd hk_ (Nat.not_lt_zero _)
    | succ k_ ih_L4 =>
      intro k s1 g1 g2 hk_ ls hl
      refine lv_iload_n hx hb dX1_sources_4 rfl (lv_at hl 0 rfl) ?_
      refine lv_aload_n hx hb dX1_sources_5 rfl (lv_at hl 2 rfl) ?_
      refine r_get (v := .ref b_) hx hb hts in_X1 hown hG (va_P.m1 hP hm1 va_P.m0) 0 rfl rfl 0 (by decide) q106 (fun _ h9 => h9) rfl dX1_sources_6 ?_
      refine ns_i (k := 5) (nr_F (C := "java/util/ArrayList") (ci := 3) (As := []) (rest := [.int (nI k)]) hx hb hml hown hts hG (J2_sz l G b_ c_ ea_ B.1) nPs.blind 0 q206 q196 q198 q48 q200 (by decide +kernel) (by decide +kernel) ⟨⟨Nat.le_of_ble_eq_true rfl, Nat.le_of_ble_eq_true rfl⟩, Nat.le_of_ble_eq_true rfl, Nat.le_of_ble_eq_true rfl⟩ rfl rfl (r_recv hG (va_P.m1 hP hm2 va_P.m0) 0 (C := "java/util/ArrayList") rfl rfl rfl) (nPs_of0 hG (va_P.m1 hP hm2 va_P.m0)) rfl hl.1 rfl (Nat.le_of_ble_eq_true rfl) dX1_sources_9) (fun r9 hp9 => ?_)
      have he9 := hp9
      have he9 : r9 = nI B.1 := he9
      subst he9
      refine lv_icmp_ge (tgt := 52) hx hb dX1_sources_14 (by decide) (fun c14 => ?_) (fun c14 => ?_)
      · skip
        have c14 := n_le_t (a := B.1) (b := k) c14 (by omega) (by omega)
        have c14 : k = B.1 := by omega
        subst c14
        refine lv_iload_n hx hb dX1_sources_52 rfl (lv_at hl 1 rfl) ?_
        exact ret (nI s1) dX1_sources_53 (congrArg nI g2)
      · skip
        have c14 := n_le_f (a := B.1) (b := k) c14 (by omega) (by omega)
        obtain ⟨hm3a, hm3b, hm3c⟩ := hm3.resolve_left (by omega)
        obtain ⟨y_, hy_, hln⟩ := hel k (by omega)
        have hln0 := hln
        obtain ⟨a_, L_, fl_, hm4, hm5, hL_, hrow⟩ := hln0
        have hi_ := hm3c
        have hokk := ok k (by omega)
        obtain ⟨⟨hk0, hk6⟩, ls0, ls1, ls2, ls3, ls6, ln3, ln2⟩ := id hokk
        refine lv_iload_n hx hb dX1_sources_17 rfl (lv_at hl 1 rfl) ?_
        refine lv_aload_n hx hb dX1_sources_18 rfl (lv_at hl 2 rfl) ?_
        refine r_get (v := .ref b_) hx hb hts in_X1 hown hG (va_P.m1 hP hm1 va_P.m0) 0 rfl rfl 0 (by decide) q106 (fun _ h9 => h9) rfl dX1_sources_19 ?_
        refine lv_iload_n hx hb dX1_sources_22 rfl (lv_at hl 0 rfl) ?_
        refine ns_q (k := 5) (nr_F (C := "java/util/ArrayList") (ci := 3) (As := [.int (nI k)]) (rest := [.int (nI s1)]) hx hb hml hown hts hG (J2_g l G b_ c_ ea_ B.1 cap_ f_ k (by omega) hm3b (by omega)) nPs.blind 1 q208 q211 q213 q48 q215 (by decide +kernel) (by decide +kernel) ⟨⟨Nat.le_of_ble_eq_true rfl, Nat.le_of_ble_eq_true rfl⟩, Nat.le_of_ble_eq_true rfl, Nat.le_of_ble_eq_true rfl⟩ rfl rfl (r_recv hG (va_P.m1 hP hm2 va_P.m0) 0 (C := "java/util/ArrayList") rfl rfl rfl) (nPs_of0 hG (va_P.m1 hP hm2 (va_P.m1 hP hm3a va_P.m0))) rfl hl.1 rfl (Nat.le_of_ble_eq_true rfl) dX1_sources_23) (fun r23 hp23 => ?_)
        have he23 := hp23
        have he23 : r23 = f_ k := he23
        subst he23
        rw [hy_]
        refine r_cast (C := "ShareStreams$Plain") hx hb hts hown q226 q342 hG (r_recv hG (va_P.m1 hP hm4 va_P.m0) 0 (C := "ShareStreams$Plain") rfl rfl rfl) dX1_sources_28 ?_
        refine ns_i (k := 5) (nr_F (C := "ShareStreams$Plain") (ci := 4) (As := []) (rest := [.int (nI s1)]) hx hb hml hown hts hG (L_kind l G rc y_ (B.2.1 k) (by first | assumption | omega | rfl)) nPs.blind 0 q845 q343 q345 q55 q347 (by decide +kernel) (by decide +kernel) ⟨⟨Nat.le_of_ble_eq_true rfl, Nat.le_of_ble_eq_true rfl⟩, Nat.le_of_ble_eq_true rfl, Nat.le_of_ble_eq_true rfl⟩ rfl rfl (r_recv hG (va_P.m1 hP hm4 va_P.m0) 0 (C := "ShareStreams$Plain") rfl rfl rfl) (nPs_of0 hG hP) rfl hl.1 rfl (Nat.le_of_ble_eq_true rfl) dX1_sources_31) (fun r31 hp31 => ?_)
        have he31 := hp31
        have he31 : r31 = (B.2.1 k) 0 := he31
        subst he31
        refine r_as (z := nI (kd B.2.1 k)) hk0 ?_
        refine lv_if_ne (tgt := 43) hx hb dX1_sources_36 (by decide) (fun c36 => ?_) (fun c36 => ?_)
        · skip
          have c36 := n_eq_f (a := kd B.2.1 k) (b := 0) c36
          refine lv_iconst (v := nI 0) hx hb dX1_sources_43 rfl ?_
          refine lv_iadd hx hb dX1_sources_44 ?_
          refine r_as (z := nI s1) (nI_add _ _) ?_
          refine lv_istore_n (lv' := [(1, .int (nI s1)), (2, .int (nI k)), (0, .ref q)]) hx hb dX1_sources_45 rfl hl (by decide) rfl (fun ls hl => ?_)
          refine lv_iinc (v := nI (k + 1)) (lv' := [(2, .int (nI (k + 1))), (1, .int (nI s1)), (0, .ref q)]) hx hb dX1_sources_46 hl (k := 1) rfl (nI_add _ _) (by decide) rfl (fun ls hl => ?_)
          refine lv_goto (tgt := 4) hx hb dX1_sources_49 (by decide) ?_
          exact ih_L4 (k + 1) s1 (by first | assumption | omega) (by rw [sumN, ← g2]; first | (rw [if_pos c36]; done) | (rw [if_neg c36]; rfl)) (by omega) _ (lv_sub hl [0, 1, 2] rfl)
        · skip
          have c36 := n_eq_t (a := kd B.2.1 k) (b := 0) c36 (by omega) (by decide)
          refine lv_iconst (v := nI 1) hx hb dX1_sources_39 rfl ?_
          refine lv_goto (tgt := 44) hx hb dX1_sources_40 (by decide) ?_
          refine lv_iadd hx hb dX1_sources_44 ?_
          refine r_as (z := nI (s1 + 1)) (nI_add _ _) ?_
          refine lv_istore_n (lv' := [(1, .int (nI (s1 + 1))), (2, .int (nI k)), (0, .ref q)]) hx hb dX1_sources_45 rfl hl (by decide) rfl (fun ls hl => ?_)
          refine lv_iinc (v := nI (k + 1)) (lv' := [(2, .int (nI (k + 1))), (1, .int (nI (s1 + 1))), (0, .ref q)]) hx hb dX1_sources_46 hl (k := 1) rfl (nI_add _ _) (by decide) rfl (fun ls hl => ?_)
          refine lv_goto (tgt := 4) hx hb dX1_sources_49 (by decide) ?_
          exact ih_L4 (k + 1) (s1 + 1) (by first | assumption | omega) (by rw [sumN, ← g2]; first | (rw [if_pos c36]; done) | (rw [if_neg c36]; rfl)) (by omega) _ (lv_sub hl [0, 1, 2] rfl)
  exact L4 _ 0 0 (by first | assumption | omega) rfl (Nat.lt_succ_self _) _ (lv_sub hl [0, 1, 2] rfl)
set_option maxHeartbeats 4000000 in
set_option maxRecDepth 100000 in
theorem B_deepest (l : Launch) (G : nG) (rc : va_W) (q : Nat) (B : nBe) (hB : iBench G rc q B) (hok : beOk B) : nMi (S := Unit) l yX1_deepest cX1_deepest 4 (.int) 4 1 16 88 G [.ref q] ([]) rc (fun (u : Unit) => []) (fun (r : Int32) (u : Unit) => r = (nI (mxN (dpN B.2.1) B.1))) := by
  refine nMi.of (own := "ShareStreams$Bench") rfl (by decide +kernel) (Nat.le_of_ble_eq_true rfl) (fun _ _ _ => rfl) ?_
  intro p e s m args below meth c A Q ls hx hb hml hown hts hin hG Z hl ret
  have hl : lv_has ls 4 [(0, .ref q)] := hl
  have Z : nW G A ([]) ([]) rc s.heap _ _ := Z
  obtain ⟨b_, hm1, hL⟩ := id hB
  have hL0 := hL
  obtain ⟨c_, ea_, cap_, f_, hm2, hm3, hel⟩ := hL0
  obtain ⟨hn, ⟨hlen1, hlen2⟩, ok⟩ := id hok
  refine lv_aload_n hx hb dX1_deepest_0 rfl (lv_at hl 0 rfl) ?_
  refine nc_q (k := 3) (wcc := []) (wr := []) (nr_V (As := []) (rest := []) hx hb hml hown hts ((B_depths l G rc q B (by first | assumption | omega | rfl) (by first | assumption | omega | rfl)) _) nP.blind 0 q924 q836 q837 q45 q838 (by decide +kernel) ⟨⟨Nat.le_of_ble_eq_true rfl, Nat.le_of_ble_eq_true rfl⟩, Nat.le_of_ble_eq_true rfl, Nat.le_of_ble_eq_true rfl⟩ (r_recv hG (va_P.m1 Z.rc hm1 va_P.m0) 0 (C := "ShareStreams$Bench") rfl rfl rfl) (nP_of hG Z [] rfl (by decide) Z.rc (Z.apR [] rfl)) rfl hl.1 rfl (Nat.le_of_ble_eq_true rfl) dX1_deepest_1) Z [] [] rfl rfl (by decide) (by decide) (fun r1 u H locs hp1 Z => ?_)
  obtain ⟨e1_1, dp_1⟩ := u
  obtain ⟨he1, hp1⟩ := hp1
  have he1 : r1 = some e1_1 := he1
  subst he1
  have hp1 : (∀ v_, v_ < B.1 → dp_1 v_ = nI (dpN B.2.1 v_)) ∧ ∀ v_, B.1 ≤ v_ → v_ < 16 → dp_1 v_ = 0 := hp1
  have Z : nW G A ([(e1_1, .inl (G.1.1 100, 16, .inl dp_1))]) ([]) rc s.heap _ _ := Z
  refine lv_astore_n (lv' := [(1, .ref e1_1), (0, .ref q)]) hx hb dX1_deepest_4 rfl hl (by decide) rfl (fun ls hl => ?_)
  refine lv_iconst (v := nI 0) hx hb dX1_deepest_5 rfl ?_
  refine lv_istore_n (lv' := [(2, .int (nI 0)), (1, .ref e1_1), (0, .ref q)]) hx hb dX1_deepest_6 rfl hl (by decide) rfl (fun ls hl => ?_)
  refine lv_iconst (v := nI 0) hx hb dX1_deepest_7 rfl ?_
  refine lv_istore_n (lv' := [(3, .int (nI 0)), (2, .int (nI 0)), (1, .ref e1_1), (0, .ref q)]) hx hb dX1_deepest_8 rfl hl (by decide) rfl (fun ls hl => ?_)
  have L9 : ∀ (k_ : Nat) (k : Nat) (m1 : Nat) (g1 : k ≤ 16) (g2 : m1 = mxN (dpN B.2.1) (min k B.1)) (g3 : m1 ≤ 16) (hk_ : 16 - k < k_) (H : Heap) (locs : List Loc), nW G A ([(e1_1, .inl (G.1.1 100, 16, .inl dp_1))]) ([]) rc s.heap H locs → ∀ (ls : Array Slot), lv_has ls 4 [(3, .int (nI k)), (2, .int (nI m1)), (1, .ref e1_1), (0, .ref q)] → W p l e (nRm 4 1 16 88) s m args below meth c H locs 1 16 Q (F0 m 9 ls []) := by
    intro k_
    induction k_ with
    | zero => intro k m1 g1 g2 g3 hk_; exact absurd hk_ (Nat.not_lt_zero _)
    | succ k_ ih_L9 =>
      intro k m1 g1 g2 g3 hk_ H locs Z ls hl
      refine lv_iload_n hx hb dX1_deepest_9 rfl (lv_at hl 0 rfl) ?_
      refine lv_bipush (v := nI 16) hx hb dX1_deepest_10 rfl ?_
      refine lv_icmp_ge (tgt := 29) hx hb dX1_deepest_12 (by decide) (fun c12 => ?_) (fun c12 => ?_)
      · skip
        have c12 := n_le_t (a := 16) (b := k) c12 (by decide) (by omega)
        have c12 : k = 16 := by omega
        refine lv_iload_n hx hb dX1_deepest_29 rfl (lv_at hl 1 rfl) ?_
        exact ret (nI m1) () dX1_deepest_30 (by rw [g2, c12, Nat.min_eq_right hn]) (Z.perm ([]) [] (by decide) rfl) (Nat.le_of_ble_eq_true rfl) (Nat.le_of_ble_eq_true rfl)
      · skip
        have c12 := n_le_f (a := 16) (b := k) c12 (by decide) (by omega)
        refine lv_iload_n hx hb dX1_deepest_15 rfl (lv_at hl 1 rfl) ?_
        refine lv_aload_n hx hb dX1_deepest_16 rfl (lv_at hl 2 rfl) ?_
        refine lv_iload_n hx hb dX1_deepest_17 rfl (lv_at hl 0 rfl) ?_
        refine r_iald hx hb hG Z.w 0 rfl (j := k) (by omega) (by decide) (v := nI (if k < B.1 then dpN B.2.1 k else 0)) (by by_cases h9 : k < B.1; { rw [if_pos h9]; exact hp1.1 k h9 }; { rw [if_neg h9]; exact hp1.2 k (by omega) (by omega) }) dX1_deepest_18 ?_
        have hdq : (if k < B.1 then dpN B.2.1 k else 0) ≤ 16 := by split; { rename_i h9; have := dp_le ok h9; omega }; { omega }
        refine va_mmax hx hb (hml.trans hl.1.symm) hown (hts _ q839) (hts _ q252) (hts _ q59) (hts _ q253) (Nat.le_of_ble_eq_true rfl) (Nat.le_of_ble_eq_true rfl) (by show _ ≤ 1; omega) (by show _ ≤ 16; omega) dX1_deepest_19 ?_
        refine r_as (z := nI (max m1 (if k < B.1 then dpN B.2.1 k else 0))) (mx_n (by omega) (by omega)) ?_
        refine lv_istore_n (lv' := [(2, .int (nI (max m1 (if k < B.1 then dpN B.2.1 k else 0)))), (3, .int (nI k)), (1, .ref e1_1), (0, .ref q)]) hx hb dX1_deepest_22 rfl hl (by decide) rfl (fun ls hl => ?_)
        refine lv_iinc (v := nI (k + 1)) (lv' := [(3, .int (nI (k + 1))), (2, .int (nI (max m1 (if k < B.1 then dpN B.2.1 k else 0)))), (1, .ref e1_1), (0, .ref q)]) hx hb dX1_deepest_23 hl (k := 1) rfl (nI_add _ _) (by decide) rfl (fun ls hl => ?_)
        refine lv_goto (tgt := 9) hx hb dX1_deepest_26 (by decide) ?_
        exact ih_L9 (k + 1) (max m1 (if k < B.1 then dpN B.2.1 k else 0)) (by first | assumption | omega) (by rw [g2]; by_cases h9 : k < B.1; { rw [if_pos h9, (min_s h9).1, (min_s h9).2, mxN] }; { rw [if_neg h9, min_n h9]; omega }) (by first | assumption | omega) (by omega) _ _ Z _ (lv_sub hl [0, 1, 2, 3] rfl)
  exact L9 _ 0 0 (by first | assumption | omega) (by rw [Nat.zero_min]; rfl) (by first | assumption | omega) (Nat.lt_succ_self _) _ _ Z _ (lv_sub hl [0, 1, 2, 3] rfl)
set_option maxHeartbeats 4000000 in
set_option maxRecDepth 100000 in
theorem B_errors (l : Launch) (G : nG) (rc : va_W) (q : Nat) (B : nBe) (hB : iBench G rc q B) (hok : beOk B) : nMq (S := Nat × (Nat → Int32)) l yX1_errors cX1_errors 6 ((.array .int)) 5 5 1100 106 G [.ref q] ([]) rc (fun (u : Nat × (Nat → Int32)) => [(u.1, .inl (G.1.1 100, B.1, .inl u.2))]) (fun (r : Option Nat) (u : Nat × (Nat → Int32)) => r = (some u.1) ∧ (∀ v_, v_ < B.1 → u.2 v_ = nI (erE B v_))) := by
  refine nMq.of (own := "ShareStreams$Bench") rfl (by decide +kernel) (Nat.le_of_ble_eq_true rfl) (Or.inr ⟨_, rfl⟩) ?_
  intro p e s m args below meth c A Q ls hx hb hml hown hts hin hG Z hl ret
  have hl : lv_has ls 6 [(0, .ref q)] := hl
  have Z : nW G A ([]) ([]) rc s.heap _ _ := Z
  obtain ⟨b_, hm1, hL⟩ := id hB
  have hL0 := hL
  obtain ⟨c_, ea_, cap_, f_, hm2, hm3, hel⟩ := hL0
  obtain ⟨hn, ⟨hlen1, hlen2⟩, ok⟩ := id hok
  refine lv_aload_n hx hb dX1_errors_0 rfl (lv_at hl 0 rfl) ?_
  refine r_get (v := .ref b_) hx hb hts in_X1 hown hG (va_P.m1 Z.rc hm1 va_P.m0) 0 rfl rfl 0 (by decide) q106 (fun _ h9 => h9) rfl dX1_errors_1 ?_
  refine ns_i (k := 5) (nr_F (C := "java/util/ArrayList") (ci := 3) (As := []) (rest := []) hx hb hml hown hts hG (J2_sz l G b_ c_ ea_ B.1) nPs.blind 0 q206 q196 q198 q48 q200 (by decide +kernel) (by decide +kernel) ⟨⟨Nat.le_of_ble_eq_true rfl, Nat.le_of_ble_eq_true rfl⟩, Nat.le_of_ble_eq_true rfl, Nat.le_of_ble_eq_true rfl⟩ rfl rfl (r_recv hG (va_P.m1 Z.rc hm2 va_P.m0) 0 (C := "java/util/ArrayList") rfl rfl rfl) (nPs_of hG Z (va_P.m1 Z.rc hm2 va_P.m0)) rfl hl.1 rfl (Nat.le_of_ble_eq_true rfl) dX1_errors_4) (fun r4 hp4 => ?_)
  have he4 := hp4
  have he4 : r4 = nI B.1 := he4
  subst he4
  refine r_newi hx hb hts q186 hG Z (by omega) (Nat.le_of_ble_eq_true rfl) (by show _ ≤ 1100; omega) dX1_errors_9 (fun e1 H Z => ?_)
  have Z : nW G A ([(e1, .inl (G.1.1 100, B.1, .inl (fun _ => 0)))]) ([]) rc s.heap _ _ := Z
  refine lv_astore_n (lv' := [(1, .ref e1), (0, .ref q)]) hx hb dX1_errors_11 rfl hl (by decide) rfl (fun ls hl => ?_)
  refine lv_aload_n hx hb dX1_errors_12 rfl (lv_at hl 1 rfl) ?_
  refine r_get (v := .ref b_) hx hb hts in_X1 hown hG (va_P.m1 Z.rc hm1 va_P.m0) 0 rfl rfl 0 (by decide) q106 (fun _ h9 => h9) rfl dX1_errors_13 ?_
  refine ns_i (k := 5) (nr_F (C := "java/util/ArrayList") (ci := 3) (As := []) (rest := []) hx hb hml hown hts hG (J2_em l G b_ c_ ea_ B.1 (by first | assumption | omega | rfl)) nPs.blind 0 q913 q707 q709 q48 q711 (by decide +kernel) (by decide +kernel) ⟨⟨Nat.le_of_ble_eq_true rfl, Nat.le_of_ble_eq_true rfl⟩, Nat.le_of_ble_eq_true rfl, (by show _ ≤ 1100; omega)⟩ rfl rfl (r_recv hG (va_P.m1 Z.rc hm2 va_P.m0) 0 (C := "java/util/ArrayList") rfl rfl rfl) (nPs_of hG Z (va_P.m1 Z.rc hm2 va_P.m0)) rfl hl.1 rfl (Nat.le_of_ble_eq_true rfl) dX1_errors_16) (fun r16 hp16 => ?_)
  have he16 := hp16
  have he16 : r16 = bI (decide (B.1 = 0)) := he16
  subst he16
  refine lv_if_eq (tgt := 26) hx hb dX1_errors_21 (by decide) (fun c21 => ?_) (fun c21 => ?_)
  · skip
    have c21 := bI_f c21
    refine lv_aload_n hx hb dX1_errors_26 rfl (lv_at hl 1 rfl) ?_
    refine nc_q (k := 3) (wcc := []) (wr := [(e1, .inl (G.1.1 100, B.1, .inl (fun _ => 0)))]) (nr_V (As := []) (rest := []) hx hb hml hown hts ((B_exact l G rc q B (by first | assumption | omega | rfl) (by first | assumption | omega | rfl)) _) nP.blind 0 q831 q808 q809 q45 q810 (by decide +kernel) ⟨⟨Nat.le_of_ble_eq_true rfl, Nat.le_of_ble_eq_true rfl⟩, Nat.le_of_ble_eq_true rfl, (by show _ ≤ 1100; omega)⟩ (r_recv hG (va_P.m1 Z.rc hm1 va_P.m0) 0 (C := "ShareStreams$Bench") rfl rfl rfl) (nP_of hG Z [] rfl (by decide) Z.rc (Z.apR [] rfl)) rfl hl.1 rfl (Nat.le_of_ble_eq_true rfl) dX1_errors_27) Z [] [0] rfl rfl (by decide) (by decide) (fun r27 u H locs hp27 Z => ?_)
    obtain ⟨e1_27, ex_27⟩ := u
    obtain ⟨he27, hp27⟩ := hp27
    have he27 : r27 = some e1_27 := he27
    subst he27
    have hp27 : ∀ v_, v_ < B.1 → ex_27 v_ = nI (exN B.2.1 v_) := hp27
    have Z : nW G A ([(e1, .inl (G.1.1 100, B.1, .inl (fun _ => 0))), (e1_27, .inl (G.1.1 100, 16, .inl ex_27))]) ([]) rc s.heap _ _ := Z
    refine lv_astore_n (lv' := [(2, .ref e1_27), (1, .ref e1), (0, .ref q)]) hx hb dX1_errors_30 rfl hl (by decide) rfl (fun ls hl => ?_)
    refine r_new (ci := 6) (fs := [.null, .null, .null, .int (nI 0)]) hx hb hts in_X6 tyX6 tyX6_ok hown q728 q729 q64 hG Z rfl (fun j hj => by rcases (show j = 0 ∨ j = 1 ∨ j = 2 ∨ j = 3 by omega) with rfl | rfl | rfl | rfl <;> rfl) (Nat.le_of_ble_eq_true rfl) (by show _ ≤ 1100; omega) dX1_errors_31 (fun r H Z => ?_)
    have Z : nW G A ([(e1, .inl (G.1.1 100, B.1, .inl (fun _ => 0))), (e1_27, .inl (G.1.1 100, 16, .inl ex_27)), (r, .inr (6, [.null, .null, .null, .int (nI 0)]))]) ([]) rc s.heap _ _ := Z
    refine lv_dup hx hb dX1_errors_34 rfl ?_
    refine lv_aload_n hx hb dX1_errors_35 rfl (lv_at hl 2 rfl) ?_
    refine nc_v (k := 3) (wcc := [(r, .inr (6, [.null, .null, .null, .int (nI 0)]))]) (wr := [(e1, .inl (G.1.1 100, B.1, .inl (fun _ => 0))), (e1_27, .inl (G.1.1 100, 16, .inl ex_27))]) (nr_I (As := [.ref q]) (rest := [.ref r]) hx hb hml hown hts ((R_init l G rc b_ B.1 B.2.1 r q B.2.2 (by first | assumption | omega | rfl) (by first | assumption | omega | rfl) (by first | assumption | omega | rfl) (by first | assumption | omega | rfl)) _) nP.blind 1 q730 q731 q64 q732 rfl (by decide +kernel) ⟨⟨Nat.le_of_ble_eq_true rfl, Nat.le_of_ble_eq_true rfl⟩, Nat.le_of_ble_eq_true rfl, (by show _ ≤ 1100; omega)⟩ (nP_of hG Z [2] rfl (by decide) Z.rc (Z.apR [2] rfl)) rfl hl.1 rfl (Nat.le_of_ble_eq_true rfl) dX1_errors_36) Z [2] [0, 1] rfl rfl (by decide) (by decide) (fun u H locs hp36 Z => ?_)
    obtain ⟨rg, lt, rf_36, lf_36⟩ := u
    have hp36 : rgI B.2.1 B.1 rf_36 0 := hp36
    have Z : nW G A ([(e1, .inl (G.1.1 100, B.1, .inl (fun _ => 0))), (e1_27, .inl (G.1.1 100, 16, .inl ex_27)), (r, .inr (6, [.ref b_, .ref rg, .ref lt, .int (nI 0)])), (rg, .inl (G.1.1 100, 16, .inl rf_36)), (lt, .inl (G.1.1 101, 1024, .inl lf_36))]) ([]) rc s.heap _ _ := Z
    have Z := Z.perm ([(r, .inr (6, [.ref b_, .ref rg, .ref lt, .int (nI 0)])), (rg, .inl (G.1.1 100, 16, .inl rf_36)), (lt, .inl (G.1.1 101, 1024, .inl lf_36)), (e1, .inl (G.1.1 100, B.1, .inl (fun _ => 0))), (e1_27, .inl (G.1.1 100, 16, .inl ex_27))]) [2, 3, 4, 0, 1] (by decide) rfl
    refine lv_astore_n (lv' := [(3, .ref r), (2, .ref e1_27), (1, .ref e1), (0, .ref q)]) hx hb dX1_errors_39 rfl hl (by decide) rfl (fun ls hl => ?_)
    refine lv_iconst (v := nI 0) hx hb dX1_errors_40 rfl ?_
    refine lv_istore (lv' := [(4, .int (nI 0)), (3, .ref r), (2, .ref e1_27), (1, .ref e1), (0, .ref q)]) hx hb dX1_errors_41 hl (by decide) rfl (fun ls hl => ?_)
    have L43 : ∀ (k_ : Nat) (t : Nat) (er : Nat → Int32) (rf : Nat → Int32) (lf : Nat → Int32) (g1 : t ≤ B.2.2) (g2 : ∀ j, j < B.1 → er j = nI (cntN B.2.1 j t)) (g7 : rgI B.2.1 B.1 rf t) (g8 : ltI B.2.1 B.1 lf t) (hk_ : B.2.2 - t < k_) (H : Heap) (locs : List Loc), nW G A ([(r, .inr (6, [.ref b_, .ref rg, .ref lt, .int (nI t)])), (rg, .inl (G.1.1 100, 16, .inl rf)), (lt, .inl (G.1.1 101, 1024, .inl lf)), (e1, .inl (G.1.1 100, B.1, .inl er)), (e1_27, .inl (G.1.1 100, 16, .inl ex_27))]) ([]) rc s.heap H locs → ∀ (ls : Array Slot), lv_has ls 6 [(4, .int (nI t)), (3, .ref r), (2, .ref e1_27), (1, .ref e1), (0, .ref q)] → W p l e (nRm 5 5 1100 106) s m args below meth c H locs 5 (0 + B.1 + 16 + 4 + 1040) Q (F0 m 43 ls []) := by
      intro k_
      induction k_ with
      | zero => intro t er rf lf g1 g2 g7 g8 hk_; exact absurd hk_ (Nat.not_lt_zero _)
      | succ k_ ih_L43 =>
        intro t er rf lf g1 g2 g7 g8 hk_ H locs Z ls hl
        refine lv_iload hx hb dX1_errors_43 (lv_at hl 0 rfl) ?_
        refine lv_aload_n hx hb dX1_errors_45 rfl (lv_at hl 4 rfl) ?_
        refine r_get (v := .int (nI B.2.2)) hx hb hts in_X1 hown hG (va_P.m1 Z.rc hm1 va_P.m0) 0 rfl rfl 1 (by decide) q109 (fun _ h9 => h9) rfl dX1_errors_46 ?_
        refine lv_icmp_ge (tgt := 91) hx hb dX1_errors_49 (by decide) (fun c49 => ?_) (fun c49 => ?_)
        · skip
          have c49 := n_le_t (a := B.2.2) (b := t) c49 (by omega) (by omega)
          have c49 : t = B.2.2 := by omega
          refine lv_iconst (v := nI 0) hx hb dX1_errors_91 rfl ?_
          refine lv_istore (lv' := [(4, .int (nI 0)), (3, .ref r), (2, .ref e1_27), (1, .ref e1), (0, .ref q)]) hx hb dX1_errors_92 hl (by decide) rfl (fun ls hl => ?_)
          have L94 : ∀ (k_ : Nat) (k : Nat) (er : Nat → Int32) (g1 : k ≤ B.1) (g4 : ∀ i, i < k → er i = nI (erE B i)) (g5 : ∀ i, k ≤ i → i < B.1 → er i = nI (cntN B.2.1 i B.2.2)) (hk_ : B.1 - k < k_) (H : Heap) (locs : List Loc), nW G A ([(e1, .inl (G.1.1 100, B.1, .inl er)), (e1_27, .inl (G.1.1 100, 16, .inl ex_27))]) ([]) rc s.heap H locs → ∀ (ls : Array Slot), lv_has ls 6 [(4, .int (nI k)), (2, .ref e1_27), (1, .ref e1), (0, .ref q)] → W p l e (nRm 5 5 1100 106) s m args below meth c H locs 5 (0 + B.1 + 16 + 4 + 1040) Q (F0 m 94 ls []) := by
            intro k_
            induction k_ with
            | zero => intro k er g1 g4 g5 hk_; exact absurd hk_ (Nat.not_lt_zero _)
            | succ k_ ih_L94 =>
              intro k er g1 g4 g5 hk_ H locs Z ls hl
              refine lv_iload hx hb dX1_errors_94 (lv_at hl 0 rfl) ?_
              refine lv_aload_n hx hb dX1_errors_96 rfl (lv_at hl 2 rfl) ?_
              refine r_alen hx hb hG Z.w 0 0 rfl rfl dX1_errors_97 ?_
              refine lv_icmp_ge (tgt := 130) hx hb dX1_errors_98 (by decide) (fun c98 => ?_) (fun c98 => ?_)
              · skip
                have c98 := n_le_t (a := B.1) (b := k) c98 (by omega) (by omega)
                have c98 : k = B.1 := by omega
                subst c98
                refine lv_aload_n hx hb dX1_errors_130 rfl (lv_at hl 2 rfl) ?_
                exact ret (some e1) (e1, er) dX1_errors_131 (⟨rfl, g4⟩) (Z.perm ([(e1, .inl (G.1.1 100, B.1, .inl er))]) [0] (by decide) rfl) (Nat.le_of_ble_eq_true rfl) (by omega)
              · skip
                have c98 := n_le_f (a := B.1) (b := k) c98 (by omega) (by omega)
                refine lv_aload_n hx hb dX1_errors_101 rfl (lv_at hl 2 rfl) ?_
                refine lv_iload hx hb dX1_errors_102 (lv_at hl 0 rfl) ?_
                refine lv_aload_n hx hb dX1_errors_104 rfl (lv_at hl 2 rfl) ?_
                refine lv_iload hx hb dX1_errors_105 (lv_at hl 0 rfl) ?_
                refine r_iald hx hb hG Z.w 0 rfl (j := k) (by omega) (by omega) (v := nI (cntN B.2.1 k B.2.2)) (g5 k (Nat.le_refl _) (by omega)) dX1_errors_107 ?_
                refine lv_aload_n hx hb dX1_errors_108 rfl (lv_at hl 3 rfl) ?_
                refine r_get (v := .int (nI B.2.2)) hx hb hts in_X1 hown hG (va_P.m1 Z.rc hm1 va_P.m0) 0 rfl rfl 1 (by decide) q109 (fun _ h9 => h9) rfl dX1_errors_109 ?_
                have hkB : k < B.1 := by omega
                have hcu := cntN_le ok hkB B.2.2
                refine ns_i (k := 3) (nr_S (As := [.int (nI (cntN B.2.1 k B.2.2)), .int (nI B.2.2)]) (rest := [.int (nI k), .ref e1]) hx hb hml hown hts (B_shareOf l G (cntN B.2.1 k B.2.2) B.2.2 hcu (by first | assumption | omega | rfl) (by first | assumption | omega | rfl)) nPs.blind 2 q803 q804 q45 q805 (by decide +kernel) ⟨⟨Nat.le_of_ble_eq_true rfl, Nat.le_of_ble_eq_true rfl⟩, Nat.le_of_ble_eq_true rfl, (by show _ ≤ 1100; omega)⟩ (nPs_of hG Z va_P.m0) rfl hl.1 rfl (Nat.le_of_ble_eq_true rfl) dX1_errors_112) (fun r112 hp112 => ?_)
                have he112 := hp112
                have he112 : r112 = nI (shN (cntN B.2.1 k B.2.2) B.2.2) := he112
                subst he112
                refine lv_aload_n hx hb dX1_errors_115 rfl (lv_at hl 1 rfl) ?_
                refine lv_iload hx hb dX1_errors_116 (lv_at hl 0 rfl) ?_
                refine r_iald hx hb hG Z.w 1 rfl (j := k) (by omega) (by decide) (v := nI (exN B.2.1 k)) (hp27 k (by omega)) dX1_errors_118 ?_
                refine lv_isub hx hb dX1_errors_119 ?_
                refine va_mabs hx hb (hml.trans hl.1.symm) hown (hts _ q832) (hts _ q833) (hts _ q59) (hts _ q834) (Nat.le_of_ble_eq_true rfl) (Nat.le_of_ble_eq_true rfl) (by show _ ≤ 5; omega) (by show _ ≤ 1100; omega) dX1_errors_120 ?_
                refine r_as (z := nI (erE B k)) (ab_ap (by have := shN_le hcu (by omega); omega) (by have := ex_le ok hkB; omega)) ?_
                refine r_iast hx hb hG Z 0 rfl (j := k) (by omega) (by omega) (wc' := [(e1, .inl (G.1.1 100, B.1, .inl (upd er k (nI (erE B k))))), (e1_27, .inl (G.1.1 100, 16, .inl ex_27))]) rfl dX1_errors_123 (fun H locs Z => ?_)
                refine lv_iinc (v := nI (k + 1)) (lv' := [(4, .int (nI (k + 1))), (2, .ref e1_27), (1, .ref e1), (0, .ref q)]) hx hb dX1_errors_124 hl (k := 0) rfl (nI_add _ _) (by decide) rfl (fun ls hl => ?_)
                refine lv_goto (tgt := 94) hx hb dX1_errors_127 (by decide) ?_
                exact ih_L94 (k + 1) (upd er k (nI (erE B k))) (by first | assumption | omega) (lt_succ_of (upd_lt g4) (by first | (rw [upd_s]; done) | (rw [upd_s]; rfl))) (fun i h1_ h2_ => by rw [upd_n (by omega)]; exact g5 i (by omega) h2_) (by omega) _ _ Z _ (lv_sub hl [0, 1, 2, 3] rfl)
          exact L94 _ 0 er (by first | assumption | omega) (fun i hi => absurd hi (Nat.not_lt_zero _)) (fun i _ hi => by rw [g2 i hi, c49]) (Nat.lt_succ_self _) _ _ (Z.perm ([(e1, .inl (G.1.1 100, B.1, .inl er)), (e1_27, .inl (G.1.1 100, 16, .inl ex_27))]) [3, 4] (by decide) rfl) _ (lv_sub hl [0, 2, 3, 4] rfl)
        · skip
          have c49 := n_le_f (a := B.2.2) (b := t) c49 (by omega) (by omega)
          refine lv_aload_n hx hb dX1_errors_52 rfl (lv_at hl 1 rfl) ?_
          refine nc_v (k := 3) (wcc := [(r, .inr (6, [.ref b_, .ref rg, .ref lt, .int (nI t)])), (rg, .inl (G.1.1 100, 16, .inl rf)), (lt, .inl (G.1.1 101, 1024, .inl lf))]) (wr := [(e1, .inl (G.1.1 100, B.1, .inl er)), (e1_27, .inl (G.1.1 100, 16, .inl ex_27))]) (nr_V (As := []) (rest := []) hx hb hml hown hts ((R_step l G rc b_ B.1 B.2.1 B.2.1 r rg lt rf lf t (by first | assumption | omega | rfl) (by first | assumption | omega | rfl) (by first | assumption | omega | rfl) lnAg.rfl' (by first | assumption | omega | rfl) (by first | assumption | omega | rfl) (by first | assumption | omega | rfl)) _) nP.blind 0 q864 q766 q767 q64 q768 (by decide +kernel) ⟨⟨Nat.le_of_ble_eq_true rfl, Nat.le_of_ble_eq_true rfl⟩, Nat.le_of_ble_eq_true rfl, (by show _ ≤ 1100; omega)⟩ (r_recv hG Z.w 0 (C := "ShareStreams$Run") rfl rfl rfl) (nP_of hG Z [0, 1, 2] rfl (by decide) Z.rc (Z.apR [0, 1, 2] rfl)) rfl hl.1 rfl (Nat.le_of_ble_eq_true rfl) dX1_errors_53) Z [0, 1, 2] [3, 4] rfl rfl (by decide) (by decide) (fun u H locs hp53 Z => ?_)
          obtain ⟨rf1_53, lf1_53⟩ := u
          have hp53 : rgI B.2.1 B.1 rf1_53 (t + 1) ∧ ltI B.2.1 B.1 lf1_53 (t + 1) := hp53
          have Z : nW G A ([(e1, .inl (G.1.1 100, B.1, .inl er)), (e1_27, .inl (G.1.1 100, 16, .inl ex_27)), (r, .inr (6, [.ref b_, .ref rg, .ref lt, .int (nI (t + 1))])), (rg, .inl (G.1.1 100, 16, .inl rf1_53)), (lt, .inl (G.1.1 101, 1024, .inl lf1_53))]) ([]) rc s.heap _ _ := Z
          have Z := Z.perm ([(r, .inr (6, [.ref b_, .ref rg, .ref lt, .int (nI (t + 1))])), (rg, .inl (G.1.1 100, 16, .inl rf1_53)), (lt, .inl (G.1.1 101, 1024, .inl lf1_53)), (e1, .inl (G.1.1 100, B.1, .inl er)), (e1_27, .inl (G.1.1 100, 16, .inl ex_27))]) [2, 3, 4, 0, 1] (by decide) rfl
          refine lv_iconst (v := nI 0) hx hb dX1_errors_56 rfl ?_
          refine lv_istore (lv' := [(5, .int (nI 0)), (4, .int (nI t)), (3, .ref r), (2, .ref e1_27), (1, .ref e1), (0, .ref q)]) hx hb dX1_errors_57 hl (by decide) rfl (fun ls hl => ?_)
          have L59 : ∀ (k_ : Nat) (j : Nat) (er : Nat → Int32) (g3 : j ≤ B.1) (g4 : ∀ i, i < j → er i = nI (cntN B.2.1 i (t + 1))) (g5 : ∀ i, j ≤ i → i < B.1 → er i = nI (cntN B.2.1 i t)) (hk_ : B.1 - j < k_) (H : Heap) (locs : List Loc), nW G A ([(r, .inr (6, [.ref b_, .ref rg, .ref lt, .int (nI (t + 1))])), (rg, .inl (G.1.1 100, 16, .inl rf1_53)), (lt, .inl (G.1.1 101, 1024, .inl lf1_53)), (e1, .inl (G.1.1 100, B.1, .inl er)), (e1_27, .inl (G.1.1 100, 16, .inl ex_27))]) ([]) rc s.heap H locs → ∀ (ls : Array Slot), lv_has ls 6 [(5, .int (nI j)), (4, .int (nI t)), (3, .ref r), (2, .ref e1_27), (1, .ref e1), (0, .ref q)] → W p l e (nRm 5 5 1100 106) s m args below meth c H locs 5 (0 + B.1 + 16 + 4 + 1040) Q (F0 m 59 ls []) := by
            intro k_
            induction k_ with
            | zero => intro j er g3 g4 g5 hk_; exact absurd hk_ (Nat.not_lt_zero _)
            | succ k_ ih_L59 =>
              intro j er g3 g4 g5 hk_ H locs Z ls hl
              refine lv_iload hx hb dX1_errors_59 (lv_at hl 0 rfl) ?_
              refine lv_aload_n hx hb dX1_errors_61 rfl (lv_at hl 4 rfl) ?_
              refine r_alen hx hb hG Z.w 3 0 rfl rfl dX1_errors_62 ?_
              refine lv_icmp_ge (tgt := 85) hx hb dX1_errors_63 (by decide) (fun c63 => ?_) (fun c63 => ?_)
              · skip
                have c63 := n_le_t (a := B.1) (b := j) c63 (by omega) (by omega)
                refine lv_iinc (v := nI (t + 1)) (lv' := [(4, .int (nI (t + 1))), (5, .int (nI j)), (3, .ref r), (2, .ref e1_27), (1, .ref e1), (0, .ref q)]) hx hb dX1_errors_85 hl (k := 1) rfl (nI_add _ _) (by decide) rfl (fun ls hl => ?_)
                refine lv_goto (tgt := 43) hx hb dX1_errors_88 (by decide) ?_
                exact ih_L43 (t + 1) er rf1_53 lf1_53 (by first | assumption | omega) (fun j hj => g4 j (by omega)) hp53.1 hp53.2 (by omega) _ _ Z _ (lv_sub hl [0, 2, 3, 4, 5] rfl)
              · skip
                have c63 := n_le_f (a := B.1) (b := j) c63 (by omega) (by omega)
                refine lv_aload_n hx hb dX1_errors_66 rfl (lv_at hl 4 rfl) ?_
                refine lv_iload hx hb dX1_errors_67 (lv_at hl 0 rfl) ?_
                refine lv_dup2_11 hx hb dX1_errors_69 rfl rfl ?_
                refine r_iald hx hb hG Z.w 3 rfl (j := j) (by omega) (by omega) (v := nI (cntN B.2.1 j t)) (g5 j (Nat.le_refl _) (by omega)) dX1_errors_70 ?_
                refine lv_aload_n hx hb dX1_errors_71 rfl (lv_at hl 2 rfl) ?_
                refine lv_iload hx hb dX1_errors_72 (lv_at hl 0 rfl) ?_
                refine ns_i (k := 3) (nr_V (As := [.int (nI j)]) (rest := [.int (nI (cntN B.2.1 j t)), .int (nI j), .ref e1]) hx hb hml hown hts (R_bit l G r b_ rg lt B.1 B.2.1 lf1_53 (t + 1) j (by first | assumption | omega | rfl) (by first | assumption | omega | rfl) (by first | assumption | omega | rfl) (by first | assumption | omega | rfl) hp53.2) nPs.blind 1 q865 q795 q796 q64 q797 (by decide +kernel) ⟨⟨Nat.le_of_ble_eq_true rfl, Nat.le_of_ble_eq_true rfl⟩, Nat.le_of_ble_eq_true rfl, (by show _ ≤ 1100; omega)⟩ (r_recv hG Z.w 0 (C := "ShareStreams$Run") rfl rfl rfl) (nPs_of hG Z (Z.w.sub [0, 2] rfl)) rfl hl.1 rfl (Nat.le_of_ble_eq_true rfl) dX1_errors_74) (fun r74 hp74 => ?_)
                have he74 := hp74
                have he74 : r74 = nI (bitN B.2.1 j ((t + 1) - 1)) := he74
                subst he74
                refine r_as (z := nI (bitN B.2.1 j t)) rfl ?_
                refine lv_iadd hx hb dX1_errors_77 ?_
                refine r_as (z := nI (cntN B.2.1 j (t + 1))) (nI_add _ _) ?_
                refine r_iast hx hb hG Z 3 rfl (j := j) (by omega) (by omega) (wc' := [(r, .inr (6, [.ref b_, .ref rg, .ref lt, .int (nI (t + 1))])), (rg, .inl (G.1.1 100, 16, .inl rf1_53)), (lt, .inl (G.1.1 101, 1024, .inl lf1_53)), (e1, .inl (G.1.1 100, B.1, .inl (upd er j (nI (cntN B.2.1 j (t + 1)))))), (e1_27, .inl (G.1.1 100, 16, .inl ex_27))]) rfl dX1_errors_78 (fun H locs Z => ?_)
                refine lv_iinc (v := nI (j + 1)) (lv' := [(5, .int (nI (j + 1))), (4, .int (nI t)), (3, .ref r), (2, .ref e1_27), (1, .ref e1), (0, .ref q)]) hx hb dX1_errors_79 hl (k := 0) rfl (nI_add _ _) (by decide) rfl (fun ls hl => ?_)
                refine lv_goto (tgt := 59) hx hb dX1_errors_82 (by decide) ?_
                exact ih_L59 (j + 1) (upd er j (nI (cntN B.2.1 j (t + 1)))) (by first | assumption | omega) (lt_succ_of (upd_lt g4) (by first | (rw [upd_s]; done) | (rw [upd_s]; rfl))) (fun i h1_ h2_ => by rw [upd_n (by omega)]; exact g5 i (by omega) h2_) (by omega) _ _ Z _ (lv_sub hl [0, 1, 2, 3, 4, 5] rfl)
          exact L59 _ 0 er (by first | assumption | omega) (fun i hi => absurd hi (Nat.not_lt_zero _)) (fun i _ hi => g2 i hi) (Nat.lt_succ_self _) _ _ Z _ (lv_sub hl [0, 1, 2, 3, 4, 5] rfl)
    exact L43 _ 0 (fun _ => 0) rf_36 lf_36 (by first | assumption | omega) (fun j hj => rfl) hp36 (fun j hj t ht => absurd ht (Nat.not_lt_zero _)) (Nat.lt_succ_self _) _ _ Z _ (lv_sub hl [0, 1, 2, 3, 4] rfl)
  · skip
    have c21 := bI_t c21
    have c21 := of_decide_eq_true c21
    refine lv_aload_n hx hb dX1_errors_24 rfl (lv_at hl 0 rfl) ?_
    exact ret (some e1) (e1, fun _ => 0) dX1_errors_25 (⟨rfl, (fun v_ hv_ => by omega)⟩) Z (Nat.le_of_ble_eq_true rfl) (by omega)
set_option maxHeartbeats 4000000 in
set_option maxRecDepth 100000 in
theorem S_sum (l : Launch) (G : nG) (ea : Nat) (n : Nat) (f : Nat → Int32) (g : Nat → Nat) (hn : n < 2 ^ 20) (hf : ∀ v_, v_ < n → f v_ = nI (g v_)) : nSi l yX0_sum cX0_sum 3 (.int) 0 0 G [.ref ea] ([(ea, .inl (G.1.1 100, n, .inl f))]) (fun r : Int32 => r = (nI (sumN g n))) := by
  refine nSi.of (own := "ShareStreams") rfl (by decide +kernel) (Nat.le_of_ble_eq_true rfl) (fun _ _ => rfl) ?_
  intro p e s m args below meth c Q ls hx hb hml hown hts hG hP hl ret
  have hl : lv_has ls 3 [(0, .ref ea)] := hl
  refine lv_iconst (v := nI 0) hx hb dX0_sum_0 rfl ?_
  refine lv_istore_n (lv' := [(1, .int (nI 0)), (0, .ref ea)]) hx hb dX0_sum_1 rfl hl (by decide) rfl (fun ls hl => ?_)
  refine lv_iconst (v := nI 0) hx hb dX0_sum_2 rfl ?_
  refine lv_istore_n (lv' := [(2, .int (nI 0)), (1, .int (nI 0)), (0, .ref ea)]) hx hb dX0_sum_3 rfl hl (by decide) rfl (fun ls hl => ?_)
  have L4 : ∀ (k_ : Nat) (k : Nat) (g1 : k ≤ n) (hk_ : n - k < k_) (ls : Array Slot), lv_has ls 3 [(2, .int (nI k)), (1, .int (nI (sumN g k))), (0, .ref ea)] → W p l e (nRm 0 0 0 0) s m args below meth c s.heap [] 0 0 Q (F0 m 4 ls []) := by
    intro k_
    induction k_ with
    | zero => intro k g1 hk_; exact absurd hk_ (Nat.not_lt_zero _)
    | succ k_ ih_L4 =>
      intro k g1 hk_ ls hl
      refine lv_iload_n hx hb dX0_sum_4 rfl (lv_at hl 0 rfl) ?_
      refine lv_aload_n hx hb dX0_sum_5 rfl (lv_at hl 2 rfl) ?_
      refine r_alen hx hb hG hP 0 0 rfl rfl dX0_sum_6 ?_
      refine lv_icmp_ge (tgt := 22) hx hb dX0_sum_7 (by decide) (fun c7 => ?_) (fun c7 => ?_)
      · skip
        have c7 := n_le_t (a := n) (b := k) c7 (by omega) (by omega)
        have c7 : k = n := by omega
        subst c7
        refine lv_iload_n hx hb dX0_sum_22 rfl (lv_at hl 1 rfl) ?_
        exact ret (nI (sumN g k)) dX0_sum_23 rfl
      · skip
        have c7 := n_le_f (a := n) (b := k) c7 (by omega) (by omega)
        refine lv_iload_n hx hb dX0_sum_10 rfl (lv_at hl 1 rfl) ?_
        refine lv_aload_n hx hb dX0_sum_11 rfl (lv_at hl 2 rfl) ?_
        refine lv_iload_n hx hb dX0_sum_12 rfl (lv_at hl 0 rfl) ?_
        refine r_iald hx hb hG hP 0 rfl (j := k) (by omega) (by omega) (v := nI (g k)) (hf k (by omega)) dX0_sum_13 ?_
        refine lv_iadd hx hb dX0_sum_14 ?_
        refine r_as (z := nI (sumN g (k + 1))) (nI_add _ _) ?_
        refine lv_istore_n (lv' := [(1, .int (nI (sumN g (k + 1)))), (2, .int (nI k)), (0, .ref ea)]) hx hb dX0_sum_15 rfl hl (by decide) rfl (fun ls hl => ?_)
        refine lv_iinc (v := nI (k + 1)) (lv' := [(2, .int (nI (k + 1))), (1, .int (nI (sumN g (k + 1)))), (0, .ref ea)]) hx hb dX0_sum_16 hl (k := 1) rfl (nI_add _ _) (by decide) rfl (fun ls hl => ?_)
        refine lv_goto (tgt := 4) hx hb dX0_sum_19 (by decide) ?_
        exact ih_L4 (k + 1) (by first | assumption | omega) (by omega) _ (lv_sub hl [0, 1, 2] rfl)
  exact L4 _ 0 (by first | assumption | omega) (Nat.lt_succ_self _) _ (lv_sub hl [0, 1, 2] rfl)
set_option maxHeartbeats 4000000 in
set_option maxRecDepth 100000 in
theorem S_greatest (l : Launch) (G : nG) (ea : Nat) (n : Nat) (f : Nat → Int32) (g : Nat → Nat) (hn : n < 2 ^ 20) (hf : ∀ v_, v_ < n → f v_ = nI (g v_)) (hg : ∀ v_, v_ < n → g v_ < 2 ^ 31) : nSi l yX0_greatest cX0_greatest 3 (.int) 0 0 G [.ref ea] ([(ea, .inl (G.1.1 100, n, .inl f))]) (fun r : Int32 => r = (if n = 0 then cNONE else nI (wsI g (n - 1)))) := by
  refine nSi.of (own := "ShareStreams") rfl (by decide +kernel) (Nat.le_of_ble_eq_true rfl) (fun _ _ => rfl) ?_
  intro p e s m args below meth c Q ls hx hb hml hown hts hG hP hl ret
  have hl : lv_has ls 3 [(0, .ref ea)] := hl
  refine lv_aload_n hx hb dX0_greatest_0 rfl (lv_at hl 0 rfl) ?_
  refine r_alen hx hb hG hP 0 0 rfl rfl dX0_greatest_1 ?_
  refine lv_if_ne (tgt := 10) hx hb dX0_greatest_2 (by decide) (fun c2 => ?_) (fun c2 => ?_)
  · skip
    have c2 := n_eq_f (a := n) (b := 0) c2
    refine lv_iconst (v := nI 0) hx hb dX0_greatest_10 rfl ?_
    refine lv_istore_n (lv' := [(1, .int (nI 0)), (0, .ref ea)]) hx hb dX0_greatest_11 rfl hl (by decide) rfl (fun ls hl => ?_)
    refine lv_iconst (v := nI 1) hx hb dX0_greatest_12 rfl ?_
    refine lv_istore_n (lv' := [(2, .int (nI 1)), (1, .int (nI 0)), (0, .ref ea)]) hx hb dX0_greatest_13 rfl hl (by decide) rfl (fun ls hl => ?_)
    have L14 : ∀ (k_ : Nat) (k : Nat) (b1 : Nat) (g1 : k < n) (g2 : b1 = wsI g k) (hk_ : n - k < k_) (ls : Array Slot), lv_has ls 3 [(2, .int (nI (k + 1))), (1, .int (nI b1)), (0, .ref ea)] → W p l e (nRm 0 0 0 0) s m args below meth c s.heap [] 0 0 Q (F0 m 14 ls []) := by
      intro k_
      induction k_ with
      | zero => intro k b1 g1 g2 hk_; exact absurd hk_ (Nat.not_lt_zero _)
      | succ k_ ih_L14 =>
        intro k b1 g1 g2 hk_ ls hl
        refine lv_iload_n hx hb dX0_greatest_14 rfl (lv_at hl 0 rfl) ?_
        refine lv_aload_n hx hb dX0_greatest_15 rfl (lv_at hl 2 rfl) ?_
        refine r_alen hx hb hG hP 0 0 rfl rfl dX0_greatest_16 ?_
        refine lv_icmp_ge (tgt := 41) hx hb dX0_greatest_17 (by decide) (fun c17 => ?_) (fun c17 => ?_)
        · skip
          have c17 := n_le_t (a := n) (b := k + 1) c17 (by omega) (by omega)
          refine lv_iload_n hx hb dX0_greatest_41 rfl (lv_at hl 1 rfl) ?_
          exact ret (nI b1) dX0_greatest_42 (by first | (rw [if_pos (by omega)]; done) | (rw [if_neg (by omega), g2]; congr 2; omega))
        · skip
          have c17 := n_le_f (a := n) (b := k + 1) c17 (by omega) (by omega)
          have hws := wsI_le g k
          have hv1 := hg (k + 1) (by omega)
          have hv2 := hg b1 (by omega)
          refine lv_aload_n hx hb dX0_greatest_20 rfl (lv_at hl 2 rfl) ?_
          refine lv_iload_n hx hb dX0_greatest_21 rfl (lv_at hl 0 rfl) ?_
          refine r_iald hx hb hG hP 0 rfl (j := k + 1) (by omega) (by omega) (v := nI (g (k + 1))) (hf _ (by omega)) dX0_greatest_22 ?_
          refine lv_aload_n hx hb dX0_greatest_23 rfl (lv_at hl 2 rfl) ?_
          refine lv_iload_n hx hb dX0_greatest_24 rfl (lv_at hl 1 rfl) ?_
          refine r_iald hx hb hG hP 0 rfl (j := b1) (by omega) (by omega) (v := nI (g b1)) (hf _ (by omega)) dX0_greatest_25 ?_
          refine lv_icmp_le (tgt := 33) hx hb dX0_greatest_26 (by decide) (fun c26 => ?_) (fun c26 => ?_)
          · skip
            have c26 := n_le_t (a := g (k + 1)) (b := g b1) c26 (by omega) (by omega)
            refine lv_iload_n hx hb dX0_greatest_33 rfl (lv_at hl 1 rfl) ?_
            refine lv_istore_n (lv' := [(1, .int (nI b1)), (2, .int (nI (k + 1))), (0, .ref ea)]) hx hb dX0_greatest_34 rfl hl (by decide) rfl (fun ls hl => ?_)
            refine lv_iinc (v := nI (k + 1 + 1)) (lv' := [(2, .int (nI (k + 1 + 1))), (1, .int (nI b1)), (0, .ref ea)]) hx hb dX0_greatest_35 hl (k := 1) rfl (nI_add _ _) (by decide) rfl (fun ls hl => ?_)
            refine lv_goto (tgt := 14) hx hb dX0_greatest_38 (by decide) ?_
            exact ih_L14 (k + 1) b1 (by omega) (by rw [wsI, ← g2]; first | (rw [if_pos c26]; done) | (rw [if_neg (by omega)]; done)) (by omega) _ (lv_sub hl [0, 1, 2] rfl)
          · skip
            have c26 := n_le_f (a := g (k + 1)) (b := g b1) c26 (by omega) (by omega)
            refine lv_iload_n hx hb dX0_greatest_29 rfl (lv_at hl 0 rfl) ?_
            refine lv_goto (tgt := 34) hx hb dX0_greatest_30 (by decide) ?_
            refine lv_istore_n (lv' := [(1, .int (nI (k + 1))), (2, .int (nI (k + 1))), (0, .ref ea)]) hx hb dX0_greatest_34 rfl hl (by decide) rfl (fun ls hl => ?_)
            refine lv_iinc (v := nI (k + 1 + 1)) (lv' := [(2, .int (nI (k + 1 + 1))), (1, .int (nI (k + 1))), (0, .ref ea)]) hx hb dX0_greatest_35 hl (k := 1) rfl (nI_add _ _) (by decide) rfl (fun ls hl => ?_)
            refine lv_goto (tgt := 14) hx hb dX0_greatest_38 (by decide) ?_
            exact ih_L14 (k + 1) (k + 1) (by omega) (by rw [wsI, ← g2]; first | (rw [if_pos c26]; done) | (rw [if_neg (by omega)]; done)) (by omega) _ (lv_sub hl [0, 1, 2] rfl)
    exact L14 _ 0 0 (by omega) rfl (Nat.lt_succ_self _) _ (lv_sub hl [0, 1, 2] rfl)
  · skip
    have c2 := n_eq_t (a := n) (b := 0) c2 (by omega) (by decide)
    refine lv_ldc hx hb hown (hts _ q359) dX0_greatest_5 ?_
    refine lv_goto (tgt := 11) hx hb dX0_greatest_7 (by decide) ?_
    refine lv_istore_n (lv' := [(1, .int (-100000005 : Int32)), (0, .ref ea)]) hx hb dX0_greatest_11 rfl hl (by decide) rfl (fun ls hl => ?_)
    refine lv_iconst (v := nI 1) hx hb dX0_greatest_12 rfl ?_
    refine lv_istore_n (lv' := [(2, .int (nI 1)), (1, .int (-100000005 : Int32)), (0, .ref ea)]) hx hb dX0_greatest_13 rfl hl (by decide) rfl (fun ls hl => ?_)
    have L14 : ∀ (k_ : Nat) (k : Nat) (g1 : 1 ≤ k) (g3 : k ≤ 1) (hk_ : 2 - k < k_) (ls : Array Slot), lv_has ls 3 [(2, .int (nI k)), (1, .int (-100000005 : Int32)), (0, .ref ea)] → W p l e (nRm 0 0 0 0) s m args below meth c s.heap [] 0 0 Q (F0 m 14 ls []) := by
      intro k_
      induction k_ with
      | zero => intro k g1 g3 hk_; exact absurd hk_ (Nat.not_lt_zero _)
      | succ k_ ih_L14 =>
        intro k g1 g3 hk_ ls hl
        refine lv_iload_n hx hb dX0_greatest_14 rfl (lv_at hl 0 rfl) ?_
        refine lv_aload_n hx hb dX0_greatest_15 rfl (lv_at hl 2 rfl) ?_
        refine r_alen hx hb hG hP 0 0 rfl rfl dX0_greatest_16 ?_
        refine lv_icmp_ge (tgt := 41) hx hb dX0_greatest_17 (by decide) (fun c17 => ?_) (fun c17 => ?_)
        · skip
          have c17 := n_le_t (a := n) (b := k) c17 (by omega) (by omega)
          refine lv_iload_n hx hb dX0_greatest_41 rfl (lv_at hl 1 rfl) ?_
          exact ret (-100000005 : Int32) dX0_greatest_42 (by first | (rw [if_pos (by omega)]; done) | (rw [if_neg (by omega), g2]; congr 2; omega))
        · skip
          have c17 := n_le_f (a := n) (b := k) c17 (by omega) (by omega)
          exfalso; omega
    exact L14 _ 1 (by first | assumption | omega) (by first | assumption | omega) (Nat.lt_succ_self _) _ (lv_sub hl [0, 1, 2] rfl)
