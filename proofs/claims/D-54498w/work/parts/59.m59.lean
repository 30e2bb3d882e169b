set_option maxHeartbeats 4000000 in
set_option maxRecDepth 100000 in
theorem S_remove (l : Launch) (G : nG) (rc : va_W) (x : Nat) (b : Nat) (sn : Option Nat) (hq : Nat) (sb : Nat) (c0 : Int32) (ea : Nat) (n : Nat) (cap : Nat) (f : Nat → Option Nat) (X : va_W) (S : oSt) (hS : iSys G rc S b sn X ea n cap f) (hok : stOk S) : nMi (S := Nat × Int32 × Nat × Nat × Nat × (Nat → Option Nat) × va_W × va_W) l yX0_removeLast cX0_removeLast 3 (.int) 9 25 700 283 G [.ref x] ([(x, .inr (0, [.ref b, va_rf sn, .ref hq, .ref sb])), (hq, .inr (3, [.int c0, .ref ea, .int (nI n)]))] ++ (X ++ [])) rc (fun (u : Nat × Int32 × Nat × Nat × Nat × (Nat → Option Nat) × va_W × va_W) => [(x, .inr (0, [.ref u.1, va_rf sn, .ref hq, .ref sb])), (hq, .inr (3, [.int u.2.1, .ref u.2.2.1, .int (nI u.2.2.2.1)]))] ++ (u.2.2.2.2.2.2.1 ++ (u.2.2.2.2.2.2.2 ++ ([])))) (fun (r : Int32) (u : Nat × Int32 × Nat × Nat × Nat × (Nat → Option Nat) × va_W × va_W) => r = ((spRemove S).1) ∧ iSys G (u.2.2.2.2.2.2.2 ++ rc) (spRemove S).2 u.1 sn u.2.2.2.2.2.2.1 u.2.2.1 u.2.2.2.1 u.2.2.2.2.1 u.2.2.2.2.2.1) := by
  refine nMi.of (own := "ShareStreams") rfl (by decide +kernel) (Nat.le_of_ble_eq_true rfl) (fun _ _ _ => rfl) ?_
  intro p e s m args below meth c A Q ls hx hb hml hown hts hin hG Z hl ret
  have hl : lv_has ls 3 [(0, .ref x)] := hl
  have Z := Z.in1 (a := [(x, .inr (0, [.ref b, va_rf sn, .ref hq, .ref sb])), (hq, .inr (3, [.int c0, .ref ea, .int (nI n)]))]) (f := X ++ [])
  have Z : nW G A ([(x, .inr (0, [.ref b, va_rf sn, .ref hq, .ref sb])), (hq, .inr (3, [.int c0, .ref ea, .int (nI n)]))]) (X ++ ([])) rc s.heap _ _ := Z
  obtain ⟨hB, hsn, hX, hcap, hH⟩ := id hS
  obtain ⟨okb, ⟨hh4, hokh⟩, hoks, -⟩ := id hok
  obtain ⟨b_, hm1, hL_⟩ := id hB
  obtain ⟨c_, ea_, cap_, f_, hm2, hm3, hel⟩ := id hL_
  obtain ⟨hn16, ⟨hlen1, hlen2⟩, ok⟩ := id okb
  have hnh := hH.1
  refine lv_aload_n hx hb dX0_removeLast_0 rfl (lv_at hl 0 rfl) ?_
  refine r_get (v := .ref b) hx hb hts in_X0 hown hG Z.w 0 rfl rfl 0 (by decide) q150 (fun _ h9 => h9) rfl dX0_removeLast_1 ?_
  refine r_getN (v := .ref b_) hx hb hts in_X1 hown hG (va_P.m1 Z.rc hm1 va_P.m0) 0 rfl rfl 0 (by decide) q108 (fun _ h9 => h9) rfl dX0_removeLast_4 ?_
  refine ns_i (k := 5) (nr_F (C := "java/util/ArrayList") (ci := 3) (As := []) (rest := []) hx hb hml hown hts hG (J2_sz l G b_ c_ ea_ S.1.1) nPs.blind 0 q192 q196 q198 q48 q200 (by decide +kernel) (by decide +kernel) ⟨⟨Nat.le_of_ble_eq_true rfl, Nat.le_of_ble_eq_true rfl⟩, Nat.le_of_ble_eq_true rfl, Nat.le_of_ble_eq_true rfl⟩ rfl rfl (r_recv hG (va_P.m1 Z.rc hm2 va_P.m0) 0 (C := "java/util/ArrayList") rfl rfl rfl) (nPs_of hG Z (va_P.m1 Z.rc hm2 va_P.m0)) rfl hl.1 rfl (Nat.le_of_ble_eq_true rfl) dX0_removeLast_7) (fun r7 hp7 => ?_)
  have he7 := hp7
  have he7 : r7 = nI S.1.1 := he7
  subst he7
  rcases Nat.eq_zero_or_pos S.1.1 with hz | hz
  · skip
    refine lv_iconst (v := nI 1) hx hb dX0_removeLast_12 rfl ?_
    refine lv_isub hx hb dX0_removeLast_13 ?_
    refine r_as (z := (-1 : Int32)) (by rw [hz]; rfl) ?_
    refine lv_istore_n (lv' := [(1, .int (-1 : Int32)), (0, .ref x)]) hx hb dX0_removeLast_14 rfl hl (by decide) rfl (fun ls hl => ?_)
    refine lv_iload_n hx hb dX0_removeLast_15 rfl (lv_at hl 0 rfl) ?_
    refine lv_if_ge (tgt := 22) hx hb dX0_removeLast_16 (by decide) (fun c16 => ?_) (fun c16 => ?_)
    · skip
      exact absurd c16 (by decide)
    · skip
      refine lv_ldc hx hb hown (hts _ q359) dX0_removeLast_19 ?_
      have hsp : spRemove S = (cNONE, S) := by unfold spRemove; rw [if_pos hz]
      have Z : nW G A ([(x, .inr (0, [.ref b, va_rf sn, .ref hq, .ref sb])), (hq, .inr (3, [.int c0, .ref ea, .int (nI n)]))]) (X ++ (([]) ++ ([]))) rc s.heap _ _ := Z
      exact ret (-100000005 : Int32) (b, c0, ea, n, cap, f, X, []) dX0_removeLast_21 (⟨(by rw [hsp]), (by rw [hsp]; exact hS)⟩) Z.out1 (Nat.le_of_ble_eq_true rfl) (Nat.le_of_ble_eq_true rfl)
  · skip
    refine lv_iconst (v := nI 1) hx hb dX0_removeLast_12 rfl ?_
    refine lv_isub hx hb dX0_removeLast_13 ?_
    refine r_as (z := nI (S.1.1 - 1)) (pk_sub (by omega)) ?_
    refine lv_istore_n (lv' := [(1, .int (nI (S.1.1 - 1))), (0, .ref x)]) hx hb dX0_removeLast_14 rfl hl (by decide) rfl (fun ls hl => ?_)
    refine lv_iload_n hx hb dX0_removeLast_15 rfl (lv_at hl 0 rfl) ?_
    refine lv_if_ge (tgt := 22) hx hb dX0_removeLast_16 (by decide) (fun c16 => ?_) (fun c16 => ?_)
    · skip
      have c16 := n_le_t (a := 0) (b := S.1.1 - 1) c16 (by decide) (by omega)
      refine r_new (ci := 1) (fs := [.null, .int (nI 0)]) hx hb hts in_X1 tyX1 tyX1_ok hown q74 q75 q45 hG Z rfl (fun j hj => by rcases (show j = 0 ∨ j = 1 by omega) with rfl | rfl <;> rfl) (Nat.le_of_ble_eq_true rfl) (Nat.le_of_ble_eq_true rfl) dX0_removeLast_22 (fun p_ H Z => ?_)
      have Z : nW G A ([(x, .inr (0, [.ref b, va_rf sn, .ref hq, .ref sb])), (hq, .inr (3, [.int c0, .ref ea, .int (nI n)])), (p_, .inr (1, [.null, .int (nI 0)]))]) (X ++ ([])) rc s.heap _ _ := Z
      refine lv_dup hx hb dX0_removeLast_25 rfl ?_
      refine lv_aload_n hx hb dX0_removeLast_26 rfl (lv_at hl 1 rfl) ?_
      refine r_get (v := .ref b) hx hb hts in_X0 hown hG Z.w 0 rfl rfl 0 (by decide) q150 (fun _ h9 => h9) rfl dX0_removeLast_27 ?_
      refine nc_v (k := 3) (wcc := [(p_, .inr (1, [.null, .int (nI 0)]))]) (wr := [(x, .inr (0, [.ref b, va_rf sn, .ref hq, .ref sb])), (hq, .inr (3, [.int c0, .ref ea, .int (nI n)]))]) (nr_I (As := [.ref b]) (rest := [.ref p_]) hx hb hml hown hts ((B_init2 l G rc b S.1 p_ hB okb) _) nP.blind 1 q202 q203 q45 q204 rfl (by decide +kernel) ⟨⟨Nat.le_of_ble_eq_true rfl, Nat.le_of_ble_eq_true rfl⟩, Nat.le_of_ble_eq_true rfl, Nat.le_of_ble_eq_true rfl⟩ (nP_of hG Z [2] rfl (by decide) Z.rc (Z.apR [2] rfl)) rfl hl.1 rfl (Nat.le_of_ble_eq_true rfl) dX0_removeLast_30) Z [2] [0, 1] rfl rfl (by decide) (by decide) (fun u H locs hp30 Z => ?_)
      obtain ⟨l1, c1_30, e1_30, cap1_30, f1_30, X1_30⟩ := u
      have Z := Z.fz1 (a := [(x, .inr (0, [.ref b, va_rf sn, .ref hq, .ref sb])), (hq, .inr (3, [.int c0, .ref ea, .int (nI n)]))]) (b := [(p_, .inr (1, [.ref l1, .int (nI S.1.2.2)])), (l1, .inr (3, [.int c1_30, .ref e1_30, .int (nI S.1.1)]))])
      have hp30 : lsX G X1_30 e1_30 S.1.1 cap1_30 f1_30 ∧ cap1_30 ≤ 30 ∧ ∀ v_, v_ < S.1.1 → ∃ y_, f1_30 v_ = some y_ ∧ iLine G rc y_ (S.1.2.1 v_) := hp30
      have Z : nW G A ([(x, .inr (0, [.ref b, va_rf sn, .ref hq, .ref sb])), (hq, .inr (3, [.int c0, .ref ea, .int (nI n)])), (p_, .inr (1, [.ref l1, .int (nI S.1.2.2)])), (l1, .inr (3, [.int c1_30, .ref e1_30, .int (nI S.1.1)]))]) (X1_30 ++ (X ++ ([]))) rc s.heap _ _ := Z
      refine lv_astore_n (lv' := [(2, .ref p_), (1, .int (nI (S.1.1 - 1))), (0, .ref x)]) hx hb dX0_removeLast_33 rfl hl (by decide) rfl (fun ls hl => ?_)
      refine lv_aload_n hx hb dX0_removeLast_34 rfl (lv_at hl 0 rfl) ?_
      refine r_getN (v := .ref l1) hx hb hts in_X1 hown hG Z.w 2 rfl rfl 0 (by decide) q108 (fun _ h9 => h9) rfl dX0_removeLast_35 ?_
      refine lv_iload_n hx hb dX0_removeLast_38 rfl (lv_at hl 1 rfl) ?_
      have Z := Z.th1
      refine nc_q (k := 5) (wcc := [(l1, .inr (3, [.int c1_30, .ref e1_30, .int (nI S.1.1)]))] ++ (X1_30 ++ [])) (wr := [(x, .inr (0, [.ref b, va_rf sn, .ref hq, .ref sb])), (hq, .inr (3, [.int c0, .ref ea, .int (nI n)])), (p_, .inr (1, [.ref l1, .int (nI S.1.2.2)]))]) (nr_F (C := "java/util/ArrayList") (ci := 3) (As := [.int (nI (S.1.1 - 1))]) (rest := []) hx hb hml hown hts hG ((J2_r l G l1 c1_30 e1_30 S.1.1 cap1_30 f1_30 X1_30 (S.1.1 - 1) rc 4 (RX4, TX4, 2) hp30.1 (by omega) hp30.2.1 rfl q1240 (lsE_of hp30.2.2)) _) nP.blind 1 q295 q298 q300 q48 q302 (by decide +kernel) (by decide +kernel) ⟨⟨Nat.le_of_ble_eq_true rfl, Nat.le_of_ble_eq_true rfl⟩, Nat.le_of_ble_eq_true rfl, Nat.le_of_ble_eq_true rfl⟩ rfl rfl (r_recv hG Z.w 3 (C := "java/util/ArrayList") rfl rfl rfl) (nP_of hG Z ([3] ++ List.range' (List.length ([(x, .inr (0, [.ref b, va_rf sn, .ref hq, .ref sb])), (hq, .inr (3, [.int c0, .ref ea, .int (nI n)])), (p_, .inr (1, [.ref l1, .int (nI S.1.2.2)])), (l1, .inr (3, [.int c1_30, .ref e1_30, .int (nI S.1.1)]))])) (List.length X1_30)) (n_withC (wc := [(x, .inr (0, [.ref b, va_rf sn, .ref hq, .ref sb])), (hq, .inr (3, [.int c0, .ref ea, .int (nI n)])), (p_, .inr (1, [.ref l1, .int (nI S.1.2.2)])), (l1, .inr (3, [.int c1_30, .ref e1_30, .int (nI S.1.1)]))]) (wcc := [(l1, .inr (3, [.int c1_30, .ref e1_30, .int (nI S.1.1)]))]) (N := X1_30) (isC := [3]) rfl) (n_withN (wc := [(x, .inr (0, [.ref b, va_rf sn, .ref hq, .ref sb])), (hq, .inr (3, [.int c0, .ref ea, .int (nI n)])), (p_, .inr (1, [.ref l1, .int (nI S.1.2.2)])), (l1, .inr (3, [.int c1_30, .ref e1_30, .int (nI S.1.1)]))]) (wcc := [(l1, .inr (3, [.int c1_30, .ref e1_30, .int (nI S.1.1)]))]) (N := X1_30) (isC := [3]) rfl (by decide)) Z.rc (Z.apR ([3] ++ List.range' (List.length ([(x, .inr (0, [.ref b, va_rf sn, .ref hq, .ref sb])), (hq, .inr (3, [.int c0, .ref ea, .int (nI n)])), (p_, .inr (1, [.ref l1, .int (nI S.1.2.2)])), (l1, .inr (3, [.int c1_30, .ref e1_30, .int (nI S.1.1)]))])) (List.length X1_30)) (n_withC (wc := [(x, .inr (0, [.ref b, va_rf sn, .ref hq, .ref sb])), (hq, .inr (3, [.int c0, .ref ea, .int (nI n)])), (p_, .inr (1, [.ref l1, .int (nI S.1.2.2)])), (l1, .inr (3, [.int c1_30, .ref e1_30, .int (nI S.1.1)]))]) (wcc := [(l1, .inr (3, [.int c1_30, .ref e1_30, .int (nI S.1.1)]))]) (N := X1_30) (isC := [3]) rfl))) rfl hl.1 rfl (Nat.le_of_ble_eq_true rfl) dX0_removeLast_39) Z ([3] ++ List.range' (List.length ([(x, .inr (0, [.ref b, va_rf sn, .ref hq, .ref sb])), (hq, .inr (3, [.int c0, .ref ea, .int (nI n)])), (p_, .inr (1, [.ref l1, .int (nI S.1.2.2)])), (l1, .inr (3, [.int c1_30, .ref e1_30, .int (nI S.1.1)]))])) (List.length X1_30)) [0, 1, 2] (n_withC (wc := [(x, .inr (0, [.ref b, va_rf sn, .ref hq, .ref sb])), (hq, .inr (3, [.int c0, .ref ea, .int (nI n)])), (p_, .inr (1, [.ref l1, .int (nI S.1.2.2)])), (l1, .inr (3, [.int c1_30, .ref e1_30, .int (nI S.1.1)]))]) (wcc := [(l1, .inr (3, [.int c1_30, .ref e1_30, .int (nI S.1.1)]))]) (N := X1_30) (isC := [3]) rfl) (n_withR (wc := [(x, .inr (0, [.ref b, va_rf sn, .ref hq, .ref sb])), (hq, .inr (3, [.int c0, .ref ea, .int (nI n)])), (p_, .inr (1, [.ref l1, .int (nI S.1.2.2)])), (l1, .inr (3, [.int c1_30, .ref e1_30, .int (nI S.1.1)]))]) (wr := [(x, .inr (0, [.ref b, va_rf sn, .ref hq, .ref sb])), (hq, .inr (3, [.int c0, .ref ea, .int (nI n)])), (p_, .inr (1, [.ref l1, .int (nI S.1.2.2)]))]) (N := X1_30) (isR := [0, 1, 2]) rfl) (by decide) (n_withD (wc := [(x, .inr (0, [.ref b, va_rf sn, .ref hq, .ref sb])), (hq, .inr (3, [.int c0, .ref ea, .int (nI n)])), (p_, .inr (1, [.ref l1, .int (nI S.1.2.2)])), (l1, .inr (3, [.int c1_30, .ref e1_30, .int (nI S.1.1)]))]) (wr := [(x, .inr (0, [.ref b, va_rf sn, .ref hq, .ref sb])), (hq, .inr (3, [.int c0, .ref ea, .int (nI n)])), (p_, .inr (1, [.ref l1, .int (nI S.1.2.2)]))]) (N := X1_30) (isC := [3]) (isR := [0, 1, 2]) rfl (by decide)) (fun r39 u H locs hp39 Z => ?_)
      obtain ⟨c1_39, f1_39, X1_39⟩ := u
      obtain ⟨he39, hp39⟩ := hp39
      have he39 : r39 = f1_30 (S.1.1 - 1) := he39
      subst he39
      have Z := Z.fz1 (a := [(x, .inr (0, [.ref b, va_rf sn, .ref hq, .ref sb])), (hq, .inr (3, [.int c0, .ref ea, .int (nI n)])), (p_, .inr (1, [.ref l1, .int (nI S.1.2.2)]))]) (b := [(l1, .inr (3, [.int c1_39, .ref e1_30, .int (nI (S.1.1 - 1))]))])
      have hp39 : lsX G X1_39 e1_30 (S.1.1 - 1) cap1_30 f1_39 ∧ (∀ v_, v_ < S.1.1 - 1 → f1_39 v_ = if v_ < (S.1.1 - 1) then f1_30 v_ else f1_30 (v_ + 1)) := hp39
      have Z : nW G A ([(x, .inr (0, [.ref b, va_rf sn, .ref hq, .ref sb])), (hq, .inr (3, [.int c0, .ref ea, .int (nI n)])), (p_, .inr (1, [.ref l1, .int (nI S.1.2.2)])), (l1, .inr (3, [.int c1_39, .ref e1_30, .int (nI (S.1.1 - 1))]))]) (X1_39 ++ (X ++ ([]))) rc s.heap _ _ := Z
      obtain ⟨y9, h91, -⟩ := hp30.2.2 (S.1.1 - 1) (by omega)
      rw [h91]
      refine lv_pop hx hb dX0_removeLast_44 rfl ?_
      refine lv_aload_n hx hb dX0_removeLast_45 rfl (lv_at hl 2 rfl) ?_
      refine lv_aload_n hx hb dX0_removeLast_46 rfl (lv_at hl 0 rfl) ?_
      refine lv_iload_n hx hb dX0_removeLast_47 rfl (lv_at hl 1 rfl) ?_
      have Z := Z.swap
      have Z := Z.th1
      refine nc_i (k := 3) (wcc := [(x, .inr (0, [.ref b, va_rf sn, .ref hq, .ref sb])), (hq, .inr (3, [.int c0, .ref ea, .int (nI n)]))] ++ (X ++ [])) (wr := [(p_, .inr (1, [.ref l1, .int (nI S.1.2.2)])), (l1, .inr (3, [.int c1_39, .ref e1_30, .int (nI (S.1.1 - 1))]))]) (nr_V (As := [.ref p_, .int (nI (S.1.1 - 1))]) (rest := []) hx hb hml hown hts ((S_accept l G rc x b sn hq sb c0 ea n cap f X p_ (nI (S.1.1 - 1)) ([.ref b_, .int (nI S.1.2.2)]) (by first | assumption | omega | rfl) (by first | assumption | omega | rfl) (by omega) hH.lsE hm1) _) nP.blind 2 q290 q292 qs4 q44 q293 (by decide +kernel) ⟨⟨Nat.le_of_ble_eq_true rfl, Nat.le_of_ble_eq_true rfl⟩, Nat.le_of_ble_eq_true rfl, Nat.le_of_ble_eq_true rfl⟩ (r_recv hG Z.w 0 (C := "ShareStreams") rfl rfl rfl) (nP_of hG Z ([0, 1] ++ List.range' (List.length ([(x, .inr (0, [.ref b, va_rf sn, .ref hq, .ref sb])), (hq, .inr (3, [.int c0, .ref ea, .int (nI n)])), (p_, .inr (1, [.ref l1, .int (nI S.1.2.2)])), (l1, .inr (3, [.int c1_39, .ref e1_30, .int (nI (S.1.1 - 1))]))])) (List.length X)) (n_withC (wc := [(x, .inr (0, [.ref b, va_rf sn, .ref hq, .ref sb])), (hq, .inr (3, [.int c0, .ref ea, .int (nI n)])), (p_, .inr (1, [.ref l1, .int (nI S.1.2.2)])), (l1, .inr (3, [.int c1_39, .ref e1_30, .int (nI (S.1.1 - 1))]))]) (wcc := [(x, .inr (0, [.ref b, va_rf sn, .ref hq, .ref sb])), (hq, .inr (3, [.int c0, .ref ea, .int (nI n)]))]) (N := X) (isC := [0, 1]) rfl) (n_withN (wc := [(x, .inr (0, [.ref b, va_rf sn, .ref hq, .ref sb])), (hq, .inr (3, [.int c0, .ref ea, .int (nI n)])), (p_, .inr (1, [.ref l1, .int (nI S.1.2.2)])), (l1, .inr (3, [.int c1_39, .ref e1_30, .int (nI (S.1.1 - 1))]))]) (wcc := [(x, .inr (0, [.ref b, va_rf sn, .ref hq, .ref sb])), (hq, .inr (3, [.int c0, .ref ea, .int (nI n)]))]) (N := X) (isC := [0, 1]) rfl (by decide)) Z.rc (Z.apR ([0, 1] ++ List.range' (List.length ([(x, .inr (0, [.ref b, va_rf sn, .ref hq, .ref sb])), (hq, .inr (3, [.int c0, .ref ea, .int (nI n)])), (p_, .inr (1, [.ref l1, .int (nI S.1.2.2)])), (l1, .inr (3, [.int c1_39, .ref e1_30, .int (nI (S.1.1 - 1))]))])) (List.length X)) (n_withC (wc := [(x, .inr (0, [.ref b, va_rf sn, .ref hq, .ref sb])), (hq, .inr (3, [.int c0, .ref ea, .int (nI n)])), (p_, .inr (1, [.ref l1, .int (nI S.1.2.2)])), (l1, .inr (3, [.int c1_39, .ref e1_30, .int (nI (S.1.1 - 1))]))]) (wcc := [(x, .inr (0, [.ref b, va_rf sn, .ref hq, .ref sb])), (hq, .inr (3, [.int c0, .ref ea, .int (nI n)]))]) (N := X) (isC := [0, 1]) rfl))) rfl hl.1 rfl (Nat.le_of_ble_eq_true rfl) dX0_removeLast_48) Z ([0, 1] ++ List.range' (List.length ([(x, .inr (0, [.ref b, va_rf sn, .ref hq, .ref sb])), (hq, .inr (3, [.int c0, .ref ea, .int (nI n)])), (p_, .inr (1, [.ref l1, .int (nI S.1.2.2)])), (l1, .inr (3, [.int c1_39, .ref e1_30, .int (nI (S.1.1 - 1))]))])) (List.length X)) [2, 3] (n_withC (wc := [(x, .inr (0, [.ref b, va_rf sn, .ref hq, .ref sb])), (hq, .inr (3, [.int c0, .ref ea, .int (nI n)])), (p_, .inr (1, [.ref l1, .int (nI S.1.2.2)])), (l1, .inr (3, [.int c1_39, .ref e1_30, .int (nI (S.1.1 - 1))]))]) (wcc := [(x, .inr (0, [.ref b, va_rf sn, .ref hq, .ref sb])), (hq, .inr (3, [.int c0, .ref ea, .int (nI n)]))]) (N := X) (isC := [0, 1]) rfl) (n_withR (wc := [(x, .inr (0, [.ref b, va_rf sn, .ref hq, .ref sb])), (hq, .inr (3, [.int c0, .ref ea, .int (nI n)])), (p_, .inr (1, [.ref l1, .int (nI S.1.2.2)])), (l1, .inr (3, [.int c1_39, .ref e1_30, .int (nI (S.1.1 - 1))]))]) (wr := [(p_, .inr (1, [.ref l1, .int (nI S.1.2.2)])), (l1, .inr (3, [.int c1_39, .ref e1_30, .int (nI (S.1.1 - 1))]))]) (N := X) (isR := [2, 3]) rfl) (by decide) (n_withD (wc := [(x, .inr (0, [.ref b, va_rf sn, .ref hq, .ref sb])), (hq, .inr (3, [.int c0, .ref ea, .int (nI n)])), (p_, .inr (1, [.ref l1, .int (nI S.1.2.2)])), (l1, .inr (3, [.int c1_39, .ref e1_30, .int (nI (S.1.1 - 1))]))]) (wr := [(p_, .inr (1, [.ref l1, .int (nI S.1.2.2)])), (l1, .inr (3, [.int c1_39, .ref e1_30, .int (nI (S.1.1 - 1))]))]) (N := X) (isC := [0, 1]) (isR := [2, 3]) rfl (by decide)) (fun r48 u H locs hp48 Z => ?_)
      obtain ⟨c1_48, e1_48, n1_48, cap1_48, f1_48, X1_48⟩ := u
      obtain ⟨he48, hp48⟩ := hp48
      have he48 : r48 = (nI (S.1.1 - 1)) := he48
      subst he48
      have Z := Z.fz1 (a := [(p_, .inr (1, [.ref l1, .int (nI S.1.2.2)])), (l1, .inr (3, [.int c1_39, .ref e1_30, .int (nI (S.1.1 - 1))]))]) (b := [(x, .inr (0, [.ref p_, va_rf sn, .ref hq, .ref sb])), (hq, .inr (3, [.int c1_48, .ref e1_48, .int (nI n1_48)]))])
      have hp48 : lsX G X1_48 e1_48 n1_48 cap1_48 f1_48 ∧ cap1_48 ≤ 30 ∧ n1_48 = (if n = 4 then 4 else n + 1) ∧ (∀ v_, v_ < n1_48 - 1 → f1_48 v_ = if n = 4 then f (v_ + 1) else f v_) ∧ f1_48 (n1_48 - 1) = some b := hp48
      have Z : nW G A ([(p_, .inr (1, [.ref l1, .int (nI S.1.2.2)])), (l1, .inr (3, [.int c1_39, .ref e1_30, .int (nI (S.1.1 - 1))])), (x, .inr (0, [.ref p_, va_rf sn, .ref hq, .ref sb])), (hq, .inr (3, [.int c1_48, .ref e1_48, .int (nI n1_48)]))]) (X1_48 ++ (X1_39 ++ ([]))) rc s.heap _ _ := Z
      have Z := Z.perm ([(x, .inr (0, [.ref p_, va_rf sn, .ref hq, .ref sb])), (hq, .inr (3, [.int c1_48, .ref e1_48, .int (nI n1_48)])), (p_, .inr (1, [.ref l1, .int (nI S.1.2.2)])), (l1, .inr (3, [.int c1_39, .ref e1_30, .int (nI (S.1.1 - 1))]))]) [2, 3, 0, 1] (by decide) rfl
      have Z := nW.freeze (wc := [(x, .inr (0, [.ref p_, va_rf sn, .ref hq, .ref sb])), (hq, .inr (3, [.int c1_48, .ref e1_48, .int (nI n1_48)]))]) (N := [(p_, .inr (1, [.ref l1, .int (nI S.1.2.2)])), (l1, .inr (3, [.int c1_39, .ref e1_30, .int (nI (S.1.1 - 1))]))]) Z
      have Z := Z.swap
      have Z := Z.re (wc' := [(x, .inr (0, [.ref p_, va_rf sn, .ref hq, .ref sb])), (hq, .inr (3, [.int c1_48, .ref e1_48, .int (nI n1_48)]))]) (fz' := X1_48 ++ (([(p_, .inr (1, [.ref l1, .int (nI S.1.2.2)])), (l1, .inr (3, [.int c1_39, .ref e1_30, .int (nI (S.1.1 - 1))]))] ++ X1_39) ++ ([]))) (by simp)
      have hsp : spRemove S = (nI (S.1.1 - 1), spAcc S (S.1.1 - 1, S.1.2)) := by unfold spRemove; rw [if_neg (by omega)]
      exact ret (nI (S.1.1 - 1)) (p_, c1_48, e1_48, n1_48, cap1_48, f1_48, X1_48, [(p_, .inr (1, [.ref l1, .int (nI S.1.2.2)])), (l1, .inr (3, [.int c1_39, .ref e1_30, .int (nI (S.1.1 - 1))]))] ++ X1_39) dX0_removeLast_51 (⟨(by rw [hsp]), (by rw [hsp]; exact acc_sys hS hh4 (new_bench (n := S.1.1 - 1) (F := S.1.2.1) hp39.1 hp30.2.1 (fun i hi => by rw [hp39.2 i hi, if_pos hi]; exact hp30.2.2 i (by omega))) hp48.1 hp48.2.1 hp48.2.2.1 hp48.2.2.2.1 hp48.2.2.2.2)⟩) Z.out1 (Nat.le_of_ble_eq_true rfl) (Nat.le_of_ble_eq_true rfl)
    · skip
      have c16 := n_le_f (a := 0) (b := S.1.1 - 1) c16 (by decide) (by omega)
      exfalso; omega
set_option maxHeartbeats 4000000 in
set_option maxRecDepth 100000 in
theorem S_setLen (l : Launch) (G : nG) (rc : va_W) (x : Nat) (b : Nat) (sn : Option Nat) (hq : Nat) (sb : Nat) (c0 : Int32) (ea : Nat) (n : Nat) (cap : Nat) (f : Nat → Option Nat) (X : va_W) (S : oSt) (p1 : Int32) (hS : iSys G rc S b sn X ea n cap f) (hok : stOk S) : nMi (S := Nat × Int32 × Nat × Nat × Nat × (Nat → Option Nat) × va_W × va_W) l yX0_setLength cX0_setLength 4 (.int) 9 25 700 283 G [.ref x, .int p1] ([(x, .inr (0, [.ref b, va_rf sn, .ref hq, .ref sb])), (hq, .inr (3, [.int c0, .ref ea, .int (nI n)]))] ++ (X ++ [])) rc (fun (u : Nat × Int32 × Nat × Nat × Nat × (Nat → Option Nat) × va_W × va_W) => [(x, .inr (0, [.ref u.1, va_rf sn, .ref hq, .ref sb])), (hq, .inr (3, [.int u.2.1, .ref u.2.2.1, .int (nI u.2.2.2.1)]))] ++ (u.2.2.2.2.2.2.1 ++ (u.2.2.2.2.2.2.2 ++ ([])))) (fun (r : Int32) (u : Nat × Int32 × Nat × Nat × Nat × (Nat → Option Nat) × va_W × va_W) => r = ((spSetLen S p1).1) ∧ iSys G (u.2.2.2.2.2.2.2 ++ rc) (spSetLen S p1).2 u.1 sn u.2.2.2.2.2.2.1 u.2.2.1 u.2.2.2.1 u.2.2.2.2.1 u.2.2.2.2.2.1) := by
  refine nMi.of (own := "ShareStreams") rfl (by decide +kernel) (Nat.le_of_ble_eq_true rfl) (fun _ _ _ => rfl) ?_
  intro p e s m args below meth c A Q ls hx hb hml hown hts hin hG Z hl ret
  have hl : lv_has ls 4 [(0, .ref x), (1, .int p1)] := hl
  have Z := Z.in1 (a := [(x, .inr (0, [.ref b, va_rf sn, .ref hq, .ref sb])), (hq, .inr (3, [.int c0, .ref ea, .int (nI n)]))]) (f := X ++ [])
  have Z : nW G A ([(x, .inr (0, [.ref b, va_rf sn, .ref hq, .ref sb])), (hq, .inr (3, [.int c0, .ref ea, .int (nI n)]))]) (X ++ ([])) rc s.heap _ _ := Z
  obtain ⟨hB, hsn, hX, hcap, hH⟩ := id hS
  obtain ⟨okb, ⟨hh4, hokh⟩, hoks, -⟩ := id hok
  obtain ⟨b_, hm1, hL_⟩ := id hB
  obtain ⟨c_, ea_, cap_, f_, hm2, hm3, hel⟩ := id hL_
  obtain ⟨hn16, ⟨hlen1, hlen2⟩, ok⟩ := id okb
  have hnh := hH.1
  refine lv_iload_n hx hb dX0_setLength_0 rfl (lv_at hl 1 rfl) ?_
  refine lv_iconst (v := nI 1) hx hb dX0_setLength_1 rfl ?_
  refine lv_sipush (v := nI 1000) hx hb dX0_setLength_2 rfl ?_
  refine ns_i (k := 3) (nr_S (As := [.int p1, .int (nI 1), .int (nI 1000)]) (rest := []) hx hb hml hown hts (S_in l G p1 (nI 1) (nI 1000)) nPs.blind 3 q167 q168 q44 q169 (by decide +kernel) ⟨⟨Nat.le_of_ble_eq_true rfl, Nat.le_of_ble_eq_true rfl⟩, Nat.le_of_ble_eq_true rfl, Nat.le_of_ble_eq_true rfl⟩ (nPs_of hG Z va_P.m0) rfl hl.1 rfl (Nat.le_of_ble_eq_true rfl) dX0_setLength_5) (fun r5 hp5 => ?_)
  have he5 := hp5
  have he5 : r5 = bI (inI p1 (nI 1) (nI 1000)) := he5
  subst he5
  refine r_as (z := bI (rng p1 1 1000)) (congrArg bI (inI_rng p1 (a := 1) (b := 1000) (by decide) (by decide))) ?_
  refine lv_if_ne (tgt := 14) hx hb dX0_setLength_8 (by decide) (fun c8 => ?_) (fun c8 => ?_)
  · skip
    have c8 := bI_t c8
    refine lv_aload_n hx hb dX0_setLength_14 rfl (lv_at hl 0 rfl) ?_
    refine r_get (v := .ref b) hx hb hts in_X0 hown hG Z.w 0 rfl rfl 0 (by decide) q150 (fun _ h9 => h9) rfl dX0_setLength_15 ?_
    refine r_getN (v := .int (nI S.1.2.2)) hx hb hts in_X1 hown hG (va_P.m1 Z.rc hm1 va_P.m0) 0 rfl rfl 1 (by decide) q110 (fun _ h9 => h9) rfl dX0_setLength_18 ?_
    refine lv_istore_n (lv' := [(2, .int (nI S.1.2.2)), (0, .ref x), (1, .int p1)]) hx hb dX0_setLength_21 rfl hl (by decide) rfl (fun ls hl => ?_)
    refine lv_iload_n hx hb dX0_setLength_22 rfl (lv_at hl 0 rfl) ?_
    refine lv_iload_n hx hb dX0_setLength_23 rfl (lv_at hl 2 rfl) ?_
    refine lv_icmp_ne (tgt := 30) hx hb dX0_setLength_24 (by decide) (fun c24 => ?_) (fun c24 => ?_)
    · skip
      refine r_new (ci := 1) (fs := [.null, .int (nI 0)]) hx hb hts in_X1 tyX1 tyX1_ok hown q74 q75 q45 hG Z rfl (fun j hj => by rcases (show j = 0 ∨ j = 1 by omega) with rfl | rfl <;> rfl) (Nat.le_of_ble_eq_true rfl) (Nat.le_of_ble_eq_true rfl) dX0_setLength_30 (fun p_ H Z => ?_)
      have Z : nW G A ([(x, .inr (0, [.ref b, va_rf sn, .ref hq, .ref sb])), (hq, .inr (3, [.int c0, .ref ea, .int (nI n)])), (p_, .inr (1, [.null, .int (nI 0)]))]) (X ++ ([])) rc s.heap _ _ := Z
      refine lv_dup hx hb dX0_setLength_33 rfl ?_
      refine lv_aload_n hx hb dX0_setLength_34 rfl (lv_at hl 1 rfl) ?_
      refine r_get (v := .ref b) hx hb hts in_X0 hown hG Z.w 0 rfl rfl 0 (by decide) q150 (fun _ h9 => h9) rfl dX0_setLength_35 ?_
      refine nc_v (k := 3) (wcc := [(p_, .inr (1, [.null, .int (nI 0)]))]) (wr := [(x, .inr (0, [.ref b, va_rf sn, .ref hq, .ref sb])), (hq, .inr (3, [.int c0, .ref ea, .int (nI n)]))]) (nr_I (As := [.ref b]) (rest := [.ref p_]) hx hb hml hown hts ((B_init2 l G rc b S.1 p_ hB okb) _) nP.blind 1 q202 q203 q45 q204 rfl (by decide +kernel) ⟨⟨Nat.le_of_ble_eq_true rfl, Nat.le_of_ble_eq_true rfl⟩, Nat.le_of_ble_eq_true rfl, Nat.le_of_ble_eq_true rfl⟩ (nP_of hG Z [2] rfl (by decide) Z.rc (Z.apR [2] rfl)) rfl hl.1 rfl (Nat.le_of_ble_eq_true rfl) dX0_setLength_38) Z [2] [0, 1] rfl rfl (by decide) (by decide) (fun u H locs hp38 Z => ?_)
      obtain ⟨l1, c1_38, e1_38, cap1_38, f1_38, X1_38⟩ := u
      have Z := Z.fz1 (a := [(x, .inr (0, [.ref b, va_rf sn, .ref hq, .ref sb])), (hq, .inr (3, [.int c0, .ref ea, .int (nI n)]))]) (b := [(p_, .inr (1, [.ref l1, .int (nI S.1.2.2)])), (l1, .inr (3, [.int c1_38, .ref e1_38, .int (nI S.1.1)]))])
      have hp38 : lsX G X1_38 e1_38 S.1.1 cap1_38 f1_38 ∧ cap1_38 ≤ 30 ∧ ∀ v_, v_ < S.1.1 → ∃ y_, f1_38 v_ = some y_ ∧ iLine G rc y_ (S.1.2.1 v_) := hp38
      have Z : nW G A ([(x, .inr (0, [.ref b, va_rf sn, .ref hq, .ref sb])), (hq, .inr (3, [.int c0, .ref ea, .int (nI n)])), (p_, .inr (1, [.ref l1, .int (nI S.1.2.2)])), (l1, .inr (3, [.int c1_38, .ref e1_38, .int (nI S.1.1)]))]) (X1_38 ++ (X ++ ([]))) rc s.heap _ _ := Z
      refine lv_astore_n (lv' := [(3, .ref p_), (2, .int (nI S.1.2.2)), (0, .ref x), (1, .int p1)]) hx hb dX0_setLength_41 rfl hl (by decide) rfl (fun ls hl => ?_)
      refine lv_aload_n hx hb dX0_setLength_42 rfl (lv_at hl 0 rfl) ?_
      obtain ⟨k9, h91, h92, h93⟩ := rng_t c8 (by decide)
      have e9 : p1 = nI p1.toNatClampNeg := by rw [h93, nI_clamp (by omega)]
      refine lv_iload_n hx hb dX0_setLength_43 rfl (lv_at hl 3 rfl) ?_
      refine r_as (z := nI p1.toNatClampNeg) e9 ?_
      refine r_putN (ty := .int) hx hb hts in_X1 tyX1 tyX1_ok nmX1 hown hG Z 2 rfl rfl 1 (by decide) q110 (fun _ h9 => h9) rfl (by decide +kernel) rfl rfl (Nat.le_of_ble_eq_true rfl) (wc' := [(x, .inr (0, [.ref b, va_rf sn, .ref hq, .ref sb])), (hq, .inr (3, [.int c0, .ref ea, .int (nI n)])), (p_, .inr (1, [.ref l1, .int (nI p1.toNatClampNeg)])), (l1, .inr (3, [.int c1_38, .ref e1_38, .int (nI S.1.1)]))]) rfl dX0_setLength_44 (fun H locs Z => ?_)
      refine lv_aload_n hx hb dX0_setLength_47 rfl (lv_at hl 2 rfl) ?_
      refine lv_aload_n hx hb dX0_setLength_48 rfl (lv_at hl 0 rfl) ?_
      refine lv_iload_n hx hb dX0_setLength_49 rfl (lv_at hl 1 rfl) ?_
      have Z := Z.swap
      have Z := Z.th1
      refine nc_i (k := 3) (wcc := [(x, .inr (0, [.ref b, va_rf sn, .ref hq, .ref sb])), (hq, .inr (3, [.int c0, .ref ea, .int (nI n)]))] ++ (X ++ [])) (wr := [(p_, .inr (1, [.ref l1, .int (nI p1.toNatClampNeg)])), (l1, .inr (3, [.int c1_38, .ref e1_38, .int (nI S.1.1)]))]) (nr_V (As := [.ref p_, .int (nI S.1.2.2)]) (rest := []) hx hb hml hown hts ((S_accept l G rc x b sn hq sb c0 ea n cap f X p_ (nI S.1.2.2) ([.ref b_, .int (nI S.1.2.2)]) (by first | assumption | omega | rfl) (by first | assumption | omega | rfl) (by omega) hH.lsE hm1) _) nP.blind 2 q290 q292 qs4 q44 q293 (by decide +kernel) ⟨⟨Nat.le_of_ble_eq_true rfl, Nat.le_of_ble_eq_true rfl⟩, Nat.le_of_ble_eq_true rfl, Nat.le_of_ble_eq_true rfl⟩ (r_recv hG Z.w 0 (C := "ShareStreams") rfl rfl rfl) (nP_of hG Z ([0, 1] ++ List.range' (List.length ([(x, .inr (0, [.ref b, va_rf sn, .ref hq, .ref sb])), (hq, .inr (3, [.int c0, .ref ea, .int (nI n)])), (p_, .inr (1, [.ref l1, .int (nI p1.toNatClampNeg)])), (l1, .inr (3, [.int c1_38, .ref e1_38, .int (nI S.1.1)]))])) (List.length X)) (n_withC (wc := [(x, .inr (0, [.ref b, va_rf sn, .ref hq, .ref sb])), (hq, .inr (3, [.int c0, .ref ea, .int (nI n)])), (p_, .inr (1, [.ref l1, .int (nI p1.toNatClampNeg)])), (l1, .inr (3, [.int c1_38, .ref e1_38, .int (nI S.1.1)]))]) (wcc := [(x, .inr (0, [.ref b, va_rf sn, .ref hq, .ref sb])), (hq, .inr (3, [.int c0, .ref ea, .int (nI n)]))]) (N := X) (isC := [0, 1]) rfl) (n_withN (wc := [(x, .inr (0, [.ref b, va_rf sn, .ref hq, .ref sb])), (hq, .inr (3, [.int c0, .ref ea, .int (nI n)])), (p_, .inr (1, [.ref l1, .int (nI p1.toNatClampNeg)])), (l1, .inr (3, [.int c1_38, .ref e1_38, .int (nI S.1.1)]))]) (wcc := [(x, .inr (0, [.ref b, va_rf sn, .ref hq, .ref sb])), (hq, .inr (3, [.int c0, .ref ea, .int (nI n)]))]) (N := X) (isC := [0, 1]) rfl (by decide)) Z.rc (Z.apR ([0, 1] ++ List.range' (List.length ([(x, .inr (0, [.ref b, va_rf sn, .ref hq, .ref sb])), (hq, .inr (3, [.int c0, .ref ea, .int (nI n)])), (p_, .inr (1, [.ref l1, .int (nI p1.toNatClampNeg)])), (l1, .inr (3, [.int c1_38, .ref e1_38, .int (nI S.1.1)]))])) (List.length X)) (n_withC (wc := [(x, .inr (0, [.ref b, va_rf sn, .ref hq, .ref sb])), (hq, .inr (3, [.int c0, .ref ea, .int (nI n)])), (p_, .inr (1, [.ref l1, .int (nI p1.toNatClampNeg)])), (l1, .inr (3, [.int c1_38, .ref e1_38, .int (nI S.1.1)]))]) (wcc := [(x, .inr (0, [.ref b, va_rf sn, .ref hq, .ref sb])), (hq, .inr (3, [.int c0, .ref ea, .int (nI n)]))]) (N := X) (isC := [0, 1]) rfl))) rfl hl.1 rfl (Nat.le_of_ble_eq_true rfl) dX0_setLength_50) Z ([0, 1] ++ List.range' (List.length ([(x, .inr (0, [.ref b, va_rf sn, .ref hq, .ref sb])), (hq, .inr (3, [.int c0, .ref ea, .int (nI n)])), (p_, .inr (1, [.ref l1, .int (nI p1.toNatClampNeg)])), (l1, .inr (3, [.int c1_38, .ref e1_38, .int (nI S.1.1)]))])) (List.length X)) [2, 3] (n_withC (wc := [(x, .inr (0, [.ref b, va_rf sn, .ref hq, .ref sb])), (hq, .inr (3, [.int c0, .ref ea, .int (nI n)])), (p_, .inr (1, [.ref l1, .int (nI p1.toNatClampNeg)])), (l1, .inr (3, [.int c1_38, .ref e1_38, .int (nI S.1.1)]))]) (wcc := [(x, .inr (0, [.ref b, va_rf sn, .ref hq, .ref sb])), (hq, .inr (3, [.int c0, .ref ea, .int (nI n)]))]) (N := X) (isC := [0, 1]) rfl) (n_withR (wc := [(x, .inr (0, [.ref b, va_rf sn, .ref hq, .ref sb])), (hq, .inr (3, [.int c0, .ref ea, .int (nI n)])), (p_, .inr (1, [.ref l1, .int (nI p1.toNatClampNeg)])), (l1, .inr (3, [.int c1_38, .ref e1_38, .int (nI S.1.1)]))]) (wr := [(p_, .inr (1, [.ref l1, .int (nI p1.toNatClampNeg)])), (l1, .inr (3, [.int c1_38, .ref e1_38, .int (nI S.1.1)]))]) (N := X) (isR := [2, 3]) rfl) (by decide) (n_withD (wc := [(x, .inr (0, [.ref b, va_rf sn, .ref hq, .ref sb])), (hq, .inr (3, [.int c0, .ref ea, .int (nI n)])), (p_, .inr (1, [.ref l1, .int (nI p1.toNatClampNeg)])), (l1, .inr (3, [.int c1_38, .ref e1_38, .int (nI S.1.1)]))]) (wr := [(p_, .inr (1, [.ref l1, .int (nI p1.toNatClampNeg)])), (l1, .inr (3, [.int c1_38, .ref e1_38, .int (nI S.1.1)]))]) (N := X) (isC := [0, 1]) (isR := [2, 3]) rfl (by decide)) (fun r50 u H locs hp50 Z => ?_)
      obtain ⟨c1_50, e1_50, n1_50, cap1_50, f1_50, X1_50⟩ := u
      obtain ⟨he50, hp50⟩ := hp50
      have he50 : r50 = (nI S.1.2.2) := he50
      subst he50
      have Z := Z.fz1 (a := [(p_, .inr (1, [.ref l1, .int (nI p1.toNatClampNeg)])), (l1, .inr (3, [.int c1_38, .ref e1_38, .int (nI S.1.1)]))]) (b := [(x, .inr (0, [.ref p_, va_rf sn, .ref hq, .ref sb])), (hq, .inr (3, [.int c1_50, .ref e1_50, .int (nI n1_50)]))])
      have hp50 : lsX G X1_50 e1_50 n1_50 cap1_50 f1_50 ∧ cap1_50 ≤ 30 ∧ n1_50 = (if n = 4 then 4 else n + 1) ∧ (∀ v_, v_ < n1_50 - 1 → f1_50 v_ = if n = 4 then f (v_ + 1) else f v_) ∧ f1_50 (n1_50 - 1) = some b := hp50
      have Z : nW G A ([(p_, .inr (1, [.ref l1, .int (nI p1.toNatClampNeg)])), (l1, .inr (3, [.int c1_38, .ref e1_38, .int (nI S.1.1)])), (x, .inr (0, [.ref p_, va_rf sn, .ref hq, .ref sb])), (hq, .inr (3, [.int c1_50, .ref e1_50, .int (nI n1_50)]))]) (X1_50 ++ (X1_38 ++ ([]))) rc s.heap _ _ := Z
      have Z := Z.perm ([(x, .inr (0, [.ref p_, va_rf sn, .ref hq, .ref sb])), (hq, .inr (3, [.int c1_50, .ref e1_50, .int (nI n1_50)])), (p_, .inr (1, [.ref l1, .int (nI p1.toNatClampNeg)])), (l1, .inr (3, [.int c1_38, .ref e1_38, .int (nI S.1.1)]))]) [2, 3, 0, 1] (by decide) rfl
      have Z := nW.freeze (wc := [(x, .inr (0, [.ref p_, va_rf sn, .ref hq, .ref sb])), (hq, .inr (3, [.int c1_50, .ref e1_50, .int (nI n1_50)]))]) (N := [(p_, .inr (1, [.ref l1, .int (nI p1.toNatClampNeg)])), (l1, .inr (3, [.int c1_38, .ref e1_38, .int (nI S.1.1)]))]) Z
      have Z := Z.swap
      have Z := Z.re (wc' := [(x, .inr (0, [.ref p_, va_rf sn, .ref hq, .ref sb])), (hq, .inr (3, [.int c1_50, .ref e1_50, .int (nI n1_50)]))]) (fz' := X1_50 ++ (([(p_, .inr (1, [.ref l1, .int (nI p1.toNatClampNeg)])), (l1, .inr (3, [.int c1_38, .ref e1_38, .int (nI S.1.1)]))] ++ X1_38) ++ ([]))) (by simp)
      have hsp : spSetLen S p1 = (nI S.1.2.2, spAcc S (S.1.1, S.1.2.1, p1.toNatClampNeg)) := by unfold spSetLen; rw [if_pos c8, if_neg c24]
      exact ret (nI S.1.2.2) (p_, c1_50, e1_50, n1_50, cap1_50, f1_50, X1_50, [(p_, .inr (1, [.ref l1, .int (nI p1.toNatClampNeg)])), (l1, .inr (3, [.int c1_38, .ref e1_38, .int (nI S.1.1)]))] ++ X1_38) dX0_setLength_53 (⟨(by rw [hsp]), (by rw [hsp]; exact acc_sys hS hh4 (new_bench (n := S.1.1) (F := S.1.2.1) hp38.1 hp38.2.1 hp38.2.2) hp50.1 hp50.2.1 hp50.2.2.1 hp50.2.2.2.1 hp50.2.2.2.2)⟩) Z.out1 (Nat.le_of_ble_eq_true rfl) (Nat.le_of_ble_eq_true rfl)
    · skip
      refine lv_ldc hx hb hown (hts _ q359) dX0_setLength_27 ?_
      have hsp : spSetLen S p1 = (cNONE, S) := by unfold spSetLen; first | (simp only [c8, c24, Bool.and_true, Bool.and_false, Bool.true_and, Bool.false_and, if_true, if_false, Bool.false_eq_true]; done) | (simp [c8, c24]; done) | (simp only [c8, Bool.and_true, Bool.and_false, Bool.true_and, Bool.false_and, if_true, if_false, Bool.false_eq_true]; done) | (simp [c8]; done)
      have Z : nW G A ([(x, .inr (0, [.ref b, va_rf sn, .ref hq, .ref sb])), (hq, .inr (3, [.int c0, .ref ea, .int (nI n)]))]) (X ++ (([]) ++ ([]))) rc s.heap _ _ := Z
      exact ret (-100000005 : Int32) (b, c0, ea, n, cap, f, X, []) dX0_setLength_29 (⟨(by rw [hsp]), (by rw [hsp]; exact hS)⟩) Z.out1 (Nat.le_of_ble_eq_true rfl) (Nat.le_of_ble_eq_true rfl)
  · skip
    have c8 := bI_f c8
    refine lv_ldc hx hb hown (hts _ q308) dX0_setLength_11 ?_
    have hsp : spSetLen S p1 = (cBAD, S) := by unfold spSetLen; first | (simp only [c8, c24, Bool.and_true, Bool.and_false, Bool.true_and, Bool.false_and, if_true, if_false, Bool.false_eq_true]; done) | (simp [c8, c24]; done) | (simp only [c8, Bool.and_true, Bool.and_false, Bool.true_and, Bool.false_and, if_true, if_false, Bool.false_eq_true]; done) | (simp [c8]; done)
    have Z : nW G A ([(x, .inr (0, [.ref b, va_rf sn, .ref hq, .ref sb])), (hq, .inr (3, [.int c0, .ref ea, .int (nI n)]))]) (X ++ (([]) ++ ([]))) rc s.heap _ _ := Z
    exact ret (-100000002 : Int32) (b, c0, ea, n, cap, f, X, []) dX0_setLength_13 (⟨(by rw [hsp]), (by rw [hsp]; exact hS)⟩) Z.out1 (Nat.le_of_ble_eq_true rfl) (Nat.le_of_ble_eq_true rfl)
theorem undo_sys {G : nG} {rc : va_W} {S : oSt} {b : Nat} {sn : Option Nat} {X X1 : va_W} {ea n cap y : Nat} {f f1 : Nat → Option Nat} {B : nBe} (h : iSys G rc S b sn X ea n cap f) (h0 : 0 < n) (h1 : lsX G X1 ea (n - 1) cap f1) (h2 : ∀ i, i < n - 1 → f1 i = if i < n - 1 then f i else f (i + 1)) (h3 : S.2.1[n - 1]? = some B) (h4 : iBench G rc y B) : (spUndo S).1 = nI (n - 1) ∧ iSys G rc (spUndo S).2 y sn X1 ea (n - 1) cap f1 := by
  obtain ⟨g1, g2, g3, g4, g5, g6⟩ := h
  have hne : S.2.1.length ≠ 0 := by omega
  obtain ⟨b', q1, q2⟩ := getLast_at hne
  rw [← g5] at q2
  obtain rfl : b' = B := Option.some.inj (q2.symm.trans h3)
  unfold spUndo
  rw [q1]
  refine ⟨by rw [g5], h4, g2, h1, g4, ?_, fun i hi => ?_⟩
  · show n - 1 = S.2.1.dropLast.length
    rw [List.length_dropLast, g5]
  · obtain ⟨y', B', p1, p2, p3⟩ := g6 i (by omega)
    refine ⟨y', B', by rw [h2 i hi, if_pos hi]; exact p1, ?_, p3⟩
    show S.2.1.dropLast[i]? = some B'
    rw [List.getElem?_dropLast, if_pos (by omega)]
    exact p2
theorem undo_no {S : oSt} (h : S.2.1.length = 0) : spUndo S = (cNONE, S) := by
  unfold spUndo
  rw [List.eq_nil_of_length_eq_zero h]
  rfl
theorem keep_sys {G : nG} {rc N : va_W} {S : oSt} {b p : Nat} {sn : Option Nat} {X : va_W} {ea n cap : Nat} {f : Nat → Option Nat} (h : iSys G rc S b sn X ea n cap f) (hB : iBench G (N ++ rc) p S.1) : iSys G (N ++ rc) (spKeep S).2 b (some p) X ea n cap f := by
  have hm : ∀ z ∈ rc, z ∈ N ++ rc := fun z hz => List.mem_append_right _ hz
  have h' := h.mono hm
  exact ⟨h'.1, ⟨p, rfl, hB⟩, h'.2.2⟩
set_option maxHeartbeats 4000000 in
set_option maxRecDepth 100000 in
theorem S_undo (l : Launch) (G : nG) (rc : va_W) (x : Nat) (b : Nat) (sn : Option Nat) (hq : Nat) (sb : Nat) (c0 : Int32) (ea : Nat) (n : Nat) (cap : Nat) (f : Nat → Option Nat) (X : va_W) (S : oSt) (hS : iSys G rc S b sn X ea n cap f) (hok : stOk S) : nMi (S := Nat × Int32 × Nat × Nat × Nat × (Nat → Option Nat) × va_W × va_W) l yX0_undo cX0_undo 1 (.int) 5 2 20 143 G [.ref x] ([(x, .inr (0, [.ref b, va_rf sn, .ref hq, .ref sb])), (hq, .inr (3, [.int c0, .ref ea, .int (nI n)]))] ++ (X ++ [])) rc (fun (u : Nat × Int32 × Nat × Nat × Nat × (Nat → Option Nat) × va_W × va_W) => [(x, .inr (0, [.ref u.1, va_rf sn, .ref hq, .ref sb])), (hq, .inr (3, [.int u.2.1, .ref u.2.2.1, .int (nI u.2.2.2.1)]))] ++ (u.2.2.2.2.2.2.1 ++ (u.2.2.2.2.2.2.2 ++ ([])))) (fun (r : Int32) (u : Nat × Int32 × Nat × Nat × Nat × (Nat → Option Nat) × va_W × va_W) => r = ((spUndo S).1) ∧ iSys G (u.2.2.2.2.2.2.2 ++ rc) (spUndo S).2 u.1 sn u.2.2.2.2.2.2.1 u.2.2.1 u.2.2.2.1 u.2.2.2.2.1 u.2.2.2.2.2.1) := by
  refine nMi.of (own := "ShareStreams") rfl (by decide +kernel) (Nat.le_of_ble_eq_true rfl) (fun _ _ _ => rfl) ?_
  intro p e s m args below meth c A Q ls hx hb hml hown hts hin hG Z hl ret
  have hl : lv_has ls 1 [(0, .ref x)] := hl
  have Z := Z.in1 (a := [(x, .inr (0, [.ref b, va_rf sn, .ref hq, .ref sb])), (hq, .inr (3, [.int c0, .ref ea, .int (nI n)]))]) (f := X ++ [])
  have Z : nW G A ([(x, .inr (0, [.ref b, va_rf sn, .ref hq, .ref sb])), (hq, .inr (3, [.int c0, .ref ea, .int (nI n)]))]) (X ++ ([])) rc s.heap _ _ := Z
  obtain ⟨hB, hsn, hX, hcap, hH⟩ := id hS
  obtain ⟨okb, ⟨hh4, hokh⟩, hoks, -⟩ := id hok
  obtain ⟨b_, hm1, hL_⟩ := id hB
  obtain ⟨c_, ea_, cap_, f_, hm2, hm3, hel⟩ := id hL_
  obtain ⟨hn16, ⟨hlen1, hlen2⟩, ok⟩ := id okb
  have hnh := hH.1
  refine lv_aload_n hx hb dX0_undo_0 rfl (lv_at hl 0 rfl) ?_
  refine r_get (v := .ref hq) hx hb hts in_X0 hown hG Z.w 0 rfl rfl 2 (by decide) q152 (fun _ h9 => h9) rfl dX0_undo_1 ?_
  refine ns_i (k := 5) (nr_F (C := "java/util/ArrayList") (ci := 3) (As := []) (rest := []) hx hb hml hown hts hG (J2_em l G hq c0 ea n (by first | assumption | omega | rfl)) nPs.blind 0 q704 q707 q709 q48 q711 (by decide +kernel) (by decide +kernel) ⟨⟨Nat.le_of_ble_eq_true rfl, Nat.le_of_ble_eq_true rfl⟩, Nat.le_of_ble_eq_true rfl, Nat.le_of_ble_eq_true rfl⟩ rfl rfl (r_recv hG Z.w 1 (C := "java/util/ArrayList") rfl rfl rfl) (nPs_of hG Z (Z.w.sub [1] rfl)) rfl hl.1 rfl (Nat.le_of_ble_eq_true rfl) dX0_undo_4) (fun r4 hp4 => ?_)
  have he4 := hp4
  have he4 : r4 = bI (decide (n = 0)) := he4
  subst he4
  refine lv_if_eq (tgt := 15) hx hb dX0_undo_9 (by decide) (fun c9 => ?_) (fun c9 => ?_)
  · skip
    have c9 := bI_f c9
    have c9 := of_decide_eq_false c9
    refine lv_aload_n hx hb dX0_undo_15 rfl (lv_at hl 0 rfl) ?_
    refine lv_aload_n hx hb dX0_undo_16 rfl (lv_at hl 0 rfl) ?_
    refine r_get (v := .ref hq) hx hb hts in_X0 hown hG Z.w 0 rfl rfl 2 (by decide) q152 (fun _ h9 => h9) rfl dX0_undo_17 ?_
    refine lv_aload_n hx hb dX0_undo_20 rfl (lv_at hl 0 rfl) ?_
    refine r_get (v := .ref hq) hx hb hts in_X0 hown hG Z.w 0 rfl rfl 2 (by decide) q152 (fun _ h9 => h9) rfl dX0_undo_21 ?_
    refine ns_i (k := 5) (nr_F (C := "java/util/ArrayList") (ci := 3) (As := []) (rest := [.ref hq, .ref x]) hx hb hml hown hts hG (J2_sz l G hq c0 ea n) nPs.blind 0 q192 q196 q198 q48 q200 (by decide +kernel) (by decide +kernel) ⟨⟨Nat.le_of_ble_eq_true rfl, Nat.le_of_ble_eq_true rfl⟩, Nat.le_of_ble_eq_true rfl, Nat.le_of_ble_eq_true rfl⟩ rfl rfl (r_recv hG Z.w 1 (C := "java/util/ArrayList") rfl rfl rfl) (nPs_of hG Z (Z.w.sub [1] rfl)) rfl hl.1 rfl (Nat.le_of_ble_eq_true rfl) dX0_undo_24) (fun r24 hp24 => ?_)
    have he24 := hp24
    have he24 : r24 = nI n := he24
    subst he24
    refine lv_iconst (v := nI 1) hx hb dX0_undo_29 rfl ?_
    refine lv_isub hx hb dX0_undo_30 ?_
    refine r_as (z := nI (n - 1)) (pk_sub (by omega)) ?_
    have Z := Z.th1
    refine nc_q (k := 5) (wcc := [(hq, .inr (3, [.int c0, .ref ea, .int (nI n)]))] ++ (X ++ [])) (wr := [(x, .inr (0, [.ref b, va_rf sn, .ref hq, .ref sb]))]) (nr_F (C := "java/util/ArrayList") (ci := 3) (As := [.int (nI (n - 1))]) (rest := [.ref x]) hx hb hml hown hts hG ((J2_r l G hq c0 ea n cap f X (n - 1) rc 1 (RX1, TX1, 2) (by first | assumption | omega | rfl) (by omega) (by first | assumption | omega | rfl) rfl q1236 hH.lsE) _) nP.blind 1 q295 q298 q300 q48 q302 (by decide +kernel) (by decide +kernel) ⟨⟨Nat.le_of_ble_eq_true rfl, Nat.le_of_ble_eq_true rfl⟩, Nat.le_of_ble_eq_true rfl, Nat.le_of_ble_eq_true rfl⟩ rfl rfl (r_recv hG Z.w 1 (C := "java/util/ArrayList") rfl rfl rfl) (nP_of hG Z ([1] ++ List.range' (List.length ([(x, .inr (0, [.ref b, va_rf sn, .ref hq, .ref sb])), (hq, .inr (3, [.int c0, .ref ea, .int (nI n)]))])) (List.length X)) (n_withC (wc := [(x, .inr (0, [.ref b, va_rf sn, .ref hq, .ref sb])), (hq, .inr (3, [.int c0, .ref ea, .int (nI n)]))]) (wcc := [(hq, .inr (3, [.int c0, .ref ea, .int (nI n)]))]) (N := X) (isC := [1]) rfl) (n_withN (wc := [(x, .inr (0, [.ref b, va_rf sn, .ref hq, .ref sb])), (hq, .inr (3, [.int c0, .ref ea, .int (nI n)]))]) (wcc := [(hq, .inr (3, [.int c0, .ref ea, .int (nI n)]))]) (N := X) (isC := [1]) rfl (by decide)) Z.rc (Z.apR ([1] ++ List.range' (List.length ([(x, .inr (0, [.ref b, va_rf sn, .ref hq, .ref sb])), (hq, .inr (3, [.int c0, .ref ea, .int (nI n)]))])) (List.length X)) (n_withC (wc := [(x, .inr (0, [.ref b, va_rf sn, .ref hq, .ref sb])), (hq, .inr (3, [.int c0, .ref ea, .int (nI n)]))]) (wcc := [(hq, .inr (3, [.int c0, .ref ea, .int (nI n)]))]) (N := X) (isC := [1]) rfl))) rfl hl.1 rfl (Nat.le_of_ble_eq_true rfl) dX0_undo_31) Z ([1] ++ List.range' (List.length ([(x, .inr (0, [.ref b, va_rf sn, .ref hq, .ref sb])), (hq, .inr (3, [.int c0, .ref ea, .int (nI n)]))])) (List.length X)) [0] (n_withC (wc := [(x, .inr (0, [.ref b, va_rf sn, .ref hq, .ref sb])), (hq, .inr (3, [.int c0, .ref ea, .int (nI n)]))]) (wcc := [(hq, .inr (3, [.int c0, .ref ea, .int (nI n)]))]) (N := X) (isC := [1]) rfl) (n_withR (wc := [(x, .inr (0, [.ref b, va_rf sn, .ref hq, .ref sb])), (hq, .inr (3, [.int c0, .ref ea, .int (nI n)]))]) (wr := [(x, .inr (0, [.ref b, va_rf sn, .ref hq, .ref sb]))]) (N := X) (isR := [0]) rfl) (by decide) (n_withD (wc := [(x, .inr (0, [.ref b, va_rf sn, .ref hq, .ref sb])), (hq, .inr (3, [.int c0, .ref ea, .int (nI n)]))]) (wr := [(x, .inr (0, [.ref b, va_rf sn, .ref hq, .ref sb]))]) (N := X) (isC := [1]) (isR := [0]) rfl (by decide)) (fun r31 u H locs hp31 Z => ?_)
    obtain ⟨c1_31, f1_31, X1_31⟩ := u
    obtain ⟨he31, hp31⟩ := hp31
    have he31 : r31 = f (n - 1) := he31
    subst he31
    have Z := Z.fz1 (a := [(x, .inr (0, [.ref b, va_rf sn, .ref hq, .ref sb]))]) (b := [(hq, .inr (3, [.int c1_31, .ref ea, .int (nI (n - 1))]))])
    have hp31 : lsX G X1_31 ea (n - 1) cap f1_31 ∧ (∀ v_, v_ < n - 1 → f1_31 v_ = if v_ < (n - 1) then f v_ else f (v_ + 1)) := hp31
    have Z : nW G A ([(x, .inr (0, [.ref b, va_rf sn, .ref hq, .ref sb])), (hq, .inr (3, [.int c1_31, .ref ea, .int (nI (n - 1))]))]) (X1_31 ++ ([])) rc s.heap _ _ := Z
    obtain ⟨y9, B9, h92, h93, h94⟩ := hH.2 (n - 1) (by omega)
    obtain ⟨b9, hm9, hl9⟩ := id h94
    rw [h92]
    refine va_castE hx hb hown (hts _ q74) (r_recv hG (va_P.m1 Z.rc hm9 va_P.m0) 0 (C := "ShareStreams$Bench") rfl rfl rfl) dX0_undo_36 ?_
    refine r_put (ty := .object "ShareStreams$Bench") hx hb hts in_X0 tyX0 tyX0_ok nmX0 hown hG Z 0 rfl rfl 0 (by decide) q150 (fun _ h9 => h9) rfl (by decide +kernel) rfl rfl (Nat.le_of_ble_eq_true rfl) (wc' := [(x, .inr (0, [.ref y9, va_rf sn, .ref hq, .ref sb])), (hq, .inr (3, [.int c1_31, .ref ea, .int (nI (n - 1))]))]) rfl dX0_undo_39 (fun H locs Z => ?_)
    refine lv_aload_n hx hb dX0_undo_42 rfl (lv_at hl 0 rfl) ?_
    refine r_get (v := .ref hq) hx hb hts in_X0 hown hG Z.w 0 rfl rfl 2 (by decide) q152 (fun _ h9 => h9) rfl dX0_undo_43 ?_
    refine ns_i (k := 5) (nr_F (C := "java/util/ArrayList") (ci := 3) (As := []) (rest := []) hx hb hml hown hts hG (J2_sz l G hq c1_31 ea (n - 1)) nPs.blind 0 q192 q196 q198 q48 q200 (by decide +kernel) (by decide +kernel) ⟨⟨Nat.le_of_ble_eq_true rfl, Nat.le_of_ble_eq_true rfl⟩, Nat.le_of_ble_eq_true rfl, Nat.le_of_ble_eq_true rfl⟩ rfl rfl (r_recv hG Z.w 1 (C := "java/util/ArrayList") rfl rfl rfl) (nPs_of hG Z (Z.w.sub [1] rfl)) rfl hl.1 rfl (Nat.le_of_ble_eq_true rfl) dX0_undo_46) (fun r46 hp46 => ?_)
    have he46 := hp46
    have he46 : r46 = nI (n - 1) := he46
    subst he46
    have hsp := undo_sys hS (by omega) hp31.1 hp31.2 h93 h94
    have Z : nW G A ([(x, .inr (0, [.ref y9, va_rf sn, .ref hq, .ref sb])), (hq, .inr (3, [.int c1_31, .ref ea, .int (nI (n - 1))]))]) (X1_31 ++ (([]) ++ ([]))) rc s.heap _ _ := Z
    exact ret (nI (n - 1)) (y9, c1_31, ea, n - 1, cap, f1_31, X1_31, []) dX0_undo_51 (⟨hsp.1.symm, hsp.2⟩) Z.out1 (Nat.le_of_ble_eq_true rfl) (Nat.le_of_ble_eq_true rfl)
  · skip
    have c9 := bI_t c9
    have c9 := of_decide_eq_true c9
    refine lv_ldc hx hb hown (hts _ q359) dX0_undo_12 ?_
    have hsp := undo_no (S := S) (by omega)
    have Z : nW G A ([(x, .inr (0, [.ref b, va_rf sn, .ref hq, .ref sb])), (hq, .inr (3, [.int c0, .ref ea, .int (nI n)]))]) (X ++ (([]) ++ ([]))) rc s.heap _ _ := Z
    exact ret (-100000005 : Int32) (b, c0, ea, n, cap, f, X, []) dX0_undo_14 (⟨(by rw [hsp]), (by rw [hsp]; exact hS)⟩) Z.out1 (Nat.le_of_ble_eq_true rfl) (Nat.le_of_ble_eq_true rfl)
set_option maxHeartbeats 4000000 in
set_option maxRecDepth 100000 in
theorem S_keep (l : Launch) (G : nG) (rc : va_W) (x : Nat) (b : Nat) (sn : Option Nat) (hq : Nat) (sb : Nat) (c0 : Int32) (ea : Nat) (n : Nat) (cap : Nat) (f : Nat → Option Nat) (X : va_W) (S : oSt) (hS : iSys G rc S b sn X ea n cap f) (hok : stOk S) : nMi (S := Nat × va_W) l yX0_keep cX0_keep 1 (.int) 9 25 700 283 G [.ref x] ([(x, .inr (0, [.ref b, va_rf sn, .ref hq, .ref sb])), (hq, .inr (3, [.int c0, .ref ea, .int (nI n)]))] ++ (X ++ [])) rc (fun (u : Nat × va_W) => [(x, .inr (0, [.ref b, .ref u.1, .ref hq, .ref sb])), (hq, .inr (3, [.int c0, .ref ea, .int (nI n)]))] ++ (X ++ (u.2 ++ ([])))) (fun (r : Int32) (u : Nat × va_W) => r = ((spKeep S).1) ∧ iSys G (u.2 ++ rc) (spKeep S).2 b (some u.1) X ea n cap f) := by
  refine nMi.of (own := "ShareStreams") rfl (by decide +kernel) (Nat.le_of_ble_eq_true rfl) (fun _ _ _ => rfl) ?_
  intro p e s m args below meth c A Q ls hx hb hml hown hts hin hG Z hl ret
  have hl : lv_has ls 1 [(0, .ref x)] := hl
  have Z := Z.in1 (a := [(x, .inr (0, [.ref b, va_rf sn, .ref hq, .ref sb])), (hq, .inr (3, [.int c0, .ref ea, .int (nI n)]))]) (f := X ++ [])
  have Z : nW G A ([(x, .inr (0, [.ref b, va_rf sn, .ref hq, .ref sb])), (hq, .inr (3, [.int c0, .ref ea, .int (nI n)]))]) (X ++ ([])) rc s.heap _ _ := Z
  obtain ⟨hB, hsn, hX, hcap, hH⟩ := id hS
  obtain ⟨okb, ⟨hh4, hokh⟩, hoks, -⟩ := id hok
  obtain ⟨b_, hm1, hL_⟩ := id hB
  obtain ⟨c_, ea_, cap_, f_, hm2, hm3, hel⟩ := id hL_
  obtain ⟨hn16, ⟨hlen1, hlen2⟩, ok⟩ := id okb
  have hnh := hH.1
  refine lv_aload_n hx hb dX0_keep_0 rfl (lv_at hl 0 rfl) ?_
  refine r_new (ci := 1) (fs := [.null, .int (nI 0)]) hx hb hts in_X1 tyX1 tyX1_ok hown q74 q75 q45 hG Z rfl (fun j hj => by rcases (show j = 0 ∨ j = 1 by omega) with rfl | rfl <;> rfl) (Nat.le_of_ble_eq_true rfl) (Nat.le_of_ble_eq_true rfl) dX0_keep_1 (fun p_ H Z => ?_)
  have Z : nW G A ([(x, .inr (0, [.ref b, va_rf sn, .ref hq, .ref sb])), (hq, .inr (3, [.int c0, .ref ea, .int (nI n)])), (p_, .inr (1, [.null, .int (nI 0)]))]) (X ++ ([])) rc s.heap _ _ := Z
  refine lv_dup hx hb dX0_keep_4 rfl ?_
  refine lv_aload_n hx hb dX0_keep_5 rfl (lv_at hl 0 rfl) ?_
  refine r_get (v := .ref b) hx hb hts in_X0 hown hG Z.w 0 rfl rfl 0 (by decide) q150 (fun _ h9 => h9) rfl dX0_keep_6 ?_
  refine nc_v (k := 3) (wcc := [(p_, .inr (1, [.null, .int (nI 0)]))]) (wr := [(x, .inr (0, [.ref b, va_rf sn, .ref hq, .ref sb])), (hq, .inr (3, [.int c0, .ref ea, .int (nI n)]))]) (nr_I (As := [.ref b]) (rest := [.ref p_, .ref x]) hx hb hml hown hts ((B_init2 l G rc b S.1 p_ hB okb) _) nP.blind 1 q202 q203 q45 q204 rfl (by decide +kernel) ⟨⟨Nat.le_of_ble_eq_true rfl, Nat.le_of_ble_eq_true rfl⟩, Nat.le_of_ble_eq_true rfl, Nat.le_of_ble_eq_true rfl⟩ (nP_of hG Z [2] rfl (by decide) Z.rc (Z.apR [2] rfl)) rfl hl.1 rfl (Nat.le_of_ble_eq_true rfl) dX0_keep_9) Z [2] [0, 1] rfl rfl (by decide) (by decide) (fun u H locs hp9 Z => ?_)
  obtain ⟨l1, c1_9, e1_9, cap1_9, f1_9, X1_9⟩ := u
  have Z := Z.fz1 (a := [(x, .inr (0, [.ref b, va_rf sn, .ref hq, .ref sb])), (hq, .inr (3, [.int c0, .ref ea, .int (nI n)]))]) (b := [(p_, .inr (1, [.ref l1, .int (nI S.1.2.2)])), (l1, .inr (3, [.int c1_9, .ref e1_9, .int (nI S.1.1)]))])
  have hp9 : lsX G X1_9 e1_9 S.1.1 cap1_9 f1_9 ∧ cap1_9 ≤ 30 ∧ ∀ v_, v_ < S.1.1 → ∃ y_, f1_9 v_ = some y_ ∧ iLine G rc y_ (S.1.2.1 v_) := hp9
  have Z : nW G A ([(x, .inr (0, [.ref b, va_rf sn, .ref hq, .ref sb])), (hq, .inr (3, [.int c0, .ref ea, .int (nI n)])), (p_, .inr (1, [.ref l1, .int (nI S.1.2.2)])), (l1, .inr (3, [.int c1_9, .ref e1_9, .int (nI S.1.1)]))]) (X1_9 ++ (X ++ ([]))) rc s.heap _ _ := Z
  refine r_put (ty := .object "ShareStreams$Bench") hx hb hts in_X0 tyX0 tyX0_ok nmX0 hown hG Z 0 rfl rfl 1 (by decide) q151 (fun _ h9 => h9) rfl (by decide +kernel) rfl rfl (Nat.le_of_ble_eq_true rfl) (wc' := [(x, .inr (0, [.ref b, .ref p_, .ref hq, .ref sb])), (hq, .inr (3, [.int c0, .ref ea, .int (nI n)])), (p_, .inr (1, [.ref l1, .int (nI S.1.2.2)])), (l1, .inr (3, [.int c1_9, .ref e1_9, .int (nI S.1.1)]))]) rfl dX0_keep_12 (fun H locs Z => ?_)
  refine lv_aload_n hx hb dX0_keep_15 rfl (lv_at hl 0 rfl) ?_
  refine r_get (v := .ref b) hx hb hts in_X0 hown hG Z.w 0 rfl rfl 0 (by decide) q150 (fun _ h9 => h9) rfl dX0_keep_16 ?_
  refine r_getN (v := .ref b_) hx hb hts in_X1 hown hG (va_P.m1 Z.rc hm1 va_P.m0) 0 rfl rfl 0 (by decide) q108 (fun _ h9 => h9) rfl dX0_keep_19 ?_
  refine ns_i (k := 5) (nr_F (C := "java/util/ArrayList") (ci := 3) (As := []) (rest := []) hx hb hml hown hts hG (J2_sz l G b_ c_ ea_ S.1.1) nPs.blind 0 q192 q196 q198 q48 q200 (by decide +kernel) (by decide +kernel) ⟨⟨Nat.le_of_ble_eq_true rfl, Nat.le_of_ble_eq_true rfl⟩, Nat.le_of_ble_eq_true rfl, Nat.le_of_ble_eq_true rfl⟩ rfl rfl (r_recv hG (va_P.m1 Z.rc hm2 va_P.m0) 0 (C := "java/util/ArrayList") rfl rfl rfl) (nPs_of hG Z (va_P.m1 Z.rc hm2 va_P.m0)) rfl hl.1 rfl (Nat.le_of_ble_eq_true rfl) dX0_keep_22) (fun r22 hp22 => ?_)
  have he22 := hp22
  have he22 : r22 = nI S.1.1 := he22
  subst he22
  have Z := Z.swap
  have Z := Z.perm ([(x, .inr (0, [.ref b, .ref p_, .ref hq, .ref sb])), (hq, .inr (3, [.int c0, .ref ea, .int (nI n)])), (p_, .inr (1, [.ref l1, .int (nI S.1.2.2)])), (l1, .inr (3, [.int c1_9, .ref e1_9, .int (nI S.1.1)]))]) [0, 1, 2, 3] (by decide) rfl
  have Z := nW.freeze (wc := [(x, .inr (0, [.ref b, .ref p_, .ref hq, .ref sb])), (hq, .inr (3, [.int c0, .ref ea, .int (nI n)]))]) (N := [(p_, .inr (1, [.ref l1, .int (nI S.1.2.2)])), (l1, .inr (3, [.int c1_9, .ref e1_9, .int (nI S.1.1)]))]) Z
  have Z := Z.swap
  have Z := Z.re (wc' := [(x, .inr (0, [.ref b, .ref p_, .ref hq, .ref sb])), (hq, .inr (3, [.int c0, .ref ea, .int (nI n)]))]) (fz' := X ++ (([(p_, .inr (1, [.ref l1, .int (nI S.1.2.2)])), (l1, .inr (3, [.int c1_9, .ref e1_9, .int (nI S.1.1)]))] ++ X1_9) ++ ([]))) (by simp)
  exact ret (nI S.1.1) (p_, [(p_, .inr (1, [.ref l1, .int (nI S.1.2.2)])), (l1, .inr (3, [.int c1_9, .ref e1_9, .int (nI S.1.1)]))] ++ X1_9) dX0_keep_27 (⟨rfl, (keep_sys hS (new_bench (n := S.1.1) (F := S.1.2.1) hp9.1 hp9.2.1 hp9.2.2))⟩) Z.out1 (Nat.le_of_ble_eq_true rfl) (Nat.le_of_ble_eq_true rfl)
set_option maxHeartbeats 4000000 in
set_option maxRecDepth 100000 in
theorem S_restore (l : Launch) (G : nG) (rc : va_W) (x : Nat) (b : Nat) (sn : Option Nat) (hq : Nat) (sb : Nat) (c0 : Int32) (ea : Nat) (n : Nat) (cap : Nat) (f : Nat → Option Nat) (X : va_W) (S : oSt) (hS : iSys G rc S b sn X ea n cap f) (hok : stOk S) : nMi (S := Nat × Int32 × Nat × Nat × Nat × (Nat → Option Nat) × va_W × va_W) l yX0_restore cX0_restore 1 (.int) 9 25 700 283 G [.ref x] ([(x, .inr (0, [.ref b, va_rf sn, .ref hq, .ref sb])), (hq, .inr (3, [.int c0, .ref ea, .int (nI n)]))] ++ (X ++ [])) rc (fun (u : Nat × Int32 × Nat × Nat × Nat × (Nat → Option Nat) × va_W × va_W) => [(x, .inr (0, [.ref u.1, va_rf sn, .ref hq, .ref sb])), (hq, .inr (3, [.int u.2.1, .ref u.2.2.1, .int (nI u.2.2.2.1)]))] ++ (u.2.2.2.2.2.2.1 ++ (u.2.2.2.2.2.2.2 ++ ([])))) (fun (r : Int32) (u : Nat × Int32 × Nat × Nat × Nat × (Nat → Option Nat) × va_W × va_W) => r = ((spRestore S).1) ∧ iSys G (u.2.2.2.2.2.2.2 ++ rc) (spRestore S).2 u.1 sn u.2.2.2.2.2.2.1 u.2.2.1 u.2.2.2.1 u.2.2.2.2.1 u.2.2.2.2.2.1) := by
  refine nMi.of (own := "ShareStreams") rfl (by decide +kernel) (Nat.le_of_ble_eq_true rfl) (fun _ _ _ => rfl) ?_
  intro p e s m args below meth c A Q ls hx hb hml hown hts hin hG Z hl ret
  have hl : lv_has ls 1 [(0, .ref x)] := hl
  have Z := Z.in1 (a := [(x, .inr (0, [.ref b, va_rf sn, .ref hq, .ref sb])), (hq, .inr (3, [.int c0, .ref ea, .int (nI n)]))]) (f := X ++ [])
  have Z : nW G A ([(x, .inr (0, [.ref b, va_rf sn, .ref hq, .ref sb])), (hq, .inr (3, [.int c0, .ref ea, .int (nI n)]))]) (X ++ ([])) rc s.heap _ _ := Z
  obtain ⟨hB, hsn, hX, hcap, hH⟩ := id hS
  obtain ⟨okb, ⟨hh4, hokh⟩, hoks, -⟩ := id hok
  obtain ⟨b_, hm1, hL_⟩ := id hB
  obtain ⟨c_, ea_, cap_, f_, hm2, hm3, hel⟩ := id hL_
  obtain ⟨hn16, ⟨hlen1, hlen2⟩, ok⟩ := id okb
  have hnh := hH.1
  rcases hz : S.2.2.1 with _ | B9
  · skip
    rw [hz] at hsn
    have hsn : sn = none := hsn
    subst hsn
    have Z : nW G A ([(x, .inr (0, [.ref b, .null, .ref hq, .ref sb])), (hq, .inr (3, [.int c0, .ref ea, .int (nI n)]))]) (X ++ ([])) rc s.heap _ _ := Z
    refine lv_aload_n hx hb dX0_restore_0 rfl (lv_at hl 0 rfl) ?_
    refine r_get (v := .null) hx hb hts in_X0 hown hG Z.w 0 rfl rfl 1 (by decide) q151 (fun _ h9 => h9) rfl dX0_restore_1 ?_
    refine lv_ifnonnullN hx hb dX0_restore_4 ?_
    refine lv_ldc hx hb hown (hts _ q359) dX0_restore_7 ?_
    refine lv_goto (tgt := 39) hx hb dX0_restore_9 (by decide) ?_
    have hsp : spRestore S = (cNONE, S) := by unfold spRestore; rw [hz]
    have Z : nW G A ([(x, .inr (0, [.ref b, .null, .ref hq, .ref sb])), (hq, .inr (3, [.int c0, .ref ea, .int (nI n)]))]) (X ++ (([]) ++ ([]))) rc s.heap _ _ := Z
    exact ret (-100000005 : Int32) (b, c0, ea, n, cap, f, X, []) dX0_restore_39 (⟨(by rw [hsp]), (by rw [hsp]; exact hS)⟩) Z.out1 (Nat.le_of_ble_eq_true rfl) (Nat.le_of_ble_eq_true rfl)
  · skip
    rw [hz] at hsn
    obtain ⟨y9, hsn1, hsn2⟩ := id hsn
    subst hsn1
    obtain ⟨b9, hm91, hL9⟩ := id hsn2
    obtain ⟨c9, e9, cap9, f9, hm92, -, -⟩ := id hL9
    have Z : nW G A ([(x, .inr (0, [.ref b, .ref y9, .ref hq, .ref sb])), (hq, .inr (3, [.int c0, .ref ea, .int (nI n)]))]) (X ++ ([])) rc s.heap _ _ := Z
    refine lv_aload_n hx hb dX0_restore_0 rfl (lv_at hl 0 rfl) ?_
    refine r_get (v := .ref y9) hx hb hts in_X0 hown hG Z.w 0 rfl rfl 1 (by decide) q151 (fun _ h9 => h9) rfl dX0_restore_1 ?_
    refine lv_ifnonnull (tgt := 12) hx hb dX0_restore_4 (by decide) ?_
    refine lv_aload_n hx hb dX0_restore_12 rfl (lv_at hl 0 rfl) ?_
    refine r_new (ci := 1) (fs := [.null, .int (nI 0)]) hx hb hts in_X1 tyX1 tyX1_ok hown q74 q75 q45 hG Z rfl (fun j hj => by rcases (show j = 0 ∨ j = 1 by omega) with rfl | rfl <;> rfl) (Nat.le_of_ble_eq_true rfl) (Nat.le_of_ble_eq_true rfl) dX0_restore_13 (fun p_ H Z => ?_)
    have Z : nW G A ([(x, .inr (0, [.ref b, .ref y9, .ref hq, .ref sb])), (hq, .inr (3, [.int c0, .ref ea, .int (nI n)])), (p_, .inr (1, [.null, .int (nI 0)]))]) (X ++ ([])) rc s.heap _ _ := Z
    refine lv_dup hx hb dX0_restore_16 rfl ?_
    refine lv_aload_n hx hb dX0_restore_17 rfl (lv_at hl 0 rfl) ?_
    refine r_get (v := .ref y9) hx hb hts in_X0 hown hG Z.w 0 rfl rfl 1 (by decide) q151 (fun _ h9 => h9) rfl dX0_restore_18 ?_
    refine nc_v (k := 3) (wcc := [(p_, .inr (1, [.null, .int (nI 0)]))]) (wr := [(x, .inr (0, [.ref b, .ref y9, .ref hq, .ref sb])), (hq, .inr (3, [.int c0, .ref ea, .int (nI n)]))]) (nr_I (As := [.ref y9]) (rest := [.ref p_, .ref x]) hx hb hml hown hts ((B_init2 l G rc y9 B9 p_ hsn2 (hoks B9 hz)) _) nP.blind 1 q202 q203 q45 q204 rfl (by decide +kernel) ⟨⟨Nat.le_of_ble_eq_true rfl, Nat.le_of_ble_eq_true rfl⟩, Nat.le_of_ble_eq_true rfl, Nat.le_of_ble_eq_true rfl⟩ (nP_of hG Z [2] rfl (by decide) Z.rc (Z.apR [2] rfl)) rfl hl.1 rfl (Nat.le_of_ble_eq_true rfl) dX0_restore_21) Z [2] [0, 1] rfl rfl (by decide) (by decide) (fun u H locs hp21 Z => ?_)
    obtain ⟨l1, c1_21, e1_21, cap1_21, f1_21, X1_21⟩ := u
    have Z := Z.fz1 (a := [(x, .inr (0, [.ref b, .ref y9, .ref hq, .ref sb])), (hq, .inr (3, [.int c0, .ref ea, .int (nI n)]))]) (b := [(p_, .inr (1, [.ref l1, .int (nI B9.2.2)])), (l1, .inr (3, [.int c1_21, .ref e1_21, .int (nI B9.1)]))])
    have hp21 : lsX G X1_21 e1_21 B9.1 cap1_21 f1_21 ∧ cap1_21 ≤ 30 ∧ ∀ v_, v_ < B9.1 → ∃ y_, f1_21 v_ = some y_ ∧ iLine G rc y_ (B9.2.1 v_) := hp21
    have Z : nW G A ([(x, .inr (0, [.ref b, .ref y9, .ref hq, .ref sb])), (hq, .inr (3, [.int c0, .ref ea, .int (nI n)])), (p_, .inr (1, [.ref l1, .int (nI B9.2.2)])), (l1, .inr (3, [.int c1_21, .ref e1_21, .int (nI B9.1)]))]) (X1_21 ++ (X ++ ([]))) rc s.heap _ _ := Z
    refine lv_aload_n hx hb dX0_restore_24 rfl (lv_at hl 0 rfl) ?_
    refine r_get (v := .ref y9) hx hb hts in_X0 hown hG Z.w 0 rfl rfl 1 (by decide) q151 (fun _ h9 => h9) rfl dX0_restore_25 ?_
    refine r_getN (v := .ref b9) hx hb hts in_X1 hown hG (va_P.m1 Z.rc hm91 va_P.m0) 0 rfl rfl 0 (by decide) q108 (fun _ h9 => h9) rfl dX0_restore_28 ?_
    refine ns_i (k := 5) (nr_F (C := "java/util/ArrayList") (ci := 3) (As := []) (rest := [.ref p_, .ref x]) hx hb hml hown hts hG (J2_sz l G b9 c9 e9 B9.1) nPs.blind 0 q192 q196 q198 q48 q200 (by decide +kernel) (by decide +kernel) ⟨⟨Nat.le_of_ble_eq_true rfl, Nat.le_of_ble_eq_true rfl⟩, Nat.le_of_ble_eq_true rfl, Nat.le_of_ble_eq_true rfl⟩ rfl rfl (r_recv hG (va_P.m1 Z.rc hm92 va_P.m0) 0 (C := "java/util/ArrayList") rfl rfl rfl) (nPs_of hG Z (va_P.m1 Z.rc hm92 va_P.m0)) rfl hl.1 rfl (Nat.le_of_ble_eq_true rfl) dX0_restore_31) (fun r31 hp31 => ?_)
    have he31 := hp31
    have he31 : r31 = nI B9.1 := he31
    subst he31
    have Z := Z.swap
    have Z := Z.th1
    refine nc_i (k := 3) (wcc := [(x, .inr (0, [.ref b, va_rf (some y9), .ref hq, .ref sb])), (hq, .inr (3, [.int c0, .ref ea, .int (nI n)]))] ++ (X ++ [])) (wr := [(p_, .inr (1, [.ref l1, .int (nI B9.2.2)])), (l1, .inr (3, [.int c1_21, .ref e1_21, .int (nI B9.1)]))]) (nr_V (As := [.ref p_, .int (nI B9.1)]) (rest := []) hx hb hml hown hts ((S_accept l G rc x b (some y9) hq sb c0 ea n cap f X p_ (nI B9.1) ([.ref b_, .int (nI S.1.2.2)]) (by first | assumption | omega | rfl) (by first | assumption | omega | rfl) (by omega) hH.lsE hm1) _) nP.blind 2 q290 q292 qs4 q44 q293 (by decide +kernel) ⟨⟨Nat.le_of_ble_eq_true rfl, Nat.le_of_ble_eq_true rfl⟩, Nat.le_of_ble_eq_true rfl, Nat.le_of_ble_eq_true rfl⟩ (r_recv hG Z.w 0 (C := "ShareStreams") rfl rfl rfl) (nP_of hG Z ([0, 1] ++ List.range' (List.length ([(x, .inr (0, [.ref b, .ref y9, .ref hq, .ref sb])), (hq, .inr (3, [.int c0, .ref ea, .int (nI n)])), (p_, .inr (1, [.ref l1, .int (nI B9.2.2)])), (l1, .inr (3, [.int c1_21, .ref e1_21, .int (nI B9.1)]))])) (List.length X)) (n_withC (wc := [(x, .inr (0, [.ref b, .ref y9, .ref hq, .ref sb])), (hq, .inr (3, [.int c0, .ref ea, .int (nI n)])), (p_, .inr (1, [.ref l1, .int (nI B9.2.2)])), (l1, .inr (3, [.int c1_21, .ref e1_21, .int (nI B9.1)]))]) (wcc := [(x, .inr (0, [.ref b, va_rf (some y9), .ref hq, .ref sb])), (hq, .inr (3, [.int c0, .ref ea, .int (nI n)]))]) (N := X) (isC := [0, 1]) rfl) (n_withN (wc := [(x, .inr (0, [.ref b, .ref y9, .ref hq, .ref sb])), (hq, .inr (3, [.int c0, .ref ea, .int (nI n)])), (p_, .inr (1, [.ref l1, .int (nI B9.2.2)])), (l1, .inr (3, [.int c1_21, .ref e1_21, .int (nI B9.1)]))]) (wcc := [(x, .inr (0, [.ref b, va_rf (some y9), .ref hq, .ref sb])), (hq, .inr (3, [.int c0, .ref ea, .int (nI n)]))]) (N := X) (isC := [0, 1]) rfl (by decide)) Z.rc (Z.apR ([0, 1] ++ List.range' (List.length ([(x, .inr (0, [.ref b, .ref y9, .ref hq, .ref sb])), (hq, .inr (3, [.int c0, .ref ea, .int (nI n)])), (p_, .inr (1, [.ref l1, .int (nI B9.2.2)])), (l1, .inr (3, [.int c1_21, .ref e1_21, .int (nI B9.1)]))])) (List.length X)) (n_withC (wc := [(x, .inr (0, [.ref b, .ref y9, .ref hq, .ref sb])), (hq, .inr (3, [.int c0, .ref ea, .int (nI n)])), (p_, .inr (1, [.ref l1, .int (nI B9.2.2)])), (l1, .inr (3, [.int c1_21, .ref e1_21, .int (nI B9.1)]))]) (wcc := [(x, .inr (0, [.ref b, va_rf (some y9), .ref hq, .ref sb])), (hq, .inr (3, [.int c0, .ref ea, .int (nI n)]))]) (N := X) (isC := [0, 1]) rfl))) rfl hl.1 rfl (Nat.le_of_ble_eq_true rfl) dX0_restore_36) Z ([0, 1] ++ List.range' (List.length ([(x, .inr (0, [.ref b, .ref y9, .ref hq, .ref sb])), (hq, .inr (3, [.int c0, .ref ea, .int (nI n)])), (p_, .inr (1, [.ref l1, .int (nI B9.2.2)])), (l1, .inr (3, [.int c1_21, .ref e1_21, .int (nI B9.1)]))])) (List.length X)) [2, 3] (n_withC (wc := [(x, .inr (0, [.ref b, .ref y9, .ref hq, .ref sb])), (hq, .inr (3, [.int c0, .ref ea, .int (nI n)])), (p_, .inr (1, [.ref l1, .int (nI B9.2.2)])), (l1, .inr (3, [.int c1_21, .ref e1_21, .int (nI B9.1)]))]) (wcc := [(x, .inr (0, [.ref b, va_rf (some y9), .ref hq, .ref sb])), (hq, .inr (3, [.int c0, .ref ea, .int (nI n)]))]) (N := X) (isC := [0, 1]) rfl) (n_withR (wc := [(x, .inr (0, [.ref b, .ref y9, .ref hq, .ref sb])), (hq, .inr (3, [.int c0, .ref ea, .int (nI n)])), (p_, .inr (1, [.ref l1, .int (nI B9.2.2)])), (l1, .inr (3, [.int c1_21, .ref e1_21, .int (nI B9.1)]))]) (wr := [(p_, .inr (1, [.ref l1, .int (nI B9.2.2)])), (l1, .inr (3, [.int c1_21, .ref e1_21, .int (nI B9.1)]))]) (N := X) (isR := [2, 3]) rfl) (by decide) (n_withD (wc := [(x, .inr (0, [.ref b, .ref y9, .ref hq, .ref sb])), (hq, .inr (3, [.int c0, .ref ea, .int (nI n)])), (p_, .inr (1, [.ref l1, .int (nI B9.2.2)])), (l1, .inr (3, [.int c1_21, .ref e1_21, .int (nI B9.1)]))]) (wr := [(p_, .inr (1, [.ref l1, .int (nI B9.2.2)])), (l1, .inr (3, [.int c1_21, .ref e1_21, .int (nI B9.1)]))]) (N := X) (isC := [0, 1]) (isR := [2, 3]) rfl (by decide)) (fun r36 u H locs hp36 Z => ?_)
    obtain ⟨c1_36, e1_36, n1_36, cap1_36, f1_36, X1_36⟩ := u
    obtain ⟨he36, hp36⟩ := hp36
    have he36 : r36 = (nI B9.1) := he36
    subst he36
    have Z := Z.fz1 (a := [(p_, .inr (1, [.ref l1, .int (nI B9.2.2)])), (l1, .inr (3, [.int c1_21, .ref e1_21, .int (nI B9.1)]))]) (b := [(x, .inr (0, [.ref p_, va_rf (some y9), .ref hq, .ref sb])), (hq, .inr (3, [.int c1_36, .ref e1_36, .int (nI n1_36)]))])
    have hp36 : lsX G X1_36 e1_36 n1_36 cap1_36 f1_36 ∧ cap1_36 ≤ 30 ∧ n1_36 = (if n = 4 then 4 else n + 1) ∧ (∀ v_, v_ < n1_36 - 1 → f1_36 v_ = if n = 4 then f (v_ + 1) else f v_) ∧ f1_36 (n1_36 - 1) = some b := hp36
    have Z : nW G A ([(p_, .inr (1, [.ref l1, .int (nI B9.2.2)])), (l1, .inr (3, [.int c1_21, .ref e1_21, .int (nI B9.1)])), (x, .inr (0, [.ref p_, va_rf (some y9), .ref hq, .ref sb])), (hq, .inr (3, [.int c1_36, .ref e1_36, .int (nI n1_36)]))]) (X1_36 ++ (X1_21 ++ ([]))) rc s.heap _ _ := Z
    have Z := Z.perm ([(x, .inr (0, [.ref p_, va_rf (some y9), .ref hq, .ref sb])), (hq, .inr (3, [.int c1_36, .ref e1_36, .int (nI n1_36)])), (p_, .inr (1, [.ref l1, .int (nI B9.2.2)])), (l1, .inr (3, [.int c1_21, .ref e1_21, .int (nI B9.1)]))]) [2, 3, 0, 1] (by decide) rfl
    have Z := nW.freeze (wc := [(x, .inr (0, [.ref p_, va_rf (some y9), .ref hq, .ref sb])), (hq, .inr (3, [.int c1_36, .ref e1_36, .int (nI n1_36)]))]) (N := [(p_, .inr (1, [.ref l1, .int (nI B9.2.2)])), (l1, .inr (3, [.int c1_21, .ref e1_21, .int (nI B9.1)]))]) Z
    have Z := Z.swap
    have Z := Z.re (wc' := [(x, .inr (0, [.ref p_, va_rf (some y9), .ref hq, .ref sb])), (hq, .inr (3, [.int c1_36, .ref e1_36, .int (nI n1_36)]))]) (fz' := X1_36 ++ (([(p_, .inr (1, [.ref l1, .int (nI B9.2.2)])), (l1, .inr (3, [.int c1_21, .ref e1_21, .int (nI B9.1)]))] ++ X1_21) ++ ([]))) (by simp)
    have hsp : spRestore S = (nI B9.1, spAcc S B9) := by unfold spRestore; rw [hz]
    exact ret (nI B9.1) (p_, c1_36, e1_36, n1_36, cap1_36, f1_36, X1_36, [(p_, .inr (1, [.ref l1, .int (nI B9.2.2)])), (l1, .inr (3, [.int c1_21, .ref e1_21, .int (nI B9.1)]))] ++ X1_21) dX0_restore_39 (⟨(by rw [hsp]), (by rw [hsp]; exact acc_sys hS hh4 (new_bench (n := B9.1) (F := B9.2.1) (len := B9.2.2) hp21.1 hp21.2.1 hp21.2.2) hp36.1 hp36.2.1 hp36.2.2.1 hp36.2.2.2.1 hp36.2.2.2.2)⟩) Z.out1 (Nat.le_of_ble_eq_true rfl) (Nat.le_of_ble_eq_true rfl)
