set_option maxHeartbeats 4000000 in
set_option maxRecDepth 100000 in
theorem L_init (l : Launch) (G : nG) (y_ : Nat) (k : Int32) (aa : Nat)  : nMv (S := Unit) l yX4_init cX4_init 3 1 0 0 24 G [.ref y_, .int k, .ref aa] ([(y_, .inr (4, [.int (nI 0), .null]))]) ([]) (fun (u : Unit) => [(y_, .inr (4, [.int k, .ref aa]))]) (fun (u : Unit) => True) := by
  refine nMv.of (own := "ShareStreams$Plain") rfl (by decide +kernel) (Nat.le_of_ble_eq_true rfl) ?_
  intro p e s m args below meth c A Q ls hx hb hml hown hts hin hG Z hl ret
  have hl : lv_has ls 3 [(0, .ref y_), (1, .int k), (2, .ref aa)] := hl
  have Z : nW G A ([(y_, .inr (4, [.int (nI 0), .null]))]) ([]) ([]) s.heap _ _ := Z
  refine lv_aload_n hx hb dX4_init_0 rfl (lv_at hl 0 rfl) ?_
  refine W.objInit hx hb hown (hts _ q178) (hts _ q72) (hts _ q73) rfl (by rw [hml]; exact hl.1) rfl dX4_init_1 (Nat.le_of_ble_eq_true rfl) (Nat.le_of_ble_eq_true rfl) ?_
  refine W.eq (g2 := F0 m 4 ls []) rfl ?_
  refine lv_aload_n hx hb dX4_init_4 rfl (lv_at hl 0 rfl) ?_
  refine lv_iload_n hx hb dX4_init_5 rfl (lv_at hl 1 rfl) ?_
  refine r_putF (ty := .int) hx hb hts in_X4 tyX4 tyX4_ok nmX4 hown hG Z 0 rfl rfl 0 (by decide) q179 (fun _ h9 => h9) rfl hin rfl (by decide +kernel) rfl rfl (Nat.le_of_ble_eq_true rfl) (wc' := [(y_, .inr (4, [.int k, .null]))]) rfl dX4_init_6 (fun H locs Z => ?_)
  refine lv_aload_n hx hb dX4_init_9 rfl (lv_at hl 0 rfl) ?_
  refine lv_aload_n hx hb dX4_init_10 rfl (lv_at hl 2 rfl) ?_
  refine r_putF (ty := .array .int) hx hb hts in_X4 tyX4 tyX4_ok nmX4 hown hG Z 0 rfl rfl 1 (by decide) q180 (fun _ h9 => h9) rfl hin rfl (by decide +kernel) rfl rfl (Nat.le_of_ble_eq_true rfl) (wc' := [(y_, .inr (4, [.int k, .ref aa]))]) rfl dX4_init_11 (fun H locs Z => ?_)
  exact ret () dX4_init_14 trivial Z (Nat.le_of_ble_eq_true rfl) (Nat.le_of_ble_eq_true rfl)
set_option maxHeartbeats 4000000 in
set_option maxRecDepth 100000 in
theorem L_of (l : Launch) (G : nG) (k : Int32) (aa : Nat)  : nMq (S := Nat) l yX3_of cX3_of 2 ((.object "ShareStreams$Line")) 2 1 2 46 G [.int k, .ref aa] ([]) ([]) (fun (u : Nat) => [(u, .inr (4, [.int k, .ref aa]))]) (fun (r : Option Nat) (u : Nat) => r = (some u)) := by
  refine nMq.of (own := "ShareStreams$Line") rfl (by decide +kernel) (Nat.le_of_ble_eq_true rfl) (Or.inl ⟨_, rfl⟩) ?_
  intro p e s m args below meth c A Q ls hx hb hml hown hts hin hG Z hl ret
  have hl : lv_has ls 2 [(0, .int k), (1, .ref aa)] := hl
  have Z : nW G A ([]) ([]) ([]) s.heap _ _ := Z
  refine r_new (ci := 4) (fs := [.int (nI 0), .null]) hx hb hts in_X4 tyX4 tyX4_ok hown q173 q174 q55 hG Z rfl (fun j hj => by rcases (show j = 0 ∨ j = 1 by omega) with rfl | rfl <;> rfl) (Nat.le_of_ble_eq_true rfl) (Nat.le_of_ble_eq_true rfl) dX3_of_0 (fun y_ H Z => ?_)
  have Z : nW G A ([(y_, .inr (4, [.int (nI 0), .null]))]) ([]) ([]) s.heap _ _ := Z
  refine lv_dup hx hb dX3_of_3 rfl ?_
  refine lv_iload_n hx hb dX3_of_4 rfl (lv_at hl 0 rfl) ?_
  refine lv_aload_n hx hb dX3_of_5 rfl (lv_at hl 1 rfl) ?_
  refine nc_v (k := 3) (wcc := [(y_, .inr (4, [.int (nI 0), .null]))]) (wr := []) (nr_I (As := [.int k, .ref aa]) (rest := [.ref y_]) hx hb hml hown hts ((L_init l G y_ k aa) _) nP.blind 2 q175 q176 q55 q177 rfl (by decide +kernel) ⟨⟨Nat.le_of_ble_eq_true rfl, Nat.le_of_ble_eq_true rfl⟩, Nat.le_of_ble_eq_true rfl, Nat.le_of_ble_eq_true rfl⟩ (nP_of hG Z [0] rfl (by decide) va_P.m0 nAp.nil) rfl hl.1 rfl (Nat.le_of_ble_eq_true rfl) dX3_of_6) Z [0] [] rfl rfl (by decide) (by decide) (fun u H locs hp6 Z => ?_)
  have Z : nW G A ([(y_, .inr (4, [.int k, .ref aa]))]) ([]) ([]) s.heap _ _ := Z
  exact ret (some y_) y_ dX3_of_9 rfl Z (Nat.le_of_ble_eq_true rfl) (Nat.le_of_ble_eq_true rfl)
set_option maxHeartbeats 4000000 in
set_option maxRecDepth 100000 in
theorem B_init0 (l : Launch) (G : nG) (p_ : Nat)  : nMv (S := Nat) l yX1_init cX1_init 1 5 1 3 140 G [.ref p_] ([(p_, .inr (1, [.null, .int (nI 0)]))]) ([]) (fun (u : Nat) => [(p_, .inr (1, [.ref u, .int (nI 256)])), (u, .inr (3, [.int (nI 0), .ref G.2.2.1, .int (nI 0)]))]) (fun (u : Nat) => True) := by
  refine nMv.of (own := "ShareStreams$Bench") rfl (by decide +kernel) (Nat.le_of_ble_eq_true rfl) ?_
  intro p e s m args below meth c A Q ls hx hb hml hown hts hin hG Z hl ret
  have hl : lv_has ls 1 [(0, .ref p_)] := hl
  have Z : nW G A ([(p_, .inr (1, [.null, .int (nI 0)]))]) ([]) ([]) s.heap _ _ := Z
  refine lv_aload_n hx hb dX1_init_0 rfl (lv_at hl 0 rfl) ?_
  refine W.objInit hx hb hown (hts _ q79) (hts _ q72) (hts _ q73) rfl (by rw [hml]; exact hl.1) rfl dX1_init_1 (Nat.le_of_ble_eq_true rfl) (Nat.le_of_ble_eq_true rfl) ?_
  refine W.eq (g2 := F0 m 4 ls []) rfl ?_
  refine lv_aload_n hx hb dX1_init_4 rfl (lv_at hl 0 rfl) ?_
  refine r_new (ci := 3) (fs := [.int (nI 0), .null, .int (nI 0)]) hx hb hts in_J2 tyJ2 tyJ2_ok hown q80 q81 q48 hG Z rfl (fun j hj => by rcases (show j = 0 ∨ j = 1 ∨ j = 2 by omega) with rfl | rfl | rfl <;> rfl) (Nat.le_of_ble_eq_true rfl) (Nat.le_of_ble_eq_true rfl) dX1_init_5 (fun l1 H Z => ?_)
  have Z : nW G A ([(p_, .inr (1, [.null, .int (nI 0)])), (l1, .inr (3, [.int (nI 0), .null, .int (nI 0)]))]) ([]) ([]) s.heap _ _ := Z
  refine lv_dup hx hb dX1_init_8 rfl ?_
  refine nc_v (k := 3) (wcc := [(l1, .inr (3, [.int (nI 0), .null, .int (nI 0)]))]) (wr := [(p_, .inr (1, [.null, .int (nI 0)]))]) (nr_I (As := []) (rest := [.ref l1, .ref p_]) hx hb hml hown hts ((J2_i l G l1 (nI 0) 0) _) nP.blind 0 q82 q83 q48 q84 rfl (by decide +kernel) ⟨⟨Nat.le_of_ble_eq_true rfl, Nat.le_of_ble_eq_true rfl⟩, Nat.le_of_ble_eq_true rfl, Nat.le_of_ble_eq_true rfl⟩ (nP_of hG Z [1] rfl (by decide) va_P.m0 nAp.nil) rfl hl.1 rfl (Nat.le_of_ble_eq_true rfl) dX1_init_9) Z [1] [0] rfl rfl (by decide) (by decide) (fun u H locs hp9 Z => ?_)
  have Z : nW G A ([(p_, .inr (1, [.null, .int (nI 0)])), (l1, .inr (3, [.int (nI 0), .ref G.2.2.1, .int (nI 0)]))]) ([]) ([]) s.heap _ _ := Z
  refine r_putF (ty := .object "java/util/List") hx hb hts in_X1 tyX1 tyX1_ok nmX1 hown hG Z 0 rfl rfl 0 (by decide) q106 (fun _ h9 => h9) rfl hin rfl (by decide +kernel) rfl rfl (Nat.le_of_ble_eq_true rfl) (wc' := [(p_, .inr (1, [.ref l1, .int (nI 0)])), (l1, .inr (3, [.int (nI 0), .ref G.2.2.1, .int (nI 0)]))]) rfl dX1_init_12 (fun H locs Z => ?_)
  refine lv_aload_n hx hb dX1_init_15 rfl (lv_at hl 0 rfl) ?_
  refine lv_sipush (v := nI 256) hx hb dX1_init_16 rfl ?_
  refine r_put (ty := .int) hx hb hts in_X1 tyX1 tyX1_ok nmX1 hown hG Z 0 rfl rfl 1 (by decide) q109 (fun _ h9 => h9) rfl (by decide +kernel) rfl rfl (Nat.le_of_ble_eq_true rfl) (wc' := [(p_, .inr (1, [.ref l1, .int (nI 256)])), (l1, .inr (3, [.int (nI 0), .ref G.2.2.1, .int (nI 0)]))]) rfl dX1_init_19 (fun H locs Z => ?_)
  exact ret l1 dX1_init_22 trivial Z (Nat.le_of_ble_eq_true rfl) (Nat.le_of_ble_eq_true rfl)
theorem ln_s {G : nG} {rc : va_W} {n y : Nat} {f f1 : Nat → Option Nat} {F : Nat → Nat → Int32} (h : ∀ v, v < n → ∃ y, f v = some y ∧ iLine G rc y (F v)) (h1 : f1 n = some y ∧ ∀ v, v < n → f1 v = f v) (h2 : iLine G rc y (F n)) : ∀ v, v < n + 1 → ∃ y, f1 v = some y ∧ iLine G rc y (F v) := by
  intro v hv
  by_cases e : v = n
  · subst e; exact ⟨y, h1.1, h2⟩
  · obtain ⟨z, q1, q2⟩ := h v (by omega)
    exact ⟨z, by rw [h1.2 v (by omega)]; exact q1, q2⟩
set_option maxHeartbeats 4000000 in
set_option maxRecDepth 100000 in
theorem B_init2 (l : Launch) (G : nG) (rc : va_W) (q : Nat) (B : nBe) (p_ : Nat) (hB : iBench G rc q B) (hok : beOk B) : nMv (S := Nat × Int32 × Nat × Nat × (Nat → Option Nat) × va_W) l yX1_init_2 cX1_init_2 3 8 17 500 261 G [.ref p_, .ref q] ([(p_, .inr (1, [.null, .int (nI 0)]))]) rc (fun (u : Nat × Int32 × Nat × Nat × (Nat → Option Nat) × va_W) => [(p_, .inr (1, [.ref u.1, .int (nI B.2.2)])), (u.1, .inr (3, [.int u.2.1, .ref u.2.2.1, .int (nI B.1)]))] ++ (u.2.2.2.2.2 ++ ([]))) (fun (u : Nat × Int32 × Nat × Nat × (Nat → Option Nat) × va_W) => lsX G u.2.2.2.2.2 u.2.2.1 B.1 u.2.2.2.1 u.2.2.2.2.1 ∧ u.2.2.2.1 ≤ 30 ∧ ∀ v_, v_ < B.1 → ∃ y_, u.2.2.2.2.1 v_ = some y_ ∧ iLine G rc y_ (B.2.1 v_)) := by
  refine nMv.of (own := "ShareStreams$Bench") rfl (by decide +kernel) (Nat.le_of_ble_eq_true rfl) ?_
  intro p e s m args below meth c A Q ls hx hb hml hown hts hin hG Z hl ret
  have hl : lv_has ls 3 [(0, .ref p_), (1, .ref q)] := hl
  have Z : nW G A ([(p_, .inr (1, [.null, .int (nI 0)]))]) ([]) rc s.heap _ _ := Z
  obtain ⟨b_, hm1, hL⟩ := id hB
  have hL0 := hL
  obtain ⟨c_, ea_, cap_, f_, hm2, hm3, hel⟩ := hL0
  obtain ⟨hn, ⟨hlen1, hlen2⟩, ok⟩ := id hok
  refine lv_aload_n hx hb dX1_init_2_0 rfl (lv_at hl 0 rfl) ?_
  refine W.objInit hx hb hown (hts _ q79) (hts _ q72) (hts _ q73) rfl (by rw [hml]; exact hl.1) rfl dX1_init_2_1 (Nat.le_of_ble_eq_true rfl) (Nat.le_of_ble_eq_true rfl) ?_
  refine W.eq (g2 := F0 m 4 ls []) rfl ?_
  refine lv_aload_n hx hb dX1_init_2_4 rfl (lv_at hl 0 rfl) ?_
  refine r_new (ci := 3) (fs := [.int (nI 0), .null, .int (nI 0)]) hx hb hts in_J2 tyJ2 tyJ2_ok hown q80 q81 q48 hG Z rfl (fun j hj => by rcases (show j = 0 ∨ j = 1 ∨ j = 2 by omega) with rfl | rfl | rfl <;> rfl) (Nat.le_of_ble_eq_true rfl) (Nat.le_of_ble_eq_true rfl) dX1_init_2_5 (fun l1 H Z => ?_)
  have Z : nW G A ([(p_, .inr (1, [.null, .int (nI 0)])), (l1, .inr (3, [.int (nI 0), .null, .int (nI 0)]))]) ([]) rc s.heap _ _ := Z
  refine lv_dup hx hb dX1_init_2_8 rfl ?_
  refine nc_v (k := 3) (wcc := [(l1, .inr (3, [.int (nI 0), .null, .int (nI 0)]))]) (wr := [(p_, .inr (1, [.null, .int (nI 0)]))]) (nr_I (As := []) (rest := [.ref l1, .ref p_]) hx hb hml hown hts ((J2_i l G l1 (nI 0) 0) _) nP.blind 0 q82 q83 q48 q84 rfl (by decide +kernel) ⟨⟨Nat.le_of_ble_eq_true rfl, Nat.le_of_ble_eq_true rfl⟩, Nat.le_of_ble_eq_true rfl, Nat.le_of_ble_eq_true rfl⟩ (nP_of hG Z [1] rfl (by decide) va_P.m0 nAp.nil) rfl hl.1 rfl (Nat.le_of_ble_eq_true rfl) dX1_init_2_9) Z [1] [0] rfl rfl (by decide) (by decide) (fun u H locs hp9 Z => ?_)
  have Z : nW G A ([(p_, .inr (1, [.null, .int (nI 0)])), (l1, .inr (3, [.int (nI 0), .ref G.2.2.1, .int (nI 0)]))]) ([]) rc s.heap _ _ := Z
  refine r_putF (ty := .object "java/util/List") hx hb hts in_X1 tyX1 tyX1_ok nmX1 hown hG Z 0 rfl rfl 0 (by decide) q106 (fun _ h9 => h9) rfl hin rfl (by decide +kernel) rfl rfl (Nat.le_of_ble_eq_true rfl) (wc' := [(p_, .inr (1, [.ref l1, .int (nI 0)])), (l1, .inr (3, [.int (nI 0), .ref G.2.2.1, .int (nI 0)]))]) rfl dX1_init_2_12 (fun H locs Z => ?_)
  refine lv_aload_n hx hb dX1_init_2_15 rfl (lv_at hl 0 rfl) ?_
  refine lv_sipush (v := nI 256) hx hb dX1_init_2_16 rfl ?_
  refine r_put (ty := .int) hx hb hts in_X1 tyX1 tyX1_ok nmX1 hown hG Z 0 rfl rfl 1 (by decide) q109 (fun _ h9 => h9) rfl (by decide +kernel) rfl rfl (Nat.le_of_ble_eq_true rfl) (wc' := [(p_, .inr (1, [.ref l1, .int (nI 256)])), (l1, .inr (3, [.int (nI 0), .ref G.2.2.1, .int (nI 0)]))]) rfl dX1_init_2_19 (fun H locs Z => ?_)
  have Z : nW G A ([(p_, .inr (1, [.ref l1, .int (nI 256)])), (l1, .inr (3, [.int (nI 0), .ref G.2.2.1, .int (nI 0)]))]) (([]) ++ ([])) rc s.heap _ _ := Z
  refine lv_iconst (v := nI 0) hx hb dX1_init_2_22 rfl ?_
  refine lv_istore_n (lv' := [(2, .int (nI 0)), (0, .ref p_), (1, .ref q)]) hx hb dX1_init_2_23 rfl hl (by decide) rfl (fun ls hl => ?_)
  have L24 : ∀ (k_ : Nat) (k : Nat) (c1 : Int32) (e1 : Nat) (cap1 : Nat) (f1 : Nat → Option Nat) (X1 : va_W) (g1 : k ≤ B.1) (g2 : lsX G X1 e1 k cap1 f1) (g3 : cap1 ≤ 30) (g4 : ∀ v_, v_ < k → ∃ y_, f1 v_ = some y_ ∧ iLine G rc y_ (B.2.1 v_)) (hk_ : B.1 - k < k_) (H : Heap) (locs : List Loc), nW G A ([(p_, .inr (1, [.ref l1, .int (nI 256)])), (l1, .inr (3, [.int c1, .ref e1, .int (nI k)]))]) (X1 ++ ([])) rc s.heap H locs → ∀ (ls : Array Slot), lv_has ls 3 [(2, .int (nI k)), (0, .ref p_), (1, .ref q)] → W p l e (nRm 8 17 500 261) s m args below meth c H locs (1 + k) (3 + 30 * k) Q (F0 m 24 ls []) := by
    intro k_
    induction k_ with
    | zero => intro k c1 e1 cap1 f1 X1 g1 g2 g3 g4 hk_; exact absurd hk_ (Nat.not_lt_zero _)
    | succ k_ ih_L24 =>
      intro k c1 e1 cap1 f1 X1 g1 g2 g3 g4 hk_ H locs Z ls hl
      refine lv_iload_n hx hb dX1_init_2_24 rfl (lv_at hl 0 rfl) ?_
      refine lv_aload_n hx hb dX1_init_2_25 rfl (lv_at hl 2 rfl) ?_
      refine r_get (v := .ref b_) hx hb hts in_X1 hown hG (va_P.m1 Z.rc hm1 va_P.m0) 0 rfl rfl 0 (by decide) q106 (fun _ h9 => h9) rfl dX1_init_2_26 ?_
      refine ns_i (k := 5) (nr_F (C := "java/util/ArrayList") (ci := 3) (As := []) (rest := [.int (nI k)]) hx hb hml hown hts hG (J2_sz l G b_ c_ ea_ B.1) nPs.blind 0 q206 q196 q198 q48 q200 (by decide +kernel) (by decide +kernel) ⟨⟨Nat.le_of_ble_eq_true rfl, Nat.le_of_ble_eq_true rfl⟩, (by show _ ≤ 17; omega), (by show _ ≤ 500; omega)⟩ rfl rfl (r_recv hG (va_P.m1 Z.rc hm2 va_P.m0) 0 (C := "java/util/ArrayList") rfl rfl rfl) (nPs_of hG Z (va_P.m1 Z.rc hm2 va_P.m0)) rfl hl.1 rfl (Nat.le_of_ble_eq_true rfl) dX1_init_2_29) (fun r29 hp29 => ?_)
      have he29 := hp29
      have he29 : r29 = nI B.1 := he29
      subst he29
      refine lv_icmp_ge (tgt := 66) hx hb dX1_init_2_34 (by decide) (fun c34 => ?_) (fun c34 => ?_)
      · skip
        have c34 := n_le_t (a := B.1) (b := k) c34 (by omega) (by omega)
        have c34 : k = B.1 := by omega
        subst c34
        refine lv_aload_n hx hb dX1_init_2_66 rfl (lv_at hl 1 rfl) ?_
        refine lv_aload_n hx hb dX1_init_2_67 rfl (lv_at hl 2 rfl) ?_
        refine r_get (v := .int (nI B.2.2)) hx hb hts in_X1 hown hG (va_P.m1 Z.rc hm1 va_P.m0) 0 rfl rfl 1 (by decide) q109 (fun _ h9 => h9) rfl dX1_init_2_68 ?_
        refine r_put (ty := .int) hx hb hts in_X1 tyX1 tyX1_ok nmX1 hown hG Z 0 rfl rfl 1 (by decide) q109 (fun _ h9 => h9) rfl (by decide +kernel) rfl rfl (Nat.le_of_ble_eq_true rfl) (wc' := [(p_, .inr (1, [.ref l1, .int (nI B.2.2)])), (l1, .inr (3, [.int c1, .ref e1, .int (nI B.1)]))]) rfl dX1_init_2_71 (fun H locs Z => ?_)
        exact ret (l1, c1, e1, cap1, f1, X1) dX1_init_2_74 (⟨g2, g3, g4⟩) Z.out1 (by omega) (by omega)
      · skip
        have c34 := n_le_f (a := B.1) (b := k) c34 (by omega) (by omega)
        obtain ⟨hm3a, hm3b, hm3c⟩ := hm3.resolve_left (by omega)
        obtain ⟨y_, hy_, hln⟩ := hel k (by omega)
        have hln0 := hln
        obtain ⟨a_, L_, fl_, hm4, hm5, hL_, hrow⟩ := hln0
        have hi_ := hm3c
        have hi9 : k < B.1 := by omega
        have hy9 := hln
        refine lv_aload_n hx hb dX1_init_2_37 rfl (lv_at hl 1 rfl) ?_
        refine r_get (v := .ref l1) hx hb hts in_X1 hown hG Z.w 0 rfl rfl 0 (by decide) q106 (fun _ h9 => h9) rfl dX1_init_2_38 ?_
        refine lv_aload_n hx hb dX1_init_2_41 rfl (lv_at hl 2 rfl) ?_
        refine r_get (v := .ref b_) hx hb hts in_X1 hown hG (va_P.m1 Z.rc hm1 va_P.m0) 0 rfl rfl 0 (by decide) q106 (fun _ h9 => h9) rfl dX1_init_2_42 ?_
        refine lv_iload_n hx hb dX1_init_2_45 rfl (lv_at hl 0 rfl) ?_
        refine ns_q (k := 5) (nr_F (C := "java/util/ArrayList") (ci := 3) (As := [.int (nI k)]) (rest := [.ref l1]) hx hb hml hown hts hG (J2_g l G b_ c_ ea_ B.1 cap_ f_ k (by omega) hm3b (by omega)) nPs.blind 1 q208 q211 q213 q48 q215 (by decide +kernel) (by decide +kernel) ⟨⟨Nat.le_of_ble_eq_true rfl, Nat.le_of_ble_eq_true rfl⟩, (by show _ ≤ 17; omega), (by show _ ≤ 500; omega)⟩ rfl rfl (r_recv hG (va_P.m1 Z.rc hm2 va_P.m0) 0 (C := "java/util/ArrayList") rfl rfl rfl) (nPs_of hG Z (va_P.m1 Z.rc hm2 (va_P.m1 Z.rc hm3a va_P.m0))) rfl hl.1 rfl (Nat.le_of_ble_eq_true rfl) dX1_init_2_46) (fun r46 hp46 => ?_)
        have he46 := hp46
        have he46 : r46 = f_ k := he46
        subst he46
        rw [hy_]
        refine r_cast (C := "ShareStreams$Plain") hx hb hts hown q226 q342 hG (r_recv hG (va_P.m1 Z.rc hm4 va_P.m0) 0 (C := "ShareStreams$Plain") rfl rfl rfl) dX1_init_2_51 ?_
        have Z := Z.th1
        refine nc_i (k := 5) (wcc := [(l1, .inr (3, [.int c1, .ref e1, .int (nI k)]))] ++ (X1 ++ [])) (wr := [(p_, .inr (1, [.ref l1, .int (nI 256)]))]) (nr_F (C := "java/util/ArrayList") (ci := 3) (As := [.ref y_]) (rest := []) hx hb hml hown hts hG ((J2_a l G l1 c1 e1 k cap1 f1 X1 y_ rc 4 (RX4, TX4, 2) ([.int (B.2.1 k 0), .ref a_]) g2 (by first | assumption | omega | rfl) (by first | assumption | omega | rfl) rfl q1240 (lsE_of g4) hm4) _) nP.blind 1 q228 q231 q233 q48 q235 (by decide +kernel) (by decide +kernel) ⟨⟨Nat.le_of_ble_eq_true rfl, Nat.le_of_ble_eq_true rfl⟩, (by show _ ≤ 17; omega), (by show _ ≤ 500; omega)⟩ rfl rfl (r_recv hG Z.w 1 (C := "java/util/ArrayList") rfl rfl rfl) (nP_of hG Z ([1] ++ List.range' (List.length ([(p_, .inr (1, [.ref l1, .int (nI 256)])), (l1, .inr (3, [.int c1, .ref e1, .int (nI k)]))])) (List.length X1)) (n_withC (wc := [(p_, .inr (1, [.ref l1, .int (nI 256)])), (l1, .inr (3, [.int c1, .ref e1, .int (nI k)]))]) (wcc := [(l1, .inr (3, [.int c1, .ref e1, .int (nI k)]))]) (N := X1) (isC := [1]) rfl) (n_withN (wc := [(p_, .inr (1, [.ref l1, .int (nI 256)])), (l1, .inr (3, [.int c1, .ref e1, .int (nI k)]))]) (wcc := [(l1, .inr (3, [.int c1, .ref e1, .int (nI k)]))]) (N := X1) (isC := [1]) rfl (by decide)) Z.rc (Z.apR ([1] ++ List.range' (List.length ([(p_, .inr (1, [.ref l1, .int (nI 256)])), (l1, .inr (3, [.int c1, .ref e1, .int (nI k)]))])) (List.length X1)) (n_withC (wc := [(p_, .inr (1, [.ref l1, .int (nI 256)])), (l1, .inr (3, [.int c1, .ref e1, .int (nI k)]))]) (wcc := [(l1, .inr (3, [.int c1, .ref e1, .int (nI k)]))]) (N := X1) (isC := [1]) rfl))) rfl hl.1 rfl (Nat.le_of_ble_eq_true rfl) dX1_init_2_54) Z ([1] ++ List.range' (List.length ([(p_, .inr (1, [.ref l1, .int (nI 256)])), (l1, .inr (3, [.int c1, .ref e1, .int (nI k)]))])) (List.length X1)) [0] (n_withC (wc := [(p_, .inr (1, [.ref l1, .int (nI 256)])), (l1, .inr (3, [.int c1, .ref e1, .int (nI k)]))]) (wcc := [(l1, .inr (3, [.int c1, .ref e1, .int (nI k)]))]) (N := X1) (isC := [1]) rfl) (n_withR (wc := [(p_, .inr (1, [.ref l1, .int (nI 256)])), (l1, .inr (3, [.int c1, .ref e1, .int (nI k)]))]) (wr := [(p_, .inr (1, [.ref l1, .int (nI 256)]))]) (N := X1) (isR := [0]) rfl) (by decide) (n_withD (wc := [(p_, .inr (1, [.ref l1, .int (nI 256)])), (l1, .inr (3, [.int c1, .ref e1, .int (nI k)]))]) (wr := [(p_, .inr (1, [.ref l1, .int (nI 256)]))]) (N := X1) (isC := [1]) (isR := [0]) rfl (by decide)) (fun r54 u H locs hp54 Z => ?_)
        obtain ⟨c1_54, e1_54, cap1_54, f1_54, X1_54⟩ := u
        obtain ⟨he54, hp54⟩ := hp54
        have he54 : r54 = bI true := he54
        subst he54
        have Z := Z.fz1 (a := [(p_, .inr (1, [.ref l1, .int (nI 256)]))]) (b := [(l1, .inr (3, [.int c1_54, .ref e1_54, .int (nI (k + 1))]))])
        have hp54 : lsX G X1_54 e1_54 (k + 1) cap1_54 f1_54 ∧ cap1_54 ≤ 30 ∧ f1_54 k = some y_ ∧ ∀ v_, v_ < k → f1_54 v_ = f1 v_ := hp54
        have Z : nW G A ([(p_, .inr (1, [.ref l1, .int (nI 256)])), (l1, .inr (3, [.int c1_54, .ref e1_54, .int (nI (k + 1))]))]) (X1_54 ++ ([])) rc s.heap _ _ := Z
        refine lv_pop hx hb dX1_init_2_59 rfl ?_
        refine lv_iinc (v := nI (k + 1)) (lv' := [(2, .int (nI (k + 1))), (0, .ref p_), (1, .ref q)]) hx hb dX1_init_2_60 hl (k := 0) rfl (nI_add _ _) (by decide) rfl (fun ls hl => ?_)
        refine lv_goto (tgt := 24) hx hb dX1_init_2_63 (by decide) ?_
        refine W.widen (k := 1 + (k + 1)) (n := 3 + 30 * (k + 1)) (by omega) (by omega) ?_
        exact ih_L24 (k + 1) c1_54 e1_54 cap1_54 f1_54 X1_54 (by first | assumption | omega) hp54.1 hp54.2.1 (ln_s g4 hp54.2.2 hy9) (by omega) _ _ Z _ (lv_sub hl [0, 1, 2] rfl)
  refine W.widen (k := 1 + 0) (n := 3 + 30 * 0) (by omega) (by omega) ?_
  exact L24 _ 0 (nI 0) G.2.2.1 0 (fun _ => none) ([]) (by first | assumption | omega) (Or.inl ⟨rfl, rfl, rfl⟩) (by first | assumption | omega) (fun v_ hv_ => absurd hv_ (Nat.not_lt_zero _)) (Nat.lt_succ_self _) _ _ Z _ (lv_sub hl [0, 1, 2] rfl)
set_option maxHeartbeats 4000000 in
set_option maxRecDepth 100000 in
theorem S_accept (l : Launch) (G : nG) (rc : va_W) (x : Nat) (b : Nat) (sn : Option Nat) (hq : Nat) (sb : Nat) (c0 : Int32) (ea : Nat) (n : Nat) (cap : Nat) (f : Nat → Option Nat) (X : va_W) (p_ : Nat) (k : Int32) (vs : List Value) (hX : lsX G X ea n cap f) (hcap : cap ≤ 30) (hn : n ≤ 4) (he : lsE rc 1 n f) (hv : (b, .inr (1, vs)) ∈ rc) : nMi (S := Int32 × Nat × Nat × Nat × (Nat → Option Nat) × va_W) l yX0_accept cX0_accept 3 (.int) 8 1 30 261 G [.ref x, .ref p_, .int k] ([(x, .inr (0, [.ref b, va_rf sn, .ref hq, .ref sb])), (hq, .inr (3, [.int c0, .ref ea, .int (nI n)]))] ++ (X ++ [])) rc (fun (u : Int32 × Nat × Nat × Nat × (Nat → Option Nat) × va_W) => [(x, .inr (0, [.ref p_, va_rf sn, .ref hq, .ref sb])), (hq, .inr (3, [.int u.1, .ref u.2.1, .int (nI u.2.2.1)]))] ++ (u.2.2.2.2.2 ++ ([]))) (fun (r : Int32) (u : Int32 × Nat × Nat × Nat × (Nat → Option Nat) × va_W) => r = k ∧ (lsX G u.2.2.2.2.2 u.2.1 u.2.2.1 u.2.2.2.1 u.2.2.2.2.1 ∧ u.2.2.2.1 ≤ 30 ∧ u.2.2.1 = (if n = 4 then 4 else n + 1) ∧ (∀ v_, v_ < u.2.2.1 - 1 → u.2.2.2.2.1 v_ = if n = 4 then f (v_ + 1) else f v_) ∧ u.2.2.2.2.1 (u.2.2.1 - 1) = some b)) := by
  refine nMi.of (own := "ShareStreams") rfl (by decide +kernel) (Nat.le_of_ble_eq_true rfl) (fun _ _ _ => rfl) ?_
  intro p e s m args below meth c A Q ls hx hb hml hown hts hin hG Z hl ret
  have hl : lv_has ls 3 [(0, .ref x), (1, .ref p_), (2, .int k)] := hl
  have Z := Z.in1 (a := [(x, .inr (0, [.ref b, va_rf sn, .ref hq, .ref sb])), (hq, .inr (3, [.int c0, .ref ea, .int (nI n)]))]) (f := X ++ [])
  have Z : nW G A ([(x, .inr (0, [.ref b, va_rf sn, .ref hq, .ref sb])), (hq, .inr (3, [.int c0, .ref ea, .int (nI n)]))]) (X ++ ([])) rc s.heap _ _ := Z
  refine lv_aload_n hx hb dX0_accept_0 rfl (lv_at hl 0 rfl) ?_
  refine r_get (v := .ref hq) hx hb hts in_X0 hown hG Z.w 0 rfl rfl 2 (by decide) q152 (fun _ h9 => h9) rfl dX0_accept_1 ?_
  refine ns_i (k := 5) (nr_F (C := "java/util/ArrayList") (ci := 3) (As := []) (rest := []) hx hb hml hown hts hG (J2_sz l G hq c0 ea n) nPs.blind 0 q192 q196 q198 q48 q200 (by decide +kernel) (by decide +kernel) ⟨⟨Nat.le_of_ble_eq_true rfl, Nat.le_of_ble_eq_true rfl⟩, Nat.le_of_ble_eq_true rfl, Nat.le_of_ble_eq_true rfl⟩ rfl rfl (r_recv hG Z.w 1 (C := "java/util/ArrayList") rfl rfl rfl) (nPs_of hG Z (Z.w.sub [1] rfl)) rfl hl.1 rfl (Nat.le_of_ble_eq_true rfl) dX0_accept_4) (fun r4 hp4 => ?_)
  have he4 := hp4
  have he4 : r4 = nI n := he4
  subst he4
  refine lv_iconst (v := nI 4) hx hb dX0_accept_9 rfl ?_
  refine lv_icmp_ne (tgt := 24) hx hb dX0_accept_10 (by decide) (fun c10 => ?_) (fun c10 => ?_)
  · skip
    have c10 := n_eq_f (a := n) (b := 4) c10
    refine lv_aload_n hx hb dX0_accept_24 rfl (lv_at hl 0 rfl) ?_
    refine r_get (v := .ref hq) hx hb hts in_X0 hown hG Z.w 0 rfl rfl 2 (by decide) q152 (fun _ h9 => h9) rfl dX0_accept_25 ?_
    refine lv_aload_n hx hb dX0_accept_28 rfl (lv_at hl 0 rfl) ?_
    refine r_get (v := .ref b) hx hb hts in_X0 hown hG Z.w 0 rfl rfl 0 (by decide) q150 (fun _ h9 => h9) rfl dX0_accept_29 ?_
    have Z := Z.th1
    refine nc_i (k := 5) (wcc := [(hq, .inr (3, [.int c0, .ref ea, .int (nI n)]))] ++ (X ++ [])) (wr := [(x, .inr (0, [.ref b, va_rf sn, .ref hq, .ref sb]))]) (nr_F (C := "java/util/ArrayList") (ci := 3) (As := [.ref b]) (rest := []) hx hb hml hown hts hG ((J2_a l G hq c0 ea n cap f X b rc 1 (RX1, TX1, 2) vs (by first | assumption | omega | rfl) (by first | assumption | omega | rfl) (by first | assumption | omega | rfl) rfl q1236 (by first | assumption | omega | rfl) (by first | assumption | omega | rfl)) _) nP.blind 1 q289 q231 q233 q48 q235 (by decide +kernel) (by decide +kernel) ⟨⟨Nat.le_of_ble_eq_true rfl, Nat.le_of_ble_eq_true rfl⟩, Nat.le_of_ble_eq_true rfl, Nat.le_of_ble_eq_true rfl⟩ rfl rfl (r_recv hG Z.w 1 (C := "java/util/ArrayList") rfl rfl rfl) (nP_of hG Z ([1] ++ List.range' (List.length ([(x, .inr (0, [.ref b, va_rf sn, .ref hq, .ref sb])), (hq, .inr (3, [.int c0, .ref ea, .int (nI n)]))])) (List.length X)) (n_withC (wc := [(x, .inr (0, [.ref b, va_rf sn, .ref hq, .ref sb])), (hq, .inr (3, [.int c0, .ref ea, .int (nI n)]))]) (wcc := [(hq, .inr (3, [.int c0, .ref ea, .int (nI n)]))]) (N := X) (isC := [1]) rfl) (n_withN (wc := [(x, .inr (0, [.ref b, va_rf sn, .ref hq, .ref sb])), (hq, .inr (3, [.int c0, .ref ea, .int (nI n)]))]) (wcc := [(hq, .inr (3, [.int c0, .ref ea, .int (nI n)]))]) (N := X) (isC := [1]) rfl (by decide)) Z.rc (Z.apR ([1] ++ List.range' (List.length ([(x, .inr (0, [.ref b, va_rf sn, .ref hq, .ref sb])), (hq, .inr (3, [.int c0, .ref ea, .int (nI n)]))])) (List.length X)) (n_withC (wc := [(x, .inr (0, [.ref b, va_rf sn, .ref hq, .ref sb])), (hq, .inr (3, [.int c0, .ref ea, .int (nI n)]))]) (wcc := [(hq, .inr (3, [.int c0, .ref ea, .int (nI n)]))]) (N := X) (isC := [1]) rfl))) rfl hl.1 rfl (Nat.le_of_ble_eq_true rfl) dX0_accept_32) Z ([1] ++ List.range' (List.length ([(x, .inr (0, [.ref b, va_rf sn, .ref hq, .ref sb])), (hq, .inr (3, [.int c0, .ref ea, .int (nI n)]))])) (List.length X)) [0] (n_withC (wc := [(x, .inr (0, [.ref b, va_rf sn, .ref hq, .ref sb])), (hq, .inr (3, [.int c0, .ref ea, .int (nI n)]))]) (wcc := [(hq, .inr (3, [.int c0, .ref ea, .int (nI n)]))]) (N := X) (isC := [1]) rfl) (n_withR (wc := [(x, .inr (0, [.ref b, va_rf sn, .ref hq, .ref sb])), (hq, .inr (3, [.int c0, .ref ea, .int (nI n)]))]) (wr := [(x, .inr (0, [.ref b, va_rf sn, .ref hq, .ref sb]))]) (N := X) (isR := [0]) rfl) (by decide) (n_withD (wc := [(x, .inr (0, [.ref b, va_rf sn, .ref hq, .ref sb])), (hq, .inr (3, [.int c0, .ref ea, .int (nI n)]))]) (wr := [(x, .inr (0, [.ref b, va_rf sn, .ref hq, .ref sb]))]) (N := X) (isC := [1]) (isR := [0]) rfl (by decide)) (fun r32 u H locs hp32 Z => ?_)
    obtain ⟨c1_32, e1_32, cap1_32, f1_32, X1_32⟩ := u
    obtain ⟨he32, hp32⟩ := hp32
    have he32 : r32 = bI true := he32
    subst he32
    have Z := Z.fz1 (a := [(x, .inr (0, [.ref b, va_rf sn, .ref hq, .ref sb]))]) (b := [(hq, .inr (3, [.int c1_32, .ref e1_32, .int (nI (n + 1))]))])
    have hp32 : lsX G X1_32 e1_32 (n + 1) cap1_32 f1_32 ∧ cap1_32 ≤ 30 ∧ f1_32 n = some b ∧ ∀ v_, v_ < n → f1_32 v_ = f v_ := hp32
    have Z : nW G A ([(x, .inr (0, [.ref b, va_rf sn, .ref hq, .ref sb])), (hq, .inr (3, [.int c1_32, .ref e1_32, .int (nI (n + 1))]))]) (X1_32 ++ ([])) rc s.heap _ _ := Z
    refine lv_pop hx hb dX0_accept_37 rfl ?_
    refine lv_aload_n hx hb dX0_accept_38 rfl (lv_at hl 0 rfl) ?_
    refine lv_aload_n hx hb dX0_accept_39 rfl (lv_at hl 1 rfl) ?_
    refine r_put (ty := .object "ShareStreams$Bench") hx hb hts in_X0 tyX0 tyX0_ok nmX0 hown hG Z 0 rfl rfl 0 (by decide) q150 (fun _ h9 => h9) rfl (by decide +kernel) rfl rfl (Nat.le_of_ble_eq_true rfl) (wc' := [(x, .inr (0, [.ref p_, va_rf sn, .ref hq, .ref sb])), (hq, .inr (3, [.int c1_32, .ref e1_32, .int (nI (n + 1))]))]) rfl dX0_accept_40 (fun H locs Z => ?_)
    refine lv_iload_n hx hb dX0_accept_43 rfl (lv_at hl 2 rfl) ?_
    have hpp : (n + 1) = (if n = 4 then 4 else n + 1) ∧ (∀ v_, v_ < (n + 1) - 1 → f1_32 v_ = if n = 4 then f (v_ + 1) else f v_) ∧ f1_32 ((n + 1) - 1) = some b := ⟨by rw [if_neg c10], fun v_ hv_ => by rw [if_neg c10]; exact hp32.2.2.2 v_ (by omega), by rw [Nat.add_sub_cancel]; exact hp32.2.2.1⟩
    exact ret k (c1_32, e1_32, n + 1, cap1_32, f1_32, X1_32) dX0_accept_44 (⟨rfl, ⟨hp32.1, hp32.2.1, hpp⟩⟩) Z.out1 (Nat.le_of_ble_eq_true rfl) (Nat.le_of_ble_eq_true rfl)
  · skip
    have c10 := n_eq_t (a := n) (b := 4) c10 (by omega) (by decide)
    refine lv_aload_n hx hb dX0_accept_13 rfl (lv_at hl 0 rfl) ?_
    refine r_get (v := .ref hq) hx hb hts in_X0 hown hG Z.w 0 rfl rfl 2 (by decide) q152 (fun _ h9 => h9) rfl dX0_accept_14 ?_
    refine lv_iconst (v := nI 0) hx hb dX0_accept_17 rfl ?_
    have Z := Z.th1
    refine nc_q (k := 5) (wcc := [(hq, .inr (3, [.int c0, .ref ea, .int (nI n)]))] ++ (X ++ [])) (wr := [(x, .inr (0, [.ref b, va_rf sn, .ref hq, .ref sb]))]) (nr_F (C := "java/util/ArrayList") (ci := 3) (As := [.int (nI 0)]) (rest := []) hx hb hml hown hts hG ((J2_r l G hq c0 ea n cap f X 0 rc 1 (RX1, TX1, 2) (by first | assumption | omega | rfl) (by first | assumption | omega | rfl) (by first | assumption | omega | rfl) rfl q1236 (by first | assumption | omega | rfl)) _) nP.blind 1 q295 q298 q300 q48 q302 (by decide +kernel) (by decide +kernel) ⟨⟨Nat.le_of_ble_eq_true rfl, Nat.le_of_ble_eq_true rfl⟩, Nat.le_of_ble_eq_true rfl, Nat.le_of_ble_eq_true rfl⟩ rfl rfl (r_recv hG Z.w 1 (C := "java/util/ArrayList") rfl rfl rfl) (nP_of hG Z ([1] ++ List.range' (List.length ([(x, .inr (0, [.ref b, va_rf sn, .ref hq, .ref sb])), (hq, .inr (3, [.int c0, .ref ea, .int (nI n)]))])) (List.length X)) (n_withC (wc := [(x, .inr (0, [.ref b, va_rf sn, .ref hq, .ref sb])), (hq, .inr (3, [.int c0, .ref ea, .int (nI n)]))]) (wcc := [(hq, .inr (3, [.int c0, .ref ea, .int (nI n)]))]) (N := X) (isC := [1]) rfl) (n_withN (wc := [(x, .inr (0, [.ref b, va_rf sn, .ref hq, .ref sb])), (hq, .inr (3, [.int c0, .ref ea, .int (nI n)]))]) (wcc := [(hq, .inr (3, [.int c0, .ref ea, .int (nI n)]))]) (N := X) (isC := [1]) rfl (by decide)) Z.rc (Z.apR ([1] ++ List.range' (List.length ([(x, .inr (0, [.ref b, va_rf sn, .ref hq, .ref sb])), (hq, .inr (3, [.int c0, .ref ea, .int (nI n)]))])) (List.length X)) (n_withC (wc := [(x, .inr (0, [.ref b, va_rf sn, .ref hq, .ref sb])), (hq, .inr (3, [.int c0, .ref ea, .int (nI n)]))]) (wcc := [(hq, .inr (3, [.int c0, .ref ea, .int (nI n)]))]) (N := X) (isC := [1]) rfl))) rfl hl.1 rfl (Nat.le_of_ble_eq_true rfl) dX0_accept_18) Z ([1] ++ List.range' (List.length ([(x, .inr (0, [.ref b, va_rf sn, .ref hq, .ref sb])), (hq, .inr (3, [.int c0, .ref ea, .int (nI n)]))])) (List.length X)) [0] (n_withC (wc := [(x, .inr (0, [.ref b, va_rf sn, .ref hq, .ref sb])), (hq, .inr (3, [.int c0, .ref ea, .int (nI n)]))]) (wcc := [(hq, .inr (3, [.int c0, .ref ea, .int (nI n)]))]) (N := X) (isC := [1]) rfl) (n_withR (wc := [(x, .inr (0, [.ref b, va_rf sn, .ref hq, .ref sb])), (hq, .inr (3, [.int c0, .ref ea, .int (nI n)]))]) (wr := [(x, .inr (0, [.ref b, va_rf sn, .ref hq, .ref sb]))]) (N := X) (isR := [0]) rfl) (by decide) (n_withD (wc := [(x, .inr (0, [.ref b, va_rf sn, .ref hq, .ref sb])), (hq, .inr (3, [.int c0, .ref ea, .int (nI n)]))]) (wr := [(x, .inr (0, [.ref b, va_rf sn, .ref hq, .ref sb]))]) (N := X) (isC := [1]) (isR := [0]) rfl (by decide)) (fun r18 u H locs hp18 Z => ?_)
    obtain ⟨c1_18, f1_18, X1_18⟩ := u
    obtain ⟨he18, hp18⟩ := hp18
    have he18 : r18 = f 0 := he18
    subst he18
    have Z := Z.fz1 (a := [(x, .inr (0, [.ref b, va_rf sn, .ref hq, .ref sb]))]) (b := [(hq, .inr (3, [.int c1_18, .ref ea, .int (nI (n - 1))]))])
    have hp18 : lsX G X1_18 ea (n - 1) cap f1_18 ∧ (∀ v_, v_ < n - 1 → f1_18 v_ = if v_ < 0 then f v_ else f (v_ + 1)) := hp18
    have Z : nW G A ([(x, .inr (0, [.ref b, va_rf sn, .ref hq, .ref sb])), (hq, .inr (3, [.int c1_18, .ref ea, .int (nI (n - 1))]))]) (X1_18 ++ ([])) rc s.heap _ _ := Z
    obtain ⟨y9, vs9, h91, h92⟩ := he 0 (by omega)
    rw [h91]
    refine lv_pop hx hb dX0_accept_23 rfl ?_
    refine lv_aload_n hx hb dX0_accept_24 rfl (lv_at hl 0 rfl) ?_
    refine r_get (v := .ref hq) hx hb hts in_X0 hown hG Z.w 0 rfl rfl 2 (by decide) q152 (fun _ h9 => h9) rfl dX0_accept_25 ?_
    refine lv_aload_n hx hb dX0_accept_28 rfl (lv_at hl 0 rfl) ?_
    refine r_get (v := .ref b) hx hb hts in_X0 hown hG Z.w 0 rfl rfl 0 (by decide) q150 (fun _ h9 => h9) rfl dX0_accept_29 ?_
    have Z := Z.th1
    refine nc_i (k := 5) (wcc := [(hq, .inr (3, [.int c1_18, .ref ea, .int (nI (n - 1))]))] ++ (X1_18 ++ [])) (wr := [(x, .inr (0, [.ref b, va_rf sn, .ref hq, .ref sb]))]) (nr_F (C := "java/util/ArrayList") (ci := 3) (As := [.ref b]) (rest := []) hx hb hml hown hts hG ((J2_a l G hq c1_18 ea (n - 1) cap f1_18 X1_18 b rc 1 (RX1, TX1, 2) vs hp18.1 (by first | assumption | omega | rfl) (by first | assumption | omega | rfl) rfl q1236 (fun i hi => by rw [hp18.2 i hi, if_neg (Nat.not_lt_zero _)]; exact he (i + 1) (by omega)) (by first | assumption | omega | rfl)) _) nP.blind 1 q289 q231 q233 q48 q235 (by decide +kernel) (by decide +kernel) ⟨⟨Nat.le_of_ble_eq_true rfl, Nat.le_of_ble_eq_true rfl⟩, Nat.le_of_ble_eq_true rfl, Nat.le_of_ble_eq_true rfl⟩ rfl rfl (r_recv hG Z.w 1 (C := "java/util/ArrayList") rfl rfl rfl) (nP_of hG Z ([1] ++ List.range' (List.length ([(x, .inr (0, [.ref b, va_rf sn, .ref hq, .ref sb])), (hq, .inr (3, [.int c1_18, .ref ea, .int (nI (n - 1))]))])) (List.length X1_18)) (n_withC (wc := [(x, .inr (0, [.ref b, va_rf sn, .ref hq, .ref sb])), (hq, .inr (3, [.int c1_18, .ref ea, .int (nI (n - 1))]))]) (wcc := [(hq, .inr (3, [.int c1_18, .ref ea, .int (nI (n - 1))]))]) (N := X1_18) (isC := [1]) rfl) (n_withN (wc := [(x, .inr (0, [.ref b, va_rf sn, .ref hq, .ref sb])), (hq, .inr (3, [.int c1_18, .ref ea, .int (nI (n - 1))]))]) (wcc := [(hq, .inr (3, [.int c1_18, .ref ea, .int (nI (n - 1))]))]) (N := X1_18) (isC := [1]) rfl (by decide)) Z.rc (Z.apR ([1] ++ List.range' (List.length ([(x, .inr (0, [.ref b, va_rf sn, .ref hq, .ref sb])), (hq, .inr (3, [.int c1_18, .ref ea, .int (nI (n - 1))]))])) (List.length X1_18)) (n_withC (wc := [(x, .inr (0, [.ref b, va_rf sn, .ref hq, .ref sb])), (hq, .inr (3, [.int c1_18, .ref ea, .int (nI (n - 1))]))]) (wcc := [(hq, .inr (3, [.int c1_18, .ref ea, .int (nI (n - 1))]))]) (N := X1_18) (isC := [1]) rfl))) rfl hl.1 rfl (Nat.le_of_ble_eq_true rfl) dX0_accept_32) Z ([1] ++ List.range' (List.length ([(x, .inr (0, [.ref b, va_rf sn, .ref hq, .ref sb])), (hq, .inr (3, [.int c1_18, .ref ea, .int (nI (n - 1))]))])) (List.length X1_18)) [0] (n_withC (wc := [(x, .inr (0, [.ref b, va_rf sn, .ref hq, .ref sb])), (hq, .inr (3, [.int c1_18, .ref ea, .int (nI (n - 1))]))]) (wcc := [(hq, .inr (3, [.int c1_18, .ref ea, .int (nI (n - 1))]))]) (N := X1_18) (isC := [1]) rfl) (n_withR (wc := [(x, .inr (0, [.ref b, va_rf sn, .ref hq, .ref sb])), (hq, .inr (3, [.int c1_18, .ref ea, .int (nI (n - 1))]))]) (wr := [(x, .inr (0, [.ref b, va_rf sn, .ref hq, .ref sb]))]) (N := X1_18) (isR := [0]) rfl) (by decide) (n_withD (wc := [(x, .inr (0, [.ref b, va_rf sn, .ref hq, .ref sb])), (hq, .inr (3, [.int c1_18, .ref ea, .int (nI (n - 1))]))]) (wr := [(x, .inr (0, [.ref b, va_rf sn, .ref hq, .ref sb]))]) (N := X1_18) (isC := [1]) (isR := [0]) rfl (by decide)) (fun r32 u H locs hp32 Z => ?_)
    obtain ⟨c1_32, e1_32, cap1_32, f1_32, X1_32⟩ := u
    obtain ⟨he32, hp32⟩ := hp32
    have he32 : r32 = bI true := he32
    subst he32
    have Z := Z.fz1 (a := [(x, .inr (0, [.ref b, va_rf sn, .ref hq, .ref sb]))]) (b := [(hq, .inr (3, [.int c1_32, .ref e1_32, .int (nI ((n - 1) + 1))]))])
    have hp32 : lsX G X1_32 e1_32 ((n - 1) + 1) cap1_32 f1_32 ∧ cap1_32 ≤ 30 ∧ f1_32 (n - 1) = some b ∧ ∀ v_, v_ < (n - 1) → f1_32 v_ = f1_18 v_ := hp32
    have Z : nW G A ([(x, .inr (0, [.ref b, va_rf sn, .ref hq, .ref sb])), (hq, .inr (3, [.int c1_32, .ref e1_32, .int (nI ((n - 1) + 1))]))]) (X1_32 ++ ([])) rc s.heap _ _ := Z
    refine lv_pop hx hb dX0_accept_37 rfl ?_
    refine lv_aload_n hx hb dX0_accept_38 rfl (lv_at hl 0 rfl) ?_
    refine lv_aload_n hx hb dX0_accept_39 rfl (lv_at hl 1 rfl) ?_
    refine r_put (ty := .object "ShareStreams$Bench") hx hb hts in_X0 tyX0 tyX0_ok nmX0 hown hG Z 0 rfl rfl 0 (by decide) q150 (fun _ h9 => h9) rfl (by decide +kernel) rfl rfl (Nat.le_of_ble_eq_true rfl) (wc' := [(x, .inr (0, [.ref p_, va_rf sn, .ref hq, .ref sb])), (hq, .inr (3, [.int c1_32, .ref e1_32, .int (nI ((n - 1) + 1))]))]) rfl dX0_accept_40 (fun H locs Z => ?_)
    refine lv_iload_n hx hb dX0_accept_43 rfl (lv_at hl 2 rfl) ?_
    have hpp : (n - 1 + 1) = (if n = 4 then 4 else n + 1) ∧ (∀ v_, v_ < (n - 1 + 1) - 1 → f1_32 v_ = if n = 4 then f (v_ + 1) else f v_) ∧ f1_32 ((n - 1 + 1) - 1) = some b := ⟨by rw [if_pos c10]; omega, fun v_ hv_ => by rw [if_pos c10, hp32.2.2.2 v_ (by omega), hp18.2 v_ (by omega), if_neg (Nat.not_lt_zero _)], by rw [Nat.add_sub_cancel]; exact hp32.2.2.1⟩
    exact ret k (c1_32, e1_32, (n - 1) + 1, cap1_32, f1_32, X1_32) dX0_accept_44 (⟨rfl, ⟨hp32.1, hp32.2.1, hpp⟩⟩) Z.out1 (Nat.le_of_ble_eq_true rfl) (Nat.le_of_ble_eq_true rfl)
