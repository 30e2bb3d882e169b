set_option maxHeartbeats 4000000 in
set_option maxRecDepth 100000 in
theorem M_goesOn (l : Launch) (G : nG) (r0 : Nat) (hr : r0 < 256) : nSi l yX2_goesOn cX2_goesOn 2 (.int) 0 0 G [.int (nI r0)] ([]) (fun r : Int32 => r = (nI (nxt r0))) := by
  refine nSi.of (own := "ShareStreamsModel") rfl (by decide +kernel) (Nat.le_of_ble_eq_true rfl) (fun _ _ => rfl) ?_
  intro p e s m args below meth c Q ls hx hb hml hown hts hG hP hl ret
  have hl : lv_has ls 2 [(0, .int (nI r0))] := hl
  refine lv_iconst (v := nI 2) hx hb dX2_goesOn_0 rfl ?_
  refine lv_iload_n hx hb dX2_goesOn_1 rfl (lv_at hl 0 rfl) ?_
  refine lv_imul hx hb dX2_goesOn_2 ?_
  refine r_as (z := nI (2 * r0)) (pk_mul _ _) ?_
  refine lv_istore_n (lv' := [(1, .int (nI (2 * r0))), (0, .int (nI r0))]) hx hb dX2_goesOn_3 rfl hl (by decide) rfl (fun ls hl => ?_)
  refine lv_iload_n hx hb dX2_goesOn_4 rfl (lv_at hl 0 rfl) ?_
  refine lv_sipush (v := nI 255) hx hb dX2_goesOn_5 rfl ?_
  refine lv_icmp_le (tgt := 22) hx hb dX2_goesOn_8 (by decide) (fun c8 => ?_) (fun c8 => ?_)
  · skip
    have c8 := n_le_t (a := 2 * r0) (b := 255) c8 (by omega) (by decide)
    refine lv_iload_n hx hb dX2_goesOn_22 rfl (lv_at hl 0 rfl) ?_
    exact ret (nI (2 * r0)) dX2_goesOn_23 (by first | rfl | (rw [nxt, if_neg (by omega)]))
  · skip
    have c8 := n_le_f (a := 2 * r0) (b := 255) c8 (by omega) (by decide)
    refine lv_iload_n hx hb dX2_goesOn_11 rfl (lv_at hl 0 rfl) ?_
    refine lv_sipush (v := nI 256) hx hb dX2_goesOn_12 rfl ?_
    refine lv_isub hx hb dX2_goesOn_15 ?_
    refine r_as (z := nI ((2 * r0) - 256)) (pk_sub (by omega)) ?_
    refine lv_bipush (v := nI 29) hx hb dX2_goesOn_16 rfl ?_
    refine lv_ixor hx hb dX2_goesOn_18 ?_
    refine r_as (z := nI (nxt r0)) (by rw [nx_xor, nxt, if_pos (by omega)]) ?_
    refine lv_goto (tgt := 23) hx hb dX2_goesOn_19 (by decide) ?_
    exact ret (nI (nxt r0)) dX2_goesOn_23 (by first | rfl | (rw [nxt, if_neg (by omega)]))
set_option maxHeartbeats 4000000 in
set_option maxRecDepth 100000 in
theorem M_apart (l : Launch) (G : nG) (x : Nat) (y : Nat) (h1 : x ≤ 65536) (h2 : y ≤ 65536) : nSi l yX2_apart cX2_apart 2 (.int) 0 0 G [.int (nI x), .int (nI y)] ([]) (fun r : Int32 => r = (nI (apN x y))) := by
  refine nSi.of (own := "ShareStreamsModel") rfl (by decide +kernel) (Nat.le_of_ble_eq_true rfl) (fun _ _ => rfl) ?_
  intro p e s m args below meth c Q ls hx hb hml hown hts hG hP hl ret
  have hl : lv_has ls 2 [(0, .int (nI x)), (1, .int (nI y))] := hl
  refine lv_iload_n hx hb dX2_apart_0 rfl (lv_at hl 0 rfl) ?_
  refine lv_iload_n hx hb dX2_apart_1 rfl (lv_at hl 1 rfl) ?_
  refine lv_icmp_ge (tgt := 11) hx hb dX2_apart_2 (by decide) (fun c2 => ?_) (fun c2 => ?_)
  · skip
    have c2 := n_le_t (a := y) (b := x) c2 (by omega) (by omega)
    refine lv_iload_n hx hb dX2_apart_11 rfl (lv_at hl 0 rfl) ?_
    refine lv_iload_n hx hb dX2_apart_12 rfl (lv_at hl 1 rfl) ?_
    refine lv_isub hx hb dX2_apart_13 ?_
    refine r_as (z := nI (x - y)) (pk_sub (by omega)) ?_
    exact ret (nI (x - y)) dX2_apart_14 (by unfold apN; congr 1; omega)
  · skip
    have c2 := n_le_f (a := y) (b := x) c2 (by omega) (by omega)
    refine lv_iload_n hx hb dX2_apart_5 rfl (lv_at hl 1 rfl) ?_
    refine lv_iload_n hx hb dX2_apart_6 rfl (lv_at hl 0 rfl) ?_
    refine lv_isub hx hb dX2_apart_7 ?_
    refine r_as (z := nI (y - x)) (pk_sub (by omega)) ?_
    refine lv_goto (tgt := 14) hx hb dX2_apart_8 (by decide) ?_
    exact ret (nI (y - x)) dX2_apart_14 (by unfold apN; congr 1; omega)
set_option maxHeartbeats 4000000 in
set_option maxRecDepth 100000 in
theorem M_errorBy (l : Launch) (G : nG) (q : Nat) (a : Nat → Nat) (wd : Nat → Int64) (all : Nat → Int32) (kept : Nat → Int32) (hist : Nat → Int32) (hlo : Int32) (snap : Nat → Int32) (tk : Int32) (bits : Nat → Int32) (reg : Nat → Int32) (exa : Nat → Int32) (text : Nat → Int32) (tl : Int32) (sp : Int32) (read : Nat → Int32) (rm : Int32) (nu : Int32) (deep : Nat → Int32) (src : Nat → Int32) (ln : Nat) (cn : Nat) (n : Nat) (ev : Nat) (h1 : ln < 16) (h2 : cn ≤ n) (h3 : 0 < n) (h4 : n ≤ 1000) (h5 : exa ln = nI ev) (h6 : ev ≤ 65536) : nSi l yX2_errorBy cX2_errorBy 4 (.int) 1 21 G [.ref q, .int (nI ln), .int (nI cn), .int (nI n)] (mW G q a wd all kept hist hlo snap tk bits reg exa text tl sp read rm nu deep src) (fun r : Int32 => r = (nI (apN (shN cn n) ev))) := by
  refine nSi.of (own := "ShareStreamsModel") rfl (by decide +kernel) (Nat.le_of_ble_eq_true rfl) (fun _ _ => rfl) ?_
  intro p e s m args below meth c Q ls hx hb hml hown hts hG hP hl ret
  have hl : lv_has ls 4 [(0, .ref q), (1, .int (nI ln)), (2, .int (nI cn)), (3, .int (nI n))] := hl
  refine lv_iload_n hx hb dX2_errorBy_0 rfl (lv_at hl 2 rfl) ?_
  refine lv_i2l (v := lN cn) hx hb dX2_errorBy_1 (nI_l (by omega)) ?_
  refine lv_ldc2 hx hb hown (hts _ q1155) dX2_errorBy_2 ?_
  refine r_asl (z := lN 65536) rfl ?_
  refine lv_lmul hx hb dX2_errorBy_5 ?_
  refine r_asl (z := lN (cn * 65536)) (lN_mul _ _) ?_
  refine lv_iload_n hx hb dX2_errorBy_6 rfl (lv_at hl 3 rfl) ?_
  refine lv_i2l (v := lN n) hx hb dX2_errorBy_7 (nI_l (by omega)) ?_
  refine lv_ldiv hx hb dX2_errorBy_8 (fun h => by have := (pk_lEQ (a := n) (b := 0) (by omega) (by decide)).mp h; omega) ?_
  refine r_asl (z := lN ((cn * 65536) / n)) (pk_lDiv (by omega) (by omega) (by omega)) ?_
  refine lv_l2i (v := nI ((cn * 65536) / n)) hx hb dX2_errorBy_9 (lN_i _) ?_
  refine r_as (z := nI (shN cn n)) rfl ?_
  refine lv_aload_n hx hb dX2_errorBy_10 rfl (lv_at hl 0 rfl) ?_
  refine r_get (v := .ref (a 7)) hx hb hts in_X2 hown hG hP 0 rfl rfl 9 (by decide) q947 (fun _ h9 => h9) rfl dX2_errorBy_11 ?_
  refine lv_iload_n hx hb dX2_errorBy_14 rfl (lv_at hl 1 rfl) ?_
  refine r_iald hx hb hG hP 8 rfl (j := ln) (by omega) (by decide) (v := nI ev) h5 dX2_errorBy_15 ?_
  refine ns_i (k := 3) (nr_S (As := [.int (nI (shN cn n)), .int (nI ev)]) (rest := []) hx hb hml hown hts (M_apart l G (shN cn n) ev (shN_le h2 h3) (by first | assumption | omega | rfl)) nPs.blind 2 q1169 q1170 q53 q1171 (by decide +kernel) ⟨⟨Nat.le_of_ble_eq_true rfl, Nat.le_of_ble_eq_true rfl⟩, Nat.le_of_ble_eq_true rfl, Nat.le_of_ble_eq_true rfl⟩ (nPs_of0 hG (fun k q h => by simp at h)) rfl hl.1 rfl (Nat.le_of_ble_eq_true rfl) dX2_errorBy_16) (fun r16 hp16 => ?_)
  have he16 := hp16
  have he16 : r16 = nI (apN (shN cn n) ev) := he16
  subst he16
  exact ret (nI (apN (shN cn n) ev)) dX2_errorBy_19 (by first | rfl | assumption | omega | simp_all)
set_option maxHeartbeats 4000000 in
set_option maxRecDepth 100000 in
theorem M_bitOf (l : Launch) (G : nG) (q : Nat) (a : Nat → Nat) (wd : Nat → Int64) (all : Nat → Int32) (kept : Nat → Int32) (hist : Nat → Int32) (hlo : Int32) (snap : Nat → Int32) (tk : Int32) (bits : Nat → Int32) (reg : Nat → Int32) (exa : Nat → Int32) (text : Nat → Int32) (tl : Int32) (sp : Int32) (read : Nat → Int32) (rm : Int32) (nu : Int32) (deep : Nat → Int32) (src : Nat → Int32) (n : Nat) (T : Nat) (ln : Nat) (t : Nat) (hn : n ≤ 16) (ok : ∀ k, k < n → lnOk (mF all) k) (hT : T ≤ 1000) (h1 : ln < n) (h2 : t < T) (h3 : laid (mF all) bits ln T) (h4 : kd (mF all) ln = 0 → reg ln = nI (regN (nm (mF all) ln 2) t)) : nSi l yX2_bitOf cX2_bitOf 5 (.int) 1 22 G [.ref q, .int (nI ln), .int (nI t)] (mW G q a wd all kept hist hlo snap tk bits reg exa text tl sp read rm nu deep src) (fun r : Int32 => r = (nI (bitN (mF all) ln t))) := by
  refine nSi.of (own := "ShareStreamsModel") rfl (by decide +kernel) (Nat.le_of_ble_eq_true rfl) (fun _ _ => rfl) ?_
  intro p e s m args below meth c Q ls hx hb hml hown hts hG hP hl ret
  have hl : lv_has ls 5 [(0, .ref q), (1, .int (nI ln)), (2, .int (nI t))] := hl
  obtain ⟨⟨od, ol⟩, s0, o1, o2, o3, o6, -⟩ := ok ln h1
  have od : all (2 + 4 * ln + 0) = nI (kd (mF all) ln) := od
  have bl := fun k (hk : k < n) t => bit_le ok hk t
  refine lv_aload_n hx hb dX2_bitOf_0 rfl (lv_at hl 0 rfl) ?_
  refine lv_iload_n hx hb dX2_bitOf_1 rfl (lv_at hl 1 rfl) ?_
  refine lv_iconst (v := nI 1) hx hb dX2_bitOf_2 rfl ?_
  refine ns_i (k := 3) (nr_V (As := [.int (nI ln), .int (nI 1)]) (rest := []) hx hb hml hown hts (M_of l G q a wd all kept hist hlo snap tk bits reg exa text tl sp read rm nu deep src ln 1 (by first | assumption | omega | rfl)) nPs.blind 2 q1049 q1051 qs21 q53 q1052 (by decide +kernel) ⟨⟨Nat.le_of_ble_eq_true rfl, Nat.le_of_ble_eq_true rfl⟩, Nat.le_of_ble_eq_true rfl, Nat.le_of_ble_eq_true rfl⟩ (r_recv hG hP 0 (C := "ShareStreamsModel") rfl rfl rfl) (nPs_of0 hG hP) rfl hl.1 rfl (Nat.le_of_ble_eq_true rfl) dX2_bitOf_3) (fun r3 hp3 => ?_)
  have he3 := hp3
  have he3 : r3 = all (2 + 4 * ln + 1) := he3
  subst he3
  refine lv_istore_n (lv' := [(3, .int (all (2 + 4 * ln + 1))), (0, .ref q), (1, .int (nI ln)), (2, .int (nI t))]) hx hb dX2_bitOf_6 rfl hl (by decide) rfl (fun ls hl => ?_)
  refine lv_aload_n hx hb dX2_bitOf_7 rfl (lv_at hl 1 rfl) ?_
  refine lv_iload_n hx hb dX2_bitOf_8 rfl (lv_at hl 2 rfl) ?_
  refine lv_iconst (v := nI 2) hx hb dX2_bitOf_9 rfl ?_
  refine ns_i (k := 3) (nr_V (As := [.int (nI ln), .int (nI 2)]) (rest := []) hx hb hml hown hts (M_of l G q a wd all kept hist hlo snap tk bits reg exa text tl sp read rm nu deep src ln 2 (by first | assumption | omega | rfl)) nPs.blind 2 q1049 q1051 qs21 q53 q1052 (by decide +kernel) ⟨⟨Nat.le_of_ble_eq_true rfl, Nat.le_of_ble_eq_true rfl⟩, Nat.le_of_ble_eq_true rfl, Nat.le_of_ble_eq_true rfl⟩ (r_recv hG hP 0 (C := "ShareStreamsModel") rfl rfl rfl) (nPs_of0 hG hP) rfl hl.1 rfl (Nat.le_of_ble_eq_true rfl) dX2_bitOf_10) (fun r10 hp10 => ?_)
  have he10 := hp10
  have he10 : r10 = all (2 + 4 * ln + 2) := he10
  subst he10
  refine lv_istore (lv' := [(4, .int (all (2 + 4 * ln + 2))), (3, .int (all (2 + 4 * ln + 1))), (0, .ref q), (1, .int (nI ln)), (2, .int (nI t))]) hx hb dX2_bitOf_13 hl (by decide) rfl (fun ls hl => ?_)
  refine lv_aload_n hx hb dX2_bitOf_15 rfl (lv_at hl 2 rfl) ?_
  refine lv_iload_n hx hb dX2_bitOf_16 rfl (lv_at hl 3 rfl) ?_
  refine lv_iconst (v := nI 0) hx hb dX2_bitOf_17 rfl ?_
  refine ns_i (k := 3) (nr_V (As := [.int (nI ln), .int (nI 0)]) (rest := []) hx hb hml hown hts (M_of l G q a wd all kept hist hlo snap tk bits reg exa text tl sp read rm nu deep src ln 0 (by first | assumption | omega | rfl)) nPs.blind 2 q1049 q1051 qs21 q53 q1052 (by decide +kernel) ⟨⟨Nat.le_of_ble_eq_true rfl, Nat.le_of_ble_eq_true rfl⟩, Nat.le_of_ble_eq_true rfl, Nat.le_of_ble_eq_true rfl⟩ (r_recv hG hP 0 (C := "ShareStreamsModel") rfl rfl rfl) (nPs_of0 hG hP) rfl hl.1 rfl (Nat.le_of_ble_eq_true rfl) dX2_bitOf_18) (fun r18 hp18 => ?_)
  have he18 := hp18
  have he18 : r18 = all (2 + 4 * ln + 0) := he18
  subst he18
  rcases (by omega : kd (mF all) ln = 0 ∨ kd (mF all) ln = 1 ∨ kd (mF all) ln = 2 ∨ kd (mF all) ln = 3 ∨ kd (mF all) ln = 4 ∨ kd (mF all) ln = 5 ∨ kd (mF all) ln = 6) with z | z | z | z | z | z | z
  · skip
    have eb : bitN (mF all) ln t = bStep (mF all) (bitN (mF all)) ln t := bitN_eq ok h1 t
    unfold bStep at eb
    simp [z] at eb
    have e1 : all (2 + 4 * ln + 1) = nI (nm (mF all) ln 1) := (s0 z).1.1
    have e2 := (s0 z).1.2
    have e4 := h4 z
    have e5 := regN_lt (s := nm (mF all) ln 2) (by have := (s0 z).2.2.2; omega) t
    refine r_as (z := nI 0) (by have h := od; rw [z] at h; exact h) ?_
    refine lv_tableIn (off := 39) (tgt := 60) hx hb dX2_bitOf_21 (by decide +kernel) (by decide +kernel) (by decide +kernel) (by decide) ?_
    refine lv_aload_n hx hb dX2_bitOf_60 rfl (lv_at hl 2 rfl) ?_
    refine r_get (v := .ref (a 6)) hx hb hts in_X2 hown hG hP 0 rfl rfl 8 (by decide) q946 (fun _ h9 => h9) rfl dX2_bitOf_61 ?_
    refine lv_iload_n hx hb dX2_bitOf_64 rfl (lv_at hl 3 rfl) ?_
    refine r_iald hx hb hG hP 7 rfl (j := ln) (by omega) (by decide) (v := nI (regN (nm (mF all) ln 2) t)) e4 dX2_bitOf_65 ?_
    refine lv_iload_n hx hb dX2_bitOf_66 rfl (lv_at hl 1 rfl) ?_
    refine r_as (z := nI (nm (mF all) ln 1)) e1 ?_
    refine lv_icmp_gt (tgt := 74) hx hb dX2_bitOf_67 (by decide) (fun c67 => ?_) (fun c67 => ?_)
    · skip
      have c67 := n_lt_t (a := nm (mF all) ln 1) (b := regN (nm (mF all) ln 2) t) c67 (by omega) (by omega)
      refine lv_iconst (v := nI 0) hx hb dX2_bitOf_74 rfl ?_
      exact ret (nI 0) dX2_bitOf_75 (by first | (rw [eb]; done) | (rw [eb, if_pos (by omega)]; done) | (rw [eb, if_neg (by omega)]; done))
    · skip
      have c67 := n_lt_f (a := nm (mF all) ln 1) (b := regN (nm (mF all) ln 2) t) c67 (by omega) (by omega)
      refine lv_iconst (v := nI 1) hx hb dX2_bitOf_70 rfl ?_
      refine lv_goto (tgt := 75) hx hb dX2_bitOf_71 (by decide) ?_
      exact ret (nI 1) dX2_bitOf_75 (by first | (rw [eb]; done) | (rw [eb, if_pos (by omega)]; done) | (rw [eb, if_neg (by omega)]; done))
  · skip
    have eb : bitN (mF all) ln t = bStep (mF all) (bitN (mF all)) ln t := bitN_eq ok h1 t
    unfold bStep at eb
    simp [z] at eb
    have e1 : all (2 + 4 * ln + 1) = nI (nm (mF all) ln 1) := (o1 (by omega)).1
    have p1 := (o1 (by omega)).2
    have e2 : all (2 + 4 * ln + 2) = nI (nm (mF all) ln 2) := (o2 (by omega)).1
    have p2 := (o2 (by omega)).2
    refine r_as (z := nI 1) (by have h := od; rw [z] at h; exact h) ?_
    refine lv_tableIn (off := 55) (tgt := 76) hx hb dX2_bitOf_21 (by decide +kernel) (by decide +kernel) (by decide +kernel) (by decide) ?_
    refine lv_aload_n hx hb dX2_bitOf_76 rfl (lv_at hl 2 rfl) ?_
    refine lv_iload_n hx hb dX2_bitOf_77 rfl (lv_at hl 1 rfl) ?_
    refine r_as (z := nI (nm (mF all) ln 1)) e1 ?_
    refine lv_iload_n hx hb dX2_bitOf_78 rfl (lv_at hl 4 rfl) ?_
    have hq := hT
    have hq2 := hn
    refine ns_i (k := 3) (nr_V (As := [.int (nI (nm (mF all) ln 1)), .int (nI t)]) (rest := []) hx hb hml hown hts (M_bitAt l G q a wd all kept hist hlo snap tk bits reg exa text tl sp read rm nu deep src (nm (mF all) ln 1) t (by omega)) nPs.blind 2 q1143 q1145 qs33 q53 q1146 (by decide +kernel) ⟨⟨Nat.le_of_ble_eq_true rfl, Nat.le_of_ble_eq_true rfl⟩, Nat.le_of_ble_eq_true rfl, Nat.le_of_ble_eq_true rfl⟩ (r_recv hG hP 0 (C := "ShareStreamsModel") rfl rfl rfl) (nPs_of0 hG hP) rfl hl.1 rfl (Nat.le_of_ble_eq_true rfl) dX2_bitOf_79) (fun r79 hp79 => ?_)
    have he79 := hp79
    have he79 : r79 = bits (1000 * (nm (mF all) ln 1) + t) := he79
    subst he79
    refine r_as (z := nI (bitN (mF all) (nm (mF all) ln 1) t)) (h3 _ p1 _ (by omega)) ?_
    refine lv_aload_n hx hb dX2_bitOf_82 rfl (lv_at hl 2 rfl) ?_
    refine lv_iload hx hb dX2_bitOf_83 (lv_at hl 0 rfl) ?_
    refine r_as (z := nI (nm (mF all) ln 2)) e2 ?_
    refine lv_iload_n hx hb dX2_bitOf_85 rfl (lv_at hl 4 rfl) ?_
    have hq := hT
    have hq2 := hn
    refine ns_i (k := 3) (nr_V (As := [.int (nI (nm (mF all) ln 2)), .int (nI t)]) (rest := [.int (nI (bitN (mF all) (nm (mF all) ln 1) t))]) hx hb hml hown hts (M_bitAt l G q a wd all kept hist hlo snap tk bits reg exa text tl sp read rm nu deep src (nm (mF all) ln 2) t (by omega)) nPs.blind 2 q1143 q1145 qs33 q53 q1146 (by decide +kernel) ⟨⟨Nat.le_of_ble_eq_true rfl, Nat.le_of_ble_eq_true rfl⟩, Nat.le_of_ble_eq_true rfl, Nat.le_of_ble_eq_true rfl⟩ (r_recv hG hP 0 (C := "ShareStreamsModel") rfl rfl rfl) (nPs_of0 hG hP) rfl hl.1 rfl (Nat.le_of_ble_eq_true rfl) dX2_bitOf_86) (fun r86 hp86 => ?_)
    have he86 := hp86
    have he86 : r86 = bits (1000 * (nm (mF all) ln 2) + t) := he86
    subst he86
    refine r_as (z := nI (bitN (mF all) (nm (mF all) ln 2) t)) (h3 _ p2 _ (by omega)) ?_
    refine lv_iand hx hb dX2_bitOf_89 ?_
    refine r_as (z := nI (bitN (mF all) (nm (mF all) ln 1) t &&& bitN (mF all) (nm (mF all) ln 2) t)) (nx_and _ _) ?_
    exact ret (nI (bitN (mF all) (nm (mF all) ln 1) t &&& bitN (mF all) (nm (mF all) ln 2) t)) dX2_bitOf_90 (by first | (rw [eb]; done) | (rw [eb, if_pos (by omega)]; done) | (rw [eb, if_neg (by omega)]; done))
  · skip
    have eb : bitN (mF all) ln t = bStep (mF all) (bitN (mF all)) ln t := bitN_eq ok h1 t
    unfold bStep at eb
    simp [z] at eb
    have e1 : all (2 + 4 * ln + 1) = nI (nm (mF all) ln 1) := (o1 (by omega)).1
    have p1 := (o1 (by omega)).2
    have e2 : all (2 + 4 * ln + 2) = nI (nm (mF all) ln 2) := (o2 (by omega)).1
    have p2 := (o2 (by omega)).2
    refine r_as (z := nI 2) (by have h := od; rw [z] at h; exact h) ?_
    refine lv_tableIn (off := 70) (tgt := 91) hx hb dX2_bitOf_21 (by decide +kernel) (by decide +kernel) (by decide +kernel) (by decide) ?_
    refine lv_aload_n hx hb dX2_bitOf_91 rfl (lv_at hl 2 rfl) ?_
    refine lv_iload_n hx hb dX2_bitOf_92 rfl (lv_at hl 1 rfl) ?_
    refine r_as (z := nI (nm (mF all) ln 1)) e1 ?_
    refine lv_iload_n hx hb dX2_bitOf_93 rfl (lv_at hl 4 rfl) ?_
    have hq := hT
    have hq2 := hn
    refine ns_i (k := 3) (nr_V (As := [.int (nI (nm (mF all) ln 1)), .int (nI t)]) (rest := []) hx hb hml hown hts (M_bitAt l G q a wd all kept hist hlo snap tk bits reg exa text tl sp read rm nu deep src (nm (mF all) ln 1) t (by omega)) nPs.blind 2 q1143 q1145 qs33 q53 q1146 (by decide +kernel) ⟨⟨Nat.le_of_ble_eq_true rfl, Nat.le_of_ble_eq_true rfl⟩, Nat.le_of_ble_eq_true rfl, Nat.le_of_ble_eq_true rfl⟩ (r_recv hG hP 0 (C := "ShareStreamsModel") rfl rfl rfl) (nPs_of0 hG hP) rfl hl.1 rfl (Nat.le_of_ble_eq_true rfl) dX2_bitOf_94) (fun r94 hp94 => ?_)
    have he94 := hp94
    have he94 : r94 = bits (1000 * (nm (mF all) ln 1) + t) := he94
    subst he94
    refine r_as (z := nI (bitN (mF all) (nm (mF all) ln 1) t)) (h3 _ p1 _ (by omega)) ?_
    refine lv_aload_n hx hb dX2_bitOf_97 rfl (lv_at hl 2 rfl) ?_
    refine lv_iload hx hb dX2_bitOf_98 (lv_at hl 0 rfl) ?_
    refine r_as (z := nI (nm (mF all) ln 2)) e2 ?_
    refine lv_iload_n hx hb dX2_bitOf_100 rfl (lv_at hl 4 rfl) ?_
    have hq := hT
    have hq2 := hn
    refine ns_i (k := 3) (nr_V (As := [.int (nI (nm (mF all) ln 2)), .int (nI t)]) (rest := [.int (nI (bitN (mF all) (nm (mF all) ln 1) t))]) hx hb hml hown hts (M_bitAt l G q a wd all kept hist hlo snap tk bits reg exa text tl sp read rm nu deep src (nm (mF all) ln 2) t (by omega)) nPs.blind 2 q1143 q1145 qs33 q53 q1146 (by decide +kernel) ⟨⟨Nat.le_of_ble_eq_true rfl, Nat.le_of_ble_eq_true rfl⟩, Nat.le_of_ble_eq_true rfl, Nat.le_of_ble_eq_true rfl⟩ (r_recv hG hP 0 (C := "ShareStreamsModel") rfl rfl rfl) (nPs_of0 hG hP) rfl hl.1 rfl (Nat.le_of_ble_eq_true rfl) dX2_bitOf_101) (fun r101 hp101 => ?_)
    have he101 := hp101
    have he101 : r101 = bits (1000 * (nm (mF all) ln 2) + t) := he101
    subst he101
    refine r_as (z := nI (bitN (mF all) (nm (mF all) ln 2) t)) (h3 _ p2 _ (by omega)) ?_
    refine lv_ior hx hb dX2_bitOf_104 ?_
    refine r_as (z := nI (bitN (mF all) (nm (mF all) ln 1) t ||| bitN (mF all) (nm (mF all) ln 2) t)) (nx_or _ _) ?_
    exact ret (nI (bitN (mF all) (nm (mF all) ln 1) t ||| bitN (mF all) (nm (mF all) ln 2) t)) dX2_bitOf_105 (by first | (rw [eb]; done) | (rw [eb, if_pos (by omega)]; done) | (rw [eb, if_neg (by omega)]; done))
  · skip
    have eb : bitN (mF all) ln t = bStep (mF all) (bitN (mF all)) ln t := bitN_eq ok h1 t
    unfold bStep at eb
    simp [z] at eb
    have e1 : all (2 + 4 * ln + 1) = nI (nm (mF all) ln 1) := (o1 (by omega)).1
    have p1 := (o1 (by omega)).2
    have e2 : all (2 + 4 * ln + 2) = nI (nm (mF all) ln 2) := (o2 (by omega)).1
    have p2 := (o2 (by omega)).2
    refine r_as (z := nI 3) (by have h := od; rw [z] at h; exact h) ?_
    refine lv_tableIn (off := 85) (tgt := 106) hx hb dX2_bitOf_21 (by decide +kernel) (by decide +kernel) (by decide +kernel) (by decide) ?_
    refine lv_aload_n hx hb dX2_bitOf_106 rfl (lv_at hl 2 rfl) ?_
    refine lv_iload_n hx hb dX2_bitOf_107 rfl (lv_at hl 1 rfl) ?_
    refine r_as (z := nI (nm (mF all) ln 1)) e1 ?_
    refine lv_iload_n hx hb dX2_bitOf_108 rfl (lv_at hl 4 rfl) ?_
    have hq := hT
    have hq2 := hn
    refine ns_i (k := 3) (nr_V (As := [.int (nI (nm (mF all) ln 1)), .int (nI t)]) (rest := []) hx hb hml hown hts (M_bitAt l G q a wd all kept hist hlo snap tk bits reg exa text tl sp read rm nu deep src (nm (mF all) ln 1) t (by omega)) nPs.blind 2 q1143 q1145 qs33 q53 q1146 (by decide +kernel) ⟨⟨Nat.le_of_ble_eq_true rfl, Nat.le_of_ble_eq_true rfl⟩, Nat.le_of_ble_eq_true rfl, Nat.le_of_ble_eq_true rfl⟩ (r_recv hG hP 0 (C := "ShareStreamsModel") rfl rfl rfl) (nPs_of0 hG hP) rfl hl.1 rfl (Nat.le_of_ble_eq_true rfl) dX2_bitOf_109) (fun r109 hp109 => ?_)
    have he109 := hp109
    have he109 : r109 = bits (1000 * (nm (mF all) ln 1) + t) := he109
    subst he109
    refine r_as (z := nI (bitN (mF all) (nm (mF all) ln 1) t)) (h3 _ p1 _ (by omega)) ?_
    refine lv_aload_n hx hb dX2_bitOf_112 rfl (lv_at hl 2 rfl) ?_
    refine lv_iload hx hb dX2_bitOf_113 (lv_at hl 0 rfl) ?_
    refine r_as (z := nI (nm (mF all) ln 2)) e2 ?_
    refine lv_iload_n hx hb dX2_bitOf_115 rfl (lv_at hl 4 rfl) ?_
    have hq := hT
    have hq2 := hn
    refine ns_i (k := 3) (nr_V (As := [.int (nI (nm (mF all) ln 2)), .int (nI t)]) (rest := [.int (nI (bitN (mF all) (nm (mF all) ln 1) t))]) hx hb hml hown hts (M_bitAt l G q a wd all kept hist hlo snap tk bits reg exa text tl sp read rm nu deep src (nm (mF all) ln 2) t (by omega)) nPs.blind 2 q1143 q1145 qs33 q53 q1146 (by decide +kernel) ⟨⟨Nat.le_of_ble_eq_true rfl, Nat.le_of_ble_eq_true rfl⟩, Nat.le_of_ble_eq_true rfl, Nat.le_of_ble_eq_true rfl⟩ (r_recv hG hP 0 (C := "ShareStreamsModel") rfl rfl rfl) (nPs_of0 hG hP) rfl hl.1 rfl (Nat.le_of_ble_eq_true rfl) dX2_bitOf_116) (fun r116 hp116 => ?_)
    have he116 := hp116
    have he116 : r116 = bits (1000 * (nm (mF all) ln 2) + t) := he116
    subst he116
    refine r_as (z := nI (bitN (mF all) (nm (mF all) ln 2) t)) (h3 _ p2 _ (by omega)) ?_
    refine lv_ixor hx hb dX2_bitOf_119 ?_
    refine r_as (z := nI (bitN (mF all) (nm (mF all) ln 1) t ^^^ bitN (mF all) (nm (mF all) ln 2) t)) (nx_xor _ _) ?_
    exact ret (nI (bitN (mF all) (nm (mF all) ln 1) t ^^^ bitN (mF all) (nm (mF all) ln 2) t)) dX2_bitOf_120 (by first | (rw [eb]; done) | (rw [eb, if_pos (by omega)]; done) | (rw [eb, if_neg (by omega)]; done))
  · skip
    have eb : bitN (mF all) ln t = bStep (mF all) (bitN (mF all)) ln t := bitN_eq ok h1 t
    unfold bStep at eb
    simp [z] at eb
    have e1 : all (2 + 4 * ln + 1) = nI (nm (mF all) ln 1) := (o1 (by omega)).1
    have p1 := (o1 (by omega)).2
    have e2 : all (2 + 4 * ln + 2) = nI (nm (mF all) ln 2) := (o2 (by omega)).1
    have p2 := (o2 (by omega)).2
    have e3 : all (2 + 4 * ln + 3) = nI (nm (mF all) ln 3) := (o3 z).1
    have p3 := (o3 z).2
    refine r_as (z := nI 4) (by have h := od; rw [z] at h; exact h) ?_
    refine lv_tableIn (off := 100) (tgt := 121) hx hb dX2_bitOf_21 (by decide +kernel) (by decide +kernel) (by decide +kernel) (by decide) ?_
    refine lv_aload_n hx hb dX2_bitOf_121 rfl (lv_at hl 2 rfl) ?_
    refine lv_aload_n hx hb dX2_bitOf_122 rfl (lv_at hl 2 rfl) ?_
    refine lv_aload_n hx hb dX2_bitOf_123 rfl (lv_at hl 2 rfl) ?_
    refine lv_iload_n hx hb dX2_bitOf_124 rfl (lv_at hl 3 rfl) ?_
    refine lv_iconst (v := nI 3) hx hb dX2_bitOf_125 rfl ?_
    refine ns_i (k := 3) (nr_V (As := [.int (nI ln), .int (nI 3)]) (rest := [.ref q, .ref q]) hx hb hml hown hts (M_of l G q a wd all kept hist hlo snap tk bits reg exa text tl sp read rm nu deep src ln 3 (by first | assumption | omega | rfl)) nPs.blind 2 q1049 q1051 qs21 q53 q1052 (by decide +kernel) ⟨⟨Nat.le_of_ble_eq_true rfl, Nat.le_of_ble_eq_true rfl⟩, Nat.le_of_ble_eq_true rfl, Nat.le_of_ble_eq_true rfl⟩ (r_recv hG hP 0 (C := "ShareStreamsModel") rfl rfl rfl) (nPs_of0 hG hP) rfl hl.1 rfl (Nat.le_of_ble_eq_true rfl) dX2_bitOf_126) (fun r126 hp126 => ?_)
    have he126 := hp126
    have he126 : r126 = all (2 + 4 * ln + 3) := he126
    subst he126
    refine r_as (z := nI (nm (mF all) ln 3)) e3 ?_
    refine lv_iload_n hx hb dX2_bitOf_129 rfl (lv_at hl 4 rfl) ?_
    have hq := hT
    have hq2 := hn
    refine ns_i (k := 3) (nr_V (As := [.int (nI (nm (mF all) ln 3)), .int (nI t)]) (rest := [.ref q]) hx hb hml hown hts (M_bitAt l G q a wd all kept hist hlo snap tk bits reg exa text tl sp read rm nu deep src (nm (mF all) ln 3) t (by omega)) nPs.blind 2 q1143 q1145 qs33 q53 q1146 (by decide +kernel) ⟨⟨Nat.le_of_ble_eq_true rfl, Nat.le_of_ble_eq_true rfl⟩, Nat.le_of_ble_eq_true rfl, Nat.le_of_ble_eq_true rfl⟩ (r_recv hG hP 0 (C := "ShareStreamsModel") rfl rfl rfl) (nPs_of0 hG hP) rfl hl.1 rfl (Nat.le_of_ble_eq_true rfl) dX2_bitOf_130) (fun r130 hp130 => ?_)
    have he130 := hp130
    have he130 : r130 = bits (1000 * (nm (mF all) ln 3) + t) := he130
    subst he130
    refine r_as (z := nI (bitN (mF all) (nm (mF all) ln 3) t)) (h3 _ p3 _ (by omega)) ?_
    refine lv_iconst (v := nI 1) hx hb dX2_bitOf_133 rfl ?_
    have b3 := bl _ (Nat.lt_trans p3 h1) t
    refine lv_icmp_ne (tgt := 141) hx hb dX2_bitOf_134 (by decide) (fun c134 => ?_) (fun c134 => ?_)
    · skip
      have c134 := n_eq_f (a := bitN (mF all) (nm (mF all) ln 3) t) (b := 1) c134
      have c134 : ¬ bitN (mF all) (nm (mF all) ln 3) t = 1 := c134
      refine lv_iload hx hb dX2_bitOf_141 (lv_at hl 0 rfl) ?_
      refine r_as (z := nI (nm (mF all) ln 2)) e2 ?_
      refine lv_iload_n hx hb dX2_bitOf_143 rfl (lv_at hl 4 rfl) ?_
      have hq := hT
      have hq2 := hn
      refine ns_i (k := 3) (nr_V (As := [.int (nI (nm (mF all) ln 2)), .int (nI t)]) (rest := []) hx hb hml hown hts (M_bitAt l G q a wd all kept hist hlo snap tk bits reg exa text tl sp read rm nu deep src (nm (mF all) ln 2) t (by omega)) nPs.blind 2 q1143 q1145 qs33 q53 q1146 (by decide +kernel) ⟨⟨Nat.le_of_ble_eq_true rfl, Nat.le_of_ble_eq_true rfl⟩, Nat.le_of_ble_eq_true rfl, Nat.le_of_ble_eq_true rfl⟩ (r_recv hG hP 0 (C := "ShareStreamsModel") rfl rfl rfl) (nPs_of0 hG hP) rfl hl.1 rfl (Nat.le_of_ble_eq_true rfl) dX2_bitOf_144) (fun r144 hp144 => ?_)
      have he144 := hp144
      have he144 : r144 = bits (1000 * (nm (mF all) ln 2) + t) := he144
      subst he144
      exact ret (bits (1000 * (nm (mF all) ln 2) + t)) dX2_bitOf_147 (by rw [eb]; first | (rw [if_pos c134]; exact h3 _ p1 _ (by omega)) | (rw [if_neg c134]; exact h3 _ p2 _ (by omega)))
    · skip
      have c134 := n_eq_t (a := bitN (mF all) (nm (mF all) ln 3) t) (b := 1) c134 (by omega) (by decide)
      refine lv_iload_n hx hb dX2_bitOf_137 rfl (lv_at hl 1 rfl) ?_
      refine r_as (z := nI (nm (mF all) ln 1)) e1 ?_
      refine lv_goto (tgt := 143) hx hb dX2_bitOf_138 (by decide) ?_
      refine lv_iload_n hx hb dX2_bitOf_143 rfl (lv_at hl 4 rfl) ?_
      have hq := hT
      have hq2 := hn
      refine ns_i (k := 3) (nr_V (As := [.int (nI (nm (mF all) ln 1)), .int (nI t)]) (rest := []) hx hb hml hown hts (M_bitAt l G q a wd all kept hist hlo snap tk bits reg exa text tl sp read rm nu deep src (nm (mF all) ln 1) t (by omega)) nPs.blind 2 q1143 q1145 qs33 q53 q1146 (by decide +kernel) ⟨⟨Nat.le_of_ble_eq_true rfl, Nat.le_of_ble_eq_true rfl⟩, Nat.le_of_ble_eq_true rfl, Nat.le_of_ble_eq_true rfl⟩ (r_recv hG hP 0 (C := "ShareStreamsModel") rfl rfl rfl) (nPs_of0 hG hP) rfl hl.1 rfl (Nat.le_of_ble_eq_true rfl) dX2_bitOf_144) (fun r144 hp144 => ?_)
      have he144 := hp144
      have he144 : r144 = bits (1000 * (nm (mF all) ln 1) + t) := he144
      subst he144
      exact ret (bits (1000 * (nm (mF all) ln 1) + t)) dX2_bitOf_147 (by rw [eb]; first | (rw [if_pos c134]; exact h3 _ p1 _ (by omega)) | (rw [if_neg c134]; exact h3 _ p2 _ (by omega)))
  · skip
    have eb : bitN (mF all) ln t = bStep (mF all) (bitN (mF all)) ln t := bitN_eq ok h1 t
    unfold bStep at eb
    simp [z] at eb
    have e1 : all (2 + 4 * ln + 1) = nI (nm (mF all) ln 1) := (o1 (by omega)).1
    have p1 := (o1 (by omega)).2
    refine r_as (z := nI 5) (by have h := od; rw [z] at h; exact h) ?_
    refine lv_tableIn (off := 127) (tgt := 148) hx hb dX2_bitOf_21 (by decide +kernel) (by decide +kernel) (by decide +kernel) (by decide) ?_
    refine lv_iconst (v := nI 1) hx hb dX2_bitOf_148 rfl ?_
    refine lv_aload_n hx hb dX2_bitOf_149 rfl (lv_at hl 2 rfl) ?_
    refine lv_iload_n hx hb dX2_bitOf_150 rfl (lv_at hl 1 rfl) ?_
    refine r_as (z := nI (nm (mF all) ln 1)) e1 ?_
    refine lv_iload_n hx hb dX2_bitOf_151 rfl (lv_at hl 4 rfl) ?_
    have hq := hT
    have hq2 := hn
    refine ns_i (k := 3) (nr_V (As := [.int (nI (nm (mF all) ln 1)), .int (nI t)]) (rest := [.int (nI 1)]) hx hb hml hown hts (M_bitAt l G q a wd all kept hist hlo snap tk bits reg exa text tl sp read rm nu deep src (nm (mF all) ln 1) t (by omega)) nPs.blind 2 q1143 q1145 qs33 q53 q1146 (by decide +kernel) ⟨⟨Nat.le_of_ble_eq_true rfl, Nat.le_of_ble_eq_true rfl⟩, Nat.le_of_ble_eq_true rfl, Nat.le_of_ble_eq_true rfl⟩ (r_recv hG hP 0 (C := "ShareStreamsModel") rfl rfl rfl) (nPs_of0 hG hP) rfl hl.1 rfl (Nat.le_of_ble_eq_true rfl) dX2_bitOf_152) (fun r152 hp152 => ?_)
    have he152 := hp152
    have he152 : r152 = bits (1000 * (nm (mF all) ln 1) + t) := he152
    subst he152
    refine r_as (z := nI (bitN (mF all) (nm (mF all) ln 1) t)) (h3 _ p1 _ (by omega)) ?_
    have b1 := bl _ (Nat.lt_trans p1 h1) t
    refine lv_isub hx hb dX2_bitOf_155 ?_
    refine r_as (z := nI (1 - (bitN (mF all) (nm (mF all) ln 1) t))) (pk_sub (by omega)) ?_
    exact ret (nI (1 - (bitN (mF all) (nm (mF all) ln 1) t))) dX2_bitOf_156 (by first | (rw [eb]; done) | (rw [eb, if_pos (by omega)]; done) | (rw [eb, if_neg (by omega)]; done))
  · skip
    have eb : bitN (mF all) ln t = bStep (mF all) (bitN (mF all)) ln t := bitN_eq ok h1 t
    unfold bStep at eb
    simp [z] at eb
    have e1 : all (2 + 4 * ln + 1) = nI (nm (mF all) ln 1) := (o1 (by omega)).1
    have p1 := (o1 (by omega)).2
    have e2 : all (2 + 4 * ln + 2) = nI (nm (mF all) ln 2) := (o6 z).1
    have p2 := (o6 z).2
    refine r_as (z := nI 6) (by have h := od; rw [z] at h; exact h) ?_
    refine lv_tableOut (tgt := 157) hx hb dX2_bitOf_21 (by decide +kernel) (by decide) ?_
    refine lv_iload_n hx hb dX2_bitOf_157 rfl (lv_at hl 4 rfl) ?_
    refine lv_iload hx hb dX2_bitOf_158 (lv_at hl 0 rfl) ?_
    refine r_as (z := nI (nm (mF all) ln 2)) e2 ?_
    refine lv_icmp_ge (tgt := 167) hx hb dX2_bitOf_160 (by decide) (fun c160 => ?_) (fun c160 => ?_)
    · skip
      have c160 := n_le_t (a := nm (mF all) ln 2) (b := t) c160 (by omega) (by omega)
      refine lv_aload_n hx hb dX2_bitOf_167 rfl (lv_at hl 2 rfl) ?_
      refine lv_iload_n hx hb dX2_bitOf_168 rfl (lv_at hl 1 rfl) ?_
      refine r_as (z := nI (nm (mF all) ln 1)) e1 ?_
      refine lv_iload_n hx hb dX2_bitOf_169 rfl (lv_at hl 4 rfl) ?_
      refine lv_iload hx hb dX2_bitOf_170 (lv_at hl 0 rfl) ?_
      refine r_as (z := nI (nm (mF all) ln 2)) e2 ?_
      refine lv_isub hx hb dX2_bitOf_172 ?_
      refine r_as (z := nI (t - (nm (mF all) ln 2))) (pk_sub (by omega)) ?_
      have hq := hT
      have hq2 := hn
      refine ns_i (k := 3) (nr_V (As := [.int (nI (nm (mF all) ln 1)), .int (nI (t - (nm (mF all) ln 2)))]) (rest := []) hx hb hml hown hts (M_bitAt l G q a wd all kept hist hlo snap tk bits reg exa text tl sp read rm nu deep src (nm (mF all) ln 1) (t - (nm (mF all) ln 2)) (by omega)) nPs.blind 2 q1143 q1145 qs33 q53 q1146 (by decide +kernel) ⟨⟨Nat.le_of_ble_eq_true rfl, Nat.le_of_ble_eq_true rfl⟩, Nat.le_of_ble_eq_true rfl, Nat.le_of_ble_eq_true rfl⟩ (r_recv hG hP 0 (C := "ShareStreamsModel") rfl rfl rfl) (nPs_of0 hG hP) rfl hl.1 rfl (Nat.le_of_ble_eq_true rfl) dX2_bitOf_173) (fun r173 hp173 => ?_)
      have he173 := hp173
      have he173 : r173 = bits (1000 * (nm (mF all) ln 1) + (t - (nm (mF all) ln 2))) := he173
      subst he173
      refine r_as (z := nI (bitN (mF all) (nm (mF all) ln 1) (t - nm (mF all) ln 2))) (h3 _ p1 _ (by omega)) ?_
      exact ret (nI (bitN (mF all) (nm (mF all) ln 1) (t - nm (mF all) ln 2))) dX2_bitOf_176 (by first | (rw [eb]; done) | (rw [eb, if_pos (by omega)]; done) | (rw [eb, if_neg (by omega)]; done))
    · skip
      have c160 := n_le_f (a := nm (mF all) ln 2) (b := t) c160 (by omega) (by omega)
      refine lv_iconst (v := nI 0) hx hb dX2_bitOf_163 rfl ?_
      refine lv_goto (tgt := 176) hx hb dX2_bitOf_164 (by decide) ?_
      exact ret (nI 0) dX2_bitOf_176 (by first | (rw [eb]; done) | (rw [eb, if_pos (by omega)]; done) | (rw [eb, if_neg (by omega)]; done))
set_option maxHeartbeats 4000000 in
set_option maxRecDepth 100000 in
theorem M_lays (l : Launch) (G : nG) (q : Nat) (a : Nat → Nat) (wd : Nat → Int64) (all : Nat → Int32) (kept : Nat → Int32) (hist : Nat → Int32) (hlo : Int32) (snap : Nat → Int32) (tk : Int32) (bits : Nat → Int32) (reg : Nat → Int32) (exa : Nat → Int32) (text : Nat → Int32) (tl : Int32) (sp : Int32) (read : Nat → Int32) (rm : Int32) (nu : Int32) (deep : Nat → Int32) (src : Nat → Int32) (n : Nat) (T : Nat) (j : Nat) (hn : n ≤ 16) (ok : ∀ k, k < n → lnOk (mF all) k) (hT : T ≤ 1000) (h1 : j < n) : nMv (S := (Nat → Int32) × (Nat → Int32)) l yX2_lays cX2_lays 5 2 0 0 46 G [.ref q, .int (nI j), .int (nI T)] (mW G q a wd all kept hist hlo snap tk bits reg exa text tl sp read rm nu deep src) ([]) (fun (u : (Nat → Int32) × (Nat → Int32)) => mW G q a wd all kept hist hlo snap tk u.1 u.2 exa text tl sp read rm nu deep src) (fun (u : (Nat → Int32) × (Nat → Int32)) => laid (mF all) u.1 (j + 1) T) := by
  refine nMv.of (own := "ShareStreamsModel") rfl (by decide +kernel) (Nat.le_of_ble_eq_true rfl) ?_
  intro p e s m args below meth c A Q ls hx hb hml hown hts hin hG Z hl ret
  have hl : lv_has ls 5 [(0, .ref q), (1, .int (nI j)), (2, .int (nI T))] := hl
  have Z : nW G A (mW G q a wd all kept hist hlo snap tk bits reg exa text tl sp read rm nu deep src) ([]) ([]) s.heap _ _ := Z
  refine lv_iconst (v := nI 0) hx hb dX2_lays_0 rfl ?_
  refine lv_istore_n (lv' := [(3, .int (nI 0)), (0, .ref q), (1, .int (nI j)), (2, .int (nI T))]) hx hb dX2_lays_1 rfl hl (by decide) rfl (fun ls hl => ?_)
  have L2 : ∀ (k_ : Nat) (ln : Nat) (bt : Nat → Int32) (rg : Nat → Int32) (g1 : ln ≤ j + 1) (g2 : laid (mF all) bt ln T) (hk_ : j + 1 - ln < k_) (H : Heap) (locs : List Loc), nW G A (mW G q a wd all kept hist hlo snap tk bt rg exa text tl sp read rm nu deep src) ([]) ([]) s.heap H locs → ∀ (ls : Array Slot), lv_has ls 5 [(3, .int (nI ln)), (0, .ref q), (1, .int (nI j)), (2, .int (nI T))] → W p l e (nRm 2 0 0 46) s m args below meth c H locs 0 0 Q (F0 m 2 ls []) := by
    intro k_
    induction k_ with
    | zero => intro ln bt rg g1 g2 hk_; exact absurd hk_ (Nat.not_lt_zero _)
    | succ k_ ih_L2 =>
      intro ln bt rg g1 g2 hk_ H locs Z ls hl
      refine lv_iload_n hx hb dX2_lays_2 rfl (lv_at hl 0 rfl) ?_
      refine lv_iload_n hx hb dX2_lays_3 rfl (lv_at hl 2 rfl) ?_
      refine lv_icmp_gt (tgt := 88) hx hb dX2_lays_4 (by decide) (fun c4 => ?_) (fun c4 => ?_)
      · skip
        have c4 := n_lt_t (a := j) (b := ln) c4 (by omega) (by omega)
        have e : ln = j + 1 := by omega
        subst e
        exact ret (bt, rg) dX2_lays_88 g2 Z (Nat.le_of_ble_eq_true rfl) (Nat.le_of_ble_eq_true rfl)
      · skip
        have c4 := n_lt_f (a := j) (b := ln) c4 (by omega) (by omega)
        have hln : ln < n := by omega
        have hkd := (ok ln hln).1.2
        refine lv_aload_n hx hb dX2_lays_7 rfl (lv_at hl 1 rfl) ?_
        refine r_get (v := .ref (a 6)) hx hb hts in_X2 hown hG Z.w 0 rfl rfl 8 (by decide) q946 (fun _ h9 => h9) rfl dX2_lays_8 ?_
        refine lv_iload_n hx hb dX2_lays_11 rfl (lv_at hl 0 rfl) ?_
        refine lv_aload_n hx hb dX2_lays_12 rfl (lv_at hl 1 rfl) ?_
        refine lv_iload_n hx hb dX2_lays_13 rfl (lv_at hl 0 rfl) ?_
        refine lv_iconst (v := nI 2) hx hb dX2_lays_14 rfl ?_
        refine ns_i (k := 3) (nr_V (As := [.int (nI ln), .int (nI 2)]) (rest := [.int (nI ln), .ref (a 6)]) hx hb hml hown hts (M_of l G q a wd all kept hist hlo snap tk bt rg exa text tl sp read rm nu deep src ln 2 (by omega)) nPs.blind 2 q1049 q1051 qs21 q53 q1052 (by decide +kernel) ⟨⟨Nat.le_of_ble_eq_true rfl, Nat.le_of_ble_eq_true rfl⟩, Nat.le_of_ble_eq_true rfl, Nat.le_of_ble_eq_true rfl⟩ (r_recv hG Z.w 0 (C := "ShareStreamsModel") rfl rfl rfl) (nPs_of hG Z Z.w) rfl hl.1 rfl (Nat.le_of_ble_eq_true rfl) dX2_lays_15) (fun r15 hp15 => ?_)
        have he15 := hp15
        have he15 : r15 = all (2 + 4 * ln + 2) := he15
        subst he15
        refine r_iast hx hb hG Z 7 rfl (j := ln) (by omega) (by decide) (wc' := mW G q a wd all kept hist hlo snap tk bt (upd rg ln (all (2 + 4 * ln + 2))) exa text tl sp read rm nu deep src) rfl dX2_lays_18 (fun H locs Z => ?_)
        refine lv_iconst (v := nI 0) hx hb dX2_lays_19 rfl ?_
        refine lv_istore (lv' := [(4, .int (nI 0)), (3, .int (nI ln)), (0, .ref q), (1, .int (nI j)), (2, .int (nI T))]) hx hb dX2_lays_20 hl (by decide) rfl (fun ls hl => ?_)
        have L22 : ∀ (k_ : Nat) (t : Nat) (bt : Nat → Int32) (rg : Nat → Int32) (g3 : t ≤ T) (g2 : laid (mF all) bt ln T) (g4 : ∀ t', t' < t → bt (1000 * ln + t') = nI (bitN (mF all) ln t')) (g5 : kd (mF all) ln = 0 → rg ln = nI (regN (nm (mF all) ln 2) t)) (hk_ : T - t < k_) (H : Heap) (locs : List Loc), nW G A (mW G q a wd all kept hist hlo snap tk bt rg exa text tl sp read rm nu deep src) ([]) ([]) s.heap H locs → ∀ (ls : Array Slot), lv_has ls 5 [(4, .int (nI t)), (3, .int (nI ln)), (0, .ref q), (1, .int (nI j)), (2, .int (nI T))] → W p l e (nRm 2 0 0 46) s m args below meth c H locs 0 0 Q (F0 m 22 ls []) := by
          intro k_
          induction k_ with
          | zero => intro t bt rg g3 g2 g4 g5 hk_; exact absurd hk_ (Nat.not_lt_zero _)
          | succ k_ ih_L22 =>
            intro t bt rg g3 g2 g4 g5 hk_ H locs Z ls hl
            refine lv_iload hx hb dX2_lays_22 (lv_at hl 0 rfl) ?_
            refine lv_iload_n hx hb dX2_lays_24 rfl (lv_at hl 4 rfl) ?_
            refine lv_icmp_ge (tgt := 82) hx hb dX2_lays_25 (by decide) (fun c25 => ?_) (fun c25 => ?_)
            · skip
              have c25 := n_le_t (a := T) (b := t) c25 (by omega) (by omega)
              refine lv_iinc (v := nI (ln + 1)) (lv' := [(3, .int (nI (ln + 1))), (4, .int (nI t)), (0, .ref q), (1, .int (nI j)), (2, .int (nI T))]) hx hb dX2_lays_82 hl (k := 1) rfl (nI_add _ _) (by decide) rfl (fun ls hl => ?_)
              refine lv_goto (tgt := 2) hx hb dX2_lays_85 (by decide) ?_
              exact ih_L2 (ln + 1) bt rg (by omega) (by first | assumption | exact laid_0 | exact laid_s g2 (fun t ht => g4 t (by omega))) (by omega) _ _ Z _ (lv_sub hl [0, 2, 3, 4] rfl)
            · skip
              have c25 := n_le_f (a := T) (b := t) c25 (by omega) (by omega)
              refine lv_aload_n hx hb dX2_lays_28 rfl (lv_at hl 2 rfl) ?_
              refine r_get (v := .ref (a 5)) hx hb hts in_X2 hown hG Z.w 0 rfl rfl 7 (by decide) q945 (fun _ h9 => h9) rfl dX2_lays_29 ?_
              refine lv_sipush (v := nI 1000) hx hb dX2_lays_32 rfl ?_
              refine lv_iload_n hx hb dX2_lays_35 rfl (lv_at hl 1 rfl) ?_
              refine lv_imul hx hb dX2_lays_36 ?_
              refine r_as (z := nI (1000 * ln)) (pk_mul _ _) ?_
              refine lv_iload hx hb dX2_lays_37 (lv_at hl 0 rfl) ?_
              refine lv_iadd hx hb dX2_lays_39 ?_
              refine r_as (z := nI (1000 * ln + t)) (nI_add _ _) ?_
              refine lv_aload_n hx hb dX2_lays_40 rfl (lv_at hl 2 rfl) ?_
              refine lv_iload_n hx hb dX2_lays_41 rfl (lv_at hl 1 rfl) ?_
              refine lv_iload hx hb dX2_lays_42 (lv_at hl 0 rfl) ?_
              have b5 := bit_le ok hln t
              refine ns_i (k := 3) (nr_V (As := [.int (nI ln), .int (nI t)]) (rest := [.int (nI (1000 * ln + t)), .ref (a 5)]) hx hb hml hown hts (M_bitOf l G q a wd all kept hist hlo snap tk bt rg exa text tl sp read rm nu deep src n T ln t (by first | assumption | omega | rfl) (by first | assumption | omega | rfl) (by first | assumption | omega | rfl) (by first | assumption | omega | rfl) (by first | assumption | omega | rfl) g2 g5) nPs.blind 2 q1139 q1141 qs32 q53 q1142 (by decide +kernel) ⟨⟨Nat.le_of_ble_eq_true rfl, Nat.le_of_ble_eq_true rfl⟩, Nat.le_of_ble_eq_true rfl, Nat.le_of_ble_eq_true rfl⟩ (r_recv hG Z.w 0 (C := "ShareStreamsModel") rfl rfl rfl) (nPs_of hG Z Z.w) rfl hl.1 rfl (Nat.le_of_ble_eq_true rfl) dX2_lays_44) (fun r44 hp44 => ?_)
              have he44 := hp44
              have he44 : r44 = nI (bitN (mF all) ln t) := he44
              subst he44
              refine r_iast hx hb hG Z 6 rfl (j := 1000 * ln + t) (by omega) (by decide) (wc' := mW G q a wd all kept hist hlo snap tk (upd bt (1000 * ln + t) (nI (bitN (mF all) ln t))) rg exa text tl sp read rm nu deep src) rfl dX2_lays_47 (fun H locs Z => ?_)
              refine lv_aload_n hx hb dX2_lays_48 rfl (lv_at hl 2 rfl) ?_
              refine r_get (v := .ref (a 6)) hx hb hts in_X2 hown hG Z.w 0 rfl rfl 8 (by decide) q946 (fun _ h9 => h9) rfl dX2_lays_49 ?_
              refine lv_iload_n hx hb dX2_lays_52 rfl (lv_at hl 1 rfl) ?_
              refine lv_aload_n hx hb dX2_lays_53 rfl (lv_at hl 2 rfl) ?_
              refine lv_iload_n hx hb dX2_lays_54 rfl (lv_at hl 1 rfl) ?_
              refine lv_iconst (v := nI 0) hx hb dX2_lays_55 rfl ?_
              refine ns_i (k := 3) (nr_V (As := [.int (nI ln), .int (nI 0)]) (rest := [.int (nI ln), .ref (a 6)]) hx hb hml hown hts (M_of l G q a wd all kept hist hlo snap tk (upd bt (1000 * ln + t) (nI (bitN (mF all) ln t))) rg exa text tl sp read rm nu deep src ln 0 (by omega)) nPs.blind 2 q1049 q1051 qs21 q53 q1052 (by decide +kernel) ⟨⟨Nat.le_of_ble_eq_true rfl, Nat.le_of_ble_eq_true rfl⟩, Nat.le_of_ble_eq_true rfl, Nat.le_of_ble_eq_true rfl⟩ (r_recv hG Z.w 0 (C := "ShareStreamsModel") rfl rfl rfl) (nPs_of hG Z Z.w) rfl hl.1 rfl (Nat.le_of_ble_eq_true rfl) dX2_lays_56) (fun r56 hp56 => ?_)
              have he56 := hp56
              have he56 : r56 = all (2 + 4 * ln + 0) := he56
              subst he56
              refine r_as (z := nI (kd (mF all) ln)) ((ok ln hln).1.1) ?_
              refine lv_if_ne (tgt := 74) hx hb dX2_lays_59 (by decide) (fun c59 => ?_) (fun c59 => ?_)
              · skip
                have c59 := n_eq_f (a := kd (mF all) ln) (b := 0) c59
                refine lv_iconst (v := nI 0) hx hb dX2_lays_74 rfl ?_
                refine r_iast hx hb hG Z 7 rfl (j := ln) (by omega) (by decide) (wc' := mW G q a wd all kept hist hlo snap tk (upd bt (1000 * ln + t) (nI (bitN (mF all) ln t))) (upd rg ln (nI 0)) exa text tl sp read rm nu deep src) rfl dX2_lays_75 (fun H locs Z => ?_)
                refine lv_iinc (v := nI (t + 1)) (lv' := [(4, .int (nI (t + 1))), (3, .int (nI ln)), (0, .ref q), (1, .int (nI j)), (2, .int (nI T))]) hx hb dX2_lays_76 hl (k := 0) rfl (nI_add _ _) (by decide) rfl (fun ls hl => ?_)
                refine lv_goto (tgt := 22) hx hb dX2_lays_79 (by decide) ?_
                exact ih_L22 (t + 1) (upd bt (1000 * ln + t) (nI (bitN (mF all) ln t))) (upd rg ln (nI 0)) (by omega) (by first | assumption | exact laid_u g2 hT) (by first | (intro t' h; omega) | exact row_s g4) (by first | (intro z; rw [upd_s]; exact ((ok ln hln).2.1 z).2.1) | (intro z; rw [upd_s]; rfl) | (intro z; exact absurd z c59)) (by omega) _ _ Z _ (lv_sub hl [0, 1, 2, 3, 4] rfl)
              · skip
                have c59 := n_eq_t (a := kd (mF all) ln) (b := 0) c59 (by omega) (by decide)
                refine lv_aload_n hx hb dX2_lays_62 rfl (lv_at hl 2 rfl) ?_
                refine r_get (v := .ref (a 6)) hx hb hts in_X2 hown hG Z.w 0 rfl rfl 8 (by decide) q946 (fun _ h9 => h9) rfl dX2_lays_63 ?_
                refine lv_iload_n hx hb dX2_lays_66 rfl (lv_at hl 1 rfl) ?_
                refine r_iald hx hb hG Z.w 7 rfl (j := ln) (by omega) (by decide) (v := nI (regN (nm (mF all) ln 2) t)) (g5 c59) dX2_lays_67 ?_
                refine ns_i (k := 3) (nr_S (As := [.int (nI (regN (nm (mF all) ln 2) t))]) (rest := [.int (nI ln), .ref (a 6)]) hx hb hml hown hts (M_goesOn l G (regN (nm (mF all) ln 2) t) (regN_lt (by have := ((ok ln hln).2.1 c59).2.2; omega) t)) nPs.blind 1 q1147 q1148 q53 q1149 (by decide +kernel) ⟨⟨Nat.le_of_ble_eq_true rfl, Nat.le_of_ble_eq_true rfl⟩, Nat.le_of_ble_eq_true rfl, Nat.le_of_ble_eq_true rfl⟩ (nPs_of hG Z (fun k q h => by simp at h)) rfl hl.1 rfl (Nat.le_of_ble_eq_true rfl) dX2_lays_68) (fun r68 hp68 => ?_)
                have he68 := hp68
                have he68 : r68 = nI (nxt (regN (nm (mF all) ln 2) t)) := he68
                subst he68
                refine lv_goto (tgt := 75) hx hb dX2_lays_71 (by decide) ?_
                refine r_iast hx hb hG Z 7 rfl (j := ln) (by omega) (by decide) (wc' := mW G q a wd all kept hist hlo snap tk (upd bt (1000 * ln + t) (nI (bitN (mF all) ln t))) (upd rg ln (nI (nxt (regN (nm (mF all) ln 2) t)))) exa text tl sp read rm nu deep src) rfl dX2_lays_75 (fun H locs Z => ?_)
                refine lv_iinc (v := nI (t + 1)) (lv' := [(4, .int (nI (t + 1))), (3, .int (nI ln)), (0, .ref q), (1, .int (nI j)), (2, .int (nI T))]) hx hb dX2_lays_76 hl (k := 0) rfl (nI_add _ _) (by decide) rfl (fun ls hl => ?_)
                refine lv_goto (tgt := 22) hx hb dX2_lays_79 (by decide) ?_
                exact ih_L22 (t + 1) (upd bt (1000 * ln + t) (nI (bitN (mF all) ln t))) (upd rg ln (nI (nxt (regN (nm (mF all) ln 2) t)))) (by omega) (by first | assumption | exact laid_u g2 hT) (by first | (intro t' h; omega) | exact row_s g4) (by first | (intro z; rw [upd_s]; exact ((ok ln hln).2.1 z).2.1) | (intro z; rw [upd_s]; rfl) | (intro z; exact absurd z c59)) (by omega) _ _ Z _ (lv_sub hl [0, 1, 2, 3, 4] rfl)
        exact L22 _ 0 bt (upd rg ln (all (2 + 4 * ln + 2))) (by omega) (by first | assumption | exact laid_u g2 hT) (by first | (intro t' h; omega) | exact row_s g4) (by first | (intro z; rw [upd_s]; exact ((ok ln hln).2.1 z).2.1) | (intro z; rw [upd_s]; rfl) | (intro z; exact absurd z c59)) (Nat.lt_succ_self _) _ _ Z _ (lv_sub hl [0, 1, 2, 3, 4] rfl)
  exact L2 _ 0 bits reg (by omega) (by first | assumption | exact laid_0 | exact laid_s g2 (fun t ht => g4 t (by omega))) (Nat.lt_succ_self _) _ _ Z _ (lv_sub hl [0, 1, 2, 3] rfl)
set_option maxHeartbeats 4000000 in
set_option maxRecDepth 100000 in
theorem M_findsExact (l : Launch) (G : nG) (q : Nat) (a : Nat → Nat) (wd : Nat → Int64) (all : Nat → Int32) (kept : Nat → Int32) (hist : Nat → Int32) (hlo : Int32) (snap : Nat → Int32) (tk : Int32) (bits : Nat → Int32) (reg : Nat → Int32) (exa : Nat → Int32) (text : Nat → Int32) (tl : Int32) (sp : Int32) (read : Nat → Int32) (rm : Int32) (nu : Int32) (deep : Nat → Int32) (src : Nat → Int32) (n : Nat) (j : Nat) (hn : n ≤ 16) (ok : ∀ k, k < n → lnOk (mF all) k) (h1 : j < n) : nMv (S := (Nat → Int32)) l yX2_findsExact cX2_findsExact 14 1 0 0 25 G [.ref q, .int (nI j)] (mW G q a wd all kept hist hlo snap tk bits reg exa text tl sp read rm nu deep src) ([]) (fun (u : (Nat → Int32)) => mW G q a wd all kept hist hlo snap tk bits reg u text tl sp read rm nu deep src) (fun (u : (Nat → Int32)) => ∀ v_, v_ < j + 1 → u v_ = nI (exN (mF all) v_)) := by
  refine nMv.of (own := "ShareStreamsModel") rfl (by decide +kernel) (Nat.le_of_ble_eq_true rfl) ?_
  intro p e s m args below meth c A Q ls hx hb hml hown hts hin hG Z hl ret
  have hl : lv_has ls 14 [(0, .ref q), (1, .int (nI j))] := hl
  have Z : nW G A (mW G q a wd all kept hist hlo snap tk bits reg exa text tl sp read rm nu deep src) ([]) ([]) s.heap _ _ := Z
  refine lv_iconst (v := nI 0) hx hb dX2_findsExact_0 rfl ?_
  refine lv_istore_n (lv' := [(2, .int (nI 0)), (0, .ref q), (1, .int (nI j))]) hx hb dX2_findsExact_1 rfl hl (by decide) rfl (fun ls hl => ?_)
  have L2 : ∀ (k_ : Nat) (ln : Nat) (ex : Nat → Int32) (g1 : ln ≤ j + 1) (g2 : ∀ k, k < ln → ex k = nI (exN (mF all) k)) (hk_ : j + 1 - ln < k_) (H : Heap) (locs : List Loc), nW G A (mW G q a wd all kept hist hlo snap tk bits reg ex text tl sp read rm nu deep src) ([]) ([]) s.heap H locs → ∀ (ls : Array Slot), lv_has ls 14 [(2, .int (nI ln)), (0, .ref q), (1, .int (nI j))] → W p l e (nRm 1 0 0 25) s m args below meth c H locs 0 0 Q (F0 m 2 ls []) := by
    intro k_
    induction k_ with
    | zero => intro ln ex g1 g2 hk_; exact absurd hk_ (Nat.not_lt_zero _)
    | succ k_ ih_L2 =>
      intro ln ex g1 g2 hk_ H locs Z ls hl
      refine lv_iload_n hx hb dX2_findsExact_2 rfl (lv_at hl 0 rfl) ?_
      refine lv_iload_n hx hb dX2_findsExact_3 rfl (lv_at hl 2 rfl) ?_
      refine lv_icmp_gt (tgt := 228) hx hb dX2_findsExact_4 (by decide) (fun c4 => ?_) (fun c4 => ?_)
      · skip
        have c4 := n_lt_t (a := j) (b := ln) c4 (by omega) (by omega)
        have e : ln = j + 1 := by omega
        subst e
        exact ret ex dX2_findsExact_228 g2 Z (Nat.le_of_ble_eq_true rfl) (Nat.le_of_ble_eq_true rfl)
      · skip
        have c4 := n_lt_f (a := j) (b := ln) c4 (by omega) (by omega)
        have hln : ln < n := by omega
        have hkd := (ok ln hln).1.2
        refine lv_aload_n hx hb dX2_findsExact_7 rfl (lv_at hl 1 rfl) ?_
        refine lv_iload_n hx hb dX2_findsExact_8 rfl (lv_at hl 0 rfl) ?_
        refine lv_iconst (v := nI 0) hx hb dX2_findsExact_9 rfl ?_
        refine ns_i (k := 3) (nr_V (As := [.int (nI ln), .int (nI 0)]) (rest := []) hx hb hml hown hts (M_of l G q a wd all kept hist hlo snap tk bits reg ex text tl sp read rm nu deep src ln 0 (by omega)) nPs.blind 2 q1049 q1051 qs21 q53 q1052 (by decide +kernel) ⟨⟨Nat.le_of_ble_eq_true rfl, Nat.le_of_ble_eq_true rfl⟩, Nat.le_of_ble_eq_true rfl, Nat.le_of_ble_eq_true rfl⟩ (r_recv hG Z.w 0 (C := "ShareStreamsModel") rfl rfl rfl) (nPs_of hG Z Z.w) rfl hl.1 rfl (Nat.le_of_ble_eq_true rfl) dX2_findsExact_10) (fun r10 hp10 => ?_)
        have he10 := hp10
        have he10 : r10 = all (2 + 4 * ln + 0) := he10
        subst he10
        rcases (by omega : kd (mF all) ln = 0 ∨ kd (mF all) ln = 1 ∨ kd (mF all) ln = 2 ∨ kd (mF all) ln = 3 ∨ kd (mF all) ln = 4 ∨ kd (mF all) ln = 5 ∨ kd (mF all) ln = 6) with z | z | z | z | z | z | z
        · skip
          have hx1 := ok ln hln
          obtain ⟨⟨od, ol⟩, s0, o1, o2, o3, o6, -⟩ := hx1
          have e1 : all (2 + 4 * ln + 1) = nI (nm (mF all) ln 1) := (s0 z).1.1
          have e2 := (s0 z).1.2
          have ee := exN_eq ok hln
          unfold eStep at ee
          simp only [z] at ee
          refine r_as (z := nI 0) (od.trans (congrArg nI z)) ?_
          refine lv_istore_n (lv' := [(3, .int (nI 0)), (2, .int (nI ln)), (0, .ref q), (1, .int (nI j))]) hx hb dX2_findsExact_13 rfl hl (by decide) rfl (fun ls hl => ?_)
          refine lv_iload_n hx hb dX2_findsExact_14 rfl (lv_at hl 0 rfl) ?_
          refine lv_if_ne (tgt := 22) hx hb dX2_findsExact_15 (by decide) (fun c15 => ?_) (fun c15 => ?_)
          · skip
            exact absurd c15 (by decide)
          · skip
            have c15 := n_eq_t (a := 0) (b := 0) c15 (by decide) (by decide)
            refine lv_lconst (v := lN 0) hx hb dX2_findsExact_18 rfl ?_
            refine lv_goto (tgt := 34) hx hb dX2_findsExact_19 (by decide) ?_
            refine lv_lstore (lv' := [(4, .long (lN 0)), (3, .int (nI 0)), (2, .int (nI ln)), (0, .ref q), (1, .int (nI j))]) hx hb dX2_findsExact_34 hl (by decide) rfl (fun ls hl => ?_)
            refine lv_iload_n hx hb dX2_findsExact_36 rfl (lv_at hl 1 rfl) ?_
            refine lv_i2l (v := lN 0) hx hb dX2_findsExact_37 (nI_l (by decide)) ?_
            refine lv_lconst (v := lN 1) hx hb dX2_findsExact_38 rfl ?_
            refine lv_ldc2 hx hb hown (hts _ q1154) dX2_findsExact_39 ?_
            refine r_asl (z := lN 4) rfl ?_
            refine ns_i (k := 3) (nr_S (As := [.long (lN 0), .long (lN 1), .long (lN 4)]) (rest := []) hx hb hml hown hts (M_in l G (lN 0) (lN 1) (lN 4)) nPs.blind 3 q999 q1000 q53 q1001 (by decide +kernel) ⟨⟨Nat.le_of_ble_eq_true rfl, Nat.le_of_ble_eq_true rfl⟩, Nat.le_of_ble_eq_true rfl, Nat.le_of_ble_eq_true rfl⟩ (nPs_of hG Z (fun k q h => by simp at h)) rfl hl.1 rfl (Nat.le_of_ble_eq_true rfl) dX2_findsExact_42) (fun r42 hp42 => ?_)
            have he42 := hp42
            have he42 : r42 = bI (inL (lN 0) (lN 1) (lN 4)) := he42
            subst he42
            refine r_as (z := bI false) (by decide) ?_
            refine lv_if_eq (tgt := 63) hx hb dX2_findsExact_45 (by decide) (fun c45 => ?_) (fun c45 => ?_)
            · skip
              have c45 := bI_f c45
              refine lv_lconst (v := lN 0) hx hb dX2_findsExact_63 rfl ?_
              refine lv_lstore (lv' := [(6, .long (lN 0)), (4, .long (lN 0)), (3, .int (nI 0)), (2, .int (nI ln)), (0, .ref q), (1, .int (nI j))]) hx hb dX2_findsExact_64 hl (by decide) rfl (fun ls hl => ?_)
              refine lv_lload hx hb dX2_findsExact_66 (lv_at hl 1 rfl) ?_
              refine lv_lload hx hb dX2_findsExact_68 (lv_at hl 0 rfl) ?_
              refine lv_lmul hx hb dX2_findsExact_70 ?_
              refine r_asl (z := lN 0) (lN_mul _ _) ?_
              refine lv_ldc2 hx hb hown (hts _ q1155) dX2_findsExact_71 ?_
              refine r_asl (z := lN 65536) rfl ?_
              refine lv_ldiv hx hb dX2_findsExact_74 (by decide) ?_
              refine r_asl (z := lN (0 / 65536)) (pk_lDiv (by decide) (by decide) (by decide)) ?_
              refine lv_lstore (lv' := [(8, .long (lN (0 / 65536))), (6, .long (lN 0)), (4, .long (lN 0)), (3, .int (nI 0)), (2, .int (nI ln)), (0, .ref q), (1, .int (nI j))]) hx hb dX2_findsExact_75 hl (by decide) rfl (fun ls hl => ?_)
              refine lv_iload_n hx hb dX2_findsExact_77 rfl (lv_at hl 3 rfl) ?_
              refine lv_iconst (v := nI 4) hx hb dX2_findsExact_78 rfl ?_
              refine lv_icmp_ne (tgt := 97) hx hb dX2_findsExact_79 (by decide) (fun c79 => ?_) (fun c79 => ?_)
              · skip
                have c79 := n_eq_f (a := 0) (b := 4) c79
                refine lv_lconst (v := lN 0) hx hb dX2_findsExact_97 rfl ?_
                refine lv_lstore (lv' := [(10, .long (lN 0)), (8, .long (lN (0 / 65536))), (6, .long (lN 0)), (4, .long (lN 0)), (3, .int (nI 0)), (2, .int (nI ln)), (0, .ref q), (1, .int (nI j))]) hx hb dX2_findsExact_98 hl (by decide) rfl (fun ls hl => ?_)
                refine lv_iload_n hx hb dX2_findsExact_100 rfl (lv_at hl 4 rfl) ?_
                refine lv_iconst (v := nI 1) hx hb dX2_findsExact_101 rfl ?_
                refine lv_icmp_ne (tgt := 110) hx hb dX2_findsExact_102 (by decide) (fun c102 => ?_) (fun c102 => ?_)
                · skip
                  have c102 := n_eq_f (a := 0) (b := 1) c102
                  refine lv_iload_n hx hb dX2_findsExact_110 rfl (lv_at hl 4 rfl) ?_
                  refine lv_iconst (v := nI 2) hx hb dX2_findsExact_111 rfl ?_
                  refine lv_icmp_ne (tgt := 126) hx hb dX2_findsExact_112 (by decide) (fun c112 => ?_) (fun c112 => ?_)
                  · skip
                    have c112 := n_eq_f (a := 0) (b := 2) c112
                    refine lv_iload_n hx hb dX2_findsExact_126 rfl (lv_at hl 4 rfl) ?_
                    refine lv_iconst (v := nI 3) hx hb dX2_findsExact_127 rfl ?_
                    refine lv_icmp_ne (tgt := 146) hx hb dX2_findsExact_128 (by decide) (fun c128 => ?_) (fun c128 => ?_)
                    · skip
                      have c128 := n_eq_f (a := 0) (b := 3) c128
                      refine lv_iload_n hx hb dX2_findsExact_146 rfl (lv_at hl 4 rfl) ?_
                      refine lv_iconst (v := nI 5) hx hb dX2_findsExact_147 rfl ?_
                      refine lv_icmp_ne (tgt := 160) hx hb dX2_findsExact_148 (by decide) (fun c148 => ?_) (fun c148 => ?_)
                      · skip
                        have c148 := n_eq_f (a := 0) (b := 5) c148
                        refine lv_lload hx hb dX2_findsExact_160 (lv_at hl 3 rfl) ?_
                        refine lv_lstore (lv' := [(12, .long (lN 0)), (10, .long (lN 0)), (8, .long (lN (0 / 65536))), (6, .long (lN 0)), (4, .long (lN 0)), (3, .int (nI 0)), (2, .int (nI ln)), (0, .ref q), (1, .int (nI j))]) hx hb dX2_findsExact_162 hl (by decide) rfl (fun ls hl => ?_)
                        refine lv_iload_n hx hb dX2_findsExact_164 rfl (lv_at hl 5 rfl) ?_
                        refine lv_if_ne (tgt := 182) hx hb dX2_findsExact_165 (by decide) (fun c165 => ?_) (fun c165 => ?_)
                        · skip
                          exact absurd c165 (by decide)
                        · skip
                          have c165 := n_eq_t (a := 0) (b := 0) c165 (by decide) (by decide)
                          refine lv_aload_n hx hb dX2_findsExact_168 rfl (lv_at hl 7 rfl) ?_
                          refine lv_iload_n hx hb dX2_findsExact_169 rfl (lv_at hl 6 rfl) ?_
                          refine lv_iconst (v := nI 1) hx hb dX2_findsExact_170 rfl ?_
                          refine ns_i (k := 3) (nr_V (As := [.int (nI ln), .int (nI 1)]) (rest := []) hx hb hml hown hts (M_of l G q a wd all kept hist hlo snap tk bits reg ex text tl sp read rm nu deep src ln 1 (by omega)) nPs.blind 2 q1049 q1051 qs21 q53 q1052 (by decide +kernel) ⟨⟨Nat.le_of_ble_eq_true rfl, Nat.le_of_ble_eq_true rfl⟩, Nat.le_of_ble_eq_true rfl, Nat.le_of_ble_eq_true rfl⟩ (r_recv hG Z.w 0 (C := "ShareStreamsModel") rfl rfl rfl) (nPs_of hG Z Z.w) rfl hl.1 rfl (Nat.le_of_ble_eq_true rfl) dX2_findsExact_171) (fun r171 hp171 => ?_)
                          have he171 := hp171
                          have he171 : r171 = all (2 + 4 * ln + 1) := he171
                          subst he171
                          refine r_as (z := nI (nm (mF all) ln 1)) e1 ?_
                          refine lv_i2l (v := lN (nm (mF all) ln 1)) hx hb dX2_findsExact_174 (nI_l (by omega)) ?_
                          refine lv_ldc2 hx hb hown (hts _ q998) dX2_findsExact_175 ?_
                          refine r_asl (z := lN 256) rfl ?_
                          refine lv_lmul hx hb dX2_findsExact_178 ?_
                          refine r_asl (z := lN ((nm (mF all) ln 1) * 256)) (lN_mul _ _) ?_
                          refine lv_goto (tgt := 211) hx hb dX2_findsExact_179 (by decide) ?_
                          refine lv_lstore (lv' := [(12, .long (lN ((nm (mF all) ln 1) * 256))), (10, .long (lN 0)), (8, .long (lN (0 / 65536))), (6, .long (lN 0)), (4, .long (lN 0)), (3, .int (nI 0)), (2, .int (nI ln)), (0, .ref q), (1, .int (nI j))]) hx hb dX2_findsExact_211 hl (by decide) rfl (fun ls hl => ?_)
                          refine lv_aload_n hx hb dX2_findsExact_213 rfl (lv_at hl 7 rfl) ?_
                          refine r_get (v := .ref (a 7)) hx hb hts in_X2 hown hG Z.w 0 rfl rfl 9 (by decide) q947 (fun _ h9 => h9) rfl dX2_findsExact_214 ?_
                          refine lv_iload_n hx hb dX2_findsExact_217 rfl (lv_at hl 6 rfl) ?_
                          refine lv_lload hx hb dX2_findsExact_218 (lv_at hl 0 rfl) ?_
                          refine lv_l2i (v := nI ((nm (mF all) ln 1) * 256)) hx hb dX2_findsExact_220 (lN_i _) ?_
                          refine r_iast hx hb hG Z 8 rfl (j := ln) (by omega) (by decide) (wc' := mW G q a wd all kept hist hlo snap tk bits reg (upd ex ln (nI ((nm (mF all) ln 1) * 256))) text tl sp read rm nu deep src) rfl dX2_findsExact_221 (fun H locs Z => ?_)
                          refine lv_iinc (v := nI (ln + 1)) (lv' := [(2, .int (nI (ln + 1))), (12, .long (lN ((nm (mF all) ln 1) * 256))), (10, .long (lN 0)), (8, .long (lN (0 / 65536))), (6, .long (lN 0)), (4, .long (lN 0)), (3, .int (nI 0)), (0, .ref q), (1, .int (nI j))]) hx hb dX2_findsExact_222 hl (k := 6) rfl (nI_add _ _) (by decide) rfl (fun ls hl => ?_)
                          refine lv_goto (tgt := 2) hx hb dX2_findsExact_225 (by decide) ?_
                          exact ih_L2 (ln + 1) (upd ex ln (nI ((nm (mF all) ln 1) * 256))) (by omega) (by first | (intro k hk; omega) | exact exl_s g2 (congrArg nI (by rw [ee]; simp))) (by omega) _ _ Z _ (lv_sub hl [0, 7, 8] rfl)
                      · skip
                        exact absurd c148 (by decide)
                    · skip
                      exact absurd c128 (by decide)
                  · skip
                    exact absurd c112 (by decide)
                · skip
                  exact absurd c102 (by decide)
              · skip
                exact absurd c79 (by decide)
            · skip
              exact absurd c45 (by decide)
        · skip
          have hx1 := ok ln hln
          obtain ⟨⟨od, ol⟩, s0, o1, o2, o3, o6, -⟩ := hx1
          have e1 : all (2 + 4 * ln + 1) = nI (nm (mF all) ln 1) := (o1 (by omega)).1
          have p1 := (o1 (by omega)).2
          have b1 := ex_le ok (Nat.lt_trans p1 hln)
          have x1 := g2 _ p1
          have e2 : all (2 + 4 * ln + 2) = nI (nm (mF all) ln 2) := (o2 (by omega)).1
          have p2 := (o2 (by omega)).2
          have b2 := ex_le ok (Nat.lt_trans p2 hln)
          have x2 := g2 _ p2
          have m1 := mul_le_w b1 b2
          have m2 := Nat.mul_le_mul b1 b2
          have ee := exN_eq ok hln
          unfold eStep at ee
          simp only [z] at ee
          refine r_as (z := nI 1) (od.trans (congrArg nI z)) ?_
          refine lv_istore_n (lv' := [(3, .int (nI 1)), (2, .int (nI ln)), (0, .ref q), (1, .int (nI j))]) hx hb dX2_findsExact_13 rfl hl (by decide) rfl (fun ls hl => ?_)
          refine lv_iload_n hx hb dX2_findsExact_14 rfl (lv_at hl 0 rfl) ?_
          refine lv_if_ne (tgt := 22) hx hb dX2_findsExact_15 (by decide) (fun c15 => ?_) (fun c15 => ?_)
          · skip
            have c15 := n_eq_f (a := 1) (b := 0) c15
            refine lv_aload_n hx hb dX2_findsExact_22 rfl (lv_at hl 2 rfl) ?_
            refine r_get (v := .ref (a 7)) hx hb hts in_X2 hown hG Z.w 0 rfl rfl 9 (by decide) q947 (fun _ h9 => h9) rfl dX2_findsExact_23 ?_
            refine lv_aload_n hx hb dX2_findsExact_26 rfl (lv_at hl 2 rfl) ?_
            refine lv_iload_n hx hb dX2_findsExact_27 rfl (lv_at hl 1 rfl) ?_
            refine lv_iconst (v := nI 1) hx hb dX2_findsExact_28 rfl ?_
            refine ns_i (k := 3) (nr_V (As := [.int (nI ln), .int (nI 1)]) (rest := [.ref (a 7)]) hx hb hml hown hts (M_of l G q a wd all kept hist hlo snap tk bits reg ex text tl sp read rm nu deep src ln 1 (by omega)) nPs.blind 2 q1049 q1051 qs21 q53 q1052 (by decide +kernel) ⟨⟨Nat.le_of_ble_eq_true rfl, Nat.le_of_ble_eq_true rfl⟩, Nat.le_of_ble_eq_true rfl, Nat.le_of_ble_eq_true rfl⟩ (r_recv hG Z.w 0 (C := "ShareStreamsModel") rfl rfl rfl) (nPs_of hG Z Z.w) rfl hl.1 rfl (Nat.le_of_ble_eq_true rfl) dX2_findsExact_29) (fun r29 hp29 => ?_)
            have he29 := hp29
            have he29 : r29 = all (2 + 4 * ln + 1) := he29
            subst he29
            refine r_as (z := nI (nm (mF all) ln 1)) e1 ?_
            refine r_iald hx hb hG Z.w 8 rfl (j := nm (mF all) ln 1) (by omega) (by decide) (v := nI (exN (mF all) (nm (mF all) ln 1))) x1 dX2_findsExact_32 ?_
            refine lv_i2l (v := lN (exN (mF all) (nm (mF all) ln 1))) hx hb dX2_findsExact_33 (nI_l (by omega)) ?_
            refine lv_lstore (lv' := [(4, .long (lN (exN (mF all) (nm (mF all) ln 1)))), (3, .int (nI 1)), (2, .int (nI ln)), (0, .ref q), (1, .int (nI j))]) hx hb dX2_findsExact_34 hl (by decide) rfl (fun ls hl => ?_)
            refine lv_iload_n hx hb dX2_findsExact_36 rfl (lv_at hl 1 rfl) ?_
            refine lv_i2l (v := lN 1) hx hb dX2_findsExact_37 (nI_l (by decide)) ?_
            refine lv_lconst (v := lN 1) hx hb dX2_findsExact_38 rfl ?_
            refine lv_ldc2 hx hb hown (hts _ q1154) dX2_findsExact_39 ?_
            refine r_asl (z := lN 4) rfl ?_
            refine ns_i (k := 3) (nr_S (As := [.long (lN 1), .long (lN 1), .long (lN 4)]) (rest := []) hx hb hml hown hts (M_in l G (lN 1) (lN 1) (lN 4)) nPs.blind 3 q999 q1000 q53 q1001 (by decide +kernel) ⟨⟨Nat.le_of_ble_eq_true rfl, Nat.le_of_ble_eq_true rfl⟩, Nat.le_of_ble_eq_true rfl, Nat.le_of_ble_eq_true rfl⟩ (nPs_of hG Z (fun k q h => by simp at h)) rfl hl.1 rfl (Nat.le_of_ble_eq_true rfl) dX2_findsExact_42) (fun r42 hp42 => ?_)
            have he42 := hp42
            have he42 : r42 = bI (inL (lN 1) (lN 1) (lN 4)) := he42
            subst he42
            refine r_as (z := bI true) (by decide) ?_
            refine lv_if_eq (tgt := 63) hx hb dX2_findsExact_45 (by decide) (fun c45 => ?_) (fun c45 => ?_)
            · skip
              exact absurd c45 (by decide)
            · skip
              have c45 := bI_t c45
              refine lv_aload_n hx hb dX2_findsExact_48 rfl (lv_at hl 3 rfl) ?_
              refine r_get (v := .ref (a 7)) hx hb hts in_X2 hown hG Z.w 0 rfl rfl 9 (by decide) q947 (fun _ h9 => h9) rfl dX2_findsExact_49 ?_
              refine lv_aload_n hx hb dX2_findsExact_52 rfl (lv_at hl 3 rfl) ?_
              refine lv_iload_n hx hb dX2_findsExact_53 rfl (lv_at hl 2 rfl) ?_
              refine lv_iconst (v := nI 2) hx hb dX2_findsExact_54 rfl ?_
              refine ns_i (k := 3) (nr_V (As := [.int (nI ln), .int (nI 2)]) (rest := [.ref (a 7)]) hx hb hml hown hts (M_of l G q a wd all kept hist hlo snap tk bits reg ex text tl sp read rm nu deep src ln 2 (by omega)) nPs.blind 2 q1049 q1051 qs21 q53 q1052 (by decide +kernel) ⟨⟨Nat.le_of_ble_eq_true rfl, Nat.le_of_ble_eq_true rfl⟩, Nat.le_of_ble_eq_true rfl, Nat.le_of_ble_eq_true rfl⟩ (r_recv hG Z.w 0 (C := "ShareStreamsModel") rfl rfl rfl) (nPs_of hG Z Z.w) rfl hl.1 rfl (Nat.le_of_ble_eq_true rfl) dX2_findsExact_55) (fun r55 hp55 => ?_)
              have he55 := hp55
              have he55 : r55 = all (2 + 4 * ln + 2) := he55
              subst he55
              refine r_as (z := nI (nm (mF all) ln 2)) e2 ?_
              refine r_iald hx hb hG Z.w 8 rfl (j := nm (mF all) ln 2) (by omega) (by decide) (v := nI (exN (mF all) (nm (mF all) ln 2))) x2 dX2_findsExact_58 ?_
              refine lv_i2l (v := lN (exN (mF all) (nm (mF all) ln 2))) hx hb dX2_findsExact_59 (nI_l (by omega)) ?_
              refine lv_goto (tgt := 64) hx hb dX2_findsExact_60 (by decide) ?_
              refine lv_lstore (lv' := [(6, .long (lN (exN (mF all) (nm (mF all) ln 2)))), (4, .long (lN (exN (mF all) (nm (mF all) ln 1)))), (3, .int (nI 1)), (2, .int (nI ln)), (0, .ref q), (1, .int (nI j))]) hx hb dX2_findsExact_64 hl (by decide) rfl (fun ls hl => ?_)
              refine lv_lload hx hb dX2_findsExact_66 (lv_at hl 1 rfl) ?_
              refine lv_lload hx hb dX2_findsExact_68 (lv_at hl 0 rfl) ?_
              refine lv_lmul hx hb dX2_findsExact_70 ?_
              refine r_asl (z := lN ((exN (mF all) (nm (mF all) ln 1)) * (exN (mF all) (nm (mF all) ln 2)))) (lN_mul _ _) ?_
              refine lv_ldc2 hx hb hown (hts _ q1155) dX2_findsExact_71 ?_
              refine r_asl (z := lN 65536) rfl ?_
              refine lv_ldiv hx hb dX2_findsExact_74 (by decide) ?_
              refine r_asl (z := lN (((exN (mF all) (nm (mF all) ln 1)) * (exN (mF all) (nm (mF all) ln 2))) / 65536)) (pk_lDiv (by omega) (by decide) (by decide)) ?_
              refine lv_lstore (lv' := [(8, .long (lN (((exN (mF all) (nm (mF all) ln 1)) * (exN (mF all) (nm (mF all) ln 2))) / 65536))), (6, .long (lN (exN (mF all) (nm (mF all) ln 2)))), (4, .long (lN (exN (mF all) (nm (mF all) ln 1)))), (3, .int (nI 1)), (2, .int (nI ln)), (0, .ref q), (1, .int (nI j))]) hx hb dX2_findsExact_75 hl (by decide) rfl (fun ls hl => ?_)
              refine lv_iload_n hx hb dX2_findsExact_77 rfl (lv_at hl 3 rfl) ?_
              refine lv_iconst (v := nI 4) hx hb dX2_findsExact_78 rfl ?_
              refine lv_icmp_ne (tgt := 97) hx hb dX2_findsExact_79 (by decide) (fun c79 => ?_) (fun c79 => ?_)
              · skip
                have c79 := n_eq_f (a := 1) (b := 4) c79
                refine lv_lconst (v := lN 0) hx hb dX2_findsExact_97 rfl ?_
                refine lv_lstore (lv' := [(10, .long (lN 0)), (8, .long (lN (((exN (mF all) (nm (mF all) ln 1)) * (exN (mF all) (nm (mF all) ln 2))) / 65536))), (6, .long (lN (exN (mF all) (nm (mF all) ln 2)))), (4, .long (lN (exN (mF all) (nm (mF all) ln 1)))), (3, .int (nI 1)), (2, .int (nI ln)), (0, .ref q), (1, .int (nI j))]) hx hb dX2_findsExact_98 hl (by decide) rfl (fun ls hl => ?_)
                refine lv_iload_n hx hb dX2_findsExact_100 rfl (lv_at hl 4 rfl) ?_
                refine lv_iconst (v := nI 1) hx hb dX2_findsExact_101 rfl ?_
                refine lv_icmp_ne (tgt := 110) hx hb dX2_findsExact_102 (by decide) (fun c102 => ?_) (fun c102 => ?_)
                · skip
                  exact absurd c102 (by decide)
                · skip
                  have c102 := n_eq_t (a := 1) (b := 1) c102 (by decide) (by decide)
                  refine lv_lload hx hb dX2_findsExact_105 (lv_at hl 1 rfl) ?_
                  refine lv_goto (tgt := 162) hx hb dX2_findsExact_107 (by decide) ?_
                  refine lv_lstore (lv' := [(12, .long (lN (((exN (mF all) (nm (mF all) ln 1)) * (exN (mF all) (nm (mF all) ln 2))) / 65536))), (10, .long (lN 0)), (8, .long (lN (((exN (mF all) (nm (mF all) ln 1)) * (exN (mF all) (nm (mF all) ln 2))) / 65536))), (6, .long (lN (exN (mF all) (nm (mF all) ln 2)))), (4, .long (lN (exN (mF all) (nm (mF all) ln 1)))), (3, .int (nI 1)), (2, .int (nI ln)), (0, .ref q), (1, .int (nI j))]) hx hb dX2_findsExact_162 hl (by decide) rfl (fun ls hl => ?_)
                  refine lv_iload_n hx hb dX2_findsExact_164 rfl (lv_at hl 5 rfl) ?_
                  refine lv_if_ne (tgt := 182) hx hb dX2_findsExact_165 (by decide) (fun c165 => ?_) (fun c165 => ?_)
                  · skip
                    have c165 := n_eq_f (a := 1) (b := 0) c165
                    refine lv_iload_n hx hb dX2_findsExact_182 rfl (lv_at hl 5 rfl) ?_
                    refine lv_iconst (v := nI 4) hx hb dX2_findsExact_183 rfl ?_
                    refine lv_icmp_ne (tgt := 209) hx hb dX2_findsExact_184 (by decide) (fun c184 => ?_) (fun c184 => ?_)
                    · skip
                      have c184 := n_eq_f (a := 1) (b := 4) c184
                      refine lv_lload hx hb dX2_findsExact_209 (lv_at hl 0 rfl) ?_
                      refine lv_lstore (lv' := [(12, .long (lN (((exN (mF all) (nm (mF all) ln 1)) * (exN (mF all) (nm (mF all) ln 2))) / 65536))), (10, .long (lN 0)), (8, .long (lN (((exN (mF all) (nm (mF all) ln 1)) * (exN (mF all) (nm (mF all) ln 2))) / 65536))), (6, .long (lN (exN (mF all) (nm (mF all) ln 2)))), (4, .long (lN (exN (mF all) (nm (mF all) ln 1)))), (3, .int (nI 1)), (2, .int (nI ln)), (0, .ref q), (1, .int (nI j))]) hx hb dX2_findsExact_211 hl (by decide) rfl (fun ls hl => ?_)
                      refine lv_aload_n hx hb dX2_findsExact_213 rfl (lv_at hl 7 rfl) ?_
                      refine r_get (v := .ref (a 7)) hx hb hts in_X2 hown hG Z.w 0 rfl rfl 9 (by decide) q947 (fun _ h9 => h9) rfl dX2_findsExact_214 ?_
                      refine lv_iload_n hx hb dX2_findsExact_217 rfl (lv_at hl 6 rfl) ?_
                      refine lv_lload hx hb dX2_findsExact_218 (lv_at hl 0 rfl) ?_
                      refine lv_l2i (v := nI (((exN (mF all) (nm (mF all) ln 1)) * (exN (mF all) (nm (mF all) ln 2))) / 65536)) hx hb dX2_findsExact_220 (lN_i _) ?_
                      refine r_iast hx hb hG Z 8 rfl (j := ln) (by omega) (by decide) (wc' := mW G q a wd all kept hist hlo snap tk bits reg (upd ex ln (nI (((exN (mF all) (nm (mF all) ln 1)) * (exN (mF all) (nm (mF all) ln 2))) / 65536))) text tl sp read rm nu deep src) rfl dX2_findsExact_221 (fun H locs Z => ?_)
                      refine lv_iinc (v := nI (ln + 1)) (lv' := [(2, .int (nI (ln + 1))), (12, .long (lN (((exN (mF all) (nm (mF all) ln 1)) * (exN (mF all) (nm (mF all) ln 2))) / 65536))), (10, .long (lN 0)), (8, .long (lN (((exN (mF all) (nm (mF all) ln 1)) * (exN (mF all) (nm (mF all) ln 2))) / 65536))), (6, .long (lN (exN (mF all) (nm (mF all) ln 2)))), (4, .long (lN (exN (mF all) (nm (mF all) ln 1)))), (3, .int (nI 1)), (0, .ref q), (1, .int (nI j))]) hx hb dX2_findsExact_222 hl (k := 6) rfl (nI_add _ _) (by decide) rfl (fun ls hl => ?_)
                      refine lv_goto (tgt := 2) hx hb dX2_findsExact_225 (by decide) ?_
                      exact ih_L2 (ln + 1) (upd ex ln (nI (((exN (mF all) (nm (mF all) ln 1)) * (exN (mF all) (nm (mF all) ln 2))) / 65536))) (by omega) (by first | (intro k hk; omega) | exact exl_s g2 (congrArg nI (by rw [ee]; simp))) (by omega) _ _ Z _ (lv_sub hl [0, 7, 8] rfl)
                    · skip
                      exact absurd c184 (by decide)
                  · skip
                    exact absurd c165 (by decide)
              · skip
                exact absurd c79 (by decide)
          · skip
            exact absurd c15 (by decide)
        · skip
          have hx1 := ok ln hln
          obtain ⟨⟨od, ol⟩, s0, o1, o2, o3, o6, -⟩ := hx1
          have e1 : all (2 + 4 * ln + 1) = nI (nm (mF all) ln 1) := (o1 (by omega)).1
          have p1 := (o1 (by omega)).2
          have b1 := ex_le ok (Nat.lt_trans p1 hln)
          have x1 := g2 _ p1
          have e2 : all (2 + 4 * ln + 2) = nI (nm (mF all) ln 2) := (o2 (by omega)).1
          have p2 := (o2 (by omega)).2
          have b2 := ex_le ok (Nat.lt_trans p2 hln)
          have x2 := g2 _ p2
          have m1 := mul_le_w b1 b2
          have m2 := Nat.mul_le_mul b1 b2
          have ee := exN_eq ok hln
          unfold eStep at ee
          simp only [z] at ee
          refine r_as (z := nI 2) (od.trans (congrArg nI z)) ?_
          refine lv_istore_n (lv' := [(3, .int (nI 2)), (2, .int (nI ln)), (0, .ref q), (1, .int (nI j))]) hx hb dX2_findsExact_13 rfl hl (by decide) rfl (fun ls hl => ?_)
          refine lv_iload_n hx hb dX2_findsExact_14 rfl (lv_at hl 0 rfl) ?_
          refine lv_if_ne (tgt := 22) hx hb dX2_findsExact_15 (by decide) (fun c15 => ?_) (fun c15 => ?_)
          · skip
            have c15 := n_eq_f (a := 2) (b := 0) c15
            refine lv_aload_n hx hb dX2_findsExact_22 rfl (lv_at hl 2 rfl) ?_
            refine r_get (v := .ref (a 7)) hx hb hts in_X2 hown hG Z.w 0 rfl rfl 9 (by decide) q947 (fun _ h9 => h9) rfl dX2_findsExact_23 ?_
            refine lv_aload_n hx hb dX2_findsExact_26 rfl (lv_at hl 2 rfl) ?_
            refine lv_iload_n hx hb dX2_findsExact_27 rfl (lv_at hl 1 rfl) ?_
            refine lv_iconst (v := nI 1) hx hb dX2_findsExact_28 rfl ?_
            refine ns_i (k := 3) (nr_V (As := [.int (nI ln), .int (nI 1)]) (rest := [.ref (a 7)]) hx hb hml hown hts (M_of l G q a wd all kept hist hlo snap tk bits reg ex text tl sp read rm nu deep src ln 1 (by omega)) nPs.blind 2 q1049 q1051 qs21 q53 q1052 (by decide +kernel) ⟨⟨Nat.le_of_ble_eq_true rfl, Nat.le_of_ble_eq_true rfl⟩, Nat.le_of_ble_eq_true rfl, Nat.le_of_ble_eq_true rfl⟩ (r_recv hG Z.w 0 (C := "ShareStreamsModel") rfl rfl rfl) (nPs_of hG Z Z.w) rfl hl.1 rfl (Nat.le_of_ble_eq_true rfl) dX2_findsExact_29) (fun r29 hp29 => ?_)
            have he29 := hp29
            have he29 : r29 = all (2 + 4 * ln + 1) := he29
            subst he29
            refine r_as (z := nI (nm (mF all) ln 1)) e1 ?_
            refine r_iald hx hb hG Z.w 8 rfl (j := nm (mF all) ln 1) (by omega) (by decide) (v := nI (exN (mF all) (nm (mF all) ln 1))) x1 dX2_findsExact_32 ?_
            refine lv_i2l (v := lN (exN (mF all) (nm (mF all) ln 1))) hx hb dX2_findsExact_33 (nI_l (by omega)) ?_
            refine lv_lstore (lv' := [(4, .long (lN (exN (mF all) (nm (mF all) ln 1)))), (3, .int (nI 2)), (2, .int (nI ln)), (0, .ref q), (1, .int (nI j))]) hx hb dX2_findsExact_34 hl (by decide) rfl (fun ls hl => ?_)
            refine lv_iload_n hx hb dX2_findsExact_36 rfl (lv_at hl 1 rfl) ?_
            refine lv_i2l (v := lN 2) hx hb dX2_findsExact_37 (nI_l (by decide)) ?_
            refine lv_lconst (v := lN 1) hx hb dX2_findsExact_38 rfl ?_
            refine lv_ldc2 hx hb hown (hts _ q1154) dX2_findsExact_39 ?_
            refine r_asl (z := lN 4) rfl ?_
            refine ns_i (k := 3) (nr_S (As := [.long (lN 2), .long (lN 1), .long (lN 4)]) (rest := []) hx hb hml hown hts (M_in l G (lN 2) (lN 1) (lN 4)) nPs.blind 3 q999 q1000 q53 q1001 (by decide +kernel) ⟨⟨Nat.le_of_ble_eq_true rfl, Nat.le_of_ble_eq_true rfl⟩, Nat.le_of_ble_eq_true rfl, Nat.le_of_ble_eq_true rfl⟩ (nPs_of hG Z (fun k q h => by simp at h)) rfl hl.1 rfl (Nat.le_of_ble_eq_true rfl) dX2_findsExact_42) (fun r42 hp42 => ?_)
            have he42 := hp42
            have he42 : r42 = bI (inL (lN 2) (lN 1) (lN 4)) := he42
            subst he42
            refine r_as (z := bI true) (by decide) ?_
            refine lv_if_eq (tgt := 63) hx hb dX2_findsExact_45 (by decide) (fun c45 => ?_) (fun c45 => ?_)
            · skip
              exact absurd c45 (by decide)
            · skip
              have c45 := bI_t c45
              refine lv_aload_n hx hb dX2_findsExact_48 rfl (lv_at hl 3 rfl) ?_
              refine r_get (v := .ref (a 7)) hx hb hts in_X2 hown hG Z.w 0 rfl rfl 9 (by decide) q947 (fun _ h9 => h9) rfl dX2_findsExact_49 ?_
              refine lv_aload_n hx hb dX2_findsExact_52 rfl (lv_at hl 3 rfl) ?_
              refine lv_iload_n hx hb dX2_findsExact_53 rfl (lv_at hl 2 rfl) ?_
              refine lv_iconst (v := nI 2) hx hb dX2_findsExact_54 rfl ?_
              refine ns_i (k := 3) (nr_V (As := [.int (nI ln), .int (nI 2)]) (rest := [.ref (a 7)]) hx hb hml hown hts (M_of l G q a wd all kept hist hlo snap tk bits reg ex text tl sp read rm nu deep src ln 2 (by omega)) nPs.blind 2 q1049 q1051 qs21 q53 q1052 (by decide +kernel) ⟨⟨Nat.le_of_ble_eq_true rfl, Nat.le_of_ble_eq_true rfl⟩, Nat.le_of_ble_eq_true rfl, Nat.le_of_ble_eq_true rfl⟩ (r_recv hG Z.w 0 (C := "ShareStreamsModel") rfl rfl rfl) (nPs_of hG Z Z.w) rfl hl.1 rfl (Nat.le_of_ble_eq_true rfl) dX2_findsExact_55) (fun r55 hp55 => ?_)
              have he55 := hp55
              have he55 : r55 = all (2 + 4 * ln + 2) := he55
              subst he55
              refine r_as (z := nI (nm (mF all) ln 2)) e2 ?_
              refine r_iald hx hb hG Z.w 8 rfl (j := nm (mF all) ln 2) (by omega) (by decide) (v := nI (exN (mF all) (nm (mF all) ln 2))) x2 dX2_findsExact_58 ?_
              refine lv_i2l (v := lN (exN (mF all) (nm (mF all) ln 2))) hx hb dX2_findsExact_59 (nI_l (by omega)) ?_
              refine lv_goto (tgt := 64) hx hb dX2_findsExact_60 (by decide) ?_
              refine lv_lstore (lv' := [(6, .long (lN (exN (mF all) (nm (mF all) ln 2)))), (4, .long (lN (exN (mF all) (nm (mF all) ln 1)))), (3, .int (nI 2)), (2, .int (nI ln)), (0, .ref q), (1, .int (nI j))]) hx hb dX2_findsExact_64 hl (by decide) rfl (fun ls hl => ?_)
              refine lv_lload hx hb dX2_findsExact_66 (lv_at hl 1 rfl) ?_
              refine lv_lload hx hb dX2_findsExact_68 (lv_at hl 0 rfl) ?_
              refine lv_lmul hx hb dX2_findsExact_70 ?_
              refine r_asl (z := lN ((exN (mF all) (nm (mF all) ln 1)) * (exN (mF all) (nm (mF all) ln 2)))) (lN_mul _ _) ?_
              refine lv_ldc2 hx hb hown (hts _ q1155) dX2_findsExact_71 ?_
              refine r_asl (z := lN 65536) rfl ?_
              refine lv_ldiv hx hb dX2_findsExact_74 (by decide) ?_
              refine r_asl (z := lN (((exN (mF all) (nm (mF all) ln 1)) * (exN (mF all) (nm (mF all) ln 2))) / 65536)) (pk_lDiv (by omega) (by decide) (by decide)) ?_
              refine lv_lstore (lv' := [(8, .long (lN (((exN (mF all) (nm (mF all) ln 1)) * (exN (mF all) (nm (mF all) ln 2))) / 65536))), (6, .long (lN (exN (mF all) (nm (mF all) ln 2)))), (4, .long (lN (exN (mF all) (nm (mF all) ln 1)))), (3, .int (nI 2)), (2, .int (nI ln)), (0, .ref q), (1, .int (nI j))]) hx hb dX2_findsExact_75 hl (by decide) rfl (fun ls hl => ?_)
              refine lv_iload_n hx hb dX2_findsExact_77 rfl (lv_at hl 3 rfl) ?_
              refine lv_iconst (v := nI 4) hx hb dX2_findsExact_78 rfl ?_
              refine lv_icmp_ne (tgt := 97) hx hb dX2_findsExact_79 (by decide) (fun c79 => ?_) (fun c79 => ?_)
              · skip
                have c79 := n_eq_f (a := 2) (b := 4) c79
                refine lv_lconst (v := lN 0) hx hb dX2_findsExact_97 rfl ?_
                refine lv_lstore (lv' := [(10, .long (lN 0)), (8, .long (lN (((exN (mF all) (nm (mF all) ln 1)) * (exN (mF all) (nm (mF all) ln 2))) / 65536))), (6, .long (lN (exN (mF all) (nm (mF all) ln 2)))), (4, .long (lN (exN (mF all) (nm (mF all) ln 1)))), (3, .int (nI 2)), (2, .int (nI ln)), (0, .ref q), (1, .int (nI j))]) hx hb dX2_findsExact_98 hl (by decide) rfl (fun ls hl => ?_)
                refine lv_iload_n hx hb dX2_findsExact_100 rfl (lv_at hl 4 rfl) ?_
                refine lv_iconst (v := nI 1) hx hb dX2_findsExact_101 rfl ?_
                refine lv_icmp_ne (tgt := 110) hx hb dX2_findsExact_102 (by decide) (fun c102 => ?_) (fun c102 => ?_)
                · skip
                  have c102 := n_eq_f (a := 2) (b := 1) c102
                  refine lv_iload_n hx hb dX2_findsExact_110 rfl (lv_at hl 4 rfl) ?_
                  refine lv_iconst (v := nI 2) hx hb dX2_findsExact_111 rfl ?_
                  refine lv_icmp_ne (tgt := 126) hx hb dX2_findsExact_112 (by decide) (fun c112 => ?_) (fun c112 => ?_)
                  · skip
                    exact absurd c112 (by decide)
                  · skip
                    have c112 := n_eq_t (a := 2) (b := 2) c112 (by decide) (by decide)
                    refine lv_lload hx hb dX2_findsExact_115 (lv_at hl 3 rfl) ?_
                    refine lv_lload hx hb dX2_findsExact_117 (lv_at hl 2 rfl) ?_
                    refine lv_ladd hx hb dX2_findsExact_119 ?_
                    refine r_asl (z := lN (exN (mF all) (nm (mF all) ln 1) + (exN (mF all) (nm (mF all) ln 2)))) (lN_add _ _) ?_
                    refine lv_lload hx hb dX2_findsExact_120 (lv_at hl 1 rfl) ?_
                    refine lv_lsub hx hb dX2_findsExact_122 ?_
                    refine r_asl (z := lN ((exN (mF all) (nm (mF all) ln 1) + (exN (mF all) (nm (mF all) ln 2))) - (((exN (mF all) (nm (mF all) ln 1)) * (exN (mF all) (nm (mF all) ln 2))) / 65536))) (lN_sub (by omega)) ?_
                    refine lv_goto (tgt := 162) hx hb dX2_findsExact_123 (by decide) ?_
                    refine lv_lstore (lv' := [(12, .long (lN ((exN (mF all) (nm (mF all) ln 1) + (exN (mF all) (nm (mF all) ln 2))) - (((exN (mF all) (nm (mF all) ln 1)) * (exN (mF all) (nm (mF all) ln 2))) / 65536)))), (10, .long (lN 0)), (8, .long (lN (((exN (mF all) (nm (mF all) ln 1)) * (exN (mF all) (nm (mF all) ln 2))) / 65536))), (6, .long (lN (exN (mF all) (nm (mF all) ln 2)))), (4, .long (lN (exN (mF all) (nm (mF all) ln 1)))), (3, .int (nI 2)), (2, .int (nI ln)), (0, .ref q), (1, .int (nI j))]) hx hb dX2_findsExact_162 hl (by decide) rfl (fun ls hl => ?_)
                    refine lv_iload_n hx hb dX2_findsExact_164 rfl (lv_at hl 5 rfl) ?_
                    refine lv_if_ne (tgt := 182) hx hb dX2_findsExact_165 (by decide) (fun c165 => ?_) (fun c165 => ?_)
                    · skip
                      have c165 := n_eq_f (a := 2) (b := 0) c165
                      refine lv_iload_n hx hb dX2_findsExact_182 rfl (lv_at hl 5 rfl) ?_
                      refine lv_iconst (v := nI 4) hx hb dX2_findsExact_183 rfl ?_
                      refine lv_icmp_ne (tgt := 209) hx hb dX2_findsExact_184 (by decide) (fun c184 => ?_) (fun c184 => ?_)
                      · skip
                        have c184 := n_eq_f (a := 2) (b := 4) c184
                        refine lv_lload hx hb dX2_findsExact_209 (lv_at hl 0 rfl) ?_
                        refine lv_lstore (lv' := [(12, .long (lN ((exN (mF all) (nm (mF all) ln 1) + (exN (mF all) (nm (mF all) ln 2))) - (((exN (mF all) (nm (mF all) ln 1)) * (exN (mF all) (nm (mF all) ln 2))) / 65536)))), (10, .long (lN 0)), (8, .long (lN (((exN (mF all) (nm (mF all) ln 1)) * (exN (mF all) (nm (mF all) ln 2))) / 65536))), (6, .long (lN (exN (mF all) (nm (mF all) ln 2)))), (4, .long (lN (exN (mF all) (nm (mF all) ln 1)))), (3, .int (nI 2)), (2, .int (nI ln)), (0, .ref q), (1, .int (nI j))]) hx hb dX2_findsExact_211 hl (by decide) rfl (fun ls hl => ?_)
                        refine lv_aload_n hx hb dX2_findsExact_213 rfl (lv_at hl 7 rfl) ?_
                        refine r_get (v := .ref (a 7)) hx hb hts in_X2 hown hG Z.w 0 rfl rfl 9 (by decide) q947 (fun _ h9 => h9) rfl dX2_findsExact_214 ?_
                        refine lv_iload_n hx hb dX2_findsExact_217 rfl (lv_at hl 6 rfl) ?_
                        refine lv_lload hx hb dX2_findsExact_218 (lv_at hl 0 rfl) ?_
                        refine lv_l2i (v := nI ((exN (mF all) (nm (mF all) ln 1) + (exN (mF all) (nm (mF all) ln 2))) - (((exN (mF all) (nm (mF all) ln 1)) * (exN (mF all) (nm (mF all) ln 2))) / 65536))) hx hb dX2_findsExact_220 (lN_i _) ?_
                        refine r_iast hx hb hG Z 8 rfl (j := ln) (by omega) (by decide) (wc' := mW G q a wd all kept hist hlo snap tk bits reg (upd ex ln (nI ((exN (mF all) (nm (mF all) ln 1) + (exN (mF all) (nm (mF all) ln 2))) - (((exN (mF all) (nm (mF all) ln 1)) * (exN (mF all) (nm (mF all) ln 2))) / 65536)))) text tl sp read rm nu deep src) rfl dX2_findsExact_221 (fun H locs Z => ?_)
                        refine lv_iinc (v := nI (ln + 1)) (lv' := [(2, .int (nI (ln + 1))), (12, .long (lN ((exN (mF all) (nm (mF all) ln 1) + (exN (mF all) (nm (mF all) ln 2))) - (((exN (mF all) (nm (mF all) ln 1)) * (exN (mF all) (nm (mF all) ln 2))) / 65536)))), (10, .long (lN 0)), (8, .long (lN (((exN (mF all) (nm (mF all) ln 1)) * (exN (mF all) (nm (mF all) ln 2))) / 65536))), (6, .long (lN (exN (mF all) (nm (mF all) ln 2)))), (4, .long (lN (exN (mF all) (nm (mF all) ln 1)))), (3, .int (nI 2)), (0, .ref q), (1, .int (nI j))]) hx hb dX2_findsExact_222 hl (k := 6) rfl (nI_add _ _) (by decide) rfl (fun ls hl => ?_)
                        refine lv_goto (tgt := 2) hx hb dX2_findsExact_225 (by decide) ?_
                        exact ih_L2 (ln + 1) (upd ex ln (nI ((exN (mF all) (nm (mF all) ln 1) + (exN (mF all) (nm (mF all) ln 2))) - (((exN (mF all) (nm (mF all) ln 1)) * (exN (mF all) (nm (mF all) ln 2))) / 65536)))) (by omega) (by first | (intro k hk; omega) | exact exl_s g2 (congrArg nI (by rw [ee]; simp))) (by omega) _ _ Z _ (lv_sub hl [0, 7, 8] rfl)
                      · skip
                        exact absurd c184 (by decide)
                    · skip
                      exact absurd c165 (by decide)
                · skip
                  exact absurd c102 (by decide)
              · skip
                exact absurd c79 (by decide)
          · skip
            exact absurd c15 (by decide)
        · skip
          have hx1 := ok ln hln
          obtain ⟨⟨od, ol⟩, s0, o1, o2, o3, o6, -⟩ := hx1
          have e1 : all (2 + 4 * ln + 1) = nI (nm (mF all) ln 1) := (o1 (by omega)).1
          have p1 := (o1 (by omega)).2
          have b1 := ex_le ok (Nat.lt_trans p1 hln)
          have x1 := g2 _ p1
          have e2 : all (2 + 4 * ln + 2) = nI (nm (mF all) ln 2) := (o2 (by omega)).1
          have p2 := (o2 (by omega)).2
          have b2 := ex_le ok (Nat.lt_trans p2 hln)
          have x2 := g2 _ p2
          have m1 := mul_le_w b1 b2
          have m2 := Nat.mul_le_mul b1 b2
          have ee := exN_eq ok hln
          unfold eStep at ee
          simp only [z] at ee
          refine r_as (z := nI 3) (od.trans (congrArg nI z)) ?_
          refine lv_istore_n (lv' := [(3, .int (nI 3)), (2, .int (nI ln)), (0, .ref q), (1, .int (nI j))]) hx hb dX2_findsExact_13 rfl hl (by decide) rfl (fun ls hl => ?_)
          refine lv_iload_n hx hb dX2_findsExact_14 rfl (lv_at hl 0 rfl) ?_
          refine lv_if_ne (tgt := 22) hx hb dX2_findsExact_15 (by decide) (fun c15 => ?_) (fun c15 => ?_)
          · skip
            have c15 := n_eq_f (a := 3) (b := 0) c15
            refine lv_aload_n hx hb dX2_findsExact_22 rfl (lv_at hl 2 rfl) ?_
            refine r_get (v := .ref (a 7)) hx hb hts in_X2 hown hG Z.w 0 rfl rfl 9 (by decide) q947 (fun _ h9 => h9) rfl dX2_findsExact_23 ?_
            refine lv_aload_n hx hb dX2_findsExact_26 rfl (lv_at hl 2 rfl) ?_
            refine lv_iload_n hx hb dX2_findsExact_27 rfl (lv_at hl 1 rfl) ?_
            refine lv_iconst (v := nI 1) hx hb dX2_findsExact_28 rfl ?_
            refine ns_i (k := 3) (nr_V (As := [.int (nI ln), .int (nI 1)]) (rest := [.ref (a 7)]) hx hb hml hown hts (M_of l G q a wd all kept hist hlo snap tk bits reg ex text tl sp read rm nu deep src ln 1 (by omega)) nPs.blind 2 q1049 q1051 qs21 q53 q1052 (by decide +kernel) ⟨⟨Nat.le_of_ble_eq_true rfl, Nat.le_of_ble_eq_true rfl⟩, Nat.le_of_ble_eq_true rfl, Nat.le_of_ble_eq_true rfl⟩ (r_recv hG Z.w 0 (C := "ShareStreamsModel") rfl rfl rfl) (nPs_of hG Z Z.w) rfl hl.1 rfl (Nat.le_of_ble_eq_true rfl) dX2_findsExact_29) (fun r29 hp29 => ?_)
            have he29 := hp29
            have he29 : r29 = all (2 + 4 * ln + 1) := he29
            subst he29
            refine r_as (z := nI (nm (mF all) ln 1)) e1 ?_
            refine r_iald hx hb hG Z.w 8 rfl (j := nm (mF all) ln 1) (by omega) (by decide) (v := nI (exN (mF all) (nm (mF all) ln 1))) x1 dX2_findsExact_32 ?_
            refine lv_i2l (v := lN (exN (mF all) (nm (mF all) ln 1))) hx hb dX2_findsExact_33 (nI_l (by omega)) ?_
            refine lv_lstore (lv' := [(4, .long (lN (exN (mF all) (nm (mF all) ln 1)))), (3, .int (nI 3)), (2, .int (nI ln)), (0, .ref q), (1, .int (nI j))]) hx hb dX2_findsExact_34 hl (by decide) rfl (fun ls hl => ?_)
            refine lv_iload_n hx hb dX2_findsExact_36 rfl (lv_at hl 1 rfl) ?_
            refine lv_i2l (v := lN 3) hx hb dX2_findsExact_37 (nI_l (by decide)) ?_
            refine lv_lconst (v := lN 1) hx hb dX2_findsExact_38 rfl ?_
            refine lv_ldc2 hx hb hown (hts _ q1154) dX2_findsExact_39 ?_
            refine r_asl (z := lN 4) rfl ?_
            refine ns_i (k := 3) (nr_S (As := [.long (lN 3), .long (lN 1), .long (lN 4)]) (rest := []) hx hb hml hown hts (M_in l G (lN 3) (lN 1) (lN 4)) nPs.blind 3 q999 q1000 q53 q1001 (by decide +kernel) ⟨⟨Nat.le_of_ble_eq_true rfl, Nat.le_of_ble_eq_true rfl⟩, Nat.le_of_ble_eq_true rfl, Nat.le_of_ble_eq_true rfl⟩ (nPs_of hG Z (fun k q h => by simp at h)) rfl hl.1 rfl (Nat.le_of_ble_eq_true rfl) dX2_findsExact_42) (fun r42 hp42 => ?_)
            have he42 := hp42
            have he42 : r42 = bI (inL (lN 3) (lN 1) (lN 4)) := he42
            subst he42
            refine r_as (z := bI true) (by decide) ?_
            refine lv_if_eq (tgt := 63) hx hb dX2_findsExact_45 (by decide) (fun c45 => ?_) (fun c45 => ?_)
            · skip
              exact absurd c45 (by decide)
            · skip
              have c45 := bI_t c45
              refine lv_aload_n hx hb dX2_findsExact_48 rfl (lv_at hl 3 rfl) ?_
              refine r_get (v := .ref (a 7)) hx hb hts in_X2 hown hG Z.w 0 rfl rfl 9 (by decide) q947 (fun _ h9 => h9) rfl dX2_findsExact_49 ?_
              refine lv_aload_n hx hb dX2_findsExact_52 rfl (lv_at hl 3 rfl) ?_
              refine lv_iload_n hx hb dX2_findsExact_53 rfl (lv_at hl 2 rfl) ?_
              refine lv_iconst (v := nI 2) hx hb dX2_findsExact_54 rfl ?_
              refine ns_i (k := 3) (nr_V (As := [.int (nI ln), .int (nI 2)]) (rest := [.ref (a 7)]) hx hb hml hown hts (M_of l G q a wd all kept hist hlo snap tk bits reg ex text tl sp read rm nu deep src ln 2 (by omega)) nPs.blind 2 q1049 q1051 qs21 q53 q1052 (by decide +kernel) ⟨⟨Nat.le_of_ble_eq_true rfl, Nat.le_of_ble_eq_true rfl⟩, Nat.le_of_ble_eq_true rfl, Nat.le_of_ble_eq_true rfl⟩ (r_recv hG Z.w 0 (C := "ShareStreamsModel") rfl rfl rfl) (nPs_of hG Z Z.w) rfl hl.1 rfl (Nat.le_of_ble_eq_true rfl) dX2_findsExact_55) (fun r55 hp55 => ?_)
              have he55 := hp55
              have he55 : r55 = all (2 + 4 * ln + 2) := he55
              subst he55
              refine r_as (z := nI (nm (mF all) ln 2)) e2 ?_
              refine r_iald hx hb hG Z.w 8 rfl (j := nm (mF all) ln 2) (by omega) (by decide) (v := nI (exN (mF all) (nm (mF all) ln 2))) x2 dX2_findsExact_58 ?_
              refine lv_i2l (v := lN (exN (mF all) (nm (mF all) ln 2))) hx hb dX2_findsExact_59 (nI_l (by omega)) ?_
              refine lv_goto (tgt := 64) hx hb dX2_findsExact_60 (by decide) ?_
              refine lv_lstore (lv' := [(6, .long (lN (exN (mF all) (nm (mF all) ln 2)))), (4, .long (lN (exN (mF all) (nm (mF all) ln 1)))), (3, .int (nI 3)), (2, .int (nI ln)), (0, .ref q), (1, .int (nI j))]) hx hb dX2_findsExact_64 hl (by decide) rfl (fun ls hl => ?_)
              refine lv_lload hx hb dX2_findsExact_66 (lv_at hl 1 rfl) ?_
              refine lv_lload hx hb dX2_findsExact_68 (lv_at hl 0 rfl) ?_
              refine lv_lmul hx hb dX2_findsExact_70 ?_
              refine r_asl (z := lN ((exN (mF all) (nm (mF all) ln 1)) * (exN (mF all) (nm (mF all) ln 2)))) (lN_mul _ _) ?_
              refine lv_ldc2 hx hb hown (hts _ q1155) dX2_findsExact_71 ?_
              refine r_asl (z := lN 65536) rfl ?_
              refine lv_ldiv hx hb dX2_findsExact_74 (by decide) ?_
              refine r_asl (z := lN (((exN (mF all) (nm (mF all) ln 1)) * (exN (mF all) (nm (mF all) ln 2))) / 65536)) (pk_lDiv (by omega) (by decide) (by decide)) ?_
              refine lv_lstore (lv' := [(8, .long (lN (((exN (mF all) (nm (mF all) ln 1)) * (exN (mF all) (nm (mF all) ln 2))) / 65536))), (6, .long (lN (exN (mF all) (nm (mF all) ln 2)))), (4, .long (lN (exN (mF all) (nm (mF all) ln 1)))), (3, .int (nI 3)), (2, .int (nI ln)), (0, .ref q), (1, .int (nI j))]) hx hb dX2_findsExact_75 hl (by decide) rfl (fun ls hl => ?_)
              refine lv_iload_n hx hb dX2_findsExact_77 rfl (lv_at hl 3 rfl) ?_
              refine lv_iconst (v := nI 4) hx hb dX2_findsExact_78 rfl ?_
              refine lv_icmp_ne (tgt := 97) hx hb dX2_findsExact_79 (by decide) (fun c79 => ?_) (fun c79 => ?_)
              · skip
                have c79 := n_eq_f (a := 3) (b := 4) c79
                refine lv_lconst (v := lN 0) hx hb dX2_findsExact_97 rfl ?_
                refine lv_lstore (lv' := [(10, .long (lN 0)), (8, .long (lN (((exN (mF all) (nm (mF all) ln 1)) * (exN (mF all) (nm (mF all) ln 2))) / 65536))), (6, .long (lN (exN (mF all) (nm (mF all) ln 2)))), (4, .long (lN (exN (mF all) (nm (mF all) ln 1)))), (3, .int (nI 3)), (2, .int (nI ln)), (0, .ref q), (1, .int (nI j))]) hx hb dX2_findsExact_98 hl (by decide) rfl (fun ls hl => ?_)
                refine lv_iload_n hx hb dX2_findsExact_100 rfl (lv_at hl 4 rfl) ?_
                refine lv_iconst (v := nI 1) hx hb dX2_findsExact_101 rfl ?_
                refine lv_icmp_ne (tgt := 110) hx hb dX2_findsExact_102 (by decide) (fun c102 => ?_) (fun c102 => ?_)
                · skip
                  have c102 := n_eq_f (a := 3) (b := 1) c102
                  refine lv_iload_n hx hb dX2_findsExact_110 rfl (lv_at hl 4 rfl) ?_
                  refine lv_iconst (v := nI 2) hx hb dX2_findsExact_111 rfl ?_
                  refine lv_icmp_ne (tgt := 126) hx hb dX2_findsExact_112 (by decide) (fun c112 => ?_) (fun c112 => ?_)
                  · skip
                    have c112 := n_eq_f (a := 3) (b := 2) c112
                    refine lv_iload_n hx hb dX2_findsExact_126 rfl (lv_at hl 4 rfl) ?_
                    refine lv_iconst (v := nI 3) hx hb dX2_findsExact_127 rfl ?_
                    refine lv_icmp_ne (tgt := 146) hx hb dX2_findsExact_128 (by decide) (fun c128 => ?_) (fun c128 => ?_)
                    · skip
                      exact absurd c128 (by decide)
                    · skip
                      have c128 := n_eq_t (a := 3) (b := 3) c128 (by decide) (by decide)
                      refine lv_lload hx hb dX2_findsExact_131 (lv_at hl 3 rfl) ?_
                      refine lv_lload hx hb dX2_findsExact_133 (lv_at hl 2 rfl) ?_
                      refine lv_ladd hx hb dX2_findsExact_135 ?_
                      refine r_asl (z := lN (exN (mF all) (nm (mF all) ln 1) + (exN (mF all) (nm (mF all) ln 2)))) (lN_add _ _) ?_
                      refine lv_ldc2 hx hb hown (hts _ q1156) dX2_findsExact_136 ?_
                      refine r_asl (z := lN 2) rfl ?_
                      refine lv_lload hx hb dX2_findsExact_139 (lv_at hl 1 rfl) ?_
                      refine lv_lmul hx hb dX2_findsExact_141 ?_
                      refine r_asl (z := lN (2 * (((exN (mF all) (nm (mF all) ln 1)) * (exN (mF all) (nm (mF all) ln 2))) / 65536))) (lN_mul _ _) ?_
                      refine lv_lsub hx hb dX2_findsExact_142 ?_
                      refine r_asl (z := lN ((exN (mF all) (nm (mF all) ln 1) + (exN (mF all) (nm (mF all) ln 2))) - (2 * (((exN (mF all) (nm (mF all) ln 1)) * (exN (mF all) (nm (mF all) ln 2))) / 65536)))) (lN_sub (by omega)) ?_
                      refine lv_goto (tgt := 162) hx hb dX2_findsExact_143 (by decide) ?_
                      refine lv_lstore (lv' := [(12, .long (lN ((exN (mF all) (nm (mF all) ln 1) + (exN (mF all) (nm (mF all) ln 2))) - (2 * (((exN (mF all) (nm (mF all) ln 1)) * (exN (mF all) (nm (mF all) ln 2))) / 65536))))), (10, .long (lN 0)), (8, .long (lN (((exN (mF all) (nm (mF all) ln 1)) * (exN (mF all) (nm (mF all) ln 2))) / 65536))), (6, .long (lN (exN (mF all) (nm (mF all) ln 2)))), (4, .long (lN (exN (mF all) (nm (mF all) ln 1)))), (3, .int (nI 3)), (2, .int (nI ln)), (0, .ref q), (1, .int (nI j))]) hx hb dX2_findsExact_162 hl (by decide) rfl (fun ls hl => ?_)
                      refine lv_iload_n hx hb dX2_findsExact_164 rfl (lv_at hl 5 rfl) ?_
                      refine lv_if_ne (tgt := 182) hx hb dX2_findsExact_165 (by decide) (fun c165 => ?_) (fun c165 => ?_)
                      · skip
                        have c165 := n_eq_f (a := 3) (b := 0) c165
                        refine lv_iload_n hx hb dX2_findsExact_182 rfl (lv_at hl 5 rfl) ?_
                        refine lv_iconst (v := nI 4) hx hb dX2_findsExact_183 rfl ?_
                        refine lv_icmp_ne (tgt := 209) hx hb dX2_findsExact_184 (by decide) (fun c184 => ?_) (fun c184 => ?_)
                        · skip
                          have c184 := n_eq_f (a := 3) (b := 4) c184
                          refine lv_lload hx hb dX2_findsExact_209 (lv_at hl 0 rfl) ?_
                          refine lv_lstore (lv' := [(12, .long (lN ((exN (mF all) (nm (mF all) ln 1) + (exN (mF all) (nm (mF all) ln 2))) - (2 * (((exN (mF all) (nm (mF all) ln 1)) * (exN (mF all) (nm (mF all) ln 2))) / 65536))))), (10, .long (lN 0)), (8, .long (lN (((exN (mF all) (nm (mF all) ln 1)) * (exN (mF all) (nm (mF all) ln 2))) / 65536))), (6, .long (lN (exN (mF all) (nm (mF all) ln 2)))), (4, .long (lN (exN (mF all) (nm (mF all) ln 1)))), (3, .int (nI 3)), (2, .int (nI ln)), (0, .ref q), (1, .int (nI j))]) hx hb dX2_findsExact_211 hl (by decide) rfl (fun ls hl => ?_)
                          refine lv_aload_n hx hb dX2_findsExact_213 rfl (lv_at hl 7 rfl) ?_
                          refine r_get (v := .ref (a 7)) hx hb hts in_X2 hown hG Z.w 0 rfl rfl 9 (by decide) q947 (fun _ h9 => h9) rfl dX2_findsExact_214 ?_
                          refine lv_iload_n hx hb dX2_findsExact_217 rfl (lv_at hl 6 rfl) ?_
                          refine lv_lload hx hb dX2_findsExact_218 (lv_at hl 0 rfl) ?_
                          refine lv_l2i (v := nI ((exN (mF all) (nm (mF all) ln 1) + (exN (mF all) (nm (mF all) ln 2))) - (2 * (((exN (mF all) (nm (mF all) ln 1)) * (exN (mF all) (nm (mF all) ln 2))) / 65536)))) hx hb dX2_findsExact_220 (lN_i _) ?_
                          refine r_iast hx hb hG Z 8 rfl (j := ln) (by omega) (by decide) (wc' := mW G q a wd all kept hist hlo snap tk bits reg (upd ex ln (nI ((exN (mF all) (nm (mF all) ln 1) + (exN (mF all) (nm (mF all) ln 2))) - (2 * (((exN (mF all) (nm (mF all) ln 1)) * (exN (mF all) (nm (mF all) ln 2))) / 65536))))) text tl sp read rm nu deep src) rfl dX2_findsExact_221 (fun H locs Z => ?_)
                          refine lv_iinc (v := nI (ln + 1)) (lv' := [(2, .int (nI (ln + 1))), (12, .long (lN ((exN (mF all) (nm (mF all) ln 1) + (exN (mF all) (nm (mF all) ln 2))) - (2 * (((exN (mF all) (nm (mF all) ln 1)) * (exN (mF all) (nm (mF all) ln 2))) / 65536))))), (10, .long (lN 0)), (8, .long (lN (((exN (mF all) (nm (mF all) ln 1)) * (exN (mF all) (nm (mF all) ln 2))) / 65536))), (6, .long (lN (exN (mF all) (nm (mF all) ln 2)))), (4, .long (lN (exN (mF all) (nm (mF all) ln 1)))), (3, .int (nI 3)), (0, .ref q), (1, .int (nI j))]) hx hb dX2_findsExact_222 hl (k := 6) rfl (nI_add _ _) (by decide) rfl (fun ls hl => ?_)
                          refine lv_goto (tgt := 2) hx hb dX2_findsExact_225 (by decide) ?_
                          exact ih_L2 (ln + 1) (upd ex ln (nI ((exN (mF all) (nm (mF all) ln 1) + (exN (mF all) (nm (mF all) ln 2))) - (2 * (((exN (mF all) (nm (mF all) ln 1)) * (exN (mF all) (nm (mF all) ln 2))) / 65536))))) (by omega) (by first | (intro k hk; omega) | exact exl_s g2 (congrArg nI (by rw [ee]; simp))) (by omega) _ _ Z _ (lv_sub hl [0, 7, 8] rfl)
                        · skip
                          exact absurd c184 (by decide)
                      · skip
                        exact absurd c165 (by decide)
                  · skip
                    exact absurd c112 (by decide)
                · skip
                  exact absurd c102 (by decide)
              · skip
                exact absurd c79 (by decide)
          · skip
            exact absurd c15 (by decide)
        · skip
          have hx1 := ok ln hln
          obtain ⟨⟨od, ol⟩, s0, o1, o2, o3, o6, -⟩ := hx1
          have e1 : all (2 + 4 * ln + 1) = nI (nm (mF all) ln 1) := (o1 (by omega)).1
          have p1 := (o1 (by omega)).2
          have b1 := ex_le ok (Nat.lt_trans p1 hln)
          have x1 := g2 _ p1
          have e2 : all (2 + 4 * ln + 2) = nI (nm (mF all) ln 2) := (o2 (by omega)).1
          have p2 := (o2 (by omega)).2
          have b2 := ex_le ok (Nat.lt_trans p2 hln)
          have x2 := g2 _ p2
          have m1 := mul_le_w b1 b2
          have m2 := Nat.mul_le_mul b1 b2
          have e3 : all (2 + 4 * ln + 3) = nI (nm (mF all) ln 3) := (o3 z).1
          have p3 := (o3 z).2
          have b3 := ex_le ok (Nat.lt_trans p3 hln)
          have x3 := g2 _ p3
          have m3 := Nat.mul_le_mul b1 b3
          have m4 : exN (mF all) (nm (mF all) ln 2) * (65536 - exN (mF all) (nm (mF all) ln 3)) ≤ 65536 * 65536 := Nat.mul_le_mul b2 (Nat.sub_le _ _)
          have ee := exN_eq ok hln
          unfold eStep at ee
          simp only [z] at ee
          refine r_as (z := nI 4) (od.trans (congrArg nI z)) ?_
          refine lv_istore_n (lv' := [(3, .int (nI 4)), (2, .int (nI ln)), (0, .ref q), (1, .int (nI j))]) hx hb dX2_findsExact_13 rfl hl (by decide) rfl (fun ls hl => ?_)
          refine lv_iload_n hx hb dX2_findsExact_14 rfl (lv_at hl 0 rfl) ?_
          refine lv_if_ne (tgt := 22) hx hb dX2_findsExact_15 (by decide) (fun c15 => ?_) (fun c15 => ?_)
          · skip
            have c15 := n_eq_f (a := 4) (b := 0) c15
            refine lv_aload_n hx hb dX2_findsExact_22 rfl (lv_at hl 2 rfl) ?_
            refine r_get (v := .ref (a 7)) hx hb hts in_X2 hown hG Z.w 0 rfl rfl 9 (by decide) q947 (fun _ h9 => h9) rfl dX2_findsExact_23 ?_
            refine lv_aload_n hx hb dX2_findsExact_26 rfl (lv_at hl 2 rfl) ?_
            refine lv_iload_n hx hb dX2_findsExact_27 rfl (lv_at hl 1 rfl) ?_
            refine lv_iconst (v := nI 1) hx hb dX2_findsExact_28 rfl ?_
            refine ns_i (k := 3) (nr_V (As := [.int (nI ln), .int (nI 1)]) (rest := [.ref (a 7)]) hx hb hml hown hts (M_of l G q a wd all kept hist hlo snap tk bits reg ex text tl sp read rm nu deep src ln 1 (by omega)) nPs.blind 2 q1049 q1051 qs21 q53 q1052 (by decide +kernel) ⟨⟨Nat.le_of_ble_eq_true rfl, Nat.le_of_ble_eq_true rfl⟩, Nat.le_of_ble_eq_true rfl, Nat.le_of_ble_eq_true rfl⟩ (r_recv hG Z.w 0 (C := "ShareStreamsModel") rfl rfl rfl) (nPs_of hG Z Z.w) rfl hl.1 rfl (Nat.le_of_ble_eq_true rfl) dX2_findsExact_29) (fun r29 hp29 => ?_)
            have he29 := hp29
            have he29 : r29 = all (2 + 4 * ln + 1) := he29
            subst he29
            refine r_as (z := nI (nm (mF all) ln 1)) e1 ?_
            refine r_iald hx hb hG Z.w 8 rfl (j := nm (mF all) ln 1) (by omega) (by decide) (v := nI (exN (mF all) (nm (mF all) ln 1))) x1 dX2_findsExact_32 ?_
            refine lv_i2l (v := lN (exN (mF all) (nm (mF all) ln 1))) hx hb dX2_findsExact_33 (nI_l (by omega)) ?_
            refine lv_lstore (lv' := [(4, .long (lN (exN (mF all) (nm (mF all) ln 1)))), (3, .int (nI 4)), (2, .int (nI ln)), (0, .ref q), (1, .int (nI j))]) hx hb dX2_findsExact_34 hl (by decide) rfl (fun ls hl => ?_)
            refine lv_iload_n hx hb dX2_findsExact_36 rfl (lv_at hl 1 rfl) ?_
            refine lv_i2l (v := lN 4) hx hb dX2_findsExact_37 (nI_l (by decide)) ?_
            refine lv_lconst (v := lN 1) hx hb dX2_findsExact_38 rfl ?_
            refine lv_ldc2 hx hb hown (hts _ q1154) dX2_findsExact_39 ?_
            refine r_asl (z := lN 4) rfl ?_
            refine ns_i (k := 3) (nr_S (As := [.long (lN 4), .long (lN 1), .long (lN 4)]) (rest := []) hx hb hml hown hts (M_in l G (lN 4) (lN 1) (lN 4)) nPs.blind 3 q999 q1000 q53 q1001 (by decide +kernel) ⟨⟨Nat.le_of_ble_eq_true rfl, Nat.le_of_ble_eq_true rfl⟩, Nat.le_of_ble_eq_true rfl, Nat.le_of_ble_eq_true rfl⟩ (nPs_of hG Z (fun k q h => by simp at h)) rfl hl.1 rfl (Nat.le_of_ble_eq_true rfl) dX2_findsExact_42) (fun r42 hp42 => ?_)
            have he42 := hp42
            have he42 : r42 = bI (inL (lN 4) (lN 1) (lN 4)) := he42
            subst he42
            refine r_as (z := bI true) (by decide) ?_
            refine lv_if_eq (tgt := 63) hx hb dX2_findsExact_45 (by decide) (fun c45 => ?_) (fun c45 => ?_)
            · skip
              exact absurd c45 (by decide)
            · skip
              have c45 := bI_t c45
              refine lv_aload_n hx hb dX2_findsExact_48 rfl (lv_at hl 3 rfl) ?_
              refine r_get (v := .ref (a 7)) hx hb hts in_X2 hown hG Z.w 0 rfl rfl 9 (by decide) q947 (fun _ h9 => h9) rfl dX2_findsExact_49 ?_
              refine lv_aload_n hx hb dX2_findsExact_52 rfl (lv_at hl 3 rfl) ?_
              refine lv_iload_n hx hb dX2_findsExact_53 rfl (lv_at hl 2 rfl) ?_
              refine lv_iconst (v := nI 2) hx hb dX2_findsExact_54 rfl ?_
              refine ns_i (k := 3) (nr_V (As := [.int (nI ln), .int (nI 2)]) (rest := [.ref (a 7)]) hx hb hml hown hts (M_of l G q a wd all kept hist hlo snap tk bits reg ex text tl sp read rm nu deep src ln 2 (by omega)) nPs.blind 2 q1049 q1051 qs21 q53 q1052 (by decide +kernel) ⟨⟨Nat.le_of_ble_eq_true rfl, Nat.le_of_ble_eq_true rfl⟩, Nat.le_of_ble_eq_true rfl, Nat.le_of_ble_eq_true rfl⟩ (r_recv hG Z.w 0 (C := "ShareStreamsModel") rfl rfl rfl) (nPs_of hG Z Z.w) rfl hl.1 rfl (Nat.le_of_ble_eq_true rfl) dX2_findsExact_55) (fun r55 hp55 => ?_)
              have he55 := hp55
              have he55 : r55 = all (2 + 4 * ln + 2) := he55
              subst he55
              refine r_as (z := nI (nm (mF all) ln 2)) e2 ?_
              refine r_iald hx hb hG Z.w 8 rfl (j := nm (mF all) ln 2) (by omega) (by decide) (v := nI (exN (mF all) (nm (mF all) ln 2))) x2 dX2_findsExact_58 ?_
              refine lv_i2l (v := lN (exN (mF all) (nm (mF all) ln 2))) hx hb dX2_findsExact_59 (nI_l (by omega)) ?_
              refine lv_goto (tgt := 64) hx hb dX2_findsExact_60 (by decide) ?_
              refine lv_lstore (lv' := [(6, .long (lN (exN (mF all) (nm (mF all) ln 2)))), (4, .long (lN (exN (mF all) (nm (mF all) ln 1)))), (3, .int (nI 4)), (2, .int (nI ln)), (0, .ref q), (1, .int (nI j))]) hx hb dX2_findsExact_64 hl (by decide) rfl (fun ls hl => ?_)
              refine lv_lload hx hb dX2_findsExact_66 (lv_at hl 1 rfl) ?_
              refine lv_lload hx hb dX2_findsExact_68 (lv_at hl 0 rfl) ?_
              refine lv_lmul hx hb dX2_findsExact_70 ?_
              refine r_asl (z := lN ((exN (mF all) (nm (mF all) ln 1)) * (exN (mF all) (nm (mF all) ln 2)))) (lN_mul _ _) ?_
              refine lv_ldc2 hx hb hown (hts _ q1155) dX2_findsExact_71 ?_
              refine r_asl (z := lN 65536) rfl ?_
              refine lv_ldiv hx hb dX2_findsExact_74 (by decide) ?_
              refine r_asl (z := lN (((exN (mF all) (nm (mF all) ln 1)) * (exN (mF all) (nm (mF all) ln 2))) / 65536)) (pk_lDiv (by omega) (by decide) (by decide)) ?_
              refine lv_lstore (lv' := [(8, .long (lN (((exN (mF all) (nm (mF all) ln 1)) * (exN (mF all) (nm (mF all) ln 2))) / 65536))), (6, .long (lN (exN (mF all) (nm (mF all) ln 2)))), (4, .long (lN (exN (mF all) (nm (mF all) ln 1)))), (3, .int (nI 4)), (2, .int (nI ln)), (0, .ref q), (1, .int (nI j))]) hx hb dX2_findsExact_75 hl (by decide) rfl (fun ls hl => ?_)
              refine lv_iload_n hx hb dX2_findsExact_77 rfl (lv_at hl 3 rfl) ?_
              refine lv_iconst (v := nI 4) hx hb dX2_findsExact_78 rfl ?_
              refine lv_icmp_ne (tgt := 97) hx hb dX2_findsExact_79 (by decide) (fun c79 => ?_) (fun c79 => ?_)
              · skip
                exact absurd c79 (by decide)
              · skip
                have c79 := n_eq_t (a := 4) (b := 4) c79 (by decide) (by decide)
                refine lv_aload_n hx hb dX2_findsExact_82 rfl (lv_at hl 5 rfl) ?_
                refine r_get (v := .ref (a 7)) hx hb hts in_X2 hown hG Z.w 0 rfl rfl 9 (by decide) q947 (fun _ h9 => h9) rfl dX2_findsExact_83 ?_
                refine lv_aload_n hx hb dX2_findsExact_86 rfl (lv_at hl 5 rfl) ?_
                refine lv_iload_n hx hb dX2_findsExact_87 rfl (lv_at hl 4 rfl) ?_
                refine lv_iconst (v := nI 3) hx hb dX2_findsExact_88 rfl ?_
                refine ns_i (k := 3) (nr_V (As := [.int (nI ln), .int (nI 3)]) (rest := [.ref (a 7)]) hx hb hml hown hts (M_of l G q a wd all kept hist hlo snap tk bits reg ex text tl sp read rm nu deep src ln 3 (by omega)) nPs.blind 2 q1049 q1051 qs21 q53 q1052 (by decide +kernel) ⟨⟨Nat.le_of_ble_eq_true rfl, Nat.le_of_ble_eq_true rfl⟩, Nat.le_of_ble_eq_true rfl, Nat.le_of_ble_eq_true rfl⟩ (r_recv hG Z.w 0 (C := "ShareStreamsModel") rfl rfl rfl) (nPs_of hG Z Z.w) rfl hl.1 rfl (Nat.le_of_ble_eq_true rfl) dX2_findsExact_89) (fun r89 hp89 => ?_)
                have he89 := hp89
                have he89 : r89 = all (2 + 4 * ln + 3) := he89
                subst he89
                refine r_as (z := nI (nm (mF all) ln 3)) e3 ?_
                refine r_iald hx hb hG Z.w 8 rfl (j := nm (mF all) ln 3) (by omega) (by decide) (v := nI (exN (mF all) (nm (mF all) ln 3))) x3 dX2_findsExact_92 ?_
                refine lv_i2l (v := lN (exN (mF all) (nm (mF all) ln 3))) hx hb dX2_findsExact_93 (nI_l (by omega)) ?_
                refine lv_goto (tgt := 98) hx hb dX2_findsExact_94 (by decide) ?_
                refine lv_lstore (lv' := [(10, .long (lN (exN (mF all) (nm (mF all) ln 3)))), (8, .long (lN (((exN (mF all) (nm (mF all) ln 1)) * (exN (mF all) (nm (mF all) ln 2))) / 65536))), (6, .long (lN (exN (mF all) (nm (mF all) ln 2)))), (4, .long (lN (exN (mF all) (nm (mF all) ln 1)))), (3, .int (nI 4)), (2, .int (nI ln)), (0, .ref q), (1, .int (nI j))]) hx hb dX2_findsExact_98 hl (by decide) rfl (fun ls hl => ?_)
                refine lv_iload_n hx hb dX2_findsExact_100 rfl (lv_at hl 4 rfl) ?_
                refine lv_iconst (v := nI 1) hx hb dX2_findsExact_101 rfl ?_
                refine lv_icmp_ne (tgt := 110) hx hb dX2_findsExact_102 (by decide) (fun c102 => ?_) (fun c102 => ?_)
                · skip
                  have c102 := n_eq_f (a := 4) (b := 1) c102
                  refine lv_iload_n hx hb dX2_findsExact_110 rfl (lv_at hl 4 rfl) ?_
                  refine lv_iconst (v := nI 2) hx hb dX2_findsExact_111 rfl ?_
                  refine lv_icmp_ne (tgt := 126) hx hb dX2_findsExact_112 (by decide) (fun c112 => ?_) (fun c112 => ?_)
                  · skip
                    have c112 := n_eq_f (a := 4) (b := 2) c112
                    refine lv_iload_n hx hb dX2_findsExact_126 rfl (lv_at hl 4 rfl) ?_
                    refine lv_iconst (v := nI 3) hx hb dX2_findsExact_127 rfl ?_
                    refine lv_icmp_ne (tgt := 146) hx hb dX2_findsExact_128 (by decide) (fun c128 => ?_) (fun c128 => ?_)
                    · skip
                      have c128 := n_eq_f (a := 4) (b := 3) c128
                      refine lv_iload_n hx hb dX2_findsExact_146 rfl (lv_at hl 4 rfl) ?_
                      refine lv_iconst (v := nI 5) hx hb dX2_findsExact_147 rfl ?_
                      refine lv_icmp_ne (tgt := 160) hx hb dX2_findsExact_148 (by decide) (fun c148 => ?_) (fun c148 => ?_)
                      · skip
                        have c148 := n_eq_f (a := 4) (b := 5) c148
                        refine lv_lload hx hb dX2_findsExact_160 (lv_at hl 3 rfl) ?_
                        refine lv_lstore (lv' := [(12, .long (lN (exN (mF all) (nm (mF all) ln 1)))), (10, .long (lN (exN (mF all) (nm (mF all) ln 3)))), (8, .long (lN (((exN (mF all) (nm (mF all) ln 1)) * (exN (mF all) (nm (mF all) ln 2))) / 65536))), (6, .long (lN (exN (mF all) (nm (mF all) ln 2)))), (4, .long (lN (exN (mF all) (nm (mF all) ln 1)))), (3, .int (nI 4)), (2, .int (nI ln)), (0, .ref q), (1, .int (nI j))]) hx hb dX2_findsExact_162 hl (by decide) rfl (fun ls hl => ?_)
                        refine lv_iload_n hx hb dX2_findsExact_164 rfl (lv_at hl 5 rfl) ?_
                        refine lv_if_ne (tgt := 182) hx hb dX2_findsExact_165 (by decide) (fun c165 => ?_) (fun c165 => ?_)
                        · skip
                          have c165 := n_eq_f (a := 4) (b := 0) c165
                          refine lv_iload_n hx hb dX2_findsExact_182 rfl (lv_at hl 5 rfl) ?_
                          refine lv_iconst (v := nI 4) hx hb dX2_findsExact_183 rfl ?_
                          refine lv_icmp_ne (tgt := 209) hx hb dX2_findsExact_184 (by decide) (fun c184 => ?_) (fun c184 => ?_)
                          · skip
                            exact absurd c184 (by decide)
                          · skip
                            have c184 := n_eq_t (a := 4) (b := 4) c184 (by decide) (by decide)
                            refine lv_lload hx hb dX2_findsExact_187 (lv_at hl 4 rfl) ?_
                            refine lv_lload hx hb dX2_findsExact_189 (lv_at hl 1 rfl) ?_
                            refine lv_lmul hx hb dX2_findsExact_191 ?_
                            refine r_asl (z := lN ((exN (mF all) (nm (mF all) ln 1)) * (exN (mF all) (nm (mF all) ln 3)))) (lN_mul _ _) ?_
                            refine lv_lload hx hb dX2_findsExact_192 (lv_at hl 3 rfl) ?_
                            refine lv_ldc2 hx hb hown (hts _ q1155) dX2_findsExact_194 ?_
                            refine r_asl (z := lN 65536) rfl ?_
                            refine lv_lload hx hb dX2_findsExact_197 (lv_at hl 1 rfl) ?_
                            refine lv_lsub hx hb dX2_findsExact_199 ?_
                            refine r_asl (z := lN (65536 - (exN (mF all) (nm (mF all) ln 3)))) (lN_sub (by omega)) ?_
                            refine lv_lmul hx hb dX2_findsExact_200 ?_
                            refine r_asl (z := lN ((exN (mF all) (nm (mF all) ln 2)) * (65536 - (exN (mF all) (nm (mF all) ln 3))))) (lN_mul _ _) ?_
                            refine lv_ladd hx hb dX2_findsExact_201 ?_
                            refine r_asl (z := lN ((exN (mF all) (nm (mF all) ln 1)) * (exN (mF all) (nm (mF all) ln 3)) + ((exN (mF all) (nm (mF all) ln 2)) * (65536 - (exN (mF all) (nm (mF all) ln 3)))))) (lN_add _ _) ?_
                            refine lv_ldc2 hx hb hown (hts _ q1155) dX2_findsExact_202 ?_
                            refine r_asl (z := lN 65536) rfl ?_
                            refine lv_ldiv hx hb dX2_findsExact_205 (by decide) ?_
                            refine r_asl (z := lN (((exN (mF all) (nm (mF all) ln 1)) * (exN (mF all) (nm (mF all) ln 3)) + ((exN (mF all) (nm (mF all) ln 2)) * (65536 - (exN (mF all) (nm (mF all) ln 3))))) / 65536)) (pk_lDiv (by omega) (by decide) (by decide)) ?_
                            refine lv_goto (tgt := 211) hx hb dX2_findsExact_206 (by decide) ?_
                            refine lv_lstore (lv' := [(12, .long (lN (((exN (mF all) (nm (mF all) ln 1)) * (exN (mF all) (nm (mF all) ln 3)) + ((exN (mF all) (nm (mF all) ln 2)) * (65536 - (exN (mF all) (nm (mF all) ln 3))))) / 65536))), (10, .long (lN (exN (mF all) (nm (mF all) ln 3)))), (8, .long (lN (((exN (mF all) (nm (mF all) ln 1)) * (exN (mF all) (nm (mF all) ln 2))) / 65536))), (6, .long (lN (exN (mF all) (nm (mF all) ln 2)))), (4, .long (lN (exN (mF all) (nm (mF all) ln 1)))), (3, .int (nI 4)), (2, .int (nI ln)), (0, .ref q), (1, .int (nI j))]) hx hb dX2_findsExact_211 hl (by decide) rfl (fun ls hl => ?_)
                            refine lv_aload_n hx hb dX2_findsExact_213 rfl (lv_at hl 7 rfl) ?_
                            refine r_get (v := .ref (a 7)) hx hb hts in_X2 hown hG Z.w 0 rfl rfl 9 (by decide) q947 (fun _ h9 => h9) rfl dX2_findsExact_214 ?_
                            refine lv_iload_n hx hb dX2_findsExact_217 rfl (lv_at hl 6 rfl) ?_
                            refine lv_lload hx hb dX2_findsExact_218 (lv_at hl 0 rfl) ?_
                            refine lv_l2i (v := nI (((exN (mF all) (nm (mF all) ln 1)) * (exN (mF all) (nm (mF all) ln 3)) + ((exN (mF all) (nm (mF all) ln 2)) * (65536 - (exN (mF all) (nm (mF all) ln 3))))) / 65536)) hx hb dX2_findsExact_220 (lN_i _) ?_
                            refine r_iast hx hb hG Z 8 rfl (j := ln) (by omega) (by decide) (wc' := mW G q a wd all kept hist hlo snap tk bits reg (upd ex ln (nI (((exN (mF all) (nm (mF all) ln 1)) * (exN (mF all) (nm (mF all) ln 3)) + ((exN (mF all) (nm (mF all) ln 2)) * (65536 - (exN (mF all) (nm (mF all) ln 3))))) / 65536))) text tl sp read rm nu deep src) rfl dX2_findsExact_221 (fun H locs Z => ?_)
                            refine lv_iinc (v := nI (ln + 1)) (lv' := [(2, .int (nI (ln + 1))), (12, .long (lN (((exN (mF all) (nm (mF all) ln 1)) * (exN (mF all) (nm (mF all) ln 3)) + ((exN (mF all) (nm (mF all) ln 2)) * (65536 - (exN (mF all) (nm (mF all) ln 3))))) / 65536))), (10, .long (lN (exN (mF all) (nm (mF all) ln 3)))), (8, .long (lN (((exN (mF all) (nm (mF all) ln 1)) * (exN (mF all) (nm (mF all) ln 2))) / 65536))), (6, .long (lN (exN (mF all) (nm (mF all) ln 2)))), (4, .long (lN (exN (mF all) (nm (mF all) ln 1)))), (3, .int (nI 4)), (0, .ref q), (1, .int (nI j))]) hx hb dX2_findsExact_222 hl (k := 6) rfl (nI_add _ _) (by decide) rfl (fun ls hl => ?_)
                            refine lv_goto (tgt := 2) hx hb dX2_findsExact_225 (by decide) ?_
                            exact ih_L2 (ln + 1) (upd ex ln (nI (((exN (mF all) (nm (mF all) ln 1)) * (exN (mF all) (nm (mF all) ln 3)) + ((exN (mF all) (nm (mF all) ln 2)) * (65536 - (exN (mF all) (nm (mF all) ln 3))))) / 65536))) (by omega) (by first | (intro k hk; omega) | exact exl_s g2 (congrArg nI (by rw [ee]; simp))) (by omega) _ _ Z _ (lv_sub hl [0, 7, 8] rfl)
                        · skip
                          exact absurd c165 (by decide)
                      · skip
                        exact absurd c148 (by decide)
                    · skip
                      exact absurd c128 (by decide)
                  · skip
                    exact absurd c112 (by decide)
                · skip
                  exact absurd c102 (by decide)
          · skip
            exact absurd c15 (by decide)
        · skip
          have hx1 := ok ln hln
          obtain ⟨⟨od, ol⟩, s0, o1, o2, o3, o6, -⟩ := hx1
          have e1 : all (2 + 4 * ln + 1) = nI (nm (mF all) ln 1) := (o1 (by omega)).1
          have p1 := (o1 (by omega)).2
          have b1 := ex_le ok (Nat.lt_trans p1 hln)
          have x1 := g2 _ p1
          have ee := exN_eq ok hln
          unfold eStep at ee
          simp only [z] at ee
          refine r_as (z := nI 5) (od.trans (congrArg nI z)) ?_
          refine lv_istore_n (lv' := [(3, .int (nI 5)), (2, .int (nI ln)), (0, .ref q), (1, .int (nI j))]) hx hb dX2_findsExact_13 rfl hl (by decide) rfl (fun ls hl => ?_)
          refine lv_iload_n hx hb dX2_findsExact_14 rfl (lv_at hl 0 rfl) ?_
          refine lv_if_ne (tgt := 22) hx hb dX2_findsExact_15 (by decide) (fun c15 => ?_) (fun c15 => ?_)
          · skip
            have c15 := n_eq_f (a := 5) (b := 0) c15
            refine lv_aload_n hx hb dX2_findsExact_22 rfl (lv_at hl 2 rfl) ?_
            refine r_get (v := .ref (a 7)) hx hb hts in_X2 hown hG Z.w 0 rfl rfl 9 (by decide) q947 (fun _ h9 => h9) rfl dX2_findsExact_23 ?_
            refine lv_aload_n hx hb dX2_findsExact_26 rfl (lv_at hl 2 rfl) ?_
            refine lv_iload_n hx hb dX2_findsExact_27 rfl (lv_at hl 1 rfl) ?_
            refine lv_iconst (v := nI 1) hx hb dX2_findsExact_28 rfl ?_
            refine ns_i (k := 3) (nr_V (As := [.int (nI ln), .int (nI 1)]) (rest := [.ref (a 7)]) hx hb hml hown hts (M_of l G q a wd all kept hist hlo snap tk bits reg ex text tl sp read rm nu deep src ln 1 (by omega)) nPs.blind 2 q1049 q1051 qs21 q53 q1052 (by decide +kernel) ⟨⟨Nat.le_of_ble_eq_true rfl, Nat.le_of_ble_eq_true rfl⟩, Nat.le_of_ble_eq_true rfl, Nat.le_of_ble_eq_true rfl⟩ (r_recv hG Z.w 0 (C := "ShareStreamsModel") rfl rfl rfl) (nPs_of hG Z Z.w) rfl hl.1 rfl (Nat.le_of_ble_eq_true rfl) dX2_findsExact_29) (fun r29 hp29 => ?_)
            have he29 := hp29
            have he29 : r29 = all (2 + 4 * ln + 1) := he29
            subst he29
            refine r_as (z := nI (nm (mF all) ln 1)) e1 ?_
            refine r_iald hx hb hG Z.w 8 rfl (j := nm (mF all) ln 1) (by omega) (by decide) (v := nI (exN (mF all) (nm (mF all) ln 1))) x1 dX2_findsExact_32 ?_
            refine lv_i2l (v := lN (exN (mF all) (nm (mF all) ln 1))) hx hb dX2_findsExact_33 (nI_l (by omega)) ?_
            refine lv_lstore (lv' := [(4, .long (lN (exN (mF all) (nm (mF all) ln 1)))), (3, .int (nI 5)), (2, .int (nI ln)), (0, .ref q), (1, .int (nI j))]) hx hb dX2_findsExact_34 hl (by decide) rfl (fun ls hl => ?_)
            refine lv_iload_n hx hb dX2_findsExact_36 rfl (lv_at hl 1 rfl) ?_
            refine lv_i2l (v := lN 5) hx hb dX2_findsExact_37 (nI_l (by decide)) ?_
            refine lv_lconst (v := lN 1) hx hb dX2_findsExact_38 rfl ?_
            refine lv_ldc2 hx hb hown (hts _ q1154) dX2_findsExact_39 ?_
            refine r_asl (z := lN 4) rfl ?_
            refine ns_i (k := 3) (nr_S (As := [.long (lN 5), .long (lN 1), .long (lN 4)]) (rest := []) hx hb hml hown hts (M_in l G (lN 5) (lN 1) (lN 4)) nPs.blind 3 q999 q1000 q53 q1001 (by decide +kernel) ⟨⟨Nat.le_of_ble_eq_true rfl, Nat.le_of_ble_eq_true rfl⟩, Nat.le_of_ble_eq_true rfl, Nat.le_of_ble_eq_true rfl⟩ (nPs_of hG Z (fun k q h => by simp at h)) rfl hl.1 rfl (Nat.le_of_ble_eq_true rfl) dX2_findsExact_42) (fun r42 hp42 => ?_)
            have he42 := hp42
            have he42 : r42 = bI (inL (lN 5) (lN 1) (lN 4)) := he42
            subst he42
            refine r_as (z := bI false) (by decide) ?_
            refine lv_if_eq (tgt := 63) hx hb dX2_findsExact_45 (by decide) (fun c45 => ?_) (fun c45 => ?_)
            · skip
              have c45 := bI_f c45
              refine lv_lconst (v := lN 0) hx hb dX2_findsExact_63 rfl ?_
              refine lv_lstore (lv' := [(6, .long (lN 0)), (4, .long (lN (exN (mF all) (nm (mF all) ln 1)))), (3, .int (nI 5)), (2, .int (nI ln)), (0, .ref q), (1, .int (nI j))]) hx hb dX2_findsExact_64 hl (by decide) rfl (fun ls hl => ?_)
              refine lv_lload hx hb dX2_findsExact_66 (lv_at hl 1 rfl) ?_
              refine lv_lload hx hb dX2_findsExact_68 (lv_at hl 0 rfl) ?_
              refine lv_lmul hx hb dX2_findsExact_70 ?_
              refine r_asl (z := lN ((exN (mF all) (nm (mF all) ln 1)) * 0)) (lN_mul _ _) ?_
              refine lv_ldc2 hx hb hown (hts _ q1155) dX2_findsExact_71 ?_
              refine r_asl (z := lN 65536) rfl ?_
              refine lv_ldiv hx hb dX2_findsExact_74 (by decide) ?_
              refine r_asl (z := lN (((exN (mF all) (nm (mF all) ln 1)) * 0) / 65536)) (pk_lDiv (by omega) (by decide) (by decide)) ?_
              refine lv_lstore (lv' := [(8, .long (lN (((exN (mF all) (nm (mF all) ln 1)) * 0) / 65536))), (6, .long (lN 0)), (4, .long (lN (exN (mF all) (nm (mF all) ln 1)))), (3, .int (nI 5)), (2, .int (nI ln)), (0, .ref q), (1, .int (nI j))]) hx hb dX2_findsExact_75 hl (by decide) rfl (fun ls hl => ?_)
              refine lv_iload_n hx hb dX2_findsExact_77 rfl (lv_at hl 3 rfl) ?_
              refine lv_iconst (v := nI 4) hx hb dX2_findsExact_78 rfl ?_
              refine lv_icmp_ne (tgt := 97) hx hb dX2_findsExact_79 (by decide) (fun c79 => ?_) (fun c79 => ?_)
              · skip
                have c79 := n_eq_f (a := 5) (b := 4) c79
                refine lv_lconst (v := lN 0) hx hb dX2_findsExact_97 rfl ?_
                refine lv_lstore (lv' := [(10, .long (lN 0)), (8, .long (lN (((exN (mF all) (nm (mF all) ln 1)) * 0) / 65536))), (6, .long (lN 0)), (4, .long (lN (exN (mF all) (nm (mF all) ln 1)))), (3, .int (nI 5)), (2, .int (nI ln)), (0, .ref q), (1, .int (nI j))]) hx hb dX2_findsExact_98 hl (by decide) rfl (fun ls hl => ?_)
                refine lv_iload_n hx hb dX2_findsExact_100 rfl (lv_at hl 4 rfl) ?_
                refine lv_iconst (v := nI 1) hx hb dX2_findsExact_101 rfl ?_
                refine lv_icmp_ne (tgt := 110) hx hb dX2_findsExact_102 (by decide) (fun c102 => ?_) (fun c102 => ?_)
                · skip
                  have c102 := n_eq_f (a := 5) (b := 1) c102
                  refine lv_iload_n hx hb dX2_findsExact_110 rfl (lv_at hl 4 rfl) ?_
                  refine lv_iconst (v := nI 2) hx hb dX2_findsExact_111 rfl ?_
                  refine lv_icmp_ne (tgt := 126) hx hb dX2_findsExact_112 (by decide) (fun c112 => ?_) (fun c112 => ?_)
                  · skip
                    have c112 := n_eq_f (a := 5) (b := 2) c112
                    refine lv_iload_n hx hb dX2_findsExact_126 rfl (lv_at hl 4 rfl) ?_
                    refine lv_iconst (v := nI 3) hx hb dX2_findsExact_127 rfl ?_
                    refine lv_icmp_ne (tgt := 146) hx hb dX2_findsExact_128 (by decide) (fun c128 => ?_) (fun c128 => ?_)
                    · skip
                      have c128 := n_eq_f (a := 5) (b := 3) c128
                      refine lv_iload_n hx hb dX2_findsExact_146 rfl (lv_at hl 4 rfl) ?_
                      refine lv_iconst (v := nI 5) hx hb dX2_findsExact_147 rfl ?_
                      refine lv_icmp_ne (tgt := 160) hx hb dX2_findsExact_148 (by decide) (fun c148 => ?_) (fun c148 => ?_)
                      · skip
                        exact absurd c148 (by decide)
                      · skip
                        have c148 := n_eq_t (a := 5) (b := 5) c148 (by decide) (by decide)
                        refine lv_ldc2 hx hb hown (hts _ q1155) dX2_findsExact_151 ?_
                        refine r_asl (z := lN 65536) rfl ?_
                        refine lv_lload hx hb dX2_findsExact_154 (lv_at hl 3 rfl) ?_
                        refine lv_lsub hx hb dX2_findsExact_156 ?_
                        refine r_asl (z := lN (65536 - (exN (mF all) (nm (mF all) ln 1)))) (lN_sub (by omega)) ?_
                        refine lv_goto (tgt := 162) hx hb dX2_findsExact_157 (by decide) ?_
                        refine lv_lstore (lv' := [(12, .long (lN (65536 - (exN (mF all) (nm (mF all) ln 1))))), (10, .long (lN 0)), (8, .long (lN (((exN (mF all) (nm (mF all) ln 1)) * 0) / 65536))), (6, .long (lN 0)), (4, .long (lN (exN (mF all) (nm (mF all) ln 1)))), (3, .int (nI 5)), (2, .int (nI ln)), (0, .ref q), (1, .int (nI j))]) hx hb dX2_findsExact_162 hl (by decide) rfl (fun ls hl => ?_)
                        refine lv_iload_n hx hb dX2_findsExact_164 rfl (lv_at hl 5 rfl) ?_
                        refine lv_if_ne (tgt := 182) hx hb dX2_findsExact_165 (by decide) (fun c165 => ?_) (fun c165 => ?_)
                        · skip
                          have c165 := n_eq_f (a := 5) (b := 0) c165
                          refine lv_iload_n hx hb dX2_findsExact_182 rfl (lv_at hl 5 rfl) ?_
                          refine lv_iconst (v := nI 4) hx hb dX2_findsExact_183 rfl ?_
                          refine lv_icmp_ne (tgt := 209) hx hb dX2_findsExact_184 (by decide) (fun c184 => ?_) (fun c184 => ?_)
                          · skip
                            have c184 := n_eq_f (a := 5) (b := 4) c184
                            refine lv_lload hx hb dX2_findsExact_209 (lv_at hl 0 rfl) ?_
                            refine lv_lstore (lv' := [(12, .long (lN (65536 - (exN (mF all) (nm (mF all) ln 1))))), (10, .long (lN 0)), (8, .long (lN (((exN (mF all) (nm (mF all) ln 1)) * 0) / 65536))), (6, .long (lN 0)), (4, .long (lN (exN (mF all) (nm (mF all) ln 1)))), (3, .int (nI 5)), (2, .int (nI ln)), (0, .ref q), (1, .int (nI j))]) hx hb dX2_findsExact_211 hl (by decide) rfl (fun ls hl => ?_)
                            refine lv_aload_n hx hb dX2_findsExact_213 rfl (lv_at hl 7 rfl) ?_
                            refine r_get (v := .ref (a 7)) hx hb hts in_X2 hown hG Z.w 0 rfl rfl 9 (by decide) q947 (fun _ h9 => h9) rfl dX2_findsExact_214 ?_
                            refine lv_iload_n hx hb dX2_findsExact_217 rfl (lv_at hl 6 rfl) ?_
                            refine lv_lload hx hb dX2_findsExact_218 (lv_at hl 0 rfl) ?_
                            refine lv_l2i (v := nI (65536 - (exN (mF all) (nm (mF all) ln 1)))) hx hb dX2_findsExact_220 (lN_i _) ?_
                            refine r_iast hx hb hG Z 8 rfl (j := ln) (by omega) (by decide) (wc' := mW G q a wd all kept hist hlo snap tk bits reg (upd ex ln (nI (65536 - (exN (mF all) (nm (mF all) ln 1))))) text tl sp read rm nu deep src) rfl dX2_findsExact_221 (fun H locs Z => ?_)
                            refine lv_iinc (v := nI (ln + 1)) (lv' := [(2, .int (nI (ln + 1))), (12, .long (lN (65536 - (exN (mF all) (nm (mF all) ln 1))))), (10, .long (lN 0)), (8, .long (lN (((exN (mF all) (nm (mF all) ln 1)) * 0) / 65536))), (6, .long (lN 0)), (4, .long (lN (exN (mF all) (nm (mF all) ln 1)))), (3, .int (nI 5)), (0, .ref q), (1, .int (nI j))]) hx hb dX2_findsExact_222 hl (k := 6) rfl (nI_add _ _) (by decide) rfl (fun ls hl => ?_)
                            refine lv_goto (tgt := 2) hx hb dX2_findsExact_225 (by decide) ?_
                            exact ih_L2 (ln + 1) (upd ex ln (nI (65536 - (exN (mF all) (nm (mF all) ln 1))))) (by omega) (by first | (intro k hk; omega) | exact exl_s g2 (congrArg nI (by rw [ee]; simp))) (by omega) _ _ Z _ (lv_sub hl [0, 7, 8] rfl)
                          · skip
                            exact absurd c184 (by decide)
                        · skip
                          exact absurd c165 (by decide)
                    · skip
                      exact absurd c128 (by decide)
                  · skip
                    exact absurd c112 (by decide)
                · skip
                  exact absurd c102 (by decide)
              · skip
                exact absurd c79 (by decide)
            · skip
              exact absurd c45 (by decide)
          · skip
            exact absurd c15 (by decide)
        · skip
          have hx1 := ok ln hln
          obtain ⟨⟨od, ol⟩, s0, o1, o2, o3, o6, -⟩ := hx1
          have e1 : all (2 + 4 * ln + 1) = nI (nm (mF all) ln 1) := (o1 (by omega)).1
          have p1 := (o1 (by omega)).2
          have b1 := ex_le ok (Nat.lt_trans p1 hln)
          have x1 := g2 _ p1
          have ee := exN_eq ok hln
          unfold eStep at ee
          simp only [z] at ee
          refine r_as (z := nI 6) (od.trans (congrArg nI z)) ?_
          refine lv_istore_n (lv' := [(3, .int (nI 6)), (2, .int (nI ln)), (0, .ref q), (1, .int (nI j))]) hx hb dX2_findsExact_13 rfl hl (by decide) rfl (fun ls hl => ?_)
          refine lv_iload_n hx hb dX2_findsExact_14 rfl (lv_at hl 0 rfl) ?_
          refine lv_if_ne (tgt := 22) hx hb dX2_findsExact_15 (by decide) (fun c15 => ?_) (fun c15 => ?_)
          · skip
            have c15 := n_eq_f (a := 6) (b := 0) c15
            refine lv_aload_n hx hb dX2_findsExact_22 rfl (lv_at hl 2 rfl) ?_
            refine r_get (v := .ref (a 7)) hx hb hts in_X2 hown hG Z.w 0 rfl rfl 9 (by decide) q947 (fun _ h9 => h9) rfl dX2_findsExact_23 ?_
            refine lv_aload_n hx hb dX2_findsExact_26 rfl (lv_at hl 2 rfl) ?_
            refine lv_iload_n hx hb dX2_findsExact_27 rfl (lv_at hl 1 rfl) ?_
            refine lv_iconst (v := nI 1) hx hb dX2_findsExact_28 rfl ?_
            refine ns_i (k := 3) (nr_V (As := [.int (nI ln), .int (nI 1)]) (rest := [.ref (a 7)]) hx hb hml hown hts (M_of l G q a wd all kept hist hlo snap tk bits reg ex text tl sp read rm nu deep src ln 1 (by omega)) nPs.blind 2 q1049 q1051 qs21 q53 q1052 (by decide +kernel) ⟨⟨Nat.le_of_ble_eq_true rfl, Nat.le_of_ble_eq_true rfl⟩, Nat.le_of_ble_eq_true rfl, Nat.le_of_ble_eq_true rfl⟩ (r_recv hG Z.w 0 (C := "ShareStreamsModel") rfl rfl rfl) (nPs_of hG Z Z.w) rfl hl.1 rfl (Nat.le_of_ble_eq_true rfl) dX2_findsExact_29) (fun r29 hp29 => ?_)
            have he29 := hp29
            have he29 : r29 = all (2 + 4 * ln + 1) := he29
            subst he29
            refine r_as (z := nI (nm (mF all) ln 1)) e1 ?_
            refine r_iald hx hb hG Z.w 8 rfl (j := nm (mF all) ln 1) (by omega) (by decide) (v := nI (exN (mF all) (nm (mF all) ln 1))) x1 dX2_findsExact_32 ?_
            refine lv_i2l (v := lN (exN (mF all) (nm (mF all) ln 1))) hx hb dX2_findsExact_33 (nI_l (by omega)) ?_
            refine lv_lstore (lv' := [(4, .long (lN (exN (mF all) (nm (mF all) ln 1)))), (3, .int (nI 6)), (2, .int (nI ln)), (0, .ref q), (1, .int (nI j))]) hx hb dX2_findsExact_34 hl (by decide) rfl (fun ls hl => ?_)
            refine lv_iload_n hx hb dX2_findsExact_36 rfl (lv_at hl 1 rfl) ?_
            refine lv_i2l (v := lN 6) hx hb dX2_findsExact_37 (nI_l (by decide)) ?_
            refine lv_lconst (v := lN 1) hx hb dX2_findsExact_38 rfl ?_
            refine lv_ldc2 hx hb hown (hts _ q1154) dX2_findsExact_39 ?_
            refine r_asl (z := lN 4) rfl ?_
            refine ns_i (k := 3) (nr_S (As := [.long (lN 6), .long (lN 1), .long (lN 4)]) (rest := []) hx hb hml hown hts (M_in l G (lN 6) (lN 1) (lN 4)) nPs.blind 3 q999 q1000 q53 q1001 (by decide +kernel) ⟨⟨Nat.le_of_ble_eq_true rfl, Nat.le_of_ble_eq_true rfl⟩, Nat.le_of_ble_eq_true rfl, Nat.le_of_ble_eq_true rfl⟩ (nPs_of hG Z (fun k q h => by simp at h)) rfl hl.1 rfl (Nat.le_of_ble_eq_true rfl) dX2_findsExact_42) (fun r42 hp42 => ?_)
            have he42 := hp42
            have he42 : r42 = bI (inL (lN 6) (lN 1) (lN 4)) := he42
            subst he42
            refine r_as (z := bI false) (by decide) ?_
            refine lv_if_eq (tgt := 63) hx hb dX2_findsExact_45 (by decide) (fun c45 => ?_) (fun c45 => ?_)
            · skip
              have c45 := bI_f c45
              refine lv_lconst (v := lN 0) hx hb dX2_findsExact_63 rfl ?_
              refine lv_lstore (lv' := [(6, .long (lN 0)), (4, .long (lN (exN (mF all) (nm (mF all) ln 1)))), (3, .int (nI 6)), (2, .int (nI ln)), (0, .ref q), (1, .int (nI j))]) hx hb dX2_findsExact_64 hl (by decide) rfl (fun ls hl => ?_)
              refine lv_lload hx hb dX2_findsExact_66 (lv_at hl 1 rfl) ?_
              refine lv_lload hx hb dX2_findsExact_68 (lv_at hl 0 rfl) ?_
              refine lv_lmul hx hb dX2_findsExact_70 ?_
              refine r_asl (z := lN ((exN (mF all) (nm (mF all) ln 1)) * 0)) (lN_mul _ _) ?_
              refine lv_ldc2 hx hb hown (hts _ q1155) dX2_findsExact_71 ?_
              refine r_asl (z := lN 65536) rfl ?_
              refine lv_ldiv hx hb dX2_findsExact_74 (by decide) ?_
              refine r_asl (z := lN (((exN (mF all) (nm (mF all) ln 1)) * 0) / 65536)) (pk_lDiv (by omega) (by decide) (by decide)) ?_
              refine lv_lstore (lv' := [(8, .long (lN (((exN (mF all) (nm (mF all) ln 1)) * 0) / 65536))), (6, .long (lN 0)), (4, .long (lN (exN (mF all) (nm (mF all) ln 1)))), (3, .int (nI 6)), (2, .int (nI ln)), (0, .ref q), (1, .int (nI j))]) hx hb dX2_findsExact_75 hl (by decide) rfl (fun ls hl => ?_)
              refine lv_iload_n hx hb dX2_findsExact_77 rfl (lv_at hl 3 rfl) ?_
              refine lv_iconst (v := nI 4) hx hb dX2_findsExact_78 rfl ?_
              refine lv_icmp_ne (tgt := 97) hx hb dX2_findsExact_79 (by decide) (fun c79 => ?_) (fun c79 => ?_)
              · skip
                have c79 := n_eq_f (a := 6) (b := 4) c79
                refine lv_lconst (v := lN 0) hx hb dX2_findsExact_97 rfl ?_
                refine lv_lstore (lv' := [(10, .long (lN 0)), (8, .long (lN (((exN (mF all) (nm (mF all) ln 1)) * 0) / 65536))), (6, .long (lN 0)), (4, .long (lN (exN (mF all) (nm (mF all) ln 1)))), (3, .int (nI 6)), (2, .int (nI ln)), (0, .ref q), (1, .int (nI j))]) hx hb dX2_findsExact_98 hl (by decide) rfl (fun ls hl => ?_)
                refine lv_iload_n hx hb dX2_findsExact_100 rfl (lv_at hl 4 rfl) ?_
                refine lv_iconst (v := nI 1) hx hb dX2_findsExact_101 rfl ?_
                refine lv_icmp_ne (tgt := 110) hx hb dX2_findsExact_102 (by decide) (fun c102 => ?_) (fun c102 => ?_)
                · skip
                  have c102 := n_eq_f (a := 6) (b := 1) c102
                  refine lv_iload_n hx hb dX2_findsExact_110 rfl (lv_at hl 4 rfl) ?_
                  refine lv_iconst (v := nI 2) hx hb dX2_findsExact_111 rfl ?_
                  refine lv_icmp_ne (tgt := 126) hx hb dX2_findsExact_112 (by decide) (fun c112 => ?_) (fun c112 => ?_)
                  · skip
                    have c112 := n_eq_f (a := 6) (b := 2) c112
                    refine lv_iload_n hx hb dX2_findsExact_126 rfl (lv_at hl 4 rfl) ?_
                    refine lv_iconst (v := nI 3) hx hb dX2_findsExact_127 rfl ?_
                    refine lv_icmp_ne (tgt := 146) hx hb dX2_findsExact_128 (by decide) (fun c128 => ?_) (fun c128 => ?_)
                    · skip
                      have c128 := n_eq_f (a := 6) (b := 3) c128
                      refine lv_iload_n hx hb dX2_findsExact_146 rfl (lv_at hl 4 rfl) ?_
                      refine lv_iconst (v := nI 5) hx hb dX2_findsExact_147 rfl ?_
                      refine lv_icmp_ne (tgt := 160) hx hb dX2_findsExact_148 (by decide) (fun c148 => ?_) (fun c148 => ?_)
                      · skip
                        have c148 := n_eq_f (a := 6) (b := 5) c148
                        refine lv_lload hx hb dX2_findsExact_160 (lv_at hl 3 rfl) ?_
                        refine lv_lstore (lv' := [(12, .long (lN (exN (mF all) (nm (mF all) ln 1)))), (10, .long (lN 0)), (8, .long (lN (((exN (mF all) (nm (mF all) ln 1)) * 0) / 65536))), (6, .long (lN 0)), (4, .long (lN (exN (mF all) (nm (mF all) ln 1)))), (3, .int (nI 6)), (2, .int (nI ln)), (0, .ref q), (1, .int (nI j))]) hx hb dX2_findsExact_162 hl (by decide) rfl (fun ls hl => ?_)
                        refine lv_iload_n hx hb dX2_findsExact_164 rfl (lv_at hl 5 rfl) ?_
                        refine lv_if_ne (tgt := 182) hx hb dX2_findsExact_165 (by decide) (fun c165 => ?_) (fun c165 => ?_)
                        · skip
                          have c165 := n_eq_f (a := 6) (b := 0) c165
                          refine lv_iload_n hx hb dX2_findsExact_182 rfl (lv_at hl 5 rfl) ?_
                          refine lv_iconst (v := nI 4) hx hb dX2_findsExact_183 rfl ?_
                          refine lv_icmp_ne (tgt := 209) hx hb dX2_findsExact_184 (by decide) (fun c184 => ?_) (fun c184 => ?_)
                          · skip
                            have c184 := n_eq_f (a := 6) (b := 4) c184
                            refine lv_lload hx hb dX2_findsExact_209 (lv_at hl 0 rfl) ?_
                            refine lv_lstore (lv' := [(12, .long (lN (exN (mF all) (nm (mF all) ln 1)))), (10, .long (lN 0)), (8, .long (lN (((exN (mF all) (nm (mF all) ln 1)) * 0) / 65536))), (6, .long (lN 0)), (4, .long (lN (exN (mF all) (nm (mF all) ln 1)))), (3, .int (nI 6)), (2, .int (nI ln)), (0, .ref q), (1, .int (nI j))]) hx hb dX2_findsExact_211 hl (by decide) rfl (fun ls hl => ?_)
                            refine lv_aload_n hx hb dX2_findsExact_213 rfl (lv_at hl 7 rfl) ?_
                            refine r_get (v := .ref (a 7)) hx hb hts in_X2 hown hG Z.w 0 rfl rfl 9 (by decide) q947 (fun _ h9 => h9) rfl dX2_findsExact_214 ?_
                            refine lv_iload_n hx hb dX2_findsExact_217 rfl (lv_at hl 6 rfl) ?_
                            refine lv_lload hx hb dX2_findsExact_218 (lv_at hl 0 rfl) ?_
                            refine lv_l2i (v := nI (exN (mF all) (nm (mF all) ln 1))) hx hb dX2_findsExact_220 (lN_i _) ?_
                            refine r_iast hx hb hG Z 8 rfl (j := ln) (by omega) (by decide) (wc' := mW G q a wd all kept hist hlo snap tk bits reg (upd ex ln (nI (exN (mF all) (nm (mF all) ln 1)))) text tl sp read rm nu deep src) rfl dX2_findsExact_221 (fun H locs Z => ?_)
                            refine lv_iinc (v := nI (ln + 1)) (lv' := [(2, .int (nI (ln + 1))), (12, .long (lN (exN (mF all) (nm (mF all) ln 1)))), (10, .long (lN 0)), (8, .long (lN (((exN (mF all) (nm (mF all) ln 1)) * 0) / 65536))), (6, .long (lN 0)), (4, .long (lN (exN (mF all) (nm (mF all) ln 1)))), (3, .int (nI 6)), (0, .ref q), (1, .int (nI j))]) hx hb dX2_findsExact_222 hl (k := 6) rfl (nI_add _ _) (by decide) rfl (fun ls hl => ?_)
                            refine lv_goto (tgt := 2) hx hb dX2_findsExact_225 (by decide) ?_
                            exact ih_L2 (ln + 1) (upd ex ln (nI (exN (mF all) (nm (mF all) ln 1)))) (by omega) (by first | (intro k hk; omega) | exact exl_s g2 (congrArg nI (by rw [ee]; simp))) (by omega) _ _ Z _ (lv_sub hl [0, 7, 8] rfl)
                          · skip
                            exact absurd c184 (by decide)
                        · skip
                          exact absurd c165 (by decide)
                      · skip
                        exact absurd c148 (by decide)
                    · skip
                      exact absurd c128 (by decide)
                  · skip
                    exact absurd c112 (by decide)
                · skip
                  exact absurd c102 (by decide)
              · skip
                exact absurd c79 (by decide)
            · skip
              exact absurd c45 (by decide)
          · skip
            exact absurd c15 (by decide)
  exact L2 _ 0 exa (by omega) (by first | (intro k hk; omega) | exact exl_s g2 (congrArg nI (by rw [ee]; simp))) (Nat.lt_succ_self _) _ _ Z _ (lv_sub hl [0, 1, 2] rfl)
set_option maxHeartbeats 4000000 in
set_option maxRecDepth 100000 in
theorem M_errorOf (l : Launch) (G : nG) (q : Nat) (a : Nat → Nat) (wd : Nat → Int64) (all : Nat → Int32) (kept : Nat → Int32) (hist : Nat → Int32) (hlo : Int32) (snap : Nat → Int32) (tk : Int32) (bits : Nat → Int32) (reg : Nat → Int32) (exa : Nat → Int32) (text : Nat → Int32) (tl : Int32) (sp : Int32) (read : Nat → Int32) (rm : Int32) (nu : Int32) (deep : Nat → Int32) (src : Nat → Int32) (n : Nat) (j : Nat) (T : Nat) (hn : n ≤ 16) (ok : ∀ k, k < n → lnOk (mF all) k) (h1 : j < n) (hT : T ≤ 1000) (h0 : 0 < T) : nMi (S := (Nat → Int32) × (Nat → Int32) × (Nat → Int32)) l yX2_errorOf cX2_errorOf 3 (.int) 3 0 0 70 G [.ref q, .int (nI j), .int (nI T)] (mW G q a wd all kept hist hlo snap tk bits reg exa text tl sp read rm nu deep src) ([]) (fun (u : (Nat → Int32) × (Nat → Int32) × (Nat → Int32)) => mW G q a wd all kept hist hlo snap tk u.1 u.2.1 u.2.2 text tl sp read rm nu deep src) (fun (r : Int32) (u : (Nat → Int32) × (Nat → Int32) × (Nat → Int32)) => r = (nI (errN (mF all) j T))) := by
  refine nMi.of (own := "ShareStreamsModel") rfl (by decide +kernel) (Nat.le_of_ble_eq_true rfl) (fun _ _ _ => rfl) ?_
  intro p e s m args below meth c A Q ls hx hb hml hown hts hin hG Z hl ret
  have hl : lv_has ls 3 [(0, .ref q), (1, .int (nI j)), (2, .int (nI T))] := hl
  have Z : nW G A (mW G q a wd all kept hist hlo snap tk bits reg exa text tl sp read rm nu deep src) ([]) ([]) s.heap _ _ := Z
  refine lv_aload_n hx hb dX2_errorOf_0 rfl (lv_at hl 0 rfl) ?_
  refine lv_iload_n hx hb dX2_errorOf_1 rfl (lv_at hl 1 rfl) ?_
  refine lv_iload_n hx hb dX2_errorOf_2 rfl (lv_at hl 2 rfl) ?_
  refine nc_v (k := 3) (wcc := mW G q a wd all kept hist hlo snap tk bits reg exa text tl sp read rm nu deep src) (wr := []) (nr_V (As := [.int (nI j), .int (nI T)]) (rest := []) hx hb hml hown hts ((M_lays l G q a wd all kept hist hlo snap tk bits reg exa text tl sp read rm nu deep src n T j (by first | assumption | omega | rfl) (by first | assumption | omega | rfl) (by first | assumption | omega | rfl) (by first | assumption | omega | rfl)) _) nP.blind 2 q1135 q1137 qs31 q53 q1138 (by decide +kernel) ⟨⟨Nat.le_of_ble_eq_true rfl, Nat.le_of_ble_eq_true rfl⟩, Nat.le_of_ble_eq_true rfl, Nat.le_of_ble_eq_true rfl⟩ (r_recv hG Z.w 0 (C := "ShareStreamsModel") rfl rfl rfl) (nP_of hG Z [0, 1, 2, 3, 4, 5, 6, 7, 8, 9, 10, 11, 12] rfl (by decide) (fun k q h => by simp at h) nAp.nil) rfl hl.1 rfl (Nat.le_of_ble_eq_true rfl) dX2_errorOf_3) Z [0, 1, 2, 3, 4, 5, 6, 7, 8, 9, 10, 11, 12] [] rfl rfl (by decide) (by decide) (fun u H locs hp3 Z => ?_)
  obtain ⟨bt_3, rg_3⟩ := u
  have hp3 : laid (mF all) bt_3 (j + 1) T := hp3
  have Z : nW G A (mW G q a wd all kept hist hlo snap tk bt_3 rg_3 exa text tl sp read rm nu deep src) ([]) ([]) s.heap _ _ := Z
  refine lv_aload_n hx hb dX2_errorOf_6 rfl (lv_at hl 0 rfl) ?_
  refine lv_iload_n hx hb dX2_errorOf_7 rfl (lv_at hl 1 rfl) ?_
  refine nc_v (k := 3) (wcc := mW G q a wd all kept hist hlo snap tk bt_3 rg_3 exa text tl sp read rm nu deep src) (wr := []) (nr_V (As := [.int (nI j)]) (rest := []) hx hb hml hown hts ((M_findsExact l G q a wd all kept hist hlo snap tk bt_3 rg_3 exa text tl sp read rm nu deep src n j (by first | assumption | omega | rfl) (by first | assumption | omega | rfl) (by first | assumption | omega | rfl)) _) nP.blind 1 q1150 q1152 qs34 q53 q1153 (by decide +kernel) ⟨⟨Nat.le_of_ble_eq_true rfl, Nat.le_of_ble_eq_true rfl⟩, Nat.le_of_ble_eq_true rfl, Nat.le_of_ble_eq_true rfl⟩ (r_recv hG Z.w 0 (C := "ShareStreamsModel") rfl rfl rfl) (nP_of hG Z [0, 1, 2, 3, 4, 5, 6, 7, 8, 9, 10, 11, 12] rfl (by decide) (fun k q h => by simp at h) nAp.nil) rfl hl.1 rfl (Nat.le_of_ble_eq_true rfl) dX2_errorOf_8) Z [0, 1, 2, 3, 4, 5, 6, 7, 8, 9, 10, 11, 12] [] rfl rfl (by decide) (by decide) (fun u H locs hp8 Z => ?_)
  obtain ⟨ex_8, rfl⟩ : ∃ z, z = u := ⟨_, rfl⟩
  have hp8 : ∀ v_, v_ < j + 1 → ex_8 v_ = nI (exN (mF all) v_) := hp8
  have Z : nW G A (mW G q a wd all kept hist hlo snap tk bt_3 rg_3 ex_8 text tl sp read rm nu deep src) ([]) ([]) s.heap _ _ := Z
  refine lv_aload_n hx hb dX2_errorOf_11 rfl (lv_at hl 0 rfl) ?_
  refine lv_iload_n hx hb dX2_errorOf_12 rfl (lv_at hl 1 rfl) ?_
  refine lv_aload_n hx hb dX2_errorOf_13 rfl (lv_at hl 0 rfl) ?_
  refine lv_iload_n hx hb dX2_errorOf_14 rfl (lv_at hl 1 rfl) ?_
  refine lv_iload_n hx hb dX2_errorOf_15 rfl (lv_at hl 2 rfl) ?_
  refine ns_i (k := 3) (nr_V (As := [.int (nI j), .int (nI T)]) (rest := [.int (nI j), .ref q]) hx hb hml hown hts (M_countOf l G q a wd all kept hist hlo snap tk bt_3 rg_3 ex_8 text tl sp read rm nu deep src j T (bitN (mF all) j) (by first | assumption | omega | rfl) (by first | assumption | omega | rfl) (fun t ht => hp3 j (by omega) t ht)) nPs.blind 2 q1161 q1163 qs36 q53 q1164 (by decide +kernel) ⟨⟨Nat.le_of_ble_eq_true rfl, Nat.le_of_ble_eq_true rfl⟩, Nat.le_of_ble_eq_true rfl, Nat.le_of_ble_eq_true rfl⟩ (r_recv hG Z.w 0 (C := "ShareStreamsModel") rfl rfl rfl) (nPs_of hG Z Z.w) rfl hl.1 rfl (Nat.le_of_ble_eq_true rfl) dX2_errorOf_16) (fun r16 hp16 => ?_)
  have he16 := hp16
  have he16 : r16 = nI (sumN (bitN (mF all) j) T) := he16
  subst he16
  refine r_as (z := nI (cntN (mF all) j T)) rfl ?_
  refine lv_iload_n hx hb dX2_errorOf_19 rfl (lv_at hl 2 rfl) ?_
  refine ns_i (k := 3) (nr_V (As := [.int (nI j), .int (nI (cntN (mF all) j T)), .int (nI T)]) (rest := []) hx hb hml hown hts (M_errorBy l G q a wd all kept hist hlo snap tk bt_3 rg_3 ex_8 text tl sp read rm nu deep src j (cntN (mF all) j T) T (exN (mF all) j) (by omega) (cntN_le ok h1 T) (by first | assumption | omega | rfl) (by first | assumption | omega | rfl) (hp8 j (by omega)) (ex_le ok h1)) nPs.blind 3 q1165 q1167 qs37 q53 q1168 (by decide +kernel) ⟨⟨Nat.le_of_ble_eq_true rfl, Nat.le_of_ble_eq_true rfl⟩, Nat.le_of_ble_eq_true rfl, Nat.le_of_ble_eq_true rfl⟩ (r_recv hG Z.w 0 (C := "ShareStreamsModel") rfl rfl rfl) (nPs_of hG Z Z.w) rfl hl.1 rfl (Nat.le_of_ble_eq_true rfl) dX2_errorOf_20) (fun r20 hp20 => ?_)
  have he20 := hp20
  have he20 : r20 = nI (apN (shN (cntN (mF all) j T) T) (exN (mF all) j)) := he20
  subst he20
  exact ret (nI (apN (shN (cntN (mF all) j T) T) (exN (mF all) j))) (bt_3, rg_3, ex_8) dX2_errorOf_23 (by first | rfl | assumption | omega | simp_all) Z (Nat.le_of_ble_eq_true rfl) (Nat.le_of_ble_eq_true rfl)
