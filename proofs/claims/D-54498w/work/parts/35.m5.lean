set_option maxHeartbeats 4000000 in
set_option maxRecDepth 100000 in
theorem M_line (l : Launch) (G : nG) (q : Nat) (a : Nat → Nat) (wd : Nat → Int64) (all : Nat → Int32) (kept : Nat → Int32) (hist : Nat → Int32) (hlo : Int32) (snap : Nat → Int32) (tk : Int32) (bits : Nat → Int32) (reg : Nat → Int32) (exa : Nat → Int32) (text : Nat → Int32) (tl : Int32) (sp : Int32) (read : Nat → Int32) (rm : Int32) (nu : Int32) (deep : Nat → Int32) (src : Nat → Int32) (S : oSt) (x : Int32) (y : Int32) (hM : mR S all hist hlo snap tk text tl) : nMi (S := (Nat → Int32) × (Nat → Int32) × (Nat → Int32) × Int32 × (Nat → Int32) × Int32 × (Nat → Int32) × (Nat → Int32) × (Nat → Int32) × (Nat → Int32) × Int32 × Int32 × (Nat → Int32) × Int32 × Int32 × (Nat → Int32) × (Nat → Int32)) l yX2_line cX2_line 5 (.int) 3 0 0 70 G [.ref q, .int x, .int y] (mW G q a wd all kept hist hlo snap tk bits reg exa text tl sp read rm nu deep src) ([]) (fun (u : (Nat → Int32) × (Nat → Int32) × (Nat → Int32) × Int32 × (Nat → Int32) × Int32 × (Nat → Int32) × (Nat → Int32) × (Nat → Int32) × (Nat → Int32) × Int32 × Int32 × (Nat → Int32) × Int32 × Int32 × (Nat → Int32) × (Nat → Int32)) => mW G q a wd u.1 u.2.1 u.2.2.1 u.2.2.2.1 u.2.2.2.2.1 u.2.2.2.2.2.1 u.2.2.2.2.2.2.1 u.2.2.2.2.2.2.2.1 u.2.2.2.2.2.2.2.2.1 u.2.2.2.2.2.2.2.2.2.1 u.2.2.2.2.2.2.2.2.2.2.1 u.2.2.2.2.2.2.2.2.2.2.2.1 u.2.2.2.2.2.2.2.2.2.2.2.2.1 u.2.2.2.2.2.2.2.2.2.2.2.2.2.1 u.2.2.2.2.2.2.2.2.2.2.2.2.2.2.1 u.2.2.2.2.2.2.2.2.2.2.2.2.2.2.2.1 u.2.2.2.2.2.2.2.2.2.2.2.2.2.2.2.2) (fun (r : Int32) (u : (Nat → Int32) × (Nat → Int32) × (Nat → Int32) × Int32 × (Nat → Int32) × Int32 × (Nat → Int32) × (Nat → Int32) × (Nat → Int32) × (Nat → Int32) × Int32 × Int32 × (Nat → Int32) × Int32 × Int32 × (Nat → Int32) × (Nat → Int32)) => r = (qLine S.1 x y) ∧ mR S u.1 u.2.2.1 u.2.2.2.1 u.2.2.2.2.1 u.2.2.2.2.2.1 u.2.2.2.2.2.2.2.2.2.1 u.2.2.2.2.2.2.2.2.2.2.1) := by
  refine nMi.of (own := "ShareStreamsModel") rfl (by decide +kernel) (Nat.le_of_ble_eq_true rfl) (fun _ _ _ => rfl) ?_
  intro p e s m args below meth c A Q ls hx hb hml hown hts hin hG Z hl ret
  have hl : lv_has ls 5 [(0, .ref q), (1, .int x), (2, .int y)] := hl
  have Z : nW G A (mW G q a wd all kept hist hlo snap tk bits reg exa text tl sp read rm nu deep src) ([]) ([]) s.heap _ _ := Z
  obtain ⟨so, ba, ⟨eh, hh⟩, ⟨ek, sn⟩, et, tx⟩ := hM
  have hM : mR S all hist hlo snap tk text tl := ⟨so, ba, ⟨eh, hh⟩, ⟨ek, sn⟩, et, tx⟩
  have hn : S.1.1 ≤ 16 := so.1.1
  have ha : all 0 = nI S.1.1 := ba.1
  have okb := so.1.2.2
  have ag := bRow_ag ba
  have okm := ag_ok ag okb
  have hlen := so.1.2.1
  refine lv_aload_n hx hb dX2_line_0 rfl (lv_at hl 0 rfl) ?_
  refine lv_iload_n hx hb dX2_line_1 rfl (lv_at hl 1 rfl) ?_
  refine ns_i (k := 3) (nr_V (As := [.int x]) (rest := []) hx hb hml hown hts (M_isLine l G q a wd all kept hist hlo snap tk bits reg exa text tl sp read rm nu deep src x S.1.1 (by first | assumption | omega | rfl) (by first | assumption | omega | rfl)) nPs.blind 1 q1026 q1028 qs20 q53 q1029 (by decide +kernel) ⟨⟨Nat.le_of_ble_eq_true rfl, Nat.le_of_ble_eq_true rfl⟩, Nat.le_of_ble_eq_true rfl, Nat.le_of_ble_eq_true rfl⟩ (r_recv hG Z.w 0 (C := "ShareStreamsModel") rfl rfl rfl) (nPs_of hG Z Z.w) rfl hl.1 rfl (Nat.le_of_ble_eq_true rfl) dX2_line_2) (fun r2 hp2 => ?_)
  have he2 := hp2
  have he2 : r2 = bI (isLn x S.1.1) := he2
  subst he2
  refine lv_if_ne (tgt := 11) hx hb dX2_line_5 (by decide) (fun c5 => ?_) (fun c5 => ?_)
  · skip
    have c5 := bI_t c5
    obtain ⟨k, hk, ek⟩ := isLn_t c5 (by omega)
    subst ek
    have hck : (nI k).toNatClampNeg = k := nI_clamp (by omega)
    refine lv_iload_n hx hb dX2_line_11 rfl (lv_at hl 2 rfl) ?_
    refine lv_i2l hx hb dX2_line_12 rfl ?_
    refine lv_lconst (v := lN 0) hx hb dX2_line_13 rfl ?_
    refine lv_ldc2 hx hb hown (hts _ q1134) dX2_line_14 ?_
    refine r_asl (z := lN 9) rfl ?_
    refine ns_i (k := 3) (nr_S (As := [.long (Int32.toInt64 y), .long (lN 0), .long (lN 9)]) (rest := []) hx hb hml hown hts (M_in l G (Int32.toInt64 y) (lN 0) (lN 9)) nPs.blind 3 q999 q1000 q53 q1001 (by decide +kernel) ⟨⟨Nat.le_of_ble_eq_true rfl, Nat.le_of_ble_eq_true rfl⟩, Nat.le_of_ble_eq_true rfl, Nat.le_of_ble_eq_true rfl⟩ (nPs_of hG Z (fun k q h => by simp at h)) rfl hl.1 rfl (Nat.le_of_ble_eq_true rfl) dX2_line_17) (fun r17 hp17 => ?_)
    have he17 := hp17
    have he17 : r17 = bI (inL (Int32.toInt64 y) (lN 0) (lN 9)) := he17
    subst he17
    refine r_as (z := bI (rng y 0 9)) (by rw [inL_rng y (by decide) (by decide)]) ?_
    refine lv_if_ne (tgt := 26) hx hb dX2_line_20 (by decide) (fun c20 => ?_) (fun c20 => ?_)
    · skip
      have c20 := bI_t c20
      obtain ⟨w, hw1, hw2, ew⟩ := rng_t c20 (by decide)
      subst ew
      have hcw : (nI w).toNatClampNeg = w := nI_clamp (by omega)
      have es : qLine S.1 (nI k) (nI w) = qLineAt S.1 k w := by simp [qLine, c5, c20, hck, hcw]
      refine lv_iload_n hx hb dX2_line_26 rfl (lv_at hl 2 rfl) ?_
      refine lv_iconst (v := nI 4) hx hb dX2_line_27 rfl ?_
      refine lv_icmp_ge (tgt := 38) hx hb dX2_line_28 (by decide) (fun c28 => ?_) (fun c28 => ?_)
      · skip
        have c28 := n_le_t (a := 4) (b := w) c28 (by decide) (by omega)
        refine lv_aload_n hx hb dX2_line_38 rfl (lv_at hl 0 rfl) ?_
        refine r_get (v := .ref (a 0)) hx hb hts in_X2 hown hG Z.w 0 rfl rfl 0 (by decide) q938 (fun _ h9 => h9) rfl dX2_line_39 ?_
        refine lv_iconst (v := nI 1) hx hb dX2_line_42 rfl ?_
        refine r_iald hx hb hG Z.w 1 rfl (j := 1) (by omega) (by decide) (v := nI S.1.2.2) ba.2.1 dX2_line_43 ?_
        refine lv_istore_n (lv' := [(3, .int (nI S.1.2.2)), (0, .ref q), (1, .int (nI k)), (2, .int (nI w))]) hx hb dX2_line_44 rfl hl (by decide) rfl (fun ls hl => ?_)
        refine lv_aload_n hx hb dX2_line_45 rfl (lv_at hl 1 rfl) ?_
        refine lv_iload_n hx hb dX2_line_46 rfl (lv_at hl 2 rfl) ?_
        refine lv_iload_n hx hb dX2_line_47 rfl (lv_at hl 0 rfl) ?_
        refine nc_v (k := 3) (wcc := mW G q a wd all kept hist hlo snap tk bits reg exa text tl sp read rm nu deep src) (wr := []) (nr_V (As := [.int (nI k), .int (nI S.1.2.2)]) (rest := []) hx hb hml hown hts ((M_lays l G q a wd all kept hist hlo snap tk bits reg exa text tl sp read rm nu deep src S.1.1 S.1.2.2 k (by first | assumption | omega | rfl) (by first | assumption | omega | rfl) (by first | assumption | omega | rfl) (by first | assumption | omega | rfl)) _) nP.blind 2 q1135 q1137 qs31 q53 q1138 (by decide +kernel) ⟨⟨Nat.le_of_ble_eq_true rfl, Nat.le_of_ble_eq_true rfl⟩, Nat.le_of_ble_eq_true rfl, Nat.le_of_ble_eq_true rfl⟩ (r_recv hG Z.w 0 (C := "ShareStreamsModel") rfl rfl rfl) (nP_of hG Z [0, 1, 2, 3, 4, 5, 6, 7, 8, 9, 10, 11, 12] rfl (by decide) (fun k q h => by simp at h) nAp.nil) rfl hl.1 rfl (Nat.le_of_ble_eq_true rfl) dX2_line_48) Z [0, 1, 2, 3, 4, 5, 6, 7, 8, 9, 10, 11, 12] [] rfl rfl (by decide) (by decide) (fun u H locs hp48 Z => ?_)
        obtain ⟨bt_48, rg_48⟩ := u
        have hp48 : laid (mF all) bt_48 (k + 1) S.1.2.2 := hp48
        have Z : nW G A (mW G q a wd all kept hist hlo snap tk bt_48 rg_48 exa text tl sp read rm nu deep src) ([]) ([]) s.heap _ _ := Z
        refine lv_aload_n hx hb dX2_line_51 rfl (lv_at hl 1 rfl) ?_
        refine lv_iload_n hx hb dX2_line_52 rfl (lv_at hl 2 rfl) ?_
        refine nc_v (k := 3) (wcc := mW G q a wd all kept hist hlo snap tk bt_48 rg_48 exa text tl sp read rm nu deep src) (wr := []) (nr_V (As := [.int (nI k)]) (rest := []) hx hb hml hown hts ((M_findsExact l G q a wd all kept hist hlo snap tk bt_48 rg_48 exa text tl sp read rm nu deep src S.1.1 k (by first | assumption | omega | rfl) (by first | assumption | omega | rfl) (by first | assumption | omega | rfl)) _) nP.blind 1 q1150 q1152 qs34 q53 q1153 (by decide +kernel) ⟨⟨Nat.le_of_ble_eq_true rfl, Nat.le_of_ble_eq_true rfl⟩, Nat.le_of_ble_eq_true rfl, Nat.le_of_ble_eq_true rfl⟩ (r_recv hG Z.w 0 (C := "ShareStreamsModel") rfl rfl rfl) (nP_of hG Z [0, 1, 2, 3, 4, 5, 6, 7, 8, 9, 10, 11, 12] rfl (by decide) (fun k q h => by simp at h) nAp.nil) rfl hl.1 rfl (Nat.le_of_ble_eq_true rfl) dX2_line_53) Z [0, 1, 2, 3, 4, 5, 6, 7, 8, 9, 10, 11, 12] [] rfl rfl (by decide) (by decide) (fun u H locs hp53 Z => ?_)
        obtain ⟨ex_53, rfl⟩ : ∃ z, z = u := ⟨_, rfl⟩
        have hp53 : ∀ v_, v_ < k + 1 → ex_53 v_ = nI (exN (mF all) v_) := hp53
        have Z : nW G A (mW G q a wd all kept hist hlo snap tk bt_48 rg_48 ex_53 text tl sp read rm nu deep src) ([]) ([]) s.heap _ _ := Z
        refine lv_aload_n hx hb dX2_line_56 rfl (lv_at hl 1 rfl) ?_
        refine nc_v (k := 3) (wcc := mW G q a wd all kept hist hlo snap tk bt_48 rg_48 ex_53 text tl sp read rm nu deep src) (wr := []) (nr_V (As := []) (rest := []) hx hb hml hown hts ((M_findsDepths l G q a wd all kept hist hlo snap tk bt_48 rg_48 ex_53 text tl sp read rm nu deep src S.1.1 (by first | assumption | omega | rfl) (by first | assumption | omega | rfl) (by first | assumption | omega | rfl)) _) nP.blind 0 q1157 q1159 qs35 q53 q1160 (by decide +kernel) ⟨⟨Nat.le_of_ble_eq_true rfl, Nat.le_of_ble_eq_true rfl⟩, Nat.le_of_ble_eq_true rfl, Nat.le_of_ble_eq_true rfl⟩ (r_recv hG Z.w 0 (C := "ShareStreamsModel") rfl rfl rfl) (nP_of hG Z [0, 1, 2, 3, 4, 5, 6, 7, 8, 9, 10, 11, 12] rfl (by decide) (fun k q h => by simp at h) nAp.nil) rfl hl.1 rfl (Nat.le_of_ble_eq_true rfl) dX2_line_57) Z [0, 1, 2, 3, 4, 5, 6, 7, 8, 9, 10, 11, 12] [] rfl rfl (by decide) (by decide) (fun u H locs hp57 Z => ?_)
        obtain ⟨dp_57, sr_57⟩ := u
        have hp57 : (∀ v_, v_ < S.1.1 → dp_57 v_ = nI (dpN (mF all) v_)) ∧ ∀ v_, v_ < S.1.1 → sr_57 v_ = nI (orN (mF all) v_) := hp57
        have Z : nW G A (mW G q a wd all kept hist hlo snap tk bt_48 rg_48 ex_53 text tl sp read rm nu dp_57 sr_57) ([]) ([]) s.heap _ _ := Z
        refine lv_aload_n hx hb dX2_line_60 rfl (lv_at hl 1 rfl) ?_
        refine lv_iload_n hx hb dX2_line_61 rfl (lv_at hl 2 rfl) ?_
        refine lv_iload_n hx hb dX2_line_62 rfl (lv_at hl 0 rfl) ?_
        refine ns_i (k := 3) (nr_V (As := [.int (nI k), .int (nI S.1.2.2)]) (rest := []) hx hb hml hown hts (M_countOf l G q a wd all kept hist hlo snap tk bt_48 rg_48 ex_53 text tl sp read rm nu dp_57 sr_57 k S.1.2.2 (bitN (mF all) k) (by omega) (by first | assumption | omega | rfl) (fun t ht => hp48 k (by omega) t ht)) nPs.blind 2 q1161 q1163 qs36 q53 q1164 (by decide +kernel) ⟨⟨Nat.le_of_ble_eq_true rfl, Nat.le_of_ble_eq_true rfl⟩, Nat.le_of_ble_eq_true rfl, Nat.le_of_ble_eq_true rfl⟩ (r_recv hG Z.w 0 (C := "ShareStreamsModel") rfl rfl rfl) (nPs_of hG Z Z.w) rfl hl.1 rfl (Nat.le_of_ble_eq_true rfl) dX2_line_63) (fun r63 hp63 => ?_)
        have he63 := hp63
        have he63 : r63 = nI (sumN (bitN (mF all) k) S.1.2.2) := he63
        subst he63
        have hcn := cntN_le okb hk
        refine r_as (z := nI (cntN S.1.2.1 k S.1.2.2)) (by show nI (cntN (mF all) k _) = _; rw [ag_cnt ag okb hk]) ?_
        refine lv_istore (lv' := [(4, .int (nI (cntN S.1.2.1 k S.1.2.2))), (3, .int (nI S.1.2.2)), (0, .ref q), (1, .int (nI k)), (2, .int (nI w))]) hx hb dX2_line_66 hl (by decide) rfl (fun ls hl => ?_)
        refine lv_iload_n hx hb dX2_line_68 rfl (lv_at hl 4 rfl) ?_
        rcases (by omega : w = 4 ∨ w = 5 ∨ w = 6 ∨ w = 7 ∨ w = 8 ∨ w = 9) with w0 | w0 | w0 | w0 | w0 | w0
        · skip
          refine r_as (z := nI 4) (congrArg nI w0) ?_
          refine lv_tableIn (off := 35) (tgt := 104) hx hb dX2_line_69 (by decide +kernel) (by decide +kernel) (by decide +kernel) (by decide) ?_
          refine lv_iload hx hb dX2_line_104 (lv_at hl 0 rfl) ?_
          exact ret (nI (cntN S.1.2.1 k S.1.2.2)) (all, kept, hist, hlo, snap, tk, bt_48, rg_48, ex_53, text, tl, sp, read, rm, nu, dp_57, sr_57) dX2_line_106 (⟨(by rw [es, w0]; rfl), hM⟩) Z (Nat.le_of_ble_eq_true rfl) (Nat.le_of_ble_eq_true rfl)
        · skip
          refine r_as (z := nI 5) (congrArg nI w0) ?_
          refine lv_tableIn (off := 38) (tgt := 107) hx hb dX2_line_69 (by decide +kernel) (by decide +kernel) (by decide +kernel) (by decide) ?_
          have hcq := hcn S.1.2.2
          refine lv_iload hx hb dX2_line_107 (lv_at hl 0 rfl) ?_
          refine lv_i2l (v := lN (cntN S.1.2.1 k S.1.2.2)) hx hb dX2_line_109 (nI_l (by omega)) ?_
          refine lv_ldc2 hx hb hown (hts _ q1155) dX2_line_110 ?_
          refine r_asl (z := lN 65536) rfl ?_
          refine lv_lmul hx hb dX2_line_113 ?_
          refine r_asl (z := lN ((cntN S.1.2.1 k S.1.2.2) * 65536)) (lN_mul _ _) ?_
          refine lv_iload_n hx hb dX2_line_114 rfl (lv_at hl 1 rfl) ?_
          refine lv_i2l (v := lN S.1.2.2) hx hb dX2_line_115 (nI_l (by omega)) ?_
          refine lv_ldiv hx hb dX2_line_116 (fun h => by have := (pk_lEQ (a := S.1.2.2) (b := 0) (by omega) (by decide)).mp h; omega) ?_
          refine r_asl (z := lN (((cntN S.1.2.1 k S.1.2.2) * 65536) / S.1.2.2)) (pk_lDiv (by omega) (by omega) (by omega)) ?_
          refine lv_l2i (v := nI (((cntN S.1.2.1 k S.1.2.2) * 65536) / S.1.2.2)) hx hb dX2_line_117 (lN_i _) ?_
          exact ret (nI (((cntN S.1.2.1 k S.1.2.2) * 65536) / S.1.2.2)) (all, kept, hist, hlo, snap, tk, bt_48, rg_48, ex_53, text, tl, sp, read, rm, nu, dp_57, sr_57) dX2_line_118 (⟨(by rw [es, w0]; rfl), hM⟩) Z (Nat.le_of_ble_eq_true rfl) (Nat.le_of_ble_eq_true rfl)
        · skip
          refine r_as (z := nI 6) (congrArg nI w0) ?_
          refine lv_tableIn (off := 50) (tgt := 119) hx hb dX2_line_69 (by decide +kernel) (by decide +kernel) (by decide +kernel) (by decide) ?_
          refine lv_aload_n hx hb dX2_line_119 rfl (lv_at hl 2 rfl) ?_
          refine r_get (v := .ref (a 7)) hx hb hts in_X2 hown hG Z.w 0 rfl rfl 9 (by decide) q947 (fun _ h9 => h9) rfl dX2_line_120 ?_
          refine lv_iload_n hx hb dX2_line_123 rfl (lv_at hl 3 rfl) ?_
          refine r_iald hx hb hG Z.w 8 rfl (j := k) (by omega) (by decide) (v := nI (exN S.1.2.1 k)) ((hp53 k (by omega)).trans (congrArg nI (ag_ex ag okb hk))) dX2_line_124 ?_
          exact ret (nI (exN S.1.2.1 k)) (all, kept, hist, hlo, snap, tk, bt_48, rg_48, ex_53, text, tl, sp, read, rm, nu, dp_57, sr_57) dX2_line_125 (⟨(by rw [es, w0]; rfl), hM⟩) Z (Nat.le_of_ble_eq_true rfl) (Nat.le_of_ble_eq_true rfl)
        · skip
          refine r_as (z := nI 7) (congrArg nI w0) ?_
          refine lv_tableIn (off := 57) (tgt := 126) hx hb dX2_line_69 (by decide +kernel) (by decide +kernel) (by decide +kernel) (by decide) ?_
          refine lv_aload_n hx hb dX2_line_126 rfl (lv_at hl 2 rfl) ?_
          refine lv_iload_n hx hb dX2_line_127 rfl (lv_at hl 3 rfl) ?_
          refine lv_iload hx hb dX2_line_128 (lv_at hl 0 rfl) ?_
          refine lv_iload_n hx hb dX2_line_130 rfl (lv_at hl 1 rfl) ?_
          refine ns_i (k := 3) (nr_V (As := [.int (nI k), .int (nI (cntN S.1.2.1 k S.1.2.2)), .int (nI S.1.2.2)]) (rest := []) hx hb hml hown hts (M_errorBy l G q a wd all kept hist hlo snap tk bt_48 rg_48 ex_53 text tl sp read rm nu dp_57 sr_57 k (cntN S.1.2.1 k S.1.2.2) S.1.2.2 (exN S.1.2.1 k) (by omega) (hcn _) (by first | assumption | omega | rfl) (by first | assumption | omega | rfl) ((hp53 k (by omega)).trans (congrArg nI (ag_ex ag okb hk))) (ex_le okb hk)) nPs.blind 3 q1165 q1167 qs37 q53 q1168 (by decide +kernel) ⟨⟨Nat.le_of_ble_eq_true rfl, Nat.le_of_ble_eq_true rfl⟩, Nat.le_of_ble_eq_true rfl, Nat.le_of_ble_eq_true rfl⟩ (r_recv hG Z.w 0 (C := "ShareStreamsModel") rfl rfl rfl) (nPs_of hG Z Z.w) rfl hl.1 rfl (Nat.le_of_ble_eq_true rfl) dX2_line_131) (fun r131 hp131 => ?_)
          have he131 := hp131
          have he131 : r131 = nI (apN (shN (cntN S.1.2.1 k S.1.2.2) S.1.2.2) (exN S.1.2.1 k)) := he131
          subst he131
          refine r_as (z := nI (errN S.1.2.1 k S.1.2.2)) rfl ?_
          exact ret (nI (errN S.1.2.1 k S.1.2.2)) (all, kept, hist, hlo, snap, tk, bt_48, rg_48, ex_53, text, tl, sp, read, rm, nu, dp_57, sr_57) dX2_line_134 (⟨(by rw [es, w0]; rfl), hM⟩) Z (Nat.le_of_ble_eq_true rfl) (Nat.le_of_ble_eq_true rfl)
        · skip
          refine r_as (z := nI 8) (congrArg nI w0) ?_
          refine lv_tableIn (off := 66) (tgt := 135) hx hb dX2_line_69 (by decide +kernel) (by decide +kernel) (by decide +kernel) (by decide) ?_
          refine lv_aload_n hx hb dX2_line_135 rfl (lv_at hl 2 rfl) ?_
          refine r_get (v := .ref (a 10)) hx hb hts in_X2 hown hG Z.w 0 rfl rfl 16 (by decide) q954 (fun _ h9 => h9) rfl dX2_line_136 ?_
          refine lv_iload_n hx hb dX2_line_139 rfl (lv_at hl 3 rfl) ?_
          refine r_iald hx hb hG Z.w 11 rfl (j := k) (by omega) (by decide) (v := nI (dpN S.1.2.1 k)) ((hp57.1 k hk).trans (congrArg nI (ag_dp ag okb hk))) dX2_line_140 ?_
          exact ret (nI (dpN S.1.2.1 k)) (all, kept, hist, hlo, snap, tk, bt_48, rg_48, ex_53, text, tl, sp, read, rm, nu, dp_57, sr_57) dX2_line_141 (⟨(by rw [es, w0]; rfl), hM⟩) Z (Nat.le_of_ble_eq_true rfl) (Nat.le_of_ble_eq_true rfl)
        · skip
          refine r_as (z := nI 9) (congrArg nI w0) ?_
          refine lv_tableOut (tgt := 142) hx hb dX2_line_69 (by decide +kernel) (by decide) ?_
          refine lv_aload_n hx hb dX2_line_142 rfl (lv_at hl 2 rfl) ?_
          refine r_get (v := .ref (a 11)) hx hb hts in_X2 hown hG Z.w 0 rfl rfl 17 (by decide) q955 (fun _ h9 => h9) rfl dX2_line_143 ?_
          refine lv_iload_n hx hb dX2_line_146 rfl (lv_at hl 3 rfl) ?_
          refine r_iald hx hb hG Z.w 12 rfl (j := k) (by omega) (by decide) (v := nI (orN S.1.2.1 k)) ((hp57.2 k hk).trans (congrArg nI (ag_or ag okb hk))) dX2_line_147 ?_
          refine ns_i (k := 3) (nr_S (As := [.int (nI (orN S.1.2.1 k))]) (rest := []) hx hb hml hown hts (M_bitsOf l G (orN S.1.2.1 k) (by have := or_lt16 okb so.1.1 hk; omega)) nPs.blind 1 q1172 q1173 q53 q1174 (by decide +kernel) ⟨⟨Nat.le_of_ble_eq_true rfl, Nat.le_of_ble_eq_true rfl⟩, Nat.le_of_ble_eq_true rfl, Nat.le_of_ble_eq_true rfl⟩ (nPs_of hG Z (fun k q h => by simp at h)) rfl hl.1 rfl (Nat.le_of_ble_eq_true rfl) dX2_line_148) (fun r148 hp148 => ?_)
          have he148 := hp148
          have he148 : r148 = nI (popN (orN S.1.2.1 k)) := he148
          subst he148
          exact ret (nI (popN (orN S.1.2.1 k))) (all, kept, hist, hlo, snap, tk, bt_48, rg_48, ex_53, text, tl, sp, read, rm, nu, dp_57, sr_57) dX2_line_151 (⟨(by rw [es, w0]; rfl), hM⟩) Z (Nat.le_of_ble_eq_true rfl) (Nat.le_of_ble_eq_true rfl)
      · skip
        have c28 := n_le_f (a := 4) (b := w) c28 (by decide) (by omega)
        refine lv_aload_n hx hb dX2_line_31 rfl (lv_at hl 0 rfl) ?_
        refine lv_iload_n hx hb dX2_line_32 rfl (lv_at hl 1 rfl) ?_
        refine lv_iload_n hx hb dX2_line_33 rfl (lv_at hl 2 rfl) ?_
        refine ns_i (k := 3) (nr_V (As := [.int (nI k), .int (nI w)]) (rest := []) hx hb hml hown hts (M_of l G q a wd all kept hist hlo snap tk bits reg exa text tl sp read rm nu deep src k w (by omega)) nPs.blind 2 q1049 q1051 qs21 q53 q1052 (by decide +kernel) ⟨⟨Nat.le_of_ble_eq_true rfl, Nat.le_of_ble_eq_true rfl⟩, Nat.le_of_ble_eq_true rfl, Nat.le_of_ble_eq_true rfl⟩ (r_recv hG Z.w 0 (C := "ShareStreamsModel") rfl rfl rfl) (nPs_of hG Z Z.w) rfl hl.1 rfl (Nat.le_of_ble_eq_true rfl) dX2_line_34) (fun r34 hp34 => ?_)
        have he34 := hp34
        have he34 : r34 = all (2 + 4 * k + w) := he34
        subst he34
        refine r_as (z := S.1.2.1 k w) (ba.2.2 k hk w c28) ?_
        exact ret (S.1.2.1 k w) (all, kept, hist, hlo, snap, tk, bits, reg, exa, text, tl, sp, read, rm, nu, deep, src) dX2_line_37 (⟨(by rw [es, qLineAt, if_pos c28]), hM⟩) Z (Nat.le_of_ble_eq_true rfl) (Nat.le_of_ble_eq_true rfl)
    · skip
      have c20 := bI_f c20
      refine lv_ldc hx hb hown (hts _ q1021) dX2_line_23 ?_
      exact ret (-100000002 : Int32) (all, kept, hist, hlo, snap, tk, bits, reg, exa, text, tl, sp, read, rm, nu, deep, src) dX2_line_25 (⟨(by simp [qLine, c5, c20]), hM⟩) Z (Nat.le_of_ble_eq_true rfl) (Nat.le_of_ble_eq_true rfl)
  · skip
    have c5 := bI_f c5
    refine lv_ldc hx hb hown (hts _ q1030) dX2_line_8 ?_
    exact ret (-100000001 : Int32) (all, kept, hist, hlo, snap, tk, bits, reg, exa, text, tl, sp, read, rm, nu, deep, src) dX2_line_10 (⟨(by simp [qLine, c5]), hM⟩) Z (Nat.le_of_ble_eq_true rfl) (Nat.le_of_ble_eq_true rfl)
set_option maxHeartbeats 4000000 in
set_option maxRecDepth 100000 in
theorem M_bit (l : Launch) (G : nG) (q : Nat) (a : Nat → Nat) (wd : Nat → Int64) (all : Nat → Int32) (kept : Nat → Int32) (hist : Nat → Int32) (hlo : Int32) (snap : Nat → Int32) (tk : Int32) (bits : Nat → Int32) (reg : Nat → Int32) (exa : Nat → Int32) (text : Nat → Int32) (tl : Int32) (sp : Int32) (read : Nat → Int32) (rm : Int32) (nu : Int32) (deep : Nat → Int32) (src : Nat → Int32) (S : oSt) (x : Int32) (y : Int32) (hM : mR S all hist hlo snap tk text tl) : nMi (S := (Nat → Int32) × (Nat → Int32) × (Nat → Int32) × Int32 × (Nat → Int32) × Int32 × (Nat → Int32) × (Nat → Int32) × (Nat → Int32) × (Nat → Int32) × Int32 × Int32 × (Nat → Int32) × Int32 × Int32 × (Nat → Int32) × (Nat → Int32)) l yX2_bit cX2_bit 3 (.int) 3 0 0 70 G [.ref q, .int x, .int y] (mW G q a wd all kept hist hlo snap tk bits reg exa text tl sp read rm nu deep src) ([]) (fun (u : (Nat → Int32) × (Nat → Int32) × (Nat → Int32) × Int32 × (Nat → Int32) × Int32 × (Nat → Int32) × (Nat → Int32) × (Nat → Int32) × (Nat → Int32) × Int32 × Int32 × (Nat → Int32) × Int32 × Int32 × (Nat → Int32) × (Nat → Int32)) => mW G q a wd u.1 u.2.1 u.2.2.1 u.2.2.2.1 u.2.2.2.2.1 u.2.2.2.2.2.1 u.2.2.2.2.2.2.1 u.2.2.2.2.2.2.2.1 u.2.2.2.2.2.2.2.2.1 u.2.2.2.2.2.2.2.2.2.1 u.2.2.2.2.2.2.2.2.2.2.1 u.2.2.2.2.2.2.2.2.2.2.2.1 u.2.2.2.2.2.2.2.2.2.2.2.2.1 u.2.2.2.2.2.2.2.2.2.2.2.2.2.1 u.2.2.2.2.2.2.2.2.2.2.2.2.2.2.1 u.2.2.2.2.2.2.2.2.2.2.2.2.2.2.2.1 u.2.2.2.2.2.2.2.2.2.2.2.2.2.2.2.2) (fun (r : Int32) (u : (Nat → Int32) × (Nat → Int32) × (Nat → Int32) × Int32 × (Nat → Int32) × Int32 × (Nat → Int32) × (Nat → Int32) × (Nat → Int32) × (Nat → Int32) × Int32 × Int32 × (Nat → Int32) × Int32 × Int32 × (Nat → Int32) × (Nat → Int32)) => r = (qBit S.1 x y) ∧ mR S u.1 u.2.2.1 u.2.2.2.1 u.2.2.2.2.1 u.2.2.2.2.2.1 u.2.2.2.2.2.2.2.2.2.1 u.2.2.2.2.2.2.2.2.2.2.1) := by
  refine nMi.of (own := "ShareStreamsModel") rfl (by decide +kernel) (Nat.le_of_ble_eq_true rfl) (fun _ _ _ => rfl) ?_
  intro p e s m args below meth c A Q ls hx hb hml hown hts hin hG Z hl ret
  have hl : lv_has ls 3 [(0, .ref q), (1, .int x), (2, .int y)] := hl
  have Z : nW G A (mW G q a wd all kept hist hlo snap tk bits reg exa text tl sp read rm nu deep src) ([]) ([]) s.heap _ _ := Z
  obtain ⟨so, ba, ⟨eh, hh⟩, ⟨ek, sn⟩, et, tx⟩ := hM
  have hM : mR S all hist hlo snap tk text tl := ⟨so, ba, ⟨eh, hh⟩, ⟨ek, sn⟩, et, tx⟩
  have hn : S.1.1 ≤ 16 := so.1.1
  have ha : all 0 = nI S.1.1 := ba.1
  have okb := so.1.2.2
  have ag := bRow_ag ba
  have okm := ag_ok ag okb
  have hlen := so.1.2.1
  refine lv_aload_n hx hb dX2_bit_0 rfl (lv_at hl 0 rfl) ?_
  refine lv_iload_n hx hb dX2_bit_1 rfl (lv_at hl 1 rfl) ?_
  refine ns_i (k := 3) (nr_V (As := [.int x]) (rest := []) hx hb hml hown hts (M_isLine l G q a wd all kept hist hlo snap tk bits reg exa text tl sp read rm nu deep src x S.1.1 (by first | assumption | omega | rfl) (by first | assumption | omega | rfl)) nPs.blind 1 q1026 q1028 qs20 q53 q1029 (by decide +kernel) ⟨⟨Nat.le_of_ble_eq_true rfl, Nat.le_of_ble_eq_true rfl⟩, Nat.le_of_ble_eq_true rfl, Nat.le_of_ble_eq_true rfl⟩ (r_recv hG Z.w 0 (C := "ShareStreamsModel") rfl rfl rfl) (nPs_of hG Z Z.w) rfl hl.1 rfl (Nat.le_of_ble_eq_true rfl) dX2_bit_2) (fun r2 hp2 => ?_)
  have he2 := hp2
  have he2 : r2 = bI (isLn x S.1.1) := he2
  subst he2
  refine lv_if_ne (tgt := 11) hx hb dX2_bit_5 (by decide) (fun c5 => ?_) (fun c5 => ?_)
  · skip
    have c5 := bI_t c5
    obtain ⟨k, hk, ek⟩ := isLn_t c5 (by omega)
    subst ek
    have hck : (nI k).toNatClampNeg = k := nI_clamp (by omega)
    refine lv_iload_n hx hb dX2_bit_11 rfl (lv_at hl 2 rfl) ?_
    refine lv_i2l hx hb dX2_bit_12 rfl ?_
    refine lv_lconst (v := lN 0) hx hb dX2_bit_13 rfl ?_
    refine lv_ldc2 hx hb hown (hts _ q1179) dX2_bit_14 ?_
    refine r_asl (z := lN 999) rfl ?_
    refine ns_i (k := 3) (nr_S (As := [.long (Int32.toInt64 y), .long (lN 0), .long (lN 999)]) (rest := []) hx hb hml hown hts (M_in l G (Int32.toInt64 y) (lN 0) (lN 999)) nPs.blind 3 q999 q1000 q53 q1001 (by decide +kernel) ⟨⟨Nat.le_of_ble_eq_true rfl, Nat.le_of_ble_eq_true rfl⟩, Nat.le_of_ble_eq_true rfl, Nat.le_of_ble_eq_true rfl⟩ (nPs_of hG Z (fun k q h => by simp at h)) rfl hl.1 rfl (Nat.le_of_ble_eq_true rfl) dX2_bit_17) (fun r17 hp17 => ?_)
    have he17 := hp17
    have he17 : r17 = bI (inL (Int32.toInt64 y) (lN 0) (lN 999)) := he17
    subst he17
    refine r_as (z := bI (rng y 0 999)) (by rw [inL_rng y (by decide) (by decide)]) ?_
    refine lv_if_ne (tgt := 26) hx hb dX2_bit_20 (by decide) (fun c20 => ?_) (fun c20 => ?_)
    · skip
      have c20 := bI_t c20
      obtain ⟨w, hw1, hw2, ew⟩ := rng_t c20 (by decide)
      subst ew
      have hcw : (nI w).toNatClampNeg = w := nI_clamp (by omega)
      refine lv_aload_n hx hb dX2_bit_26 rfl (lv_at hl 0 rfl) ?_
      refine lv_iload_n hx hb dX2_bit_27 rfl (lv_at hl 1 rfl) ?_
      refine lv_iload_n hx hb dX2_bit_28 rfl (lv_at hl 2 rfl) ?_
      refine lv_iconst (v := nI 1) hx hb dX2_bit_29 rfl ?_
      refine lv_iadd hx hb dX2_bit_30 ?_
      refine r_as (z := nI (w + 1)) (nI_add _ _) ?_
      refine nc_v (k := 3) (wcc := mW G q a wd all kept hist hlo snap tk bits reg exa text tl sp read rm nu deep src) (wr := []) (nr_V (As := [.int (nI k), .int (nI (w + 1))]) (rest := []) hx hb hml hown hts ((M_lays l G q a wd all kept hist hlo snap tk bits reg exa text tl sp read rm nu deep src S.1.1 (w + 1) k (by first | assumption | omega | rfl) (by first | assumption | omega | rfl) (by first | assumption | omega | rfl) (by first | assumption | omega | rfl)) _) nP.blind 2 q1135 q1137 qs31 q53 q1138 (by decide +kernel) ⟨⟨Nat.le_of_ble_eq_true rfl, Nat.le_of_ble_eq_true rfl⟩, Nat.le_of_ble_eq_true rfl, Nat.le_of_ble_eq_true rfl⟩ (r_recv hG Z.w 0 (C := "ShareStreamsModel") rfl rfl rfl) (nP_of hG Z [0, 1, 2, 3, 4, 5, 6, 7, 8, 9, 10, 11, 12] rfl (by decide) (fun k q h => by simp at h) nAp.nil) rfl hl.1 rfl (Nat.le_of_ble_eq_true rfl) dX2_bit_31) Z [0, 1, 2, 3, 4, 5, 6, 7, 8, 9, 10, 11, 12] [] rfl rfl (by decide) (by decide) (fun u H locs hp31 Z => ?_)
      obtain ⟨bt_31, rg_31⟩ := u
      have hp31 : laid (mF all) bt_31 (k + 1) (w + 1) := hp31
      have Z : nW G A (mW G q a wd all kept hist hlo snap tk bt_31 rg_31 exa text tl sp read rm nu deep src) ([]) ([]) s.heap _ _ := Z
      refine lv_aload_n hx hb dX2_bit_34 rfl (lv_at hl 0 rfl) ?_
      refine lv_iload_n hx hb dX2_bit_35 rfl (lv_at hl 1 rfl) ?_
      refine lv_iload_n hx hb dX2_bit_36 rfl (lv_at hl 2 rfl) ?_
      refine ns_i (k := 3) (nr_V (As := [.int (nI k), .int (nI w)]) (rest := []) hx hb hml hown hts (M_bitAt l G q a wd all kept hist hlo snap tk bt_31 rg_31 exa text tl sp read rm nu deep src k w (by omega)) nPs.blind 2 q1143 q1145 qs33 q53 q1146 (by decide +kernel) ⟨⟨Nat.le_of_ble_eq_true rfl, Nat.le_of_ble_eq_true rfl⟩, Nat.le_of_ble_eq_true rfl, Nat.le_of_ble_eq_true rfl⟩ (r_recv hG Z.w 0 (C := "ShareStreamsModel") rfl rfl rfl) (nPs_of hG Z Z.w) rfl hl.1 rfl (Nat.le_of_ble_eq_true rfl) dX2_bit_37) (fun r37 hp37 => ?_)
      have he37 := hp37
      have he37 : r37 = bt_31 (1000 * k + w) := he37
      subst he37
      refine r_as (z := nI (bitN S.1.2.1 k w)) ((hp31 k (by omega) w (by omega)).trans (by rw [ag_bit ag okb hk])) ?_
      exact ret (nI (bitN S.1.2.1 k w)) (all, kept, hist, hlo, snap, tk, bt_31, rg_31, exa, text, tl, sp, read, rm, nu, deep, src) dX2_bit_40 (⟨(by simp [qBit, c5, c20, hck, hcw]), hM⟩) Z (Nat.le_of_ble_eq_true rfl) (Nat.le_of_ble_eq_true rfl)
    · skip
      have c20 := bI_f c20
      refine lv_ldc hx hb hown (hts _ q1021) dX2_bit_23 ?_
      exact ret (-100000002 : Int32) (all, kept, hist, hlo, snap, tk, bits, reg, exa, text, tl, sp, read, rm, nu, deep, src) dX2_bit_25 (⟨(by simp [qBit, c5, c20]), hM⟩) Z (Nat.le_of_ble_eq_true rfl) (Nat.le_of_ble_eq_true rfl)
  · skip
    have c5 := bI_f c5
    refine lv_ldc hx hb hown (hts _ q1030) dX2_bit_8 ?_
    exact ret (-100000001 : Int32) (all, kept, hist, hlo, snap, tk, bits, reg, exa, text, tl, sp, read, rm, nu, deep, src) dX2_bit_10 (⟨(by simp [qBit, c5]), hM⟩) Z (Nat.le_of_ble_eq_true rfl) (Nat.le_of_ble_eq_true rfl)
set_option maxHeartbeats 4000000 in
set_option maxRecDepth 100000 in
theorem M_errorAt (l : Launch) (G : nG) (q : Nat) (a : Nat → Nat) (wd : Nat → Int64) (all : Nat → Int32) (kept : Nat → Int32) (hist : Nat → Int32) (hlo : Int32) (snap : Nat → Int32) (tk : Int32) (bits : Nat → Int32) (reg : Nat → Int32) (exa : Nat → Int32) (text : Nat → Int32) (tl : Int32) (sp : Int32) (read : Nat → Int32) (rm : Int32) (nu : Int32) (deep : Nat → Int32) (src : Nat → Int32) (S : oSt) (x : Int32) (y : Int32) (hM : mR S all hist hlo snap tk text tl) : nMi (S := (Nat → Int32) × (Nat → Int32) × (Nat → Int32) × Int32 × (Nat → Int32) × Int32 × (Nat → Int32) × (Nat → Int32) × (Nat → Int32) × (Nat → Int32) × Int32 × Int32 × (Nat → Int32) × Int32 × Int32 × (Nat → Int32) × (Nat → Int32)) l yX2_errorAt cX2_errorAt 3 (.int) 4 0 0 92 G [.ref q, .int x, .int y] (mW G q a wd all kept hist hlo snap tk bits reg exa text tl sp read rm nu deep src) ([]) (fun (u : (Nat → Int32) × (Nat → Int32) × (Nat → Int32) × Int32 × (Nat → Int32) × Int32 × (Nat → Int32) × (Nat → Int32) × (Nat → Int32) × (Nat → Int32) × Int32 × Int32 × (Nat → Int32) × Int32 × Int32 × (Nat → Int32) × (Nat → Int32)) => mW G q a wd u.1 u.2.1 u.2.2.1 u.2.2.2.1 u.2.2.2.2.1 u.2.2.2.2.2.1 u.2.2.2.2.2.2.1 u.2.2.2.2.2.2.2.1 u.2.2.2.2.2.2.2.2.1 u.2.2.2.2.2.2.2.2.2.1 u.2.2.2.2.2.2.2.2.2.2.1 u.2.2.2.2.2.2.2.2.2.2.2.1 u.2.2.2.2.2.2.2.2.2.2.2.2.1 u.2.2.2.2.2.2.2.2.2.2.2.2.2.1 u.2.2.2.2.2.2.2.2.2.2.2.2.2.2.1 u.2.2.2.2.2.2.2.2.2.2.2.2.2.2.2.1 u.2.2.2.2.2.2.2.2.2.2.2.2.2.2.2.2) (fun (r : Int32) (u : (Nat → Int32) × (Nat → Int32) × (Nat → Int32) × Int32 × (Nat → Int32) × Int32 × (Nat → Int32) × (Nat → Int32) × (Nat → Int32) × (Nat → Int32) × Int32 × Int32 × (Nat → Int32) × Int32 × Int32 × (Nat → Int32) × (Nat → Int32)) => r = (qErrorAt S.1 x y) ∧ mR S u.1 u.2.2.1 u.2.2.2.1 u.2.2.2.2.1 u.2.2.2.2.2.1 u.2.2.2.2.2.2.2.2.2.1 u.2.2.2.2.2.2.2.2.2.2.1) := by
  refine nMi.of (own := "ShareStreamsModel") rfl (by decide +kernel) (Nat.le_of_ble_eq_true rfl) (fun _ _ _ => rfl) ?_
  intro p e s m args below meth c A Q ls hx hb hml hown hts hin hG Z hl ret
  have hl : lv_has ls 3 [(0, .ref q), (1, .int x), (2, .int y)] := hl
  have Z : nW G A (mW G q a wd all kept hist hlo snap tk bits reg exa text tl sp read rm nu deep src) ([]) ([]) s.heap _ _ := Z
  obtain ⟨so, ba, ⟨eh, hh⟩, ⟨ek, sn⟩, et, tx⟩ := hM
  have hM : mR S all hist hlo snap tk text tl := ⟨so, ba, ⟨eh, hh⟩, ⟨ek, sn⟩, et, tx⟩
  have hn : S.1.1 ≤ 16 := so.1.1
  have ha : all 0 = nI S.1.1 := ba.1
  have okb := so.1.2.2
  have ag := bRow_ag ba
  have okm := ag_ok ag okb
  have hlen := so.1.2.1
  refine lv_aload_n hx hb dX2_errorAt_0 rfl (lv_at hl 0 rfl) ?_
  refine lv_iload_n hx hb dX2_errorAt_1 rfl (lv_at hl 1 rfl) ?_
  refine ns_i (k := 3) (nr_V (As := [.int x]) (rest := []) hx hb hml hown hts (M_isLine l G q a wd all kept hist hlo snap tk bits reg exa text tl sp read rm nu deep src x S.1.1 (by first | assumption | omega | rfl) (by first | assumption | omega | rfl)) nPs.blind 1 q1026 q1028 qs20 q53 q1029 (by decide +kernel) ⟨⟨Nat.le_of_ble_eq_true rfl, Nat.le_of_ble_eq_true rfl⟩, Nat.le_of_ble_eq_true rfl, Nat.le_of_ble_eq_true rfl⟩ (r_recv hG Z.w 0 (C := "ShareStreamsModel") rfl rfl rfl) (nPs_of hG Z Z.w) rfl hl.1 rfl (Nat.le_of_ble_eq_true rfl) dX2_errorAt_2) (fun r2 hp2 => ?_)
  have he2 := hp2
  have he2 : r2 = bI (isLn x S.1.1) := he2
  subst he2
  refine lv_if_ne (tgt := 11) hx hb dX2_errorAt_5 (by decide) (fun c5 => ?_) (fun c5 => ?_)
  · skip
    have c5 := bI_t c5
    obtain ⟨k, hk, ek⟩ := isLn_t c5 (by omega)
    subst ek
    have hck : (nI k).toNatClampNeg = k := nI_clamp (by omega)
    refine lv_iload_n hx hb dX2_errorAt_11 rfl (lv_at hl 2 rfl) ?_
    refine lv_i2l hx hb dX2_errorAt_12 rfl ?_
    refine lv_lconst (v := lN 1) hx hb dX2_errorAt_13 rfl ?_
    refine lv_ldc2 hx hb hown (hts _ q1062) dX2_errorAt_14 ?_
    refine r_asl (z := lN 1000) rfl ?_
    refine ns_i (k := 3) (nr_S (As := [.long (Int32.toInt64 y), .long (lN 1), .long (lN 1000)]) (rest := []) hx hb hml hown hts (M_in l G (Int32.toInt64 y) (lN 1) (lN 1000)) nPs.blind 3 q999 q1000 q53 q1001 (by decide +kernel) ⟨⟨Nat.le_of_ble_eq_true rfl, Nat.le_of_ble_eq_true rfl⟩, Nat.le_of_ble_eq_true rfl, Nat.le_of_ble_eq_true rfl⟩ (nPs_of hG Z (fun k q h => by simp at h)) rfl hl.1 rfl (Nat.le_of_ble_eq_true rfl) dX2_errorAt_17) (fun r17 hp17 => ?_)
    have he17 := hp17
    have he17 : r17 = bI (inL (Int32.toInt64 y) (lN 1) (lN 1000)) := he17
    subst he17
    refine r_as (z := bI (rng y 1 1000)) (by rw [inL_rng y (by decide) (by decide)]) ?_
    refine lv_if_eq (tgt := 32) hx hb dX2_errorAt_20 (by decide) (fun c20 => ?_) (fun c20 => ?_)
    · skip
      have c20 := bI_f c20
      refine lv_ldc hx hb hown (hts _ q1021) dX2_errorAt_32 ?_
      exact ret (-100000002 : Int32) (all, kept, hist, hlo, snap, tk, bits, reg, exa, text, tl, sp, read, rm, nu, deep, src) dX2_errorAt_34 (⟨(by simp [qErrorAt, c5, c20]), hM⟩) Z (Nat.le_of_ble_eq_true rfl) (Nat.le_of_ble_eq_true rfl)
    · skip
      have c20 := bI_t c20
      obtain ⟨w, hw1, hw2, ew⟩ := rng_t c20 (by decide)
      subst ew
      have hcw : (nI w).toNatClampNeg = w := nI_clamp (by omega)
      refine lv_aload_n hx hb dX2_errorAt_23 rfl (lv_at hl 0 rfl) ?_
      refine lv_iload_n hx hb dX2_errorAt_24 rfl (lv_at hl 1 rfl) ?_
      refine lv_iload_n hx hb dX2_errorAt_25 rfl (lv_at hl 2 rfl) ?_
      refine nc_i (k := 3) (wcc := mW G q a wd all kept hist hlo snap tk bits reg exa text tl sp read rm nu deep src) (wr := []) (nr_V (As := [.int (nI k), .int (nI w)]) (rest := []) hx hb hml hown hts ((M_errorOf l G q a wd all kept hist hlo snap tk bits reg exa text tl sp read rm nu deep src S.1.1 k w (by first | assumption | omega | rfl) (by first | assumption | omega | rfl) (by first | assumption | omega | rfl) (by first | assumption | omega | rfl) (by first | assumption | omega | rfl)) _) nP.blind 2 q1188 q1190 qs38 q53 q1191 (by decide +kernel) ⟨⟨Nat.le_of_ble_eq_true rfl, Nat.le_of_ble_eq_true rfl⟩, Nat.le_of_ble_eq_true rfl, Nat.le_of_ble_eq_true rfl⟩ (r_recv hG Z.w 0 (C := "ShareStreamsModel") rfl rfl rfl) (nP_of hG Z [0, 1, 2, 3, 4, 5, 6, 7, 8, 9, 10, 11, 12] rfl (by decide) (fun k q h => by simp at h) nAp.nil) rfl hl.1 rfl (Nat.le_of_ble_eq_true rfl) dX2_errorAt_26) Z [0, 1, 2, 3, 4, 5, 6, 7, 8, 9, 10, 11, 12] [] rfl rfl (by decide) (by decide) (fun r26 u H locs hp26 Z => ?_)
      obtain ⟨bt_26, rg_26, ex_26⟩ := u
      have he26 := hp26
      have he26 : r26 = nI (errN (mF all) k w) := he26
      subst he26
      have Z : nW G A (mW G q a wd all kept hist hlo snap tk bt_26 rg_26 ex_26 text tl sp read rm nu deep src) ([]) ([]) s.heap _ _ := Z
      refine r_as (z := nI (errN S.1.2.1 k w)) (by rw [ag_err ag okb hk]) ?_
      refine lv_goto (tgt := 34) hx hb dX2_errorAt_29 (by decide) ?_
      exact ret (nI (errN S.1.2.1 k w)) (all, kept, hist, hlo, snap, tk, bt_26, rg_26, ex_26, text, tl, sp, read, rm, nu, deep, src) dX2_errorAt_34 (⟨(by simp [qErrorAt, c5, c20, hck, hcw]), hM⟩) Z (Nat.le_of_ble_eq_true rfl) (Nat.le_of_ble_eq_true rfl)
  · skip
    have c5 := bI_f c5
    refine lv_ldc hx hb hown (hts _ q1030) dX2_errorAt_8 ?_
    exact ret (-100000001 : Int32) (all, kept, hist, hlo, snap, tk, bits, reg, exa, text, tl, sp, read, rm, nu, deep, src) dX2_errorAt_10 (⟨(by simp [qErrorAt, c5]), hM⟩) Z (Nat.le_of_ble_eq_true rfl) (Nat.le_of_ble_eq_true rfl)
set_option maxHeartbeats 4000000 in
set_option maxRecDepth 100000 in
theorem M_unlike (l : Launch) (G : nG) (q : Nat) (a : Nat → Nat) (wd : Nat → Int64) (all : Nat → Int32) (kept : Nat → Int32) (hist : Nat → Int32) (hlo : Int32) (snap : Nat → Int32) (tk : Int32) (bits : Nat → Int32) (reg : Nat → Int32) (exa : Nat → Int32) (text : Nat → Int32) (tl : Int32) (sp : Int32) (read : Nat → Int32) (rm : Int32) (nu : Int32) (deep : Nat → Int32) (src : Nat → Int32) (S : oSt) (x : Int32) (hM : mR S all hist hlo snap tk text tl) : nMi (S := (Nat → Int32) × (Nat → Int32) × (Nat → Int32) × Int32 × (Nat → Int32) × Int32 × (Nat → Int32) × (Nat → Int32) × (Nat → Int32) × (Nat → Int32) × Int32 × Int32 × (Nat → Int32) × Int32 × Int32 × (Nat → Int32) × (Nat → Int32)) l yX2_unlike cX2_unlike 4 (.int) 3 0 0 70 G [.ref q, .int x] (mW G q a wd all kept hist hlo snap tk bits reg exa text tl sp read rm nu deep src) ([]) (fun (u : (Nat → Int32) × (Nat → Int32) × (Nat → Int32) × Int32 × (Nat → Int32) × Int32 × (Nat → Int32) × (Nat → Int32) × (Nat → Int32) × (Nat → Int32) × Int32 × Int32 × (Nat → Int32) × Int32 × Int32 × (Nat → Int32) × (Nat → Int32)) => mW G q a wd u.1 u.2.1 u.2.2.1 u.2.2.2.1 u.2.2.2.2.1 u.2.2.2.2.2.1 u.2.2.2.2.2.2.1 u.2.2.2.2.2.2.2.1 u.2.2.2.2.2.2.2.2.1 u.2.2.2.2.2.2.2.2.2.1 u.2.2.2.2.2.2.2.2.2.2.1 u.2.2.2.2.2.2.2.2.2.2.2.1 u.2.2.2.2.2.2.2.2.2.2.2.2.1 u.2.2.2.2.2.2.2.2.2.2.2.2.2.1 u.2.2.2.2.2.2.2.2.2.2.2.2.2.2.1 u.2.2.2.2.2.2.2.2.2.2.2.2.2.2.2.1 u.2.2.2.2.2.2.2.2.2.2.2.2.2.2.2.2) (fun (r : Int32) (u : (Nat → Int32) × (Nat → Int32) × (Nat → Int32) × Int32 × (Nat → Int32) × Int32 × (Nat → Int32) × (Nat → Int32) × (Nat → Int32) × (Nat → Int32) × Int32 × Int32 × (Nat → Int32) × Int32 × Int32 × (Nat → Int32) × (Nat → Int32)) => r = (qUnlike S.1 x) ∧ mR S u.1 u.2.2.1 u.2.2.2.1 u.2.2.2.2.1 u.2.2.2.2.2.1 u.2.2.2.2.2.2.2.2.2.1 u.2.2.2.2.2.2.2.2.2.2.1) := by
  refine nMi.of (own := "ShareStreamsModel") rfl (by decide +kernel) (Nat.le_of_ble_eq_true rfl) (fun _ _ _ => rfl) ?_
  intro p e s m args below meth c A Q ls hx hb hml hown hts hin hG Z hl ret
  have hl : lv_has ls 4 [(0, .ref q), (1, .int x)] := hl
  have Z : nW G A (mW G q a wd all kept hist hlo snap tk bits reg exa text tl sp read rm nu deep src) ([]) ([]) s.heap _ _ := Z
  obtain ⟨so, ba, ⟨eh, hh⟩, ⟨ek, sn⟩, et, tx⟩ := hM
  have hM : mR S all hist hlo snap tk text tl := ⟨so, ba, ⟨eh, hh⟩, ⟨ek, sn⟩, et, tx⟩
  have hn : S.1.1 ≤ 16 := so.1.1
  have ha : all 0 = nI S.1.1 := ba.1
  have okb := so.1.2.2
  have ag := bRow_ag ba
  have okm := ag_ok ag okb
  have hlen := so.1.2.1
  refine lv_aload_n hx hb dX2_unlike_0 rfl (lv_at hl 0 rfl) ?_
  refine lv_iload_n hx hb dX2_unlike_1 rfl (lv_at hl 1 rfl) ?_
  refine ns_i (k := 3) (nr_V (As := [.int x]) (rest := []) hx hb hml hown hts (M_isLine l G q a wd all kept hist hlo snap tk bits reg exa text tl sp read rm nu deep src x S.1.1 (by first | assumption | omega | rfl) (by first | assumption | omega | rfl)) nPs.blind 1 q1026 q1028 qs20 q53 q1029 (by decide +kernel) ⟨⟨Nat.le_of_ble_eq_true rfl, Nat.le_of_ble_eq_true rfl⟩, Nat.le_of_ble_eq_true rfl, Nat.le_of_ble_eq_true rfl⟩ (r_recv hG Z.w 0 (C := "ShareStreamsModel") rfl rfl rfl) (nPs_of hG Z Z.w) rfl hl.1 rfl (Nat.le_of_ble_eq_true rfl) dX2_unlike_2) (fun r2 hp2 => ?_)
  have he2 := hp2
  have he2 : r2 = bI (isLn x S.1.1) := he2
  subst he2
  refine lv_if_ne (tgt := 11) hx hb dX2_unlike_5 (by decide) (fun c5 => ?_) (fun c5 => ?_)
  · skip
    have c5 := bI_t c5
    obtain ⟨k, hk, ek⟩ := isLn_t c5 (by omega)
    subst ek
    have hck : (nI k).toNatClampNeg = k := nI_clamp (by omega)
    refine lv_aload_n hx hb dX2_unlike_11 rfl (lv_at hl 0 rfl) ?_
    refine lv_iload_n hx hb dX2_unlike_12 rfl (lv_at hl 1 rfl) ?_
    refine lv_sipush (v := nI 510) hx hb dX2_unlike_13 rfl ?_
    refine nc_v (k := 3) (wcc := mW G q a wd all kept hist hlo snap tk bits reg exa text tl sp read rm nu deep src) (wr := []) (nr_V (As := [.int (nI k), .int (nI 510)]) (rest := []) hx hb hml hown hts ((M_lays l G q a wd all kept hist hlo snap tk bits reg exa text tl sp read rm nu deep src S.1.1 510 k (by first | assumption | omega | rfl) (by first | assumption | omega | rfl) (by first | assumption | omega | rfl) (by first | assumption | omega | rfl)) _) nP.blind 2 q1135 q1137 qs31 q53 q1138 (by decide +kernel) ⟨⟨Nat.le_of_ble_eq_true rfl, Nat.le_of_ble_eq_true rfl⟩, Nat.le_of_ble_eq_true rfl, Nat.le_of_ble_eq_true rfl⟩ (r_recv hG Z.w 0 (C := "ShareStreamsModel") rfl rfl rfl) (nP_of hG Z [0, 1, 2, 3, 4, 5, 6, 7, 8, 9, 10, 11, 12] rfl (by decide) (fun k q h => by simp at h) nAp.nil) rfl hl.1 rfl (Nat.le_of_ble_eq_true rfl) dX2_unlike_16) Z [0, 1, 2, 3, 4, 5, 6, 7, 8, 9, 10, 11, 12] [] rfl rfl (by decide) (by decide) (fun u H locs hp16 Z => ?_)
    obtain ⟨bt_16, rg_16⟩ := u
    have hp16 : laid (mF all) bt_16 (k + 1) 510 := hp16
    have Z : nW G A (mW G q a wd all kept hist hlo snap tk bt_16 rg_16 exa text tl sp read rm nu deep src) ([]) ([]) s.heap _ _ := Z
    refine lv_iconst (v := nI 0) hx hb dX2_unlike_19 rfl ?_
    refine lv_istore_n (lv' := [(2, .int (nI 0)), (0, .ref q), (1, .int (nI k))]) hx hb dX2_unlike_20 rfl hl (by decide) rfl (fun ls hl => ?_)
    refine lv_bipush (v := nI 60) hx hb dX2_unlike_21 rfl ?_
    refine lv_istore_n (lv' := [(3, .int (nI 60)), (2, .int (nI 0)), (0, .ref q), (1, .int (nI k))]) hx hb dX2_unlike_23 rfl hl (by decide) rfl (fun ls hl => ?_)
    have L24 : ∀ (k_ : Nat) (i : Nat) (g1 : i ≤ 195) (hk_ : 195 - i < k_) (H : Heap) (locs : List Loc), nW G A (mW G q a wd all kept hist hlo snap tk bt_16 rg_16 exa text tl sp read rm nu deep src) ([]) ([]) s.heap H locs → ∀ (ls : Array Slot), lv_has ls 4 [(2, .int (nI (sumN (fun i => if bitN S.1.2.1 k (60 + i) = bitN S.1.2.1 k (60 + i + 255) then 0 else 1) i))), (3, .int (nI (60 + i))), (0, .ref q), (1, .int (nI k))] → W p l e (nRm 3 0 0 70) s m args below meth c H locs 0 0 Q (F0 m 24 ls []) := by
      intro k_
      induction k_ with
      | zero => intro i g1 hk_; exact absurd hk_ (Nat.not_lt_zero _)
      | succ k_ ih_L24 =>
        intro i g1 hk_ H locs Z ls hl
        refine lv_iload_n hx hb dX2_unlike_24 rfl (lv_at hl 1 rfl) ?_
        refine lv_sipush (v := nI 255) hx hb dX2_unlike_25 rfl ?_
        refine lv_icmp_ge (tgt := 64) hx hb dX2_unlike_28 (by decide) (fun c28 => ?_) (fun c28 => ?_)
        · skip
          have c28 := n_le_t (a := 255) (b := 60 + i) c28 (by decide) (by omega)
          refine lv_iload_n hx hb dX2_unlike_64 rfl (lv_at hl 0 rfl) ?_
          exact ret (nI (sumN (fun i => if bitN S.1.2.1 k (60 + i) = bitN S.1.2.1 k (60 + i + 255) then 0 else 1) i)) (all, kept, hist, hlo, snap, tk, bt_16, rg_16, exa, text, tl, sp, read, rm, nu, deep, src) dX2_unlike_65 (⟨(by rw [show i = 195 by omega]; simp [qUnlike, c5, hck, unN]), hM⟩) Z (Nat.le_of_ble_eq_true rfl) (Nat.le_of_ble_eq_true rfl)
        · skip
          have c28 := n_le_f (a := 255) (b := 60 + i) c28 (by decide) (by omega)
          refine lv_iload_n hx hb dX2_unlike_31 rfl (lv_at hl 0 rfl) ?_
          refine lv_aload_n hx hb dX2_unlike_32 rfl (lv_at hl 2 rfl) ?_
          refine lv_iload_n hx hb dX2_unlike_33 rfl (lv_at hl 3 rfl) ?_
          refine lv_iload_n hx hb dX2_unlike_34 rfl (lv_at hl 1 rfl) ?_
          refine ns_i (k := 3) (nr_V (As := [.int (nI k), .int (nI (60 + i))]) (rest := [.int (nI (sumN (fun i => if bitN S.1.2.1 k (60 + i) = bitN S.1.2.1 k (60 + i + 255) then 0 else 1) i))]) hx hb hml hown hts (M_bitAt l G q a wd all kept hist hlo snap tk bt_16 rg_16 exa text tl sp read rm nu deep src k (60 + i) (by omega)) nPs.blind 2 q1143 q1145 qs33 q53 q1146 (by decide +kernel) ⟨⟨Nat.le_of_ble_eq_true rfl, Nat.le_of_ble_eq_true rfl⟩, Nat.le_of_ble_eq_true rfl, Nat.le_of_ble_eq_true rfl⟩ (r_recv hG Z.w 0 (C := "ShareStreamsModel") rfl rfl rfl) (nPs_of hG Z Z.w) rfl hl.1 rfl (Nat.le_of_ble_eq_true rfl) dX2_unlike_35) (fun r35 hp35 => ?_)
          have he35 := hp35
          have he35 : r35 = bt_16 (1000 * k + (60 + i)) := he35
          subst he35
          refine r_as (z := nI (bitN S.1.2.1 k (60 + i))) ((hp16 k (by omega) _ (by omega)).trans (by rw [ag_bit ag okb hk])) ?_
          refine lv_aload_n hx hb dX2_unlike_38 rfl (lv_at hl 2 rfl) ?_
          refine lv_iload_n hx hb dX2_unlike_39 rfl (lv_at hl 3 rfl) ?_
          refine lv_iload_n hx hb dX2_unlike_40 rfl (lv_at hl 1 rfl) ?_
          refine lv_sipush (v := nI 255) hx hb dX2_unlike_41 rfl ?_
          refine lv_iadd hx hb dX2_unlike_44 ?_
          refine r_as (z := nI (60 + i + 255)) (nI_add _ _) ?_
          refine ns_i (k := 3) (nr_V (As := [.int (nI k), .int (nI (60 + i + 255))]) (rest := [.int (nI (bitN S.1.2.1 k (60 + i))), .int (nI (sumN (fun i => if bitN S.1.2.1 k (60 + i) = bitN S.1.2.1 k (60 + i + 255) then 0 else 1) i))]) hx hb hml hown hts (M_bitAt l G q a wd all kept hist hlo snap tk bt_16 rg_16 exa text tl sp read rm nu deep src k (60 + i + 255) (by omega)) nPs.blind 2 q1143 q1145 qs33 q53 q1146 (by decide +kernel) ⟨⟨Nat.le_of_ble_eq_true rfl, Nat.le_of_ble_eq_true rfl⟩, Nat.le_of_ble_eq_true rfl, Nat.le_of_ble_eq_true rfl⟩ (r_recv hG Z.w 0 (C := "ShareStreamsModel") rfl rfl rfl) (nPs_of hG Z Z.w) rfl hl.1 rfl (Nat.le_of_ble_eq_true rfl) dX2_unlike_45) (fun r45 hp45 => ?_)
          have he45 := hp45
          have he45 : r45 = bt_16 (1000 * k + (60 + i + 255)) := he45
          subst he45
          refine r_as (z := nI (bitN S.1.2.1 k (60 + i + 255))) ((hp16 k (by omega) _ (by omega)).trans (by rw [ag_bit ag okb hk])) ?_
          have b1 := bit_le okb hk (60 + i)
          have b2 := bit_le okb hk (60 + i + 255)
          refine lv_icmp_eq (tgt := 55) hx hb dX2_unlike_48 (by decide) (fun c48 => ?_) (fun c48 => ?_)
          · skip
            have c48 := n_eq_t (a := bitN S.1.2.1 k (60 + i)) (b := bitN S.1.2.1 k (60 + i + 255)) c48 (by omega) (by omega)
            refine lv_iconst (v := nI 0) hx hb dX2_unlike_55 rfl ?_
            refine lv_iadd hx hb dX2_unlike_56 ?_
            refine r_as (z := nI (sumN (fun i => if bitN S.1.2.1 k (60 + i) = bitN S.1.2.1 k (60 + i + 255) then 0 else 1) (i + 1))) (by rw [nI_add, sumN]; first | rw [if_pos c48] | rw [if_neg c48]) ?_
            refine lv_istore_n (lv' := [(2, .int (nI (sumN (fun i => if bitN S.1.2.1 k (60 + i) = bitN S.1.2.1 k (60 + i + 255) then 0 else 1) (i + 1)))), (3, .int (nI (60 + i))), (0, .ref q), (1, .int (nI k))]) hx hb dX2_unlike_57 rfl hl (by decide) rfl (fun ls hl => ?_)
            refine lv_iinc (v := nI (60 + i + 1)) (lv' := [(3, .int (nI (60 + i + 1))), (2, .int (nI (sumN (fun i => if bitN S.1.2.1 k (60 + i) = bitN S.1.2.1 k (60 + i + 255) then 0 else 1) (i + 1)))), (0, .ref q), (1, .int (nI k))]) hx hb dX2_unlike_58 hl (k := 1) rfl (nI_add _ _) (by decide) rfl (fun ls hl => ?_)
            refine lv_goto (tgt := 24) hx hb dX2_unlike_61 (by decide) ?_
            exact ih_L24 (i + 1) (by first | assumption | omega) (by omega) _ _ Z _ (lv_sub hl [1, 0, 2, 3] rfl)
          · skip
            have c48 := n_eq_f (a := bitN S.1.2.1 k (60 + i)) (b := bitN S.1.2.1 k (60 + i + 255)) c48
            refine lv_iconst (v := nI 1) hx hb dX2_unlike_51 rfl ?_
            refine lv_goto (tgt := 56) hx hb dX2_unlike_52 (by decide) ?_
            refine lv_iadd hx hb dX2_unlike_56 ?_
            refine r_as (z := nI (sumN (fun i => if bitN S.1.2.1 k (60 + i) = bitN S.1.2.1 k (60 + i + 255) then 0 else 1) (i + 1))) (by rw [nI_add, sumN]; first | rw [if_pos c48] | rw [if_neg c48]) ?_
            refine lv_istore_n (lv' := [(2, .int (nI (sumN (fun i => if bitN S.1.2.1 k (60 + i) = bitN S.1.2.1 k (60 + i + 255) then 0 else 1) (i + 1)))), (3, .int (nI (60 + i))), (0, .ref q), (1, .int (nI k))]) hx hb dX2_unlike_57 rfl hl (by decide) rfl (fun ls hl => ?_)
            refine lv_iinc (v := nI (60 + i + 1)) (lv' := [(3, .int (nI (60 + i + 1))), (2, .int (nI (sumN (fun i => if bitN S.1.2.1 k (60 + i) = bitN S.1.2.1 k (60 + i + 255) then 0 else 1) (i + 1)))), (0, .ref q), (1, .int (nI k))]) hx hb dX2_unlike_58 hl (k := 1) rfl (nI_add _ _) (by decide) rfl (fun ls hl => ?_)
            refine lv_goto (tgt := 24) hx hb dX2_unlike_61 (by decide) ?_
            exact ih_L24 (i + 1) (by first | assumption | omega) (by omega) _ _ Z _ (lv_sub hl [1, 0, 2, 3] rfl)
    exact L24 _ 0 (by first | assumption | omega) (Nat.lt_succ_self _) _ _ Z _ (lv_sub hl [1, 0, 2, 3] rfl)
  · skip
    have c5 := bI_f c5
    refine lv_ldc hx hb hown (hts _ q1030) dX2_unlike_8 ?_
    exact ret (-100000001 : Int32) (all, kept, hist, hlo, snap, tk, bits, reg, exa, text, tl, sp, read, rm, nu, deep, src) dX2_unlike_10 (⟨(by simp [qUnlike, c5]), hM⟩) Z (Nat.le_of_ble_eq_true rfl) (Nat.le_of_ble_eq_true rfl)
set_option maxHeartbeats 4000000 in
set_option maxRecDepth 100000 in
theorem M_settles (l : Launch) (G : nG) (q : Nat) (a : Nat → Nat) (wd : Nat → Int64) (all : Nat → Int32) (kept : Nat → Int32) (hist : Nat → Int32) (hlo : Int32) (snap : Nat → Int32) (tk : Int32) (bits : Nat → Int32) (reg : Nat → Int32) (exa : Nat → Int32) (text : Nat → Int32) (tl : Int32) (sp : Int32) (read : Nat → Int32) (rm : Int32) (nu : Int32) (deep : Nat → Int32) (src : Nat → Int32) (S : oSt) (x : Int32) (y : Int32) (hM : mR S all hist hlo snap tk text tl) : nMi (S := (Nat → Int32) × (Nat → Int32) × (Nat → Int32) × Int32 × (Nat → Int32) × Int32 × (Nat → Int32) × (Nat → Int32) × (Nat → Int32) × (Nat → Int32) × Int32 × Int32 × (Nat → Int32) × Int32 × Int32 × (Nat → Int32) × (Nat → Int32)) l yX2_settles cX2_settles 6 (.int) 3 0 0 70 G [.ref q, .int x, .int y] (mW G q a wd all kept hist hlo snap tk bits reg exa text tl sp read rm nu deep src) ([]) (fun (u : (Nat → Int32) × (Nat → Int32) × (Nat → Int32) × Int32 × (Nat → Int32) × Int32 × (Nat → Int32) × (Nat → Int32) × (Nat → Int32) × (Nat → Int32) × Int32 × Int32 × (Nat → Int32) × Int32 × Int32 × (Nat → Int32) × (Nat → Int32)) => mW G q a wd u.1 u.2.1 u.2.2.1 u.2.2.2.1 u.2.2.2.2.1 u.2.2.2.2.2.1 u.2.2.2.2.2.2.1 u.2.2.2.2.2.2.2.1 u.2.2.2.2.2.2.2.2.1 u.2.2.2.2.2.2.2.2.2.1 u.2.2.2.2.2.2.2.2.2.2.1 u.2.2.2.2.2.2.2.2.2.2.2.1 u.2.2.2.2.2.2.2.2.2.2.2.2.1 u.2.2.2.2.2.2.2.2.2.2.2.2.2.1 u.2.2.2.2.2.2.2.2.2.2.2.2.2.2.1 u.2.2.2.2.2.2.2.2.2.2.2.2.2.2.2.1 u.2.2.2.2.2.2.2.2.2.2.2.2.2.2.2.2) (fun (r : Int32) (u : (Nat → Int32) × (Nat → Int32) × (Nat → Int32) × Int32 × (Nat → Int32) × Int32 × (Nat → Int32) × (Nat → Int32) × (Nat → Int32) × (Nat → Int32) × Int32 × Int32 × (Nat → Int32) × Int32 × Int32 × (Nat → Int32) × (Nat → Int32)) => r = (qSettles S.1 x y) ∧ mR S u.1 u.2.2.1 u.2.2.2.1 u.2.2.2.2.1 u.2.2.2.2.2.1 u.2.2.2.2.2.2.2.2.2.1 u.2.2.2.2.2.2.2.2.2.2.1) := by
  refine nMi.of (own := "ShareStreamsModel") rfl (by decide +kernel) (Nat.le_of_ble_eq_true rfl) (fun _ _ _ => rfl) ?_
  intro p e s m args below meth c A Q ls hx hb hml hown hts hin hG Z hl ret
  have hl : lv_has ls 6 [(0, .ref q), (1, .int x), (2, .int y)] := hl
  have Z : nW G A (mW G q a wd all kept hist hlo snap tk bits reg exa text tl sp read rm nu deep src) ([]) ([]) s.heap _ _ := Z
  obtain ⟨so, ba, ⟨eh, hh⟩, ⟨ek, sn⟩, et, tx⟩ := hM
  have hM : mR S all hist hlo snap tk text tl := ⟨so, ba, ⟨eh, hh⟩, ⟨ek, sn⟩, et, tx⟩
  have hn : S.1.1 ≤ 16 := so.1.1
  have ha : all 0 = nI S.1.1 := ba.1
  have okb := so.1.2.2
  have ag := bRow_ag ba
  have okm := ag_ok ag okb
  have hlen := so.1.2.1
  refine lv_aload_n hx hb dX2_settles_0 rfl (lv_at hl 0 rfl) ?_
  refine lv_iload_n hx hb dX2_settles_1 rfl (lv_at hl 1 rfl) ?_
  refine ns_i (k := 3) (nr_V (As := [.int x]) (rest := []) hx hb hml hown hts (M_isLine l G q a wd all kept hist hlo snap tk bits reg exa text tl sp read rm nu deep src x S.1.1 (by first | assumption | omega | rfl) (by first | assumption | omega | rfl)) nPs.blind 1 q1026 q1028 qs20 q53 q1029 (by decide +kernel) ⟨⟨Nat.le_of_ble_eq_true rfl, Nat.le_of_ble_eq_true rfl⟩, Nat.le_of_ble_eq_true rfl, Nat.le_of_ble_eq_true rfl⟩ (r_recv hG Z.w 0 (C := "ShareStreamsModel") rfl rfl rfl) (nPs_of hG Z Z.w) rfl hl.1 rfl (Nat.le_of_ble_eq_true rfl) dX2_settles_2) (fun r2 hp2 => ?_)
  have he2 := hp2
  have he2 : r2 = bI (isLn x S.1.1) := he2
  subst he2
  refine lv_if_ne (tgt := 11) hx hb dX2_settles_5 (by decide) (fun c5 => ?_) (fun c5 => ?_)
  · skip
    have c5 := bI_t c5
    obtain ⟨k, hk, ek⟩ := isLn_t c5 (by omega)
    subst ek
    have hck : (nI k).toNatClampNeg = k := nI_clamp (by omega)
    refine lv_iload_n hx hb dX2_settles_11 rfl (lv_at hl 2 rfl) ?_
    refine lv_i2l hx hb dX2_settles_12 rfl ?_
    refine lv_lconst (v := lN 0) hx hb dX2_settles_13 rfl ?_
    refine lv_ldc2 hx hb hown (hts _ q1155) dX2_settles_14 ?_
    refine r_asl (z := lN 65536) rfl ?_
    refine ns_i (k := 3) (nr_S (As := [.long (Int32.toInt64 y), .long (lN 0), .long (lN 65536)]) (rest := []) hx hb hml hown hts (M_in l G (Int32.toInt64 y) (lN 0) (lN 65536)) nPs.blind 3 q999 q1000 q53 q1001 (by decide +kernel) ⟨⟨Nat.le_of_ble_eq_true rfl, Nat.le_of_ble_eq_true rfl⟩, Nat.le_of_ble_eq_true rfl, Nat.le_of_ble_eq_true rfl⟩ (nPs_of hG Z (fun k q h => by simp at h)) rfl hl.1 rfl (Nat.le_of_ble_eq_true rfl) dX2_settles_17) (fun r17 hp17 => ?_)
    have he17 := hp17
    have he17 : r17 = bI (inL (Int32.toInt64 y) (lN 0) (lN 65536)) := he17
    subst he17
    refine r_as (z := bI (rng y 0 65536)) (by rw [inL_rng y (by decide) (by decide)]) ?_
    refine lv_if_ne (tgt := 26) hx hb dX2_settles_20 (by decide) (fun c20 => ?_) (fun c20 => ?_)
    · skip
      have c20 := bI_t c20
      obtain ⟨w, hw1, hw2, ew⟩ := rng_t c20 (by decide)
      subst ew
      have hcw : (nI w).toNatClampNeg = w := nI_clamp (by omega)
      have es : qSettles S.1 (nI k) (nI w) = stR (stF (stP S.1.2.1 k w) 1000) := by simp [qSettles, c5, c20, hck, hcw]
      refine lv_aload_n hx hb dX2_settles_26 rfl (lv_at hl 0 rfl) ?_
      refine lv_iload_n hx hb dX2_settles_27 rfl (lv_at hl 1 rfl) ?_
      refine lv_sipush (v := nI 1000) hx hb dX2_settles_28 rfl ?_
      refine nc_v (k := 3) (wcc := mW G q a wd all kept hist hlo snap tk bits reg exa text tl sp read rm nu deep src) (wr := []) (nr_V (As := [.int (nI k), .int (nI 1000)]) (rest := []) hx hb hml hown hts ((M_lays l G q a wd all kept hist hlo snap tk bits reg exa text tl sp read rm nu deep src S.1.1 1000 k (by first | assumption | omega | rfl) (by first | assumption | omega | rfl) (by first | assumption | omega | rfl) (by first | assumption | omega | rfl)) _) nP.blind 2 q1135 q1137 qs31 q53 q1138 (by decide +kernel) ⟨⟨Nat.le_of_ble_eq_true rfl, Nat.le_of_ble_eq_true rfl⟩, Nat.le_of_ble_eq_true rfl, Nat.le_of_ble_eq_true rfl⟩ (r_recv hG Z.w 0 (C := "ShareStreamsModel") rfl rfl rfl) (nP_of hG Z [0, 1, 2, 3, 4, 5, 6, 7, 8, 9, 10, 11, 12] rfl (by decide) (fun k q h => by simp at h) nAp.nil) rfl hl.1 rfl (Nat.le_of_ble_eq_true rfl) dX2_settles_31) Z [0, 1, 2, 3, 4, 5, 6, 7, 8, 9, 10, 11, 12] [] rfl rfl (by decide) (by decide) (fun u H locs hp31 Z => ?_)
      obtain ⟨bt_31, rg_31⟩ := u
      have hp31 : laid (mF all) bt_31 (k + 1) 1000 := hp31
      have Z : nW G A (mW G q a wd all kept hist hlo snap tk bt_31 rg_31 exa text tl sp read rm nu deep src) ([]) ([]) s.heap _ _ := Z
      refine lv_aload_n hx hb dX2_settles_34 rfl (lv_at hl 0 rfl) ?_
      refine lv_iload_n hx hb dX2_settles_35 rfl (lv_at hl 1 rfl) ?_
      refine nc_v (k := 3) (wcc := mW G q a wd all kept hist hlo snap tk bt_31 rg_31 exa text tl sp read rm nu deep src) (wr := []) (nr_V (As := [.int (nI k)]) (rest := []) hx hb hml hown hts ((M_findsExact l G q a wd all kept hist hlo snap tk bt_31 rg_31 exa text tl sp read rm nu deep src S.1.1 k (by first | assumption | omega | rfl) (by first | assumption | omega | rfl) (by first | assumption | omega | rfl)) _) nP.blind 1 q1150 q1152 qs34 q53 q1153 (by decide +kernel) ⟨⟨Nat.le_of_ble_eq_true rfl, Nat.le_of_ble_eq_true rfl⟩, Nat.le_of_ble_eq_true rfl, Nat.le_of_ble_eq_true rfl⟩ (r_recv hG Z.w 0 (C := "ShareStreamsModel") rfl rfl rfl) (nP_of hG Z [0, 1, 2, 3, 4, 5, 6, 7, 8, 9, 10, 11, 12] rfl (by decide) (fun k q h => by simp at h) nAp.nil) rfl hl.1 rfl (Nat.le_of_ble_eq_true rfl) dX2_settles_36) Z [0, 1, 2, 3, 4, 5, 6, 7, 8, 9, 10, 11, 12] [] rfl rfl (by decide) (by decide) (fun u H locs hp36 Z => ?_)
      obtain ⟨ex_36, rfl⟩ : ∃ z, z = u := ⟨_, rfl⟩
      have hp36 : ∀ v_, v_ < k + 1 → ex_36 v_ = nI (exN (mF all) v_) := hp36
      have Z : nW G A (mW G q a wd all kept hist hlo snap tk bt_31 rg_31 ex_36 text tl sp read rm nu deep src) ([]) ([]) s.heap _ _ := Z
      refine lv_aload_n hx hb dX2_settles_39 rfl (lv_at hl 0 rfl) ?_
      refine lv_iload_n hx hb dX2_settles_40 rfl (lv_at hl 1 rfl) ?_
      refine lv_sipush (v := nI 1000) hx hb dX2_settles_41 rfl ?_
      refine ns_i (k := 3) (nr_V (As := [.int (nI k), .int (nI 1000)]) (rest := []) hx hb hml hown hts (M_countOf l G q a wd all kept hist hlo snap tk bt_31 rg_31 ex_36 text tl sp read rm nu deep src k 1000 (bitN (mF all) k) (by omega) (by first | assumption | omega | rfl) (fun t ht => hp31 k (by omega) t ht)) nPs.blind 2 q1161 q1163 qs36 q53 q1164 (by decide +kernel) ⟨⟨Nat.le_of_ble_eq_true rfl, Nat.le_of_ble_eq_true rfl⟩, Nat.le_of_ble_eq_true rfl, Nat.le_of_ble_eq_true rfl⟩ (r_recv hG Z.w 0 (C := "ShareStreamsModel") rfl rfl rfl) (nPs_of hG Z Z.w) rfl hl.1 rfl (Nat.le_of_ble_eq_true rfl) dX2_settles_44) (fun r44 hp44 => ?_)
      have he44 := hp44
      have he44 : r44 = nI (sumN (bitN (mF all) k) 1000) := he44
      subst he44
      have hcn := cntN_le okb hk
      refine r_as (z := nI (cntN S.1.2.1 k 1000)) (by show nI (cntN (mF all) k _) = _; rw [ag_cnt ag okb hk]) ?_
      refine lv_istore_n (lv' := [(3, .int (nI (cntN S.1.2.1 k 1000))), (0, .ref q), (1, .int (nI k)), (2, .int (nI w))]) hx hb dX2_settles_47 rfl hl (by decide) rfl (fun ls hl => ?_)
      refine lv_ldc hx hb hown (hts _ q1003) dX2_settles_48 ?_
      refine lv_istore (lv' := [(4, .int (-100000005 : Int32)), (3, .int (nI (cntN S.1.2.1 k 1000))), (0, .ref q), (1, .int (nI k)), (2, .int (nI w))]) hx hb dX2_settles_50 hl (by decide) rfl (fun ls hl => ?_)
      refine lv_sipush (v := nI 1000) hx hb dX2_settles_52 rfl ?_
      refine lv_istore (lv' := [(5, .int (nI 1000)), (4, .int (-100000005 : Int32)), (3, .int (nI (cntN S.1.2.1 k 1000))), (0, .ref q), (1, .int (nI k)), (2, .int (nI w))]) hx hb dX2_settles_55 hl (by decide) rfl (fun ls hl => ?_)
      have L57 : ∀ (k_ : Nat) (i : Nat) (lst : Int32) (g1 : i ≤ 1000) (g2 : ∀ m, i < m → m ≤ 1000 → stP S.1.2.1 k w m = true) (g3 : lst = stR (i + 1)) (hk_ : i < k_) (H : Heap) (locs : List Loc), nW G A (mW G q a wd all kept hist hlo snap tk bt_31 rg_31 ex_36 text tl sp read rm nu deep src) ([]) ([]) s.heap H locs → ∀ (ls : Array Slot), lv_has ls 6 [(3, .int (nI (cntN S.1.2.1 k i))), (4, .int lst), (5, .int (nI i)), (0, .ref q), (1, .int (nI k)), (2, .int (nI w))] → W p l e (nRm 3 0 0 70) s m args below meth c H locs 0 0 Q (F0 m 57 ls []) := by
        intro k_
        induction k_ with
        | zero => intro i lst g1 g2 g3 hk_; exact absurd hk_ (Nat.not_lt_zero _)
        | succ k_ ih_L57 =>
          intro i lst g1 g2 g3 hk_ H locs Z ls hl
          refine lv_iload hx hb dX2_settles_57 (lv_at hl 2 rfl) ?_
          refine lv_if_le (tgt := 96) hx hb dX2_settles_59 (by decide) (fun c59 => ?_) (fun c59 => ?_)
          · skip
            have c59 := n_le_t (a := i) (b := 0) c59 (by omega) (by decide)
            refine lv_iload hx hb dX2_settles_96 (lv_at hl 1 rfl) ?_
            exact ret lst (all, kept, hist, hlo, snap, tk, bt_31, rg_31, ex_36, text, tl, sp, read, rm, nu, deep, src) dX2_settles_98 (⟨(by rw [es, stF_eq (n := i) g1 g2 (by first | exact Or.inr (decide_eq_false (Nat.not_le.mpr c71)) | exact Or.inl (by omega))]; exact g3), hM⟩) Z (Nat.le_of_ble_eq_true rfl) (Nat.le_of_ble_eq_true rfl)
          · skip
            have c59 := n_le_f (a := i) (b := 0) c59 (by omega) (by decide)
            refine lv_aload_n hx hb dX2_settles_62 rfl (lv_at hl 3 rfl) ?_
            refine lv_iload_n hx hb dX2_settles_63 rfl (lv_at hl 4 rfl) ?_
            refine lv_iload_n hx hb dX2_settles_64 rfl (lv_at hl 0 rfl) ?_
            refine lv_iload hx hb dX2_settles_65 (lv_at hl 2 rfl) ?_
            refine ns_i (k := 3) (nr_V (As := [.int (nI k), .int (nI (cntN S.1.2.1 k i)), .int (nI i)]) (rest := []) hx hb hml hown hts (M_errorBy l G q a wd all kept hist hlo snap tk bt_31 rg_31 ex_36 text tl sp read rm nu deep src k (cntN S.1.2.1 k i) i (exN S.1.2.1 k) (by omega) (hcn _) (by first | assumption | omega | rfl) (by first | assumption | omega | rfl) ((hp36 k (by omega)).trans (congrArg nI (ag_ex ag okb hk))) (ex_le okb hk)) nPs.blind 3 q1165 q1167 qs37 q53 q1168 (by decide +kernel) ⟨⟨Nat.le_of_ble_eq_true rfl, Nat.le_of_ble_eq_true rfl⟩, Nat.le_of_ble_eq_true rfl, Nat.le_of_ble_eq_true rfl⟩ (r_recv hG Z.w 0 (C := "ShareStreamsModel") rfl rfl rfl) (nPs_of hG Z Z.w) rfl hl.1 rfl (Nat.le_of_ble_eq_true rfl) dX2_settles_67) (fun r67 hp67 => ?_)
            have he67 := hp67
            have he67 : r67 = nI (apN (shN (cntN S.1.2.1 k i) i) (exN S.1.2.1 k)) := he67
            subst he67
            refine r_as (z := nI (errN S.1.2.1 k i)) rfl ?_
            have her := err_le okb hk (t := i) (by omega)
            refine lv_iload_n hx hb dX2_settles_70 rfl (lv_at hl 5 rfl) ?_
            refine lv_icmp_gt (tgt := 96) hx hb dX2_settles_71 (by decide) (fun c71 => ?_) (fun c71 => ?_)
            · skip
              have c71 := n_lt_t (a := w) (b := errN S.1.2.1 k i) c71 (by omega) (by omega)
              refine lv_iload hx hb dX2_settles_96 (lv_at hl 1 rfl) ?_
              exact ret lst (all, kept, hist, hlo, snap, tk, bt_31, rg_31, ex_36, text, tl, sp, read, rm, nu, deep, src) dX2_settles_98 (⟨(by rw [es, stF_eq (n := i) g1 g2 (by first | exact Or.inr (decide_eq_false (Nat.not_le.mpr c71)) | exact Or.inl (by omega))]; exact g3), hM⟩) Z (Nat.le_of_ble_eq_true rfl) (Nat.le_of_ble_eq_true rfl)
            · skip
              have c71 := n_lt_f (a := w) (b := errN S.1.2.1 k i) c71 (by omega) (by omega)
              refine lv_iload hx hb dX2_settles_74 (lv_at hl 2 rfl) ?_
              refine lv_istore (lv' := [(4, .int (nI i)), (3, .int (nI (cntN S.1.2.1 k i))), (5, .int (nI i)), (0, .ref q), (1, .int (nI k)), (2, .int (nI w))]) hx hb dX2_settles_76 hl (by decide) rfl (fun ls hl => ?_)
              refine lv_iload_n hx hb dX2_settles_78 rfl (lv_at hl 1 rfl) ?_
              refine lv_aload_n hx hb dX2_settles_79 rfl (lv_at hl 3 rfl) ?_
              refine lv_iload_n hx hb dX2_settles_80 rfl (lv_at hl 4 rfl) ?_
              refine lv_iload hx hb dX2_settles_81 (lv_at hl 2 rfl) ?_
              refine lv_iconst (v := nI 1) hx hb dX2_settles_83 rfl ?_
              refine lv_isub hx hb dX2_settles_84 ?_
              refine r_as (z := nI (i - 1)) (pk_sub (by omega)) ?_
              refine ns_i (k := 3) (nr_V (As := [.int (nI k), .int (nI (i - 1))]) (rest := [.int (nI (cntN S.1.2.1 k i))]) hx hb hml hown hts (M_bitAt l G q a wd all kept hist hlo snap tk bt_31 rg_31 ex_36 text tl sp read rm nu deep src k (i - 1) (by omega)) nPs.blind 2 q1143 q1145 qs33 q53 q1146 (by decide +kernel) ⟨⟨Nat.le_of_ble_eq_true rfl, Nat.le_of_ble_eq_true rfl⟩, Nat.le_of_ble_eq_true rfl, Nat.le_of_ble_eq_true rfl⟩ (r_recv hG Z.w 0 (C := "ShareStreamsModel") rfl rfl rfl) (nPs_of hG Z Z.w) rfl hl.1 rfl (Nat.le_of_ble_eq_true rfl) dX2_settles_85) (fun r85 hp85 => ?_)
              have he85 := hp85
              have he85 : r85 = bt_31 (1000 * k + (i - 1)) := he85
              subst he85
              refine r_as (z := nI (bitN S.1.2.1 k (i - 1))) ((hp31 k (by omega) _ (by omega)).trans (by rw [ag_bit ag okb hk])) ?_
              refine lv_isub hx hb dX2_settles_88 ?_
              refine r_as (z := nI (cntN S.1.2.1 k (i - 1))) (cnt_sub (by omega)) ?_
              refine lv_istore_n (lv' := [(3, .int (nI (cntN S.1.2.1 k (i - 1)))), (4, .int (nI i)), (5, .int (nI i)), (0, .ref q), (1, .int (nI k)), (2, .int (nI w))]) hx hb dX2_settles_89 rfl hl (by decide) rfl (fun ls hl => ?_)
              refine lv_iinc (v := nI (i - 1)) (lv' := [(5, .int (nI (i - 1))), (3, .int (nI (cntN S.1.2.1 k (i - 1)))), (4, .int (nI i)), (0, .ref q), (1, .int (nI k)), (2, .int (nI w))]) hx hb dX2_settles_90 hl (k := 2) rfl (nI_dec (by omega)) (by decide) rfl (fun ls hl => ?_)
              refine lv_goto (tgt := 57) hx hb dX2_settles_93 (by decide) ?_
              exact ih_L57 (i - 1) (nI i) (by omega) (fun m h1 h2 => by by_cases e : m = i; { subst e; exact decide_eq_true c71 }; { exact g2 m (by omega) h2 }) (by rw [show i - 1 + 1 = i by omega]; unfold stR; rw [if_neg (by omega)]) (by omega) _ _ Z _ (lv_sub hl [1, 2, 0, 3, 4, 5] rfl)
      exact L57 _ 1000 (-100000005 : Int32) (by omega) (fun m h1 h2 => by omega) rfl (Nat.lt_succ_self _) _ _ Z _ (lv_sub hl [2, 1, 0, 3, 4, 5] rfl)
    · skip
      have c20 := bI_f c20
      refine lv_ldc hx hb hown (hts _ q1021) dX2_settles_23 ?_
      exact ret (-100000002 : Int32) (all, kept, hist, hlo, snap, tk, bits, reg, exa, text, tl, sp, read, rm, nu, deep, src) dX2_settles_25 (⟨(by simp [qSettles, c5, c20]), hM⟩) Z (Nat.le_of_ble_eq_true rfl) (Nat.le_of_ble_eq_true rfl)
  · skip
    have c5 := bI_f c5
    refine lv_ldc hx hb hown (hts _ q1030) dX2_settles_8 ?_
    exact ret (-100000001 : Int32) (all, kept, hist, hlo, snap, tk, bits, reg, exa, text, tl, sp, read, rm, nu, deep, src) dX2_settles_10 (⟨(by simp [qSettles, c5]), hM⟩) Z (Nat.le_of_ble_eq_true rfl) (Nat.le_of_ble_eq_true rfl)
