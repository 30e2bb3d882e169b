set_option maxHeartbeats 4000000 in
set_option maxRecDepth 100000 in
theorem M_overlap (l : Launch) (G : nG) (q : Nat) (a : Nat → Nat) (wd : Nat → Int64) (all : Nat → Int32) (kept : Nat → Int32) (hist : Nat → Int32) (hlo : Int32) (snap : Nat → Int32) (tk : Int32) (bits : Nat → Int32) (reg : Nat → Int32) (exa : Nat → Int32) (text : Nat → Int32) (tl : Int32) (sp : Int32) (read : Nat → Int32) (rm : Int32) (nu : Int32) (deep : Nat → Int32) (src : Nat → Int32) (S : oSt) (x : Int32) (y : Int32) (hM : mR S all hist hlo snap tk text tl) : nMi (S := (Nat → Int32) × (Nat → Int32) × (Nat → Int32) × Int32 × (Nat → Int32) × Int32 × (Nat → Int32) × (Nat → Int32) × (Nat → Int32) × (Nat → Int32) × Int32 × Int32 × (Nat → Int32) × Int32 × Int32 × (Nat → Int32) × (Nat → Int32)) l yX2_overlap cX2_overlap 8 (.int) 3 0 0 70 G [.ref q, .int x, .int y] (mW G q a wd all kept hist hlo snap tk bits reg exa text tl sp read rm nu deep src) ([]) (fun (u : (Nat → Int32) × (Nat → Int32) × (Nat → Int32) × Int32 × (Nat → Int32) × Int32 × (Nat → Int32) × (Nat → Int32) × (Nat → Int32) × (Nat → Int32) × Int32 × Int32 × (Nat → Int32) × Int32 × Int32 × (Nat → Int32) × (Nat → Int32)) => mW G q a wd u.1 u.2.1 u.2.2.1 u.2.2.2.1 u.2.2.2.2.1 u.2.2.2.2.2.1 u.2.2.2.2.2.2.1 u.2.2.2.2.2.2.2.1 u.2.2.2.2.2.2.2.2.1 u.2.2.2.2.2.2.2.2.2.1 u.2.2.2.2.2.2.2.2.2.2.1 u.2.2.2.2.2.2.2.2.2.2.2.1 u.2.2.2.2.2.2.2.2.2.2.2.2.1 u.2.2.2.2.2.2.2.2.2.2.2.2.2.1 u.2.2.2.2.2.2.2.2.2.2.2.2.2.2.1 u.2.2.2.2.2.2.2.2.2.2.2.2.2.2.2.1 u.2.2.2.2.2.2.2.2.2.2.2.2.2.2.2.2) (fun (r : Int32) (u : (Nat → Int32) × (Nat → Int32) × (Nat → Int32) × Int32 × (Nat → Int32) × Int32 × (Nat → Int32) × (Nat → Int32) × (Nat → Int32) × (Nat → Int32) × Int32 × Int32 × (Nat → Int32) × Int32 × Int32 × (Nat → Int32) × (Nat → Int32)) => r = (qOverlap S.1 x y) ∧ mR S u.1 u.2.2.1 u.2.2.2.1 u.2.2.2.2.1 u.2.2.2.2.2.1 u.2.2.2.2.2.2.2.2.2.1 u.2.2.2.2.2.2.2.2.2.2.1) := by
  refine nMi.of (own := "ShareStreamsModel") rfl (by decide +kernel) (Nat.le_of_ble_eq_true rfl) (fun _ _ _ => rfl) ?_
  intro p e s m args below meth c A Q ls hx hb hml hown hts hin hG Z hl ret
  have hl : lv_has ls 8 [(0, .ref q), (1, .int x), (2, .int y)] := hl
  have Z : nW G A (mW G q a wd all kept hist hlo snap tk bits reg exa text tl sp read rm nu deep src) ([]) ([]) s.heap _ _ := Z
  obtain ⟨so, ba, ⟨eh, hh⟩, ⟨ek, sn⟩, et, tx⟩ := hM
  have hM : mR S all hist hlo snap tk text tl := ⟨so, ba, ⟨eh, hh⟩, ⟨ek, sn⟩, et, tx⟩
  have hn : S.1.1 ≤ 16 := so.1.1
  have ha : all 0 = nI S.1.1 := ba.1
  have okb := so.1.2.2
  have ag := bRow_ag ba
  have okm := ag_ok ag okb
  have hlen := so.1.2.1
  refine lv_aload_n hx hb dX2_overlap_0 rfl (lv_at hl 0 rfl) ?_
  refine lv_iload_n hx hb dX2_overlap_1 rfl (lv_at hl 1 rfl) ?_
  refine ns_i (k := 3) (nr_V (As := [.int x]) (rest := []) hx hb hml hown hts (M_isLine l G q a wd all kept hist hlo snap tk bits reg exa text tl sp read rm nu deep src x S.1.1 (by first | assumption | omega | rfl) (by first | assumption | omega | rfl)) nPs.blind 1 q1026 q1028 qs20 q53 q1029 (by decide +kernel) ⟨⟨Nat.le_of_ble_eq_true rfl, Nat.le_of_ble_eq_true rfl⟩, Nat.le_of_ble_eq_true rfl, Nat.le_of_ble_eq_true rfl⟩ (r_recv hG Z.w 0 (C := "ShareStreamsModel") rfl rfl rfl) (nPs_of hG Z Z.w) rfl hl.1 rfl (Nat.le_of_ble_eq_true rfl) dX2_overlap_2) (fun r2 hp2 => ?_)
  have he2 := hp2
  have he2 : r2 = bI (isLn x S.1.1) := he2
  subst he2
  refine lv_if_eq (tgt := 16) hx hb dX2_overlap_5 (by decide) (fun c5 => ?_) (fun c5 => ?_)
  · skip
    have c5 := bI_f c5
    refine lv_ldc hx hb hown (hts _ q1030) dX2_overlap_16 ?_
    exact ret (-100000001 : Int32) (all, kept, hist, hlo, snap, tk, bits, reg, exa, text, tl, sp, read, rm, nu, deep, src) dX2_overlap_18 (⟨(by first | simp [qOverlap, c5, c13] | simp [qOverlap, c5]), hM⟩) Z (Nat.le_of_ble_eq_true rfl) (Nat.le_of_ble_eq_true rfl)
  · skip
    have c5 := bI_t c5
    refine lv_aload_n hx hb dX2_overlap_8 rfl (lv_at hl 0 rfl) ?_
    refine lv_iload_n hx hb dX2_overlap_9 rfl (lv_at hl 2 rfl) ?_
    refine ns_i (k := 3) (nr_V (As := [.int y]) (rest := []) hx hb hml hown hts (M_isLine l G q a wd all kept hist hlo snap tk bits reg exa text tl sp read rm nu deep src y S.1.1 (by first | assumption | omega | rfl) (by first | assumption | omega | rfl)) nPs.blind 1 q1026 q1028 qs20 q53 q1029 (by decide +kernel) ⟨⟨Nat.le_of_ble_eq_true rfl, Nat.le_of_ble_eq_true rfl⟩, Nat.le_of_ble_eq_true rfl, Nat.le_of_ble_eq_true rfl⟩ (r_recv hG Z.w 0 (C := "ShareStreamsModel") rfl rfl rfl) (nPs_of hG Z Z.w) rfl hl.1 rfl (Nat.le_of_ble_eq_true rfl) dX2_overlap_10) (fun r10 hp10 => ?_)
    have he10 := hp10
    have he10 : r10 = bI (isLn y S.1.1) := he10
    subst he10
    refine lv_if_ne (tgt := 19) hx hb dX2_overlap_13 (by decide) (fun c13 => ?_) (fun c13 => ?_)
    · skip
      have c13 := bI_t c13
      obtain ⟨k, hk, ek⟩ := isLn_t c5 (by omega)
      subst ek
      have hck : (nI k).toNatClampNeg = k := nI_clamp (by omega)
      obtain ⟨j, hj, ej⟩ := isLn_t c13 (by omega)
      subst ej
      have hcj : (nI j).toNatClampNeg = j := nI_clamp (by omega)
      refine lv_aload_n hx hb dX2_overlap_19 rfl (lv_at hl 0 rfl) ?_
      refine r_get (v := .ref (a 0)) hx hb hts in_X2 hown hG Z.w 0 rfl rfl 0 (by decide) q938 (fun _ h9 => h9) rfl dX2_overlap_20 ?_
      refine lv_iconst (v := nI 1) hx hb dX2_overlap_23 rfl ?_
      refine r_iald hx hb hG Z.w 1 rfl (j := 1) (by omega) (by decide) (v := nI S.1.2.2) ba.2.1 dX2_overlap_24 ?_
      refine lv_istore_n (lv' := [(3, .int (nI S.1.2.2)), (0, .ref q), (1, .int (nI k)), (2, .int (nI j))]) hx hb dX2_overlap_25 rfl hl (by decide) rfl (fun ls hl => ?_)
      have J37 : ∀ (mx : Nat) (m1 : k ≤ mx) (m2 : j ≤ mx) (m3 : mx < S.1.1) (H : Heap) (locs : List Loc), nW G A (mW G q a wd all kept hist hlo snap tk bits reg exa text tl sp read rm nu deep src) ([]) ([]) s.heap H locs → ∀ (ls : Array Slot), lv_has ls 8 [(3, .int (nI S.1.2.2)), (0, .ref q), (1, .int (nI k)), (2, .int (nI j))] → W p l e (nRm 3 0 0 70) s m args below meth c H locs 0 0 Q (F0 m 37 ls [.int (nI mx), .ref q]) := by
        intro mx m1 m2 m3 H locs Z ls hl
        refine lv_iload_n hx hb dX2_overlap_37 rfl (lv_at hl 0 rfl) ?_
        refine nc_v (k := 3) (wcc := mW G q a wd all kept hist hlo snap tk bits reg exa text tl sp read rm nu deep src) (wr := []) (nr_V (As := [.int (nI mx), .int (nI S.1.2.2)]) (rest := []) hx hb hml hown hts ((M_lays l G q a wd all kept hist hlo snap tk bits reg exa text tl sp read rm nu deep src S.1.1 S.1.2.2 mx (by first | assumption | omega | rfl) (by first | assumption | omega | rfl) (by first | assumption | omega | rfl) (by first | assumption | omega | rfl)) _) nP.blind 2 q1135 q1137 qs31 q53 q1138 (by decide +kernel) ⟨⟨Nat.le_of_ble_eq_true rfl, Nat.le_of_ble_eq_true rfl⟩, Nat.le_of_ble_eq_true rfl, Nat.le_of_ble_eq_true rfl⟩ (r_recv hG Z.w 0 (C := "ShareStreamsModel") rfl rfl rfl) (nP_of hG Z [0, 1, 2, 3, 4, 5, 6, 7, 8, 9, 10, 11, 12] rfl (by decide) (fun k q h => by simp at h) nAp.nil) rfl hl.1 rfl (Nat.le_of_ble_eq_true rfl) dX2_overlap_38) Z [0, 1, 2, 3, 4, 5, 6, 7, 8, 9, 10, 11, 12] [] rfl rfl (by decide) (by decide) (fun u H locs hp38 Z => ?_)
        obtain ⟨bt_38, rg_38⟩ := u
        have hp38 : laid (mF all) bt_38 (mx + 1) S.1.2.2 := hp38
        have Z : nW G A (mW G q a wd all kept hist hlo snap tk bt_38 rg_38 exa text tl sp read rm nu deep src) ([]) ([]) s.heap _ _ := Z
        refine lv_lconst (v := lN 0) hx hb dX2_overlap_41 rfl ?_
        refine lv_lstore (lv' := [(4, .long (lN 0)), (3, .int (nI S.1.2.2)), (0, .ref q), (1, .int (nI k)), (2, .int (nI j))]) hx hb dX2_overlap_42 hl (by decide) rfl (fun ls hl => ?_)
        refine lv_iconst (v := nI 0) hx hb dX2_overlap_44 rfl ?_
        refine lv_istore (lv' := [(6, .int (nI 0)), (4, .long (lN 0)), (3, .int (nI S.1.2.2)), (0, .ref q), (1, .int (nI k)), (2, .int (nI j))]) hx hb dX2_overlap_45 hl (by decide) rfl (fun ls hl => ?_)
        have L47 : ∀ (k_ : Nat) (t : Nat) (g1 : t ≤ S.1.2.2) (hk_ : S.1.2.2 - t < k_) (H : Heap) (locs : List Loc), nW G A (mW G q a wd all kept hist hlo snap tk bt_38 rg_38 exa text tl sp read rm nu deep src) ([]) ([]) s.heap H locs → ∀ (ls : Array Slot), lv_has ls 8 [(4, .long (lN (sumN (fun t => bitN S.1.2.1 k t &&& bitN S.1.2.1 j t) t))), (6, .int (nI t)), (3, .int (nI S.1.2.2)), (0, .ref q), (1, .int (nI k)), (2, .int (nI j))] → W p l e (nRm 3 0 0 70) s m args below meth c H locs 0 0 Q (F0 m 47 ls []) := by
          intro k_
          induction k_ with
          | zero => intro t g1 hk_; exact absurd hk_ (Nat.not_lt_zero _)
          | succ k_ ih_L47 =>
            intro t g1 hk_ H locs Z ls hl
            refine lv_iload hx hb dX2_overlap_47 (lv_at hl 1 rfl) ?_
            refine lv_iload_n hx hb dX2_overlap_49 rfl (lv_at hl 2 rfl) ?_
            refine lv_icmp_ge (tgt := 80) hx hb dX2_overlap_50 (by decide) (fun c50 => ?_) (fun c50 => ?_)
            · skip
              have c50 := n_le_t (a := S.1.2.2) (b := t) c50 (by omega) (by omega)
              have eT : t = S.1.2.2 := by omega
              subst eT
              refine lv_lload hx hb dX2_overlap_80 (lv_at hl 0 rfl) ?_
              refine lv_iload_n hx hb dX2_overlap_82 rfl (lv_at hl 2 rfl) ?_
              refine lv_i2l (v := lN S.1.2.2) hx hb dX2_overlap_83 (nI_l (by omega)) ?_
              refine lv_lmul hx hb dX2_overlap_84 ?_
              refine r_asl (z := lN ((sumN (fun t => bitN S.1.2.1 k t &&& bitN S.1.2.1 j t) S.1.2.2) * S.1.2.2)) (lN_mul _ _) ?_
              refine lv_aload_n hx hb dX2_overlap_85 rfl (lv_at hl 3 rfl) ?_
              refine lv_iload_n hx hb dX2_overlap_86 rfl (lv_at hl 4 rfl) ?_
              refine lv_iload_n hx hb dX2_overlap_87 rfl (lv_at hl 2 rfl) ?_
              refine ns_i (k := 3) (nr_V (As := [.int (nI k), .int (nI S.1.2.2)]) (rest := [.long (lN ((sumN (fun t => bitN S.1.2.1 k t &&& bitN S.1.2.1 j t) S.1.2.2) * S.1.2.2))]) hx hb hml hown hts (M_countOf l G q a wd all kept hist hlo snap tk bt_38 rg_38 exa text tl sp read rm nu deep src k S.1.2.2 (bitN (mF all) k) (by omega) (by first | assumption | omega | rfl) (fun t ht => hp38 k (by omega) t ht)) nPs.blind 2 q1161 q1163 qs36 q53 q1164 (by decide +kernel) ⟨⟨Nat.le_of_ble_eq_true rfl, Nat.le_of_ble_eq_true rfl⟩, Nat.le_of_ble_eq_true rfl, Nat.le_of_ble_eq_true rfl⟩ (r_recv hG Z.w 0 (C := "ShareStreamsModel") rfl rfl rfl) (nPs_of hG Z Z.w) rfl hl.1 rfl (Nat.le_of_ble_eq_true rfl) dX2_overlap_88) (fun r88 hp88 => ?_)
              have he88 := hp88
              have he88 : r88 = nI (sumN (bitN (mF all) k) S.1.2.2) := he88
              subst he88
              have hcnk := cntN_le okb hk
              refine r_as (z := nI (cntN S.1.2.1 k S.1.2.2)) (by show nI (cntN (mF all) k _) = _; rw [ag_cnt ag okb hk]) ?_
              have hck2 := hcnk S.1.2.2
              refine lv_i2l (v := lN (cntN S.1.2.1 k S.1.2.2)) hx hb dX2_overlap_91 (nI_l (by omega)) ?_
              refine lv_aload_n hx hb dX2_overlap_92 rfl (lv_at hl 3 rfl) ?_
              refine lv_iload_n hx hb dX2_overlap_93 rfl (lv_at hl 5 rfl) ?_
              refine lv_iload_n hx hb dX2_overlap_94 rfl (lv_at hl 2 rfl) ?_
              refine ns_i (k := 3) (nr_V (As := [.int (nI j), .int (nI S.1.2.2)]) (rest := [.long (lN (cntN S.1.2.1 k S.1.2.2)), .long (lN ((sumN (fun t => bitN S.1.2.1 k t &&& bitN S.1.2.1 j t) S.1.2.2) * S.1.2.2))]) hx hb hml hown hts (M_countOf l G q a wd all kept hist hlo snap tk bt_38 rg_38 exa text tl sp read rm nu deep src j S.1.2.2 (bitN (mF all) j) (by omega) (by first | assumption | omega | rfl) (fun t ht => hp38 j (by omega) t ht)) nPs.blind 2 q1161 q1163 qs36 q53 q1164 (by decide +kernel) ⟨⟨Nat.le_of_ble_eq_true rfl, Nat.le_of_ble_eq_true rfl⟩, Nat.le_of_ble_eq_true rfl, Nat.le_of_ble_eq_true rfl⟩ (r_recv hG Z.w 0 (C := "ShareStreamsModel") rfl rfl rfl) (nPs_of hG Z Z.w) rfl hl.1 rfl (Nat.le_of_ble_eq_true rfl) dX2_overlap_95) (fun r95 hp95 => ?_)
              have he95 := hp95
              have he95 : r95 = nI (sumN (bitN (mF all) j) S.1.2.2) := he95
              subst he95
              have hcnj := cntN_le okb hj
              refine r_as (z := nI (cntN S.1.2.1 j S.1.2.2)) (by show nI (cntN (mF all) j _) = _; rw [ag_cnt ag okb hj]) ?_
              have hcj2 := hcnj S.1.2.2
              refine lv_i2l (v := lN (cntN S.1.2.1 j S.1.2.2)) hx hb dX2_overlap_98 (nI_l (by omega)) ?_
              refine lv_lmul hx hb dX2_overlap_99 ?_
              refine r_asl (z := lN ((cntN S.1.2.1 k S.1.2.2) * (cntN S.1.2.1 j S.1.2.2))) (lN_mul _ _) ?_
              refine lv_lsub hx hb dX2_overlap_100 ?_
              refine lv_lstore (lv' := [(6, .long ((lN ((sumN (fun t => bitN S.1.2.1 k t &&& bitN S.1.2.1 j t) S.1.2.2) * S.1.2.2)) - (lN ((cntN S.1.2.1 k S.1.2.2) * (cntN S.1.2.1 j S.1.2.2))))), (4, .long (lN (sumN (fun t => bitN S.1.2.1 k t &&& bitN S.1.2.1 j t) S.1.2.2))), (3, .int (nI S.1.2.2)), (0, .ref q), (1, .int (nI k)), (2, .int (nI j))]) hx hb dX2_overlap_101 hl (by decide) rfl (fun ls hl => ?_)
              refine lv_lload hx hb dX2_overlap_103 (lv_at hl 0 rfl) ?_
              refine lv_ldc2 hx hb hown (hts _ q1155) dX2_overlap_105 ?_
              refine r_asl (z := lN 65536) rfl ?_
              refine lv_lmul hx hb dX2_overlap_108 ?_
              refine lv_iload_n hx hb dX2_overlap_109 rfl (lv_at hl 2 rfl) ?_
              refine lv_i2l (v := lN S.1.2.2) hx hb dX2_overlap_110 (nI_l (by omega)) ?_
              refine lv_iload_n hx hb dX2_overlap_111 rfl (lv_at hl 2 rfl) ?_
              refine lv_i2l (v := lN S.1.2.2) hx hb dX2_overlap_112 (nI_l (by omega)) ?_
              refine lv_lmul hx hb dX2_overlap_113 ?_
              refine r_asl (z := lN (S.1.2.2 * S.1.2.2)) (lN_mul _ _) ?_
              refine lv_ldiv hx hb dX2_overlap_114 (fun h => by have hz := (pk_lEQ (a := S.1.2.2 * S.1.2.2) (b := 0) (Nat.lt_of_le_of_lt (Nat.mul_le_mul hlen.2 hlen.2) (by decide)) (by decide)).mp h; have hz2 := Nat.mul_pos (show 0 < S.1.2.2 by omega) (show 0 < S.1.2.2 by omega); omega) ?_
              refine lv_l2i hx hb dX2_overlap_115 rfl ?_
              exact ret (Int64.toInt32 ((((lN ((sumN (fun t => bitN S.1.2.1 k t &&& bitN S.1.2.1 j t) S.1.2.2) * S.1.2.2)) - (lN ((cntN S.1.2.1 k S.1.2.2) * (cntN S.1.2.1 j S.1.2.2)))) * (lN 65536)) / (lN (S.1.2.2 * S.1.2.2)))) (all, kept, hist, hlo, snap, tk, bt_38, rg_38, exa, text, tl, sp, read, rm, nu, deep, src) dX2_overlap_116 (⟨(by simp [qOverlap, c5, c13, hck, hcj, ovI, ovB]), hM⟩) Z (Nat.le_of_ble_eq_true rfl) (Nat.le_of_ble_eq_true rfl)
            · skip
              have c50 := n_le_f (a := S.1.2.2) (b := t) c50 (by omega) (by omega)
              refine lv_lload hx hb dX2_overlap_53 (lv_at hl 0 rfl) ?_
              refine lv_aload_n hx hb dX2_overlap_55 rfl (lv_at hl 3 rfl) ?_
              refine lv_iload_n hx hb dX2_overlap_56 rfl (lv_at hl 4 rfl) ?_
              refine lv_iload hx hb dX2_overlap_57 (lv_at hl 1 rfl) ?_
              refine ns_i (k := 3) (nr_V (As := [.int (nI k), .int (nI t)]) (rest := [.long (lN (sumN (fun t => bitN S.1.2.1 k t &&& bitN S.1.2.1 j t) t))]) hx hb hml hown hts (M_bitAt l G q a wd all kept hist hlo snap tk bt_38 rg_38 exa text tl sp read rm nu deep src k t (by omega)) nPs.blind 2 q1143 q1145 qs33 q53 q1146 (by decide +kernel) ⟨⟨Nat.le_of_ble_eq_true rfl, Nat.le_of_ble_eq_true rfl⟩, Nat.le_of_ble_eq_true rfl, Nat.le_of_ble_eq_true rfl⟩ (r_recv hG Z.w 0 (C := "ShareStreamsModel") rfl rfl rfl) (nPs_of hG Z Z.w) rfl hl.1 rfl (Nat.le_of_ble_eq_true rfl) dX2_overlap_59) (fun r59 hp59 => ?_)
              have he59 := hp59
              have he59 : r59 = bt_38 (1000 * k + t) := he59
              subst he59
              refine r_as (z := nI (bitN S.1.2.1 k t)) ((hp38 k (by omega) t (by omega)).trans (by rw [ag_bit ag okb hk])) ?_
              refine lv_aload_n hx hb dX2_overlap_62 rfl (lv_at hl 3 rfl) ?_
              refine lv_iload_n hx hb dX2_overlap_63 rfl (lv_at hl 5 rfl) ?_
              refine lv_iload hx hb dX2_overlap_64 (lv_at hl 1 rfl) ?_
              refine ns_i (k := 3) (nr_V (As := [.int (nI j), .int (nI t)]) (rest := [.int (nI (bitN S.1.2.1 k t)), .long (lN (sumN (fun t => bitN S.1.2.1 k t &&& bitN S.1.2.1 j t) t))]) hx hb hml hown hts (M_bitAt l G q a wd all kept hist hlo snap tk bt_38 rg_38 exa text tl sp read rm nu deep src j t (by omega)) nPs.blind 2 q1143 q1145 qs33 q53 q1146 (by decide +kernel) ⟨⟨Nat.le_of_ble_eq_true rfl, Nat.le_of_ble_eq_true rfl⟩, Nat.le_of_ble_eq_true rfl, Nat.le_of_ble_eq_true rfl⟩ (r_recv hG Z.w 0 (C := "ShareStreamsModel") rfl rfl rfl) (nPs_of hG Z Z.w) rfl hl.1 rfl (Nat.le_of_ble_eq_true rfl) dX2_overlap_66) (fun r66 hp66 => ?_)
              have he66 := hp66
              have he66 : r66 = bt_38 (1000 * j + t) := he66
              subst he66
              refine r_as (z := nI (bitN S.1.2.1 j t)) ((hp38 j (by omega) t (by omega)).trans (by rw [ag_bit ag okb hj])) ?_
              refine lv_iand hx hb dX2_overlap_69 ?_
              refine r_as (z := nI (bitN S.1.2.1 k t &&& bitN S.1.2.1 j t)) (nx_and _ _) ?_
              have hbk : bitN S.1.2.1 k t &&& bitN S.1.2.1 j t ≤ 1 := Nat.le_trans Nat.and_le_left (bit_le okb hk t)
              refine lv_i2l (v := lN (bitN S.1.2.1 k t &&& bitN S.1.2.1 j t)) hx hb dX2_overlap_70 (nI_l (by omega)) ?_
              refine lv_ladd hx hb dX2_overlap_71 ?_
              refine r_asl (z := lN (sumN (fun t => bitN S.1.2.1 k t &&& bitN S.1.2.1 j t) t + (bitN S.1.2.1 k t &&& bitN S.1.2.1 j t))) (lN_add _ _) ?_
              refine lv_lstore (lv' := [(4, .long (lN (sumN (fun t => bitN S.1.2.1 k t &&& bitN S.1.2.1 j t) t + (bitN S.1.2.1 k t &&& bitN S.1.2.1 j t)))), (6, .int (nI t)), (3, .int (nI S.1.2.2)), (0, .ref q), (1, .int (nI k)), (2, .int (nI j))]) hx hb dX2_overlap_72 hl (by decide) rfl (fun ls hl => ?_)
              refine lv_iinc (v := nI (t + 1)) (lv' := [(6, .int (nI (t + 1))), (4, .long (lN (sumN (fun t => bitN S.1.2.1 k t &&& bitN S.1.2.1 j t) t + (bitN S.1.2.1 k t &&& bitN S.1.2.1 j t)))), (3, .int (nI S.1.2.2)), (0, .ref q), (1, .int (nI k)), (2, .int (nI j))]) hx hb dX2_overlap_74 hl (k := 1) rfl (nI_add _ _) (by decide) rfl (fun ls hl => ?_)
              refine lv_goto (tgt := 47) hx hb dX2_overlap_77 (by decide) ?_
              exact ih_L47 (t + 1) (by first | assumption | omega) (by omega) _ _ Z _ (lv_sub hl [1, 0, 2, 3, 4, 5] rfl)
        exact L47 _ 0 (by first | assumption | omega) (Nat.lt_succ_self _) _ _ Z _ (lv_sub hl [1, 0, 2, 3, 4, 5] rfl)
      refine lv_aload_n hx hb dX2_overlap_26 rfl (lv_at hl 1 rfl) ?_
      refine lv_iload_n hx hb dX2_overlap_27 rfl (lv_at hl 2 rfl) ?_
      refine lv_iload_n hx hb dX2_overlap_28 rfl (lv_at hl 3 rfl) ?_
      refine lv_icmp_le (tgt := 36) hx hb dX2_overlap_29 (by decide) (fun c29 => ?_) (fun c29 => ?_)
      · skip
        have c29 := n_le_t (a := k) (b := j) c29 (by omega) (by omega)
        refine lv_iload_n hx hb dX2_overlap_36 rfl (lv_at hl 3 rfl) ?_
        exact J37 j (by first | assumption | omega) (by first | assumption | omega) (by first | assumption | omega) _ _ Z _ (lv_sub hl [0, 1, 2, 3] rfl)
      · skip
        have c29 := n_le_f (a := k) (b := j) c29 (by omega) (by omega)
        refine lv_iload_n hx hb dX2_overlap_32 rfl (lv_at hl 2 rfl) ?_
        refine lv_goto (tgt := 37) hx hb dX2_overlap_33 (by decide) ?_
        exact J37 k (by first | assumption | omega) (by first | assumption | omega) (by first | assumption | omega) _ _ Z _ (lv_sub hl [0, 1, 2, 3] rfl)
    · skip
      have c13 := bI_f c13
      refine lv_ldc hx hb hown (hts _ q1030) dX2_overlap_16 ?_
      exact ret (-100000001 : Int32) (all, kept, hist, hlo, snap, tk, bits, reg, exa, text, tl, sp, read, rm, nu, deep, src) dX2_overlap_18 (⟨(by first | simp [qOverlap, c5, c13] | simp [qOverlap, c5]), hM⟩) Z (Nat.le_of_ble_eq_true rfl) (Nat.le_of_ble_eq_true rfl)
set_option maxHeartbeats 4000000 in
set_option maxRecDepth 100000 in
theorem M_manySources (l : Launch) (G : nG) (q : Nat) (a : Nat → Nat) (wd : Nat → Int64) (all : Nat → Int32) (kept : Nat → Int32) (hist : Nat → Int32) (hlo : Int32) (snap : Nat → Int32) (tk : Int32) (bits : Nat → Int32) (reg : Nat → Int32) (exa : Nat → Int32) (text : Nat → Int32) (tl : Int32) (sp : Int32) (read : Nat → Int32) (rm : Int32) (nu : Int32) (deep : Nat → Int32) (src : Nat → Int32) (b0 : nBe) (hn : b0.1 ≤ 16) (ba : bRow all b0) (okb : ∀ k, k < b0.1 → lnOk b0.2.1 k) : nMi (S := Unit) l yX2_manySources cX2_manySources 3 (.int) 1 0 0 22 G [.ref q] (mW G q a wd all kept hist hlo snap tk bits reg exa text tl sp read rm nu deep src) ([]) (fun (u : Unit) => mW G q a wd all kept hist hlo snap tk bits reg exa text tl sp read rm nu deep src) (fun (r : Int32) (u : Unit) => r = (nI (srcN b0))) := by
  refine nMi.of (own := "ShareStreamsModel") rfl (by decide +kernel) (Nat.le_of_ble_eq_true rfl) (fun _ _ _ => rfl) ?_
  intro p e s m args below meth c A Q ls hx hb hml hown hts hin hG Z hl ret
  have hl : lv_has ls 3 [(0, .ref q)] := hl
  have Z : nW G A (mW G q a wd all kept hist hlo snap tk bits reg exa text tl sp read rm nu deep src) ([]) ([]) s.heap _ _ := Z
  refine lv_iconst (v := nI 0) hx hb dX2_manySources_0 rfl ?_
  refine lv_istore_n (lv' := [(1, .int (nI 0)), (0, .ref q)]) hx hb dX2_manySources_1 rfl hl (by decide) rfl (fun ls hl => ?_)
  refine lv_iconst (v := nI 0) hx hb dX2_manySources_2 rfl ?_
  refine lv_istore_n (lv' := [(2, .int (nI 0)), (1, .int (nI 0)), (0, .ref q)]) hx hb dX2_manySources_3 rfl hl (by decide) rfl (fun ls hl => ?_)
  have L4 : ∀ (k_ : Nat) (k : Nat) (g1 : k ≤ b0.1) (hk_ : b0.1 - k < k_) (H : Heap) (locs : List Loc), nW G A (mW G q a wd all kept hist hlo snap tk bits reg exa text tl sp read rm nu deep src) ([]) ([]) s.heap H locs → ∀ (ls : Array Slot), lv_has ls 3 [(1, .int (nI (sumN (fun k => if kd b0.2.1 k = 0 then 1 else 0) k))), (2, .int (nI k)), (0, .ref q)] → W p l e (nRm 1 0 0 22) s m args below meth c H locs 0 0 Q (F0 m 4 ls []) := by
    intro k_
    induction k_ with
    | zero => intro k g1 hk_; exact absurd hk_ (Nat.not_lt_zero _)
    | succ k_ ih_L4 =>
      intro k g1 hk_ H locs Z ls hl
      refine lv_iload_n hx hb dX2_manySources_4 rfl (lv_at hl 1 rfl) ?_
      refine lv_aload_n hx hb dX2_manySources_5 rfl (lv_at hl 2 rfl) ?_
      refine r_get (v := .ref (a 0)) hx hb hts in_X2 hown hG Z.w 0 rfl rfl 0 (by decide) q938 (fun _ h9 => h9) rfl dX2_manySources_6 ?_
      refine lv_iconst (v := nI 0) hx hb dX2_manySources_9 rfl ?_
      refine r_iald hx hb hG Z.w 1 rfl (j := 0) (by omega) (by decide) (v := nI b0.1) ba.1 dX2_manySources_10 ?_
      refine lv_icmp_ge (tgt := 37) hx hb dX2_manySources_11 (by decide) (fun c11 => ?_) (fun c11 => ?_)
      · skip
        have c11 := n_le_t (a := b0.1) (b := k) c11 (by omega) (by omega)
        refine lv_iload_n hx hb dX2_manySources_37 rfl (lv_at hl 0 rfl) ?_
        exact ret (nI (sumN (fun k => if kd b0.2.1 k = 0 then 1 else 0) k)) () dX2_manySources_38 (by rw [show k = b0.1 by omega]; rfl) Z (Nat.le_of_ble_eq_true rfl) (Nat.le_of_ble_eq_true rfl)
      · skip
        have c11 := n_le_f (a := b0.1) (b := k) c11 (by omega) (by omega)
        refine lv_iload_n hx hb dX2_manySources_14 rfl (lv_at hl 0 rfl) ?_
        refine lv_aload_n hx hb dX2_manySources_15 rfl (lv_at hl 2 rfl) ?_
        refine lv_iload_n hx hb dX2_manySources_16 rfl (lv_at hl 1 rfl) ?_
        refine lv_iconst (v := nI 0) hx hb dX2_manySources_17 rfl ?_
        refine ns_i (k := 3) (nr_V (As := [.int (nI k), .int (nI 0)]) (rest := [.int (nI (sumN (fun k => if kd b0.2.1 k = 0 then 1 else 0) k))]) hx hb hml hown hts (M_of l G q a wd all kept hist hlo snap tk bits reg exa text tl sp read rm nu deep src k 0 (by omega)) nPs.blind 2 q1049 q1051 qs21 q53 q1052 (by decide +kernel) ⟨⟨Nat.le_of_ble_eq_true rfl, Nat.le_of_ble_eq_true rfl⟩, Nat.le_of_ble_eq_true rfl, Nat.le_of_ble_eq_true rfl⟩ (r_recv hG Z.w 0 (C := "ShareStreamsModel") rfl rfl rfl) (nPs_of hG Z Z.w) rfl hl.1 rfl (Nat.le_of_ble_eq_true rfl) dX2_manySources_18) (fun r18 hp18 => ?_)
        have he18 := hp18
        have he18 : r18 = all (2 + 4 * k + 0) := he18
        subst he18
        refine r_as (z := nI (kd b0.2.1 k)) ((ba.2.2 k c11 0 (by decide)).trans (okb k c11).1.1) ?_
        have hkd := (okb k c11).1.2
        refine lv_if_ne (tgt := 28) hx hb dX2_manySources_21 (by decide) (fun c21 => ?_) (fun c21 => ?_)
        · skip
          have c21 := n_eq_f (a := kd b0.2.1 k) (b := 0) c21
          refine lv_iconst (v := nI 0) hx hb dX2_manySources_28 rfl ?_
          refine lv_iadd hx hb dX2_manySources_29 ?_
          refine r_as (z := nI (sumN (fun k => if kd b0.2.1 k = 0 then 1 else 0) (k + 1))) (by rw [nI_add, sumN]; first | rw [if_pos c21] | rw [if_neg c21]) ?_
          refine lv_istore_n (lv' := [(1, .int (nI (sumN (fun k => if kd b0.2.1 k = 0 then 1 else 0) (k + 1)))), (2, .int (nI k)), (0, .ref q)]) hx hb dX2_manySources_30 rfl hl (by decide) rfl (fun ls hl => ?_)
          refine lv_iinc (v := nI (k + 1)) (lv' := [(2, .int (nI (k + 1))), (1, .int (nI (sumN (fun k => if kd b0.2.1 k = 0 then 1 else 0) (k + 1)))), (0, .ref q)]) hx hb dX2_manySources_31 hl (k := 1) rfl (nI_add _ _) (by decide) rfl (fun ls hl => ?_)
          refine lv_goto (tgt := 4) hx hb dX2_manySources_34 (by decide) ?_
          exact ih_L4 (k + 1) (by first | assumption | omega) (by omega) _ _ Z _ (lv_sub hl [1, 0, 2] rfl)
        · skip
          have c21 := n_eq_t (a := kd b0.2.1 k) (b := 0) c21 (by omega) (by decide)
          refine lv_iconst (v := nI 1) hx hb dX2_manySources_24 rfl ?_
          refine lv_goto (tgt := 29) hx hb dX2_manySources_25 (by decide) ?_
          refine lv_iadd hx hb dX2_manySources_29 ?_
          refine r_as (z := nI (sumN (fun k => if kd b0.2.1 k = 0 then 1 else 0) (k + 1))) (by rw [nI_add, sumN]; first | rw [if_pos c21] | rw [if_neg c21]) ?_
          refine lv_istore_n (lv' := [(1, .int (nI (sumN (fun k => if kd b0.2.1 k = 0 then 1 else 0) (k + 1)))), (2, .int (nI k)), (0, .ref q)]) hx hb dX2_manySources_30 rfl hl (by decide) rfl (fun ls hl => ?_)
          refine lv_iinc (v := nI (k + 1)) (lv' := [(2, .int (nI (k + 1))), (1, .int (nI (sumN (fun k => if kd b0.2.1 k = 0 then 1 else 0) (k + 1)))), (0, .ref q)]) hx hb dX2_manySources_31 hl (k := 1) rfl (nI_add _ _) (by decide) rfl (fun ls hl => ?_)
          refine lv_goto (tgt := 4) hx hb dX2_manySources_34 (by decide) ?_
          exact ih_L4 (k + 1) (by first | assumption | omega) (by omega) _ _ Z _ (lv_sub hl [1, 0, 2] rfl)
  exact L4 _ 0 (by first | assumption | omega) (Nat.lt_succ_self _) _ _ Z _ (lv_sub hl [1, 0, 2] rfl)
set_option maxHeartbeats 4000000 in
set_option maxRecDepth 100000 in
theorem M_errors (l : Launch) (G : nG) (q : Nat) (a : Nat → Nat) (wd : Nat → Int64) (all : Nat → Int32) (kept : Nat → Int32) (hist : Nat → Int32) (hlo : Int32) (snap : Nat → Int32) (tk : Int32) (bits : Nat → Int32) (reg : Nat → Int32) (exa : Nat → Int32) (text : Nat → Int32) (tl : Int32) (sp : Int32) (read : Nat → Int32) (rm : Int32) (nu : Int32) (deep : Nat → Int32) (src : Nat → Int32) (b0 : nBe) (hbo : beOk b0) (ba : bRow all b0) : nMi (S := (Nat → Int32) × (Nat → Int32) × (Nat → Int32)) l yX2_errors cX2_errors 3 (.int) 4 0 0 92 G [.ref q] (mW G q a wd all kept hist hlo snap tk bits reg exa text tl sp read rm nu deep src) ([]) (fun (u : (Nat → Int32) × (Nat → Int32) × (Nat → Int32)) => mW G q a wd all kept hist hlo snap tk u.1 u.2.1 u.2.2 text tl sp read rm nu deep src) (fun (r : Int32) (u : (Nat → Int32) × (Nat → Int32) × (Nat → Int32)) => r = (nI (sumN (erE b0) b0.1))) := by
  refine nMi.of (own := "ShareStreamsModel") rfl (by decide +kernel) (Nat.le_of_ble_eq_true rfl) (fun _ _ _ => rfl) ?_
  intro p e s m args below meth c A Q ls hx hb hml hown hts hin hG Z hl ret
  have hl : lv_has ls 3 [(0, .ref q)] := hl
  have Z : nW G A (mW G q a wd all kept hist hlo snap tk bits reg exa text tl sp read rm nu deep src) ([]) ([]) s.heap _ _ := Z
  obtain ⟨hn, hlen, okb⟩ := hbo
  have ag := bRow_ag ba
  have okm := ag_ok ag okb
  refine lv_iconst (v := nI 0) hx hb dX2_errors_0 rfl ?_
  refine lv_istore_n (lv' := [(1, .int (nI 0)), (0, .ref q)]) hx hb dX2_errors_1 rfl hl (by decide) rfl (fun ls hl => ?_)
  refine lv_iconst (v := nI 0) hx hb dX2_errors_2 rfl ?_
  refine lv_istore_n (lv' := [(2, .int (nI 0)), (1, .int (nI 0)), (0, .ref q)]) hx hb dX2_errors_3 rfl hl (by decide) rfl (fun ls hl => ?_)
  have L4 : ∀ (k_ : Nat) (k : Nat) (bt : Nat → Int32) (rg : Nat → Int32) (ex : Nat → Int32) (g1 : k ≤ b0.1) (hk_ : b0.1 - k < k_) (H : Heap) (locs : List Loc), nW G A (mW G q a wd all kept hist hlo snap tk bt rg ex text tl sp read rm nu deep src) ([]) ([]) s.heap H locs → ∀ (ls : Array Slot), lv_has ls 3 [(1, .int (nI (sumN (erE b0) k))), (2, .int (nI k)), (0, .ref q)] → W p l e (nRm 4 0 0 92) s m args below meth c H locs 0 0 Q (F0 m 4 ls []) := by
    intro k_
    induction k_ with
    | zero => intro k bt rg ex g1 hk_; exact absurd hk_ (Nat.not_lt_zero _)
    | succ k_ ih_L4 =>
      intro k bt rg ex g1 hk_ H locs Z ls hl
      refine lv_iload_n hx hb dX2_errors_4 rfl (lv_at hl 1 rfl) ?_
      refine lv_aload_n hx hb dX2_errors_5 rfl (lv_at hl 2 rfl) ?_
      refine r_get (v := .ref (a 0)) hx hb hts in_X2 hown hG Z.w 0 rfl rfl 0 (by decide) q938 (fun _ h9 => h9) rfl dX2_errors_6 ?_
      refine lv_iconst (v := nI 0) hx hb dX2_errors_9 rfl ?_
      refine r_iald hx hb hG Z.w 1 rfl (j := 0) (by omega) (by decide) (v := nI b0.1) ba.1 dX2_errors_10 ?_
      refine lv_icmp_ge (tgt := 34) hx hb dX2_errors_11 (by decide) (fun c11 => ?_) (fun c11 => ?_)
      · skip
        have c11 := n_le_t (a := b0.1) (b := k) c11 (by omega) (by omega)
        refine lv_iload_n hx hb dX2_errors_34 rfl (lv_at hl 0 rfl) ?_
        exact ret (nI (sumN (erE b0) k)) (bt, rg, ex) dX2_errors_35 (by rw [show k = b0.1 by omega]) Z (Nat.le_of_ble_eq_true rfl) (Nat.le_of_ble_eq_true rfl)
      · skip
        have c11 := n_le_f (a := b0.1) (b := k) c11 (by omega) (by omega)
        refine lv_iload_n hx hb dX2_errors_14 rfl (lv_at hl 0 rfl) ?_
        refine lv_aload_n hx hb dX2_errors_15 rfl (lv_at hl 2 rfl) ?_
        refine lv_iload_n hx hb dX2_errors_16 rfl (lv_at hl 1 rfl) ?_
        refine lv_aload_n hx hb dX2_errors_17 rfl (lv_at hl 2 rfl) ?_
        refine r_get (v := .ref (a 0)) hx hb hts in_X2 hown hG Z.w 0 rfl rfl 0 (by decide) q938 (fun _ h9 => h9) rfl dX2_errors_18 ?_
        refine lv_iconst (v := nI 1) hx hb dX2_errors_21 rfl ?_
        refine r_iald hx hb hG Z.w 1 rfl (j := 1) (by omega) (by decide) (v := nI b0.2.2) ba.2.1 dX2_errors_22 ?_
        refine nc_i (k := 3) (wcc := mW G q a wd all kept hist hlo snap tk bt rg ex text tl sp read rm nu deep src) (wr := []) (nr_V (As := [.int (nI k), .int (nI b0.2.2)]) (rest := [.int (nI (sumN (erE b0) k))]) hx hb hml hown hts ((M_errorOf l G q a wd all kept hist hlo snap tk bt rg ex text tl sp read rm nu deep src b0.1 k b0.2.2 (by first | assumption | omega | rfl) (by first | assumption | omega | rfl) (by first | assumption | omega | rfl) (by first | assumption | omega | rfl) (by first | assumption | omega | rfl)) _) nP.blind 2 q1188 q1190 qs38 q53 q1191 (by decide +kernel) ⟨⟨Nat.le_of_ble_eq_true rfl, Nat.le_of_ble_eq_true rfl⟩, Nat.le_of_ble_eq_true rfl, Nat.le_of_ble_eq_true rfl⟩ (r_recv hG Z.w 0 (C := "ShareStreamsModel") rfl rfl rfl) (nP_of hG Z [0, 1, 2, 3, 4, 5, 6, 7, 8, 9, 10, 11, 12] rfl (by decide) (fun k q h => by simp at h) nAp.nil) rfl hl.1 rfl (Nat.le_of_ble_eq_true rfl) dX2_errors_23) Z [0, 1, 2, 3, 4, 5, 6, 7, 8, 9, 10, 11, 12] [] rfl rfl (by decide) (by decide) (fun r23 u H locs hp23 Z => ?_)
        obtain ⟨bt2, rg2, ex2⟩ := u
        have he23 := hp23
        have he23 : r23 = nI (errN (mF all) k b0.2.2) := he23
        subst he23
        have Z : nW G A (mW G q a wd all kept hist hlo snap tk bt2 rg2 ex2 text tl sp read rm nu deep src) ([]) ([]) s.heap _ _ := Z
        refine r_as (z := nI (erE b0 k)) (by rw [ag_sum ag okb c11]) ?_
        refine lv_iadd hx hb dX2_errors_26 ?_
        refine r_as (z := nI (sumN (erE b0) (k + 1))) (nI_add _ _) ?_
        refine lv_istore_n (lv' := [(1, .int (nI (sumN (erE b0) (k + 1)))), (2, .int (nI k)), (0, .ref q)]) hx hb dX2_errors_27 rfl hl (by decide) rfl (fun ls hl => ?_)
        refine lv_iinc (v := nI (k + 1)) (lv' := [(2, .int (nI (k + 1))), (1, .int (nI (sumN (erE b0) (k + 1)))), (0, .ref q)]) hx hb dX2_errors_28 hl (k := 1) rfl (nI_add _ _) (by decide) rfl (fun ls hl => ?_)
        refine lv_goto (tgt := 4) hx hb dX2_errors_31 (by decide) ?_
        exact ih_L4 (k + 1) bt2 rg2 ex2 (by first | assumption | omega) (by omega) _ _ Z _ (lv_sub hl [1, 0, 2] rfl)
  exact L4 _ 0 bits reg exa (by first | assumption | omega) (Nat.lt_succ_self _) _ _ Z _ (lv_sub hl [1, 0, 2] rfl)
set_option maxHeartbeats 4000000 in
set_option maxRecDepth 100000 in
theorem M_worst (l : Launch) (G : nG) (q : Nat) (a : Nat → Nat) (wd : Nat → Int64) (all : Nat → Int32) (kept : Nat → Int32) (hist : Nat → Int32) (hlo : Int32) (snap : Nat → Int32) (tk : Int32) (bits : Nat → Int32) (reg : Nat → Int32) (exa : Nat → Int32) (text : Nat → Int32) (tl : Int32) (sp : Int32) (read : Nat → Int32) (rm : Int32) (nu : Int32) (deep : Nat → Int32) (src : Nat → Int32) (b0 : nBe) (hbo : beOk b0) (ba : bRow all b0) : nMi (S := (Nat → Int32) × (Nat → Int32) × (Nat → Int32)) l yX2_worst cX2_worst 5 (.int) 4 0 0 92 G [.ref q] (mW G q a wd all kept hist hlo snap tk bits reg exa text tl sp read rm nu deep src) ([]) (fun (u : (Nat → Int32) × (Nat → Int32) × (Nat → Int32)) => mW G q a wd all kept hist hlo snap tk u.1 u.2.1 u.2.2 text tl sp read rm nu deep src) (fun (r : Int32) (u : (Nat → Int32) × (Nat → Int32) × (Nat → Int32)) => r = (if b0.1 = 0 then cNONE else nI (wsI (erE b0) (b0.1 - 1)))) := by
  refine nMi.of (own := "ShareStreamsModel") rfl (by decide +kernel) (Nat.le_of_ble_eq_true rfl) (fun _ _ _ => rfl) ?_
  intro p e s m args below meth c A Q ls hx hb hml hown hts hin hG Z hl ret
  have hl : lv_has ls 5 [(0, .ref q)] := hl
  have Z : nW G A (mW G q a wd all kept hist hlo snap tk bits reg exa text tl sp read rm nu deep src) ([]) ([]) s.heap _ _ := Z
  obtain ⟨hn, hlen, okb⟩ := hbo
  have ag := bRow_ag ba
  have okm := ag_ok ag okb
  refine lv_ldc hx hb hown (hts _ q1003) dX2_worst_0 ?_
  refine lv_istore_n (lv' := [(1, .int (-100000005 : Int32)), (0, .ref q)]) hx hb dX2_worst_2 rfl hl (by decide) rfl (fun ls hl => ?_)
  refine lv_iconst (v := (-1 : Int32)) hx hb dX2_worst_3 rfl ?_
  refine lv_istore_n (lv' := [(2, .int (-1 : Int32)), (1, .int (-100000005 : Int32)), (0, .ref q)]) hx hb dX2_worst_4 rfl hl (by decide) rfl (fun ls hl => ?_)
  refine lv_iconst (v := nI 0) hx hb dX2_worst_5 rfl ?_
  refine lv_istore_n (lv' := [(3, .int (nI 0)), (2, .int (-1 : Int32)), (1, .int (-100000005 : Int32)), (0, .ref q)]) hx hb dX2_worst_6 rfl hl (by decide) rfl (fun ls hl => ?_)
  have L7 : ∀ (k_ : Nat) (k : Nat) (w1 : Int32) (m1 : Int32) (bt : Nat → Int32) (rg : Nat → Int32) (ex : Nat → Int32) (g1 : k ≤ b0.1) (g2 : (k = 0 ∧ w1 = cNONE ∧ m1 = (-1 : Int32)) ∨ (0 < k ∧ w1 = nI (wsI (erE b0) (k - 1)) ∧ m1 = nI (erE b0 (wsI (erE b0) (k - 1))))) (hk_ : b0.1 - k < k_) (H : Heap) (locs : List Loc), nW G A (mW G q a wd all kept hist hlo snap tk bt rg ex text tl sp read rm nu deep src) ([]) ([]) s.heap H locs → ∀ (ls : Array Slot), lv_has ls 5 [(1, .int w1), (2, .int m1), (3, .int (nI k)), (0, .ref q)] → W p l e (nRm 4 0 0 92) s m args below meth c H locs 0 0 Q (F0 m 7 ls []) := by
    intro k_
    induction k_ with
    | zero => intro k w1 m1 bt rg ex g1 g2 hk_; exact absurd hk_ (Nat.not_lt_zero _)
    | succ k_ ih_L7 =>
      intro k w1 m1 bt rg ex g1 g2 hk_ H locs Z ls hl
      refine lv_iload_n hx hb dX2_worst_7 rfl (lv_at hl 2 rfl) ?_
      refine lv_aload_n hx hb dX2_worst_8 rfl (lv_at hl 3 rfl) ?_
      refine r_get (v := .ref (a 0)) hx hb hts in_X2 hown hG Z.w 0 rfl rfl 0 (by decide) q938 (fun _ h9 => h9) rfl dX2_worst_9 ?_
      refine lv_iconst (v := nI 0) hx hb dX2_worst_12 rfl ?_
      refine r_iald hx hb hG Z.w 1 rfl (j := 0) (by omega) (by decide) (v := nI b0.1) ba.1 dX2_worst_13 ?_
      refine lv_icmp_ge (tgt := 61) hx hb dX2_worst_14 (by decide) (fun c14 => ?_) (fun c14 => ?_)
      · skip
        have c14 := n_le_t (a := b0.1) (b := k) c14 (by omega) (by omega)
        refine lv_iload_n hx hb dX2_worst_61 rfl (lv_at hl 0 rfl) ?_
        exact ret w1 (bt, rg, ex) dX2_worst_62 (by rcases g2 with ⟨z0, rfl, rfl⟩ | ⟨z0, rfl, rfl⟩; { rw [if_pos (by omega)] }; { rw [if_neg (by omega), show b0.1 = k by omega] }) Z (Nat.le_of_ble_eq_true rfl) (Nat.le_of_ble_eq_true rfl)
      · skip
        have c14 := n_le_f (a := b0.1) (b := k) c14 (by omega) (by omega)
        refine lv_aload_n hx hb dX2_worst_17 rfl (lv_at hl 3 rfl) ?_
        refine lv_iload_n hx hb dX2_worst_18 rfl (lv_at hl 2 rfl) ?_
        refine lv_aload_n hx hb dX2_worst_19 rfl (lv_at hl 3 rfl) ?_
        refine r_get (v := .ref (a 0)) hx hb hts in_X2 hown hG Z.w 0 rfl rfl 0 (by decide) q938 (fun _ h9 => h9) rfl dX2_worst_20 ?_
        refine lv_iconst (v := nI 1) hx hb dX2_worst_23 rfl ?_
        refine r_iald hx hb hG Z.w 1 rfl (j := 1) (by omega) (by decide) (v := nI b0.2.2) ba.2.1 dX2_worst_24 ?_
        refine nc_i (k := 3) (wcc := mW G q a wd all kept hist hlo snap tk bt rg ex text tl sp read rm nu deep src) (wr := []) (nr_V (As := [.int (nI k), .int (nI b0.2.2)]) (rest := []) hx hb hml hown hts ((M_errorOf l G q a wd all kept hist hlo snap tk bt rg ex text tl sp read rm nu deep src b0.1 k b0.2.2 (by first | assumption | omega | rfl) (by first | assumption | omega | rfl) (by first | assumption | omega | rfl) (by first | assumption | omega | rfl) (by first | assumption | omega | rfl)) _) nP.blind 2 q1188 q1190 qs38 q53 q1191 (by decide +kernel) ⟨⟨Nat.le_of_ble_eq_true rfl, Nat.le_of_ble_eq_true rfl⟩, Nat.le_of_ble_eq_true rfl, Nat.le_of_ble_eq_true rfl⟩ (r_recv hG Z.w 0 (C := "ShareStreamsModel") rfl rfl rfl) (nP_of hG Z [0, 1, 2, 3, 4, 5, 6, 7, 8, 9, 10, 11, 12] rfl (by decide) (fun k q h => by simp at h) nAp.nil) rfl hl.1 rfl (Nat.le_of_ble_eq_true rfl) dX2_worst_25) Z [0, 1, 2, 3, 4, 5, 6, 7, 8, 9, 10, 11, 12] [] rfl rfl (by decide) (by decide) (fun r25 u H locs hp25 Z => ?_)
        obtain ⟨bt2, rg2, ex2⟩ := u
        have he25 := hp25
        have he25 : r25 = nI (errN (mF all) k b0.2.2) := he25
        subst he25
        have Z : nW G A (mW G q a wd all kept hist hlo snap tk bt2 rg2 ex2 text tl sp read rm nu deep src) ([]) ([]) s.heap _ _ := Z
        refine r_as (z := nI (erE b0 k)) (by rw [ag_sum ag okb c14]) ?_
        rcases g2 with ⟨z0, rfl, rfl⟩ | ⟨z0, rfl, rfl⟩
        · skip
          have e1 : erE b0 k ≤ 65536 := err_le okb c14 hlen.1
          refine lv_istore (lv' := [(4, .int (nI (erE b0 k))), (1, .int cNONE), (2, .int (-1 : Int32)), (3, .int (nI k)), (0, .ref q)]) hx hb dX2_worst_28 hl (by decide) rfl (fun ls hl => ?_)
          refine lv_iload hx hb dX2_worst_30 (lv_at hl 0 rfl) ?_
          refine lv_iload_n hx hb dX2_worst_32 rfl (lv_at hl 2 rfl) ?_
          refine lv_icmp_le (tgt := 40) hx hb dX2_worst_33 (by decide) (fun c33 => ?_) (fun c33 => ?_)
          · skip
            exact absurd c33 (not_le_neg1 (by omega))
          · skip
            refine lv_iload_n hx hb dX2_worst_36 rfl (lv_at hl 3 rfl) ?_
            refine lv_goto (tgt := 41) hx hb dX2_worst_37 (by decide) ?_
            refine lv_istore_n (lv' := [(1, .int (nI k)), (4, .int (nI (erE b0 k))), (2, .int (-1 : Int32)), (3, .int (nI k)), (0, .ref q)]) hx hb dX2_worst_41 rfl hl (by decide) rfl (fun ls hl => ?_)
            refine lv_iload hx hb dX2_worst_42 (lv_at hl 1 rfl) ?_
            refine lv_iload_n hx hb dX2_worst_44 rfl (lv_at hl 2 rfl) ?_
            refine lv_icmp_le (tgt := 53) hx hb dX2_worst_45 (by decide) (fun c45 => ?_) (fun c45 => ?_)
            · skip
              exact absurd c45 (not_le_neg1 (by omega))
            · skip
              refine lv_iload hx hb dX2_worst_48 (lv_at hl 1 rfl) ?_
              refine lv_goto (tgt := 54) hx hb dX2_worst_50 (by decide) ?_
              refine lv_istore_n (lv' := [(2, .int (nI (erE b0 k))), (1, .int (nI k)), (4, .int (nI (erE b0 k))), (3, .int (nI k)), (0, .ref q)]) hx hb dX2_worst_54 rfl hl (by decide) rfl (fun ls hl => ?_)
              refine lv_iinc (v := nI (k + 1)) (lv' := [(3, .int (nI (k + 1))), (2, .int (nI (erE b0 k))), (1, .int (nI k)), (4, .int (nI (erE b0 k))), (0, .ref q)]) hx hb dX2_worst_55 hl (k := 3) rfl (nI_add _ _) (by decide) rfl (fun ls hl => ?_)
              refine lv_goto (tgt := 7) hx hb dX2_worst_58 (by decide) ?_
              exact ih_L7 (k + 1) (nI k) (nI (erE b0 k)) bt2 rg2 ex2 (by first | assumption | omega) (Or.inr ⟨by omega, by first | (subst z0; rfl) | (rw [Nat.add_sub_cancel, wsI_s z0, if_pos c32]) | (rw [Nat.add_sub_cancel, wsI_s z0, if_neg (by omega)]), by first | (subst z0; rfl) | (rw [Nat.add_sub_cancel, wsI_s z0, if_pos c32]) | (rw [Nat.add_sub_cancel, wsI_s z0, if_neg (by omega)])⟩) (by omega) _ _ Z _ (lv_sub hl [2, 1, 0, 4] rfl)
        · skip
          have e1 : erE b0 k ≤ 65536 := err_le okb c14 hlen.1
          have e2 : erE b0 (wsI (erE b0) (k - 1)) ≤ 65536 := err_le okb (by have := wsI_le (erE b0) (k - 1); omega) hlen.1
          refine lv_istore (lv' := [(4, .int (nI (erE b0 k))), (1, .int (nI (wsI (erE b0) (k - 1)))), (2, .int (nI (erE b0 (wsI (erE b0) (k - 1))))), (3, .int (nI k)), (0, .ref q)]) hx hb dX2_worst_28 hl (by decide) rfl (fun ls hl => ?_)
          refine lv_iload hx hb dX2_worst_30 (lv_at hl 0 rfl) ?_
          refine lv_iload_n hx hb dX2_worst_32 rfl (lv_at hl 2 rfl) ?_
          refine lv_icmp_le (tgt := 40) hx hb dX2_worst_33 (by decide) (fun c33 => ?_) (fun c33 => ?_)
          · skip
            have c33 := n_le_t (a := erE b0 k) (b := erE b0 (wsI (erE b0) (k - 1))) c33 (by omega) (by omega)
            refine lv_iload_n hx hb dX2_worst_40 rfl (lv_at hl 1 rfl) ?_
            refine lv_istore_n (lv' := [(1, .int (nI (wsI (erE b0) (k - 1)))), (4, .int (nI (erE b0 k))), (2, .int (nI (erE b0 (wsI (erE b0) (k - 1))))), (3, .int (nI k)), (0, .ref q)]) hx hb dX2_worst_41 rfl hl (by decide) rfl (fun ls hl => ?_)
            refine lv_iload hx hb dX2_worst_42 (lv_at hl 1 rfl) ?_
            refine lv_iload_n hx hb dX2_worst_44 rfl (lv_at hl 2 rfl) ?_
            refine lv_icmp_le (tgt := 53) hx hb dX2_worst_45 (by decide) (fun c45 => ?_) (fun c45 => ?_)
            · skip
              have c45 := n_le_t (a := erE b0 k) (b := erE b0 (wsI (erE b0) (k - 1))) c45 (by omega) (by omega)
              refine lv_iload_n hx hb dX2_worst_53 rfl (lv_at hl 2 rfl) ?_
              refine lv_istore_n (lv' := [(2, .int (nI (erE b0 (wsI (erE b0) (k - 1))))), (1, .int (nI (wsI (erE b0) (k - 1)))), (4, .int (nI (erE b0 k))), (3, .int (nI k)), (0, .ref q)]) hx hb dX2_worst_54 rfl hl (by decide) rfl (fun ls hl => ?_)
              refine lv_iinc (v := nI (k + 1)) (lv' := [(3, .int (nI (k + 1))), (2, .int (nI (erE b0 (wsI (erE b0) (k - 1))))), (1, .int (nI (wsI (erE b0) (k - 1)))), (4, .int (nI (erE b0 k))), (0, .ref q)]) hx hb dX2_worst_55 hl (k := 3) rfl (nI_add _ _) (by decide) rfl (fun ls hl => ?_)
              refine lv_goto (tgt := 7) hx hb dX2_worst_58 (by decide) ?_
              exact ih_L7 (k + 1) (nI (wsI (erE b0) (k - 1))) (nI (erE b0 (wsI (erE b0) (k - 1)))) bt2 rg2 ex2 (by first | assumption | omega) (Or.inr ⟨by omega, by first | (subst z0; rfl) | (rw [Nat.add_sub_cancel, wsI_s z0, if_pos c32]) | (rw [Nat.add_sub_cancel, wsI_s z0, if_neg (by omega)]), by first | (subst z0; rfl) | (rw [Nat.add_sub_cancel, wsI_s z0, if_pos c32]) | (rw [Nat.add_sub_cancel, wsI_s z0, if_neg (by omega)])⟩) (by omega) _ _ Z _ (lv_sub hl [2, 1, 0, 4] rfl)
            · skip
              have c45 := n_le_f (a := erE b0 k) (b := erE b0 (wsI (erE b0) (k - 1))) c45 (by omega) (by omega)
              exfalso; omega
          · skip
            have c33 := n_le_f (a := erE b0 k) (b := erE b0 (wsI (erE b0) (k - 1))) c33 (by omega) (by omega)
            have c32 := c33
            refine lv_iload_n hx hb dX2_worst_36 rfl (lv_at hl 3 rfl) ?_
            refine lv_goto (tgt := 41) hx hb dX2_worst_37 (by decide) ?_
            refine lv_istore_n (lv' := [(1, .int (nI k)), (4, .int (nI (erE b0 k))), (2, .int (nI (erE b0 (wsI (erE b0) (k - 1))))), (3, .int (nI k)), (0, .ref q)]) hx hb dX2_worst_41 rfl hl (by decide) rfl (fun ls hl => ?_)
            refine lv_iload hx hb dX2_worst_42 (lv_at hl 1 rfl) ?_
            refine lv_iload_n hx hb dX2_worst_44 rfl (lv_at hl 2 rfl) ?_
            refine lv_icmp_le (tgt := 53) hx hb dX2_worst_45 (by decide) (fun c45 => ?_) (fun c45 => ?_)
            · skip
              have c45 := n_le_t (a := erE b0 k) (b := erE b0 (wsI (erE b0) (k - 1))) c45 (by omega) (by omega)
              exfalso; omega
            · skip
              have c45 := n_le_f (a := erE b0 k) (b := erE b0 (wsI (erE b0) (k - 1))) c45 (by omega) (by omega)
              refine lv_iload hx hb dX2_worst_48 (lv_at hl 1 rfl) ?_
              refine lv_goto (tgt := 54) hx hb dX2_worst_50 (by decide) ?_
              refine lv_istore_n (lv' := [(2, .int (nI (erE b0 k))), (1, .int (nI k)), (4, .int (nI (erE b0 k))), (3, .int (nI k)), (0, .ref q)]) hx hb dX2_worst_54 rfl hl (by decide) rfl (fun ls hl => ?_)
              refine lv_iinc (v := nI (k + 1)) (lv' := [(3, .int (nI (k + 1))), (2, .int (nI (erE b0 k))), (1, .int (nI k)), (4, .int (nI (erE b0 k))), (0, .ref q)]) hx hb dX2_worst_55 hl (k := 3) rfl (nI_add _ _) (by decide) rfl (fun ls hl => ?_)
              refine lv_goto (tgt := 7) hx hb dX2_worst_58 (by decide) ?_
              exact ih_L7 (k + 1) (nI k) (nI (erE b0 k)) bt2 rg2 ex2 (by first | assumption | omega) (Or.inr ⟨by omega, by first | (subst z0; rfl) | (rw [Nat.add_sub_cancel, wsI_s z0, if_pos c32]) | (rw [Nat.add_sub_cancel, wsI_s z0, if_neg (by omega)]), by first | (subst z0; rfl) | (rw [Nat.add_sub_cancel, wsI_s z0, if_pos c32]) | (rw [Nat.add_sub_cancel, wsI_s z0, if_neg (by omega)])⟩) (by omega) _ _ Z _ (lv_sub hl [2, 1, 0, 4] rfl)
  exact L7 _ 0 (-100000005 : Int32) (-1 : Int32) bits reg exa (by first | assumption | omega) (Or.inl ⟨rfl, rfl, rfl⟩) (Nat.lt_succ_self _) _ _ Z _ (lv_sub hl [2, 1, 0, 3] rfl)
set_option maxHeartbeats 4000000 in
set_option maxRecDepth 100000 in
theorem M_deepest (l : Launch) (G : nG) (q : Nat) (a : Nat → Nat) (wd : Nat → Int64) (all : Nat → Int32) (kept : Nat → Int32) (hist : Nat → Int32) (hlo : Int32) (snap : Nat → Int32) (tk : Int32) (bits : Nat → Int32) (reg : Nat → Int32) (exa : Nat → Int32) (text : Nat → Int32) (tl : Int32) (sp : Int32) (read : Nat → Int32) (rm : Int32) (nu : Int32) (deep : Nat → Int32) (src : Nat → Int32) (b0 : nBe) (hbo : beOk b0) (ba : bRow all b0) : nMi (S := (Nat → Int32) × (Nat → Int32)) l yX2_deepest cX2_deepest 3 (.int) 2 0 0 46 G [.ref q] (mW G q a wd all kept hist hlo snap tk bits reg exa text tl sp read rm nu deep src) ([]) (fun (u : (Nat → Int32) × (Nat → Int32)) => mW G q a wd all kept hist hlo snap tk bits reg exa text tl sp read rm nu u.1 u.2) (fun (r : Int32) (u : (Nat → Int32) × (Nat → Int32)) => r = (nI (mxN (dpN b0.2.1) b0.1))) := by
  refine nMi.of (own := "ShareStreamsModel") rfl (by decide +kernel) (Nat.le_of_ble_eq_true rfl) (fun _ _ _ => rfl) ?_
  intro p e s m args below meth c A Q ls hx hb hml hown hts hin hG Z hl ret
  have hl : lv_has ls 3 [(0, .ref q)] := hl
  have Z : nW G A (mW G q a wd all kept hist hlo snap tk bits reg exa text tl sp read rm nu deep src) ([]) ([]) s.heap _ _ := Z
  obtain ⟨hn, hlen, okb⟩ := hbo
  have ag := bRow_ag ba
  have okm := ag_ok ag okb
  refine lv_aload_n hx hb dX2_deepest_0 rfl (lv_at hl 0 rfl) ?_
  refine nc_v (k := 3) (wcc := mW G q a wd all kept hist hlo snap tk bits reg exa text tl sp read rm nu deep src) (wr := []) (nr_V (As := []) (rest := []) hx hb hml hown hts ((M_findsDepths l G q a wd all kept hist hlo snap tk bits reg exa text tl sp read rm nu deep src b0.1 (by first | assumption | omega | rfl) (by first | assumption | omega | rfl) ba.1) _) nP.blind 0 q1157 q1159 qs35 q53 q1160 (by decide +kernel) ⟨⟨Nat.le_of_ble_eq_true rfl, Nat.le_of_ble_eq_true rfl⟩, Nat.le_of_ble_eq_true rfl, Nat.le_of_ble_eq_true rfl⟩ (r_recv hG Z.w 0 (C := "ShareStreamsModel") rfl rfl rfl) (nP_of hG Z [0, 1, 2, 3, 4, 5, 6, 7, 8, 9, 10, 11, 12] rfl (by decide) (fun k q h => by simp at h) nAp.nil) rfl hl.1 rfl (Nat.le_of_ble_eq_true rfl) dX2_deepest_1) Z [0, 1, 2, 3, 4, 5, 6, 7, 8, 9, 10, 11, 12] [] rfl rfl (by decide) (by decide) (fun u H locs hp1 Z => ?_)
  obtain ⟨dp2, sr2⟩ := u
  have hp1 : (∀ v_, v_ < b0.1 → dp2 v_ = nI (dpN (mF all) v_)) ∧ ∀ v_, v_ < b0.1 → sr2 v_ = nI (orN (mF all) v_) := hp1
  have Z : nW G A (mW G q a wd all kept hist hlo snap tk bits reg exa text tl sp read rm nu dp2 sr2) ([]) ([]) s.heap _ _ := Z
  refine lv_iconst (v := nI 0) hx hb dX2_deepest_4 rfl ?_
  refine lv_istore_n (lv' := [(1, .int (nI 0)), (0, .ref q)]) hx hb dX2_deepest_5 rfl hl (by decide) rfl (fun ls hl => ?_)
  refine lv_iconst (v := nI 0) hx hb dX2_deepest_6 rfl ?_
  refine lv_istore_n (lv' := [(2, .int (nI 0)), (1, .int (nI 0)), (0, .ref q)]) hx hb dX2_deepest_7 rfl hl (by decide) rfl (fun ls hl => ?_)
  have L8 : ∀ (k_ : Nat) (k : Nat) (g1 : k ≤ b0.1) (hk_ : b0.1 - k < k_) (H : Heap) (locs : List Loc), nW G A (mW G q a wd all kept hist hlo snap tk bits reg exa text tl sp read rm nu dp2 sr2) ([]) ([]) s.heap H locs → ∀ (ls : Array Slot), lv_has ls 3 [(1, .int (nI (mxN (dpN b0.2.1) k))), (2, .int (nI k)), (0, .ref q)] → W p l e (nRm 2 0 0 46) s m args below meth c H locs 0 0 Q (F0 m 8 ls []) := by
    intro k_
    induction k_ with
    | zero => intro k g1 hk_; exact absurd hk_ (Nat.not_lt_zero _)
    | succ k_ ih_L8 =>
      intro k g1 hk_ H locs Z ls hl
      refine lv_iload_n hx hb dX2_deepest_8 rfl (lv_at hl 1 rfl) ?_
      refine lv_aload_n hx hb dX2_deepest_9 rfl (lv_at hl 2 rfl) ?_
      refine r_get (v := .ref (a 0)) hx hb hts in_X2 hown hG Z.w 0 rfl rfl 0 (by decide) q938 (fun _ h9 => h9) rfl dX2_deepest_10 ?_
      refine lv_iconst (v := nI 0) hx hb dX2_deepest_13 rfl ?_
      refine r_iald hx hb hG Z.w 1 rfl (j := 0) (by omega) (by decide) (v := nI b0.1) ba.1 dX2_deepest_14 ?_
      refine lv_icmp_ge (tgt := 45) hx hb dX2_deepest_15 (by decide) (fun c15 => ?_) (fun c15 => ?_)
      · skip
        have c15 := n_le_t (a := b0.1) (b := k) c15 (by omega) (by omega)
        refine lv_iload_n hx hb dX2_deepest_45 rfl (lv_at hl 0 rfl) ?_
        exact ret (nI (mxN (dpN b0.2.1) k)) (dp2, sr2) dX2_deepest_46 (by rw [show k = b0.1 by omega]) Z (Nat.le_of_ble_eq_true rfl) (Nat.le_of_ble_eq_true rfl)
      · skip
        have c15 := n_le_f (a := b0.1) (b := k) c15 (by omega) (by omega)
        have e1 : dpN b0.2.1 k ≤ k := dp_le okb c15
        have e2 : mxN (dpN b0.2.1) k ≤ 16 := mxN_le (fun t ht => Nat.le_trans (dp_le okb (by omega)) (by omega))
        refine lv_aload_n hx hb dX2_deepest_18 rfl (lv_at hl 2 rfl) ?_
        refine r_get (v := .ref (a 10)) hx hb hts in_X2 hown hG Z.w 0 rfl rfl 16 (by decide) q954 (fun _ h9 => h9) rfl dX2_deepest_19 ?_
        refine lv_iload_n hx hb dX2_deepest_22 rfl (lv_at hl 1 rfl) ?_
        refine r_iald hx hb hG Z.w 11 rfl (j := k) (by omega) (by decide) (v := nI (dpN b0.2.1 k)) ((hp1.1 k c15).trans (congrArg nI (ag_dp ag okb c15))) dX2_deepest_23 ?_
        refine lv_iload_n hx hb dX2_deepest_24 rfl (lv_at hl 0 rfl) ?_
        refine lv_icmp_le (tgt := 37) hx hb dX2_deepest_25 (by decide) (fun c25 => ?_) (fun c25 => ?_)
        · skip
          have c25 := n_le_t (a := dpN b0.2.1 k) (b := mxN (dpN b0.2.1) k) c25 (by omega) (by omega)
          refine lv_iload_n hx hb dX2_deepest_37 rfl (lv_at hl 0 rfl) ?_
          refine r_as (z := nI (mxN (dpN b0.2.1) (k + 1))) (by rw [mxN]; congr 1; omega) ?_
          refine lv_istore_n (lv' := [(1, .int (nI (mxN (dpN b0.2.1) (k + 1)))), (2, .int (nI k)), (0, .ref q)]) hx hb dX2_deepest_38 rfl hl (by decide) rfl (fun ls hl => ?_)
          refine lv_iinc (v := nI (k + 1)) (lv' := [(2, .int (nI (k + 1))), (1, .int (nI (mxN (dpN b0.2.1) (k + 1)))), (0, .ref q)]) hx hb dX2_deepest_39 hl (k := 1) rfl (nI_add _ _) (by decide) rfl (fun ls hl => ?_)
          refine lv_goto (tgt := 8) hx hb dX2_deepest_42 (by decide) ?_
          exact ih_L8 (k + 1) (by first | assumption | omega) (by omega) _ _ Z _ (lv_sub hl [1, 0, 2] rfl)
        · skip
          have c25 := n_le_f (a := dpN b0.2.1 k) (b := mxN (dpN b0.2.1) k) c25 (by omega) (by omega)
          refine lv_aload_n hx hb dX2_deepest_28 rfl (lv_at hl 2 rfl) ?_
          refine r_get (v := .ref (a 10)) hx hb hts in_X2 hown hG Z.w 0 rfl rfl 16 (by decide) q954 (fun _ h9 => h9) rfl dX2_deepest_29 ?_
          refine lv_iload_n hx hb dX2_deepest_32 rfl (lv_at hl 1 rfl) ?_
          refine r_iald hx hb hG Z.w 11 rfl (j := k) (by omega) (by decide) (v := nI (dpN b0.2.1 k)) ((hp1.1 k c15).trans (congrArg nI (ag_dp ag okb c15))) dX2_deepest_33 ?_
          refine lv_goto (tgt := 38) hx hb dX2_deepest_34 (by decide) ?_
          refine r_as (z := nI (mxN (dpN b0.2.1) (k + 1))) (by rw [mxN]; congr 1; omega) ?_
          refine lv_istore_n (lv' := [(1, .int (nI (mxN (dpN b0.2.1) (k + 1)))), (2, .int (nI k)), (0, .ref q)]) hx hb dX2_deepest_38 rfl hl (by decide) rfl (fun ls hl => ?_)
          refine lv_iinc (v := nI (k + 1)) (lv' := [(2, .int (nI (k + 1))), (1, .int (nI (mxN (dpN b0.2.1) (k + 1)))), (0, .ref q)]) hx hb dX2_deepest_39 hl (k := 1) rfl (nI_add _ _) (by decide) rfl (fun ls hl => ?_)
          refine lv_goto (tgt := 8) hx hb dX2_deepest_42 (by decide) ?_
          exact ih_L8 (k + 1) (by first | assumption | omega) (by omega) _ _ Z _ (lv_sub hl [1, 0, 2] rfl)
  exact L8 _ 0 (by first | assumption | omega) (Nat.lt_succ_self _) _ _ Z _ (lv_sub hl [1, 0, 2] rfl)
set_option maxHeartbeats 4000000 in
set_option maxRecDepth 100000 in
theorem M_count (l : Launch) (G : nG) (q : Nat) (a : Nat → Nat) (wd : Nat → Int64) (all : Nat → Int32) (kept : Nat → Int32) (hist : Nat → Int32) (hlo : Int32) (snap : Nat → Int32) (tk : Int32) (bits : Nat → Int32) (reg : Nat → Int32) (exa : Nat → Int32) (text : Nat → Int32) (tl : Int32) (sp : Int32) (read : Nat → Int32) (rm : Int32) (nu : Int32) (deep : Nat → Int32) (src : Nat → Int32) (S : oSt) (x : Int32) (hM : mR S all hist hlo snap tk text tl) : nMi (S := (Nat → Int32) × (Nat → Int32) × (Nat → Int32) × Int32 × (Nat → Int32) × Int32 × (Nat → Int32) × (Nat → Int32) × (Nat → Int32) × (Nat → Int32) × Int32 × Int32 × (Nat → Int32) × Int32 × Int32 × (Nat → Int32) × (Nat → Int32)) l yX2_count cX2_count 2 (.int) 5 0 0 116 G [.ref q, .int x] (mW G q a wd all kept hist hlo snap tk bits reg exa text tl sp read rm nu deep src) ([]) (fun (u : (Nat → Int32) × (Nat → Int32) × (Nat → Int32) × Int32 × (Nat → Int32) × Int32 × (Nat → Int32) × (Nat → Int32) × (Nat → Int32) × (Nat → Int32) × Int32 × Int32 × (Nat → Int32) × Int32 × Int32 × (Nat → Int32) × (Nat → Int32)) => mW G q a wd u.1 u.2.1 u.2.2.1 u.2.2.2.1 u.2.2.2.2.1 u.2.2.2.2.2.1 u.2.2.2.2.2.2.1 u.2.2.2.2.2.2.2.1 u.2.2.2.2.2.2.2.2.1 u.2.2.2.2.2.2.2.2.2.1 u.2.2.2.2.2.2.2.2.2.2.1 u.2.2.2.2.2.2.2.2.2.2.2.1 u.2.2.2.2.2.2.2.2.2.2.2.2.1 u.2.2.2.2.2.2.2.2.2.2.2.2.2.1 u.2.2.2.2.2.2.2.2.2.2.2.2.2.2.1 u.2.2.2.2.2.2.2.2.2.2.2.2.2.2.2.1 u.2.2.2.2.2.2.2.2.2.2.2.2.2.2.2.2) (fun (r : Int32) (u : (Nat → Int32) × (Nat → Int32) × (Nat → Int32) × Int32 × (Nat → Int32) × Int32 × (Nat → Int32) × (Nat → Int32) × (Nat → Int32) × (Nat → Int32) × Int32 × Int32 × (Nat → Int32) × Int32 × Int32 × (Nat → Int32) × (Nat → Int32)) => r = (qCount S x) ∧ mR S u.1 u.2.2.1 u.2.2.2.1 u.2.2.2.2.1 u.2.2.2.2.2.1 u.2.2.2.2.2.2.2.2.2.1 u.2.2.2.2.2.2.2.2.2.2.1) := by
  refine nMi.of (own := "ShareStreamsModel") rfl (by decide +kernel) (Nat.le_of_ble_eq_true rfl) (fun _ _ _ => rfl) ?_
  intro p e s m args below meth c A Q ls hx hb hml hown hts hin hG Z hl ret
  have hl : lv_has ls 2 [(0, .ref q), (1, .int x)] := hl
  have Z : nW G A (mW G q a wd all kept hist hlo snap tk bits reg exa text tl sp read rm nu deep src) ([]) ([]) s.heap _ _ := Z
  obtain ⟨so, ba, ⟨eh, hh⟩, ⟨ek, sn⟩, et, tx⟩ := hM
  have hM : mR S all hist hlo snap tk text tl := ⟨so, ba, ⟨eh, hh⟩, ⟨ek, sn⟩, et, tx⟩
  have hn : S.1.1 ≤ 16 := so.1.1
  have ha : all 0 = nI S.1.1 := ba.1
  have okb := so.1.2.2
  have ag := bRow_ag ba
  have okm := ag_ok ag okb
  have hlen := so.1.2.1
  refine lv_iload_n hx hb dX2_count_0 rfl (lv_at hl 1 rfl) ?_
  rcases sw8 x with z | z | z | z | z | z | z | z | z
  · skip
    have es : qCount S x = cBAD := by simp [qCount, rng_f z]
    refine lv_tableOut (tgt := 92) hx hb dX2_count_1 z (by decide) ?_
    refine lv_ldc hx hb hown (hts _ q1021) dX2_count_92 ?_
    exact ret (-100000002 : Int32) (all, kept, hist, hlo, snap, tk, bits, reg, exa, text, tl, sp, read, rm, nu, deep, src) dX2_count_94 (⟨(by rw [es]), hM⟩) Z (Nat.le_of_ble_eq_true rfl) (Nat.le_of_ble_eq_true rfl)
  · skip
    have es : qCount S x = qCountAt S 0 := by rw [z]; exact qCount_at S (by decide)
    refine r_as (z := nI 0) z ?_
    refine lv_tableIn (off := 47) (tgt := 48) hx hb dX2_count_1 (by decide +kernel) (by decide +kernel) (by decide +kernel) (by decide) ?_
    refine lv_aload_n hx hb dX2_count_48 rfl (lv_at hl 0 rfl) ?_
    refine r_get (v := .ref (a 0)) hx hb hts in_X2 hown hG Z.w 0 rfl rfl 0 (by decide) q938 (fun _ h9 => h9) rfl dX2_count_49 ?_
    refine lv_iconst (v := nI 0) hx hb dX2_count_52 rfl ?_
    refine r_iald hx hb hG Z.w 1 rfl (j := 0) (by omega) (by decide) (v := nI S.1.1) ha dX2_count_53 ?_
    exact ret (nI S.1.1) (all, kept, hist, hlo, snap, tk, bits, reg, exa, text, tl, sp, read, rm, nu, deep, src) dX2_count_54 (⟨(by rw [es]; simp [qCountAt]), hM⟩) Z (Nat.le_of_ble_eq_true rfl) (Nat.le_of_ble_eq_true rfl)
  · skip
    have es : qCount S x = qCountAt S 1 := by rw [z]; exact qCount_at S (by decide)
    refine r_as (z := nI 1) z ?_
    refine lv_tableIn (off := 54) (tgt := 55) hx hb dX2_count_1 (by decide +kernel) (by decide +kernel) (by decide +kernel) (by decide) ?_
    refine lv_aload_n hx hb dX2_count_55 rfl (lv_at hl 0 rfl) ?_
    refine r_get (v := .ref (a 0)) hx hb hts in_X2 hown hG Z.w 0 rfl rfl 0 (by decide) q938 (fun _ h9 => h9) rfl dX2_count_56 ?_
    refine lv_iconst (v := nI 1) hx hb dX2_count_59 rfl ?_
    refine r_iald hx hb hG Z.w 1 rfl (j := 1) (by omega) (by decide) (v := nI S.1.2.2) ba.2.1 dX2_count_60 ?_
    exact ret (nI S.1.2.2) (all, kept, hist, hlo, snap, tk, bits, reg, exa, text, tl, sp, read, rm, nu, deep, src) dX2_count_61 (⟨(by rw [es]; simp [qCountAt]), hM⟩) Z (Nat.le_of_ble_eq_true rfl) (Nat.le_of_ble_eq_true rfl)
  · skip
    have es : qCount S x = qCountAt S 2 := by rw [z]; exact qCount_at S (by decide)
    refine r_as (z := nI 2) z ?_
    refine lv_tableIn (off := 61) (tgt := 62) hx hb dX2_count_1 (by decide +kernel) (by decide +kernel) (by decide +kernel) (by decide) ?_
    refine lv_aload_n hx hb dX2_count_62 rfl (lv_at hl 0 rfl) ?_
    refine nc_i (k := 3) (wcc := mW G q a wd all kept hist hlo snap tk bits reg exa text tl sp read rm nu deep src) (wr := []) (nr_V (As := []) (rest := []) hx hb hml hown hts ((M_manySources l G q a wd all kept hist hlo snap tk bits reg exa text tl sp read rm nu deep src S.1 so.1.1 ba okb) _) nP.blind 0 q1208 q1210 qs39 q53 q1211 (by decide +kernel) ⟨⟨Nat.le_of_ble_eq_true rfl, Nat.le_of_ble_eq_true rfl⟩, Nat.le_of_ble_eq_true rfl, Nat.le_of_ble_eq_true rfl⟩ (r_recv hG Z.w 0 (C := "ShareStreamsModel") rfl rfl rfl) (nP_of hG Z [0, 1, 2, 3, 4, 5, 6, 7, 8, 9, 10, 11, 12] rfl (by decide) (fun k q h => by simp at h) nAp.nil) rfl hl.1 rfl (Nat.le_of_ble_eq_true rfl) dX2_count_63) Z [0, 1, 2, 3, 4, 5, 6, 7, 8, 9, 10, 11, 12] [] rfl rfl (by decide) (by decide) (fun r63 u H locs hp63 Z => ?_)
    have he63 := hp63
    have he63 : r63 = nI (srcN S.1) := he63
    subst he63
    have Z : nW G A (mW G q a wd all kept hist hlo snap tk bits reg exa text tl sp read rm nu deep src) ([]) ([]) s.heap _ _ := Z
    exact ret (nI (srcN S.1)) (all, kept, hist, hlo, snap, tk, bits, reg, exa, text, tl, sp, read, rm, nu, deep, src) dX2_count_66 (⟨(by rw [es]; simp [qCountAt]), hM⟩) Z (Nat.le_of_ble_eq_true rfl) (Nat.le_of_ble_eq_true rfl)
  · skip
    have es : qCount S x = qCountAt S 3 := by rw [z]; exact qCount_at S (by decide)
    refine r_as (z := nI 3) z ?_
    refine lv_tableIn (off := 66) (tgt := 67) hx hb dX2_count_1 (by decide +kernel) (by decide +kernel) (by decide +kernel) (by decide) ?_
    refine lv_aload_n hx hb dX2_count_67 rfl (lv_at hl 0 rfl) ?_
    refine nc_i (k := 3) (wcc := mW G q a wd all kept hist hlo snap tk bits reg exa text tl sp read rm nu deep src) (wr := []) (nr_V (As := []) (rest := []) hx hb hml hown hts ((M_errors l G q a wd all kept hist hlo snap tk bits reg exa text tl sp read rm nu deep src S.1 so.1 ba) _) nP.blind 0 q1212 q1214 qs40 q53 q1215 (by decide +kernel) ⟨⟨Nat.le_of_ble_eq_true rfl, Nat.le_of_ble_eq_true rfl⟩, Nat.le_of_ble_eq_true rfl, Nat.le_of_ble_eq_true rfl⟩ (r_recv hG Z.w 0 (C := "ShareStreamsModel") rfl rfl rfl) (nP_of hG Z [0, 1, 2, 3, 4, 5, 6, 7, 8, 9, 10, 11, 12] rfl (by decide) (fun k q h => by simp at h) nAp.nil) rfl hl.1 rfl (Nat.le_of_ble_eq_true rfl) dX2_count_68) Z [0, 1, 2, 3, 4, 5, 6, 7, 8, 9, 10, 11, 12] [] rfl rfl (by decide) (by decide) (fun r68 u H locs hp68 Z => ?_)
    obtain ⟨bt_68, rg_68, ex_68⟩ := u
    have he68 := hp68
    have he68 : r68 = nI (sumN (erE S.1) S.1.1) := he68
    subst he68
    have Z : nW G A (mW G q a wd all kept hist hlo snap tk bt_68 rg_68 ex_68 text tl sp read rm nu deep src) ([]) ([]) s.heap _ _ := Z
    exact ret (nI (sumN (erE S.1) S.1.1)) (all, kept, hist, hlo, snap, tk, bt_68, rg_68, ex_68, text, tl, sp, read, rm, nu, deep, src) dX2_count_71 (⟨(by rw [es]; simp [qCountAt]), hM⟩) Z (Nat.le_of_ble_eq_true rfl) (Nat.le_of_ble_eq_true rfl)
  · skip
    have es : qCount S x = qCountAt S 4 := by rw [z]; exact qCount_at S (by decide)
    refine r_as (z := nI 4) z ?_
    refine lv_tableIn (off := 71) (tgt := 72) hx hb dX2_count_1 (by decide +kernel) (by decide +kernel) (by decide +kernel) (by decide) ?_
    refine lv_aload_n hx hb dX2_count_72 rfl (lv_at hl 0 rfl) ?_
    refine nc_i (k := 3) (wcc := mW G q a wd all kept hist hlo snap tk bits reg exa text tl sp read rm nu deep src) (wr := []) (nr_V (As := []) (rest := []) hx hb hml hown hts ((M_worst l G q a wd all kept hist hlo snap tk bits reg exa text tl sp read rm nu deep src S.1 so.1 ba) _) nP.blind 0 q1216 q1218 qs41 q53 q1219 (by decide +kernel) ⟨⟨Nat.le_of_ble_eq_true rfl, Nat.le_of_ble_eq_true rfl⟩, Nat.le_of_ble_eq_true rfl, Nat.le_of_ble_eq_true rfl⟩ (r_recv hG Z.w 0 (C := "ShareStreamsModel") rfl rfl rfl) (nP_of hG Z [0, 1, 2, 3, 4, 5, 6, 7, 8, 9, 10, 11, 12] rfl (by decide) (fun k q h => by simp at h) nAp.nil) rfl hl.1 rfl (Nat.le_of_ble_eq_true rfl) dX2_count_73) Z [0, 1, 2, 3, 4, 5, 6, 7, 8, 9, 10, 11, 12] [] rfl rfl (by decide) (by decide) (fun r73 u H locs hp73 Z => ?_)
    obtain ⟨bt_73, rg_73, ex_73⟩ := u
    have he73 := hp73
    have he73 : r73 = if S.1.1 = 0 then cNONE else nI (wsI (erE S.1) (S.1.1 - 1)) := he73
    subst he73
    have Z : nW G A (mW G q a wd all kept hist hlo snap tk bt_73 rg_73 ex_73 text tl sp read rm nu deep src) ([]) ([]) s.heap _ _ := Z
    exact ret (if S.1.1 = 0 then cNONE else nI (wsI (erE S.1) (S.1.1 - 1))) (all, kept, hist, hlo, snap, tk, bt_73, rg_73, ex_73, text, tl, sp, read, rm, nu, deep, src) dX2_count_76 (⟨(by rw [es]; simp [qCountAt]), hM⟩) Z (Nat.le_of_ble_eq_true rfl) (Nat.le_of_ble_eq_true rfl)
  · skip
    have es : qCount S x = qCountAt S 5 := by rw [z]; exact qCount_at S (by decide)
    refine r_as (z := nI 5) z ?_
    refine lv_tableIn (off := 76) (tgt := 77) hx hb dX2_count_1 (by decide +kernel) (by decide +kernel) (by decide +kernel) (by decide) ?_
    refine lv_aload_n hx hb dX2_count_77 rfl (lv_at hl 0 rfl) ?_
    refine nc_i (k := 3) (wcc := mW G q a wd all kept hist hlo snap tk bits reg exa text tl sp read rm nu deep src) (wr := []) (nr_V (As := []) (rest := []) hx hb hml hown hts ((M_deepest l G q a wd all kept hist hlo snap tk bits reg exa text tl sp read rm nu deep src S.1 so.1 ba) _) nP.blind 0 q1220 q1222 qs42 q53 q1223 (by decide +kernel) ⟨⟨Nat.le_of_ble_eq_true rfl, Nat.le_of_ble_eq_true rfl⟩, Nat.le_of_ble_eq_true rfl, Nat.le_of_ble_eq_true rfl⟩ (r_recv hG Z.w 0 (C := "ShareStreamsModel") rfl rfl rfl) (nP_of hG Z [0, 1, 2, 3, 4, 5, 6, 7, 8, 9, 10, 11, 12] rfl (by decide) (fun k q h => by simp at h) nAp.nil) rfl hl.1 rfl (Nat.le_of_ble_eq_true rfl) dX2_count_78) Z [0, 1, 2, 3, 4, 5, 6, 7, 8, 9, 10, 11, 12] [] rfl rfl (by decide) (by decide) (fun r78 u H locs hp78 Z => ?_)
    obtain ⟨dp_78, sr_78⟩ := u
    have he78 := hp78
    have he78 : r78 = nI (mxN (dpN S.1.2.1) S.1.1) := he78
    subst he78
    have Z : nW G A (mW G q a wd all kept hist hlo snap tk bits reg exa text tl sp read rm nu dp_78 sr_78) ([]) ([]) s.heap _ _ := Z
    exact ret (nI (mxN (dpN S.1.2.1) S.1.1)) (all, kept, hist, hlo, snap, tk, bits, reg, exa, text, tl, sp, read, rm, nu, dp_78, sr_78) dX2_count_81 (⟨(by rw [es]; simp [qCountAt]), hM⟩) Z (Nat.le_of_ble_eq_true rfl) (Nat.le_of_ble_eq_true rfl)
  · skip
    have es : qCount S x = qCountAt S 6 := by rw [z]; exact qCount_at S (by decide)
    refine r_as (z := nI 6) z ?_
    refine lv_tableIn (off := 81) (tgt := 82) hx hb dX2_count_1 (by decide +kernel) (by decide +kernel) (by decide +kernel) (by decide) ?_
    refine lv_aload_n hx hb dX2_count_82 rfl (lv_at hl 0 rfl) ?_
    refine r_get (v := .int hlo) hx hb hts in_X2 hown hG Z.w 0 rfl rfl 3 (by decide) q941 (fun _ h9 => h9) rfl dX2_count_83 ?_
    refine r_as (z := nI S.2.1.length) eh ?_
    exact ret (nI S.2.1.length) (all, kept, hist, hlo, snap, tk, bits, reg, exa, text, tl, sp, read, rm, nu, deep, src) dX2_count_86 (⟨(by rw [es]; simp [qCountAt]), hM⟩) Z (Nat.le_of_ble_eq_true rfl) (Nat.le_of_ble_eq_true rfl)
  · skip
    have es : qCount S x = qCountAt S 7 := by rw [z]; exact qCount_at S (by decide)
    refine r_as (z := nI 7) z ?_
    refine lv_tableIn (off := 86) (tgt := 87) hx hb dX2_count_1 (by decide +kernel) (by decide +kernel) (by decide +kernel) (by decide) ?_
    refine lv_aload_n hx hb dX2_count_87 rfl (lv_at hl 0 rfl) ?_
    refine r_get (v := .int tl) hx hb hts in_X2 hown hG Z.w 0 rfl rfl 11 (by decide) q949 (fun _ h9 => h9) rfl dX2_count_88 ?_
    refine r_as (z := nI S.2.2.2.length) et ?_
    exact ret (nI S.2.2.2.length) (all, kept, hist, hlo, snap, tk, bits, reg, exa, text, tl, sp, read, rm, nu, deep, src) dX2_count_91 (⟨(by rw [es]; simp [qCountAt]), hM⟩) Z (Nat.le_of_ble_eq_true rfl) (Nat.le_of_ble_eq_true rfl)
