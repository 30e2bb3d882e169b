set_option maxHeartbeats 4000000 in
set_option maxRecDepth 100000 in
theorem M_bestSeed (l : Launch) (G : nG) (q : Nat) (a : Nat → Nat) (wd : Nat → Int64) (all : Nat → Int32) (kept : Nat → Int32) (hist : Nat → Int32) (hlo : Int32) (snap : Nat → Int32) (tk : Int32) (bits : Nat → Int32) (reg : Nat → Int32) (exa : Nat → Int32) (text : Nat → Int32) (tl : Int32) (sp : Int32) (read : Nat → Int32) (rm : Int32) (nu : Int32) (deep : Nat → Int32) (src : Nat → Int32) (S : oSt) (x : Int32) (y : Int32) (z : Int32) (hM : mR S all hist hlo snap tk text tl) : nMi (S := (Nat → Int32) × (Nat → Int32) × (Nat → Int32) × Int32 × (Nat → Int32) × Int32 × (Nat → Int32) × (Nat → Int32) × (Nat → Int32) × (Nat → Int32) × Int32 × Int32 × (Nat → Int32) × Int32 × Int32 × (Nat → Int32) × (Nat → Int32)) l yX2_bestSeed cX2_bestSeed 10 (.int) 4 0 0 92 G [.ref q, .int x, .int y, .int z] (mW G q a wd all kept hist hlo snap tk bits reg exa text tl sp read rm nu deep src) ([]) (fun (u : (Nat → Int32) × (Nat → Int32) × (Nat → Int32) × Int32 × (Nat → Int32) × Int32 × (Nat → Int32) × (Nat → Int32) × (Nat → Int32) × (Nat → Int32) × Int32 × Int32 × (Nat → Int32) × Int32 × Int32 × (Nat → Int32) × (Nat → Int32)) => mW G q a wd u.1 u.2.1 u.2.2.1 u.2.2.2.1 u.2.2.2.2.1 u.2.2.2.2.2.1 u.2.2.2.2.2.2.1 u.2.2.2.2.2.2.2.1 u.2.2.2.2.2.2.2.2.1 u.2.2.2.2.2.2.2.2.2.1 u.2.2.2.2.2.2.2.2.2.2.1 u.2.2.2.2.2.2.2.2.2.2.2.1 u.2.2.2.2.2.2.2.2.2.2.2.2.1 u.2.2.2.2.2.2.2.2.2.2.2.2.2.1 u.2.2.2.2.2.2.2.2.2.2.2.2.2.2.1 u.2.2.2.2.2.2.2.2.2.2.2.2.2.2.2.1 u.2.2.2.2.2.2.2.2.2.2.2.2.2.2.2.2) (fun (r : Int32) (u : (Nat → Int32) × (Nat → Int32) × (Nat → Int32) × Int32 × (Nat → Int32) × Int32 × (Nat → Int32) × (Nat → Int32) × (Nat → Int32) × (Nat → Int32) × Int32 × Int32 × (Nat → Int32) × Int32 × Int32 × (Nat → Int32) × (Nat → Int32)) => r = (qBest S.1 x y z) ∧ mR S u.1 u.2.2.1 u.2.2.2.1 u.2.2.2.2.1 u.2.2.2.2.2.1 u.2.2.2.2.2.2.2.2.2.1 u.2.2.2.2.2.2.2.2.2.2.1) := by
  refine nMi.of (own := "ShareStreamsModel") rfl (by decide +kernel) (Nat.le_of_ble_eq_true rfl) (fun _ _ _ => rfl) ?_
  intro p e s m args below meth c A Q ls hx hb hml hown hts hin hG Z hl ret
  have hl : lv_has ls 10 [(0, .ref q), (1, .int x), (2, .int y), (3, .int z)] := hl
  have Z : nW G A (mW G q a wd all kept hist hlo snap tk bits reg exa text tl sp read rm nu deep src) ([]) ([]) s.heap _ _ := Z
  obtain ⟨so, ba, ⟨eh, hh⟩, ⟨ek, sn⟩, et, tx⟩ := hM
  have hM : mR S all hist hlo snap tk text tl := ⟨so, ba, ⟨eh, hh⟩, ⟨ek, sn⟩, et, tx⟩
  have hn : S.1.1 ≤ 16 := so.1.1
  have ha : all 0 = nI S.1.1 := ba.1
  have okb := so.1.2.2
  have ag := bRow_ag ba
  have okm := ag_ok ag okb
  have hlen := so.1.2.1
  refine lv_aload_n hx hb dX2_bestSeed_0 rfl (lv_at hl 0 rfl) ?_
  refine lv_iload_n hx hb dX2_bestSeed_1 rfl (lv_at hl 1 rfl) ?_
  refine ns_i (k := 3) (nr_V (As := [.int x]) (rest := []) hx hb hml hown hts (M_isLine l G q a wd all kept hist hlo snap tk bits reg exa text tl sp read rm nu deep src x S.1.1 (by first | assumption | omega | rfl) (by first | assumption | omega | rfl)) nPs.blind 1 q1026 q1028 qs20 q53 q1029 (by decide +kernel) ⟨⟨Nat.le_of_ble_eq_true rfl, Nat.le_of_ble_eq_true rfl⟩, Nat.le_of_ble_eq_true rfl, Nat.le_of_ble_eq_true rfl⟩ (r_recv hG Z.w 0 (C := "ShareStreamsModel") rfl rfl rfl) (nPs_of hG Z Z.w) rfl hl.1 rfl (Nat.le_of_ble_eq_true rfl) dX2_bestSeed_2) (fun r2 hp2 => ?_)
  have he2 := hp2
  have he2 : r2 = bI (isLn x S.1.1) := he2
  subst he2
  refine lv_if_eq (tgt := 16) hx hb dX2_bestSeed_5 (by decide) (fun c5 => ?_) (fun c5 => ?_)
  · skip
    have c5 := bI_f c5
    refine lv_ldc hx hb hown (hts _ q1030) dX2_bestSeed_16 ?_
    exact ret (-100000001 : Int32) (all, kept, hist, hlo, snap, tk, bits, reg, exa, text, tl, sp, read, rm, nu, deep, src) dX2_bestSeed_18 (⟨(by first | simp [qBest, c5, c13] | simp [qBest, c5]), hM⟩) Z (Nat.le_of_ble_eq_true rfl) (Nat.le_of_ble_eq_true rfl)
  · skip
    have c5 := bI_t c5
    refine lv_aload_n hx hb dX2_bestSeed_8 rfl (lv_at hl 0 rfl) ?_
    refine lv_iload_n hx hb dX2_bestSeed_9 rfl (lv_at hl 2 rfl) ?_
    refine ns_i (k := 3) (nr_V (As := [.int y]) (rest := []) hx hb hml hown hts (M_isLine l G q a wd all kept hist hlo snap tk bits reg exa text tl sp read rm nu deep src y S.1.1 (by first | assumption | omega | rfl) (by first | assumption | omega | rfl)) nPs.blind 1 q1026 q1028 qs20 q53 q1029 (by decide +kernel) ⟨⟨Nat.le_of_ble_eq_true rfl, Nat.le_of_ble_eq_true rfl⟩, Nat.le_of_ble_eq_true rfl, Nat.le_of_ble_eq_true rfl⟩ (r_recv hG Z.w 0 (C := "ShareStreamsModel") rfl rfl rfl) (nPs_of hG Z Z.w) rfl hl.1 rfl (Nat.le_of_ble_eq_true rfl) dX2_bestSeed_10) (fun r10 hp10 => ?_)
    have he10 := hp10
    have he10 : r10 = bI (isLn y S.1.1) := he10
    subst he10
    refine lv_if_ne (tgt := 19) hx hb dX2_bestSeed_13 (by decide) (fun c13 => ?_) (fun c13 => ?_)
    · skip
      have c13 := bI_t c13
      obtain ⟨k, hk, ek⟩ := isLn_t c5 (by omega)
      subst ek
      have hck : (nI k).toNatClampNeg = k := nI_clamp (by omega)
      obtain ⟨j, hj, ej⟩ := isLn_t c13 (by omega)
      subst ej
      have hcj : (nI j).toNatClampNeg = j := nI_clamp (by omega)
      refine lv_iload_n hx hb dX2_bestSeed_19 rfl (lv_at hl 3 rfl) ?_
      refine lv_i2l hx hb dX2_bestSeed_20 rfl ?_
      refine lv_lconst (v := lN 0) hx hb dX2_bestSeed_21 rfl ?_
      refine lv_lconst (v := lN 1) hx hb dX2_bestSeed_22 rfl ?_
      refine ns_i (k := 3) (nr_S (As := [.long (Int32.toInt64 z), .long (lN 0), .long (lN 1)]) (rest := []) hx hb hml hown hts (M_in l G (Int32.toInt64 z) (lN 0) (lN 1)) nPs.blind 3 q999 q1000 q53 q1001 (by decide +kernel) ⟨⟨Nat.le_of_ble_eq_true rfl, Nat.le_of_ble_eq_true rfl⟩, Nat.le_of_ble_eq_true rfl, Nat.le_of_ble_eq_true rfl⟩ (nPs_of hG Z (fun k q h => by simp at h)) rfl hl.1 rfl (Nat.le_of_ble_eq_true rfl) dX2_bestSeed_23) (fun r23 hp23 => ?_)
      have he23 := hp23
      have he23 : r23 = bI (inL (Int32.toInt64 z) (lN 0) (lN 1)) := he23
      subst he23
      refine r_as (z := bI (rng z 0 1)) (by rw [inL_rng z (by decide) (by decide)]) ?_
      refine lv_if_ne (tgt := 32) hx hb dX2_bestSeed_26 (by decide) (fun c26 => ?_) (fun c26 => ?_)
      · skip
        have c26 := bI_t c26
        obtain ⟨w, hw1, hw2, ew⟩ := rng_t c26 (by decide)
        subst ew
        have hcw : (nI w).toNatClampNeg = w := nI_clamp (by omega)
        refine lv_aload_n hx hb dX2_bestSeed_32 rfl (lv_at hl 0 rfl) ?_
        refine lv_iload_n hx hb dX2_bestSeed_33 rfl (lv_at hl 1 rfl) ?_
        refine lv_iconst (v := nI 0) hx hb dX2_bestSeed_34 rfl ?_
        refine ns_i (k := 3) (nr_V (As := [.int (nI k), .int (nI 0)]) (rest := []) hx hb hml hown hts (M_of l G q a wd all kept hist hlo snap tk bits reg exa text tl sp read rm nu deep src k 0 (by omega)) nPs.blind 2 q1049 q1051 qs21 q53 q1052 (by decide +kernel) ⟨⟨Nat.le_of_ble_eq_true rfl, Nat.le_of_ble_eq_true rfl⟩, Nat.le_of_ble_eq_true rfl, Nat.le_of_ble_eq_true rfl⟩ (r_recv hG Z.w 0 (C := "ShareStreamsModel") rfl rfl rfl) (nPs_of hG Z Z.w) rfl hl.1 rfl (Nat.le_of_ble_eq_true rfl) dX2_bestSeed_35) (fun r35 hp35 => ?_)
        have he35 := hp35
        have he35 : r35 = all (2 + 4 * k + 0) := he35
        subst he35
        refine r_as (z := nI (kd S.1.2.1 k)) ((ba.2.2 k hk 0 (by decide)).trans (okb k hk).1.1) ?_
        have hkd := (okb k hk).1.2
        refine lv_if_eq (tgt := 44) hx hb dX2_bestSeed_38 (by decide) (fun c38 => ?_) (fun c38 => ?_)
        · skip
          have c38 := n_eq_t (a := kd S.1.2.1 k) (b := 0) c38 (by omega) (by decide)
          have es : qBest S.1 (nI k) (nI j) (nI w) = (if w = 0 then nI (bsF (bsE S.1 k j) 254).1 else nI (bsF (bsE S.1 k j) 254).2) := by simp [qBest, c5, c13, c26, hck, hcj, hcw, c38]
          refine lv_iconst (v := nI 2) hx hb dX2_bestSeed_44 rfl ?_
          refine lv_iconst (v := nI 4) hx hb dX2_bestSeed_45 rfl ?_
          refine lv_iload_n hx hb dX2_bestSeed_46 rfl (lv_at hl 1 rfl) ?_
          refine lv_imul hx hb dX2_bestSeed_47 ?_
          refine r_as (z := nI (4 * k)) (pk_mul _ _) ?_
          refine lv_iadd hx hb dX2_bestSeed_48 ?_
          refine r_as (z := nI (2 + (4 * k))) (nI_add _ _) ?_
          refine lv_iconst (v := nI 2) hx hb dX2_bestSeed_49 rfl ?_
          refine lv_iadd hx hb dX2_bestSeed_50 ?_
          refine r_as (z := nI (2 + (4 * k) + 2)) (nI_add _ _) ?_
          refine lv_istore (lv' := [(4, .int (nI (2 + (4 * k) + 2))), (0, .ref q), (1, .int (nI k)), (2, .int (nI j)), (3, .int (nI w))]) hx hb dX2_bestSeed_51 hl (by decide) rfl (fun ls hl => ?_)
          refine lv_aload_n hx hb dX2_bestSeed_53 rfl (lv_at hl 1 rfl) ?_
          refine r_get (v := .ref (a 0)) hx hb hts in_X2 hown hG Z.w 0 rfl rfl 0 (by decide) q938 (fun _ h9 => h9) rfl dX2_bestSeed_54 ?_
          refine lv_iload hx hb dX2_bestSeed_57 (lv_at hl 0 rfl) ?_
          refine r_iald hx hb hG Z.w 1 rfl (j := 2 + (4 * k) + 2) (by omega) (by decide) (v := all (2 + (4 * k) + 2)) rfl dX2_bestSeed_59 ?_
          refine lv_istore (lv' := [(5, .int (all (2 + (4 * k) + 2))), (4, .int (nI (2 + (4 * k) + 2))), (0, .ref q), (1, .int (nI k)), (2, .int (nI j)), (3, .int (nI w))]) hx hb dX2_bestSeed_60 hl (by decide) rfl (fun ls hl => ?_)
          refine lv_iconst (v := nI 0) hx hb dX2_bestSeed_62 rfl ?_
          refine lv_istore (lv' := [(6, .int (nI 0)), (5, .int (all (2 + (4 * k) + 2))), (4, .int (nI (2 + (4 * k) + 2))), (0, .ref q), (1, .int (nI k)), (2, .int (nI j)), (3, .int (nI w))]) hx hb dX2_bestSeed_63 hl (by decide) rfl (fun ls hl => ?_)
          refine lv_iconst (v := nI 0) hx hb dX2_bestSeed_65 rfl ?_
          refine lv_istore (lv' := [(7, .int (nI 0)), (6, .int (nI 0)), (5, .int (all (2 + (4 * k) + 2))), (4, .int (nI (2 + (4 * k) + 2))), (0, .ref q), (1, .int (nI k)), (2, .int (nI j)), (3, .int (nI w))]) hx hb dX2_bestSeed_66 hl (by decide) rfl (fun ls hl => ?_)
          refine lv_iconst (v := nI 1) hx hb dX2_bestSeed_68 rfl ?_
          refine lv_istore (lv' := [(8, .int (nI 1)), (7, .int (nI 0)), (6, .int (nI 0)), (5, .int (all (2 + (4 * k) + 2))), (4, .int (nI (2 + (4 * k) + 2))), (0, .ref q), (1, .int (nI k)), (2, .int (nI j)), (3, .int (nI w))]) hx hb dX2_bestSeed_69 hl (by decide) rfl (fun ls hl => ?_)
          have L71 : ∀ (k_ : Nat) (sd : Nat) (bs : Nat) (le : Nat) (al : Nat → Int32) (bt : Nat → Int32) (rg : Nat → Int32) (ex : Nat → Int32) (g1 : 1 ≤ sd ∧ sd ≤ 256) (g2 : ∀ v, v ≠ 2 + 4 * k + 2 → al v = all v) (g3 : (sd = 1 ∧ bs = 0) ∨ (2 ≤ sd ∧ bs = (bsF (bsE S.1 k j) (sd - 2)).1 ∧ le = (bsF (bsE S.1 k j) (sd - 2)).2)) (g4 : bs < sd) (g5 : le ≤ 65536) (hk_ : 256 - sd < k_) (H : Heap) (locs : List Loc), nW G A (mW G q a wd al kept hist hlo snap tk bt rg ex text tl sp read rm nu deep src) ([]) ([]) s.heap H locs → ∀ (ls : Array Slot), lv_has ls 10 [(6, .int (nI bs)), (7, .int (nI le)), (8, .int (nI sd)), (5, .int (all (2 + (4 * k) + 2))), (4, .int (nI (2 + (4 * k) + 2))), (0, .ref q), (1, .int (nI k)), (2, .int (nI j)), (3, .int (nI w))] → W p l e (nRm 4 0 0 92) s m args below meth c H locs 0 0 Q (F0 m 71 ls []) := by
            intro k_
            induction k_ with
            | zero => intro sd bs le al bt rg ex g1 g2 g3 g4 g5 hk_; exact absurd hk_ (Nat.not_lt_zero _)
            | succ k_ ih_L71 =>
              intro sd bs le al bt rg ex g1 g2 g3 g4 g5 hk_ H locs Z ls hl
              refine lv_iload hx hb dX2_bestSeed_71 (lv_at hl 2 rfl) ?_
              refine lv_sipush (v := nI 256) hx hb dX2_bestSeed_73 rfl ?_
              refine lv_icmp_ge (tgt := 145) hx hb dX2_bestSeed_76 (by decide) (fun c76 => ?_) (fun c76 => ?_)
              · skip
                have c76 := n_le_t (a := 256) (b := sd) c76 (by decide) (by omega)
                obtain ⟨q1, q2, q3⟩ := g3.resolve_left (fun h => by omega)
                have e9 : sd = 256 := by omega
                have q2 : bs = (bsF (bsE S.1 k j) 254).1 := by rw [e9] at q2; exact q2
                have q3 : le = (bsF (bsE S.1 k j) 254).2 := by rw [e9] at q3; exact q3
                refine lv_aload_n hx hb dX2_bestSeed_145 rfl (lv_at hl 5 rfl) ?_
                refine r_get (v := .ref (a 0)) hx hb hts in_X2 hown hG Z.w 0 rfl rfl 0 (by decide) q938 (fun _ h9 => h9) rfl dX2_bestSeed_146 ?_
                refine lv_iload hx hb dX2_bestSeed_149 (lv_at hl 4 rfl) ?_
                refine lv_iload hx hb dX2_bestSeed_151 (lv_at hl 3 rfl) ?_
                refine r_iast hx hb hG Z 1 rfl (j := 2 + (4 * k) + 2) (by omega) (by decide) (wc' := mW G q a wd (upd al (2 + (4 * k) + 2) (all (2 + (4 * k) + 2))) kept hist hlo snap tk bt rg ex text tl sp read rm nu deep src) rfl dX2_bestSeed_153 (fun H locs Z => ?_)
                refine lv_iload_n hx hb dX2_bestSeed_154 rfl (lv_at hl 8 rfl) ?_
                refine lv_if_ne (tgt := 163) hx hb dX2_bestSeed_155 (by decide) (fun c155 => ?_) (fun c155 => ?_)
                · skip
                  have c155 := n_eq_f (a := w) (b := 0) c155
                  refine lv_iload hx hb dX2_bestSeed_163 (lv_at hl 1 rfl) ?_
                  exact ret (nI le) (upd al (2 + (4 * k) + 2) (all (2 + (4 * k) + 2)), kept, hist, hlo, snap, tk, bt, rg, ex, text, tl, sp, read, rm, nu, deep, src) dX2_bestSeed_165 (⟨(by rw [es]; first | (rw [if_pos c155, q2]; done) | (rw [if_neg c155, q3]; done)), (mR_all hM (upd_back g2))⟩) Z (Nat.le_of_ble_eq_true rfl) (Nat.le_of_ble_eq_true rfl)
                · skip
                  have c155 := n_eq_t (a := w) (b := 0) c155 (by omega) (by decide)
                  refine lv_iload hx hb dX2_bestSeed_158 (lv_at hl 0 rfl) ?_
                  refine lv_goto (tgt := 165) hx hb dX2_bestSeed_160 (by decide) ?_
                  exact ret (nI bs) (upd al (2 + (4 * k) + 2) (all (2 + (4 * k) + 2)), kept, hist, hlo, snap, tk, bt, rg, ex, text, tl, sp, read, rm, nu, deep, src) dX2_bestSeed_165 (⟨(by rw [es]; first | (rw [if_pos c155, q2]; done) | (rw [if_neg c155, q3]; done)), (mR_all hM (upd_back g2))⟩) Z (Nat.le_of_ble_eq_true rfl) (Nat.le_of_ble_eq_true rfl)
              · skip
                have c76 := n_le_f (a := 256) (b := sd) c76 (by decide) (by omega)
                have okS := seed_ok okb (k := k) (s := sd) c38 (by omega) (by omega) hn
                have agS := ag_seed ba (k := k) (sd := sd) g2
                have okA := ag_ok agS okS
                have e1 : bsE S.1 k j sd ≤ 65536 := err_le okS hj hlen.1
                refine lv_aload_n hx hb dX2_bestSeed_79 rfl (lv_at hl 5 rfl) ?_
                refine r_get (v := .ref (a 0)) hx hb hts in_X2 hown hG Z.w 0 rfl rfl 0 (by decide) q938 (fun _ h9 => h9) rfl dX2_bestSeed_80 ?_
                refine lv_iload hx hb dX2_bestSeed_83 (lv_at hl 4 rfl) ?_
                refine lv_iload hx hb dX2_bestSeed_85 (lv_at hl 2 rfl) ?_
                refine r_iast hx hb hG Z 1 rfl (j := 2 + (4 * k) + 2) (by omega) (by decide) (wc' := mW G q a wd (upd al (2 + (4 * k) + 2) (nI sd)) kept hist hlo snap tk bt rg ex text tl sp read rm nu deep src) rfl dX2_bestSeed_87 (fun H locs Z => ?_)
                refine lv_aload_n hx hb dX2_bestSeed_88 rfl (lv_at hl 5 rfl) ?_
                refine lv_iload_n hx hb dX2_bestSeed_89 rfl (lv_at hl 7 rfl) ?_
                refine lv_aload_n hx hb dX2_bestSeed_90 rfl (lv_at hl 5 rfl) ?_
                refine r_get (v := .ref (a 0)) hx hb hts in_X2 hown hG Z.w 0 rfl rfl 0 (by decide) q938 (fun _ h9 => h9) rfl dX2_bestSeed_91 ?_
                refine lv_iconst (v := nI 1) hx hb dX2_bestSeed_94 rfl ?_
                refine r_iald hx hb hG Z.w 1 rfl (j := 1) (by omega) (by decide) (v := nI S.1.2.2) (by rw [upd_n (by omega), g2 _ (by omega)]; exact ba.2.1) dX2_bestSeed_95 ?_
                refine nc_i (k := 3) (wcc := mW G q a wd (upd al (2 + (4 * k) + 2) (nI sd)) kept hist hlo snap tk bt rg ex text tl sp read rm nu deep src) (wr := []) (nr_V (As := [.int (nI j), .int (nI S.1.2.2)]) (rest := []) hx hb hml hown hts ((M_errorOf l G q a wd (upd al (2 + (4 * k) + 2) (nI sd)) kept hist hlo snap tk bt rg ex text tl sp read rm nu deep src S.1.1 j S.1.2.2 hn okA (by first | assumption | omega | rfl) (by first | assumption | omega | rfl) (by first | assumption | omega | rfl)) _) nP.blind 2 q1188 q1190 qs38 q53 q1191 (by decide +kernel) ⟨⟨Nat.le_of_ble_eq_true rfl, Nat.le_of_ble_eq_true rfl⟩, Nat.le_of_ble_eq_true rfl, Nat.le_of_ble_eq_true rfl⟩ (r_recv hG Z.w 0 (C := "ShareStreamsModel") rfl rfl rfl) (nP_of hG Z [0, 1, 2, 3, 4, 5, 6, 7, 8, 9, 10, 11, 12] rfl (by decide) (fun k q h => by simp at h) nAp.nil) rfl hl.1 rfl (Nat.le_of_ble_eq_true rfl) dX2_bestSeed_96) Z [0, 1, 2, 3, 4, 5, 6, 7, 8, 9, 10, 11, 12] [] rfl rfl (by decide) (by decide) (fun r96 u H locs hp96 Z => ?_)
                obtain ⟨bt2, rg2, ex2⟩ := u
                have he96 := hp96
                have he96 : r96 = nI (errN (mF (upd al (2 + (4 * k) + 2) (nI sd))) j S.1.2.2) := he96
                subst he96
                have Z : nW G A (mW G q a wd (upd al (2 + (4 * k) + 2) (nI sd)) kept hist hlo snap tk bt2 rg2 ex2 text tl sp read rm nu deep src) ([]) ([]) s.heap _ _ := Z
                refine r_as (z := nI (bsE S.1 k j sd)) (congrArg nI (ag_err agS okS hj _)) ?_
                refine lv_istore (lv' := [(9, .int (nI (bsE S.1 k j sd))), (6, .int (nI bs)), (7, .int (nI le)), (8, .int (nI sd)), (5, .int (all (2 + (4 * k) + 2))), (4, .int (nI (2 + (4 * k) + 2))), (0, .ref q), (1, .int (nI k)), (2, .int (nI j)), (3, .int (nI w))]) hx hb dX2_bestSeed_99 hl (by decide) rfl (fun ls hl => ?_)
                refine lv_iload hx hb dX2_bestSeed_101 (lv_at hl 3 rfl) ?_
                refine lv_iconst (v := nI 1) hx hb dX2_bestSeed_103 rfl ?_
                refine lv_icmp_eq (tgt := 114) hx hb dX2_bestSeed_104 (by decide) (fun c104 => ?_) (fun c104 => ?_)
                · skip
                  have c104 := n_eq_t (a := sd) (b := 1) c104 (by omega) (by decide)
                  refine lv_iload hx hb dX2_bestSeed_114 (lv_at hl 3 rfl) ?_
                  refine lv_goto (tgt := 121) hx hb dX2_bestSeed_116 (by decide) ?_
                  refine lv_istore (lv' := [(6, .int (nI sd)), (9, .int (nI (bsE S.1 k j sd))), (7, .int (nI le)), (8, .int (nI sd)), (5, .int (all (2 + (4 * k) + 2))), (4, .int (nI (2 + (4 * k) + 2))), (0, .ref q), (1, .int (nI k)), (2, .int (nI j)), (3, .int (nI w))]) hx hb dX2_bestSeed_121 hl (by decide) rfl (fun ls hl => ?_)
                  refine lv_iload hx hb dX2_bestSeed_123 (lv_at hl 0 rfl) ?_
                  refine lv_iload hx hb dX2_bestSeed_125 (lv_at hl 3 rfl) ?_
                  refine lv_icmp_ne (tgt := 135) hx hb dX2_bestSeed_127 (by decide) (fun c127 => ?_) (fun c127 => ?_)
                  · skip
                    have c127 := n_eq_f (a := sd) (b := sd) c127
                    exfalso; omega
                  · skip
                    have c127 := n_eq_t (a := sd) (b := sd) c127 (by omega) (by omega)
                    refine lv_iload hx hb dX2_bestSeed_130 (lv_at hl 1 rfl) ?_
                    refine lv_goto (tgt := 137) hx hb dX2_bestSeed_132 (by decide) ?_
                    refine lv_istore (lv' := [(7, .int (nI (bsE S.1 k j sd))), (6, .int (nI sd)), (9, .int (nI (bsE S.1 k j sd))), (8, .int (nI sd)), (5, .int (all (2 + (4 * k) + 2))), (4, .int (nI (2 + (4 * k) + 2))), (0, .ref q), (1, .int (nI k)), (2, .int (nI j)), (3, .int (nI w))]) hx hb dX2_bestSeed_137 hl (by decide) rfl (fun ls hl => ?_)
                    refine lv_iinc (v := nI (sd + 1)) (lv' := [(8, .int (nI (sd + 1))), (7, .int (nI (bsE S.1 k j sd))), (6, .int (nI sd)), (9, .int (nI (bsE S.1 k j sd))), (5, .int (all (2 + (4 * k) + 2))), (4, .int (nI (2 + (4 * k) + 2))), (0, .ref q), (1, .int (nI k)), (2, .int (nI j)), (3, .int (nI w))]) hx hb dX2_bestSeed_139 hl (k := 3) rfl (nI_add _ _) (by decide) rfl (fun ls hl => ?_)
                    refine lv_goto (tgt := 71) hx hb dX2_bestSeed_142 (by decide) ?_
                    exact ih_L71 (sd + 1) sd (bsE S.1 k j sd) (upd al (2 + (4 * k) + 2) (nI sd)) bt2 rg2 ex2 (by omega) (fun v hv => by rw [upd_n hv]; exact g2 v hv) (Or.inr ⟨by omega, by first | (rw [c104]; rfl) | (rw [bsF_s q1, if_pos (by rw [← q3]; exact c111)]) | (rw [bsF_s q1, if_neg (by rw [← q3]; omega)]; exact q2), by first | (rw [c104]; rfl) | (rw [bsF_s q1, if_pos (by rw [← q3]; exact c111)]) | (rw [bsF_s q1, if_neg (by rw [← q3]; omega)]; exact q3)⟩) (by omega) (by omega) (by omega) _ _ Z _ (lv_sub hl [2, 1, 0, 4, 5, 6, 7, 8, 9] rfl)
                · skip
                  have c104 := n_eq_f (a := sd) (b := 1) c104
                  obtain ⟨q1, q2, q3⟩ := g3.resolve_left (fun h => c104 h.1)
                  refine lv_iload hx hb dX2_bestSeed_107 (lv_at hl 0 rfl) ?_
                  refine lv_iload hx hb dX2_bestSeed_109 (lv_at hl 2 rfl) ?_
                  refine lv_icmp_ge (tgt := 119) hx hb dX2_bestSeed_111 (by decide) (fun c111 => ?_) (fun c111 => ?_)
                  · skip
                    have c111 := n_le_t (a := le) (b := bsE S.1 k j sd) c111 (by omega) (by omega)
                    refine lv_iload hx hb dX2_bestSeed_119 (lv_at hl 1 rfl) ?_
                    refine lv_istore (lv' := [(6, .int (nI bs)), (9, .int (nI (bsE S.1 k j sd))), (7, .int (nI le)), (8, .int (nI sd)), (5, .int (all (2 + (4 * k) + 2))), (4, .int (nI (2 + (4 * k) + 2))), (0, .ref q), (1, .int (nI k)), (2, .int (nI j)), (3, .int (nI w))]) hx hb dX2_bestSeed_121 hl (by decide) rfl (fun ls hl => ?_)
                    refine lv_iload hx hb dX2_bestSeed_123 (lv_at hl 0 rfl) ?_
                    refine lv_iload hx hb dX2_bestSeed_125 (lv_at hl 3 rfl) ?_
                    refine lv_icmp_ne (tgt := 135) hx hb dX2_bestSeed_127 (by decide) (fun c127 => ?_) (fun c127 => ?_)
                    · skip
                      have c127 := n_eq_f (a := bs) (b := sd) c127
                      refine lv_iload hx hb dX2_bestSeed_135 (lv_at hl 2 rfl) ?_
                      refine lv_istore (lv' := [(7, .int (nI le)), (6, .int (nI bs)), (9, .int (nI (bsE S.1 k j sd))), (8, .int (nI sd)), (5, .int (all (2 + (4 * k) + 2))), (4, .int (nI (2 + (4 * k) + 2))), (0, .ref q), (1, .int (nI k)), (2, .int (nI j)), (3, .int (nI w))]) hx hb dX2_bestSeed_137 hl (by decide) rfl (fun ls hl => ?_)
                      refine lv_iinc (v := nI (sd + 1)) (lv' := [(8, .int (nI (sd + 1))), (7, .int (nI le)), (6, .int (nI bs)), (9, .int (nI (bsE S.1 k j sd))), (5, .int (all (2 + (4 * k) + 2))), (4, .int (nI (2 + (4 * k) + 2))), (0, .ref q), (1, .int (nI k)), (2, .int (nI j)), (3, .int (nI w))]) hx hb dX2_bestSeed_139 hl (k := 3) rfl (nI_add _ _) (by decide) rfl (fun ls hl => ?_)
                      refine lv_goto (tgt := 71) hx hb dX2_bestSeed_142 (by decide) ?_
                      exact ih_L71 (sd + 1) bs le (upd al (2 + (4 * k) + 2) (nI sd)) bt2 rg2 ex2 (by omega) (fun v hv => by rw [upd_n hv]; exact g2 v hv) (Or.inr ⟨by omega, by first | (rw [c104]; rfl) | (rw [bsF_s q1, if_pos (by rw [← q3]; exact c111)]) | (rw [bsF_s q1, if_neg (by rw [← q3]; omega)]; exact q2), by first | (rw [c104]; rfl) | (rw [bsF_s q1, if_pos (by rw [← q3]; exact c111)]) | (rw [bsF_s q1, if_neg (by rw [← q3]; omega)]; exact q3)⟩) (by omega) (by omega) (by omega) _ _ Z _ (lv_sub hl [2, 1, 0, 4, 5, 6, 7, 8, 9] rfl)
                    · skip
                      have c127 := n_eq_t (a := bs) (b := sd) c127 (by omega) (by omega)
                      exfalso; omega
                  · skip
                    have c111 := n_le_f (a := le) (b := bsE S.1 k j sd) c111 (by omega) (by omega)
                    refine lv_iload hx hb dX2_bestSeed_114 (lv_at hl 3 rfl) ?_
                    refine lv_goto (tgt := 121) hx hb dX2_bestSeed_116 (by decide) ?_
                    refine lv_istore (lv' := [(6, .int (nI sd)), (9, .int (nI (bsE S.1 k j sd))), (7, .int (nI le)), (8, .int (nI sd)), (5, .int (all (2 + (4 * k) + 2))), (4, .int (nI (2 + (4 * k) + 2))), (0, .ref q), (1, .int (nI k)), (2, .int (nI j)), (3, .int (nI w))]) hx hb dX2_bestSeed_121 hl (by decide) rfl (fun ls hl => ?_)
                    refine lv_iload hx hb dX2_bestSeed_123 (lv_at hl 0 rfl) ?_
                    refine lv_iload hx hb dX2_bestSeed_125 (lv_at hl 3 rfl) ?_
                    refine lv_icmp_ne (tgt := 135) hx hb dX2_bestSeed_127 (by decide) (fun c127 => ?_) (fun c127 => ?_)
                    · skip
                      have c127 := n_eq_f (a := sd) (b := sd) c127
                      exfalso; omega
                    · skip
                      have c127 := n_eq_t (a := sd) (b := sd) c127 (by omega) (by omega)
                      refine lv_iload hx hb dX2_bestSeed_130 (lv_at hl 1 rfl) ?_
                      refine lv_goto (tgt := 137) hx hb dX2_bestSeed_132 (by decide) ?_
                      refine lv_istore (lv' := [(7, .int (nI (bsE S.1 k j sd))), (6, .int (nI sd)), (9, .int (nI (bsE S.1 k j sd))), (8, .int (nI sd)), (5, .int (all (2 + (4 * k) + 2))), (4, .int (nI (2 + (4 * k) + 2))), (0, .ref q), (1, .int (nI k)), (2, .int (nI j)), (3, .int (nI w))]) hx hb dX2_bestSeed_137 hl (by decide) rfl (fun ls hl => ?_)
                      refine lv_iinc (v := nI (sd + 1)) (lv' := [(8, .int (nI (sd + 1))), (7, .int (nI (bsE S.1 k j sd))), (6, .int (nI sd)), (9, .int (nI (bsE S.1 k j sd))), (5, .int (all (2 + (4 * k) + 2))), (4, .int (nI (2 + (4 * k) + 2))), (0, .ref q), (1, .int (nI k)), (2, .int (nI j)), (3, .int (nI w))]) hx hb dX2_bestSeed_139 hl (k := 3) rfl (nI_add _ _) (by decide) rfl (fun ls hl => ?_)
                      refine lv_goto (tgt := 71) hx hb dX2_bestSeed_142 (by decide) ?_
                      exact ih_L71 (sd + 1) sd (bsE S.1 k j sd) (upd al (2 + (4 * k) + 2) (nI sd)) bt2 rg2 ex2 (by omega) (fun v hv => by rw [upd_n hv]; exact g2 v hv) (Or.inr ⟨by omega, by first | (rw [c104]; rfl) | (rw [bsF_s q1, if_pos (by rw [← q3]; exact c111)]) | (rw [bsF_s q1, if_neg (by rw [← q3]; omega)]; exact q2), by first | (rw [c104]; rfl) | (rw [bsF_s q1, if_pos (by rw [← q3]; exact c111)]) | (rw [bsF_s q1, if_neg (by rw [← q3]; omega)]; exact q3)⟩) (by omega) (by omega) (by omega) _ _ Z _ (lv_sub hl [2, 1, 0, 4, 5, 6, 7, 8, 9] rfl)
          exact L71 _ 1 0 0 all bits reg exa (by first | assumption | omega) (fun v _ => rfl) (Or.inl ⟨rfl, rfl⟩) (by first | assumption | omega) (by first | assumption | omega) (Nat.lt_succ_self _) _ _ Z _ (lv_sub hl [2, 1, 0, 3, 4, 5, 6, 7, 8] rfl)
        · skip
          have c38 := n_eq_f (a := kd S.1.2.1 k) (b := 0) c38
          refine lv_ldc hx hb hown (hts _ q1053) dX2_bestSeed_41 ?_
          exact ret (-100000004 : Int32) (all, kept, hist, hlo, snap, tk, bits, reg, exa, text, tl, sp, read, rm, nu, deep, src) dX2_bestSeed_43 (⟨(by simp [qBest, c5, c13, c26, hck, hcj, hcw, c38]), hM⟩) Z (Nat.le_of_ble_eq_true rfl) (Nat.le_of_ble_eq_true rfl)
      · skip
        have c26 := bI_f c26
        refine lv_ldc hx hb hown (hts _ q1021) dX2_bestSeed_29 ?_
        exact ret (-100000002 : Int32) (all, kept, hist, hlo, snap, tk, bits, reg, exa, text, tl, sp, read, rm, nu, deep, src) dX2_bestSeed_31 (⟨(by simp [qBest, c5, c13, c26]), hM⟩) Z (Nat.le_of_ble_eq_true rfl) (Nat.le_of_ble_eq_true rfl)
    · skip
      have c13 := bI_f c13
      refine lv_ldc hx hb hown (hts _ q1030) dX2_bestSeed_16 ?_
      exact ret (-100000001 : Int32) (all, kept, hist, hlo, snap, tk, bits, reg, exa, text, tl, sp, read, rm, nu, deep, src) dX2_bestSeed_18 (⟨(by first | simp [qBest, c5, c13] | simp [qBest, c5]), hM⟩) Z (Nat.le_of_ble_eq_true rfl) (Nat.le_of_ble_eq_true rfl)
set_option maxHeartbeats 4000000 in
set_option maxRecDepth 100000 in
theorem M_init (l : Launch) (G : nG) (q : Nat)  : nMv (S := (Nat → Nat)) l yX2_init cX2_init 1 1 12 16693 24 G [.ref q] ([(q, .inr (2, [.null, .null, .null, .int (nI 0), .null, .int (nI 0), .null, .null, .null, .null, .null, .int (nI 0), .int (nI 0), .null, .int (nI 0), .int (nI 0), .null, .null]))]) ([]) (fun (u : (Nat → Nat)) => [(q, .inr (2, [.ref (u 0), .ref (u 1), .ref (u 2), .int (nI 0), .ref (u 3), .int (nI 0), .ref (u 4), .ref (u 5), .ref (u 6), .ref (u 7), .ref (u 8), .int (nI 0), .int (nI 0), .ref (u 9), .int (nI 0), .int (nI 0), .ref (u 10), .ref (u 11)])), (u 0, .inl (G.1.1 100, 66, .inl (upd (fun _ => 0) 1 (nI 256)))), (u 1, .inl (G.1.1 100, 66, .inl (fun _ => 0))), (u 2, .inl (G.1.1 100, 264, .inl (fun _ => 0))), (u 3, .inl (G.1.1 100, 66, .inl (fun _ => 0))), (u 4, .inl (G.1.1 103, 7, .inr (.inl wdF))), (u 5, .inl (G.1.1 100, 16000, .inl (fun _ => 0))), (u 6, .inl (G.1.1 100, 16, .inl (fun _ => 0))), (u 7, .inl (G.1.1 100, 16, .inl (fun _ => 0))), (u 8, .inl (G.1.1 100, 80, .inl (fun _ => 0))), (u 9, .inl (G.1.1 100, 80, .inl (fun _ => 0))), (u 10, .inl (G.1.1 100, 16, .inl (fun _ => 0))), (u 11, .inl (G.1.1 100, 16, .inl (fun _ => 0)))]) (fun (u : (Nat → Nat)) => True) := by
  refine nMv.of (own := "ShareStreamsModel") rfl (by decide +kernel) (Nat.le_of_ble_eq_true rfl) ?_
  intro p e s m args below meth c A Q ls hx hb hml hown hts hin hG Z hl ret
  have hl : lv_has ls 1 [(0, .ref q)] := hl
  have Z : nW G A ([(q, .inr (2, [.null, .null, .null, .int (nI 0), .null, .int (nI 0), .null, .null, .null, .null, .null, .int (nI 0), .int (nI 0), .null, .int (nI 0), .int (nI 0), .null, .null]))]) ([]) ([]) s.heap _ _ := Z
  refine lv_aload_n hx hb dX2_init_0 rfl (lv_at hl 0 rfl) ?_
  refine W.objInit hx hb hown (hts _ q930) (hts _ q72) (hts _ q73) rfl (by rw [hml]; exact hl.1) rfl dX2_init_1 (Nat.le_of_ble_eq_true rfl) (Nat.le_of_ble_eq_true rfl) ?_
  refine W.eq (g2 := F0 m 4 ls []) rfl ?_
  refine lv_aload_n hx hb dX2_init_4 rfl (lv_at hl 0 rfl) ?_
  refine lv_bipush (v := nI 66) hx hb dX2_init_5 rfl ?_
  refine r_newi hx hb hts q186 hG Z (by decide) (Nat.le_of_ble_eq_true rfl) (Nat.le_of_ble_eq_true rfl) dX2_init_7 (fun q7 H Z => ?_)
  have Z : nW G A ([(q, .inr (2, [.null, .null, .null, .int (nI 0), .null, .int (nI 0), .null, .null, .null, .null, .null, .int (nI 0), .int (nI 0), .null, .int (nI 0), .int (nI 0), .null, .null])), (q7, .inl (G.1.1 100, 66, .inl (fun _ => 0)))]) ([]) ([]) s.heap _ _ := Z
  refine r_putF (ty := .array .int) hx hb hts in_X2 tyX2 tyX2_ok nmX2 hown hG Z 0 rfl rfl 0 (by decide) q938 (fun _ h9 => h9) rfl hin rfl (by decide +kernel) rfl rfl (Nat.le_of_ble_eq_true rfl) (wc' := [(q, .inr (2, [.ref q7, .null, .null, .int (nI 0), .null, .int (nI 0), .null, .null, .null, .null, .null, .int (nI 0), .int (nI 0), .null, .int (nI 0), .int (nI 0), .null, .null])), (q7, .inl (G.1.1 100, 66, .inl (fun _ => 0)))]) rfl dX2_init_9 (fun H locs Z => ?_)
  refine lv_aload_n hx hb dX2_init_12 rfl (lv_at hl 0 rfl) ?_
  refine lv_bipush (v := nI 66) hx hb dX2_init_13 rfl ?_
  refine r_newi hx hb hts q186 hG Z (by decide) (Nat.le_of_ble_eq_true rfl) (Nat.le_of_ble_eq_true rfl) dX2_init_15 (fun q15 H Z => ?_)
  have Z : nW G A ([(q, .inr (2, [.ref q7, .null, .null, .int (nI 0), .null, .int (nI 0), .null, .null, .null, .null, .null, .int (nI 0), .int (nI 0), .null, .int (nI 0), .int (nI 0), .null, .null])), (q7, .inl (G.1.1 100, 66, .inl (fun _ => 0))), (q15, .inl (G.1.1 100, 66, .inl (fun _ => 0)))]) ([]) ([]) s.heap _ _ := Z
  refine r_putF (ty := .array .int) hx hb hts in_X2 tyX2 tyX2_ok nmX2 hown hG Z 0 rfl rfl 1 (by decide) q939 (fun _ h9 => h9) rfl hin rfl (by decide +kernel) rfl rfl (Nat.le_of_ble_eq_true rfl) (wc' := [(q, .inr (2, [.ref q7, .ref q15, .null, .int (nI 0), .null, .int (nI 0), .null, .null, .null, .null, .null, .int (nI 0), .int (nI 0), .null, .int (nI 0), .int (nI 0), .null, .null])), (q7, .inl (G.1.1 100, 66, .inl (fun _ => 0))), (q15, .inl (G.1.1 100, 66, .inl (fun _ => 0)))]) rfl dX2_init_17 (fun H locs Z => ?_)
  refine lv_aload_n hx hb dX2_init_20 rfl (lv_at hl 0 rfl) ?_
  refine lv_sipush (v := nI 264) hx hb dX2_init_21 rfl ?_
  refine r_newi hx hb hts q186 hG Z (by decide) (Nat.le_of_ble_eq_true rfl) (Nat.le_of_ble_eq_true rfl) dX2_init_24 (fun q24 H Z => ?_)
  have Z : nW G A ([(q, .inr (2, [.ref q7, .ref q15, .null, .int (nI 0), .null, .int (nI 0), .null, .null, .null, .null, .null, .int (nI 0), .int (nI 0), .null, .int (nI 0), .int (nI 0), .null, .null])), (q7, .inl (G.1.1 100, 66, .inl (fun _ => 0))), (q15, .inl (G.1.1 100, 66, .inl (fun _ => 0))), (q24, .inl (G.1.1 100, 264, .inl (fun _ => 0)))]) ([]) ([]) s.heap _ _ := Z
  refine r_putF (ty := .array .int) hx hb hts in_X2 tyX2 tyX2_ok nmX2 hown hG Z 0 rfl rfl 2 (by decide) q940 (fun _ h9 => h9) rfl hin rfl (by decide +kernel) rfl rfl (Nat.le_of_ble_eq_true rfl) (wc' := [(q, .inr (2, [.ref q7, .ref q15, .ref q24, .int (nI 0), .null, .int (nI 0), .null, .null, .null, .null, .null, .int (nI 0), .int (nI 0), .null, .int (nI 0), .int (nI 0), .null, .null])), (q7, .inl (G.1.1 100, 66, .inl (fun _ => 0))), (q15, .inl (G.1.1 100, 66, .inl (fun _ => 0))), (q24, .inl (G.1.1 100, 264, .inl (fun _ => 0)))]) rfl dX2_init_26 (fun H locs Z => ?_)
  refine lv_aload_n hx hb dX2_init_29 rfl (lv_at hl 0 rfl) ?_
  refine lv_bipush (v := nI 66) hx hb dX2_init_30 rfl ?_
  refine r_newi hx hb hts q186 hG Z (by decide) (Nat.le_of_ble_eq_true rfl) (Nat.le_of_ble_eq_true rfl) dX2_init_32 (fun q32 H Z => ?_)
  have Z : nW G A ([(q, .inr (2, [.ref q7, .ref q15, .ref q24, .int (nI 0), .null, .int (nI 0), .null, .null, .null, .null, .null, .int (nI 0), .int (nI 0), .null, .int (nI 0), .int (nI 0), .null, .null])), (q7, .inl (G.1.1 100, 66, .inl (fun _ => 0))), (q15, .inl (G.1.1 100, 66, .inl (fun _ => 0))), (q24, .inl (G.1.1 100, 264, .inl (fun _ => 0))), (q32, .inl (G.1.1 100, 66, .inl (fun _ => 0)))]) ([]) ([]) s.heap _ _ := Z
  refine r_putF (ty := .array .int) hx hb hts in_X2 tyX2 tyX2_ok nmX2 hown hG Z 0 rfl rfl 4 (by decide) q942 (fun _ h9 => h9) rfl hin rfl (by decide +kernel) rfl rfl (Nat.le_of_ble_eq_true rfl) (wc' := [(q, .inr (2, [.ref q7, .ref q15, .ref q24, .int (nI 0), .ref q32, .int (nI 0), .null, .null, .null, .null, .null, .int (nI 0), .int (nI 0), .null, .int (nI 0), .int (nI 0), .null, .null])), (q7, .inl (G.1.1 100, 66, .inl (fun _ => 0))), (q15, .inl (G.1.1 100, 66, .inl (fun _ => 0))), (q24, .inl (G.1.1 100, 264, .inl (fun _ => 0))), (q32, .inl (G.1.1 100, 66, .inl (fun _ => 0)))]) rfl dX2_init_34 (fun H locs Z => ?_)
  refine lv_aload_n hx hb dX2_init_37 rfl (lv_at hl 0 rfl) ?_
  refine lv_bipush (v := nI 7) hx hb dX2_init_38 rfl ?_
  refine r_newl hx hb hts q993 hG Z (by decide) (Nat.le_of_ble_eq_true rfl) (Nat.le_of_ble_eq_true rfl) dX2_init_40 (fun q40 H Z => ?_)
  have Z : nW G A ([(q, .inr (2, [.ref q7, .ref q15, .ref q24, .int (nI 0), .ref q32, .int (nI 0), .null, .null, .null, .null, .null, .int (nI 0), .int (nI 0), .null, .int (nI 0), .int (nI 0), .null, .null])), (q7, .inl (G.1.1 100, 66, .inl (fun _ => 0))), (q15, .inl (G.1.1 100, 66, .inl (fun _ => 0))), (q24, .inl (G.1.1 100, 264, .inl (fun _ => 0))), (q32, .inl (G.1.1 100, 66, .inl (fun _ => 0))), (q40, .inl (G.1.1 103, 7, .inr (.inl (fun _ => 0))))]) ([]) ([]) s.heap _ _ := Z
  refine r_putF (ty := .array .long) hx hb hts in_X2 tyX2 tyX2_ok nmX2 hown hG Z 0 rfl rfl 6 (by decide) q944 (fun _ h9 => h9) rfl hin rfl (by decide +kernel) rfl rfl (Nat.le_of_ble_eq_true rfl) (wc' := [(q, .inr (2, [.ref q7, .ref q15, .ref q24, .int (nI 0), .ref q32, .int (nI 0), .ref q40, .null, .null, .null, .null, .int (nI 0), .int (nI 0), .null, .int (nI 0), .int (nI 0), .null, .null])), (q7, .inl (G.1.1 100, 66, .inl (fun _ => 0))), (q15, .inl (G.1.1 100, 66, .inl (fun _ => 0))), (q24, .inl (G.1.1 100, 264, .inl (fun _ => 0))), (q32, .inl (G.1.1 100, 66, .inl (fun _ => 0))), (q40, .inl (G.1.1 103, 7, .inr (.inl (fun _ => 0))))]) rfl dX2_init_42 (fun H locs Z => ?_)
  refine lv_aload_n hx hb dX2_init_45 rfl (lv_at hl 0 rfl) ?_
  refine lv_sipush (v := nI 16000) hx hb dX2_init_46 rfl ?_
  refine r_newi hx hb hts q186 hG Z (by decide) (Nat.le_of_ble_eq_true rfl) (Nat.le_of_ble_eq_true rfl) dX2_init_49 (fun q49 H Z => ?_)
  have Z : nW G A ([(q, .inr (2, [.ref q7, .ref q15, .ref q24, .int (nI 0), .ref q32, .int (nI 0), .ref q40, .null, .null, .null, .null, .int (nI 0), .int (nI 0), .null, .int (nI 0), .int (nI 0), .null, .null])), (q7, .inl (G.1.1 100, 66, .inl (fun _ => 0))), (q15, .inl (G.1.1 100, 66, .inl (fun _ => 0))), (q24, .inl (G.1.1 100, 264, .inl (fun _ => 0))), (q32, .inl (G.1.1 100, 66, .inl (fun _ => 0))), (q40, .inl (G.1.1 103, 7, .inr (.inl (fun _ => 0)))), (q49, .inl (G.1.1 100, 16000, .inl (fun _ => 0)))]) ([]) ([]) s.heap _ _ := Z
  refine r_putF (ty := .array .int) hx hb hts in_X2 tyX2 tyX2_ok nmX2 hown hG Z 0 rfl rfl 7 (by decide) q945 (fun _ h9 => h9) rfl hin rfl (by decide +kernel) rfl rfl (Nat.le_of_ble_eq_true rfl) (wc' := [(q, .inr (2, [.ref q7, .ref q15, .ref q24, .int (nI 0), .ref q32, .int (nI 0), .ref q40, .ref q49, .null, .null, .null, .int (nI 0), .int (nI 0), .null, .int (nI 0), .int (nI 0), .null, .null])), (q7, .inl (G.1.1 100, 66, .inl (fun _ => 0))), (q15, .inl (G.1.1 100, 66, .inl (fun _ => 0))), (q24, .inl (G.1.1 100, 264, .inl (fun _ => 0))), (q32, .inl (G.1.1 100, 66, .inl (fun _ => 0))), (q40, .inl (G.1.1 103, 7, .inr (.inl (fun _ => 0)))), (q49, .inl (G.1.1 100, 16000, .inl (fun _ => 0)))]) rfl dX2_init_51 (fun H locs Z => ?_)
  refine lv_aload_n hx hb dX2_init_54 rfl (lv_at hl 0 rfl) ?_
  refine lv_bipush (v := nI 16) hx hb dX2_init_55 rfl ?_
  refine r_newi hx hb hts q186 hG Z (by decide) (Nat.le_of_ble_eq_true rfl) (Nat.le_of_ble_eq_true rfl) dX2_init_57 (fun q57 H Z => ?_)
  have Z : nW G A ([(q, .inr (2, [.ref q7, .ref q15, .ref q24, .int (nI 0), .ref q32, .int (nI 0), .ref q40, .ref q49, .null, .null, .null, .int (nI 0), .int (nI 0), .null, .int (nI 0), .int (nI 0), .null, .null])), (q7, .inl (G.1.1 100, 66, .inl (fun _ => 0))), (q15, .inl (G.1.1 100, 66, .inl (fun _ => 0))), (q24, .inl (G.1.1 100, 264, .inl (fun _ => 0))), (q32, .inl (G.1.1 100, 66, .inl (fun _ => 0))), (q40, .inl (G.1.1 103, 7, .inr (.inl (fun _ => 0)))), (q49, .inl (G.1.1 100, 16000, .inl (fun _ => 0))), (q57, .inl (G.1.1 100, 16, .inl (fun _ => 0)))]) ([]) ([]) s.heap _ _ := Z
  refine r_putF (ty := .array .int) hx hb hts in_X2 tyX2 tyX2_ok nmX2 hown hG Z 0 rfl rfl 8 (by decide) q946 (fun _ h9 => h9) rfl hin rfl (by decide +kernel) rfl rfl (Nat.le_of_ble_eq_true rfl) (wc' := [(q, .inr (2, [.ref q7, .ref q15, .ref q24, .int (nI 0), .ref q32, .int (nI 0), .ref q40, .ref q49, .ref q57, .null, .null, .int (nI 0), .int (nI 0), .null, .int (nI 0), .int (nI 0), .null, .null])), (q7, .inl (G.1.1 100, 66, .inl (fun _ => 0))), (q15, .inl (G.1.1 100, 66, .inl (fun _ => 0))), (q24, .inl (G.1.1 100, 264, .inl (fun _ => 0))), (q32, .inl (G.1.1 100, 66, .inl (fun _ => 0))), (q40, .inl (G.1.1 103, 7, .inr (.inl (fun _ => 0)))), (q49, .inl (G.1.1 100, 16000, .inl (fun _ => 0))), (q57, .inl (G.1.1 100, 16, .inl (fun _ => 0)))]) rfl dX2_init_59 (fun H locs Z => ?_)
  refine lv_aload_n hx hb dX2_init_62 rfl (lv_at hl 0 rfl) ?_
  refine lv_bipush (v := nI 16) hx hb dX2_init_63 rfl ?_
  refine r_newi hx hb hts q186 hG Z (by decide) (Nat.le_of_ble_eq_true rfl) (Nat.le_of_ble_eq_true rfl) dX2_init_65 (fun q65 H Z => ?_)
  have Z : nW G A ([(q, .inr (2, [.ref q7, .ref q15, .ref q24, .int (nI 0), .ref q32, .int (nI 0), .ref q40, .ref q49, .ref q57, .null, .null, .int (nI 0), .int (nI 0), .null, .int (nI 0), .int (nI 0), .null, .null])), (q7, .inl (G.1.1 100, 66, .inl (fun _ => 0))), (q15, .inl (G.1.1 100, 66, .inl (fun _ => 0))), (q24, .inl (G.1.1 100, 264, .inl (fun _ => 0))), (q32, .inl (G.1.1 100, 66, .inl (fun _ => 0))), (q40, .inl (G.1.1 103, 7, .inr (.inl (fun _ => 0)))), (q49, .inl (G.1.1 100, 16000, .inl (fun _ => 0))), (q57, .inl (G.1.1 100, 16, .inl (fun _ => 0))), (q65, .inl (G.1.1 100, 16, .inl (fun _ => 0)))]) ([]) ([]) s.heap _ _ := Z
  refine r_putF (ty := .array .int) hx hb hts in_X2 tyX2 tyX2_ok nmX2 hown hG Z 0 rfl rfl 9 (by decide) q947 (fun _ h9 => h9) rfl hin rfl (by decide +kernel) rfl rfl (Nat.le_of_ble_eq_true rfl) (wc' := [(q, .inr (2, [.ref q7, .ref q15, .ref q24, .int (nI 0), .ref q32, .int (nI 0), .ref q40, .ref q49, .ref q57, .ref q65, .null, .int (nI 0), .int (nI 0), .null, .int (nI 0), .int (nI 0), .null, .null])), (q7, .inl (G.1.1 100, 66, .inl (fun _ => 0))), (q15, .inl (G.1.1 100, 66, .inl (fun _ => 0))), (q24, .inl (G.1.1 100, 264, .inl (fun _ => 0))), (q32, .inl (G.1.1 100, 66, .inl (fun _ => 0))), (q40, .inl (G.1.1 103, 7, .inr (.inl (fun _ => 0)))), (q49, .inl (G.1.1 100, 16000, .inl (fun _ => 0))), (q57, .inl (G.1.1 100, 16, .inl (fun _ => 0))), (q65, .inl (G.1.1 100, 16, .inl (fun _ => 0)))]) rfl dX2_init_67 (fun H locs Z => ?_)
  refine lv_aload_n hx hb dX2_init_70 rfl (lv_at hl 0 rfl) ?_
  refine lv_bipush (v := nI 80) hx hb dX2_init_71 rfl ?_
  refine r_newi hx hb hts q186 hG Z (by decide) (Nat.le_of_ble_eq_true rfl) (Nat.le_of_ble_eq_true rfl) dX2_init_73 (fun q73 H Z => ?_)
  have Z : nW G A ([(q, .inr (2, [.ref q7, .ref q15, .ref q24, .int (nI 0), .ref q32, .int (nI 0), .ref q40, .ref q49, .ref q57, .ref q65, .null, .int (nI 0), .int (nI 0), .null, .int (nI 0), .int (nI 0), .null, .null])), (q7, .inl (G.1.1 100, 66, .inl (fun _ => 0))), (q15, .inl (G.1.1 100, 66, .inl (fun _ => 0))), (q24, .inl (G.1.1 100, 264, .inl (fun _ => 0))), (q32, .inl (G.1.1 100, 66, .inl (fun _ => 0))), (q40, .inl (G.1.1 103, 7, .inr (.inl (fun _ => 0)))), (q49, .inl (G.1.1 100, 16000, .inl (fun _ => 0))), (q57, .inl (G.1.1 100, 16, .inl (fun _ => 0))), (q65, .inl (G.1.1 100, 16, .inl (fun _ => 0))), (q73, .inl (G.1.1 100, 80, .inl (fun _ => 0)))]) ([]) ([]) s.heap _ _ := Z
  refine r_putF (ty := .array .int) hx hb hts in_X2 tyX2 tyX2_ok nmX2 hown hG Z 0 rfl rfl 10 (by decide) q948 (fun _ h9 => h9) rfl hin rfl (by decide +kernel) rfl rfl (Nat.le_of_ble_eq_true rfl) (wc' := [(q, .inr (2, [.ref q7, .ref q15, .ref q24, .int (nI 0), .ref q32, .int (nI 0), .ref q40, .ref q49, .ref q57, .ref q65, .ref q73, .int (nI 0), .int (nI 0), .null, .int (nI 0), .int (nI 0), .null, .null])), (q7, .inl (G.1.1 100, 66, .inl (fun _ => 0))), (q15, .inl (G.1.1 100, 66, .inl (fun _ => 0))), (q24, .inl (G.1.1 100, 264, .inl (fun _ => 0))), (q32, .inl (G.1.1 100, 66, .inl (fun _ => 0))), (q40, .inl (G.1.1 103, 7, .inr (.inl (fun _ => 0)))), (q49, .inl (G.1.1 100, 16000, .inl (fun _ => 0))), (q57, .inl (G.1.1 100, 16, .inl (fun _ => 0))), (q65, .inl (G.1.1 100, 16, .inl (fun _ => 0))), (q73, .inl (G.1.1 100, 80, .inl (fun _ => 0)))]) rfl dX2_init_75 (fun H locs Z => ?_)
  refine lv_aload_n hx hb dX2_init_78 rfl (lv_at hl 0 rfl) ?_
  refine lv_bipush (v := nI 80) hx hb dX2_init_79 rfl ?_
  refine r_newi hx hb hts q186 hG Z (by decide) (Nat.le_of_ble_eq_true rfl) (Nat.le_of_ble_eq_true rfl) dX2_init_81 (fun q81 H Z => ?_)
  have Z : nW G A ([(q, .inr (2, [.ref q7, .ref q15, .ref q24, .int (nI 0), .ref q32, .int (nI 0), .ref q40, .ref q49, .ref q57, .ref q65, .ref q73, .int (nI 0), .int (nI 0), .null, .int (nI 0), .int (nI 0), .null, .null])), (q7, .inl (G.1.1 100, 66, .inl (fun _ => 0))), (q15, .inl (G.1.1 100, 66, .inl (fun _ => 0))), (q24, .inl (G.1.1 100, 264, .inl (fun _ => 0))), (q32, .inl (G.1.1 100, 66, .inl (fun _ => 0))), (q40, .inl (G.1.1 103, 7, .inr (.inl (fun _ => 0)))), (q49, .inl (G.1.1 100, 16000, .inl (fun _ => 0))), (q57, .inl (G.1.1 100, 16, .inl (fun _ => 0))), (q65, .inl (G.1.1 100, 16, .inl (fun _ => 0))), (q73, .inl (G.1.1 100, 80, .inl (fun _ => 0))), (q81, .inl (G.1.1 100, 80, .inl (fun _ => 0)))]) ([]) ([]) s.heap _ _ := Z
  refine r_putF (ty := .array .int) hx hb hts in_X2 tyX2 tyX2_ok nmX2 hown hG Z 0 rfl rfl 13 (by decide) q951 (fun _ h9 => h9) rfl hin rfl (by decide +kernel) rfl rfl (Nat.le_of_ble_eq_true rfl) (wc' := [(q, .inr (2, [.ref q7, .ref q15, .ref q24, .int (nI 0), .ref q32, .int (nI 0), .ref q40, .ref q49, .ref q57, .ref q65, .ref q73, .int (nI 0), .int (nI 0), .ref q81, .int (nI 0), .int (nI 0), .null, .null])), (q7, .inl (G.1.1 100, 66, .inl (fun _ => 0))), (q15, .inl (G.1.1 100, 66, .inl (fun _ => 0))), (q24, .inl (G.1.1 100, 264, .inl (fun _ => 0))), (q32, .inl (G.1.1 100, 66, .inl (fun _ => 0))), (q40, .inl (G.1.1 103, 7, .inr (.inl (fun _ => 0)))), (q49, .inl (G.1.1 100, 16000, .inl (fun _ => 0))), (q57, .inl (G.1.1 100, 16, .inl (fun _ => 0))), (q65, .inl (G.1.1 100, 16, .inl (fun _ => 0))), (q73, .inl (G.1.1 100, 80, .inl (fun _ => 0))), (q81, .inl (G.1.1 100, 80, .inl (fun _ => 0)))]) rfl dX2_init_83 (fun H locs Z => ?_)
  refine lv_aload_n hx hb dX2_init_86 rfl (lv_at hl 0 rfl) ?_
  refine lv_bipush (v := nI 16) hx hb dX2_init_87 rfl ?_
  refine r_newi hx hb hts q186 hG Z (by decide) (Nat.le_of_ble_eq_true rfl) (Nat.le_of_ble_eq_true rfl) dX2_init_89 (fun q89 H Z => ?_)
  have Z : nW G A ([(q, .inr (2, [.ref q7, .ref q15, .ref q24, .int (nI 0), .ref q32, .int (nI 0), .ref q40, .ref q49, .ref q57, .ref q65, .ref q73, .int (nI 0), .int (nI 0), .ref q81, .int (nI 0), .int (nI 0), .null, .null])), (q7, .inl (G.1.1 100, 66, .inl (fun _ => 0))), (q15, .inl (G.1.1 100, 66, .inl (fun _ => 0))), (q24, .inl (G.1.1 100, 264, .inl (fun _ => 0))), (q32, .inl (G.1.1 100, 66, .inl (fun _ => 0))), (q40, .inl (G.1.1 103, 7, .inr (.inl (fun _ => 0)))), (q49, .inl (G.1.1 100, 16000, .inl (fun _ => 0))), (q57, .inl (G.1.1 100, 16, .inl (fun _ => 0))), (q65, .inl (G.1.1 100, 16, .inl (fun _ => 0))), (q73, .inl (G.1.1 100, 80, .inl (fun _ => 0))), (q81, .inl (G.1.1 100, 80, .inl (fun _ => 0))), (q89, .inl (G.1.1 100, 16, .inl (fun _ => 0)))]) ([]) ([]) s.heap _ _ := Z
  refine r_putF (ty := .array .int) hx hb hts in_X2 tyX2 tyX2_ok nmX2 hown hG Z 0 rfl rfl 16 (by decide) q954 (fun _ h9 => h9) rfl hin rfl (by decide +kernel) rfl rfl (Nat.le_of_ble_eq_true rfl) (wc' := [(q, .inr (2, [.ref q7, .ref q15, .ref q24, .int (nI 0), .ref q32, .int (nI 0), .ref q40, .ref q49, .ref q57, .ref q65, .ref q73, .int (nI 0), .int (nI 0), .ref q81, .int (nI 0), .int (nI 0), .ref q89, .null])), (q7, .inl (G.1.1 100, 66, .inl (fun _ => 0))), (q15, .inl (G.1.1 100, 66, .inl (fun _ => 0))), (q24, .inl (G.1.1 100, 264, .inl (fun _ => 0))), (q32, .inl (G.1.1 100, 66, .inl (fun _ => 0))), (q40, .inl (G.1.1 103, 7, .inr (.inl (fun _ => 0)))), (q49, .inl (G.1.1 100, 16000, .inl (fun _ => 0))), (q57, .inl (G.1.1 100, 16, .inl (fun _ => 0))), (q65, .inl (G.1.1 100, 16, .inl (fun _ => 0))), (q73, .inl (G.1.1 100, 80, .inl (fun _ => 0))), (q81, .inl (G.1.1 100, 80, .inl (fun _ => 0))), (q89, .inl (G.1.1 100, 16, .inl (fun _ => 0)))]) rfl dX2_init_91 (fun H locs Z => ?_)
  refine lv_aload_n hx hb dX2_init_94 rfl (lv_at hl 0 rfl) ?_
  refine lv_bipush (v := nI 16) hx hb dX2_init_95 rfl ?_
  refine r_newi hx hb hts q186 hG Z (by decide) (Nat.le_of_ble_eq_true rfl) (Nat.le_of_ble_eq_true rfl) dX2_init_97 (fun q97 H Z => ?_)
  have Z : nW G A ([(q, .inr (2, [.ref q7, .ref q15, .ref q24, .int (nI 0), .ref q32, .int (nI 0), .ref q40, .ref q49, .ref q57, .ref q65, .ref q73, .int (nI 0), .int (nI 0), .ref q81, .int (nI 0), .int (nI 0), .ref q89, .null])), (q7, .inl (G.1.1 100, 66, .inl (fun _ => 0))), (q15, .inl (G.1.1 100, 66, .inl (fun _ => 0))), (q24, .inl (G.1.1 100, 264, .inl (fun _ => 0))), (q32, .inl (G.1.1 100, 66, .inl (fun _ => 0))), (q40, .inl (G.1.1 103, 7, .inr (.inl (fun _ => 0)))), (q49, .inl (G.1.1 100, 16000, .inl (fun _ => 0))), (q57, .inl (G.1.1 100, 16, .inl (fun _ => 0))), (q65, .inl (G.1.1 100, 16, .inl (fun _ => 0))), (q73, .inl (G.1.1 100, 80, .inl (fun _ => 0))), (q81, .inl (G.1.1 100, 80, .inl (fun _ => 0))), (q89, .inl (G.1.1 100, 16, .inl (fun _ => 0))), (q97, .inl (G.1.1 100, 16, .inl (fun _ => 0)))]) ([]) ([]) s.heap _ _ := Z
  refine r_putF (ty := .array .int) hx hb hts in_X2 tyX2 tyX2_ok nmX2 hown hG Z 0 rfl rfl 17 (by decide) q955 (fun _ h9 => h9) rfl hin rfl (by decide +kernel) rfl rfl (Nat.le_of_ble_eq_true rfl) (wc' := [(q, .inr (2, [.ref q7, .ref q15, .ref q24, .int (nI 0), .ref q32, .int (nI 0), .ref q40, .ref q49, .ref q57, .ref q65, .ref q73, .int (nI 0), .int (nI 0), .ref q81, .int (nI 0), .int (nI 0), .ref q89, .ref q97])), (q7, .inl (G.1.1 100, 66, .inl (fun _ => 0))), (q15, .inl (G.1.1 100, 66, .inl (fun _ => 0))), (q24, .inl (G.1.1 100, 264, .inl (fun _ => 0))), (q32, .inl (G.1.1 100, 66, .inl (fun _ => 0))), (q40, .inl (G.1.1 103, 7, .inr (.inl (fun _ => 0)))), (q49, .inl (G.1.1 100, 16000, .inl (fun _ => 0))), (q57, .inl (G.1.1 100, 16, .inl (fun _ => 0))), (q65, .inl (G.1.1 100, 16, .inl (fun _ => 0))), (q73, .inl (G.1.1 100, 80, .inl (fun _ => 0))), (q81, .inl (G.1.1 100, 80, .inl (fun _ => 0))), (q89, .inl (G.1.1 100, 16, .inl (fun _ => 0))), (q97, .inl (G.1.1 100, 16, .inl (fun _ => 0)))]) rfl dX2_init_99 (fun H locs Z => ?_)
  refine lv_aload_n hx hb dX2_init_102 rfl (lv_at hl 0 rfl) ?_
  refine r_get (v := .ref q7) hx hb hts in_X2 hown hG Z.w 0 rfl rfl 0 (by decide) q938 (fun _ h9 => h9) rfl dX2_init_103 ?_
  refine lv_iconst (v := nI 1) hx hb dX2_init_106 rfl ?_
  refine lv_sipush (v := nI 256) hx hb dX2_init_107 rfl ?_
  refine r_iast hx hb hG Z 1 rfl (j := 1) (by omega) (by decide) (wc' := [(q, .inr (2, [.ref q7, .ref q15, .ref q24, .int (nI 0), .ref q32, .int (nI 0), .ref q40, .ref q49, .ref q57, .ref q65, .ref q73, .int (nI 0), .int (nI 0), .ref q81, .int (nI 0), .int (nI 0), .ref q89, .ref q97])), (q7, .inl (G.1.1 100, 66, .inl (upd (fun _ => 0) 1 (nI 256)))), (q15, .inl (G.1.1 100, 66, .inl (fun _ => 0))), (q24, .inl (G.1.1 100, 264, .inl (fun _ => 0))), (q32, .inl (G.1.1 100, 66, .inl (fun _ => 0))), (q40, .inl (G.1.1 103, 7, .inr (.inl (fun _ => 0)))), (q49, .inl (G.1.1 100, 16000, .inl (fun _ => 0))), (q57, .inl (G.1.1 100, 16, .inl (fun _ => 0))), (q65, .inl (G.1.1 100, 16, .inl (fun _ => 0))), (q73, .inl (G.1.1 100, 80, .inl (fun _ => 0))), (q81, .inl (G.1.1 100, 80, .inl (fun _ => 0))), (q89, .inl (G.1.1 100, 16, .inl (fun _ => 0))), (q97, .inl (G.1.1 100, 16, .inl (fun _ => 0)))]) rfl dX2_init_110 (fun H locs Z => ?_)
  refine lv_aload_n hx hb dX2_init_111 rfl (lv_at hl 0 rfl) ?_
  refine r_get (v := .ref q40) hx hb hts in_X2 hown hG Z.w 0 rfl rfl 6 (by decide) q944 (fun _ h9 => h9) rfl dX2_init_112 ?_
  refine lv_iconst (v := nI 0) hx hb dX2_init_115 rfl ?_
  refine lv_ldc2 hx hb hown (hts _ q931) dX2_init_116 ?_
  refine r_asl (z := lN 126922548994917) rfl ?_
  refine r_last hx hb hG Z 5 rfl (j := 0) (by omega) (by decide) (wc' := [(q, .inr (2, [.ref q7, .ref q15, .ref q24, .int (nI 0), .ref q32, .int (nI 0), .ref q40, .ref q49, .ref q57, .ref q65, .ref q73, .int (nI 0), .int (nI 0), .ref q81, .int (nI 0), .int (nI 0), .ref q89, .ref q97])), (q7, .inl (G.1.1 100, 66, .inl (upd (fun _ => 0) 1 (nI 256)))), (q15, .inl (G.1.1 100, 66, .inl (fun _ => 0))), (q24, .inl (G.1.1 100, 264, .inl (fun _ => 0))), (q32, .inl (G.1.1 100, 66, .inl (fun _ => 0))), (q40, .inl (G.1.1 103, 7, .inr (.inl (vp_updL (fun _ => 0) 0 (lN 126922548994917))))), (q49, .inl (G.1.1 100, 16000, .inl (fun _ => 0))), (q57, .inl (G.1.1 100, 16, .inl (fun _ => 0))), (q65, .inl (G.1.1 100, 16, .inl (fun _ => 0))), (q73, .inl (G.1.1 100, 80, .inl (fun _ => 0))), (q81, .inl (G.1.1 100, 80, .inl (fun _ => 0))), (q89, .inl (G.1.1 100, 16, .inl (fun _ => 0))), (q97, .inl (G.1.1 100, 16, .inl (fun _ => 0)))]) rfl dX2_init_119 (fun H locs Z => ?_)
  refine lv_aload_n hx hb dX2_init_120 rfl (lv_at hl 0 rfl) ?_
  refine r_get (v := .ref q40) hx hb hts in_X2 hown hG Z.w 0 rfl rfl 6 (by decide) q944 (fun _ h9 => h9) rfl dX2_init_121 ?_
  refine lv_iconst (v := nI 1) hx hb dX2_init_124 rfl ?_
  refine lv_ldc2 hx hb hown (hts _ q932) dX2_init_125 ?_
  refine r_asl (z := lN 6385252) rfl ?_
  refine r_last hx hb hG Z 5 rfl (j := 1) (by omega) (by decide) (wc' := [(q, .inr (2, [.ref q7, .ref q15, .ref q24, .int (nI 0), .ref q32, .int (nI 0), .ref q40, .ref q49, .ref q57, .ref q65, .ref q73, .int (nI 0), .int (nI 0), .ref q81, .int (nI 0), .int (nI 0), .ref q89, .ref q97])), (q7, .inl (G.1.1 100, 66, .inl (upd (fun _ => 0) 1 (nI 256)))), (q15, .inl (G.1.1 100, 66, .inl (fun _ => 0))), (q24, .inl (G.1.1 100, 264, .inl (fun _ => 0))), (q32, .inl (G.1.1 100, 66, .inl (fun _ => 0))), (q40, .inl (G.1.1 103, 7, .inr (.inl (vp_updL (vp_updL (fun _ => 0) 0 (lN 126922548994917)) 1 (lN 6385252))))), (q49, .inl (G.1.1 100, 16000, .inl (fun _ => 0))), (q57, .inl (G.1.1 100, 16, .inl (fun _ => 0))), (q65, .inl (G.1.1 100, 16, .inl (fun _ => 0))), (q73, .inl (G.1.1 100, 80, .inl (fun _ => 0))), (q81, .inl (G.1.1 100, 80, .inl (fun _ => 0))), (q89, .inl (G.1.1 100, 16, .inl (fun _ => 0))), (q97, .inl (G.1.1 100, 16, .inl (fun _ => 0)))]) rfl dX2_init_128 (fun H locs Z => ?_)
  refine lv_aload_n hx hb dX2_init_129 rfl (lv_at hl 0 rfl) ?_
  refine r_get (v := .ref q40) hx hb hts in_X2 hown hG Z.w 0 rfl rfl 6 (by decide) q944 (fun _ h9 => h9) rfl dX2_init_130 ?_
  refine lv_iconst (v := nI 2) hx hb dX2_init_133 rfl ?_
  refine lv_ldc2 hx hb hown (hts _ q933) dX2_init_134 ?_
  refine r_asl (z := lN 28530) rfl ?_
  refine r_last hx hb hG Z 5 rfl (j := 2) (by omega) (by decide) (wc' := [(q, .inr (2, [.ref q7, .ref q15, .ref q24, .int (nI 0), .ref q32, .int (nI 0), .ref q40, .ref q49, .ref q57, .ref q65, .ref q73, .int (nI 0), .int (nI 0), .ref q81, .int (nI 0), .int (nI 0), .ref q89, .ref q97])), (q7, .inl (G.1.1 100, 66, .inl (upd (fun _ => 0) 1 (nI 256)))), (q15, .inl (G.1.1 100, 66, .inl (fun _ => 0))), (q24, .inl (G.1.1 100, 264, .inl (fun _ => 0))), (q32, .inl (G.1.1 100, 66, .inl (fun _ => 0))), (q40, .inl (G.1.1 103, 7, .inr (.inl (vp_updL (vp_updL (vp_updL (fun _ => 0) 0 (lN 126922548994917)) 1 (lN 6385252)) 2 (lN 28530))))), (q49, .inl (G.1.1 100, 16000, .inl (fun _ => 0))), (q57, .inl (G.1.1 100, 16, .inl (fun _ => 0))), (q65, .inl (G.1.1 100, 16, .inl (fun _ => 0))), (q73, .inl (G.1.1 100, 80, .inl (fun _ => 0))), (q81, .inl (G.1.1 100, 80, .inl (fun _ => 0))), (q89, .inl (G.1.1 100, 16, .inl (fun _ => 0))), (q97, .inl (G.1.1 100, 16, .inl (fun _ => 0)))]) rfl dX2_init_137 (fun H locs Z => ?_)
  refine lv_aload_n hx hb dX2_init_138 rfl (lv_at hl 0 rfl) ?_
  refine r_get (v := .ref q40) hx hb hts in_X2 hown hG Z.w 0 rfl rfl 6 (by decide) q944 (fun _ h9 => h9) rfl dX2_init_139 ?_
  refine lv_iconst (v := nI 3) hx hb dX2_init_142 rfl ?_
  refine lv_ldc2 hx hb hown (hts _ q934) dX2_init_143 ?_
  refine r_asl (z := lN 7892850) rfl ?_
  refine r_last hx hb hG Z 5 rfl (j := 3) (by omega) (by decide) (wc' := [(q, .inr (2, [.ref q7, .ref q15, .ref q24, .int (nI 0), .ref q32, .int (nI 0), .ref q40, .ref q49, .ref q57, .ref q65, .ref q73, .int (nI 0), .int (nI 0), .ref q81, .int (nI 0), .int (nI 0), .ref q89, .ref q97])), (q7, .inl (G.1.1 100, 66, .inl (upd (fun _ => 0) 1 (nI 256)))), (q15, .inl (G.1.1 100, 66, .inl (fun _ => 0))), (q24, .inl (G.1.1 100, 264, .inl (fun _ => 0))), (q32, .inl (G.1.1 100, 66, .inl (fun _ => 0))), (q40, .inl (G.1.1 103, 7, .inr (.inl (vp_updL (vp_updL (vp_updL (vp_updL (fun _ => 0) 0 (lN 126922548994917)) 1 (lN 6385252)) 2 (lN 28530)) 3 (lN 7892850))))), (q49, .inl (G.1.1 100, 16000, .inl (fun _ => 0))), (q57, .inl (G.1.1 100, 16, .inl (fun _ => 0))), (q65, .inl (G.1.1 100, 16, .inl (fun _ => 0))), (q73, .inl (G.1.1 100, 80, .inl (fun _ => 0))), (q81, .inl (G.1.1 100, 80, .inl (fun _ => 0))), (q89, .inl (G.1.1 100, 16, .inl (fun _ => 0))), (q97, .inl (G.1.1 100, 16, .inl (fun _ => 0)))]) rfl dX2_init_146 (fun H locs Z => ?_)
  refine lv_aload_n hx hb dX2_init_147 rfl (lv_at hl 0 rfl) ?_
  refine r_get (v := .ref q40) hx hb hts in_X2 hown hG Z.w 0 rfl rfl 6 (by decide) q944 (fun _ h9 => h9) rfl dX2_init_148 ?_
  refine lv_iconst (v := nI 4) hx hb dX2_init_151 rfl ?_
  refine lv_ldc2 hx hb hown (hts _ q935) dX2_init_152 ?_
  refine r_asl (z := lN 7173496) rfl ?_
  refine r_last hx hb hG Z 5 rfl (j := 4) (by omega) (by decide) (wc' := [(q, .inr (2, [.ref q7, .ref q15, .ref q24, .int (nI 0), .ref q32, .int (nI 0), .ref q40, .ref q49, .ref q57, .ref q65, .ref q73, .int (nI 0), .int (nI 0), .ref q81, .int (nI 0), .int (nI 0), .ref q89, .ref q97])), (q7, .inl (G.1.1 100, 66, .inl (upd (fun _ => 0) 1 (nI 256)))), (q15, .inl (G.1.1 100, 66, .inl (fun _ => 0))), (q24, .inl (G.1.1 100, 264, .inl (fun _ => 0))), (q32, .inl (G.1.1 100, 66, .inl (fun _ => 0))), (q40, .inl (G.1.1 103, 7, .inr (.inl (vp_updL (vp_updL (vp_updL (vp_updL (vp_updL (fun _ => 0) 0 (lN 126922548994917)) 1 (lN 6385252)) 2 (lN 28530)) 3 (lN 7892850)) 4 (lN 7173496))))), (q49, .inl (G.1.1 100, 16000, .inl (fun _ => 0))), (q57, .inl (G.1.1 100, 16, .inl (fun _ => 0))), (q65, .inl (G.1.1 100, 16, .inl (fun _ => 0))), (q73, .inl (G.1.1 100, 80, .inl (fun _ => 0))), (q81, .inl (G.1.1 100, 80, .inl (fun _ => 0))), (q89, .inl (G.1.1 100, 16, .inl (fun _ => 0))), (q97, .inl (G.1.1 100, 16, .inl (fun _ => 0)))]) rfl dX2_init_155 (fun H locs Z => ?_)
  refine lv_aload_n hx hb dX2_init_156 rfl (lv_at hl 0 rfl) ?_
  refine r_get (v := .ref q40) hx hb hts in_X2 hown hG Z.w 0 rfl rfl 6 (by decide) q944 (fun _ h9 => h9) rfl dX2_init_157 ?_
  refine lv_iconst (v := nI 5) hx hb dX2_init_160 rfl ?_
  refine lv_ldc2 hx hb hown (hts _ q936) dX2_init_161 ?_
  refine r_asl (z := lN 7237492) rfl ?_
  refine r_last hx hb hG Z 5 rfl (j := 5) (by omega) (by decide) (wc' := [(q, .inr (2, [.ref q7, .ref q15, .ref q24, .int (nI 0), .ref q32, .int (nI 0), .ref q40, .ref q49, .ref q57, .ref q65, .ref q73, .int (nI 0), .int (nI 0), .ref q81, .int (nI 0), .int (nI 0), .ref q89, .ref q97])), (q7, .inl (G.1.1 100, 66, .inl (upd (fun _ => 0) 1 (nI 256)))), (q15, .inl (G.1.1 100, 66, .inl (fun _ => 0))), (q24, .inl (G.1.1 100, 264, .inl (fun _ => 0))), (q32, .inl (G.1.1 100, 66, .inl (fun _ => 0))), (q40, .inl (G.1.1 103, 7, .inr (.inl (vp_updL (vp_updL (vp_updL (vp_updL (vp_updL (vp_updL (fun _ => 0) 0 (lN 126922548994917)) 1 (lN 6385252)) 2 (lN 28530)) 3 (lN 7892850)) 4 (lN 7173496)) 5 (lN 7237492))))), (q49, .inl (G.1.1 100, 16000, .inl (fun _ => 0))), (q57, .inl (G.1.1 100, 16, .inl (fun _ => 0))), (q65, .inl (G.1.1 100, 16, .inl (fun _ => 0))), (q73, .inl (G.1.1 100, 80, .inl (fun _ => 0))), (q81, .inl (G.1.1 100, 80, .inl (fun _ => 0))), (q89, .inl (G.1.1 100, 16, .inl (fun _ => 0))), (q97, .inl (G.1.1 100, 16, .inl (fun _ => 0)))]) rfl dX2_init_164 (fun H locs Z => ?_)
  refine lv_aload_n hx hb dX2_init_165 rfl (lv_at hl 0 rfl) ?_
  refine r_get (v := .ref q40) hx hb hts in_X2 hown hG Z.w 0 rfl rfl 6 (by decide) q944 (fun _ h9 => h9) rfl dX2_init_166 ?_
  refine lv_bipush (v := nI 6) hx hb dX2_init_169 rfl ?_
  refine lv_ldc2 hx hb hown (hts _ q937) dX2_init_171 ?_
  refine r_asl (z := lN 431198331257) rfl ?_
  refine r_last hx hb hG Z 5 rfl (j := 6) (by omega) (by decide) (wc' := [(q, .inr (2, [.ref q7, .ref q15, .ref q24, .int (nI 0), .ref q32, .int (nI 0), .ref q40, .ref q49, .ref q57, .ref q65, .ref q73, .int (nI 0), .int (nI 0), .ref q81, .int (nI 0), .int (nI 0), .ref q89, .ref q97])), (q7, .inl (G.1.1 100, 66, .inl (upd (fun _ => 0) 1 (nI 256)))), (q15, .inl (G.1.1 100, 66, .inl (fun _ => 0))), (q24, .inl (G.1.1 100, 264, .inl (fun _ => 0))), (q32, .inl (G.1.1 100, 66, .inl (fun _ => 0))), (q40, .inl (G.1.1 103, 7, .inr (.inl (vp_updL (vp_updL (vp_updL (vp_updL (vp_updL (vp_updL (vp_updL (fun _ => 0) 0 (lN 126922548994917)) 1 (lN 6385252)) 2 (lN 28530)) 3 (lN 7892850)) 4 (lN 7173496)) 5 (lN 7237492)) 6 (lN 431198331257))))), (q49, .inl (G.1.1 100, 16000, .inl (fun _ => 0))), (q57, .inl (G.1.1 100, 16, .inl (fun _ => 0))), (q65, .inl (G.1.1 100, 16, .inl (fun _ => 0))), (q73, .inl (G.1.1 100, 80, .inl (fun _ => 0))), (q81, .inl (G.1.1 100, 80, .inl (fun _ => 0))), (q89, .inl (G.1.1 100, 16, .inl (fun _ => 0))), (q97, .inl (G.1.1 100, 16, .inl (fun _ => 0)))]) rfl dX2_init_174 (fun H locs Z => ?_)
  exact ret (fun i => [q7, q15, q24, q32, q40, q49, q57, q65, q73, q81, q89, q97].getD i 0) dX2_init_175 trivial Z (Nat.le_of_ble_eq_true rfl) (Nat.le_of_ble_eq_true rfl)
