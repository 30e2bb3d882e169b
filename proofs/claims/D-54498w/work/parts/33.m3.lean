set_option maxHeartbeats 4000000 in
set_option maxRecDepth 100000 in
theorem M_reseed (l : Launch) (G : nG) (q : Nat) (a : Nat → Nat) (wd : Nat → Int64) (all : Nat → Int32) (kept : Nat → Int32) (hist : Nat → Int32) (hlo : Int32) (snap : Nat → Int32) (tk : Int32) (bits : Nat → Int32) (reg : Nat → Int32) (exa : Nat → Int32) (text : Nat → Int32) (tl : Int32) (sp : Int32) (read : Nat → Int32) (rm : Int32) (nu : Int32) (deep : Nat → Int32) (src : Nat → Int32) (S : oSt) (x : Int32) (y : Int32) (z : Int32) (hM : mR S all hist hlo snap tk text tl) : nMi (S := (Nat → Int32) × (Nat → Int32) × (Nat → Int32) × Int32 × (Nat → Int32) × Int32 × (Nat → Int32) × (Nat → Int32) × (Nat → Int32) × (Nat → Int32) × Int32 × Int32 × (Nat → Int32) × Int32 × Int32 × (Nat → Int32) × (Nat → Int32)) l yX2_reseed cX2_reseed 5 (.int) 2 0 0 46 G [.ref q, .int x, .int y, .int z] (mW G q a wd all kept hist hlo snap tk bits reg exa text tl sp read rm nu deep src) ([]) (fun (u : (Nat → Int32) × (Nat → Int32) × (Nat → Int32) × Int32 × (Nat → Int32) × Int32 × (Nat → Int32) × (Nat → Int32) × (Nat → Int32) × (Nat → Int32) × Int32 × Int32 × (Nat → Int32) × Int32 × Int32 × (Nat → Int32) × (Nat → Int32)) => mW G q a wd u.1 u.2.1 u.2.2.1 u.2.2.2.1 u.2.2.2.2.1 u.2.2.2.2.2.1 u.2.2.2.2.2.2.1 u.2.2.2.2.2.2.2.1 u.2.2.2.2.2.2.2.2.1 u.2.2.2.2.2.2.2.2.2.1 u.2.2.2.2.2.2.2.2.2.2.1 u.2.2.2.2.2.2.2.2.2.2.2.1 u.2.2.2.2.2.2.2.2.2.2.2.2.1 u.2.2.2.2.2.2.2.2.2.2.2.2.2.1 u.2.2.2.2.2.2.2.2.2.2.2.2.2.2.1 u.2.2.2.2.2.2.2.2.2.2.2.2.2.2.2.1 u.2.2.2.2.2.2.2.2.2.2.2.2.2.2.2.2) (fun (r : Int32) (u : (Nat → Int32) × (Nat → Int32) × (Nat → Int32) × Int32 × (Nat → Int32) × Int32 × (Nat → Int32) × (Nat → Int32) × (Nat → Int32) × (Nat → Int32) × Int32 × Int32 × (Nat → Int32) × Int32 × Int32 × (Nat → Int32) × (Nat → Int32)) => r = ((spReseed S x y z).1) ∧ mR (spReseed S x y z).2 u.1 u.2.2.1 u.2.2.2.1 u.2.2.2.2.1 u.2.2.2.2.2.1 u.2.2.2.2.2.2.2.2.2.1 u.2.2.2.2.2.2.2.2.2.2.1) := by
  refine nMi.of (own := "ShareStreamsModel") rfl (by decide +kernel) (Nat.le_of_ble_eq_true rfl) (fun _ _ _ => rfl) ?_
  intro p e s m args below meth c A Q ls hx hb hml hown hts hin hG Z hl ret
  have hl : lv_has ls 5 [(0, .ref q), (1, .int x), (2, .int y), (3, .int z)] := hl
  have Z : nW G A (mW G q a wd all kept hist hlo snap tk bits reg exa text tl sp read rm nu deep src) ([]) ([]) s.heap _ _ := Z
  obtain ⟨so, ba, ⟨eh, hh⟩, ⟨ek, sn⟩, et, tx⟩ := hM
  have hM : mR S all hist hlo snap tk text tl := ⟨so, ba, ⟨eh, hh⟩, ⟨ek, sn⟩, et, tx⟩
  have hn : S.1.1 ≤ 16 := so.1.1
  have ha : all 0 = nI S.1.1 := ba.1
  refine lv_aload_n hx hb dX2_reseed_0 rfl (lv_at hl 0 rfl) ?_
  refine lv_iload_n hx hb dX2_reseed_1 rfl (lv_at hl 1 rfl) ?_
  refine ns_i (k := 3) (nr_V (As := [.int x]) (rest := []) hx hb hml hown hts (M_isLine l G q a wd all kept hist hlo snap tk bits reg exa text tl sp read rm nu deep src x S.1.1 (by first | assumption | omega | rfl) (by first | assumption | omega | rfl)) nPs.blind 1 q1026 q1028 qs20 q53 q1029 (by decide +kernel) ⟨⟨Nat.le_of_ble_eq_true rfl, Nat.le_of_ble_eq_true rfl⟩, Nat.le_of_ble_eq_true rfl, Nat.le_of_ble_eq_true rfl⟩ (r_recv hG Z.w 0 (C := "ShareStreamsModel") rfl rfl rfl) (nPs_of hG Z Z.w) rfl hl.1 rfl (Nat.le_of_ble_eq_true rfl) dX2_reseed_2) (fun r2 hp2 => ?_)
  have he2 := hp2
  have he2 : r2 = bI (isLn x S.1.1) := he2
  subst he2
  refine lv_if_ne (tgt := 11) hx hb dX2_reseed_5 (by decide) (fun c5 => ?_) (fun c5 => ?_)
  · skip
    have c5 := bI_t c5
    obtain ⟨k, hk, ek⟩ := isLn_t c5 (by omega)
    subst ek
    have hck : (nI k).toNatClampNeg = k := nI_clamp (by omega)
    have okk := so.1.2.2 k hk
    have hkd := okk.1.2
    refine lv_iload_n hx hb dX2_reseed_11 rfl (lv_at hl 2 rfl) ?_
    refine lv_i2l hx hb dX2_reseed_12 rfl ?_
    refine lv_lconst (v := lN 0) hx hb dX2_reseed_13 rfl ?_
    refine lv_ldc2 hx hb hown (hts _ q998) dX2_reseed_14 ?_
    refine r_asl (z := lN 256) rfl ?_
    refine ns_i (k := 3) (nr_S (As := [.long (Int32.toInt64 y), .long (lN 0), .long (lN 256)]) (rest := []) hx hb hml hown hts (M_in l G (Int32.toInt64 y) (lN 0) (lN 256)) nPs.blind 3 q999 q1000 q53 q1001 (by decide +kernel) ⟨⟨Nat.le_of_ble_eq_true rfl, Nat.le_of_ble_eq_true rfl⟩, Nat.le_of_ble_eq_true rfl, Nat.le_of_ble_eq_true rfl⟩ (nPs_of hG Z (fun k q h => by simp at h)) rfl hl.1 rfl (Nat.le_of_ble_eq_true rfl) dX2_reseed_17) (fun r17 hp17 => ?_)
    have he17 := hp17
    have he17 : r17 = bI (inL (Int32.toInt64 y) (lN 0) (lN 256)) := he17
    subst he17
    refine r_as (z := bI (rng y 0 256)) (by rw [inL_rng y (by decide) (by decide)]) ?_
    refine lv_if_eq (tgt := 35) hx hb dX2_reseed_20 (by decide) (fun c20 => ?_) (fun c20 => ?_)
    · skip
      have c20 := bI_f c20
      refine lv_ldc hx hb hown (hts _ q1021) dX2_reseed_35 ?_
      have es : spReseed S (nI k) y z = (cBAD, S) := by first | simp [spReseed, c5, c20, c32] | simp [spReseed, c5, c20]
      exact ret (-100000002 : Int32) (all, kept, hist, hlo, snap, tk, bits, reg, exa, text, tl, sp, read, rm, nu, deep, src) dX2_reseed_37 (⟨(by rw [es]), (by rw [es]; exact hM)⟩) Z (Nat.le_of_ble_eq_true rfl) (Nat.le_of_ble_eq_true rfl)
    · skip
      have c20 := bI_t c20
      refine lv_iload_n hx hb dX2_reseed_23 rfl (lv_at hl 3 rfl) ?_
      refine lv_i2l hx hb dX2_reseed_24 rfl ?_
      refine lv_lconst (v := lN 1) hx hb dX2_reseed_25 rfl ?_
      refine lv_ldc2 hx hb hown (hts _ q1002) dX2_reseed_26 ?_
      refine r_asl (z := lN 255) rfl ?_
      refine ns_i (k := 3) (nr_S (As := [.long (Int32.toInt64 z), .long (lN 1), .long (lN 255)]) (rest := []) hx hb hml hown hts (M_in l G (Int32.toInt64 z) (lN 1) (lN 255)) nPs.blind 3 q999 q1000 q53 q1001 (by decide +kernel) ⟨⟨Nat.le_of_ble_eq_true rfl, Nat.le_of_ble_eq_true rfl⟩, Nat.le_of_ble_eq_true rfl, Nat.le_of_ble_eq_true rfl⟩ (nPs_of hG Z (fun k q h => by simp at h)) rfl hl.1 rfl (Nat.le_of_ble_eq_true rfl) dX2_reseed_29) (fun r29 hp29 => ?_)
      have he29 := hp29
      have he29 : r29 = bI (inL (Int32.toInt64 z) (lN 1) (lN 255)) := he29
      subst he29
      refine r_as (z := bI (rng z 1 255)) (by rw [inL_rng z (by decide) (by decide)]) ?_
      refine lv_if_ne (tgt := 38) hx hb dX2_reseed_32 (by decide) (fun c32 => ?_) (fun c32 => ?_)
      · skip
        have c32 := bI_t c32
        refine lv_aload_n hx hb dX2_reseed_38 rfl (lv_at hl 0 rfl) ?_
        refine lv_iload_n hx hb dX2_reseed_39 rfl (lv_at hl 1 rfl) ?_
        refine lv_iconst (v := nI 0) hx hb dX2_reseed_40 rfl ?_
        refine ns_i (k := 3) (nr_V (As := [.int (nI k), .int (nI 0)]) (rest := []) hx hb hml hown hts (M_of l G q a wd all kept hist hlo snap tk bits reg exa text tl sp read rm nu deep src k 0 (by omega)) nPs.blind 2 q1049 q1051 qs21 q53 q1052 (by decide +kernel) ⟨⟨Nat.le_of_ble_eq_true rfl, Nat.le_of_ble_eq_true rfl⟩, Nat.le_of_ble_eq_true rfl, Nat.le_of_ble_eq_true rfl⟩ (r_recv hG Z.w 0 (C := "ShareStreamsModel") rfl rfl rfl) (nPs_of hG Z Z.w) rfl hl.1 rfl (Nat.le_of_ble_eq_true rfl) dX2_reseed_41) (fun r41 hp41 => ?_)
        have he41 := hp41
        have he41 : r41 = all (2 + 4 * k + 0) := he41
        subst he41
        refine r_as (z := nI (kd S.1.2.1 k)) ((ba.2.2 k hk 0 (by decide)).trans okk.1.1) ?_
        refine lv_if_eq (tgt := 50) hx hb dX2_reseed_44 (by decide) (fun c44 => ?_) (fun c44 => ?_)
        · skip
          have c44 := n_eq_t (a := kd S.1.2.1 k) (b := 0) c44 (by omega) (by decide)
          refine lv_aload_n hx hb dX2_reseed_50 rfl (lv_at hl 0 rfl) ?_
          refine lv_iload_n hx hb dX2_reseed_51 rfl (lv_at hl 1 rfl) ?_
          refine lv_iconst (v := nI 1) hx hb dX2_reseed_52 rfl ?_
          refine ns_i (k := 3) (nr_V (As := [.int (nI k), .int (nI 1)]) (rest := []) hx hb hml hown hts (M_of l G q a wd all kept hist hlo snap tk bits reg exa text tl sp read rm nu deep src k 1 (by omega)) nPs.blind 2 q1049 q1051 qs21 q53 q1052 (by decide +kernel) ⟨⟨Nat.le_of_ble_eq_true rfl, Nat.le_of_ble_eq_true rfl⟩, Nat.le_of_ble_eq_true rfl, Nat.le_of_ble_eq_true rfl⟩ (r_recv hG Z.w 0 (C := "ShareStreamsModel") rfl rfl rfl) (nPs_of hG Z Z.w) rfl hl.1 rfl (Nat.le_of_ble_eq_true rfl) dX2_reseed_53) (fun r53 hp53 => ?_)
          have he53 := hp53
          have he53 : r53 = all (2 + 4 * k + 1) := he53
          subst he53
          refine r_as (z := S.1.2.1 k 1) (ba.2.2 k hk 1 (by decide)) ?_
          refine lv_istore (lv' := [(4, .int (S.1.2.1 k 1)), (0, .ref q), (1, .int (nI k)), (2, .int y), (3, .int z)]) hx hb dX2_reseed_56 hl (by decide) rfl (fun ls hl => ?_)
          refine lv_iload hx hb dX2_reseed_58 (lv_at hl 0 rfl) ?_
          refine lv_iload_n hx hb dX2_reseed_60 rfl (lv_at hl 3 rfl) ?_
          refine lv_icmp_ne (tgt := 77) hx hb dX2_reseed_61 (by decide) (fun c61 => ?_) (fun c61 => ?_)
          · skip
            refine lv_aload_n hx hb dX2_reseed_77 rfl (lv_at hl 1 rfl) ?_
            refine nc_v (k := 3) (wcc := mW G q a wd all kept hist hlo snap tk bits reg exa text tl sp read rm nu deep src) (wr := []) (nr_V (As := []) (rest := []) hx hb hml hown hts ((M_remember l G q a wd all kept hist hlo snap tk bits reg exa text tl sp read rm nu deep src) _) nP.blind 0 q1009 q1011 qs17 q53 q1012 (by decide +kernel) ⟨⟨Nat.le_of_ble_eq_true rfl, Nat.le_of_ble_eq_true rfl⟩, Nat.le_of_ble_eq_true rfl, Nat.le_of_ble_eq_true rfl⟩ (r_recv hG Z.w 0 (C := "ShareStreamsModel") rfl rfl rfl) (nP_of hG Z [0, 1, 2, 3, 4, 5, 6, 7, 8, 9, 10, 11, 12] rfl (by decide) (fun k q h => by simp at h) nAp.nil) rfl hl.1 rfl (Nat.le_of_ble_eq_true rfl) dX2_reseed_78) Z [0, 1, 2, 3, 4, 5, 6, 7, 8, 9, 10, 11, 12] [] rfl rfl (by decide) (by decide) (fun u H locs hp78 Z => ?_)
            obtain ⟨kp_78, rfl⟩ : ∃ z, z = u := ⟨_, rfl⟩
            have hp78 : ∀ v_, v_ < 66 → kp_78 v_ = all v_ := hp78
            have Z : nW G A (mW G q a wd all kp_78 hist hlo snap tk bits reg exa text tl sp read rm nu deep src) ([]) ([]) s.heap _ _ := Z
            refine lv_aload_n hx hb dX2_reseed_81 rfl (lv_at hl 1 rfl) ?_
            refine r_get (v := .ref (a 0)) hx hb hts in_X2 hown hG Z.w 0 rfl rfl 0 (by decide) q938 (fun _ h9 => h9) rfl dX2_reseed_82 ?_
            refine lv_iconst (v := nI 2) hx hb dX2_reseed_85 rfl ?_
            refine lv_iconst (v := nI 4) hx hb dX2_reseed_86 rfl ?_
            refine lv_iload_n hx hb dX2_reseed_87 rfl (lv_at hl 2 rfl) ?_
            refine lv_imul hx hb dX2_reseed_88 ?_
            refine r_as (z := nI (4 * k)) (pk_mul _ _) ?_
            refine lv_iadd hx hb dX2_reseed_89 ?_
            refine r_as (z := nI (2 + (4 * k))) (nI_add _ _) ?_
            refine lv_iconst (v := nI 1) hx hb dX2_reseed_90 rfl ?_
            refine lv_iadd hx hb dX2_reseed_91 ?_
            refine r_as (z := nI (2 + (4 * k) + 1)) (nI_add _ _) ?_
            refine lv_iload_n hx hb dX2_reseed_92 rfl (lv_at hl 3 rfl) ?_
            refine r_iast hx hb hG Z 1 rfl (j := 2 + (4 * k) + 1) (by omega) (by decide) (wc' := mW G q a wd (upd all (2 + (4 * k) + 1) y) kp_78 hist hlo snap tk bits reg exa text tl sp read rm nu deep src) rfl dX2_reseed_93 (fun H locs Z => ?_)
            refine lv_aload_n hx hb dX2_reseed_94 rfl (lv_at hl 1 rfl) ?_
            refine r_get (v := .ref (a 0)) hx hb hts in_X2 hown hG Z.w 0 rfl rfl 0 (by decide) q938 (fun _ h9 => h9) rfl dX2_reseed_95 ?_
            refine lv_iconst (v := nI 2) hx hb dX2_reseed_98 rfl ?_
            refine lv_iconst (v := nI 4) hx hb dX2_reseed_99 rfl ?_
            refine lv_iload_n hx hb dX2_reseed_100 rfl (lv_at hl 2 rfl) ?_
            refine lv_imul hx hb dX2_reseed_101 ?_
            refine r_as (z := nI (4 * k)) (pk_mul _ _) ?_
            refine lv_iadd hx hb dX2_reseed_102 ?_
            refine r_as (z := nI (2 + (4 * k))) (nI_add _ _) ?_
            refine lv_iconst (v := nI 2) hx hb dX2_reseed_103 rfl ?_
            refine lv_iadd hx hb dX2_reseed_104 ?_
            refine r_as (z := nI (2 + (4 * k) + 2)) (nI_add _ _) ?_
            refine lv_iload_n hx hb dX2_reseed_105 rfl (lv_at hl 4 rfl) ?_
            refine r_iast hx hb hG Z 1 rfl (j := 2 + (4 * k) + 2) (by omega) (by decide) (wc' := mW G q a wd (upd (upd all (2 + (4 * k) + 1) y) (2 + (4 * k) + 2) z) kp_78 hist hlo snap tk bits reg exa text tl sp read rm nu deep src) rfl dX2_reseed_106 (fun H locs Z => ?_)
            refine lv_aload_n hx hb dX2_reseed_107 rfl (lv_at hl 1 rfl) ?_
            refine lv_iload hx hb dX2_reseed_108 (lv_at hl 0 rfl) ?_
            refine nc_i (k := 3) (wcc := mW G q a wd (upd (upd all (2 + (4 * k) + 1) y) (2 + (4 * k) + 2) z) kp_78 hist hlo snap tk bits reg exa text tl sp read rm nu deep src) (wr := []) (nr_V (As := [.int (S.1.2.1 k 1)]) (rest := []) hx hb hml hown hts ((M_acted l G q a wd (upd (upd all (2 + (4 * k) + 1) y) (2 + (4 * k) + 2) z) kp_78 hist hlo snap tk bits reg exa text tl sp read rm nu deep src (S.1.2.1 k 1) S.2.1.length so.2.1.1 (by first | assumption | omega | rfl)) _) nP.blind 1 q1017 q1019 qs19 q53 q1020 (by decide +kernel) ⟨⟨Nat.le_of_ble_eq_true rfl, Nat.le_of_ble_eq_true rfl⟩, Nat.le_of_ble_eq_true rfl, Nat.le_of_ble_eq_true rfl⟩ (r_recv hG Z.w 0 (C := "ShareStreamsModel") rfl rfl rfl) (nP_of hG Z [0, 1, 2, 3, 4, 5, 6, 7, 8, 9, 10, 11, 12] rfl (by decide) (fun k q h => by simp at h) nAp.nil) rfl hl.1 rfl (Nat.le_of_ble_eq_true rfl) dX2_reseed_110) Z [0, 1, 2, 3, 4, 5, 6, 7, 8, 9, 10, 11, 12] [] rfl rfl (by decide) (by decide) (fun r110 u H locs hp110 Z => ?_)
            obtain ⟨hs_110, rfl⟩ : ∃ z, z = u := ⟨_, rfl⟩
            obtain ⟨he110, hp110⟩ := hp110
            have he110 : r110 = (S.1.2.1 k 1) := he110
            subst he110
            have hp110 : hsP S.2.1.length hist kp_78 hs_110 := hp110
            have Z : nW G A (mW G q a wd (upd (upd all (2 + (4 * k) + 1) y) (2 + (4 * k) + 2) z) kp_78 hs_110 (nI (acH S.2.1.length)) snap tk bits reg exa text tl sp read rm nu deep src) ([]) ([]) s.heap _ _ := Z
            have es : spReseed S (nI k) y z = (S.1.2.1 k 1, spAcc S (beSet S.1 k y z)) := by first | simp [spReseed, c5, c20, c32, hck, c44, c61, c71] | simp [spReseed, c5, c20, c32, hck, c44, c61]
            exact ret (S.1.2.1 k 1) (upd (upd all (2 + (4 * k) + 1) y) (2 + (4 * k) + 2) z, kp_78, hs_110, nI (acH S.2.1.length), snap, tk, bits, reg, exa, text, tl, sp, read, rm, nu, deep, src) dX2_reseed_113 (⟨(by rw [es]), (by rw [es]; exact mR_acc hM (set_ok so.1 hk c44 c20 c32) (bRow_set ba hk y z) hp78 hp110)⟩) Z (Nat.le_of_ble_eq_true rfl) (Nat.le_of_ble_eq_true rfl)
          · skip
            refine lv_aload_n hx hb dX2_reseed_64 rfl (lv_at hl 1 rfl) ?_
            refine lv_iload_n hx hb dX2_reseed_65 rfl (lv_at hl 2 rfl) ?_
            refine lv_iconst (v := nI 2) hx hb dX2_reseed_66 rfl ?_
            refine ns_i (k := 3) (nr_V (As := [.int (nI k), .int (nI 2)]) (rest := []) hx hb hml hown hts (M_of l G q a wd all kept hist hlo snap tk bits reg exa text tl sp read rm nu deep src k 2 (by omega)) nPs.blind 2 q1049 q1051 qs21 q53 q1052 (by decide +kernel) ⟨⟨Nat.le_of_ble_eq_true rfl, Nat.le_of_ble_eq_true rfl⟩, Nat.le_of_ble_eq_true rfl, Nat.le_of_ble_eq_true rfl⟩ (r_recv hG Z.w 0 (C := "ShareStreamsModel") rfl rfl rfl) (nPs_of hG Z Z.w) rfl hl.1 rfl (Nat.le_of_ble_eq_true rfl) dX2_reseed_67) (fun r67 hp67 => ?_)
            have he67 := hp67
            have he67 : r67 = all (2 + 4 * k + 2) := he67
            subst he67
            refine r_as (z := S.1.2.1 k 2) (ba.2.2 k hk 2 (by decide)) ?_
            refine lv_iload_n hx hb dX2_reseed_70 rfl (lv_at hl 4 rfl) ?_
            refine lv_icmp_ne (tgt := 77) hx hb dX2_reseed_71 (by decide) (fun c71 => ?_) (fun c71 => ?_)
            · skip
              refine lv_aload_n hx hb dX2_reseed_77 rfl (lv_at hl 1 rfl) ?_
              refine nc_v (k := 3) (wcc := mW G q a wd all kept hist hlo snap tk bits reg exa text tl sp read rm nu deep src) (wr := []) (nr_V (As := []) (rest := []) hx hb hml hown hts ((M_remember l G q a wd all kept hist hlo snap tk bits reg exa text tl sp read rm nu deep src) _) nP.blind 0 q1009 q1011 qs17 q53 q1012 (by decide +kernel) ⟨⟨Nat.le_of_ble_eq_true rfl, Nat.le_of_ble_eq_true rfl⟩, Nat.le_of_ble_eq_true rfl, Nat.le_of_ble_eq_true rfl⟩ (r_recv hG Z.w 0 (C := "ShareStreamsModel") rfl rfl rfl) (nP_of hG Z [0, 1, 2, 3, 4, 5, 6, 7, 8, 9, 10, 11, 12] rfl (by decide) (fun k q h => by simp at h) nAp.nil) rfl hl.1 rfl (Nat.le_of_ble_eq_true rfl) dX2_reseed_78) Z [0, 1, 2, 3, 4, 5, 6, 7, 8, 9, 10, 11, 12] [] rfl rfl (by decide) (by decide) (fun u H locs hp78 Z => ?_)
              obtain ⟨kp_78, rfl⟩ : ∃ z, z = u := ⟨_, rfl⟩
              have hp78 : ∀ v_, v_ < 66 → kp_78 v_ = all v_ := hp78
              have Z : nW G A (mW G q a wd all kp_78 hist hlo snap tk bits reg exa text tl sp read rm nu deep src) ([]) ([]) s.heap _ _ := Z
              refine lv_aload_n hx hb dX2_reseed_81 rfl (lv_at hl 1 rfl) ?_
              refine r_get (v := .ref (a 0)) hx hb hts in_X2 hown hG Z.w 0 rfl rfl 0 (by decide) q938 (fun _ h9 => h9) rfl dX2_reseed_82 ?_
              refine lv_iconst (v := nI 2) hx hb dX2_reseed_85 rfl ?_
              refine lv_iconst (v := nI 4) hx hb dX2_reseed_86 rfl ?_
              refine lv_iload_n hx hb dX2_reseed_87 rfl (lv_at hl 2 rfl) ?_
              refine lv_imul hx hb dX2_reseed_88 ?_
              refine r_as (z := nI (4 * k)) (pk_mul _ _) ?_
              refine lv_iadd hx hb dX2_reseed_89 ?_
              refine r_as (z := nI (2 + (4 * k))) (nI_add _ _) ?_
              refine lv_iconst (v := nI 1) hx hb dX2_reseed_90 rfl ?_
              refine lv_iadd hx hb dX2_reseed_91 ?_
              refine r_as (z := nI (2 + (4 * k) + 1)) (nI_add _ _) ?_
              refine lv_iload_n hx hb dX2_reseed_92 rfl (lv_at hl 3 rfl) ?_
              refine r_iast hx hb hG Z 1 rfl (j := 2 + (4 * k) + 1) (by omega) (by decide) (wc' := mW G q a wd (upd all (2 + (4 * k) + 1) y) kp_78 hist hlo snap tk bits reg exa text tl sp read rm nu deep src) rfl dX2_reseed_93 (fun H locs Z => ?_)
              refine lv_aload_n hx hb dX2_reseed_94 rfl (lv_at hl 1 rfl) ?_
              refine r_get (v := .ref (a 0)) hx hb hts in_X2 hown hG Z.w 0 rfl rfl 0 (by decide) q938 (fun _ h9 => h9) rfl dX2_reseed_95 ?_
              refine lv_iconst (v := nI 2) hx hb dX2_reseed_98 rfl ?_
              refine lv_iconst (v := nI 4) hx hb dX2_reseed_99 rfl ?_
              refine lv_iload_n hx hb dX2_reseed_100 rfl (lv_at hl 2 rfl) ?_
              refine lv_imul hx hb dX2_reseed_101 ?_
              refine r_as (z := nI (4 * k)) (pk_mul _ _) ?_
              refine lv_iadd hx hb dX2_reseed_102 ?_
              refine r_as (z := nI (2 + (4 * k))) (nI_add _ _) ?_
              refine lv_iconst (v := nI 2) hx hb dX2_reseed_103 rfl ?_
              refine lv_iadd hx hb dX2_reseed_104 ?_
              refine r_as (z := nI (2 + (4 * k) + 2)) (nI_add _ _) ?_
              refine lv_iload_n hx hb dX2_reseed_105 rfl (lv_at hl 4 rfl) ?_
              refine r_iast hx hb hG Z 1 rfl (j := 2 + (4 * k) + 2) (by omega) (by decide) (wc' := mW G q a wd (upd (upd all (2 + (4 * k) + 1) y) (2 + (4 * k) + 2) z) kp_78 hist hlo snap tk bits reg exa text tl sp read rm nu deep src) rfl dX2_reseed_106 (fun H locs Z => ?_)
              refine lv_aload_n hx hb dX2_reseed_107 rfl (lv_at hl 1 rfl) ?_
              refine lv_iload hx hb dX2_reseed_108 (lv_at hl 0 rfl) ?_
              refine nc_i (k := 3) (wcc := mW G q a wd (upd (upd all (2 + (4 * k) + 1) y) (2 + (4 * k) + 2) z) kp_78 hist hlo snap tk bits reg exa text tl sp read rm nu deep src) (wr := []) (nr_V (As := [.int (S.1.2.1 k 1)]) (rest := []) hx hb hml hown hts ((M_acted l G q a wd (upd (upd all (2 + (4 * k) + 1) y) (2 + (4 * k) + 2) z) kp_78 hist hlo snap tk bits reg exa text tl sp read rm nu deep src (S.1.2.1 k 1) S.2.1.length so.2.1.1 (by first | assumption | omega | rfl)) _) nP.blind 1 q1017 q1019 qs19 q53 q1020 (by decide +kernel) ⟨⟨Nat.le_of_ble_eq_true rfl, Nat.le_of_ble_eq_true rfl⟩, Nat.le_of_ble_eq_true rfl, Nat.le_of_ble_eq_true rfl⟩ (r_recv hG Z.w 0 (C := "ShareStreamsModel") rfl rfl rfl) (nP_of hG Z [0, 1, 2, 3, 4, 5, 6, 7, 8, 9, 10, 11, 12] rfl (by decide) (fun k q h => by simp at h) nAp.nil) rfl hl.1 rfl (Nat.le_of_ble_eq_true rfl) dX2_reseed_110) Z [0, 1, 2, 3, 4, 5, 6, 7, 8, 9, 10, 11, 12] [] rfl rfl (by decide) (by decide) (fun r110 u H locs hp110 Z => ?_)
              obtain ⟨hs_110, rfl⟩ : ∃ z, z = u := ⟨_, rfl⟩
              obtain ⟨he110, hp110⟩ := hp110
              have he110 : r110 = (S.1.2.1 k 1) := he110
              subst he110
              have hp110 : hsP S.2.1.length hist kp_78 hs_110 := hp110
              have Z : nW G A (mW G q a wd (upd (upd all (2 + (4 * k) + 1) y) (2 + (4 * k) + 2) z) kp_78 hs_110 (nI (acH S.2.1.length)) snap tk bits reg exa text tl sp read rm nu deep src) ([]) ([]) s.heap _ _ := Z
              have es : spReseed S (nI k) y z = (S.1.2.1 k 1, spAcc S (beSet S.1 k y z)) := by first | simp [spReseed, c5, c20, c32, hck, c44, c61, c71] | simp [spReseed, c5, c20, c32, hck, c44, c61]
              exact ret (S.1.2.1 k 1) (upd (upd all (2 + (4 * k) + 1) y) (2 + (4 * k) + 2) z, kp_78, hs_110, nI (acH S.2.1.length), snap, tk, bits, reg, exa, text, tl, sp, read, rm, nu, deep, src) dX2_reseed_113 (⟨(by rw [es]), (by rw [es]; exact mR_acc hM (set_ok so.1 hk c44 c20 c32) (bRow_set ba hk y z) hp78 hp110)⟩) Z (Nat.le_of_ble_eq_true rfl) (Nat.le_of_ble_eq_true rfl)
            · skip
              refine lv_ldc hx hb hown (hts _ q1003) dX2_reseed_74 ?_
              have es : spReseed S (nI k) y z = (cNONE, S) := by simp [spReseed, c5, c20, c32, hck, c44, c61, c71]
              exact ret (-100000005 : Int32) (all, kept, hist, hlo, snap, tk, bits, reg, exa, text, tl, sp, read, rm, nu, deep, src) dX2_reseed_76 (⟨(by rw [es]), (by rw [es]; exact hM)⟩) Z (Nat.le_of_ble_eq_true rfl) (Nat.le_of_ble_eq_true rfl)
        · skip
          have c44 := n_eq_f (a := kd S.1.2.1 k) (b := 0) c44
          refine lv_ldc hx hb hown (hts _ q1053) dX2_reseed_47 ?_
          have es : spReseed S (nI k) y z = (cNOTP, S) := by simp [spReseed, c5, c20, c32, hck, c44]
          exact ret (-100000004 : Int32) (all, kept, hist, hlo, snap, tk, bits, reg, exa, text, tl, sp, read, rm, nu, deep, src) dX2_reseed_49 (⟨(by rw [es]), (by rw [es]; exact hM)⟩) Z (Nat.le_of_ble_eq_true rfl) (Nat.le_of_ble_eq_true rfl)
      · skip
        have c32 := bI_f c32
        refine lv_ldc hx hb hown (hts _ q1021) dX2_reseed_35 ?_
        have es : spReseed S (nI k) y z = (cBAD, S) := by first | simp [spReseed, c5, c20, c32] | simp [spReseed, c5, c20]
        exact ret (-100000002 : Int32) (all, kept, hist, hlo, snap, tk, bits, reg, exa, text, tl, sp, read, rm, nu, deep, src) dX2_reseed_37 (⟨(by rw [es]), (by rw [es]; exact hM)⟩) Z (Nat.le_of_ble_eq_true rfl) (Nat.le_of_ble_eq_true rfl)
  · skip
    have c5 := bI_f c5
    refine lv_ldc hx hb hown (hts _ q1030) dX2_reseed_8 ?_
    have es : spReseed S x y z = (cUNK, S) := by simp [spReseed, c5]
    exact ret (-100000001 : Int32) (all, kept, hist, hlo, snap, tk, bits, reg, exa, text, tl, sp, read, rm, nu, deep, src) dX2_reseed_10 (⟨(by rw [es]), (by rw [es]; exact hM)⟩) Z (Nat.le_of_ble_eq_true rfl) (Nat.le_of_ble_eq_true rfl)
set_option maxHeartbeats 4000000 in
set_option maxRecDepth 100000 in
theorem M_removeLast (l : Launch) (G : nG) (q : Nat) (a : Nat → Nat) (wd : Nat → Int64) (all : Nat → Int32) (kept : Nat → Int32) (hist : Nat → Int32) (hlo : Int32) (snap : Nat → Int32) (tk : Int32) (bits : Nat → Int32) (reg : Nat → Int32) (exa : Nat → Int32) (text : Nat → Int32) (tl : Int32) (sp : Int32) (read : Nat → Int32) (rm : Int32) (nu : Int32) (deep : Nat → Int32) (src : Nat → Int32) (S : oSt) (hM : mR S all hist hlo snap tk text tl) : nMi (S := (Nat → Int32) × (Nat → Int32) × (Nat → Int32) × Int32 × (Nat → Int32) × Int32 × (Nat → Int32) × (Nat → Int32) × (Nat → Int32) × (Nat → Int32) × Int32 × Int32 × (Nat → Int32) × Int32 × Int32 × (Nat → Int32) × (Nat → Int32)) l yX2_removeLast cX2_removeLast 1 (.int) 1 0 0 22 G [.ref q] (mW G q a wd all kept hist hlo snap tk bits reg exa text tl sp read rm nu deep src) ([]) (fun (u : (Nat → Int32) × (Nat → Int32) × (Nat → Int32) × Int32 × (Nat → Int32) × Int32 × (Nat → Int32) × (Nat → Int32) × (Nat → Int32) × (Nat → Int32) × Int32 × Int32 × (Nat → Int32) × Int32 × Int32 × (Nat → Int32) × (Nat → Int32)) => mW G q a wd u.1 u.2.1 u.2.2.1 u.2.2.2.1 u.2.2.2.2.1 u.2.2.2.2.2.1 u.2.2.2.2.2.2.1 u.2.2.2.2.2.2.2.1 u.2.2.2.2.2.2.2.2.1 u.2.2.2.2.2.2.2.2.2.1 u.2.2.2.2.2.2.2.2.2.2.1 u.2.2.2.2.2.2.2.2.2.2.2.1 u.2.2.2.2.2.2.2.2.2.2.2.2.1 u.2.2.2.2.2.2.2.2.2.2.2.2.2.1 u.2.2.2.2.2.2.2.2.2.2.2.2.2.2.1 u.2.2.2.2.2.2.2.2.2.2.2.2.2.2.2.1 u.2.2.2.2.2.2.2.2.2.2.2.2.2.2.2.2) (fun (r : Int32) (u : (Nat → Int32) × (Nat → Int32) × (Nat → Int32) × Int32 × (Nat → Int32) × Int32 × (Nat → Int32) × (Nat → Int32) × (Nat → Int32) × (Nat → Int32) × Int32 × Int32 × (Nat → Int32) × Int32 × Int32 × (Nat → Int32) × (Nat → Int32)) => r = ((spRemove S).1) ∧ mR (spRemove S).2 u.1 u.2.2.1 u.2.2.2.1 u.2.2.2.2.1 u.2.2.2.2.2.1 u.2.2.2.2.2.2.2.2.2.1 u.2.2.2.2.2.2.2.2.2.2.1) := by
  refine nMi.of (own := "ShareStreamsModel") rfl (by decide +kernel) (Nat.le_of_ble_eq_true rfl) (fun _ _ _ => rfl) ?_
  intro p e s m args below meth c A Q ls hx hb hml hown hts hin hG Z hl ret
  have hl : lv_has ls 1 [(0, .ref q)] := hl
  have Z : nW G A (mW G q a wd all kept hist hlo snap tk bits reg exa text tl sp read rm nu deep src) ([]) ([]) s.heap _ _ := Z
  obtain ⟨so, ba, ⟨eh, hh⟩, ⟨ek, sn⟩, et, tx⟩ := hM
  have hM : mR S all hist hlo snap tk text tl := ⟨so, ba, ⟨eh, hh⟩, ⟨ek, sn⟩, et, tx⟩
  have hn : S.1.1 ≤ 16 := so.1.1
  have ha : all 0 = nI S.1.1 := ba.1
  refine lv_aload_n hx hb dX2_removeLast_0 rfl (lv_at hl 0 rfl) ?_
  refine r_get (v := .ref (a 0)) hx hb hts in_X2 hown hG Z.w 0 rfl rfl 0 (by decide) q938 (fun _ h9 => h9) rfl dX2_removeLast_1 ?_
  refine lv_iconst (v := nI 0) hx hb dX2_removeLast_4 rfl ?_
  refine r_iald hx hb hG Z.w 1 rfl (j := 0) (by omega) (by decide) (v := nI S.1.1) ha dX2_removeLast_5 ?_
  refine lv_if_ne (tgt := 12) hx hb dX2_removeLast_6 (by decide) (fun c6 => ?_) (fun c6 => ?_)
  · skip
    have c6 := n_eq_f (a := S.1.1) (b := 0) c6
    refine lv_aload_n hx hb dX2_removeLast_12 rfl (lv_at hl 0 rfl) ?_
    refine nc_v (k := 3) (wcc := mW G q a wd all kept hist hlo snap tk bits reg exa text tl sp read rm nu deep src) (wr := []) (nr_V (As := []) (rest := []) hx hb hml hown hts ((M_remember l G q a wd all kept hist hlo snap tk bits reg exa text tl sp read rm nu deep src) _) nP.blind 0 q1009 q1011 qs17 q53 q1012 (by decide +kernel) ⟨⟨Nat.le_of_ble_eq_true rfl, Nat.le_of_ble_eq_true rfl⟩, Nat.le_of_ble_eq_true rfl, Nat.le_of_ble_eq_true rfl⟩ (r_recv hG Z.w 0 (C := "ShareStreamsModel") rfl rfl rfl) (nP_of hG Z [0, 1, 2, 3, 4, 5, 6, 7, 8, 9, 10, 11, 12] rfl (by decide) (fun k q h => by simp at h) nAp.nil) rfl hl.1 rfl (Nat.le_of_ble_eq_true rfl) dX2_removeLast_13) Z [0, 1, 2, 3, 4, 5, 6, 7, 8, 9, 10, 11, 12] [] rfl rfl (by decide) (by decide) (fun u H locs hp13 Z => ?_)
    obtain ⟨kp_13, rfl⟩ : ∃ z, z = u := ⟨_, rfl⟩
    have hp13 : ∀ v_, v_ < 66 → kp_13 v_ = all v_ := hp13
    have Z : nW G A (mW G q a wd all kp_13 hist hlo snap tk bits reg exa text tl sp read rm nu deep src) ([]) ([]) s.heap _ _ := Z
    refine lv_aload_n hx hb dX2_removeLast_16 rfl (lv_at hl 0 rfl) ?_
    refine r_get (v := .ref (a 0)) hx hb hts in_X2 hown hG Z.w 0 rfl rfl 0 (by decide) q938 (fun _ h9 => h9) rfl dX2_removeLast_17 ?_
    refine lv_iconst (v := nI 0) hx hb dX2_removeLast_20 rfl ?_
    refine lv_dup2_11 hx hb dX2_removeLast_21 rfl rfl ?_
    refine r_iald hx hb hG Z.w 1 rfl (j := 0) (by omega) (by decide) (v := nI S.1.1) ha dX2_removeLast_22 ?_
    refine lv_iconst (v := nI 1) hx hb dX2_removeLast_23 rfl ?_
    refine lv_isub hx hb dX2_removeLast_24 ?_
    refine r_as (z := nI (S.1.1 - 1)) (pk_sub (by omega)) ?_
    refine r_iast hx hb hG Z 1 rfl (j := 0) (by omega) (by decide) (wc' := mW G q a wd (upd all 0 (nI (S.1.1 - 1))) kp_13 hist hlo snap tk bits reg exa text tl sp read rm nu deep src) rfl dX2_removeLast_25 (fun H locs Z => ?_)
    refine lv_aload_n hx hb dX2_removeLast_26 rfl (lv_at hl 0 rfl) ?_
    refine lv_aload_n hx hb dX2_removeLast_27 rfl (lv_at hl 0 rfl) ?_
    refine r_get (v := .ref (a 0)) hx hb hts in_X2 hown hG Z.w 0 rfl rfl 0 (by decide) q938 (fun _ h9 => h9) rfl dX2_removeLast_28 ?_
    refine lv_iconst (v := nI 0) hx hb dX2_removeLast_31 rfl ?_
    refine r_iald hx hb hG Z.w 1 rfl (j := 0) (by omega) (by decide) (v := nI (S.1.1 - 1)) upd_s dX2_removeLast_32 ?_
    refine nc_i (k := 3) (wcc := mW G q a wd (upd all 0 (nI (S.1.1 - 1))) kp_13 hist hlo snap tk bits reg exa text tl sp read rm nu deep src) (wr := []) (nr_V (As := [.int (nI (S.1.1 - 1))]) (rest := []) hx hb hml hown hts ((M_acted l G q a wd (upd all 0 (nI (S.1.1 - 1))) kp_13 hist hlo snap tk bits reg exa text tl sp read rm nu deep src (nI (S.1.1 - 1)) S.2.1.length so.2.1.1 (by first | assumption | omega | rfl)) _) nP.blind 1 q1017 q1019 qs19 q53 q1020 (by decide +kernel) ⟨⟨Nat.le_of_ble_eq_true rfl, Nat.le_of_ble_eq_true rfl⟩, Nat.le_of_ble_eq_true rfl, Nat.le_of_ble_eq_true rfl⟩ (r_recv hG Z.w 0 (C := "ShareStreamsModel") rfl rfl rfl) (nP_of hG Z [0, 1, 2, 3, 4, 5, 6, 7, 8, 9, 10, 11, 12] rfl (by decide) (fun k q h => by simp at h) nAp.nil) rfl hl.1 rfl (Nat.le_of_ble_eq_true rfl) dX2_removeLast_33) Z [0, 1, 2, 3, 4, 5, 6, 7, 8, 9, 10, 11, 12] [] rfl rfl (by decide) (by decide) (fun r33 u H locs hp33 Z => ?_)
    obtain ⟨hs_33, rfl⟩ : ∃ z, z = u := ⟨_, rfl⟩
    obtain ⟨he33, hp33⟩ := hp33
    have he33 : r33 = (nI (S.1.1 - 1)) := he33
    subst he33
    have hp33 : hsP S.2.1.length hist kp_13 hs_33 := hp33
    have Z : nW G A (mW G q a wd (upd all 0 (nI (S.1.1 - 1))) kp_13 hs_33 (nI (acH S.2.1.length)) snap tk bits reg exa text tl sp read rm nu deep src) ([]) ([]) s.heap _ _ := Z
    have es : spRemove S = (nI (S.1.1 - 1), spAcc S (S.1.1 - 1, S.1.2)) := by simp [spRemove, c6]
    exact ret (nI (S.1.1 - 1)) (upd all 0 (nI (S.1.1 - 1)), kp_13, hs_33, nI (acH S.2.1.length), snap, tk, bits, reg, exa, text, tl, sp, read, rm, nu, deep, src) dX2_removeLast_36 (⟨(by rw [es]), (by rw [es]; exact mR_acc hM (beOk_pop so.1) (bRow_pop ba) hp13 hp33)⟩) Z (Nat.le_of_ble_eq_true rfl) (Nat.le_of_ble_eq_true rfl)
  · skip
    have c6 := n_eq_t (a := S.1.1) (b := 0) c6 (by omega) (by decide)
    refine lv_ldc hx hb hown (hts _ q1003) dX2_removeLast_9 ?_
    have es : spRemove S = (cNONE, S) := by simp [spRemove, c6]
    exact ret (-100000005 : Int32) (all, kept, hist, hlo, snap, tk, bits, reg, exa, text, tl, sp, read, rm, nu, deep, src) dX2_removeLast_11 (⟨(by rw [es]), (by rw [es]; exact hM)⟩) Z (Nat.le_of_ble_eq_true rfl) (Nat.le_of_ble_eq_true rfl)
set_option maxHeartbeats 4000000 in
set_option maxRecDepth 100000 in
theorem M_setLength (l : Launch) (G : nG) (q : Nat) (a : Nat → Nat) (wd : Nat → Int64) (all : Nat → Int32) (kept : Nat → Int32) (hist : Nat → Int32) (hlo : Int32) (snap : Nat → Int32) (tk : Int32) (bits : Nat → Int32) (reg : Nat → Int32) (exa : Nat → Int32) (text : Nat → Int32) (tl : Int32) (sp : Int32) (read : Nat → Int32) (rm : Int32) (nu : Int32) (deep : Nat → Int32) (src : Nat → Int32) (S : oSt) (x : Int32) (hM : mR S all hist hlo snap tk text tl) : nMi (S := (Nat → Int32) × (Nat → Int32) × (Nat → Int32) × Int32 × (Nat → Int32) × Int32 × (Nat → Int32) × (Nat → Int32) × (Nat → Int32) × (Nat → Int32) × Int32 × Int32 × (Nat → Int32) × Int32 × Int32 × (Nat → Int32) × (Nat → Int32)) l yX2_setLength cX2_setLength 3 (.int) 1 0 0 25 G [.ref q, .int x] (mW G q a wd all kept hist hlo snap tk bits reg exa text tl sp read rm nu deep src) ([]) (fun (u : (Nat → Int32) × (Nat → Int32) × (Nat → Int32) × Int32 × (Nat → Int32) × Int32 × (Nat → Int32) × (Nat → Int32) × (Nat → Int32) × (Nat → Int32) × Int32 × Int32 × (Nat → Int32) × Int32 × Int32 × (Nat → Int32) × (Nat → Int32)) => mW G q a wd u.1 u.2.1 u.2.2.1 u.2.2.2.1 u.2.2.2.2.1 u.2.2.2.2.2.1 u.2.2.2.2.2.2.1 u.2.2.2.2.2.2.2.1 u.2.2.2.2.2.2.2.2.1 u.2.2.2.2.2.2.2.2.2.1 u.2.2.2.2.2.2.2.2.2.2.1 u.2.2.2.2.2.2.2.2.2.2.2.1 u.2.2.2.2.2.2.2.2.2.2.2.2.1 u.2.2.2.2.2.2.2.2.2.2.2.2.2.1 u.2.2.2.2.2.2.2.2.2.2.2.2.2.2.1 u.2.2.2.2.2.2.2.2.2.2.2.2.2.2.2.1 u.2.2.2.2.2.2.2.2.2.2.2.2.2.2.2.2) (fun (r : Int32) (u : (Nat → Int32) × (Nat → Int32) × (Nat → Int32) × Int32 × (Nat → Int32) × Int32 × (Nat → Int32) × (Nat → Int32) × (Nat → Int32) × (Nat → Int32) × Int32 × Int32 × (Nat → Int32) × Int32 × Int32 × (Nat → Int32) × (Nat → Int32)) => r = ((spSetLen S x).1) ∧ mR (spSetLen S x).2 u.1 u.2.2.1 u.2.2.2.1 u.2.2.2.2.1 u.2.2.2.2.2.1 u.2.2.2.2.2.2.2.2.2.1 u.2.2.2.2.2.2.2.2.2.2.1) := by
  refine nMi.of (own := "ShareStreamsModel") rfl (by decide +kernel) (Nat.le_of_ble_eq_true rfl) (fun _ _ _ => rfl) ?_
  intro p e s m args below meth c A Q ls hx hb hml hown hts hin hG Z hl ret
  have hl : lv_has ls 3 [(0, .ref q), (1, .int x)] := hl
  have Z : nW G A (mW G q a wd all kept hist hlo snap tk bits reg exa text tl sp read rm nu deep src) ([]) ([]) s.heap _ _ := Z
  obtain ⟨so, ba, ⟨eh, hh⟩, ⟨ek, sn⟩, et, tx⟩ := hM
  have hM : mR S all hist hlo snap tk text tl := ⟨so, ba, ⟨eh, hh⟩, ⟨ek, sn⟩, et, tx⟩
  have hn : S.1.1 ≤ 16 := so.1.1
  have ha : all 0 = nI S.1.1 := ba.1
  refine lv_iload_n hx hb dX2_setLength_0 rfl (lv_at hl 1 rfl) ?_
  refine lv_i2l hx hb dX2_setLength_1 rfl ?_
  refine lv_lconst (v := lN 1) hx hb dX2_setLength_2 rfl ?_
  refine lv_ldc2 hx hb hown (hts _ q1062) dX2_setLength_3 ?_
  refine r_asl (z := lN 1000) rfl ?_
  refine ns_i (k := 3) (nr_S (As := [.long (Int32.toInt64 x), .long (lN 1), .long (lN 1000)]) (rest := []) hx hb hml hown hts (M_in l G (Int32.toInt64 x) (lN 1) (lN 1000)) nPs.blind 3 q999 q1000 q53 q1001 (by decide +kernel) ⟨⟨Nat.le_of_ble_eq_true rfl, Nat.le_of_ble_eq_true rfl⟩, Nat.le_of_ble_eq_true rfl, Nat.le_of_ble_eq_true rfl⟩ (nPs_of hG Z (fun k q h => by simp at h)) rfl hl.1 rfl (Nat.le_of_ble_eq_true rfl) dX2_setLength_6) (fun r6 hp6 => ?_)
  have he6 := hp6
  have he6 : r6 = bI (inL (Int32.toInt64 x) (lN 1) (lN 1000)) := he6
  subst he6
  refine r_as (z := bI (rng x 1 1000)) (by rw [inL_rng x (by decide) (by decide)]) ?_
  refine lv_if_ne (tgt := 15) hx hb dX2_setLength_9 (by decide) (fun c9 => ?_) (fun c9 => ?_)
  · skip
    have c9 := bI_t c9
    obtain ⟨k, k1, k2, ek⟩ := rng_t c9 (by decide)
    subst ek
    have hck : (nI k).toNatClampNeg = k := nI_clamp (by omega)
    refine lv_aload_n hx hb dX2_setLength_15 rfl (lv_at hl 0 rfl) ?_
    refine r_get (v := .ref (a 0)) hx hb hts in_X2 hown hG Z.w 0 rfl rfl 0 (by decide) q938 (fun _ h9 => h9) rfl dX2_setLength_16 ?_
    refine lv_iconst (v := nI 1) hx hb dX2_setLength_19 rfl ?_
    refine r_iald hx hb hG Z.w 1 rfl (j := 1) (by omega) (by decide) (v := nI S.1.2.2) ba.2.1 dX2_setLength_20 ?_
    refine lv_istore_n (lv' := [(2, .int (nI S.1.2.2)), (0, .ref q), (1, .int (nI k))]) hx hb dX2_setLength_21 rfl hl (by decide) rfl (fun ls hl => ?_)
    refine lv_iload_n hx hb dX2_setLength_22 rfl (lv_at hl 0 rfl) ?_
    refine lv_iload_n hx hb dX2_setLength_23 rfl (lv_at hl 2 rfl) ?_
    have hlen := so.1.2.1.2
    refine lv_icmp_ne (tgt := 30) hx hb dX2_setLength_24 (by decide) (fun c24 => ?_) (fun c24 => ?_)
    · skip
      have c24 := n_eq_f (a := S.1.2.2) (b := k) c24
      refine lv_aload_n hx hb dX2_setLength_30 rfl (lv_at hl 1 rfl) ?_
      refine nc_v (k := 3) (wcc := mW G q a wd all kept hist hlo snap tk bits reg exa text tl sp read rm nu deep src) (wr := []) (nr_V (As := []) (rest := []) hx hb hml hown hts ((M_remember l G q a wd all kept hist hlo snap tk bits reg exa text tl sp read rm nu deep src) _) nP.blind 0 q1009 q1011 qs17 q53 q1012 (by decide +kernel) ⟨⟨Nat.le_of_ble_eq_true rfl, Nat.le_of_ble_eq_true rfl⟩, Nat.le_of_ble_eq_true rfl, Nat.le_of_ble_eq_true rfl⟩ (r_recv hG Z.w 0 (C := "ShareStreamsModel") rfl rfl rfl) (nP_of hG Z [0, 1, 2, 3, 4, 5, 6, 7, 8, 9, 10, 11, 12] rfl (by decide) (fun k q h => by simp at h) nAp.nil) rfl hl.1 rfl (Nat.le_of_ble_eq_true rfl) dX2_setLength_31) Z [0, 1, 2, 3, 4, 5, 6, 7, 8, 9, 10, 11, 12] [] rfl rfl (by decide) (by decide) (fun u H locs hp31 Z => ?_)
      obtain ⟨kp_31, rfl⟩ : ∃ z, z = u := ⟨_, rfl⟩
      have hp31 : ∀ v_, v_ < 66 → kp_31 v_ = all v_ := hp31
      have Z : nW G A (mW G q a wd all kp_31 hist hlo snap tk bits reg exa text tl sp read rm nu deep src) ([]) ([]) s.heap _ _ := Z
      refine lv_aload_n hx hb dX2_setLength_34 rfl (lv_at hl 1 rfl) ?_
      refine r_get (v := .ref (a 0)) hx hb hts in_X2 hown hG Z.w 0 rfl rfl 0 (by decide) q938 (fun _ h9 => h9) rfl dX2_setLength_35 ?_
      refine lv_iconst (v := nI 1) hx hb dX2_setLength_38 rfl ?_
      refine lv_iload_n hx hb dX2_setLength_39 rfl (lv_at hl 2 rfl) ?_
      refine r_iast hx hb hG Z 1 rfl (j := 1) (by omega) (by decide) (wc' := mW G q a wd (upd all 1 (nI k)) kp_31 hist hlo snap tk bits reg exa text tl sp read rm nu deep src) rfl dX2_setLength_40 (fun H locs Z => ?_)
      refine lv_aload_n hx hb dX2_setLength_41 rfl (lv_at hl 1 rfl) ?_
      refine lv_iload_n hx hb dX2_setLength_42 rfl (lv_at hl 0 rfl) ?_
      refine nc_i (k := 3) (wcc := mW G q a wd (upd all 1 (nI k)) kp_31 hist hlo snap tk bits reg exa text tl sp read rm nu deep src) (wr := []) (nr_V (As := [.int (nI S.1.2.2)]) (rest := []) hx hb hml hown hts ((M_acted l G q a wd (upd all 1 (nI k)) kp_31 hist hlo snap tk bits reg exa text tl sp read rm nu deep src (nI S.1.2.2) S.2.1.length so.2.1.1 (by first | assumption | omega | rfl)) _) nP.blind 1 q1017 q1019 qs19 q53 q1020 (by decide +kernel) ⟨⟨Nat.le_of_ble_eq_true rfl, Nat.le_of_ble_eq_true rfl⟩, Nat.le_of_ble_eq_true rfl, Nat.le_of_ble_eq_true rfl⟩ (r_recv hG Z.w 0 (C := "ShareStreamsModel") rfl rfl rfl) (nP_of hG Z [0, 1, 2, 3, 4, 5, 6, 7, 8, 9, 10, 11, 12] rfl (by decide) (fun k q h => by simp at h) nAp.nil) rfl hl.1 rfl (Nat.le_of_ble_eq_true rfl) dX2_setLength_43) Z [0, 1, 2, 3, 4, 5, 6, 7, 8, 9, 10, 11, 12] [] rfl rfl (by decide) (by decide) (fun r43 u H locs hp43 Z => ?_)
      obtain ⟨hs_43, rfl⟩ : ∃ z, z = u := ⟨_, rfl⟩
      obtain ⟨he43, hp43⟩ := hp43
      have he43 : r43 = (nI S.1.2.2) := he43
      subst he43
      have hp43 : hsP S.2.1.length hist kp_31 hs_43 := hp43
      have Z : nW G A (mW G q a wd (upd all 1 (nI k)) kp_31 hs_43 (nI (acH S.2.1.length)) snap tk bits reg exa text tl sp read rm nu deep src) ([]) ([]) s.heap _ _ := Z
      have c25 : ¬ nI S.1.2.2 = nI k := fun h => c24 ((nI_eq (by have := so.1.2.1.2; omega) (by omega)).mp h)
      have es : spSetLen S (nI k) = (nI S.1.2.2, spAcc S (S.1.1, S.1.2.1, k)) := by simp [spSetLen, c9, c25, hck]
      exact ret (nI S.1.2.2) (upd all 1 (nI k), kp_31, hs_43, nI (acH S.2.1.length), snap, tk, bits, reg, exa, text, tl, sp, read, rm, nu, deep, src) dX2_setLength_46 (⟨(by rw [es]), (by rw [es]; exact mR_acc hM (beOk_len so.1 k1 k2) (bRow_len ba k) hp31 hp43)⟩) Z (Nat.le_of_ble_eq_true rfl) (Nat.le_of_ble_eq_true rfl)
    · skip
      have c24 := n_eq_t (a := S.1.2.2) (b := k) c24 (by omega) (by omega)
      refine lv_ldc hx hb hown (hts _ q1003) dX2_setLength_27 ?_
      have es : spSetLen S (nI k) = (cNONE, S) := by simp [spSetLen, c9, c24]
      exact ret (-100000005 : Int32) (all, kept, hist, hlo, snap, tk, bits, reg, exa, text, tl, sp, read, rm, nu, deep, src) dX2_setLength_29 (⟨(by rw [es]), (by rw [es]; exact hM)⟩) Z (Nat.le_of_ble_eq_true rfl) (Nat.le_of_ble_eq_true rfl)
  · skip
    have c9 := bI_f c9
    refine lv_ldc hx hb hown (hts _ q1021) dX2_setLength_12 ?_
    have es : spSetLen S x = (cBAD, S) := by simp [spSetLen, c9]
    exact ret (-100000002 : Int32) (all, kept, hist, hlo, snap, tk, bits, reg, exa, text, tl, sp, read, rm, nu, deep, src) dX2_setLength_14 (⟨(by rw [es]), (by rw [es]; exact hM)⟩) Z (Nat.le_of_ble_eq_true rfl) (Nat.le_of_ble_eq_true rfl)
set_option maxHeartbeats 4000000 in
set_option maxRecDepth 100000 in
theorem M_undo (l : Launch) (G : nG) (q : Nat) (a : Nat → Nat) (wd : Nat → Int64) (all : Nat → Int32) (kept : Nat → Int32) (hist : Nat → Int32) (hlo : Int32) (snap : Nat → Int32) (tk : Int32) (bits : Nat → Int32) (reg : Nat → Int32) (exa : Nat → Int32) (text : Nat → Int32) (tl : Int32) (sp : Int32) (read : Nat → Int32) (rm : Int32) (nu : Int32) (deep : Nat → Int32) (src : Nat → Int32) (S : oSt) (hM : mR S all hist hlo snap tk text tl) : nMi (S := (Nat → Int32) × (Nat → Int32) × (Nat → Int32) × Int32 × (Nat → Int32) × Int32 × (Nat → Int32) × (Nat → Int32) × (Nat → Int32) × (Nat → Int32) × Int32 × Int32 × (Nat → Int32) × Int32 × Int32 × (Nat → Int32) × (Nat → Int32)) l yX2_undo cX2_undo 2 (.int) 0 0 0 0 G [.ref q] (mW G q a wd all kept hist hlo snap tk bits reg exa text tl sp read rm nu deep src) ([]) (fun (u : (Nat → Int32) × (Nat → Int32) × (Nat → Int32) × Int32 × (Nat → Int32) × Int32 × (Nat → Int32) × (Nat → Int32) × (Nat → Int32) × (Nat → Int32) × Int32 × Int32 × (Nat → Int32) × Int32 × Int32 × (Nat → Int32) × (Nat → Int32)) => mW G q a wd u.1 u.2.1 u.2.2.1 u.2.2.2.1 u.2.2.2.2.1 u.2.2.2.2.2.1 u.2.2.2.2.2.2.1 u.2.2.2.2.2.2.2.1 u.2.2.2.2.2.2.2.2.1 u.2.2.2.2.2.2.2.2.2.1 u.2.2.2.2.2.2.2.2.2.2.1 u.2.2.2.2.2.2.2.2.2.2.2.1 u.2.2.2.2.2.2.2.2.2.2.2.2.1 u.2.2.2.2.2.2.2.2.2.2.2.2.2.1 u.2.2.2.2.2.2.2.2.2.2.2.2.2.2.1 u.2.2.2.2.2.2.2.2.2.2.2.2.2.2.2.1 u.2.2.2.2.2.2.2.2.2.2.2.2.2.2.2.2) (fun (r : Int32) (u : (Nat → Int32) × (Nat → Int32) × (Nat → Int32) × Int32 × (Nat → Int32) × Int32 × (Nat → Int32) × (Nat → Int32) × (Nat → Int32) × (Nat → Int32) × Int32 × Int32 × (Nat → Int32) × Int32 × Int32 × (Nat → Int32) × (Nat → Int32)) => r = ((spUndo S).1) ∧ mR (spUndo S).2 u.1 u.2.2.1 u.2.2.2.1 u.2.2.2.2.1 u.2.2.2.2.2.1 u.2.2.2.2.2.2.2.2.2.1 u.2.2.2.2.2.2.2.2.2.2.1) := by
  refine nMi.of (own := "ShareStreamsModel") rfl (by decide +kernel) (Nat.le_of_ble_eq_true rfl) (fun _ _ _ => rfl) ?_
  intro p e s m args below meth c A Q ls hx hb hml hown hts hin hG Z hl ret
  have hl : lv_has ls 2 [(0, .ref q)] := hl
  have Z : nW G A (mW G q a wd all kept hist hlo snap tk bits reg exa text tl sp read rm nu deep src) ([]) ([]) s.heap _ _ := Z
  obtain ⟨so, ba, ⟨eh, hh⟩, ⟨ek, sn⟩, et, tx⟩ := hM
  have hM : mR S all hist hlo snap tk text tl := ⟨so, ba, ⟨eh, hh⟩, ⟨ek, sn⟩, et, tx⟩
  have hn : S.1.1 ≤ 16 := so.1.1
  have ha : all 0 = nI S.1.1 := ba.1
  have h4 := so.2.1.1
  refine lv_aload_n hx hb dX2_undo_0 rfl (lv_at hl 0 rfl) ?_
  refine r_get (v := .int hlo) hx hb hts in_X2 hown hG Z.w 0 rfl rfl 3 (by decide) q941 (fun _ h9 => h9) rfl dX2_undo_1 ?_
  refine r_as (z := nI S.2.1.length) eh ?_
  refine lv_if_ne (tgt := 10) hx hb dX2_undo_4 (by decide) (fun c4 => ?_) (fun c4 => ?_)
  · skip
    have c4 := n_eq_f (a := S.2.1.length) (b := 0) c4
    refine lv_aload_n hx hb dX2_undo_10 rfl (lv_at hl 0 rfl) ?_
    refine lv_dup hx hb dX2_undo_11 rfl ?_
    refine r_get (v := .int hlo) hx hb hts in_X2 hown hG Z.w 0 rfl rfl 3 (by decide) q941 (fun _ h9 => h9) rfl dX2_undo_12 ?_
    refine r_as (z := nI S.2.1.length) eh ?_
    refine lv_iconst (v := nI 1) hx hb dX2_undo_15 rfl ?_
    refine lv_isub hx hb dX2_undo_16 ?_
    refine r_as (z := nI (S.2.1.length - 1)) (pk_sub (by omega)) ?_
    refine r_put (ty := .int) hx hb hts in_X2 tyX2 tyX2_ok nmX2 hown hG Z 0 rfl rfl 3 (by decide) q941 (fun _ h9 => h9) rfl (by decide +kernel) rfl rfl (Nat.le_of_ble_eq_true rfl) (wc' := mW G q a wd all kept hist (nI (S.2.1.length - 1)) snap tk bits reg exa text tl sp read rm nu deep src) rfl dX2_undo_17 (fun H locs Z => ?_)
    refine lv_iconst (v := nI 0) hx hb dX2_undo_20 rfl ?_
    refine lv_istore_n (lv' := [(1, .int (nI 0)), (0, .ref q)]) hx hb dX2_undo_21 rfl hl (by decide) rfl (fun ls hl => ?_)
    have L22 : ∀ (k_ : Nat) (i : Nat) (al : Nat → Int32) (g1 : i ≤ 66) (g2 : ∀ k, k < i → al k = hist (66 * (S.2.1.length - 1) + k)) (hk_ : 66 - i < k_) (H : Heap) (locs : List Loc), nW G A (mW G q a wd al kept hist (nI (S.2.1.length - 1)) snap tk bits reg exa text tl sp read rm nu deep src) ([]) ([]) s.heap H locs → ∀ (ls : Array Slot), lv_has ls 2 [(1, .int (nI i)), (0, .ref q)] → W p l e (nRm 0 0 0 0) s m args below meth c H locs 0 0 Q (F0 m 22 ls []) := by
      intro k_
      induction k_ with
      | zero => intro i al g1 g2 hk_; exact absurd hk_ (Nat.not_lt_zero _)
      | succ k_ ih_L22 =>
        intro i al g1 g2 hk_ H locs Z ls hl
        refine lv_iload_n hx hb dX2_undo_22 rfl (lv_at hl 0 rfl) ?_
        refine lv_bipush (v := nI 66) hx hb dX2_undo_23 rfl ?_
        refine lv_icmp_ge (tgt := 54) hx hb dX2_undo_25 (by decide) (fun c25 => ?_) (fun c25 => ?_)
        · skip
          have c25 := n_le_t (a := 66) (b := i) c25 (by decide) (by omega)
          refine lv_aload_n hx hb dX2_undo_54 rfl (lv_at hl 1 rfl) ?_
          refine r_get (v := .int (nI (S.2.1.length - 1))) hx hb hts in_X2 hown hG Z.w 0 rfl rfl 3 (by decide) q941 (fun _ h9 => h9) rfl dX2_undo_55 ?_
          have es := mR_undo hM c4 (fun k hk => g2 k (by omega))
          exact ret (nI (S.2.1.length - 1)) (al, kept, hist, nI (S.2.1.length - 1), snap, tk, bits, reg, exa, text, tl, sp, read, rm, nu, deep, src) dX2_undo_58 (⟨es.1.symm, es.2⟩) Z (Nat.le_of_ble_eq_true rfl) (Nat.le_of_ble_eq_true rfl)
        · skip
          have c25 := n_le_f (a := 66) (b := i) c25 (by decide) (by omega)
          refine lv_aload_n hx hb dX2_undo_28 rfl (lv_at hl 1 rfl) ?_
          refine r_get (v := .ref (a 0)) hx hb hts in_X2 hown hG Z.w 0 rfl rfl 0 (by decide) q938 (fun _ h9 => h9) rfl dX2_undo_29 ?_
          refine lv_iload_n hx hb dX2_undo_32 rfl (lv_at hl 0 rfl) ?_
          refine lv_aload_n hx hb dX2_undo_33 rfl (lv_at hl 1 rfl) ?_
          refine r_get (v := .ref (a 2)) hx hb hts in_X2 hown hG Z.w 0 rfl rfl 2 (by decide) q940 (fun _ h9 => h9) rfl dX2_undo_34 ?_
          refine lv_bipush (v := nI 66) hx hb dX2_undo_37 rfl ?_
          refine lv_aload_n hx hb dX2_undo_39 rfl (lv_at hl 1 rfl) ?_
          refine r_get (v := .int (nI (S.2.1.length - 1))) hx hb hts in_X2 hown hG Z.w 0 rfl rfl 3 (by decide) q941 (fun _ h9 => h9) rfl dX2_undo_40 ?_
          refine lv_imul hx hb dX2_undo_43 ?_
          refine r_as (z := nI (66 * (S.2.1.length - 1))) (pk_mul _ _) ?_
          refine lv_iload_n hx hb dX2_undo_44 rfl (lv_at hl 0 rfl) ?_
          refine lv_iadd hx hb dX2_undo_45 ?_
          refine r_as (z := nI (66 * (S.2.1.length - 1) + i)) (nI_add _ _) ?_
          refine r_iald hx hb hG Z.w 3 rfl (j := 66 * (S.2.1.length - 1) + i) (by omega) (by decide) (v := hist (66 * (S.2.1.length - 1) + i)) rfl dX2_undo_46 ?_
          refine r_iast hx hb hG Z 1 rfl (j := i) (by omega) (by decide) (wc' := mW G q a wd (upd al i (hist (66 * (S.2.1.length - 1) + i))) kept hist (nI (S.2.1.length - 1)) snap tk bits reg exa text tl sp read rm nu deep src) rfl dX2_undo_47 (fun H locs Z => ?_)
          refine lv_iinc (v := nI (i + 1)) (lv' := [(1, .int (nI (i + 1))), (0, .ref q)]) hx hb dX2_undo_48 hl (k := 0) rfl (nI_add _ _) (by decide) rfl (fun ls hl => ?_)
          refine lv_goto (tgt := 22) hx hb dX2_undo_51 (by decide) ?_
          exact ih_L22 (i + 1) (upd al i (hist (66 * (S.2.1.length - 1) + i))) (by omega) (by first | (intro k hk; omega) | exact cpy_s (g := fun k => hist (66 * (S.2.1.length - 1) + k)) g2 rfl) (by omega) _ _ Z _ (lv_sub hl [0, 1] rfl)
    exact L22 _ 0 all (by omega) (by first | (intro k hk; omega) | exact cpy_s (g := fun k => hist (66 * (S.2.1.length - 1) + k)) g2 rfl) (Nat.lt_succ_self _) _ _ Z _ (lv_sub hl [0, 1] rfl)
  · skip
    have c4 := n_eq_t (a := S.2.1.length) (b := 0) c4 (by omega) (by decide)
    refine lv_ldc hx hb hown (hts _ q1003) dX2_undo_7 ?_
    have es : spUndo S = (cNONE, S) := by have h0 : S.2.1 = [] := List.eq_nil_of_length_eq_zero c4; simp [spUndo, h0]
    exact ret (-100000005 : Int32) (all, kept, hist, hlo, snap, tk, bits, reg, exa, text, tl, sp, read, rm, nu, deep, src) dX2_undo_9 (⟨(by rw [es]), (by rw [es]; exact hM)⟩) Z (Nat.le_of_ble_eq_true rfl) (Nat.le_of_ble_eq_true rfl)
set_option maxHeartbeats 4000000 in
set_option maxRecDepth 100000 in
theorem M_keep (l : Launch) (G : nG) (q : Nat) (a : Nat → Nat) (wd : Nat → Int64) (all : Nat → Int32) (kept : Nat → Int32) (hist : Nat → Int32) (hlo : Int32) (snap : Nat → Int32) (tk : Int32) (bits : Nat → Int32) (reg : Nat → Int32) (exa : Nat → Int32) (text : Nat → Int32) (tl : Int32) (sp : Int32) (read : Nat → Int32) (rm : Int32) (nu : Int32) (deep : Nat → Int32) (src : Nat → Int32) (S : oSt) (hM : mR S all hist hlo snap tk text tl) : nMi (S := (Nat → Int32) × (Nat → Int32) × (Nat → Int32) × Int32 × (Nat → Int32) × Int32 × (Nat → Int32) × (Nat → Int32) × (Nat → Int32) × (Nat → Int32) × Int32 × Int32 × (Nat → Int32) × Int32 × Int32 × (Nat → Int32) × (Nat → Int32)) l yX2_keep cX2_keep 2 (.int) 0 0 0 0 G [.ref q] (mW G q a wd all kept hist hlo snap tk bits reg exa text tl sp read rm nu deep src) ([]) (fun (u : (Nat → Int32) × (Nat → Int32) × (Nat → Int32) × Int32 × (Nat → Int32) × Int32 × (Nat → Int32) × (Nat → Int32) × (Nat → Int32) × (Nat → Int32) × Int32 × Int32 × (Nat → Int32) × Int32 × Int32 × (Nat → Int32) × (Nat → Int32)) => mW G q a wd u.1 u.2.1 u.2.2.1 u.2.2.2.1 u.2.2.2.2.1 u.2.2.2.2.2.1 u.2.2.2.2.2.2.1 u.2.2.2.2.2.2.2.1 u.2.2.2.2.2.2.2.2.1 u.2.2.2.2.2.2.2.2.2.1 u.2.2.2.2.2.2.2.2.2.2.1 u.2.2.2.2.2.2.2.2.2.2.2.1 u.2.2.2.2.2.2.2.2.2.2.2.2.1 u.2.2.2.2.2.2.2.2.2.2.2.2.2.1 u.2.2.2.2.2.2.2.2.2.2.2.2.2.2.1 u.2.2.2.2.2.2.2.2.2.2.2.2.2.2.2.1 u.2.2.2.2.2.2.2.2.2.2.2.2.2.2.2.2) (fun (r : Int32) (u : (Nat → Int32) × (Nat → Int32) × (Nat → Int32) × Int32 × (Nat → Int32) × Int32 × (Nat → Int32) × (Nat → Int32) × (Nat → Int32) × (Nat → Int32) × Int32 × Int32 × (Nat → Int32) × Int32 × Int32 × (Nat → Int32) × (Nat → Int32)) => r = ((spKeep S).1) ∧ mR (spKeep S).2 u.1 u.2.2.1 u.2.2.2.1 u.2.2.2.2.1 u.2.2.2.2.2.1 u.2.2.2.2.2.2.2.2.2.1 u.2.2.2.2.2.2.2.2.2.2.1) := by
  refine nMi.of (own := "ShareStreamsModel") rfl (by decide +kernel) (Nat.le_of_ble_eq_true rfl) (fun _ _ _ => rfl) ?_
  intro p e s m args below meth c A Q ls hx hb hml hown hts hin hG Z hl ret
  have hl : lv_has ls 2 [(0, .ref q)] := hl
  have Z : nW G A (mW G q a wd all kept hist hlo snap tk bits reg exa text tl sp read rm nu deep src) ([]) ([]) s.heap _ _ := Z
  obtain ⟨so, ba, ⟨eh, hh⟩, ⟨ek, sn⟩, et, tx⟩ := hM
  have hM : mR S all hist hlo snap tk text tl := ⟨so, ba, ⟨eh, hh⟩, ⟨ek, sn⟩, et, tx⟩
  have hn : S.1.1 ≤ 16 := so.1.1
  have ha : all 0 = nI S.1.1 := ba.1
  refine lv_iconst (v := nI 0) hx hb dX2_keep_0 rfl ?_
  refine lv_istore_n (lv' := [(1, .int (nI 0)), (0, .ref q)]) hx hb dX2_keep_1 rfl hl (by decide) rfl (fun ls hl => ?_)
  have L2 : ∀ (k_ : Nat) (i : Nat) (sn1 : Nat → Int32) (g1 : i ≤ 66) (g2 : ∀ k, k < i → sn1 k = all k) (hk_ : 66 - i < k_) (H : Heap) (locs : List Loc), nW G A (mW G q a wd all kept hist hlo sn1 tk bits reg exa text tl sp read rm nu deep src) ([]) ([]) s.heap H locs → ∀ (ls : Array Slot), lv_has ls 2 [(1, .int (nI i)), (0, .ref q)] → W p l e (nRm 0 0 0 0) s m args below meth c H locs 0 0 Q (F0 m 2 ls []) := by
    intro k_
    induction k_ with
    | zero => intro i sn1 g1 g2 hk_; exact absurd hk_ (Nat.not_lt_zero _)
    | succ k_ ih_L2 =>
      intro i sn1 g1 g2 hk_ H locs Z ls hl
      refine lv_iload_n hx hb dX2_keep_2 rfl (lv_at hl 0 rfl) ?_
      refine lv_bipush (v := nI 66) hx hb dX2_keep_3 rfl ?_
      refine lv_icmp_ge (tgt := 26) hx hb dX2_keep_5 (by decide) (fun c5 => ?_) (fun c5 => ?_)
      · skip
        have c5 := n_le_t (a := 66) (b := i) c5 (by decide) (by omega)
        refine lv_aload_n hx hb dX2_keep_26 rfl (lv_at hl 1 rfl) ?_
        refine lv_iconst (v := nI 1) hx hb dX2_keep_27 rfl ?_
        refine r_put (ty := .int) hx hb hts in_X2 tyX2 tyX2_ok nmX2 hown hG Z 0 rfl rfl 5 (by decide) q943 (fun _ h9 => h9) rfl (by decide +kernel) rfl rfl (Nat.le_of_ble_eq_true rfl) (wc' := mW G q a wd all kept hist hlo sn1 (nI 1) bits reg exa text tl sp read rm nu deep src) rfl dX2_keep_28 (fun H locs Z => ?_)
        refine lv_aload_n hx hb dX2_keep_31 rfl (lv_at hl 1 rfl) ?_
        refine r_get (v := .ref (a 0)) hx hb hts in_X2 hown hG Z.w 0 rfl rfl 0 (by decide) q938 (fun _ h9 => h9) rfl dX2_keep_32 ?_
        refine lv_iconst (v := nI 0) hx hb dX2_keep_35 rfl ?_
        refine r_iald hx hb hG Z.w 1 rfl (j := 0) (by omega) (by decide) (v := nI S.1.1) ha dX2_keep_36 ?_
        exact ret (nI S.1.1) (all, kept, hist, hlo, sn1, nI 1, bits, reg, exa, text, tl, sp, read, rm, nu, deep, src) dX2_keep_37 (⟨rfl, (mR_keep hM (fun k hk => g2 k (by omega)))⟩) Z (Nat.le_of_ble_eq_true rfl) (Nat.le_of_ble_eq_true rfl)
      · skip
        have c5 := n_le_f (a := 66) (b := i) c5 (by decide) (by omega)
        refine lv_aload_n hx hb dX2_keep_8 rfl (lv_at hl 1 rfl) ?_
        refine r_get (v := .ref (a 3)) hx hb hts in_X2 hown hG Z.w 0 rfl rfl 4 (by decide) q942 (fun _ h9 => h9) rfl dX2_keep_9 ?_
        refine lv_iload_n hx hb dX2_keep_12 rfl (lv_at hl 0 rfl) ?_
        refine lv_aload_n hx hb dX2_keep_13 rfl (lv_at hl 1 rfl) ?_
        refine r_get (v := .ref (a 0)) hx hb hts in_X2 hown hG Z.w 0 rfl rfl 0 (by decide) q938 (fun _ h9 => h9) rfl dX2_keep_14 ?_
        refine lv_iload_n hx hb dX2_keep_17 rfl (lv_at hl 0 rfl) ?_
        refine r_iald hx hb hG Z.w 1 rfl (j := i) (by omega) (by decide) (v := all i) rfl dX2_keep_18 ?_
        refine r_iast hx hb hG Z 4 rfl (j := i) (by omega) (by decide) (wc' := mW G q a wd all kept hist hlo (upd sn1 i (all i)) tk bits reg exa text tl sp read rm nu deep src) rfl dX2_keep_19 (fun H locs Z => ?_)
        refine lv_iinc (v := nI (i + 1)) (lv' := [(1, .int (nI (i + 1))), (0, .ref q)]) hx hb dX2_keep_20 hl (k := 0) rfl (nI_add _ _) (by decide) rfl (fun ls hl => ?_)
        refine lv_goto (tgt := 2) hx hb dX2_keep_23 (by decide) ?_
        exact ih_L2 (i + 1) (upd sn1 i (all i)) (by omega) (by first | (intro k hk; omega) | exact cpy_s g2 rfl) (by omega) _ _ Z _ (lv_sub hl [0, 1] rfl)
  exact L2 _ 0 snap (by omega) (by first | (intro k hk; omega) | exact cpy_s g2 rfl) (Nat.lt_succ_self _) _ _ Z _ (lv_sub hl [0, 1] rfl)
set_option maxHeartbeats 4000000 in
set_option maxRecDepth 100000 in
theorem M_restore (l : Launch) (G : nG) (q : Nat) (a : Nat → Nat) (wd : Nat → Int64) (all : Nat → Int32) (kept : Nat → Int32) (hist : Nat → Int32) (hlo : Int32) (snap : Nat → Int32) (tk : Int32) (bits : Nat → Int32) (reg : Nat → Int32) (exa : Nat → Int32) (text : Nat → Int32) (tl : Int32) (sp : Int32) (read : Nat → Int32) (rm : Int32) (nu : Int32) (deep : Nat → Int32) (src : Nat → Int32) (S : oSt) (hM : mR S all hist hlo snap tk text tl) : nMi (S := (Nat → Int32) × (Nat → Int32) × (Nat → Int32) × Int32 × (Nat → Int32) × Int32 × (Nat → Int32) × (Nat → Int32) × (Nat → Int32) × (Nat → Int32) × Int32 × Int32 × (Nat → Int32) × Int32 × Int32 × (Nat → Int32) × (Nat → Int32)) l yX2_restore cX2_restore 2 (.int) 1 0 0 22 G [.ref q] (mW G q a wd all kept hist hlo snap tk bits reg exa text tl sp read rm nu deep src) ([]) (fun (u : (Nat → Int32) × (Nat → Int32) × (Nat → Int32) × Int32 × (Nat → Int32) × Int32 × (Nat → Int32) × (Nat → Int32) × (Nat → Int32) × (Nat → Int32) × Int32 × Int32 × (Nat → Int32) × Int32 × Int32 × (Nat → Int32) × (Nat → Int32)) => mW G q a wd u.1 u.2.1 u.2.2.1 u.2.2.2.1 u.2.2.2.2.1 u.2.2.2.2.2.1 u.2.2.2.2.2.2.1 u.2.2.2.2.2.2.2.1 u.2.2.2.2.2.2.2.2.1 u.2.2.2.2.2.2.2.2.2.1 u.2.2.2.2.2.2.2.2.2.2.1 u.2.2.2.2.2.2.2.2.2.2.2.1 u.2.2.2.2.2.2.2.2.2.2.2.2.1 u.2.2.2.2.2.2.2.2.2.2.2.2.2.1 u.2.2.2.2.2.2.2.2.2.2.2.2.2.2.1 u.2.2.2.2.2.2.2.2.2.2.2.2.2.2.2.1 u.2.2.2.2.2.2.2.2.2.2.2.2.2.2.2.2) (fun (r : Int32) (u : (Nat → Int32) × (Nat → Int32) × (Nat → Int32) × Int32 × (Nat → Int32) × Int32 × (Nat → Int32) × (Nat → Int32) × (Nat → Int32) × (Nat → Int32) × Int32 × Int32 × (Nat → Int32) × Int32 × Int32 × (Nat → Int32) × (Nat → Int32)) => r = ((spRestore S).1) ∧ mR (spRestore S).2 u.1 u.2.2.1 u.2.2.2.1 u.2.2.2.2.1 u.2.2.2.2.2.1 u.2.2.2.2.2.2.2.2.2.1 u.2.2.2.2.2.2.2.2.2.2.1) := by
  refine nMi.of (own := "ShareStreamsModel") rfl (by decide +kernel) (Nat.le_of_ble_eq_true rfl) (fun _ _ _ => rfl) ?_
  intro p e s m args below meth c A Q ls hx hb hml hown hts hin hG Z hl ret
  have hl : lv_has ls 2 [(0, .ref q)] := hl
  have Z : nW G A (mW G q a wd all kept hist hlo snap tk bits reg exa text tl sp read rm nu deep src) ([]) ([]) s.heap _ _ := Z
  obtain ⟨so, ba, ⟨eh, hh⟩, ⟨ek, sn⟩, et, tx⟩ := hM
  have hM : mR S all hist hlo snap tk text tl := ⟨so, ba, ⟨eh, hh⟩, ⟨ek, sn⟩, et, tx⟩
  have hn : S.1.1 ≤ 16 := so.1.1
  have ha : all 0 = nI S.1.1 := ba.1
  refine lv_aload_n hx hb dX2_restore_0 rfl (lv_at hl 0 rfl) ?_
  refine r_get (v := .int tk) hx hb hts in_X2 hown hG Z.w 0 rfl rfl 5 (by decide) q943 (fun _ h9 => h9) rfl dX2_restore_1 ?_
  refine r_as (z := nI (tkN S.2.2.1)) ek ?_
  have htk : tkN S.2.2.1 ≤ 1 := by cases S.2.2.1 <;> simp [tkN]
  refine lv_if_ne (tgt := 10) hx hb dX2_restore_4 (by decide) (fun c4 => ?_) (fun c4 => ?_)
  · skip
    have c4 := n_eq_f (a := tkN S.2.2.1) (b := 0) c4
    obtain ⟨b, eb⟩ : ∃ b, S.2.2.1 = some b := by cases h : S.2.2.1 with | none => rw [h] at c4; exact absurd rfl c4 | some b => exact ⟨b, rfl⟩
    refine lv_aload_n hx hb dX2_restore_10 rfl (lv_at hl 0 rfl) ?_
    refine nc_v (k := 3) (wcc := mW G q a wd all kept hist hlo snap tk bits reg exa text tl sp read rm nu deep src) (wr := []) (nr_V (As := []) (rest := []) hx hb hml hown hts ((M_remember l G q a wd all kept hist hlo snap tk bits reg exa text tl sp read rm nu deep src) _) nP.blind 0 q1009 q1011 qs17 q53 q1012 (by decide +kernel) ⟨⟨Nat.le_of_ble_eq_true rfl, Nat.le_of_ble_eq_true rfl⟩, Nat.le_of_ble_eq_true rfl, Nat.le_of_ble_eq_true rfl⟩ (r_recv hG Z.w 0 (C := "ShareStreamsModel") rfl rfl rfl) (nP_of hG Z [0, 1, 2, 3, 4, 5, 6, 7, 8, 9, 10, 11, 12] rfl (by decide) (fun k q h => by simp at h) nAp.nil) rfl hl.1 rfl (Nat.le_of_ble_eq_true rfl) dX2_restore_11) Z [0, 1, 2, 3, 4, 5, 6, 7, 8, 9, 10, 11, 12] [] rfl rfl (by decide) (by decide) (fun u H locs hp11 Z => ?_)
    obtain ⟨kp_11, rfl⟩ : ∃ z, z = u := ⟨_, rfl⟩
    have hp11 : ∀ v_, v_ < 66 → kp_11 v_ = all v_ := hp11
    have Z : nW G A (mW G q a wd all kp_11 hist hlo snap tk bits reg exa text tl sp read rm nu deep src) ([]) ([]) s.heap _ _ := Z
    refine lv_iconst (v := nI 0) hx hb dX2_restore_14 rfl ?_
    refine lv_istore_n (lv' := [(1, .int (nI 0)), (0, .ref q)]) hx hb dX2_restore_15 rfl hl (by decide) rfl (fun ls hl => ?_)
    have L16 : ∀ (k_ : Nat) (i : Nat) (al : Nat → Int32) (g1 : i ≤ 66) (g2 : ∀ k, k < i → al k = snap k) (hk_ : 66 - i < k_) (H : Heap) (locs : List Loc), nW G A (mW G q a wd al kp_11 hist hlo snap tk bits reg exa text tl sp read rm nu deep src) ([]) ([]) s.heap H locs → ∀ (ls : Array Slot), lv_has ls 2 [(1, .int (nI i)), (0, .ref q)] → W p l e (nRm 1 0 0 22) s m args below meth c H locs 0 0 Q (F0 m 16 ls []) := by
      intro k_
      induction k_ with
      | zero => intro i al g1 g2 hk_; exact absurd hk_ (Nat.not_lt_zero _)
      | succ k_ ih_L16 =>
        intro i al g1 g2 hk_ H locs Z ls hl
        refine lv_iload_n hx hb dX2_restore_16 rfl (lv_at hl 0 rfl) ?_
        refine lv_bipush (v := nI 66) hx hb dX2_restore_17 rfl ?_
        refine lv_icmp_ge (tgt := 40) hx hb dX2_restore_19 (by decide) (fun c19 => ?_) (fun c19 => ?_)
        · skip
          have c19 := n_le_t (a := 66) (b := i) c19 (by decide) (by omega)
          refine lv_aload_n hx hb dX2_restore_40 rfl (lv_at hl 1 rfl) ?_
          refine lv_aload_n hx hb dX2_restore_41 rfl (lv_at hl 1 rfl) ?_
          refine r_get (v := .ref (a 0)) hx hb hts in_X2 hown hG Z.w 0 rfl rfl 0 (by decide) q938 (fun _ h9 => h9) rfl dX2_restore_42 ?_
          refine lv_iconst (v := nI 0) hx hb dX2_restore_45 rfl ?_
          refine r_iald hx hb hG Z.w 1 rfl (j := 0) (by omega) (by decide) (v := nI b.1) ((g2 0 (by omega)).trans (sn b eb).1) dX2_restore_46 ?_
          refine nc_i (k := 3) (wcc := mW G q a wd al kp_11 hist hlo snap tk bits reg exa text tl sp read rm nu deep src) (wr := []) (nr_V (As := [.int (nI b.1)]) (rest := []) hx hb hml hown hts ((M_acted l G q a wd al kp_11 hist hlo snap tk bits reg exa text tl sp read rm nu deep src (nI b.1) S.2.1.length so.2.1.1 (by first | assumption | omega | rfl)) _) nP.blind 1 q1017 q1019 qs19 q53 q1020 (by decide +kernel) ⟨⟨Nat.le_of_ble_eq_true rfl, Nat.le_of_ble_eq_true rfl⟩, Nat.le_of_ble_eq_true rfl, Nat.le_of_ble_eq_true rfl⟩ (r_recv hG Z.w 0 (C := "ShareStreamsModel") rfl rfl rfl) (nP_of hG Z [0, 1, 2, 3, 4, 5, 6, 7, 8, 9, 10, 11, 12] rfl (by decide) (fun k q h => by simp at h) nAp.nil) rfl hl.1 rfl (Nat.le_of_ble_eq_true rfl) dX2_restore_47) Z [0, 1, 2, 3, 4, 5, 6, 7, 8, 9, 10, 11, 12] [] rfl rfl (by decide) (by decide) (fun r47 u H locs hp47 Z => ?_)
          obtain ⟨hs_47, rfl⟩ : ∃ z, z = u := ⟨_, rfl⟩
          obtain ⟨he47, hp47⟩ := hp47
          have he47 : r47 = (nI b.1) := he47
          subst he47
          have hp47 : hsP S.2.1.length hist kp_11 hs_47 := hp47
          have Z : nW G A (mW G q a wd al kp_11 hs_47 (nI (acH S.2.1.length)) snap tk bits reg exa text tl sp read rm nu deep src) ([]) ([]) s.heap _ _ := Z
          have es : spRestore S = (nI b.1, spAcc S b) := by simp [spRestore, eb]
          exact ret (nI b.1) (al, kp_11, hs_47, nI (acH S.2.1.length), snap, tk, bits, reg, exa, text, tl, sp, read, rm, nu, deep, src) dX2_restore_50 (⟨(by rw [es]), (by rw [es]; exact mR_acc hM (so.2.2.1 b eb) (bRow_to (sn b eb) (so.2.2.1 b eb).1 (fun k hk => g2 k (by omega))) hp11 hp47)⟩) Z (Nat.le_of_ble_eq_true rfl) (Nat.le_of_ble_eq_true rfl)
        · skip
          have c19 := n_le_f (a := 66) (b := i) c19 (by decide) (by omega)
          refine lv_aload_n hx hb dX2_restore_22 rfl (lv_at hl 1 rfl) ?_
          refine r_get (v := .ref (a 0)) hx hb hts in_X2 hown hG Z.w 0 rfl rfl 0 (by decide) q938 (fun _ h9 => h9) rfl dX2_restore_23 ?_
          refine lv_iload_n hx hb dX2_restore_26 rfl (lv_at hl 0 rfl) ?_
          refine lv_aload_n hx hb dX2_restore_27 rfl (lv_at hl 1 rfl) ?_
          refine r_get (v := .ref (a 3)) hx hb hts in_X2 hown hG Z.w 0 rfl rfl 4 (by decide) q942 (fun _ h9 => h9) rfl dX2_restore_28 ?_
          refine lv_iload_n hx hb dX2_restore_31 rfl (lv_at hl 0 rfl) ?_
          refine r_iald hx hb hG Z.w 4 rfl (j := i) (by omega) (by decide) (v := snap i) rfl dX2_restore_32 ?_
          refine r_iast hx hb hG Z 1 rfl (j := i) (by omega) (by decide) (wc' := mW G q a wd (upd al i (snap i)) kp_11 hist hlo snap tk bits reg exa text tl sp read rm nu deep src) rfl dX2_restore_33 (fun H locs Z => ?_)
          refine lv_iinc (v := nI (i + 1)) (lv' := [(1, .int (nI (i + 1))), (0, .ref q)]) hx hb dX2_restore_34 hl (k := 0) rfl (nI_add _ _) (by decide) rfl (fun ls hl => ?_)
          refine lv_goto (tgt := 16) hx hb dX2_restore_37 (by decide) ?_
          exact ih_L16 (i + 1) (upd al i (snap i)) (by omega) (by first | (intro k hk; omega) | exact cpy_s g2 rfl) (by omega) _ _ Z _ (lv_sub hl [0, 1] rfl)
    exact L16 _ 0 all (by omega) (by first | (intro k hk; omega) | exact cpy_s g2 rfl) (Nat.lt_succ_self _) _ _ Z _ (lv_sub hl [0, 1] rfl)
  · skip
    have c4 := n_eq_t (a := tkN S.2.2.1) (b := 0) c4 (by omega) (by decide)
    refine lv_ldc hx hb hown (hts _ q1003) dX2_restore_7 ?_
    have es : spRestore S = (cNONE, S) := by have h0 : S.2.2.1 = none := by { cases h : S.2.2.1 with | none => rfl | some b => rw [h] at c4; simp [tkN] at c4 }; simp [spRestore, h0]
    exact ret (-100000005 : Int32) (all, kept, hist, hlo, snap, tk, bits, reg, exa, text, tl, sp, read, rm, nu, deep, src) dX2_restore_9 (⟨(by rw [es]), (by rw [es]; exact hM)⟩) Z (Nat.le_of_ble_eq_true rfl) (Nat.le_of_ble_eq_true rfl)
set_option maxHeartbeats 4000000 in
set_option maxRecDepth 100000 in
theorem M_type (l : Launch) (G : nG) (q : Nat) (a : Nat → Nat) (wd : Nat → Int64) (all : Nat → Int32) (kept : Nat → Int32) (hist : Nat → Int32) (hlo : Int32) (snap : Nat → Int32) (tk : Int32) (bits : Nat → Int32) (reg : Nat → Int32) (exa : Nat → Int32) (text : Nat → Int32) (tl : Int32) (sp : Int32) (read : Nat → Int32) (rm : Int32) (nu : Int32) (deep : Nat → Int32) (src : Nat → Int32) (S : oSt) (ch : Nat) (hM : mR S all hist hlo snap tk text tl) (hch : ch < 65536) : nMi (S := (Nat → Int32) × (Nat → Int32) × (Nat → Int32) × Int32 × (Nat → Int32) × Int32 × (Nat → Int32) × (Nat → Int32) × (Nat → Int32) × (Nat → Int32) × Int32 × Int32 × (Nat → Int32) × Int32 × Int32 × (Nat → Int32) × (Nat → Int32)) l yX2_type cX2_type 2 (.int) 0 0 0 0 G [.ref q, .int (nI ch)] (mW G q a wd all kept hist hlo snap tk bits reg exa text tl sp read rm nu deep src) ([]) (fun (u : (Nat → Int32) × (Nat → Int32) × (Nat → Int32) × Int32 × (Nat → Int32) × Int32 × (Nat → Int32) × (Nat → Int32) × (Nat → Int32) × (Nat → Int32) × Int32 × Int32 × (Nat → Int32) × Int32 × Int32 × (Nat → Int32) × (Nat → Int32)) => mW G q a wd u.1 u.2.1 u.2.2.1 u.2.2.2.1 u.2.2.2.2.1 u.2.2.2.2.2.1 u.2.2.2.2.2.2.1 u.2.2.2.2.2.2.2.1 u.2.2.2.2.2.2.2.2.1 u.2.2.2.2.2.2.2.2.2.1 u.2.2.2.2.2.2.2.2.2.2.1 u.2.2.2.2.2.2.2.2.2.2.2.1 u.2.2.2.2.2.2.2.2.2.2.2.2.1 u.2.2.2.2.2.2.2.2.2.2.2.2.2.1 u.2.2.2.2.2.2.2.2.2.2.2.2.2.2.1 u.2.2.2.2.2.2.2.2.2.2.2.2.2.2.2.1 u.2.2.2.2.2.2.2.2.2.2.2.2.2.2.2.2) (fun (r : Int32) (u : (Nat → Int32) × (Nat → Int32) × (Nat → Int32) × Int32 × (Nat → Int32) × Int32 × (Nat → Int32) × (Nat → Int32) × (Nat → Int32) × (Nat → Int32) × Int32 × Int32 × (Nat → Int32) × Int32 × Int32 × (Nat → Int32) × (Nat → Int32)) => r = ((spType S ch).1) ∧ mR (spType S ch).2 u.1 u.2.2.1 u.2.2.2.1 u.2.2.2.2.1 u.2.2.2.2.2.1 u.2.2.2.2.2.2.2.2.2.1 u.2.2.2.2.2.2.2.2.2.2.1) := by
  refine nMi.of (own := "ShareStreamsModel") rfl (by decide +kernel) (Nat.le_of_ble_eq_true rfl) (fun _ _ _ => rfl) ?_
  intro p e s m args below meth c A Q ls hx hb hml hown hts hin hG Z hl ret
  have hl : lv_has ls 2 [(0, .ref q), (1, .int (nI ch))] := hl
  have Z : nW G A (mW G q a wd all kept hist hlo snap tk bits reg exa text tl sp read rm nu deep src) ([]) ([]) s.heap _ _ := Z
  obtain ⟨so, ba, ⟨eh, hh⟩, ⟨ek, sn⟩, et, tx⟩ := hM
  have hM : mR S all hist hlo snap tk text tl := ⟨so, ba, ⟨eh, hh⟩, ⟨ek, sn⟩, et, tx⟩
  have hn : S.1.1 ≤ 16 := so.1.1
  have ha : all 0 = nI S.1.1 := ba.1
  have htl := so.2.2.2.1
  refine lv_aload_n hx hb dX2_type_0 rfl (lv_at hl 0 rfl) ?_
  refine r_get (v := .int tl) hx hb hts in_X2 hown hG Z.w 0 rfl rfl 11 (by decide) q949 (fun _ h9 => h9) rfl dX2_type_1 ?_
  refine r_as (z := nI S.2.2.2.length) et ?_
  refine lv_bipush (v := nI 80) hx hb dX2_type_4 rfl ?_
  refine lv_icmp_ne (tgt := 12) hx hb dX2_type_6 (by decide) (fun c6 => ?_) (fun c6 => ?_)
  · skip
    have c6 := n_eq_f (a := S.2.2.2.length) (b := 80) c6
    have c7 : S.2.2.2.length < 80 := by omega
    refine lv_aload_n hx hb dX2_type_12 rfl (lv_at hl 0 rfl) ?_
    refine r_get (v := .ref (a 8)) hx hb hts in_X2 hown hG Z.w 0 rfl rfl 10 (by decide) q948 (fun _ h9 => h9) rfl dX2_type_13 ?_
    refine lv_aload_n hx hb dX2_type_16 rfl (lv_at hl 0 rfl) ?_
    refine r_get (v := .int tl) hx hb hts in_X2 hown hG Z.w 0 rfl rfl 11 (by decide) q949 (fun _ h9 => h9) rfl dX2_type_17 ?_
    refine r_as (z := nI S.2.2.2.length) et ?_
    refine lv_iload_n hx hb dX2_type_20 rfl (lv_at hl 1 rfl) ?_
    refine r_iast hx hb hG Z 9 rfl (j := S.2.2.2.length) (by omega) (by decide) (wc' := mW G q a wd all kept hist hlo snap tk bits reg exa (upd text S.2.2.2.length (nI ch)) tl sp read rm nu deep src) rfl dX2_type_21 (fun H locs Z => ?_)
    refine lv_aload_n hx hb dX2_type_22 rfl (lv_at hl 0 rfl) ?_
    refine lv_dup hx hb dX2_type_23 rfl ?_
    refine r_get (v := .int tl) hx hb hts in_X2 hown hG Z.w 0 rfl rfl 11 (by decide) q949 (fun _ h9 => h9) rfl dX2_type_24 ?_
    refine r_as (z := nI S.2.2.2.length) et ?_
    refine lv_iconst (v := nI 1) hx hb dX2_type_27 rfl ?_
    refine lv_iadd hx hb dX2_type_28 ?_
    refine r_as (z := nI (S.2.2.2.length + 1)) (nI_add _ _) ?_
    refine r_put (ty := .int) hx hb hts in_X2 tyX2 tyX2_ok nmX2 hown hG Z 0 rfl rfl 11 (by decide) q949 (fun _ h9 => h9) rfl (by decide +kernel) rfl rfl (Nat.le_of_ble_eq_true rfl) (wc' := mW G q a wd all kept hist hlo snap tk bits reg exa (upd text S.2.2.2.length (nI ch)) (nI (S.2.2.2.length + 1)) sp read rm nu deep src) rfl dX2_type_29 (fun H locs Z => ?_)
    refine lv_aload_n hx hb dX2_type_32 rfl (lv_at hl 0 rfl) ?_
    refine r_get (v := .int (nI (S.2.2.2.length + 1))) hx hb hts in_X2 hown hG Z.w 0 rfl rfl 11 (by decide) q949 (fun _ h9 => h9) rfl dX2_type_33 ?_
    have es : spType S ch = (nI (S.2.2.2.length + 1), (S.1, S.2.1, S.2.2.1, S.2.2.2 ++ [ch])) := by simp [spType, c6]
    exact ret (nI (S.2.2.2.length + 1)) (all, kept, hist, hlo, snap, tk, bits, reg, exa, upd text S.2.2.2.length (nI ch), nI (S.2.2.2.length + 1), sp, read, rm, nu, deep, src) dX2_type_36 (⟨(by rw [es]), (by rw [es]; exact mR_type hM c7 hch)⟩) Z (Nat.le_of_ble_eq_true rfl) (Nat.le_of_ble_eq_true rfl)
  · skip
    have c6 := n_eq_t (a := S.2.2.2.length) (b := 80) c6 (by omega) (by decide)
    refine lv_ldc hx hb hown (hts _ q1008) dX2_type_9 ?_
    have es : spType S ch = (cFULL, S) := by simp [spType, c6]
    exact ret (-100000003 : Int32) (all, kept, hist, hlo, snap, tk, bits, reg, exa, text, tl, sp, read, rm, nu, deep, src) dX2_type_11 (⟨(by rw [es]), (by rw [es]; exact hM)⟩) Z (Nat.le_of_ble_eq_true rfl) (Nat.le_of_ble_eq_true rfl)
set_option maxHeartbeats 4000000 in
set_option maxRecDepth 100000 in
theorem M_clearText (l : Launch) (G : nG) (q : Nat) (a : Nat → Nat) (wd : Nat → Int64) (all : Nat → Int32) (kept : Nat → Int32) (hist : Nat → Int32) (hlo : Int32) (snap : Nat → Int32) (tk : Int32) (bits : Nat → Int32) (reg : Nat → Int32) (exa : Nat → Int32) (text : Nat → Int32) (tl : Int32) (sp : Int32) (read : Nat → Int32) (rm : Int32) (nu : Int32) (deep : Nat → Int32) (src : Nat → Int32) (S : oSt) (hM : mR S all hist hlo snap tk text tl) : nMi (S := (Nat → Int32) × (Nat → Int32) × (Nat → Int32) × Int32 × (Nat → Int32) × Int32 × (Nat → Int32) × (Nat → Int32) × (Nat → Int32) × (Nat → Int32) × Int32 × Int32 × (Nat → Int32) × Int32 × Int32 × (Nat → Int32) × (Nat → Int32)) l yX2_clearText cX2_clearText 2 (.int) 0 0 0 0 G [.ref q] (mW G q a wd all kept hist hlo snap tk bits reg exa text tl sp read rm nu deep src) ([]) (fun (u : (Nat → Int32) × (Nat → Int32) × (Nat → Int32) × Int32 × (Nat → Int32) × Int32 × (Nat → Int32) × (Nat → Int32) × (Nat → Int32) × (Nat → Int32) × Int32 × Int32 × (Nat → Int32) × Int32 × Int32 × (Nat → Int32) × (Nat → Int32)) => mW G q a wd u.1 u.2.1 u.2.2.1 u.2.2.2.1 u.2.2.2.2.1 u.2.2.2.2.2.1 u.2.2.2.2.2.2.1 u.2.2.2.2.2.2.2.1 u.2.2.2.2.2.2.2.2.1 u.2.2.2.2.2.2.2.2.2.1 u.2.2.2.2.2.2.2.2.2.2.1 u.2.2.2.2.2.2.2.2.2.2.2.1 u.2.2.2.2.2.2.2.2.2.2.2.2.1 u.2.2.2.2.2.2.2.2.2.2.2.2.2.1 u.2.2.2.2.2.2.2.2.2.2.2.2.2.2.1 u.2.2.2.2.2.2.2.2.2.2.2.2.2.2.2.1 u.2.2.2.2.2.2.2.2.2.2.2.2.2.2.2.2) (fun (r : Int32) (u : (Nat → Int32) × (Nat → Int32) × (Nat → Int32) × Int32 × (Nat → Int32) × Int32 × (Nat → Int32) × (Nat → Int32) × (Nat → Int32) × (Nat → Int32) × Int32 × Int32 × (Nat → Int32) × Int32 × Int32 × (Nat → Int32) × (Nat → Int32)) => r = ((spClear S).1) ∧ mR (spClear S).2 u.1 u.2.2.1 u.2.2.2.1 u.2.2.2.2.1 u.2.2.2.2.2.1 u.2.2.2.2.2.2.2.2.2.1 u.2.2.2.2.2.2.2.2.2.2.1) := by
  refine nMi.of (own := "ShareStreamsModel") rfl (by decide +kernel) (Nat.le_of_ble_eq_true rfl) (fun _ _ _ => rfl) ?_
  intro p e s m args below meth c A Q ls hx hb hml hown hts hin hG Z hl ret
  have hl : lv_has ls 2 [(0, .ref q)] := hl
  have Z : nW G A (mW G q a wd all kept hist hlo snap tk bits reg exa text tl sp read rm nu deep src) ([]) ([]) s.heap _ _ := Z
  obtain ⟨so, ba, ⟨eh, hh⟩, ⟨ek, sn⟩, et, tx⟩ := hM
  have hM : mR S all hist hlo snap tk text tl := ⟨so, ba, ⟨eh, hh⟩, ⟨ek, sn⟩, et, tx⟩
  have hn : S.1.1 ≤ 16 := so.1.1
  have ha : all 0 = nI S.1.1 := ba.1
  refine lv_aload_n hx hb dX2_clearText_0 rfl (lv_at hl 0 rfl) ?_
  refine r_get (v := .int tl) hx hb hts in_X2 hown hG Z.w 0 rfl rfl 11 (by decide) q949 (fun _ h9 => h9) rfl dX2_clearText_1 ?_
  refine r_as (z := nI S.2.2.2.length) et ?_
  refine lv_istore_n (lv' := [(1, .int (nI S.2.2.2.length)), (0, .ref q)]) hx hb dX2_clearText_4 rfl hl (by decide) rfl (fun ls hl => ?_)
  refine lv_aload_n hx hb dX2_clearText_5 rfl (lv_at hl 1 rfl) ?_
  refine lv_iconst (v := nI 0) hx hb dX2_clearText_6 rfl ?_
  refine r_put (ty := .int) hx hb hts in_X2 tyX2 tyX2_ok nmX2 hown hG Z 0 rfl rfl 11 (by decide) q949 (fun _ h9 => h9) rfl (by decide +kernel) rfl rfl (Nat.le_of_ble_eq_true rfl) (wc' := mW G q a wd all kept hist hlo snap tk bits reg exa text (nI 0) sp read rm nu deep src) rfl dX2_clearText_7 (fun H locs Z => ?_)
  refine lv_iload_n hx hb dX2_clearText_10 rfl (lv_at hl 0 rfl) ?_
  exact ret (nI S.2.2.2.length) (all, kept, hist, hlo, snap, tk, bits, reg, exa, text, nI 0, sp, read, rm, nu, deep, src) dX2_clearText_11 (⟨rfl, (mR_clear hM)⟩) Z (Nat.le_of_ble_eq_true rfl) (Nat.le_of_ble_eq_true rfl)
