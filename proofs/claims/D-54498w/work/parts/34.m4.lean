set_option maxHeartbeats 4000000 in
set_option maxRecDepth 100000 in
theorem M_findsDepths (l : Launch) (G : nG) (q : Nat) (a : Nat → Nat) (wd : Nat → Int64) (all : Nat → Int32) (kept : Nat → Int32) (hist : Nat → Int32) (hlo : Int32) (snap : Nat → Int32) (tk : Int32) (bits : Nat → Int32) (reg : Nat → Int32) (exa : Nat → Int32) (text : Nat → Int32) (tl : Int32) (sp : Int32) (read : Nat → Int32) (rm : Int32) (nu : Int32) (deep : Nat → Int32) (src : Nat → Int32) (n : Nat) (hn : n ≤ 16) (ok : ∀ k, k < n → lnOk (mF all) k) (ha : all 0 = nI n) : nMv (S := (Nat → Int32) × (Nat → Int32)) l yX2_findsDepths cX2_findsDepths 5 1 0 0 22 G [.ref q] (mW G q a wd all kept hist hlo snap tk bits reg exa text tl sp read rm nu deep src) ([]) (fun (u : (Nat → Int32) × (Nat → Int32)) => mW G q a wd all kept hist hlo snap tk bits reg exa text tl sp read rm nu u.1 u.2) (fun (u : (Nat → Int32) × (Nat → Int32)) => (∀ v_, v_ < n → u.1 v_ = nI (dpN (mF all) v_)) ∧ ∀ v_, v_ < n → u.2 v_ = nI (orN (mF all) v_)) := by
  refine nMv.of (own := "ShareStreamsModel") rfl (by decide +kernel) (Nat.le_of_ble_eq_true rfl) ?_
  intro p e s m args below meth c A Q ls hx hb hml hown hts hin hG Z hl ret
  have hl : lv_has ls 5 [(0, .ref q)] := hl
  have Z : nW G A (mW G q a wd all kept hist hlo snap tk bits reg exa text tl sp read rm nu deep src) ([]) ([]) s.heap _ _ := Z
  refine lv_iconst (v := nI 0) hx hb dX2_findsDepths_0 rfl ?_
  refine lv_istore_n (lv' := [(1, .int (nI 0)), (0, .ref q)]) hx hb dX2_findsDepths_1 rfl hl (by decide) rfl (fun ls hl => ?_)
  have L2 : ∀ (k_ : Nat) (ln : Nat) (dp : Nat → Int32) (sr : Nat → Int32) (g1 : ln ≤ n) (g2 : ∀ k, k < ln → dp k = nI (dpN (mF all) k)) (g3 : ∀ k, k < ln → sr k = nI (orN (mF all) k)) (hk_ : n - ln < k_) (H : Heap) (locs : List Loc), nW G A (mW G q a wd all kept hist hlo snap tk bits reg exa text tl sp read rm nu dp sr) ([]) ([]) s.heap H locs → ∀ (ls : Array Slot), lv_has ls 5 [(1, .int (nI ln)), (0, .ref q)] → W p l e (nRm 1 0 0 22) s m args below meth c H locs 0 0 Q (F0 m 2 ls []) := by
    intro k_
    induction k_ with
    | zero => intro ln dp sr g1 g2 g3 hk_; exact absurd hk_ (Nat.not_lt_zero _)
    | succ k_ ih_L2 =>
      intro ln dp sr g1 g2 g3 hk_ H locs Z ls hl
      refine lv_iload_n hx hb dX2_findsDepths_2 rfl (lv_at hl 0 rfl) ?_
      refine lv_aload_n hx hb dX2_findsDepths_3 rfl (lv_at hl 1 rfl) ?_
      refine r_get (v := .ref (a 0)) hx hb hts in_X2 hown hG Z.w 0 rfl rfl 0 (by decide) q938 (fun _ h9 => h9) rfl dX2_findsDepths_4 ?_
      refine lv_iconst (v := nI 0) hx hb dX2_findsDepths_7 rfl ?_
      refine r_iald hx hb hG Z.w 1 rfl (j := 0) (by omega) (by decide) (v := nI n) ha dX2_findsDepths_8 ?_
      refine lv_icmp_ge (tgt := 139) hx hb dX2_findsDepths_9 (by decide) (fun c9 => ?_) (fun c9 => ?_)
      · skip
        have c9 := n_le_t (a := n) (b := ln) c9 (by omega) (by omega)
        have e : ln = n := by omega
        subst e
        exact ret (dp, sr) dX2_findsDepths_139 (⟨g2, g3⟩) Z (Nat.le_of_ble_eq_true rfl) (Nat.le_of_ble_eq_true rfl)
      · skip
        have c9 := n_le_f (a := n) (b := ln) c9 (by omega) (by omega)
        have hln : ln < n := by omega
        have okk := ok ln hln
        have hkd := okk.1.2
        obtain ⟨mm, hmm⟩ : ∃ z, z = lnBy (kd (mF all) ln) := ⟨_, rfl⟩
        have hm3 : mm ≤ 3 := by rw [hmm]; exact lnBy_le _
        refine lv_aload_n hx hb dX2_findsDepths_12 rfl (lv_at hl 1 rfl) ?_
        refine lv_iload_n hx hb dX2_findsDepths_13 rfl (lv_at hl 0 rfl) ?_
        refine lv_iconst (v := nI 0) hx hb dX2_findsDepths_14 rfl ?_
        refine ns_i (k := 3) (nr_V (As := [.int (nI ln), .int (nI 0)]) (rest := []) hx hb hml hown hts (M_of l G q a wd all kept hist hlo snap tk bits reg exa text tl sp read rm nu dp sr ln 0 (by omega)) nPs.blind 2 q1049 q1051 qs21 q53 q1052 (by decide +kernel) ⟨⟨Nat.le_of_ble_eq_true rfl, Nat.le_of_ble_eq_true rfl⟩, Nat.le_of_ble_eq_true rfl, Nat.le_of_ble_eq_true rfl⟩ (r_recv hG Z.w 0 (C := "ShareStreamsModel") rfl rfl rfl) (nPs_of hG Z Z.w) rfl hl.1 rfl (Nat.le_of_ble_eq_true rfl) dX2_findsDepths_15) (fun r15 hp15 => ?_)
        have he15 := hp15
        have he15 : r15 = all (2 + 4 * ln + 0) := he15
        subst he15
        refine r_as (z := nI (kd (mF all) ln)) okk.1.1 ?_
        refine ns_i (k := 3) (nr_S (As := [.int (nI (kd (mF all) ln))]) (rest := []) hx hb hml hown hts (M_linesBy l G (kd (mF all) ln) (by first | assumption | omega | rfl)) nPs.blind 1 q1115 q1116 q53 q1117 (by decide +kernel) ⟨⟨Nat.le_of_ble_eq_true rfl, Nat.le_of_ble_eq_true rfl⟩, Nat.le_of_ble_eq_true rfl, Nat.le_of_ble_eq_true rfl⟩ (nPs_of hG Z (fun k q h => by simp at h)) rfl hl.1 rfl (Nat.le_of_ble_eq_true rfl) dX2_findsDepths_18) (fun r18 hp18 => ?_)
        have he18 := hp18
        have he18 : r18 = nI (lnBy (kd (mF all) ln)) := he18
        subst he18
        refine r_as (z := nI mm) (by rw [hmm]) ?_
        refine lv_istore_n (lv' := [(2, .int (nI mm)), (1, .int (nI ln)), (0, .ref q)]) hx hb dX2_findsDepths_21 rfl hl (by decide) rfl (fun ls hl => ?_)
        refine lv_aload_n hx hb dX2_findsDepths_22 rfl (lv_at hl 2 rfl) ?_
        refine r_get (v := .ref (a 10)) hx hb hts in_X2 hown hG Z.w 0 rfl rfl 16 (by decide) q954 (fun _ h9 => h9) rfl dX2_findsDepths_23 ?_
        refine lv_iload_n hx hb dX2_findsDepths_26 rfl (lv_at hl 1 rfl) ?_
        refine lv_iload_n hx hb dX2_findsDepths_27 rfl (lv_at hl 0 rfl) ?_
        refine lv_if_ne (tgt := 35) hx hb dX2_findsDepths_28 (by decide) (fun c28 => ?_) (fun c28 => ?_)
        · skip
          have c28 := n_eq_f (a := mm) (b := 0) c28
          refine lv_iconst (v := nI 1) hx hb dX2_findsDepths_35 rfl ?_
          refine r_iast hx hb hG Z 11 rfl (j := ln) (by omega) (by decide) (wc' := mW G q a wd all kept hist hlo snap tk bits reg exa text tl sp read rm nu (upd dp ln (nI 1)) sr) rfl dX2_findsDepths_36 (fun H locs Z => ?_)
          refine lv_aload_n hx hb dX2_findsDepths_37 rfl (lv_at hl 2 rfl) ?_
          refine r_get (v := .ref (a 11)) hx hb hts in_X2 hown hG Z.w 0 rfl rfl 17 (by decide) q955 (fun _ h9 => h9) rfl dX2_findsDepths_38 ?_
          refine lv_iload_n hx hb dX2_findsDepths_41 rfl (lv_at hl 1 rfl) ?_
          refine lv_iload_n hx hb dX2_findsDepths_42 rfl (lv_at hl 0 rfl) ?_
          refine lv_if_ne (tgt := 52) hx hb dX2_findsDepths_43 (by decide) (fun c43 => ?_) (fun c43 => ?_)
          · skip
            have c43 := n_eq_f (a := mm) (b := 0) c43
            refine lv_iconst (v := nI 0) hx hb dX2_findsDepths_52 rfl ?_
            refine r_iast hx hb hG Z 12 rfl (j := ln) (by omega) (by decide) (wc' := mW G q a wd all kept hist hlo snap tk bits reg exa text tl sp read rm nu (upd dp ln (nI 1)) (upd sr ln (nI 0))) rfl dX2_findsDepths_53 (fun H locs Z => ?_)
            refine lv_iconst (v := nI 1) hx hb dX2_findsDepths_54 rfl ?_
            refine lv_istore_n (lv' := [(3, .int (nI 1)), (2, .int (nI mm)), (1, .int (nI ln)), (0, .ref q)]) hx hb dX2_findsDepths_55 rfl hl (by decide) rfl (fun ls hl => ?_)
            have L56 : ∀ (k_ : Nat) (pl : Nat) (dp : Nat → Int32) (sr : Nat → Int32) (g5 : pl ≤ mm) (g2 : ∀ k, k < ln → dp k = nI (dpN (mF all) k)) (g3 : ∀ k, k < ln → sr k = nI (orN (mF all) k)) (g6 : dp ln = nI (dpV (mF all) (dpN (mF all)) ln mm pl)) (g7 : sr ln = nI (orV (mF all) (orN (mF all)) ln mm pl)) (hk_ : mm - pl < k_) (H : Heap) (locs : List Loc), nW G A (mW G q a wd all kept hist hlo snap tk bits reg exa text tl sp read rm nu dp sr) ([]) ([]) s.heap H locs → ∀ (ls : Array Slot), lv_has ls 5 [(3, .int (nI (pl + 1))), (2, .int (nI mm)), (1, .int (nI ln)), (0, .ref q)] → W p l e (nRm 1 0 0 22) s m args below meth c H locs 0 0 Q (F0 m 56 ls []) := by
              intro k_
              induction k_ with
              | zero => intro pl dp sr g5 g2 g3 g6 g7 hk_; exact absurd hk_ (Nat.not_lt_zero _)
              | succ k_ ih_L56 =>
                intro pl dp sr g5 g2 g3 g6 g7 hk_ H locs Z ls hl
                refine lv_iload_n hx hb dX2_findsDepths_56 rfl (lv_at hl 0 rfl) ?_
                refine lv_iload_n hx hb dX2_findsDepths_57 rfl (lv_at hl 1 rfl) ?_
                refine lv_icmp_gt (tgt := 133) hx hb dX2_findsDepths_58 (by decide) (fun c58 => ?_) (fun c58 => ?_)
                · skip
                  have c58 := n_lt_t (a := mm) (b := pl + 1) c58 (by omega) (by omega)
                  refine lv_iinc (v := nI (ln + 1)) (lv' := [(1, .int (nI (ln + 1))), (3, .int (nI (pl + 1))), (2, .int (nI mm)), (0, .ref q)]) hx hb dX2_findsDepths_133 hl (k := 2) rfl (nI_add _ _) (by decide) rfl (fun ls hl => ?_)
                  refine lv_goto (tgt := 2) hx hb dX2_findsDepths_136 (by decide) ?_
                  exact ih_L2 (ln + 1) dp sr (by omega) (by first | (intro k hk; omega) | exact lt_succ_of g2 (by rw [g6, show pl = mm by omega, hmm, dpV_e ok hln])) (by first | (intro k hk; omega) | exact lt_succ_of g3 (by rw [g7, show pl = mm by omega, hmm, orV_e ok hln])) (by omega) _ _ Z _ (lv_sub hl [0, 3] rfl)
                · skip
                  have c58 := n_lt_f (a := mm) (b := pl + 1) c58 (by omega) (by omega)
                  have hm0 : mm ≠ 0 := by omega
                  have hby := by_lt okk (w := pl + 1) (by omega) (by rw [← hmm]; omega)
                  have b1 := dp_le ok (Nat.lt_trans hby.2 hln)
                  have b2 : dpV (mF all) (dpN (mF all)) ln mm pl ≤ ln + 1 := by rw [hmm]; exact dpV_le ok hln (by rw [← hmm]; omega)
                  refine lv_aload_n hx hb dX2_findsDepths_61 rfl (lv_at hl 3 rfl) ?_
                  refine lv_iload_n hx hb dX2_findsDepths_62 rfl (lv_at hl 2 rfl) ?_
                  refine lv_iload_n hx hb dX2_findsDepths_63 rfl (lv_at hl 0 rfl) ?_
                  refine ns_i (k := 3) (nr_V (As := [.int (nI ln), .int (nI (pl + 1))]) (rest := []) hx hb hml hown hts (M_of l G q a wd all kept hist hlo snap tk bits reg exa text tl sp read rm nu dp sr ln (pl + 1) (by omega)) nPs.blind 2 q1049 q1051 qs21 q53 q1052 (by decide +kernel) ⟨⟨Nat.le_of_ble_eq_true rfl, Nat.le_of_ble_eq_true rfl⟩, Nat.le_of_ble_eq_true rfl, Nat.le_of_ble_eq_true rfl⟩ (r_recv hG Z.w 0 (C := "ShareStreamsModel") rfl rfl rfl) (nPs_of hG Z Z.w) rfl hl.1 rfl (Nat.le_of_ble_eq_true rfl) dX2_findsDepths_64) (fun r64 hp64 => ?_)
                  have he64 := hp64
                  have he64 : r64 = all (2 + 4 * ln + (pl + 1)) := he64
                  subst he64
                  refine r_as (z := nI (nm (mF all) ln (pl + 1))) hby.1 ?_
                  refine lv_istore (lv' := [(4, .int (nI (nm (mF all) ln (pl + 1)))), (3, .int (nI (pl + 1))), (2, .int (nI mm)), (1, .int (nI ln)), (0, .ref q)]) hx hb dX2_findsDepths_67 hl (by decide) rfl (fun ls hl => ?_)
                  refine lv_aload_n hx hb dX2_findsDepths_69 rfl (lv_at hl 4 rfl) ?_
                  refine r_get (v := .ref (a 10)) hx hb hts in_X2 hown hG Z.w 0 rfl rfl 16 (by decide) q954 (fun _ h9 => h9) rfl dX2_findsDepths_70 ?_
                  refine lv_iload_n hx hb dX2_findsDepths_73 rfl (lv_at hl 3 rfl) ?_
                  refine lv_aload_n hx hb dX2_findsDepths_74 rfl (lv_at hl 4 rfl) ?_
                  refine r_get (v := .ref (a 10)) hx hb hts in_X2 hown hG Z.w 0 rfl rfl 16 (by decide) q954 (fun _ h9 => h9) rfl dX2_findsDepths_75 ?_
                  refine lv_iload hx hb dX2_findsDepths_78 (lv_at hl 0 rfl) ?_
                  refine r_iald hx hb hG Z.w 11 rfl (j := nm (mF all) ln (pl + 1)) (by omega) (by decide) (v := nI (dpN (mF all) (nm (mF all) ln (pl + 1)))) (g2 _ hby.2) dX2_findsDepths_80 ?_
                  refine lv_iconst (v := nI 1) hx hb dX2_findsDepths_81 rfl ?_
                  refine lv_iadd hx hb dX2_findsDepths_82 ?_
                  refine r_as (z := nI (dpN (mF all) (nm (mF all) ln (pl + 1)) + 1)) (nI_add _ _) ?_
                  refine lv_aload_n hx hb dX2_findsDepths_83 rfl (lv_at hl 4 rfl) ?_
                  refine r_get (v := .ref (a 10)) hx hb hts in_X2 hown hG Z.w 0 rfl rfl 16 (by decide) q954 (fun _ h9 => h9) rfl dX2_findsDepths_84 ?_
                  refine lv_iload_n hx hb dX2_findsDepths_87 rfl (lv_at hl 3 rfl) ?_
                  refine r_iald hx hb hG Z.w 11 rfl (j := ln) (by omega) (by decide) (v := nI (dpV (mF all) (dpN (mF all)) ln mm pl)) g6 dX2_findsDepths_88 ?_
                  refine lv_icmp_le (tgt := 104) hx hb dX2_findsDepths_89 (by decide) (fun c89 => ?_) (fun c89 => ?_)
                  · skip
                    have c89 := n_le_t (a := dpN (mF all) (nm (mF all) ln (pl + 1)) + 1) (b := dpV (mF all) (dpN (mF all)) ln mm pl) c89 (by omega) (by omega)
                    refine lv_aload_n hx hb dX2_findsDepths_104 rfl (lv_at hl 4 rfl) ?_
                    refine r_get (v := .ref (a 10)) hx hb hts in_X2 hown hG Z.w 0 rfl rfl 16 (by decide) q954 (fun _ h9 => h9) rfl dX2_findsDepths_105 ?_
                    refine lv_iload_n hx hb dX2_findsDepths_108 rfl (lv_at hl 3 rfl) ?_
                    refine r_iald hx hb hG Z.w 11 rfl (j := ln) (by omega) (by decide) (v := nI (dpV (mF all) (dpN (mF all)) ln mm pl)) g6 dX2_findsDepths_109 ?_
                    refine r_iast hx hb hG Z 11 rfl (j := ln) (by omega) (by decide) (wc' := mW G q a wd all kept hist hlo snap tk bits reg exa text tl sp read rm nu (upd dp ln (nI (dpV (mF all) (dpN (mF all)) ln mm pl))) sr) rfl dX2_findsDepths_110 (fun H locs Z => ?_)
                    refine lv_aload_n hx hb dX2_findsDepths_111 rfl (lv_at hl 4 rfl) ?_
                    refine r_get (v := .ref (a 11)) hx hb hts in_X2 hown hG Z.w 0 rfl rfl 17 (by decide) q955 (fun _ h9 => h9) rfl dX2_findsDepths_112 ?_
                    refine lv_iload_n hx hb dX2_findsDepths_115 rfl (lv_at hl 3 rfl) ?_
                    refine lv_dup2_11 hx hb dX2_findsDepths_116 rfl rfl ?_
                    refine r_iald hx hb hG Z.w 12 rfl (j := ln) (by omega) (by decide) (v := nI (orV (mF all) (orN (mF all)) ln mm pl)) g7 dX2_findsDepths_117 ?_
                    refine lv_aload_n hx hb dX2_findsDepths_118 rfl (lv_at hl 4 rfl) ?_
                    refine r_get (v := .ref (a 11)) hx hb hts in_X2 hown hG Z.w 0 rfl rfl 17 (by decide) q955 (fun _ h9 => h9) rfl dX2_findsDepths_119 ?_
                    refine lv_iload hx hb dX2_findsDepths_122 (lv_at hl 0 rfl) ?_
                    refine r_iald hx hb hG Z.w 12 rfl (j := nm (mF all) ln (pl + 1)) (by omega) (by decide) (v := nI (orN (mF all) (nm (mF all) ln (pl + 1)))) (g3 _ hby.2) dX2_findsDepths_124 ?_
                    refine lv_ior hx hb dX2_findsDepths_125 ?_
                    refine r_as (z := nI (orV (mF all) (orN (mF all)) ln mm pl ||| orN (mF all) (nm (mF all) ln (pl + 1)))) (nx_or _ _) ?_
                    refine r_iast hx hb hG Z 12 rfl (j := ln) (by omega) (by decide) (wc' := mW G q a wd all kept hist hlo snap tk bits reg exa text tl sp read rm nu (upd dp ln (nI (dpV (mF all) (dpN (mF all)) ln mm pl))) (upd sr ln (nI (orV (mF all) (orN (mF all)) ln mm pl ||| orN (mF all) (nm (mF all) ln (pl + 1)))))) rfl dX2_findsDepths_126 (fun H locs Z => ?_)
                    refine lv_iinc (v := nI (pl + 1 + 1)) (lv' := [(3, .int (nI (pl + 1 + 1))), (4, .int (nI (nm (mF all) ln (pl + 1)))), (2, .int (nI mm)), (1, .int (nI ln)), (0, .ref q)]) hx hb dX2_findsDepths_127 hl (k := 1) rfl (nI_add _ _) (by decide) rfl (fun ls hl => ?_)
                    refine lv_goto (tgt := 56) hx hb dX2_findsDepths_130 (by decide) ?_
                    exact ih_L56 (pl + 1) (upd dp ln (nI (dpV (mF all) (dpN (mF all)) ln mm pl))) (upd sr ln (nI (orV (mF all) (orN (mF all)) ln mm pl ||| orN (mF all) (nm (mF all) ln (pl + 1))))) (by omega) (upd_lt g2) (upd_lt g3) (by rw [upd_s, dpV_s hm0]; first | done | (congr 1; omega)) (by rw [upd_s, orV_s hm0]) (by omega) _ _ Z _ (lv_sub hl [0, 2, 3, 4] rfl)
                  · skip
                    have c89 := n_le_f (a := dpN (mF all) (nm (mF all) ln (pl + 1)) + 1) (b := dpV (mF all) (dpN (mF all)) ln mm pl) c89 (by omega) (by omega)
                    refine lv_aload_n hx hb dX2_findsDepths_92 rfl (lv_at hl 4 rfl) ?_
                    refine r_get (v := .ref (a 10)) hx hb hts in_X2 hown hG Z.w 0 rfl rfl 16 (by decide) q954 (fun _ h9 => h9) rfl dX2_findsDepths_93 ?_
                    refine lv_iload hx hb dX2_findsDepths_96 (lv_at hl 0 rfl) ?_
                    refine r_iald hx hb hG Z.w 11 rfl (j := nm (mF all) ln (pl + 1)) (by omega) (by decide) (v := nI (dpN (mF all) (nm (mF all) ln (pl + 1)))) (g2 _ hby.2) dX2_findsDepths_98 ?_
                    refine lv_iconst (v := nI 1) hx hb dX2_findsDepths_99 rfl ?_
                    refine lv_iadd hx hb dX2_findsDepths_100 ?_
                    refine r_as (z := nI (dpN (mF all) (nm (mF all) ln (pl + 1)) + 1)) (nI_add _ _) ?_
                    refine lv_goto (tgt := 110) hx hb dX2_findsDepths_101 (by decide) ?_
                    refine r_iast hx hb hG Z 11 rfl (j := ln) (by omega) (by decide) (wc' := mW G q a wd all kept hist hlo snap tk bits reg exa text tl sp read rm nu (upd dp ln (nI (dpN (mF all) (nm (mF all) ln (pl + 1)) + 1))) sr) rfl dX2_findsDepths_110 (fun H locs Z => ?_)
                    refine lv_aload_n hx hb dX2_findsDepths_111 rfl (lv_at hl 4 rfl) ?_
                    refine r_get (v := .ref (a 11)) hx hb hts in_X2 hown hG Z.w 0 rfl rfl 17 (by decide) q955 (fun _ h9 => h9) rfl dX2_findsDepths_112 ?_
                    refine lv_iload_n hx hb dX2_findsDepths_115 rfl (lv_at hl 3 rfl) ?_
                    refine lv_dup2_11 hx hb dX2_findsDepths_116 rfl rfl ?_
                    refine r_iald hx hb hG Z.w 12 rfl (j := ln) (by omega) (by decide) (v := nI (orV (mF all) (orN (mF all)) ln mm pl)) g7 dX2_findsDepths_117 ?_
                    refine lv_aload_n hx hb dX2_findsDepths_118 rfl (lv_at hl 4 rfl) ?_
                    refine r_get (v := .ref (a 11)) hx hb hts in_X2 hown hG Z.w 0 rfl rfl 17 (by decide) q955 (fun _ h9 => h9) rfl dX2_findsDepths_119 ?_
                    refine lv_iload hx hb dX2_findsDepths_122 (lv_at hl 0 rfl) ?_
                    refine r_iald hx hb hG Z.w 12 rfl (j := nm (mF all) ln (pl + 1)) (by omega) (by decide) (v := nI (orN (mF all) (nm (mF all) ln (pl + 1)))) (g3 _ hby.2) dX2_findsDepths_124 ?_
                    refine lv_ior hx hb dX2_findsDepths_125 ?_
                    refine r_as (z := nI (orV (mF all) (orN (mF all)) ln mm pl ||| orN (mF all) (nm (mF all) ln (pl + 1)))) (nx_or _ _) ?_
                    refine r_iast hx hb hG Z 12 rfl (j := ln) (by omega) (by decide) (wc' := mW G q a wd all kept hist hlo snap tk bits reg exa text tl sp read rm nu (upd dp ln (nI (dpN (mF all) (nm (mF all) ln (pl + 1)) + 1))) (upd sr ln (nI (orV (mF all) (orN (mF all)) ln mm pl ||| orN (mF all) (nm (mF all) ln (pl + 1)))))) rfl dX2_findsDepths_126 (fun H locs Z => ?_)
                    refine lv_iinc (v := nI (pl + 1 + 1)) (lv' := [(3, .int (nI (pl + 1 + 1))), (4, .int (nI (nm (mF all) ln (pl + 1)))), (2, .int (nI mm)), (1, .int (nI ln)), (0, .ref q)]) hx hb dX2_findsDepths_127 hl (k := 1) rfl (nI_add _ _) (by decide) rfl (fun ls hl => ?_)
                    refine lv_goto (tgt := 56) hx hb dX2_findsDepths_130 (by decide) ?_
                    exact ih_L56 (pl + 1) (upd dp ln (nI (dpN (mF all) (nm (mF all) ln (pl + 1)) + 1))) (upd sr ln (nI (orV (mF all) (orN (mF all)) ln mm pl ||| orN (mF all) (nm (mF all) ln (pl + 1))))) (by omega) (upd_lt g2) (upd_lt g3) (by rw [upd_s, dpV_s hm0]; first | done | (congr 1; omega)) (by rw [upd_s, orV_s hm0]) (by omega) _ _ Z _ (lv_sub hl [0, 2, 3, 4] rfl)
            exact L56 _ 0 (upd dp ln (nI 1)) (upd sr ln (nI 0)) (Nat.zero_le _) (upd_lt g2) (upd_lt g3) (by rw [upd_s]; unfold dpV; first | rw [if_pos c28] | rw [if_neg c28]; rfl) (by rw [upd_s]; unfold orV; first | rw [if_pos c28] | rw [if_neg c28]; rfl) (Nat.lt_succ_self _) _ _ Z _ (lv_sub hl [0, 1, 2, 3] rfl)
          · skip
            have c43 := n_eq_t (a := mm) (b := 0) c43 (by omega) (by decide)
            exfalso; omega
        · skip
          have c28 := n_eq_t (a := mm) (b := 0) c28 (by omega) (by decide)
          refine lv_iconst (v := nI 0) hx hb dX2_findsDepths_31 rfl ?_
          refine lv_goto (tgt := 36) hx hb dX2_findsDepths_32 (by decide) ?_
          refine r_iast hx hb hG Z 11 rfl (j := ln) (by omega) (by decide) (wc' := mW G q a wd all kept hist hlo snap tk bits reg exa text tl sp read rm nu (upd dp ln (nI 0)) sr) rfl dX2_findsDepths_36 (fun H locs Z => ?_)
          refine lv_aload_n hx hb dX2_findsDepths_37 rfl (lv_at hl 2 rfl) ?_
          refine r_get (v := .ref (a 11)) hx hb hts in_X2 hown hG Z.w 0 rfl rfl 17 (by decide) q955 (fun _ h9 => h9) rfl dX2_findsDepths_38 ?_
          refine lv_iload_n hx hb dX2_findsDepths_41 rfl (lv_at hl 1 rfl) ?_
          refine lv_iload_n hx hb dX2_findsDepths_42 rfl (lv_at hl 0 rfl) ?_
          refine lv_if_ne (tgt := 52) hx hb dX2_findsDepths_43 (by decide) (fun c43 => ?_) (fun c43 => ?_)
          · skip
            have c43 := n_eq_f (a := mm) (b := 0) c43
            exfalso; omega
          · skip
            have c43 := n_eq_t (a := mm) (b := 0) c43 (by omega) (by decide)
            refine lv_iconst (v := nI 1) hx hb dX2_findsDepths_46 rfl ?_
            refine lv_iload_n hx hb dX2_findsDepths_47 rfl (lv_at hl 1 rfl) ?_
            refine lv_ishl hx hb dX2_findsDepths_48 ?_
            refine r_as (z := nI (2 ^ ln)) (shl1 ln (by omega)) ?_
            refine lv_goto (tgt := 53) hx hb dX2_findsDepths_49 (by decide) ?_
            refine r_iast hx hb hG Z 12 rfl (j := ln) (by omega) (by decide) (wc' := mW G q a wd all kept hist hlo snap tk bits reg exa text tl sp read rm nu (upd dp ln (nI 0)) (upd sr ln (nI (2 ^ ln)))) rfl dX2_findsDepths_53 (fun H locs Z => ?_)
            refine lv_iconst (v := nI 1) hx hb dX2_findsDepths_54 rfl ?_
            refine lv_istore_n (lv' := [(3, .int (nI 1)), (2, .int (nI mm)), (1, .int (nI ln)), (0, .ref q)]) hx hb dX2_findsDepths_55 rfl hl (by decide) rfl (fun ls hl => ?_)
            have L56 : ∀ (k_ : Nat) (pl : Nat) (dp : Nat → Int32) (sr : Nat → Int32) (g5 : pl ≤ mm) (g2 : ∀ k, k < ln → dp k = nI (dpN (mF all) k)) (g3 : ∀ k, k < ln → sr k = nI (orN (mF all) k)) (g6 : dp ln = nI (dpV (mF all) (dpN (mF all)) ln mm pl)) (g7 : sr ln = nI (orV (mF all) (orN (mF all)) ln mm pl)) (hk_ : mm - pl < k_) (H : Heap) (locs : List Loc), nW G A (mW G q a wd all kept hist hlo snap tk bits reg exa text tl sp read rm nu dp sr) ([]) ([]) s.heap H locs → ∀ (ls : Array Slot), lv_has ls 5 [(3, .int (nI (pl + 1))), (2, .int (nI mm)), (1, .int (nI ln)), (0, .ref q)] → W p l e (nRm 1 0 0 22) s m args below meth c H locs 0 0 Q (F0 m 56 ls []) := by
              intro k_
              induction k_ with
              | zero => intro pl dp sr g5 g2 g3 g6 g7 hk_; exact absurd hk_ (Nat.not_lt_zero _)
              | succ k_ ih_L56 =>
                intro pl dp sr g5 g2 g3 g6 g7 hk_ H locs Z ls hl
                refine lv_iload_n hx hb dX2_findsDepths_56 rfl (lv_at hl 0 rfl) ?_
                refine lv_iload_n hx hb dX2_findsDepths_57 rfl (lv_at hl 1 rfl) ?_
                refine lv_icmp_gt (tgt := 133) hx hb dX2_findsDepths_58 (by decide) (fun c58 => ?_) (fun c58 => ?_)
                · skip
                  have c58 := n_lt_t (a := mm) (b := pl + 1) c58 (by omega) (by omega)
                  refine lv_iinc (v := nI (ln + 1)) (lv' := [(1, .int (nI (ln + 1))), (3, .int (nI (pl + 1))), (2, .int (nI mm)), (0, .ref q)]) hx hb dX2_findsDepths_133 hl (k := 2) rfl (nI_add _ _) (by decide) rfl (fun ls hl => ?_)
                  refine lv_goto (tgt := 2) hx hb dX2_findsDepths_136 (by decide) ?_
                  exact ih_L2 (ln + 1) dp sr (by omega) (by first | (intro k hk; omega) | exact lt_succ_of g2 (by rw [g6, show pl = mm by omega, hmm, dpV_e ok hln])) (by first | (intro k hk; omega) | exact lt_succ_of g3 (by rw [g7, show pl = mm by omega, hmm, orV_e ok hln])) (by omega) _ _ Z _ (lv_sub hl [0, 3] rfl)
                · skip
                  have c58 := n_lt_f (a := mm) (b := pl + 1) c58 (by omega) (by omega)
                  have hm0 : mm ≠ 0 := by omega
                  have hby := by_lt okk (w := pl + 1) (by omega) (by rw [← hmm]; omega)
                  have b1 := dp_le ok (Nat.lt_trans hby.2 hln)
                  have b2 : dpV (mF all) (dpN (mF all)) ln mm pl ≤ ln + 1 := by rw [hmm]; exact dpV_le ok hln (by rw [← hmm]; omega)
                  refine lv_aload_n hx hb dX2_findsDepths_61 rfl (lv_at hl 3 rfl) ?_
                  refine lv_iload_n hx hb dX2_findsDepths_62 rfl (lv_at hl 2 rfl) ?_
                  refine lv_iload_n hx hb dX2_findsDepths_63 rfl (lv_at hl 0 rfl) ?_
                  refine ns_i (k := 3) (nr_V (As := [.int (nI ln), .int (nI (pl + 1))]) (rest := []) hx hb hml hown hts (M_of l G q a wd all kept hist hlo snap tk bits reg exa text tl sp read rm nu dp sr ln (pl + 1) (by omega)) nPs.blind 2 q1049 q1051 qs21 q53 q1052 (by decide +kernel) ⟨⟨Nat.le_of_ble_eq_true rfl, Nat.le_of_ble_eq_true rfl⟩, Nat.le_of_ble_eq_true rfl, Nat.le_of_ble_eq_true rfl⟩ (r_recv hG Z.w 0 (C := "ShareStreamsModel") rfl rfl rfl) (nPs_of hG Z Z.w) rfl hl.1 rfl (Nat.le_of_ble_eq_true rfl) dX2_findsDepths_64) (fun r64 hp64 => ?_)
                  have he64 := hp64
                  have he64 : r64 = all (2 + 4 * ln + (pl + 1)) := he64
                  subst he64
                  refine r_as (z := nI (nm (mF all) ln (pl + 1))) hby.1 ?_
                  refine lv_istore (lv' := [(4, .int (nI (nm (mF all) ln (pl + 1)))), (3, .int (nI (pl + 1))), (2, .int (nI mm)), (1, .int (nI ln)), (0, .ref q)]) hx hb dX2_findsDepths_67 hl (by decide) rfl (fun ls hl => ?_)
                  refine lv_aload_n hx hb dX2_findsDepths_69 rfl (lv_at hl 4 rfl) ?_
                  refine r_get (v := .ref (a 10)) hx hb hts in_X2 hown hG Z.w 0 rfl rfl 16 (by decide) q954 (fun _ h9 => h9) rfl dX2_findsDepths_70 ?_
                  refine lv_iload_n hx hb dX2_findsDepths_73 rfl (lv_at hl 3 rfl) ?_
                  refine lv_aload_n hx hb dX2_findsDepths_74 rfl (lv_at hl 4 rfl) ?_
                  refine r_get (v := .ref (a 10)) hx hb hts in_X2 hown hG Z.w 0 rfl rfl 16 (by decide) q954 (fun _ h9 => h9) rfl dX2_findsDepths_75 ?_
                  refine lv_iload hx hb dX2_findsDepths_78 (lv_at hl 0 rfl) ?_
                  refine r_iald hx hb hG Z.w 11 rfl (j := nm (mF all) ln (pl + 1)) (by omega) (by decide) (v := nI (dpN (mF all) (nm (mF all) ln (pl + 1)))) (g2 _ hby.2) dX2_findsDepths_80 ?_
                  refine lv_iconst (v := nI 1) hx hb dX2_findsDepths_81 rfl ?_
                  refine lv_iadd hx hb dX2_findsDepths_82 ?_
                  refine r_as (z := nI (dpN (mF all) (nm (mF all) ln (pl + 1)) + 1)) (nI_add _ _) ?_
                  refine lv_aload_n hx hb dX2_findsDepths_83 rfl (lv_at hl 4 rfl) ?_
                  refine r_get (v := .ref (a 10)) hx hb hts in_X2 hown hG Z.w 0 rfl rfl 16 (by decide) q954 (fun _ h9 => h9) rfl dX2_findsDepths_84 ?_
                  refine lv_iload_n hx hb dX2_findsDepths_87 rfl (lv_at hl 3 rfl) ?_
                  refine r_iald hx hb hG Z.w 11 rfl (j := ln) (by omega) (by decide) (v := nI (dpV (mF all) (dpN (mF all)) ln mm pl)) g6 dX2_findsDepths_88 ?_
                  refine lv_icmp_le (tgt := 104) hx hb dX2_findsDepths_89 (by decide) (fun c89 => ?_) (fun c89 => ?_)
                  · skip
                    have c89 := n_le_t (a := dpN (mF all) (nm (mF all) ln (pl + 1)) + 1) (b := dpV (mF all) (dpN (mF all)) ln mm pl) c89 (by omega) (by omega)
                    refine lv_aload_n hx hb dX2_findsDepths_104 rfl (lv_at hl 4 rfl) ?_
                    refine r_get (v := .ref (a 10)) hx hb hts in_X2 hown hG Z.w 0 rfl rfl 16 (by decide) q954 (fun _ h9 => h9) rfl dX2_findsDepths_105 ?_
                    refine lv_iload_n hx hb dX2_findsDepths_108 rfl (lv_at hl 3 rfl) ?_
                    refine r_iald hx hb hG Z.w 11 rfl (j := ln) (by omega) (by decide) (v := nI (dpV (mF all) (dpN (mF all)) ln mm pl)) g6 dX2_findsDepths_109 ?_
                    refine r_iast hx hb hG Z 11 rfl (j := ln) (by omega) (by decide) (wc' := mW G q a wd all kept hist hlo snap tk bits reg exa text tl sp read rm nu (upd dp ln (nI (dpV (mF all) (dpN (mF all)) ln mm pl))) sr) rfl dX2_findsDepths_110 (fun H locs Z => ?_)
                    refine lv_aload_n hx hb dX2_findsDepths_111 rfl (lv_at hl 4 rfl) ?_
                    refine r_get (v := .ref (a 11)) hx hb hts in_X2 hown hG Z.w 0 rfl rfl 17 (by decide) q955 (fun _ h9 => h9) rfl dX2_findsDepths_112 ?_
                    refine lv_iload_n hx hb dX2_findsDepths_115 rfl (lv_at hl 3 rfl) ?_
                    refine lv_dup2_11 hx hb dX2_findsDepths_116 rfl rfl ?_
                    refine r_iald hx hb hG Z.w 12 rfl (j := ln) (by omega) (by decide) (v := nI (orV (mF all) (orN (mF all)) ln mm pl)) g7 dX2_findsDepths_117 ?_
                    refine lv_aload_n hx hb dX2_findsDepths_118 rfl (lv_at hl 4 rfl) ?_
                    refine r_get (v := .ref (a 11)) hx hb hts in_X2 hown hG Z.w 0 rfl rfl 17 (by decide) q955 (fun _ h9 => h9) rfl dX2_findsDepths_119 ?_
                    refine lv_iload hx hb dX2_findsDepths_122 (lv_at hl 0 rfl) ?_
                    refine r_iald hx hb hG Z.w 12 rfl (j := nm (mF all) ln (pl + 1)) (by omega) (by decide) (v := nI (orN (mF all) (nm (mF all) ln (pl + 1)))) (g3 _ hby.2) dX2_findsDepths_124 ?_
                    refine lv_ior hx hb dX2_findsDepths_125 ?_
                    refine r_as (z := nI (orV (mF all) (orN (mF all)) ln mm pl ||| orN (mF all) (nm (mF all) ln (pl + 1)))) (nx_or _ _) ?_
                    refine r_iast hx hb hG Z 12 rfl (j := ln) (by omega) (by decide) (wc' := mW G q a wd all kept hist hlo snap tk bits reg exa text tl sp read rm nu (upd dp ln (nI (dpV (mF all) (dpN (mF all)) ln mm pl))) (upd sr ln (nI (orV (mF all) (orN (mF all)) ln mm pl ||| orN (mF all) (nm (mF all) ln (pl + 1)))))) rfl dX2_findsDepths_126 (fun H locs Z => ?_)
                    refine lv_iinc (v := nI (pl + 1 + 1)) (lv' := [(3, .int (nI (pl + 1 + 1))), (4, .int (nI (nm (mF all) ln (pl + 1)))), (2, .int (nI mm)), (1, .int (nI ln)), (0, .ref q)]) hx hb dX2_findsDepths_127 hl (k := 1) rfl (nI_add _ _) (by decide) rfl (fun ls hl => ?_)
                    refine lv_goto (tgt := 56) hx hb dX2_findsDepths_130 (by decide) ?_
                    exact ih_L56 (pl + 1) (upd dp ln (nI (dpV (mF all) (dpN (mF all)) ln mm pl))) (upd sr ln (nI (orV (mF all) (orN (mF all)) ln mm pl ||| orN (mF all) (nm (mF all) ln (pl + 1))))) (by omega) (upd_lt g2) (upd_lt g3) (by rw [upd_s, dpV_s hm0]; first | done | (congr 1; omega)) (by rw [upd_s, orV_s hm0]) (by omega) _ _ Z _ (lv_sub hl [0, 2, 3, 4] rfl)
                  · skip
                    have c89 := n_le_f (a := dpN (mF all) (nm (mF all) ln (pl + 1)) + 1) (b := dpV (mF all) (dpN (mF all)) ln mm pl) c89 (by omega) (by omega)
                    refine lv_aload_n hx hb dX2_findsDepths_92 rfl (lv_at hl 4 rfl) ?_
                    refine r_get (v := .ref (a 10)) hx hb hts in_X2 hown hG Z.w 0 rfl rfl 16 (by decide) q954 (fun _ h9 => h9) rfl dX2_findsDepths_93 ?_
                    refine lv_iload hx hb dX2_findsDepths_96 (lv_at hl 0 rfl) ?_
                    refine r_iald hx hb hG Z.w 11 rfl (j := nm (mF all) ln (pl + 1)) (by omega) (by decide) (v := nI (dpN (mF all) (nm (mF all) ln (pl + 1)))) (g2 _ hby.2) dX2_findsDepths_98 ?_
                    refine lv_iconst (v := nI 1) hx hb dX2_findsDepths_99 rfl ?_
                    refine lv_iadd hx hb dX2_findsDepths_100 ?_
                    refine r_as (z := nI (dpN (mF all) (nm (mF all) ln (pl + 1)) + 1)) (nI_add _ _) ?_
                    refine lv_goto (tgt := 110) hx hb dX2_findsDepths_101 (by decide) ?_
                    refine r_iast hx hb hG Z 11 rfl (j := ln) (by omega) (by decide) (wc' := mW G q a wd all kept hist hlo snap tk bits reg exa text tl sp read rm nu (upd dp ln (nI (dpN (mF all) (nm (mF all) ln (pl + 1)) + 1))) sr) rfl dX2_findsDepths_110 (fun H locs Z => ?_)
                    refine lv_aload_n hx hb dX2_findsDepths_111 rfl (lv_at hl 4 rfl) ?_
                    refine r_get (v := .ref (a 11)) hx hb hts in_X2 hown hG Z.w 0 rfl rfl 17 (by decide) q955 (fun _ h9 => h9) rfl dX2_findsDepths_112 ?_
                    refine lv_iload_n hx hb dX2_findsDepths_115 rfl (lv_at hl 3 rfl) ?_
                    refine lv_dup2_11 hx hb dX2_findsDepths_116 rfl rfl ?_
                    refine r_iald hx hb hG Z.w 12 rfl (j := ln) (by omega) (by decide) (v := nI (orV (mF all) (orN (mF all)) ln mm pl)) g7 dX2_findsDepths_117 ?_
                    refine lv_aload_n hx hb dX2_findsDepths_118 rfl (lv_at hl 4 rfl) ?_
                    refine r_get (v := .ref (a 11)) hx hb hts in_X2 hown hG Z.w 0 rfl rfl 17 (by decide) q955 (fun _ h9 => h9) rfl dX2_findsDepths_119 ?_
                    refine lv_iload hx hb dX2_findsDepths_122 (lv_at hl 0 rfl) ?_
                    refine r_iald hx hb hG Z.w 12 rfl (j := nm (mF all) ln (pl + 1)) (by omega) (by decide) (v := nI (orN (mF all) (nm (mF all) ln (pl + 1)))) (g3 _ hby.2) dX2_findsDepths_124 ?_
                    refine lv_ior hx hb dX2_findsDepths_125 ?_
                    refine r_as (z := nI (orV (mF all) (orN (mF all)) ln mm pl ||| orN (mF all) (nm (mF all) ln (pl + 1)))) (nx_or _ _) ?_
                    refine r_iast hx hb hG Z 12 rfl (j := ln) (by omega) (by decide) (wc' := mW G q a wd all kept hist hlo snap tk bits reg exa text tl sp read rm nu (upd dp ln (nI (dpN (mF all) (nm (mF all) ln (pl + 1)) + 1))) (upd sr ln (nI (orV (mF all) (orN (mF all)) ln mm pl ||| orN (mF all) (nm (mF all) ln (pl + 1)))))) rfl dX2_findsDepths_126 (fun H locs Z => ?_)
                    refine lv_iinc (v := nI (pl + 1 + 1)) (lv' := [(3, .int (nI (pl + 1 + 1))), (4, .int (nI (nm (mF all) ln (pl + 1)))), (2, .int (nI mm)), (1, .int (nI ln)), (0, .ref q)]) hx hb dX2_findsDepths_127 hl (k := 1) rfl (nI_add _ _) (by decide) rfl (fun ls hl => ?_)
                    refine lv_goto (tgt := 56) hx hb dX2_findsDepths_130 (by decide) ?_
                    exact ih_L56 (pl + 1) (upd dp ln (nI (dpN (mF all) (nm (mF all) ln (pl + 1)) + 1))) (upd sr ln (nI (orV (mF all) (orN (mF all)) ln mm pl ||| orN (mF all) (nm (mF all) ln (pl + 1))))) (by omega) (upd_lt g2) (upd_lt g3) (by rw [upd_s, dpV_s hm0]; first | done | (congr 1; omega)) (by rw [upd_s, orV_s hm0]) (by omega) _ _ Z _ (lv_sub hl [0, 2, 3, 4] rfl)
            exact L56 _ 0 (upd dp ln (nI 0)) (upd sr ln (nI (2 ^ ln))) (Nat.zero_le _) (upd_lt g2) (upd_lt g3) (by rw [upd_s]; unfold dpV; first | rw [if_pos c28] | rw [if_neg c28]; rfl) (by rw [upd_s]; unfold orV; first | rw [if_pos c28] | rw [if_neg c28]; rfl) (Nat.lt_succ_self _) _ _ Z _ (lv_sub hl [0, 1, 2, 3] rfl)
  exact L2 _ 0 deep src (by omega) (by first | (intro k hk; omega) | exact lt_succ_of g2 (by rw [g6, show pl = mm by omega, hmm, dpV_e ok hln])) (by first | (intro k hk; omega) | exact lt_succ_of g3 (by rw [g7, show pl = mm by omega, hmm, orV_e ok hln])) (Nat.lt_succ_self _) _ _ Z _ (lv_sub hl [0, 1] rfl)
set_option maxHeartbeats 4000000 in
set_option maxRecDepth 100000 in
theorem M_bitsOf (l : Launch) (G : nG) (x0 : Nat) (hx0 : x0 < 2 ^ 31) : nSi l yX2_bitsOf cX2_bitsOf 3 (.int) 0 0 G [.int (nI x0)] ([]) (fun r : Int32 => r = (nI (popN x0))) := by
  refine nSi.of (own := "ShareStreamsModel") rfl (by decide +kernel) (Nat.le_of_ble_eq_true rfl) (fun _ _ => rfl) ?_
  intro p e s m args below meth c Q ls hx hb hml hown hts hG hP hl ret
  have hl : lv_has ls 3 [(0, .int (nI x0))] := hl
  refine lv_iconst (v := nI 0) hx hb dX2_bitsOf_0 rfl ?_
  refine lv_istore_n (lv' := [(1, .int (nI 0)), (0, .int (nI x0))]) hx hb dX2_bitsOf_1 rfl hl (by decide) rfl (fun ls hl => ?_)
  refine lv_iload_n hx hb dX2_bitsOf_2 rfl (lv_at hl 1 rfl) ?_
  refine lv_istore_n (lv' := [(2, .int (nI x0)), (1, .int (nI 0)), (0, .int (nI x0))]) hx hb dX2_bitsOf_3 rfl hl (by decide) rfl (fun ls hl => ?_)
  have L4 : ∀ (k_ : Nat) (cn : Nat) (x : Nat) (g1 : x ≤ x0) (g2 : cn + popN x = popN x0) (hk_ : x < k_) (ls : Array Slot), lv_has ls 3 [(1, .int (nI cn)), (2, .int (nI x))] → W p l e (nRm 0 0 0 0) s m args below meth c s.heap [] 0 0 Q (F0 m 4 ls []) := by
    intro k_
    induction k_ with
    | zero => intro cn x g1 g2 hk_; exact absurd hk_ (Nat.not_lt_zero _)
    | succ k_ ih_L4 =>
      intro cn x g1 g2 hk_ ls hl
      refine lv_iload_n hx hb dX2_bitsOf_4 rfl (lv_at hl 1 rfl) ?_
      refine lv_if_eq (tgt := 20) hx hb dX2_bitsOf_5 (by decide) (fun c5 => ?_) (fun c5 => ?_)
      · skip
        have c5 := n_eq_t (a := x) (b := 0) c5 (by omega) (by decide)
        refine lv_iload_n hx hb dX2_bitsOf_20 rfl (lv_at hl 0 rfl) ?_
        exact ret (nI cn) dX2_bitsOf_21 (by rw [c5, popN, dif_pos rfl] at g2; rw [← g2]; rfl)
      · skip
        have c5 := n_eq_f (a := x) (b := 0) c5
        refine lv_iinc (v := nI (cn + 1)) (lv' := [(1, .int (nI (cn + 1))), (2, .int (nI x))]) hx hb dX2_bitsOf_8 hl (k := 0) rfl (nI_add _ _) (by decide) rfl (fun ls hl => ?_)
        refine lv_iload_n hx hb dX2_bitsOf_11 rfl (lv_at hl 1 rfl) ?_
        refine lv_iload_n hx hb dX2_bitsOf_12 rfl (lv_at hl 1 rfl) ?_
        refine lv_iconst (v := nI 1) hx hb dX2_bitsOf_13 rfl ?_
        refine lv_isub hx hb dX2_bitsOf_14 ?_
        refine r_as (z := nI (x - 1)) (pk_sub (by omega)) ?_
        refine lv_iand hx hb dX2_bitsOf_15 ?_
        refine r_as (z := nI (x &&& (x - 1))) (nx_and _ _) ?_
        refine lv_istore_n (lv' := [(2, .int (nI (x &&& (x - 1)))), (1, .int (nI (cn + 1)))]) hx hb dX2_bitsOf_16 rfl hl (by decide) rfl (fun ls hl => ?_)
        refine lv_goto (tgt := 4) hx hb dX2_bitsOf_17 (by decide) ?_
        exact ih_L4 (cn + 1) (x &&& (x - 1)) (by first | exact Nat.le_refl _ | exact Nat.le_trans (Nat.le_trans Nat.and_le_right (by omega)) g1) (by first | (rw [Nat.zero_add]; done) | (rw [popN, dif_neg c5] at g2; omega)) (by exact Nat.lt_of_lt_of_le (Nat.lt_of_le_of_lt Nat.and_le_right (by omega)) (Nat.le_of_lt_succ hk_)) _ (lv_sub hl [1, 0] rfl)
  exact L4 _ 0 x0 (by first | exact Nat.le_refl _ | exact Nat.le_trans (Nat.le_trans Nat.and_le_right (by omega)) g1) (by first | (rw [Nat.zero_add]; done) | (rw [popN, dif_neg c5] at g2; omega)) (Nat.lt_succ_self _) _ (lv_sub hl [1, 0] rfl)
