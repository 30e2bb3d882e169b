set_option maxHeartbeats 4000000 in
set_option maxRecDepth 100000 in
theorem M_sizeOf (l : Launch) (G : nG) (k : Nat) (hk : k < 7) : nSi l yX2_sizeOf cX2_sizeOf 5 (.int) 0 0 G [.long (wdF k)] ([]) (fun r : Int32 => r = (nI ((wC k).length))) := by
  refine nSi.of (own := "ShareStreamsModel") rfl (by decide +kernel) (Nat.le_of_ble_eq_true rfl) (fun _ _ => rfl) ?_
  intro p e s m args below meth c Q ls hx hb hml hown hts hG hP hl ret
  have hl : lv_has ls 5 [(0, .long (wdF k))] := hl
  have hwl := wC_len k hk
  refine lv_iconst (v := nI 0) hx hb dX2_sizeOf_0 rfl ?_
  refine lv_istore_n (lv' := [(2, .int (nI 0)), (0, .long (wdF k))]) hx hb dX2_sizeOf_1 rfl hl (by decide) rfl (fun ls hl => ?_)
  refine lv_lload_n hx hb dX2_sizeOf_2 rfl (lv_at hl 1 rfl) ?_
  refine lv_lstore_n (lv' := [(3, .long (wdF k)), (2, .int (nI 0)), (0, .long (wdF k))]) hx hb dX2_sizeOf_3 rfl hl (by decide) rfl (fun ls hl => ?_)
  have L4 : ∀ (k_ : Nat) (n : Nat) (g1 : n ≤ (wC k).length) (hk_ : (wC k).length - n < k_) (ls : Array Slot), lv_has ls 5 [(2, .int (nI n)), (3, .long (shK k n))] → W p l e (nRm 0 0 0 0) s m args below meth c s.heap [] 0 0 Q (F0 m 4 ls []) := by
    intro k_
    induction k_ with
    | zero => intro n g1 hk_; exact absurd hk_ (Nat.not_lt_zero _)
    | succ k_ ih_L4 =>
      intro n g1 hk_ ls hl
      refine lv_lload_n hx hb dX2_sizeOf_4 rfl (lv_at hl 1 rfl) ?_
      refine lv_lconst (v := lN 0) hx hb dX2_sizeOf_5 rfl ?_
      refine W.lcmp hx hb dX2_sizeOf_6 ?_
      refine lv_if_le (tgt := 21) hx hb dX2_sizeOf_7 (by decide) (fun c7 => ?_) (fun c7 => ?_)
      · skip
        have c7 := n_lcr_le_t c7
        have c7 : (shK k n).toInt ≤ 0 := c7
        have e9 : n = (wC k).length := by rcases Nat.lt_or_ge n (wC k).length with h | h; { have := (shK_p k hk n (by omega)).1 h; omega }; { omega }
        refine lv_iload_n hx hb dX2_sizeOf_21 rfl (lv_at hl 0 rfl) ?_
        exact ret (nI n) dX2_sizeOf_22 (by rw [e9])
      · skip
        have c7 := n_lcr_le_f c7
        have c7 : 0 < (shK k n).toInt := c7
        have e9 : n < (wC k).length := by rcases Nat.lt_or_ge n (wC k).length with h | h; { exact h }; { have := (shK_p k hk n (by omega)).2 (by omega); omega }
        refine lv_iinc (v := nI (n + 1)) (lv' := [(2, .int (nI (n + 1))), (3, .long (shK k n))]) hx hb dX2_sizeOf_10 hl (k := 0) rfl (nI_add _ _) (by decide) rfl (fun ls hl => ?_)
        refine lv_lload_n hx hb dX2_sizeOf_13 rfl (lv_at hl 1 rfl) ?_
        refine lv_bipush (v := nI 8) hx hb dX2_sizeOf_14 rfl ?_
        refine lv_lshr (v := shK k (n + 1)) hx hb dX2_sizeOf_16 rfl ?_
        refine lv_lstore_n (lv' := [(3, .long (shK k (n + 1))), (2, .int (nI (n + 1)))]) hx hb dX2_sizeOf_17 rfl hl (by decide) rfl (fun ls hl => ?_)
        refine lv_goto (tgt := 4) hx hb dX2_sizeOf_18 (by decide) ?_
        exact ih_L4 (n + 1) (by first | assumption | omega) (by omega) _ (lv_sub hl [1, 0] rfl)
  exact L4 _ 0 (by first | assumption | omega) (Nat.lt_succ_self _) _ (lv_sub hl [1, 0] rfl)
set_option maxHeartbeats 4000000 in
set_option maxRecDepth 100000 in
theorem M_likeness (l : Launch) (G : nG) (q : Nat) (a : Nat → Nat) (all : Nat → Int32) (kept : Nat → Int32) (hist : Nat → Int32) (hlo : Int32) (snap : Nat → Int32) (tk : Int32) (bits : Nat → Int32) (reg : Nat → Int32) (exa : Nat → Int32) (text : Nat → Int32) (tl : Int32) (sp : Int32) (read : Nat → Int32) (rm : Int32) (nu : Int32) (deep : Nat → Int32) (src : Nat → Int32) (T : List Nat) (p0 : Nat) (k : Nat) (htx : txR T text tl) (esp : sp = nI p0) (hp0 : p0 ≤ T.length) (hk : k < 7) : nSi l yX2_likeness cX2_likeness 5 (.int) 1 24 G [.ref q, .long (wdF k)] (mW G q a wdF all kept hist hlo snap tk bits reg exa text tl sp read rm nu deep src) (fun r : Int32 => r = (nI (agC T p0 (wC k)))) := by
  refine nSi.of (own := "ShareStreamsModel") rfl (by decide +kernel) (Nat.le_of_ble_eq_true rfl) (fun _ _ => rfl) ?_
  intro p e s m args below meth c Q ls hx hb hml hown hts hG hP hl ret
  have hl : lv_has ls 5 [(0, .ref q), (1, .long (wdF k))] := hl
  obtain ⟨et, hL, hc, htt⟩ := htx
  have htx : txR T text tl := ⟨et, hL, hc, htt⟩
  have hwl := wC_len k hk
  refine lv_lload_n hx hb dX2_likeness_0 rfl (lv_at hl 1 rfl) ?_
  refine ns_i (k := 3) (nr_S (As := [.long (wdF k)]) (rest := []) hx hb hml hown hts (M_sizeOf l G k hk) nPs.blind 1 q1091 q1092 q53 q1093 (by decide +kernel) ⟨⟨Nat.le_of_ble_eq_true rfl, Nat.le_of_ble_eq_true rfl⟩, Nat.le_of_ble_eq_true rfl, Nat.le_of_ble_eq_true rfl⟩ (nPs_of0 hG (fun k q h => by simp at h)) rfl hl.1 rfl (Nat.le_of_ble_eq_true rfl) dX2_likeness_1) (fun r1 hp1 => ?_)
  have he1 := hp1
  have he1 : r1 = nI ((wC k).length) := he1
  subst he1
  refine lv_istore_n (lv' := [(3, .int (nI ((wC k).length))), (0, .ref q), (1, .long (wdF k))]) hx hb dX2_likeness_4 rfl hl (by decide) rfl (fun ls hl => ?_)
  refine lv_iconst (v := nI 0) hx hb dX2_likeness_5 rfl ?_
  refine lv_istore (lv' := [(4, .int (nI 0)), (3, .int (nI ((wC k).length))), (0, .ref q), (1, .long (wdF k))]) hx hb dX2_likeness_6 hl (by decide) rfl (fun ls hl => ?_)
  have L8 : ∀ (k_ : Nat) (n : Nat) (g1 : n ≤ (wC k).length) (g2 : ∀ i, i < n → p0 + i < T.length ∧ tC T (p0 + i) = (wC k).getD i 0) (hk_ : (wC k).length - n < k_) (ls : Array Slot), lv_has ls 5 [(4, .int (nI n)), (3, .int (nI ((wC k).length))), (0, .ref q), (1, .long (wdF k))] → W p l e (nRm 1 0 0 24) s m args below meth c s.heap [] 0 0 Q (F0 m 8 ls []) := by
    intro k_
    induction k_ with
    | zero => intro n g1 g2 hk_; exact absurd hk_ (Nat.not_lt_zero _)
    | succ k_ ih_L8 =>
      intro n g1 g2 hk_ ls hl
      refine lv_iload hx hb dX2_likeness_8 (lv_at hl 0 rfl) ?_
      refine lv_iload_n hx hb dX2_likeness_10 rfl (lv_at hl 1 rfl) ?_
      refine lv_icmp_ge (tgt := 66) hx hb dX2_likeness_11 (by decide) (fun c11 => ?_) (fun c11 => ?_)
      · skip
        have c11 := n_le_t (a := (wC k).length) (b := n) c11 (by omega) (by omega)
        refine lv_iload hx hb dX2_likeness_66 (lv_at hl 0 rfl) ?_
        exact ret (nI n) dX2_likeness_68 (congrArg nI (agC_eq (wC k) p0 n g2 g1 (by first | exact Or.inl (by omega) | exact Or.inr (fun h => by omega) | exact Or.inr (fun h => c57 h.2))).symm)
      · skip
        have c11 := n_le_f (a := (wC k).length) (b := n) c11 (by omega) (by omega)
        refine lv_aload_n hx hb dX2_likeness_14 rfl (lv_at hl 2 rfl) ?_
        refine r_get (v := .int sp) hx hb hts in_X2 hown hG hP 0 rfl rfl 12 (by decide) q950 (fun _ h9 => h9) rfl dX2_likeness_15 ?_
        refine r_as (z := nI p0) esp ?_
        refine lv_iload hx hb dX2_likeness_18 (lv_at hl 0 rfl) ?_
        refine lv_iadd hx hb dX2_likeness_20 ?_
        refine r_as (z := nI (p0 + n)) (nI_add _ _) ?_
        refine lv_aload_n hx hb dX2_likeness_21 rfl (lv_at hl 2 rfl) ?_
        refine r_get (v := .int tl) hx hb hts in_X2 hown hG hP 0 rfl rfl 11 (by decide) q949 (fun _ h9 => h9) rfl dX2_likeness_22 ?_
        refine r_as (z := nI T.length) et ?_
        refine lv_icmp_ge (tgt := 66) hx hb dX2_likeness_25 (by decide) (fun c25 => ?_) (fun c25 => ?_)
        · skip
          have c25 := n_le_t (a := T.length) (b := p0 + n) c25 (by omega) (by omega)
          refine lv_iload hx hb dX2_likeness_66 (lv_at hl 0 rfl) ?_
          exact ret (nI n) dX2_likeness_68 (congrArg nI (agC_eq (wC k) p0 n g2 g1 (by first | exact Or.inl (by omega) | exact Or.inr (fun h => by omega) | exact Or.inr (fun h => c57 h.2))).symm)
        · skip
          have c25 := n_le_f (a := T.length) (b := p0 + n) c25 (by omega) (by omega)
          refine lv_aload_n hx hb dX2_likeness_28 rfl (lv_at hl 2 rfl) ?_
          refine r_get (v := .ref (a 8)) hx hb hts in_X2 hown hG hP 0 rfl rfl 10 (by decide) q948 (fun _ h9 => h9) rfl dX2_likeness_29 ?_
          refine lv_aload_n hx hb dX2_likeness_32 rfl (lv_at hl 2 rfl) ?_
          refine r_get (v := .int sp) hx hb hts in_X2 hown hG hP 0 rfl rfl 12 (by decide) q950 (fun _ h9 => h9) rfl dX2_likeness_33 ?_
          refine r_as (z := nI p0) esp ?_
          refine lv_iload hx hb dX2_likeness_36 (lv_at hl 0 rfl) ?_
          refine lv_iadd hx hb dX2_likeness_38 ?_
          refine r_as (z := nI (p0 + n)) (nI_add _ _) ?_
          refine r_iald hx hb hG hP 9 rfl (j := p0 + n) (by omega) (by decide) (v := nI (tC T (p0 + n))) (htt _ (by omega)) dX2_likeness_39 ?_
          have hcc := hc (p0 + n)
          refine lv_i2l (v := lN (tC T (p0 + n))) hx hb dX2_likeness_40 (nI_l (by omega)) ?_
          refine lv_lload_n hx hb dX2_likeness_41 rfl (lv_at hl 3 rfl) ?_
          refine lv_bipush (v := nI 8) hx hb dX2_likeness_42 rfl ?_
          refine lv_iload_n hx hb dX2_likeness_44 rfl (lv_at hl 1 rfl) ?_
          refine lv_iconst (v := nI 1) hx hb dX2_likeness_45 rfl ?_
          refine lv_isub hx hb dX2_likeness_46 ?_
          refine r_as (z := nI (((wC k).length) - 1)) (pk_sub (by omega)) ?_
          refine lv_iload hx hb dX2_likeness_47 (lv_at hl 0 rfl) ?_
          refine lv_isub hx hb dX2_likeness_49 ?_
          refine r_as (z := nI ((((wC k).length) - 1) - n)) (pk_sub (by omega)) ?_
          refine lv_imul hx hb dX2_likeness_50 ?_
          refine r_as (z := nI (8 * ((((wC k).length) - 1) - n))) (pk_mul _ _) ?_
          refine lv_lshr (v := (wdF k) >>> (Int32.toInt64 (nI (8 * ((((wC k).length) - 1) - n))) &&& 63)) hx hb dX2_likeness_51 rfl ?_
          refine lv_ldc2 hx hb hown (hts _ q1002) dX2_likeness_52 ?_
          refine r_asl (z := lN 255) rfl ?_
          refine lv_land hx hb dX2_likeness_55 ?_
          refine r_asl (z := lN ((wC k).getD n 0)) (wtab k hk n (by omega) (by omega)) ?_
          have hcw := wchr k hk n (by omega)
          refine W.lcmp hx hb dX2_likeness_56 ?_
          refine lv_if_ne (tgt := 66) hx hb dX2_likeness_57 (by decide) (fun c57 => ?_) (fun c57 => ?_)
          · skip
            have c57 := n_lc_ne_t (a := tC T (p0 + n)) (b := (wC k).getD n 0) c57 (by omega) (by omega)
            refine lv_iload hx hb dX2_likeness_66 (lv_at hl 0 rfl) ?_
            exact ret (nI n) dX2_likeness_68 (congrArg nI (agC_eq (wC k) p0 n g2 g1 (by first | exact Or.inl (by omega) | exact Or.inr (fun h => by omega) | exact Or.inr (fun h => c57 h.2))).symm)
          · skip
            have c57 := n_lc_ne_f (a := tC T (p0 + n)) (b := (wC k).getD n 0) c57 (by omega) (by omega)
            refine lv_iinc (v := nI (n + 1)) (lv' := [(4, .int (nI (n + 1))), (3, .int (nI ((wC k).length))), (0, .ref q), (1, .long (wdF k))]) hx hb dX2_likeness_60 hl (k := 0) rfl (nI_add _ _) (by decide) rfl (fun ls hl => ?_)
            refine lv_goto (tgt := 8) hx hb dX2_likeness_63 (by decide) ?_
            exact ih_L8 (n + 1) (by first | assumption | omega) (by first | (intro i hi; omega) | (intro i hi; by_cases e : i = n; { subst e; exact ⟨by omega, c57⟩ }; { exact g2 i (by omega) })) (by omega) _ (lv_sub hl [0, 1, 2, 3] rfl)
  exact L8 _ 0 (by first | assumption | omega) (by first | (intro i hi; omega) | (intro i hi; by_cases e : i = n; { subst e; exact ⟨by omega, c57⟩ }; { exact g2 i (by omega) })) (Nat.lt_succ_self _) _ (lv_sub hl [0, 1, 2, 3] rfl)
set_option maxHeartbeats 4000000 in
set_option maxRecDepth 100000 in
theorem M_readsWord (l : Launch) (G : nG) (q : Nat) (a : Nat → Nat) (all : Nat → Int32) (kept : Nat → Int32) (hist : Nat → Int32) (hlo : Int32) (snap : Nat → Int32) (tk : Int32) (bits : Nat → Int32) (reg : Nat → Int32) (exa : Nat → Int32) (text : Nat → Int32) (tl : Int32) (sp : Int32) (read : Nat → Int32) (rm : Int32) (nu : Int32) (deep : Nat → Int32) (src : Nat → Int32) (T : List Nat) (p0 : Nat) (htx : txR T text tl) (esp : sp = nI p0) (hp0 : p0 ≤ T.length) : nMi (S := Unit) l yX2_readsWord cX2_readsWord 5 (.int) 2 0 0 48 G [.ref q] (mW G q a wdF all kept hist hlo snap tk bits reg exa text tl sp read rm nu deep src) ([]) (fun (u : Unit) => mW G q a wdF all kept hist hlo snap tk bits reg exa text tl (nI ((rdW T p0).2)) read rm nu deep src) (fun (r : Int32) (u : Unit) => r = (if (rdW T p0).1 = 7 then cNONE else nI (rdW T p0).1)) := by
  refine nMi.of (own := "ShareStreamsModel") rfl (by decide +kernel) (Nat.le_of_ble_eq_true rfl) (fun _ _ _ => rfl) ?_
  intro p e s m args below meth c A Q ls hx hb hml hown hts hin hG Z hl ret
  have hl : lv_has ls 5 [(0, .ref q)] := hl
  have Z : nW G A (mW G q a wdF all kept hist hlo snap tk bits reg exa text tl sp read rm nu deep src) ([]) ([]) s.heap _ _ := Z
  obtain ⟨et, hL, hc, htt⟩ := htx
  have htx : txR T text tl := ⟨et, hL, hc, htt⟩
  refine lv_iconst (v := nI 0) hx hb dX2_readsWord_0 rfl ?_
  refine lv_istore_n (lv' := [(1, .int (nI 0)), (0, .ref q)]) hx hb dX2_readsWord_1 rfl hl (by decide) rfl (fun ls hl => ?_)
  refine lv_ldc hx hb hown (hts _ q1003) dX2_readsWord_2 ?_
  refine lv_istore_n (lv' := [(2, .int (-100000005 : Int32)), (1, .int (nI 0)), (0, .ref q)]) hx hb dX2_readsWord_4 rfl hl (by decide) rfl (fun ls hl => ?_)
  refine lv_iconst (v := nI 0) hx hb dX2_readsWord_5 rfl ?_
  refine lv_istore_n (lv' := [(3, .int (nI 0)), (2, .int (-100000005 : Int32)), (1, .int (nI 0)), (0, .ref q)]) hx hb dX2_readsWord_6 rfl hl (by decide) rfl (fun ls hl => ?_)
  have L7 : ∀ (k_ : Nat) (k : Nat) (w1 : Int32) (g1 : k ≤ 7) (g2 : ((∀ j, j < k → wFull T p0 j = false) ∧ w1 = cNONE) ∨ ∃ j, j < k ∧ wFull T p0 j = true ∧ w1 = nI j) (hk_ : 7 - k < k_) (H : Heap) (locs : List Loc), nW G A (mW G q a wdF all kept hist hlo snap tk bits reg exa text tl sp read rm nu deep src) ([]) ([]) s.heap H locs → ∀ (ls : Array Slot), lv_has ls 5 [(1, .int (nI (mxN (fun k => agC T p0 (wC k)) k))), (2, .int w1), (3, .int (nI k)), (0, .ref q)] → W p l e (nRm 2 0 0 48) s m args below meth c H locs 0 0 Q (F0 m 7 ls []) := by
    intro k_
    induction k_ with
    | zero => intro k w1 g1 g2 hk_; exact absurd hk_ (Nat.not_lt_zero _)
    | succ k_ ih_L7 =>
      intro k w1 g1 g2 hk_ H locs Z ls hl
      refine lv_iload_n hx hb dX2_readsWord_7 rfl (lv_at hl 2 rfl) ?_
      refine lv_bipush (v := nI 7) hx hb dX2_readsWord_8 rfl ?_
      refine lv_icmp_ge (tgt := 64) hx hb dX2_readsWord_10 (by decide) (fun c10 => ?_) (fun c10 => ?_)
      · skip
        have c10 := n_le_t (a := 7) (b := k) c10 (by decide) (by omega)
        have hk7 : k = 7 := by omega
        have hrw := wd_end (T := T) (p := p0) (by rw [← hk7]; exact g2)
        refine lv_aload_n hx hb dX2_readsWord_64 rfl (lv_at hl 3 rfl) ?_
        refine lv_dup hx hb dX2_readsWord_65 rfl ?_
        refine r_get (v := .int sp) hx hb hts in_X2 hown hG Z.w 0 rfl rfl 12 (by decide) q950 (fun _ h9 => h9) rfl dX2_readsWord_66 ?_
        refine r_as (z := nI p0) esp ?_
        refine lv_iload_n hx hb dX2_readsWord_69 rfl (lv_at hl 0 rfl) ?_
        refine lv_iadd hx hb dX2_readsWord_70 ?_
        refine r_as (z := nI ((rdW T p0).2)) (by rw [nI_add, hk7, hrw.1]) ?_
        refine r_put (ty := .int) hx hb hts in_X2 tyX2 tyX2_ok nmX2 hown hG Z 0 rfl rfl 12 (by decide) q950 (fun _ h9 => h9) rfl (by decide +kernel) rfl rfl (Nat.le_of_ble_eq_true rfl) (wc' := mW G q a wdF all kept hist hlo snap tk bits reg exa text tl (nI ((rdW T p0).2)) read rm nu deep src) rfl dX2_readsWord_71 (fun H locs Z => ?_)
        refine lv_iload_n hx hb dX2_readsWord_74 rfl (lv_at hl 1 rfl) ?_
        exact ret w1 () dX2_readsWord_75 hrw.2 Z (Nat.le_of_ble_eq_true rfl) (Nat.le_of_ble_eq_true rfl)
      · skip
        have c10 := n_le_f (a := 7) (b := k) c10 (by decide) (by omega)
        refine lv_aload_n hx hb dX2_readsWord_13 rfl (lv_at hl 3 rfl) ?_
        refine lv_aload_n hx hb dX2_readsWord_14 rfl (lv_at hl 3 rfl) ?_
        refine r_get (v := .ref (a 4)) hx hb hts in_X2 hown hG Z.w 0 rfl rfl 6 (by decide) q944 (fun _ h9 => h9) rfl dX2_readsWord_15 ?_
        refine lv_iload_n hx hb dX2_readsWord_18 rfl (lv_at hl 2 rfl) ?_
        refine r_lald hx hb hG Z.w 5 rfl (j := k) (by omega) (by decide) (v := wdF k) rfl dX2_readsWord_19 ?_
        refine ns_i (k := 3) (nr_V (As := [.long (wdF k)]) (rest := []) hx hb hml hown hts (M_likeness l G q a all kept hist hlo snap tk bits reg exa text tl sp read rm nu deep src T p0 k htx esp (by first | assumption | omega | rfl) (by omega)) nPs.blind 1 q1087 q1089 qs25 q53 q1090 (by decide +kernel) ⟨⟨Nat.le_of_ble_eq_true rfl, Nat.le_of_ble_eq_true rfl⟩, Nat.le_of_ble_eq_true rfl, Nat.le_of_ble_eq_true rfl⟩ (r_recv hG Z.w 0 (C := "ShareStreamsModel") rfl rfl rfl) (nPs_of hG Z Z.w) rfl hl.1 rfl (Nat.le_of_ble_eq_true rfl) dX2_readsWord_20) (fun r20 hp20 => ?_)
        have he20 := hp20
        have he20 : r20 = nI (agC T p0 (wC k)) := he20
        subst he20
        refine lv_istore (lv' := [(4, .int (nI (agC T p0 (wC k)))), (1, .int (nI (mxN (fun k => agC T p0 (wC k)) k))), (2, .int w1), (3, .int (nI k)), (0, .ref q)]) hx hb dX2_readsWord_23 hl (by decide) rfl (fun ls hl => ?_)
        have ha := agC_le (T := T) (wC k) p0
        have hw6 := wC_len k (by omega)
        have hmx : mxN (fun k => agC T p0 (wC k)) k ≤ 6 := mxN_le (fun t ht => Nat.le_trans (agC_le (T := T) (wC t) p0) (wC_len t (by omega)).2)
        refine lv_iload hx hb dX2_readsWord_25 (lv_at hl 0 rfl) ?_
        refine lv_iload_n hx hb dX2_readsWord_27 rfl (lv_at hl 1 rfl) ?_
        refine lv_icmp_le (tgt := 36) hx hb dX2_readsWord_28 (by decide) (fun c28 => ?_) (fun c28 => ?_)
        · skip
          have c28 := n_le_t (a := agC T p0 (wC k)) (b := mxN (fun k => agC T p0 (wC k)) k) c28 (by omega) (by omega)
          refine lv_iload_n hx hb dX2_readsWord_36 rfl (lv_at hl 1 rfl) ?_
          refine r_as (z := nI (mxN (fun k => agC T p0 (wC k)) (k + 1))) (by rw [mxN]; congr 1; omega) ?_
          refine lv_istore_n (lv' := [(1, .int (nI (mxN (fun k => agC T p0 (wC k)) (k + 1)))), (4, .int (nI (agC T p0 (wC k)))), (2, .int w1), (3, .int (nI k)), (0, .ref q)]) hx hb dX2_readsWord_37 rfl hl (by decide) rfl (fun ls hl => ?_)
          refine lv_iload hx hb dX2_readsWord_38 (lv_at hl 1 rfl) ?_
          refine lv_aload_n hx hb dX2_readsWord_40 rfl (lv_at hl 4 rfl) ?_
          refine r_get (v := .ref (a 4)) hx hb hts in_X2 hown hG Z.w 0 rfl rfl 6 (by decide) q944 (fun _ h9 => h9) rfl dX2_readsWord_41 ?_
          refine lv_iload_n hx hb dX2_readsWord_44 rfl (lv_at hl 3 rfl) ?_
          refine r_lald hx hb hG Z.w 5 rfl (j := k) (by omega) (by decide) (v := wdF k) rfl dX2_readsWord_45 ?_
          refine ns_i (k := 3) (nr_S (As := [.long (wdF k)]) (rest := [.int (nI (agC T p0 (wC k)))]) hx hb hml hown hts (M_sizeOf l G k (by omega)) nPs.blind 1 q1091 q1092 q53 q1093 (by decide +kernel) ⟨⟨Nat.le_of_ble_eq_true rfl, Nat.le_of_ble_eq_true rfl⟩, Nat.le_of_ble_eq_true rfl, Nat.le_of_ble_eq_true rfl⟩ (nPs_of hG Z (fun k q h => by simp at h)) rfl hl.1 rfl (Nat.le_of_ble_eq_true rfl) dX2_readsWord_46) (fun r46 hp46 => ?_)
          have he46 := hp46
          have he46 : r46 = nI ((wC k).length) := he46
          subst he46
          refine lv_icmp_ne (tgt := 56) hx hb dX2_readsWord_49 (by decide) (fun c49 => ?_) (fun c49 => ?_)
          · skip
            have c49 := n_eq_f (a := agC T p0 (wC k)) (b := (wC k).length) c49
            refine lv_iload_n hx hb dX2_readsWord_56 rfl (lv_at hl 2 rfl) ?_
            refine lv_istore_n (lv' := [(2, .int w1), (1, .int (nI (mxN (fun k => agC T p0 (wC k)) (k + 1)))), (4, .int (nI (agC T p0 (wC k)))), (3, .int (nI k)), (0, .ref q)]) hx hb dX2_readsWord_57 rfl hl (by decide) rfl (fun ls hl => ?_)
            refine lv_iinc (v := nI (k + 1)) (lv' := [(3, .int (nI (k + 1))), (2, .int w1), (1, .int (nI (mxN (fun k => agC T p0 (wC k)) (k + 1)))), (4, .int (nI (agC T p0 (wC k)))), (0, .ref q)]) hx hb dX2_readsWord_58 hl (k := 3) rfl (nI_add _ _) (by decide) rfl (fun ls hl => ?_)
            refine lv_goto (tgt := 7) hx hb dX2_readsWord_61 (by decide) ?_
            exact ih_L7 (k + 1) w1 (by first | assumption | omega) (by first | exact Or.inr ⟨k, by omega, decide_eq_true c49, rfl⟩ | exact wd_no g2 (decide_eq_false c49)) (by omega) _ _ Z _ (lv_sub hl [2, 1, 0, 4] rfl)
          · skip
            have c49 := n_eq_t (a := agC T p0 (wC k)) (b := (wC k).length) c49 (by omega) (by omega)
            refine lv_iload_n hx hb dX2_readsWord_52 rfl (lv_at hl 3 rfl) ?_
            refine lv_goto (tgt := 57) hx hb dX2_readsWord_53 (by decide) ?_
            refine lv_istore_n (lv' := [(2, .int (nI k)), (1, .int (nI (mxN (fun k => agC T p0 (wC k)) (k + 1)))), (4, .int (nI (agC T p0 (wC k)))), (3, .int (nI k)), (0, .ref q)]) hx hb dX2_readsWord_57 rfl hl (by decide) rfl (fun ls hl => ?_)
            refine lv_iinc (v := nI (k + 1)) (lv' := [(3, .int (nI (k + 1))), (2, .int (nI k)), (1, .int (nI (mxN (fun k => agC T p0 (wC k)) (k + 1)))), (4, .int (nI (agC T p0 (wC k)))), (0, .ref q)]) hx hb dX2_readsWord_58 hl (k := 3) rfl (nI_add _ _) (by decide) rfl (fun ls hl => ?_)
            refine lv_goto (tgt := 7) hx hb dX2_readsWord_61 (by decide) ?_
            exact ih_L7 (k + 1) (nI k) (by first | assumption | omega) (by first | exact Or.inr ⟨k, by omega, decide_eq_true c49, rfl⟩ | exact wd_no g2 (decide_eq_false c49)) (by omega) _ _ Z _ (lv_sub hl [2, 1, 0, 4] rfl)
        · skip
          have c28 := n_le_f (a := agC T p0 (wC k)) (b := mxN (fun k => agC T p0 (wC k)) k) c28 (by omega) (by omega)
          refine lv_iload hx hb dX2_readsWord_31 (lv_at hl 0 rfl) ?_
          refine lv_goto (tgt := 37) hx hb dX2_readsWord_33 (by decide) ?_
          refine r_as (z := nI (mxN (fun k => agC T p0 (wC k)) (k + 1))) (by rw [mxN]; congr 1; omega) ?_
          refine lv_istore_n (lv' := [(1, .int (nI (mxN (fun k => agC T p0 (wC k)) (k + 1)))), (4, .int (nI (agC T p0 (wC k)))), (2, .int w1), (3, .int (nI k)), (0, .ref q)]) hx hb dX2_readsWord_37 rfl hl (by decide) rfl (fun ls hl => ?_)
          refine lv_iload hx hb dX2_readsWord_38 (lv_at hl 1 rfl) ?_
          refine lv_aload_n hx hb dX2_readsWord_40 rfl (lv_at hl 4 rfl) ?_
          refine r_get (v := .ref (a 4)) hx hb hts in_X2 hown hG Z.w 0 rfl rfl 6 (by decide) q944 (fun _ h9 => h9) rfl dX2_readsWord_41 ?_
          refine lv_iload_n hx hb dX2_readsWord_44 rfl (lv_at hl 3 rfl) ?_
          refine r_lald hx hb hG Z.w 5 rfl (j := k) (by omega) (by decide) (v := wdF k) rfl dX2_readsWord_45 ?_
          refine ns_i (k := 3) (nr_S (As := [.long (wdF k)]) (rest := [.int (nI (agC T p0 (wC k)))]) hx hb hml hown hts (M_sizeOf l G k (by omega)) nPs.blind 1 q1091 q1092 q53 q1093 (by decide +kernel) ⟨⟨Nat.le_of_ble_eq_true rfl, Nat.le_of_ble_eq_true rfl⟩, Nat.le_of_ble_eq_true rfl, Nat.le_of_ble_eq_true rfl⟩ (nPs_of hG Z (fun k q h => by simp at h)) rfl hl.1 rfl (Nat.le_of_ble_eq_true rfl) dX2_readsWord_46) (fun r46 hp46 => ?_)
          have he46 := hp46
          have he46 : r46 = nI ((wC k).length) := he46
          subst he46
          refine lv_icmp_ne (tgt := 56) hx hb dX2_readsWord_49 (by decide) (fun c49 => ?_) (fun c49 => ?_)
          · skip
            have c49 := n_eq_f (a := agC T p0 (wC k)) (b := (wC k).length) c49
            refine lv_iload_n hx hb dX2_readsWord_56 rfl (lv_at hl 2 rfl) ?_
            refine lv_istore_n (lv' := [(2, .int w1), (1, .int (nI (mxN (fun k => agC T p0 (wC k)) (k + 1)))), (4, .int (nI (agC T p0 (wC k)))), (3, .int (nI k)), (0, .ref q)]) hx hb dX2_readsWord_57 rfl hl (by decide) rfl (fun ls hl => ?_)
            refine lv_iinc (v := nI (k + 1)) (lv' := [(3, .int (nI (k + 1))), (2, .int w1), (1, .int (nI (mxN (fun k => agC T p0 (wC k)) (k + 1)))), (4, .int (nI (agC T p0 (wC k)))), (0, .ref q)]) hx hb dX2_readsWord_58 hl (k := 3) rfl (nI_add _ _) (by decide) rfl (fun ls hl => ?_)
            refine lv_goto (tgt := 7) hx hb dX2_readsWord_61 (by decide) ?_
            exact ih_L7 (k + 1) w1 (by first | assumption | omega) (by first | exact Or.inr ⟨k, by omega, decide_eq_true c49, rfl⟩ | exact wd_no g2 (decide_eq_false c49)) (by omega) _ _ Z _ (lv_sub hl [2, 1, 0, 4] rfl)
          · skip
            have c49 := n_eq_t (a := agC T p0 (wC k)) (b := (wC k).length) c49 (by omega) (by omega)
            refine lv_iload_n hx hb dX2_readsWord_52 rfl (lv_at hl 3 rfl) ?_
            refine lv_goto (tgt := 57) hx hb dX2_readsWord_53 (by decide) ?_
            refine lv_istore_n (lv' := [(2, .int (nI k)), (1, .int (nI (mxN (fun k => agC T p0 (wC k)) (k + 1)))), (4, .int (nI (agC T p0 (wC k)))), (3, .int (nI k)), (0, .ref q)]) hx hb dX2_readsWord_57 rfl hl (by decide) rfl (fun ls hl => ?_)
            refine lv_iinc (v := nI (k + 1)) (lv' := [(3, .int (nI (k + 1))), (2, .int (nI k)), (1, .int (nI (mxN (fun k => agC T p0 (wC k)) (k + 1)))), (4, .int (nI (agC T p0 (wC k)))), (0, .ref q)]) hx hb dX2_readsWord_58 hl (k := 3) rfl (nI_add _ _) (by decide) rfl (fun ls hl => ?_)
            refine lv_goto (tgt := 7) hx hb dX2_readsWord_61 (by decide) ?_
            exact ih_L7 (k + 1) (nI k) (by first | assumption | omega) (by first | exact Or.inr ⟨k, by omega, decide_eq_true c49, rfl⟩ | exact wd_no g2 (decide_eq_false c49)) (by omega) _ _ Z _ (lv_sub hl [2, 1, 0, 4] rfl)
  exact L7 _ 0 (-100000005 : Int32) (by first | assumption | omega) (Or.inl ⟨fun j hj => absurd hj (Nat.not_lt_zero _), rfl⟩) (Nat.lt_succ_self _) _ _ Z _ (lv_sub hl [2, 1, 0, 3] rfl)
set_option maxHeartbeats 4000000 in
set_option maxRecDepth 100000 in
theorem M_isHere (l : Launch) (G : nG) (q : Nat) (a : Nat → Nat) (wd : Nat → Int64) (all : Nat → Int32) (kept : Nat → Int32) (hist : Nat → Int32) (hlo : Int32) (snap : Nat → Int32) (tk : Int32) (bits : Nat → Int32) (reg : Nat → Int32) (exa : Nat → Int32) (text : Nat → Int32) (tl : Int32) (sp : Int32) (read : Nat → Int32) (rm : Int32) (nu : Int32) (deep : Nat → Int32) (src : Nat → Int32) (T : List Nat) (p0 : Nat) (lo : Nat) (hi : Nat) (htx : txR T text tl) (esp : sp = nI p0) (hp0 : p0 ≤ T.length) (hlo1 : lo < 65536) (hhi : hi < 65536) : nSi l yX2_isHere cX2_isHere 3 (.boolean) 1 25 G [.ref q, .int (nI lo), .int (nI hi)] (mW G q a wd all kept hist hlo snap tk bits reg exa text tl sp read rm nu deep src) (fun r : Int32 => r = (bI (isH T p0 lo hi))) := by
  refine nSi.of (own := "ShareStreamsModel") rfl (by decide +kernel) (Nat.le_of_ble_eq_true rfl) (fun r h => by rw [h]; exact bI_n _) ?_
  intro p e s m args below meth c Q ls hx hb hml hown hts hG hP hl ret
  have hl : lv_has ls 3 [(0, .ref q), (1, .int (nI lo)), (2, .int (nI hi))] := hl
  obtain ⟨et, hL, hc, htt⟩ := htx
  have htx : txR T text tl := ⟨et, hL, hc, htt⟩
  refine lv_aload_n hx hb dX2_isHere_0 rfl (lv_at hl 0 rfl) ?_
  refine r_get (v := .int sp) hx hb hts in_X2 hown hG hP 0 rfl rfl 12 (by decide) q950 (fun _ h9 => h9) rfl dX2_isHere_1 ?_
  refine r_as (z := nI p0) esp ?_
  refine lv_aload_n hx hb dX2_isHere_4 rfl (lv_at hl 0 rfl) ?_
  refine r_get (v := .int tl) hx hb hts in_X2 hown hG hP 0 rfl rfl 11 (by decide) q949 (fun _ h9 => h9) rfl dX2_isHere_5 ?_
  refine r_as (z := nI T.length) et ?_
  refine lv_icmp_ge (tgt := 35) hx hb dX2_isHere_8 (by decide) (fun c8 => ?_) (fun c8 => ?_)
  · skip
    have c8 := n_le_t (a := T.length) (b := p0) c8 (by omega) (by omega)
    refine lv_iconst (v := nI 0) hx hb dX2_isHere_35 rfl ?_
    refine r_as (z := bI false) rfl ?_
    exact ret (bI false) dX2_isHere_36 (by first | (rw [isH_no c8]; done) | (rw [c28]; done))
  · skip
    have c8 := n_le_f (a := T.length) (b := p0) c8 (by omega) (by omega)
    refine lv_aload_n hx hb dX2_isHere_11 rfl (lv_at hl 0 rfl) ?_
    refine r_get (v := .ref (a 8)) hx hb hts in_X2 hown hG hP 0 rfl rfl 10 (by decide) q948 (fun _ h9 => h9) rfl dX2_isHere_12 ?_
    refine lv_aload_n hx hb dX2_isHere_15 rfl (lv_at hl 0 rfl) ?_
    refine r_get (v := .int sp) hx hb hts in_X2 hown hG hP 0 rfl rfl 12 (by decide) q950 (fun _ h9 => h9) rfl dX2_isHere_16 ?_
    refine r_as (z := nI p0) esp ?_
    refine r_iald hx hb hG hP 9 rfl (j := p0) (by omega) (by decide) (v := nI (tC T p0)) (htt _ c8) dX2_isHere_19 ?_
    have hcc := hc p0
    refine lv_i2l (v := lN (tC T p0)) hx hb dX2_isHere_20 (nI_l (by omega)) ?_
    refine lv_iload_n hx hb dX2_isHere_21 rfl (lv_at hl 1 rfl) ?_
    refine lv_i2l (v := lN lo) hx hb dX2_isHere_22 (nI_l (by omega)) ?_
    refine lv_iload_n hx hb dX2_isHere_23 rfl (lv_at hl 2 rfl) ?_
    refine lv_i2l (v := lN hi) hx hb dX2_isHere_24 (nI_l (by omega)) ?_
    refine ns_i (k := 3) (nr_S (As := [.long (lN (tC T p0)), .long (lN lo), .long (lN hi)]) (rest := []) hx hb hml hown hts (M_in l G (lN (tC T p0)) (lN lo) (lN hi)) nPs.blind 3 q999 q1000 q53 q1001 (by decide +kernel) ⟨⟨Nat.le_of_ble_eq_true rfl, Nat.le_of_ble_eq_true rfl⟩, Nat.le_of_ble_eq_true rfl, Nat.le_of_ble_eq_true rfl⟩ (nPs_of0 hG (fun k q h => by simp at h)) rfl hl.1 rfl (Nat.le_of_ble_eq_true rfl) dX2_isHere_25) (fun r25 hp25 => ?_)
    have he25 := hp25
    have he25 : r25 = bI (inL (lN (tC T p0)) (lN lo) (lN hi)) := he25
    subst he25
    refine r_as (z := bI (isH T p0 lo hi)) (by rw [isH_in c8 (hc _) (by omega) (by omega)]) ?_
    refine lv_if_eq (tgt := 35) hx hb dX2_isHere_28 (by decide) (fun c28 => ?_) (fun c28 => ?_)
    · skip
      have c28 := bI_f c28
      refine lv_iconst (v := nI 0) hx hb dX2_isHere_35 rfl ?_
      refine r_as (z := bI false) rfl ?_
      exact ret (bI false) dX2_isHere_36 (by first | (rw [isH_no c8]; done) | (rw [c28]; done))
    · skip
      have c28 := bI_t c28
      refine lv_iconst (v := nI 1) hx hb dX2_isHere_31 rfl ?_
      refine lv_goto (tgt := 36) hx hb dX2_isHere_32 (by decide) ?_
      refine r_as (z := bI true) rfl ?_
      exact ret (bI true) dX2_isHere_36 (by first | (rw [isH_no c8]; done) | (rw [c28]; done))
set_option maxHeartbeats 4000000 in
set_option maxRecDepth 100000 in
theorem M_takes (l : Launch) (G : nG) (q : Nat) (a : Nat → Nat) (wd : Nat → Int64) (all : Nat → Int32) (kept : Nat → Int32) (hist : Nat → Int32) (hlo : Int32) (snap : Nat → Int32) (tk : Int32) (bits : Nat → Int32) (reg : Nat → Int32) (exa : Nat → Int32) (text : Nat → Int32) (tl : Int32) (sp : Int32) (read : Nat → Int32) (rm : Int32) (nu : Int32) (deep : Nat → Int32) (src : Nat → Int32) (T : List Nat) (p0 : Nat) (c0 : Nat) (htx : txR T text tl) (esp : sp = nI p0) (hp0 : p0 ≤ T.length) (hc0 : c0 < 65536) : nMi (S := Unit) l yX2_takes cX2_takes 3 (.boolean) 2 0 0 47 G [.ref q, .int (nI c0)] (mW G q a wd all kept hist hlo snap tk bits reg exa text tl sp read rm nu deep src) ([]) (fun (u : Unit) => mW G q a wd all kept hist hlo snap tk bits reg exa text tl (nI (tkP T p0 c0)) read rm nu deep src) (fun (r : Int32) (u : Unit) => r = (bI (isH T p0 c0 c0))) := by
  refine nMi.of (own := "ShareStreamsModel") rfl (by decide +kernel) (Nat.le_of_ble_eq_true rfl) (fun r u h => by rw [h]; exact bI_n _) ?_
  intro p e s m args below meth c A Q ls hx hb hml hown hts hin hG Z hl ret
  have hl : lv_has ls 3 [(0, .ref q), (1, .int (nI c0))] := hl
  have Z : nW G A (mW G q a wd all kept hist hlo snap tk bits reg exa text tl sp read rm nu deep src) ([]) ([]) s.heap _ _ := Z
  obtain ⟨et, hL, hc, htt⟩ := htx
  have htx : txR T text tl := ⟨et, hL, hc, htt⟩
  refine lv_aload_n hx hb dX2_takes_0 rfl (lv_at hl 0 rfl) ?_
  refine lv_iload_n hx hb dX2_takes_1 rfl (lv_at hl 1 rfl) ?_
  refine lv_iload_n hx hb dX2_takes_2 rfl (lv_at hl 1 rfl) ?_
  refine ns_i (k := 3) (nr_V (As := [.int (nI c0), .int (nI c0)]) (rest := []) hx hb hml hown hts (M_isHere l G q a wd all kept hist hlo snap tk bits reg exa text tl sp read rm nu deep src T p0 c0 c0 (by first | assumption | omega | rfl) (by first | assumption | omega | rfl) (by first | assumption | omega | rfl) (by first | assumption | omega | rfl) (by first | assumption | omega | rfl)) nPs.blind 2 q1106 q1108 qs29 q53 q1109 (by decide +kernel) ⟨⟨Nat.le_of_ble_eq_true rfl, Nat.le_of_ble_eq_true rfl⟩, Nat.le_of_ble_eq_true rfl, Nat.le_of_ble_eq_true rfl⟩ (r_recv hG Z.w 0 (C := "ShareStreamsModel") rfl rfl rfl) (nPs_of hG Z Z.w) rfl hl.1 rfl (Nat.le_of_ble_eq_true rfl) dX2_takes_3) (fun r3 hp3 => ?_)
  have he3 := hp3
  have he3 : r3 = bI (isH T p0 c0 c0) := he3
  subst he3
  refine lv_istore_n (lv' := [(2, .int (bI (isH T p0 c0 c0))), (0, .ref q), (1, .int (nI c0))]) hx hb dX2_takes_6 rfl hl (by decide) rfl (fun ls hl => ?_)
  refine lv_aload_n hx hb dX2_takes_7 rfl (lv_at hl 1 rfl) ?_
  refine lv_dup hx hb dX2_takes_8 rfl ?_
  refine r_get (v := .int sp) hx hb hts in_X2 hown hG Z.w 0 rfl rfl 12 (by decide) q950 (fun _ h9 => h9) rfl dX2_takes_9 ?_
  refine r_as (z := nI p0) esp ?_
  refine lv_iload_n hx hb dX2_takes_12 rfl (lv_at hl 0 rfl) ?_
  refine lv_if_eq (tgt := 20) hx hb dX2_takes_13 (by decide) (fun c13 => ?_) (fun c13 => ?_)
  · skip
    have c13 := bI_f c13
    refine lv_iconst (v := nI 0) hx hb dX2_takes_20 rfl ?_
    refine lv_iadd hx hb dX2_takes_21 ?_
    refine r_as (z := nI (tkP T p0 c0)) (by unfold tkP; first | (rw [if_pos c13, nI_add]) | (rw [if_neg (by rw [c13]; decide), nI_add]; rfl)) ?_
    refine r_put (ty := .int) hx hb hts in_X2 tyX2 tyX2_ok nmX2 hown hG Z 0 rfl rfl 12 (by decide) q950 (fun _ h9 => h9) rfl (by decide +kernel) rfl rfl (Nat.le_of_ble_eq_true rfl) (wc' := mW G q a wd all kept hist hlo snap tk bits reg exa text tl (nI (tkP T p0 c0)) read rm nu deep src) rfl dX2_takes_22 (fun H locs Z => ?_)
    refine lv_iload_n hx hb dX2_takes_25 rfl (lv_at hl 0 rfl) ?_
    exact ret (bI (isH T p0 c0 c0)) () dX2_takes_26 rfl Z (Nat.le_of_ble_eq_true rfl) (Nat.le_of_ble_eq_true rfl)
  · skip
    have c13 := bI_t c13
    refine lv_iconst (v := nI 1) hx hb dX2_takes_16 rfl ?_
    refine lv_goto (tgt := 21) hx hb dX2_takes_17 (by decide) ?_
    refine lv_iadd hx hb dX2_takes_21 ?_
    refine r_as (z := nI (tkP T p0 c0)) (by unfold tkP; first | (rw [if_pos c13, nI_add]) | (rw [if_neg (by rw [c13]; decide), nI_add]; rfl)) ?_
    refine r_put (ty := .int) hx hb hts in_X2 tyX2 tyX2_ok nmX2 hown hG Z 0 rfl rfl 12 (by decide) q950 (fun _ h9 => h9) rfl (by decide +kernel) rfl rfl (Nat.le_of_ble_eq_true rfl) (wc' := mW G q a wd all kept hist hlo snap tk bits reg exa text tl (nI (tkP T p0 c0)) read rm nu deep src) rfl dX2_takes_22 (fun H locs Z => ?_)
    refine lv_iload_n hx hb dX2_takes_25 rfl (lv_at hl 0 rfl) ?_
    exact ret (bI (isH T p0 c0 c0)) () dX2_takes_26 rfl Z (Nat.le_of_ble_eq_true rfl) (Nat.le_of_ble_eq_true rfl)
