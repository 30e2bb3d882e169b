set_option maxHeartbeats 4000000 in
set_option maxRecDepth 100000 in
theorem M_remember (l : Launch) (G : nG) (q : Nat) (a : Nat → Nat) (wd : Nat → Int64) (all : Nat → Int32) (kept : Nat → Int32) (hist : Nat → Int32) (hlo : Int32) (snap : Nat → Int32) (tk : Int32) (bits : Nat → Int32) (reg : Nat → Int32) (exa : Nat → Int32) (text : Nat → Int32) (tl : Int32) (sp : Int32) (read : Nat → Int32) (rm : Int32) (nu : Int32) (deep : Nat → Int32) (src : Nat → Int32)  : nMv (S := (Nat → Int32)) l yX2_remember cX2_remember 2 0 0 0 0 G [.ref q] (mW G q a wd all kept hist hlo snap tk bits reg exa text tl sp read rm nu deep src) ([]) (fun (u : (Nat → Int32)) => mW G q a wd all u hist hlo snap tk bits reg exa text tl sp read rm nu deep src) (fun (u : (Nat → Int32)) => ∀ v_, v_ < 66 → u v_ = all v_) := by
  refine nMv.of (own := "ShareStreamsModel") rfl (by decide +kernel) (Nat.le_of_ble_eq_true rfl) ?_
  intro p e s m args below meth c A Q ls hx hb hml hown hts hin hG Z hl ret
  have hl : lv_has ls 2 [(0, .ref q)] := hl
  have Z : nW G A (mW G q a wd all kept hist hlo snap tk bits reg exa text tl sp read rm nu deep src) ([]) ([]) s.heap _ _ := Z
  refine lv_iconst (v := nI 0) hx hb dX2_remember_0 rfl ?_
  refine lv_istore_n (lv' := [(1, .int (nI 0)), (0, .ref q)]) hx hb dX2_remember_1 rfl hl (by decide) rfl (fun ls hl => ?_)
  have L2 : ∀ (k_ : Nat) (i : Nat) (kp : Nat → Int32) (g1 : i ≤ 66) (g2 : ∀ k, k < i → kp k = all k) (hk_ : 66 - i < k_) (H : Heap) (locs : List Loc), nW G A (mW G q a wd all kp hist hlo snap tk bits reg exa text tl sp read rm nu deep src) ([]) ([]) s.heap H locs → ∀ (ls : Array Slot), lv_has ls 2 [(1, .int (nI i)), (0, .ref q)] → W p l e (nRm 0 0 0 0) s m args below meth c H locs 0 0 Q (F0 m 2 ls []) := by
    intro k_
    induction k_ with
    | zero => intro i kp g1 g2 hk_; exact absurd hk_ (Nat.not_lt_zero _)
    | succ k_ ih_L2 =>
      intro i kp g1 g2 hk_ H locs Z ls hl
      refine lv_iload_n hx hb dX2_remember_2 rfl (lv_at hl 0 rfl) ?_
      refine lv_bipush (v := nI 66) hx hb dX2_remember_3 rfl ?_
      refine lv_icmp_ge (tgt := 26) hx hb dX2_remember_5 (by decide) (fun c5 => ?_) (fun c5 => ?_)
      · skip
        have c5 := n_le_t (a := 66) (b := i) c5 (by decide) (by omega)
        exact ret kp dX2_remember_26 (fun k hk => g2 k (by omega)) Z (Nat.le_of_ble_eq_true rfl) (Nat.le_of_ble_eq_true rfl)
      · skip
        have c5 := n_le_f (a := 66) (b := i) c5 (by decide) (by omega)
        refine lv_aload_n hx hb dX2_remember_8 rfl (lv_at hl 1 rfl) ?_
        refine r_get (v := .ref (a 1)) hx hb hts in_X2 hown hG Z.w 0 rfl rfl 1 (by decide) q939 (fun _ h9 => h9) rfl dX2_remember_9 ?_
        refine lv_iload_n hx hb dX2_remember_12 rfl (lv_at hl 0 rfl) ?_
        refine lv_aload_n hx hb dX2_remember_13 rfl (lv_at hl 1 rfl) ?_
        refine r_get (v := .ref (a 0)) hx hb hts in_X2 hown hG Z.w 0 rfl rfl 0 (by decide) q938 (fun _ h9 => h9) rfl dX2_remember_14 ?_
        refine lv_iload_n hx hb dX2_remember_17 rfl (lv_at hl 0 rfl) ?_
        refine r_iald hx hb hG Z.w 1 rfl (j := i) (by omega) (by decide) (v := all i) rfl dX2_remember_18 ?_
        refine r_iast hx hb hG Z 2 rfl (j := i) (by omega) (by decide) (wc' := mW G q a wd all (upd kp i (all i)) hist hlo snap tk bits reg exa text tl sp read rm nu deep src) rfl dX2_remember_19 (fun H locs Z => ?_)
        refine lv_iinc (v := nI (i + 1)) (lv' := [(1, .int (nI (i + 1))), (0, .ref q)]) hx hb dX2_remember_20 hl (k := 0) rfl (nI_add _ _) (by decide) rfl (fun ls hl => ?_)
        refine lv_goto (tgt := 2) hx hb dX2_remember_23 (by decide) ?_
        exact ih_L2 (i + 1) (upd kp i (all i)) (by omega) (by first | (intro k hk; omega) | exact cpy_s g2 rfl) (by omega) _ _ Z _ (lv_sub hl [0, 1] rfl)
  exact L2 _ 0 kept (by omega) (by first | (intro k hk; omega) | exact cpy_s g2 rfl) (Nat.lt_succ_self _) _ _ Z _ (lv_sub hl [0, 1] rfl)
set_option maxHeartbeats 4000000 in
set_option maxRecDepth 100000 in
theorem M_puts (l : Launch) (G : nG) (q : Nat) (a : Nat → Nat) (wd : Nat → Int64) (all : Nat → Int32) (kept : Nat → Int32) (hist : Nat → Int32) (hlo : Int32) (snap : Nat → Int32) (tk : Int32) (bits : Nat → Int32) (reg : Nat → Int32) (exa : Nat → Int32) (text : Nat → Int32) (tl : Int32) (sp : Int32) (read : Nat → Int32) (rm : Int32) (nu : Int32) (deep : Nat → Int32) (src : Nat → Int32) (n : Nat) (pk : Int32) (pf : Int32) (ps : Int32) (pt : Int32) (hn : n < 16) (ha : all 0 = nI n) : nMv (S := Unit) l yX2_puts cX2_puts 6 0 0 0 0 G [.ref q, .int pk, .int pf, .int ps, .int pt] (mW G q a wd all kept hist hlo snap tk bits reg exa text tl sp read rm nu deep src) ([]) (fun (u : Unit) => mW G q a wd (putA all n pk pf ps pt) kept hist hlo snap tk bits reg exa text tl sp read rm nu deep src) (fun (u : Unit) => True) := by
  refine nMv.of (own := "ShareStreamsModel") rfl (by decide +kernel) (Nat.le_of_ble_eq_true rfl) ?_
  intro p e s m args below meth c A Q ls hx hb hml hown hts hin hG Z hl ret
  have hl : lv_has ls 6 [(0, .ref q), (1, .int pk), (2, .int pf), (3, .int ps), (4, .int pt)] := hl
  have Z : nW G A (mW G q a wd all kept hist hlo snap tk bits reg exa text tl sp read rm nu deep src) ([]) ([]) s.heap _ _ := Z
  refine lv_iconst (v := nI 2) hx hb dX2_puts_0 rfl ?_
  refine lv_iconst (v := nI 4) hx hb dX2_puts_1 rfl ?_
  refine lv_aload_n hx hb dX2_puts_2 rfl (lv_at hl 0 rfl) ?_
  refine r_get (v := .ref (a 0)) hx hb hts in_X2 hown hG Z.w 0 rfl rfl 0 (by decide) q938 (fun _ h9 => h9) rfl dX2_puts_3 ?_
  refine lv_iconst (v := nI 0) hx hb dX2_puts_6 rfl ?_
  refine r_iald hx hb hG Z.w 1 rfl (j := 0) (by omega) (by decide) (v := nI n) ha dX2_puts_7 ?_
  refine lv_imul hx hb dX2_puts_8 ?_
  refine r_as (z := nI (4 * n)) (pk_mul _ _) ?_
  refine lv_iadd hx hb dX2_puts_9 ?_
  refine r_as (z := nI (2 + (4 * n))) (nI_add _ _) ?_
  refine lv_istore (lv' := [(5, .int (nI (2 + (4 * n)))), (0, .ref q), (1, .int pk), (2, .int pf), (3, .int ps), (4, .int pt)]) hx hb dX2_puts_10 hl (by decide) rfl (fun ls hl => ?_)
  refine lv_aload_n hx hb dX2_puts_12 rfl (lv_at hl 1 rfl) ?_
  refine r_get (v := .ref (a 0)) hx hb hts in_X2 hown hG Z.w 0 rfl rfl 0 (by decide) q938 (fun _ h9 => h9) rfl dX2_puts_13 ?_
  refine lv_iload hx hb dX2_puts_16 (lv_at hl 0 rfl) ?_
  refine lv_iload_n hx hb dX2_puts_18 rfl (lv_at hl 2 rfl) ?_
  refine r_iast hx hb hG Z 1 rfl (j := 2 + (4 * n)) (by omega) (by decide) (wc' := mW G q a wd (upd all (2 + (4 * n)) pk) kept hist hlo snap tk bits reg exa text tl sp read rm nu deep src) rfl dX2_puts_19 (fun H locs Z => ?_)
  refine lv_aload_n hx hb dX2_puts_20 rfl (lv_at hl 1 rfl) ?_
  refine r_get (v := .ref (a 0)) hx hb hts in_X2 hown hG Z.w 0 rfl rfl 0 (by decide) q938 (fun _ h9 => h9) rfl dX2_puts_21 ?_
  refine lv_iload hx hb dX2_puts_24 (lv_at hl 0 rfl) ?_
  refine lv_iconst (v := nI 1) hx hb dX2_puts_26 rfl ?_
  refine lv_iadd hx hb dX2_puts_27 ?_
  refine r_as (z := nI (2 + (4 * n) + 1)) (nI_add _ _) ?_
  refine lv_iload_n hx hb dX2_puts_28 rfl (lv_at hl 3 rfl) ?_
  refine r_iast hx hb hG Z 1 rfl (j := 2 + (4 * n) + 1) (by omega) (by decide) (wc' := mW G q a wd (upd (upd all (2 + (4 * n)) pk) (2 + (4 * n) + 1) pf) kept hist hlo snap tk bits reg exa text tl sp read rm nu deep src) rfl dX2_puts_29 (fun H locs Z => ?_)
  refine lv_aload_n hx hb dX2_puts_30 rfl (lv_at hl 1 rfl) ?_
  refine r_get (v := .ref (a 0)) hx hb hts in_X2 hown hG Z.w 0 rfl rfl 0 (by decide) q938 (fun _ h9 => h9) rfl dX2_puts_31 ?_
  refine lv_iload hx hb dX2_puts_34 (lv_at hl 0 rfl) ?_
  refine lv_iconst (v := nI 2) hx hb dX2_puts_36 rfl ?_
  refine lv_iadd hx hb dX2_puts_37 ?_
  refine r_as (z := nI (2 + (4 * n) + 2)) (nI_add _ _) ?_
  refine lv_iload_n hx hb dX2_puts_38 rfl (lv_at hl 4 rfl) ?_
  refine r_iast hx hb hG Z 1 rfl (j := 2 + (4 * n) + 2) (by omega) (by decide) (wc' := mW G q a wd (upd (upd (upd all (2 + (4 * n)) pk) (2 + (4 * n) + 1) pf) (2 + (4 * n) + 2) ps) kept hist hlo snap tk bits reg exa text tl sp read rm nu deep src) rfl dX2_puts_39 (fun H locs Z => ?_)
  refine lv_aload_n hx hb dX2_puts_40 rfl (lv_at hl 1 rfl) ?_
  refine r_get (v := .ref (a 0)) hx hb hts in_X2 hown hG Z.w 0 rfl rfl 0 (by decide) q938 (fun _ h9 => h9) rfl dX2_puts_41 ?_
  refine lv_iload hx hb dX2_puts_44 (lv_at hl 0 rfl) ?_
  refine lv_iconst (v := nI 3) hx hb dX2_puts_46 rfl ?_
  refine lv_iadd hx hb dX2_puts_47 ?_
  refine r_as (z := nI (2 + (4 * n) + 3)) (nI_add _ _) ?_
  refine lv_iload hx hb dX2_puts_48 (lv_at hl 5 rfl) ?_
  refine r_iast hx hb hG Z 1 rfl (j := 2 + (4 * n) + 3) (by omega) (by decide) (wc' := mW G q a wd (upd (upd (upd (upd all (2 + (4 * n)) pk) (2 + (4 * n) + 1) pf) (2 + (4 * n) + 2) ps) (2 + (4 * n) + 3) pt) kept hist hlo snap tk bits reg exa text tl sp read rm nu deep src) rfl dX2_puts_50 (fun H locs Z => ?_)
  refine lv_aload_n hx hb dX2_puts_51 rfl (lv_at hl 1 rfl) ?_
  refine r_get (v := .ref (a 0)) hx hb hts in_X2 hown hG Z.w 0 rfl rfl 0 (by decide) q938 (fun _ h9 => h9) rfl dX2_puts_52 ?_
  refine lv_iconst (v := nI 0) hx hb dX2_puts_55 rfl ?_
  refine lv_dup2_11 hx hb dX2_puts_56 rfl rfl ?_
  refine r_iald hx hb hG Z.w 1 rfl (j := 0) (by omega) (by decide) (v := nI n) (by rw [upd_n (by omega), upd_n (by omega), upd_n (by omega), upd_n (by omega)]; exact ha) dX2_puts_57 ?_
  refine lv_iconst (v := nI 1) hx hb dX2_puts_58 rfl ?_
  refine lv_iadd hx hb dX2_puts_59 ?_
  refine r_as (z := nI (n + 1)) (nI_add _ _) ?_
  refine r_iast hx hb hG Z 1 rfl (j := 0) (by omega) (by decide) (wc' := mW G q a wd (upd (upd (upd (upd (upd all (2 + (4 * n)) pk) (2 + (4 * n) + 1) pf) (2 + (4 * n) + 2) ps) (2 + (4 * n) + 3) pt) 0 (nI (n + 1))) kept hist hlo snap tk bits reg exa text tl sp read rm nu deep src) rfl dX2_puts_60 (fun H locs Z => ?_)
  exact ret () dX2_puts_61 trivial Z (Nat.le_of_ble_eq_true rfl) (Nat.le_of_ble_eq_true rfl)
set_option maxHeartbeats 4000000 in
set_option maxRecDepth 100000 in
theorem M_acted (l : Launch) (G : nG) (q : Nat) (a : Nat → Nat) (wd : Nat → Int64) (all : Nat → Int32) (kept : Nat → Int32) (hist : Nat → Int32) (hlo : Int32) (snap : Nat → Int32) (tk : Int32) (bits : Nat → Int32) (reg : Nat → Int32) (exa : Nat → Int32) (text : Nat → Int32) (tl : Int32) (sp : Int32) (read : Nat → Int32) (rm : Int32) (nu : Int32) (deep : Nat → Int32) (src : Nat → Int32) (r0 : Int32) (h : Nat) (h4 : h ≤ 4) (eh : hlo = nI h) : nMi (S := (Nat → Int32)) l yX2_acted cX2_acted 3 (.int) 0 0 0 0 G [.ref q, .int r0] (mW G q a wd all kept hist hlo snap tk bits reg exa text tl sp read rm nu deep src) ([]) (fun (u : (Nat → Int32)) => mW G q a wd all kept u (nI (acH h)) snap tk bits reg exa text tl sp read rm nu deep src) (fun (r : Int32) (u : (Nat → Int32)) => r = r0 ∧ hsP h hist kept u) := by
  refine nMi.of (own := "ShareStreamsModel") rfl (by decide +kernel) (Nat.le_of_ble_eq_true rfl) (fun _ _ _ => rfl) ?_
  intro p e s m args below meth c A Q ls hx hb hml hown hts hin hG Z hl ret
  have hl : lv_has ls 3 [(0, .ref q), (1, .int r0)] := hl
  have Z : nW G A (mW G q a wd all kept hist hlo snap tk bits reg exa text tl sp read rm nu deep src) ([]) ([]) s.heap _ _ := Z
  have e9 : acH h ≤ 4 := by unfold acH; split <;> omega
  have e8 : 1 ≤ acH h := by unfold acH; split <;> omega
  refine lv_aload_n hx hb dX2_acted_0 rfl (lv_at hl 0 rfl) ?_
  refine r_get (v := .int hlo) hx hb hts in_X2 hown hG Z.w 0 rfl rfl 3 (by decide) q941 (fun _ h9 => h9) rfl dX2_acted_1 ?_
  refine r_as (z := nI h) eh ?_
  refine lv_iconst (v := nI 4) hx hb dX2_acted_4 rfl ?_
  refine lv_icmp_ne (tgt := 48) hx hb dX2_acted_5 (by decide) (fun c5 => ?_) (fun c5 => ?_)
  · skip
    have c5 := n_eq_f (a := h) (b := 4) c5
    have e4 : h ≠ 4 := c5
    have e7 : acH h - 1 = h := by unfold acH; rw [if_neg e4]; rfl
    have e6 : hlo = nI (acH h - 1) := by rw [eh, e7]
    rw [e6] at Z
    refine lv_iconst (v := nI 0) hx hb dX2_acted_48 rfl ?_
    refine lv_istore_n (lv' := [(2, .int (nI 0)), (0, .ref q), (1, .int r0)]) hx hb dX2_acted_49 rfl hl (by decide) rfl (fun ls hl => ?_)
    have L50 : ∀ (k_ : Nat) (i : Nat) (hs : Nat → Int32) (g1 : i ≤ 66) (g4 : ∀ k, k < 66 * (acH h - 1) → hs k = (if h = 4 then hist (k + 66) else hist k)) (g5 : ∀ k, k < i → hs (66 * (acH h - 1) + k) = kept k) (hk_ : 66 - i < k_) (H : Heap) (locs : List Loc), nW G A (mW G q a wd all kept hs (nI (acH h - 1)) snap tk bits reg exa text tl sp read rm nu deep src) ([]) ([]) s.heap H locs → ∀ (ls : Array Slot), lv_has ls 3 [(2, .int (nI i)), (0, .ref q), (1, .int r0)] → W p l e (nRm 0 0 0 0) s m args below meth c H locs 0 0 Q (F0 m 50 ls []) := by
      intro k_
      induction k_ with
      | zero => intro i hs g1 g4 g5 hk_; exact absurd hk_ (Nat.not_lt_zero _)
      | succ k_ ih_L50 =>
        intro i hs g1 g4 g5 hk_ H locs Z ls hl
        refine lv_iload_n hx hb dX2_acted_50 rfl (lv_at hl 0 rfl) ?_
        refine lv_bipush (v := nI 66) hx hb dX2_acted_51 rfl ?_
        refine lv_icmp_ge (tgt := 82) hx hb dX2_acted_53 (by decide) (fun c53 => ?_) (fun c53 => ?_)
        · skip
          have c53 := n_le_t (a := 66) (b := i) c53 (by decide) (by omega)
          refine lv_aload_n hx hb dX2_acted_82 rfl (lv_at hl 1 rfl) ?_
          refine lv_dup hx hb dX2_acted_83 rfl ?_
          refine r_get (v := .int (nI (acH h - 1))) hx hb hts in_X2 hown hG Z.w 0 rfl rfl 3 (by decide) q941 (fun _ h9 => h9) rfl dX2_acted_84 ?_
          refine lv_iconst (v := nI 1) hx hb dX2_acted_87 rfl ?_
          refine lv_iadd hx hb dX2_acted_88 ?_
          refine r_as (z := nI (acH h)) (by rw [nI_add]; congr 1; omega) ?_
          refine r_put (ty := .int) hx hb hts in_X2 tyX2 tyX2_ok nmX2 hown hG Z 0 rfl rfl 3 (by decide) q941 (fun _ h9 => h9) rfl (by decide +kernel) rfl rfl (Nat.le_of_ble_eq_true rfl) (wc' := mW G q a wd all kept hs (nI (acH h)) snap tk bits reg exa text tl sp read rm nu deep src) rfl dX2_acted_89 (fun H locs Z => ?_)
          refine lv_iload_n hx hb dX2_acted_92 rfl (lv_at hl 2 rfl) ?_
          exact ret r0 hs dX2_acted_93 (⟨(by first | rfl | assumption | omega | simp_all), ⟨g4, fun k hk => g5 k (by omega)⟩⟩) Z (Nat.le_of_ble_eq_true rfl) (Nat.le_of_ble_eq_true rfl)
        · skip
          have c53 := n_le_f (a := 66) (b := i) c53 (by decide) (by omega)
          refine lv_aload_n hx hb dX2_acted_56 rfl (lv_at hl 1 rfl) ?_
          refine r_get (v := .ref (a 2)) hx hb hts in_X2 hown hG Z.w 0 rfl rfl 2 (by decide) q940 (fun _ h9 => h9) rfl dX2_acted_57 ?_
          refine lv_bipush (v := nI 66) hx hb dX2_acted_60 rfl ?_
          refine lv_aload_n hx hb dX2_acted_62 rfl (lv_at hl 1 rfl) ?_
          refine r_get (v := .int (nI (acH h - 1))) hx hb hts in_X2 hown hG Z.w 0 rfl rfl 3 (by decide) q941 (fun _ h9 => h9) rfl dX2_acted_63 ?_
          refine lv_imul hx hb dX2_acted_66 ?_
          refine r_as (z := nI (66 * (acH h - 1))) (pk_mul _ _) ?_
          refine lv_iload_n hx hb dX2_acted_67 rfl (lv_at hl 0 rfl) ?_
          refine lv_iadd hx hb dX2_acted_68 ?_
          refine r_as (z := nI (66 * (acH h - 1) + i)) (nI_add _ _) ?_
          refine lv_aload_n hx hb dX2_acted_69 rfl (lv_at hl 1 rfl) ?_
          refine r_get (v := .ref (a 1)) hx hb hts in_X2 hown hG Z.w 0 rfl rfl 1 (by decide) q939 (fun _ h9 => h9) rfl dX2_acted_70 ?_
          refine lv_iload_n hx hb dX2_acted_73 rfl (lv_at hl 0 rfl) ?_
          refine r_iald hx hb hG Z.w 2 rfl (j := i) (by omega) (by decide) (v := kept i) rfl dX2_acted_74 ?_
          refine r_iast hx hb hG Z 3 rfl (j := 66 * (acH h - 1) + i) (by omega) (by decide) (wc' := mW G q a wd all kept (upd hs (66 * (acH h - 1) + i) (kept i)) (nI (acH h - 1)) snap tk bits reg exa text tl sp read rm nu deep src) rfl dX2_acted_75 (fun H locs Z => ?_)
          refine lv_iinc (v := nI (i + 1)) (lv' := [(2, .int (nI (i + 1))), (0, .ref q), (1, .int r0)]) hx hb dX2_acted_76 hl (k := 0) rfl (nI_add _ _) (by decide) rfl (fun ls hl => ?_)
          refine lv_goto (tgt := 50) hx hb dX2_acted_79 (by decide) ?_
          exact ih_L50 (i + 1) (upd hs (66 * (acH h - 1) + i) (kept i)) (by omega) (by first | exact hsA_4 g2 (by omega) e4 | exact hsA_n e4 | (intro k hk; rw [upd_n (by omega)]; exact g4 k hk)) (by first | (intro k hk; omega) | exact row_c g5) (by omega) _ _ Z _ (lv_sub hl [0, 1, 2] rfl)
    exact L50 _ 0 hist (by omega) (by first | exact hsA_4 g2 (by omega) e4 | exact hsA_n e4 | (intro k hk; rw [upd_n (by omega)]; exact g4 k hk)) (by first | (intro k hk; omega) | exact row_c g5) (Nat.lt_succ_self _) _ _ Z _ (lv_sub hl [0, 1, 2] rfl)
  · skip
    have c5 := n_eq_t (a := h) (b := 4) c5 (by omega) (by decide)
    have e4 : h = 4 := c5
    have e7 : acH h - 1 = 3 := by unfold acH; rw [if_pos e4]
    refine lv_iconst (v := nI 0) hx hb dX2_acted_8 rfl ?_
    refine lv_istore_n (lv' := [(2, .int (nI 0)), (0, .ref q), (1, .int r0)]) hx hb dX2_acted_9 rfl hl (by decide) rfl (fun ls hl => ?_)
    have L10 : ∀ (k_ : Nat) (i : Nat) (hs : Nat → Int32) (g1 : i ≤ 198) (g2 : ∀ k, k < i → hs k = hist (k + 66)) (g3 : ∀ k, i ≤ k → hs k = hist k) (hk_ : 198 - i < k_) (H : Heap) (locs : List Loc), nW G A (mW G q a wd all kept hs hlo snap tk bits reg exa text tl sp read rm nu deep src) ([]) ([]) s.heap H locs → ∀ (ls : Array Slot), lv_has ls 3 [(2, .int (nI i)), (0, .ref q), (1, .int r0)] → W p l e (nRm 0 0 0 0) s m args below meth c H locs 0 0 Q (F0 m 10 ls []) := by
      intro k_
      induction k_ with
      | zero => intro i hs g1 g2 g3 hk_; exact absurd hk_ (Nat.not_lt_zero _)
      | succ k_ ih_L10 =>
        intro i hs g1 g2 g3 hk_ H locs Z ls hl
        refine lv_iload_n hx hb dX2_acted_10 rfl (lv_at hl 0 rfl) ?_
        refine lv_sipush (v := nI 198) hx hb dX2_acted_11 rfl ?_
        refine lv_icmp_ge (tgt := 38) hx hb dX2_acted_14 (by decide) (fun c14 => ?_) (fun c14 => ?_)
        · skip
          have c14 := n_le_t (a := 198) (b := i) c14 (by decide) (by omega)
          refine lv_aload_n hx hb dX2_acted_38 rfl (lv_at hl 1 rfl) ?_
          refine lv_dup hx hb dX2_acted_39 rfl ?_
          refine r_get (v := .int hlo) hx hb hts in_X2 hown hG Z.w 0 rfl rfl 3 (by decide) q941 (fun _ h9 => h9) rfl dX2_acted_40 ?_
          refine r_as (z := nI h) eh ?_
          refine lv_iconst (v := nI 1) hx hb dX2_acted_43 rfl ?_
          refine lv_isub hx hb dX2_acted_44 ?_
          refine r_as (z := nI (acH h - 1)) (by rw [e7, e4]; rfl) ?_
          refine r_put (ty := .int) hx hb hts in_X2 tyX2 tyX2_ok nmX2 hown hG Z 0 rfl rfl 3 (by decide) q941 (fun _ h9 => h9) rfl (by decide +kernel) rfl rfl (Nat.le_of_ble_eq_true rfl) (wc' := mW G q a wd all kept hs (nI (acH h - 1)) snap tk bits reg exa text tl sp read rm nu deep src) rfl dX2_acted_45 (fun H locs Z => ?_)
          refine lv_iconst (v := nI 0) hx hb dX2_acted_48 rfl ?_
          refine lv_istore_n (lv' := [(2, .int (nI 0)), (0, .ref q), (1, .int r0)]) hx hb dX2_acted_49 rfl hl (by decide) rfl (fun ls hl => ?_)
          have L50 : ∀ (k_ : Nat) (i : Nat) (hs : Nat → Int32) (g1 : i ≤ 66) (g4 : ∀ k, k < 66 * (acH h - 1) → hs k = (if h = 4 then hist (k + 66) else hist k)) (g5 : ∀ k, k < i → hs (66 * (acH h - 1) + k) = kept k) (hk_ : 66 - i < k_) (H : Heap) (locs : List Loc), nW G A (mW G q a wd all kept hs (nI (acH h - 1)) snap tk bits reg exa text tl sp read rm nu deep src) ([]) ([]) s.heap H locs → ∀ (ls : Array Slot), lv_has ls 3 [(2, .int (nI i)), (0, .ref q), (1, .int r0)] → W p l e (nRm 0 0 0 0) s m args below meth c H locs 0 0 Q (F0 m 50 ls []) := by
            intro k_
            induction k_ with
            | zero => intro i hs g1 g4 g5 hk_; exact absurd hk_ (Nat.not_lt_zero _)
            | succ k_ ih_L50 =>
              intro i hs g1 g4 g5 hk_ H locs Z ls hl
              refine lv_iload_n hx hb dX2_acted_50 rfl (lv_at hl 0 rfl) ?_
              refine lv_bipush (v := nI 66) hx hb dX2_acted_51 rfl ?_
              refine lv_icmp_ge (tgt := 82) hx hb dX2_acted_53 (by decide) (fun c53 => ?_) (fun c53 => ?_)
              · skip
                have c53 := n_le_t (a := 66) (b := i) c53 (by decide) (by omega)
                refine lv_aload_n hx hb dX2_acted_82 rfl (lv_at hl 1 rfl) ?_
                refine lv_dup hx hb dX2_acted_83 rfl ?_
                refine r_get (v := .int (nI (acH h - 1))) hx hb hts in_X2 hown hG Z.w 0 rfl rfl 3 (by decide) q941 (fun _ h9 => h9) rfl dX2_acted_84 ?_
                refine lv_iconst (v := nI 1) hx hb dX2_acted_87 rfl ?_
                refine lv_iadd hx hb dX2_acted_88 ?_
                refine r_as (z := nI (acH h)) (by rw [nI_add]; congr 1; omega) ?_
                refine r_put (ty := .int) hx hb hts in_X2 tyX2 tyX2_ok nmX2 hown hG Z 0 rfl rfl 3 (by decide) q941 (fun _ h9 => h9) rfl (by decide +kernel) rfl rfl (Nat.le_of_ble_eq_true rfl) (wc' := mW G q a wd all kept hs (nI (acH h)) snap tk bits reg exa text tl sp read rm nu deep src) rfl dX2_acted_89 (fun H locs Z => ?_)
                refine lv_iload_n hx hb dX2_acted_92 rfl (lv_at hl 2 rfl) ?_
                exact ret r0 hs dX2_acted_93 (⟨(by first | rfl | assumption | omega | simp_all), ⟨g4, fun k hk => g5 k (by omega)⟩⟩) Z (Nat.le_of_ble_eq_true rfl) (Nat.le_of_ble_eq_true rfl)
              · skip
                have c53 := n_le_f (a := 66) (b := i) c53 (by decide) (by omega)
                refine lv_aload_n hx hb dX2_acted_56 rfl (lv_at hl 1 rfl) ?_
                refine r_get (v := .ref (a 2)) hx hb hts in_X2 hown hG Z.w 0 rfl rfl 2 (by decide) q940 (fun _ h9 => h9) rfl dX2_acted_57 ?_
                refine lv_bipush (v := nI 66) hx hb dX2_acted_60 rfl ?_
                refine lv_aload_n hx hb dX2_acted_62 rfl (lv_at hl 1 rfl) ?_
                refine r_get (v := .int (nI (acH h - 1))) hx hb hts in_X2 hown hG Z.w 0 rfl rfl 3 (by decide) q941 (fun _ h9 => h9) rfl dX2_acted_63 ?_
                refine lv_imul hx hb dX2_acted_66 ?_
                refine r_as (z := nI (66 * (acH h - 1))) (pk_mul _ _) ?_
                refine lv_iload_n hx hb dX2_acted_67 rfl (lv_at hl 0 rfl) ?_
                refine lv_iadd hx hb dX2_acted_68 ?_
                refine r_as (z := nI (66 * (acH h - 1) + i)) (nI_add _ _) ?_
                refine lv_aload_n hx hb dX2_acted_69 rfl (lv_at hl 1 rfl) ?_
                refine r_get (v := .ref (a 1)) hx hb hts in_X2 hown hG Z.w 0 rfl rfl 1 (by decide) q939 (fun _ h9 => h9) rfl dX2_acted_70 ?_
                refine lv_iload_n hx hb dX2_acted_73 rfl (lv_at hl 0 rfl) ?_
                refine r_iald hx hb hG Z.w 2 rfl (j := i) (by omega) (by decide) (v := kept i) rfl dX2_acted_74 ?_
                refine r_iast hx hb hG Z 3 rfl (j := 66 * (acH h - 1) + i) (by omega) (by decide) (wc' := mW G q a wd all kept (upd hs (66 * (acH h - 1) + i) (kept i)) (nI (acH h - 1)) snap tk bits reg exa text tl sp read rm nu deep src) rfl dX2_acted_75 (fun H locs Z => ?_)
                refine lv_iinc (v := nI (i + 1)) (lv' := [(2, .int (nI (i + 1))), (0, .ref q), (1, .int r0)]) hx hb dX2_acted_76 hl (k := 0) rfl (nI_add _ _) (by decide) rfl (fun ls hl => ?_)
                refine lv_goto (tgt := 50) hx hb dX2_acted_79 (by decide) ?_
                exact ih_L50 (i + 1) (upd hs (66 * (acH h - 1) + i) (kept i)) (by omega) (by first | exact hsA_4 g2 (by omega) e4 | exact hsA_n e4 | (intro k hk; rw [upd_n (by omega)]; exact g4 k hk)) (by first | (intro k hk; omega) | exact row_c g5) (by omega) _ _ Z _ (lv_sub hl [0, 1, 2] rfl)
          exact L50 _ 0 hs (by omega) (by first | exact hsA_4 g2 (by omega) e4 | exact hsA_n e4 | (intro k hk; rw [upd_n (by omega)]; exact g4 k hk)) (by first | (intro k hk; omega) | exact row_c g5) (Nat.lt_succ_self _) _ _ Z _ (lv_sub hl [0, 1, 2] rfl)
        · skip
          have c14 := n_le_f (a := 198) (b := i) c14 (by decide) (by omega)
          refine lv_aload_n hx hb dX2_acted_17 rfl (lv_at hl 1 rfl) ?_
          refine r_get (v := .ref (a 2)) hx hb hts in_X2 hown hG Z.w 0 rfl rfl 2 (by decide) q940 (fun _ h9 => h9) rfl dX2_acted_18 ?_
          refine lv_iload_n hx hb dX2_acted_21 rfl (lv_at hl 0 rfl) ?_
          refine lv_aload_n hx hb dX2_acted_22 rfl (lv_at hl 1 rfl) ?_
          refine r_get (v := .ref (a 2)) hx hb hts in_X2 hown hG Z.w 0 rfl rfl 2 (by decide) q940 (fun _ h9 => h9) rfl dX2_acted_23 ?_
          refine lv_iload_n hx hb dX2_acted_26 rfl (lv_at hl 0 rfl) ?_
          refine lv_bipush (v := nI 66) hx hb dX2_acted_27 rfl ?_
          refine lv_iadd hx hb dX2_acted_29 ?_
          refine r_as (z := nI (i + 66)) (nI_add _ _) ?_
          refine r_iald hx hb hG Z.w 3 rfl (j := i + 66) (by omega) (by decide) (v := hs (i + 66)) rfl dX2_acted_30 ?_
          refine r_iast hx hb hG Z 3 rfl (j := i) (by omega) (by decide) (wc' := mW G q a wd all kept (upd hs i (hs (i + 66))) hlo snap tk bits reg exa text tl sp read rm nu deep src) rfl dX2_acted_31 (fun H locs Z => ?_)
          refine lv_iinc (v := nI (i + 1)) (lv' := [(2, .int (nI (i + 1))), (0, .ref q), (1, .int r0)]) hx hb dX2_acted_32 hl (k := 0) rfl (nI_add _ _) (by decide) rfl (fun ls hl => ?_)
          refine lv_goto (tgt := 10) hx hb dX2_acted_35 (by decide) ?_
          exact ih_L10 (i + 1) (upd hs i (hs (i + 66))) (by omega) (by first | (intro k hk; omega) | exact cpy_s g2 (g3 _ (by omega))) (by first | (intro k hk; rfl) | (intro k hk; rw [upd_n (by omega)]; exact g3 k (by omega))) (by omega) _ _ Z _ (lv_sub hl [0, 1, 2] rfl)
    exact L10 _ 0 hist (by omega) (by first | (intro k hk; omega) | exact cpy_s g2 (g3 _ (by omega))) (by first | (intro k hk; rfl) | (intro k hk; rw [upd_n (by omega)]; exact g3 k (by omega))) (Nat.lt_succ_self _) _ _ Z _ (lv_sub hl [0, 1, 2] rfl)
set_option maxHeartbeats 4000000 in
set_option maxRecDepth 100000 in
theorem M_adds (l : Launch) (G : nG) (q : Nat) (a : Nat → Nat) (wd : Nat → Int64) (all : Nat → Int32) (kept : Nat → Int32) (hist : Nat → Int32) (hlo : Int32) (snap : Nat → Int32) (tk : Int32) (bits : Nat → Int32) (reg : Nat → Int32) (exa : Nat → Int32) (text : Nat → Int32) (tl : Int32) (sp : Int32) (read : Nat → Int32) (rm : Int32) (nu : Int32) (deep : Nat → Int32) (src : Nat → Int32) (S : oSt) (pk : Int32) (pf : Int32) (ps : Int32) (pt : Int32) (hM : mR S all hist hlo snap tk text tl) (hk : S.1.1 < 16 → lnOk (beAdd S.1 pk pf ps pt).2.1 S.1.1) : nMi (S := (Nat → Int32) × (Nat → Int32) × (Nat → Int32) × Int32 × (Nat → Int32) × Int32 × (Nat → Int32) × (Nat → Int32) × (Nat → Int32) × (Nat → Int32) × Int32 × Int32 × (Nat → Int32) × Int32 × Int32 × (Nat → Int32) × (Nat → Int32)) l yX2_adds cX2_adds 5 (.int) 1 0 0 25 G [.ref q, .int pk, .int pf, .int ps, .int pt] (mW G q a wd all kept hist hlo snap tk bits reg exa text tl sp read rm nu deep src) ([]) (fun (u : (Nat → Int32) × (Nat → Int32) × (Nat → Int32) × Int32 × (Nat → Int32) × Int32 × (Nat → Int32) × (Nat → Int32) × (Nat → Int32) × (Nat → Int32) × Int32 × Int32 × (Nat → Int32) × Int32 × Int32 × (Nat → Int32) × (Nat → Int32)) => mW G q a wd u.1 u.2.1 u.2.2.1 u.2.2.2.1 u.2.2.2.2.1 u.2.2.2.2.2.1 u.2.2.2.2.2.2.1 u.2.2.2.2.2.2.2.1 u.2.2.2.2.2.2.2.2.1 u.2.2.2.2.2.2.2.2.2.1 u.2.2.2.2.2.2.2.2.2.2.1 u.2.2.2.2.2.2.2.2.2.2.2.1 u.2.2.2.2.2.2.2.2.2.2.2.2.1 u.2.2.2.2.2.2.2.2.2.2.2.2.2.1 u.2.2.2.2.2.2.2.2.2.2.2.2.2.2.1 u.2.2.2.2.2.2.2.2.2.2.2.2.2.2.2.1 u.2.2.2.2.2.2.2.2.2.2.2.2.2.2.2.2) (fun (r : Int32) (u : (Nat → Int32) × (Nat → Int32) × (Nat → Int32) × Int32 × (Nat → Int32) × Int32 × (Nat → Int32) × (Nat → Int32) × (Nat → Int32) × (Nat → Int32) × Int32 × Int32 × (Nat → Int32) × Int32 × Int32 × (Nat → Int32) × (Nat → Int32)) => r = ((spAdd S pk pf ps pt).1) ∧ mR (spAdd S pk pf ps pt).2 u.1 u.2.2.1 u.2.2.2.1 u.2.2.2.2.1 u.2.2.2.2.2.1 u.2.2.2.2.2.2.2.2.2.1 u.2.2.2.2.2.2.2.2.2.2.1) := by
  refine nMi.of (own := "ShareStreamsModel") rfl (by decide +kernel) (Nat.le_of_ble_eq_true rfl) (fun _ _ _ => rfl) ?_
  intro p e s m args below meth c A Q ls hx hb hml hown hts hin hG Z hl ret
  have hl : lv_has ls 5 [(0, .ref q), (1, .int pk), (2, .int pf), (3, .int ps), (4, .int pt)] := hl
  have Z : nW G A (mW G q a wd all kept hist hlo snap tk bits reg exa text tl sp read rm nu deep src) ([]) ([]) s.heap _ _ := Z
  obtain ⟨so, ba, ⟨eh, hh⟩, ⟨ek, sn⟩, et, tx⟩ := hM
  have hM : mR S all hist hlo snap tk text tl := ⟨so, ba, ⟨eh, hh⟩, ⟨ek, sn⟩, et, tx⟩
  have hn : S.1.1 ≤ 16 := so.1.1
  have ha : all 0 = nI S.1.1 := ba.1
  refine lv_aload_n hx hb dX2_adds_0 rfl (lv_at hl 0 rfl) ?_
  refine r_get (v := .ref (a 0)) hx hb hts in_X2 hown hG Z.w 0 rfl rfl 0 (by decide) q938 (fun _ h9 => h9) rfl dX2_adds_1 ?_
  refine lv_iconst (v := nI 0) hx hb dX2_adds_4 rfl ?_
  refine r_iald hx hb hG Z.w 1 rfl (j := 0) (by omega) (by decide) (v := nI S.1.1) ha dX2_adds_5 ?_
  refine lv_bipush (v := nI 16) hx hb dX2_adds_6 rfl ?_
  refine lv_icmp_ne (tgt := 14) hx hb dX2_adds_8 (by decide) (fun c8 => ?_) (fun c8 => ?_)
  · skip
    have c8 := n_eq_f (a := S.1.1) (b := 16) c8
    have cn : S.1.1 < 16 := by omega
    refine lv_aload_n hx hb dX2_adds_14 rfl (lv_at hl 0 rfl) ?_
    refine nc_v (k := 3) (wcc := mW G q a wd all kept hist hlo snap tk bits reg exa text tl sp read rm nu deep src) (wr := []) (nr_V (As := []) (rest := []) hx hb hml hown hts ((M_remember l G q a wd all kept hist hlo snap tk bits reg exa text tl sp read rm nu deep src) _) nP.blind 0 q1009 q1011 qs17 q53 q1012 (by decide +kernel) ⟨⟨Nat.le_of_ble_eq_true rfl, Nat.le_of_ble_eq_true rfl⟩, Nat.le_of_ble_eq_true rfl, Nat.le_of_ble_eq_true rfl⟩ (r_recv hG Z.w 0 (C := "ShareStreamsModel") rfl rfl rfl) (nP_of hG Z [0, 1, 2, 3, 4, 5, 6, 7, 8, 9, 10, 11, 12] rfl (by decide) (fun k q h => by simp at h) nAp.nil) rfl hl.1 rfl (Nat.le_of_ble_eq_true rfl) dX2_adds_15) Z [0, 1, 2, 3, 4, 5, 6, 7, 8, 9, 10, 11, 12] [] rfl rfl (by decide) (by decide) (fun u H locs hp15 Z => ?_)
    obtain ⟨kp_15, rfl⟩ : ∃ z, z = u := ⟨_, rfl⟩
    have hp15 : ∀ v_, v_ < 66 → kp_15 v_ = all v_ := hp15
    have Z : nW G A (mW G q a wd all kp_15 hist hlo snap tk bits reg exa text tl sp read rm nu deep src) ([]) ([]) s.heap _ _ := Z
    refine lv_aload_n hx hb dX2_adds_18 rfl (lv_at hl 0 rfl) ?_
    refine lv_iload_n hx hb dX2_adds_19 rfl (lv_at hl 1 rfl) ?_
    refine lv_iload_n hx hb dX2_adds_20 rfl (lv_at hl 2 rfl) ?_
    refine lv_iload_n hx hb dX2_adds_21 rfl (lv_at hl 3 rfl) ?_
    refine lv_iload hx hb dX2_adds_22 (lv_at hl 4 rfl) ?_
    refine nc_v (k := 3) (wcc := mW G q a wd all kp_15 hist hlo snap tk bits reg exa text tl sp read rm nu deep src) (wr := []) (nr_V (As := [.int pk, .int pf, .int ps, .int pt]) (rest := []) hx hb hml hown hts ((M_puts l G q a wd all kp_15 hist hlo snap tk bits reg exa text tl sp read rm nu deep src S.1.1 pk pf ps pt (by omega) (by first | assumption | omega | rfl)) _) nP.blind 4 q1013 q1015 qs18 q53 q1016 (by decide +kernel) ⟨⟨Nat.le_of_ble_eq_true rfl, Nat.le_of_ble_eq_true rfl⟩, Nat.le_of_ble_eq_true rfl, Nat.le_of_ble_eq_true rfl⟩ (r_recv hG Z.w 0 (C := "ShareStreamsModel") rfl rfl rfl) (nP_of hG Z [0, 1, 2, 3, 4, 5, 6, 7, 8, 9, 10, 11, 12] rfl (by decide) (fun k q h => by simp at h) nAp.nil) rfl hl.1 rfl (Nat.le_of_ble_eq_true rfl) dX2_adds_24) Z [0, 1, 2, 3, 4, 5, 6, 7, 8, 9, 10, 11, 12] [] rfl rfl (by decide) (by decide) (fun u H locs hp24 Z => ?_)
    have Z : nW G A (mW G q a wd (putA all S.1.1 pk pf ps pt) kp_15 hist hlo snap tk bits reg exa text tl sp read rm nu deep src) ([]) ([]) s.heap _ _ := Z
    refine lv_aload_n hx hb dX2_adds_27 rfl (lv_at hl 0 rfl) ?_
    refine lv_aload_n hx hb dX2_adds_28 rfl (lv_at hl 0 rfl) ?_
    refine r_get (v := .ref (a 0)) hx hb hts in_X2 hown hG Z.w 0 rfl rfl 0 (by decide) q938 (fun _ h9 => h9) rfl dX2_adds_29 ?_
    refine lv_iconst (v := nI 0) hx hb dX2_adds_32 rfl ?_
    refine r_iald hx hb hG Z.w 1 rfl (j := 0) (by omega) (by decide) (v := nI (S.1.1 + 1)) (by show putA all S.1.1 pk pf ps pt 0 = _; unfold putA; rw [upd_s]) dX2_adds_33 ?_
    refine lv_iconst (v := nI 1) hx hb dX2_adds_34 rfl ?_
    refine lv_isub hx hb dX2_adds_35 ?_
    refine r_as (z := nI S.1.1) (by rw [pk_sub (by omega)]; rfl) ?_
    refine nc_i (k := 3) (wcc := mW G q a wd (putA all S.1.1 pk pf ps pt) kp_15 hist hlo snap tk bits reg exa text tl sp read rm nu deep src) (wr := []) (nr_V (As := [.int (nI S.1.1)]) (rest := []) hx hb hml hown hts ((M_acted l G q a wd (putA all S.1.1 pk pf ps pt) kp_15 hist hlo snap tk bits reg exa text tl sp read rm nu deep src (nI S.1.1) S.2.1.length so.2.1.1 (by first | assumption | omega | rfl)) _) nP.blind 1 q1017 q1019 qs19 q53 q1020 (by decide +kernel) ⟨⟨Nat.le_of_ble_eq_true rfl, Nat.le_of_ble_eq_true rfl⟩, Nat.le_of_ble_eq_true rfl, Nat.le_of_ble_eq_true rfl⟩ (r_recv hG Z.w 0 (C := "ShareStreamsModel") rfl rfl rfl) (nP_of hG Z [0, 1, 2, 3, 4, 5, 6, 7, 8, 9, 10, 11, 12] rfl (by decide) (fun k q h => by simp at h) nAp.nil) rfl hl.1 rfl (Nat.le_of_ble_eq_true rfl) dX2_adds_36) Z [0, 1, 2, 3, 4, 5, 6, 7, 8, 9, 10, 11, 12] [] rfl rfl (by decide) (by decide) (fun r36 u H locs hp36 Z => ?_)
    obtain ⟨hs_36, rfl⟩ : ∃ z, z = u := ⟨_, rfl⟩
    obtain ⟨he36, hp36⟩ := hp36
    have he36 : r36 = (nI S.1.1) := he36
    subst he36
    have hp36 : hsP S.2.1.length hist kp_15 hs_36 := hp36
    have Z : nW G A (mW G q a wd (putA all S.1.1 pk pf ps pt) kp_15 hs_36 (nI (acH S.2.1.length)) snap tk bits reg exa text tl sp read rm nu deep src) ([]) ([]) s.heap _ _ := Z
    have es : spAdd S pk pf ps pt = (nI S.1.1, spAcc S (beAdd S.1 pk pf ps pt)) := by simp [spAdd, c8]
    exact ret (nI S.1.1) (putA all S.1.1 pk pf ps pt, kp_15, hs_36, nI (acH S.2.1.length), snap, tk, bits, reg, exa, text, tl, sp, read, rm, nu, deep, src) dX2_adds_39 (⟨(by rw [es]), (by rw [es]; exact mR_acc hM (beAdd_ok so.1 cn (hk cn)) (bRow_add ba pk pf ps pt) hp15 hp36)⟩) Z (Nat.le_of_ble_eq_true rfl) (Nat.le_of_ble_eq_true rfl)
  · skip
    have c8 := n_eq_t (a := S.1.1) (b := 16) c8 (by omega) (by decide)
    refine lv_ldc hx hb hown (hts _ q1008) dX2_adds_11 ?_
    have es : spAdd S pk pf ps pt = (cFULL, S) := by simp [spAdd, c8]
    exact ret (-100000003 : Int32) (all, kept, hist, hlo, snap, tk, bits, reg, exa, text, tl, sp, read, rm, nu, deep, src) dX2_adds_13 (⟨(by rw [es]), (by rw [es]; exact hM)⟩) Z (Nat.le_of_ble_eq_true rfl) (Nat.le_of_ble_eq_true rfl)
set_option maxHeartbeats 4000000 in
set_option maxRecDepth 100000 in
theorem M_source (l : Launch) (G : nG) (q : Nat) (a : Nat → Nat) (wd : Nat → Int64) (all : Nat → Int32) (kept : Nat → Int32) (hist : Nat → Int32) (hlo : Int32) (snap : Nat → Int32) (tk : Int32) (bits : Nat → Int32) (reg : Nat → Int32) (exa : Nat → Int32) (text : Nat → Int32) (tl : Int32) (sp : Int32) (read : Nat → Int32) (rm : Int32) (nu : Int32) (deep : Nat → Int32) (src : Nat → Int32) (S : oSt) (x : Int32) (y : Int32) (hM : mR S all hist hlo snap tk text tl) : nMi (S := (Nat → Int32) × (Nat → Int32) × (Nat → Int32) × Int32 × (Nat → Int32) × Int32 × (Nat → Int32) × (Nat → Int32) × (Nat → Int32) × (Nat → Int32) × Int32 × Int32 × (Nat → Int32) × Int32 × Int32 × (Nat → Int32) × (Nat → Int32)) l yX2_source cX2_source 3 (.int) 2 0 0 49 G [.ref q, .int x, .int y] (mW G q a wd all kept hist hlo snap tk bits reg exa text tl sp read rm nu deep src) ([]) (fun (u : (Nat → Int32) × (Nat → Int32) × (Nat → Int32) × Int32 × (Nat → Int32) × Int32 × (Nat → Int32) × (Nat → Int32) × (Nat → Int32) × (Nat → Int32) × Int32 × Int32 × (Nat → Int32) × Int32 × Int32 × (Nat → Int32) × (Nat → Int32)) => mW G q a wd u.1 u.2.1 u.2.2.1 u.2.2.2.1 u.2.2.2.2.1 u.2.2.2.2.2.1 u.2.2.2.2.2.2.1 u.2.2.2.2.2.2.2.1 u.2.2.2.2.2.2.2.2.1 u.2.2.2.2.2.2.2.2.2.1 u.2.2.2.2.2.2.2.2.2.2.1 u.2.2.2.2.2.2.2.2.2.2.2.1 u.2.2.2.2.2.2.2.2.2.2.2.2.1 u.2.2.2.2.2.2.2.2.2.2.2.2.2.1 u.2.2.2.2.2.2.2.2.2.2.2.2.2.2.1 u.2.2.2.2.2.2.2.2.2.2.2.2.2.2.2.1 u.2.2.2.2.2.2.2.2.2.2.2.2.2.2.2.2) (fun (r : Int32) (u : (Nat → Int32) × (Nat → Int32) × (Nat → Int32) × Int32 × (Nat → Int32) × Int32 × (Nat → Int32) × (Nat → Int32) × (Nat → Int32) × (Nat → Int32) × Int32 × Int32 × (Nat → Int32) × Int32 × Int32 × (Nat → Int32) × (Nat → Int32)) => r = ((spSource S x y).1) ∧ mR (spSource S x y).2 u.1 u.2.2.1 u.2.2.2.1 u.2.2.2.2.1 u.2.2.2.2.2.1 u.2.2.2.2.2.2.2.2.2.1 u.2.2.2.2.2.2.2.2.2.2.1) := by
  refine nMi.of (own := "ShareStreamsModel") rfl (by decide +kernel) (Nat.le_of_ble_eq_true rfl) (fun _ _ _ => rfl) ?_
  intro p e s m args below meth c A Q ls hx hb hml hown hts hin hG Z hl ret
  have hl : lv_has ls 3 [(0, .ref q), (1, .int x), (2, .int y)] := hl
  have Z : nW G A (mW G q a wd all kept hist hlo snap tk bits reg exa text tl sp read rm nu deep src) ([]) ([]) s.heap _ _ := Z
  obtain ⟨so, ba, ⟨eh, hh⟩, ⟨ek, sn⟩, et, tx⟩ := hM
  have hM : mR S all hist hlo snap tk text tl := ⟨so, ba, ⟨eh, hh⟩, ⟨ek, sn⟩, et, tx⟩
  have hn : S.1.1 ≤ 16 := so.1.1
  have ha : all 0 = nI S.1.1 := ba.1
  refine lv_iload_n hx hb dX2_source_0 rfl (lv_at hl 1 rfl) ?_
  refine lv_i2l hx hb dX2_source_1 rfl ?_
  refine lv_lconst (v := lN 0) hx hb dX2_source_2 rfl ?_
  refine lv_ldc2 hx hb hown (hts _ q998) dX2_source_3 ?_
  refine r_asl (z := lN 256) rfl ?_
  refine ns_i (k := 3) (nr_S (As := [.long (Int32.toInt64 x), .long (lN 0), .long (lN 256)]) (rest := []) hx hb hml hown hts (M_in l G (Int32.toInt64 x) (lN 0) (lN 256)) nPs.blind 3 q999 q1000 q53 q1001 (by decide +kernel) ⟨⟨Nat.le_of_ble_eq_true rfl, Nat.le_of_ble_eq_true rfl⟩, Nat.le_of_ble_eq_true rfl, Nat.le_of_ble_eq_true rfl⟩ (nPs_of hG Z (fun k q h => by simp at h)) rfl hl.1 rfl (Nat.le_of_ble_eq_true rfl) dX2_source_6) (fun r6 hp6 => ?_)
  have he6 := hp6
  have he6 : r6 = bI (inL (Int32.toInt64 x) (lN 0) (lN 256)) := he6
  subst he6
  refine r_as (z := bI (rng x 0 256)) (by rw [inL_rng x (by decide) (by decide)]) ?_
  refine lv_if_eq (tgt := 36) hx hb dX2_source_9 (by decide) (fun c9 => ?_) (fun c9 => ?_)
  · skip
    have c9 := bI_f c9
    refine lv_ldc hx hb hown (hts _ q1021) dX2_source_36 ?_
    have es : spSource S x y = (cBAD, S) := by first | simp [spSource, c9, c21] | simp [spSource, c9]
    exact ret (-100000002 : Int32) (all, kept, hist, hlo, snap, tk, bits, reg, exa, text, tl, sp, read, rm, nu, deep, src) dX2_source_38 (⟨(by rw [es]), (by rw [es]; exact hM)⟩) Z (Nat.le_of_ble_eq_true rfl) (Nat.le_of_ble_eq_true rfl)
  · skip
    have c9 := bI_t c9
    refine lv_iload_n hx hb dX2_source_12 rfl (lv_at hl 2 rfl) ?_
    refine lv_i2l hx hb dX2_source_13 rfl ?_
    refine lv_lconst (v := lN 1) hx hb dX2_source_14 rfl ?_
    refine lv_ldc2 hx hb hown (hts _ q1002) dX2_source_15 ?_
    refine r_asl (z := lN 255) rfl ?_
    refine ns_i (k := 3) (nr_S (As := [.long (Int32.toInt64 y), .long (lN 1), .long (lN 255)]) (rest := []) hx hb hml hown hts (M_in l G (Int32.toInt64 y) (lN 1) (lN 255)) nPs.blind 3 q999 q1000 q53 q1001 (by decide +kernel) ⟨⟨Nat.le_of_ble_eq_true rfl, Nat.le_of_ble_eq_true rfl⟩, Nat.le_of_ble_eq_true rfl, Nat.le_of_ble_eq_true rfl⟩ (nPs_of hG Z (fun k q h => by simp at h)) rfl hl.1 rfl (Nat.le_of_ble_eq_true rfl) dX2_source_18) (fun r18 hp18 => ?_)
    have he18 := hp18
    have he18 : r18 = bI (inL (Int32.toInt64 y) (lN 1) (lN 255)) := he18
    subst he18
    refine r_as (z := bI (rng y 1 255)) (by rw [inL_rng y (by decide) (by decide)]) ?_
    refine lv_if_eq (tgt := 36) hx hb dX2_source_21 (by decide) (fun c21 => ?_) (fun c21 => ?_)
    · skip
      have c21 := bI_f c21
      refine lv_ldc hx hb hown (hts _ q1021) dX2_source_36 ?_
      have es : spSource S x y = (cBAD, S) := by first | simp [spSource, c9, c21] | simp [spSource, c9]
      exact ret (-100000002 : Int32) (all, kept, hist, hlo, snap, tk, bits, reg, exa, text, tl, sp, read, rm, nu, deep, src) dX2_source_38 (⟨(by rw [es]), (by rw [es]; exact hM)⟩) Z (Nat.le_of_ble_eq_true rfl) (Nat.le_of_ble_eq_true rfl)
    · skip
      have c21 := bI_t c21
      refine lv_aload_n hx hb dX2_source_24 rfl (lv_at hl 0 rfl) ?_
      refine lv_iconst (v := nI 0) hx hb dX2_source_25 rfl ?_
      refine lv_iload_n hx hb dX2_source_26 rfl (lv_at hl 1 rfl) ?_
      refine lv_iload_n hx hb dX2_source_27 rfl (lv_at hl 2 rfl) ?_
      refine lv_ldc hx hb hown (hts _ q1003) dX2_source_28 ?_
      refine nc_i (k := 3) (wcc := mW G q a wd all kept hist hlo snap tk bits reg exa text tl sp read rm nu deep src) (wr := []) (nr_V (As := [.int (nI 0), .int x, .int y, .int (-100000005 : Int32)]) (rest := []) hx hb hml hown hts ((M_adds l G q a wd all kept hist hlo snap tk bits reg exa text tl sp read rm nu deep src S (nI 0) x y (-100000005 : Int32) (by first | assumption | omega | rfl) (fun h => src_ok so.1.1 c9 c21)) _) nP.blind 4 q1004 q1006 qs16 q53 q1007 (by decide +kernel) ⟨⟨Nat.le_of_ble_eq_true rfl, Nat.le_of_ble_eq_true rfl⟩, Nat.le_of_ble_eq_true rfl, Nat.le_of_ble_eq_true rfl⟩ (r_recv hG Z.w 0 (C := "ShareStreamsModel") rfl rfl rfl) (nP_of hG Z [0, 1, 2, 3, 4, 5, 6, 7, 8, 9, 10, 11, 12] rfl (by decide) (fun k q h => by simp at h) nAp.nil) rfl hl.1 rfl (Nat.le_of_ble_eq_true rfl) dX2_source_30) Z [0, 1, 2, 3, 4, 5, 6, 7, 8, 9, 10, 11, 12] [] rfl rfl (by decide) (by decide) (fun r30 u H locs hp30 Z => ?_)
      obtain ⟨all1_30, kept1_30, hist1_30, hlo1_30, snap1_30, tk1_30, bits1_30, reg1_30, exa1_30, text1_30, tl1_30, sp1_30, read1_30, rm1_30, nu1_30, deep1_30, src1_30⟩ := u
      obtain ⟨he30, hp30⟩ := hp30
      have he30 : r30 = (spAdd S (nI 0) x y (-100000005 : Int32)).1 := he30
      subst he30
      have hp30 : mR (spAdd S (nI 0) x y (-100000005 : Int32)).2 all1_30 hist1_30 hlo1_30 snap1_30 tk1_30 text1_30 tl1_30 := hp30
      have Z : nW G A (mW G q a wd all1_30 kept1_30 hist1_30 hlo1_30 snap1_30 tk1_30 bits1_30 reg1_30 exa1_30 text1_30 tl1_30 sp1_30 read1_30 rm1_30 nu1_30 deep1_30 src1_30) ([]) ([]) s.heap _ _ := Z
      refine lv_goto (tgt := 38) hx hb dX2_source_33 (by decide) ?_
      have es : spSource S x y = spAdd S (nI 0) x y cNONE := by simp [spSource, c9, c21]
      exact ret ((spAdd S (nI 0) x y (-100000005 : Int32)).1) (all1_30, kept1_30, hist1_30, hlo1_30, snap1_30, tk1_30, bits1_30, reg1_30, exa1_30, text1_30, tl1_30, sp1_30, read1_30, rm1_30, nu1_30, deep1_30, src1_30) dX2_source_38 (⟨(by rw [es]), (by rw [es]; exact hp30)⟩) Z (Nat.le_of_ble_eq_true rfl) (Nat.le_of_ble_eq_true rfl)
set_option maxHeartbeats 4000000 in
set_option maxRecDepth 100000 in
theorem M_gate (l : Launch) (G : nG) (q : Nat) (a : Nat → Nat) (wd : Nat → Int64) (all : Nat → Int32) (kept : Nat → Int32) (hist : Nat → Int32) (hlo : Int32) (snap : Nat → Int32) (tk : Int32) (bits : Nat → Int32) (reg : Nat → Int32) (exa : Nat → Int32) (text : Nat → Int32) (tl : Int32) (sp : Int32) (read : Nat → Int32) (rm : Int32) (nu : Int32) (deep : Nat → Int32) (src : Nat → Int32) (S : oSt) (x : Int32) (y : Int32) (z : Int32) (hM : mR S all hist hlo snap tk text tl) : nMi (S := (Nat → Int32) × (Nat → Int32) × (Nat → Int32) × Int32 × (Nat → Int32) × Int32 × (Nat → Int32) × (Nat → Int32) × (Nat → Int32) × (Nat → Int32) × Int32 × Int32 × (Nat → Int32) × Int32 × Int32 × (Nat → Int32) × (Nat → Int32)) l yX2_gate cX2_gate 4 (.int) 2 0 0 49 G [.ref q, .int x, .int y, .int z] (mW G q a wd all kept hist hlo snap tk bits reg exa text tl sp read rm nu deep src) ([]) (fun (u : (Nat → Int32) × (Nat → Int32) × (Nat → Int32) × Int32 × (Nat → Int32) × Int32 × (Nat → Int32) × (Nat → Int32) × (Nat → Int32) × (Nat → Int32) × Int32 × Int32 × (Nat → Int32) × Int32 × Int32 × (Nat → Int32) × (Nat → Int32)) => mW G q a wd u.1 u.2.1 u.2.2.1 u.2.2.2.1 u.2.2.2.2.1 u.2.2.2.2.2.1 u.2.2.2.2.2.2.1 u.2.2.2.2.2.2.2.1 u.2.2.2.2.2.2.2.2.1 u.2.2.2.2.2.2.2.2.2.1 u.2.2.2.2.2.2.2.2.2.2.1 u.2.2.2.2.2.2.2.2.2.2.2.1 u.2.2.2.2.2.2.2.2.2.2.2.2.1 u.2.2.2.2.2.2.2.2.2.2.2.2.2.1 u.2.2.2.2.2.2.2.2.2.2.2.2.2.2.1 u.2.2.2.2.2.2.2.2.2.2.2.2.2.2.2.1 u.2.2.2.2.2.2.2.2.2.2.2.2.2.2.2.2) (fun (r : Int32) (u : (Nat → Int32) × (Nat → Int32) × (Nat → Int32) × Int32 × (Nat → Int32) × Int32 × (Nat → Int32) × (Nat → Int32) × (Nat → Int32) × (Nat → Int32) × Int32 × Int32 × (Nat → Int32) × Int32 × Int32 × (Nat → Int32) × (Nat → Int32)) => r = ((spGate S x y z).1) ∧ mR (spGate S x y z).2 u.1 u.2.2.1 u.2.2.2.1 u.2.2.2.2.1 u.2.2.2.2.2.1 u.2.2.2.2.2.2.2.2.2.1 u.2.2.2.2.2.2.2.2.2.2.1) := by
  refine nMi.of (own := "ShareStreamsModel") rfl (by decide +kernel) (Nat.le_of_ble_eq_true rfl) (fun _ _ _ => rfl) ?_
  intro p e s m args below meth c A Q ls hx hb hml hown hts hin hG Z hl ret
  have hl : lv_has ls 4 [(0, .ref q), (1, .int x), (2, .int y), (3, .int z)] := hl
  have Z : nW G A (mW G q a wd all kept hist hlo snap tk bits reg exa text tl sp read rm nu deep src) ([]) ([]) s.heap _ _ := Z
  obtain ⟨so, ba, ⟨eh, hh⟩, ⟨ek, sn⟩, et, tx⟩ := hM
  have hM : mR S all hist hlo snap tk text tl := ⟨so, ba, ⟨eh, hh⟩, ⟨ek, sn⟩, et, tx⟩
  have hn : S.1.1 ≤ 16 := so.1.1
  have ha : all 0 = nI S.1.1 := ba.1
  refine lv_aload_n hx hb dX2_gate_0 rfl (lv_at hl 0 rfl) ?_
  refine lv_iload_n hx hb dX2_gate_1 rfl (lv_at hl 2 rfl) ?_
  refine ns_i (k := 3) (nr_V (As := [.int y]) (rest := []) hx hb hml hown hts (M_isLine l G q a wd all kept hist hlo snap tk bits reg exa text tl sp read rm nu deep src y S.1.1 (by first | assumption | omega | rfl) (by first | assumption | omega | rfl)) nPs.blind 1 q1026 q1028 qs20 q53 q1029 (by decide +kernel) ⟨⟨Nat.le_of_ble_eq_true rfl, Nat.le_of_ble_eq_true rfl⟩, Nat.le_of_ble_eq_true rfl, Nat.le_of_ble_eq_true rfl⟩ (r_recv hG Z.w 0 (C := "ShareStreamsModel") rfl rfl rfl) (nPs_of hG Z Z.w) rfl hl.1 rfl (Nat.le_of_ble_eq_true rfl) dX2_gate_2) (fun r2 hp2 => ?_)
  have he2 := hp2
  have he2 : r2 = bI (isLn y S.1.1) := he2
  subst he2
  refine lv_if_eq (tgt := 16) hx hb dX2_gate_5 (by decide) (fun c5 => ?_) (fun c5 => ?_)
  · skip
    have c5 := bI_f c5
    refine lv_ldc hx hb hown (hts _ q1030) dX2_gate_16 ?_
    have es : spGate S x y z = (cUNK, S) := by first | simp [spGate, c5, c13] | simp [spGate, c5]
    exact ret (-100000001 : Int32) (all, kept, hist, hlo, snap, tk, bits, reg, exa, text, tl, sp, read, rm, nu, deep, src) dX2_gate_18 (⟨(by rw [es]), (by rw [es]; exact hM)⟩) Z (Nat.le_of_ble_eq_true rfl) (Nat.le_of_ble_eq_true rfl)
  · skip
    have c5 := bI_t c5
    refine lv_aload_n hx hb dX2_gate_8 rfl (lv_at hl 0 rfl) ?_
    refine lv_iload_n hx hb dX2_gate_9 rfl (lv_at hl 3 rfl) ?_
    refine ns_i (k := 3) (nr_V (As := [.int z]) (rest := []) hx hb hml hown hts (M_isLine l G q a wd all kept hist hlo snap tk bits reg exa text tl sp read rm nu deep src z S.1.1 (by first | assumption | omega | rfl) (by first | assumption | omega | rfl)) nPs.blind 1 q1026 q1028 qs20 q53 q1029 (by decide +kernel) ⟨⟨Nat.le_of_ble_eq_true rfl, Nat.le_of_ble_eq_true rfl⟩, Nat.le_of_ble_eq_true rfl, Nat.le_of_ble_eq_true rfl⟩ (r_recv hG Z.w 0 (C := "ShareStreamsModel") rfl rfl rfl) (nPs_of hG Z Z.w) rfl hl.1 rfl (Nat.le_of_ble_eq_true rfl) dX2_gate_10) (fun r10 hp10 => ?_)
    have he10 := hp10
    have he10 : r10 = bI (isLn z S.1.1) := he10
    subst he10
    refine lv_if_ne (tgt := 19) hx hb dX2_gate_13 (by decide) (fun c13 => ?_) (fun c13 => ?_)
    · skip
      have c13 := bI_t c13
      refine lv_iload_n hx hb dX2_gate_19 rfl (lv_at hl 1 rfl) ?_
      refine lv_i2l hx hb dX2_gate_20 rfl ?_
      refine lv_lconst (v := lN 1) hx hb dX2_gate_21 rfl ?_
      refine lv_ldc2 hx hb hown (hts _ q1031) dX2_gate_22 ?_
      refine r_asl (z := lN 3) rfl ?_
      refine ns_i (k := 3) (nr_S (As := [.long (Int32.toInt64 x), .long (lN 1), .long (lN 3)]) (rest := []) hx hb hml hown hts (M_in l G (Int32.toInt64 x) (lN 1) (lN 3)) nPs.blind 3 q999 q1000 q53 q1001 (by decide +kernel) ⟨⟨Nat.le_of_ble_eq_true rfl, Nat.le_of_ble_eq_true rfl⟩, Nat.le_of_ble_eq_true rfl, Nat.le_of_ble_eq_true rfl⟩ (nPs_of hG Z (fun k q h => by simp at h)) rfl hl.1 rfl (Nat.le_of_ble_eq_true rfl) dX2_gate_25) (fun r25 hp25 => ?_)
      have he25 := hp25
      have he25 : r25 = bI (inL (Int32.toInt64 x) (lN 1) (lN 3)) := he25
      subst he25
      refine r_as (z := bI (rng x 1 3)) (by rw [inL_rng x (by decide) (by decide)]) ?_
      refine lv_if_eq (tgt := 43) hx hb dX2_gate_28 (by decide) (fun c28 => ?_) (fun c28 => ?_)
      · skip
        have c28 := bI_f c28
        refine lv_ldc hx hb hown (hts _ q1021) dX2_gate_43 ?_
        have es : spGate S x y z = (cBAD, S) := by simp [spGate, c5, c13, c28]
        exact ret (-100000002 : Int32) (all, kept, hist, hlo, snap, tk, bits, reg, exa, text, tl, sp, read, rm, nu, deep, src) dX2_gate_45 (⟨(by rw [es]), (by rw [es]; exact hM)⟩) Z (Nat.le_of_ble_eq_true rfl) (Nat.le_of_ble_eq_true rfl)
      · skip
        have c28 := bI_t c28
        refine lv_aload_n hx hb dX2_gate_31 rfl (lv_at hl 0 rfl) ?_
        refine lv_iload_n hx hb dX2_gate_32 rfl (lv_at hl 1 rfl) ?_
        refine lv_iload_n hx hb dX2_gate_33 rfl (lv_at hl 2 rfl) ?_
        refine lv_iload_n hx hb dX2_gate_34 rfl (lv_at hl 3 rfl) ?_
        refine lv_ldc hx hb hown (hts _ q1003) dX2_gate_35 ?_
        refine nc_i (k := 3) (wcc := mW G q a wd all kept hist hlo snap tk bits reg exa text tl sp read rm nu deep src) (wr := []) (nr_V (As := [.int x, .int y, .int z, .int (-100000005 : Int32)]) (rest := []) hx hb hml hown hts ((M_adds l G q a wd all kept hist hlo snap tk bits reg exa text tl sp read rm nu deep src S x y z (-100000005 : Int32) (by first | assumption | omega | rfl) (fun h => gate_ok so.1.1 c28 c5 c13)) _) nP.blind 4 q1004 q1006 qs16 q53 q1007 (by decide +kernel) ⟨⟨Nat.le_of_ble_eq_true rfl, Nat.le_of_ble_eq_true rfl⟩, Nat.le_of_ble_eq_true rfl, Nat.le_of_ble_eq_true rfl⟩ (r_recv hG Z.w 0 (C := "ShareStreamsModel") rfl rfl rfl) (nP_of hG Z [0, 1, 2, 3, 4, 5, 6, 7, 8, 9, 10, 11, 12] rfl (by decide) (fun k q h => by simp at h) nAp.nil) rfl hl.1 rfl (Nat.le_of_ble_eq_true rfl) dX2_gate_37) Z [0, 1, 2, 3, 4, 5, 6, 7, 8, 9, 10, 11, 12] [] rfl rfl (by decide) (by decide) (fun r37 u H locs hp37 Z => ?_)
        obtain ⟨all1_37, kept1_37, hist1_37, hlo1_37, snap1_37, tk1_37, bits1_37, reg1_37, exa1_37, text1_37, tl1_37, sp1_37, read1_37, rm1_37, nu1_37, deep1_37, src1_37⟩ := u
        obtain ⟨he37, hp37⟩ := hp37
        have he37 : r37 = (spAdd S x y z (-100000005 : Int32)).1 := he37
        subst he37
        have hp37 : mR (spAdd S x y z (-100000005 : Int32)).2 all1_37 hist1_37 hlo1_37 snap1_37 tk1_37 text1_37 tl1_37 := hp37
        have Z : nW G A (mW G q a wd all1_37 kept1_37 hist1_37 hlo1_37 snap1_37 tk1_37 bits1_37 reg1_37 exa1_37 text1_37 tl1_37 sp1_37 read1_37 rm1_37 nu1_37 deep1_37 src1_37) ([]) ([]) s.heap _ _ := Z
        refine lv_goto (tgt := 45) hx hb dX2_gate_40 (by decide) ?_
        have es : spGate S x y z = spAdd S x y z cNONE := by simp [spGate, c5, c13, c28]
        exact ret ((spAdd S x y z (-100000005 : Int32)).1) (all1_37, kept1_37, hist1_37, hlo1_37, snap1_37, tk1_37, bits1_37, reg1_37, exa1_37, text1_37, tl1_37, sp1_37, read1_37, rm1_37, nu1_37, deep1_37, src1_37) dX2_gate_45 (⟨(by rw [es]), (by rw [es]; exact hp37)⟩) Z (Nat.le_of_ble_eq_true rfl) (Nat.le_of_ble_eq_true rfl)
    · skip
      have c13 := bI_f c13
      refine lv_ldc hx hb hown (hts _ q1030) dX2_gate_16 ?_
      have es : spGate S x y z = (cUNK, S) := by first | simp [spGate, c5, c13] | simp [spGate, c5]
      exact ret (-100000001 : Int32) (all, kept, hist, hlo, snap, tk, bits, reg, exa, text, tl, sp, read, rm, nu, deep, src) dX2_gate_18 (⟨(by rw [es]), (by rw [es]; exact hM)⟩) Z (Nat.le_of_ble_eq_true rfl) (Nat.le_of_ble_eq_true rfl)
set_option maxHeartbeats 4000000 in
set_option maxRecDepth 100000 in
theorem M_choose (l : Launch) (G : nG) (q : Nat) (a : Nat → Nat) (wd : Nat → Int64) (all : Nat → Int32) (kept : Nat → Int32) (hist : Nat → Int32) (hlo : Int32) (snap : Nat → Int32) (tk : Int32) (bits : Nat → Int32) (reg : Nat → Int32) (exa : Nat → Int32) (text : Nat → Int32) (tl : Int32) (sp : Int32) (read : Nat → Int32) (rm : Int32) (nu : Int32) (deep : Nat → Int32) (src : Nat → Int32) (S : oSt) (x : Int32) (y : Int32) (z : Int32) (hM : mR S all hist hlo snap tk text tl) : nMi (S := (Nat → Int32) × (Nat → Int32) × (Nat → Int32) × Int32 × (Nat → Int32) × Int32 × (Nat → Int32) × (Nat → Int32) × (Nat → Int32) × (Nat → Int32) × Int32 × Int32 × (Nat → Int32) × Int32 × Int32 × (Nat → Int32) × (Nat → Int32)) l yX2_choose cX2_choose 4 (.int) 2 0 0 49 G [.ref q, .int x, .int y, .int z] (mW G q a wd all kept hist hlo snap tk bits reg exa text tl sp read rm nu deep src) ([]) (fun (u : (Nat → Int32) × (Nat → Int32) × (Nat → Int32) × Int32 × (Nat → Int32) × Int32 × (Nat → Int32) × (Nat → Int32) × (Nat → Int32) × (Nat → Int32) × Int32 × Int32 × (Nat → Int32) × Int32 × Int32 × (Nat → Int32) × (Nat → Int32)) => mW G q a wd u.1 u.2.1 u.2.2.1 u.2.2.2.1 u.2.2.2.2.1 u.2.2.2.2.2.1 u.2.2.2.2.2.2.1 u.2.2.2.2.2.2.2.1 u.2.2.2.2.2.2.2.2.1 u.2.2.2.2.2.2.2.2.2.1 u.2.2.2.2.2.2.2.2.2.2.1 u.2.2.2.2.2.2.2.2.2.2.2.1 u.2.2.2.2.2.2.2.2.2.2.2.2.1 u.2.2.2.2.2.2.2.2.2.2.2.2.2.1 u.2.2.2.2.2.2.2.2.2.2.2.2.2.2.1 u.2.2.2.2.2.2.2.2.2.2.2.2.2.2.2.1 u.2.2.2.2.2.2.2.2.2.2.2.2.2.2.2.2) (fun (r : Int32) (u : (Nat → Int32) × (Nat → Int32) × (Nat → Int32) × Int32 × (Nat → Int32) × Int32 × (Nat → Int32) × (Nat → Int32) × (Nat → Int32) × (Nat → Int32) × Int32 × Int32 × (Nat → Int32) × Int32 × Int32 × (Nat → Int32) × (Nat → Int32)) => r = ((spChoose S x y z).1) ∧ mR (spChoose S x y z).2 u.1 u.2.2.1 u.2.2.2.1 u.2.2.2.2.1 u.2.2.2.2.2.1 u.2.2.2.2.2.2.2.2.2.1 u.2.2.2.2.2.2.2.2.2.2.1) := by
  refine nMi.of (own := "ShareStreamsModel") rfl (by decide +kernel) (Nat.le_of_ble_eq_true rfl) (fun _ _ _ => rfl) ?_
  intro p e s m args below meth c A Q ls hx hb hml hown hts hin hG Z hl ret
  have hl : lv_has ls 4 [(0, .ref q), (1, .int x), (2, .int y), (3, .int z)] := hl
  have Z : nW G A (mW G q a wd all kept hist hlo snap tk bits reg exa text tl sp read rm nu deep src) ([]) ([]) s.heap _ _ := Z
  obtain ⟨so, ba, ⟨eh, hh⟩, ⟨ek, sn⟩, et, tx⟩ := hM
  have hM : mR S all hist hlo snap tk text tl := ⟨so, ba, ⟨eh, hh⟩, ⟨ek, sn⟩, et, tx⟩
  have hn : S.1.1 ≤ 16 := so.1.1
  have ha : all 0 = nI S.1.1 := ba.1
  refine lv_aload_n hx hb dX2_choose_0 rfl (lv_at hl 0 rfl) ?_
  refine lv_iload_n hx hb dX2_choose_1 rfl (lv_at hl 1 rfl) ?_
  refine ns_i (k := 3) (nr_V (As := [.int x]) (rest := []) hx hb hml hown hts (M_isLine l G q a wd all kept hist hlo snap tk bits reg exa text tl sp read rm nu deep src x S.1.1 (by first | assumption | omega | rfl) (by first | assumption | omega | rfl)) nPs.blind 1 q1026 q1028 qs20 q53 q1029 (by decide +kernel) ⟨⟨Nat.le_of_ble_eq_true rfl, Nat.le_of_ble_eq_true rfl⟩, Nat.le_of_ble_eq_true rfl, Nat.le_of_ble_eq_true rfl⟩ (r_recv hG Z.w 0 (C := "ShareStreamsModel") rfl rfl rfl) (nPs_of hG Z Z.w) rfl hl.1 rfl (Nat.le_of_ble_eq_true rfl) dX2_choose_2) (fun r2 hp2 => ?_)
  have he2 := hp2
  have he2 : r2 = bI (isLn x S.1.1) := he2
  subst he2
  refine lv_if_eq (tgt := 35) hx hb dX2_choose_5 (by decide) (fun c5 => ?_) (fun c5 => ?_)
  · skip
    have c5 := bI_f c5
    refine lv_ldc hx hb hown (hts _ q1030) dX2_choose_35 ?_
    have es : spChoose S x y z = (cUNK, S) := by first | simp [spChoose, c5, c13, c21] | simp [spChoose, c5, c13] | simp [spChoose, c5]
    exact ret (-100000001 : Int32) (all, kept, hist, hlo, snap, tk, bits, reg, exa, text, tl, sp, read, rm, nu, deep, src) dX2_choose_37 (⟨(by rw [es]), (by rw [es]; exact hM)⟩) Z (Nat.le_of_ble_eq_true rfl) (Nat.le_of_ble_eq_true rfl)
  · skip
    have c5 := bI_t c5
    refine lv_aload_n hx hb dX2_choose_8 rfl (lv_at hl 0 rfl) ?_
    refine lv_iload_n hx hb dX2_choose_9 rfl (lv_at hl 2 rfl) ?_
    refine ns_i (k := 3) (nr_V (As := [.int y]) (rest := []) hx hb hml hown hts (M_isLine l G q a wd all kept hist hlo snap tk bits reg exa text tl sp read rm nu deep src y S.1.1 (by first | assumption | omega | rfl) (by first | assumption | omega | rfl)) nPs.blind 1 q1026 q1028 qs20 q53 q1029 (by decide +kernel) ⟨⟨Nat.le_of_ble_eq_true rfl, Nat.le_of_ble_eq_true rfl⟩, Nat.le_of_ble_eq_true rfl, Nat.le_of_ble_eq_true rfl⟩ (r_recv hG Z.w 0 (C := "ShareStreamsModel") rfl rfl rfl) (nPs_of hG Z Z.w) rfl hl.1 rfl (Nat.le_of_ble_eq_true rfl) dX2_choose_10) (fun r10 hp10 => ?_)
    have he10 := hp10
    have he10 : r10 = bI (isLn y S.1.1) := he10
    subst he10
    refine lv_if_eq (tgt := 35) hx hb dX2_choose_13 (by decide) (fun c13 => ?_) (fun c13 => ?_)
    · skip
      have c13 := bI_f c13
      refine lv_ldc hx hb hown (hts _ q1030) dX2_choose_35 ?_
      have es : spChoose S x y z = (cUNK, S) := by first | simp [spChoose, c5, c13, c21] | simp [spChoose, c5, c13] | simp [spChoose, c5]
      exact ret (-100000001 : Int32) (all, kept, hist, hlo, snap, tk, bits, reg, exa, text, tl, sp, read, rm, nu, deep, src) dX2_choose_37 (⟨(by rw [es]), (by rw [es]; exact hM)⟩) Z (Nat.le_of_ble_eq_true rfl) (Nat.le_of_ble_eq_true rfl)
    · skip
      have c13 := bI_t c13
      refine lv_aload_n hx hb dX2_choose_16 rfl (lv_at hl 0 rfl) ?_
      refine lv_iload_n hx hb dX2_choose_17 rfl (lv_at hl 3 rfl) ?_
      refine ns_i (k := 3) (nr_V (As := [.int z]) (rest := []) hx hb hml hown hts (M_isLine l G q a wd all kept hist hlo snap tk bits reg exa text tl sp read rm nu deep src z S.1.1 (by first | assumption | omega | rfl) (by first | assumption | omega | rfl)) nPs.blind 1 q1026 q1028 qs20 q53 q1029 (by decide +kernel) ⟨⟨Nat.le_of_ble_eq_true rfl, Nat.le_of_ble_eq_true rfl⟩, Nat.le_of_ble_eq_true rfl, Nat.le_of_ble_eq_true rfl⟩ (r_recv hG Z.w 0 (C := "ShareStreamsModel") rfl rfl rfl) (nPs_of hG Z Z.w) rfl hl.1 rfl (Nat.le_of_ble_eq_true rfl) dX2_choose_18) (fun r18 hp18 => ?_)
      have he18 := hp18
      have he18 : r18 = bI (isLn z S.1.1) := he18
      subst he18
      refine lv_if_eq (tgt := 35) hx hb dX2_choose_21 (by decide) (fun c21 => ?_) (fun c21 => ?_)
      · skip
        have c21 := bI_f c21
        refine lv_ldc hx hb hown (hts _ q1030) dX2_choose_35 ?_
        have es : spChoose S x y z = (cUNK, S) := by first | simp [spChoose, c5, c13, c21] | simp [spChoose, c5, c13] | simp [spChoose, c5]
        exact ret (-100000001 : Int32) (all, kept, hist, hlo, snap, tk, bits, reg, exa, text, tl, sp, read, rm, nu, deep, src) dX2_choose_37 (⟨(by rw [es]), (by rw [es]; exact hM)⟩) Z (Nat.le_of_ble_eq_true rfl) (Nat.le_of_ble_eq_true rfl)
      · skip
        have c21 := bI_t c21
        refine lv_aload_n hx hb dX2_choose_24 rfl (lv_at hl 0 rfl) ?_
        refine lv_iconst (v := nI 4) hx hb dX2_choose_25 rfl ?_
        refine lv_iload_n hx hb dX2_choose_26 rfl (lv_at hl 1 rfl) ?_
        refine lv_iload_n hx hb dX2_choose_27 rfl (lv_at hl 2 rfl) ?_
        refine lv_iload_n hx hb dX2_choose_28 rfl (lv_at hl 3 rfl) ?_
        refine nc_i (k := 3) (wcc := mW G q a wd all kept hist hlo snap tk bits reg exa text tl sp read rm nu deep src) (wr := []) (nr_V (As := [.int (nI 4), .int x, .int y, .int z]) (rest := []) hx hb hml hown hts ((M_adds l G q a wd all kept hist hlo snap tk bits reg exa text tl sp read rm nu deep src S (nI 4) x y z (by first | assumption | omega | rfl) (fun h => choose_ok so.1.1 c5 c13 c21)) _) nP.blind 4 q1004 q1006 qs16 q53 q1007 (by decide +kernel) ⟨⟨Nat.le_of_ble_eq_true rfl, Nat.le_of_ble_eq_true rfl⟩, Nat.le_of_ble_eq_true rfl, Nat.le_of_ble_eq_true rfl⟩ (r_recv hG Z.w 0 (C := "ShareStreamsModel") rfl rfl rfl) (nP_of hG Z [0, 1, 2, 3, 4, 5, 6, 7, 8, 9, 10, 11, 12] rfl (by decide) (fun k q h => by simp at h) nAp.nil) rfl hl.1 rfl (Nat.le_of_ble_eq_true rfl) dX2_choose_29) Z [0, 1, 2, 3, 4, 5, 6, 7, 8, 9, 10, 11, 12] [] rfl rfl (by decide) (by decide) (fun r29 u H locs hp29 Z => ?_)
        obtain ⟨all1_29, kept1_29, hist1_29, hlo1_29, snap1_29, tk1_29, bits1_29, reg1_29, exa1_29, text1_29, tl1_29, sp1_29, read1_29, rm1_29, nu1_29, deep1_29, src1_29⟩ := u
        obtain ⟨he29, hp29⟩ := hp29
        have he29 : r29 = (spAdd S (nI 4) x y z).1 := he29
        subst he29
        have hp29 : mR (spAdd S (nI 4) x y z).2 all1_29 hist1_29 hlo1_29 snap1_29 tk1_29 text1_29 tl1_29 := hp29
        have Z : nW G A (mW G q a wd all1_29 kept1_29 hist1_29 hlo1_29 snap1_29 tk1_29 bits1_29 reg1_29 exa1_29 text1_29 tl1_29 sp1_29 read1_29 rm1_29 nu1_29 deep1_29 src1_29) ([]) ([]) s.heap _ _ := Z
        refine lv_goto (tgt := 37) hx hb dX2_choose_32 (by decide) ?_
        have es : spChoose S x y z = spAdd S (nI 4) x y z := by simp [spChoose, c5, c13, c21]
        exact ret ((spAdd S (nI 4) x y z).1) (all1_29, kept1_29, hist1_29, hlo1_29, snap1_29, tk1_29, bits1_29, reg1_29, exa1_29, text1_29, tl1_29, sp1_29, read1_29, rm1_29, nu1_29, deep1_29, src1_29) dX2_choose_37 (⟨(by rw [es]), (by rw [es]; exact hp29)⟩) Z (Nat.le_of_ble_eq_true rfl) (Nat.le_of_ble_eq_true rfl)
set_option maxHeartbeats 4000000 in
set_option maxRecDepth 100000 in
theorem M_turn (l : Launch) (G : nG) (q : Nat) (a : Nat → Nat) (wd : Nat → Int64) (all : Nat → Int32) (kept : Nat → Int32) (hist : Nat → Int32) (hlo : Int32) (snap : Nat → Int32) (tk : Int32) (bits : Nat → Int32) (reg : Nat → Int32) (exa : Nat → Int32) (text : Nat → Int32) (tl : Int32) (sp : Int32) (read : Nat → Int32) (rm : Int32) (nu : Int32) (deep : Nat → Int32) (src : Nat → Int32) (S : oSt) (x : Int32) (hM : mR S all hist hlo snap tk text tl) : nMi (S := (Nat → Int32) × (Nat → Int32) × (Nat → Int32) × Int32 × (Nat → Int32) × Int32 × (Nat → Int32) × (Nat → Int32) × (Nat → Int32) × (Nat → Int32) × Int32 × Int32 × (Nat → Int32) × Int32 × Int32 × (Nat → Int32) × (Nat → Int32)) l yX2_turn cX2_turn 2 (.int) 2 0 0 49 G [.ref q, .int x] (mW G q a wd all kept hist hlo snap tk bits reg exa text tl sp read rm nu deep src) ([]) (fun (u : (Nat → Int32) × (Nat → Int32) × (Nat → Int32) × Int32 × (Nat → Int32) × Int32 × (Nat → Int32) × (Nat → Int32) × (Nat → Int32) × (Nat → Int32) × Int32 × Int32 × (Nat → Int32) × Int32 × Int32 × (Nat → Int32) × (Nat → Int32)) => mW G q a wd u.1 u.2.1 u.2.2.1 u.2.2.2.1 u.2.2.2.2.1 u.2.2.2.2.2.1 u.2.2.2.2.2.2.1 u.2.2.2.2.2.2.2.1 u.2.2.2.2.2.2.2.2.1 u.2.2.2.2.2.2.2.2.2.1 u.2.2.2.2.2.2.2.2.2.2.1 u.2.2.2.2.2.2.2.2.2.2.2.1 u.2.2.2.2.2.2.2.2.2.2.2.2.1 u.2.2.2.2.2.2.2.2.2.2.2.2.2.1 u.2.2.2.2.2.2.2.2.2.2.2.2.2.2.1 u.2.2.2.2.2.2.2.2.2.2.2.2.2.2.2.1 u.2.2.2.2.2.2.2.2.2.2.2.2.2.2.2.2) (fun (r : Int32) (u : (Nat → Int32) × (Nat → Int32) × (Nat → Int32) × Int32 × (Nat → Int32) × Int32 × (Nat → Int32) × (Nat → Int32) × (Nat → Int32) × (Nat → Int32) × Int32 × Int32 × (Nat → Int32) × Int32 × Int32 × (Nat → Int32) × (Nat → Int32)) => r = ((spTurn S x).1) ∧ mR (spTurn S x).2 u.1 u.2.2.1 u.2.2.2.1 u.2.2.2.2.1 u.2.2.2.2.2.1 u.2.2.2.2.2.2.2.2.2.1 u.2.2.2.2.2.2.2.2.2.2.1) := by
  refine nMi.of (own := "ShareStreamsModel") rfl (by decide +kernel) (Nat.le_of_ble_eq_true rfl) (fun _ _ _ => rfl) ?_
  intro p e s m args below meth c A Q ls hx hb hml hown hts hin hG Z hl ret
  have hl : lv_has ls 2 [(0, .ref q), (1, .int x)] := hl
  have Z : nW G A (mW G q a wd all kept hist hlo snap tk bits reg exa text tl sp read rm nu deep src) ([]) ([]) s.heap _ _ := Z
  obtain ⟨so, ba, ⟨eh, hh⟩, ⟨ek, sn⟩, et, tx⟩ := hM
  have hM : mR S all hist hlo snap tk text tl := ⟨so, ba, ⟨eh, hh⟩, ⟨ek, sn⟩, et, tx⟩
  have hn : S.1.1 ≤ 16 := so.1.1
  have ha : all 0 = nI S.1.1 := ba.1
  refine lv_aload_n hx hb dX2_turn_0 rfl (lv_at hl 0 rfl) ?_
  refine lv_iload_n hx hb dX2_turn_1 rfl (lv_at hl 1 rfl) ?_
  refine ns_i (k := 3) (nr_V (As := [.int x]) (rest := []) hx hb hml hown hts (M_isLine l G q a wd all kept hist hlo snap tk bits reg exa text tl sp read rm nu deep src x S.1.1 (by first | assumption | omega | rfl) (by first | assumption | omega | rfl)) nPs.blind 1 q1026 q1028 qs20 q53 q1029 (by decide +kernel) ⟨⟨Nat.le_of_ble_eq_true rfl, Nat.le_of_ble_eq_true rfl⟩, Nat.le_of_ble_eq_true rfl, Nat.le_of_ble_eq_true rfl⟩ (r_recv hG Z.w 0 (C := "ShareStreamsModel") rfl rfl rfl) (nPs_of hG Z Z.w) rfl hl.1 rfl (Nat.le_of_ble_eq_true rfl) dX2_turn_2) (fun r2 hp2 => ?_)
  have he2 := hp2
  have he2 : r2 = bI (isLn x S.1.1) := he2
  subst he2
  refine lv_if_eq (tgt := 21) hx hb dX2_turn_5 (by decide) (fun c5 => ?_) (fun c5 => ?_)
  · skip
    have c5 := bI_f c5
    refine lv_ldc hx hb hown (hts _ q1030) dX2_turn_21 ?_
    have es : spTurn S x = (cUNK, S) := by simp [spTurn, c5]
    exact ret (-100000001 : Int32) (all, kept, hist, hlo, snap, tk, bits, reg, exa, text, tl, sp, read, rm, nu, deep, src) dX2_turn_23 (⟨(by rw [es]), (by rw [es]; exact hM)⟩) Z (Nat.le_of_ble_eq_true rfl) (Nat.le_of_ble_eq_true rfl)
  · skip
    have c5 := bI_t c5
    refine lv_aload_n hx hb dX2_turn_8 rfl (lv_at hl 0 rfl) ?_
    refine lv_iconst (v := nI 5) hx hb dX2_turn_9 rfl ?_
    refine lv_iload_n hx hb dX2_turn_10 rfl (lv_at hl 1 rfl) ?_
    refine lv_ldc hx hb hown (hts _ q1003) dX2_turn_11 ?_
    refine lv_ldc hx hb hown (hts _ q1003) dX2_turn_13 ?_
    refine nc_i (k := 3) (wcc := mW G q a wd all kept hist hlo snap tk bits reg exa text tl sp read rm nu deep src) (wr := []) (nr_V (As := [.int (nI 5), .int x, .int (-100000005 : Int32), .int (-100000005 : Int32)]) (rest := []) hx hb hml hown hts ((M_adds l G q a wd all kept hist hlo snap tk bits reg exa text tl sp read rm nu deep src S (nI 5) x (-100000005 : Int32) (-100000005 : Int32) (by first | assumption | omega | rfl) (fun h => turn_ok so.1.1 c5)) _) nP.blind 4 q1004 q1006 qs16 q53 q1007 (by decide +kernel) ⟨⟨Nat.le_of_ble_eq_true rfl, Nat.le_of_ble_eq_true rfl⟩, Nat.le_of_ble_eq_true rfl, Nat.le_of_ble_eq_true rfl⟩ (r_recv hG Z.w 0 (C := "ShareStreamsModel") rfl rfl rfl) (nP_of hG Z [0, 1, 2, 3, 4, 5, 6, 7, 8, 9, 10, 11, 12] rfl (by decide) (fun k q h => by simp at h) nAp.nil) rfl hl.1 rfl (Nat.le_of_ble_eq_true rfl) dX2_turn_15) Z [0, 1, 2, 3, 4, 5, 6, 7, 8, 9, 10, 11, 12] [] rfl rfl (by decide) (by decide) (fun r15 u H locs hp15 Z => ?_)
    obtain ⟨all1_15, kept1_15, hist1_15, hlo1_15, snap1_15, tk1_15, bits1_15, reg1_15, exa1_15, text1_15, tl1_15, sp1_15, read1_15, rm1_15, nu1_15, deep1_15, src1_15⟩ := u
    obtain ⟨he15, hp15⟩ := hp15
    have he15 : r15 = (spAdd S (nI 5) x (-100000005 : Int32) (-100000005 : Int32)).1 := he15
    subst he15
    have hp15 : mR (spAdd S (nI 5) x (-100000005 : Int32) (-100000005 : Int32)).2 all1_15 hist1_15 hlo1_15 snap1_15 tk1_15 text1_15 tl1_15 := hp15
    have Z : nW G A (mW G q a wd all1_15 kept1_15 hist1_15 hlo1_15 snap1_15 tk1_15 bits1_15 reg1_15 exa1_15 text1_15 tl1_15 sp1_15 read1_15 rm1_15 nu1_15 deep1_15 src1_15) ([]) ([]) s.heap _ _ := Z
    refine lv_goto (tgt := 23) hx hb dX2_turn_18 (by decide) ?_
    have es : spTurn S x = spAdd S (nI 5) x cNONE cNONE := by simp [spTurn, c5]
    exact ret ((spAdd S (nI 5) x (-100000005 : Int32) (-100000005 : Int32)).1) (all1_15, kept1_15, hist1_15, hlo1_15, snap1_15, tk1_15, bits1_15, reg1_15, exa1_15, text1_15, tl1_15, sp1_15, read1_15, rm1_15, nu1_15, deep1_15, src1_15) dX2_turn_23 (⟨(by rw [es]), (by rw [es]; exact hp15)⟩) Z (Nat.le_of_ble_eq_true rfl) (Nat.le_of_ble_eq_true rfl)
set_option maxHeartbeats 4000000 in
set_option maxRecDepth 100000 in
theorem M_delay (l : Launch) (G : nG) (q : Nat) (a : Nat → Nat) (wd : Nat → Int64) (all : Nat → Int32) (kept : Nat → Int32) (hist : Nat → Int32) (hlo : Int32) (snap : Nat → Int32) (tk : Int32) (bits : Nat → Int32) (reg : Nat → Int32) (exa : Nat → Int32) (text : Nat → Int32) (tl : Int32) (sp : Int32) (read : Nat → Int32) (rm : Int32) (nu : Int32) (deep : Nat → Int32) (src : Nat → Int32) (S : oSt) (x : Int32) (y : Int32) (hM : mR S all hist hlo snap tk text tl) : nMi (S := (Nat → Int32) × (Nat → Int32) × (Nat → Int32) × Int32 × (Nat → Int32) × Int32 × (Nat → Int32) × (Nat → Int32) × (Nat → Int32) × (Nat → Int32) × Int32 × Int32 × (Nat → Int32) × Int32 × Int32 × (Nat → Int32) × (Nat → Int32)) l yX2_delay cX2_delay 3 (.int) 2 0 0 49 G [.ref q, .int x, .int y] (mW G q a wd all kept hist hlo snap tk bits reg exa text tl sp read rm nu deep src) ([]) (fun (u : (Nat → Int32) × (Nat → Int32) × (Nat → Int32) × Int32 × (Nat → Int32) × Int32 × (Nat → Int32) × (Nat → Int32) × (Nat → Int32) × (Nat → Int32) × Int32 × Int32 × (Nat → Int32) × Int32 × Int32 × (Nat → Int32) × (Nat → Int32)) => mW G q a wd u.1 u.2.1 u.2.2.1 u.2.2.2.1 u.2.2.2.2.1 u.2.2.2.2.2.1 u.2.2.2.2.2.2.1 u.2.2.2.2.2.2.2.1 u.2.2.2.2.2.2.2.2.1 u.2.2.2.2.2.2.2.2.2.1 u.2.2.2.2.2.2.2.2.2.2.1 u.2.2.2.2.2.2.2.2.2.2.2.1 u.2.2.2.2.2.2.2.2.2.2.2.2.1 u.2.2.2.2.2.2.2.2.2.2.2.2.2.1 u.2.2.2.2.2.2.2.2.2.2.2.2.2.2.1 u.2.2.2.2.2.2.2.2.2.2.2.2.2.2.2.1 u.2.2.2.2.2.2.2.2.2.2.2.2.2.2.2.2) (fun (r : Int32) (u : (Nat → Int32) × (Nat → Int32) × (Nat → Int32) × Int32 × (Nat → Int32) × Int32 × (Nat → Int32) × (Nat → Int32) × (Nat → Int32) × (Nat → Int32) × Int32 × Int32 × (Nat → Int32) × Int32 × Int32 × (Nat → Int32) × (Nat → Int32)) => r = ((spDelay S x y).1) ∧ mR (spDelay S x y).2 u.1 u.2.2.1 u.2.2.2.1 u.2.2.2.2.1 u.2.2.2.2.2.1 u.2.2.2.2.2.2.2.2.2.1 u.2.2.2.2.2.2.2.2.2.2.1) := by
  refine nMi.of (own := "ShareStreamsModel") rfl (by decide +kernel) (Nat.le_of_ble_eq_true rfl) (fun _ _ _ => rfl) ?_
  intro p e s m args below meth c A Q ls hx hb hml hown hts hin hG Z hl ret
  have hl : lv_has ls 3 [(0, .ref q), (1, .int x), (2, .int y)] := hl
  have Z : nW G A (mW G q a wd all kept hist hlo snap tk bits reg exa text tl sp read rm nu deep src) ([]) ([]) s.heap _ _ := Z
  obtain ⟨so, ba, ⟨eh, hh⟩, ⟨ek, sn⟩, et, tx⟩ := hM
  have hM : mR S all hist hlo snap tk text tl := ⟨so, ba, ⟨eh, hh⟩, ⟨ek, sn⟩, et, tx⟩
  have hn : S.1.1 ≤ 16 := so.1.1
  have ha : all 0 = nI S.1.1 := ba.1
  refine lv_aload_n hx hb dX2_delay_0 rfl (lv_at hl 0 rfl) ?_
  refine lv_iload_n hx hb dX2_delay_1 rfl (lv_at hl 1 rfl) ?_
  refine ns_i (k := 3) (nr_V (As := [.int x]) (rest := []) hx hb hml hown hts (M_isLine l G q a wd all kept hist hlo snap tk bits reg exa text tl sp read rm nu deep src x S.1.1 (by first | assumption | omega | rfl) (by first | assumption | omega | rfl)) nPs.blind 1 q1026 q1028 qs20 q53 q1029 (by decide +kernel) ⟨⟨Nat.le_of_ble_eq_true rfl, Nat.le_of_ble_eq_true rfl⟩, Nat.le_of_ble_eq_true rfl, Nat.le_of_ble_eq_true rfl⟩ (r_recv hG Z.w 0 (C := "ShareStreamsModel") rfl rfl rfl) (nPs_of hG Z Z.w) rfl hl.1 rfl (Nat.le_of_ble_eq_true rfl) dX2_delay_2) (fun r2 hp2 => ?_)
  have he2 := hp2
  have he2 : r2 = bI (isLn x S.1.1) := he2
  subst he2
  refine lv_if_ne (tgt := 11) hx hb dX2_delay_5 (by decide) (fun c5 => ?_) (fun c5 => ?_)
  · skip
    have c5 := bI_t c5
    refine lv_iload_n hx hb dX2_delay_11 rfl (lv_at hl 2 rfl) ?_
    refine lv_i2l hx hb dX2_delay_12 rfl ?_
    refine lv_lconst (v := lN 1) hx hb dX2_delay_13 rfl ?_
    refine lv_ldc2 hx hb hown (hts _ q1044) dX2_delay_14 ?_
    refine r_asl (z := lN 60) rfl ?_
    refine ns_i (k := 3) (nr_S (As := [.long (Int32.toInt64 y), .long (lN 1), .long (lN 60)]) (rest := []) hx hb hml hown hts (M_in l G (Int32.toInt64 y) (lN 1) (lN 60)) nPs.blind 3 q999 q1000 q53 q1001 (by decide +kernel) ⟨⟨Nat.le_of_ble_eq_true rfl, Nat.le_of_ble_eq_true rfl⟩, Nat.le_of_ble_eq_true rfl, Nat.le_of_ble_eq_true rfl⟩ (nPs_of hG Z (fun k q h => by simp at h)) rfl hl.1 rfl (Nat.le_of_ble_eq_true rfl) dX2_delay_17) (fun r17 hp17 => ?_)
    have he17 := hp17
    have he17 : r17 = bI (inL (Int32.toInt64 y) (lN 1) (lN 60)) := he17
    subst he17
    refine r_as (z := bI (rng y 1 60)) (by rw [inL_rng y (by decide) (by decide)]) ?_
    refine lv_if_eq (tgt := 36) hx hb dX2_delay_20 (by decide) (fun c20 => ?_) (fun c20 => ?_)
    · skip
      have c20 := bI_f c20
      refine lv_ldc hx hb hown (hts _ q1021) dX2_delay_36 ?_
      have es : spDelay S x y = (cBAD, S) := by simp [spDelay, c5, c20]
      exact ret (-100000002 : Int32) (all, kept, hist, hlo, snap, tk, bits, reg, exa, text, tl, sp, read, rm, nu, deep, src) dX2_delay_38 (⟨(by rw [es]), (by rw [es]; exact hM)⟩) Z (Nat.le_of_ble_eq_true rfl) (Nat.le_of_ble_eq_true rfl)
    · skip
      have c20 := bI_t c20
      refine lv_aload_n hx hb dX2_delay_23 rfl (lv_at hl 0 rfl) ?_
      refine lv_bipush (v := nI 6) hx hb dX2_delay_24 rfl ?_
      refine lv_iload_n hx hb dX2_delay_26 rfl (lv_at hl 1 rfl) ?_
      refine lv_iload_n hx hb dX2_delay_27 rfl (lv_at hl 2 rfl) ?_
      refine lv_ldc hx hb hown (hts _ q1003) dX2_delay_28 ?_
      refine nc_i (k := 3) (wcc := mW G q a wd all kept hist hlo snap tk bits reg exa text tl sp read rm nu deep src) (wr := []) (nr_V (As := [.int (nI 6), .int x, .int y, .int (-100000005 : Int32)]) (rest := []) hx hb hml hown hts ((M_adds l G q a wd all kept hist hlo snap tk bits reg exa text tl sp read rm nu deep src S (nI 6) x y (-100000005 : Int32) (by first | assumption | omega | rfl) (fun h => delay_ok so.1.1 c5 c20)) _) nP.blind 4 q1004 q1006 qs16 q53 q1007 (by decide +kernel) ⟨⟨Nat.le_of_ble_eq_true rfl, Nat.le_of_ble_eq_true rfl⟩, Nat.le_of_ble_eq_true rfl, Nat.le_of_ble_eq_true rfl⟩ (r_recv hG Z.w 0 (C := "ShareStreamsModel") rfl rfl rfl) (nP_of hG Z [0, 1, 2, 3, 4, 5, 6, 7, 8, 9, 10, 11, 12] rfl (by decide) (fun k q h => by simp at h) nAp.nil) rfl hl.1 rfl (Nat.le_of_ble_eq_true rfl) dX2_delay_30) Z [0, 1, 2, 3, 4, 5, 6, 7, 8, 9, 10, 11, 12] [] rfl rfl (by decide) (by decide) (fun r30 u H locs hp30 Z => ?_)
      obtain ⟨all1_30, kept1_30, hist1_30, hlo1_30, snap1_30, tk1_30, bits1_30, reg1_30, exa1_30, text1_30, tl1_30, sp1_30, read1_30, rm1_30, nu1_30, deep1_30, src1_30⟩ := u
      obtain ⟨he30, hp30⟩ := hp30
      have he30 : r30 = (spAdd S (nI 6) x y (-100000005 : Int32)).1 := he30
      subst he30
      have hp30 : mR (spAdd S (nI 6) x y (-100000005 : Int32)).2 all1_30 hist1_30 hlo1_30 snap1_30 tk1_30 text1_30 tl1_30 := hp30
      have Z : nW G A (mW G q a wd all1_30 kept1_30 hist1_30 hlo1_30 snap1_30 tk1_30 bits1_30 reg1_30 exa1_30 text1_30 tl1_30 sp1_30 read1_30 rm1_30 nu1_30 deep1_30 src1_30) ([]) ([]) s.heap _ _ := Z
      refine lv_goto (tgt := 38) hx hb dX2_delay_33 (by decide) ?_
      have es : spDelay S x y = spAdd S (nI 6) x y cNONE := by simp [spDelay, c5, c20]
      exact ret ((spAdd S (nI 6) x y (-100000005 : Int32)).1) (all1_30, kept1_30, hist1_30, hlo1_30, snap1_30, tk1_30, bits1_30, reg1_30, exa1_30, text1_30, tl1_30, sp1_30, read1_30, rm1_30, nu1_30, deep1_30, src1_30) dX2_delay_38 (⟨(by rw [es]), (by rw [es]; exact hp30)⟩) Z (Nat.le_of_ble_eq_true rfl) (Nat.le_of_ble_eq_true rfl)
  · skip
    have c5 := bI_f c5
    refine lv_ldc hx hb hown (hts _ q1030) dX2_delay_8 ?_
    have es : spDelay S x y = (cUNK, S) := by simp [spDelay, c5]
    exact ret (-100000001 : Int32) (all, kept, hist, hlo, snap, tk, bits, reg, exa, text, tl, sp, read, rm, nu, deep, src) dX2_delay_10 (⟨(by rw [es]), (by rw [es]; exact hM)⟩) Z (Nat.le_of_ble_eq_true rfl) (Nat.le_of_ble_eq_true rfl)
