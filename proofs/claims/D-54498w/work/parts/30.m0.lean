set_option maxHeartbeats 4000000 in
set_option maxRecDepth 100000 in
theorem M_in (l : Launch) (G : nG) (v : Int64) (lo : Int64) (hi : Int64)  : nSi l yX2_in cX2_in 6 (.boolean) 0 0 G [.long v, .long lo, .long hi] ([]) (fun r : Int32 => r = (bI (inL v lo hi))) := by
  refine nSi.of (own := "ShareStreamsModel") rfl (by decide +kernel) (Nat.le_of_ble_eq_true rfl) (fun r h => by rw [h]; exact bI_n _) ?_
  intro p e s m args below meth c Q ls hx hb hml hown hts hG hP hl ret
  have hl : lv_has ls 6 [(0, .long v), (2, .long lo), (4, .long hi)] := hl
  have J18 : ∀ (ls : Array Slot), lv_has ls 6 [] → W p l e (nRm 0 0 0 0) s m args below meth c s.heap [] 0 0 Q (F0 m 18 ls [.int (bI (inL v lo hi))]) := by
    intro  ls hl
    exact ret (bI (inL v lo hi)) dX2_in_18 (by first | rfl | assumption | omega | simp_all)
  refine lv_lload_n hx hb dX2_in_0 rfl (lv_at hl 0 rfl) ?_
  refine lv_lload_n hx hb dX2_in_1 rfl (lv_at hl 1 rfl) ?_
  refine W.lcmp hx hb dX2_in_2 ?_
  refine lv_if_lt (tgt := 17) hx hb dX2_in_3 (by decide) (fun c3 => ?_) (fun c3 => ?_)
  · skip
    have c3 := n_lcr_lt_t c3
    have hf : (0 : Int32) = bI (inL v lo hi) := by rw [show inL v lo hi = false from decide_eq_false (by omega)]; rfl
    refine lv_iconst (v := nI 0) hx hb dX2_in_17 rfl ?_
    refine r_as (z := bI (inL v lo hi)) hf ?_
    exact J18  _ (lv_sub hl [] rfl)
  · skip
    have c3 := n_lcr_lt_f c3
    refine lv_lload_n hx hb dX2_in_6 rfl (lv_at hl 0 rfl) ?_
    refine lv_lload hx hb dX2_in_7 (lv_at hl 2 rfl) ?_
    refine W.lcmp hx hb dX2_in_9 ?_
    refine lv_if_gt (tgt := 17) hx hb dX2_in_10 (by decide) (fun c10 => ?_) (fun c10 => ?_)
    · skip
      have c10 := n_lcr_gt_t c10
      have hf : (0 : Int32) = bI (inL v lo hi) := by rw [show inL v lo hi = false from decide_eq_false (by omega)]; rfl
      refine lv_iconst (v := nI 0) hx hb dX2_in_17 rfl ?_
      refine r_as (z := bI (inL v lo hi)) hf ?_
      exact J18  _ (lv_sub hl [] rfl)
    · skip
      have c10 := n_lcr_gt_f c10
      have hf : (1 : Int32) = bI (inL v lo hi) := by rw [show inL v lo hi = true from decide_eq_true (by omega)]; rfl
      refine lv_iconst (v := nI 1) hx hb dX2_in_13 rfl ?_
      refine r_as (z := bI (inL v lo hi)) hf ?_
      refine lv_goto (tgt := 18) hx hb dX2_in_14 (by decide) ?_
      exact J18  _ (lv_sub hl [] rfl)
set_option maxHeartbeats 4000000 in
set_option maxRecDepth 100000 in
theorem M_bitAt (l : Launch) (G : nG) (q : Nat) (a : Nat → Nat) (wd : Nat → Int64) (all : Nat → Int32) (kept : Nat → Int32) (hist : Nat → Int32) (hlo : Int32) (snap : Nat → Int32) (tk : Int32) (bits : Nat → Int32) (reg : Nat → Int32) (exa : Nat → Int32) (text : Nat → Int32) (tl : Int32) (sp : Int32) (read : Nat → Int32) (rm : Int32) (nu : Int32) (deep : Nat → Int32) (src : Nat → Int32) (ln : Nat) (t : Nat) (h1 : 1000 * ln + t < 16000) : nSi l yX2_bitAt cX2_bitAt 3 (.int) 0 0 G [.ref q, .int (nI ln), .int (nI t)] (mW G q a wd all kept hist hlo snap tk bits reg exa text tl sp read rm nu deep src) (fun r : Int32 => r = (bits (1000 * ln + t))) := by
  refine nSi.of (own := "ShareStreamsModel") rfl (by decide +kernel) (Nat.le_of_ble_eq_true rfl) (fun _ _ => rfl) ?_
  intro p e s m args below meth c Q ls hx hb hml hown hts hG hP hl ret
  have hl : lv_has ls 3 [(0, .ref q), (1, .int (nI ln)), (2, .int (nI t))] := hl
  refine lv_aload_n hx hb dX2_bitAt_0 rfl (lv_at hl 0 rfl) ?_
  refine r_get (v := .ref (a 5)) hx hb hts in_X2 hown hG hP 0 rfl rfl 7 (by decide) q945 (fun _ h9 => h9) rfl dX2_bitAt_1 ?_
  refine lv_sipush (v := nI 1000) hx hb dX2_bitAt_4 rfl ?_
  refine lv_iload_n hx hb dX2_bitAt_7 rfl (lv_at hl 1 rfl) ?_
  refine lv_imul hx hb dX2_bitAt_8 ?_
  refine r_as (z := nI (1000 * ln)) (pk_mul _ _) ?_
  refine lv_iload_n hx hb dX2_bitAt_9 rfl (lv_at hl 2 rfl) ?_
  refine lv_iadd hx hb dX2_bitAt_10 ?_
  refine r_as (z := nI (1000 * ln + t)) (nI_add _ _) ?_
  refine r_iald hx hb hG hP 6 rfl (j := 1000 * ln + t) (by omega) (by decide) (v := bits (1000 * ln + t)) rfl dX2_bitAt_11 ?_
  exact ret (bits (1000 * ln + t)) dX2_bitAt_12 (by first | rfl | assumption | omega | simp_all)
set_option maxHeartbeats 4000000 in
set_option maxRecDepth 100000 in
theorem M_of (l : Launch) (G : nG) (q : Nat) (a : Nat → Nat) (wd : Nat → Int64) (all : Nat → Int32) (kept : Nat → Int32) (hist : Nat → Int32) (hlo : Int32) (snap : Nat → Int32) (tk : Int32) (bits : Nat → Int32) (reg : Nat → Int32) (exa : Nat → Int32) (text : Nat → Int32) (tl : Int32) (sp : Int32) (read : Nat → Int32) (rm : Int32) (nu : Int32) (deep : Nat → Int32) (src : Nat → Int32) (ln : Nat) (wt : Nat) (h1 : 2 + 4 * ln + wt < 66) : nSi l yX2_of cX2_of 3 (.int) 0 0 G [.ref q, .int (nI ln), .int (nI wt)] (mW G q a wd all kept hist hlo snap tk bits reg exa text tl sp read rm nu deep src) (fun r : Int32 => r = (all (2 + 4 * ln + wt))) := by
  refine nSi.of (own := "ShareStreamsModel") rfl (by decide +kernel) (Nat.le_of_ble_eq_true rfl) (fun _ _ => rfl) ?_
  intro p e s m args below meth c Q ls hx hb hml hown hts hG hP hl ret
  have hl : lv_has ls 3 [(0, .ref q), (1, .int (nI ln)), (2, .int (nI wt))] := hl
  refine lv_aload_n hx hb dX2_of_0 rfl (lv_at hl 0 rfl) ?_
  refine r_get (v := .ref (a 0)) hx hb hts in_X2 hown hG hP 0 rfl rfl 0 (by decide) q938 (fun _ h9 => h9) rfl dX2_of_1 ?_
  refine lv_iconst (v := nI 2) hx hb dX2_of_4 rfl ?_
  refine lv_iconst (v := nI 4) hx hb dX2_of_5 rfl ?_
  refine lv_iload_n hx hb dX2_of_6 rfl (lv_at hl 1 rfl) ?_
  refine lv_imul hx hb dX2_of_7 ?_
  refine r_as (z := nI (4 * ln)) (pk_mul _ _) ?_
  refine lv_iadd hx hb dX2_of_8 ?_
  refine r_as (z := nI (2 + (4 * ln))) (nI_add _ _) ?_
  refine lv_iload_n hx hb dX2_of_9 rfl (lv_at hl 2 rfl) ?_
  refine lv_iadd hx hb dX2_of_10 ?_
  refine r_as (z := nI (2 + (4 * ln) + wt)) (nI_add _ _) ?_
  refine r_iald hx hb hG hP 1 rfl (j := 2 + (4 * ln) + wt) (by omega) (by decide) (v := all (2 + (4 * ln) + wt)) rfl dX2_of_11 ?_
  exact ret (all (2 + (4 * ln) + wt)) dX2_of_12 (by first | rfl | assumption | omega | simp_all)
set_option maxHeartbeats 4000000 in
set_option maxRecDepth 100000 in
theorem M_isLine (l : Launch) (G : nG) (q : Nat) (a : Nat → Nat) (wd : Nat → Int64) (all : Nat → Int32) (kept : Nat → Int32) (hist : Nat → Int32) (hlo : Int32) (snap : Nat → Int32) (tk : Int32) (bits : Nat → Int32) (reg : Nat → Int32) (exa : Nat → Int32) (text : Nat → Int32) (tl : Int32) (sp : Int32) (read : Nat → Int32) (rm : Int32) (nu : Int32) (deep : Nat → Int32) (src : Nat → Int32) (x : Int32) (n : Nat) (hn : n ≤ 16) (ha : all 0 = nI n) : nSi l yX2_isLine cX2_isLine 2 (.boolean) 1 25 G [.ref q, .int x] (mW G q a wd all kept hist hlo snap tk bits reg exa text tl sp read rm nu deep src) (fun r : Int32 => r = (bI (isLn x n))) := by
  refine nSi.of (own := "ShareStreamsModel") rfl (by decide +kernel) (Nat.le_of_ble_eq_true rfl) (fun r h => by rw [h]; exact bI_n _) ?_
  intro p e s m args below meth c Q ls hx hb hml hown hts hG hP hl ret
  have hl : lv_has ls 2 [(0, .ref q), (1, .int x)] := hl
  refine lv_iload_n hx hb dX2_isLine_0 rfl (lv_at hl 1 rfl) ?_
  refine lv_i2l hx hb dX2_isLine_1 rfl ?_
  refine lv_lconst (v := lN 0) hx hb dX2_isLine_2 rfl ?_
  refine lv_aload_n hx hb dX2_isLine_3 rfl (lv_at hl 0 rfl) ?_
  refine r_get (v := .ref (a 0)) hx hb hts in_X2 hown hG hP 0 rfl rfl 0 (by decide) q938 (fun _ h9 => h9) rfl dX2_isLine_4 ?_
  refine lv_iconst (v := nI 0) hx hb dX2_isLine_7 rfl ?_
  refine r_iald hx hb hG hP 1 rfl (j := 0) (by omega) (by decide) (v := nI n) ha dX2_isLine_8 ?_
  refine lv_i2l (v := lN n) hx hb dX2_isLine_9 (nI_l (by omega)) ?_
  refine lv_lconst (v := lN 1) hx hb dX2_isLine_10 rfl ?_
  refine lv_lsub hx hb dX2_isLine_11 ?_
  refine ns_i (k := 3) (nr_S (As := [.long (Int32.toInt64 x), .long (lN 0), .long ((lN n) - (lN 1))]) (rest := []) hx hb hml hown hts (M_in l G (Int32.toInt64 x) (lN 0) ((lN n) - (lN 1))) nPs.blind 3 q999 q1000 q53 q1001 (by decide +kernel) ⟨⟨Nat.le_of_ble_eq_true rfl, Nat.le_of_ble_eq_true rfl⟩, Nat.le_of_ble_eq_true rfl, Nat.le_of_ble_eq_true rfl⟩ (nPs_of0 hG (fun k q h => by simp at h)) rfl hl.1 rfl (Nat.le_of_ble_eq_true rfl) dX2_isLine_12) (fun r12 hp12 => ?_)
  have he12 := hp12
  have he12 : r12 = bI (inL (Int32.toInt64 x) (lN 0) ((lN n) - (lN 1))) := he12
  subst he12
  refine r_as (z := bI (isLn x n)) (by rw [inL_ln x (by omega)]) ?_
  exact ret (bI (isLn x n)) dX2_isLine_15 (by first | rfl | assumption | omega | simp_all)
set_option maxHeartbeats 4000000 in
set_option maxRecDepth 100000 in
theorem M_linesBy (l : Launch) (G : nG) (k : Nat) (hk : k ≤ 6) : nSi l yX2_linesBy cX2_linesBy 1 (.int) 0 0 G [.int (nI k)] ([]) (fun r : Int32 => r = (nI (lnBy k))) := by
  refine nSi.of (own := "ShareStreamsModel") rfl (by decide +kernel) (Nat.le_of_ble_eq_true rfl) (fun _ _ => rfl) ?_
  intro p e s m args below meth c Q ls hx hb hml hown hts hG hP hl ret
  have hl : lv_has ls 1 [(0, .int (nI k))] := hl
  refine lv_iload_n hx hb dX2_linesBy_0 rfl (lv_at hl 0 rfl) ?_
  refine lv_if_ne (tgt := 8) hx hb dX2_linesBy_1 (by decide) (fun c1 => ?_) (fun c1 => ?_)
  · skip
    have c1 := n_eq_f (a := k) (b := 0) c1
    refine lv_iload_n hx hb dX2_linesBy_8 rfl (lv_at hl 0 rfl) ?_
    refine lv_iconst (v := nI 4) hx hb dX2_linesBy_9 rfl ?_
    refine lv_icmp_ne (tgt := 17) hx hb dX2_linesBy_10 (by decide) (fun c10 => ?_) (fun c10 => ?_)
    · skip
      have c10 := n_eq_f (a := k) (b := 4) c10
      refine lv_iload_n hx hb dX2_linesBy_17 rfl (lv_at hl 0 rfl) ?_
      refine lv_iconst (v := nI 4) hx hb dX2_linesBy_18 rfl ?_
      refine lv_icmp_ge (tgt := 26) hx hb dX2_linesBy_19 (by decide) (fun c19 => ?_) (fun c19 => ?_)
      · skip
        have c19 := n_le_t (a := 4) (b := k) c19 (by decide) (by omega)
        refine lv_iconst (v := nI 1) hx hb dX2_linesBy_26 rfl ?_
        exact ret (nI 1) dX2_linesBy_27 (by unfold lnBy; first | (rw [if_pos (by omega)]) | (rw [if_neg (by omega), if_pos (by omega)]) | (rw [if_neg (by omega), if_neg (by omega), if_pos (by omega)]) | (rw [if_neg (by omega), if_neg (by omega), if_neg (by omega)]))
      · skip
        have c19 := n_le_f (a := 4) (b := k) c19 (by decide) (by omega)
        refine lv_iconst (v := nI 2) hx hb dX2_linesBy_22 rfl ?_
        refine lv_goto (tgt := 27) hx hb dX2_linesBy_23 (by decide) ?_
        exact ret (nI 2) dX2_linesBy_27 (by unfold lnBy; first | (rw [if_pos (by omega)]) | (rw [if_neg (by omega), if_pos (by omega)]) | (rw [if_neg (by omega), if_neg (by omega), if_pos (by omega)]) | (rw [if_neg (by omega), if_neg (by omega), if_neg (by omega)]))
    · skip
      have c10 := n_eq_t (a := k) (b := 4) c10 (by omega) (by decide)
      refine lv_iconst (v := nI 3) hx hb dX2_linesBy_13 rfl ?_
      refine lv_goto (tgt := 27) hx hb dX2_linesBy_14 (by decide) ?_
      exact ret (nI 3) dX2_linesBy_27 (by unfold lnBy; first | (rw [if_pos (by omega)]) | (rw [if_neg (by omega), if_pos (by omega)]) | (rw [if_neg (by omega), if_neg (by omega), if_pos (by omega)]) | (rw [if_neg (by omega), if_neg (by omega), if_neg (by omega)]))
  · skip
    have c1 := n_eq_t (a := k) (b := 0) c1 (by omega) (by decide)
    refine lv_iconst (v := nI 0) hx hb dX2_linesBy_4 rfl ?_
    refine lv_goto (tgt := 27) hx hb dX2_linesBy_5 (by decide) ?_
    exact ret (nI 0) dX2_linesBy_27 (by unfold lnBy; first | (rw [if_pos (by omega)]) | (rw [if_neg (by omega), if_pos (by omega)]) | (rw [if_neg (by omega), if_neg (by omega), if_pos (by omega)]) | (rw [if_neg (by omega), if_neg (by omega), if_neg (by omega)]))
set_option maxHeartbeats 4000000 in
set_option maxRecDepth 100000 in
theorem M_countOf (l : Launch) (G : nG) (q : Nat) (a : Nat → Nat) (wd : Nat → Int64) (all : Nat → Int32) (kept : Nat → Int32) (hist : Nat → Int32) (hlo : Int32) (snap : Nat → Int32) (tk : Int32) (bits : Nat → Int32) (reg : Nat → Int32) (exa : Nat → Int32) (text : Nat → Int32) (tl : Int32) (sp : Int32) (read : Nat → Int32) (rm : Int32) (nu : Int32) (deep : Nat → Int32) (src : Nat → Int32) (ln : Nat) (n : Nat) (g : Nat → Nat) (h1 : ln < 16) (h2 : n ≤ 1000) (h3 : ∀ t, t < n → bits (1000 * ln + t) = nI (g t)) : nSi l yX2_countOf cX2_countOf 5 (.int) 1 22 G [.ref q, .int (nI ln), .int (nI n)] (mW G q a wd all kept hist hlo snap tk bits reg exa text tl sp read rm nu deep src) (fun r : Int32 => r = (nI (sumN g n))) := by
  refine nSi.of (own := "ShareStreamsModel") rfl (by decide +kernel) (Nat.le_of_ble_eq_true rfl) (fun _ _ => rfl) ?_
  intro p e s m args below meth c Q ls hx hb hml hown hts hG hP hl ret
  have hl : lv_has ls 5 [(0, .ref q), (1, .int (nI ln)), (2, .int (nI n))] := hl
  refine lv_iconst (v := nI 0) hx hb dX2_countOf_0 rfl ?_
  refine lv_istore_n (lv' := [(3, .int (nI 0)), (0, .ref q), (1, .int (nI ln)), (2, .int (nI n))]) hx hb dX2_countOf_1 rfl hl (by decide) rfl (fun ls hl => ?_)
  refine lv_iconst (v := nI 0) hx hb dX2_countOf_2 rfl ?_
  refine lv_istore (lv' := [(4, .int (nI 0)), (3, .int (nI 0)), (0, .ref q), (1, .int (nI ln)), (2, .int (nI n))]) hx hb dX2_countOf_3 hl (by decide) rfl (fun ls hl => ?_)
  have L5 : ∀ (k_ : Nat) (t : Nat) (ht : t ≤ n) (hk_ : n - t < k_) (ls : Array Slot), lv_has ls 5 [(3, .int (nI (sumN g t))), (4, .int (nI t)), (0, .ref q), (1, .int (nI ln)), (2, .int (nI n))] → W p l e (nRm 1 0 0 22) s m args below meth c s.heap [] 0 0 Q (F0 m 5 ls []) := by
    intro k_
    induction k_ with
    | zero => intro t ht hk_; exact absurd hk_ (Nat.not_lt_zero _)
    | succ k_ ih_L5 =>
      intro t ht hk_ ls hl
      refine lv_iload hx hb dX2_countOf_5 (lv_at hl 1 rfl) ?_
      refine lv_iload_n hx hb dX2_countOf_7 rfl (lv_at hl 4 rfl) ?_
      refine lv_icmp_ge (tgt := 27) hx hb dX2_countOf_8 (by decide) (fun c8 => ?_) (fun c8 => ?_)
      · skip
        have c8 := n_le_t (a := n) (b := t) c8 (by omega) (by omega)
        refine lv_iload_n hx hb dX2_countOf_27 rfl (lv_at hl 0 rfl) ?_
        exact ret (nI (sumN g t)) dX2_countOf_28 (by rw [show t = n by omega])
      · skip
        have c8 := n_le_f (a := n) (b := t) c8 (by omega) (by omega)
        refine lv_iload_n hx hb dX2_countOf_11 rfl (lv_at hl 0 rfl) ?_
        refine lv_aload_n hx hb dX2_countOf_12 rfl (lv_at hl 2 rfl) ?_
        refine lv_iload_n hx hb dX2_countOf_13 rfl (lv_at hl 3 rfl) ?_
        refine lv_iload hx hb dX2_countOf_14 (lv_at hl 1 rfl) ?_
        refine ns_i (k := 3) (nr_V (As := [.int (nI ln), .int (nI t)]) (rest := [.int (nI (sumN g t))]) hx hb hml hown hts (M_bitAt l G q a wd all kept hist hlo snap tk bits reg exa text tl sp read rm nu deep src ln t (by first | assumption | omega | rfl)) nPs.blind 2 q1143 q1145 qs33 q53 q1146 (by decide +kernel) ⟨⟨Nat.le_of_ble_eq_true rfl, Nat.le_of_ble_eq_true rfl⟩, Nat.le_of_ble_eq_true rfl, Nat.le_of_ble_eq_true rfl⟩ (r_recv hG hP 0 (C := "ShareStreamsModel") rfl rfl rfl) (nPs_of0 hG hP) rfl hl.1 rfl (Nat.le_of_ble_eq_true rfl) dX2_countOf_16) (fun rb hp16 => ?_)
        have he16 := hp16
        have he16 : rb = bits (1000 * ln + t) := he16
        subst he16
        refine r_as (z := nI (g t)) (h3 t (by omega)) ?_
        refine lv_iadd hx hb dX2_countOf_19 ?_
        refine r_as (z := nI (sumN g t + (g t))) (nI_add _ _) ?_
        refine lv_istore_n (lv' := [(3, .int (nI (sumN g t + (g t)))), (4, .int (nI t)), (0, .ref q), (1, .int (nI ln)), (2, .int (nI n))]) hx hb dX2_countOf_20 rfl hl (by decide) rfl (fun ls hl => ?_)
        refine lv_iinc (v := nI (t + 1)) (lv' := [(4, .int (nI (t + 1))), (3, .int (nI (sumN g t + (g t)))), (0, .ref q), (1, .int (nI ln)), (2, .int (nI n))]) hx hb dX2_countOf_21 hl (k := 1) rfl (nI_add _ _) (by decide) rfl (fun ls hl => ?_)
        refine lv_goto (tgt := 5) hx hb dX2_countOf_24 (by decide) ?_
        exact ih_L5 (t + 1) (by first | assumption | omega) (by omega) _ (lv_sub hl [1, 0, 2, 3, 4] rfl)
  exact L5 _ 0 (by first | assumption | omega) (Nat.lt_succ_self _) _ (lv_sub hl [1, 0, 2, 3, 4] rfl)
