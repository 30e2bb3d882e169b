set_option maxHeartbeats 4000000 in
set_option maxRecDepth 100000 in
theorem M_fault (l : Launch) (G : nG) (q : Nat) (a : Nat → Nat) (all : Nat → Int32) (kept : Nat → Int32) (hist : Nat → Int32) (hlo : Int32) (snap : Nat → Int32) (tk : Int32) (bits : Nat → Int32) (reg : Nat → Int32) (exa : Nat → Int32) (text : Nat → Int32) (tl : Int32) (sp : Int32) (read : Nat → Int32) (rm : Int32) (nu : Int32) (deep : Nat → Int32) (src : Nat → Int32) (T : List Nat) (htx : txR T text tl) : nMi (S := Int32 × (Nat → Int32) × Int32 × Int32) l yX2_fault cX2_fault 2 (.int) 6 0 0 139 G [.ref q] (mW G q a wdF all kept hist hlo snap tk bits reg exa text tl sp read rm nu deep src) ([]) (fun (u : Int32 × (Nat → Int32) × Int32 × Int32) => mW G q a wdF all kept hist hlo snap tk bits reg exa text tl u.1 u.2.1 u.2.2.1 u.2.2.2 deep src) (fun (r : Int32) (u : Int32 × (Nat → Int32) × Int32 × Int32) => r = (if (rdAll T).1 then cNONE else nI (rdAll T).2.2) ∧ ((rdAll T).1 = true → u.2.2.1 = nI (rdAll T).2.1.length ∧ rowsR u.2.1 (rdAll T).2.1)) := by
  refine nMi.of (own := "ShareStreamsModel") rfl (by decide +kernel) (Nat.le_of_ble_eq_true rfl) (fun _ _ _ => rfl) ?_
  intro p e s m args below meth c A Q ls hx hb hml hown hts hin hG Z hl ret
  have hl : lv_has ls 2 [(0, .ref q)] := hl
  have Z : nW G A (mW G q a wdF all kept hist hlo snap tk bits reg exa text tl sp read rm nu deep src) ([]) ([]) s.heap _ _ := Z
  obtain ⟨et, hL, hc, htt⟩ := htx
  have htx : txR T text tl := ⟨et, hL, hc, htt⟩
  refine lv_aload_n hx hb dX2_fault_0 rfl (lv_at hl 0 rfl) ?_
  refine lv_iconst (v := nI 0) hx hb dX2_fault_1 rfl ?_
  refine r_put (ty := .int) hx hb hts in_X2 tyX2 tyX2_ok nmX2 hown hG Z 0 rfl rfl 12 (by decide) q950 (fun _ h9 => h9) rfl (by decide +kernel) rfl rfl (Nat.le_of_ble_eq_true rfl) (wc' := mW G q a wdF all kept hist hlo snap tk bits reg exa text tl (nI 0) read rm nu deep src) rfl dX2_fault_2 (fun H locs Z => ?_)
  refine lv_aload_n hx hb dX2_fault_5 rfl (lv_at hl 0 rfl) ?_
  refine lv_iconst (v := nI 0) hx hb dX2_fault_6 rfl ?_
  refine r_put (ty := .int) hx hb hts in_X2 tyX2 tyX2_ok nmX2 hown hG Z 0 rfl rfl 14 (by decide) q952 (fun _ h9 => h9) rfl (by decide +kernel) rfl rfl (Nat.le_of_ble_eq_true rfl) (wc' := mW G q a wdF all kept hist hlo snap tk bits reg exa text tl (nI 0) read (nI 0) nu deep src) rfl dX2_fault_7 (fun H locs Z => ?_)
  refine lv_iconst (v := nI 1) hx hb dX2_fault_10 rfl ?_
  refine r_as (z := bI true) bI_1 ?_
  refine lv_istore_n (lv' := [(1, .int (bI true)), (0, .ref q)]) hx hb dX2_fault_11 rfl hl (by decide) rfl (fun ls hl => ?_)
  have L12 : ∀ (k_ : Nat) (mo : Bool) (f : Nat) (li : List (Nat → Int32)) (pp : Nat) (rd : Nat → Int32) (nu1 : Int32) (g1 : pp ≤ T.length) (g2 : rdAt T mo f li pp) (g3 : 5 * li.length ≤ pp) (g4 : rowsR rd li) (hk_ : (if mo then 1 else 0) + (T.length - pp) < k_) (H : Heap) (locs : List Loc), nW G A (mW G q a wdF all kept hist hlo snap tk bits reg exa text tl (nI pp) rd (nI li.length) nu1 deep src) ([]) ([]) s.heap H locs → ∀ (ls : Array Slot), lv_has ls 2 [(1, .int (bI mo)), (0, .ref q)] → W p l e (nRm 6 0 0 139) s m args below meth c H locs 0 0 Q (F0 m 12 ls []) := by
    intro k_
    induction k_ with
    | zero => intro mo f li pp rd nu1 g1 g2 g3 g4 hk_; exact absurd hk_ (Nat.not_lt_zero _)
    | succ k_ ih_L12 =>
      intro mo f li pp rd nu1 g1 g2 g3 g4 hk_ H locs Z ls hl
      refine lv_iload_n hx hb dX2_fault_12 rfl (lv_at hl 0 rfl) ?_
      refine lv_if_eq (tgt := 38) hx hb dX2_fault_13 (by decide) (fun c13 => ?_) (fun c13 => ?_)
      · skip
        have c13 := bI_f c13
        subst c13
        refine lv_aload_n hx hb dX2_fault_38 rfl (lv_at hl 1 rfl) ?_
        refine r_get (v := .int (nI pp)) hx hb hts in_X2 hown hG Z.w 0 rfl rfl 12 (by decide) q950 (fun _ h9 => h9) rfl dX2_fault_39 ?_
        refine r_as (z := nI pp) rfl ?_
        refine lv_aload_n hx hb dX2_fault_42 rfl (lv_at hl 1 rfl) ?_
        refine r_get (v := .int tl) hx hb hts in_X2 hown hG Z.w 0 rfl rfl 11 (by decide) q949 (fun _ h9 => h9) rfl dX2_fault_43 ?_
        refine r_as (z := nI T.length) et ?_
        refine lv_icmp_ne (tgt := 54) hx hb dX2_fault_46 (by decide) (fun c46 => ?_) (fun c46 => ?_)
        · skip
          have c46 := n_eq_f (a := pp) (b := T.length) c46
          refine lv_aload_n hx hb dX2_fault_54 rfl (lv_at hl 1 rfl) ?_
          refine r_get (v := .int (nI pp)) hx hb hts in_X2 hown hG Z.w 0 rfl rfl 12 (by decide) q950 (fun _ h9 => h9) rfl dX2_fault_55 ?_
          have er := rdAt_e g2
          exact ret (nI pp) (nI pp, rd, nI li.length, nu1) dX2_fault_58 (⟨(by rw [er]; simp [c46]), (fun h => by rw [er]; exact ⟨rfl, g4⟩)⟩) Z (Nat.le_of_ble_eq_true rfl) (Nat.le_of_ble_eq_true rfl)
        · skip
          have c46 := n_eq_t (a := pp) (b := T.length) c46 (by omega) (by omega)
          refine lv_ldc hx hb hown (hts _ q1003) dX2_fault_49 ?_
          refine lv_goto (tgt := 58) hx hb dX2_fault_51 (by decide) ?_
          have er := rdAt_e g2
          exact ret (-100000005 : Int32) (nI pp, rd, nI li.length, nu1) dX2_fault_58 (⟨(by rw [er]; simp [c46]), (fun h => by rw [er]; exact ⟨rfl, g4⟩)⟩) Z (Nat.le_of_ble_eq_true rfl) (Nat.le_of_ble_eq_true rfl)
      · skip
        have c13 := bI_t c13
        subst c13
        have hro := rdL_room (T := T) g1
        refine lv_aload_n hx hb dX2_fault_16 rfl (lv_at hl 1 rfl) ?_
        refine nc_i (k := 3) (wcc := mW G q a wdF all kept hist hlo snap tk bits reg exa text tl (nI pp) rd (nI li.length) nu1 deep src) (wr := []) (nr_V (As := []) (rest := []) hx hb hml hown hts ((M_readsLine l G q a all kept hist hlo snap tk bits reg exa text tl (nI pp) rd (nI li.length) nu1 deep src T pp li.length (by first | assumption | omega | rfl) rfl (by first | assumption | omega | rfl) rfl (by omega)) _) nP.blind 0 q1079 q1081 qs23 q53 q1082 (by decide +kernel) ⟨⟨Nat.le_of_ble_eq_true rfl, Nat.le_of_ble_eq_true rfl⟩, Nat.le_of_ble_eq_true rfl, Nat.le_of_ble_eq_true rfl⟩ (r_recv hG Z.w 0 (C := "ShareStreamsModel") rfl rfl rfl) (nP_of hG Z [0, 1, 2, 3, 4, 5, 6, 7, 8, 9, 10, 11, 12] rfl (by decide) (fun k q h => by simp at h) nAp.nil) rfl hl.1 rfl (Nat.le_of_ble_eq_true rfl) dX2_fault_17) Z [0, 1, 2, 3, 4, 5, 6, 7, 8, 9, 10, 11, 12] [] rfl rfl (by decide) (by decide) (fun r17 u H locs hp17 Z => ?_)
        obtain ⟨sp1_17, rd2, rm2, nu2⟩ := u
        obtain ⟨he17, hp17⟩ := hp17
        have he17 : r17 = bI ((rdL T pp).1) := he17
        subst he17
        obtain ⟨hq17, hp17⟩ := hp17
        have hq17 : sp1_17 = nI ((rdL T pp).2.2) := hq17
        subst hq17
        have hp17 : ((rdL T pp).1 = true → rm2 = nI (li.length + 1) ∧ (∀ v_, v_ < 4 * li.length → rd2 v_ = rd v_) ∧ ∀ v_, v_ < 4 → rd2 (4 * li.length + v_) = (rdL T pp).2.1 v_) := hp17
        have Z : nW G A (mW G q a wdF all kept hist hlo snap tk bits reg exa text tl (nI ((rdL T pp).2.2)) rd2 rm2 nu2 deep src) ([]) ([]) s.heap _ _ := Z
        refine lv_if_ne (tgt := 28) hx hb dX2_fault_20 (by decide) (fun c20 => ?_) (fun c20 => ?_)
        · skip
          have c20 := bI_t c20
          obtain ⟨e1, e2, e3⟩ := hp17 c20
          subst e1
          refine lv_aload_n hx hb dX2_fault_28 rfl (lv_at hl 1 rfl) ?_
          refine lv_bipush (v := nI 59) hx hb dX2_fault_29 rfl ?_
          refine nc_i (k := 3) (wcc := mW G q a wdF all kept hist hlo snap tk bits reg exa text tl (nI ((rdL T pp).2.2)) rd2 (nI (li.length + 1)) nu2 deep src) (wr := []) (nr_V (As := [.int (nI 59)]) (rest := []) hx hb hml hown hts ((M_takes l G q a wdF all kept hist hlo snap tk bits reg exa text tl (nI ((rdL T pp).2.2)) rd2 (nI (li.length + 1)) nu2 deep src T ((rdL T pp).2.2) 59 (by first | assumption | omega | rfl) (by first | assumption | omega | rfl) hro.2.1 (by decide)) _) nP.blind 1 q1102 q1104 qs28 q53 q1105 (by decide +kernel) ⟨⟨Nat.le_of_ble_eq_true rfl, Nat.le_of_ble_eq_true rfl⟩, Nat.le_of_ble_eq_true rfl, Nat.le_of_ble_eq_true rfl⟩ (r_recv hG Z.w 0 (C := "ShareStreamsModel") rfl rfl rfl) (nP_of hG Z [0, 1, 2, 3, 4, 5, 6, 7, 8, 9, 10, 11, 12] rfl (by decide) (fun k q h => by simp at h) nAp.nil) rfl hl.1 rfl (Nat.le_of_ble_eq_true rfl) dX2_fault_31) Z [0, 1, 2, 3, 4, 5, 6, 7, 8, 9, 10, 11, 12] [] rfl rfl (by decide) (by decide) (fun r31 u H locs hp31 Z => ?_)
          have he31 := hp31
          have he31 : r31 = bI (isH T ((rdL T pp).2.2) 59 59) := he31
          subst he31
          have Z : nW G A (mW G q a wdF all kept hist hlo snap tk bits reg exa text tl (nI (tkP T ((rdL T pp).2.2) 59)) rd2 (nI (li.length + 1)) nu2 deep src) ([]) ([]) s.heap _ _ := Z
          refine lv_istore_n (lv' := [(1, .int (bI (isH T ((rdL T pp).2.2) 59 59))), (0, .ref q)]) hx hb dX2_fault_34 rfl hl (by decide) rfl (fun ls hl => ?_)
          have el : li.length + 1 = (li ++ [(rdL T pp).2.1]).length := by simp
          rw [el] at Z
          have hq1 : pp + 5 ≤ tkP T (rdL T pp).2.2 59 := Nat.le_trans (hro.2.2 c20) (tkP_le hro.2.1).1
          have hq2 : tkP T (rdL T pp).2.2 59 ≤ T.length := (tkP_le hro.2.1).2
          refine lv_goto (tgt := 12) hx hb dX2_fault_35 (by decide) ?_
          exact ih_L12 (isH T ((rdL T pp).2.2) 59 59) (f - 1) (li ++ [(rdL T pp).2.1]) (tkP T ((rdL T pp).2.2) 59) rd2 nu2 hq2 (rdAt_s g1 g2 c20) (by rw [List.length_append]; simp; omega) (rowsR_s g4 e2 e3) (by exact ms_dec hk_ hq1 hq2) _ _ Z _ (lv_sub hl [0, 1] rfl)
        · skip
          have c20 := bI_f c20
          refine lv_aload_n hx hb dX2_fault_23 rfl (lv_at hl 1 rfl) ?_
          refine r_get (v := .int (nI ((rdL T pp).2.2))) hx hb hts in_X2 hown hG Z.w 0 rfl rfl 12 (by decide) q950 (fun _ h9 => h9) rfl dX2_fault_24 ?_
          have er := rdAt_f g2 c20
          exact ret (nI ((rdL T pp).2.2)) (nI ((rdL T pp).2.2), rd2, rm2, nu2) dX2_fault_27 (⟨(by rw [er]; rfl), (fun h => by rw [er] at h; cases h)⟩) Z (Nat.le_of_ble_eq_true rfl) (Nat.le_of_ble_eq_true rfl)
  exact L12 _ true (T.length + 1) ([]) 0 read nu (Nat.zero_le _) (rdAt_0 T) (Nat.zero_le _) (fun i row h => by simp at h) (Nat.lt_succ_self _) _ _ Z _ (lv_sub hl [0, 1] rfl)
set_option maxHeartbeats 4000000 in
set_option maxRecDepth 100000 in
theorem M_isAhead (l : Launch) (G : nG) (q : Nat) (a : Nat → Nat) (wd : Nat → Int64) (all : Nat → Int32) (kept : Nat → Int32) (hist : Nat → Int32) (hlo : Int32) (snap : Nat → Int32) (tk : Int32) (bits : Nat → Int32) (reg : Nat → Int32) (exa : Nat → Int32) (text : Nat → Int32) (tl : Int32) (sp : Int32) (read : Nat → Int32) (rm : Int32) (nu : Int32) (deep : Nat → Int32) (src : Nat → Int32) (k : Nat) (n : Nat) (row : Nat → Int32) (hn : n ≤ 16) (ha : all 0 = nI n) (hk : k ≤ 15) (hrow : rowOk row) (hr : ∀ w, w < 4 → read (4 * k + w) = row w) : nSi l yX2_isAhead cX2_isAhead 4 (.boolean) 1 20 G [.ref q, .int (nI k)] (mW G q a wd all kept hist hlo snap tk bits reg exa text tl sp read rm nu deep src) (fun r : Int32 => r = (bI (ahd row (n + k)))) := by
  refine nSi.of (own := "ShareStreamsModel") rfl (by decide +kernel) (Nat.le_of_ble_eq_true rfl) (fun r h => by rw [h]; exact bI_n _) ?_
  intro p e s m args below meth c Q ls hx hb hml hown hts hG hP hl ret
  have hl : lv_has ls 4 [(0, .ref q), (1, .int (nI k))] := hl
  obtain ⟨κ, hκ, r0, r1, r2⟩ := hrow
  have hkk : (row 0).toNatClampNeg = κ := by rw [r0, nI_clamp (by omega)]
  have hl3 := lnBy_le κ
  have hlp := ln_pt κ hκ
  refine lv_iconst (v := nI 1) hx hb dX2_isAhead_0 rfl ?_
  refine r_as (z := bI (ahU row (n + k) 0)) rfl ?_
  refine lv_istore_n (lv' := [(2, .int (bI (ahU row (n + k) 0))), (0, .ref q), (1, .int (nI k))]) hx hb dX2_isAhead_1 rfl hl (by decide) rfl (fun ls hl => ?_)
  refine lv_iconst (v := nI 1) hx hb dX2_isAhead_2 rfl ?_
  refine lv_istore_n (lv' := [(3, .int (nI 1)), (2, .int (bI (ahU row (n + k) 0))), (0, .ref q), (1, .int (nI k))]) hx hb dX2_isAhead_3 rfl hl (by decide) rfl (fun ls hl => ?_)
  have L4 : ∀ (k_ : Nat) (w : Nat) (g1 : w ≤ lnBy κ) (hk_ : lnBy κ - w < k_) (ls : Array Slot), lv_has ls 4 [(2, .int (bI (ahU row (n + k) w))), (3, .int (nI (w + 1))), (0, .ref q), (1, .int (nI k))] → W p l e (nRm 1 0 0 20) s m args below meth c s.heap [] 0 0 Q (F0 m 4 ls []) := by
    intro k_
    induction k_ with
    | zero => intro w g1 hk_; exact absurd hk_ (Nat.not_lt_zero _)
    | succ k_ ih_L4 =>
      intro w g1 hk_ ls hl
      refine lv_iload_n hx hb dX2_isAhead_4 rfl (lv_at hl 1 rfl) ?_
      refine lv_aload_n hx hb dX2_isAhead_5 rfl (lv_at hl 2 rfl) ?_
      refine r_get (v := .ref (a 9)) hx hb hts in_X2 hown hG hP 0 rfl rfl 13 (by decide) q951 (fun _ h9 => h9) rfl dX2_isAhead_6 ?_
      refine lv_iconst (v := nI 4) hx hb dX2_isAhead_9 rfl ?_
      refine lv_iload_n hx hb dX2_isAhead_10 rfl (lv_at hl 3 rfl) ?_
      refine lv_imul hx hb dX2_isAhead_11 ?_
      refine r_as (z := nI (4 * k)) (pk_mul _ _) ?_
      refine r_iald hx hb hG hP 10 rfl (j := 4 * k) (by omega) (by decide) (v := nI κ) ((hr 0 (by decide)).trans r0) dX2_isAhead_12 ?_
      refine ns_i (k := 3) (nr_S (As := [.int (nI κ)]) (rest := [.int (nI (w + 1))]) hx hb hml hown hts (M_linesBy l G κ (by omega)) nPs.blind 1 q1115 q1116 q53 q1117 (by decide +kernel) ⟨⟨Nat.le_of_ble_eq_true rfl, Nat.le_of_ble_eq_true rfl⟩, Nat.le_of_ble_eq_true rfl, Nat.le_of_ble_eq_true rfl⟩ (nPs_of0 hG (fun k q h => by simp at h)) rfl hl.1 rfl (Nat.le_of_ble_eq_true rfl) dX2_isAhead_13) (fun r13 hp13 => ?_)
      have he13 := hp13
      have he13 : r13 = nI (lnBy κ) := he13
      subst he13
      refine lv_icmp_gt (tgt := 56) hx hb dX2_isAhead_16 (by decide) (fun c16 => ?_) (fun c16 => ?_)
      · skip
        have c16 := n_lt_t (a := lnBy κ) (b := w + 1) c16 (by omega) (by omega)
        refine lv_iload_n hx hb dX2_isAhead_56 rfl (lv_at hl 0 rfl) ?_
        exact ret (bI (ahU row (n + k) w)) dX2_isAhead_57 (by rw [show w = lnBy (row 0).toNatClampNeg by rw [hkk]; omega, ahU_ahd])
      · skip
        have c16 := n_lt_f (a := lnBy κ) (b := w + 1) c16 (by omega) (by omega)
        obtain ⟨v, v1, v2, v3⟩ := r1 (w + 1) (by omega) (by omega)
        have hb9 := bHi_9 κ (w + 1)
        have hv : (row (w + 1)).toNatClampNeg = v := by rw [v1, nI_clamp (by omega)]
        refine lv_iload_n hx hb dX2_isAhead_19 rfl (lv_at hl 0 rfl) ?_
        refine lv_if_eq (tgt := 48) hx hb dX2_isAhead_20 (by decide) (fun c20 => ?_) (fun c20 => ?_)
        · skip
          have c20 := bI_f c20
          refine lv_iconst (v := nI 0) hx hb dX2_isAhead_48 rfl ?_
          refine r_as (z := bI (ahU row (n + k) (w + 1))) (by first | exact ahU_f2 c41 | exact ahU_f1 c20) ?_
          refine lv_istore_n (lv' := [(2, .int (bI (ahU row (n + k) (w + 1)))), (3, .int (nI (w + 1))), (0, .ref q), (1, .int (nI k))]) hx hb dX2_isAhead_49 rfl hl (by decide) rfl (fun ls hl => ?_)
          refine lv_iinc (v := nI (w + 1 + 1)) (lv' := [(3, .int (nI (w + 1 + 1))), (2, .int (bI (ahU row (n + k) (w + 1)))), (0, .ref q), (1, .int (nI k))]) hx hb dX2_isAhead_50 hl (k := 1) rfl (nI_add _ _) (by decide) rfl (fun ls hl => ?_)
          refine lv_goto (tgt := 4) hx hb dX2_isAhead_53 (by decide) ?_
          exact ih_L4 (w + 1) (by first | assumption | omega) (by omega) _ (lv_sub hl [1, 0, 2, 3] rfl)
        · skip
          have c20 := bI_t c20
          refine lv_aload_n hx hb dX2_isAhead_23 rfl (lv_at hl 2 rfl) ?_
          refine r_get (v := .ref (a 9)) hx hb hts in_X2 hown hG hP 0 rfl rfl 13 (by decide) q951 (fun _ h9 => h9) rfl dX2_isAhead_24 ?_
          refine lv_iconst (v := nI 4) hx hb dX2_isAhead_27 rfl ?_
          refine lv_iload_n hx hb dX2_isAhead_28 rfl (lv_at hl 3 rfl) ?_
          refine lv_imul hx hb dX2_isAhead_29 ?_
          refine r_as (z := nI (4 * k)) (pk_mul _ _) ?_
          refine lv_iload_n hx hb dX2_isAhead_30 rfl (lv_at hl 1 rfl) ?_
          refine lv_iadd hx hb dX2_isAhead_31 ?_
          refine r_as (z := nI (4 * k + (w + 1))) (nI_add _ _) ?_
          refine r_iald hx hb hG hP 10 rfl (j := 4 * k + (w + 1)) (by omega) (by decide) (v := nI ((row (w + 1)).toNatClampNeg)) ((hr (w + 1) (by omega)).trans (by rw [v1, nI_clamp (by omega)])) dX2_isAhead_32 ?_
          refine lv_aload_n hx hb dX2_isAhead_33 rfl (lv_at hl 2 rfl) ?_
          refine r_get (v := .ref (a 0)) hx hb hts in_X2 hown hG hP 0 rfl rfl 0 (by decide) q938 (fun _ h9 => h9) rfl dX2_isAhead_34 ?_
          refine lv_iconst (v := nI 0) hx hb dX2_isAhead_37 rfl ?_
          refine r_iald hx hb hG hP 1 rfl (j := 0) (by omega) (by decide) (v := nI n) ha dX2_isAhead_38 ?_
          refine lv_iload_n hx hb dX2_isAhead_39 rfl (lv_at hl 3 rfl) ?_
          refine lv_iadd hx hb dX2_isAhead_40 ?_
          refine r_as (z := nI (n + k)) (nI_add _ _) ?_
          refine lv_icmp_ge (tgt := 48) hx hb dX2_isAhead_41 (by decide) (fun c41 => ?_) (fun c41 => ?_)
          · skip
            have c41 := n_le_t (a := n + k) (b := (row (w + 1)).toNatClampNeg) c41 (by omega) (by omega)
            refine lv_iconst (v := nI 0) hx hb dX2_isAhead_48 rfl ?_
            refine r_as (z := bI (ahU row (n + k) (w + 1))) (by first | exact ahU_f2 c41 | exact ahU_f1 c20) ?_
            refine lv_istore_n (lv' := [(2, .int (bI (ahU row (n + k) (w + 1)))), (3, .int (nI (w + 1))), (0, .ref q), (1, .int (nI k))]) hx hb dX2_isAhead_49 rfl hl (by decide) rfl (fun ls hl => ?_)
            refine lv_iinc (v := nI (w + 1 + 1)) (lv' := [(3, .int (nI (w + 1 + 1))), (2, .int (bI (ahU row (n + k) (w + 1)))), (0, .ref q), (1, .int (nI k))]) hx hb dX2_isAhead_50 hl (k := 1) rfl (nI_add _ _) (by decide) rfl (fun ls hl => ?_)
            refine lv_goto (tgt := 4) hx hb dX2_isAhead_53 (by decide) ?_
            exact ih_L4 (w + 1) (by first | assumption | omega) (by omega) _ (lv_sub hl [1, 0, 2, 3] rfl)
          · skip
            have c41 := n_le_f (a := n + k) (b := (row (w + 1)).toNatClampNeg) c41 (by omega) (by omega)
            refine lv_iconst (v := nI 1) hx hb dX2_isAhead_44 rfl ?_
            refine r_as (z := bI (ahU row (n + k) (w + 1))) (ahU_t c20 c41) ?_
            refine lv_goto (tgt := 49) hx hb dX2_isAhead_45 (by decide) ?_
            refine lv_istore_n (lv' := [(2, .int (bI (ahU row (n + k) (w + 1)))), (3, .int (nI (w + 1))), (0, .ref q), (1, .int (nI k))]) hx hb dX2_isAhead_49 rfl hl (by decide) rfl (fun ls hl => ?_)
            refine lv_iinc (v := nI (w + 1 + 1)) (lv' := [(3, .int (nI (w + 1 + 1))), (2, .int (bI (ahU row (n + k) (w + 1)))), (0, .ref q), (1, .int (nI k))]) hx hb dX2_isAhead_50 hl (k := 1) rfl (nI_add _ _) (by decide) rfl (fun ls hl => ?_)
            refine lv_goto (tgt := 4) hx hb dX2_isAhead_53 (by decide) ?_
            exact ih_L4 (w + 1) (by first | assumption | omega) (by omega) _ (lv_sub hl [1, 0, 2, 3] rfl)
  exact L4 _ 0 (by first | assumption | omega) (Nat.lt_succ_self _) _ (lv_sub hl [1, 0, 2, 3] rfl)
set_option maxHeartbeats 4000000 in
set_option maxRecDepth 100000 in
theorem M_readCircuit (l : Launch) (G : nG) (q : Nat) (a : Nat → Nat) (all : Nat → Int32) (kept : Nat → Int32) (hist : Nat → Int32) (hlo : Int32) (snap : Nat → Int32) (tk : Int32) (bits : Nat → Int32) (reg : Nat → Int32) (exa : Nat → Int32) (text : Nat → Int32) (tl : Int32) (sp : Int32) (read : Nat → Int32) (rm : Int32) (nu : Int32) (deep : Nat → Int32) (src : Nat → Int32) (S : oSt) (hM : mR S all hist hlo snap tk text tl) : nMi (S := (Nat → Int32) × (Nat → Int32) × (Nat → Int32) × Int32 × (Nat → Int32) × Int32 × (Nat → Int32) × (Nat → Int32) × (Nat → Int32) × (Nat → Int32) × Int32 × Int32 × (Nat → Int32) × Int32 × Int32 × (Nat → Int32) × (Nat → Int32)) l yX2_readCircuit cX2_readCircuit 3 (.int) 7 0 0 160 G [.ref q] (mW G q a wdF all kept hist hlo snap tk bits reg exa text tl sp read rm nu deep src) ([]) (fun (u : (Nat → Int32) × (Nat → Int32) × (Nat → Int32) × Int32 × (Nat → Int32) × Int32 × (Nat → Int32) × (Nat → Int32) × (Nat → Int32) × (Nat → Int32) × Int32 × Int32 × (Nat → Int32) × Int32 × Int32 × (Nat → Int32) × (Nat → Int32)) => mW G q a wdF u.1 u.2.1 u.2.2.1 u.2.2.2.1 u.2.2.2.2.1 u.2.2.2.2.2.1 u.2.2.2.2.2.2.1 u.2.2.2.2.2.2.2.1 u.2.2.2.2.2.2.2.2.1 u.2.2.2.2.2.2.2.2.2.1 u.2.2.2.2.2.2.2.2.2.2.1 u.2.2.2.2.2.2.2.2.2.2.2.1 u.2.2.2.2.2.2.2.2.2.2.2.2.1 u.2.2.2.2.2.2.2.2.2.2.2.2.2.1 u.2.2.2.2.2.2.2.2.2.2.2.2.2.2.1 u.2.2.2.2.2.2.2.2.2.2.2.2.2.2.2.1 u.2.2.2.2.2.2.2.2.2.2.2.2.2.2.2.2) (fun (r : Int32) (u : (Nat → Int32) × (Nat → Int32) × (Nat → Int32) × Int32 × (Nat → Int32) × Int32 × (Nat → Int32) × (Nat → Int32) × (Nat → Int32) × (Nat → Int32) × Int32 × Int32 × (Nat → Int32) × Int32 × Int32 × (Nat → Int32) × (Nat → Int32)) => r = ((spRead S).1) ∧ mR (spRead S).2 u.1 u.2.2.1 u.2.2.2.1 u.2.2.2.2.1 u.2.2.2.2.2.1 u.2.2.2.2.2.2.2.2.2.1 u.2.2.2.2.2.2.2.2.2.2.1) := by
  refine nMi.of (own := "ShareStreamsModel") rfl (by decide +kernel) (Nat.le_of_ble_eq_true rfl) (fun _ _ _ => rfl) ?_
  intro p e s m args below meth c A Q ls hx hb hml hown hts hin hG Z hl ret
  have hl : lv_has ls 3 [(0, .ref q)] := hl
  have Z : nW G A (mW G q a wdF all kept hist hlo snap tk bits reg exa text tl sp read rm nu deep src) ([]) ([]) s.heap _ _ := Z
  obtain ⟨so, ba, ⟨eh, hh⟩, ⟨ek, sn⟩, et, tx⟩ := hM
  have hM : mR S all hist hlo snap tk text tl := ⟨so, ba, ⟨eh, hh⟩, ⟨ek, sn⟩, et, tx⟩
  have hn : S.1.1 ≤ 16 := so.1.1
  have ha : all 0 = nI S.1.1 := ba.1
  have htx := mR_tx hM
  have hiv := rdAll_inv S.2.2.2
  have hL := so.2.2.2.1
  refine lv_aload_n hx hb dX2_readCircuit_0 rfl (lv_at hl 0 rfl) ?_
  refine nc_i (k := 3) (wcc := mW G q a wdF all kept hist hlo snap tk bits reg exa text tl sp read rm nu deep src) (wr := []) (nr_V (As := []) (rest := []) hx hb hml hown hts ((M_fault l G q a all kept hist hlo snap tk bits reg exa text tl sp read rm nu deep src S.2.2.2 (by first | assumption | omega | rfl)) _) nP.blind 0 q1075 q1077 qs22 q53 q1078 (by decide +kernel) ⟨⟨Nat.le_of_ble_eq_true rfl, Nat.le_of_ble_eq_true rfl⟩, Nat.le_of_ble_eq_true rfl, Nat.le_of_ble_eq_true rfl⟩ (r_recv hG Z.w 0 (C := "ShareStreamsModel") rfl rfl rfl) (nP_of hG Z [0, 1, 2, 3, 4, 5, 6, 7, 8, 9, 10, 11, 12] rfl (by decide) (fun k q h => by simp at h) nAp.nil) rfl hl.1 rfl (Nat.le_of_ble_eq_true rfl) dX2_readCircuit_1) Z [0, 1, 2, 3, 4, 5, 6, 7, 8, 9, 10, 11, 12] [] rfl rfl (by decide) (by decide) (fun r1 u H locs hp1 Z => ?_)
  obtain ⟨sp1_1, rd1_1, rm1_1, nu1_1⟩ := u
  obtain ⟨he1, hp1⟩ := hp1
  have he1 : r1 = if (rdAll S.2.2.2).1 then cNONE else nI (rdAll S.2.2.2).2.2 := he1
  subst he1
  have hp1 : ((rdAll S.2.2.2).1 = true → rm1_1 = nI (rdAll S.2.2.2).2.1.length ∧ rowsR rd1_1 (rdAll S.2.2.2).2.1) := hp1
  have Z : nW G A (mW G q a wdF all kept hist hlo snap tk bits reg exa text tl sp1_1 rd1_1 rm1_1 nu1_1 deep src) ([]) ([]) s.heap _ _ := Z
  by_cases hb1 : (rdAll S.2.2.2).1 = true
  · skip
    obtain ⟨er1, er2⟩ := hp1 hb1
    obtain ⟨li, eli⟩ : ∃ z, z = (rdAll S.2.2.2).2.1 := ⟨_, rfl⟩
    rw [← eli] at er1 er2
    have hri := hiv
    rw [← eli] at hri
    have hlen : li.length ≤ 16 := by omega
    refine r_as (z := cNONE) (if_pos hb1) ?_
    refine lv_istore_n (lv' := [(1, .int cNONE), (0, .ref q)]) hx hb dX2_readCircuit_4 rfl hl (by decide) rfl (fun ls hl => ?_)
    refine lv_iload_n hx hb dX2_readCircuit_5 rfl (lv_at hl 0 rfl) ?_
    refine lv_ldc hx hb hown (hts _ q1003) dX2_readCircuit_6 ?_
    refine lv_icmp_eq (tgt := 16) hx hb dX2_readCircuit_8 (by decide) (fun c8 => ?_) (fun c8 => ?_)
    · skip
      refine lv_iconst (v := nI 0) hx hb dX2_readCircuit_16 rfl ?_
      refine lv_istore_n (lv' := [(2, .int (nI 0)), (1, .int cNONE), (0, .ref q)]) hx hb dX2_readCircuit_17 rfl hl (by decide) rfl (fun ls hl => ?_)
      have L18 : ∀ (k_ : Nat) (k : Nat) (g1 : k ≤ li.length) (ga : ∀ i, i < k → ahd (li.getD i d0) (S.1.1 + i) = true) (hk_ : li.length - k < k_) (H : Heap) (locs : List Loc), nW G A (mW G q a wdF all kept hist hlo snap tk bits reg exa text tl sp1_1 rd1_1 rm1_1 nu1_1 deep src) ([]) ([]) s.heap H locs → ∀ (ls : Array Slot), lv_has ls 3 [(2, .int (nI k)), (1, .int cNONE), (0, .ref q)] → W p l e (nRm 7 0 0 160) s m args below meth c H locs 0 0 Q (F0 m 18 ls []) := by
        intro k_
        induction k_ with
        | zero => intro k g1 ga hk_; exact absurd hk_ (Nat.not_lt_zero _)
        | succ k_ ih_L18 =>
          intro k g1 ga hk_ H locs Z ls hl
          refine lv_iload_n hx hb dX2_readCircuit_18 rfl (lv_at hl 0 rfl) ?_
          refine lv_aload_n hx hb dX2_readCircuit_19 rfl (lv_at hl 2 rfl) ?_
          refine r_get (v := .int rm1_1) hx hb hts in_X2 hown hG Z.w 0 rfl rfl 14 (by decide) q952 (fun _ h9 => h9) rfl dX2_readCircuit_20 ?_
          refine r_as (z := nI li.length) er1 ?_
          refine lv_icmp_ge (tgt := 43) hx hb dX2_readCircuit_23 (by decide) (fun c23 => ?_) (fun c23 => ?_)
          · skip
            have c23 := n_le_t (a := li.length) (b := k) c23 (by omega) (by omega)
            have hk9 : k = li.length := by omega
            have haa : ahAll S.1.1 li = true := ahAll_t (fun i hi => ga i (by omega))
            refine lv_aload_n hx hb dX2_readCircuit_43 rfl (lv_at hl 2 rfl) ?_
            refine r_get (v := .ref (a 0)) hx hb hts in_X2 hown hG Z.w 0 rfl rfl 0 (by decide) q938 (fun _ h9 => h9) rfl dX2_readCircuit_44 ?_
            refine lv_iconst (v := nI 0) hx hb dX2_readCircuit_47 rfl ?_
            refine r_iald hx hb hG Z.w 1 rfl (j := 0) (by omega) (by decide) (v := nI S.1.1) ha dX2_readCircuit_48 ?_
            refine lv_aload_n hx hb dX2_readCircuit_49 rfl (lv_at hl 2 rfl) ?_
            refine r_get (v := .int rm1_1) hx hb hts in_X2 hown hG Z.w 0 rfl rfl 14 (by decide) q952 (fun _ h9 => h9) rfl dX2_readCircuit_50 ?_
            refine r_as (z := nI li.length) er1 ?_
            refine lv_iadd hx hb dX2_readCircuit_53 ?_
            refine r_as (z := nI (S.1.1 + li.length)) (nI_add _ _) ?_
            refine lv_bipush (v := nI 16) hx hb dX2_readCircuit_54 rfl ?_
            refine lv_icmp_le (tgt := 62) hx hb dX2_readCircuit_56 (by decide) (fun c56 => ?_) (fun c56 => ?_)
            · skip
              have c56 := n_le_t (a := S.1.1 + li.length) (b := 16) c56 (by omega) (by decide)
              have hok := addAll_ok so.1 hri.2.1 (fun i hi => ga i (by omega)) c56
              refine lv_aload_n hx hb dX2_readCircuit_62 rfl (lv_at hl 2 rfl) ?_
              refine nc_v (k := 3) (wcc := mW G q a wdF all kept hist hlo snap tk bits reg exa text tl sp1_1 rd1_1 rm1_1 nu1_1 deep src) (wr := []) (nr_V (As := []) (rest := []) hx hb hml hown hts ((M_remember l G q a wdF all kept hist hlo snap tk bits reg exa text tl sp1_1 rd1_1 rm1_1 nu1_1 deep src) _) nP.blind 0 q1009 q1011 qs17 q53 q1012 (by decide +kernel) ⟨⟨Nat.le_of_ble_eq_true rfl, Nat.le_of_ble_eq_true rfl⟩, Nat.le_of_ble_eq_true rfl, Nat.le_of_ble_eq_true rfl⟩ (r_recv hG Z.w 0 (C := "ShareStreamsModel") rfl rfl rfl) (nP_of hG Z [0, 1, 2, 3, 4, 5, 6, 7, 8, 9, 10, 11, 12] rfl (by decide) (fun k q h => by simp at h) nAp.nil) rfl hl.1 rfl (Nat.le_of_ble_eq_true rfl) dX2_readCircuit_63) Z [0, 1, 2, 3, 4, 5, 6, 7, 8, 9, 10, 11, 12] [] rfl rfl (by decide) (by decide) (fun u H locs hp63 Z => ?_)
              obtain ⟨kp_63, rfl⟩ : ∃ z, z = u := ⟨_, rfl⟩
              have hp63 : ∀ v_, v_ < 66 → kp_63 v_ = all v_ := hp63
              have Z : nW G A (mW G q a wdF all kp_63 hist hlo snap tk bits reg exa text tl sp1_1 rd1_1 rm1_1 nu1_1 deep src) ([]) ([]) s.heap _ _ := Z
              refine lv_iconst (v := nI 0) hx hb dX2_readCircuit_66 rfl ?_
              refine lv_istore_n (lv' := [(2, .int (nI 0)), (1, .int cNONE), (0, .ref q)]) hx hb dX2_readCircuit_67 rfl hl (by decide) rfl (fun ls hl => ?_)
              have L68 : ∀ (k_ : Nat) (i : Nat) (al : Nat → Int32) (gi : i ≤ li.length) (gb : bRow al (addAll S.1 (li.take i))) (hk_ : li.length - i < k_) (H : Heap) (locs : List Loc), nW G A (mW G q a wdF al kp_63 hist hlo snap tk bits reg exa text tl sp1_1 rd1_1 rm1_1 nu1_1 deep src) ([]) ([]) s.heap H locs → ∀ (ls : Array Slot), lv_has ls 3 [(2, .int (nI (4 * i))), (1, .int cNONE), (0, .ref q)] → W p l e (nRm 7 0 0 160) s m args below meth c H locs 0 0 Q (F0 m 68 ls []) := by
                intro k_
                induction k_ with
                | zero => intro i al gi gb hk_; exact absurd hk_ (Nat.not_lt_zero _)
                | succ k_ ih_L68 =>
                  intro i al gi gb hk_ H locs Z ls hl
                  refine lv_iload_n hx hb dX2_readCircuit_68 rfl (lv_at hl 0 rfl) ?_
                  refine lv_iconst (v := nI 4) hx hb dX2_readCircuit_69 rfl ?_
                  refine lv_aload_n hx hb dX2_readCircuit_70 rfl (lv_at hl 2 rfl) ?_
                  refine r_get (v := .int rm1_1) hx hb hts in_X2 hown hG Z.w 0 rfl rfl 14 (by decide) q952 (fun _ h9 => h9) rfl dX2_readCircuit_71 ?_
                  refine r_as (z := nI li.length) er1 ?_
                  refine lv_imul hx hb dX2_readCircuit_74 ?_
                  refine r_as (z := nI (4 * li.length)) (pk_mul _ _) ?_
                  refine lv_icmp_ge (tgt := 118) hx hb dX2_readCircuit_75 (by decide) (fun c75 => ?_) (fun c75 => ?_)
                  · skip
                    have c75 := n_le_t (a := 4 * li.length) (b := 4 * i) c75 (by omega) (by omega)
                    have hi9 : i = li.length := by omega
                    refine lv_aload_n hx hb dX2_readCircuit_118 rfl (lv_at hl 2 rfl) ?_
                    refine lv_aload_n hx hb dX2_readCircuit_119 rfl (lv_at hl 2 rfl) ?_
                    refine r_get (v := .ref (a 0)) hx hb hts in_X2 hown hG Z.w 0 rfl rfl 0 (by decide) q938 (fun _ h9 => h9) rfl dX2_readCircuit_120 ?_
                    refine lv_iconst (v := nI 0) hx hb dX2_readCircuit_123 rfl ?_
                    refine r_iald hx hb hG Z.w 1 rfl (j := 0) (by omega) (by decide) (v := nI (S.1.1 + li.length)) (by rw [gb.1, hi9]; congr 1; have h := addAll_n (li.take li.length) S.1; rw [List.take_length] at h ⊢; exact h) dX2_readCircuit_124 ?_
                    refine nc_i (k := 3) (wcc := mW G q a wdF al kp_63 hist hlo snap tk bits reg exa text tl sp1_1 rd1_1 rm1_1 nu1_1 deep src) (wr := []) (nr_V (As := [.int (nI (S.1.1 + li.length))]) (rest := []) hx hb hml hown hts ((M_acted l G q a wdF al kp_63 hist hlo snap tk bits reg exa text tl sp1_1 rd1_1 rm1_1 nu1_1 deep src (nI (S.1.1 + li.length)) S.2.1.length so.2.1.1 (by first | assumption | omega | rfl)) _) nP.blind 1 q1017 q1019 qs19 q53 q1020 (by decide +kernel) ⟨⟨Nat.le_of_ble_eq_true rfl, Nat.le_of_ble_eq_true rfl⟩, Nat.le_of_ble_eq_true rfl, Nat.le_of_ble_eq_true rfl⟩ (r_recv hG Z.w 0 (C := "ShareStreamsModel") rfl rfl rfl) (nP_of hG Z [0, 1, 2, 3, 4, 5, 6, 7, 8, 9, 10, 11, 12] rfl (by decide) (fun k q h => by simp at h) nAp.nil) rfl hl.1 rfl (Nat.le_of_ble_eq_true rfl) dX2_readCircuit_125) Z [0, 1, 2, 3, 4, 5, 6, 7, 8, 9, 10, 11, 12] [] rfl rfl (by decide) (by decide) (fun r125 u H locs hp125 Z => ?_)
                    obtain ⟨hs_125, rfl⟩ : ∃ z, z = u := ⟨_, rfl⟩
                    obtain ⟨he125, hp125⟩ := hp125
                    have he125 : r125 = (nI (S.1.1 + li.length)) := he125
                    subst he125
                    have hp125 : hsP S.2.1.length hist kp_63 hs_125 := hp125
                    have Z : nW G A (mW G q a wdF al kp_63 hs_125 (nI (acH S.2.1.length)) snap tk bits reg exa text tl sp1_1 rd1_1 rm1_1 nu1_1 deep src) ([]) ([]) s.heap _ _ := Z
                    have es : spRead S = (nI (S.1.1 + li.length), spAcc S (addAll S.1 li)) := by simp [spRead, hb1, ← eli, haa]; omega
                    have ht9 : li.take i = li := by rw [hi9]; exact List.take_length
                    rw [ht9] at gb
                    have hk2 := hok li.length (Nat.le_refl _)
                    rw [List.take_length] at hk2
                    exact ret (nI (S.1.1 + li.length)) (al, kp_63, hs_125, nI (acH S.2.1.length), snap, tk, bits, reg, exa, text, tl, sp1_1, rd1_1, rm1_1, nu1_1, deep, src) dX2_readCircuit_128 (⟨(by rw [es]), (by rw [es]; exact mR_acc hM hk2 gb hp63 hp125)⟩) Z (Nat.le_of_ble_eq_true rfl) (Nat.le_of_ble_eq_true rfl)
                  · skip
                    have c75 := n_le_f (a := 4 * li.length) (b := 4 * i) c75 (by omega) (by omega)
                    refine lv_aload_n hx hb dX2_readCircuit_78 rfl (lv_at hl 2 rfl) ?_
                    refine lv_aload_n hx hb dX2_readCircuit_79 rfl (lv_at hl 2 rfl) ?_
                    refine r_get (v := .ref (a 9)) hx hb hts in_X2 hown hG Z.w 0 rfl rfl 13 (by decide) q951 (fun _ h9 => h9) rfl dX2_readCircuit_80 ?_
                    refine lv_iload_n hx hb dX2_readCircuit_83 rfl (lv_at hl 0 rfl) ?_
                    refine r_iald hx hb hG Z.w 10 rfl (j := 4 * i) (by omega) (by decide) (v := (li.getD i d0) 0) (rowsR_at er2 (w := 0) (by omega) (by decide)) dX2_readCircuit_84 ?_
                    refine lv_aload_n hx hb dX2_readCircuit_85 rfl (lv_at hl 2 rfl) ?_
                    refine r_get (v := .ref (a 9)) hx hb hts in_X2 hown hG Z.w 0 rfl rfl 13 (by decide) q951 (fun _ h9 => h9) rfl dX2_readCircuit_86 ?_
                    refine lv_iload_n hx hb dX2_readCircuit_89 rfl (lv_at hl 0 rfl) ?_
                    refine lv_iconst (v := nI 1) hx hb dX2_readCircuit_90 rfl ?_
                    refine lv_iadd hx hb dX2_readCircuit_91 ?_
                    refine r_as (z := nI (4 * i + 1)) (nI_add _ _) ?_
                    refine r_iald hx hb hG Z.w 10 rfl (j := 4 * i + 1) (by omega) (by decide) (v := (li.getD i d0) 1) (rowsR_at er2 (w := 1) (by omega) (by decide)) dX2_readCircuit_92 ?_
                    refine lv_aload_n hx hb dX2_readCircuit_93 rfl (lv_at hl 2 rfl) ?_
                    refine r_get (v := .ref (a 9)) hx hb hts in_X2 hown hG Z.w 0 rfl rfl 13 (by decide) q951 (fun _ h9 => h9) rfl dX2_readCircuit_94 ?_
                    refine lv_iload_n hx hb dX2_readCircuit_97 rfl (lv_at hl 0 rfl) ?_
                    refine lv_iconst (v := nI 2) hx hb dX2_readCircuit_98 rfl ?_
                    refine lv_iadd hx hb dX2_readCircuit_99 ?_
                    refine r_as (z := nI (4 * i + 2)) (nI_add _ _) ?_
                    refine r_iald hx hb hG Z.w 10 rfl (j := 4 * i + 2) (by omega) (by decide) (v := (li.getD i d0) 2) (rowsR_at er2 (w := 2) (by omega) (by decide)) dX2_readCircuit_100 ?_
                    refine lv_aload_n hx hb dX2_readCircuit_101 rfl (lv_at hl 2 rfl) ?_
                    refine r_get (v := .ref (a 9)) hx hb hts in_X2 hown hG Z.w 0 rfl rfl 13 (by decide) q951 (fun _ h9 => h9) rfl dX2_readCircuit_102 ?_
                    refine lv_iload_n hx hb dX2_readCircuit_105 rfl (lv_at hl 0 rfl) ?_
                    refine lv_iconst (v := nI 3) hx hb dX2_readCircuit_106 rfl ?_
                    refine lv_iadd hx hb dX2_readCircuit_107 ?_
                    refine r_as (z := nI (4 * i + 3)) (nI_add _ _) ?_
                    refine r_iald hx hb hG Z.w 10 rfl (j := 4 * i + 3) (by omega) (by decide) (v := (li.getD i d0) 3) (rowsR_at er2 (w := 3) (by omega) (by decide)) dX2_readCircuit_108 ?_
                    have hni := addAll_n (li.take i) S.1
                    have hti : (li.take i).length = i := by simp; omega
                    refine nc_v (k := 3) (wcc := mW G q a wdF al kp_63 hist hlo snap tk bits reg exa text tl sp1_1 rd1_1 rm1_1 nu1_1 deep src) (wr := []) (nr_V (As := [.int ((li.getD i d0) 0), .int ((li.getD i d0) 1), .int ((li.getD i d0) 2), .int ((li.getD i d0) 3)]) (rest := []) hx hb hml hown hts ((M_puts l G q a wdF al kp_63 hist hlo snap tk bits reg exa text tl sp1_1 rd1_1 rm1_1 nu1_1 deep src ((addAll S.1 (li.take i)).1) ((li.getD i d0) 0) ((li.getD i d0) 1) ((li.getD i d0) 2) ((li.getD i d0) 3) (by omega) gb.1) _) nP.blind 4 q1013 q1015 qs18 q53 q1016 (by decide +kernel) ⟨⟨Nat.le_of_ble_eq_true rfl, Nat.le_of_ble_eq_true rfl⟩, Nat.le_of_ble_eq_true rfl, Nat.le_of_ble_eq_true rfl⟩ (r_recv hG Z.w 0 (C := "ShareStreamsModel") rfl rfl rfl) (nP_of hG Z [0, 1, 2, 3, 4, 5, 6, 7, 8, 9, 10, 11, 12] rfl (by decide) (fun k q h => by simp at h) nAp.nil) rfl hl.1 rfl (Nat.le_of_ble_eq_true rfl) dX2_readCircuit_109) Z [0, 1, 2, 3, 4, 5, 6, 7, 8, 9, 10, 11, 12] [] rfl rfl (by decide) (by decide) (fun u H locs hp109 Z => ?_)
                    have Z : nW G A (mW G q a wdF (putA al ((addAll S.1 (li.take i)).1) ((li.getD i d0) 0) ((li.getD i d0) 1) ((li.getD i d0) 2) ((li.getD i d0) 3)) kp_63 hist hlo snap tk bits reg exa text tl sp1_1 rd1_1 rm1_1 nu1_1 deep src) ([]) ([]) s.heap _ _ := Z
                    refine lv_iinc (v := nI (4 * i + 4)) (lv' := [(2, .int (nI (4 * i + 4))), (1, .int cNONE), (0, .ref q)]) hx hb dX2_readCircuit_112 hl (k := 0) rfl (nI_add _ _) (by decide) rfl (fun ls hl => ?_)
                    refine lv_goto (tgt := 68) hx hb dX2_readCircuit_115 (by decide) ?_
                    exact ih_L68 (i + 1) (putA al ((addAll S.1 (li.take i)).1) ((li.getD i d0) 0) ((li.getD i d0) 1) ((li.getD i d0) 2) ((li.getD i d0) 3)) (by first | assumption | omega) (by rw [take_s (by omega), addAll_snoc]; exact bRow_add gb _ _ _ _) (by omega) _ _ Z _ (lv_sub hl [0, 1, 2] rfl)
              exact L68 _ 0 all (by first | assumption | omega) ba (Nat.lt_succ_self _) _ _ Z _ (lv_sub hl [0, 1, 2] rfl)
            · skip
              have c56 := n_le_f (a := S.1.1 + li.length) (b := 16) c56 (by omega) (by decide)
              refine lv_ldc hx hb hown (hts _ q1008) dX2_readCircuit_59 ?_
              have es : spRead S = (cFULL, S) := by simp [spRead, hb1, ← eli, haa, c56]
              exact ret (-100000003 : Int32) (all, kept, hist, hlo, snap, tk, bits, reg, exa, text, tl, sp1_1, rd1_1, rm1_1, nu1_1, deep, src) dX2_readCircuit_61 (⟨(by rw [es]), (by rw [es]; exact hM)⟩) Z (Nat.le_of_ble_eq_true rfl) (Nat.le_of_ble_eq_true rfl)
          · skip
            have c23 := n_le_f (a := li.length) (b := k) c23 (by omega) (by omega)
            refine lv_aload_n hx hb dX2_readCircuit_26 rfl (lv_at hl 2 rfl) ?_
            refine lv_iload_n hx hb dX2_readCircuit_27 rfl (lv_at hl 0 rfl) ?_
            refine ns_i (k := 3) (nr_V (As := [.int (nI k)]) (rest := []) hx hb hml hown hts (M_isAhead l G q a wdF all kept hist hlo snap tk bits reg exa text tl sp1_1 rd1_1 rm1_1 nu1_1 deep src k S.1.1 (li.getD k d0) (by first | assumption | omega | rfl) (by first | assumption | omega | rfl) (by omega) (hri.2.1 _ (getD_mem (by omega))) (fun w hw => rowsR_at er2 (by omega) hw)) nPs.blind 1 q1111 q1113 qs30 q53 q1114 (by decide +kernel) ⟨⟨Nat.le_of_ble_eq_true rfl, Nat.le_of_ble_eq_true rfl⟩, Nat.le_of_ble_eq_true rfl, Nat.le_of_ble_eq_true rfl⟩ (r_recv hG Z.w 0 (C := "ShareStreamsModel") rfl rfl rfl) (nPs_of hG Z Z.w) rfl hl.1 rfl (Nat.le_of_ble_eq_true rfl) dX2_readCircuit_28) (fun r28 hp28 => ?_)
            have he28 := hp28
            have he28 : r28 = bI (ahd (li.getD k d0) (S.1.1 + k)) := he28
            subst he28
            refine lv_if_ne (tgt := 37) hx hb dX2_readCircuit_31 (by decide) (fun c31 => ?_) (fun c31 => ?_)
            · skip
              have c31 := bI_t c31
              refine lv_iinc (v := nI (k + 1)) (lv' := [(2, .int (nI (k + 1))), (1, .int cNONE), (0, .ref q)]) hx hb dX2_readCircuit_37 hl (k := 0) rfl (nI_add _ _) (by decide) rfl (fun ls hl => ?_)
              refine lv_goto (tgt := 18) hx hb dX2_readCircuit_40 (by decide) ?_
              exact ih_L18 (k + 1) (by first | assumption | omega) (fun i hi => by by_cases e : i = k; { subst e; exact c31 }; { exact ga i (by omega) }) (by omega) _ _ Z _ (lv_sub hl [0, 1, 2] rfl)
            · skip
              have c31 := bI_f c31
              refine lv_ldc hx hb hown (hts _ q1030) dX2_readCircuit_34 ?_
              have es : spRead S = (cUNK, S) := by simp [spRead, hb1, ← eli, ahAll_f (n := S.1.1) (i := k) (by omega) c31]
              exact ret (-100000001 : Int32) (all, kept, hist, hlo, snap, tk, bits, reg, exa, text, tl, sp1_1, rd1_1, rm1_1, nu1_1, deep, src) dX2_readCircuit_36 (⟨(by rw [es]), (by rw [es]; exact hM)⟩) Z (Nat.le_of_ble_eq_true rfl) (Nat.le_of_ble_eq_true rfl)
      exact L18 _ 0 (by first | assumption | omega) (fun i hi => absurd hi (Nat.not_lt_zero _)) (Nat.lt_succ_self _) _ _ Z _ (lv_sub hl [0, 1, 2] rfl)
    · skip
      exact absurd rfl c8
  · skip
    refine r_as (z := nI (rdAll S.2.2.2).2.2) (if_neg hb1) ?_
    refine lv_istore_n (lv' := [(1, .int (nI ((rdAll S.2.2.2).2.2))), (0, .ref q)]) hx hb dX2_readCircuit_4 rfl hl (by decide) rfl (fun ls hl => ?_)
    refine lv_iload_n hx hb dX2_readCircuit_5 rfl (lv_at hl 0 rfl) ?_
    refine lv_ldc hx hb hown (hts _ q1003) dX2_readCircuit_6 ?_
    refine lv_icmp_eq (tgt := 16) hx hb dX2_readCircuit_8 (by decide) (fun c8 => ?_) (fun c8 => ?_)
    · skip
      exact absurd c8 (nI_ne_none (by omega))
    · skip
      refine lv_ldc hx hb hown (hts _ q1110) dX2_readCircuit_11 ?_
      refine lv_iload_n hx hb dX2_readCircuit_13 rfl (lv_at hl 0 rfl) ?_
      refine lv_isub hx hb dX2_readCircuit_14 ?_
      have es : spRead S = (cFAULT - nI (rdAll S.2.2.2).2.2, S) := by simp [spRead, hb1]
      exact ret ((-100000100 : Int32) - (nI ((rdAll S.2.2.2).2.2))) (all, kept, hist, hlo, snap, tk, bits, reg, exa, text, tl, sp1_1, rd1_1, rm1_1, nu1_1, deep, src) dX2_readCircuit_15 (⟨(by rw [es]), (by rw [es]; exact hM)⟩) Z (Nat.le_of_ble_eq_true rfl) (Nat.le_of_ble_eq_true rfl)
