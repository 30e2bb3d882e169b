set_option maxHeartbeats 4000000 in
set_option maxRecDepth 100000 in
theorem M_readsNumber (l : Launch) (G : nG) (q : Nat) (a : Nat → Nat) (wd : Nat → Int64) (all : Nat → Int32) (kept : Nat → Int32) (hist : Nat → Int32) (hlo : Int32) (snap : Nat → Int32) (tk : Int32) (bits : Nat → Int32) (reg : Nat → Int32) (exa : Nat → Int32) (text : Nat → Int32) (tl : Int32) (sp : Int32) (read : Nat → Int32) (rm : Int32) (nu : Int32) (deep : Nat → Int32) (src : Nat → Int32) (T : List Nat) (p0 : Nat) (le : Nat) (mo : Nat) (htx : txR T text tl) (esp : sp = nI p0) (hp0 : p0 ≤ T.length) (hle : le ≤ 1) (hmo : 9 ≤ mo ∧ mo ≤ 256) : nMi (S := Int32 × Int32) l yX2_readsNumber cX2_readsNumber 3 (.boolean) 3 0 0 69 G [.ref q, .int (nI le), .int (nI mo)] (mW G q a wd all kept hist hlo snap tk bits reg exa text tl sp read rm nu deep src) ([]) (fun (u : Int32 × Int32) => mW G q a wd all kept hist hlo snap tk bits reg exa text tl u.1 read rm u.2 deep src) (fun (r : Int32) (u : Int32 × Int32) => r = (bI ((rdN T p0 le mo).1)) ∧ u.1 = nI ((rdN T p0 le mo).2.2) ∧ ((rdN T p0 le mo).1 = true → u.2 = nI (rdN T p0 le mo).2.1)) := by
  refine nMi.of (own := "ShareStreamsModel") rfl (by decide +kernel) (Nat.le_of_ble_eq_true rfl) (fun r u h => by rw [h.1]; exact bI_n _) ?_
  intro p e s m args below meth c A Q ls hx hb hml hown hts hin hG Z hl ret
  have hl : lv_has ls 3 [(0, .ref q), (1, .int (nI le)), (2, .int (nI mo))] := hl
  have Z : nW G A (mW G q a wd all kept hist hlo snap tk bits reg exa text tl sp read rm nu deep src) ([]) ([]) s.heap _ _ := Z
  obtain ⟨et, hL, hc, htt⟩ := htx
  have htx : txR T text tl := ⟨et, hL, hc, htt⟩
  refine lv_aload_n hx hb dX2_readsNumber_0 rfl (lv_at hl 0 rfl) ?_
  refine lv_bipush (v := nI 32) hx hb dX2_readsNumber_1 rfl ?_
  refine nc_i (k := 3) (wcc := mW G q a wd all kept hist hlo snap tk bits reg exa text tl sp read rm nu deep src) (wr := []) (nr_V (As := [.int (nI 32)]) (rest := []) hx hb hml hown hts ((M_takes l G q a wd all kept hist hlo snap tk bits reg exa text tl sp read rm nu deep src T p0 32 (by first | assumption | omega | rfl) (by first | assumption | omega | rfl) (by first | assumption | omega | rfl) (by decide)) _) nP.blind 1 q1102 q1104 qs28 q53 q1105 (by decide +kernel) ⟨⟨Nat.le_of_ble_eq_true rfl, Nat.le_of_ble_eq_true rfl⟩, Nat.le_of_ble_eq_true rfl, Nat.le_of_ble_eq_true rfl⟩ (r_recv hG Z.w 0 (C := "ShareStreamsModel") rfl rfl rfl) (nP_of hG Z [0, 1, 2, 3, 4, 5, 6, 7, 8, 9, 10, 11, 12] rfl (by decide) (fun k q h => by simp at h) nAp.nil) rfl hl.1 rfl (Nat.le_of_ble_eq_true rfl) dX2_readsNumber_3) Z [0, 1, 2, 3, 4, 5, 6, 7, 8, 9, 10, 11, 12] [] rfl rfl (by decide) (by decide) (fun r3 u H locs hp3 Z => ?_)
  have he3 := hp3
  have he3 : r3 = bI (isH T p0 32 32) := he3
  subst he3
  have Z : nW G A (mW G q a wd all kept hist hlo snap tk bits reg exa text tl (nI (tkP T p0 32)) read rm nu deep src) ([]) ([]) s.heap _ _ := Z
  refine lv_if_eq (tgt := 38) hx hb dX2_readsNumber_6 (by decide) (fun c6 => ?_) (fun c6 => ?_)
  · skip
    have c6 := bI_f c6
    have er := rdN_0 (le := le) (mo := mo) c6
    refine lv_iconst (v := nI 0) hx hb dX2_readsNumber_38 rfl ?_
    refine r_as (z := bI false) rfl ?_
    exact ret (bI false) (nI (tkP T p0 32), nu) dX2_readsNumber_39 (⟨(by rw [er]), (by first | (rw [er]; done) | (rw [er]; show nI (tkP T p0 32) = nI p0; unfold tkP; rw [if_neg (by rw [c6]; decide)])), (fun h => by rw [er] at h; cases h)⟩) Z (Nat.le_of_ble_eq_true rfl) (Nat.le_of_ble_eq_true rfl)
  · skip
    have c6 := bI_t c6
    have e6 := isH_t c6
    have e9 : tkP T p0 32 = p0 + 1 := by unfold tkP; rw [if_pos c6]
    rw [e9] at Z
    refine lv_aload_n hx hb dX2_readsNumber_9 rfl (lv_at hl 0 rfl) ?_
    refine lv_bipush (v := nI 48) hx hb dX2_readsNumber_10 rfl ?_
    refine lv_iload_n hx hb dX2_readsNumber_12 rfl (lv_at hl 1 rfl) ?_
    refine lv_iadd hx hb dX2_readsNumber_13 ?_
    refine r_as (z := nI (48 + le)) (nI_add _ _) ?_
    refine lv_bipush (v := nI 57) hx hb dX2_readsNumber_14 rfl ?_
    refine ns_i (k := 3) (nr_V (As := [.int (nI (48 + le)), .int (nI 57)]) (rest := []) hx hb hml hown hts (M_isHere l G q a wd all kept hist hlo snap tk bits reg exa text tl (nI (p0 + 1)) read rm nu deep src T (p0 + 1) (48 + le) 57 (by first | assumption | omega | rfl) (by first | assumption | omega | rfl) (by first | assumption | omega | rfl) (by first | assumption | omega | rfl) (by first | assumption | omega | rfl)) nPs.blind 2 q1106 q1108 qs29 q53 q1109 (by decide +kernel) ⟨⟨Nat.le_of_ble_eq_true rfl, Nat.le_of_ble_eq_true rfl⟩, Nat.le_of_ble_eq_true rfl, Nat.le_of_ble_eq_true rfl⟩ (r_recv hG Z.w 0 (C := "ShareStreamsModel") rfl rfl rfl) (nPs_of hG Z Z.w) rfl hl.1 rfl (Nat.le_of_ble_eq_true rfl) dX2_readsNumber_16) (fun r16 hp16 => ?_)
    have he16 := hp16
    have he16 : r16 = bI (isH T (p0 + 1) (48 + le) 57) := he16
    subst he16
    refine lv_if_eq (tgt := 38) hx hb dX2_readsNumber_19 (by decide) (fun c19 => ?_) (fun c19 => ?_)
    · skip
      have c19 := bI_f c19
      have er := rdN_1 (le := le) (mo := mo) c6 c19
      refine lv_iconst (v := nI 0) hx hb dX2_readsNumber_38 rfl ?_
      refine r_as (z := bI false) rfl ?_
      exact ret (bI false) (nI (p0 + 1), nu) dX2_readsNumber_39 (⟨(by rw [er]), (by first | (rw [er]; done) | (rw [er]; show nI (tkP T p0 32) = nI p0; unfold tkP; rw [if_neg (by rw [c6]; decide)])), (fun h => by rw [er] at h; cases h)⟩) Z (Nat.le_of_ble_eq_true rfl) (Nat.le_of_ble_eq_true rfl)
    · skip
      have c19 := bI_t c19
      have e19 := isH_t c19
      refine lv_aload_n hx hb dX2_readsNumber_22 rfl (lv_at hl 0 rfl) ?_
      refine r_get (v := .ref (a 8)) hx hb hts in_X2 hown hG Z.w 0 rfl rfl 10 (by decide) q948 (fun _ h9 => h9) rfl dX2_readsNumber_23 ?_
      refine lv_aload_n hx hb dX2_readsNumber_26 rfl (lv_at hl 0 rfl) ?_
      refine r_get (v := .int (nI (p0 + 1))) hx hb hts in_X2 hown hG Z.w 0 rfl rfl 12 (by decide) q950 (fun _ h9 => h9) rfl dX2_readsNumber_27 ?_
      refine r_iald hx hb hG Z.w 9 rfl (j := p0 + 1) (by omega) (by decide) (v := nI (tC T (p0 + 1))) (htt _ e19.1) dX2_readsNumber_30 ?_
      refine lv_bipush (v := nI 48) hx hb dX2_readsNumber_31 rfl ?_
      refine lv_isub hx hb dX2_readsNumber_33 ?_
      refine r_as (z := nI ((tC T (p0 + 1)) - 48)) (pk_sub (by omega)) ?_
      refine lv_iload_n hx hb dX2_readsNumber_34 rfl (lv_at hl 2 rfl) ?_
      refine lv_icmp_le (tgt := 40) hx hb dX2_readsNumber_35 (by decide) (fun c35 => ?_) (fun c35 => ?_)
      · skip
        have c35 := n_le_t (a := (tC T (p0 + 1)) - 48) (b := mo) c35 (by omega) (by omega)
        refine lv_aload_n hx hb dX2_readsNumber_40 rfl (lv_at hl 0 rfl) ?_
        refine lv_aload_n hx hb dX2_readsNumber_41 rfl (lv_at hl 0 rfl) ?_
        refine r_get (v := .ref (a 8)) hx hb hts in_X2 hown hG Z.w 0 rfl rfl 10 (by decide) q948 (fun _ h9 => h9) rfl dX2_readsNumber_42 ?_
        refine lv_aload_n hx hb dX2_readsNumber_45 rfl (lv_at hl 0 rfl) ?_
        refine r_get (v := .int (nI (p0 + 1))) hx hb hts in_X2 hown hG Z.w 0 rfl rfl 12 (by decide) q950 (fun _ h9 => h9) rfl dX2_readsNumber_46 ?_
        refine r_iald hx hb hG Z.w 9 rfl (j := p0 + 1) (by omega) (by decide) (v := nI (tC T (p0 + 1))) (htt _ e19.1) dX2_readsNumber_49 ?_
        refine lv_bipush (v := nI 48) hx hb dX2_readsNumber_50 rfl ?_
        refine lv_isub hx hb dX2_readsNumber_52 ?_
        refine r_as (z := nI ((tC T (p0 + 1)) - 48)) (pk_sub (by omega)) ?_
        refine r_put (ty := .int) hx hb hts in_X2 tyX2 tyX2_ok nmX2 hown hG Z 0 rfl rfl 15 (by decide) q953 (fun _ h9 => h9) rfl (by decide +kernel) rfl rfl (Nat.le_of_ble_eq_true rfl) (wc' := mW G q a wd all kept hist hlo snap tk bits reg exa text tl (nI (p0 + 1)) read rm (nI ((tC T (p0 + 1)) - 48)) deep src) rfl dX2_readsNumber_53 (fun H locs Z => ?_)
        refine lv_aload_n hx hb dX2_readsNumber_56 rfl (lv_at hl 0 rfl) ?_
        refine lv_dup hx hb dX2_readsNumber_57 rfl ?_
        refine r_get (v := .int (nI (p0 + 1))) hx hb hts in_X2 hown hG Z.w 0 rfl rfl 12 (by decide) q950 (fun _ h9 => h9) rfl dX2_readsNumber_58 ?_
        refine lv_iconst (v := nI 1) hx hb dX2_readsNumber_61 rfl ?_
        refine lv_iadd hx hb dX2_readsNumber_62 ?_
        refine r_as (z := nI (p0 + 1 + 1)) (nI_add _ _) ?_
        refine r_put (ty := .int) hx hb hts in_X2 tyX2 tyX2_ok nmX2 hown hG Z 0 rfl rfl 12 (by decide) q950 (fun _ h9 => h9) rfl (by decide +kernel) rfl rfl (Nat.le_of_ble_eq_true rfl) (wc' := mW G q a wd all kept hist hlo snap tk bits reg exa text tl (nI (p0 + 1 + 1)) read rm (nI ((tC T (p0 + 1)) - 48)) deep src) rfl dX2_readsNumber_63 (fun H locs Z => ?_)
        have L66 : ∀ (k_ : Nat) (v : Nat) (pp : Nat) (g1 : pp ≤ T.length) (g2 : v ≤ mo) (g3 : dgP T mo v pp = dgP T mo (tC T (p0 + 1) - 48) (p0 + 2)) (hk_ : T.length - pp < k_) (H : Heap) (locs : List Loc), nW G A (mW G q a wd all kept hist hlo snap tk bits reg exa text tl (nI pp) read rm (nI v) deep src) ([]) ([]) s.heap H locs → ∀ (ls : Array Slot), lv_has ls 3 [(0, .ref q), (1, .int (nI le)), (2, .int (nI mo))] → W p l e (nRm 3 0 0 69) s m args below meth c H locs 0 0 Q (F0 m 66 ls []) := by
          intro k_
          induction k_ with
          | zero => intro v pp g1 g2 g3 hk_; exact absurd hk_ (Nat.not_lt_zero _)
          | succ k_ ih_L66 =>
            intro v pp g1 g2 g3 hk_ H locs Z ls hl
            refine lv_aload_n hx hb dX2_readsNumber_66 rfl (lv_at hl 0 rfl) ?_
            refine r_get (v := .int (nI v)) hx hb hts in_X2 hown hG Z.w 0 rfl rfl 15 (by decide) q953 (fun _ h9 => h9) rfl dX2_readsNumber_67 ?_
            refine lv_if_le (tgt := 145) hx hb dX2_readsNumber_70 (by decide) (fun c70 => ?_) (fun c70 => ?_)
            · skip
              have c70 := n_le_t (a := v) (b := 0) c70 (by omega) (by decide)
              have er : rdN T p0 le mo = (true, v, pp) := by rw [rdN_go c6 c19, ← g3, dgP_end (fun h => by first | omega | (rw [h.2.1] at c81; cases c81))]
              refine lv_iconst (v := nI 1) hx hb dX2_readsNumber_145 rfl ?_
              refine r_as (z := bI true) rfl ?_
              exact ret (bI true) (nI pp, nI v) dX2_readsNumber_146 (⟨(by rw [er]), (by rw [er]), (fun _ => by rw [er])⟩) Z (Nat.le_of_ble_eq_true rfl) (Nat.le_of_ble_eq_true rfl)
            · skip
              have c70 := n_le_f (a := v) (b := 0) c70 (by omega) (by decide)
              refine lv_aload_n hx hb dX2_readsNumber_73 rfl (lv_at hl 0 rfl) ?_
              refine lv_bipush (v := nI 48) hx hb dX2_readsNumber_74 rfl ?_
              refine lv_bipush (v := nI 57) hx hb dX2_readsNumber_76 rfl ?_
              refine ns_i (k := 3) (nr_V (As := [.int (nI 48), .int (nI 57)]) (rest := []) hx hb hml hown hts (M_isHere l G q a wd all kept hist hlo snap tk bits reg exa text tl (nI pp) read rm (nI v) deep src T pp 48 57 (by first | assumption | omega | rfl) (by first | assumption | omega | rfl) (by first | assumption | omega | rfl) (by first | assumption | omega | rfl) (by first | assumption | omega | rfl)) nPs.blind 2 q1106 q1108 qs29 q53 q1109 (by decide +kernel) ⟨⟨Nat.le_of_ble_eq_true rfl, Nat.le_of_ble_eq_true rfl⟩, Nat.le_of_ble_eq_true rfl, Nat.le_of_ble_eq_true rfl⟩ (r_recv hG Z.w 0 (C := "ShareStreamsModel") rfl rfl rfl) (nPs_of hG Z Z.w) rfl hl.1 rfl (Nat.le_of_ble_eq_true rfl) dX2_readsNumber_78) (fun r78 hp78 => ?_)
              have he78 := hp78
              have he78 : r78 = bI (isH T pp 48 57) := he78
              subst he78
              refine lv_if_eq (tgt := 145) hx hb dX2_readsNumber_81 (by decide) (fun c81 => ?_) (fun c81 => ?_)
              · skip
                have c81 := bI_f c81
                have er : rdN T p0 le mo = (true, v, pp) := by rw [rdN_go c6 c19, ← g3, dgP_end (fun h => by first | omega | (rw [h.2.1] at c81; cases c81))]
                refine lv_iconst (v := nI 1) hx hb dX2_readsNumber_145 rfl ?_
                refine r_as (z := bI true) rfl ?_
                exact ret (bI true) (nI pp, nI v) dX2_readsNumber_146 (⟨(by rw [er]), (by rw [er]), (fun _ => by rw [er])⟩) Z (Nat.le_of_ble_eq_true rfl) (Nat.le_of_ble_eq_true rfl)
              · skip
                have c81 := bI_t c81
                have e81 := isH_t c81
                refine lv_bipush (v := nI 10) hx hb dX2_readsNumber_84 rfl ?_
                refine lv_aload_n hx hb dX2_readsNumber_86 rfl (lv_at hl 0 rfl) ?_
                refine r_get (v := .int (nI v)) hx hb hts in_X2 hown hG Z.w 0 rfl rfl 15 (by decide) q953 (fun _ h9 => h9) rfl dX2_readsNumber_87 ?_
                refine lv_imul hx hb dX2_readsNumber_90 ?_
                refine r_as (z := nI (10 * v)) (pk_mul _ _) ?_
                refine lv_aload_n hx hb dX2_readsNumber_91 rfl (lv_at hl 0 rfl) ?_
                refine r_get (v := .ref (a 8)) hx hb hts in_X2 hown hG Z.w 0 rfl rfl 10 (by decide) q948 (fun _ h9 => h9) rfl dX2_readsNumber_92 ?_
                refine lv_aload_n hx hb dX2_readsNumber_95 rfl (lv_at hl 0 rfl) ?_
                refine r_get (v := .int (nI pp)) hx hb hts in_X2 hown hG Z.w 0 rfl rfl 12 (by decide) q950 (fun _ h9 => h9) rfl dX2_readsNumber_96 ?_
                refine r_iald hx hb hG Z.w 9 rfl (j := pp) (by omega) (by decide) (v := nI (tC T pp)) (htt _ e81.1) dX2_readsNumber_99 ?_
                refine lv_iadd hx hb dX2_readsNumber_100 ?_
                refine r_as (z := nI (10 * v + (tC T pp))) (nI_add _ _) ?_
                refine lv_bipush (v := nI 48) hx hb dX2_readsNumber_101 rfl ?_
                refine lv_isub hx hb dX2_readsNumber_103 ?_
                refine r_as (z := nI ((10 * v + (tC T pp)) - 48)) (pk_sub (by omega)) ?_
                refine lv_iload_n hx hb dX2_readsNumber_104 rfl (lv_at hl 2 rfl) ?_
                refine lv_icmp_gt (tgt := 145) hx hb dX2_readsNumber_105 (by decide) (fun c105 => ?_) (fun c105 => ?_)
                · skip
                  have c105 := n_lt_t (a := mo) (b := (10 * v + (tC T pp)) - 48) c105 (by omega) (by omega)
                  have er : rdN T p0 le mo = (true, v, pp) := by rw [rdN_go c6 c19, ← g3, dgP_end (fun h => by first | omega | (rw [h.2.1] at c81; cases c81))]
                  refine lv_iconst (v := nI 1) hx hb dX2_readsNumber_145 rfl ?_
                  refine r_as (z := bI true) rfl ?_
                  exact ret (bI true) (nI pp, nI v) dX2_readsNumber_146 (⟨(by rw [er]), (by rw [er]), (fun _ => by rw [er])⟩) Z (Nat.le_of_ble_eq_true rfl) (Nat.le_of_ble_eq_true rfl)
                · skip
                  have c105 := n_lt_f (a := mo) (b := (10 * v + (tC T pp)) - 48) c105 (by omega) (by omega)
                  refine lv_aload_n hx hb dX2_readsNumber_108 rfl (lv_at hl 0 rfl) ?_
                  refine lv_bipush (v := nI 10) hx hb dX2_readsNumber_109 rfl ?_
                  refine lv_aload_n hx hb dX2_readsNumber_111 rfl (lv_at hl 0 rfl) ?_
                  refine r_get (v := .int (nI v)) hx hb hts in_X2 hown hG Z.w 0 rfl rfl 15 (by decide) q953 (fun _ h9 => h9) rfl dX2_readsNumber_112 ?_
                  refine lv_imul hx hb dX2_readsNumber_115 ?_
                  refine r_as (z := nI (10 * v)) (pk_mul _ _) ?_
                  refine lv_aload_n hx hb dX2_readsNumber_116 rfl (lv_at hl 0 rfl) ?_
                  refine r_get (v := .ref (a 8)) hx hb hts in_X2 hown hG Z.w 0 rfl rfl 10 (by decide) q948 (fun _ h9 => h9) rfl dX2_readsNumber_117 ?_
                  refine lv_aload_n hx hb dX2_readsNumber_120 rfl (lv_at hl 0 rfl) ?_
                  refine r_get (v := .int (nI pp)) hx hb hts in_X2 hown hG Z.w 0 rfl rfl 12 (by decide) q950 (fun _ h9 => h9) rfl dX2_readsNumber_121 ?_
                  refine r_iald hx hb hG Z.w 9 rfl (j := pp) (by omega) (by decide) (v := nI (tC T pp)) (htt _ e81.1) dX2_readsNumber_124 ?_
                  refine lv_iadd hx hb dX2_readsNumber_125 ?_
                  refine r_as (z := nI (10 * v + (tC T pp))) (nI_add _ _) ?_
                  refine lv_bipush (v := nI 48) hx hb dX2_readsNumber_126 rfl ?_
                  refine lv_isub hx hb dX2_readsNumber_128 ?_
                  refine r_as (z := nI ((10 * v + (tC T pp)) - 48)) (pk_sub (by omega)) ?_
                  refine r_put (ty := .int) hx hb hts in_X2 tyX2 tyX2_ok nmX2 hown hG Z 0 rfl rfl 15 (by decide) q953 (fun _ h9 => h9) rfl (by decide +kernel) rfl rfl (Nat.le_of_ble_eq_true rfl) (wc' := mW G q a wd all kept hist hlo snap tk bits reg exa text tl (nI pp) read rm (nI ((10 * v + (tC T pp)) - 48)) deep src) rfl dX2_readsNumber_129 (fun H locs Z => ?_)
                  refine lv_aload_n hx hb dX2_readsNumber_132 rfl (lv_at hl 0 rfl) ?_
                  refine lv_dup hx hb dX2_readsNumber_133 rfl ?_
                  refine r_get (v := .int (nI pp)) hx hb hts in_X2 hown hG Z.w 0 rfl rfl 12 (by decide) q950 (fun _ h9 => h9) rfl dX2_readsNumber_134 ?_
                  refine lv_iconst (v := nI 1) hx hb dX2_readsNumber_137 rfl ?_
                  refine lv_iadd hx hb dX2_readsNumber_138 ?_
                  refine r_as (z := nI (pp + 1)) (nI_add _ _) ?_
                  refine r_put (ty := .int) hx hb hts in_X2 tyX2 tyX2_ok nmX2 hown hG Z 0 rfl rfl 12 (by decide) q950 (fun _ h9 => h9) rfl (by decide +kernel) rfl rfl (Nat.le_of_ble_eq_true rfl) (wc' := mW G q a wd all kept hist hlo snap tk bits reg exa text tl (nI (pp + 1)) read rm (nI ((10 * v + (tC T pp)) - 48)) deep src) rfl dX2_readsNumber_139 (fun H locs Z => ?_)
                  refine lv_goto (tgt := 66) hx hb dX2_readsNumber_142 (by decide) ?_
                  exact ih_L66 ((10 * v + (tC T pp)) - 48) (pp + 1) (by omega) (by omega) (by first | rfl | (rw [← g3, dgP_go (by omega) c81 (by omega)])) (by omega) _ _ Z _ (lv_sub hl [0, 1, 2] rfl)
        exact L66 _ ((tC T (p0 + 1)) - 48) (p0 + 1 + 1) (by omega) (by omega) (by first | rfl | (rw [← g3, dgP_go (by omega) c81 (by omega)])) (Nat.lt_succ_self _) _ _ Z _ (lv_sub hl [0, 1, 2] rfl)
      · skip
        have c35 := n_le_f (a := (tC T (p0 + 1)) - 48) (b := mo) c35 (by omega) (by omega)
        exfalso; omega
set_option maxHeartbeats 4000000 in
set_option maxRecDepth 100000 in
theorem M_readsPart (l : Launch) (G : nG) (q : Nat) (a : Nat → Nat) (wd : Nat → Int64) (all : Nat → Int32) (kept : Nat → Int32) (hist : Nat → Int32) (hlo : Int32) (snap : Nat → Int32) (tk : Int32) (bits : Nat → Int32) (reg : Nat → Int32) (exa : Nat → Int32) (text : Nat → Int32) (tl : Int32) (sp : Int32) (read : Nat → Int32) (rm : Int32) (nu : Int32) (deep : Nat → Int32) (src : Nat → Int32) (T : List Nat) (p0 : Nat) (k : Nat) (pl : Nat) (rq : Nat) (htx : txR T text tl) (esp : sp = nI p0) (hp0 : p0 ≤ T.length) (hk : k < 7) (hpl : 1 ≤ pl ∧ pl ≤ 3) (erm : rm = nI rq) (hr : rq ≤ 16) : nMi (S := Int32 × Int32) l yX2_readsPart cX2_readsPart 6 (.boolean) 4 0 0 91 G [.ref q, .int (nI k), .int (nI pl)] (mW G q a wd all kept hist hlo snap tk bits reg exa text tl sp read rm nu deep src) ([]) (fun (u : Int32 × Int32) => mW G q a wd all kept hist hlo snap tk bits reg exa text tl u.1 (upd read (4 * rq + pl) u.2) rm u.2 deep src) (fun (r : Int32) (u : Int32 × Int32) => r = (bI ((rdN T p0 (bLo k pl) (bHi k pl)).1)) ∧ u.1 = nI ((rdN T p0 (bLo k pl) (bHi k pl)).2.2) ∧ ((rdN T p0 (bLo k pl) (bHi k pl)).1 = true → u.2 = nI (rdN T p0 (bLo k pl) (bHi k pl)).2.1)) := by
  refine nMi.of (own := "ShareStreamsModel") rfl (by decide +kernel) (Nat.le_of_ble_eq_true rfl) (fun r u h => by rw [h.1]; exact bI_n _) ?_
  intro p e s m args below meth c A Q ls hx hb hml hown hts hin hG Z hl ret
  have hl : lv_has ls 6 [(0, .ref q), (1, .int (nI k)), (2, .int (nI pl))] := hl
  have Z : nW G A (mW G q a wd all kept hist hlo snap tk bits reg exa text tl sp read rm nu deep src) ([]) ([]) s.heap _ _ := Z
  obtain ⟨et, hL, hc, htt⟩ := htx
  have htx : txR T text tl := ⟨et, hL, hc, htt⟩
  have h9 := bHi_9 k pl
  refine lv_iload_n hx hb dX2_readsPart_0 rfl (lv_at hl 1 rfl) ?_
  refine lv_bipush (v := nI 6) hx hb dX2_readsPart_1 rfl ?_
  refine lv_icmp_ne (tgt := 15) hx hb dX2_readsPart_3 (by decide) (fun c3 => ?_) (fun c3 => ?_)
  · skip
    have c3 := n_eq_f (a := k) (b := 6) c3
    refine lv_iconst (v := nI 0) hx hb dX2_readsPart_15 rfl ?_
    refine lv_istore_n (lv' := [(3, .int (nI 0)), (0, .ref q), (1, .int (nI k)), (2, .int (nI pl))]) hx hb dX2_readsPart_16 rfl hl (by decide) rfl (fun ls hl => ?_)
    refine lv_iload_n hx hb dX2_readsPart_17 rfl (lv_at hl 2 rfl) ?_
    refine lv_if_ne (tgt := 30) hx hb dX2_readsPart_18 (by decide) (fun c18 => ?_) (fun c18 => ?_)
    · skip
      have c18 := n_eq_f (a := k) (b := 0) c18
      refine lv_iconst (v := nI 0) hx hb dX2_readsPart_30 rfl ?_
      refine lv_istore (lv' := [(4, .int (nI 0)), (3, .int (nI 0)), (0, .ref q), (1, .int (nI k)), (2, .int (nI pl))]) hx hb dX2_readsPart_31 hl (by decide) rfl (fun ls hl => ?_)
      refine lv_aload_n hx hb dX2_readsPart_33 rfl (lv_at hl 2 rfl) ?_
      refine lv_iload_n hx hb dX2_readsPart_34 rfl (lv_at hl 1 rfl) ?_
      refine lv_if_ne (tgt := 43) hx hb dX2_readsPart_35 (by decide) (fun c35 => ?_) (fun c35 => ?_)
      · skip
        exact absurd c35 (by decide)
      · skip
        have c35 := n_eq_t (a := 0) (b := 0) c35 (by decide) (by decide)
        refine lv_iload hx hb dX2_readsPart_38 (lv_at hl 0 rfl) ?_
        refine lv_if_eq (tgt := 47) hx hb dX2_readsPart_40 (by decide) (fun c40 => ?_) (fun c40 => ?_)
        · skip
          have c40 := n_eq_t (a := 0) (b := 0) c40 (by decide) (by decide)
          refine lv_iconst (v := nI 0) hx hb dX2_readsPart_47 rfl ?_
          refine r_as (z := nI (bLo k pl)) (by unfold bLo; first | (rw [if_pos ⟨by omega, by omega⟩]; done) | (rw [if_neg (by omega), if_pos ⟨by omega, by omega⟩]; done) | (rw [if_neg (by omega), if_neg (by omega)]; done)) ?_
          refine lv_iload_n hx hb dX2_readsPart_48 rfl (lv_at hl 1 rfl) ?_
          refine lv_if_eq (tgt := 57) hx hb dX2_readsPart_49 (by decide) (fun c49 => ?_) (fun c49 => ?_)
          · skip
            have c49 := n_eq_t (a := 0) (b := 0) c49 (by decide) (by decide)
            refine lv_iload hx hb dX2_readsPart_57 (lv_at hl 0 rfl) ?_
            refine lv_if_eq (tgt := 68) hx hb dX2_readsPart_59 (by decide) (fun c59 => ?_) (fun c59 => ?_)
            · skip
              have c59 := n_eq_t (a := 0) (b := 0) c59 (by decide) (by decide)
              refine lv_iload_n hx hb dX2_readsPart_68 rfl (lv_at hl 3 rfl) ?_
              refine lv_if_ne (tgt := 78) hx hb dX2_readsPart_69 (by decide) (fun c69 => ?_) (fun c69 => ?_)
              · skip
                have c69 := n_eq_f (a := k) (b := 0) c69
                refine lv_bipush (v := nI 15) hx hb dX2_readsPart_78 rfl ?_
                refine r_as (z := nI (bHi k pl)) (by unfold bHi; first | (rw [if_pos ⟨by omega, by omega⟩]; done) | (rw [if_neg (by omega), if_pos ⟨by omega, by omega⟩]; done) | (rw [if_neg (by omega), if_neg (by omega), if_pos (by omega)]; done) | (rw [if_neg (by omega), if_neg (by omega), if_neg (by omega)]; done)) ?_
                refine nc_i (k := 3) (wcc := mW G q a wd all kept hist hlo snap tk bits reg exa text tl sp read rm nu deep src) (wr := []) (nr_V (As := [.int (nI (bLo k pl)), .int (nI (bHi k pl))]) (rest := []) hx hb hml hown hts ((M_readsNumber l G q a wd all kept hist hlo snap tk bits reg exa text tl sp read rm nu deep src T p0 (bLo k pl) (bHi k pl) (by first | assumption | omega | rfl) (by first | assumption | omega | rfl) (by first | assumption | omega | rfl) (by omega) (by omega)) _) nP.blind 2 q1098 q1100 qs27 q53 q1101 (by decide +kernel) ⟨⟨Nat.le_of_ble_eq_true rfl, Nat.le_of_ble_eq_true rfl⟩, Nat.le_of_ble_eq_true rfl, Nat.le_of_ble_eq_true rfl⟩ (r_recv hG Z.w 0 (C := "ShareStreamsModel") rfl rfl rfl) (nP_of hG Z [0, 1, 2, 3, 4, 5, 6, 7, 8, 9, 10, 11, 12] rfl (by decide) (fun k q h => by simp at h) nAp.nil) rfl hl.1 rfl (Nat.le_of_ble_eq_true rfl) dX2_readsPart_80) Z [0, 1, 2, 3, 4, 5, 6, 7, 8, 9, 10, 11, 12] [] rfl rfl (by decide) (by decide) (fun r80 u H locs hp80 Z => ?_)
                obtain ⟨sp1_80, nu1_80⟩ := u
                obtain ⟨he80, hp80⟩ := hp80
                have he80 : r80 = bI ((rdN T p0 (bLo k pl) (bHi k pl)).1) := he80
                subst he80
                obtain ⟨hq80, hp80⟩ := hp80
                have hq80 : sp1_80 = nI ((rdN T p0 (bLo k pl) (bHi k pl)).2.2) := hq80
                subst hq80
                have hp80 : (rdN T p0 (bLo k pl) (bHi k pl)).1 = true → nu1_80 = nI (rdN T p0 (bLo k pl) (bHi k pl)).2.1 := hp80
                have Z : nW G A (mW G q a wd all kept hist hlo snap tk bits reg exa text tl (nI ((rdN T p0 (bLo k pl) (bHi k pl)).2.2)) read rm nu1_80 deep src) ([]) ([]) s.heap _ _ := Z
                refine lv_istore (lv' := [(5, .int (bI ((rdN T p0 (bLo k pl) (bHi k pl)).1))), (4, .int (nI 0)), (3, .int (nI 0)), (0, .ref q), (1, .int (nI k)), (2, .int (nI pl))]) hx hb dX2_readsPart_83 hl (by decide) rfl (fun ls hl => ?_)
                refine lv_aload_n hx hb dX2_readsPart_85 rfl (lv_at hl 3 rfl) ?_
                refine r_get (v := .ref (a 9)) hx hb hts in_X2 hown hG Z.w 0 rfl rfl 13 (by decide) q951 (fun _ h9 => h9) rfl dX2_readsPart_86 ?_
                refine lv_iconst (v := nI 4) hx hb dX2_readsPart_89 rfl ?_
                refine lv_aload_n hx hb dX2_readsPart_90 rfl (lv_at hl 3 rfl) ?_
                refine r_get (v := .int rm) hx hb hts in_X2 hown hG Z.w 0 rfl rfl 14 (by decide) q952 (fun _ h9 => h9) rfl dX2_readsPart_91 ?_
                refine r_as (z := nI rq) erm ?_
                refine lv_imul hx hb dX2_readsPart_94 ?_
                refine r_as (z := nI (4 * rq)) (pk_mul _ _) ?_
                refine lv_iload_n hx hb dX2_readsPart_95 rfl (lv_at hl 5 rfl) ?_
                refine lv_iadd hx hb dX2_readsPart_96 ?_
                refine r_as (z := nI (4 * rq + pl)) (nI_add _ _) ?_
                refine lv_aload_n hx hb dX2_readsPart_97 rfl (lv_at hl 3 rfl) ?_
                refine r_get (v := .int nu1_80) hx hb hts in_X2 hown hG Z.w 0 rfl rfl 15 (by decide) q953 (fun _ h9 => h9) rfl dX2_readsPart_98 ?_
                refine r_iast hx hb hG Z 10 rfl (j := 4 * rq + pl) (by omega) (by decide) (wc' := mW G q a wd all kept hist hlo snap tk bits reg exa text tl (nI ((rdN T p0 (bLo k pl) (bHi k pl)).2.2)) (upd read (4 * rq + pl) nu1_80) rm nu1_80 deep src) rfl dX2_readsPart_101 (fun H locs Z => ?_)
                refine lv_iload hx hb dX2_readsPart_102 (lv_at hl 0 rfl) ?_
                exact ret (bI ((rdN T p0 (bLo k pl) (bHi k pl)).1)) (nI ((rdN T p0 (bLo k pl) (bHi k pl)).2.2), nu1_80) dX2_readsPart_104 (⟨rfl, rfl, hp80⟩) Z (Nat.le_of_ble_eq_true rfl) (Nat.le_of_ble_eq_true rfl)
              · skip
                have c69 := n_eq_t (a := k) (b := 0) c69 (by omega) (by decide)
                exfalso; omega
            · skip
              exact absurd c59 (by decide)
          · skip
            exact absurd c49 (by decide)
        · skip
          exact absurd c40 (by decide)
    · skip
      have c18 := n_eq_t (a := k) (b := 0) c18 (by omega) (by decide)
      refine lv_iload_n hx hb dX2_readsPart_21 rfl (lv_at hl 3 rfl) ?_
      refine lv_iconst (v := nI 2) hx hb dX2_readsPart_22 rfl ?_
      refine lv_icmp_ne (tgt := 30) hx hb dX2_readsPart_23 (by decide) (fun c23 => ?_) (fun c23 => ?_)
      · skip
        have c23 := n_eq_f (a := pl) (b := 2) c23
        refine lv_iconst (v := nI 0) hx hb dX2_readsPart_30 rfl ?_
        refine lv_istore (lv' := [(4, .int (nI 0)), (3, .int (nI 0)), (0, .ref q), (1, .int (nI k)), (2, .int (nI pl))]) hx hb dX2_readsPart_31 hl (by decide) rfl (fun ls hl => ?_)
        refine lv_aload_n hx hb dX2_readsPart_33 rfl (lv_at hl 2 rfl) ?_
        refine lv_iload_n hx hb dX2_readsPart_34 rfl (lv_at hl 1 rfl) ?_
        refine lv_if_ne (tgt := 43) hx hb dX2_readsPart_35 (by decide) (fun c35 => ?_) (fun c35 => ?_)
        · skip
          exact absurd c35 (by decide)
        · skip
          have c35 := n_eq_t (a := 0) (b := 0) c35 (by decide) (by decide)
          refine lv_iload hx hb dX2_readsPart_38 (lv_at hl 0 rfl) ?_
          refine lv_if_eq (tgt := 47) hx hb dX2_readsPart_40 (by decide) (fun c40 => ?_) (fun c40 => ?_)
          · skip
            have c40 := n_eq_t (a := 0) (b := 0) c40 (by decide) (by decide)
            refine lv_iconst (v := nI 0) hx hb dX2_readsPart_47 rfl ?_
            refine r_as (z := nI (bLo k pl)) (by unfold bLo; first | (rw [if_pos ⟨by omega, by omega⟩]; done) | (rw [if_neg (by omega), if_pos ⟨by omega, by omega⟩]; done) | (rw [if_neg (by omega), if_neg (by omega)]; done)) ?_
            refine lv_iload_n hx hb dX2_readsPart_48 rfl (lv_at hl 1 rfl) ?_
            refine lv_if_eq (tgt := 57) hx hb dX2_readsPart_49 (by decide) (fun c49 => ?_) (fun c49 => ?_)
            · skip
              have c49 := n_eq_t (a := 0) (b := 0) c49 (by decide) (by decide)
              refine lv_iload hx hb dX2_readsPart_57 (lv_at hl 0 rfl) ?_
              refine lv_if_eq (tgt := 68) hx hb dX2_readsPart_59 (by decide) (fun c59 => ?_) (fun c59 => ?_)
              · skip
                have c59 := n_eq_t (a := 0) (b := 0) c59 (by decide) (by decide)
                refine lv_iload_n hx hb dX2_readsPart_68 rfl (lv_at hl 3 rfl) ?_
                refine lv_if_ne (tgt := 78) hx hb dX2_readsPart_69 (by decide) (fun c69 => ?_) (fun c69 => ?_)
                · skip
                  have c69 := n_eq_f (a := k) (b := 0) c69
                  exfalso; omega
                · skip
                  have c69 := n_eq_t (a := k) (b := 0) c69 (by omega) (by decide)
                  refine lv_sipush (v := nI 256) hx hb dX2_readsPart_72 rfl ?_
                  refine r_as (z := nI (bHi k pl)) (by unfold bHi; first | (rw [if_pos ⟨by omega, by omega⟩]; done) | (rw [if_neg (by omega), if_pos ⟨by omega, by omega⟩]; done) | (rw [if_neg (by omega), if_neg (by omega), if_pos (by omega)]; done) | (rw [if_neg (by omega), if_neg (by omega), if_neg (by omega)]; done)) ?_
                  refine lv_goto (tgt := 80) hx hb dX2_readsPart_75 (by decide) ?_
                  refine nc_i (k := 3) (wcc := mW G q a wd all kept hist hlo snap tk bits reg exa text tl sp read rm nu deep src) (wr := []) (nr_V (As := [.int (nI (bLo k pl)), .int (nI (bHi k pl))]) (rest := []) hx hb hml hown hts ((M_readsNumber l G q a wd all kept hist hlo snap tk bits reg exa text tl sp read rm nu deep src T p0 (bLo k pl) (bHi k pl) (by first | assumption | omega | rfl) (by first | assumption | omega | rfl) (by first | assumption | omega | rfl) (by omega) (by omega)) _) nP.blind 2 q1098 q1100 qs27 q53 q1101 (by decide +kernel) ⟨⟨Nat.le_of_ble_eq_true rfl, Nat.le_of_ble_eq_true rfl⟩, Nat.le_of_ble_eq_true rfl, Nat.le_of_ble_eq_true rfl⟩ (r_recv hG Z.w 0 (C := "ShareStreamsModel") rfl rfl rfl) (nP_of hG Z [0, 1, 2, 3, 4, 5, 6, 7, 8, 9, 10, 11, 12] rfl (by decide) (fun k q h => by simp at h) nAp.nil) rfl hl.1 rfl (Nat.le_of_ble_eq_true rfl) dX2_readsPart_80) Z [0, 1, 2, 3, 4, 5, 6, 7, 8, 9, 10, 11, 12] [] rfl rfl (by decide) (by decide) (fun r80 u H locs hp80 Z => ?_)
                  obtain ⟨sp1_80, nu1_80⟩ := u
                  obtain ⟨he80, hp80⟩ := hp80
                  have he80 : r80 = bI ((rdN T p0 (bLo k pl) (bHi k pl)).1) := he80
                  subst he80
                  obtain ⟨hq80, hp80⟩ := hp80
                  have hq80 : sp1_80 = nI ((rdN T p0 (bLo k pl) (bHi k pl)).2.2) := hq80
                  subst hq80
                  have hp80 : (rdN T p0 (bLo k pl) (bHi k pl)).1 = true → nu1_80 = nI (rdN T p0 (bLo k pl) (bHi k pl)).2.1 := hp80
                  have Z : nW G A (mW G q a wd all kept hist hlo snap tk bits reg exa text tl (nI ((rdN T p0 (bLo k pl) (bHi k pl)).2.2)) read rm nu1_80 deep src) ([]) ([]) s.heap _ _ := Z
                  refine lv_istore (lv' := [(5, .int (bI ((rdN T p0 (bLo k pl) (bHi k pl)).1))), (4, .int (nI 0)), (3, .int (nI 0)), (0, .ref q), (1, .int (nI k)), (2, .int (nI pl))]) hx hb dX2_readsPart_83 hl (by decide) rfl (fun ls hl => ?_)
                  refine lv_aload_n hx hb dX2_readsPart_85 rfl (lv_at hl 3 rfl) ?_
                  refine r_get (v := .ref (a 9)) hx hb hts in_X2 hown hG Z.w 0 rfl rfl 13 (by decide) q951 (fun _ h9 => h9) rfl dX2_readsPart_86 ?_
                  refine lv_iconst (v := nI 4) hx hb dX2_readsPart_89 rfl ?_
                  refine lv_aload_n hx hb dX2_readsPart_90 rfl (lv_at hl 3 rfl) ?_
                  refine r_get (v := .int rm) hx hb hts in_X2 hown hG Z.w 0 rfl rfl 14 (by decide) q952 (fun _ h9 => h9) rfl dX2_readsPart_91 ?_
                  refine r_as (z := nI rq) erm ?_
                  refine lv_imul hx hb dX2_readsPart_94 ?_
                  refine r_as (z := nI (4 * rq)) (pk_mul _ _) ?_
                  refine lv_iload_n hx hb dX2_readsPart_95 rfl (lv_at hl 5 rfl) ?_
                  refine lv_iadd hx hb dX2_readsPart_96 ?_
                  refine r_as (z := nI (4 * rq + pl)) (nI_add _ _) ?_
                  refine lv_aload_n hx hb dX2_readsPart_97 rfl (lv_at hl 3 rfl) ?_
                  refine r_get (v := .int nu1_80) hx hb hts in_X2 hown hG Z.w 0 rfl rfl 15 (by decide) q953 (fun _ h9 => h9) rfl dX2_readsPart_98 ?_
                  refine r_iast hx hb hG Z 10 rfl (j := 4 * rq + pl) (by omega) (by decide) (wc' := mW G q a wd all kept hist hlo snap tk bits reg exa text tl (nI ((rdN T p0 (bLo k pl) (bHi k pl)).2.2)) (upd read (4 * rq + pl) nu1_80) rm nu1_80 deep src) rfl dX2_readsPart_101 (fun H locs Z => ?_)
                  refine lv_iload hx hb dX2_readsPart_102 (lv_at hl 0 rfl) ?_
                  exact ret (bI ((rdN T p0 (bLo k pl) (bHi k pl)).1)) (nI ((rdN T p0 (bLo k pl) (bHi k pl)).2.2), nu1_80) dX2_readsPart_104 (⟨rfl, rfl, hp80⟩) Z (Nat.le_of_ble_eq_true rfl) (Nat.le_of_ble_eq_true rfl)
              · skip
                exact absurd c59 (by decide)
            · skip
              exact absurd c49 (by decide)
          · skip
            exact absurd c40 (by decide)
      · skip
        have c23 := n_eq_t (a := pl) (b := 2) c23 (by omega) (by decide)
        refine lv_iconst (v := nI 1) hx hb dX2_readsPart_26 rfl ?_
        refine lv_goto (tgt := 31) hx hb dX2_readsPart_27 (by decide) ?_
        refine lv_istore (lv' := [(4, .int (nI 1)), (3, .int (nI 0)), (0, .ref q), (1, .int (nI k)), (2, .int (nI pl))]) hx hb dX2_readsPart_31 hl (by decide) rfl (fun ls hl => ?_)
        refine lv_aload_n hx hb dX2_readsPart_33 rfl (lv_at hl 2 rfl) ?_
        refine lv_iload_n hx hb dX2_readsPart_34 rfl (lv_at hl 1 rfl) ?_
        refine lv_if_ne (tgt := 43) hx hb dX2_readsPart_35 (by decide) (fun c35 => ?_) (fun c35 => ?_)
        · skip
          exact absurd c35 (by decide)
        · skip
          have c35 := n_eq_t (a := 0) (b := 0) c35 (by decide) (by decide)
          refine lv_iload hx hb dX2_readsPart_38 (lv_at hl 0 rfl) ?_
          refine lv_if_eq (tgt := 47) hx hb dX2_readsPart_40 (by decide) (fun c40 => ?_) (fun c40 => ?_)
          · skip
            exact absurd c40 (by decide)
          · skip
            have c40 := n_eq_f (a := 1) (b := 0) c40
            refine lv_iconst (v := nI 1) hx hb dX2_readsPart_43 rfl ?_
            refine r_as (z := nI (bLo k pl)) (by unfold bLo; first | (rw [if_pos ⟨by omega, by omega⟩]; done) | (rw [if_neg (by omega), if_pos ⟨by omega, by omega⟩]; done) | (rw [if_neg (by omega), if_neg (by omega)]; done)) ?_
            refine lv_goto (tgt := 48) hx hb dX2_readsPart_44 (by decide) ?_
            refine lv_iload_n hx hb dX2_readsPart_48 rfl (lv_at hl 1 rfl) ?_
            refine lv_if_eq (tgt := 57) hx hb dX2_readsPart_49 (by decide) (fun c49 => ?_) (fun c49 => ?_)
            · skip
              have c49 := n_eq_t (a := 0) (b := 0) c49 (by decide) (by decide)
              refine lv_iload hx hb dX2_readsPart_57 (lv_at hl 0 rfl) ?_
              refine lv_if_eq (tgt := 68) hx hb dX2_readsPart_59 (by decide) (fun c59 => ?_) (fun c59 => ?_)
              · skip
                exact absurd c59 (by decide)
              · skip
                have c59 := n_eq_f (a := 1) (b := 0) c59
                refine lv_sipush (v := nI 255) hx hb dX2_readsPart_62 rfl ?_
                refine r_as (z := nI (bHi k pl)) (by unfold bHi; first | (rw [if_pos ⟨by omega, by omega⟩]; done) | (rw [if_neg (by omega), if_pos ⟨by omega, by omega⟩]; done) | (rw [if_neg (by omega), if_neg (by omega), if_pos (by omega)]; done) | (rw [if_neg (by omega), if_neg (by omega), if_neg (by omega)]; done)) ?_
                refine lv_goto (tgt := 80) hx hb dX2_readsPart_65 (by decide) ?_
                refine nc_i (k := 3) (wcc := mW G q a wd all kept hist hlo snap tk bits reg exa text tl sp read rm nu deep src) (wr := []) (nr_V (As := [.int (nI (bLo k pl)), .int (nI (bHi k pl))]) (rest := []) hx hb hml hown hts ((M_readsNumber l G q a wd all kept hist hlo snap tk bits reg exa text tl sp read rm nu deep src T p0 (bLo k pl) (bHi k pl) (by first | assumption | omega | rfl) (by first | assumption | omega | rfl) (by first | assumption | omega | rfl) (by omega) (by omega)) _) nP.blind 2 q1098 q1100 qs27 q53 q1101 (by decide +kernel) ⟨⟨Nat.le_of_ble_eq_true rfl, Nat.le_of_ble_eq_true rfl⟩, Nat.le_of_ble_eq_true rfl, Nat.le_of_ble_eq_true rfl⟩ (r_recv hG Z.w 0 (C := "ShareStreamsModel") rfl rfl rfl) (nP_of hG Z [0, 1, 2, 3, 4, 5, 6, 7, 8, 9, 10, 11, 12] rfl (by decide) (fun k q h => by simp at h) nAp.nil) rfl hl.1 rfl (Nat.le_of_ble_eq_true rfl) dX2_readsPart_80) Z [0, 1, 2, 3, 4, 5, 6, 7, 8, 9, 10, 11, 12] [] rfl rfl (by decide) (by decide) (fun r80 u H locs hp80 Z => ?_)
                obtain ⟨sp1_80, nu1_80⟩ := u
                obtain ⟨he80, hp80⟩ := hp80
                have he80 : r80 = bI ((rdN T p0 (bLo k pl) (bHi k pl)).1) := he80
                subst he80
                obtain ⟨hq80, hp80⟩ := hp80
                have hq80 : sp1_80 = nI ((rdN T p0 (bLo k pl) (bHi k pl)).2.2) := hq80
                subst hq80
                have hp80 : (rdN T p0 (bLo k pl) (bHi k pl)).1 = true → nu1_80 = nI (rdN T p0 (bLo k pl) (bHi k pl)).2.1 := hp80
                have Z : nW G A (mW G q a wd all kept hist hlo snap tk bits reg exa text tl (nI ((rdN T p0 (bLo k pl) (bHi k pl)).2.2)) read rm nu1_80 deep src) ([]) ([]) s.heap _ _ := Z
                refine lv_istore (lv' := [(5, .int (bI ((rdN T p0 (bLo k pl) (bHi k pl)).1))), (4, .int (nI 1)), (3, .int (nI 0)), (0, .ref q), (1, .int (nI k)), (2, .int (nI pl))]) hx hb dX2_readsPart_83 hl (by decide) rfl (fun ls hl => ?_)
                refine lv_aload_n hx hb dX2_readsPart_85 rfl (lv_at hl 3 rfl) ?_
                refine r_get (v := .ref (a 9)) hx hb hts in_X2 hown hG Z.w 0 rfl rfl 13 (by decide) q951 (fun _ h9 => h9) rfl dX2_readsPart_86 ?_
                refine lv_iconst (v := nI 4) hx hb dX2_readsPart_89 rfl ?_
                refine lv_aload_n hx hb dX2_readsPart_90 rfl (lv_at hl 3 rfl) ?_
                refine r_get (v := .int rm) hx hb hts in_X2 hown hG Z.w 0 rfl rfl 14 (by decide) q952 (fun _ h9 => h9) rfl dX2_readsPart_91 ?_
                refine r_as (z := nI rq) erm ?_
                refine lv_imul hx hb dX2_readsPart_94 ?_
                refine r_as (z := nI (4 * rq)) (pk_mul _ _) ?_
                refine lv_iload_n hx hb dX2_readsPart_95 rfl (lv_at hl 5 rfl) ?_
                refine lv_iadd hx hb dX2_readsPart_96 ?_
                refine r_as (z := nI (4 * rq + pl)) (nI_add _ _) ?_
                refine lv_aload_n hx hb dX2_readsPart_97 rfl (lv_at hl 3 rfl) ?_
                refine r_get (v := .int nu1_80) hx hb hts in_X2 hown hG Z.w 0 rfl rfl 15 (by decide) q953 (fun _ h9 => h9) rfl dX2_readsPart_98 ?_
                refine r_iast hx hb hG Z 10 rfl (j := 4 * rq + pl) (by omega) (by decide) (wc' := mW G q a wd all kept hist hlo snap tk bits reg exa text tl (nI ((rdN T p0 (bLo k pl) (bHi k pl)).2.2)) (upd read (4 * rq + pl) nu1_80) rm nu1_80 deep src) rfl dX2_readsPart_101 (fun H locs Z => ?_)
                refine lv_iload hx hb dX2_readsPart_102 (lv_at hl 0 rfl) ?_
                exact ret (bI ((rdN T p0 (bLo k pl) (bHi k pl)).1)) (nI ((rdN T p0 (bLo k pl) (bHi k pl)).2.2), nu1_80) dX2_readsPart_104 (⟨rfl, rfl, hp80⟩) Z (Nat.le_of_ble_eq_true rfl) (Nat.le_of_ble_eq_true rfl)
            · skip
              exact absurd c49 (by decide)
  · skip
    have c3 := n_eq_t (a := k) (b := 6) c3 (by omega) (by decide)
    refine lv_iload_n hx hb dX2_readsPart_6 rfl (lv_at hl 2 rfl) ?_
    refine lv_iconst (v := nI 2) hx hb dX2_readsPart_7 rfl ?_
    refine lv_icmp_ne (tgt := 15) hx hb dX2_readsPart_8 (by decide) (fun c8 => ?_) (fun c8 => ?_)
    · skip
      have c8 := n_eq_f (a := pl) (b := 2) c8
      refine lv_iconst (v := nI 0) hx hb dX2_readsPart_15 rfl ?_
      refine lv_istore_n (lv' := [(3, .int (nI 0)), (0, .ref q), (1, .int (nI k)), (2, .int (nI pl))]) hx hb dX2_readsPart_16 rfl hl (by decide) rfl (fun ls hl => ?_)
      refine lv_iload_n hx hb dX2_readsPart_17 rfl (lv_at hl 2 rfl) ?_
      refine lv_if_ne (tgt := 30) hx hb dX2_readsPart_18 (by decide) (fun c18 => ?_) (fun c18 => ?_)
      · skip
        have c18 := n_eq_f (a := k) (b := 0) c18
        refine lv_iconst (v := nI 0) hx hb dX2_readsPart_30 rfl ?_
        refine lv_istore (lv' := [(4, .int (nI 0)), (3, .int (nI 0)), (0, .ref q), (1, .int (nI k)), (2, .int (nI pl))]) hx hb dX2_readsPart_31 hl (by decide) rfl (fun ls hl => ?_)
        refine lv_aload_n hx hb dX2_readsPart_33 rfl (lv_at hl 2 rfl) ?_
        refine lv_iload_n hx hb dX2_readsPart_34 rfl (lv_at hl 1 rfl) ?_
        refine lv_if_ne (tgt := 43) hx hb dX2_readsPart_35 (by decide) (fun c35 => ?_) (fun c35 => ?_)
        · skip
          exact absurd c35 (by decide)
        · skip
          have c35 := n_eq_t (a := 0) (b := 0) c35 (by decide) (by decide)
          refine lv_iload hx hb dX2_readsPart_38 (lv_at hl 0 rfl) ?_
          refine lv_if_eq (tgt := 47) hx hb dX2_readsPart_40 (by decide) (fun c40 => ?_) (fun c40 => ?_)
          · skip
            have c40 := n_eq_t (a := 0) (b := 0) c40 (by decide) (by decide)
            refine lv_iconst (v := nI 0) hx hb dX2_readsPart_47 rfl ?_
            refine r_as (z := nI (bLo k pl)) (by unfold bLo; first | (rw [if_pos ⟨by omega, by omega⟩]; done) | (rw [if_neg (by omega), if_pos ⟨by omega, by omega⟩]; done) | (rw [if_neg (by omega), if_neg (by omega)]; done)) ?_
            refine lv_iload_n hx hb dX2_readsPart_48 rfl (lv_at hl 1 rfl) ?_
            refine lv_if_eq (tgt := 57) hx hb dX2_readsPart_49 (by decide) (fun c49 => ?_) (fun c49 => ?_)
            · skip
              have c49 := n_eq_t (a := 0) (b := 0) c49 (by decide) (by decide)
              refine lv_iload hx hb dX2_readsPart_57 (lv_at hl 0 rfl) ?_
              refine lv_if_eq (tgt := 68) hx hb dX2_readsPart_59 (by decide) (fun c59 => ?_) (fun c59 => ?_)
              · skip
                have c59 := n_eq_t (a := 0) (b := 0) c59 (by decide) (by decide)
                refine lv_iload_n hx hb dX2_readsPart_68 rfl (lv_at hl 3 rfl) ?_
                refine lv_if_ne (tgt := 78) hx hb dX2_readsPart_69 (by decide) (fun c69 => ?_) (fun c69 => ?_)
                · skip
                  have c69 := n_eq_f (a := k) (b := 0) c69
                  refine lv_bipush (v := nI 15) hx hb dX2_readsPart_78 rfl ?_
                  refine r_as (z := nI (bHi k pl)) (by unfold bHi; first | (rw [if_pos ⟨by omega, by omega⟩]; done) | (rw [if_neg (by omega), if_pos ⟨by omega, by omega⟩]; done) | (rw [if_neg (by omega), if_neg (by omega), if_pos (by omega)]; done) | (rw [if_neg (by omega), if_neg (by omega), if_neg (by omega)]; done)) ?_
                  refine nc_i (k := 3) (wcc := mW G q a wd all kept hist hlo snap tk bits reg exa text tl sp read rm nu deep src) (wr := []) (nr_V (As := [.int (nI (bLo k pl)), .int (nI (bHi k pl))]) (rest := []) hx hb hml hown hts ((M_readsNumber l G q a wd all kept hist hlo snap tk bits reg exa text tl sp read rm nu deep src T p0 (bLo k pl) (bHi k pl) (by first | assumption | omega | rfl) (by first | assumption | omega | rfl) (by first | assumption | omega | rfl) (by omega) (by omega)) _) nP.blind 2 q1098 q1100 qs27 q53 q1101 (by decide +kernel) ⟨⟨Nat.le_of_ble_eq_true rfl, Nat.le_of_ble_eq_true rfl⟩, Nat.le_of_ble_eq_true rfl, Nat.le_of_ble_eq_true rfl⟩ (r_recv hG Z.w 0 (C := "ShareStreamsModel") rfl rfl rfl) (nP_of hG Z [0, 1, 2, 3, 4, 5, 6, 7, 8, 9, 10, 11, 12] rfl (by decide) (fun k q h => by simp at h) nAp.nil) rfl hl.1 rfl (Nat.le_of_ble_eq_true rfl) dX2_readsPart_80) Z [0, 1, 2, 3, 4, 5, 6, 7, 8, 9, 10, 11, 12] [] rfl rfl (by decide) (by decide) (fun r80 u H locs hp80 Z => ?_)
                  obtain ⟨sp1_80, nu1_80⟩ := u
                  obtain ⟨he80, hp80⟩ := hp80
                  have he80 : r80 = bI ((rdN T p0 (bLo k pl) (bHi k pl)).1) := he80
                  subst he80
                  obtain ⟨hq80, hp80⟩ := hp80
                  have hq80 : sp1_80 = nI ((rdN T p0 (bLo k pl) (bHi k pl)).2.2) := hq80
                  subst hq80
                  have hp80 : (rdN T p0 (bLo k pl) (bHi k pl)).1 = true → nu1_80 = nI (rdN T p0 (bLo k pl) (bHi k pl)).2.1 := hp80
                  have Z : nW G A (mW G q a wd all kept hist hlo snap tk bits reg exa text tl (nI ((rdN T p0 (bLo k pl) (bHi k pl)).2.2)) read rm nu1_80 deep src) ([]) ([]) s.heap _ _ := Z
                  refine lv_istore (lv' := [(5, .int (bI ((rdN T p0 (bLo k pl) (bHi k pl)).1))), (4, .int (nI 0)), (3, .int (nI 0)), (0, .ref q), (1, .int (nI k)), (2, .int (nI pl))]) hx hb dX2_readsPart_83 hl (by decide) rfl (fun ls hl => ?_)
                  refine lv_aload_n hx hb dX2_readsPart_85 rfl (lv_at hl 3 rfl) ?_
                  refine r_get (v := .ref (a 9)) hx hb hts in_X2 hown hG Z.w 0 rfl rfl 13 (by decide) q951 (fun _ h9 => h9) rfl dX2_readsPart_86 ?_
                  refine lv_iconst (v := nI 4) hx hb dX2_readsPart_89 rfl ?_
                  refine lv_aload_n hx hb dX2_readsPart_90 rfl (lv_at hl 3 rfl) ?_
                  refine r_get (v := .int rm) hx hb hts in_X2 hown hG Z.w 0 rfl rfl 14 (by decide) q952 (fun _ h9 => h9) rfl dX2_readsPart_91 ?_
                  refine r_as (z := nI rq) erm ?_
                  refine lv_imul hx hb dX2_readsPart_94 ?_
                  refine r_as (z := nI (4 * rq)) (pk_mul _ _) ?_
                  refine lv_iload_n hx hb dX2_readsPart_95 rfl (lv_at hl 5 rfl) ?_
                  refine lv_iadd hx hb dX2_readsPart_96 ?_
                  refine r_as (z := nI (4 * rq + pl)) (nI_add _ _) ?_
                  refine lv_aload_n hx hb dX2_readsPart_97 rfl (lv_at hl 3 rfl) ?_
                  refine r_get (v := .int nu1_80) hx hb hts in_X2 hown hG Z.w 0 rfl rfl 15 (by decide) q953 (fun _ h9 => h9) rfl dX2_readsPart_98 ?_
                  refine r_iast hx hb hG Z 10 rfl (j := 4 * rq + pl) (by omega) (by decide) (wc' := mW G q a wd all kept hist hlo snap tk bits reg exa text tl (nI ((rdN T p0 (bLo k pl) (bHi k pl)).2.2)) (upd read (4 * rq + pl) nu1_80) rm nu1_80 deep src) rfl dX2_readsPart_101 (fun H locs Z => ?_)
                  refine lv_iload hx hb dX2_readsPart_102 (lv_at hl 0 rfl) ?_
                  exact ret (bI ((rdN T p0 (bLo k pl) (bHi k pl)).1)) (nI ((rdN T p0 (bLo k pl) (bHi k pl)).2.2), nu1_80) dX2_readsPart_104 (⟨rfl, rfl, hp80⟩) Z (Nat.le_of_ble_eq_true rfl) (Nat.le_of_ble_eq_true rfl)
                · skip
                  have c69 := n_eq_t (a := k) (b := 0) c69 (by omega) (by decide)
                  exfalso; omega
              · skip
                exact absurd c59 (by decide)
            · skip
              exact absurd c49 (by decide)
          · skip
            exact absurd c40 (by decide)
      · skip
        have c18 := n_eq_t (a := k) (b := 0) c18 (by omega) (by decide)
        exfalso; omega
    · skip
      have c8 := n_eq_t (a := pl) (b := 2) c8 (by omega) (by decide)
      refine lv_iconst (v := nI 1) hx hb dX2_readsPart_11 rfl ?_
      refine lv_goto (tgt := 16) hx hb dX2_readsPart_12 (by decide) ?_
      refine lv_istore_n (lv' := [(3, .int (nI 1)), (0, .ref q), (1, .int (nI k)), (2, .int (nI pl))]) hx hb dX2_readsPart_16 rfl hl (by decide) rfl (fun ls hl => ?_)
      refine lv_iload_n hx hb dX2_readsPart_17 rfl (lv_at hl 2 rfl) ?_
      refine lv_if_ne (tgt := 30) hx hb dX2_readsPart_18 (by decide) (fun c18 => ?_) (fun c18 => ?_)
      · skip
        have c18 := n_eq_f (a := k) (b := 0) c18
        refine lv_iconst (v := nI 0) hx hb dX2_readsPart_30 rfl ?_
        refine lv_istore (lv' := [(4, .int (nI 0)), (3, .int (nI 1)), (0, .ref q), (1, .int (nI k)), (2, .int (nI pl))]) hx hb dX2_readsPart_31 hl (by decide) rfl (fun ls hl => ?_)
        refine lv_aload_n hx hb dX2_readsPart_33 rfl (lv_at hl 2 rfl) ?_
        refine lv_iload_n hx hb dX2_readsPart_34 rfl (lv_at hl 1 rfl) ?_
        refine lv_if_ne (tgt := 43) hx hb dX2_readsPart_35 (by decide) (fun c35 => ?_) (fun c35 => ?_)
        · skip
          have c35 := n_eq_f (a := 1) (b := 0) c35
          refine lv_iconst (v := nI 1) hx hb dX2_readsPart_43 rfl ?_
          refine r_as (z := nI (bLo k pl)) (by unfold bLo; first | (rw [if_pos ⟨by omega, by omega⟩]; done) | (rw [if_neg (by omega), if_pos ⟨by omega, by omega⟩]; done) | (rw [if_neg (by omega), if_neg (by omega)]; done)) ?_
          refine lv_goto (tgt := 48) hx hb dX2_readsPart_44 (by decide) ?_
          refine lv_iload_n hx hb dX2_readsPart_48 rfl (lv_at hl 1 rfl) ?_
          refine lv_if_eq (tgt := 57) hx hb dX2_readsPart_49 (by decide) (fun c49 => ?_) (fun c49 => ?_)
          · skip
            exact absurd c49 (by decide)
          · skip
            have c49 := n_eq_f (a := 1) (b := 0) c49
            refine lv_bipush (v := nI 60) hx hb dX2_readsPart_52 rfl ?_
            refine r_as (z := nI (bHi k pl)) (by unfold bHi; first | (rw [if_pos ⟨by omega, by omega⟩]; done) | (rw [if_neg (by omega), if_pos ⟨by omega, by omega⟩]; done) | (rw [if_neg (by omega), if_neg (by omega), if_pos (by omega)]; done) | (rw [if_neg (by omega), if_neg (by omega), if_neg (by omega)]; done)) ?_
            refine lv_goto (tgt := 80) hx hb dX2_readsPart_54 (by decide) ?_
            refine nc_i (k := 3) (wcc := mW G q a wd all kept hist hlo snap tk bits reg exa text tl sp read rm nu deep src) (wr := []) (nr_V (As := [.int (nI (bLo k pl)), .int (nI (bHi k pl))]) (rest := []) hx hb hml hown hts ((M_readsNumber l G q a wd all kept hist hlo snap tk bits reg exa text tl sp read rm nu deep src T p0 (bLo k pl) (bHi k pl) (by first | assumption | omega | rfl) (by first | assumption | omega | rfl) (by first | assumption | omega | rfl) (by omega) (by omega)) _) nP.blind 2 q1098 q1100 qs27 q53 q1101 (by decide +kernel) ⟨⟨Nat.le_of_ble_eq_true rfl, Nat.le_of_ble_eq_true rfl⟩, Nat.le_of_ble_eq_true rfl, Nat.le_of_ble_eq_true rfl⟩ (r_recv hG Z.w 0 (C := "ShareStreamsModel") rfl rfl rfl) (nP_of hG Z [0, 1, 2, 3, 4, 5, 6, 7, 8, 9, 10, 11, 12] rfl (by decide) (fun k q h => by simp at h) nAp.nil) rfl hl.1 rfl (Nat.le_of_ble_eq_true rfl) dX2_readsPart_80) Z [0, 1, 2, 3, 4, 5, 6, 7, 8, 9, 10, 11, 12] [] rfl rfl (by decide) (by decide) (fun r80 u H locs hp80 Z => ?_)
            obtain ⟨sp1_80, nu1_80⟩ := u
            obtain ⟨he80, hp80⟩ := hp80
            have he80 : r80 = bI ((rdN T p0 (bLo k pl) (bHi k pl)).1) := he80
            subst he80
            obtain ⟨hq80, hp80⟩ := hp80
            have hq80 : sp1_80 = nI ((rdN T p0 (bLo k pl) (bHi k pl)).2.2) := hq80
            subst hq80
            have hp80 : (rdN T p0 (bLo k pl) (bHi k pl)).1 = true → nu1_80 = nI (rdN T p0 (bLo k pl) (bHi k pl)).2.1 := hp80
            have Z : nW G A (mW G q a wd all kept hist hlo snap tk bits reg exa text tl (nI ((rdN T p0 (bLo k pl) (bHi k pl)).2.2)) read rm nu1_80 deep src) ([]) ([]) s.heap _ _ := Z
            refine lv_istore (lv' := [(5, .int (bI ((rdN T p0 (bLo k pl) (bHi k pl)).1))), (4, .int (nI 0)), (3, .int (nI 1)), (0, .ref q), (1, .int (nI k)), (2, .int (nI pl))]) hx hb dX2_readsPart_83 hl (by decide) rfl (fun ls hl => ?_)
            refine lv_aload_n hx hb dX2_readsPart_85 rfl (lv_at hl 3 rfl) ?_
            refine r_get (v := .ref (a 9)) hx hb hts in_X2 hown hG Z.w 0 rfl rfl 13 (by decide) q951 (fun _ h9 => h9) rfl dX2_readsPart_86 ?_
            refine lv_iconst (v := nI 4) hx hb dX2_readsPart_89 rfl ?_
            refine lv_aload_n hx hb dX2_readsPart_90 rfl (lv_at hl 3 rfl) ?_
            refine r_get (v := .int rm) hx hb hts in_X2 hown hG Z.w 0 rfl rfl 14 (by decide) q952 (fun _ h9 => h9) rfl dX2_readsPart_91 ?_
            refine r_as (z := nI rq) erm ?_
            refine lv_imul hx hb dX2_readsPart_94 ?_
            refine r_as (z := nI (4 * rq)) (pk_mul _ _) ?_
            refine lv_iload_n hx hb dX2_readsPart_95 rfl (lv_at hl 5 rfl) ?_
            refine lv_iadd hx hb dX2_readsPart_96 ?_
            refine r_as (z := nI (4 * rq + pl)) (nI_add _ _) ?_
            refine lv_aload_n hx hb dX2_readsPart_97 rfl (lv_at hl 3 rfl) ?_
            refine r_get (v := .int nu1_80) hx hb hts in_X2 hown hG Z.w 0 rfl rfl 15 (by decide) q953 (fun _ h9 => h9) rfl dX2_readsPart_98 ?_
            refine r_iast hx hb hG Z 10 rfl (j := 4 * rq + pl) (by omega) (by decide) (wc' := mW G q a wd all kept hist hlo snap tk bits reg exa text tl (nI ((rdN T p0 (bLo k pl) (bHi k pl)).2.2)) (upd read (4 * rq + pl) nu1_80) rm nu1_80 deep src) rfl dX2_readsPart_101 (fun H locs Z => ?_)
            refine lv_iload hx hb dX2_readsPart_102 (lv_at hl 0 rfl) ?_
            exact ret (bI ((rdN T p0 (bLo k pl) (bHi k pl)).1)) (nI ((rdN T p0 (bLo k pl) (bHi k pl)).2.2), nu1_80) dX2_readsPart_104 (⟨rfl, rfl, hp80⟩) Z (Nat.le_of_ble_eq_true rfl) (Nat.le_of_ble_eq_true rfl)
        · skip
          exact absurd c35 (by decide)
      · skip
        have c18 := n_eq_t (a := k) (b := 0) c18 (by omega) (by decide)
        exfalso; omega
set_option maxHeartbeats 4000000 in
set_option maxRecDepth 100000 in
theorem M_readsLine (l : Launch) (G : nG) (q : Nat) (a : Nat → Nat) (all : Nat → Int32) (kept : Nat → Int32) (hist : Nat → Int32) (hlo : Int32) (snap : Nat → Int32) (tk : Int32) (bits : Nat → Int32) (reg : Nat → Int32) (exa : Nat → Int32) (text : Nat → Int32) (tl : Int32) (sp : Int32) (read : Nat → Int32) (rm : Int32) (nu : Int32) (deep : Nat → Int32) (src : Nat → Int32) (T : List Nat) (p0 : Nat) (rq : Nat) (htx : txR T text tl) (esp : sp = nI p0) (hp0 : p0 ≤ T.length) (erm : rm = nI rq) (hr : rq ≤ 16) : nMi (S := Int32 × (Nat → Int32) × Int32 × Int32) l yX2_readsLine cX2_readsLine 4 (.boolean) 5 0 0 116 G [.ref q] (mW G q a wdF all kept hist hlo snap tk bits reg exa text tl sp read rm nu deep src) ([]) (fun (u : Int32 × (Nat → Int32) × Int32 × Int32) => mW G q a wdF all kept hist hlo snap tk bits reg exa text tl u.1 u.2.1 u.2.2.1 u.2.2.2 deep src) (fun (r : Int32) (u : Int32 × (Nat → Int32) × Int32 × Int32) => r = (bI ((rdL T p0).1)) ∧ u.1 = nI ((rdL T p0).2.2) ∧ ((rdL T p0).1 = true → u.2.2.1 = nI (rq + 1) ∧ (∀ v_, v_ < 4 * rq → u.2.1 v_ = read v_) ∧ ∀ v_, v_ < 4 → u.2.1 (4 * rq + v_) = (rdL T p0).2.1 v_)) := by
  refine nMi.of (own := "ShareStreamsModel") rfl (by decide +kernel) (Nat.le_of_ble_eq_true rfl) (fun r u h => by rw [h.1]; exact bI_n _) ?_
  intro p e s m args below meth c A Q ls hx hb hml hown hts hin hG Z hl ret
  have hl : lv_has ls 4 [(0, .ref q)] := hl
  have Z : nW G A (mW G q a wdF all kept hist hlo snap tk bits reg exa text tl sp read rm nu deep src) ([]) ([]) s.heap _ _ := Z
  obtain ⟨et, hL, hc, htt⟩ := htx
  have htx : txR T text tl := ⟨et, hL, hc, htt⟩
  have hrw := rdW_room (T := T) hp0
  refine lv_aload_n hx hb dX2_readsLine_0 rfl (lv_at hl 0 rfl) ?_
  refine nc_i (k := 3) (wcc := mW G q a wdF all kept hist hlo snap tk bits reg exa text tl sp read rm nu deep src) (wr := []) (nr_V (As := []) (rest := []) hx hb hml hown hts ((M_readsWord l G q a all kept hist hlo snap tk bits reg exa text tl sp read rm nu deep src T p0 (by first | assumption | omega | rfl) (by first | assumption | omega | rfl) (by first | assumption | omega | rfl)) _) nP.blind 0 q1083 q1085 qs24 q53 q1086 (by decide +kernel) ⟨⟨Nat.le_of_ble_eq_true rfl, Nat.le_of_ble_eq_true rfl⟩, Nat.le_of_ble_eq_true rfl, Nat.le_of_ble_eq_true rfl⟩ (r_recv hG Z.w 0 (C := "ShareStreamsModel") rfl rfl rfl) (nP_of hG Z [0, 1, 2, 3, 4, 5, 6, 7, 8, 9, 10, 11, 12] rfl (by decide) (fun k q h => by simp at h) nAp.nil) rfl hl.1 rfl (Nat.le_of_ble_eq_true rfl) dX2_readsLine_1) Z [0, 1, 2, 3, 4, 5, 6, 7, 8, 9, 10, 11, 12] [] rfl rfl (by decide) (by decide) (fun r1 u H locs hp1 Z => ?_)
  have he1 := hp1
  have he1 : r1 = if (rdW T p0).1 = 7 then cNONE else nI (rdW T p0).1 := he1
  subst he1
  have Z : nW G A (mW G q a wdF all kept hist hlo snap tk bits reg exa text tl (nI ((rdW T p0).2)) read rm nu deep src) ([]) ([]) s.heap _ _ := Z
  by_cases hw : (rdW T p0).1 = 7
  · skip
    refine r_as (z := cNONE) (if_pos hw) ?_
    refine lv_istore_n (lv' := [(1, .int cNONE), (0, .ref q)]) hx hb dX2_readsLine_4 rfl hl (by decide) rfl (fun ls hl => ?_)
    refine lv_iload_n hx hb dX2_readsLine_5 rfl (lv_at hl 0 rfl) ?_
    refine lv_ldc hx hb hown (hts _ q1003) dX2_readsLine_6 ?_
    refine lv_icmp_ne (tgt := 13) hx hb dX2_readsLine_8 (by decide) (fun c8 => ?_) (fun c8 => ?_)
    · skip
      exact absurd rfl c8
    · skip
      refine lv_iconst (v := nI 0) hx hb dX2_readsLine_11 rfl ?_
      refine r_as (z := bI false) rfl ?_
      exact ret (bI false) (nI ((rdW T p0).2), read, rm, nu) dX2_readsLine_12 (⟨(by rw [rdL_no hw]), (by rw [rdL_no hw]), (fun h => by rw [rdL_no hw] at h; cases h)⟩) Z (Nat.le_of_ble_eq_true rfl) (Nat.le_of_ble_eq_true rfl)
  · skip
    obtain ⟨k, hk⟩ : ∃ z, z = (rdW T p0).1 := ⟨_, rfl⟩
    obtain ⟨p1, hp1⟩ : ∃ z, z = (rdW T p0).2 := ⟨_, rfl⟩
    have hk7 : k < 7 := by omega
    have hp1L : p1 ≤ T.length := by omega
    have erl := rdL_go hk hp1 (by omega)
    have hpt : 1 ≤ ptN k ∧ ptN k ≤ 3 := by unfold ptN; (repeat' split) <;> omega
    refine r_as (z := nI k) (by rw [hk]; exact if_neg hw) ?_
    refine lv_istore_n (lv' := [(1, .int (nI k)), (0, .ref q)]) hx hb dX2_readsLine_4 rfl hl (by decide) rfl (fun ls hl => ?_)
    refine lv_iload_n hx hb dX2_readsLine_5 rfl (lv_at hl 0 rfl) ?_
    refine lv_ldc hx hb hown (hts _ q1003) dX2_readsLine_6 ?_
    refine lv_icmp_ne (tgt := 13) hx hb dX2_readsLine_8 (by decide) (fun c8 => ?_) (fun c8 => ?_)
    · skip
      have J32 : ∀ (H : Heap) (locs : List Loc), nW G A (mW G q a wdF all kept hist hlo snap tk bits reg exa text tl (nI ((rdW T p0).2)) read rm nu deep src) ([]) ([]) s.heap H locs → ∀ (ls : Array Slot), lv_has ls 4 [(1, .int (nI k)), (0, .ref q)] → W p l e (nRm 5 0 0 116) s m args below meth c H locs 0 0 Q (F0 m 32 ls [.int (nI (ptN k))]) := by
        intro  H locs Z ls hl
        refine lv_istore_n (lv' := [(2, .int (nI (ptN k))), (1, .int (nI k)), (0, .ref q)]) hx hb dX2_readsLine_32 rfl hl (by decide) rfl (fun ls hl => ?_)
        refine lv_aload_n hx hb dX2_readsLine_33 rfl (lv_at hl 2 rfl) ?_
        refine r_get (v := .ref (a 9)) hx hb hts in_X2 hown hG Z.w 0 rfl rfl 13 (by decide) q951 (fun _ h9 => h9) rfl dX2_readsLine_34 ?_
        refine lv_iconst (v := nI 4) hx hb dX2_readsLine_37 rfl ?_
        refine lv_aload_n hx hb dX2_readsLine_38 rfl (lv_at hl 2 rfl) ?_
        refine r_get (v := .int rm) hx hb hts in_X2 hown hG Z.w 0 rfl rfl 14 (by decide) q952 (fun _ h9 => h9) rfl dX2_readsLine_39 ?_
        refine r_as (z := nI rq) erm ?_
        refine lv_imul hx hb dX2_readsLine_42 ?_
        refine r_as (z := nI (4 * rq)) (pk_mul _ _) ?_
        refine lv_iload_n hx hb dX2_readsLine_43 rfl (lv_at hl 1 rfl) ?_
        refine r_iast hx hb hG Z 10 rfl (j := 4 * rq) (by omega) (by decide) (wc' := mW G q a wdF all kept hist hlo snap tk bits reg exa text tl (nI ((rdW T p0).2)) (upd read (4 * rq) (nI k)) rm nu deep src) rfl dX2_readsLine_44 (fun H locs Z => ?_)
        refine lv_iconst (v := nI 1) hx hb dX2_readsLine_45 rfl ?_
        refine lv_istore_n (lv' := [(3, .int (nI 1)), (2, .int (nI (ptN k))), (1, .int (nI k)), (0, .ref q)]) hx hb dX2_readsLine_46 rfl hl (by decide) rfl (fun ls hl => ?_)
        have L47 : ∀ (k_ : Nat) (pl : Nat) (rd : Nat → Int32) (g1 : 1 ≤ pl ∧ pl ≤ 4) (g2 : ∀ v, v < 4 * rq → rd v = read v) (g3 : rd (4 * rq + 0) = nI k) (g4 : ∀ w, 1 ≤ w → w < pl → rd (4 * rq + w) = cNONE) (hk_ : 4 - pl < k_) (H : Heap) (locs : List Loc), nW G A (mW G q a wdF all kept hist hlo snap tk bits reg exa text tl (nI ((rdW T p0).2)) rd rm nu deep src) ([]) ([]) s.heap H locs → ∀ (ls : Array Slot), lv_has ls 4 [(3, .int (nI pl)), (2, .int (nI (ptN k))), (1, .int (nI k)), (0, .ref q)] → W p l e (nRm 5 0 0 116) s m args below meth c H locs 0 0 Q (F0 m 47 ls []) := by
          intro k_
          induction k_ with
          | zero => intro pl rd g1 g2 g3 g4 hk_; exact absurd hk_ (Nat.not_lt_zero _)
          | succ k_ ih_L47 =>
            intro pl rd g1 g2 g3 g4 hk_ H locs Z ls hl
            refine lv_iload_n hx hb dX2_readsLine_47 rfl (lv_at hl 0 rfl) ?_
            refine lv_iconst (v := nI 4) hx hb dX2_readsLine_48 rfl ?_
            refine lv_icmp_ge (tgt := 73) hx hb dX2_readsLine_49 (by decide) (fun c49 => ?_) (fun c49 => ?_)
            · skip
              have c49 := n_le_t (a := 4) (b := pl) c49 (by decide) (by omega)
              refine lv_iconst (v := nI 1) hx hb dX2_readsLine_73 rfl ?_
              refine lv_istore_n (lv' := [(3, .int (nI 1)), (2, .int (nI (ptN k))), (1, .int (nI k)), (0, .ref q)]) hx hb dX2_readsLine_74 rfl hl (by decide) rfl (fun ls hl => ?_)
              have L75 : ∀ (k_ : Nat) (m0 : Nat) (rd : Nat → Int32) (nu1 : Int32) (spx : Int32) (q1 : m0 ≤ ptN k) (q2 : (rdPs T k p1 m0).1 = true) (g2 : ∀ v, v < 4 * rq → rd v = read v) (q3 : ∀ w, w < 4 → rd (4 * rq + w) = (rdPs T k p1 m0).2.1 w) (q4 : spx = nI (rdPs T k p1 m0).2.2) (hk_ : ptN k - m0 < k_) (H : Heap) (locs : List Loc), nW G A (mW G q a wdF all kept hist hlo snap tk bits reg exa text tl spx rd rm nu1 deep src) ([]) ([]) s.heap H locs → ∀ (ls : Array Slot), lv_has ls 4 [(3, .int (nI (m0 + 1))), (2, .int (nI (ptN k))), (1, .int (nI k)), (0, .ref q)] → W p l e (nRm 5 0 0 116) s m args below meth c H locs 0 0 Q (F0 m 75 ls []) := by
                intro k_
                induction k_ with
                | zero => intro m0 rd nu1 spx q1 q2 g2 q3 q4 hk_; exact absurd hk_ (Nat.not_lt_zero _)
                | succ k_ ih_L75 =>
                  intro m0 rd nu1 spx q1 q2 g2 q3 q4 hk_ H locs Z ls hl
                  refine lv_iload_n hx hb dX2_readsLine_75 rfl (lv_at hl 0 rfl) ?_
                  refine lv_iload_n hx hb dX2_readsLine_76 rfl (lv_at hl 1 rfl) ?_
                  refine lv_icmp_gt (tgt := 97) hx hb dX2_readsLine_77 (by decide) (fun c77 => ?_) (fun c77 => ?_)
                  · skip
                    have c77 := n_lt_t (a := ptN k) (b := m0 + 1) c77 (by omega) (by omega)
                    refine lv_aload_n hx hb dX2_readsLine_97 rfl (lv_at hl 3 rfl) ?_
                    refine lv_dup hx hb dX2_readsLine_98 rfl ?_
                    refine r_get (v := .int rm) hx hb hts in_X2 hown hG Z.w 0 rfl rfl 14 (by decide) q952 (fun _ h9 => h9) rfl dX2_readsLine_99 ?_
                    refine r_as (z := nI rq) erm ?_
                    refine lv_iconst (v := nI 1) hx hb dX2_readsLine_102 rfl ?_
                    refine lv_iadd hx hb dX2_readsLine_103 ?_
                    refine r_as (z := nI (rq + 1)) (nI_add _ _) ?_
                    refine r_put (ty := .int) hx hb hts in_X2 tyX2 tyX2_ok nmX2 hown hG Z 0 rfl rfl 14 (by decide) q952 (fun _ h9 => h9) rfl (by decide +kernel) rfl rfl (Nat.le_of_ble_eq_true rfl) (wc' := mW G q a wdF all kept hist hlo snap tk bits reg exa text tl spx rd (nI (rq + 1)) nu1 deep src) rfl dX2_readsLine_104 (fun H locs Z => ?_)
                    refine lv_iconst (v := nI 1) hx hb dX2_readsLine_107 rfl ?_
                    have em : m0 = ptN k := by omega
                    refine r_as (z := bI true) rfl ?_
                    exact ret (bI true) (spx, rd, nI (rq + 1), nu1) dX2_readsLine_108 (⟨(by rw [erl, ← em, q2]), (by rw [erl, ← em]; exact q4), (fun _ => ⟨rfl, g2, by rw [erl, ← em]; exact q3⟩)⟩) Z (Nat.le_of_ble_eq_true rfl) (Nat.le_of_ble_eq_true rfl)
                  · skip
                    have c77 := n_lt_f (a := ptN k) (b := m0 + 1) c77 (by omega) (by omega)
                    refine lv_aload_n hx hb dX2_readsLine_80 rfl (lv_at hl 3 rfl) ?_
                    refine lv_iload_n hx hb dX2_readsLine_81 rfl (lv_at hl 2 rfl) ?_
                    refine lv_iload_n hx hb dX2_readsLine_82 rfl (lv_at hl 0 rfl) ?_
                    have hro := rdPs_room (T := T) (k := k) hp1L m0
                    refine nc_i (k := 3) (wcc := mW G q a wdF all kept hist hlo snap tk bits reg exa text tl spx rd rm nu1 deep src) (wr := []) (nr_V (As := [.int (nI k), .int (nI (m0 + 1))]) (rest := []) hx hb hml hown hts ((M_readsPart l G q a wdF all kept hist hlo snap tk bits reg exa text tl spx rd rm nu1 deep src T ((rdPs T k p1 m0).2.2) k (m0 + 1) rq (by first | assumption | omega | rfl) q4 hro.2.1 hk7 (by omega) (by first | assumption | omega | rfl) (by first | assumption | omega | rfl)) _) nP.blind 2 q1094 q1096 qs26 q53 q1097 (by decide +kernel) ⟨⟨Nat.le_of_ble_eq_true rfl, Nat.le_of_ble_eq_true rfl⟩, Nat.le_of_ble_eq_true rfl, Nat.le_of_ble_eq_true rfl⟩ (r_recv hG Z.w 0 (C := "ShareStreamsModel") rfl rfl rfl) (nP_of hG Z [0, 1, 2, 3, 4, 5, 6, 7, 8, 9, 10, 11, 12] rfl (by decide) (fun k q h => by simp at h) nAp.nil) rfl hl.1 rfl (Nat.le_of_ble_eq_true rfl) dX2_readsLine_83) Z [0, 1, 2, 3, 4, 5, 6, 7, 8, 9, 10, 11, 12] [] rfl rfl (by decide) (by decide) (fun r83 u H locs hp83 Z => ?_)
                    obtain ⟨sp1_83, nu2⟩ := u
                    obtain ⟨he83, hp83⟩ := hp83
                    have he83 : r83 = bI ((rdN T ((rdPs T k p1 m0).2.2) (bLo k (m0 + 1)) (bHi k (m0 + 1))).1) := he83
                    subst he83
                    obtain ⟨hq83, hp83⟩ := hp83
                    have hq83 : sp1_83 = nI ((rdN T ((rdPs T k p1 m0).2.2) (bLo k (m0 + 1)) (bHi k (m0 + 1))).2.2) := hq83
                    subst hq83
                    have hp83 : (rdN T ((rdPs T k p1 m0).2.2) (bLo k (m0 + 1)) (bHi k (m0 + 1))).1 = true → nu2 = nI (rdN T ((rdPs T k p1 m0).2.2) (bLo k (m0 + 1)) (bHi k (m0 + 1))).2.1 := hp83
                    have Z : nW G A (mW G q a wdF all kept hist hlo snap tk bits reg exa text tl (nI ((rdN T ((rdPs T k p1 m0).2.2) (bLo k (m0 + 1)) (bHi k (m0 + 1))).2.2)) (upd rd (4 * rq + (m0 + 1)) nu2) rm nu2 deep src) ([]) ([]) s.heap _ _ := Z
                    refine lv_if_ne (tgt := 91) hx hb dX2_readsLine_86 (by decide) (fun c86 => ?_) (fun c86 => ?_)
                    · skip
                      have c86 := bI_t c86
                      refine lv_iinc (v := nI (m0 + 1 + 1)) (lv' := [(3, .int (nI (m0 + 1 + 1))), (2, .int (nI (ptN k))), (1, .int (nI k)), (0, .ref q)]) hx hb dX2_readsLine_91 hl (k := 0) rfl (nI_add _ _) (by decide) rfl (fun ls hl => ?_)
                      refine lv_goto (tgt := 75) hx hb dX2_readsLine_94 (by decide) ?_
                      exact ih_L75 (m0 + 1) (upd rd (4 * rq + (m0 + 1)) nu2) nu2 (nI ((rdN T ((rdPs T k p1 m0).2.2) (bLo k (m0 + 1)) (bHi k (m0 + 1))).2.2)) (by omega) (by rw [(rdPs_s1 q2).1]; exact c86) (fun v hv => by rw [upd_n (by omega)]; exact g2 v hv) (row_s4 q2 (by rw [(rdPs_s1 q2).1]; exact c86) q3 hp83) (by rw [(rdPs_s1 q2).2.1]) (by omega) _ _ Z _ (lv_sub hl [0, 1, 2, 3] rfl)
                    · skip
                      have c86 := bI_f c86
                      refine lv_iconst (v := nI 0) hx hb dX2_readsLine_89 rfl ?_
                      have es1 := rdPs_s1 q2
                      have er9 := rdPs_stop (T := T) (k := k) (p := p1) (m := m0 + 1) (by rw [es1.1]; exact c86) (ptN k) (by omega)
                      refine r_as (z := bI false) rfl ?_
                      exact ret (bI false) (nI ((rdN T ((rdPs T k p1 m0).2.2) (bLo k (m0 + 1)) (bHi k (m0 + 1))).2.2), upd rd (4 * rq + (m0 + 1)) nu2, rm, nu2) dX2_readsLine_90 (⟨(by rw [erl, er9, es1.1]; exact c86.symm ▸ rfl), (by rw [erl, er9, es1.2.1]), (fun h => by rw [erl, er9, es1.1, c86] at h; cases h)⟩) Z (Nat.le_of_ble_eq_true rfl) (Nat.le_of_ble_eq_true rfl)
              exact L75 _ 0 rd nu (nI ((rdW T p0).2)) (Nat.zero_le _) rfl (by first | assumption | omega) (rows_0 g3 (fun w h1 h2 => g4 w h1 (by omega))) (by rw [← hp1]; rfl) (Nat.lt_succ_self _) _ _ Z _ (lv_sub hl [0, 1, 2, 3] rfl)
            · skip
              have c49 := n_le_f (a := 4) (b := pl) c49 (by decide) (by omega)
              refine lv_aload_n hx hb dX2_readsLine_52 rfl (lv_at hl 3 rfl) ?_
              refine r_get (v := .ref (a 9)) hx hb hts in_X2 hown hG Z.w 0 rfl rfl 13 (by decide) q951 (fun _ h9 => h9) rfl dX2_readsLine_53 ?_
              refine lv_iconst (v := nI 4) hx hb dX2_readsLine_56 rfl ?_
              refine lv_aload_n hx hb dX2_readsLine_57 rfl (lv_at hl 3 rfl) ?_
              refine r_get (v := .int rm) hx hb hts in_X2 hown hG Z.w 0 rfl rfl 14 (by decide) q952 (fun _ h9 => h9) rfl dX2_readsLine_58 ?_
              refine r_as (z := nI rq) erm ?_
              refine lv_imul hx hb dX2_readsLine_61 ?_
              refine r_as (z := nI (4 * rq)) (pk_mul _ _) ?_
              refine lv_iload_n hx hb dX2_readsLine_62 rfl (lv_at hl 0 rfl) ?_
              refine lv_iadd hx hb dX2_readsLine_63 ?_
              refine r_as (z := nI (4 * rq + pl)) (nI_add _ _) ?_
              refine lv_ldc hx hb hown (hts _ q1003) dX2_readsLine_64 ?_
              refine r_iast hx hb hG Z 10 rfl (j := 4 * rq + pl) (by omega) (by decide) (wc' := mW G q a wdF all kept hist hlo snap tk bits reg exa text tl (nI ((rdW T p0).2)) (upd rd (4 * rq + pl) (-100000005 : Int32)) rm nu deep src) rfl dX2_readsLine_66 (fun H locs Z => ?_)
              refine lv_iinc (v := nI (pl + 1)) (lv' := [(3, .int (nI (pl + 1))), (2, .int (nI (ptN k))), (1, .int (nI k)), (0, .ref q)]) hx hb dX2_readsLine_67 hl (k := 0) rfl (nI_add _ _) (by decide) rfl (fun ls hl => ?_)
              refine lv_goto (tgt := 47) hx hb dX2_readsLine_70 (by decide) ?_
              exact ih_L47 (pl + 1) (upd rd (4 * rq + pl) (-100000005 : Int32)) (by omega) (fun v hv => by rw [upd_n (by omega)]; exact g2 v hv) (by rw [upd_n (by omega)]; exact g3) (fun w h1 h2 => by by_cases e : w = pl; { subst e; exact upd_s }; { rw [upd_n (by omega)]; exact g4 w h1 (by omega) }) (by omega) _ _ Z _ (lv_sub hl [0, 1, 2, 3] rfl)
        exact L47 _ 1 (upd read (4 * rq) (nI k)) (by omega) (fun v hv => by rw [upd_n (by omega)]) upd_s (fun w h1 h2 => by omega) (Nat.lt_succ_self _) _ _ Z _ (lv_sub hl [0, 1, 2, 3] rfl)
      refine lv_iload_n hx hb dX2_readsLine_13 rfl (lv_at hl 0 rfl) ?_
      refine lv_iconst (v := nI 4) hx hb dX2_readsLine_14 rfl ?_
      refine lv_icmp_ne (tgt := 22) hx hb dX2_readsLine_15 (by decide) (fun c15 => ?_) (fun c15 => ?_)
      · skip
        have c15 := n_eq_f (a := k) (b := 4) c15
        refine lv_iload_n hx hb dX2_readsLine_22 rfl (lv_at hl 0 rfl) ?_
        refine lv_iconst (v := nI 5) hx hb dX2_readsLine_23 rfl ?_
        refine lv_icmp_ne (tgt := 31) hx hb dX2_readsLine_24 (by decide) (fun c24 => ?_) (fun c24 => ?_)
        · skip
          have c24 := n_eq_f (a := k) (b := 5) c24
          refine lv_iconst (v := nI 2) hx hb dX2_readsLine_31 rfl ?_
          refine r_as (z := nI (ptN k)) (by unfold ptN; rw [if_neg c15, if_neg c24]) ?_
          exact J32  _ _ Z _ (lv_sub hl [0, 1] rfl)
        · skip
          have c24 := n_eq_t (a := k) (b := 5) c24 (by omega) (by decide)
          refine lv_iconst (v := nI 1) hx hb dX2_readsLine_27 rfl ?_
          refine r_as (z := nI (ptN k)) (by unfold ptN; rw [if_neg c15, if_pos c24]) ?_
          refine lv_goto (tgt := 32) hx hb dX2_readsLine_28 (by decide) ?_
          exact J32  _ _ Z _ (lv_sub hl [0, 1] rfl)
      · skip
        have c15 := n_eq_t (a := k) (b := 4) c15 (by omega) (by decide)
        refine lv_iconst (v := nI 3) hx hb dX2_readsLine_18 rfl ?_
        refine r_as (z := nI (ptN k)) (by unfold ptN; rw [if_pos c15]) ?_
        refine lv_goto (tgt := 32) hx hb dX2_readsLine_19 (by decide) ?_
        exact J32  _ _ Z _ (lv_sub hl [0, 1] rfl)
    · skip
      exact absurd c8 (nI_ne_none (by omega))
