theorem land_256 {a b c d : Nat} (hb : b < 256) (hd : d < 256) : (256 * a + b) &&& (256 * c + d) = 256 * (a &&& c) + (b &&& d) := by
  have h1 : ((256 * a + b) &&& (256 * c + d)) % 2 ^ 8 = (256 * a + b) % 2 ^ 8 &&& (256 * c + d) % 2 ^ 8 := Nat.and_mod_two_pow
  have h2 : ((256 * a + b) &&& (256 * c + d)) / 2 ^ 8 = (256 * a + b) / 2 ^ 8 &&& (256 * c + d) / 2 ^ 8 := Nat.and_div_two_pow
  rw [show (256 * a + b) % 2 ^ 8 = b by omega, show (256 * c + d) % 2 ^ 8 = d by omega] at h1
  rw [show (256 * a + b) / 2 ^ 8 = a by omega, show (256 * c + d) / 2 ^ 8 = c by omega] at h2
  omega
def pbA (y : Nat) : Nat := y - ((y / 2) &&& 85)
def pbB (y : Nat) : Nat := (y &&& 51) + ((y / 4) &&& 51)
def pbC (y : Nat) : Nat := (y + y / 16) &&& 15
theorem pb_1 : ∀ k, k < 2 → ∀ y, y < 256 → (k * 128 + y / 2) &&& 85 = (y / 2) &&& 85 := by decide +kernel
theorem pb_1h : ∀ h, h < 256 → (h / 2) &&& 5592405 = (h / 2) &&& 85 := by decide +kernel
theorem pb_1l : ∀ y, y < 256 → (y / 2) &&& 85 ≤ y ∧ pbA y < 256 := by decide +kernel
theorem pb_2 : ∀ k, k < 4 → ∀ y, y < 256 → (k * 64 + y / 4) &&& 51 = (y / 4) &&& 51 := by decide +kernel
theorem pb_2h : ∀ h, h < 256 → (h / 4) &&& 3355443 = (h / 4) &&& 51 ∧ h &&& 3355443 = h &&& 51 := by decide +kernel
theorem pb_2l : ∀ y, y < 256 → pbB y ≤ 102 := by decide +kernel
theorem pb_3 : ∀ k, k < 16 → ∀ y, y < 103 → (y + k * 16 + y / 16) &&& 15 = pbC y := by decide +kernel
theorem pb_3h : ∀ h, h < 103 → (h + h / 16) &&& 986895 = pbC h := by decide +kernel
/-- the bits one by one -/
def pbT : Nat → Nat → Nat
  | 0, _ => 0
  | f + 1, x => x % 2 + pbT f (x / 2)
theorem pb_4 : ∀ y, y < 256 → pbC (pbB (pbA y)) = pbT 8 y ∧ pbT 8 y ≤ 8 ∧ pbB (pbA y) ≤ 68 := by decide +kernel
theorem pb_cat {h y : Nat} (hy : y < 256) : pbT 16 (256 * h + y) = pbT 8 y + pbT 8 h := by
  simp only [pbT]
  rw [show (256 * h + y) % 2 = y % 2 by omega, show (256 * h + y) / 2 = 128 * h + y / 2 by omega]
  rw [show (128 * h + y / 2) % 2 = y / 2 % 2 by omega, show (128 * h + y / 2) / 2 = 64 * h + y / 2 / 2 by omega]
  rw [show (64 * h + y / 2 / 2) % 2 = y / 2 / 2 % 2 by omega, show (64 * h + y / 2 / 2) / 2 = 32 * h + y / 2 / 2 / 2 by omega]
  rw [show (32 * h + y / 2 / 2 / 2) % 2 = y / 2 / 2 / 2 % 2 by omega, show (32 * h + y / 2 / 2 / 2) / 2 = 16 * h + y / 2 / 2 / 2 / 2 by omega]
  rw [show (16 * h + y / 2 / 2 / 2 / 2) % 2 = y / 2 / 2 / 2 / 2 % 2 by omega, show (16 * h + y / 2 / 2 / 2 / 2) / 2 = 8 * h + y / 2 / 2 / 2 / 2 / 2 by omega]
  rw [show (8 * h + y / 2 / 2 / 2 / 2 / 2) % 2 = y / 2 / 2 / 2 / 2 / 2 % 2 by omega, show (8 * h + y / 2 / 2 / 2 / 2 / 2) / 2 = 4 * h + y / 2 / 2 / 2 / 2 / 2 / 2 by omega]
  rw [show (4 * h + y / 2 / 2 / 2 / 2 / 2 / 2) % 2 = y / 2 / 2 / 2 / 2 / 2 / 2 % 2 by omega, show (4 * h + y / 2 / 2 / 2 / 2 / 2 / 2) / 2 = 2 * h + y / 2 / 2 / 2 / 2 / 2 / 2 / 2 by omega]
  rw [show (2 * h + y / 2 / 2 / 2 / 2 / 2 / 2 / 2) % 2 = y / 2 / 2 / 2 / 2 / 2 / 2 / 2 % 2 by omega, show (2 * h + y / 2 / 2 / 2 / 2 / 2 / 2 / 2) / 2 = h by omega]
  omega
theorem pbT_0 : ∀ f, pbT f 0 = 0 := by
  intro f
  induction f with
  | zero => rfl
  | succ f ih => simp [pbT, ih]
theorem pbT_s : ∀ (f x : Nat), x < 2 ^ f → x ≠ 0 → pbT f x = 1 + pbT f (x &&& (x - 1)) := by
  intro f
  induction f with
  | zero => intro x h h0; simp at h; omega
  | succ f ih =>
    intro x h h0
    have q1 : (x &&& (x - 1)) % 2 ^ 1 = x % 2 ^ 1 &&& (x - 1) % 2 ^ 1 := Nat.and_mod_two_pow
    have q2 : (x &&& (x - 1)) / 2 ^ 1 = x / 2 ^ 1 &&& (x - 1) / 2 ^ 1 := Nat.and_div_two_pow
    simp only [Nat.pow_one] at q1 q2
    rw [pbT, pbT, q1, q2]
    rw [Nat.pow_succ] at h
    by_cases e : x % 2 = 1
    · rw [e, show (x - 1) % 2 = 0 by omega, show (x - 1) / 2 = x / 2 by omega, Nat.and_self]
      simp
    · have e0 : x % 2 = 0 := by omega
      rw [e0, show (x - 1) % 2 = 1 by omega, show (x - 1) / 2 = x / 2 - 1 by omega, ih (x / 2) (by omega) (by omega)]
      simp
theorem popN_pbT : ∀ (n x : Nat), x ≤ n → x < 65536 → popN x = pbT 16 x := by
  intro n
  induction n with
  | zero => intro x h _; obtain rfl : x = 0 := by omega
            rw [popN, dif_pos rfl, pbT_0]
  | succ n ih =>
    intro x h h2
    rw [popN]
    by_cases e : x = 0
    · rw [dif_pos e, e, pbT_0]
    · have hl : x &&& (x - 1) ≤ x - 1 := Nat.and_le_right
      rw [dif_neg e, pbT_s 16 x h2 e, ih _ (by omega) (by omega)]
/-- what Integer.bitCount makes -/
def pA (x : Nat) : Nat := x - ((x / 2) &&& 1431655765)
def pB (a : Nat) : Nat := (a &&& 858993459) + ((a / 4) &&& 858993459)
def pC (b : Nat) : Nat := (b + b / 16) &&& 252645135
theorem pop_swar {x : Nat} (hx : x < 65536) : (x / 2) &&& 1431655765 ≤ x ∧ pA x < 65536 ∧ pB (pA x) < 65536 ∧ pC (pB (pA x)) ≤ 8 * 256 + 8 ∧ ((pC (pB (pA x)) + pC (pB (pA x)) / 256) + (pC (pB (pA x)) + pC (pB (pA x)) / 256) / 65536) &&& 63 = popN x := by
  obtain ⟨h, y, hh, hy, e⟩ : ∃ h y, h < 256 ∧ y < 256 ∧ x = 256 * h + y := ⟨x / 256, x % 256, by omega, by omega, by omega⟩
  have eA : (x / 2) &&& 1431655765 = 256 * ((h / 2) &&& 85) + ((y / 2) &&& 85) := by
    rw [show x / 2 = 256 * (h / 2) + (h % 2 * 128 + y / 2) by omega, show (1431655765 : Nat) = 256 * 5592405 + 85 by decide, land_256 (by omega) (by decide), pb_1 _ (by omega) y hy, pb_1h h hh]
  have l1 := pb_1l h hh
  have l2 := pb_1l y hy
  have eA2 : pA x = 256 * pbA h + pbA y := by unfold pA; rw [eA]; unfold pbA; omega
  have m1 := pb_2l _ l1.2
  have m2 := pb_2l _ l2.2
  have eB : pB (pA x) = 256 * pbB (pbA h) + pbB (pbA y) := by
    unfold pB
    rw [eA2, show (858993459 : Nat) = 256 * 3355443 + 51 by decide, land_256 l2.2 (by decide), show (256 * pbA h + pbA y) / 4 = 256 * (pbA h / 4) + (pbA h % 4 * 64 + pbA y / 4) by omega, land_256 (by omega) (by decide), pb_2 _ (by omega) _ l2.2, (pb_2h _ l1.2).1, (pb_2h _ l1.2).2]
    unfold pbB; omega
  obtain ⟨n1, n2, n3⟩ := pb_4 h hh
  obtain ⟨o1, o2, o3⟩ := pb_4 y hy
  have eC : pC (pB (pA x)) = 256 * pbT 8 h + pbT 8 y := by
    unfold pC
    rw [eB, show 256 * pbB (pbA h) + pbB (pbA y) + (256 * pbB (pbA h) + pbB (pbA y)) / 16 = 256 * (pbB (pbA h) + pbB (pbA h) / 16) + (pbB (pbA y) + pbB (pbA h) % 16 * 16 + pbB (pbA y) / 16) by omega, show (252645135 : Nat) = 256 * 986895 + 15 by decide, land_256 ?_ (by decide), pb_3 _ (by omega) _ (by omega), pb_3h _ (by omega), n1, o1]
    have : pbB (pbA h) % 16 ≤ 15 := by omega
    have : pbB (pbA h) / 16 ≤ 4 := by omega
    have : pbB (pbA y) / 16 ≤ 4 := by omega
    have hB : ∀ v, v < 256 → pbB (pbA v) % 16 ≤ 4 := by decide +kernel
    have := hB h hh
    omega
  refine ⟨by rw [eA]; omega, by omega, by omega, by omega, ?_⟩
  rw [eC, popN_pbT x x (Nat.le_refl _) hx, e, pb_cat hy]
  rw [show (63 : Nat) = 2 ^ 6 - 1 by decide, Nat.and_two_pow_sub_one_eq_mod]
  generalize pbT 8 h = a at n2 ⊢
  generalize pbT 8 y = b at o2 ⊢
  rw [show (256 * a + b) / 256 = a by omega, show (256 * a + b + a) / 65536 = 0 by omega, show 256 * a + b + a + 0 = 64 * (4 * a) + (b + a) by omega, show (2 : Nat) ^ 6 = 64 by decide, Nat.mul_add_mod, Nat.mod_eq_of_lt (by omega)]
theorem ush {a : Nat} (ha : a < 2 ^ 31) (k : Nat) (s : Int32) (hs : ((s.toUInt32 &&& Int32.toUInt32 31).toBitVec % 32).toNat = k) : ((nI a).toUInt32 >>> (s.toUInt32 &&& Int32.toUInt32 31)).toInt32 = nI (a / 2 ^ k) := by
  have h := pk_ushr (nI a) s k hs
  apply Int32.toBitVec_inj.mp
  apply BitVec.eq_of_toNat_eq
  rw [h]
  have e : ∀ z, z < 2 ^ 31 → (nI z).toBitVec.toNat = z := fun z hz => by
    show (BitVec.ofNat 32 z).toNat = z
    rw [BitVec.toNat_ofNat]
    exact Nat.mod_eq_of_lt (by omega)
  rw [e a ha, e _ (Nat.lt_of_le_of_lt (Nat.div_le_self _ _) ha)]
set_option maxHeartbeats 4000000 in
set_option maxRecDepth 100000 in
theorem I_bits (l : Launch) (G : nG) (x : Nat) (hx_ : x < 65536) : nSi l yJ13_bitCount cJ13_bitCount 1 (.int) 0 0 G [.int (nI x)] ([]) (fun r : Int32 => r = (nI (popN x))) := by
  refine nSi.of (own := "java/lang/Integer") rfl (by decide +kernel) (Nat.le_of_ble_eq_true rfl) (fun _ _ => rfl) ?_
  intro p e s m args below meth c Q ls hx hb hml hown hts hG hP hl ret
  have hl : lv_has ls 1 [(0, .int (nI x))] := hl
  obtain ⟨w1, w2, w3, w4, w5⟩ := pop_swar hx_
  refine lv_iload_n hx hb dJ13_bitCount_0 rfl (lv_at hl 0 rfl) ?_
  refine lv_iload_n hx hb dJ13_bitCount_1 rfl (lv_at hl 0 rfl) ?_
  refine lv_iconst (v := nI 1) hx hb dJ13_bitCount_2 rfl ?_
  refine lv_iushr (v := nI (x / 2)) hx hb dJ13_bitCount_3 (ush (by omega) 1 _ (by decide)) ?_
  refine lv_ldcw hx hb hown (hts _ q849) dJ13_bitCount_4 ?_
  refine r_as (z := nI 1431655765) rfl ?_
  refine lv_iand hx hb dJ13_bitCount_7 ?_
  refine r_as (z := nI (x / 2 &&& 1431655765)) (nx_and _ _) ?_
  refine lv_isub hx hb dJ13_bitCount_8 ?_
  refine r_as (z := nI (pA x)) (pk_sub w1) ?_
  refine lv_istore_n (lv' := [(0, .int (nI (pA x)))]) hx hb dJ13_bitCount_9 rfl hl (by decide) rfl (fun ls hl => ?_)
  refine lv_iload_n hx hb dJ13_bitCount_10 rfl (lv_at hl 0 rfl) ?_
  refine lv_ldcw hx hb hown (hts _ q850) dJ13_bitCount_11 ?_
  refine r_as (z := nI 858993459) rfl ?_
  refine lv_iand hx hb dJ13_bitCount_14 ?_
  refine r_as (z := nI ((pA x) &&& 858993459)) (nx_and _ _) ?_
  refine lv_iload_n hx hb dJ13_bitCount_15 rfl (lv_at hl 0 rfl) ?_
  refine lv_iconst (v := nI 2) hx hb dJ13_bitCount_16 rfl ?_
  refine lv_iushr (v := nI ((pA x) / 4)) hx hb dJ13_bitCount_17 (ush (by omega) 2 _ (by decide)) ?_
  refine lv_ldcw hx hb hown (hts _ q850) dJ13_bitCount_18 ?_
  refine r_as (z := nI 858993459) rfl ?_
  refine lv_iand hx hb dJ13_bitCount_21 ?_
  refine r_as (z := nI ((pA x) / 4 &&& 858993459)) (nx_and _ _) ?_
  refine lv_iadd hx hb dJ13_bitCount_22 ?_
  refine r_as (z := nI (pB (pA x))) (nI_add _ _) ?_
  refine lv_istore_n (lv' := [(0, .int (nI (pB (pA x))))]) hx hb dJ13_bitCount_23 rfl hl (by decide) rfl (fun ls hl => ?_)
  refine lv_iload_n hx hb dJ13_bitCount_24 rfl (lv_at hl 0 rfl) ?_
  refine lv_iload_n hx hb dJ13_bitCount_25 rfl (lv_at hl 0 rfl) ?_
  refine lv_iconst (v := nI 4) hx hb dJ13_bitCount_26 rfl ?_
  refine lv_iushr (v := nI ((pB (pA x)) / 16)) hx hb dJ13_bitCount_27 (ush (by omega) 4 _ (by decide)) ?_
  refine lv_iadd hx hb dJ13_bitCount_28 ?_
  refine r_as (z := nI (pB (pA x) + ((pB (pA x)) / 16))) (nI_add _ _) ?_
  refine lv_ldcw hx hb hown (hts _ q851) dJ13_bitCount_29 ?_
  refine r_as (z := nI 252645135) rfl ?_
  refine lv_iand hx hb dJ13_bitCount_32 ?_
  refine r_as (z := nI (pC (pB (pA x)))) (nx_and _ _) ?_
  refine lv_istore_n (lv' := [(0, .int (nI (pC (pB (pA x)))))]) hx hb dJ13_bitCount_33 rfl hl (by decide) rfl (fun ls hl => ?_)
  refine lv_iload_n hx hb dJ13_bitCount_34 rfl (lv_at hl 0 rfl) ?_
  refine lv_iload_n hx hb dJ13_bitCount_35 rfl (lv_at hl 0 rfl) ?_
  refine lv_bipush (v := nI 8) hx hb dJ13_bitCount_36 rfl ?_
  refine lv_iushr (v := nI ((pC (pB (pA x))) / 256)) hx hb dJ13_bitCount_38 (ush (by omega) 8 _ (by decide)) ?_
  refine lv_iadd hx hb dJ13_bitCount_39 ?_
  refine r_as (z := nI (pC (pB (pA x)) + ((pC (pB (pA x))) / 256))) (nI_add _ _) ?_
  refine lv_istore_n (lv' := [(0, .int (nI (pC (pB (pA x)) + ((pC (pB (pA x))) / 256))))]) hx hb dJ13_bitCount_40 rfl hl (by decide) rfl (fun ls hl => ?_)
  refine lv_iload_n hx hb dJ13_bitCount_41 rfl (lv_at hl 0 rfl) ?_
  refine lv_iload_n hx hb dJ13_bitCount_42 rfl (lv_at hl 0 rfl) ?_
  refine lv_bipush (v := nI 16) hx hb dJ13_bitCount_43 rfl ?_
  refine lv_iushr (v := nI ((pC (pB (pA x)) + (pC (pB (pA x))) / 256) / 65536)) hx hb dJ13_bitCount_45 (ush (by omega) 16 _ (by decide)) ?_
  refine lv_iadd hx hb dJ13_bitCount_46 ?_
  refine r_as (z := nI (pC (pB (pA x)) + ((pC (pB (pA x))) / 256) + ((pC (pB (pA x)) + (pC (pB (pA x))) / 256) / 65536))) (nI_add _ _) ?_
  refine lv_istore_n (lv' := [(0, .int (nI (pC (pB (pA x)) + ((pC (pB (pA x))) / 256) + ((pC (pB (pA x)) + (pC (pB (pA x))) / 256) / 65536))))]) hx hb dJ13_bitCount_47 rfl hl (by decide) rfl (fun ls hl => ?_)
  refine lv_iload_n hx hb dJ13_bitCount_48 rfl (lv_at hl 0 rfl) ?_
  refine lv_bipush (v := nI 63) hx hb dJ13_bitCount_49 rfl ?_
  refine lv_iand hx hb dJ13_bitCount_51 ?_
  refine r_as (z := nI (popN x)) (by rw [nx_and, w5]) ?_
  exact ret (nI (popN x)) dJ13_bitCount_52 rfl
