/-- the lines that are read, and those whose bits are made: but for seeds the same -/
def lnAg (n : Nat) (F Fl : Nat → Nat → Int32) : Prop := ∀ k, k < n → Fl k 0 = F k 0 ∧ Fl k 1 = F k 1 ∧ (kd F k ≠ 0 → Fl k 2 = F k 2) ∧ Fl k 3 = F k 3
theorem lnAg.rfl' {n : Nat} {F : Nat → Nat → Int32} : lnAg n F F := fun _ _ => ⟨rfl, rfl, fun _ => rfl, rfl⟩
/-- the registers at the tick T -/
def rgI (F : Nat → Nat → Int32) (n : Nat) (rf : Nat → Int32) (T : Nat) : Prop := ∀ k, k < n → kd F k = 0 → rf k = nI (regN (nm F k 2) T)
/-- the latest bits ahead of the tick T -/
def ltI (F : Nat → Nat → Int32) (n : Nat) (lf : Nat → Int32) (T : Nat) : Prop := ∀ k, k < n → ∀ t, t < T → T ≤ t + 64 → lf (64 * k + t % 64) = nI (bitN F k t)
theorem bit_made {F : Nat → Nat → Int32} {n k : Nat} (ok : ∀ k, k < n → lnOk F k) (hk : k < n) (h1 : 1 ≤ kd F k) (T : Nat) : lbN (kd F k) (if kd F k = 6 then (if T < nm F k 2 then 0 else bitN F (nm F k 1) (T - nm F k 2)) else bitN F (nm F k 1) T) (if 1 < lnBy (kd F k) then bitN F (nm F k 2) T else 0) (if 2 < lnBy (kd F k) then bitN F (nm F k 3) T else 0) = bitN F k T := by
  rw [bitN_eq ok hk T]
  unfold bStep lbN
  have h6 := (ok k hk).1.2
  rcases (by omega : kd F k = 1 ∨ kd F k = 2 ∨ kd F k = 3 ∨ kd F k = 4 ∨ kd F k = 5 ∨ kd F k = 6) with z | z | z | z | z | z <;> simp [z, lnBy]
theorem i8_01 : ∀ b, b ≤ 1 → (nI b).toInt8.toInt32 = nI b := by decide +kernel
theorem ltI_up {F : Nat → Nat → Int32} {k T : Nat} {lf : Nat → Int32} (h1 : ∀ j, j < k → ∀ t, t ≤ T → T < t + 64 → lf (64 * j + t % 64) = nI (bitN F j t)) : ∀ j, j < k + 1 → ∀ t, t ≤ T → T < t + 64 → upd lf (64 * k + T % 64) (nI (bitN F k T)) (64 * j + t % 64) = nI (bitN F j t) ∨ (j = k ∧ t < T) := by
  intro j hj t h2 h3
  by_cases e : j = k
  · subst e
    by_cases e2 : t = T
    · subst e2; exact Or.inl upd_s
    · exact Or.inr ⟨rfl, by omega⟩
  · have hm : t % 64 < 64 := Nat.mod_lt _ (by decide)
    have hm2 : T % 64 < 64 := Nat.mod_lt _ (by decide)
    left
    rw [upd_n (by omega)]
    exact h1 j (by omega) t h2 h3
theorem rg_s1 {F : Nat → Nat → Int32} {rf : Nat → Int32} {k T : Nat} (h : ∀ j, j < k → kd F j = 0 → rf j = nI (regN (nm F j 2) (T + 1))) : ∀ j, j < k + 1 → kd F j = 0 → upd rf k (nI (nxt (regN (nm F k 2) T))) j = nI (regN (nm F j 2) (T + 1)) := by
  intro j hj hz
  by_cases e : j = k
  · subst e; rw [upd_s]; rfl
  · rw [upd_n (by omega)]; exact h j (by omega) hz
theorem rg_s0 {F : Nat → Nat → Int32} {rf : Nat → Int32} {k T : Nat} (h : ∀ j, j < k → kd F j = 0 → rf j = nI (regN (nm F j 2) (T + 1))) (hk : kd F k ≠ 0) : ∀ j, j < k + 1 → kd F j = 0 → rf j = nI (regN (nm F j 2) (T + 1)) := by
  intro j hj hz
  by_cases e : j = k
  · subst e; exact absurd hz hk
  · exact h j (by omega) hz
theorem rg_s2 {F : Nat → Nat → Int32} {rf : Nat → Int32} {k T n : Nat} {x : Int32} (h : ∀ j, k ≤ j → j < n → kd F j = 0 → rf j = nI (regN (nm F j 2) T)) : ∀ j, k + 1 ≤ j → j < n → kd F j = 0 → upd rf k x j = nI (regN (nm F j 2) T) := fun j h1 h2 h3 => by rw [upd_n (by omega)]; exact h j (by omega) h2 h3
theorem lt_s1 {F : Nat → Nat → Int32} {lf : Nat → Int32} {k T n : Nat} (hk : k < n) (h1 : ∀ j, j < k → ∀ t, t ≤ T → T < t + 64 → lf (64 * j + t % 64) = nI (bitN F j t)) (h2 : ∀ j, k ≤ j → j < n → ∀ t, t < T → T ≤ t + 64 → lf (64 * j + t % 64) = nI (bitN F j t)) : ∀ j, j < k + 1 → ∀ t, t ≤ T → T < t + 64 → upd lf (64 * k + T % 64) (nI (bitN F k T)) (64 * j + t % 64) = nI (bitN F j t) := by
  intro j hj t h3 h4
  rcases ltI_up h1 j hj t h3 h4 with h | ⟨rfl, h⟩
  · exact h
  · rw [upd_n (by omega)]; exact h2 j (Nat.le_refl _) hk t h (by omega)
theorem lt_s2 {F : Nat → Nat → Int32} {lf : Nat → Int32} {k T n : Nat} {x : Int32} (h2 : ∀ j, k ≤ j → j < n → ∀ t, t < T → T ≤ t + 64 → lf (64 * j + t % 64) = nI (bitN F j t)) : ∀ j, k + 1 ≤ j → j < n → ∀ t, t < T → T ≤ t + 64 → upd lf (64 * k + T % 64) x (64 * j + t % 64) = nI (bitN F j t) := fun j h3 h4 t h5 h6 => by
  have := Nat.mod_lt T (by decide : 0 < 64)
  rw [upd_n (by omega)]; exact h2 j (by omega) h4 t h5 h6
theorem src_bit {F : Nat → Nat → Int32} {n k : Nat} (ok : ∀ k, k < n → lnOk F k) (hk : k < n) (h0 : kd F k = 0) (T : Nat) : nI (if regN (nm F k 2) T ≤ nm F k 1 then 1 else 0) = nI (bitN F k T) := by
  rw [bitN_eq ok hk T]; unfold bStep; rw [if_pos h0]
set_option maxHeartbeats 4000000 in
set_option maxRecDepth 100000 in
theorem R_at (l : Launch) (G : nG) (r : Nat) (ll : Nat) (rg : Nat) (lt : Nat) (lf : Nat → Int32) (T : Nat) (k : Nat) (t : Nat) (hk : k < 16) (ht : t < 2 ^ 20) : nSi l yX6_at cX6_at 3 (.int) 0 0 G [.ref r, .int (nI k), .int (nI t)] ([(r, .inr (6, [.ref ll, .ref rg, .ref lt, .int (nI T)])), (lt, .inl (G.1.1 101, 1024, .inl lf))]) (fun r : Int32 => r = (lf (64 * k + t % 64))) := by
  refine nSi.of (own := "ShareStreams$Run") rfl (by decide +kernel) (Nat.le_of_ble_eq_true rfl) (fun _ _ => rfl) ?_
  intro p e s m args below meth c Q ls hx hb hml hown hts hG hP hl ret
  have hl : lv_has ls 3 [(0, .ref r), (1, .int (nI k)), (2, .int (nI t))] := hl
  refine lv_iload_n hx hb dX6_at_0 rfl (lv_at hl 2 rfl) ?_
  refine lv_if_ge (tgt := 8) hx hb dX6_at_1 (by decide) (fun c1 => ?_) (fun c1 => ?_)
  · skip
    have c1 := n_le_t (a := 0) (b := t) c1 (by decide) (by omega)
    refine lv_aload_n hx hb dX6_at_8 rfl (lv_at hl 0 rfl) ?_
    refine r_get (v := .ref lt) hx hb hts in_X6 hown hG hP 0 rfl rfl 2 (by decide) q750 (fun _ h9 => h9) rfl dX6_at_9 ?_
    refine lv_bipush (v := nI 64) hx hb dX6_at_12 rfl ?_
    refine lv_iload_n hx hb dX6_at_14 rfl (lv_at hl 1 rfl) ?_
    refine lv_imul hx hb dX6_at_15 ?_
    refine r_as (z := nI (64 * k)) (pk_mul _ _) ?_
    refine lv_iload_n hx hb dX6_at_16 rfl (lv_at hl 2 rfl) ?_
    refine lv_bipush (v := nI 64) hx hb dX6_at_17 rfl ?_
    refine lv_irem hx hb dX6_at_19 (by decide) ?_
    refine r_as (z := nI (t % 64)) (pk_rem (by omega) (by decide) (by decide)) ?_
    refine lv_iadd hx hb dX6_at_20 ?_
    refine r_as (z := nI (64 * k + (t % 64))) (nI_add _ _) ?_
    refine r_bald hx hb hG hP 1 rfl (j := 64 * k + (t % 64)) (by omega) (by decide) (v := lf (64 * k + (t % 64))) rfl dX6_at_21 ?_
    exact ret (lf (64 * k + (t % 64))) dX6_at_22 (by first | rfl | assumption | omega | simp_all)
  · skip
    have c1 := n_le_f (a := 0) (b := t) c1 (by decide) (by omega)
    exfalso; omega
set_option maxHeartbeats 4000000 in
set_option maxRecDepth 100000 in
theorem R_atN (l : Launch) (G : nG) (r : Nat) (k : Nat) (t : Int32) (ht : t.toInt < 0) : nSi l yX6_at cX6_at 3 (.int) 0 0 G [.ref r, .int (nI k), .int t] ([]) (fun r : Int32 => r = (nI 0)) := by
  refine nSi.of (own := "ShareStreams$Run") rfl (by decide +kernel) (Nat.le_of_ble_eq_true rfl) (fun _ _ => rfl) ?_
  intro p e s m args below meth c Q ls hx hb hml hown hts hG hP hl ret
  have hl : lv_has ls 3 [(0, .ref r), (1, .int (nI k)), (2, .int t)] := hl
  refine lv_iload_n hx hb dX6_at_0 rfl (lv_at hl 2 rfl) ?_
  refine lv_if_ge (tgt := 8) hx hb dX6_at_1 (by decide) (fun c1 => ?_) (fun c1 => ?_)
  · skip
    exact absurd (show (0 : Int32) ≤ t from c1) (by rw [Int32.le_iff_toInt_le, Int32.toInt_zero]; omega)
  · skip
    refine lv_iconst (v := nI 0) hx hb dX6_at_4 rfl ?_
    refine lv_goto (tgt := 22) hx hb dX6_at_5 (by decide) ?_
    exact ret (nI 0) dX6_at_22 (by first | rfl | assumption | omega | simp_all)
set_option maxHeartbeats 4000000 in
set_option maxRecDepth 100000 in
theorem S_next (l : Launch) (G : nG) (r0 : Nat) (hr : r0 < 256) : nSi l yX0_next cX0_next 2 (.int) 0 0 G [.int (nI r0)] ([]) (fun r : Int32 => r = (nI (nxt r0))) := by
  refine nSi.of (own := "ShareStreams") rfl (by decide +kernel) (Nat.le_of_ble_eq_true rfl) (fun _ _ => rfl) ?_
  intro p e s m args below meth c Q ls hx hb hml hown hts hG hP hl ret
  have hl : lv_has ls 2 [(0, .int (nI r0))] := hl
  refine lv_iconst (v := nI 2) hx hb dX0_next_0 rfl ?_
  refine lv_iload_n hx hb dX0_next_1 rfl (lv_at hl 0 rfl) ?_
  refine lv_imul hx hb dX0_next_2 ?_
  refine r_as (z := nI (2 * r0)) (pk_mul _ _) ?_
  refine lv_istore_n (lv' := [(1, .int (nI (2 * r0))), (0, .int (nI r0))]) hx hb dX0_next_3 rfl hl (by decide) rfl (fun ls hl => ?_)
  refine lv_iload_n hx hb dX0_next_4 rfl (lv_at hl 0 rfl) ?_
  refine lv_sipush (v := nI 255) hx hb dX0_next_5 rfl ?_
  refine lv_icmp_le (tgt := 24) hx hb dX0_next_8 (by decide) (fun c8 => ?_) (fun c8 => ?_)
  · skip
    have c8 := n_le_t (a := 2 * r0) (b := 255) c8 (by omega) (by decide)
    refine lv_iload_n hx hb dX0_next_24 rfl (lv_at hl 0 rfl) ?_
    exact ret (nI (2 * r0)) dX0_next_25 (by first | rfl | (rw [nxt, if_neg (by omega)]))
  · skip
    have c8 := n_le_f (a := 2 * r0) (b := 255) c8 (by omega) (by decide)
    refine lv_iload_n hx hb dX0_next_11 rfl (lv_at hl 0 rfl) ?_
    refine lv_sipush (v := nI 255) hx hb dX0_next_12 rfl ?_
    refine lv_isub hx hb dX0_next_15 ?_
    refine r_as (z := nI ((2 * r0) - 255)) (pk_sub (by omega)) ?_
    refine lv_iconst (v := nI 1) hx hb dX0_next_16 rfl ?_
    refine lv_isub hx hb dX0_next_17 ?_
    refine r_as (z := nI (((2 * r0) - 255) - 1)) (pk_sub (by omega)) ?_
    refine lv_bipush (v := nI 29) hx hb dX0_next_18 rfl ?_
    refine lv_ixor hx hb dX0_next_20 ?_
    refine r_as (z := nI (nxt r0)) (by rw [nx_xor, nxt, if_pos (by omega), Nat.sub_sub]) ?_
    refine lv_goto (tgt := 25) hx hb dX0_next_21 (by decide) ?_
    exact ret (nI (nxt r0)) dX0_next_25 (by first | rfl | (rw [nxt, if_neg (by omega)]))
set_option maxHeartbeats 4000000 in
set_option maxRecDepth 100000 in
theorem R_src (l : Launch) (G : nG) (rc : va_W) (r : Nat) (ll : Nat) (rg : Nat) (lt : Nat) (rf : Nat → Int32) (T : Nat) (k : Nat) (y_ : Nat) (Fl : Nat → Nat → Int32) (v : Nat) (r0 : Nat) (hln : iLine G rc y_ (Fl k)) (hv : Fl k (0 + 1) = nI v) (hv2 : v ≤ 256) (hr : rf k = nI r0) (hr0 : r0 < 256) (hk : k < 16) : nMi (S := Unit) l yX6_source cX6_source 4 (.int) 1 0 0 21 G [.ref r, .int (nI k), .ref y_] ([(r, .inr (6, [.ref ll, .ref rg, .ref lt, .int (nI T)])), (rg, .inl (G.1.1 100, 16, .inl rf))]) rc (fun (u : Unit) => [(r, .inr (6, [.ref ll, .ref rg, .ref lt, .int (nI T)])), (rg, .inl (G.1.1 100, 16, .inl (upd rf k (nI (nxt r0)))))]) (fun (r : Int32) (u : Unit) => r = (nI (if r0 ≤ v then 1 else 0))) := by
  refine nMi.of (own := "ShareStreams$Run") rfl (by decide +kernel) (Nat.le_of_ble_eq_true rfl) (fun _ _ _ => rfl) ?_
  intro p e s m args below meth c A Q ls hx hb hml hown hts hin hG Z hl ret
  have hl : lv_has ls 4 [(0, .ref r), (1, .int (nI k)), (2, .ref y_)] := hl
  have Z : nW G A ([(r, .inr (6, [.ref ll, .ref rg, .ref lt, .int (nI T)])), (rg, .inl (G.1.1 100, 16, .inl rf))]) ([]) rc s.heap _ _ := Z
  have hln0 := hln
  obtain ⟨a_, L_, fl_, hm4, hm5, hL_, hrow⟩ := hln0
  refine lv_aload_n hx hb dX6_source_0 rfl (lv_at hl 0 rfl) ?_
  refine r_get (v := .ref rg) hx hb hts in_X6 hown hG Z.w 0 rfl rfl 1 (by decide) q748 (fun _ h9 => h9) rfl dX6_source_1 ?_
  refine lv_iload_n hx hb dX6_source_4 rfl (lv_at hl 1 rfl) ?_
  refine r_iald hx hb hG Z.w 1 rfl (j := k) (by omega) (by decide) (v := nI r0) hr dX6_source_5 ?_
  refine lv_istore_n (lv' := [(3, .int (nI r0)), (0, .ref r), (1, .int (nI k)), (2, .ref y_)]) hx hb dX6_source_6 rfl hl (by decide) rfl (fun ls hl => ?_)
  refine lv_aload_n hx hb dX6_source_7 rfl (lv_at hl 1 rfl) ?_
  refine r_get (v := .ref rg) hx hb hts in_X6 hown hG Z.w 0 rfl rfl 1 (by decide) q748 (fun _ h9 => h9) rfl dX6_source_8 ?_
  refine lv_iload_n hx hb dX6_source_11 rfl (lv_at hl 2 rfl) ?_
  refine lv_iload_n hx hb dX6_source_12 rfl (lv_at hl 0 rfl) ?_
  refine ns_i (k := 3) (nr_SN (As := [.int (nI r0)]) (rest := [.int (nI k), .ref rg]) hx hb hml hown hts hG (S_next l G r0 (by first | assumption | omega | rfl)) nPs.blind 1 q773 q774 q44 q775 (by decide +kernel) ⟨⟨Nat.le_of_ble_eq_true rfl, Nat.le_of_ble_eq_true rfl⟩, Nat.le_of_ble_eq_true rfl, Nat.le_of_ble_eq_true rfl⟩ (nPs_of hG Z va_P.m0) rfl hl.1 rfl (Nat.le_of_ble_eq_true rfl) dX6_source_13) (fun r13 hp13 => ?_)
  have he13 := hp13
  have he13 : r13 = nI (nxt r0) := he13
  subst he13
  refine r_iast hx hb hG Z 1 rfl (j := k) (by omega) (by decide) (wc' := [(r, .inr (6, [.ref ll, .ref rg, .ref lt, .int (nI T)])), (rg, .inl (G.1.1 100, 16, .inl (upd rf k (nI (nxt r0)))))]) rfl dX6_source_16 (fun H locs Z => ?_)
  refine lv_iload_n hx hb dX6_source_17 rfl (lv_at hl 0 rfl) ?_
  refine lv_aload_n hx hb dX6_source_18 rfl (lv_at hl 3 rfl) ?_
  refine lv_iconst (v := nI 0) hx hb dX6_source_19 rfl ?_
  refine ns_i (k := 5) (nr_F (C := "ShareStreams$Plain") (ci := 4) (As := [.int (nI 0)]) (rest := [.int (nI r0)]) hx hb hml hown hts hG (L_num l G rc y_ (Fl k) 0 (by first | assumption | omega | rfl) (by first | assumption | omega | rfl)) nPs.blind 1 q746 q353 q355 q55 q357 (by decide +kernel) (by decide +kernel) ⟨⟨Nat.le_of_ble_eq_true rfl, Nat.le_of_ble_eq_true rfl⟩, Nat.le_of_ble_eq_true rfl, Nat.le_of_ble_eq_true rfl⟩ rfl rfl (r_recv hG (va_P.m1 Z.rc hm4 va_P.m0) 0 (C := "ShareStreams$Plain") rfl rfl rfl) (nPs_of hG Z Z.rc) rfl hl.1 rfl (Nat.le_of_ble_eq_true rfl) dX6_source_20) (fun r20 hp20 => ?_)
  have he20 := hp20
  have he20 : r20 = (Fl k) (0 + 1) := he20
  subst he20
  refine r_as (z := nI v) hv ?_
  refine lv_icmp_gt (tgt := 32) hx hb dX6_source_25 (by decide) (fun c25 => ?_) (fun c25 => ?_)
  · skip
    have c25 := n_lt_t (a := v) (b := r0) c25 (by omega) (by omega)
    refine lv_iconst (v := nI 0) hx hb dX6_source_32 rfl ?_
    exact ret (nI 0) () dX6_source_33 (by first | (rw [if_pos (by omega)]; done) | (rw [if_neg (by omega)]; done)) Z (Nat.le_of_ble_eq_true rfl) (Nat.le_of_ble_eq_true rfl)
  · skip
    have c25 := n_lt_f (a := v) (b := r0) c25 (by omega) (by omega)
    refine lv_iconst (v := nI 1) hx hb dX6_source_28 rfl ?_
    refine lv_goto (tgt := 33) hx hb dX6_source_29 (by decide) ?_
    exact ret (nI 1) () dX6_source_33 (by first | (rw [if_pos (by omega)]; done) | (rw [if_neg (by omega)]; done)) Z (Nat.le_of_ble_eq_true rfl) (Nat.le_of_ble_eq_true rfl)
set_option maxHeartbeats 4000000 in
set_option maxRecDepth 100000 in
theorem R_made (l : Launch) (G : nG) (rc : va_W) (r : Nat) (ll : Nat) (rg : Nat) (lt : Nat) (lf : Nat → Int32) (T : Nat) (k : Nat) (n : Nat) (y_ : Nat) (F : Nat → Nat → Int32) (Fl : Nat → Nat → Int32) (hln : iLine G rc y_ (Fl k)) (hag : lnAg n F Fl) (ok : ∀ k, k < n → lnOk F k) (hn : n ≤ 16) (hk : k < n) (h1 : 1 ≤ kd F k) (hT : T < 2 ^ 18) (hbt : ∀ j, j < k → ∀ t, t ≤ T → T < t + 64 → lf (64 * j + t % 64) = nI (bitN F j t)) : nSi l yX6_made cX6_made 5 (.int) 2 43 G [.ref r, .ref y_] ([(r, .inr (6, [.ref ll, .ref rg, .ref lt, .int (nI T)])), (lt, .inl (G.1.1 101, 1024, .inl lf))] ++ rc) (fun r : Int32 => r = (nI (bitN F k T))) := by
  refine nSi.of (own := "ShareStreams$Run") rfl (by decide +kernel) (Nat.le_of_ble_eq_true rfl) (fun _ _ => rfl) ?_
  intro p e s m args below meth c Q ls hx hb hml hown hts hG hP hl ret
  have hl : lv_has ls 5 [(0, .ref r), (1, .ref y_)] := hl
  have hln0 := hln
  obtain ⟨a_, L_, fl_, hm4, hm5, hL_, hrow⟩ := hln0
  obtain ⟨hg0, hg1, hg2, hg3⟩ := hag k (hk)
  have hokk := ok k (hk)
  obtain ⟨⟨od, hk6⟩, ls0, ls1, ls2, ls3, ls6, ln3, ln2⟩ := hokk
  have hk0 : Fl k 0 = nI (kd F k) := hg0.trans od
  have e1 : Fl k (0 + 1) = nI (nm F k 1) := hg1.trans (ls1 h1).1
  have p1 := (ls1 h1).2
  have hl0 := lnBy_le (kd F k)
  refine lv_aload_n hx hb dX6_made_0 rfl (lv_at hl 1 rfl) ?_
  refine ns_i (k := 5) (nr_F (C := "ShareStreams$Plain") (ci := 4) (As := []) (rest := []) hx hb hml hown hts hG (L_kind l G rc y_ (Fl k) (by first | assumption | omega | rfl)) nPs.blind 0 q744 q343 q345 q55 q347 (by decide +kernel) (by decide +kernel) ⟨⟨Nat.le_of_ble_eq_true rfl, Nat.le_of_ble_eq_true rfl⟩, Nat.le_of_ble_eq_true rfl, Nat.le_of_ble_eq_true rfl⟩ rfl rfl (r_recv hG (va_P.m1 hP (List.mem_append_right _ hm4) va_P.m0) 0 (C := "ShareStreams$Plain") rfl rfl rfl) (nPs_of0 hG (hP.mono (fun q h => List.mem_append_right _ h))) rfl hl.1 rfl (Nat.le_of_ble_eq_true rfl) dX6_made_1) (fun r1 hp1 => ?_)
  have he1 := hp1
  have he1 : r1 = (Fl k) 0 := he1
  subst he1
  refine r_as (z := nI (kd F k)) hk0 ?_
  refine lv_bipush (v := nI 6) hx hb dX6_made_6 rfl ?_
  refine lv_icmp_ne (tgt := 21) hx hb dX6_made_8 (by decide) (fun c8 => ?_) (fun c8 => ?_)
  · skip
    have c8 := n_eq_f (a := kd F k) (b := 6) c8
    refine lv_iconst (v := nI 0) hx hb dX6_made_21 rfl ?_
    refine lv_istore_n (lv' := [(2, .int (nI 0)), (0, .ref r), (1, .ref y_)]) hx hb dX6_made_22 rfl hl (by decide) rfl (fun ls hl => ?_)
    refine lv_aload_n hx hb dX6_made_23 rfl (lv_at hl 2 rfl) ?_
    refine lv_iconst (v := nI 1) hx hb dX6_made_24 rfl ?_
    refine ns_i (k := 5) (nr_D (As := [.int (nI 1)]) (rest := []) hx hb hml hown hts hG (L_isLine l G rc y_ (Fl k) (kd F k) 1 (by first | assumption | omega | rfl) (by first | assumption | omega | rfl) (by first | assumption | omega | rfl) (by first | assumption | omega | rfl)) nPs.blind 1 q781 q603 q54 q605 (by decide +kernel) (by decide +kernel) ⟨⟨Nat.le_of_ble_eq_true rfl, Nat.le_of_ble_eq_true rfl⟩, Nat.le_of_ble_eq_true rfl, Nat.le_of_ble_eq_true rfl⟩ (r_recv hG (va_P.m1 hP (List.mem_append_right _ hm4) va_P.m0) 0 (C := "ShareStreams$Plain") rfl rfl rfl) (nPs_of0 hG (hP.mono (fun q h => List.mem_append_right _ h))) rfl hl.1 rfl (Nat.le_of_ble_eq_true rfl) dX6_made_25) (fun r25 hp25 => ?_)
    have he25 := hp25
    have he25 : r25 = bI (decide (1 < lnBy (kd F k))) := he25
    subst he25
    refine lv_if_eq (tgt := 51) hx hb dX6_made_30 (by decide) (fun c30 => ?_) (fun c30 => ?_)
    · skip
      have c30 := bI_f c30
      have c30 := of_decide_eq_false c30
      refine lv_iconst (v := nI 0) hx hb dX6_made_51 rfl ?_
      refine lv_istore_n (lv' := [(3, .int (nI 0)), (2, .int (nI 0)), (0, .ref r), (1, .ref y_)]) hx hb dX6_made_52 rfl hl (by decide) rfl (fun ls hl => ?_)
      refine lv_aload_n hx hb dX6_made_53 rfl (lv_at hl 3 rfl) ?_
      refine lv_iconst (v := nI 2) hx hb dX6_made_54 rfl ?_
      refine ns_i (k := 5) (nr_D (As := [.int (nI 2)]) (rest := []) hx hb hml hown hts hG (L_isLine l G rc y_ (Fl k) (kd F k) 2 (by first | assumption | omega | rfl) (by first | assumption | omega | rfl) (by first | assumption | omega | rfl) (by first | assumption | omega | rfl)) nPs.blind 1 q781 q603 q54 q605 (by decide +kernel) (by decide +kernel) ⟨⟨Nat.le_of_ble_eq_true rfl, Nat.le_of_ble_eq_true rfl⟩, Nat.le_of_ble_eq_true rfl, Nat.le_of_ble_eq_true rfl⟩ (r_recv hG (va_P.m1 hP (List.mem_append_right _ hm4) va_P.m0) 0 (C := "ShareStreams$Plain") rfl rfl rfl) (nPs_of0 hG (hP.mono (fun q h => List.mem_append_right _ h))) rfl hl.1 rfl (Nat.le_of_ble_eq_true rfl) dX6_made_55) (fun r55 hp55 => ?_)
      have he55 := hp55
      have he55 : r55 = bI (decide (2 < lnBy (kd F k))) := he55
      subst he55
      refine lv_if_eq (tgt := 81) hx hb dX6_made_60 (by decide) (fun c60 => ?_) (fun c60 => ?_)
      · skip
        have c60 := bI_f c60
        have c60 := of_decide_eq_false c60
        refine lv_iconst (v := nI 0) hx hb dX6_made_81 rfl ?_
        refine lv_istore (lv' := [(4, .int (nI 0)), (3, .int (nI 0)), (2, .int (nI 0)), (0, .ref r), (1, .ref y_)]) hx hb dX6_made_82 hl (by decide) rfl (fun ls hl => ?_)
        refine lv_aload_n hx hb dX6_made_84 rfl (lv_at hl 4 rfl) ?_
        refine lv_aload_n hx hb dX6_made_85 rfl (lv_at hl 3 rfl) ?_
        refine lv_aload_n hx hb dX6_made_86 rfl (lv_at hl 4 rfl) ?_
        refine lv_iconst (v := nI 0) hx hb dX6_made_87 rfl ?_
        refine ns_i (k := 5) (nr_F (C := "ShareStreams$Plain") (ci := 4) (As := [.int (nI 0)]) (rest := [.ref r, .ref y_]) hx hb hml hown hts hG (L_num l G rc y_ (Fl k) 0 (by first | assumption | omega | rfl) (by first | assumption | omega | rfl)) nPs.blind 1 q746 q353 q355 q55 q357 (by decide +kernel) (by decide +kernel) ⟨⟨Nat.le_of_ble_eq_true rfl, Nat.le_of_ble_eq_true rfl⟩, Nat.le_of_ble_eq_true rfl, Nat.le_of_ble_eq_true rfl⟩ rfl rfl (r_recv hG (va_P.m1 hP (List.mem_append_right _ hm4) va_P.m0) 0 (C := "ShareStreams$Plain") rfl rfl rfl) (nPs_of0 hG (hP.mono (fun q h => List.mem_append_right _ h))) rfl hl.1 rfl (Nat.le_of_ble_eq_true rfl) dX6_made_88) (fun r88 hp88 => ?_)
        have he88 := hp88
        have he88 : r88 = (Fl k) (0 + 1) := he88
        subst he88
        refine r_as (z := nI (nm F k 1)) e1 ?_
        refine lv_aload_n hx hb dX6_made_93 rfl (lv_at hl 3 rfl) ?_
        refine r_get (v := .int (nI T)) hx hb hts in_X6 hown hG hP 0 rfl rfl 3 (by decide) q751 (fun _ h9 => h9) rfl dX6_made_94 ?_
        refine lv_iload_n hx hb dX6_made_97 rfl (lv_at hl 2 rfl) ?_
        refine lv_isub hx hb dX6_made_98 ?_
        refine r_as (z := nI T) (pk_sub (Nat.zero_le _)) ?_
        refine ns_i (k := 3) (nr_V (As := [.int (nI (nm F k 1)), .int (nI T)]) (rest := [.ref y_]) hx hb hml hown hts (R_at l G r ll rg lt lf T (nm F k 1) T (by first | assumption | omega | rfl) (by first | assumption | omega | rfl)) nPs.blind 2 q782 q784 qs15 q64 q785 (by decide +kernel) ⟨⟨Nat.le_of_ble_eq_true rfl, Nat.le_of_ble_eq_true rfl⟩, Nat.le_of_ble_eq_true rfl, Nat.le_of_ble_eq_true rfl⟩ (r_recv hG hP 0 (C := "ShareStreams$Run") rfl rfl rfl) (nPs_of0 hG (hP.sub [0, 1] rfl)) rfl hl.1 rfl (Nat.le_of_ble_eq_true rfl) dX6_made_99) (fun r99 hp99 => ?_)
        have he99 := hp99
        have he99 : r99 = lf (64 * (nm F k 1) + T % 64) := he99
        subst he99
        refine r_as (z := nI (bitN F (nm F k 1) (T))) (hbt _ p1 _ (by omega) (by omega)) ?_
        refine lv_iload_n hx hb dX6_made_102 rfl (lv_at hl 1 rfl) ?_
        refine lv_iload hx hb dX6_made_103 (lv_at hl 0 rfl) ?_
        have b1_ := bit_le ok (k := nm F k 1) (by omega)
        have hz0 : (0 : Nat) ≤ 1 := by decide
        refine ns_i (k := 5) (nr_D (As := [.int (nI (bitN F (nm F k 1) (T))), .int (nI 0), .int (nI 0)]) (rest := []) hx hb hml hown hts hG (L_bit l G rc y_ (Fl k) (kd F k) (bitN F (nm F k 1) (T)) 0 0 (by first | assumption | omega | rfl) (by first | assumption | omega | rfl) (by first | assumption | omega | rfl) h1 (by first | exact b1_ _ | decide) (by first | exact b2_ | decide) (by first | exact b3_ | decide)) nPs.blind 3 q787 q791 q54 q793 (by decide +kernel) (by decide +kernel) ⟨⟨Nat.le_of_ble_eq_true rfl, Nat.le_of_ble_eq_true rfl⟩, Nat.le_of_ble_eq_true rfl, Nat.le_of_ble_eq_true rfl⟩ (r_recv hG (va_P.m1 hP (List.mem_append_right _ hm4) va_P.m0) 0 (C := "ShareStreams$Plain") rfl rfl rfl) (nPs_of0 hG (hP.mono (fun q h => List.mem_append_right _ h))) rfl hl.1 rfl (Nat.le_of_ble_eq_true rfl) dX6_made_105) (fun r105 hp105 => ?_)
        have he105 := hp105
        have he105 : r105 = nI (lbN (kd F k) (bitN F (nm F k 1) (T)) 0 0) := he105
        subst he105
        exact ret (nI (lbN (kd F k) (bitN F (nm F k 1) (T)) 0 0)) dX6_made_110 (by rw [← bit_made ok hk h1 T]; first | (exfalso; omega) | (simp only [c8, c30, c60, c97, if_true, if_false]; done) | (simp [c8, c30, c60]; done) | (rw [if_pos c8, if_pos c97, if_neg c30, if_neg c60]; done) | (rw [if_pos c8, if_neg (Nat.not_lt.mpr c97), if_neg c30, if_neg c60]; done) | simp [c8, c30, c60, c97])
      · skip
        have c60 := bI_t c60
        have c60 := of_decide_eq_true c60
        have q3 : kd F k = 4 := (by have h9 := c60; unfold lnBy at h9; split at h9; omega; split at h9; omega; split at h9 <;> omega)
        have e3 : Fl k (2 + 1) = nI (nm F k 3) := hg3.trans (ls3 q3).1
        have p3 := (ls3 q3).2
        refine lv_aload_n hx hb dX6_made_63 rfl (lv_at hl 2 rfl) ?_
        refine lv_aload_n hx hb dX6_made_64 rfl (lv_at hl 3 rfl) ?_
        refine lv_iconst (v := nI 2) hx hb dX6_made_65 rfl ?_
        refine ns_i (k := 5) (nr_F (C := "ShareStreams$Plain") (ci := 4) (As := [.int (nI 2)]) (rest := [.ref r]) hx hb hml hown hts hG (L_num l G rc y_ (Fl k) 2 (by first | assumption | omega | rfl) (by first | assumption | omega | rfl)) nPs.blind 1 q746 q353 q355 q55 q357 (by decide +kernel) (by decide +kernel) ⟨⟨Nat.le_of_ble_eq_true rfl, Nat.le_of_ble_eq_true rfl⟩, Nat.le_of_ble_eq_true rfl, Nat.le_of_ble_eq_true rfl⟩ rfl rfl (r_recv hG (va_P.m1 hP (List.mem_append_right _ hm4) va_P.m0) 0 (C := "ShareStreams$Plain") rfl rfl rfl) (nPs_of0 hG (hP.mono (fun q h => List.mem_append_right _ h))) rfl hl.1 rfl (Nat.le_of_ble_eq_true rfl) dX6_made_66) (fun r66 hp66 => ?_)
        have he66 := hp66
        have he66 : r66 = (Fl k) (2 + 1) := he66
        subst he66
        refine r_as (z := nI (nm F k 3)) e3 ?_
        refine lv_aload_n hx hb dX6_made_71 rfl (lv_at hl 2 rfl) ?_
        refine r_get (v := .int (nI T)) hx hb hts in_X6 hown hG hP 0 rfl rfl 3 (by decide) q751 (fun _ h9 => h9) rfl dX6_made_72 ?_
        refine ns_i (k := 3) (nr_V (As := [.int (nI (nm F k 3)), .int (nI T)]) (rest := []) hx hb hml hown hts (R_at l G r ll rg lt lf T (nm F k 3) T (by first | assumption | omega | rfl) (by first | assumption | omega | rfl)) nPs.blind 2 q782 q784 qs15 q64 q785 (by decide +kernel) ⟨⟨Nat.le_of_ble_eq_true rfl, Nat.le_of_ble_eq_true rfl⟩, Nat.le_of_ble_eq_true rfl, Nat.le_of_ble_eq_true rfl⟩ (r_recv hG hP 0 (C := "ShareStreams$Run") rfl rfl rfl) (nPs_of0 hG (hP.sub [0, 1] rfl)) rfl hl.1 rfl (Nat.le_of_ble_eq_true rfl) dX6_made_75) (fun r75 hp75 => ?_)
        have he75 := hp75
        have he75 : r75 = lf (64 * (nm F k 3) + T % 64) := he75
        subst he75
        refine r_as (z := nI (bitN F (nm F k 3) T)) (hbt _ p3 T (Nat.le_refl _) (by omega)) ?_
        refine lv_goto (tgt := 82) hx hb dX6_made_78 (by decide) ?_
        refine lv_istore (lv' := [(4, .int (nI (bitN F (nm F k 3) T))), (3, .int (nI 0)), (2, .int (nI 0)), (0, .ref r), (1, .ref y_)]) hx hb dX6_made_82 hl (by decide) rfl (fun ls hl => ?_)
        refine lv_aload_n hx hb dX6_made_84 rfl (lv_at hl 4 rfl) ?_
        refine lv_aload_n hx hb dX6_made_85 rfl (lv_at hl 3 rfl) ?_
        refine lv_aload_n hx hb dX6_made_86 rfl (lv_at hl 4 rfl) ?_
        refine lv_iconst (v := nI 0) hx hb dX6_made_87 rfl ?_
        refine ns_i (k := 5) (nr_F (C := "ShareStreams$Plain") (ci := 4) (As := [.int (nI 0)]) (rest := [.ref r, .ref y_]) hx hb hml hown hts hG (L_num l G rc y_ (Fl k) 0 (by first | assumption | omega | rfl) (by first | assumption | omega | rfl)) nPs.blind 1 q746 q353 q355 q55 q357 (by decide +kernel) (by decide +kernel) ⟨⟨Nat.le_of_ble_eq_true rfl, Nat.le_of_ble_eq_true rfl⟩, Nat.le_of_ble_eq_true rfl, Nat.le_of_ble_eq_true rfl⟩ rfl rfl (r_recv hG (va_P.m1 hP (List.mem_append_right _ hm4) va_P.m0) 0 (C := "ShareStreams$Plain") rfl rfl rfl) (nPs_of0 hG (hP.mono (fun q h => List.mem_append_right _ h))) rfl hl.1 rfl (Nat.le_of_ble_eq_true rfl) dX6_made_88) (fun r88 hp88 => ?_)
        have he88 := hp88
        have he88 : r88 = (Fl k) (0 + 1) := he88
        subst he88
        refine r_as (z := nI (nm F k 1)) e1 ?_
        refine lv_aload_n hx hb dX6_made_93 rfl (lv_at hl 3 rfl) ?_
        refine r_get (v := .int (nI T)) hx hb hts in_X6 hown hG hP 0 rfl rfl 3 (by decide) q751 (fun _ h9 => h9) rfl dX6_made_94 ?_
        refine lv_iload_n hx hb dX6_made_97 rfl (lv_at hl 2 rfl) ?_
        refine lv_isub hx hb dX6_made_98 ?_
        refine r_as (z := nI T) (pk_sub (Nat.zero_le _)) ?_
        refine ns_i (k := 3) (nr_V (As := [.int (nI (nm F k 1)), .int (nI T)]) (rest := [.ref y_]) hx hb hml hown hts (R_at l G r ll rg lt lf T (nm F k 1) T (by first | assumption | omega | rfl) (by first | assumption | omega | rfl)) nPs.blind 2 q782 q784 qs15 q64 q785 (by decide +kernel) ⟨⟨Nat.le_of_ble_eq_true rfl, Nat.le_of_ble_eq_true rfl⟩, Nat.le_of_ble_eq_true rfl, Nat.le_of_ble_eq_true rfl⟩ (r_recv hG hP 0 (C := "ShareStreams$Run") rfl rfl rfl) (nPs_of0 hG (hP.sub [0, 1] rfl)) rfl hl.1 rfl (Nat.le_of_ble_eq_true rfl) dX6_made_99) (fun r99 hp99 => ?_)
        have he99 := hp99
        have he99 : r99 = lf (64 * (nm F k 1) + T % 64) := he99
        subst he99
        refine r_as (z := nI (bitN F (nm F k 1) (T))) (hbt _ p1 _ (by omega) (by omega)) ?_
        refine lv_iload_n hx hb dX6_made_102 rfl (lv_at hl 1 rfl) ?_
        refine lv_iload hx hb dX6_made_103 (lv_at hl 0 rfl) ?_
        have b1_ := bit_le ok (k := nm F k 1) (by omega)
        have hz0 : (0 : Nat) ≤ 1 := by decide
        have b3_ := bit_le ok (k := nm F k 3) (by omega) T
        refine ns_i (k := 5) (nr_D (As := [.int (nI (bitN F (nm F k 1) (T))), .int (nI 0), .int (nI (bitN F (nm F k 3) T))]) (rest := []) hx hb hml hown hts hG (L_bit l G rc y_ (Fl k) (kd F k) (bitN F (nm F k 1) (T)) 0 (bitN F (nm F k 3) T) (by first | assumption | omega | rfl) (by first | assumption | omega | rfl) (by first | assumption | omega | rfl) h1 (by first | exact b1_ _ | decide) (by first | exact b2_ | decide) (by first | exact b3_ | decide)) nPs.blind 3 q787 q791 q54 q793 (by decide +kernel) (by decide +kernel) ⟨⟨Nat.le_of_ble_eq_true rfl, Nat.le_of_ble_eq_true rfl⟩, Nat.le_of_ble_eq_true rfl, Nat.le_of_ble_eq_true rfl⟩ (r_recv hG (va_P.m1 hP (List.mem_append_right _ hm4) va_P.m0) 0 (C := "ShareStreams$Plain") rfl rfl rfl) (nPs_of0 hG (hP.mono (fun q h => List.mem_append_right _ h))) rfl hl.1 rfl (Nat.le_of_ble_eq_true rfl) dX6_made_105) (fun r105 hp105 => ?_)
        have he105 := hp105
        have he105 : r105 = nI (lbN (kd F k) (bitN F (nm F k 1) (T)) 0 (bitN F (nm F k 3) T)) := he105
        subst he105
        exact ret (nI (lbN (kd F k) (bitN F (nm F k 1) (T)) 0 (bitN F (nm F k 3) T))) dX6_made_110 (by rw [← bit_made ok hk h1 T]; first | (exfalso; omega) | (simp only [c8, c30, c60, c97, if_true, if_false]; done) | (simp [c8, c30, c60]; done) | (rw [if_pos c8, if_pos c97, if_neg c30, if_neg c60]; done) | (rw [if_pos c8, if_neg (Nat.not_lt.mpr c97), if_neg c30, if_neg c60]; done) | simp [c8, c30, c60, c97])
    · skip
      have c30 := bI_t c30
      have c30 := of_decide_eq_true c30
      have q2 : kd F k ≤ 4 := (by have h9 := c30; unfold lnBy at h9; split at h9; omega; split at h9; omega; split at h9 <;> omega)
      have e2 : Fl k (1 + 1) = nI (nm F k 2) := (hg2 (by omega)).trans (ls2 ⟨h1, q2⟩).1
      have p2 := (ls2 ⟨h1, q2⟩).2
      refine lv_aload_n hx hb dX6_made_33 rfl (lv_at hl 1 rfl) ?_
      refine lv_aload_n hx hb dX6_made_34 rfl (lv_at hl 2 rfl) ?_
      refine lv_iconst (v := nI 1) hx hb dX6_made_35 rfl ?_
      refine ns_i (k := 5) (nr_F (C := "ShareStreams$Plain") (ci := 4) (As := [.int (nI 1)]) (rest := [.ref r]) hx hb hml hown hts hG (L_num l G rc y_ (Fl k) 1 (by first | assumption | omega | rfl) (by first | assumption | omega | rfl)) nPs.blind 1 q746 q353 q355 q55 q357 (by decide +kernel) (by decide +kernel) ⟨⟨Nat.le_of_ble_eq_true rfl, Nat.le_of_ble_eq_true rfl⟩, Nat.le_of_ble_eq_true rfl, Nat.le_of_ble_eq_true rfl⟩ rfl rfl (r_recv hG (va_P.m1 hP (List.mem_append_right _ hm4) va_P.m0) 0 (C := "ShareStreams$Plain") rfl rfl rfl) (nPs_of0 hG (hP.mono (fun q h => List.mem_append_right _ h))) rfl hl.1 rfl (Nat.le_of_ble_eq_true rfl) dX6_made_36) (fun r36 hp36 => ?_)
      have he36 := hp36
      have he36 : r36 = (Fl k) (1 + 1) := he36
      subst he36
      refine r_as (z := nI (nm F k 2)) e2 ?_
      refine lv_aload_n hx hb dX6_made_41 rfl (lv_at hl 1 rfl) ?_
      refine r_get (v := .int (nI T)) hx hb hts in_X6 hown hG hP 0 rfl rfl 3 (by decide) q751 (fun _ h9 => h9) rfl dX6_made_42 ?_
      refine ns_i (k := 3) (nr_V (As := [.int (nI (nm F k 2)), .int (nI T)]) (rest := []) hx hb hml hown hts (R_at l G r ll rg lt lf T (nm F k 2) T (by first | assumption | omega | rfl) (by first | assumption | omega | rfl)) nPs.blind 2 q782 q784 qs15 q64 q785 (by decide +kernel) ⟨⟨Nat.le_of_ble_eq_true rfl, Nat.le_of_ble_eq_true rfl⟩, Nat.le_of_ble_eq_true rfl, Nat.le_of_ble_eq_true rfl⟩ (r_recv hG hP 0 (C := "ShareStreams$Run") rfl rfl rfl) (nPs_of0 hG (hP.sub [0, 1] rfl)) rfl hl.1 rfl (Nat.le_of_ble_eq_true rfl) dX6_made_45) (fun r45 hp45 => ?_)
      have he45 := hp45
      have he45 : r45 = lf (64 * (nm F k 2) + T % 64) := he45
      subst he45
      refine r_as (z := nI (bitN F (nm F k 2) T)) (hbt _ p2 T (Nat.le_refl _) (by omega)) ?_
      refine lv_goto (tgt := 52) hx hb dX6_made_48 (by decide) ?_
      refine lv_istore_n (lv' := [(3, .int (nI (bitN F (nm F k 2) T))), (2, .int (nI 0)), (0, .ref r), (1, .ref y_)]) hx hb dX6_made_52 rfl hl (by decide) rfl (fun ls hl => ?_)
      refine lv_aload_n hx hb dX6_made_53 rfl (lv_at hl 3 rfl) ?_
      refine lv_iconst (v := nI 2) hx hb dX6_made_54 rfl ?_
      refine ns_i (k := 5) (nr_D (As := [.int (nI 2)]) (rest := []) hx hb hml hown hts hG (L_isLine l G rc y_ (Fl k) (kd F k) 2 (by first | assumption | omega | rfl) (by first | assumption | omega | rfl) (by first | assumption | omega | rfl) (by first | assumption | omega | rfl)) nPs.blind 1 q781 q603 q54 q605 (by decide +kernel) (by decide +kernel) ⟨⟨Nat.le_of_ble_eq_true rfl, Nat.le_of_ble_eq_true rfl⟩, Nat.le_of_ble_eq_true rfl, Nat.le_of_ble_eq_true rfl⟩ (r_recv hG (va_P.m1 hP (List.mem_append_right _ hm4) va_P.m0) 0 (C := "ShareStreams$Plain") rfl rfl rfl) (nPs_of0 hG (hP.mono (fun q h => List.mem_append_right _ h))) rfl hl.1 rfl (Nat.le_of_ble_eq_true rfl) dX6_made_55) (fun r55 hp55 => ?_)
      have he55 := hp55
      have he55 : r55 = bI (decide (2 < lnBy (kd F k))) := he55
      subst he55
      refine lv_if_eq (tgt := 81) hx hb dX6_made_60 (by decide) (fun c60 => ?_) (fun c60 => ?_)
      · skip
        have c60 := bI_f c60
        have c60 := of_decide_eq_false c60
        refine lv_iconst (v := nI 0) hx hb dX6_made_81 rfl ?_
        refine lv_istore (lv' := [(4, .int (nI 0)), (3, .int (nI (bitN F (nm F k 2) T))), (2, .int (nI 0)), (0, .ref r), (1, .ref y_)]) hx hb dX6_made_82 hl (by decide) rfl (fun ls hl => ?_)
        refine lv_aload_n hx hb dX6_made_84 rfl (lv_at hl 4 rfl) ?_
        refine lv_aload_n hx hb dX6_made_85 rfl (lv_at hl 3 rfl) ?_
        refine lv_aload_n hx hb dX6_made_86 rfl (lv_at hl 4 rfl) ?_
        refine lv_iconst (v := nI 0) hx hb dX6_made_87 rfl ?_
        refine ns_i (k := 5) (nr_F (C := "ShareStreams$Plain") (ci := 4) (As := [.int (nI 0)]) (rest := [.ref r, .ref y_]) hx hb hml hown hts hG (L_num l G rc y_ (Fl k) 0 (by first | assumption | omega | rfl) (by first | assumption | omega | rfl)) nPs.blind 1 q746 q353 q355 q55 q357 (by decide +kernel) (by decide +kernel) ⟨⟨Nat.le_of_ble_eq_true rfl, Nat.le_of_ble_eq_true rfl⟩, Nat.le_of_ble_eq_true rfl, Nat.le_of_ble_eq_true rfl⟩ rfl rfl (r_recv hG (va_P.m1 hP (List.mem_append_right _ hm4) va_P.m0) 0 (C := "ShareStreams$Plain") rfl rfl rfl) (nPs_of0 hG (hP.mono (fun q h => List.mem_append_right _ h))) rfl hl.1 rfl (Nat.le_of_ble_eq_true rfl) dX6_made_88) (fun r88 hp88 => ?_)
        have he88 := hp88
        have he88 : r88 = (Fl k) (0 + 1) := he88
        subst he88
        refine r_as (z := nI (nm F k 1)) e1 ?_
        refine lv_aload_n hx hb dX6_made_93 rfl (lv_at hl 3 rfl) ?_
        refine r_get (v := .int (nI T)) hx hb hts in_X6 hown hG hP 0 rfl rfl 3 (by decide) q751 (fun _ h9 => h9) rfl dX6_made_94 ?_
        refine lv_iload_n hx hb dX6_made_97 rfl (lv_at hl 2 rfl) ?_
        refine lv_isub hx hb dX6_made_98 ?_
        refine r_as (z := nI T) (pk_sub (Nat.zero_le _)) ?_
        refine ns_i (k := 3) (nr_V (As := [.int (nI (nm F k 1)), .int (nI T)]) (rest := [.ref y_]) hx hb hml hown hts (R_at l G r ll rg lt lf T (nm F k 1) T (by first | assumption | omega | rfl) (by first | assumption | omega | rfl)) nPs.blind 2 q782 q784 qs15 q64 q785 (by decide +kernel) ⟨⟨Nat.le_of_ble_eq_true rfl, Nat.le_of_ble_eq_true rfl⟩, Nat.le_of_ble_eq_true rfl, Nat.le_of_ble_eq_true rfl⟩ (r_recv hG hP 0 (C := "ShareStreams$Run") rfl rfl rfl) (nPs_of0 hG (hP.sub [0, 1] rfl)) rfl hl.1 rfl (Nat.le_of_ble_eq_true rfl) dX6_made_99) (fun r99 hp99 => ?_)
        have he99 := hp99
        have he99 : r99 = lf (64 * (nm F k 1) + T % 64) := he99
        subst he99
        refine r_as (z := nI (bitN F (nm F k 1) (T))) (hbt _ p1 _ (by omega) (by omega)) ?_
        refine lv_iload_n hx hb dX6_made_102 rfl (lv_at hl 1 rfl) ?_
        refine lv_iload hx hb dX6_made_103 (lv_at hl 0 rfl) ?_
        have b1_ := bit_le ok (k := nm F k 1) (by omega)
        have hz0 : (0 : Nat) ≤ 1 := by decide
        have b2_ := bit_le ok (k := nm F k 2) (by omega) T
        refine ns_i (k := 5) (nr_D (As := [.int (nI (bitN F (nm F k 1) (T))), .int (nI (bitN F (nm F k 2) T)), .int (nI 0)]) (rest := []) hx hb hml hown hts hG (L_bit l G rc y_ (Fl k) (kd F k) (bitN F (nm F k 1) (T)) (bitN F (nm F k 2) T) 0 (by first | assumption | omega | rfl) (by first | assumption | omega | rfl) (by first | assumption | omega | rfl) h1 (by first | exact b1_ _ | decide) (by first | exact b2_ | decide) (by first | exact b3_ | decide)) nPs.blind 3 q787 q791 q54 q793 (by decide +kernel) (by decide +kernel) ⟨⟨Nat.le_of_ble_eq_true rfl, Nat.le_of_ble_eq_true rfl⟩, Nat.le_of_ble_eq_true rfl, Nat.le_of_ble_eq_true rfl⟩ (r_recv hG (va_P.m1 hP (List.mem_append_right _ hm4) va_P.m0) 0 (C := "ShareStreams$Plain") rfl rfl rfl) (nPs_of0 hG (hP.mono (fun q h => List.mem_append_right _ h))) rfl hl.1 rfl (Nat.le_of_ble_eq_true rfl) dX6_made_105) (fun r105 hp105 => ?_)
        have he105 := hp105
        have he105 : r105 = nI (lbN (kd F k) (bitN F (nm F k 1) (T)) (bitN F (nm F k 2) T) 0) := he105
        subst he105
        exact ret (nI (lbN (kd F k) (bitN F (nm F k 1) (T)) (bitN F (nm F k 2) T) 0)) dX6_made_110 (by rw [← bit_made ok hk h1 T]; first | (exfalso; omega) | (simp only [c8, c30, c60, c97, if_true, if_false]; done) | (simp [c8, c30, c60]; done) | (rw [if_pos c8, if_pos c97, if_neg c30, if_neg c60]; done) | (rw [if_pos c8, if_neg (Nat.not_lt.mpr c97), if_neg c30, if_neg c60]; done) | simp [c8, c30, c60, c97])
      · skip
        have c60 := bI_t c60
        have c60 := of_decide_eq_true c60
        have q3 : kd F k = 4 := (by have h9 := c60; unfold lnBy at h9; split at h9; omega; split at h9; omega; split at h9 <;> omega)
        have e3 : Fl k (2 + 1) = nI (nm F k 3) := hg3.trans (ls3 q3).1
        have p3 := (ls3 q3).2
        refine lv_aload_n hx hb dX6_made_63 rfl (lv_at hl 2 rfl) ?_
        refine lv_aload_n hx hb dX6_made_64 rfl (lv_at hl 3 rfl) ?_
        refine lv_iconst (v := nI 2) hx hb dX6_made_65 rfl ?_
        refine ns_i (k := 5) (nr_F (C := "ShareStreams$Plain") (ci := 4) (As := [.int (nI 2)]) (rest := [.ref r]) hx hb hml hown hts hG (L_num l G rc y_ (Fl k) 2 (by first | assumption | omega | rfl) (by first | assumption | omega | rfl)) nPs.blind 1 q746 q353 q355 q55 q357 (by decide +kernel) (by decide +kernel) ⟨⟨Nat.le_of_ble_eq_true rfl, Nat.le_of_ble_eq_true rfl⟩, Nat.le_of_ble_eq_true rfl, Nat.le_of_ble_eq_true rfl⟩ rfl rfl (r_recv hG (va_P.m1 hP (List.mem_append_right _ hm4) va_P.m0) 0 (C := "ShareStreams$Plain") rfl rfl rfl) (nPs_of0 hG (hP.mono (fun q h => List.mem_append_right _ h))) rfl hl.1 rfl (Nat.le_of_ble_eq_true rfl) dX6_made_66) (fun r66 hp66 => ?_)
        have he66 := hp66
        have he66 : r66 = (Fl k) (2 + 1) := he66
        subst he66
        refine r_as (z := nI (nm F k 3)) e3 ?_
        refine lv_aload_n hx hb dX6_made_71 rfl (lv_at hl 2 rfl) ?_
        refine r_get (v := .int (nI T)) hx hb hts in_X6 hown hG hP 0 rfl rfl 3 (by decide) q751 (fun _ h9 => h9) rfl dX6_made_72 ?_
        refine ns_i (k := 3) (nr_V (As := [.int (nI (nm F k 3)), .int (nI T)]) (rest := []) hx hb hml hown hts (R_at l G r ll rg lt lf T (nm F k 3) T (by first | assumption | omega | rfl) (by first | assumption | omega | rfl)) nPs.blind 2 q782 q784 qs15 q64 q785 (by decide +kernel) ⟨⟨Nat.le_of_ble_eq_true rfl, Nat.le_of_ble_eq_true rfl⟩, Nat.le_of_ble_eq_true rfl, Nat.le_of_ble_eq_true rfl⟩ (r_recv hG hP 0 (C := "ShareStreams$Run") rfl rfl rfl) (nPs_of0 hG (hP.sub [0, 1] rfl)) rfl hl.1 rfl (Nat.le_of_ble_eq_true rfl) dX6_made_75) (fun r75 hp75 => ?_)
        have he75 := hp75
        have he75 : r75 = lf (64 * (nm F k 3) + T % 64) := he75
        subst he75
        refine r_as (z := nI (bitN F (nm F k 3) T)) (hbt _ p3 T (Nat.le_refl _) (by omega)) ?_
        refine lv_goto (tgt := 82) hx hb dX6_made_78 (by decide) ?_
        refine lv_istore (lv' := [(4, .int (nI (bitN F (nm F k 3) T))), (3, .int (nI (bitN F (nm F k 2) T))), (2, .int (nI 0)), (0, .ref r), (1, .ref y_)]) hx hb dX6_made_82 hl (by decide) rfl (fun ls hl => ?_)
        refine lv_aload_n hx hb dX6_made_84 rfl (lv_at hl 4 rfl) ?_
        refine lv_aload_n hx hb dX6_made_85 rfl (lv_at hl 3 rfl) ?_
        refine lv_aload_n hx hb dX6_made_86 rfl (lv_at hl 4 rfl) ?_
        refine lv_iconst (v := nI 0) hx hb dX6_made_87 rfl ?_
        refine ns_i (k := 5) (nr_F (C := "ShareStreams$Plain") (ci := 4) (As := [.int (nI 0)]) (rest := [.ref r, .ref y_]) hx hb hml hown hts hG (L_num l G rc y_ (Fl k) 0 (by first | assumption | omega | rfl) (by first | assumption | omega | rfl)) nPs.blind 1 q746 q353 q355 q55 q357 (by decide +kernel) (by decide +kernel) ⟨⟨Nat.le_of_ble_eq_true rfl, Nat.le_of_ble_eq_true rfl⟩, Nat.le_of_ble_eq_true rfl, Nat.le_of_ble_eq_true rfl⟩ rfl rfl (r_recv hG (va_P.m1 hP (List.mem_append_right _ hm4) va_P.m0) 0 (C := "ShareStreams$Plain") rfl rfl rfl) (nPs_of0 hG (hP.mono (fun q h => List.mem_append_right _ h))) rfl hl.1 rfl (Nat.le_of_ble_eq_true rfl) dX6_made_88) (fun r88 hp88 => ?_)
        have he88 := hp88
        have he88 : r88 = (Fl k) (0 + 1) := he88
        subst he88
        refine r_as (z := nI (nm F k 1)) e1 ?_
        refine lv_aload_n hx hb dX6_made_93 rfl (lv_at hl 3 rfl) ?_
        refine r_get (v := .int (nI T)) hx hb hts in_X6 hown hG hP 0 rfl rfl 3 (by decide) q751 (fun _ h9 => h9) rfl dX6_made_94 ?_
        refine lv_iload_n hx hb dX6_made_97 rfl (lv_at hl 2 rfl) ?_
        refine lv_isub hx hb dX6_made_98 ?_
        refine r_as (z := nI T) (pk_sub (Nat.zero_le _)) ?_
        refine ns_i (k := 3) (nr_V (As := [.int (nI (nm F k 1)), .int (nI T)]) (rest := [.ref y_]) hx hb hml hown hts (R_at l G r ll rg lt lf T (nm F k 1) T (by first | assumption | omega | rfl) (by first | assumption | omega | rfl)) nPs.blind 2 q782 q784 qs15 q64 q785 (by decide +kernel) ⟨⟨Nat.le_of_ble_eq_true rfl, Nat.le_of_ble_eq_true rfl⟩, Nat.le_of_ble_eq_true rfl, Nat.le_of_ble_eq_true rfl⟩ (r_recv hG hP 0 (C := "ShareStreams$Run") rfl rfl rfl) (nPs_of0 hG (hP.sub [0, 1] rfl)) rfl hl.1 rfl (Nat.le_of_ble_eq_true rfl) dX6_made_99) (fun r99 hp99 => ?_)
        have he99 := hp99
        have he99 : r99 = lf (64 * (nm F k 1) + T % 64) := he99
        subst he99
        refine r_as (z := nI (bitN F (nm F k 1) (T))) (hbt _ p1 _ (by omega) (by omega)) ?_
        refine lv_iload_n hx hb dX6_made_102 rfl (lv_at hl 1 rfl) ?_
        refine lv_iload hx hb dX6_made_103 (lv_at hl 0 rfl) ?_
        have b1_ := bit_le ok (k := nm F k 1) (by omega)
        have hz0 : (0 : Nat) ≤ 1 := by decide
        have b2_ := bit_le ok (k := nm F k 2) (by omega) T
        have b3_ := bit_le ok (k := nm F k 3) (by omega) T
        refine ns_i (k := 5) (nr_D (As := [.int (nI (bitN F (nm F k 1) (T))), .int (nI (bitN F (nm F k 2) T)), .int (nI (bitN F (nm F k 3) T))]) (rest := []) hx hb hml hown hts hG (L_bit l G rc y_ (Fl k) (kd F k) (bitN F (nm F k 1) (T)) (bitN F (nm F k 2) T) (bitN F (nm F k 3) T) (by first | assumption | omega | rfl) (by first | assumption | omega | rfl) (by first | assumption | omega | rfl) h1 (by first | exact b1_ _ | decide) (by first | exact b2_ | decide) (by first | exact b3_ | decide)) nPs.blind 3 q787 q791 q54 q793 (by decide +kernel) (by decide +kernel) ⟨⟨Nat.le_of_ble_eq_true rfl, Nat.le_of_ble_eq_true rfl⟩, Nat.le_of_ble_eq_true rfl, Nat.le_of_ble_eq_true rfl⟩ (r_recv hG (va_P.m1 hP (List.mem_append_right _ hm4) va_P.m0) 0 (C := "ShareStreams$Plain") rfl rfl rfl) (nPs_of0 hG (hP.mono (fun q h => List.mem_append_right _ h))) rfl hl.1 rfl (Nat.le_of_ble_eq_true rfl) dX6_made_105) (fun r105 hp105 => ?_)
        have he105 := hp105
        have he105 : r105 = nI (lbN (kd F k) (bitN F (nm F k 1) (T)) (bitN F (nm F k 2) T) (bitN F (nm F k 3) T)) := he105
        subst he105
        exact ret (nI (lbN (kd F k) (bitN F (nm F k 1) (T)) (bitN F (nm F k 2) T) (bitN F (nm F k 3) T))) dX6_made_110 (by rw [← bit_made ok hk h1 T]; first | (exfalso; omega) | (simp only [c8, c30, c60, c97, if_true, if_false]; done) | (simp [c8, c30, c60]; done) | (rw [if_pos c8, if_pos c97, if_neg c30, if_neg c60]; done) | (rw [if_pos c8, if_neg (Nat.not_lt.mpr c97), if_neg c30, if_neg c60]; done) | simp [c8, c30, c60, c97])
  · skip
    have c8 := n_eq_t (a := kd F k) (b := 6) c8 (by omega) (by decide)
    have c8 : kd F k = 6 := c8
    have e2 : Fl k (1 + 1) = nI (nm F k 2) := (hg2 (by omega)).trans (ls6 c8).1
    have d6 := (ls6 c8).2
    refine lv_aload_n hx hb dX6_made_11 rfl (lv_at hl 1 rfl) ?_
    refine lv_iconst (v := nI 1) hx hb dX6_made_12 rfl ?_
    refine ns_i (k := 5) (nr_F (C := "ShareStreams$Plain") (ci := 4) (As := [.int (nI 1)]) (rest := []) hx hb hml hown hts hG (L_num l G rc y_ (Fl k) 1 (by first | assumption | omega | rfl) (by first | assumption | omega | rfl)) nPs.blind 1 q746 q353 q355 q55 q357 (by decide +kernel) (by decide +kernel) ⟨⟨Nat.le_of_ble_eq_true rfl, Nat.le_of_ble_eq_true rfl⟩, Nat.le_of_ble_eq_true rfl, Nat.le_of_ble_eq_true rfl⟩ rfl rfl (r_recv hG (va_P.m1 hP (List.mem_append_right _ hm4) va_P.m0) 0 (C := "ShareStreams$Plain") rfl rfl rfl) (nPs_of0 hG (hP.mono (fun q h => List.mem_append_right _ h))) rfl hl.1 rfl (Nat.le_of_ble_eq_true rfl) dX6_made_13) (fun r13 hp13 => ?_)
    have he13 := hp13
    have he13 : r13 = (Fl k) (1 + 1) := he13
    subst he13
    refine r_as (z := nI (nm F k 2)) e2 ?_
    refine lv_goto (tgt := 22) hx hb dX6_made_18 (by decide) ?_
    refine lv_istore_n (lv' := [(2, .int (nI (nm F k 2))), (0, .ref r), (1, .ref y_)]) hx hb dX6_made_22 rfl hl (by decide) rfl (fun ls hl => ?_)
    refine lv_aload_n hx hb dX6_made_23 rfl (lv_at hl 2 rfl) ?_
    refine lv_iconst (v := nI 1) hx hb dX6_made_24 rfl ?_
    refine ns_i (k := 5) (nr_D (As := [.int (nI 1)]) (rest := []) hx hb hml hown hts hG (L_isLine l G rc y_ (Fl k) (kd F k) 1 (by first | assumption | omega | rfl) (by first | assumption | omega | rfl) (by first | assumption | omega | rfl) (by first | assumption | omega | rfl)) nPs.blind 1 q781 q603 q54 q605 (by decide +kernel) (by decide +kernel) ⟨⟨Nat.le_of_ble_eq_true rfl, Nat.le_of_ble_eq_true rfl⟩, Nat.le_of_ble_eq_true rfl, Nat.le_of_ble_eq_true rfl⟩ (r_recv hG (va_P.m1 hP (List.mem_append_right _ hm4) va_P.m0) 0 (C := "ShareStreams$Plain") rfl rfl rfl) (nPs_of0 hG (hP.mono (fun q h => List.mem_append_right _ h))) rfl hl.1 rfl (Nat.le_of_ble_eq_true rfl) dX6_made_25) (fun r25 hp25 => ?_)
    have he25 := hp25
    have he25 : r25 = bI (decide (1 < lnBy (kd F k))) := he25
    subst he25
    refine lv_if_eq (tgt := 51) hx hb dX6_made_30 (by decide) (fun c30 => ?_) (fun c30 => ?_)
    · skip
      have c30 := bI_f c30
      have c30 := of_decide_eq_false c30
      refine lv_iconst (v := nI 0) hx hb dX6_made_51 rfl ?_
      refine lv_istore_n (lv' := [(3, .int (nI 0)), (2, .int (nI (nm F k 2))), (0, .ref r), (1, .ref y_)]) hx hb dX6_made_52 rfl hl (by decide) rfl (fun ls hl => ?_)
      refine lv_aload_n hx hb dX6_made_53 rfl (lv_at hl 3 rfl) ?_
      refine lv_iconst (v := nI 2) hx hb dX6_made_54 rfl ?_
      refine ns_i (k := 5) (nr_D (As := [.int (nI 2)]) (rest := []) hx hb hml hown hts hG (L_isLine l G rc y_ (Fl k) (kd F k) 2 (by first | assumption | omega | rfl) (by first | assumption | omega | rfl) (by first | assumption | omega | rfl) (by first | assumption | omega | rfl)) nPs.blind 1 q781 q603 q54 q605 (by decide +kernel) (by decide +kernel) ⟨⟨Nat.le_of_ble_eq_true rfl, Nat.le_of_ble_eq_true rfl⟩, Nat.le_of_ble_eq_true rfl, Nat.le_of_ble_eq_true rfl⟩ (r_recv hG (va_P.m1 hP (List.mem_append_right _ hm4) va_P.m0) 0 (C := "ShareStreams$Plain") rfl rfl rfl) (nPs_of0 hG (hP.mono (fun q h => List.mem_append_right _ h))) rfl hl.1 rfl (Nat.le_of_ble_eq_true rfl) dX6_made_55) (fun r55 hp55 => ?_)
      have he55 := hp55
      have he55 : r55 = bI (decide (2 < lnBy (kd F k))) := he55
      subst he55
      refine lv_if_eq (tgt := 81) hx hb dX6_made_60 (by decide) (fun c60 => ?_) (fun c60 => ?_)
      · skip
        have c60 := bI_f c60
        have c60 := of_decide_eq_false c60
        refine lv_iconst (v := nI 0) hx hb dX6_made_81 rfl ?_
        refine lv_istore (lv' := [(4, .int (nI 0)), (3, .int (nI 0)), (2, .int (nI (nm F k 2))), (0, .ref r), (1, .ref y_)]) hx hb dX6_made_82 hl (by decide) rfl (fun ls hl => ?_)
        refine lv_aload_n hx hb dX6_made_84 rfl (lv_at hl 4 rfl) ?_
        refine lv_aload_n hx hb dX6_made_85 rfl (lv_at hl 3 rfl) ?_
        refine lv_aload_n hx hb dX6_made_86 rfl (lv_at hl 4 rfl) ?_
        refine lv_iconst (v := nI 0) hx hb dX6_made_87 rfl ?_
        refine ns_i (k := 5) (nr_F (C := "ShareStreams$Plain") (ci := 4) (As := [.int (nI 0)]) (rest := [.ref r, .ref y_]) hx hb hml hown hts hG (L_num l G rc y_ (Fl k) 0 (by first | assumption | omega | rfl) (by first | assumption | omega | rfl)) nPs.blind 1 q746 q353 q355 q55 q357 (by decide +kernel) (by decide +kernel) ⟨⟨Nat.le_of_ble_eq_true rfl, Nat.le_of_ble_eq_true rfl⟩, Nat.le_of_ble_eq_true rfl, Nat.le_of_ble_eq_true rfl⟩ rfl rfl (r_recv hG (va_P.m1 hP (List.mem_append_right _ hm4) va_P.m0) 0 (C := "ShareStreams$Plain") rfl rfl rfl) (nPs_of0 hG (hP.mono (fun q h => List.mem_append_right _ h))) rfl hl.1 rfl (Nat.le_of_ble_eq_true rfl) dX6_made_88) (fun r88 hp88 => ?_)
        have he88 := hp88
        have he88 : r88 = (Fl k) (0 + 1) := he88
        subst he88
        refine r_as (z := nI (nm F k 1)) e1 ?_
        refine lv_aload_n hx hb dX6_made_93 rfl (lv_at hl 3 rfl) ?_
        refine r_get (v := .int (nI T)) hx hb hts in_X6 hown hG hP 0 rfl rfl 3 (by decide) q751 (fun _ h9 => h9) rfl dX6_made_94 ?_
        rcases Nat.lt_or_ge T (nm F k 2) with c97 | c97
        · skip
          refine lv_iload_n hx hb dX6_made_97 rfl (lv_at hl 2 rfl) ?_
          refine lv_isub hx hb dX6_made_98 ?_
          refine ns_i (k := 3) (nr_V (As := [.int (nI (nm F k 1)), .int ((nI T) - (nI (nm F k 2)))]) (rest := [.ref y_]) hx hb hml hown hts (R_atN l G r (nm F k 1) ((nI T) - (nI (nm F k 2))) (by rw [pk_sub_toInt] <;> omega)) nPs.blind 2 q782 q784 qs15 q64 q785 (by decide +kernel) ⟨⟨Nat.le_of_ble_eq_true rfl, Nat.le_of_ble_eq_true rfl⟩, Nat.le_of_ble_eq_true rfl, Nat.le_of_ble_eq_true rfl⟩ (r_recv hG hP 0 (C := "ShareStreams$Run") rfl rfl rfl) (nPs_of0 hG va_P.m0) rfl hl.1 rfl (Nat.le_of_ble_eq_true rfl) dX6_made_99) (fun r99 hp99 => ?_)
          have he99 := hp99
          have he99 : r99 = nI 0 := he99
          subst he99
          refine lv_iload_n hx hb dX6_made_102 rfl (lv_at hl 1 rfl) ?_
          refine lv_iload hx hb dX6_made_103 (lv_at hl 0 rfl) ?_
          have b1_ := bit_le ok (k := nm F k 1) (by omega)
          have hz0 : (0 : Nat) ≤ 1 := by decide
          refine ns_i (k := 5) (nr_D (As := [.int (nI 0), .int (nI 0), .int (nI 0)]) (rest := []) hx hb hml hown hts hG (L_bit l G rc y_ (Fl k) (kd F k) 0 0 0 (by first | assumption | omega | rfl) (by first | assumption | omega | rfl) (by first | assumption | omega | rfl) h1 (by first | exact b1_ _ | decide) (by first | exact b2_ | decide) (by first | exact b3_ | decide)) nPs.blind 3 q787 q791 q54 q793 (by decide +kernel) (by decide +kernel) ⟨⟨Nat.le_of_ble_eq_true rfl, Nat.le_of_ble_eq_true rfl⟩, Nat.le_of_ble_eq_true rfl, Nat.le_of_ble_eq_true rfl⟩ (r_recv hG (va_P.m1 hP (List.mem_append_right _ hm4) va_P.m0) 0 (C := "ShareStreams$Plain") rfl rfl rfl) (nPs_of0 hG (hP.mono (fun q h => List.mem_append_right _ h))) rfl hl.1 rfl (Nat.le_of_ble_eq_true rfl) dX6_made_105) (fun r105 hp105 => ?_)
          have he105 := hp105
          have he105 : r105 = nI (lbN (kd F k) 0 0 0) := he105
          subst he105
          exact ret (nI (lbN (kd F k) 0 0 0)) dX6_made_110 (by rw [← bit_made ok hk h1 T]; first | (exfalso; omega) | (simp only [c8, c30, c60, c97, if_true, if_false]; done) | (simp [c8, c30, c60]; done) | (rw [if_pos c8, if_pos c97, if_neg c30, if_neg c60]; done) | (rw [if_pos c8, if_neg (Nat.not_lt.mpr c97), if_neg c30, if_neg c60]; done) | simp [c8, c30, c60, c97])
        · skip
          refine lv_iload_n hx hb dX6_made_97 rfl (lv_at hl 2 rfl) ?_
          refine lv_isub hx hb dX6_made_98 ?_
          refine r_as (z := nI (T - (nm F k 2))) (pk_sub (by omega)) ?_
          refine ns_i (k := 3) (nr_V (As := [.int (nI (nm F k 1)), .int (nI (T - (nm F k 2)))]) (rest := [.ref y_]) hx hb hml hown hts (R_at l G r ll rg lt lf T (nm F k 1) (T - (nm F k 2)) (by first | assumption | omega | rfl) (by first | assumption | omega | rfl)) nPs.blind 2 q782 q784 qs15 q64 q785 (by decide +kernel) ⟨⟨Nat.le_of_ble_eq_true rfl, Nat.le_of_ble_eq_true rfl⟩, Nat.le_of_ble_eq_true rfl, Nat.le_of_ble_eq_true rfl⟩ (r_recv hG hP 0 (C := "ShareStreams$Run") rfl rfl rfl) (nPs_of0 hG (hP.sub [0, 1] rfl)) rfl hl.1 rfl (Nat.le_of_ble_eq_true rfl) dX6_made_99) (fun r99 hp99 => ?_)
          have he99 := hp99
          have he99 : r99 = lf (64 * (nm F k 1) + (T - (nm F k 2)) % 64) := he99
          subst he99
          refine r_as (z := nI (bitN F (nm F k 1) (T - nm F k 2))) (hbt _ p1 _ (by omega) (by omega)) ?_
          refine lv_iload_n hx hb dX6_made_102 rfl (lv_at hl 1 rfl) ?_
          refine lv_iload hx hb dX6_made_103 (lv_at hl 0 rfl) ?_
          have b1_ := bit_le ok (k := nm F k 1) (by omega)
          have hz0 : (0 : Nat) ≤ 1 := by decide
          refine ns_i (k := 5) (nr_D (As := [.int (nI (bitN F (nm F k 1) (T - nm F k 2))), .int (nI 0), .int (nI 0)]) (rest := []) hx hb hml hown hts hG (L_bit l G rc y_ (Fl k) (kd F k) (bitN F (nm F k 1) (T - nm F k 2)) 0 0 (by first | assumption | omega | rfl) (by first | assumption | omega | rfl) (by first | assumption | omega | rfl) h1 (by first | exact b1_ _ | decide) (by first | exact b2_ | decide) (by first | exact b3_ | decide)) nPs.blind 3 q787 q791 q54 q793 (by decide +kernel) (by decide +kernel) ⟨⟨Nat.le_of_ble_eq_true rfl, Nat.le_of_ble_eq_true rfl⟩, Nat.le_of_ble_eq_true rfl, Nat.le_of_ble_eq_true rfl⟩ (r_recv hG (va_P.m1 hP (List.mem_append_right _ hm4) va_P.m0) 0 (C := "ShareStreams$Plain") rfl rfl rfl) (nPs_of0 hG (hP.mono (fun q h => List.mem_append_right _ h))) rfl hl.1 rfl (Nat.le_of_ble_eq_true rfl) dX6_made_105) (fun r105 hp105 => ?_)
          have he105 := hp105
          have he105 : r105 = nI (lbN (kd F k) (bitN F (nm F k 1) (T - nm F k 2)) 0 0) := he105
          subst he105
          exact ret (nI (lbN (kd F k) (bitN F (nm F k 1) (T - nm F k 2)) 0 0)) dX6_made_110 (by rw [← bit_made ok hk h1 T]; first | (exfalso; omega) | (simp only [c8, c30, c60, c97, if_true, if_false]; done) | (simp [c8, c30, c60]; done) | (rw [if_pos c8, if_pos c97, if_neg c30, if_neg c60]; done) | (rw [if_pos c8, if_neg (Nat.not_lt.mpr c97), if_neg c30, if_neg c60]; done) | simp [c8, c30, c60, c97])
      · skip
        have c60 := bI_t c60
        have c60 := of_decide_eq_true c60
        have q3 : kd F k = 4 := (by have h9 := c60; unfold lnBy at h9; split at h9; omega; split at h9; omega; split at h9 <;> omega)
        have e3 : Fl k (2 + 1) = nI (nm F k 3) := hg3.trans (ls3 q3).1
        have p3 := (ls3 q3).2
        refine lv_aload_n hx hb dX6_made_63 rfl (lv_at hl 2 rfl) ?_
        refine lv_aload_n hx hb dX6_made_64 rfl (lv_at hl 3 rfl) ?_
        refine lv_iconst (v := nI 2) hx hb dX6_made_65 rfl ?_
        refine ns_i (k := 5) (nr_F (C := "ShareStreams$Plain") (ci := 4) (As := [.int (nI 2)]) (rest := [.ref r]) hx hb hml hown hts hG (L_num l G rc y_ (Fl k) 2 (by first | assumption | omega | rfl) (by first | assumption | omega | rfl)) nPs.blind 1 q746 q353 q355 q55 q357 (by decide +kernel) (by decide +kernel) ⟨⟨Nat.le_of_ble_eq_true rfl, Nat.le_of_ble_eq_true rfl⟩, Nat.le_of_ble_eq_true rfl, Nat.le_of_ble_eq_true rfl⟩ rfl rfl (r_recv hG (va_P.m1 hP (List.mem_append_right _ hm4) va_P.m0) 0 (C := "ShareStreams$Plain") rfl rfl rfl) (nPs_of0 hG (hP.mono (fun q h => List.mem_append_right _ h))) rfl hl.1 rfl (Nat.le_of_ble_eq_true rfl) dX6_made_66) (fun r66 hp66 => ?_)
        have he66 := hp66
        have he66 : r66 = (Fl k) (2 + 1) := he66
        subst he66
        refine r_as (z := nI (nm F k 3)) e3 ?_
        refine lv_aload_n hx hb dX6_made_71 rfl (lv_at hl 2 rfl) ?_
        refine r_get (v := .int (nI T)) hx hb hts in_X6 hown hG hP 0 rfl rfl 3 (by decide) q751 (fun _ h9 => h9) rfl dX6_made_72 ?_
        refine ns_i (k := 3) (nr_V (As := [.int (nI (nm F k 3)), .int (nI T)]) (rest := []) hx hb hml hown hts (R_at l G r ll rg lt lf T (nm F k 3) T (by first | assumption | omega | rfl) (by first | assumption | omega | rfl)) nPs.blind 2 q782 q784 qs15 q64 q785 (by decide +kernel) ⟨⟨Nat.le_of_ble_eq_true rfl, Nat.le_of_ble_eq_true rfl⟩, Nat.le_of_ble_eq_true rfl, Nat.le_of_ble_eq_true rfl⟩ (r_recv hG hP 0 (C := "ShareStreams$Run") rfl rfl rfl) (nPs_of0 hG (hP.sub [0, 1] rfl)) rfl hl.1 rfl (Nat.le_of_ble_eq_true rfl) dX6_made_75) (fun r75 hp75 => ?_)
        have he75 := hp75
        have he75 : r75 = lf (64 * (nm F k 3) + T % 64) := he75
        subst he75
        refine r_as (z := nI (bitN F (nm F k 3) T)) (hbt _ p3 T (Nat.le_refl _) (by omega)) ?_
        refine lv_goto (tgt := 82) hx hb dX6_made_78 (by decide) ?_
        refine lv_istore (lv' := [(4, .int (nI (bitN F (nm F k 3) T))), (3, .int (nI 0)), (2, .int (nI (nm F k 2))), (0, .ref r), (1, .ref y_)]) hx hb dX6_made_82 hl (by decide) rfl (fun ls hl => ?_)
        refine lv_aload_n hx hb dX6_made_84 rfl (lv_at hl 4 rfl) ?_
        refine lv_aload_n hx hb dX6_made_85 rfl (lv_at hl 3 rfl) ?_
        refine lv_aload_n hx hb dX6_made_86 rfl (lv_at hl 4 rfl) ?_
        refine lv_iconst (v := nI 0) hx hb dX6_made_87 rfl ?_
        refine ns_i (k := 5) (nr_F (C := "ShareStreams$Plain") (ci := 4) (As := [.int (nI 0)]) (rest := [.ref r, .ref y_]) hx hb hml hown hts hG (L_num l G rc y_ (Fl k) 0 (by first | assumption | omega | rfl) (by first | assumption | omega | rfl)) nPs.blind 1 q746 q353 q355 q55 q357 (by decide +kernel) (by decide +kernel) ⟨⟨Nat.le_of_ble_eq_true rfl, Nat.le_of_ble_eq_true rfl⟩, Nat.le_of_ble_eq_true rfl, Nat.le_of_ble_eq_true rfl⟩ rfl rfl (r_recv hG (va_P.m1 hP (List.mem_append_right _ hm4) va_P.m0) 0 (C := "ShareStreams$Plain") rfl rfl rfl) (nPs_of0 hG (hP.mono (fun q h => List.mem_append_right _ h))) rfl hl.1 rfl (Nat.le_of_ble_eq_true rfl) dX6_made_88) (fun r88 hp88 => ?_)
        have he88 := hp88
        have he88 : r88 = (Fl k) (0 + 1) := he88
        subst he88
        refine r_as (z := nI (nm F k 1)) e1 ?_
        refine lv_aload_n hx hb dX6_made_93 rfl (lv_at hl 3 rfl) ?_
        refine r_get (v := .int (nI T)) hx hb hts in_X6 hown hG hP 0 rfl rfl 3 (by decide) q751 (fun _ h9 => h9) rfl dX6_made_94 ?_
        rcases Nat.lt_or_ge T (nm F k 2) with c97 | c97
        · skip
          refine lv_iload_n hx hb dX6_made_97 rfl (lv_at hl 2 rfl) ?_
          refine lv_isub hx hb dX6_made_98 ?_
          refine ns_i (k := 3) (nr_V (As := [.int (nI (nm F k 1)), .int ((nI T) - (nI (nm F k 2)))]) (rest := [.ref y_]) hx hb hml hown hts (R_atN l G r (nm F k 1) ((nI T) - (nI (nm F k 2))) (by rw [pk_sub_toInt] <;> omega)) nPs.blind 2 q782 q784 qs15 q64 q785 (by decide +kernel) ⟨⟨Nat.le_of_ble_eq_true rfl, Nat.le_of_ble_eq_true rfl⟩, Nat.le_of_ble_eq_true rfl, Nat.le_of_ble_eq_true rfl⟩ (r_recv hG hP 0 (C := "ShareStreams$Run") rfl rfl rfl) (nPs_of0 hG va_P.m0) rfl hl.1 rfl (Nat.le_of_ble_eq_true rfl) dX6_made_99) (fun r99 hp99 => ?_)
          have he99 := hp99
          have he99 : r99 = nI 0 := he99
          subst he99
          refine lv_iload_n hx hb dX6_made_102 rfl (lv_at hl 1 rfl) ?_
          refine lv_iload hx hb dX6_made_103 (lv_at hl 0 rfl) ?_
          have b1_ := bit_le ok (k := nm F k 1) (by omega)
          have hz0 : (0 : Nat) ≤ 1 := by decide
          have b3_ := bit_le ok (k := nm F k 3) (by omega) T
          refine ns_i (k := 5) (nr_D (As := [.int (nI 0), .int (nI 0), .int (nI (bitN F (nm F k 3) T))]) (rest := []) hx hb hml hown hts hG (L_bit l G rc y_ (Fl k) (kd F k) 0 0 (bitN F (nm F k 3) T) (by first | assumption | omega | rfl) (by first | assumption | omega | rfl) (by first | assumption | omega | rfl) h1 (by first | exact b1_ _ | decide) (by first | exact b2_ | decide) (by first | exact b3_ | decide)) nPs.blind 3 q787 q791 q54 q793 (by decide +kernel) (by decide +kernel) ⟨⟨Nat.le_of_ble_eq_true rfl, Nat.le_of_ble_eq_true rfl⟩, Nat.le_of_ble_eq_true rfl, Nat.le_of_ble_eq_true rfl⟩ (r_recv hG (va_P.m1 hP (List.mem_append_right _ hm4) va_P.m0) 0 (C := "ShareStreams$Plain") rfl rfl rfl) (nPs_of0 hG (hP.mono (fun q h => List.mem_append_right _ h))) rfl hl.1 rfl (Nat.le_of_ble_eq_true rfl) dX6_made_105) (fun r105 hp105 => ?_)
          have he105 := hp105
          have he105 : r105 = nI (lbN (kd F k) 0 0 (bitN F (nm F k 3) T)) := he105
          subst he105
          exact ret (nI (lbN (kd F k) 0 0 (bitN F (nm F k 3) T))) dX6_made_110 (by rw [← bit_made ok hk h1 T]; first | (exfalso; omega) | (simp only [c8, c30, c60, c97, if_true, if_false]; done) | (simp [c8, c30, c60]; done) | (rw [if_pos c8, if_pos c97, if_neg c30, if_neg c60]; done) | (rw [if_pos c8, if_neg (Nat.not_lt.mpr c97), if_neg c30, if_neg c60]; done) | simp [c8, c30, c60, c97])
        · skip
          refine lv_iload_n hx hb dX6_made_97 rfl (lv_at hl 2 rfl) ?_
          refine lv_isub hx hb dX6_made_98 ?_
          refine r_as (z := nI (T - (nm F k 2))) (pk_sub (by omega)) ?_
          refine ns_i (k := 3) (nr_V (As := [.int (nI (nm F k 1)), .int (nI (T - (nm F k 2)))]) (rest := [.ref y_]) hx hb hml hown hts (R_at l G r ll rg lt lf T (nm F k 1) (T - (nm F k 2)) (by first | assumption | omega | rfl) (by first | assumption | omega | rfl)) nPs.blind 2 q782 q784 qs15 q64 q785 (by decide +kernel) ⟨⟨Nat.le_of_ble_eq_true rfl, Nat.le_of_ble_eq_true rfl⟩, Nat.le_of_ble_eq_true rfl, Nat.le_of_ble_eq_true rfl⟩ (r_recv hG hP 0 (C := "ShareStreams$Run") rfl rfl rfl) (nPs_of0 hG (hP.sub [0, 1] rfl)) rfl hl.1 rfl (Nat.le_of_ble_eq_true rfl) dX6_made_99) (fun r99 hp99 => ?_)
          have he99 := hp99
          have he99 : r99 = lf (64 * (nm F k 1) + (T - (nm F k 2)) % 64) := he99
          subst he99
          refine r_as (z := nI (bitN F (nm F k 1) (T - nm F k 2))) (hbt _ p1 _ (by omega) (by omega)) ?_
          refine lv_iload_n hx hb dX6_made_102 rfl (lv_at hl 1 rfl) ?_
          refine lv_iload hx hb dX6_made_103 (lv_at hl 0 rfl) ?_
          have b1_ := bit_le ok (k := nm F k 1) (by omega)
          have hz0 : (0 : Nat) ≤ 1 := by decide
          have b3_ := bit_le ok (k := nm F k 3) (by omega) T
          refine ns_i (k := 5) (nr_D (As := [.int (nI (bitN F (nm F k 1) (T - nm F k 2))), .int (nI 0), .int (nI (bitN F (nm F k 3) T))]) (rest := []) hx hb hml hown hts hG (L_bit l G rc y_ (Fl k) (kd F k) (bitN F (nm F k 1) (T - nm F k 2)) 0 (bitN F (nm F k 3) T) (by first | assumption | omega | rfl) (by first | assumption | omega | rfl) (by first | assumption | omega | rfl) h1 (by first | exact b1_ _ | decide) (by first | exact b2_ | decide) (by first | exact b3_ | decide)) nPs.blind 3 q787 q791 q54 q793 (by decide +kernel) (by decide +kernel) ⟨⟨Nat.le_of_ble_eq_true rfl, Nat.le_of_ble_eq_true rfl⟩, Nat.le_of_ble_eq_true rfl, Nat.le_of_ble_eq_true rfl⟩ (r_recv hG (va_P.m1 hP (List.mem_append_right _ hm4) va_P.m0) 0 (C := "ShareStreams$Plain") rfl rfl rfl) (nPs_of0 hG (hP.mono (fun q h => List.mem_append_right _ h))) rfl hl.1 rfl (Nat.le_of_ble_eq_true rfl) dX6_made_105) (fun r105 hp105 => ?_)
          have he105 := hp105
          have he105 : r105 = nI (lbN (kd F k) (bitN F (nm F k 1) (T - nm F k 2)) 0 (bitN F (nm F k 3) T)) := he105
          subst he105
          exact ret (nI (lbN (kd F k) (bitN F (nm F k 1) (T - nm F k 2)) 0 (bitN F (nm F k 3) T))) dX6_made_110 (by rw [← bit_made ok hk h1 T]; first | (exfalso; omega) | (simp only [c8, c30, c60, c97, if_true, if_false]; done) | (simp [c8, c30, c60]; done) | (rw [if_pos c8, if_pos c97, if_neg c30, if_neg c60]; done) | (rw [if_pos c8, if_neg (Nat.not_lt.mpr c97), if_neg c30, if_neg c60]; done) | simp [c8, c30, c60, c97])
    · skip
      have c30 := bI_t c30
      have c30 := of_decide_eq_true c30
      have q2 : kd F k ≤ 4 := (by have h9 := c30; unfold lnBy at h9; split at h9; omega; split at h9; omega; split at h9 <;> omega)
      have e2 : Fl k (1 + 1) = nI (nm F k 2) := (hg2 (by omega)).trans (ls2 ⟨h1, q2⟩).1
      have p2 := (ls2 ⟨h1, q2⟩).2
      refine lv_aload_n hx hb dX6_made_33 rfl (lv_at hl 1 rfl) ?_
      refine lv_aload_n hx hb dX6_made_34 rfl (lv_at hl 2 rfl) ?_
      refine lv_iconst (v := nI 1) hx hb dX6_made_35 rfl ?_
      refine ns_i (k := 5) (nr_F (C := "ShareStreams$Plain") (ci := 4) (As := [.int (nI 1)]) (rest := [.ref r]) hx hb hml hown hts hG (L_num l G rc y_ (Fl k) 1 (by first | assumption | omega | rfl) (by first | assumption | omega | rfl)) nPs.blind 1 q746 q353 q355 q55 q357 (by decide +kernel) (by decide +kernel) ⟨⟨Nat.le_of_ble_eq_true rfl, Nat.le_of_ble_eq_true rfl⟩, Nat.le_of_ble_eq_true rfl, Nat.le_of_ble_eq_true rfl⟩ rfl rfl (r_recv hG (va_P.m1 hP (List.mem_append_right _ hm4) va_P.m0) 0 (C := "ShareStreams$Plain") rfl rfl rfl) (nPs_of0 hG (hP.mono (fun q h => List.mem_append_right _ h))) rfl hl.1 rfl (Nat.le_of_ble_eq_true rfl) dX6_made_36) (fun r36 hp36 => ?_)
      have he36 := hp36
      have he36 : r36 = (Fl k) (1 + 1) := he36
      subst he36
      refine r_as (z := nI (nm F k 2)) e2 ?_
      refine lv_aload_n hx hb dX6_made_41 rfl (lv_at hl 1 rfl) ?_
      refine r_get (v := .int (nI T)) hx hb hts in_X6 hown hG hP 0 rfl rfl 3 (by decide) q751 (fun _ h9 => h9) rfl dX6_made_42 ?_
      refine ns_i (k := 3) (nr_V (As := [.int (nI (nm F k 2)), .int (nI T)]) (rest := []) hx hb hml hown hts (R_at l G r ll rg lt lf T (nm F k 2) T (by first | assumption | omega | rfl) (by first | assumption | omega | rfl)) nPs.blind 2 q782 q784 qs15 q64 q785 (by decide +kernel) ⟨⟨Nat.le_of_ble_eq_true rfl, Nat.le_of_ble_eq_true rfl⟩, Nat.le_of_ble_eq_true rfl, Nat.le_of_ble_eq_true rfl⟩ (r_recv hG hP 0 (C := "ShareStreams$Run") rfl rfl rfl) (nPs_of0 hG (hP.sub [0, 1] rfl)) rfl hl.1 rfl (Nat.le_of_ble_eq_true rfl) dX6_made_45) (fun r45 hp45 => ?_)
      have he45 := hp45
      have he45 : r45 = lf (64 * (nm F k 2) + T % 64) := he45
      subst he45
      refine r_as (z := nI (bitN F (nm F k 2) T)) (hbt _ p2 T (Nat.le_refl _) (by omega)) ?_
      refine lv_goto (tgt := 52) hx hb dX6_made_48 (by decide) ?_
      refine lv_istore_n (lv' := [(3, .int (nI (bitN F (nm F k 2) T))), (2, .int (nI (nm F k 2))), (0, .ref r), (1, .ref y_)]) hx hb dX6_made_52 rfl hl (by decide) rfl (fun ls hl => ?_)
      refine lv_aload_n hx hb dX6_made_53 rfl (lv_at hl 3 rfl) ?_
      refine lv_iconst (v := nI 2) hx hb dX6_made_54 rfl ?_
      refine ns_i (k := 5) (nr_D (As := [.int (nI 2)]) (rest := []) hx hb hml hown hts hG (L_isLine l G rc y_ (Fl k) (kd F k) 2 (by first | assumption | omega | rfl) (by first | assumption | omega | rfl) (by first | assumption | omega | rfl) (by first | assumption | omega | rfl)) nPs.blind 1 q781 q603 q54 q605 (by decide +kernel) (by decide +kernel) ⟨⟨Nat.le_of_ble_eq_true rfl, Nat.le_of_ble_eq_true rfl⟩, Nat.le_of_ble_eq_true rfl, Nat.le_of_ble_eq_true rfl⟩ (r_recv hG (va_P.m1 hP (List.mem_append_right _ hm4) va_P.m0) 0 (C := "ShareStreams$Plain") rfl rfl rfl) (nPs_of0 hG (hP.mono (fun q h => List.mem_append_right _ h))) rfl hl.1 rfl (Nat.le_of_ble_eq_true rfl) dX6_made_55) (fun r55 hp55 => ?_)
      have he55 := hp55
      have he55 : r55 = bI (decide (2 < lnBy (kd F k))) := he55
      subst he55
      refine lv_if_eq (tgt := 81) hx hb dX6_made_60 (by decide) (fun c60 => ?_) (fun c60 => ?_)
      · skip
        have c60 := bI_f c60
        have c60 := of_decide_eq_false c60
        refine lv_iconst (v := nI 0) hx hb dX6_made_81 rfl ?_
        refine lv_istore (lv' := [(4, .int (nI 0)), (3, .int (nI (bitN F (nm F k 2) T))), (2, .int (nI (nm F k 2))), (0, .ref r), (1, .ref y_)]) hx hb dX6_made_82 hl (by decide) rfl (fun ls hl => ?_)
        refine lv_aload_n hx hb dX6_made_84 rfl (lv_at hl 4 rfl) ?_
        refine lv_aload_n hx hb dX6_made_85 rfl (lv_at hl 3 rfl) ?_
        refine lv_aload_n hx hb dX6_made_86 rfl (lv_at hl 4 rfl) ?_
        refine lv_iconst (v := nI 0) hx hb dX6_made_87 rfl ?_
        refine ns_i (k := 5) (nr_F (C := "ShareStreams$Plain") (ci := 4) (As := [.int (nI 0)]) (rest := [.ref r, .ref y_]) hx hb hml hown hts hG (L_num l G rc y_ (Fl k) 0 (by first | assumption | omega | rfl) (by first | assumption | omega | rfl)) nPs.blind 1 q746 q353 q355 q55 q357 (by decide +kernel) (by decide +kernel) ⟨⟨Nat.le_of_ble_eq_true rfl, Nat.le_of_ble_eq_true rfl⟩, Nat.le_of_ble_eq_true rfl, Nat.le_of_ble_eq_true rfl⟩ rfl rfl (r_recv hG (va_P.m1 hP (List.mem_append_right _ hm4) va_P.m0) 0 (C := "ShareStreams$Plain") rfl rfl rfl) (nPs_of0 hG (hP.mono (fun q h => List.mem_append_right _ h))) rfl hl.1 rfl (Nat.le_of_ble_eq_true rfl) dX6_made_88) (fun r88 hp88 => ?_)
        have he88 := hp88
        have he88 : r88 = (Fl k) (0 + 1) := he88
        subst he88
        refine r_as (z := nI (nm F k 1)) e1 ?_
        refine lv_aload_n hx hb dX6_made_93 rfl (lv_at hl 3 rfl) ?_
        refine r_get (v := .int (nI T)) hx hb hts in_X6 hown hG hP 0 rfl rfl 3 (by decide) q751 (fun _ h9 => h9) rfl dX6_made_94 ?_
        rcases Nat.lt_or_ge T (nm F k 2) with c97 | c97
        · skip
          refine lv_iload_n hx hb dX6_made_97 rfl (lv_at hl 2 rfl) ?_
          refine lv_isub hx hb dX6_made_98 ?_
          refine ns_i (k := 3) (nr_V (As := [.int (nI (nm F k 1)), .int ((nI T) - (nI (nm F k 2)))]) (rest := [.ref y_]) hx hb hml hown hts (R_atN l G r (nm F k 1) ((nI T) - (nI (nm F k 2))) (by rw [pk_sub_toInt] <;> omega)) nPs.blind 2 q782 q784 qs15 q64 q785 (by decide +kernel) ⟨⟨Nat.le_of_ble_eq_true rfl, Nat.le_of_ble_eq_true rfl⟩, Nat.le_of_ble_eq_true rfl, Nat.le_of_ble_eq_true rfl⟩ (r_recv hG hP 0 (C := "ShareStreams$Run") rfl rfl rfl) (nPs_of0 hG va_P.m0) rfl hl.1 rfl (Nat.le_of_ble_eq_true rfl) dX6_made_99) (fun r99 hp99 => ?_)
          have he99 := hp99
          have he99 : r99 = nI 0 := he99
          subst he99
          refine lv_iload_n hx hb dX6_made_102 rfl (lv_at hl 1 rfl) ?_
          refine lv_iload hx hb dX6_made_103 (lv_at hl 0 rfl) ?_
          have b1_ := bit_le ok (k := nm F k 1) (by omega)
          have hz0 : (0 : Nat) ≤ 1 := by decide
          have b2_ := bit_le ok (k := nm F k 2) (by omega) T
          refine ns_i (k := 5) (nr_D (As := [.int (nI 0), .int (nI (bitN F (nm F k 2) T)), .int (nI 0)]) (rest := []) hx hb hml hown hts hG (L_bit l G rc y_ (Fl k) (kd F k) 0 (bitN F (nm F k 2) T) 0 (by first | assumption | omega | rfl) (by first | assumption | omega | rfl) (by first | assumption | omega | rfl) h1 (by first | exact b1_ _ | decide) (by first | exact b2_ | decide) (by first | exact b3_ | decide)) nPs.blind 3 q787 q791 q54 q793 (by decide +kernel) (by decide +kernel) ⟨⟨Nat.le_of_ble_eq_true rfl, Nat.le_of_ble_eq_true rfl⟩, Nat.le_of_ble_eq_true rfl, Nat.le_of_ble_eq_true rfl⟩ (r_recv hG (va_P.m1 hP (List.mem_append_right _ hm4) va_P.m0) 0 (C := "ShareStreams$Plain") rfl rfl rfl) (nPs_of0 hG (hP.mono (fun q h => List.mem_append_right _ h))) rfl hl.1 rfl (Nat.le_of_ble_eq_true rfl) dX6_made_105) (fun r105 hp105 => ?_)
          have he105 := hp105
          have he105 : r105 = nI (lbN (kd F k) 0 (bitN F (nm F k 2) T) 0) := he105
          subst he105
          exact ret (nI (lbN (kd F k) 0 (bitN F (nm F k 2) T) 0)) dX6_made_110 (by rw [← bit_made ok hk h1 T]; first | (exfalso; omega) | (simp only [c8, c30, c60, c97, if_true, if_false]; done) | (simp [c8, c30, c60]; done) | (rw [if_pos c8, if_pos c97, if_neg c30, if_neg c60]; done) | (rw [if_pos c8, if_neg (Nat.not_lt.mpr c97), if_neg c30, if_neg c60]; done) | simp [c8, c30, c60, c97])
        · skip
          refine lv_iload_n hx hb dX6_made_97 rfl (lv_at hl 2 rfl) ?_
          refine lv_isub hx hb dX6_made_98 ?_
          refine r_as (z := nI (T - (nm F k 2))) (pk_sub (by omega)) ?_
          refine ns_i (k := 3) (nr_V (As := [.int (nI (nm F k 1)), .int (nI (T - (nm F k 2)))]) (rest := [.ref y_]) hx hb hml hown hts (R_at l G r ll rg lt lf T (nm F k 1) (T - (nm F k 2)) (by first | assumption | omega | rfl) (by first | assumption | omega | rfl)) nPs.blind 2 q782 q784 qs15 q64 q785 (by decide +kernel) ⟨⟨Nat.le_of_ble_eq_true rfl, Nat.le_of_ble_eq_true rfl⟩, Nat.le_of_ble_eq_true rfl, Nat.le_of_ble_eq_true rfl⟩ (r_recv hG hP 0 (C := "ShareStreams$Run") rfl rfl rfl) (nPs_of0 hG (hP.sub [0, 1] rfl)) rfl hl.1 rfl (Nat.le_of_ble_eq_true rfl) dX6_made_99) (fun r99 hp99 => ?_)
          have he99 := hp99
          have he99 : r99 = lf (64 * (nm F k 1) + (T - (nm F k 2)) % 64) := he99
          subst he99
          refine r_as (z := nI (bitN F (nm F k 1) (T - nm F k 2))) (hbt _ p1 _ (by omega) (by omega)) ?_
          refine lv_iload_n hx hb dX6_made_102 rfl (lv_at hl 1 rfl) ?_
          refine lv_iload hx hb dX6_made_103 (lv_at hl 0 rfl) ?_
          have b1_ := bit_le ok (k := nm F k 1) (by omega)
          have hz0 : (0 : Nat) ≤ 1 := by decide
          have b2_ := bit_le ok (k := nm F k 2) (by omega) T
          refine ns_i (k := 5) (nr_D (As := [.int (nI (bitN F (nm F k 1) (T - nm F k 2))), .int (nI (bitN F (nm F k 2) T)), .int (nI 0)]) (rest := []) hx hb hml hown hts hG (L_bit l G rc y_ (Fl k) (kd F k) (bitN F (nm F k 1) (T - nm F k 2)) (bitN F (nm F k 2) T) 0 (by first | assumption | omega | rfl) (by first | assumption | omega | rfl) (by first | assumption | omega | rfl) h1 (by first | exact b1_ _ | decide) (by first | exact b2_ | decide) (by first | exact b3_ | decide)) nPs.blind 3 q787 q791 q54 q793 (by decide +kernel) (by decide +kernel) ⟨⟨Nat.le_of_ble_eq_true rfl, Nat.le_of_ble_eq_true rfl⟩, Nat.le_of_ble_eq_true rfl, Nat.le_of_ble_eq_true rfl⟩ (r_recv hG (va_P.m1 hP (List.mem_append_right _ hm4) va_P.m0) 0 (C := "ShareStreams$Plain") rfl rfl rfl) (nPs_of0 hG (hP.mono (fun q h => List.mem_append_right _ h))) rfl hl.1 rfl (Nat.le_of_ble_eq_true rfl) dX6_made_105) (fun r105 hp105 => ?_)
          have he105 := hp105
          have he105 : r105 = nI (lbN (kd F k) (bitN F (nm F k 1) (T - nm F k 2)) (bitN F (nm F k 2) T) 0) := he105
          subst he105
          exact ret (nI (lbN (kd F k) (bitN F (nm F k 1) (T - nm F k 2)) (bitN F (nm F k 2) T) 0)) dX6_made_110 (by rw [← bit_made ok hk h1 T]; first | (exfalso; omega) | (simp only [c8, c30, c60, c97, if_true, if_false]; done) | (simp [c8, c30, c60]; done) | (rw [if_pos c8, if_pos c97, if_neg c30, if_neg c60]; done) | (rw [if_pos c8, if_neg (Nat.not_lt.mpr c97), if_neg c30, if_neg c60]; done) | simp [c8, c30, c60, c97])
      · skip
        have c60 := bI_t c60
        have c60 := of_decide_eq_true c60
        have q3 : kd F k = 4 := (by have h9 := c60; unfold lnBy at h9; split at h9; omega; split at h9; omega; split at h9 <;> omega)
        have e3 : Fl k (2 + 1) = nI (nm F k 3) := hg3.trans (ls3 q3).1
        have p3 := (ls3 q3).2
        refine lv_aload_n hx hb dX6_made_63 rfl (lv_at hl 2 rfl) ?_
        refine lv_aload_n hx hb dX6_made_64 rfl (lv_at hl 3 rfl) ?_
        refine lv_iconst (v := nI 2) hx hb dX6_made_65 rfl ?_
        refine ns_i (k := 5) (nr_F (C := "ShareStreams$Plain") (ci := 4) (As := [.int (nI 2)]) (rest := [.ref r]) hx hb hml hown hts hG (L_num l G rc y_ (Fl k) 2 (by first | assumption | omega | rfl) (by first | assumption | omega | rfl)) nPs.blind 1 q746 q353 q355 q55 q357 (by decide +kernel) (by decide +kernel) ⟨⟨Nat.le_of_ble_eq_true rfl, Nat.le_of_ble_eq_true rfl⟩, Nat.le_of_ble_eq_true rfl, Nat.le_of_ble_eq_true rfl⟩ rfl rfl (r_recv hG (va_P.m1 hP (List.mem_append_right _ hm4) va_P.m0) 0 (C := "ShareStreams$Plain") rfl rfl rfl) (nPs_of0 hG (hP.mono (fun q h => List.mem_append_right _ h))) rfl hl.1 rfl (Nat.le_of_ble_eq_true rfl) dX6_made_66) (fun r66 hp66 => ?_)
        have he66 := hp66
        have he66 : r66 = (Fl k) (2 + 1) := he66
        subst he66
        refine r_as (z := nI (nm F k 3)) e3 ?_
        refine lv_aload_n hx hb dX6_made_71 rfl (lv_at hl 2 rfl) ?_
        refine r_get (v := .int (nI T)) hx hb hts in_X6 hown hG hP 0 rfl rfl 3 (by decide) q751 (fun _ h9 => h9) rfl dX6_made_72 ?_
        refine ns_i (k := 3) (nr_V (As := [.int (nI (nm F k 3)), .int (nI T)]) (rest := []) hx hb hml hown hts (R_at l G r ll rg lt lf T (nm F k 3) T (by first | assumption | omega | rfl) (by first | assumption | omega | rfl)) nPs.blind 2 q782 q784 qs15 q64 q785 (by decide +kernel) ⟨⟨Nat.le_of_ble_eq_true rfl, Nat.le_of_ble_eq_true rfl⟩, Nat.le_of_ble_eq_true rfl, Nat.le_of_ble_eq_true rfl⟩ (r_recv hG hP 0 (C := "ShareStreams$Run") rfl rfl rfl) (nPs_of0 hG (hP.sub [0, 1] rfl)) rfl hl.1 rfl (Nat.le_of_ble_eq_true rfl) dX6_made_75) (fun r75 hp75 => ?_)
        have he75 := hp75
        have he75 : r75 = lf (64 * (nm F k 3) + T % 64) := he75
        subst he75
        refine r_as (z := nI (bitN F (nm F k 3) T)) (hbt _ p3 T (Nat.le_refl _) (by omega)) ?_
        refine lv_goto (tgt := 82) hx hb dX6_made_78 (by decide) ?_
        refine lv_istore (lv' := [(4, .int (nI (bitN F (nm F k 3) T))), (3, .int (nI (bitN F (nm F k 2) T))), (2, .int (nI (nm F k 2))), (0, .ref r), (1, .ref y_)]) hx hb dX6_made_82 hl (by decide) rfl (fun ls hl => ?_)
        refine lv_aload_n hx hb dX6_made_84 rfl (lv_at hl 4 rfl) ?_
        refine lv_aload_n hx hb dX6_made_85 rfl (lv_at hl 3 rfl) ?_
        refine lv_aload_n hx hb dX6_made_86 rfl (lv_at hl 4 rfl) ?_
        refine lv_iconst (v := nI 0) hx hb dX6_made_87 rfl ?_
        refine ns_i (k := 5) (nr_F (C := "ShareStreams$Plain") (ci := 4) (As := [.int (nI 0)]) (rest := [.ref r, .ref y_]) hx hb hml hown hts hG (L_num l G rc y_ (Fl k) 0 (by first | assumption | omega | rfl) (by first | assumption | omega | rfl)) nPs.blind 1 q746 q353 q355 q55 q357 (by decide +kernel) (by decide +kernel) ⟨⟨Nat.le_of_ble_eq_true rfl, Nat.le_of_ble_eq_true rfl⟩, Nat.le_of_ble_eq_true rfl, Nat.le_of_ble_eq_true rfl⟩ rfl rfl (r_recv hG (va_P.m1 hP (List.mem_append_right _ hm4) va_P.m0) 0 (C := "ShareStreams$Plain") rfl rfl rfl) (nPs_of0 hG (hP.mono (fun q h => List.mem_append_right _ h))) rfl hl.1 rfl (Nat.le_of_ble_eq_true rfl) dX6_made_88) (fun r88 hp88 => ?_)
        have he88 := hp88
        have he88 : r88 = (Fl k) (0 + 1) := he88
        subst he88
        refine r_as (z := nI (nm F k 1)) e1 ?_
        refine lv_aload_n hx hb dX6_made_93 rfl (lv_at hl 3 rfl) ?_
        refine r_get (v := .int (nI T)) hx hb hts in_X6 hown hG hP 0 rfl rfl 3 (by decide) q751 (fun _ h9 => h9) rfl dX6_made_94 ?_
        rcases Nat.lt_or_ge T (nm F k 2) with c97 | c97
        · skip
          refine lv_iload_n hx hb dX6_made_97 rfl (lv_at hl 2 rfl) ?_
          refine lv_isub hx hb dX6_made_98 ?_
          refine ns_i (k := 3) (nr_V (As := [.int (nI (nm F k 1)), .int ((nI T) - (nI (nm F k 2)))]) (rest := [.ref y_]) hx hb hml hown hts (R_atN l G r (nm F k 1) ((nI T) - (nI (nm F k 2))) (by rw [pk_sub_toInt] <;> omega)) nPs.blind 2 q782 q784 qs15 q64 q785 (by decide +kernel) ⟨⟨Nat.le_of_ble_eq_true rfl, Nat.le_of_ble_eq_true rfl⟩, Nat.le_of_ble_eq_true rfl, Nat.le_of_ble_eq_true rfl⟩ (r_recv hG hP 0 (C := "ShareStreams$Run") rfl rfl rfl) (nPs_of0 hG va_P.m0) rfl hl.1 rfl (Nat.le_of_ble_eq_true rfl) dX6_made_99) (fun r99 hp99 => ?_)
          have he99 := hp99
          have he99 : r99 = nI 0 := he99
          subst he99
          refine lv_iload_n hx hb dX6_made_102 rfl (lv_at hl 1 rfl) ?_
          refine lv_iload hx hb dX6_made_103 (lv_at hl 0 rfl) ?_
          have b1_ := bit_le ok (k := nm F k 1) (by omega)
          have hz0 : (0 : Nat) ≤ 1 := by decide
          have b2_ := bit_le ok (k := nm F k 2) (by omega) T
          have b3_ := bit_le ok (k := nm F k 3) (by omega) T
          refine ns_i (k := 5) (nr_D (As := [.int (nI 0), .int (nI (bitN F (nm F k 2) T)), .int (nI (bitN F (nm F k 3) T))]) (rest := []) hx hb hml hown hts hG (L_bit l G rc y_ (Fl k) (kd F k) 0 (bitN F (nm F k 2) T) (bitN F (nm F k 3) T) (by first | assumption | omega | rfl) (by first | assumption | omega | rfl) (by first | assumption | omega | rfl) h1 (by first | exact b1_ _ | decide) (by first | exact b2_ | decide) (by first | exact b3_ | decide)) nPs.blind 3 q787 q791 q54 q793 (by decide +kernel) (by decide +kernel) ⟨⟨Nat.le_of_ble_eq_true rfl, Nat.le_of_ble_eq_true rfl⟩, Nat.le_of_ble_eq_true rfl, Nat.le_of_ble_eq_true rfl⟩ (r_recv hG (va_P.m1 hP (List.mem_append_right _ hm4) va_P.m0) 0 (C := "ShareStreams$Plain") rfl rfl rfl) (nPs_of0 hG (hP.mono (fun q h => List.mem_append_right _ h))) rfl hl.1 rfl (Nat.le_of_ble_eq_true rfl) dX6_made_105) (fun r105 hp105 => ?_)
          have he105 := hp105
          have he105 : r105 = nI (lbN (kd F k) 0 (bitN F (nm F k 2) T) (bitN F (nm F k 3) T)) := he105
          subst he105
          exact ret (nI (lbN (kd F k) 0 (bitN F (nm F k 2) T) (bitN F (nm F k 3) T))) dX6_made_110 (by rw [← bit_made ok hk h1 T]; first | (exfalso; omega) | (simp only [c8, c30, c60, c97, if_true, if_false]; done) | (simp [c8, c30, c60]; done) | (rw [if_pos c8, if_pos c97, if_neg c30, if_neg c60]; done) | (rw [if_pos c8, if_neg (Nat.not_lt.mpr c97), if_neg c30, if_neg c60]; done) | simp [c8, c30, c60, c97])
        · skip
          refine lv_iload_n hx hb dX6_made_97 rfl (lv_at hl 2 rfl) ?_
          refine lv_isub hx hb dX6_made_98 ?_
          refine r_as (z := nI (T - (nm F k 2))) (pk_sub (by omega)) ?_
          refine ns_i (k := 3) (nr_V (As := [.int (nI (nm F k 1)), .int (nI (T - (nm F k 2)))]) (rest := [.ref y_]) hx hb hml hown hts (R_at l G r ll rg lt lf T (nm F k 1) (T - (nm F k 2)) (by first | assumption | omega | rfl) (by first | assumption | omega | rfl)) nPs.blind 2 q782 q784 qs15 q64 q785 (by decide +kernel) ⟨⟨Nat.le_of_ble_eq_true rfl, Nat.le_of_ble_eq_true rfl⟩, Nat.le_of_ble_eq_true rfl, Nat.le_of_ble_eq_true rfl⟩ (r_recv hG hP 0 (C := "ShareStreams$Run") rfl rfl rfl) (nPs_of0 hG (hP.sub [0, 1] rfl)) rfl hl.1 rfl (Nat.le_of_ble_eq_true rfl) dX6_made_99) (fun r99 hp99 => ?_)
          have he99 := hp99
          have he99 : r99 = lf (64 * (nm F k 1) + (T - (nm F k 2)) % 64) := he99
          subst he99
          refine r_as (z := nI (bitN F (nm F k 1) (T - nm F k 2))) (hbt _ p1 _ (by omega) (by omega)) ?_
          refine lv_iload_n hx hb dX6_made_102 rfl (lv_at hl 1 rfl) ?_
          refine lv_iload hx hb dX6_made_103 (lv_at hl 0 rfl) ?_
          have b1_ := bit_le ok (k := nm F k 1) (by omega)
          have hz0 : (0 : Nat) ≤ 1 := by decide
          have b2_ := bit_le ok (k := nm F k 2) (by omega) T
          have b3_ := bit_le ok (k := nm F k 3) (by omega) T
          refine ns_i (k := 5) (nr_D (As := [.int (nI (bitN F (nm F k 1) (T - nm F k 2))), .int (nI (bitN F (nm F k 2) T)), .int (nI (bitN F (nm F k 3) T))]) (rest := []) hx hb hml hown hts hG (L_bit l G rc y_ (Fl k) (kd F k) (bitN F (nm F k 1) (T - nm F k 2)) (bitN F (nm F k 2) T) (bitN F (nm F k 3) T) (by first | assumption | omega | rfl) (by first | assumption | omega | rfl) (by first | assumption | omega | rfl) h1 (by first | exact b1_ _ | decide) (by first | exact b2_ | decide) (by first | exact b3_ | decide)) nPs.blind 3 q787 q791 q54 q793 (by decide +kernel) (by decide +kernel) ⟨⟨Nat.le_of_ble_eq_true rfl, Nat.le_of_ble_eq_true rfl⟩, Nat.le_of_ble_eq_true rfl, Nat.le_of_ble_eq_true rfl⟩ (r_recv hG (va_P.m1 hP (List.mem_append_right _ hm4) va_P.m0) 0 (C := "ShareStreams$Plain") rfl rfl rfl) (nPs_of0 hG (hP.mono (fun q h => List.mem_append_right _ h))) rfl hl.1 rfl (Nat.le_of_ble_eq_true rfl) dX6_made_105) (fun r105 hp105 => ?_)
          have he105 := hp105
          have he105 : r105 = nI (lbN (kd F k) (bitN F (nm F k 1) (T - nm F k 2)) (bitN F (nm F k 2) T) (bitN F (nm F k 3) T)) := he105
          subst he105
          exact ret (nI (lbN (kd F k) (bitN F (nm F k 1) (T - nm F k 2)) (bitN F (nm F k 2) T) (bitN F (nm F k 3) T))) dX6_made_110 (by rw [← bit_made ok hk h1 T]; first | (exfalso; omega) | (simp only [c8, c30, c60, c97, if_true, if_false]; done) | (simp [c8, c30, c60]; done) | (rw [if_pos c8, if_pos c97, if_neg c30, if_neg c60]; done) | (rw [if_pos c8, if_neg (Nat.not_lt.mpr c97), if_neg c30, if_neg c60]; done) | simp [c8, c30, c60, c97])
set_option maxHeartbeats 4000000 in
set_option maxRecDepth 100000 in
theorem R_step (l : Launch) (G : nG) (rc : va_W) (ll : Nat) (n : Nat) (F : Nat → Nat → Int32) (Fl : Nat → Nat → Int32) (r : Nat) (rg : Nat) (lt : Nat) (rf : Nat → Int32) (lf : Nat → Int32) (T : Nat) (hL : iLines G rc ll n Fl) (hn : n ≤ 16) (ok : ∀ k, k < n → lnOk F k) (hag : lnAg n F Fl) (hT : T < 2 ^ 17) (hrg : rgI F n rf T) (hlt : ltI F n lf T) : nMv (S := (Nat → Int32) × (Nat → Int32)) l yX6_step cX6_step 3 3 0 0 67 G [.ref r] ([(r, .inr (6, [.ref ll, .ref rg, .ref lt, .int (nI T)])), (rg, .inl (G.1.1 100, 16, .inl rf)), (lt, .inl (G.1.1 101, 1024, .inl lf))]) rc (fun (u : (Nat → Int32) × (Nat → Int32)) => [(r, .inr (6, [.ref ll, .ref rg, .ref lt, .int (nI (T + 1))])), (rg, .inl (G.1.1 100, 16, .inl u.1)), (lt, .inl (G.1.1 101, 1024, .inl u.2))]) (fun (u : (Nat → Int32) × (Nat → Int32)) => rgI F n u.1 (T + 1) ∧ ltI F n u.2 (T + 1)) := by
  refine nMv.of (own := "ShareStreams$Run") rfl (by decide +kernel) (Nat.le_of_ble_eq_true rfl) ?_
  intro p e s m args below meth c A Q ls hx hb hml hown hts hin hG Z hl ret
  have hl : lv_has ls 3 [(0, .ref r)] := hl
  have Z : nW G A ([(r, .inr (6, [.ref ll, .ref rg, .ref lt, .int (nI T)])), (rg, .inl (G.1.1 100, 16, .inl rf)), (lt, .inl (G.1.1 101, 1024, .inl lf))]) ([]) rc s.heap _ _ := Z
  obtain ⟨c_, ea_, cap_, f_, hm2, hm3, hel⟩ := hL
  refine lv_iconst (v := nI 0) hx hb dX6_step_0 rfl ?_
  refine lv_istore_n (lv' := [(1, .int (nI 0)), (0, .ref r)]) hx hb dX6_step_1 rfl hl (by decide) rfl (fun ls hl => ?_)
  have L2 : ∀ (k_ : Nat) (k : Nat) (rf : Nat → Int32) (lf : Nat → Int32) (g1 : k ≤ n) (g2 : ∀ j, j < k → kd F j = 0 → rf j = nI (regN (nm F j 2) (T + 1))) (g3 : ∀ j, k ≤ j → j < n → kd F j = 0 → rf j = nI (regN (nm F j 2) T)) (g4 : ∀ j, j < k → ∀ t, t ≤ T → T < t + 64 → lf (64 * j + t % 64) = nI (bitN F j t)) (g5 : ∀ j, k ≤ j → j < n → ∀ t, t < T → T ≤ t + 64 → lf (64 * j + t % 64) = nI (bitN F j t)) (hk_ : n - k < k_) (H : Heap) (locs : List Loc), nW G A ([(r, .inr (6, [.ref ll, .ref rg, .ref lt, .int (nI T)])), (rg, .inl (G.1.1 100, 16, .inl rf)), (lt, .inl (G.1.1 101, 1024, .inl lf))]) ([]) rc s.heap H locs → ∀ (ls : Array Slot), lv_has ls 3 [(1, .int (nI k)), (0, .ref r)] → W p l e (nRm 3 0 0 67) s m args below meth c H locs 0 0 Q (F0 m 2 ls []) := by
    intro k_
    induction k_ with
    | zero => intro k rf lf g1 g2 g3 g4 g5 hk_; exact absurd hk_ (Nat.not_lt_zero _)
    | succ k_ ih_L2 =>
      intro k rf lf g1 g2 g3 g4 g5 hk_ H locs Z ls hl
      refine lv_iload_n hx hb dX6_step_2 rfl (lv_at hl 0 rfl) ?_
      refine lv_aload_n hx hb dX6_step_3 rfl (lv_at hl 1 rfl) ?_
      refine r_get (v := .ref ll) hx hb hts in_X6 hown hG Z.w 0 rfl rfl 0 (by decide) q747 (fun _ h9 => h9) rfl dX6_step_4 ?_
      refine ns_i (k := 5) (nr_F (C := "java/util/ArrayList") (ci := 3) (As := []) (rest := [.int (nI k)]) hx hb hml hown hts hG (J2_sz l G ll c_ ea_ n) nPs.blind 0 q739 q196 q198 q48 q200 (by decide +kernel) (by decide +kernel) ⟨⟨Nat.le_of_ble_eq_true rfl, Nat.le_of_ble_eq_true rfl⟩, Nat.le_of_ble_eq_true rfl, Nat.le_of_ble_eq_true rfl⟩ rfl rfl (r_recv hG (va_P.m1 Z.rc hm2 va_P.m0) 0 (C := "java/util/ArrayList") rfl rfl rfl) (nPs_of hG Z (va_P.m1 Z.rc hm2 va_P.m0)) rfl hl.1 rfl (Nat.le_of_ble_eq_true rfl) dX6_step_7) (fun r7 hp7 => ?_)
      have he7 := hp7
      have he7 : r7 = nI n := he7
      subst he7
      refine lv_icmp_ge (tgt := 76) hx hb dX6_step_12 (by decide) (fun c12 => ?_) (fun c12 => ?_)
      · skip
        have c12 := n_le_t (a := n) (b := k) c12 (by omega) (by omega)
        have c12 : k = n := by omega
        subst c12
        refine lv_aload_n hx hb dX6_step_76 rfl (lv_at hl 1 rfl) ?_
        refine lv_dup hx hb dX6_step_77 rfl ?_
        refine r_get (v := .int (nI T)) hx hb hts in_X6 hown hG Z.w 0 rfl rfl 3 (by decide) q751 (fun _ h9 => h9) rfl dX6_step_78 ?_
        refine lv_iconst (v := nI 1) hx hb dX6_step_81 rfl ?_
        refine lv_iadd hx hb dX6_step_82 ?_
        refine r_as (z := nI (T + 1)) (nI_add _ _) ?_
        refine r_put (ty := .int) hx hb hts in_X6 tyX6 tyX6_ok nmX6 hown hG Z 0 rfl rfl 3 (by decide) q751 (fun _ h9 => h9) rfl (by decide +kernel) rfl rfl (Nat.le_of_ble_eq_true rfl) (wc' := [(r, .inr (6, [.ref ll, .ref rg, .ref lt, .int (nI (T + 1))])), (rg, .inl (G.1.1 100, 16, .inl rf)), (lt, .inl (G.1.1 101, 1024, .inl lf))]) rfl dX6_step_83 (fun H locs Z => ?_)
        exact ret (rf, lf) dX6_step_86 (⟨g2, fun j hj t h1_ h2_ => g4 j hj t (by omega) (by omega)⟩) Z (Nat.le_of_ble_eq_true rfl) (Nat.le_of_ble_eq_true rfl)
      · skip
        have c12 := n_le_f (a := n) (b := k) c12 (by omega) (by omega)
        obtain ⟨hm3a, hm3b, hm3c⟩ := hm3.resolve_left (by omega)
        obtain ⟨y_, hy_, hln⟩ := hel k (by omega)
        have hln0 := hln
        obtain ⟨a_, L_, fl_, hm4, hm5, hL_, hrow⟩ := hln0
        have hi_ := hm3c
        obtain ⟨hg0, hg1, hg2, hg3⟩ := hag k (by omega)
        have hokk := ok k (by omega)
        obtain ⟨⟨od, hk6⟩, ls0, ls1, ls2, ls3, ls6, ln3, ln2⟩ := hokk
        have hk0 : Fl k 0 = nI (kd F k) := hg0.trans od
        have sv1 : kd F k = 0 → Fl k (0 + 1) = nI (nm F k 1) := fun z => hg1.trans (ls0 z).1.1
        refine lv_aload_n hx hb dX6_step_15 rfl (lv_at hl 1 rfl) ?_
        refine r_get (v := .ref ll) hx hb hts in_X6 hown hG Z.w 0 rfl rfl 0 (by decide) q747 (fun _ h9 => h9) rfl dX6_step_16 ?_
        refine lv_iload_n hx hb dX6_step_19 rfl (lv_at hl 0 rfl) ?_
        refine ns_q (k := 5) (nr_F (C := "java/util/ArrayList") (ci := 3) (As := [.int (nI k)]) (rest := []) hx hb hml hown hts hG (J2_g l G ll c_ ea_ n cap_ f_ k (by omega) hm3b (by omega)) nPs.blind 1 q741 q211 q213 q48 q215 (by decide +kernel) (by decide +kernel) ⟨⟨Nat.le_of_ble_eq_true rfl, Nat.le_of_ble_eq_true rfl⟩, Nat.le_of_ble_eq_true rfl, Nat.le_of_ble_eq_true rfl⟩ rfl rfl (r_recv hG (va_P.m1 Z.rc hm2 va_P.m0) 0 (C := "java/util/ArrayList") rfl rfl rfl) (nPs_of hG Z (va_P.m1 Z.rc hm2 (va_P.m1 Z.rc hm3a va_P.m0))) rfl hl.1 rfl (Nat.le_of_ble_eq_true rfl) dX6_step_20) (fun r20 hp20 => ?_)
        have he20 := hp20
        have he20 : r20 = f_ k := he20
        subst he20
        rw [hy_]
        refine r_cast (C := "ShareStreams$Plain") hx hb hts hown q742 q342 hG (r_recv hG (va_P.m1 Z.rc hm4 va_P.m0) 0 (C := "ShareStreams$Plain") rfl rfl rfl) dX6_step_25 ?_
        refine lv_astore_n (lv' := [(2, .ref y_), (1, .int (nI k)), (0, .ref r)]) hx hb dX6_step_28 rfl hl (by decide) rfl (fun ls hl => ?_)
        refine lv_aload_n hx hb dX6_step_29 rfl (lv_at hl 2 rfl) ?_
        refine r_get (v := .ref lt) hx hb hts in_X6 hown hG Z.w 0 rfl rfl 2 (by decide) q750 (fun _ h9 => h9) rfl dX6_step_30 ?_
        refine lv_bipush (v := nI 64) hx hb dX6_step_33 rfl ?_
        refine lv_iload_n hx hb dX6_step_35 rfl (lv_at hl 1 rfl) ?_
        refine lv_imul hx hb dX6_step_36 ?_
        refine r_as (z := nI (64 * k)) (pk_mul _ _) ?_
        refine lv_aload_n hx hb dX6_step_37 rfl (lv_at hl 2 rfl) ?_
        refine r_get (v := .int (nI T)) hx hb hts in_X6 hown hG Z.w 0 rfl rfl 3 (by decide) q751 (fun _ h9 => h9) rfl dX6_step_38 ?_
        refine lv_bipush (v := nI 64) hx hb dX6_step_41 rfl ?_
        refine lv_irem hx hb dX6_step_43 (by decide) ?_
        refine r_as (z := nI (T % 64)) (pk_rem (by omega) (by decide) (by decide)) ?_
        refine lv_iadd hx hb dX6_step_44 ?_
        refine r_as (z := nI (64 * k + (T % 64))) (nI_add _ _) ?_
        refine lv_aload_n hx hb dX6_step_45 rfl (lv_at hl 0 rfl) ?_
        refine ns_i (k := 5) (nr_F (C := "ShareStreams$Plain") (ci := 4) (As := []) (rest := [.int (nI (64 * k + (T % 64))), .ref lt]) hx hb hml hown hts hG (L_kind l G rc y_ (Fl k) (by first | assumption | omega | rfl)) nPs.blind 0 q744 q343 q345 q55 q347 (by decide +kernel) (by decide +kernel) ⟨⟨Nat.le_of_ble_eq_true rfl, Nat.le_of_ble_eq_true rfl⟩, Nat.le_of_ble_eq_true rfl, Nat.le_of_ble_eq_true rfl⟩ rfl rfl (r_recv hG (va_P.m1 Z.rc hm4 va_P.m0) 0 (C := "ShareStreams$Plain") rfl rfl rfl) (nPs_of hG Z Z.rc) rfl hl.1 rfl (Nat.le_of_ble_eq_true rfl) dX6_step_46) (fun r46 hp46 => ?_)
        have he46 := hp46
        have he46 : r46 = (Fl k) 0 := he46
        subst he46
        refine r_as (z := nI (kd F k)) hk0 ?_
        refine lv_if_ne (tgt := 63) hx hb dX6_step_51 (by decide) (fun c51 => ?_) (fun c51 => ?_)
        · skip
          have c51 := n_eq_f (a := kd F k) (b := 0) c51
          refine lv_aload_n hx hb dX6_step_63 rfl (lv_at hl 2 rfl) ?_
          refine lv_aload_n hx hb dX6_step_64 rfl (lv_at hl 0 rfl) ?_
          refine ns_i (k := 3) (nr_V (As := [.ref y_]) (rest := [.int (nI (64 * k + (T % 64))), .ref lt]) hx hb hml hown hts (R_made l G rc r ll rg lt lf T k n y_ F Fl (by first | assumption | omega | rfl) (by first | assumption | omega | rfl) (by first | assumption | omega | rfl) (by first | assumption | omega | rfl) (by first | assumption | omega | rfl) (by omega) (by first | assumption | omega | rfl) g4) nPs.blind 1 q776 q778 qs14 q64 q779 (by decide +kernel) ⟨⟨Nat.le_of_ble_eq_true rfl, Nat.le_of_ble_eq_true rfl⟩, Nat.le_of_ble_eq_true rfl, Nat.le_of_ble_eq_true rfl⟩ (r_recv hG Z.w 0 (C := "ShareStreams$Run") rfl rfl rfl) (nPs_of hG Z (va_P.app (Z.w.sub [0, 2] rfl) Z.rc)) rfl hl.1 rfl (Nat.le_of_ble_eq_true rfl) dX6_step_65) (fun r65 hp65 => ?_)
          have he65 := hp65
          have he65 : r65 = nI (bitN F k T) := he65
          subst he65
          refine lv_i2b (v := nI (bitN F k T)) hx hb dX6_step_68 (i8_01 _ (bit_le ok (by omega) T)) ?_
          refine r_bast hx hb hG Z 2 rfl (j := 64 * k + (T % 64)) (z := nI (bitN F k T)) (by rw [vp_nar_byte]; exact i8_01 _ (bit_le ok (by omega) T)) (by have := Nat.mod_lt T (by decide : 0 < 64); omega) (by decide) (wc' := [(r, .inr (6, [.ref ll, .ref rg, .ref lt, .int (nI T)])), (rg, .inl (G.1.1 100, 16, .inl rf)), (lt, .inl (G.1.1 101, 1024, .inl (upd lf (64 * k + (T % 64)) (nI (bitN F k T)))))]) rfl dX6_step_69 (fun H locs Z => ?_)
          refine lv_iinc (v := nI (k + 1)) (lv' := [(1, .int (nI (k + 1))), (2, .ref y_), (0, .ref r)]) hx hb dX6_step_70 hl (k := 1) rfl (nI_add _ _) (by decide) rfl (fun ls hl => ?_)
          refine lv_goto (tgt := 2) hx hb dX6_step_73 (by decide) ?_
          exact ih_L2 (k + 1) rf (upd lf (64 * k + (T % 64)) (nI (bitN F k T))) (by omega) (by first | exact rg_s1 g2 | exact rg_s0 g2 c51) (by first | exact rg_s2 g3 | exact fun j h1_ => g3 j (by omega)) (lt_s1 (by omega) g4 g5) (lt_s2 g5) (by omega) _ _ Z _ (lv_sub hl [0, 2] rfl)
        · skip
          have c51 := n_eq_t (a := kd F k) (b := 0) c51 (by omega) (by decide)
          refine lv_aload_n hx hb dX6_step_54 rfl (lv_at hl 2 rfl) ?_
          refine lv_iload_n hx hb dX6_step_55 rfl (lv_at hl 1 rfl) ?_
          refine lv_aload_n hx hb dX6_step_56 rfl (lv_at hl 0 rfl) ?_
          refine nc_i (k := 3) (wcc := [(r, .inr (6, [.ref ll, .ref rg, .ref lt, .int (nI T)])), (rg, .inl (G.1.1 100, 16, .inl rf))]) (wr := [(lt, .inl (G.1.1 101, 1024, .inl lf))]) (nr_V (As := [.int (nI k), .ref y_]) (rest := [.int (nI (64 * k + (T % 64))), .ref lt]) hx hb hml hown hts ((R_src l G rc r ll rg lt rf T k y_ Fl (nm F k 1) (regN (nm F k 2) T) (by first | assumption | omega | rfl) (sv1 c51) ((ls0 c51).1.2) (g3 k (Nat.le_refl _) (by omega) c51) (regN_lt (by have := (ls0 c51).2.2.2; omega) T) (by first | assumption | omega | rfl)) _) nP.blind 2 q769 q771 qs13 q64 q772 (by decide +kernel) ⟨⟨Nat.le_of_ble_eq_true rfl, Nat.le_of_ble_eq_true rfl⟩, Nat.le_of_ble_eq_true rfl, Nat.le_of_ble_eq_true rfl⟩ (r_recv hG Z.w 0 (C := "ShareStreams$Run") rfl rfl rfl) (nP_of hG Z [0, 1] rfl (by decide) Z.rc (Z.apR [0, 1] rfl)) rfl hl.1 rfl (Nat.le_of_ble_eq_true rfl) dX6_step_57) Z [0, 1] [2] rfl rfl (by decide) (by decide) (fun r57 u H locs hp57 Z => ?_)
          have he57 := hp57
          have he57 : r57 = nI (if (regN (nm F k 2) T) ≤ (nm F k 1) then 1 else 0) := he57
          subst he57
          have Z : nW G A ([(lt, .inl (G.1.1 101, 1024, .inl lf)), (r, .inr (6, [.ref ll, .ref rg, .ref lt, .int (nI T)])), (rg, .inl (G.1.1 100, 16, .inl (upd rf k (nI (nxt (regN (nm F k 2) T))))))]) ([]) rc s.heap _ _ := Z
          have Z := Z.perm ([(r, .inr (6, [.ref ll, .ref rg, .ref lt, .int (nI T)])), (rg, .inl (G.1.1 100, 16, .inl (upd rf k (nI (nxt (regN (nm F k 2) T)))))), (lt, .inl (G.1.1 101, 1024, .inl lf))]) [1, 2, 0] (by decide) rfl
          refine r_as (z := nI (bitN F k T)) (src_bit ok (by omega) c51 T) ?_
          refine lv_goto (tgt := 68) hx hb dX6_step_60 (by decide) ?_
          refine lv_i2b (v := nI (bitN F k T)) hx hb dX6_step_68 (i8_01 _ (bit_le ok (by omega) T)) ?_
          refine r_bast hx hb hG Z 2 rfl (j := 64 * k + (T % 64)) (z := nI (bitN F k T)) (by rw [vp_nar_byte]; exact i8_01 _ (bit_le ok (by omega) T)) (by have := Nat.mod_lt T (by decide : 0 < 64); omega) (by decide) (wc' := [(r, .inr (6, [.ref ll, .ref rg, .ref lt, .int (nI T)])), (rg, .inl (G.1.1 100, 16, .inl (upd rf k (nI (nxt (regN (nm F k 2) T)))))), (lt, .inl (G.1.1 101, 1024, .inl (upd lf (64 * k + (T % 64)) (nI (bitN F k T)))))]) rfl dX6_step_69 (fun H locs Z => ?_)
          refine lv_iinc (v := nI (k + 1)) (lv' := [(1, .int (nI (k + 1))), (2, .ref y_), (0, .ref r)]) hx hb dX6_step_70 hl (k := 1) rfl (nI_add _ _) (by decide) rfl (fun ls hl => ?_)
          refine lv_goto (tgt := 2) hx hb dX6_step_73 (by decide) ?_
          exact ih_L2 (k + 1) (upd rf k (nI (nxt (regN (nm F k 2) T)))) (upd lf (64 * k + (T % 64)) (nI (bitN F k T))) (by omega) (by first | exact rg_s1 g2 | exact rg_s0 g2 c51) (by first | exact rg_s2 g3 | exact fun j h1_ => g3 j (by omega)) (lt_s1 (by omega) g4 g5) (lt_s2 g5) (by omega) _ _ Z _ (lv_sub hl [0, 2] rfl)
  exact L2 _ 0 rf lf (by first | assumption | omega) (fun j hj => absurd hj (Nat.not_lt_zero _)) (fun j _ hj => hrg j hj) (fun j hj => absurd hj (Nat.not_lt_zero _)) (fun j _ hj => hlt j hj) (Nat.lt_succ_self _) _ _ Z _ (lv_sub hl [0, 1] rfl)
set_option maxHeartbeats 4000000 in
set_option maxRecDepth 100000 in
theorem R_bit (l : Launch) (G : nG) (r : Nat) (ll : Nat) (rg : Nat) (lt : Nat) (n : Nat) (F : Nat → Nat → Int32) (lf : Nat → Int32) (T : Nat) (k : Nat) (hT1 : 1 ≤ T) (hT : T < 2 ^ 18) (hn : n ≤ 16) (hk : k < n) (hlt : ltI F n lf T) : nSi l yX6_bit cX6_bit 2 (.int) 1 22 G [.ref r, .int (nI k)] ([(r, .inr (6, [.ref ll, .ref rg, .ref lt, .int (nI T)])), (lt, .inl (G.1.1 101, 1024, .inl lf))]) (fun r : Int32 => r = (nI (bitN F k (T - 1)))) := by
  refine nSi.of (own := "ShareStreams$Run") rfl (by decide +kernel) (Nat.le_of_ble_eq_true rfl) (fun _ _ => rfl) ?_
  intro p e s m args below meth c Q ls hx hb hml hown hts hG hP hl ret
  have hl : lv_has ls 2 [(0, .ref r), (1, .int (nI k))] := hl
  refine lv_aload_n hx hb dX6_bit_0 rfl (lv_at hl 0 rfl) ?_
  refine lv_iload_n hx hb dX6_bit_1 rfl (lv_at hl 1 rfl) ?_
  refine lv_aload_n hx hb dX6_bit_2 rfl (lv_at hl 0 rfl) ?_
  refine r_get (v := .int (nI T)) hx hb hts in_X6 hown hG hP 0 rfl rfl 3 (by decide) q751 (fun _ h9 => h9) rfl dX6_bit_3 ?_
  refine lv_iconst (v := nI 1) hx hb dX6_bit_6 rfl ?_
  refine lv_isub hx hb dX6_bit_7 ?_
  refine r_as (z := nI (T - 1)) (pk_sub (by omega)) ?_
  refine ns_i (k := 3) (nr_V (As := [.int (nI k), .int (nI (T - 1))]) (rest := []) hx hb hml hown hts (R_at l G r ll rg lt lf T k (T - 1) (by first | assumption | omega | rfl) (by first | assumption | omega | rfl)) nPs.blind 2 q782 q784 qs15 q64 q785 (by decide +kernel) ⟨⟨Nat.le_of_ble_eq_true rfl, Nat.le_of_ble_eq_true rfl⟩, Nat.le_of_ble_eq_true rfl, Nat.le_of_ble_eq_true rfl⟩ (r_recv hG hP 0 (C := "ShareStreams$Run") rfl rfl rfl) (nPs_of0 hG hP) rfl hl.1 rfl (Nat.le_of_ble_eq_true rfl) dX6_bit_8) (fun r8 hp8 => ?_)
  have he8 := hp8
  have he8 : r8 = lf (64 * k + (T - 1) % 64) := he8
  subst he8
  refine r_as (z := nI (bitN F k (T - 1))) (hlt k hk (T - 1) (by omega) (by omega)) ?_
  exact ret (nI (bitN F k (T - 1))) dX6_bit_11 (by first | rfl | assumption | omega | simp_all)
set_option maxHeartbeats 4000000 in
set_option maxRecDepth 100000 in
theorem R_begin (l : Launch) (G : nG) (rc : va_W) (ll : Nat) (n : Nat) (F : Nat → Nat → Int32) (r : Nat) (rg : Nat) (lt : Nat) (rf : Nat → Int32) (lf : Nat → Int32) (T : Nat) (hL : iLines G rc ll n F) (hn : n ≤ 16) (ok : ∀ k, k < n → lnOk F k) : nMv (S := (Nat → Int32)) l yX6_begin cX6_begin 2 3 0 0 64 G [.ref r] ([(r, .inr (6, [.ref ll, .ref rg, .ref lt, .int (nI T)])), (rg, .inl (G.1.1 100, 16, .inl rf)), (lt, .inl (G.1.1 101, 1024, .inl lf))]) rc (fun (u : (Nat → Int32)) => [(r, .inr (6, [.ref ll, .ref rg, .ref lt, .int (nI 0)])), (rg, .inl (G.1.1 100, 16, .inl u)), (lt, .inl (G.1.1 101, 1024, .inl lf))]) (fun (u : (Nat → Int32)) => rgI F n u 0) := by
  refine nMv.of (own := "ShareStreams$Run") rfl (by decide +kernel) (Nat.le_of_ble_eq_true rfl) ?_
  intro p e s m args below meth c A Q ls hx hb hml hown hts hin hG Z hl ret
  have hl : lv_has ls 2 [(0, .ref r)] := hl
  have Z : nW G A ([(r, .inr (6, [.ref ll, .ref rg, .ref lt, .int (nI T)])), (rg, .inl (G.1.1 100, 16, .inl rf)), (lt, .inl (G.1.1 101, 1024, .inl lf))]) ([]) rc s.heap _ _ := Z
  obtain ⟨c_, ea_, cap_, f_, hm2, hm3, hel⟩ := hL
  refine lv_aload_n hx hb dX6_begin_0 rfl (lv_at hl 0 rfl) ?_
  refine lv_iconst (v := nI 0) hx hb dX6_begin_1 rfl ?_
  refine r_put (ty := .int) hx hb hts in_X6 tyX6 tyX6_ok nmX6 hown hG Z 0 rfl rfl 3 (by decide) q751 (fun _ h9 => h9) rfl (by decide +kernel) rfl rfl (Nat.le_of_ble_eq_true rfl) (wc' := [(r, .inr (6, [.ref ll, .ref rg, .ref lt, .int (nI 0)])), (rg, .inl (G.1.1 100, 16, .inl rf)), (lt, .inl (G.1.1 101, 1024, .inl lf))]) rfl dX6_begin_2 (fun H locs Z => ?_)
  refine lv_iconst (v := nI 0) hx hb dX6_begin_5 rfl ?_
  refine lv_istore_n (lv' := [(1, .int (nI 0)), (0, .ref r)]) hx hb dX6_begin_6 rfl hl (by decide) rfl (fun ls hl => ?_)
  have L7 : ∀ (k_ : Nat) (k : Nat) (rf : Nat → Int32) (g1 : k ≤ n) (g2 : ∀ j, j < k → kd F j = 0 → rf j = nI (nm F j 2)) (hk_ : n - k < k_) (H : Heap) (locs : List Loc), nW G A ([(r, .inr (6, [.ref ll, .ref rg, .ref lt, .int (nI 0)])), (rg, .inl (G.1.1 100, 16, .inl rf)), (lt, .inl (G.1.1 101, 1024, .inl lf))]) ([]) rc s.heap H locs → ∀ (ls : Array Slot), lv_has ls 2 [(1, .int (nI k)), (0, .ref r)] → W p l e (nRm 3 0 0 64) s m args below meth c H locs 0 0 Q (F0 m 7 ls []) := by
    intro k_
    induction k_ with
    | zero => intro k rf g1 g2 hk_; exact absurd hk_ (Nat.not_lt_zero _)
    | succ k_ ih_L7 =>
      intro k rf g1 g2 hk_ H locs Z ls hl
      refine lv_iload_n hx hb dX6_begin_7 rfl (lv_at hl 0 rfl) ?_
      refine lv_aload_n hx hb dX6_begin_8 rfl (lv_at hl 1 rfl) ?_
      refine r_get (v := .ref ll) hx hb hts in_X6 hown hG Z.w 0 rfl rfl 0 (by decide) q747 (fun _ h9 => h9) rfl dX6_begin_9 ?_
      refine ns_i (k := 5) (nr_F (C := "java/util/ArrayList") (ci := 3) (As := []) (rest := [.int (nI k)]) hx hb hml hown hts hG (J2_sz l G ll c_ ea_ n) nPs.blind 0 q739 q196 q198 q48 q200 (by decide +kernel) (by decide +kernel) ⟨⟨Nat.le_of_ble_eq_true rfl, Nat.le_of_ble_eq_true rfl⟩, Nat.le_of_ble_eq_true rfl, Nat.le_of_ble_eq_true rfl⟩ rfl rfl (r_recv hG (va_P.m1 Z.rc hm2 va_P.m0) 0 (C := "java/util/ArrayList") rfl rfl rfl) (nPs_of hG Z (va_P.m1 Z.rc hm2 va_P.m0)) rfl hl.1 rfl (Nat.le_of_ble_eq_true rfl) dX6_begin_12) (fun r12 hp12 => ?_)
      have he12 := hp12
      have he12 : r12 = nI n := he12
      subst he12
      refine lv_icmp_ge (tgt := 72) hx hb dX6_begin_17 (by decide) (fun c17 => ?_) (fun c17 => ?_)
      · skip
        have c17 := n_le_t (a := n) (b := k) c17 (by omega) (by omega)
        have c17 : k = n := by omega
        subst c17
        exact ret rf dX6_begin_72 g2 Z (Nat.le_of_ble_eq_true rfl) (Nat.le_of_ble_eq_true rfl)
      · skip
        have c17 := n_le_f (a := n) (b := k) c17 (by omega) (by omega)
        obtain ⟨hm3a, hm3b, hm3c⟩ := hm3.resolve_left (by omega)
        obtain ⟨y_, hy_, hln⟩ := hel k (by omega)
        have hln0 := hln
        obtain ⟨a_, L_, fl_, hm4, hm5, hL_, hrow⟩ := hln0
        have hi_ := hm3c
        have hokk := ok k (by omega)
        obtain ⟨⟨hk0, hk6⟩, ls0, ls1, ls2, ls3, ls6, ln3, ln2⟩ := hokk
        refine lv_aload_n hx hb dX6_begin_20 rfl (lv_at hl 1 rfl) ?_
        refine r_get (v := .ref ll) hx hb hts in_X6 hown hG Z.w 0 rfl rfl 0 (by decide) q747 (fun _ h9 => h9) rfl dX6_begin_21 ?_
        refine lv_iload_n hx hb dX6_begin_24 rfl (lv_at hl 0 rfl) ?_
        refine ns_q (k := 5) (nr_F (C := "java/util/ArrayList") (ci := 3) (As := [.int (nI k)]) (rest := []) hx hb hml hown hts hG (J2_g l G ll c_ ea_ n cap_ f_ k (by omega) hm3b (by omega)) nPs.blind 1 q741 q211 q213 q48 q215 (by decide +kernel) (by decide +kernel) ⟨⟨Nat.le_of_ble_eq_true rfl, Nat.le_of_ble_eq_true rfl⟩, Nat.le_of_ble_eq_true rfl, Nat.le_of_ble_eq_true rfl⟩ rfl rfl (r_recv hG (va_P.m1 Z.rc hm2 va_P.m0) 0 (C := "java/util/ArrayList") rfl rfl rfl) (nPs_of hG Z (va_P.m1 Z.rc hm2 (va_P.m1 Z.rc hm3a va_P.m0))) rfl hl.1 rfl (Nat.le_of_ble_eq_true rfl) dX6_begin_25) (fun r25 hp25 => ?_)
        have he25 := hp25
        have he25 : r25 = f_ k := he25
        subst he25
        rw [hy_]
        refine r_cast (C := "ShareStreams$Plain") hx hb hts hown q742 q342 hG (r_recv hG (va_P.m1 Z.rc hm4 va_P.m0) 0 (C := "ShareStreams$Plain") rfl rfl rfl) dX6_begin_30 ?_
        refine ns_i (k := 5) (nr_F (C := "ShareStreams$Plain") (ci := 4) (As := []) (rest := []) hx hb hml hown hts hG (L_kind l G rc y_ (F k) (by first | assumption | omega | rfl)) nPs.blind 0 q744 q343 q345 q55 q347 (by decide +kernel) (by decide +kernel) ⟨⟨Nat.le_of_ble_eq_true rfl, Nat.le_of_ble_eq_true rfl⟩, Nat.le_of_ble_eq_true rfl, Nat.le_of_ble_eq_true rfl⟩ rfl rfl (r_recv hG (va_P.m1 Z.rc hm4 va_P.m0) 0 (C := "ShareStreams$Plain") rfl rfl rfl) (nPs_of hG Z Z.rc) rfl hl.1 rfl (Nat.le_of_ble_eq_true rfl) dX6_begin_33) (fun r33 hp33 => ?_)
        have he33 := hp33
        have he33 : r33 = (F k) 0 := he33
        subst he33
        refine r_as (z := nI (kd F k)) hk0 ?_
        refine lv_if_ne (tgt := 66) hx hb dX6_begin_38 (by decide) (fun c38 => ?_) (fun c38 => ?_)
        · skip
          have c38 := n_eq_f (a := kd F k) (b := 0) c38
          refine lv_iinc (v := nI (k + 1)) (lv' := [(1, .int (nI (k + 1))), (0, .ref r)]) hx hb dX6_begin_66 hl (k := 0) rfl (nI_add _ _) (by decide) rfl (fun ls hl => ?_)
          refine lv_goto (tgt := 7) hx hb dX6_begin_69 (by decide) ?_
          exact ih_L7 (k + 1) rf (by first | assumption | omega) (by first | (intro j hj hz; exact g2 j (by omega) hz) | (intro j hj hz; by_cases e_ : j = k; { subst e_; first | (rw [upd_s]; done) | exact absurd hz c38 }; { first | (rw [upd_n (by omega)]; exact g2 j (by omega) hz) | exact g2 j (by omega) hz })) (by omega) _ _ Z _ (lv_sub hl [0, 1] rfl)
        · skip
          have c38 := n_eq_t (a := kd F k) (b := 0) c38 (by omega) (by decide)
          refine lv_aload_n hx hb dX6_begin_41 rfl (lv_at hl 1 rfl) ?_
          refine r_get (v := .ref rg) hx hb hts in_X6 hown hG Z.w 0 rfl rfl 1 (by decide) q748 (fun _ h9 => h9) rfl dX6_begin_42 ?_
          refine lv_iload_n hx hb dX6_begin_45 rfl (lv_at hl 0 rfl) ?_
          refine lv_aload_n hx hb dX6_begin_46 rfl (lv_at hl 1 rfl) ?_
          refine r_get (v := .ref ll) hx hb hts in_X6 hown hG Z.w 0 rfl rfl 0 (by decide) q747 (fun _ h9 => h9) rfl dX6_begin_47 ?_
          refine lv_iload_n hx hb dX6_begin_50 rfl (lv_at hl 0 rfl) ?_
          refine ns_q (k := 5) (nr_F (C := "java/util/ArrayList") (ci := 3) (As := [.int (nI k)]) (rest := [.int (nI k), .ref rg]) hx hb hml hown hts hG (J2_g l G ll c_ ea_ n cap_ f_ k (by omega) hm3b (by omega)) nPs.blind 1 q741 q211 q213 q48 q215 (by decide +kernel) (by decide +kernel) ⟨⟨Nat.le_of_ble_eq_true rfl, Nat.le_of_ble_eq_true rfl⟩, Nat.le_of_ble_eq_true rfl, Nat.le_of_ble_eq_true rfl⟩ rfl rfl (r_recv hG (va_P.m1 Z.rc hm2 va_P.m0) 0 (C := "java/util/ArrayList") rfl rfl rfl) (nPs_of hG Z (va_P.m1 Z.rc hm2 (va_P.m1 Z.rc hm3a va_P.m0))) rfl hl.1 rfl (Nat.le_of_ble_eq_true rfl) dX6_begin_51) (fun r51 hp51 => ?_)
          have he51 := hp51
          have he51 : r51 = f_ k := he51
          subst he51
          rw [hy_]
          refine r_cast (C := "ShareStreams$Plain") hx hb hts hown q742 q342 hG (r_recv hG (va_P.m1 Z.rc hm4 va_P.m0) 0 (C := "ShareStreams$Plain") rfl rfl rfl) dX6_begin_56 ?_
          refine lv_iconst (v := nI 1) hx hb dX6_begin_59 rfl ?_
          refine ns_i (k := 5) (nr_F (C := "ShareStreams$Plain") (ci := 4) (As := [.int (nI 1)]) (rest := [.int (nI k), .ref rg]) hx hb hml hown hts hG (L_num l G rc y_ (F k) 1 (by first | assumption | omega | rfl) (by first | assumption | omega | rfl)) nPs.blind 1 q746 q353 q355 q55 q357 (by decide +kernel) (by decide +kernel) ⟨⟨Nat.le_of_ble_eq_true rfl, Nat.le_of_ble_eq_true rfl⟩, Nat.le_of_ble_eq_true rfl, Nat.le_of_ble_eq_true rfl⟩ rfl rfl (r_recv hG (va_P.m1 Z.rc hm4 va_P.m0) 0 (C := "ShareStreams$Plain") rfl rfl rfl) (nPs_of hG Z Z.rc) rfl hl.1 rfl (Nat.le_of_ble_eq_true rfl) dX6_begin_60) (fun r60 hp60 => ?_)
          have he60 := hp60
          have he60 : r60 = (F k) (1 + 1) := he60
          subst he60
          refine r_as (z := nI (nm F k 2)) ((ls0 c38).2.1) ?_
          refine r_iast hx hb hG Z 1 rfl (j := k) (by omega) (by decide) (wc' := [(r, .inr (6, [.ref ll, .ref rg, .ref lt, .int (nI 0)])), (rg, .inl (G.1.1 100, 16, .inl (upd rf k (nI (nm F k 2))))), (lt, .inl (G.1.1 101, 1024, .inl lf))]) rfl dX6_begin_65 (fun H locs Z => ?_)
          refine lv_iinc (v := nI (k + 1)) (lv' := [(1, .int (nI (k + 1))), (0, .ref r)]) hx hb dX6_begin_66 hl (k := 0) rfl (nI_add _ _) (by decide) rfl (fun ls hl => ?_)
          refine lv_goto (tgt := 7) hx hb dX6_begin_69 (by decide) ?_
          exact ih_L7 (k + 1) (upd rf k (nI (nm F k 2))) (by first | assumption | omega) (by first | (intro j hj hz; exact g2 j (by omega) hz) | (intro j hj hz; by_cases e_ : j = k; { subst e_; first | (rw [upd_s]; done) | exact absurd hz c38 }; { first | (rw [upd_n (by omega)]; exact g2 j (by omega) hz) | exact g2 j (by omega) hz })) (by omega) _ _ Z _ (lv_sub hl [0, 1] rfl)
  exact L7 _ 0 rf (by first | assumption | omega) (fun j hj => absurd hj (Nat.not_lt_zero _)) (Nat.lt_succ_self _) _ _ Z _ (lv_sub hl [0, 1] rfl)
set_option maxHeartbeats 4000000 in
set_option maxRecDepth 100000 in
theorem R_init (l : Launch) (G : nG) (rc : va_W) (ll : Nat) (n : Nat) (F : Nat → Nat → Int32) (r : Nat) (q : Nat) (len : Nat) (hm1 : (q, .inr (1, [.ref ll, .int (nI len)])) ∈ rc) (hL : iLines G rc ll n F) (hn : n ≤ 16) (ok : ∀ k, k < n → lnOk F k) : nMv (S := Nat × Nat × (Nat → Int32) × (Nat → Int32)) l yX6_init cX6_init 2 4 2 1040 85 G [.ref r, .ref q] ([(r, .inr (6, [.null, .null, .null, .int (nI 0)]))]) rc (fun (u : Nat × Nat × (Nat → Int32) × (Nat → Int32)) => [(r, .inr (6, [.ref ll, .ref u.1, .ref u.2.1, .int (nI 0)])), (u.1, .inl (G.1.1 100, 16, .inl u.2.2.1)), (u.2.1, .inl (G.1.1 101, 1024, .inl u.2.2.2))]) (fun (u : Nat × Nat × (Nat → Int32) × (Nat → Int32)) => rgI F n u.2.2.1 0) := by
  refine nMv.of (own := "ShareStreams$Run") rfl (by decide +kernel) (Nat.le_of_ble_eq_true rfl) ?_
  intro p e s m args below meth c A Q ls hx hb hml hown hts hin hG Z hl ret
  have hl : lv_has ls 2 [(0, .ref r), (1, .ref q)] := hl
  have Z : nW G A ([(r, .inr (6, [.null, .null, .null, .int (nI 0)]))]) ([]) rc s.heap _ _ := Z
  refine lv_aload_n hx hb dX6_init_0 rfl (lv_at hl 0 rfl) ?_
  refine W.objInit hx hb hown (hts _ q733) (hts _ q72) (hts _ q73) rfl (by rw [hml]; exact hl.1) rfl dX6_init_1 (Nat.le_of_ble_eq_true rfl) (Nat.le_of_ble_eq_true rfl) ?_
  refine W.eq (g2 := F0 m 4 ls []) rfl ?_
  refine lv_aload_n hx hb dX6_init_4 rfl (lv_at hl 0 rfl) ?_
  refine lv_bipush (v := nI 16) hx hb dX6_init_5 rfl ?_
  refine r_newi hx hb hts q186 hG Z (by decide) (Nat.le_of_ble_eq_true rfl) (Nat.le_of_ble_eq_true rfl) dX6_init_7 (fun rg H Z => ?_)
  have Z : nW G A ([(r, .inr (6, [.null, .null, .null, .int (nI 0)])), (rg, .inl (G.1.1 100, 16, .inl (fun _ => 0)))]) ([]) rc s.heap _ _ := Z
  refine r_putF (ty := .array .int) hx hb hts in_X6 tyX6 tyX6_ok nmX6 hown hG Z 0 rfl rfl 1 (by decide) q748 (fun _ h9 => h9) rfl hin rfl (by decide +kernel) rfl rfl (Nat.le_of_ble_eq_true rfl) (wc' := [(r, .inr (6, [.null, .ref rg, .null, .int (nI 0)])), (rg, .inl (G.1.1 100, 16, .inl (fun _ => 0)))]) rfl dX6_init_9 (fun H locs Z => ?_)
  refine lv_aload_n hx hb dX6_init_12 rfl (lv_at hl 0 rfl) ?_
  refine lv_sipush (v := nI 1024) hx hb dX6_init_13 rfl ?_
  refine r_newb hx hb hts q149 hG Z (by decide) (Nat.le_of_ble_eq_true rfl) (Nat.le_of_ble_eq_true rfl) dX6_init_16 (fun lt H Z => ?_)
  have Z : nW G A ([(r, .inr (6, [.null, .ref rg, .null, .int (nI 0)])), (rg, .inl (G.1.1 100, 16, .inl (fun _ => 0))), (lt, .inl (G.1.1 101, 1024, .inl (fun _ => 0)))]) ([]) rc s.heap _ _ := Z
  refine r_putF (ty := .array .byte) hx hb hts in_X6 tyX6 tyX6_ok nmX6 hown hG Z 0 rfl rfl 2 (by decide) q750 (fun _ h9 => h9) rfl hin rfl (by decide +kernel) rfl rfl (Nat.le_of_ble_eq_true rfl) (wc' := [(r, .inr (6, [.null, .ref rg, .ref lt, .int (nI 0)])), (rg, .inl (G.1.1 100, 16, .inl (fun _ => 0))), (lt, .inl (G.1.1 101, 1024, .inl (fun _ => 0)))]) rfl dX6_init_18 (fun H locs Z => ?_)
  refine lv_aload_n hx hb dX6_init_21 rfl (lv_at hl 0 rfl) ?_
  refine lv_aload_n hx hb dX6_init_22 rfl (lv_at hl 1 rfl) ?_
  refine r_getN (v := .ref ll) hx hb hts in_X1 hown hG (va_P.m1 Z.rc hm1 va_P.m0) 0 rfl rfl 0 (by decide) q107 (fun _ h9 => h9) rfl dX6_init_23 ?_
  refine r_putF (ty := .object "java/util/List") hx hb hts in_X6 tyX6 tyX6_ok nmX6 hown hG Z 0 rfl rfl 0 (by decide) q747 (fun _ h9 => h9) rfl hin rfl (by decide +kernel) rfl rfl (Nat.le_of_ble_eq_true rfl) (wc' := [(r, .inr (6, [.ref ll, .ref rg, .ref lt, .int (nI 0)])), (rg, .inl (G.1.1 100, 16, .inl (fun _ => 0))), (lt, .inl (G.1.1 101, 1024, .inl (fun _ => 0)))]) rfl dX6_init_26 (fun H locs Z => ?_)
  refine lv_aload_n hx hb dX6_init_29 rfl (lv_at hl 0 rfl) ?_
  refine nc_v (k := 3) (wcc := [(r, .inr (6, [.ref ll, .ref rg, .ref lt, .int (nI 0)])), (rg, .inl (G.1.1 100, 16, .inl (fun _ => 0))), (lt, .inl (G.1.1 101, 1024, .inl (fun _ => 0)))]) (wr := []) (nr_V (As := []) (rest := []) hx hb hml hown hts ((R_begin l G rc ll n F r rg lt (fun _ => 0) (fun _ => 0) 0 (by first | assumption | omega | rfl) (by first | assumption | omega | rfl) (by first | assumption | omega | rfl)) _) nP.blind 0 q734 q735 q736 q64 q737 (by decide +kernel) ⟨⟨Nat.le_of_ble_eq_true rfl, Nat.le_of_ble_eq_true rfl⟩, Nat.le_of_ble_eq_true rfl, Nat.le_of_ble_eq_true rfl⟩ (r_recv hG Z.w 0 (C := "ShareStreams$Run") rfl rfl rfl) (nP_of hG Z [0, 1, 2] rfl (by decide) Z.rc (Z.apR [0, 1, 2] rfl)) rfl hl.1 rfl (Nat.le_of_ble_eq_true rfl) dX6_init_30) Z [0, 1, 2] [] rfl rfl (by decide) (by decide) (fun u H locs hp30 Z => ?_)
  obtain ⟨rf1_30, rfl⟩ : ∃ z, z = u := ⟨_, rfl⟩
  have hp30 : rgI F n rf1_30 0 := hp30
  have Z : nW G A ([(r, .inr (6, [.ref ll, .ref rg, .ref lt, .int (nI 0)])), (rg, .inl (G.1.1 100, 16, .inl rf1_30)), (lt, .inl (G.1.1 101, 1024, .inl (fun _ => 0)))]) ([]) rc s.heap _ _ := Z
  exact ret (rg, lt, rf1_30, fun _ => 0) dX6_init_33 (by first | assumption | trivial | omega) Z (Nat.le_of_ble_eq_true rfl) (Nat.le_of_ble_eq_true rfl)
set_option maxHeartbeats 4000000 in
set_option maxRecDepth 100000 in
theorem R_count (l : Launch) (G : nG) (rc : va_W) (ll : Nat) (n : Nat) (F : Nat → Nat → Int32) (Fl : Nat → Nat → Int32) (r : Nat) (rg : Nat) (lt : Nat) (rf : Nat → Int32) (lf : Nat → Int32) (k : Nat) (m_ : Nat) (hL : iLines G rc ll n Fl) (hn : n ≤ 16) (ok : ∀ k, k < n → lnOk F k) (hag : lnAg n F Fl) (hk : k < n) (hm : m_ ≤ 1000) (hrg : rgI F n rf 0) : nMi (S := (Nat → Int32) × (Nat → Int32)) l yX6_count cX6_count 5 (.int) 4 0 0 89 G [.ref r, .int (nI k), .int (nI m_)] ([(r, .inr (6, [.ref ll, .ref rg, .ref lt, .int (nI 0)])), (rg, .inl (G.1.1 100, 16, .inl rf)), (lt, .inl (G.1.1 101, 1024, .inl lf))]) rc (fun (u : (Nat → Int32) × (Nat → Int32)) => [(r, .inr (6, [.ref ll, .ref rg, .ref lt, .int (nI m_)])), (rg, .inl (G.1.1 100, 16, .inl u.1)), (lt, .inl (G.1.1 101, 1024, .inl u.2))]) (fun (r : Int32) (u : (Nat → Int32) × (Nat → Int32)) => r = (nI (cntN F k m_))) := by
  refine nMi.of (own := "ShareStreams$Run") rfl (by decide +kernel) (Nat.le_of_ble_eq_true rfl) (fun _ _ _ => rfl) ?_
  intro p e s m args below meth c A Q ls hx hb hml hown hts hin hG Z hl ret
  have hl : lv_has ls 5 [(0, .ref r), (1, .int (nI k)), (2, .int (nI m_))] := hl
  have Z : nW G A ([(r, .inr (6, [.ref ll, .ref rg, .ref lt, .int (nI 0)])), (rg, .inl (G.1.1 100, 16, .inl rf)), (lt, .inl (G.1.1 101, 1024, .inl lf))]) ([]) rc s.heap _ _ := Z
  refine lv_iconst (v := nI 0) hx hb dX6_count_0 rfl ?_
  refine lv_istore_n (lv' := [(3, .int (nI 0)), (0, .ref r), (1, .int (nI k)), (2, .int (nI m_))]) hx hb dX6_count_1 rfl hl (by decide) rfl (fun ls hl => ?_)
  refine lv_iconst (v := nI 0) hx hb dX6_count_2 rfl ?_
  refine lv_istore (lv' := [(4, .int (nI 0)), (3, .int (nI 0)), (0, .ref r), (1, .int (nI k)), (2, .int (nI m_))]) hx hb dX6_count_3 hl (by decide) rfl (fun ls hl => ?_)
  have L5 : ∀ (k_ : Nat) (t : Nat) (rf : Nat → Int32) (lf : Nat → Int32) (g1 : t ≤ m_) (g2 : rgI F n rf t) (g3 : ltI F n lf t) (hk_ : m_ - t < k_) (H : Heap) (locs : List Loc), nW G A ([(r, .inr (6, [.ref ll, .ref rg, .ref lt, .int (nI t)])), (rg, .inl (G.1.1 100, 16, .inl rf)), (lt, .inl (G.1.1 101, 1024, .inl lf))]) ([]) rc s.heap H locs → ∀ (ls : Array Slot), lv_has ls 5 [(4, .int (nI t)), (3, .int (nI (cntN F k t))), (0, .ref r), (1, .int (nI k)), (2, .int (nI m_))] → W p l e (nRm 4 0 0 89) s m args below meth c H locs 0 0 Q (F0 m 5 ls []) := by
    intro k_
    induction k_ with
    | zero => intro t rf lf g1 g2 g3 hk_; exact absurd hk_ (Nat.not_lt_zero _)
    | succ k_ ih_L5 =>
      intro t rf lf g1 g2 g3 hk_ H locs Z ls hl
      refine lv_iload hx hb dX6_count_5 (lv_at hl 0 rfl) ?_
      refine lv_iload_n hx hb dX6_count_7 rfl (lv_at hl 4 rfl) ?_
      refine lv_icmp_ge (tgt := 29) hx hb dX6_count_8 (by decide) (fun c8 => ?_) (fun c8 => ?_)
      · skip
        have c8 := n_le_t (a := m_) (b := t) c8 (by omega) (by omega)
        have c8 : t = m_ := by omega
        subst c8
        refine lv_iload_n hx hb dX6_count_29 rfl (lv_at hl 1 rfl) ?_
        exact ret (nI (cntN F k t)) (rf, lf) dX6_count_30 (by first | rfl | assumption | omega | simp_all) Z (Nat.le_of_ble_eq_true rfl) (Nat.le_of_ble_eq_true rfl)
      · skip
        have c8 := n_le_f (a := m_) (b := t) c8 (by omega) (by omega)
        refine lv_aload_n hx hb dX6_count_11 rfl (lv_at hl 2 rfl) ?_
        refine nc_v (k := 3) (wcc := [(r, .inr (6, [.ref ll, .ref rg, .ref lt, .int (nI t)])), (rg, .inl (G.1.1 100, 16, .inl rf)), (lt, .inl (G.1.1 101, 1024, .inl lf))]) (wr := []) (nr_V (As := []) (rest := []) hx hb hml hown hts ((R_step l G rc ll n F Fl r rg lt rf lf t (by first | assumption | omega | rfl) (by first | assumption | omega | rfl) (by first | assumption | omega | rfl) (by first | assumption | omega | rfl) (by first | assumption | omega | rfl) (by first | assumption | omega | rfl) (by first | assumption | omega | rfl)) _) nP.blind 0 q765 q766 q767 q64 q768 (by decide +kernel) ⟨⟨Nat.le_of_ble_eq_true rfl, Nat.le_of_ble_eq_true rfl⟩, Nat.le_of_ble_eq_true rfl, Nat.le_of_ble_eq_true rfl⟩ (r_recv hG Z.w 0 (C := "ShareStreams$Run") rfl rfl rfl) (nP_of hG Z [0, 1, 2] rfl (by decide) Z.rc (Z.apR [0, 1, 2] rfl)) rfl hl.1 rfl (Nat.le_of_ble_eq_true rfl) dX6_count_12) Z [0, 1, 2] [] rfl rfl (by decide) (by decide) (fun u H locs hp12 Z => ?_)
        obtain ⟨rf1_12, lf1_12⟩ := u
        have hp12 : rgI F n rf1_12 (t + 1) ∧ ltI F n lf1_12 (t + 1) := hp12
        have Z : nW G A ([(r, .inr (6, [.ref ll, .ref rg, .ref lt, .int (nI (t + 1))])), (rg, .inl (G.1.1 100, 16, .inl rf1_12)), (lt, .inl (G.1.1 101, 1024, .inl lf1_12))]) ([]) rc s.heap _ _ := Z
        refine lv_iload_n hx hb dX6_count_15 rfl (lv_at hl 1 rfl) ?_
        refine lv_aload_n hx hb dX6_count_16 rfl (lv_at hl 2 rfl) ?_
        refine lv_iload_n hx hb dX6_count_17 rfl (lv_at hl 3 rfl) ?_
        refine ns_i (k := 3) (nr_V (As := [.int (nI k)]) (rest := [.int (nI (cntN F k t))]) hx hb hml hown hts (R_bit l G r ll rg lt n F lf1_12 (t + 1) k (by first | assumption | omega | rfl) (by first | assumption | omega | rfl) (by first | assumption | omega | rfl) (by first | assumption | omega | rfl) hp12.2) nPs.blind 1 q794 q795 q796 q64 q797 (by decide +kernel) ⟨⟨Nat.le_of_ble_eq_true rfl, Nat.le_of_ble_eq_true rfl⟩, Nat.le_of_ble_eq_true rfl, Nat.le_of_ble_eq_true rfl⟩ (r_recv hG Z.w 0 (C := "ShareStreams$Run") rfl rfl rfl) (nPs_of hG Z (Z.w.sub [0, 2] rfl)) rfl hl.1 rfl (Nat.le_of_ble_eq_true rfl) dX6_count_18) (fun r18 hp18 => ?_)
        have he18 := hp18
        have he18 : r18 = nI (bitN F k ((t + 1) - 1)) := he18
        subst he18
        refine r_as (z := nI (bitN F k t)) rfl ?_
        refine lv_iadd hx hb dX6_count_21 ?_
        refine r_as (z := nI (cntN F k (t + 1))) (nI_add _ _) ?_
        refine lv_istore_n (lv' := [(3, .int (nI (cntN F k (t + 1)))), (4, .int (nI t)), (0, .ref r), (1, .int (nI k)), (2, .int (nI m_))]) hx hb dX6_count_22 rfl hl (by decide) rfl (fun ls hl => ?_)
        refine lv_iinc (v := nI (t + 1)) (lv' := [(4, .int (nI (t + 1))), (3, .int (nI (cntN F k (t + 1)))), (0, .ref r), (1, .int (nI k)), (2, .int (nI m_))]) hx hb dX6_count_23 hl (k := 1) rfl (nI_add _ _) (by decide) rfl (fun ls hl => ?_)
        refine lv_goto (tgt := 5) hx hb dX6_count_26 (by decide) ?_
        exact ih_L5 (t + 1) rf1_12 lf1_12 (by first | assumption | omega) hp12.1 hp12.2 (by omega) _ _ Z _ (lv_sub hl [0, 1, 2, 3, 4] rfl)
  exact L5 _ 0 rf lf (by first | assumption | omega) hrg (fun j hj t ht => absurd ht (Nat.not_lt_zero _)) (Nat.lt_succ_self _) _ _ Z _ (lv_sub hl [0, 1, 2, 3, 4] rfl)
