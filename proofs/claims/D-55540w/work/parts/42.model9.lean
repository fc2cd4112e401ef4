/-! the model: walks, printed by tools/model.py -/
set_option maxRecDepth 100000
set_option maxHeartbeats 4000000 in
theorem m2_sum (g : xk_G) {X : xk_H} {o : Nat} {ad : Nat → Nat} {A : Nat → Nat → Nat} {S : Nat → Nat} (hM : tm_Ok g X o ad A S) (hk : tl_inv (A 0)) {w9 : Nat} (hw9 : w9 ≤ 6) (hv9 : ∀ b, b < A 0 0 → A 0 (14 + 7 * b + w9) < 2147483648) : xk_C g yX2_sum (ws_ yX2_sum cX2_sum 4 (some .int)) ({ frames := 1, cells := 0, slots := 0, locals := 20 } : Room) [.ref o, .int (nI w9)] X (xk_Qi (nI (tl_sm (A 0) w9 (A 0 0))) (fun X1 => X1 = X)) := by
  refine xk_ofW (by decide +kernel) (Nat.le_of_ble_eq_true rfl) (fun p e s m args below meth c B hr hname hargs hI ls hl => ?_)
  have B : xk_B g p s m args meth c RX2 cX2_sum 4 := B
  have hl : lv_has ls 4 [(0, .ref o), (1, .int (nI w9))] := hl
  have hx := B.1
  have hb := B.2.1
  have hM0 := hM
  obtain ⟨hO, hA0, hA1, hA2, hA3, hA4, hA5, hA6, hA7, hA8, hA9⟩ := hM
  have hk0 := hk
  obtain ⟨k0, kb, kw, kl, ks, kr1, kr2, kwt, kL⟩ := hk
  have hfr : xk_fr o X X := xk_fr.rf
  refine lv_iconst (v := nI 0) hx hb dX2_sum_0 (by decide) ?_
  refine lv_istore_n (lv' := [(2, .int (nI 0)), (0, .ref o), (1, .int (nI w9))]) hx hb dX2_sum_1 rfl hl (by decide) rfl (fun ls hl => ?_)
  refine lv_iconst (v := nI 0) hx hb dX2_sum_2 (by decide) ?_
  refine lv_istore_n (lv' := [(3, .int (nI 0)), (2, .int (nI 0)), (0, .ref o), (1, .int (nI w9))]) hx hb dX2_sum_3 rfl hl (by decide) rfl (fun ls hl => ?_)
  have hloop_4 : ∀ (n_4 : Nat) (k : Nat) (c9 : Nat) (H_1 : Heap) (L_2 : List Loc), (k ≤ A 0 0) → (c9 = tl_sm (A 0) w9 k) → A 0 0 - k < n_4 → xk_I g s H_1 X L_2 → ∀ ls : Array Slot, lv_has ls 4 [(0, .ref o), (1, .int (nI w9)), (2, .int (nI c9)), (3, .int (nI k))] → W p (xk_l g) e (({ frames := 1, cells := 0, slots := 0, locals := 20 } : Room)) s m args below meth c H_1 L_2 0 0 (MQ below (xk_Q g (xk_Qi (nI (tl_sm (A 0) w9 (A 0 0))) (fun X1 => X1 = X))) args s (0) (0) (xk_A g)) (F0 m 4 ls []) := by
    intro n_4
    induction n_4 with
    | zero => intros; omega
    | succ n_4 ih_4 =>
      intro k c9 H_1 L_2 hk1 hc1 hm_4  hI_3 ls hl
      refine lv_iload_n hx hb dX2_sum_4 rfl (lv_at hl 3 rfl) ?_
      refine lv_aload_n hx hb dX2_sum_5 rfl (lv_at hl 0 rfl) ?_
      refine xk_get B hI_3 hO rfl in_X2 0 (by decide) q1432 rfl dX2_sum_6 ?_
      refine lv_iconst (v := nI 0) hx hb dX2_sum_9 (by decide) ?_
      refine xk_iald B hI_3 hA0 (by omega) (by decide) dX2_sum_10 ?_
      refine xk_icmp_ge (tgt := 42) hx hb (by omega) (by omega) dX2_sum_11 (by decide) (fun hc_11 => ?_) (fun hc_11 => ?_)
      · have q1 : k = A 0 0 := by omega
        refine lv_iload_n hx hb dX2_sum_42 rfl (lv_at hl 2 rfl) ?_
        exact xk_reti B hI_3 hr rfl dX2_sum_43 (Nat.le_of_ble_eq_true rfl) (Nat.le_of_ble_eq_true rfl) (⟨by rw [hc1, q1], rfl⟩)
      · have q1 := hv9 k hc_11
        have q2 := tl_sm_le (A 0) w9 k
        refine lv_iload_n hx hb dX2_sum_14 rfl (lv_at hl 2 rfl) ?_
        refine lv_aload_n hx hb dX2_sum_15 rfl (lv_at hl 0 rfl) ?_
        refine xk_get B hI_3 hO rfl in_X2 0 (by decide) q1432 rfl dX2_sum_16 ?_
        refine lv_iload_n hx hb dX2_sum_19 rfl (lv_at hl 3 rfl) ?_
        refine xk_ri0 (xk_cS B hI_3 hl [.int (nI k)] [.ref (ad 0), .int (nI c9)] 1 (m2_of g k) (lw_S q1524 q1525 q79 q1526) ⟨by decide +kernel, by decide +kernel, by decide +kernel⟩ ⟨Nat.le_of_ble_eq_true rfl, Nat.le_of_ble_eq_true rfl⟩ rfl rfl (Nat.le_of_ble_eq_true rfl) dX2_sum_20 (Nat.le_of_ble_eq_true rfl) (Nat.le_of_ble_eq_true rfl)) hI_3 (fun H_5 L_6 hI_4 => ?_)
        refine xk_top (y := nI (14 + 7 * k)) rfl ?_
        refine lv_iload_n hx hb dX2_sum_23 rfl (lv_at hl 1 rfl) ?_
        refine lv_iadd hx hb dX2_sum_24 (xk_top (nI_add _ _) ?_)
        refine xk_iald B hI_4 hA0 (by omega) (by decide) dX2_sum_25 ?_
        refine xk_if_le (tgt := 33) hx hb (by omega) dX2_sum_26 (by decide) (fun hc_26 => ?_) (fun hc_26 => ?_)
        · refine lv_iconst (v := nI 0) hx hb dX2_sum_33 (by decide) ?_
          refine lv_iadd hx hb dX2_sum_34 (xk_top (nI_add _ _) ?_)
          refine lv_istore_n (lv' := [(2, .int (nI (c9 + 0))), (0, .ref o), (1, .int (nI w9)), (3, .int (nI k))]) hx hb dX2_sum_35 rfl hl (by decide) rfl (fun ls hl => ?_)
          refine lv_iinc (v := nI (k + 1)) (lv' := [(3, .int (nI (k + 1))), (2, .int (nI (c9 + 0))), (0, .ref o), (1, .int (nI w9))]) hx hb dX2_sum_36 hl (k := 3) rfl (xk_inc k) (by decide) rfl (fun ls hl => ?_)
          refine lv_goto (tgt := 4) hx hb dX2_sum_39 (by decide) ?_
          exact ih_4 (k + 1) (c9 + 0) _ _ (by omega) (by show _ = tl_sm (A 0) w9 k + (if 0 < A 0 (14 + 7 * k + w9) then 1 else 0); rw [← hc1, if_neg (by omega)]) (by omega) hI_4 ls (lv_sub hl [2, 3, 1, 0] rfl)
        · refine lv_iconst (v := nI 1) hx hb dX2_sum_29 (by decide) ?_
          refine lv_goto (tgt := 34) hx hb dX2_sum_30 (by decide) ?_
          refine lv_iadd hx hb dX2_sum_34 (xk_top (nI_add _ _) ?_)
          refine lv_istore_n (lv' := [(2, .int (nI (c9 + 1))), (0, .ref o), (1, .int (nI w9)), (3, .int (nI k))]) hx hb dX2_sum_35 rfl hl (by decide) rfl (fun ls hl => ?_)
          refine lv_iinc (v := nI (k + 1)) (lv' := [(3, .int (nI (k + 1))), (2, .int (nI (c9 + 1))), (0, .ref o), (1, .int (nI w9))]) hx hb dX2_sum_36 hl (k := 3) rfl (xk_inc k) (by decide) rfl (fun ls hl => ?_)
          refine lv_goto (tgt := 4) hx hb dX2_sum_39 (by decide) ?_
          exact ih_4 (k + 1) (c9 + 1) _ _ (by omega) (by show _ = tl_sm (A 0) w9 k + (if 0 < A 0 (14 + 7 * k + w9) then 1 else 0); rw [← hc1, if_pos hc_26]) (by omega) hI_4 ls (lv_sub hl [2, 3, 1, 0] rfl)
  exact hloop_4 (A 0 0 - 0 + 1) 0 0 _ _ (by omega) (by rfl) (Nat.lt_succ_self _) hI ls (lv_sub hl [2, 3, 1, 0] rfl)
set_option maxHeartbeats 4000000 in
theorem m2_weights (g : xk_G) {X : xk_H} {o : Nat} {ad : Nat → Nat} {A : Nat → Nat → Nat} {S : Nat → Nat} (hM : tm_Ok g X o ad A S) (hk : tl_inv (A 0))  : xk_C g yX2_weights (ws_ yX2_weights cX2_weights 3 (some .int)) ({ frames := 0, cells := 0, slots := 0, locals := 0 } : Room) [.ref o] X (xk_Qi (nI (tl_ws (A 0) 8)) (fun X1 => X1 = X)) := by
  refine xk_ofW (by decide +kernel) (Nat.le_of_ble_eq_true rfl) (fun p e s m args below meth c B hr hname hargs hI ls hl => ?_)
  have B : xk_B g p s m args meth c RX2 cX2_weights 3 := B
  have hl : lv_has ls 3 [(0, .ref o)] := hl
  have hx := B.1
  have hb := B.2.1
  have hM0 := hM
  obtain ⟨hO, hA0, hA1, hA2, hA3, hA4, hA5, hA6, hA7, hA8, hA9⟩ := hM
  have hk0 := hk
  obtain ⟨k0, kb, kw, kl, ks, kr1, kr2, kwt, kL⟩ := hk
  have hfr : xk_fr o X X := xk_fr.rf
  refine lv_iconst (v := nI 0) hx hb dX2_weights_0 (by decide) ?_
  refine lv_istore_n (lv' := [(1, .int (nI 0)), (0, .ref o)]) hx hb dX2_weights_1 rfl hl (by decide) rfl (fun ls hl => ?_)
  refine lv_iconst (v := nI 0) hx hb dX2_weights_2 (by decide) ?_
  refine lv_istore_n (lv' := [(2, .int (nI 0)), (1, .int (nI 0)), (0, .ref o)]) hx hb dX2_weights_3 rfl hl (by decide) rfl (fun ls hl => ?_)
  have hloop_4 : ∀ (n_4 : Nat) (k : Nat) (c9 : Nat) (H_1 : Heap) (L_2 : List Loc), (k ≤ 8) → (c9 = tl_ws (A 0) k) → 8 - k < n_4 → xk_I g s H_1 X L_2 → ∀ ls : Array Slot, lv_has ls 3 [(0, .ref o), (1, .int (nI c9)), (2, .int (nI k))] → W p (xk_l g) e (({ frames := 0, cells := 0, slots := 0, locals := 0 } : Room)) s m args below meth c H_1 L_2 0 0 (MQ below (xk_Q g (xk_Qi (nI (tl_ws (A 0) 8)) (fun X1 => X1 = X))) args s (0) (0) (xk_A g)) (F0 m 4 ls []) := by
    intro n_4
    induction n_4 with
    | zero => intros; omega
    | succ n_4 ih_4 =>
      intro k c9 H_1 L_2 hk1 hc1 hm_4  hI_3 ls hl
      refine lv_iload_n hx hb dX2_weights_4 rfl (lv_at hl 2 rfl) ?_
      refine lv_bipush (v := nI 8) hx hb dX2_weights_5 (by decide) ?_
      refine xk_icmp_ge (tgt := 28) hx hb (by omega) (by omega) dX2_weights_7 (by decide) (fun hc_7 => ?_) (fun hc_7 => ?_)
      · have q1 : k = 8 := by omega
        refine lv_iload_n hx hb dX2_weights_28 rfl (lv_at hl 1 rfl) ?_
        exact xk_reti B hI_3 hr rfl dX2_weights_29 (Nat.le_of_ble_eq_true rfl) (Nat.le_of_ble_eq_true rfl) (⟨by rw [hc1, q1], rfl⟩)
      · refine lv_iload_n hx hb dX2_weights_10 rfl (lv_at hl 1 rfl) ?_
        refine lv_aload_n hx hb dX2_weights_11 rfl (lv_at hl 0 rfl) ?_
        refine xk_get B hI_3 hO rfl in_X2 0 (by decide) q1432 rfl dX2_weights_12 ?_
        refine lv_bipush (v := nI 6) hx hb dX2_weights_15 (by decide) ?_
        refine lv_iload_n hx hb dX2_weights_17 rfl (lv_at hl 2 rfl) ?_
        refine lv_iadd hx hb dX2_weights_18 (xk_top (nI_add _ _) ?_)
        refine xk_iald B hI_3 hA0 (by omega) (by decide) dX2_weights_19 ?_
        refine lv_iadd hx hb dX2_weights_20 (xk_top (nI_add _ _) ?_)
        refine lv_istore_n (lv' := [(1, .int (nI (c9 + (A 0 (6 + k))))), (0, .ref o), (2, .int (nI k))]) hx hb dX2_weights_21 rfl hl (by decide) rfl (fun ls hl => ?_)
        refine lv_iinc (v := nI (k + 1)) (lv' := [(2, .int (nI (k + 1))), (1, .int (nI (c9 + (A 0 (6 + k))))), (0, .ref o)]) hx hb dX2_weights_22 hl (k := 2) rfl (xk_inc k) (by decide) rfl (fun ls hl => ?_)
        refine lv_goto (tgt := 4) hx hb dX2_weights_25 (by decide) ?_
        exact ih_4 (k + 1) (c9 + (A 0 (6 + k))) _ _ (by omega) (by rw [hc1]; rfl) (by omega) hI_3 ls (lv_sub hl [2, 1, 0] rfl)
  exact hloop_4 (8 - 0 + 1) 0 0 _ _ (by omega) (by rfl) (Nat.lt_succ_self _) hI ls (lv_sub hl [2, 1, 0] rfl)
set_option maxHeartbeats 4000000 in
theorem m2_oldest (g : xk_G) {X : xk_H} {o : Nat} {ad : Nat → Nat} {A : Nat → Nat → Nat} {S : Nat → Nat} (hM : tm_Ok g X o ad A S) (hk : tl_inv (A 0))  : xk_C g yX2_oldest (ws_ yX2_oldest cX2_oldest 3 (some .int)) ({ frames := 1, cells := 0, slots := 0, locals := 20 } : Room) [.ref o] X (xk_Qi (nI (tl_old (A 0) (A 0 0))) (fun X1 => X1 = X)) := by
  refine xk_ofW (by decide +kernel) (Nat.le_of_ble_eq_true rfl) (fun p e s m args below meth c B hr hname hargs hI ls hl => ?_)
  have B : xk_B g p s m args meth c RX2 cX2_oldest 3 := B
  have hl : lv_has ls 3 [(0, .ref o)] := hl
  have hx := B.1
  have hb := B.2.1
  have hM0 := hM
  obtain ⟨hO, hA0, hA1, hA2, hA3, hA4, hA5, hA6, hA7, hA8, hA9⟩ := hM
  have hk0 := hk
  obtain ⟨k0, kb, kw, kl, ks, kr1, kr2, kwt, kL⟩ := hk
  have hfr : xk_fr o X X := xk_fr.rf
  refine lv_iconst (v := nI 0) hx hb dX2_oldest_0 (by decide) ?_
  refine lv_istore_n (lv' := [(1, .int (nI 0)), (0, .ref o)]) hx hb dX2_oldest_1 rfl hl (by decide) rfl (fun ls hl => ?_)
  refine lv_iconst (v := nI 0) hx hb dX2_oldest_2 (by decide) ?_
  refine lv_istore_n (lv' := [(2, .int (nI 0)), (1, .int (nI 0)), (0, .ref o)]) hx hb dX2_oldest_3 rfl hl (by decide) rfl (fun ls hl => ?_)
  have hloop_4 : ∀ (n_4 : Nat) (k : Nat) (c9 : Nat) (H_1 : Heap) (L_2 : List Loc), (k ≤ A 0 0) → (c9 = tl_old (A 0) k) → A 0 0 - k < n_4 → xk_I g s H_1 X L_2 → ∀ ls : Array Slot, lv_has ls 3 [(0, .ref o), (1, .int (nI c9)), (2, .int (nI k))] → W p (xk_l g) e (({ frames := 1, cells := 0, slots := 0, locals := 20 } : Room)) s m args below meth c H_1 L_2 0 0 (MQ below (xk_Q g (xk_Qi (nI (tl_old (A 0) (A 0 0))) (fun X1 => X1 = X))) args s (0) (0) (xk_A g)) (F0 m 4 ls []) := by
    intro n_4
    induction n_4 with
    | zero => intros; omega
    | succ n_4 ih_4 =>
      intro k c9 H_1 L_2 hk1 hc1 hm_4  hI_3 ls hl
      refine lv_iload_n hx hb dX2_oldest_4 rfl (lv_at hl 2 rfl) ?_
      refine lv_aload_n hx hb dX2_oldest_5 rfl (lv_at hl 0 rfl) ?_
      refine xk_get B hI_3 hO rfl in_X2 0 (by decide) q1432 rfl dX2_oldest_6 ?_
      refine lv_iconst (v := nI 0) hx hb dX2_oldest_9 (by decide) ?_
      refine xk_iald B hI_3 hA0 (by omega) (by decide) dX2_oldest_10 ?_
      refine xk_icmp_ge (tgt := 36) hx hb (by omega) (by omega) dX2_oldest_11 (by decide) (fun hc_11 => ?_) (fun hc_11 => ?_)
      · have q1 : k = A 0 0 := by omega
        refine lv_iload_n hx hb dX2_oldest_36 rfl (lv_at hl 1 rfl) ?_
        exact xk_reti B hI_3 hr rfl dX2_oldest_37 (Nat.le_of_ble_eq_true rfl) (Nat.le_of_ble_eq_true rfl) (⟨by rw [hc1, q1], rfl⟩)
      · have q1 := kb k hc_11
        have q2 := tl_old_le (m := A 0) (n := k) (fun b hb => (kb b (by omega)).2.2.2.2.2.1)
        refine lv_iload_n hx hb dX2_oldest_14 rfl (lv_at hl 1 rfl) ?_
        refine lv_aload_n hx hb dX2_oldest_15 rfl (lv_at hl 0 rfl) ?_
        refine xk_get B hI_3 hO rfl in_X2 0 (by decide) q1432 rfl dX2_oldest_16 ?_
        refine lv_iload_n hx hb dX2_oldest_19 rfl (lv_at hl 2 rfl) ?_
        refine xk_ri0 (xk_cS B hI_3 hl [.int (nI k)] [.ref (ad 0), .int (nI c9)] 1 (m2_of g k) (lw_S q1524 q1525 q79 q1526) ⟨by decide +kernel, by decide +kernel, by decide +kernel⟩ ⟨Nat.le_of_ble_eq_true rfl, Nat.le_of_ble_eq_true rfl⟩ rfl rfl (Nat.le_of_ble_eq_true rfl) dX2_oldest_20 (Nat.le_of_ble_eq_true rfl) (Nat.le_of_ble_eq_true rfl)) hI_3 (fun H_5 L_6 hI_4 => ?_)
        refine xk_top (y := nI (14 + 7 * k)) rfl ?_
        refine lv_iconst (v := nI 5) hx hb dX2_oldest_23 (by decide) ?_
        refine lv_iadd hx hb dX2_oldest_24 (xk_top (nI_add _ _) ?_)
        refine xk_iald B hI_4 hA0 (by omega) (by decide) dX2_oldest_25 ?_
        refine xk_max B hl q1564 q488 q87 q489 (Nat.le_of_ble_eq_true rfl) (Nat.le_of_ble_eq_true rfl) (by exact Nat.zero_le _) (by exact Nat.zero_le _) (z := nI (if c9 < A 0 (14 + 7 * k + 5) then A 0 (14 + 7 * k + 5) else c9)) (tl_max (by omega) (by omega)) dX2_oldest_26 ?_
        refine lv_istore_n (lv' := [(1, .int (nI (if c9 < A 0 (14 + 7 * k + 5) then A 0 (14 + 7 * k + 5) else c9))), (0, .ref o), (2, .int (nI k))]) hx hb dX2_oldest_29 rfl hl (by decide) rfl (fun ls hl => ?_)
        refine lv_iinc (v := nI (k + 1)) (lv' := [(2, .int (nI (k + 1))), (1, .int (nI (if c9 < A 0 (14 + 7 * k + 5) then A 0 (14 + 7 * k + 5) else c9))), (0, .ref o)]) hx hb dX2_oldest_30 hl (k := 2) rfl (xk_inc k) (by decide) rfl (fun ls hl => ?_)
        refine lv_goto (tgt := 4) hx hb dX2_oldest_33 (by decide) ?_
        exact ih_4 (k + 1) (if c9 < A 0 (14 + 7 * k + 5) then A 0 (14 + 7 * k + 5) else c9) _ _ (by omega) (by rw [hc1]; rfl) (by omega) hI_4 ls (lv_sub hl [2, 1, 0] rfl)
  exact hloop_4 (A 0 0 - 0 + 1) 0 0 _ _ (by omega) (by rfl) (Nat.lt_succ_self _) hI ls (lv_sub hl [2, 1, 0] rfl)
set_option maxHeartbeats 4000000 in
theorem m2_account (g : xk_G) {X : xk_H} {o : Nat} {ad : Nat → Nat} {A : Nat → Nat → Nat} {S : Nat → Nat} (hM : tm_Ok g X o ad A S) (hk : tl_inv (A 0)) (x : Int32) : xk_C g yX2_account (ws_ yX2_account cX2_account 2 (some .int)) ({ frames := 2, cells := 0, slots := 0, locals := 43 } : Room) [.ref o, .int x] X (xk_Qi (tl_acc (A 0) S x) (fun X1 => X1 = X)) := by
  refine xk_ofW (by decide +kernel) (Nat.le_of_ble_eq_true rfl) (fun p e s m args below meth c B hr hname hargs hI ls hl => ?_)
  have B : xk_B g p s m args meth c RX2 cX2_account 2 := B
  have hl : lv_has ls 2 [(0, .ref o), (1, .int x)] := hl
  have hx := B.1
  have hb := B.2.1
  have hM0 := hM
  obtain ⟨hO, hA0, hA1, hA2, hA3, hA4, hA5, hA6, hA7, hA8, hA9⟩ := hM
  have hk0 := hk
  obtain ⟨k0, kb, kw, kl, ks, kr1, kr2, kwt, kL⟩ := hk
  have hfr : xk_fr o X X := xk_fr.rf
  refine lv_iload_n hx hb dX2_account_0 rfl (lv_at hl 1 rfl) ?_
  by_cases hs_0 : x = nI 0
  · refine lv_tableIn (tgt := 68) (off := 67) hx hb dX2_account_1 (by rw [hs_0]; decide) (by rw [hs_0]; decide) (by rw [hs_0]; decide) (by decide) ?_
    refine lv_aload_n hx hb dX2_account_68 rfl (lv_at hl 0 rfl) ?_
    refine xk_get B hI hO rfl in_X2 0 (by decide) q1432 rfl dX2_account_69 ?_
    refine lv_iconst (v := nI 0) hx hb dX2_account_72 (by decide) ?_
    refine xk_iald B hI hA0 (by omega) (by decide) dX2_account_73 ?_
    exact xk_reti B hI hr rfl dX2_account_74 (Nat.le_of_ble_eq_true rfl) (Nat.le_of_ble_eq_true rfl) (⟨by unfold tl_acc; rw [if_pos hs_0], rfl⟩)
  · by_cases hs_1 : x = nI 1
    · refine lv_tableIn (tgt := 75) (off := 74) hx hb dX2_account_1 (by rw [hs_1]; decide) (by rw [hs_1]; decide) (by rw [hs_1]; decide) (by decide) ?_
      refine lv_aload_n hx hb dX2_account_75 rfl (lv_at hl 0 rfl) ?_
      refine xk_ri0 (xk_cV B hI hl [] [] 0 (m2_living g hM0 hk0 ) hO rfl (lw_V q1520 q1522 qs33 q79 q1523) ⟨rfl, by decide +kernel, by decide +kernel, by decide +kernel⟩ ⟨Nat.le_of_ble_eq_true rfl, Nat.le_of_ble_eq_true rfl⟩ rfl rfl (Nat.le_of_ble_eq_true rfl) dX2_account_76 (Nat.le_of_ble_eq_true rfl) (Nat.le_of_ble_eq_true rfl)) hI (fun H_2 L_3 hI_1 => ?_)
      refine xk_top (y := nI (tl_liv (A 0) ((A 0) 0))) rfl ?_
      exact xk_reti B hI_1 hr rfl dX2_account_79 (Nat.le_of_ble_eq_true rfl) (Nat.le_of_ble_eq_true rfl) (⟨by unfold tl_acc; rw [if_neg hs_0, if_pos hs_1], rfl⟩)
    · by_cases hs_2 : x = nI 2
      · refine lv_tableIn (tgt := 80) (off := 79) hx hb dX2_account_1 (by rw [hs_2]; decide) (by rw [hs_2]; decide) (by rw [hs_2]; decide) (by decide) ?_
        refine lv_aload_n hx hb dX2_account_80 rfl (lv_at hl 0 rfl) ?_
        refine lv_iconst (v := nI 1) hx hb dX2_account_81 (by decide) ?_
        refine xk_ri0 (xk_cV B hI hl [.int (nI 1)] [] 1 (m2_sum g hM0 hk0 (w9 := 1) (by decide) (fun b hb => by have := kb b hb; omega)) hO rfl (lw_V q1773 q1775 qs65 q79 q1776) ⟨rfl, by decide +kernel, by decide +kernel, by decide +kernel⟩ ⟨Nat.le_of_ble_eq_true rfl, Nat.le_of_ble_eq_true rfl⟩ rfl rfl (Nat.le_of_ble_eq_true rfl) dX2_account_82 (Nat.le_of_ble_eq_true rfl) (Nat.le_of_ble_eq_true rfl)) hI (fun H_5 L_6 hI_4 => ?_)
        refine xk_top (y := nI (tl_sm (A 0) 1 (A 0 0))) rfl ?_
        exact xk_reti B hI_4 hr rfl dX2_account_85 (Nat.le_of_ble_eq_true rfl) (Nat.le_of_ble_eq_true rfl) (⟨by unfold tl_acc; rw [if_neg hs_0, if_neg hs_1, if_pos hs_2], rfl⟩)
      · by_cases hs_3 : x = nI 3
        · refine lv_tableIn (tgt := 86) (off := 85) hx hb dX2_account_1 (by rw [hs_3]; decide) (by rw [hs_3]; decide) (by rw [hs_3]; decide) (by decide) ?_
          refine lv_aload_n hx hb dX2_account_86 rfl (lv_at hl 0 rfl) ?_
          refine lv_bipush (v := nI 6) hx hb dX2_account_87 (by decide) ?_
          refine xk_ri0 (xk_cV B hI hl [.int (nI 6)] [] 1 (m2_sum g hM0 hk0 (w9 := 6) (by decide) (fun b hb => by have := kb b hb; omega)) hO rfl (lw_V q1773 q1775 qs65 q79 q1776) ⟨rfl, by decide +kernel, by decide +kernel, by decide +kernel⟩ ⟨Nat.le_of_ble_eq_true rfl, Nat.le_of_ble_eq_true rfl⟩ rfl rfl (Nat.le_of_ble_eq_true rfl) dX2_account_89 (Nat.le_of_ble_eq_true rfl) (Nat.le_of_ble_eq_true rfl)) hI (fun H_8 L_9 hI_7 => ?_)
          refine xk_top (y := nI (tl_sm (A 0) 6 (A 0 0))) rfl ?_
          exact xk_reti B hI_7 hr rfl dX2_account_92 (Nat.le_of_ble_eq_true rfl) (Nat.le_of_ble_eq_true rfl) (⟨by unfold tl_acc; rw [if_neg hs_0, if_neg hs_1, if_neg hs_2, if_pos hs_3], rfl⟩)
        · by_cases hs_4 : x = nI 4
          · refine lv_tableIn (tgt := 93) (off := 92) hx hb dX2_account_1 (by rw [hs_4]; decide) (by rw [hs_4]; decide) (by rw [hs_4]; decide) (by decide) ?_
            refine lv_aload_n hx hb dX2_account_93 rfl (lv_at hl 0 rfl) ?_
            refine xk_get B hI hO rfl in_X2 0 (by decide) q1432 rfl dX2_account_94 ?_
            refine lv_iconst (v := nI 1) hx hb dX2_account_97 (by decide) ?_
            refine xk_iald B hI hA0 (by omega) (by decide) dX2_account_98 ?_
            exact xk_reti B hI hr rfl dX2_account_99 (Nat.le_of_ble_eq_true rfl) (Nat.le_of_ble_eq_true rfl) (⟨by unfold tl_acc; rw [if_neg hs_0, if_neg hs_1, if_neg hs_2, if_neg hs_3, if_pos hs_4], rfl⟩)
          · by_cases hs_5 : x = nI 5
            · refine lv_tableIn (tgt := 100) (off := 99) hx hb dX2_account_1 (by rw [hs_5]; decide) (by rw [hs_5]; decide) (by rw [hs_5]; decide) (by decide) ?_
              refine lv_aload_n hx hb dX2_account_100 rfl (lv_at hl 0 rfl) ?_
              refine xk_get B hI hO rfl in_X2 0 (by decide) q1432 rfl dX2_account_101 ?_
              refine lv_iconst (v := nI 2) hx hb dX2_account_104 (by decide) ?_
              refine xk_iald B hI hA0 (by omega) (by decide) dX2_account_105 ?_
              exact xk_reti B hI hr rfl dX2_account_106 (Nat.le_of_ble_eq_true rfl) (Nat.le_of_ble_eq_true rfl) (⟨by unfold tl_acc; rw [if_neg hs_0, if_neg hs_1, if_neg hs_2, if_neg hs_3, if_neg hs_4, if_pos hs_5], rfl⟩)
            · by_cases hs_6 : x = nI 6
              · refine lv_tableIn (tgt := 107) (off := 106) hx hb dX2_account_1 (by rw [hs_6]; decide) (by rw [hs_6]; decide) (by rw [hs_6]; decide) (by decide) ?_
                refine lv_aload_n hx hb dX2_account_107 rfl (lv_at hl 0 rfl) ?_
                refine xk_ri0 (xk_cV B hI hl [] [] 0 (m2_weights g hM0 hk0 ) hO rfl (lw_V q1777 q1779 qs66 q79 q1780) ⟨rfl, by decide +kernel, by decide +kernel, by decide +kernel⟩ ⟨Nat.le_of_ble_eq_true rfl, Nat.le_of_ble_eq_true rfl⟩ rfl rfl (Nat.le_of_ble_eq_true rfl) dX2_account_108 (Nat.le_of_ble_eq_true rfl) (Nat.le_of_ble_eq_true rfl)) hI (fun H_11 L_12 hI_10 => ?_)
                refine xk_top (y := nI (tl_ws (A 0) 8)) rfl ?_
                exact xk_reti B hI_10 hr rfl dX2_account_111 (Nat.le_of_ble_eq_true rfl) (Nat.le_of_ble_eq_true rfl) (⟨by unfold tl_acc; rw [if_neg hs_0, if_neg hs_1, if_neg hs_2, if_neg hs_3, if_neg hs_4, if_neg hs_5, if_pos hs_6], rfl⟩)
              · by_cases hs_7 : x = nI 7
                · refine lv_tableIn (tgt := 112) (off := 111) hx hb dX2_account_1 (by rw [hs_7]; decide) (by rw [hs_7]; decide) (by rw [hs_7]; decide) (by decide) ?_
                  refine lv_aload_n hx hb dX2_account_112 rfl (lv_at hl 0 rfl) ?_
                  refine xk_get B hI hO rfl in_X2 0 (by decide) q1432 rfl dX2_account_113 ?_
                  refine lv_iload_n hx hb dX2_account_116 rfl (lv_at hl 1 rfl) ?_
                  refine xk_top hs_7 ?_
                  refine lv_iconst (v := nI 4) hx hb dX2_account_117 (by decide) ?_
                  refine lv_isub hx hb dX2_account_118 (xk_top (pk_sub (by decide)) ?_)
                  refine xk_top (y := nI 3) (by decide) ?_
                  refine xk_iald B hI hA0 (by omega) (by decide) dX2_account_119 ?_
                  exact xk_reti B hI hr rfl dX2_account_120 (Nat.le_of_ble_eq_true rfl) (Nat.le_of_ble_eq_true rfl) (⟨by unfold tl_acc; rw [if_neg hs_0, if_neg hs_1, if_neg hs_2, if_neg hs_3, if_neg hs_4, if_neg hs_5, if_neg hs_6, if_pos hs_7], rfl⟩)
                · by_cases hs_8 : x = nI 8
                  · refine lv_tableIn (tgt := 112) (off := 111) hx hb dX2_account_1 (by rw [hs_8]; decide) (by rw [hs_8]; decide) (by rw [hs_8]; decide) (by decide) ?_
                    refine lv_aload_n hx hb dX2_account_112 rfl (lv_at hl 0 rfl) ?_
                    refine xk_get B hI hO rfl in_X2 0 (by decide) q1432 rfl dX2_account_113 ?_
                    refine lv_iload_n hx hb dX2_account_116 rfl (lv_at hl 1 rfl) ?_
                    refine xk_top hs_8 ?_
                    refine lv_iconst (v := nI 4) hx hb dX2_account_117 (by decide) ?_
                    refine lv_isub hx hb dX2_account_118 (xk_top (pk_sub (by decide)) ?_)
                    refine xk_top (y := nI 4) (by decide) ?_
                    refine xk_iald B hI hA0 (by omega) (by decide) dX2_account_119 ?_
                    exact xk_reti B hI hr rfl dX2_account_120 (Nat.le_of_ble_eq_true rfl) (Nat.le_of_ble_eq_true rfl) (⟨by unfold tl_acc; rw [if_neg hs_0, if_neg hs_1, if_neg hs_2, if_neg hs_3, if_neg hs_4, if_neg hs_5, if_neg hs_6, if_neg hs_7, if_pos hs_8], rfl⟩)
                  · by_cases hs_9 : x = nI 9
                    · refine lv_tableIn (tgt := 112) (off := 111) hx hb dX2_account_1 (by rw [hs_9]; decide) (by rw [hs_9]; decide) (by rw [hs_9]; decide) (by decide) ?_
                      refine lv_aload_n hx hb dX2_account_112 rfl (lv_at hl 0 rfl) ?_
                      refine xk_get B hI hO rfl in_X2 0 (by decide) q1432 rfl dX2_account_113 ?_
                      refine lv_iload_n hx hb dX2_account_116 rfl (lv_at hl 1 rfl) ?_
                      refine xk_top hs_9 ?_
                      refine lv_iconst (v := nI 4) hx hb dX2_account_117 (by decide) ?_
                      refine lv_isub hx hb dX2_account_118 (xk_top (pk_sub (by decide)) ?_)
                      refine xk_top (y := nI 5) (by decide) ?_
                      refine xk_iald B hI hA0 (by omega) (by decide) dX2_account_119 ?_
                      exact xk_reti B hI hr rfl dX2_account_120 (Nat.le_of_ble_eq_true rfl) (Nat.le_of_ble_eq_true rfl) (⟨by unfold tl_acc; rw [if_neg hs_0, if_neg hs_1, if_neg hs_2, if_neg hs_3, if_neg hs_4, if_neg hs_5, if_neg hs_6, if_neg hs_7, if_neg hs_8, if_pos hs_9], rfl⟩)
                    · by_cases hs_10 : x = nI 10
                      · refine lv_tableIn (tgt := 121) (off := 120) hx hb dX2_account_1 (by rw [hs_10]; decide) (by rw [hs_10]; decide) (by rw [hs_10]; decide) (by decide) ?_
                        refine lv_aload_n hx hb dX2_account_121 rfl (lv_at hl 0 rfl) ?_
                        refine xk_ri0 (xk_cV B hI hl [] [] 0 (m2_oldest g hM0 hk0 ) hO rfl (lw_V q1781 q1783 qs67 q79 q1784) ⟨rfl, by decide +kernel, by decide +kernel, by decide +kernel⟩ ⟨Nat.le_of_ble_eq_true rfl, Nat.le_of_ble_eq_true rfl⟩ rfl rfl (Nat.le_of_ble_eq_true rfl) dX2_account_122 (Nat.le_of_ble_eq_true rfl) (Nat.le_of_ble_eq_true rfl)) hI (fun H_14 L_15 hI_13 => ?_)
                        refine xk_top (y := nI (tl_old (A 0) (A 0 0))) rfl ?_
                        exact xk_reti B hI_13 hr rfl dX2_account_125 (Nat.le_of_ble_eq_true rfl) (Nat.le_of_ble_eq_true rfl) (⟨by unfold tl_acc; rw [if_neg hs_0, if_neg hs_1, if_neg hs_2, if_neg hs_3, if_neg hs_4, if_neg hs_5, if_neg hs_6, if_neg hs_7, if_neg hs_8, if_neg hs_9, if_pos hs_10], rfl⟩)
                      · by_cases hs_11 : x = nI 11
                        · refine lv_tableIn (tgt := 126) (off := 125) hx hb dX2_account_1 (by rw [hs_11]; decide) (by rw [hs_11]; decide) (by rw [hs_11]; decide) (by decide) ?_
                          refine lv_aload_n hx hb dX2_account_126 rfl (lv_at hl 0 rfl) ?_
                          refine xk_get B hI hO rfl in_X2 11 (by decide) q1443 rfl dX2_account_127 ?_
                          exact xk_reti B hI hr rfl dX2_account_130 (Nat.le_of_ble_eq_true rfl) (Nat.le_of_ble_eq_true rfl) (⟨by unfold tl_acc; rw [if_neg hs_0, if_neg hs_1, if_neg hs_2, if_neg hs_3, if_neg hs_4, if_neg hs_5, if_neg hs_6, if_neg hs_7, if_neg hs_8, if_neg hs_9, if_neg hs_10, if_pos hs_11], rfl⟩)
                        · by_cases hs_12 : x = nI 12
                          · refine lv_tableIn (tgt := 131) (off := 130) hx hb dX2_account_1 (by rw [hs_12]; decide) (by rw [hs_12]; decide) (by rw [hs_12]; decide) (by decide) ?_
                            refine lv_aload_n hx hb dX2_account_131 rfl (lv_at hl 0 rfl) ?_
                            refine xk_get B hI hO rfl in_X2 6 (by decide) q1438 rfl dX2_account_132 ?_
                            exact xk_reti B hI hr rfl dX2_account_135 (Nat.le_of_ble_eq_true rfl) (Nat.le_of_ble_eq_true rfl) (⟨by unfold tl_acc; rw [if_neg hs_0, if_neg hs_1, if_neg hs_2, if_neg hs_3, if_neg hs_4, if_neg hs_5, if_neg hs_6, if_neg hs_7, if_neg hs_8, if_neg hs_9, if_neg hs_10, if_neg hs_11, if_pos hs_12], rfl⟩)
                          · refine lv_tableOut (tgt := 136) hx hb dX2_account_1 (tl_swout (n := 12) (fun i hi => by rcases (show i = 0 ∨ i = 1 ∨ i = 2 ∨ i = 3 ∨ i = 4 ∨ i = 5 ∨ i = 6 ∨ i = 7 ∨ i = 8 ∨ i = 9 ∨ i = 10 ∨ i = 11 ∨ i = 12 by omega) with rfl | rfl | rfl | rfl | rfl | rfl | rfl | rfl | rfl | rfl | rfl | rfl | rfl <;> assumption)) (by decide) ?_
                            refine lv_bipush (v := (-2)) hx hb dX2_account_136 (by decide) ?_
                            exact xk_reti B hI hr rfl dX2_account_138 (Nat.le_of_ble_eq_true rfl) (Nat.le_of_ble_eq_true rfl) (⟨by unfold tl_acc; rw [if_neg hs_0, if_neg hs_1, if_neg hs_2, if_neg hs_3, if_neg hs_4, if_neg hs_5, if_neg hs_6, if_neg hs_7, if_neg hs_8, if_neg hs_9, if_neg hs_10, if_neg hs_11, if_neg hs_12], rfl⟩)
set_option maxHeartbeats 4000000 in
theorem m2_refusal (g : xk_G) {X : xk_H} {o : Nat} {ad : Nat → Nat} {A : Nat → Nat → Nat} {S : Nat → Nat} (hM : tm_Ok g X o ad A S) (hk : tl_inv (A 0)) (x : Int32) (hS2 : S 2 < 2147483648) : xk_C g yX2_refusal (ws_ yX2_refusal cX2_refusal 2 (some .int)) ({ frames := 1, cells := 0, slots := 0, locals := 25 } : Room) [.ref o, .int x] X (xk_Qi (tl_refu S x) (fun X1 => X1 = X)) := by
  refine xk_ofW (by decide +kernel) (Nat.le_of_ble_eq_true rfl) (fun p e s m args below meth c B hr hname hargs hI ls hl => ?_)
  have B : xk_B g p s m args meth c RX2 cX2_refusal 2 := B
  have hl : lv_has ls 2 [(0, .ref o), (1, .int x)] := hl
  have hx := B.1
  have hb := B.2.1
  have hM0 := hM
  obtain ⟨hO, hA0, hA1, hA2, hA3, hA4, hA5, hA6, hA7, hA8, hA9⟩ := hM
  have hk0 := hk
  obtain ⟨k0, kb, kw, kl, ks, kr1, kr2, kwt, kL⟩ := hk
  have hfr : xk_fr o X X := xk_fr.rf
  refine lv_iload_n hx hb dX2_refusal_0 rfl (lv_at hl 1 rfl) ?_
  refine lv_i2l hx hb dX2_refusal_1 rfl ?_
  refine lv_lconst (v := 0) hx hb dX2_refusal_2 (by decide) ?_
  refine lv_ldc2 hx hb B.ow (B.ts _ q1672) dX2_refusal_3 ?_
  refine xk_ri0 (xk_cS B hI hl [.long ((x).toInt64), .long (0 : Int64), .long (2 : Int64)] [] 3 (m2_in g (x := (x).toInt) (lo := 0) (hi := 2) (Int32.toInt_toInt64 _) (by decide) (by decide)) (lw_S q1509 q1510 q79 q1511) ⟨by decide +kernel, by decide +kernel, by decide +kernel⟩ ⟨Nat.le_of_ble_eq_true rfl, Nat.le_of_ble_eq_true rfl⟩ rfl rfl (Nat.le_of_ble_eq_true rfl) dX2_refusal_6 (Nat.le_of_ble_eq_true rfl) (Nat.le_of_ble_eq_true rfl)) hI (fun H_2 L_3 hI_1 => ?_)
  refine xk_top (y := xk_z (tl_rng x 0 2)) rfl ?_
  refine xk_if_ne_z (tgt := 15) hx hb dX2_refusal_9 (by decide) (fun hc_9 => ?_) (fun hc_9 => ?_)
  · obtain ⟨hx1, hx2, hx3, hx4⟩ := tl_rng_k hc_9 (by decide)
    refine lv_aload_n hx hb dX2_refusal_15 rfl (lv_at hl 0 rfl) ?_
    refine xk_get B hI_1 hO rfl in_X2 7 (by decide) q1439 rfl dX2_refusal_16 ?_
    refine xk_if_ne (tgt := 25) hx hb (by omega) dX2_refusal_19 (by decide) (fun hc_19 => ?_) (fun hc_19 => ?_)
    · refine lv_iload_n hx hb dX2_refusal_25 rfl (lv_at hl 1 rfl) ?_
      refine xk_top hx1 ?_
      refine xk_if_ne (tgt := 36) hx hb (by omega) dX2_refusal_26 (by decide) (fun hc_26 => ?_) (fun hc_26 => ?_)
      · refine lv_iload_n hx hb dX2_refusal_36 rfl (lv_at hl 1 rfl) ?_
        refine xk_top hx1 ?_
        refine lv_iconst (v := nI 1) hx hb dX2_refusal_37 (by decide) ?_
        refine xk_icmp_ne (tgt := 48) hx hb (by omega) (by omega) dX2_refusal_38 (by decide) (fun hc_38 => ?_) (fun hc_38 => ?_)
        · refine lv_aload_n hx hb dX2_refusal_48 rfl (lv_at hl 0 rfl) ?_
          refine xk_get B hI_1 hO rfl in_X2 9 (by decide) q1441 rfl dX2_refusal_49 ?_
          exact xk_reti B hI_1 hr rfl dX2_refusal_52 (Nat.le_of_ble_eq_true rfl) (Nat.le_of_ble_eq_true rfl) (⟨by unfold tl_refu; rw [if_pos hc_9, if_neg (by omega), if_neg (by omega), if_neg hc_38], rfl⟩)
        · refine lv_aload_n hx hb dX2_refusal_41 rfl (lv_at hl 0 rfl) ?_
          refine xk_get B hI_1 hO rfl in_X2 8 (by decide) q1440 rfl dX2_refusal_42 ?_
          refine lv_goto (tgt := 52) hx hb dX2_refusal_45 (by decide) ?_
          exact xk_reti B hI_1 hr rfl dX2_refusal_52 (Nat.le_of_ble_eq_true rfl) (Nat.le_of_ble_eq_true rfl) (⟨by unfold tl_refu; rw [if_pos hc_9, if_neg (by omega), if_neg (by omega), if_pos hc_38], rfl⟩)
      · refine lv_aload_n hx hb dX2_refusal_29 rfl (lv_at hl 0 rfl) ?_
        refine xk_get B hI_1 hO rfl in_X2 7 (by decide) q1439 rfl dX2_refusal_30 ?_
        refine lv_goto (tgt := 52) hx hb dX2_refusal_33 (by decide) ?_
        exact xk_reti B hI_1 hr rfl dX2_refusal_52 (Nat.le_of_ble_eq_true rfl) (Nat.le_of_ble_eq_true rfl) (⟨by unfold tl_refu; rw [if_pos hc_9, if_neg (by omega), if_pos hc_26], rfl⟩)
    · refine lv_bipush (v := (-4)) hx hb dX2_refusal_22 (by decide) ?_
      exact xk_reti B hI_1 hr rfl dX2_refusal_24 (Nat.le_of_ble_eq_true rfl) (Nat.le_of_ble_eq_true rfl) (⟨by unfold tl_refu; rw [if_pos hc_9, if_pos hc_19], rfl⟩)
  · refine lv_bipush (v := (-2)) hx hb dX2_refusal_12 (by decide) ?_
    exact xk_reti B hI_1 hr rfl dX2_refusal_14 (Nat.le_of_ble_eq_true rfl) (Nat.le_of_ble_eq_true rfl) (⟨by unfold tl_refu; rw [if_neg (by rw [hc_9]; decide)], rfl⟩)
set_option maxHeartbeats 4000000 in
theorem m2_sign (g : xk_G) {X : xk_H} {o : Nat} {ad : Nat → Nat} {A : Nat → Nat → Nat} {S : Nat → Nat} (hM : tm_Ok g X o ad A S) (hk : tl_inv (A 0)) (x : Int32) (hS6 : S 6 ≤ 60) : xk_C g yX2_sign (ws_ yX2_sign cX2_sign 2 (some .int)) ({ frames := 1, cells := 0, slots := 0, locals := 25 } : Room) [.ref o, .int x] X (xk_Qi (tl_sgn (A 8) (S 6) x) (fun X1 => X1 = X)) := by
  refine xk_ofW (by decide +kernel) (Nat.le_of_ble_eq_true rfl) (fun p e s m args below meth c B hr hname hargs hI ls hl => ?_)
  have B : xk_B g p s m args meth c RX2 cX2_sign 2 := B
  have hl : lv_has ls 2 [(0, .ref o), (1, .int x)] := hl
  have hx := B.1
  have hb := B.2.1
  have hM0 := hM
  obtain ⟨hO, hA0, hA1, hA2, hA3, hA4, hA5, hA6, hA7, hA8, hA9⟩ := hM
  have hk0 := hk
  obtain ⟨k0, kb, kw, kl, ks, kr1, kr2, kwt, kL⟩ := hk
  have hfr : xk_fr o X X := xk_fr.rf
  refine lv_iload_n hx hb dX2_sign_0 rfl (lv_at hl 1 rfl) ?_
  refine lv_i2l hx hb dX2_sign_1 rfl ?_
  refine lv_lconst (v := 0) hx hb dX2_sign_2 (by decide) ?_
  refine lv_aload_n hx hb dX2_sign_3 rfl (lv_at hl 0 rfl) ?_
  refine xk_get B hI hO rfl in_X2 15 (by decide) q1447 rfl dX2_sign_4 ?_
  refine lv_iconst (v := nI 1) hx hb dX2_sign_7 (by decide) ?_
  refine lv_isub hx hb dX2_sign_8 ?_
  refine lv_i2l hx hb dX2_sign_9 rfl ?_
  refine xk_ri0 (xk_cS B hI hl [.long ((x).toInt64), .long (0 : Int64), .long (((nI (S 6)) - (nI 1)).toInt64)] [] 3 (m2_in g (x := x.toInt) (lo := 0) (hi := ((S 6 : Int) - 1)) (Int32.toInt_toInt64 _) (by decide) (tl_i64b (by omega))) (lw_S q1509 q1510 q79 q1511) ⟨by decide +kernel, by decide +kernel, by decide +kernel⟩ ⟨Nat.le_of_ble_eq_true rfl, Nat.le_of_ble_eq_true rfl⟩ rfl rfl (Nat.le_of_ble_eq_true rfl) dX2_sign_10 (Nat.le_of_ble_eq_true rfl) (Nat.le_of_ble_eq_true rfl)) hI (fun H_2 L_3 hI_1 => ?_)
  refine xk_top (y := xk_z (tl_rng x 0 ((S 6 : Int) - 1))) rfl ?_
  refine xk_if_eq_z (tgt := 25) hx hb dX2_sign_13 (by decide) (fun hc_13 => ?_) (fun hc_13 => ?_)
  · refine lv_iconst (v := (-1)) hx hb dX2_sign_25 (by decide) ?_
    exact xk_reti B hI_1 hr rfl dX2_sign_26 (Nat.le_of_ble_eq_true rfl) (Nat.le_of_ble_eq_true rfl) (⟨by unfold tl_sgn; rw [if_neg (by rw [hc_13]; decide)], rfl⟩)
  · obtain ⟨hx1, hx2, hx3, hx4⟩ := tl_rng_k hc_13 (by decide)
    refine lv_aload_n hx hb dX2_sign_16 rfl (lv_at hl 0 rfl) ?_
    refine xk_get B hI_1 hO rfl in_X2 14 (by decide) q1446 rfl dX2_sign_17 ?_
    refine lv_iload_n hx hb dX2_sign_20 rfl (lv_at hl 1 rfl) ?_
    refine xk_top hx1 ?_
    refine xk_iald B hI_1 hA8 (by omega) (by decide) dX2_sign_21 ?_
    refine lv_goto (tgt := 26) hx hb dX2_sign_22 (by decide) ?_
    exact xk_reti B hI_1 hr rfl dX2_sign_26 (Nat.le_of_ble_eq_true rfl) (Nat.le_of_ble_eq_true rfl) (⟨by unfold tl_sgn; rw [if_pos hc_13], rfl⟩)
set_option maxHeartbeats 4000000 in
theorem m2_append (g : xk_G) {X : xk_H} {o : Nat} {ad : Nat → Nat} {A : Nat → Nat → Nat} {S : Nat → Nat} (hM : tm_Ok g X o ad A S) (hk : tl_inv (A 0)) (x : Int32) (hS5 : S 5 ≤ 70) : xk_C g yX2_append (ws_ yX2_append cX2_append 2 (some .int)) ({ frames := 1, cells := 0, slots := 0, locals := 25 } : Room) [.ref o, .int x] X (xk_Qi (if tl_app S x = true then nI (S 5 + 1) else -2) (fun X1 => tm_Ok g X1 o ad (if tl_app S x = true then va_up A 5 (va_up (A 5) (S 5) (tl_n x)) else A) (if tl_app S x = true then va_up S 5 (S 5 + 1) else S) ∧ xk_fr o X X1)) := by
  refine xk_ofW (by decide +kernel) (Nat.le_of_ble_eq_true rfl) (fun p e s m args below meth c B hr hname hargs hI ls hl => ?_)
  have B : xk_B g p s m args meth c RX2 cX2_append 2 := B
  have hl : lv_has ls 2 [(0, .ref o), (1, .int x)] := hl
  have hx := B.1
  have hb := B.2.1
  have hM0 := hM
  obtain ⟨hO, hA0, hA1, hA2, hA3, hA4, hA5, hA6, hA7, hA8, hA9⟩ := hM
  have hk0 := hk
  obtain ⟨k0, kb, kw, kl, ks, kr1, kr2, kwt, kL⟩ := hk
  have hfr : xk_fr o X X := xk_fr.rf
  refine lv_iload_n hx hb dX2_append_0 rfl (lv_at hl 1 rfl) ?_
  refine lv_i2l hx hb dX2_append_1 rfl ?_
  refine lv_ldc2 hx hb B.ow (B.ts _ q1733) dX2_append_2 ?_
  refine lv_ldc2 hx hb B.ow (B.ts _ q1734) dX2_append_5 ?_
  refine xk_ri0 (xk_cS B hI hl [.long ((x).toInt64), .long (32 : Int64), .long (126 : Int64)] [] 3 (m2_in g (x := (x).toInt) (lo := 32) (hi := 126) (Int32.toInt_toInt64 _) (by decide) (by decide)) (lw_S q1509 q1510 q79 q1511) ⟨by decide +kernel, by decide +kernel, by decide +kernel⟩ ⟨Nat.le_of_ble_eq_true rfl, Nat.le_of_ble_eq_true rfl⟩ rfl rfl (Nat.le_of_ble_eq_true rfl) dX2_append_8 (Nat.le_of_ble_eq_true rfl) (Nat.le_of_ble_eq_true rfl)) hI (fun H_2 L_3 hI_1 => ?_)
  refine xk_top (y := xk_z (tl_rng x 32 126)) rfl ?_
  refine xk_if_eq_z (tgt := 23) hx hb dX2_append_11 (by decide) (fun hc_11 => ?_) (fun hc_11 => ?_)
  · refine lv_bipush (v := (-2)) hx hb dX2_append_23 (by decide) ?_
    exact xk_reti B hI_1 hr rfl dX2_append_25 (Nat.le_of_ble_eq_true rfl) (Nat.le_of_ble_eq_true rfl) ((by rw [show tl_app S x = false from by unfold tl_app; rw [hc_11]; rfl]; exact ⟨rfl, hM0, hfr⟩))
  · refine lv_aload_n hx hb dX2_append_14 rfl (lv_at hl 0 rfl) ?_
    refine xk_get B hI_1 hO rfl in_X2 11 (by decide) q1443 rfl dX2_append_15 ?_
    refine lv_bipush (v := nI 70) hx hb dX2_append_18 (by decide) ?_
    refine xk_icmp_ne (tgt := 26) hx hb (by omega) (by omega) dX2_append_20 (by decide) (fun hc_20 => ?_) (fun hc_20 => ?_)
    · obtain ⟨hx1, hx2, hx3, hx4⟩ := tl_rng_k hc_11 (by decide)
      refine lv_aload_n hx hb dX2_append_26 rfl (lv_at hl 0 rfl) ?_
      refine xk_get B hI_1 hO rfl in_X2 10 (by decide) q1442 rfl dX2_append_27 ?_
      refine lv_aload_n hx hb dX2_append_30 rfl (lv_at hl 0 rfl) ?_
      refine xk_get B hI_1 hO rfl in_X2 11 (by decide) q1443 rfl dX2_append_31 ?_
      refine lv_iload_n hx hb dX2_append_34 rfl (lv_at hl 1 rfl) ?_
      refine xk_top hx1 ?_
      refine xk_iast B hI_1 hA5 (by omega) (by decide) dX2_append_35 (fun X_4 H_8 L_9 hf_6 hn_5 hI_7 => ?_)
      have hfr_10 := xk_fr.put hfr hA5 hn_5
      refine lv_aload_n hx hb dX2_append_36 rfl (lv_at hl 0 rfl) ?_
      refine lv_dup hx hb dX2_append_37 rfl ?_
      have hf_11 := xk_off hn_5 hO hA5 (xk_on1 (by decide))
      refine xk_get B hI_7 hf_11 rfl in_X2 11 (by decide) q1443 rfl dX2_append_38 ?_
      refine lv_iconst (v := nI 1) hx hb dX2_append_41 (by decide) ?_
      refine lv_iadd hx hb dX2_append_42 (xk_top (nI_add _ _) ?_)
      refine xk_put B hI_7 hf_11 rfl in_X2 tyX2 tyX2_ok nmX2 11 (by decide) q1443 rfl rfl rfl (Nat.le_of_ble_eq_true rfl) dX2_append_43 (fun X_12 H_16 L_17 hf_14 hn_13 hI_15 => ?_)
      have hf_14 : X_12 o = some ((o, 0), .inr (0, [.ref (ad 0), .ref (ad 1), .ref (ad 2), .ref (ad 3), .int (nI (S 0)), .ref (ad 4), .int (nI (S 1)), .int (nI (S 2)), .int (nI (S 3)), .int (tm_it (S 4)), .ref (ad 5), .int (nI (S 5 + 1)), .ref (ad 6), .ref (ad 7), .ref (ad 8), .int (nI (S 6)), .ref (ad 9), .int (nI (S 7)), .int (nI (S 8)), .int (nI (S 9)), .int (nI (S 10))])) := hf_14
      have hfr_18 := xk_fr.put hfr_10 hf_11 hn_13
      refine lv_aload_n hx hb dX2_append_46 rfl (lv_at hl 0 rfl) ?_
      refine xk_get B hI_15 hf_14 rfl in_X2 11 (by decide) q1443 rfl dX2_append_47 ?_
      have hf_19 := xk_off hn_5 hA0 hA5 (xk_on1 (by decide))
      have hf_20 := xk_off hn_13 hf_19 hf_11 (xk_on1 (by decide))
      have hf_21 := xk_off hn_5 hA1 hA5 (xk_on1 (by decide))
      have hf_22 := xk_off hn_13 hf_21 hf_11 (xk_on1 (by decide))
      have hf_23 := xk_off hn_5 hA2 hA5 (xk_on1 (by decide))
      have hf_24 := xk_off hn_13 hf_23 hf_11 (xk_on1 (by decide))
      have hf_25 := xk_off hn_5 hA3 hA5 (xk_on1 (by decide))
      have hf_26 := xk_off hn_13 hf_25 hf_11 (xk_on1 (by decide))
      have hf_27 := xk_off hn_5 hA4 hA5 (xk_on1 (by decide))
      have hf_28 := xk_off hn_13 hf_27 hf_11 (xk_on1 (by decide))
      have hf_29 := xk_off hn_13 hf_6 hf_11 (xk_on1 (by decide))
      have hf_30 := xk_off hn_5 hA6 hA5 (xk_on1 (by decide))
      have hf_31 := xk_off hn_13 hf_30 hf_11 (xk_on1 (by decide))
      have hf_32 := xk_off hn_5 hA7 hA5 (xk_on1 (by decide))
      have hf_33 := xk_off hn_13 hf_32 hf_11 (xk_on1 (by decide))
      have hf_34 := xk_off hn_5 hA8 hA5 (xk_on1 (by decide))
      have hf_35 := xk_off hn_13 hf_34 hf_11 (xk_on1 (by decide))
      have hf_36 := xk_off hn_5 hA9 hA5 (xk_on1 (by decide))
      have hf_37 := xk_off hn_13 hf_36 hf_11 (xk_on1 (by decide))
      have hM_38 : tm_Ok g X_12 o ad (va_up A 5 (va_up (A 5) (S 5) (tl_n x))) (va_up S 5 (S 5 + 1)) := ⟨hf_14, hf_20, hf_22, hf_24, hf_26, hf_28, hf_29, hf_31, hf_33, hf_35, hf_37⟩
      exact xk_reti B hI_15 hr rfl dX2_append_50 (Nat.le_of_ble_eq_true rfl) (Nat.le_of_ble_eq_true rfl) ((by rw [show tl_app S x = true from by unfold tl_app; rw [hc_11, decide_eq_true hc_20]; rfl]; exact ⟨rfl, hM_38, hfr_18⟩))
    · refine lv_bipush (v := (-2)) hx hb dX2_append_23 (by decide) ?_
      exact xk_reti B hI_1 hr rfl dX2_append_25 (Nat.le_of_ble_eq_true rfl) (Nat.le_of_ble_eq_true rfl) ((by rw [show tl_app S x = false from by unfold tl_app; rw [hc_20]; simp]; exact ⟨rfl, hM0, hfr⟩))
set_option maxHeartbeats 4000000 in
theorem m2_isWell (g : xk_G) {X : xk_H} {o : Nat} {ad : Nat → Nat} {A : Nat → Nat → Nat} {S : Nat → Nat} (hM : tm_Ok g X o ad A S) (hk : tl_inv (A 0))  : xk_C g yX2_isWell (ws_ yX2_isWell cX2_isWell 6 (some .int)) ({ frames := 1, cells := 0, slots := 0, locals := 20 } : Room) [.ref o] X (xk_Qi (xk_z (tl_wel (A 0) (A 0 0))) (fun X1 => X1 = X)) := by
  refine xk_ofW (by decide +kernel) (Nat.le_of_ble_eq_true rfl) (fun p e s m args below meth c B hr hname hargs hI ls hl => ?_)
  have B : xk_B g p s m args meth c RX2 cX2_isWell 6 := B
  have hl : lv_has ls 6 [(0, .ref o)] := hl
  have hx := B.1
  have hb := B.2.1
  have hM0 := hM
  obtain ⟨hO, hA0, hA1, hA2, hA3, hA4, hA5, hA6, hA7, hA8, hA9⟩ := hM
  have hk0 := hk
  obtain ⟨k0, kb, kw, kl, ks, kr1, kr2, kwt, kL⟩ := hk
  have hfr : xk_fr o X X := xk_fr.rf
  refine lv_iconst (v := nI 1) hx hb dX2_isWell_0 (by decide) ?_
  refine lv_istore_n (lv' := [(1, .int (nI 1)), (0, .ref o)]) hx hb dX2_isWell_1 rfl hl (by decide) rfl (fun ls hl => ?_)
  refine lv_iconst (v := nI 0) hx hb dX2_isWell_2 (by decide) ?_
  refine lv_istore_n (lv' := [(2, .int (nI 0)), (1, .int (nI 1)), (0, .ref o)]) hx hb dX2_isWell_3 rfl hl (by decide) rfl (fun ls hl => ?_)
  have hloop_4 : ∀ (n_4 : Nat) (b9 : Nat) (v9 : Bool) (H_1 : Heap) (L_2 : List Loc), (b9 ≤ A 0 0) → (v9 = tl_wel (A 0) b9) → A 0 0 - b9 < n_4 → xk_I g s H_1 X L_2 → ∀ ls : Array Slot, lv_has ls 6 [(0, .ref o), (1, .int (xk_z v9)), (2, .int (nI b9))] → W p (xk_l g) e (({ frames := 1, cells := 0, slots := 0, locals := 20 } : Room)) s m args below meth c H_1 L_2 0 0 (MQ below (xk_Q g (xk_Qi (xk_z (tl_wel (A 0) (A 0 0))) (fun X1 => X1 = X))) args s (0) (0) (xk_A g)) (F0 m 4 ls []) := by
    intro n_4
    induction n_4 with
    | zero => intros; omega
    | succ n_4 ih_4 =>
      intro b9 v9 H_1 L_2 hb1 hv1 hm_4  hI_3 ls hl
      refine lv_iload_n hx hb dX2_isWell_4 rfl (lv_at hl 2 rfl) ?_
      refine lv_aload_n hx hb dX2_isWell_5 rfl (lv_at hl 0 rfl) ?_
      refine xk_get B hI_3 hO rfl in_X2 0 (by decide) q1432 rfl dX2_isWell_6 ?_
      refine lv_iconst (v := nI 0) hx hb dX2_isWell_9 (by decide) ?_
      refine xk_iald B hI_3 hA0 (by omega) (by decide) dX2_isWell_10 ?_
      refine xk_icmp_ge (tgt := 120) hx hb (by omega) (by omega) dX2_isWell_11 (by decide) (fun hc_11 => ?_) (fun hc_11 => ?_)
      · have q1 : b9 = A 0 0 := by omega
        refine lv_iload_n hx hb dX2_isWell_120 rfl (lv_at hl 1 rfl) ?_
        refine xk_if_eq_z (tgt := 128) hx hb dX2_isWell_121 (by decide) (fun hc_121 => ?_) (fun hc_121 => ?_)
        · refine lv_iconst (v := nI 0) hx hb dX2_isWell_128 (by decide) ?_
          exact xk_reti B hI_3 hr rfl dX2_isWell_129 (Nat.le_of_ble_eq_true rfl) (Nat.le_of_ble_eq_true rfl) (⟨by rw [← q1, ← hv1, hc_121]; rfl, rfl⟩)
        · refine lv_iconst (v := nI 1) hx hb dX2_isWell_124 (by decide) ?_
          refine lv_goto (tgt := 129) hx hb dX2_isWell_125 (by decide) ?_
          exact xk_reti B hI_3 hr rfl dX2_isWell_129 (Nat.le_of_ble_eq_true rfl) (Nat.le_of_ble_eq_true rfl) (⟨by rw [← q1, ← hv1, hc_121]; rfl, rfl⟩)
      · have qb := kb b9 hc_11
        refine lv_iload_n hx hb dX2_isWell_14 rfl (lv_at hl 2 rfl) ?_
        refine xk_ri0 (xk_cS B hI_3 hl [.int (nI b9)] [] 1 (m2_of g b9) (lw_S q1524 q1525 q79 q1526) ⟨by decide +kernel, by decide +kernel, by decide +kernel⟩ ⟨Nat.le_of_ble_eq_true rfl, Nat.le_of_ble_eq_true rfl⟩ rfl rfl (Nat.le_of_ble_eq_true rfl) dX2_isWell_15 (Nat.le_of_ble_eq_true rfl) (Nat.le_of_ble_eq_true rfl)) hI_3 (fun H_5 L_6 hI_4 => ?_)
        refine xk_top (y := nI (14 + 7 * b9)) rfl ?_
        refine lv_istore_n (lv' := [(3, .int (nI (14 + 7 * b9))), (0, .ref o), (1, .int (xk_z v9)), (2, .int (nI b9))]) hx hb dX2_isWell_18 rfl hl (by decide) rfl (fun ls hl => ?_)
        refine lv_aload_n hx hb dX2_isWell_19 rfl (lv_at hl 1 rfl) ?_
        refine xk_get B hI_4 hO rfl in_X2 0 (by decide) q1432 rfl dX2_isWell_20 ?_
        refine lv_iload_n hx hb dX2_isWell_23 rfl (lv_at hl 0 rfl) ?_
        refine lv_iconst (v := nI 1) hx hb dX2_isWell_24 (by decide) ?_
        refine lv_iadd hx hb dX2_isWell_25 (xk_top (nI_add _ _) ?_)
        refine xk_iald B hI_4 hA0 (by omega) (by decide) dX2_isWell_26 ?_
        refine xk_if_le (tgt := 114) hx hb (by omega) dX2_isWell_27 (by decide) (fun hc_27 => ?_) (fun hc_27 => ?_)
        · refine lv_iinc (v := nI (b9 + 1)) (lv' := [(2, .int (nI (b9 + 1))), (3, .int (nI (14 + 7 * b9))), (0, .ref o), (1, .int (xk_z v9))]) hx hb dX2_isWell_114 hl (k := 3) rfl (xk_inc b9) (by decide) rfl (fun ls hl => ?_)
          refine lv_goto (tgt := 4) hx hb dX2_isWell_117 (by decide) ?_
          exact ih_4 (b9 + 1) v9 _ _ (by omega) (by show _ = (if 0 < A 0 (14 + 7 * b9 + 1) ∧ A 0 (14 + 7 * b9 + 6) = 0 then tl_wel (A 0) b9 && decide (tl_wel1 (A 0) b9 = 0) else tl_wel (A 0) b9); rw [← hv1, if_neg (by omega)]) (by omega) hI_4 ls (lv_sub hl [2, 3, 0] rfl)
        · refine lv_aload_n hx hb dX2_isWell_30 rfl (lv_at hl 1 rfl) ?_
          refine xk_get B hI_4 hO rfl in_X2 0 (by decide) q1432 rfl dX2_isWell_31 ?_
          refine lv_iload_n hx hb dX2_isWell_34 rfl (lv_at hl 0 rfl) ?_
          refine lv_bipush (v := nI 6) hx hb dX2_isWell_35 (by decide) ?_
          refine lv_iadd hx hb dX2_isWell_37 (xk_top (nI_add _ _) ?_)
          refine xk_iald B hI_4 hA0 (by omega) (by decide) dX2_isWell_38 ?_
          refine xk_if_ne (tgt := 114) hx hb (by omega) dX2_isWell_39 (by decide) (fun hc_39 => ?_) (fun hc_39 => ?_)
          · refine lv_iinc (v := nI (b9 + 1)) (lv' := [(2, .int (nI (b9 + 1))), (3, .int (nI (14 + 7 * b9))), (0, .ref o), (1, .int (xk_z v9))]) hx hb dX2_isWell_114 hl (k := 3) rfl (xk_inc b9) (by decide) rfl (fun ls hl => ?_)
            refine lv_goto (tgt := 4) hx hb dX2_isWell_117 (by decide) ?_
            exact ih_4 (b9 + 1) v9 _ _ (by omega) (by show _ = (if 0 < A 0 (14 + 7 * b9 + 1) ∧ A 0 (14 + 7 * b9 + 6) = 0 then tl_wel (A 0) b9 && decide (tl_wel1 (A 0) b9 = 0) else tl_wel (A 0) b9); rw [← hv1, if_neg (by omega)]) (by omega) hI_4 ls (lv_sub hl [2, 3, 0] rfl)
          · have qm := kb (A 0 (14 + 7 * b9 + 1) - 1) (by omega)
            have qf := kb (A 0 (14 + 7 * b9 + 2) - 1) (by omega)
            have qx := tl_xor256 qb.1 qm.1
            have qy := tl_xor256 qb.1 qf.1
            have qz : tl_wel1 (A 0) b9 < 256 := tl_and_le qx
            refine lv_aload_n hx hb dX2_isWell_42 rfl (lv_at hl 1 rfl) ?_
            refine xk_get B hI_4 hO rfl in_X2 0 (by decide) q1432 rfl dX2_isWell_43 ?_
            refine lv_aload_n hx hb dX2_isWell_46 rfl (lv_at hl 1 rfl) ?_
            refine xk_get B hI_4 hO rfl in_X2 0 (by decide) q1432 rfl dX2_isWell_47 ?_
            refine lv_iload_n hx hb dX2_isWell_50 rfl (lv_at hl 0 rfl) ?_
            refine lv_iconst (v := nI 1) hx hb dX2_isWell_51 (by decide) ?_
            refine lv_iadd hx hb dX2_isWell_52 (xk_top (nI_add _ _) ?_)
            refine xk_iald B hI_4 hA0 (by omega) (by decide) dX2_isWell_53 ?_
            refine lv_iconst (v := nI 1) hx hb dX2_isWell_54 (by decide) ?_
            refine lv_isub hx hb dX2_isWell_55 (xk_top (pk_sub (by omega)) ?_)
            refine xk_ri0 (xk_cS B hI_4 hl [.int (nI ((A 0 (14 + 7 * b9 + 1)) - 1))] [.ref (ad 0)] 1 (m2_of g ((A 0 (14 + 7 * b9 + 1)) - 1)) (lw_S q1524 q1525 q79 q1526) ⟨by decide +kernel, by decide +kernel, by decide +kernel⟩ ⟨Nat.le_of_ble_eq_true rfl, Nat.le_of_ble_eq_true rfl⟩ rfl rfl (Nat.le_of_ble_eq_true rfl) dX2_isWell_56 (Nat.le_of_ble_eq_true rfl) (Nat.le_of_ble_eq_true rfl)) hI_4 (fun H_8 L_9 hI_7 => ?_)
            refine xk_top (y := nI (14 + 7 * ((A 0 (14 + 7 * b9 + 1)) - 1))) rfl ?_
            refine xk_iald B hI_7 hA0 (by omega) (by decide) dX2_isWell_59 ?_
            refine lv_istore (lv' := [(4, .int (nI (A 0 (14 + 7 * ((A 0 (14 + 7 * b9 + 1)) - 1))))), (3, .int (nI (14 + 7 * b9))), (0, .ref o), (1, .int (xk_z v9)), (2, .int (nI b9))]) hx hb dX2_isWell_60 hl (by decide) rfl (fun ls hl => ?_)
            refine lv_aload_n hx hb dX2_isWell_62 rfl (lv_at hl 2 rfl) ?_
            refine xk_get B hI_7 hO rfl in_X2 0 (by decide) q1432 rfl dX2_isWell_63 ?_
            refine lv_aload_n hx hb dX2_isWell_66 rfl (lv_at hl 2 rfl) ?_
            refine xk_get B hI_7 hO rfl in_X2 0 (by decide) q1432 rfl dX2_isWell_67 ?_
            refine lv_iload_n hx hb dX2_isWell_70 rfl (lv_at hl 1 rfl) ?_
            refine lv_iconst (v := nI 2) hx hb dX2_isWell_71 (by decide) ?_
            refine lv_iadd hx hb dX2_isWell_72 (xk_top (nI_add _ _) ?_)
            refine xk_iald B hI_7 hA0 (by omega) (by decide) dX2_isWell_73 ?_
            refine lv_iconst (v := nI 1) hx hb dX2_isWell_74 (by decide) ?_
            refine lv_isub hx hb dX2_isWell_75 (xk_top (pk_sub (by omega)) ?_)
            refine xk_ri0 (xk_cS B hI_7 hl [.int (nI ((A 0 (14 + 7 * b9 + 2)) - 1))] [.ref (ad 0)] 1 (m2_of g ((A 0 (14 + 7 * b9 + 2)) - 1)) (lw_S q1524 q1525 q79 q1526) ⟨by decide +kernel, by decide +kernel, by decide +kernel⟩ ⟨Nat.le_of_ble_eq_true rfl, Nat.le_of_ble_eq_true rfl⟩ rfl rfl (Nat.le_of_ble_eq_true rfl) dX2_isWell_76 (Nat.le_of_ble_eq_true rfl) (Nat.le_of_ble_eq_true rfl)) hI_7 (fun H_11 L_12 hI_10 => ?_)
            refine xk_top (y := nI (14 + 7 * ((A 0 (14 + 7 * b9 + 2)) - 1))) rfl ?_
            refine xk_iald B hI_10 hA0 (by omega) (by decide) dX2_isWell_79 ?_
            refine lv_istore (lv' := [(5, .int (nI (A 0 (14 + 7 * ((A 0 (14 + 7 * b9 + 2)) - 1))))), (4, .int (nI (A 0 (14 + 7 * ((A 0 (14 + 7 * b9 + 1)) - 1))))), (3, .int (nI (14 + 7 * b9))), (0, .ref o), (1, .int (xk_z v9)), (2, .int (nI b9))]) hx hb dX2_isWell_80 hl (by decide) rfl (fun ls hl => ?_)
            refine lv_iload_n hx hb dX2_isWell_82 rfl (lv_at hl 4 rfl) ?_
            refine xk_if_eq_z (tgt := 112) hx hb dX2_isWell_83 (by decide) (fun hc_83 => ?_) (fun hc_83 => ?_)
            · refine lv_iconst (v := nI 0) hx hb dX2_isWell_112 (by decide) ?_
              refine lv_istore_n (lv' := [(1, .int (nI 0)), (5, .int (nI (A 0 (14 + 7 * ((A 0 (14 + 7 * b9 + 2)) - 1))))), (4, .int (nI (A 0 (14 + 7 * ((A 0 (14 + 7 * b9 + 1)) - 1))))), (3, .int (nI (14 + 7 * b9))), (0, .ref o), (2, .int (nI b9))]) hx hb dX2_isWell_113 rfl hl (by decide) rfl (fun ls hl => ?_)
              refine lv_iinc (v := nI (b9 + 1)) (lv' := [(2, .int (nI (b9 + 1))), (1, .int (nI 0)), (5, .int (nI (A 0 (14 + 7 * ((A 0 (14 + 7 * b9 + 2)) - 1))))), (4, .int (nI (A 0 (14 + 7 * ((A 0 (14 + 7 * b9 + 1)) - 1))))), (3, .int (nI (14 + 7 * b9))), (0, .ref o)]) hx hb dX2_isWell_114 hl (k := 5) rfl (xk_inc b9) (by decide) rfl (fun ls hl => ?_)
              refine lv_goto (tgt := 4) hx hb dX2_isWell_117 (by decide) ?_
              exact ih_4 (b9 + 1) false _ _ (by omega) (by show _ = (if 0 < A 0 (14 + 7 * b9 + 1) ∧ A 0 (14 + 7 * b9 + 6) = 0 then tl_wel (A 0) b9 && decide (tl_wel1 (A 0) b9 = 0) else tl_wel (A 0) b9); rw [← hv1, if_pos ⟨hc_27, hc_39⟩, hc_83]; rfl) (by omega) hI_10 ls (lv_sub hl [5, 1, 0] rfl)
            · refine lv_aload_n hx hb dX2_isWell_86 rfl (lv_at hl 3 rfl) ?_
              refine xk_get B hI_10 hO rfl in_X2 0 (by decide) q1432 rfl dX2_isWell_87 ?_
              refine lv_iload_n hx hb dX2_isWell_90 rfl (lv_at hl 2 rfl) ?_
              refine xk_iald B hI_10 hA0 (by omega) (by decide) dX2_isWell_91 ?_
              refine lv_iload hx hb dX2_isWell_92 (lv_at hl 1 rfl) ?_
              refine lv_ixor hx hb dX2_isWell_94 (xk_top (xk_xor _ _) ?_)
              refine lv_aload_n hx hb dX2_isWell_95 rfl (lv_at hl 3 rfl) ?_
              refine xk_get B hI_10 hO rfl in_X2 0 (by decide) q1432 rfl dX2_isWell_96 ?_
              refine lv_iload_n hx hb dX2_isWell_99 rfl (lv_at hl 2 rfl) ?_
              refine xk_iald B hI_10 hA0 (by omega) (by decide) dX2_isWell_100 ?_
              refine lv_iload hx hb dX2_isWell_101 (lv_at hl 0 rfl) ?_
              refine lv_ixor hx hb dX2_isWell_103 (xk_top (xk_xor _ _) ?_)
              refine lv_iand hx hb dX2_isWell_104 (xk_top (xk_and _ _) ?_)
              refine xk_top (y := nI (tl_wel1 (A 0) b9)) rfl ?_
              refine xk_if_ne (tgt := 112) hx hb (by omega) dX2_isWell_105 (by decide) (fun hc_105 => ?_) (fun hc_105 => ?_)
              · refine lv_iconst (v := nI 0) hx hb dX2_isWell_112 (by decide) ?_
                refine lv_istore_n (lv' := [(1, .int (nI 0)), (5, .int (nI (A 0 (14 + 7 * ((A 0 (14 + 7 * b9 + 2)) - 1))))), (4, .int (nI (A 0 (14 + 7 * ((A 0 (14 + 7 * b9 + 1)) - 1))))), (3, .int (nI (14 + 7 * b9))), (0, .ref o), (2, .int (nI b9))]) hx hb dX2_isWell_113 rfl hl (by decide) rfl (fun ls hl => ?_)
                refine lv_iinc (v := nI (b9 + 1)) (lv' := [(2, .int (nI (b9 + 1))), (1, .int (nI 0)), (5, .int (nI (A 0 (14 + 7 * ((A 0 (14 + 7 * b9 + 2)) - 1))))), (4, .int (nI (A 0 (14 + 7 * ((A 0 (14 + 7 * b9 + 1)) - 1))))), (3, .int (nI (14 + 7 * b9))), (0, .ref o)]) hx hb dX2_isWell_114 hl (k := 5) rfl (xk_inc b9) (by decide) rfl (fun ls hl => ?_)
                refine lv_goto (tgt := 4) hx hb dX2_isWell_117 (by decide) ?_
                exact ih_4 (b9 + 1) false _ _ (by omega) (by show _ = (if 0 < A 0 (14 + 7 * b9 + 1) ∧ A 0 (14 + 7 * b9 + 6) = 0 then tl_wel (A 0) b9 && decide (tl_wel1 (A 0) b9 = 0) else tl_wel (A 0) b9); rw [← hv1, if_pos ⟨hc_27, hc_39⟩, hc_83, decide_eq_false (by omega)]; rfl) (by omega) hI_10 ls (lv_sub hl [5, 1, 0] rfl)
              · refine lv_iconst (v := nI 1) hx hb dX2_isWell_108 (by decide) ?_
                refine lv_goto (tgt := 113) hx hb dX2_isWell_109 (by decide) ?_
                refine lv_istore_n (lv' := [(1, .int (nI 1)), (5, .int (nI (A 0 (14 + 7 * ((A 0 (14 + 7 * b9 + 2)) - 1))))), (4, .int (nI (A 0 (14 + 7 * ((A 0 (14 + 7 * b9 + 1)) - 1))))), (3, .int (nI (14 + 7 * b9))), (0, .ref o), (2, .int (nI b9))]) hx hb dX2_isWell_113 rfl hl (by decide) rfl (fun ls hl => ?_)
                refine lv_iinc (v := nI (b9 + 1)) (lv' := [(2, .int (nI (b9 + 1))), (1, .int (nI 1)), (5, .int (nI (A 0 (14 + 7 * ((A 0 (14 + 7 * b9 + 2)) - 1))))), (4, .int (nI (A 0 (14 + 7 * ((A 0 (14 + 7 * b9 + 1)) - 1))))), (3, .int (nI (14 + 7 * b9))), (0, .ref o)]) hx hb dX2_isWell_114 hl (k := 5) rfl (xk_inc b9) (by decide) rfl (fun ls hl => ?_)
                refine lv_goto (tgt := 4) hx hb dX2_isWell_117 (by decide) ?_
                exact ih_4 (b9 + 1) true _ _ (by omega) (by show _ = (if 0 < A 0 (14 + 7 * b9 + 1) ∧ A 0 (14 + 7 * b9 + 6) = 0 then tl_wel (A 0) b9 && decide (tl_wel1 (A 0) b9 = 0) else tl_wel (A 0) b9); rw [← hv1, if_pos ⟨hc_27, hc_39⟩, hc_83, decide_eq_true hc_105]; rfl) (by omega) hI_10 ls (lv_sub hl [5, 1, 0] rfl)
  exact hloop_4 (A 0 0 - 0 + 1) 0 true _ _ (by omega) (by rfl) (Nat.lt_succ_self _) hI ls (lv_sub hl [2, 1, 0] rfl)
set_option maxHeartbeats 4000000 in
theorem m2_undo (g : xk_G) {X : xk_H} {o : Nat} {ad : Nat → Nat} {A : Nat → Nat → Nat} {S : Nat → Nat} (hM : tm_Ok g X o ad A S) (hk : tl_inv (A 0)) (hS1 : S 1 ≤ 8) : xk_C g yX2_undo (ws_ yX2_undo cX2_undo 2 (some .int)) ({ frames := 0, cells := 0, slots := 0, locals := 0 } : Room) [.ref o] X (xk_Qi (if S 1 = 0 then -4 else nI (S 1 - 1)) (fun X1 => tm_Ok g X1 o ad (if S 1 = 0 then A else va_up A 0 (tl_un1 S A)) (if S 1 = 0 then S else va_up S 1 (S 1 - 1)) ∧ xk_fr o X X1)) := by
  refine xk_ofW (by decide +kernel) (Nat.le_of_ble_eq_true rfl) (fun p e s m args below meth c B hr hname hargs hI ls hl => ?_)
  have B : xk_B g p s m args meth c RX2 cX2_undo 2 := B
  have hl : lv_has ls 2 [(0, .ref o)] := hl
  have hx := B.1
  have hb := B.2.1
  have hM0 := hM
  obtain ⟨hO, hA0, hA1, hA2, hA3, hA4, hA5, hA6, hA7, hA8, hA9⟩ := hM
  have hk0 := hk
  obtain ⟨k0, kb, kw, kl, ks, kr1, kr2, kwt, kL⟩ := hk
  have hfr : xk_fr o X X := xk_fr.rf
  refine lv_aload_n hx hb dX2_undo_0 rfl (lv_at hl 0 rfl) ?_
  refine xk_get B hI hO rfl in_X2 6 (by decide) q1438 rfl dX2_undo_1 ?_
  refine xk_if_ne (tgt := 10) hx hb (by omega) dX2_undo_4 (by decide) (fun hc_4 => ?_) (fun hc_4 => ?_)
  · refine lv_aload_n hx hb dX2_undo_10 rfl (lv_at hl 0 rfl) ?_
    refine lv_dup hx hb dX2_undo_11 rfl ?_
    refine xk_get B hI hO rfl in_X2 6 (by decide) q1438 rfl dX2_undo_12 ?_
    refine lv_iconst (v := nI 1) hx hb dX2_undo_15 (by decide) ?_
    refine lv_isub hx hb dX2_undo_16 (xk_top (pk_sub (by omega)) ?_)
    refine xk_put B hI hO rfl in_X2 tyX2 tyX2_ok nmX2 6 (by decide) q1438 rfl rfl rfl (Nat.le_of_ble_eq_true rfl) dX2_undo_17 (fun X_1 H_5 L_6 hf_3 hn_2 hI_4 => ?_)
    have hf_3 : X_1 o = some ((o, 0), .inr (0, [.ref (ad 0), .ref (ad 1), .ref (ad 2), .ref (ad 3), .int (nI (S 0)), .ref (ad 4), .int (nI ((S 1) - 1)), .int (nI (S 2)), .int (nI (S 3)), .int (tm_it (S 4)), .ref (ad 5), .int (nI (S 5)), .ref (ad 6), .ref (ad 7), .ref (ad 8), .int (nI (S 6)), .ref (ad 9), .int (nI (S 7)), .int (nI (S 8)), .int (nI (S 9)), .int (nI (S 10))])) := hf_3
    have hfr_7 := xk_fr.put hfr hO hn_2
    refine lv_iconst (v := nI 0) hx hb dX2_undo_20 (by decide) ?_
    refine lv_istore_n (lv' := [(1, .int (nI 0)), (0, .ref o)]) hx hb dX2_undo_21 rfl hl (by decide) rfl (fun ls hl => ?_)
    have hf_8 := xk_off hn_2 hA0 hO (xk_on1 (by decide))
    have hloop_22 : ∀ (n_22 : Nat) (k : Nat) (f : Nat → Nat) (Xl_22 : xk_H) (H_9 : Heap) (L_10 : List Loc), (k ≤ 294) → (f = tl_cp (fun j => A 4 (294 * (S 1 - 1) + j)) (A 0) k) → 294 - k < n_22 → Xl_22 (ad 0) = some ((o, 1), xk_iA g 0 294 f) → (∀ b, b ≠ (ad 0) → Xl_22 b = X_1 b) → (xk_fr o X Xl_22) → xk_I g s H_9 Xl_22 L_10 → ∀ ls : Array Slot, lv_has ls 2 [(0, .ref o), (1, .int (nI k))] → W p (xk_l g) e (({ frames := 0, cells := 0, slots := 0, locals := 0 } : Room)) s m args below meth c H_9 L_10 0 0 (MQ below (xk_Q g (xk_Qi (if S 1 = 0 then -4 else nI (S 1 - 1)) (fun X1 => tm_Ok g X1 o ad (if S 1 = 0 then A else va_up A 0 (tl_un1 S A)) (if S 1 = 0 then S else va_up S 1 (S 1 - 1)) ∧ xk_fr o X X1))) args s (0) (0) (xk_A g)) (F0 m 22 ls []) := by
      intro n_22
      induction n_22 with
      | zero => intros; omega
      | succ n_22 ih_22 =>
        intro k f Xl_22 H_9 L_10 hk1 hf1 hm_22 hfl0_22 hne_22 hfrl_22 hI_11 ls hl
        refine lv_iload_n hx hb dX2_undo_22 rfl (lv_at hl 1 rfl) ?_
        refine lv_sipush (v := nI 294) hx hb dX2_undo_23 (by decide) ?_
        refine xk_icmp_ge (tgt := 56) hx hb (by omega) (by omega) dX2_undo_26 (by decide) (fun hc_26 => ?_) (fun hc_26 => ?_)
        · have hk2 : k = 294 := by omega
          subst hk2
          refine lv_aload_n hx hb dX2_undo_56 rfl (lv_at hl 0 rfl) ?_
          have hf_12 := (hne_22 _ (xk_ne hf_8 hf_3 (xk_on1 (by decide)))).trans hf_3
          refine xk_get B hI_11 hf_12 rfl in_X2 6 (by decide) q1438 rfl dX2_undo_57 ?_
          have hf_13 := xk_off hn_2 hA1 hO (xk_on1 (by decide))
          have hf_14 := (hne_22 _ (xk_ne hf_8 hf_13 (xk_on1 (by decide)))).trans hf_13
          have hf_15 := xk_off hn_2 hA2 hO (xk_on1 (by decide))
          have hf_16 := (hne_22 _ (xk_ne hf_8 hf_15 (xk_on1 (by decide)))).trans hf_15
          have hf_17 := xk_off hn_2 hA3 hO (xk_on1 (by decide))
          have hf_18 := (hne_22 _ (xk_ne hf_8 hf_17 (xk_on1 (by decide)))).trans hf_17
          have hf_19 := xk_off hn_2 hA4 hO (xk_on1 (by decide))
          have hf_20 := (hne_22 _ (xk_ne hf_8 hf_19 (xk_on1 (by decide)))).trans hf_19
          have hf_21 := xk_off hn_2 hA5 hO (xk_on1 (by decide))
          have hf_22 := (hne_22 _ (xk_ne hf_8 hf_21 (xk_on1 (by decide)))).trans hf_21
          have hf_23 := xk_off hn_2 hA6 hO (xk_on1 (by decide))
          have hf_24 := (hne_22 _ (xk_ne hf_8 hf_23 (xk_on1 (by decide)))).trans hf_23
          have hf_25 := xk_off hn_2 hA7 hO (xk_on1 (by decide))
          have hf_26 := (hne_22 _ (xk_ne hf_8 hf_25 (xk_on1 (by decide)))).trans hf_25
          have hf_27 := xk_off hn_2 hA8 hO (xk_on1 (by decide))
          have hf_28 := (hne_22 _ (xk_ne hf_8 hf_27 (xk_on1 (by decide)))).trans hf_27
          have hf_29 := xk_off hn_2 hA9 hO (xk_on1 (by decide))
          have hf_30 := (hne_22 _ (xk_ne hf_8 hf_29 (xk_on1 (by decide)))).trans hf_29
          have hM_31 : tm_Ok g Xl_22 o ad (va_up A 0 f) (va_up S 1 ((S 1) - 1)) := ⟨hf_12, hfl0_22, hf_14, hf_16, hf_18, hf_20, hf_22, hf_24, hf_26, hf_28, hf_30⟩
          exact xk_reti B hI_11 hr rfl dX2_undo_60 (Nat.le_of_ble_eq_true rfl) (Nat.le_of_ble_eq_true rfl) ((by rw [if_neg (by omega), if_neg (by omega), if_neg (by omega), show tl_un1 S A = f from hf1.symm]; exact ⟨rfl, hM_31, hfrl_22⟩))
        · refine lv_aload_n hx hb dX2_undo_29 rfl (lv_at hl 0 rfl) ?_
          have hf_32 := (hne_22 _ (xk_ne hf_8 hf_3 (xk_on1 (by decide)))).trans hf_3
          refine xk_get B hI_11 hf_32 rfl in_X2 0 (by decide) q1432 rfl dX2_undo_30 ?_
          refine lv_iload_n hx hb dX2_undo_33 rfl (lv_at hl 1 rfl) ?_
          refine lv_aload_n hx hb dX2_undo_34 rfl (lv_at hl 0 rfl) ?_
          refine xk_get B hI_11 hf_32 rfl in_X2 5 (by decide) q1437 rfl dX2_undo_35 ?_
          refine lv_sipush (v := nI 294) hx hb dX2_undo_38 (by decide) ?_
          refine lv_aload_n hx hb dX2_undo_41 rfl (lv_at hl 0 rfl) ?_
          refine xk_get B hI_11 hf_32 rfl in_X2 6 (by decide) q1438 rfl dX2_undo_42 ?_
          refine lv_imul hx hb dX2_undo_45 (xk_top (pk_mul _ _) ?_)
          refine lv_iload_n hx hb dX2_undo_46 rfl (lv_at hl 1 rfl) ?_
          refine lv_iadd hx hb dX2_undo_47 (xk_top (nI_add _ _) ?_)
          have hf_33 := xk_off hn_2 hA4 hO (xk_on1 (by decide))
          have hf_34 := (hne_22 _ (xk_ne hf_8 hf_33 (xk_on1 (by decide)))).trans hf_33
          refine xk_iald B hI_11 hf_34 (by omega) (by decide) dX2_undo_48 ?_
          refine xk_iast B hI_11 hfl0_22 (by omega) (by decide) dX2_undo_49 (fun X_35 H_39 L_40 hf_37 hn_36 hI_38 => ?_)
          have hfr_41 := xk_fr.put hfrl_22 hfl0_22 hn_36
          refine lv_iinc (v := nI (k + 1)) (lv' := [(1, .int (nI (k + 1))), (0, .ref o)]) hx hb dX2_undo_50 hl (k := 1) rfl (xk_inc k) (by decide) rfl (fun ls hl => ?_)
          refine lv_goto (tgt := 22) hx hb dX2_undo_53 (by decide) ?_
          exact ih_22 (k + 1) (va_up f k (A 4 ((294 * ((S 1) - 1)) + k))) X_35 _ _ (by omega) (by rw [hf1]; exact tl_cp_s _ _ _) (by omega) hf_37 (fun b z0 => ((hn_36 b z0).trans (hne_22 b z0))) hfr_41 hI_38 ls (lv_sub hl [1, 0] rfl)
    exact hloop_22 (294 - 0 + 1) 0 (A 0) X_1 _ _ (by omega) (by exact (tl_cp_0 _ _).symm) (Nat.lt_succ_self _) hf_8 (fun _ _ => rfl) hfr_7 hI_4 ls (lv_sub hl [1, 0] rfl)
  · refine lv_bipush (v := (-4)) hx hb dX2_undo_7 (by decide) ?_
    exact xk_reti B hI hr rfl dX2_undo_9 (Nat.le_of_ble_eq_true rfl) (Nat.le_of_ble_eq_true rfl) ((by rw [if_pos hc_4, if_pos hc_4, if_pos hc_4]; exact ⟨rfl, hM0, hfr⟩))
set_option maxHeartbeats 4000000 in
theorem m2_save (g : xk_G) {X : xk_H} {o : Nat} {ad : Nat → Nat} {A : Nat → Nat → Nat} {S : Nat → Nat} (hM : tm_Ok g X o ad A S) (hk : tl_inv (A 0))  : xk_C g yX2_save (ws_ yX2_save cX2_save 2 (some .int)) ({ frames := 2, cells := 0, slots := 0, locals := 42 } : Room) [.ref o] X (xk_Qi (nI (tl_liv (A 0) (A 0 0))) (fun X1 => tm_Ok g X1 o ad (va_up A 3 (tl_cp (A 0) (A 3) 294)) (va_up S 0 1) ∧ xk_fr o X X1)) := by
  refine xk_ofW (by decide +kernel) (Nat.le_of_ble_eq_true rfl) (fun p e s m args below meth c B hr hname hargs hI ls hl => ?_)
  have B : xk_B g p s m args meth c RX2 cX2_save 2 := B
  have hl : lv_has ls 2 [(0, .ref o)] := hl
  have hx := B.1
  have hb := B.2.1
  have hM0 := hM
  obtain ⟨hO, hA0, hA1, hA2, hA3, hA4, hA5, hA6, hA7, hA8, hA9⟩ := hM
  have hk0 := hk
  obtain ⟨k0, kb, kw, kl, ks, kr1, kr2, kwt, kL⟩ := hk
  have hfr : xk_fr o X X := xk_fr.rf
  refine lv_iconst (v := nI 0) hx hb dX2_save_0 (by decide) ?_
  refine lv_istore_n (lv' := [(1, .int (nI 0)), (0, .ref o)]) hx hb dX2_save_1 rfl hl (by decide) rfl (fun ls hl => ?_)
  have hloop_2 : ∀ (n_2 : Nat) (k : Nat) (f : Nat → Nat) (Xl_2 : xk_H) (H_1 : Heap) (L_2 : List Loc), (k ≤ 294) → (f = tl_cp (A 0) (A 3) k) → 294 - k < n_2 → Xl_2 (ad 3) = some ((o, 4), xk_iA g 0 294 f) → (∀ b, b ≠ (ad 3) → Xl_2 b = X b) → (xk_fr o X Xl_2) → xk_I g s H_1 Xl_2 L_2 → ∀ ls : Array Slot, lv_has ls 2 [(0, .ref o), (1, .int (nI k))] → W p (xk_l g) e (({ frames := 2, cells := 0, slots := 0, locals := 42 } : Room)) s m args below meth c H_1 L_2 0 0 (MQ below (xk_Q g (xk_Qi (nI (tl_liv (A 0) (A 0 0))) (fun X1 => tm_Ok g X1 o ad (va_up A 3 (tl_cp (A 0) (A 3) 294)) (va_up S 0 1) ∧ xk_fr o X X1))) args s (0) (0) (xk_A g)) (F0 m 2 ls []) := by
    intro n_2
    induction n_2 with
    | zero => intros; omega
    | succ n_2 ih_2 =>
      intro k f Xl_2 H_1 L_2 hk1 hf1 hm_2 hfl0_2 hne_2 hfrl_2 hI_3 ls hl
      refine lv_iload_n hx hb dX2_save_2 rfl (lv_at hl 1 rfl) ?_
      refine lv_sipush (v := nI 294) hx hb dX2_save_3 (by decide) ?_
      refine xk_icmp_ge (tgt := 27) hx hb (by omega) (by omega) dX2_save_6 (by decide) (fun hc_6 => ?_) (fun hc_6 => ?_)
      · have hk2 : k = 294 := by omega
        subst hk2
        subst hf1
        refine lv_aload_n hx hb dX2_save_27 rfl (lv_at hl 0 rfl) ?_
        refine lv_iconst (v := nI 1) hx hb dX2_save_28 (by decide) ?_
        have hf_4 := (hne_2 _ (xk_ne hA3 hO (xk_on1 (by decide)))).trans hO
        refine xk_put B hI_3 hf_4 rfl in_X2 tyX2 tyX2_ok nmX2 4 (by decide) q1436 rfl (by decide) (by decide) (Nat.le_of_ble_eq_true rfl) dX2_save_29 (fun X_5 H_9 L_10 hf_7 hn_6 hI_8 => ?_)
        have hf_7 : X_5 o = some ((o, 0), .inr (0, [.ref (ad 0), .ref (ad 1), .ref (ad 2), .ref (ad 3), .int (nI 1), .ref (ad 4), .int (nI (S 1)), .int (nI (S 2)), .int (nI (S 3)), .int (tm_it (S 4)), .ref (ad 5), .int (nI (S 5)), .ref (ad 6), .ref (ad 7), .ref (ad 8), .int (nI (S 6)), .ref (ad 9), .int (nI (S 7)), .int (nI (S 8)), .int (nI (S 9)), .int (nI (S 10))])) := hf_7
        have hfr_11 := xk_fr.put hfrl_2 hf_4 hn_6
        refine lv_aload_n hx hb dX2_save_32 rfl (lv_at hl 0 rfl) ?_
        have hf_12 := (hne_2 _ (xk_ne hA3 hA0 (xk_on1 (by decide)))).trans hA0
        have hf_13 := xk_off hn_6 hf_12 hf_4 (xk_on1 (by decide))
        have hf_14 := (hne_2 _ (xk_ne hA3 hA1 (xk_on1 (by decide)))).trans hA1
        have hf_15 := xk_off hn_6 hf_14 hf_4 (xk_on1 (by decide))
        have hf_16 := (hne_2 _ (xk_ne hA3 hA2 (xk_on1 (by decide)))).trans hA2
        have hf_17 := xk_off hn_6 hf_16 hf_4 (xk_on1 (by decide))
        have hf_18 := xk_off hn_6 hfl0_2 hf_4 (xk_on1 (by decide))
        have hf_19 := (hne_2 _ (xk_ne hA3 hA4 (xk_on1 (by decide)))).trans hA4
        have hf_20 := xk_off hn_6 hf_19 hf_4 (xk_on1 (by decide))
        have hf_21 := (hne_2 _ (xk_ne hA3 hA5 (xk_on1 (by decide)))).trans hA5
        have hf_22 := xk_off hn_6 hf_21 hf_4 (xk_on1 (by decide))
        have hf_23 := (hne_2 _ (xk_ne hA3 hA6 (xk_on1 (by decide)))).trans hA6
        have hf_24 := xk_off hn_6 hf_23 hf_4 (xk_on1 (by decide))
        have hf_25 := (hne_2 _ (xk_ne hA3 hA7 (xk_on1 (by decide)))).trans hA7
        have hf_26 := xk_off hn_6 hf_25 hf_4 (xk_on1 (by decide))
        have hf_27 := (hne_2 _ (xk_ne hA3 hA8 (xk_on1 (by decide)))).trans hA8
        have hf_28 := xk_off hn_6 hf_27 hf_4 (xk_on1 (by decide))
        have hf_29 := (hne_2 _ (xk_ne hA3 hA9 (xk_on1 (by decide)))).trans hA9
        have hf_30 := xk_off hn_6 hf_29 hf_4 (xk_on1 (by decide))
        have hM_31 : tm_Ok g X_5 o ad (va_up A 3 (tl_cp (A 0) (A 3) 294)) (va_up S 0 1) := ⟨hf_7, hf_13, hf_15, hf_17, hf_18, hf_20, hf_22, hf_24, hf_26, hf_28, hf_30⟩
        refine xk_ri0 (xk_cV B hI_8 hl [] [] 0 (m2_living g hM_31 hk0 ) hf_7 rfl (lw_V q1520 q1522 qs33 q79 q1523) ⟨rfl, by decide +kernel, by decide +kernel, by decide +kernel⟩ ⟨Nat.le_of_ble_eq_true rfl, Nat.le_of_ble_eq_true rfl⟩ rfl rfl (Nat.le_of_ble_eq_true rfl) dX2_save_33 (Nat.le_of_ble_eq_true rfl) (Nat.le_of_ble_eq_true rfl)) hI_8 (fun H_33 L_34 hI_32 => ?_)
        refine xk_top (y := nI (tl_liv (A 0) ((A 0) 0))) rfl ?_
        exact xk_reti B hI_32 hr rfl dX2_save_36 (Nat.le_of_ble_eq_true rfl) (Nat.le_of_ble_eq_true rfl) (⟨rfl, hM_31, hfr_11⟩)
      · refine lv_aload_n hx hb dX2_save_9 rfl (lv_at hl 0 rfl) ?_
        have hf_35 := (hne_2 _ (xk_ne hA3 hO (xk_on1 (by decide)))).trans hO
        refine xk_get B hI_3 hf_35 rfl in_X2 3 (by decide) q1435 rfl dX2_save_10 ?_
        refine lv_iload_n hx hb dX2_save_13 rfl (lv_at hl 1 rfl) ?_
        refine lv_aload_n hx hb dX2_save_14 rfl (lv_at hl 0 rfl) ?_
        refine xk_get B hI_3 hf_35 rfl in_X2 0 (by decide) q1432 rfl dX2_save_15 ?_
        refine lv_iload_n hx hb dX2_save_18 rfl (lv_at hl 1 rfl) ?_
        have hf_36 := (hne_2 _ (xk_ne hA3 hA0 (xk_on1 (by decide)))).trans hA0
        refine xk_iald B hI_3 hf_36 (by omega) (by decide) dX2_save_19 ?_
        refine xk_iast B hI_3 hfl0_2 (by omega) (by decide) dX2_save_20 (fun X_37 H_41 L_42 hf_39 hn_38 hI_40 => ?_)
        have hfr_43 := xk_fr.put hfrl_2 hfl0_2 hn_38
        refine lv_iinc (v := nI (k + 1)) (lv' := [(1, .int (nI (k + 1))), (0, .ref o)]) hx hb dX2_save_21 hl (k := 1) rfl (xk_inc k) (by decide) rfl (fun ls hl => ?_)
        refine lv_goto (tgt := 2) hx hb dX2_save_24 (by decide) ?_
        exact ih_2 (k + 1) (va_up f k (A 0 k)) X_37 _ _ (by omega) (by rw [hf1]; exact tl_cp_s _ _ _) (by omega) hf_39 (fun b z0 => ((hn_38 b z0).trans (hne_2 b z0))) hfr_43 hI_40 ls (lv_sub hl [1, 0] rfl)
  exact hloop_2 (294 - 0 + 1) 0 (A 3) X _ _ (by omega) (by exact (tl_cp_0 _ _).symm) (Nat.lt_succ_self _) hA3 (fun _ _ => rfl) hfr hI ls (lv_sub hl [1, 0] rfl)
set_option maxHeartbeats 4000000 in
theorem m2_restore (g : xk_G) {X : xk_H} {o : Nat} {ad : Nat → Nat} {A : Nat → Nat → Nat} {S : Nat → Nat} (hM : tm_Ok g X o ad A S) (hk : tl_inv (A 0)) (hS0 : S 0 ≤ 1) (hk3 : tl_inv (tl_cp (A 3) (A 0) 294)) : xk_C g yX2_restore (ws_ yX2_restore cX2_restore 2 (some .int)) ({ frames := 2, cells := 0, slots := 0, locals := 42 } : Room) [.ref o] X (xk_Qi (if S 0 = 0 then -4 else nI (tl_liv (tl_cp (A 3) (A 0) 294) (tl_cp (A 3) (A 0) 294 0))) (fun X1 => tm_Ok g X1 o ad (if S 0 = 0 then A else va_up A 0 (tl_cp (A 3) (A 0) 294)) (if S 0 = 0 then S else va_up S 1 0) ∧ xk_fr o X X1)) := by
  refine xk_ofW (by decide +kernel) (Nat.le_of_ble_eq_true rfl) (fun p e s m args below meth c B hr hname hargs hI ls hl => ?_)
  have B : xk_B g p s m args meth c RX2 cX2_restore 2 := B
  have hl : lv_has ls 2 [(0, .ref o)] := hl
  have hx := B.1
  have hb := B.2.1
  have hM0 := hM
  obtain ⟨hO, hA0, hA1, hA2, hA3, hA4, hA5, hA6, hA7, hA8, hA9⟩ := hM
  have hk0 := hk
  obtain ⟨k0, kb, kw, kl, ks, kr1, kr2, kwt, kL⟩ := hk
  have hfr : xk_fr o X X := xk_fr.rf
  refine lv_aload_n hx hb dX2_restore_0 rfl (lv_at hl 0 rfl) ?_
  refine xk_get B hI hO rfl in_X2 4 (by decide) q1436 rfl dX2_restore_1 ?_
  refine xk_if_ne (tgt := 10) hx hb (by omega) dX2_restore_4 (by decide) (fun hc_4 => ?_) (fun hc_4 => ?_)
  · refine lv_iconst (v := nI 0) hx hb dX2_restore_10 (by decide) ?_
    refine lv_istore_n (lv' := [(1, .int (nI 0)), (0, .ref o)]) hx hb dX2_restore_11 rfl hl (by decide) rfl (fun ls hl => ?_)
    have hloop_12 : ∀ (n_12 : Nat) (k : Nat) (f : Nat → Nat) (Xl_12 : xk_H) (H_1 : Heap) (L_2 : List Loc), (k ≤ 294) → (f = tl_cp (A 3) (A 0) k) → 294 - k < n_12 → Xl_12 (ad 0) = some ((o, 1), xk_iA g 0 294 f) → (∀ b, b ≠ (ad 0) → Xl_12 b = X b) → (xk_fr o X Xl_12) → xk_I g s H_1 Xl_12 L_2 → ∀ ls : Array Slot, lv_has ls 2 [(0, .ref o), (1, .int (nI k))] → W p (xk_l g) e (({ frames := 2, cells := 0, slots := 0, locals := 42 } : Room)) s m args below meth c H_1 L_2 0 0 (MQ below (xk_Q g (xk_Qi (if S 0 = 0 then -4 else nI (tl_liv (tl_cp (A 3) (A 0) 294) (tl_cp (A 3) (A 0) 294 0))) (fun X1 => tm_Ok g X1 o ad (if S 0 = 0 then A else va_up A 0 (tl_cp (A 3) (A 0) 294)) (if S 0 = 0 then S else va_up S 1 0) ∧ xk_fr o X X1))) args s (0) (0) (xk_A g)) (F0 m 12 ls []) := by
      intro n_12
      induction n_12 with
      | zero => intros; omega
      | succ n_12 ih_12 =>
        intro k f Xl_12 H_1 L_2 hk1 hf1 hm_12 hfl0_12 hne_12 hfrl_12 hI_3 ls hl
        refine lv_iload_n hx hb dX2_restore_12 rfl (lv_at hl 1 rfl) ?_
        refine lv_sipush (v := nI 294) hx hb dX2_restore_13 (by decide) ?_
        refine xk_icmp_ge (tgt := 37) hx hb (by omega) (by omega) dX2_restore_16 (by decide) (fun hc_16 => ?_) (fun hc_16 => ?_)
        · have hk2 : k = 294 := by omega
          subst hk2
          subst hf1
          refine lv_aload_n hx hb dX2_restore_37 rfl (lv_at hl 0 rfl) ?_
          refine lv_iconst (v := nI 0) hx hb dX2_restore_38 (by decide) ?_
          have hf_4 := (hne_12 _ (xk_ne hA0 hO (xk_on1 (by decide)))).trans hO
          refine xk_put B hI_3 hf_4 rfl in_X2 tyX2 tyX2_ok nmX2 6 (by decide) q1438 rfl rfl rfl (Nat.le_of_ble_eq_true rfl) dX2_restore_39 (fun X_5 H_9 L_10 hf_7 hn_6 hI_8 => ?_)
          have hf_7 : X_5 o = some ((o, 0), .inr (0, [.ref (ad 0), .ref (ad 1), .ref (ad 2), .ref (ad 3), .int (nI (S 0)), .ref (ad 4), .int (nI 0), .int (nI (S 2)), .int (nI (S 3)), .int (tm_it (S 4)), .ref (ad 5), .int (nI (S 5)), .ref (ad 6), .ref (ad 7), .ref (ad 8), .int (nI (S 6)), .ref (ad 9), .int (nI (S 7)), .int (nI (S 8)), .int (nI (S 9)), .int (nI (S 10))])) := hf_7
          have hfr_11 := xk_fr.put hfrl_12 hf_4 hn_6
          refine lv_aload_n hx hb dX2_restore_42 rfl (lv_at hl 0 rfl) ?_
          have hf_12 := xk_off hn_6 hfl0_12 hf_4 (xk_on1 (by decide))
          have hf_13 := (hne_12 _ (xk_ne hA0 hA1 (xk_on1 (by decide)))).trans hA1
          have hf_14 := xk_off hn_6 hf_13 hf_4 (xk_on1 (by decide))
          have hf_15 := (hne_12 _ (xk_ne hA0 hA2 (xk_on1 (by decide)))).trans hA2
          have hf_16 := xk_off hn_6 hf_15 hf_4 (xk_on1 (by decide))
          have hf_17 := (hne_12 _ (xk_ne hA0 hA3 (xk_on1 (by decide)))).trans hA3
          have hf_18 := xk_off hn_6 hf_17 hf_4 (xk_on1 (by decide))
          have hf_19 := (hne_12 _ (xk_ne hA0 hA4 (xk_on1 (by decide)))).trans hA4
          have hf_20 := xk_off hn_6 hf_19 hf_4 (xk_on1 (by decide))
          have hf_21 := (hne_12 _ (xk_ne hA0 hA5 (xk_on1 (by decide)))).trans hA5
          have hf_22 := xk_off hn_6 hf_21 hf_4 (xk_on1 (by decide))
          have hf_23 := (hne_12 _ (xk_ne hA0 hA6 (xk_on1 (by decide)))).trans hA6
          have hf_24 := xk_off hn_6 hf_23 hf_4 (xk_on1 (by decide))
          have hf_25 := (hne_12 _ (xk_ne hA0 hA7 (xk_on1 (by decide)))).trans hA7
          have hf_26 := xk_off hn_6 hf_25 hf_4 (xk_on1 (by decide))
          have hf_27 := (hne_12 _ (xk_ne hA0 hA8 (xk_on1 (by decide)))).trans hA8
          have hf_28 := xk_off hn_6 hf_27 hf_4 (xk_on1 (by decide))
          have hf_29 := (hne_12 _ (xk_ne hA0 hA9 (xk_on1 (by decide)))).trans hA9
          have hf_30 := xk_off hn_6 hf_29 hf_4 (xk_on1 (by decide))
          have hM_31 : tm_Ok g X_5 o ad (va_up A 0 (tl_cp (A 3) (A 0) 294)) (va_up S 1 0) := ⟨hf_7, hf_12, hf_14, hf_16, hf_18, hf_20, hf_22, hf_24, hf_26, hf_28, hf_30⟩
          refine xk_ri0 (xk_cV B hI_8 hl [] [] 0 (m2_living g hM_31 hk3 ) hf_7 rfl (lw_V q1520 q1522 qs33 q79 q1523) ⟨rfl, by decide +kernel, by decide +kernel, by decide +kernel⟩ ⟨Nat.le_of_ble_eq_true rfl, Nat.le_of_ble_eq_true rfl⟩ rfl rfl (Nat.le_of_ble_eq_true rfl) dX2_restore_43 (Nat.le_of_ble_eq_true rfl) (Nat.le_of_ble_eq_true rfl)) hI_8 (fun H_33 L_34 hI_32 => ?_)
          refine xk_top (y := nI (tl_liv (tl_cp (A 3) (A 0) 294) ((tl_cp (A 3) (A 0) 294) 0))) rfl ?_
          exact xk_reti B hI_32 hr rfl dX2_restore_46 (Nat.le_of_ble_eq_true rfl) (Nat.le_of_ble_eq_true rfl) ((by rw [if_neg (by omega), if_neg (by omega), if_neg (by omega)]; exact ⟨rfl, hM_31, hfr_11⟩))
        · refine lv_aload_n hx hb dX2_restore_19 rfl (lv_at hl 0 rfl) ?_
          have hf_35 := (hne_12 _ (xk_ne hA0 hO (xk_on1 (by decide)))).trans hO
          refine xk_get B hI_3 hf_35 rfl in_X2 0 (by decide) q1432 rfl dX2_restore_20 ?_
          refine lv_iload_n hx hb dX2_restore_23 rfl (lv_at hl 1 rfl) ?_
          refine lv_aload_n hx hb dX2_restore_24 rfl (lv_at hl 0 rfl) ?_
          refine xk_get B hI_3 hf_35 rfl in_X2 3 (by decide) q1435 rfl dX2_restore_25 ?_
          refine lv_iload_n hx hb dX2_restore_28 rfl (lv_at hl 1 rfl) ?_
          have hf_36 := (hne_12 _ (xk_ne hA0 hA3 (xk_on1 (by decide)))).trans hA3
          refine xk_iald B hI_3 hf_36 (by omega) (by decide) dX2_restore_29 ?_
          refine xk_iast B hI_3 hfl0_12 (by omega) (by decide) dX2_restore_30 (fun X_37 H_41 L_42 hf_39 hn_38 hI_40 => ?_)
          have hfr_43 := xk_fr.put hfrl_12 hfl0_12 hn_38
          refine lv_iinc (v := nI (k + 1)) (lv' := [(1, .int (nI (k + 1))), (0, .ref o)]) hx hb dX2_restore_31 hl (k := 1) rfl (xk_inc k) (by decide) rfl (fun ls hl => ?_)
          refine lv_goto (tgt := 12) hx hb dX2_restore_34 (by decide) ?_
          exact ih_12 (k + 1) (va_up f k (A 3 k)) X_37 _ _ (by omega) (by rw [hf1]; exact tl_cp_s _ _ _) (by omega) hf_39 (fun b z0 => ((hn_38 b z0).trans (hne_12 b z0))) hfr_43 hI_40 ls (lv_sub hl [1, 0] rfl)
    exact hloop_12 (294 - 0 + 1) 0 (A 0) X _ _ (by omega) (by exact (tl_cp_0 _ _).symm) (Nat.lt_succ_self _) hA0 (fun _ _ => rfl) hfr hI ls (lv_sub hl [1, 0] rfl)
  · refine lv_bipush (v := (-4)) hx hb dX2_restore_7 (by decide) ?_
    exact xk_reti B hI hr rfl dX2_restore_9 (Nat.le_of_ble_eq_true rfl) (Nat.le_of_ble_eq_true rfl) ((by rw [if_pos hc_4, if_pos hc_4, if_pos hc_4]; exact ⟨rfl, hM0, hfr⟩))
