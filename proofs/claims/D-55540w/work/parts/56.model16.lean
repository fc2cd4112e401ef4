/-! the model: walks, printed by tools/model.py -/
set_option maxRecDepth 100000
set_option maxHeartbeats 4000000 in
theorem mj_isNaN (g : xk_G) {X : xk_H} {f9 : UInt32} (hf9 : Op.cmpValue (FP.fcmp f9 f9) .l = 0) : xk_C g yJ19_isNaN (ws_ yJ19_isNaN cJ19_isNaN 1 (some .boolean)) ({ frames := 0, cells := 0, slots := 0, locals := 0 } : Room) [.float f9] X (xk_Qi (nI 0) (fun X1 => X1 = X)) := by
  refine xk_ofWF (by decide +kernel) (Nat.le_of_ble_eq_true rfl) (fun p e s m args below meth c B hr hname hargs hI ls hl => ?_)
  have B : xk_B g p s m args meth c RJ19 cJ19_isNaN 1 := B
  have hl : lv_has ls 1 [(0, .float f9)] := hl
  have hx := B.1
  have hb := B.2.1
  refine lv_fload_n hx hb dJ19_isNaN_0 rfl (lv_at hl 0 rfl) ?_
  refine lv_fload_n hx hb dJ19_isNaN_1 rfl (lv_at hl 0 rfl) ?_
  refine lv_fcmp hx hb dJ19_isNaN_2 ?_
  refine xk_raw_if_eq_t (tgt := 10) hx hb dJ19_isNaN_3 (by decide) hf9 ?_
  refine lv_iconst (v := nI 0) hx hb dJ19_isNaN_10 (by decide) ?_
  exact xk_reti B hI hr (by decide) dJ19_isNaN_11 (Nat.le_of_ble_eq_true rfl) (Nat.le_of_ble_eq_true rfl) (⟨rfl, rfl⟩)
set_option maxHeartbeats 4000000 in
theorem mj_bits (g : xk_G) {X : xk_H} {f9 : UInt32} (hf9 : Op.cmpValue (FP.fcmp f9 f9) .l = 0) : xk_C g yJ19_floatToIntBits (ws_ yJ19_floatToIntBits cJ19_floatToIntBits 1 (some .int)) ({ frames := 1, cells := 0, slots := 0, locals := 20 } : Room) [.float f9] X (xk_Qi f9.toInt32 (fun X1 => X1 = X)) := by
  refine xk_ofWF (by decide +kernel) (Nat.le_of_ble_eq_true rfl) (fun p e s m args below meth c B hr hname hargs hI ls hl => ?_)
  have B : xk_B g p s m args meth c RJ19 cJ19_floatToIntBits 1 := B
  have hl : lv_has ls 1 [(0, .float f9)] := hl
  have hx := B.1
  have hb := B.2.1
  refine lv_fload_n hx hb dJ19_floatToIntBits_0 rfl (lv_at hl 0 rfl) ?_
  refine xk_ri0 (xk_cS B hI hl [.float f9] [] 1 (mj_isNaN g hf9) (lw_S q1381 q1382 q101 q1383) ⟨by decide +kernel, by decide +kernel, by decide +kernel⟩ ⟨Nat.le_of_ble_eq_true rfl, Nat.le_of_ble_eq_true rfl⟩ rfl rfl (Nat.le_of_ble_eq_true rfl) dJ19_floatToIntBits_1 (Nat.le_of_ble_eq_true rfl) (Nat.le_of_ble_eq_true rfl)) hI (fun H_2 L_3 hI_1 => ?_)
  refine xk_top (y := nI 0) rfl ?_
  refine xk_if_ne_f (tgt := 12) hx hb (by omega) dJ19_floatToIntBits_4 (by decide) (by decide) ?_
  refine lv_fload_n hx hb dJ19_floatToIntBits_7 rfl (lv_at hl 0 rfl) ?_
  refine vn_f2i hx hb (B.2.2.1.trans hl.1.symm) B.ow (B.ts _ q1384) (B.ts _ q1386) (B.ts _ q1385) (B.ts _ q101) (Nat.le_of_ble_eq_true rfl) (Nat.le_of_ble_eq_true rfl) dJ19_floatToIntBits_8 ?_
  exact xk_reti B hI_1 hr rfl dJ19_floatToIntBits_11 (Nat.le_of_ble_eq_true rfl) (Nat.le_of_ble_eq_true rfl) (⟨rfl, rfl⟩)
set_option maxHeartbeats 4000000 in
theorem m2_mean (g : xk_G) {X : xk_H} {o : Nat} {ad : Nat → Nat} {A : Nat → Nat → Nat} {S : Nat → Nat} (hM : tm_Ok g X o ad A S) (hk : tl_inv (A 0))  : xk_C g yX2_mean (ws_ yX2_mean cX2_mean 4 (some .int)) ({ frames := 2, cells := 0, slots := 0, locals := 42 } : Room) [.ref o] X (xk_Qi (tl_mean (A 0)) (fun X1 => X1 = X)) := by
  refine xk_ofW (by decide +kernel) (Nat.le_of_ble_eq_true rfl) (fun p e s m args below meth c B hr hname hargs hI ls hl => ?_)
  have B : xk_B g p s m args meth c RX2 cX2_mean 4 := B
  have hl : lv_has ls 4 [(0, .ref o)] := hl
  have hx := B.1
  have hb := B.2.1
  have hM0 := hM
  obtain ⟨hO, hA0, hA1, hA2, hA3, hA4, hA5, hA6, hA7, hA8, hA9⟩ := hM
  have hk0 := hk
  obtain ⟨k0, kb, kw, kl, ks, kr1, kr2, kwt, kL⟩ := hk
  have hfr : xk_fr o X X := xk_fr.rf
  refine lv_aload_n hx hb dX2_mean_0 rfl (lv_at hl 0 rfl) ?_
  refine xk_ri0 (xk_cV B hI hl [] [] 0 (m2_living g hM0 hk0 ) hO rfl (lw_V q1520 q1522 qs33 q79 q1523) ⟨rfl, by decide +kernel, by decide +kernel, by decide +kernel⟩ ⟨Nat.le_of_ble_eq_true rfl, Nat.le_of_ble_eq_true rfl⟩ rfl rfl (Nat.le_of_ble_eq_true rfl) dX2_mean_1 (Nat.le_of_ble_eq_true rfl) (Nat.le_of_ble_eq_true rfl)) hI (fun H_2 L_3 hI_1 => ?_)
  refine xk_top (y := nI (tl_liv (A 0) ((A 0) 0))) rfl ?_
  refine lv_istore_n (lv' := [(1, .int (nI (tl_liv (A 0) ((A 0) 0)))), (0, .ref o)]) hx hb dX2_mean_4 rfl hl (by decide) rfl (fun ls hl => ?_)
  refine lv_iconst (v := nI 0) hx hb dX2_mean_5 (by decide) ?_
  refine lv_istore_n (lv' := [(2, .int (nI 0)), (1, .int (nI (tl_liv (A 0) ((A 0) 0)))), (0, .ref o)]) hx hb dX2_mean_6 rfl hl (by decide) rfl (fun ls hl => ?_)
  refine lv_iconst (v := nI 0) hx hb dX2_mean_7 (by decide) ?_
  refine lv_istore_n (lv' := [(3, .int (nI 0)), (2, .int (nI 0)), (1, .int (nI (tl_liv (A 0) ((A 0) 0)))), (0, .ref o)]) hx hb dX2_mean_8 rfl hl (by decide) rfl (fun ls hl => ?_)
  have hloop_9 : ∀ (n_9 : Nat) (k : Nat) (c9 : Nat) (H_4 : Heap) (L_5 : List Loc), (k ≤ A 0 0) → (c9 = tl_ms (A 0) k) → A 0 0 - k < n_9 → xk_I g s H_4 X L_5 → ∀ ls : Array Slot, lv_has ls 4 [(0, .ref o), (1, .int (nI (tl_liv (A 0) (A 0 0)))), (2, .int (nI c9)), (3, .int (nI k))] → W p (xk_l g) e (({ frames := 2, cells := 0, slots := 0, locals := 42 } : Room)) s m args below meth c H_4 L_5 0 0 (MQ below (xk_Q g (xk_Qi (tl_mean (A 0)) (fun X1 => X1 = X))) args s (0) (0) (xk_A g)) (F0 m 9 ls []) := by
    intro n_9
    induction n_9 with
    | zero => intros; omega
    | succ n_9 ih_9 =>
      intro k c9 H_4 L_5 hk1 hc1 hm_9  hI_6 ls hl
      refine lv_iload_n hx hb dX2_mean_9 rfl (lv_at hl 3 rfl) ?_
      refine lv_aload_n hx hb dX2_mean_10 rfl (lv_at hl 0 rfl) ?_
      refine xk_get B hI_6 hO rfl in_X2 0 (by decide) q1432 rfl dX2_mean_11 ?_
      refine lv_iconst (v := nI 0) hx hb dX2_mean_14 (by decide) ?_
      refine xk_iald B hI_6 hA0 (by omega) (by decide) dX2_mean_15 ?_
      refine xk_icmp_ge (tgt := 53) hx hb (by omega) (by omega) dX2_mean_16 (by decide) (fun hc_16 => ?_) (fun hc_16 => ?_)
      · have q1 : k = A 0 0 := by omega
        have qs := tl_ms_le kwt k
        rw [q1] at qs
        refine lv_iload_n hx hb dX2_mean_53 rfl (lv_at hl 1 rfl) ?_
        refine xk_if_ne (tgt := 62) hx hb (by omega) dX2_mean_54 (by decide) (fun hc_54 => ?_) (fun hc_54 => ?_)
        · have hfl := tl_fl_ok (a := c9) (n := tl_liv (A 0) (A 0 0)) (by rw [hc1, q1]; omega) (by omega) (by omega)
          refine lv_iload_n hx hb dX2_mean_62 rfl (lv_at hl 2 rfl) ?_
          refine lv_i2f hx hb dX2_mean_63 ?_
          refine lv_iload_n hx hb dX2_mean_64 rfl (lv_at hl 1 rfl) ?_
          refine lv_i2f hx hb dX2_mean_65 ?_
          refine lv_fdiv hx hb dX2_mean_66 hfl.1 ?_
          refine xk_ri0 (xk_cS B hI_6 hl [.float (FP.fdiv (FP.i2f (nI c9)) (FP.i2f (nI (tl_liv (A 0) (A 0 0)))))] [] 1 (mj_bits g (f9 := FP.fdiv (FP.i2f (nI c9)) (FP.i2f (nI (tl_liv (A 0) (A 0 0))))) hfl.2) (lw_S q1793 q1379 q101 q1380) ⟨by decide +kernel, by decide +kernel, by decide +kernel⟩ ⟨Nat.le_of_ble_eq_true rfl, Nat.le_of_ble_eq_true rfl⟩ rfl rfl (Nat.le_of_ble_eq_true rfl) dX2_mean_67 (Nat.le_of_ble_eq_true rfl) (Nat.le_of_ble_eq_true rfl)) hI_6 (fun H_8 L_9 hI_7 => ?_)
          refine xk_top (y := (FP.fdiv (FP.i2f (nI c9)) (FP.i2f (nI (tl_liv (A 0) (A 0 0))))).toInt32) rfl ?_
          exact xk_reti B hI_7 hr rfl dX2_mean_70 (Nat.le_of_ble_eq_true rfl) (Nat.le_of_ble_eq_true rfl) (⟨by unfold tl_mean; rw [if_neg (by omega), show tl_ms (A 0) (A 0 0) = c9 by rw [hc1, q1]]; exact congrArg (fun z => some (Value.int z)) (xk_hide_eq (tl_fl c9 (tl_liv (A 0) (A 0 0))).toInt32).symm, rfl⟩)
        · refine lv_bipush (v := (-4)) hx hb dX2_mean_57 (by decide) ?_
          refine lv_goto (tgt := 70) hx hb dX2_mean_59 (by decide) ?_
          exact xk_reti B hI_6 hr rfl dX2_mean_70 (Nat.le_of_ble_eq_true rfl) (Nat.le_of_ble_eq_true rfl) (⟨by unfold tl_mean; rw [if_pos hc_54], rfl⟩)
      · have qb := kb k hc_16
        have qs := tl_ms_le kwt k
        have qm := tl_liv_mono (m := A 0) (n := k) (k := A 0 0) hk1
        refine lv_iload_n hx hb dX2_mean_19 rfl (lv_at hl 2 rfl) ?_
        refine lv_aload_n hx hb dX2_mean_20 rfl (lv_at hl 0 rfl) ?_
        refine lv_iload_n hx hb dX2_mean_21 rfl (lv_at hl 3 rfl) ?_
        refine xk_ri0 (xk_cV B hI_6 hl [.int (nI k)] [.int (nI c9)] 1 (m2_lives g hM0 (b := k) (by omega) (show A 0 (14 + 7 * k + 3) < 2147483648 from by first | omega | (have := kb k (by omega); omega))) hO rfl (lw_V q1548 q1550 qs38 q79 q1551) ⟨rfl, by decide +kernel, by decide +kernel, by decide +kernel⟩ ⟨Nat.le_of_ble_eq_true rfl, Nat.le_of_ble_eq_true rfl⟩ rfl rfl (Nat.le_of_ble_eq_true rfl) dX2_mean_22 (Nat.le_of_ble_eq_true rfl) (Nat.le_of_ble_eq_true rfl)) hI_6 (fun H_11 L_12 hI_10 => ?_)
        refine xk_top (y := xk_z (tl_al (A 0) k)) rfl ?_
        refine xk_if_eq_z (tgt := 44) hx hb dX2_mean_25 (by decide) (fun hc_25 => ?_) (fun hc_25 => ?_)
        · refine lv_iconst (v := nI 0) hx hb dX2_mean_44 (by decide) ?_
          refine lv_iadd hx hb dX2_mean_45 (xk_top (nI_add _ _) ?_)
          refine lv_istore_n (lv' := [(2, .int (nI (c9 + 0))), (0, .ref o), (1, .int (nI (tl_liv (A 0) (A 0 0)))), (3, .int (nI k))]) hx hb dX2_mean_46 rfl hl (by decide) rfl (fun ls hl => ?_)
          refine lv_iinc (v := nI (k + 1)) (lv' := [(3, .int (nI (k + 1))), (2, .int (nI (c9 + 0))), (0, .ref o), (1, .int (nI (tl_liv (A 0) (A 0 0))))]) hx hb dX2_mean_47 hl (k := 3) rfl (xk_inc k) (by decide) rfl (fun ls hl => ?_)
          refine lv_goto (tgt := 9) hx hb dX2_mean_50 (by decide) ?_
          exact ih_9 (k + 1) (c9 + 0) _ _ (by omega) (by show _ = tl_ms (A 0) k + (if tl_al (A 0) k = true then tl_wor (A 0) (A 0 (14 + 7 * k)) 8 else 0); rw [← hc1, if_neg (by rw [hc_25]; decide)]) (by omega) hI_10 ls (lv_sub hl [2, 3, 1, 0] rfl)
        · refine lv_aload_n hx hb dX2_mean_28 rfl (lv_at hl 0 rfl) ?_
          refine lv_aload_n hx hb dX2_mean_29 rfl (lv_at hl 0 rfl) ?_
          refine xk_get B hI_10 hO rfl in_X2 0 (by decide) q1432 rfl dX2_mean_30 ?_
          refine lv_iload_n hx hb dX2_mean_33 rfl (lv_at hl 3 rfl) ?_
          refine xk_ri0 (xk_cS B hI_10 hl [.int (nI k)] [.ref (ad 0), .ref o, .int (nI c9)] 1 (m2_of g k) (lw_S q1524 q1525 q79 q1526) ⟨by decide +kernel, by decide +kernel, by decide +kernel⟩ ⟨Nat.le_of_ble_eq_true rfl, Nat.le_of_ble_eq_true rfl⟩ rfl rfl (Nat.le_of_ble_eq_true rfl) dX2_mean_34 (Nat.le_of_ble_eq_true rfl) (Nat.le_of_ble_eq_true rfl)) hI_10 (fun H_14 L_15 hI_13 => ?_)
          refine xk_top (y := nI (14 + 7 * k)) rfl ?_
          refine xk_iald B hI_13 hA0 (by omega) (by decide) dX2_mean_37 ?_
          refine xk_ri0 (xk_cV B hI_13 hl [.int (nI (A 0 (14 + 7 * k)))] [.int (nI c9)] 1 (m2_worth g hM0 hk0 (pt := A 0 (14 + 7 * k)) (by omega)) hO rfl (lw_V q1636 q1638 qs52 q79 q1639) ⟨rfl, by decide +kernel, by decide +kernel, by decide +kernel⟩ ⟨Nat.le_of_ble_eq_true rfl, Nat.le_of_ble_eq_true rfl⟩ rfl rfl (Nat.le_of_ble_eq_true rfl) dX2_mean_38 (Nat.le_of_ble_eq_true rfl) (Nat.le_of_ble_eq_true rfl)) hI_13 (fun H_17 L_18 hI_16 => ?_)
          refine xk_top (y := nI (tl_wor (A 0) (A 0 (14 + 7 * k)) 8)) rfl ?_
          refine lv_goto (tgt := 45) hx hb dX2_mean_41 (by decide) ?_
          refine lv_iadd hx hb dX2_mean_45 (xk_top (nI_add _ _) ?_)
          refine lv_istore_n (lv' := [(2, .int (nI (c9 + (tl_wor (A 0) (A 0 (14 + 7 * k)) 8)))), (0, .ref o), (1, .int (nI (tl_liv (A 0) (A 0 0)))), (3, .int (nI k))]) hx hb dX2_mean_46 rfl hl (by decide) rfl (fun ls hl => ?_)
          refine lv_iinc (v := nI (k + 1)) (lv' := [(3, .int (nI (k + 1))), (2, .int (nI (c9 + (tl_wor (A 0) (A 0 (14 + 7 * k)) 8)))), (0, .ref o), (1, .int (nI (tl_liv (A 0) (A 0 0))))]) hx hb dX2_mean_47 hl (k := 3) rfl (xk_inc k) (by decide) rfl (fun ls hl => ?_)
          refine lv_goto (tgt := 9) hx hb dX2_mean_50 (by decide) ?_
          exact ih_9 (k + 1) (c9 + (tl_wor (A 0) (A 0 (14 + 7 * k)) 8)) _ _ (by omega) (by show _ = tl_ms (A 0) k + (if tl_al (A 0) k = true then tl_wor (A 0) (A 0 (14 + 7 * k)) 8 else 0); rw [← hc1, if_pos hc_25]) (by omega) hI_16 ls (lv_sub hl [2, 3, 1, 0] rfl)
  exact hloop_9 (A 0 0 - 0 + 1) 0 0 _ _ (by omega) (by rfl) (Nat.lt_succ_self _) hI_1 ls (lv_sub hl [3, 2, 1, 0] rfl)
