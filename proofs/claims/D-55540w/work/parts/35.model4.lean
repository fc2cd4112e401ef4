/-! the model: walks, printed by tools/model.py -/
set_option maxRecDepth 100000
set_option maxHeartbeats 4000000 in
theorem m2_wantIt (g : xk_G) {X : xk_H} {o : Nat} {ad : Nat → Nat} {A : Nat → Nat → Nat} {S : Nat → Nat} (hM : tm_Ok g X o ad A S) (hk : tl_inv (A 0)) (x : Int32) : xk_C g yX2_wantIt (ws_ yX2_wantIt cX2_wantIt 2 (some .int)) ({ frames := 2, cells := 0, slots := 0, locals := 50 } : Room) [.ref o, .int x] X (xk_Qi (tl_r (tl_set (A 0) 2 x 0 255)) (fun X1 => tm_Ok g X1 o ad (va_up A 0 (tl_m (A 0) (tl_set (A 0) 2 x 0 255))) (tl_S S (tl_set (A 0) 2 x 0 255)) ∧ xk_fr o X X1)) := by
  refine xk_ofW (by decide +kernel) (Nat.le_of_ble_eq_true rfl) (fun p e s m args below meth c B hr hname hargs hI ls hl => ?_)
  have B : xk_B g p s m args meth c RX2 cX2_wantIt 2 := B
  have hl : lv_has ls 2 [(0, .ref o), (1, .int x)] := hl
  have hx := B.1
  have hb := B.2.1
  have hM0 := hM
  obtain ⟨hO, hA0, hA1, hA2, hA3, hA4, hA5, hA6, hA7, hA8, hA9⟩ := hM
  have hk0 := hk
  obtain ⟨k0, kb, kw, kl, ks, kr1, kr2, kwt, kL⟩ := hk
  have hfr : xk_fr o X X := xk_fr.rf
  refine lv_aload_n hx hb dX2_wantIt_0 rfl (lv_at hl 0 rfl) ?_
  refine lv_iconst (v := nI 2) hx hb dX2_wantIt_1 (by decide) ?_
  refine lv_iload_n hx hb dX2_wantIt_2 rfl (lv_at hl 1 rfl) ?_
  refine lv_iconst (v := nI 0) hx hb dX2_wantIt_3 (by decide) ?_
  refine lv_sipush (v := nI 255) hx hb dX2_wantIt_4 (by decide) ?_
  refine xk_ri (xk_cV B hI hl [.int (nI 2), .int x, .int (nI 0), .int (nI 255)] [] 4 (m2_setIt g hM0 (w9 := 2) x (lo := 0) (hi := 255) (by omega) (by omega) (by decide) (by decide)) hO rfl (lw_V q1581 q1583 qs44 q79 q1584) ⟨rfl, by decide +kernel, by decide +kernel, by decide +kernel⟩ ⟨Nat.le_of_ble_eq_true rfl, Nat.le_of_ble_eq_true rfl⟩ rfl rfl (Nat.le_of_ble_eq_true rfl) dX2_wantIt_7 (Nat.le_of_ble_eq_true rfl) (Nat.le_of_ble_eq_true rfl)) hI (fun X_4 H_2 L_3 hq_5 hI_1 => ?_)
  refine xk_top (y := tl_r (tl_set (A 0) 2 x 0 255)) rfl ?_
  obtain ⟨hM_6, hfr_7⟩ := hq_5
  obtain ⟨hf_8, hf_9, hf_10, hf_11, hf_12, hf_13, hf_14, hf_15, hf_16, hf_17, hf_18⟩ := id hM_6
  have hfr_19 := xk_fr.tr hfr hfr_7
  have hf_9 : X_4 (ad 0) = some ((o, 1), xk_iA g 0 294 (tl_m (A 0) (tl_set (A 0) 2 x 0 255))) := hf_9
  have hf_10 : X_4 (ad 1) = some ((o, 2), xk_iA g 0 294 (A 1)) := hf_10
  have hf_11 : X_4 (ad 2) = some ((o, 3), xk_iA g 0 294 (A 2)) := hf_11
  have hf_12 : X_4 (ad 3) = some ((o, 4), xk_iA g 0 294 (A 3)) := hf_12
  have hf_13 : X_4 (ad 4) = some ((o, 5), xk_iA g 0 2352 (A 4)) := hf_13
  have hf_14 : X_4 (ad 5) = some ((o, 6), xk_iA g 0 70 (A 5)) := hf_14
  have hf_15 : X_4 (ad 6) = some ((o, 7), xk_iA g 2 40 (A 6)) := hf_15
  have hf_16 : X_4 (ad 7) = some ((o, 8), xk_iA g 2 40 (A 7)) := hf_16
  have hf_17 : X_4 (ad 8) = some ((o, 9), xk_iA g 0 60 (A 8)) := hf_17
  have hf_18 : X_4 (ad 9) = some ((o, 10), xk_iA g 0 284 (A 9)) := hf_18
  have hf_8 : X_4 o = some ((o, 0), .inr (0, [.ref (ad 0), .ref (ad 1), .ref (ad 2), .ref (ad 3), .int (nI (tl_S S (tl_set (A 0) 2 x 0 255) 0)), .ref (ad 4), .int (nI (tl_S S (tl_set (A 0) 2 x 0 255) 1)), .int (nI (tl_S S (tl_set (A 0) 2 x 0 255) 2)), .int (nI (tl_S S (tl_set (A 0) 2 x 0 255) 3)), .int (tm_it (tl_S S (tl_set (A 0) 2 x 0 255) 4)), .ref (ad 5), .int (nI (tl_S S (tl_set (A 0) 2 x 0 255) 5)), .ref (ad 6), .ref (ad 7), .ref (ad 8), .int (nI (tl_S S (tl_set (A 0) 2 x 0 255) 6)), .ref (ad 9), .int (nI (tl_S S (tl_set (A 0) 2 x 0 255) 7)), .int (nI (tl_S S (tl_set (A 0) 2 x 0 255) 8)), .int (nI (tl_S S (tl_set (A 0) 2 x 0 255) 9)), .int (nI (tl_S S (tl_set (A 0) 2 x 0 255) 10))])) := hf_8
  have hM_20 : tm_Ok g X_4 o ad (va_up A 0 (tl_m (A 0) (tl_set (A 0) 2 x 0 255))) (tl_S S (tl_set (A 0) 2 x 0 255)) := ⟨hf_8, hf_9, hf_10, hf_11, hf_12, hf_13, hf_14, hf_15, hf_16, hf_17, hf_18⟩
  exact xk_reti B hI_1 hr rfl dX2_wantIt_10 (Nat.le_of_ble_eq_true rfl) (Nat.le_of_ble_eq_true rfl) (⟨rfl, hM_20, hfr_19⟩)
set_option maxHeartbeats 4000000 in
theorem m2_luckIt (g : xk_G) {X : xk_H} {o : Nat} {ad : Nat → Nat} {A : Nat → Nat → Nat} {S : Nat → Nat} (hM : tm_Ok g X o ad A S) (hk : tl_inv (A 0)) (x : Int32) : xk_C g yX2_luckIt (ws_ yX2_luckIt cX2_luckIt 2 (some .int)) ({ frames := 2, cells := 0, slots := 0, locals := 50 } : Room) [.ref o, .int x] X (xk_Qi (tl_r (tl_set (A 0) 3 x 0 100)) (fun X1 => tm_Ok g X1 o ad (va_up A 0 (tl_m (A 0) (tl_set (A 0) 3 x 0 100))) (tl_S S (tl_set (A 0) 3 x 0 100)) ∧ xk_fr o X X1)) := by
  refine xk_ofW (by decide +kernel) (Nat.le_of_ble_eq_true rfl) (fun p e s m args below meth c B hr hname hargs hI ls hl => ?_)
  have B : xk_B g p s m args meth c RX2 cX2_luckIt 2 := B
  have hl : lv_has ls 2 [(0, .ref o), (1, .int x)] := hl
  have hx := B.1
  have hb := B.2.1
  have hM0 := hM
  obtain ⟨hO, hA0, hA1, hA2, hA3, hA4, hA5, hA6, hA7, hA8, hA9⟩ := hM
  have hk0 := hk
  obtain ⟨k0, kb, kw, kl, ks, kr1, kr2, kwt, kL⟩ := hk
  have hfr : xk_fr o X X := xk_fr.rf
  refine lv_aload_n hx hb dX2_luckIt_0 rfl (lv_at hl 0 rfl) ?_
  refine lv_iconst (v := nI 3) hx hb dX2_luckIt_1 (by decide) ?_
  refine lv_iload_n hx hb dX2_luckIt_2 rfl (lv_at hl 1 rfl) ?_
  refine lv_iconst (v := nI 0) hx hb dX2_luckIt_3 (by decide) ?_
  refine lv_bipush (v := nI 100) hx hb dX2_luckIt_4 (by decide) ?_
  refine xk_ri (xk_cV B hI hl [.int (nI 3), .int x, .int (nI 0), .int (nI 100)] [] 4 (m2_setIt g hM0 (w9 := 3) x (lo := 0) (hi := 100) (by omega) (by omega) (by decide) (by decide)) hO rfl (lw_V q1581 q1583 qs44 q79 q1584) ⟨rfl, by decide +kernel, by decide +kernel, by decide +kernel⟩ ⟨Nat.le_of_ble_eq_true rfl, Nat.le_of_ble_eq_true rfl⟩ rfl rfl (Nat.le_of_ble_eq_true rfl) dX2_luckIt_6 (Nat.le_of_ble_eq_true rfl) (Nat.le_of_ble_eq_true rfl)) hI (fun X_4 H_2 L_3 hq_5 hI_1 => ?_)
  refine xk_top (y := tl_r (tl_set (A 0) 3 x 0 100)) rfl ?_
  obtain ⟨hM_6, hfr_7⟩ := hq_5
  obtain ⟨hf_8, hf_9, hf_10, hf_11, hf_12, hf_13, hf_14, hf_15, hf_16, hf_17, hf_18⟩ := id hM_6
  have hfr_19 := xk_fr.tr hfr hfr_7
  have hf_9 : X_4 (ad 0) = some ((o, 1), xk_iA g 0 294 (tl_m (A 0) (tl_set (A 0) 3 x 0 100))) := hf_9
  have hf_10 : X_4 (ad 1) = some ((o, 2), xk_iA g 0 294 (A 1)) := hf_10
  have hf_11 : X_4 (ad 2) = some ((o, 3), xk_iA g 0 294 (A 2)) := hf_11
  have hf_12 : X_4 (ad 3) = some ((o, 4), xk_iA g 0 294 (A 3)) := hf_12
  have hf_13 : X_4 (ad 4) = some ((o, 5), xk_iA g 0 2352 (A 4)) := hf_13
  have hf_14 : X_4 (ad 5) = some ((o, 6), xk_iA g 0 70 (A 5)) := hf_14
  have hf_15 : X_4 (ad 6) = some ((o, 7), xk_iA g 2 40 (A 6)) := hf_15
  have hf_16 : X_4 (ad 7) = some ((o, 8), xk_iA g 2 40 (A 7)) := hf_16
  have hf_17 : X_4 (ad 8) = some ((o, 9), xk_iA g 0 60 (A 8)) := hf_17
  have hf_18 : X_4 (ad 9) = some ((o, 10), xk_iA g 0 284 (A 9)) := hf_18
  have hf_8 : X_4 o = some ((o, 0), .inr (0, [.ref (ad 0), .ref (ad 1), .ref (ad 2), .ref (ad 3), .int (nI (tl_S S (tl_set (A 0) 3 x 0 100) 0)), .ref (ad 4), .int (nI (tl_S S (tl_set (A 0) 3 x 0 100) 1)), .int (nI (tl_S S (tl_set (A 0) 3 x 0 100) 2)), .int (nI (tl_S S (tl_set (A 0) 3 x 0 100) 3)), .int (tm_it (tl_S S (tl_set (A 0) 3 x 0 100) 4)), .ref (ad 5), .int (nI (tl_S S (tl_set (A 0) 3 x 0 100) 5)), .ref (ad 6), .ref (ad 7), .ref (ad 8), .int (nI (tl_S S (tl_set (A 0) 3 x 0 100) 6)), .ref (ad 9), .int (nI (tl_S S (tl_set (A 0) 3 x 0 100) 7)), .int (nI (tl_S S (tl_set (A 0) 3 x 0 100) 8)), .int (nI (tl_S S (tl_set (A 0) 3 x 0 100) 9)), .int (nI (tl_S S (tl_set (A 0) 3 x 0 100) 10))])) := hf_8
  have hM_20 : tm_Ok g X_4 o ad (va_up A 0 (tl_m (A 0) (tl_set (A 0) 3 x 0 100))) (tl_S S (tl_set (A 0) 3 x 0 100)) := ⟨hf_8, hf_9, hf_10, hf_11, hf_12, hf_13, hf_14, hf_15, hf_16, hf_17, hf_18⟩
  exact xk_reti B hI_1 hr rfl dX2_luckIt_9 (Nat.le_of_ble_eq_true rfl) (Nat.le_of_ble_eq_true rfl) (⟨rfl, hM_20, hfr_19⟩)
set_option maxHeartbeats 4000000 in
theorem m2_roomIt (g : xk_G) {X : xk_H} {o : Nat} {ad : Nat → Nat} {A : Nat → Nat → Nat} {S : Nat → Nat} (hM : tm_Ok g X o ad A S) (hk : tl_inv (A 0)) (x : Int32) : xk_C g yX2_roomIt (ws_ yX2_roomIt cX2_roomIt 2 (some .int)) ({ frames := 2, cells := 0, slots := 0, locals := 50 } : Room) [.ref o, .int x] X (xk_Qi (tl_r (tl_set (A 0) 5 x 2 12)) (fun X1 => tm_Ok g X1 o ad (va_up A 0 (tl_m (A 0) (tl_set (A 0) 5 x 2 12))) (tl_S S (tl_set (A 0) 5 x 2 12)) ∧ xk_fr o X X1)) := by
  refine xk_ofW (by decide +kernel) (Nat.le_of_ble_eq_true rfl) (fun p e s m args below meth c B hr hname hargs hI ls hl => ?_)
  have B : xk_B g p s m args meth c RX2 cX2_roomIt 2 := B
  have hl : lv_has ls 2 [(0, .ref o), (1, .int x)] := hl
  have hx := B.1
  have hb := B.2.1
  have hM0 := hM
  obtain ⟨hO, hA0, hA1, hA2, hA3, hA4, hA5, hA6, hA7, hA8, hA9⟩ := hM
  have hk0 := hk
  obtain ⟨k0, kb, kw, kl, ks, kr1, kr2, kwt, kL⟩ := hk
  have hfr : xk_fr o X X := xk_fr.rf
  refine lv_aload_n hx hb dX2_roomIt_0 rfl (lv_at hl 0 rfl) ?_
  refine lv_iconst (v := nI 5) hx hb dX2_roomIt_1 (by decide) ?_
  refine lv_iload_n hx hb dX2_roomIt_2 rfl (lv_at hl 1 rfl) ?_
  refine lv_iconst (v := nI 2) hx hb dX2_roomIt_3 (by decide) ?_
  refine lv_bipush (v := nI 12) hx hb dX2_roomIt_4 (by decide) ?_
  refine xk_ri (xk_cV B hI hl [.int (nI 5), .int x, .int (nI 2), .int (nI 12)] [] 4 (m2_setIt g hM0 (w9 := 5) x (lo := 2) (hi := 12) (by omega) (by omega) (by decide) (by decide)) hO rfl (lw_V q1581 q1583 qs44 q79 q1584) ⟨rfl, by decide +kernel, by decide +kernel, by decide +kernel⟩ ⟨Nat.le_of_ble_eq_true rfl, Nat.le_of_ble_eq_true rfl⟩ rfl rfl (Nat.le_of_ble_eq_true rfl) dX2_roomIt_6 (Nat.le_of_ble_eq_true rfl) (Nat.le_of_ble_eq_true rfl)) hI (fun X_4 H_2 L_3 hq_5 hI_1 => ?_)
  refine xk_top (y := tl_r (tl_set (A 0) 5 x 2 12)) rfl ?_
  obtain ⟨hM_6, hfr_7⟩ := hq_5
  obtain ⟨hf_8, hf_9, hf_10, hf_11, hf_12, hf_13, hf_14, hf_15, hf_16, hf_17, hf_18⟩ := id hM_6
  have hfr_19 := xk_fr.tr hfr hfr_7
  have hf_9 : X_4 (ad 0) = some ((o, 1), xk_iA g 0 294 (tl_m (A 0) (tl_set (A 0) 5 x 2 12))) := hf_9
  have hf_10 : X_4 (ad 1) = some ((o, 2), xk_iA g 0 294 (A 1)) := hf_10
  have hf_11 : X_4 (ad 2) = some ((o, 3), xk_iA g 0 294 (A 2)) := hf_11
  have hf_12 : X_4 (ad 3) = some ((o, 4), xk_iA g 0 294 (A 3)) := hf_12
  have hf_13 : X_4 (ad 4) = some ((o, 5), xk_iA g 0 2352 (A 4)) := hf_13
  have hf_14 : X_4 (ad 5) = some ((o, 6), xk_iA g 0 70 (A 5)) := hf_14
  have hf_15 : X_4 (ad 6) = some ((o, 7), xk_iA g 2 40 (A 6)) := hf_15
  have hf_16 : X_4 (ad 7) = some ((o, 8), xk_iA g 2 40 (A 7)) := hf_16
  have hf_17 : X_4 (ad 8) = some ((o, 9), xk_iA g 0 60 (A 8)) := hf_17
  have hf_18 : X_4 (ad 9) = some ((o, 10), xk_iA g 0 284 (A 9)) := hf_18
  have hf_8 : X_4 o = some ((o, 0), .inr (0, [.ref (ad 0), .ref (ad 1), .ref (ad 2), .ref (ad 3), .int (nI (tl_S S (tl_set (A 0) 5 x 2 12) 0)), .ref (ad 4), .int (nI (tl_S S (tl_set (A 0) 5 x 2 12) 1)), .int (nI (tl_S S (tl_set (A 0) 5 x 2 12) 2)), .int (nI (tl_S S (tl_set (A 0) 5 x 2 12) 3)), .int (tm_it (tl_S S (tl_set (A 0) 5 x 2 12) 4)), .ref (ad 5), .int (nI (tl_S S (tl_set (A 0) 5 x 2 12) 5)), .ref (ad 6), .ref (ad 7), .ref (ad 8), .int (nI (tl_S S (tl_set (A 0) 5 x 2 12) 6)), .ref (ad 9), .int (nI (tl_S S (tl_set (A 0) 5 x 2 12) 7)), .int (nI (tl_S S (tl_set (A 0) 5 x 2 12) 8)), .int (nI (tl_S S (tl_set (A 0) 5 x 2 12) 9)), .int (nI (tl_S S (tl_set (A 0) 5 x 2 12) 10))])) := hf_8
  have hM_20 : tm_Ok g X_4 o ad (va_up A 0 (tl_m (A 0) (tl_set (A 0) 5 x 2 12))) (tl_S S (tl_set (A 0) 5 x 2 12)) := ⟨hf_8, hf_9, hf_10, hf_11, hf_12, hf_13, hf_14, hf_15, hf_16, hf_17, hf_18⟩
  exact xk_reti B hI_1 hr rfl dX2_roomIt_9 (Nat.le_of_ble_eq_true rfl) (Nat.le_of_ble_eq_true rfl) (⟨rfl, hM_20, hfr_19⟩)
set_option maxHeartbeats 4000000 in
theorem m2_heavyIt (g : xk_G) {X : xk_H} {o : Nat} {ad : Nat → Nat} {A : Nat → Nat → Nat} {S : Nat → Nat} (hM : tm_Ok g X o ad A S) (hk : tl_inv (A 0)) (x y : Int32) : xk_C g yX2_heavyIt (ws_ yX2_heavyIt cX2_heavyIt 3 (some .int)) ({ frames := 2, cells := 0, slots := 0, locals := 50 } : Room) [.ref o, .int x, .int y] X (xk_Qi (tl_r (tl_heavy (A 0) x y)) (fun X1 => tm_Ok g X1 o ad (va_up A 0 (tl_m (A 0) (tl_heavy (A 0) x y))) (tl_S S (tl_heavy (A 0) x y)) ∧ xk_fr o X X1)) := by
  refine xk_ofW (by decide +kernel) (Nat.le_of_ble_eq_true rfl) (fun p e s m args below meth c B hr hname hargs hI ls hl => ?_)
  have B : xk_B g p s m args meth c RX2 cX2_heavyIt 3 := B
  have hl : lv_has ls 3 [(0, .ref o), (1, .int x), (2, .int y)] := hl
  have hx := B.1
  have hb := B.2.1
  have hM0 := hM
  obtain ⟨hO, hA0, hA1, hA2, hA3, hA4, hA5, hA6, hA7, hA8, hA9⟩ := hM
  have hk0 := hk
  obtain ⟨k0, kb, kw, kl, ks, kr1, kr2, kwt, kL⟩ := hk
  have hfr : xk_fr o X X := xk_fr.rf
  refine lv_iload_n hx hb dX2_heavyIt_0 rfl (lv_at hl 1 rfl) ?_
  refine lv_i2l hx hb dX2_heavyIt_1 rfl ?_
  refine lv_lconst (v := 0) hx hb dX2_heavyIt_2 (by decide) ?_
  refine lv_ldc2 hx hb B.ow (B.ts _ q1593) dX2_heavyIt_3 ?_
  refine xk_ri0 (xk_cS B hI hl [.long ((x).toInt64), .long (0 : Int64), .long (7 : Int64)] [] 3 (m2_in g (x := (x).toInt) (lo := 0) (hi := 7) (Int32.toInt_toInt64 _) (by decide) (by decide)) (lw_S q1509 q1510 q79 q1511) ⟨by decide +kernel, by decide +kernel, by decide +kernel⟩ ⟨Nat.le_of_ble_eq_true rfl, Nat.le_of_ble_eq_true rfl⟩ rfl rfl (Nat.le_of_ble_eq_true rfl) dX2_heavyIt_6 (Nat.le_of_ble_eq_true rfl) (Nat.le_of_ble_eq_true rfl)) hI (fun H_2 L_3 hI_1 => ?_)
  refine xk_top (y := xk_z (tl_rng x 0 7)) rfl ?_
  refine xk_if_eq_z (tgt := 27) hx hb dX2_heavyIt_9 (by decide) (fun hc_9 => ?_) (fun hc_9 => ?_)
  · refine lv_iconst (v := (-1)) hx hb dX2_heavyIt_27 (by decide) ?_
    exact xk_reti B hI_1 hr rfl dX2_heavyIt_28 (Nat.le_of_ble_eq_true rfl) (Nat.le_of_ble_eq_true rfl) ((by
        have hO_28 : tl_heavy (A 0) x y = tl_wr (-1) := by unfold tl_heavy; rw [if_neg (by rw [hc_9]; decide)]
        rw [hO_28]; exact ⟨rfl, hM0, hfr⟩))
  · obtain ⟨hx1, hx2, hx3, hx4⟩ := tl_rng_k hc_9 (by decide)
    have q1 := kwt (tl_n x) (by omega)
    refine lv_aload_n hx hb dX2_heavyIt_12 rfl (lv_at hl 0 rfl) ?_
    refine lv_bipush (v := nI 6) hx hb dX2_heavyIt_13 (by decide) ?_
    refine lv_iload_n hx hb dX2_heavyIt_15 rfl (lv_at hl 1 rfl) ?_
    refine xk_top hx1 ?_
    refine lv_iadd hx hb dX2_heavyIt_16 (xk_top (nI_add _ _) ?_)
    refine lv_iload_n hx hb dX2_heavyIt_17 rfl (lv_at hl 2 rfl) ?_
    refine lv_iconst (v := nI 0) hx hb dX2_heavyIt_18 (by decide) ?_
    refine lv_bipush (v := nI 9) hx hb dX2_heavyIt_19 (by decide) ?_
    refine xk_ri (xk_cV B hI_1 hl [.int (nI (6 + (tl_n x))), .int y, .int (nI 0), .int (nI 9)] [] 4 (m2_setIt g hM0 (w9 := 6 + (tl_n x)) y (lo := 0) (hi := 9) (by omega) (by omega) (by decide) (by decide)) hO rfl (lw_V q1581 q1583 qs44 q79 q1584) ⟨rfl, by decide +kernel, by decide +kernel, by decide +kernel⟩ ⟨Nat.le_of_ble_eq_true rfl, Nat.le_of_ble_eq_true rfl⟩ rfl rfl (Nat.le_of_ble_eq_true rfl) dX2_heavyIt_21 (Nat.le_of_ble_eq_true rfl) (Nat.le_of_ble_eq_true rfl)) hI_1 (fun X_7 H_5 L_6 hq_8 hI_4 => ?_)
    refine xk_top (y := tl_r (tl_set (A 0) (6 + (tl_n x)) y 0 9)) rfl ?_
    obtain ⟨hM_9, hfr_10⟩ := hq_8
    obtain ⟨hf_11, hf_12, hf_13, hf_14, hf_15, hf_16, hf_17, hf_18, hf_19, hf_20, hf_21⟩ := id hM_9
    have hfr_22 := xk_fr.tr hfr hfr_10
    have hf_12 : X_7 (ad 0) = some ((o, 1), xk_iA g 0 294 (tl_m (A 0) (tl_set (A 0) (6 + (tl_n x)) y 0 9))) := hf_12
    have hf_13 : X_7 (ad 1) = some ((o, 2), xk_iA g 0 294 (A 1)) := hf_13
    have hf_14 : X_7 (ad 2) = some ((o, 3), xk_iA g 0 294 (A 2)) := hf_14
    have hf_15 : X_7 (ad 3) = some ((o, 4), xk_iA g 0 294 (A 3)) := hf_15
    have hf_16 : X_7 (ad 4) = some ((o, 5), xk_iA g 0 2352 (A 4)) := hf_16
    have hf_17 : X_7 (ad 5) = some ((o, 6), xk_iA g 0 70 (A 5)) := hf_17
    have hf_18 : X_7 (ad 6) = some ((o, 7), xk_iA g 2 40 (A 6)) := hf_18
    have hf_19 : X_7 (ad 7) = some ((o, 8), xk_iA g 2 40 (A 7)) := hf_19
    have hf_20 : X_7 (ad 8) = some ((o, 9), xk_iA g 0 60 (A 8)) := hf_20
    have hf_21 : X_7 (ad 9) = some ((o, 10), xk_iA g 0 284 (A 9)) := hf_21
    have hf_11 : X_7 o = some ((o, 0), .inr (0, [.ref (ad 0), .ref (ad 1), .ref (ad 2), .ref (ad 3), .int (nI (tl_S S (tl_set (A 0) (6 + (tl_n x)) y 0 9) 0)), .ref (ad 4), .int (nI (tl_S S (tl_set (A 0) (6 + (tl_n x)) y 0 9) 1)), .int (nI (tl_S S (tl_set (A 0) (6 + (tl_n x)) y 0 9) 2)), .int (nI (tl_S S (tl_set (A 0) (6 + (tl_n x)) y 0 9) 3)), .int (tm_it (tl_S S (tl_set (A 0) (6 + (tl_n x)) y 0 9) 4)), .ref (ad 5), .int (nI (tl_S S (tl_set (A 0) (6 + (tl_n x)) y 0 9) 5)), .ref (ad 6), .ref (ad 7), .ref (ad 8), .int (nI (tl_S S (tl_set (A 0) (6 + (tl_n x)) y 0 9) 6)), .ref (ad 9), .int (nI (tl_S S (tl_set (A 0) (6 + (tl_n x)) y 0 9) 7)), .int (nI (tl_S S (tl_set (A 0) (6 + (tl_n x)) y 0 9) 8)), .int (nI (tl_S S (tl_set (A 0) (6 + (tl_n x)) y 0 9) 9)), .int (nI (tl_S S (tl_set (A 0) (6 + (tl_n x)) y 0 9) 10))])) := hf_11
    refine lv_goto (tgt := 28) hx hb dX2_heavyIt_24 (by decide) ?_
    have hM_23 : tm_Ok g X_7 o ad (va_up A 0 (tl_m (A 0) (tl_set (A 0) (6 + (tl_n x)) y 0 9))) (tl_S S (tl_set (A 0) (6 + (tl_n x)) y 0 9)) := ⟨hf_11, hf_12, hf_13, hf_14, hf_15, hf_16, hf_17, hf_18, hf_19, hf_20, hf_21⟩
    exact xk_reti B hI_4 hr rfl dX2_heavyIt_28 (Nat.le_of_ble_eq_true rfl) (Nat.le_of_ble_eq_true rfl) ((by
        have hO9 : tl_heavy (A 0) x y = tl_set (A 0) (6 + tl_n x) y 0 9 := by unfold tl_heavy; rw [if_pos hc_9]
        rw [hO9]; exact ⟨rfl, hM_23, hfr_22⟩))
set_option maxHeartbeats 4000000 in
theorem m2_plant (g : xk_G) {X : xk_H} {o : Nat} {ad : Nat → Nat} {A : Nat → Nat → Nat} {S : Nat → Nat} (hM : tm_Ok g X o ad A S) (hk : tl_inv (A 0)) (x : Int32) (hS1 : S 1 ≤ 8) : xk_C g yX2_plant (ws_ yX2_plant cX2_plant 2 (some .int)) ({ frames := 4, cells := 0, slots := 0, locals := 84 } : Room) [.ref o, .int x] X (xk_Qi (tl_r (tl_plant (A 0) x)) (fun X1 => tm_Ok g X1 o ad (tl_fA A S (tl_plant (A 0) x)) (tl_fS S (tl_plant (A 0) x)) ∧ xk_fr o X X1)) := by
  refine xk_ofW (by decide +kernel) (Nat.le_of_ble_eq_true rfl) (fun p e s m args below meth c B hr hname hargs hI ls hl => ?_)
  have B : xk_B g p s m args meth c RX2 cX2_plant 2 := B
  have hl : lv_has ls 2 [(0, .ref o), (1, .int x)] := hl
  have hx := B.1
  have hb := B.2.1
  have hM0 := hM
  obtain ⟨hO, hA0, hA1, hA2, hA3, hA4, hA5, hA6, hA7, hA8, hA9⟩ := hM
  have hk0 := hk
  obtain ⟨k0, kb, kw, kl, ks, kr1, kr2, kwt, kL⟩ := hk
  have hfr : xk_fr o X X := xk_fr.rf
  refine lv_aload_n hx hb dX2_plant_0 rfl (lv_at hl 0 rfl) ?_
  refine xk_rv (xk_cV B hI hl [] [] 0 (m2_begins g hM0 ) hO rfl (lw_V q1500 q1502 qs29 q79 q1503) ⟨rfl, by decide +kernel, by decide +kernel, by decide +kernel⟩ ⟨Nat.le_of_ble_eq_true rfl, Nat.le_of_ble_eq_true rfl⟩ rfl rfl (Nat.le_of_ble_eq_true rfl) dX2_plant_1 (Nat.le_of_ble_eq_true rfl) (Nat.le_of_ble_eq_true rfl)) hI (fun X_4 H_2 L_3 hq_5 hI_1 => ?_)
  obtain ⟨hM_6, hfr_7⟩ := hq_5
  obtain ⟨hf_8, hf_9, hf_10, hf_11, hf_12, hf_13, hf_14, hf_15, hf_16, hf_17, hf_18⟩ := id hM_6
  have hfr_19 := xk_fr.tr hfr hfr_7
  have hf_9 : X_4 (ad 0) = some ((o, 1), xk_iA g 0 294 (A 0)) := hf_9
  have hf_10 : X_4 (ad 1) = some ((o, 2), xk_iA g 0 294 (tl_cp (A 0) (A 1) 294)) := hf_10
  have hf_11 : X_4 (ad 2) = some ((o, 3), xk_iA g 0 294 (A 2)) := hf_11
  have hf_12 : X_4 (ad 3) = some ((o, 4), xk_iA g 0 294 (A 3)) := hf_12
  have hf_13 : X_4 (ad 4) = some ((o, 5), xk_iA g 0 2352 (A 4)) := hf_13
  have hf_14 : X_4 (ad 5) = some ((o, 6), xk_iA g 0 70 (A 5)) := hf_14
  have hf_15 : X_4 (ad 6) = some ((o, 7), xk_iA g 2 40 (A 6)) := hf_15
  have hf_16 : X_4 (ad 7) = some ((o, 8), xk_iA g 2 40 (A 7)) := hf_16
  have hf_17 : X_4 (ad 8) = some ((o, 9), xk_iA g 0 60 (A 8)) := hf_17
  have hf_18 : X_4 (ad 9) = some ((o, 10), xk_iA g 0 284 (A 9)) := hf_18
  have hf_8 : X_4 o = some ((o, 0), .inr (0, [.ref (ad 0), .ref (ad 1), .ref (ad 2), .ref (ad 3), .int (nI (S 0)), .ref (ad 4), .int (nI (S 1)), .int (nI (S 2)), .int (nI (S 3)), .int (tm_it (S 4)), .ref (ad 5), .int (nI (S 5)), .ref (ad 6), .ref (ad 7), .ref (ad 8), .int (nI (S 6)), .ref (ad 9), .int (nI (S 7)), .int (nI (S 8)), .int (nI (S 9)), .int (nI (S 10))])) := hf_8
  refine lv_aload_n hx hb dX2_plant_4 rfl (lv_at hl 0 rfl) ?_
  refine lv_aload_n hx hb dX2_plant_5 rfl (lv_at hl 0 rfl) ?_
  refine lv_iload_n hx hb dX2_plant_6 rfl (lv_at hl 1 rfl) ?_
  have hM_20 : tm_Ok g X_4 o ad (va_up A 1 (tl_cp (A 0) (A 1) 294)) S := ⟨hf_8, hf_9, hf_10, hf_11, hf_12, hf_13, hf_14, hf_15, hf_16, hf_17, hf_18⟩
  refine xk_ri (xk_cV B hI_1 hl [.int x] [.ref o] 1 (m2_plantIt g hM_20 hk0 x) hf_8 rfl (lw_V q1504 q1506 qs30 q79 q1507) ⟨rfl, by decide +kernel, by decide +kernel, by decide +kernel⟩ ⟨Nat.le_of_ble_eq_true rfl, Nat.le_of_ble_eq_true rfl⟩ rfl rfl (Nat.le_of_ble_eq_true rfl) dX2_plant_7 (Nat.le_of_ble_eq_true rfl) (Nat.le_of_ble_eq_true rfl)) hI_1 (fun X_24 H_22 L_23 hq_25 hI_21 => ?_)
  refine xk_top (y := tl_r (tl_plant (A 0) x)) rfl ?_
  obtain ⟨hM_26, hfr_27⟩ := hq_25
  obtain ⟨hf_28, hf_29, hf_30, hf_31, hf_32, hf_33, hf_34, hf_35, hf_36, hf_37, hf_38⟩ := id hM_26
  have hfr_39 := xk_fr.tr hfr_19 hfr_27
  have hf_29 : X_24 (ad 0) = some ((o, 1), xk_iA g 0 294 (tl_m (A 0) (tl_plant (A 0) x))) := hf_29
  have hf_30 : X_24 (ad 1) = some ((o, 2), xk_iA g 0 294 (tl_cp (A 0) (A 1) 294)) := hf_30
  have hf_31 : X_24 (ad 2) = some ((o, 3), xk_iA g 0 294 (A 2)) := hf_31
  have hf_32 : X_24 (ad 3) = some ((o, 4), xk_iA g 0 294 (A 3)) := hf_32
  have hf_33 : X_24 (ad 4) = some ((o, 5), xk_iA g 0 2352 (A 4)) := hf_33
  have hf_34 : X_24 (ad 5) = some ((o, 6), xk_iA g 0 70 (A 5)) := hf_34
  have hf_35 : X_24 (ad 6) = some ((o, 7), xk_iA g 2 40 (A 6)) := hf_35
  have hf_36 : X_24 (ad 7) = some ((o, 8), xk_iA g 2 40 (A 7)) := hf_36
  have hf_37 : X_24 (ad 8) = some ((o, 9), xk_iA g 0 60 (A 8)) := hf_37
  have hf_38 : X_24 (ad 9) = some ((o, 10), xk_iA g 0 284 (A 9)) := hf_38
  have hf_28 : X_24 o = some ((o, 0), .inr (0, [.ref (ad 0), .ref (ad 1), .ref (ad 2), .ref (ad 3), .int (nI (tl_S S (tl_plant (A 0) x) 0)), .ref (ad 4), .int (nI (tl_S S (tl_plant (A 0) x) 1)), .int (nI (tl_S S (tl_plant (A 0) x) 2)), .int (nI (tl_S S (tl_plant (A 0) x) 3)), .int (tm_it (tl_S S (tl_plant (A 0) x) 4)), .ref (ad 5), .int (nI (tl_S S (tl_plant (A 0) x) 5)), .ref (ad 6), .ref (ad 7), .ref (ad 8), .int (nI (tl_S S (tl_plant (A 0) x) 6)), .ref (ad 9), .int (nI (tl_S S (tl_plant (A 0) x) 7)), .int (nI (tl_S S (tl_plant (A 0) x) 8)), .int (nI (tl_S S (tl_plant (A 0) x) 9)), .int (nI (tl_S S (tl_plant (A 0) x) 10))])) := hf_28
  have hM_40 : tm_Ok g X_24 o ad (va_up (va_up A 0 (tl_m (A 0) (tl_plant (A 0) x))) 1 (tl_cp (A 0) (A 1) 294)) (tl_S S (tl_plant (A 0) x)) := ⟨hf_28, hf_29, hf_30, hf_31, hf_32, hf_33, hf_34, hf_35, hf_36, hf_37, hf_38⟩
  refine xk_ri (xk_cV B hI_21 hl [.int (tl_r (tl_plant (A 0) x))] [] 1 (m2_changed g hM_40 (tl_plant (A 0) x) (tl_plant_okc hk0 x) (Nat.le_trans (Nat.le_of_eq (tl_S1 _ _)) hS1)) hf_28 rfl (lw_V q1531 q1533 qs35 q79 q1534) ⟨rfl, by decide +kernel, by decide +kernel, by decide +kernel⟩ ⟨Nat.le_of_ble_eq_true rfl, Nat.le_of_ble_eq_true rfl⟩ rfl rfl (Nat.le_of_ble_eq_true rfl) dX2_plant_10 (Nat.le_of_ble_eq_true rfl) (Nat.le_of_ble_eq_true rfl)) hI_21 (fun X_44 H_42 L_43 hq_45 hI_41 => ?_)
  refine xk_top (y := tl_r (tl_plant (A 0) x)) rfl ?_
  obtain ⟨hM_46, hfr_47⟩ := hq_45
  obtain ⟨hf_48, hf_49, hf_50, hf_51, hf_52, hf_53, hf_54, hf_55, hf_56, hf_57, hf_58⟩ := id hM_46
  have hfr_59 := xk_fr.tr hfr_39 hfr_47
  have hf_49 : X_44 (ad 0) = some ((o, 1), xk_iA g 0 294 (tl_m (A 0) (tl_plant (A 0) x))) := hf_49
  have hf_50 : X_44 (ad 1) = some ((o, 2), xk_iA g 0 294 (tl_cp (A 0) (A 1) 294)) := hf_50
  have hf_51 : X_44 (ad 2) = some ((o, 3), xk_iA g 0 294 (A 2)) := hf_51
  have hf_52 : X_44 (ad 3) = some ((o, 4), xk_iA g 0 294 (A 3)) := hf_52
  have hf_53 : X_44 (ad 4) = some ((o, 5), xk_iA g 0 2352 (tl_pst (tl_is (tl_plant (A 0) x)) (tl_S S (tl_plant (A 0) x) 1) (A 4) (tl_cp (A 0) (A 1) 294))) := hf_53
  have hf_54 : X_44 (ad 5) = some ((o, 6), xk_iA g 0 70 (A 5)) := hf_54
  have hf_55 : X_44 (ad 6) = some ((o, 7), xk_iA g 2 40 (A 6)) := hf_55
  have hf_56 : X_44 (ad 7) = some ((o, 8), xk_iA g 2 40 (A 7)) := hf_56
  have hf_57 : X_44 (ad 8) = some ((o, 9), xk_iA g 0 60 (A 8)) := hf_57
  have hf_58 : X_44 (ad 9) = some ((o, 10), xk_iA g 0 284 (A 9)) := hf_58
  have hf_48 : X_44 o = some ((o, 0), .inr (0, [.ref (ad 0), .ref (ad 1), .ref (ad 2), .ref (ad 3), .int (nI (tl_S S (tl_plant (A 0) x) 0)), .ref (ad 4), .int (nI (tl_chn (tl_is (tl_plant (A 0) x)) (tl_S S (tl_plant (A 0) x) 1))), .int (nI (tl_S S (tl_plant (A 0) x) 2)), .int (nI (tl_S S (tl_plant (A 0) x) 3)), .int (tm_it (tl_S S (tl_plant (A 0) x) 4)), .ref (ad 5), .int (nI (tl_S S (tl_plant (A 0) x) 5)), .ref (ad 6), .ref (ad 7), .ref (ad 8), .int (nI (tl_S S (tl_plant (A 0) x) 6)), .ref (ad 9), .int (nI (tl_S S (tl_plant (A 0) x) 7)), .int (nI (tl_S S (tl_plant (A 0) x) 8)), .int (nI (tl_S S (tl_plant (A 0) x) 9)), .int (nI (tl_S S (tl_plant (A 0) x) 10))])) := hf_48
  have hM_60 : tm_Ok g X_44 o ad (va_up (va_up (va_up A 0 (tl_m (A 0) (tl_plant (A 0) x))) 1 (tl_cp (A 0) (A 1) 294)) 4 (tl_pst (tl_is (tl_plant (A 0) x)) (tl_S S (tl_plant (A 0) x) 1) (A 4) (tl_cp (A 0) (A 1) 294))) (va_up (tl_S S (tl_plant (A 0) x)) 1 (tl_chn (tl_is (tl_plant (A 0) x)) (tl_S S (tl_plant (A 0) x) 1))) := ⟨hf_48, hf_49, hf_50, hf_51, hf_52, hf_53, hf_54, hf_55, hf_56, hf_57, hf_58⟩
  exact xk_reti B hI_41 hr rfl dX2_plant_13 (Nat.le_of_ble_eq_true rfl) (Nat.le_of_ble_eq_true rfl) (⟨rfl, hM_60, hfr_59⟩)
set_option maxHeartbeats 4000000 in
theorem m2_cross (g : xk_G) {X : xk_H} {o : Nat} {ad : Nat → Nat} {A : Nat → Nat → Nat} {S : Nat → Nat} (hM : tm_Ok g X o ad A S) (hk : tl_inv (A 0)) (x : Int32) (y : Int32) (z : Int32) (hS1 : S 1 ≤ 8) : xk_C g yX2_cross (ws_ yX2_cross cX2_cross 4 (some .int)) ({ frames := 4, cells := 0, slots := 0, locals := 96 } : Room) [.ref o, .int x, .int y, .int z] X (xk_Qi (tl_r (tl_cross (A 0) x y z)) (fun X1 => tm_Ok g X1 o ad (tl_fA A S (tl_cross (A 0) x y z)) (tl_fS S (tl_cross (A 0) x y z)) ∧ xk_fr o X X1)) := by
  refine xk_ofW (by decide +kernel) (Nat.le_of_ble_eq_true rfl) (fun p e s m args below meth c B hr hname hargs hI ls hl => ?_)
  have B : xk_B g p s m args meth c RX2 cX2_cross 4 := B
  have hl : lv_has ls 4 [(0, .ref o), (1, .int x), (2, .int y), (3, .int z)] := hl
  have hx := B.1
  have hb := B.2.1
  have hM0 := hM
  obtain ⟨hO, hA0, hA1, hA2, hA3, hA4, hA5, hA6, hA7, hA8, hA9⟩ := hM
  have hk0 := hk
  obtain ⟨k0, kb, kw, kl, ks, kr1, kr2, kwt, kL⟩ := hk
  have hfr : xk_fr o X X := xk_fr.rf
  refine lv_aload_n hx hb dX2_cross_0 rfl (lv_at hl 0 rfl) ?_
  refine xk_rv (xk_cV B hI hl [] [] 0 (m2_begins g hM0 ) hO rfl (lw_V q1500 q1502 qs29 q79 q1503) ⟨rfl, by decide +kernel, by decide +kernel, by decide +kernel⟩ ⟨Nat.le_of_ble_eq_true rfl, Nat.le_of_ble_eq_true rfl⟩ rfl rfl (Nat.le_of_ble_eq_true rfl) dX2_cross_1 (Nat.le_of_ble_eq_true rfl) (Nat.le_of_ble_eq_true rfl)) hI (fun X_4 H_2 L_3 hq_5 hI_1 => ?_)
  obtain ⟨hM_6, hfr_7⟩ := hq_5
  obtain ⟨hf_8, hf_9, hf_10, hf_11, hf_12, hf_13, hf_14, hf_15, hf_16, hf_17, hf_18⟩ := id hM_6
  have hfr_19 := xk_fr.tr hfr hfr_7
  have hf_9 : X_4 (ad 0) = some ((o, 1), xk_iA g 0 294 (A 0)) := hf_9
  have hf_10 : X_4 (ad 1) = some ((o, 2), xk_iA g 0 294 (tl_cp (A 0) (A 1) 294)) := hf_10
  have hf_11 : X_4 (ad 2) = some ((o, 3), xk_iA g 0 294 (A 2)) := hf_11
  have hf_12 : X_4 (ad 3) = some ((o, 4), xk_iA g 0 294 (A 3)) := hf_12
  have hf_13 : X_4 (ad 4) = some ((o, 5), xk_iA g 0 2352 (A 4)) := hf_13
  have hf_14 : X_4 (ad 5) = some ((o, 6), xk_iA g 0 70 (A 5)) := hf_14
  have hf_15 : X_4 (ad 6) = some ((o, 7), xk_iA g 2 40 (A 6)) := hf_15
  have hf_16 : X_4 (ad 7) = some ((o, 8), xk_iA g 2 40 (A 7)) := hf_16
  have hf_17 : X_4 (ad 8) = some ((o, 9), xk_iA g 0 60 (A 8)) := hf_17
  have hf_18 : X_4 (ad 9) = some ((o, 10), xk_iA g 0 284 (A 9)) := hf_18
  have hf_8 : X_4 o = some ((o, 0), .inr (0, [.ref (ad 0), .ref (ad 1), .ref (ad 2), .ref (ad 3), .int (nI (S 0)), .ref (ad 4), .int (nI (S 1)), .int (nI (S 2)), .int (nI (S 3)), .int (tm_it (S 4)), .ref (ad 5), .int (nI (S 5)), .ref (ad 6), .ref (ad 7), .ref (ad 8), .int (nI (S 6)), .ref (ad 9), .int (nI (S 7)), .int (nI (S 8)), .int (nI (S 9)), .int (nI (S 10))])) := hf_8
  refine lv_aload_n hx hb dX2_cross_4 rfl (lv_at hl 0 rfl) ?_
  refine lv_aload_n hx hb dX2_cross_5 rfl (lv_at hl 0 rfl) ?_
  refine lv_iload_n hx hb dX2_cross_6 rfl (lv_at hl 1 rfl) ?_
  refine lv_iload_n hx hb dX2_cross_7 rfl (lv_at hl 2 rfl) ?_
  refine lv_iload_n hx hb dX2_cross_8 rfl (lv_at hl 3 rfl) ?_
  have hM_20 : tm_Ok g X_4 o ad (va_up A 1 (tl_cp (A 0) (A 1) 294)) S := ⟨hf_8, hf_9, hf_10, hf_11, hf_12, hf_13, hf_14, hf_15, hf_16, hf_17, hf_18⟩
  refine xk_ri (xk_cV B hI_1 hl [.int x, .int y, .int z] [.ref o] 3 (m2_crossIt g hM_20 hk0 x y z) hf_8 rfl (lw_V q1539 q1541 qs36 q79 q1542) ⟨rfl, by decide +kernel, by decide +kernel, by decide +kernel⟩ ⟨Nat.le_of_ble_eq_true rfl, Nat.le_of_ble_eq_true rfl⟩ rfl rfl (Nat.le_of_ble_eq_true rfl) dX2_cross_9 (Nat.le_of_ble_eq_true rfl) (Nat.le_of_ble_eq_true rfl)) hI_1 (fun X_24 H_22 L_23 hq_25 hI_21 => ?_)
  refine xk_top (y := tl_r (tl_cross (A 0) x y z)) rfl ?_
  obtain ⟨hM_26, hfr_27⟩ := hq_25
  obtain ⟨hf_28, hf_29, hf_30, hf_31, hf_32, hf_33, hf_34, hf_35, hf_36, hf_37, hf_38⟩ := id hM_26
  have hfr_39 := xk_fr.tr hfr_19 hfr_27
  have hf_29 : X_24 (ad 0) = some ((o, 1), xk_iA g 0 294 (tl_m (A 0) (tl_cross (A 0) x y z))) := hf_29
  have hf_30 : X_24 (ad 1) = some ((o, 2), xk_iA g 0 294 (tl_cp (A 0) (A 1) 294)) := hf_30
  have hf_31 : X_24 (ad 2) = some ((o, 3), xk_iA g 0 294 (A 2)) := hf_31
  have hf_32 : X_24 (ad 3) = some ((o, 4), xk_iA g 0 294 (A 3)) := hf_32
  have hf_33 : X_24 (ad 4) = some ((o, 5), xk_iA g 0 2352 (A 4)) := hf_33
  have hf_34 : X_24 (ad 5) = some ((o, 6), xk_iA g 0 70 (A 5)) := hf_34
  have hf_35 : X_24 (ad 6) = some ((o, 7), xk_iA g 2 40 (A 6)) := hf_35
  have hf_36 : X_24 (ad 7) = some ((o, 8), xk_iA g 2 40 (A 7)) := hf_36
  have hf_37 : X_24 (ad 8) = some ((o, 9), xk_iA g 0 60 (A 8)) := hf_37
  have hf_38 : X_24 (ad 9) = some ((o, 10), xk_iA g 0 284 (A 9)) := hf_38
  have hf_28 : X_24 o = some ((o, 0), .inr (0, [.ref (ad 0), .ref (ad 1), .ref (ad 2), .ref (ad 3), .int (nI (tl_S S (tl_cross (A 0) x y z) 0)), .ref (ad 4), .int (nI (tl_S S (tl_cross (A 0) x y z) 1)), .int (nI (tl_S S (tl_cross (A 0) x y z) 2)), .int (nI (tl_S S (tl_cross (A 0) x y z) 3)), .int (tm_it (tl_S S (tl_cross (A 0) x y z) 4)), .ref (ad 5), .int (nI (tl_S S (tl_cross (A 0) x y z) 5)), .ref (ad 6), .ref (ad 7), .ref (ad 8), .int (nI (tl_S S (tl_cross (A 0) x y z) 6)), .ref (ad 9), .int (nI (tl_S S (tl_cross (A 0) x y z) 7)), .int (nI (tl_S S (tl_cross (A 0) x y z) 8)), .int (nI (tl_S S (tl_cross (A 0) x y z) 9)), .int (nI (tl_S S (tl_cross (A 0) x y z) 10))])) := hf_28
  have hM_40 : tm_Ok g X_24 o ad (va_up (va_up A 0 (tl_m (A 0) (tl_cross (A 0) x y z))) 1 (tl_cp (A 0) (A 1) 294)) (tl_S S (tl_cross (A 0) x y z)) := ⟨hf_28, hf_29, hf_30, hf_31, hf_32, hf_33, hf_34, hf_35, hf_36, hf_37, hf_38⟩
  refine xk_ri (xk_cV B hI_21 hl [.int (tl_r (tl_cross (A 0) x y z))] [] 1 (m2_changed g hM_40 (tl_cross (A 0) x y z) (tl_cross_okc hk0 x y z) (Nat.le_trans (Nat.le_of_eq (tl_S1 _ _)) hS1)) hf_28 rfl (lw_V q1531 q1533 qs35 q79 q1534) ⟨rfl, by decide +kernel, by decide +kernel, by decide +kernel⟩ ⟨Nat.le_of_ble_eq_true rfl, Nat.le_of_ble_eq_true rfl⟩ rfl rfl (Nat.le_of_ble_eq_true rfl) dX2_cross_12 (Nat.le_of_ble_eq_true rfl) (Nat.le_of_ble_eq_true rfl)) hI_21 (fun X_44 H_42 L_43 hq_45 hI_41 => ?_)
  refine xk_top (y := tl_r (tl_cross (A 0) x y z)) rfl ?_
  obtain ⟨hM_46, hfr_47⟩ := hq_45
  obtain ⟨hf_48, hf_49, hf_50, hf_51, hf_52, hf_53, hf_54, hf_55, hf_56, hf_57, hf_58⟩ := id hM_46
  have hfr_59 := xk_fr.tr hfr_39 hfr_47
  have hf_49 : X_44 (ad 0) = some ((o, 1), xk_iA g 0 294 (tl_m (A 0) (tl_cross (A 0) x y z))) := hf_49
  have hf_50 : X_44 (ad 1) = some ((o, 2), xk_iA g 0 294 (tl_cp (A 0) (A 1) 294)) := hf_50
  have hf_51 : X_44 (ad 2) = some ((o, 3), xk_iA g 0 294 (A 2)) := hf_51
  have hf_52 : X_44 (ad 3) = some ((o, 4), xk_iA g 0 294 (A 3)) := hf_52
  have hf_53 : X_44 (ad 4) = some ((o, 5), xk_iA g 0 2352 (tl_pst (tl_is (tl_cross (A 0) x y z)) (tl_S S (tl_cross (A 0) x y z) 1) (A 4) (tl_cp (A 0) (A 1) 294))) := hf_53
  have hf_54 : X_44 (ad 5) = some ((o, 6), xk_iA g 0 70 (A 5)) := hf_54
  have hf_55 : X_44 (ad 6) = some ((o, 7), xk_iA g 2 40 (A 6)) := hf_55
  have hf_56 : X_44 (ad 7) = some ((o, 8), xk_iA g 2 40 (A 7)) := hf_56
  have hf_57 : X_44 (ad 8) = some ((o, 9), xk_iA g 0 60 (A 8)) := hf_57
  have hf_58 : X_44 (ad 9) = some ((o, 10), xk_iA g 0 284 (A 9)) := hf_58
  have hf_48 : X_44 o = some ((o, 0), .inr (0, [.ref (ad 0), .ref (ad 1), .ref (ad 2), .ref (ad 3), .int (nI (tl_S S (tl_cross (A 0) x y z) 0)), .ref (ad 4), .int (nI (tl_chn (tl_is (tl_cross (A 0) x y z)) (tl_S S (tl_cross (A 0) x y z) 1))), .int (nI (tl_S S (tl_cross (A 0) x y z) 2)), .int (nI (tl_S S (tl_cross (A 0) x y z) 3)), .int (tm_it (tl_S S (tl_cross (A 0) x y z) 4)), .ref (ad 5), .int (nI (tl_S S (tl_cross (A 0) x y z) 5)), .ref (ad 6), .ref (ad 7), .ref (ad 8), .int (nI (tl_S S (tl_cross (A 0) x y z) 6)), .ref (ad 9), .int (nI (tl_S S (tl_cross (A 0) x y z) 7)), .int (nI (tl_S S (tl_cross (A 0) x y z) 8)), .int (nI (tl_S S (tl_cross (A 0) x y z) 9)), .int (nI (tl_S S (tl_cross (A 0) x y z) 10))])) := hf_48
  have hM_60 : tm_Ok g X_44 o ad (va_up (va_up (va_up A 0 (tl_m (A 0) (tl_cross (A 0) x y z))) 1 (tl_cp (A 0) (A 1) 294)) 4 (tl_pst (tl_is (tl_cross (A 0) x y z)) (tl_S S (tl_cross (A 0) x y z) 1) (A 4) (tl_cp (A 0) (A 1) 294))) (va_up (tl_S S (tl_cross (A 0) x y z)) 1 (tl_chn (tl_is (tl_cross (A 0) x y z)) (tl_S S (tl_cross (A 0) x y z) 1))) := ⟨hf_48, hf_49, hf_50, hf_51, hf_52, hf_53, hf_54, hf_55, hf_56, hf_57, hf_58⟩
  exact xk_reti B hI_41 hr rfl dX2_cross_15 (Nat.le_of_ble_eq_true rfl) (Nat.le_of_ble_eq_true rfl) (⟨rfl, hM_60, hfr_59⟩)
set_option maxHeartbeats 4000000 in
theorem m2_die (g : xk_G) {X : xk_H} {o : Nat} {ad : Nat → Nat} {A : Nat → Nat → Nat} {S : Nat → Nat} (hM : tm_Ok g X o ad A S) (hk : tl_inv (A 0)) (x : Int32) (hS1 : S 1 ≤ 8) : xk_C g yX2_die (ws_ yX2_die cX2_die 2 (some .int)) ({ frames := 3, cells := 0, slots := 0, locals := 67 } : Room) [.ref o, .int x] X (xk_Qi (tl_r (tl_die (A 0) x)) (fun X1 => tm_Ok g X1 o ad (tl_fA A S (tl_die (A 0) x)) (tl_fS S (tl_die (A 0) x)) ∧ xk_fr o X X1)) := by
  refine xk_ofW (by decide +kernel) (Nat.le_of_ble_eq_true rfl) (fun p e s m args below meth c B hr hname hargs hI ls hl => ?_)
  have B : xk_B g p s m args meth c RX2 cX2_die 2 := B
  have hl : lv_has ls 2 [(0, .ref o), (1, .int x)] := hl
  have hx := B.1
  have hb := B.2.1
  have hM0 := hM
  obtain ⟨hO, hA0, hA1, hA2, hA3, hA4, hA5, hA6, hA7, hA8, hA9⟩ := hM
  have hk0 := hk
  obtain ⟨k0, kb, kw, kl, ks, kr1, kr2, kwt, kL⟩ := hk
  have hfr : xk_fr o X X := xk_fr.rf
  refine lv_aload_n hx hb dX2_die_0 rfl (lv_at hl 0 rfl) ?_
  refine xk_rv (xk_cV B hI hl [] [] 0 (m2_begins g hM0 ) hO rfl (lw_V q1500 q1502 qs29 q79 q1503) ⟨rfl, by decide +kernel, by decide +kernel, by decide +kernel⟩ ⟨Nat.le_of_ble_eq_true rfl, Nat.le_of_ble_eq_true rfl⟩ rfl rfl (Nat.le_of_ble_eq_true rfl) dX2_die_1 (Nat.le_of_ble_eq_true rfl) (Nat.le_of_ble_eq_true rfl)) hI (fun X_4 H_2 L_3 hq_5 hI_1 => ?_)
  obtain ⟨hM_6, hfr_7⟩ := hq_5
  obtain ⟨hf_8, hf_9, hf_10, hf_11, hf_12, hf_13, hf_14, hf_15, hf_16, hf_17, hf_18⟩ := id hM_6
  have hfr_19 := xk_fr.tr hfr hfr_7
  have hf_9 : X_4 (ad 0) = some ((o, 1), xk_iA g 0 294 (A 0)) := hf_9
  have hf_10 : X_4 (ad 1) = some ((o, 2), xk_iA g 0 294 (tl_cp (A 0) (A 1) 294)) := hf_10
  have hf_11 : X_4 (ad 2) = some ((o, 3), xk_iA g 0 294 (A 2)) := hf_11
  have hf_12 : X_4 (ad 3) = some ((o, 4), xk_iA g 0 294 (A 3)) := hf_12
  have hf_13 : X_4 (ad 4) = some ((o, 5), xk_iA g 0 2352 (A 4)) := hf_13
  have hf_14 : X_4 (ad 5) = some ((o, 6), xk_iA g 0 70 (A 5)) := hf_14
  have hf_15 : X_4 (ad 6) = some ((o, 7), xk_iA g 2 40 (A 6)) := hf_15
  have hf_16 : X_4 (ad 7) = some ((o, 8), xk_iA g 2 40 (A 7)) := hf_16
  have hf_17 : X_4 (ad 8) = some ((o, 9), xk_iA g 0 60 (A 8)) := hf_17
  have hf_18 : X_4 (ad 9) = some ((o, 10), xk_iA g 0 284 (A 9)) := hf_18
  have hf_8 : X_4 o = some ((o, 0), .inr (0, [.ref (ad 0), .ref (ad 1), .ref (ad 2), .ref (ad 3), .int (nI (S 0)), .ref (ad 4), .int (nI (S 1)), .int (nI (S 2)), .int (nI (S 3)), .int (tm_it (S 4)), .ref (ad 5), .int (nI (S 5)), .ref (ad 6), .ref (ad 7), .ref (ad 8), .int (nI (S 6)), .ref (ad 9), .int (nI (S 7)), .int (nI (S 8)), .int (nI (S 9)), .int (nI (S 10))])) := hf_8
  refine lv_aload_n hx hb dX2_die_4 rfl (lv_at hl 0 rfl) ?_
  refine lv_aload_n hx hb dX2_die_5 rfl (lv_at hl 0 rfl) ?_
  refine lv_iload_n hx hb dX2_die_6 rfl (lv_at hl 1 rfl) ?_
  have hM_20 : tm_Ok g X_4 o ad (va_up A 1 (tl_cp (A 0) (A 1) 294)) S := ⟨hf_8, hf_9, hf_10, hf_11, hf_12, hf_13, hf_14, hf_15, hf_16, hf_17, hf_18⟩
  refine xk_ri (xk_cV B hI_1 hl [.int x] [.ref o] 1 (m2_dieIt g hM_20 hk0 x) hf_8 rfl (lw_V q1569 q1571 qs42 q79 q1572) ⟨rfl, by decide +kernel, by decide +kernel, by decide +kernel⟩ ⟨Nat.le_of_ble_eq_true rfl, Nat.le_of_ble_eq_true rfl⟩ rfl rfl (Nat.le_of_ble_eq_true rfl) dX2_die_7 (Nat.le_of_ble_eq_true rfl) (Nat.le_of_ble_eq_true rfl)) hI_1 (fun X_24 H_22 L_23 hq_25 hI_21 => ?_)
  refine xk_top (y := tl_r (tl_die (A 0) x)) rfl ?_
  obtain ⟨hM_26, hfr_27⟩ := hq_25
  obtain ⟨hf_28, hf_29, hf_30, hf_31, hf_32, hf_33, hf_34, hf_35, hf_36, hf_37, hf_38⟩ := id hM_26
  have hfr_39 := xk_fr.tr hfr_19 hfr_27
  have hf_29 : X_24 (ad 0) = some ((o, 1), xk_iA g 0 294 (tl_m (A 0) (tl_die (A 0) x))) := hf_29
  have hf_30 : X_24 (ad 1) = some ((o, 2), xk_iA g 0 294 (tl_cp (A 0) (A 1) 294)) := hf_30
  have hf_31 : X_24 (ad 2) = some ((o, 3), xk_iA g 0 294 (A 2)) := hf_31
  have hf_32 : X_24 (ad 3) = some ((o, 4), xk_iA g 0 294 (A 3)) := hf_32
  have hf_33 : X_24 (ad 4) = some ((o, 5), xk_iA g 0 2352 (A 4)) := hf_33
  have hf_34 : X_24 (ad 5) = some ((o, 6), xk_iA g 0 70 (A 5)) := hf_34
  have hf_35 : X_24 (ad 6) = some ((o, 7), xk_iA g 2 40 (A 6)) := hf_35
  have hf_36 : X_24 (ad 7) = some ((o, 8), xk_iA g 2 40 (A 7)) := hf_36
  have hf_37 : X_24 (ad 8) = some ((o, 9), xk_iA g 0 60 (A 8)) := hf_37
  have hf_38 : X_24 (ad 9) = some ((o, 10), xk_iA g 0 284 (A 9)) := hf_38
  have hf_28 : X_24 o = some ((o, 0), .inr (0, [.ref (ad 0), .ref (ad 1), .ref (ad 2), .ref (ad 3), .int (nI (tl_S S (tl_die (A 0) x) 0)), .ref (ad 4), .int (nI (tl_S S (tl_die (A 0) x) 1)), .int (nI (tl_S S (tl_die (A 0) x) 2)), .int (nI (tl_S S (tl_die (A 0) x) 3)), .int (tm_it (tl_S S (tl_die (A 0) x) 4)), .ref (ad 5), .int (nI (tl_S S (tl_die (A 0) x) 5)), .ref (ad 6), .ref (ad 7), .ref (ad 8), .int (nI (tl_S S (tl_die (A 0) x) 6)), .ref (ad 9), .int (nI (tl_S S (tl_die (A 0) x) 7)), .int (nI (tl_S S (tl_die (A 0) x) 8)), .int (nI (tl_S S (tl_die (A 0) x) 9)), .int (nI (tl_S S (tl_die (A 0) x) 10))])) := hf_28
  have hM_40 : tm_Ok g X_24 o ad (va_up (va_up A 0 (tl_m (A 0) (tl_die (A 0) x))) 1 (tl_cp (A 0) (A 1) 294)) (tl_S S (tl_die (A 0) x)) := ⟨hf_28, hf_29, hf_30, hf_31, hf_32, hf_33, hf_34, hf_35, hf_36, hf_37, hf_38⟩
  refine xk_ri (xk_cV B hI_21 hl [.int (tl_r (tl_die (A 0) x))] [] 1 (m2_changed g hM_40 (tl_die (A 0) x) (tl_die_okc hk0 x) (Nat.le_trans (Nat.le_of_eq (tl_S1 _ _)) hS1)) hf_28 rfl (lw_V q1531 q1533 qs35 q79 q1534) ⟨rfl, by decide +kernel, by decide +kernel, by decide +kernel⟩ ⟨Nat.le_of_ble_eq_true rfl, Nat.le_of_ble_eq_true rfl⟩ rfl rfl (Nat.le_of_ble_eq_true rfl) dX2_die_10 (Nat.le_of_ble_eq_true rfl) (Nat.le_of_ble_eq_true rfl)) hI_21 (fun X_44 H_42 L_43 hq_45 hI_41 => ?_)
  refine xk_top (y := tl_r (tl_die (A 0) x)) rfl ?_
  obtain ⟨hM_46, hfr_47⟩ := hq_45
  obtain ⟨hf_48, hf_49, hf_50, hf_51, hf_52, hf_53, hf_54, hf_55, hf_56, hf_57, hf_58⟩ := id hM_46
  have hfr_59 := xk_fr.tr hfr_39 hfr_47
  have hf_49 : X_44 (ad 0) = some ((o, 1), xk_iA g 0 294 (tl_m (A 0) (tl_die (A 0) x))) := hf_49
  have hf_50 : X_44 (ad 1) = some ((o, 2), xk_iA g 0 294 (tl_cp (A 0) (A 1) 294)) := hf_50
  have hf_51 : X_44 (ad 2) = some ((o, 3), xk_iA g 0 294 (A 2)) := hf_51
  have hf_52 : X_44 (ad 3) = some ((o, 4), xk_iA g 0 294 (A 3)) := hf_52
  have hf_53 : X_44 (ad 4) = some ((o, 5), xk_iA g 0 2352 (tl_pst (tl_is (tl_die (A 0) x)) (tl_S S (tl_die (A 0) x) 1) (A 4) (tl_cp (A 0) (A 1) 294))) := hf_53
  have hf_54 : X_44 (ad 5) = some ((o, 6), xk_iA g 0 70 (A 5)) := hf_54
  have hf_55 : X_44 (ad 6) = some ((o, 7), xk_iA g 2 40 (A 6)) := hf_55
  have hf_56 : X_44 (ad 7) = some ((o, 8), xk_iA g 2 40 (A 7)) := hf_56
  have hf_57 : X_44 (ad 8) = some ((o, 9), xk_iA g 0 60 (A 8)) := hf_57
  have hf_58 : X_44 (ad 9) = some ((o, 10), xk_iA g 0 284 (A 9)) := hf_58
  have hf_48 : X_44 o = some ((o, 0), .inr (0, [.ref (ad 0), .ref (ad 1), .ref (ad 2), .ref (ad 3), .int (nI (tl_S S (tl_die (A 0) x) 0)), .ref (ad 4), .int (nI (tl_chn (tl_is (tl_die (A 0) x)) (tl_S S (tl_die (A 0) x) 1))), .int (nI (tl_S S (tl_die (A 0) x) 2)), .int (nI (tl_S S (tl_die (A 0) x) 3)), .int (tm_it (tl_S S (tl_die (A 0) x) 4)), .ref (ad 5), .int (nI (tl_S S (tl_die (A 0) x) 5)), .ref (ad 6), .ref (ad 7), .ref (ad 8), .int (nI (tl_S S (tl_die (A 0) x) 6)), .ref (ad 9), .int (nI (tl_S S (tl_die (A 0) x) 7)), .int (nI (tl_S S (tl_die (A 0) x) 8)), .int (nI (tl_S S (tl_die (A 0) x) 9)), .int (nI (tl_S S (tl_die (A 0) x) 10))])) := hf_48
  have hM_60 : tm_Ok g X_44 o ad (va_up (va_up (va_up A 0 (tl_m (A 0) (tl_die (A 0) x))) 1 (tl_cp (A 0) (A 1) 294)) 4 (tl_pst (tl_is (tl_die (A 0) x)) (tl_S S (tl_die (A 0) x) 1) (A 4) (tl_cp (A 0) (A 1) 294))) (va_up (tl_S S (tl_die (A 0) x)) 1 (tl_chn (tl_is (tl_die (A 0) x)) (tl_S S (tl_die (A 0) x) 1))) := ⟨hf_48, hf_49, hf_50, hf_51, hf_52, hf_53, hf_54, hf_55, hf_56, hf_57, hf_58⟩
  exact xk_reti B hI_41 hr rfl dX2_die_13 (Nat.le_of_ble_eq_true rfl) (Nat.le_of_ble_eq_true rfl) (⟨rfl, hM_60, hfr_59⟩)
set_option maxHeartbeats 4000000 in
theorem m2_want (g : xk_G) {X : xk_H} {o : Nat} {ad : Nat → Nat} {A : Nat → Nat → Nat} {S : Nat → Nat} (hM : tm_Ok g X o ad A S) (hk : tl_inv (A 0)) (x : Int32) (hS1 : S 1 ≤ 8) : xk_C g yX2_want (ws_ yX2_want cX2_want 2 (some .int)) ({ frames := 3, cells := 0, slots := 0, locals := 71 } : Room) [.ref o, .int x] X (xk_Qi (tl_r (tl_set (A 0) 2 x 0 255)) (fun X1 => tm_Ok g X1 o ad (tl_fA A S (tl_set (A 0) 2 x 0 255)) (tl_fS S (tl_set (A 0) 2 x 0 255)) ∧ xk_fr o X X1)) := by
  refine xk_ofW (by decide +kernel) (Nat.le_of_ble_eq_true rfl) (fun p e s m args below meth c B hr hname hargs hI ls hl => ?_)
  have B : xk_B g p s m args meth c RX2 cX2_want 2 := B
  have hl : lv_has ls 2 [(0, .ref o), (1, .int x)] := hl
  have hx := B.1
  have hb := B.2.1
  have hM0 := hM
  obtain ⟨hO, hA0, hA1, hA2, hA3, hA4, hA5, hA6, hA7, hA8, hA9⟩ := hM
  have hk0 := hk
  obtain ⟨k0, kb, kw, kl, ks, kr1, kr2, kwt, kL⟩ := hk
  have hfr : xk_fr o X X := xk_fr.rf
  refine lv_aload_n hx hb dX2_want_0 rfl (lv_at hl 0 rfl) ?_
  refine xk_rv (xk_cV B hI hl [] [] 0 (m2_begins g hM0 ) hO rfl (lw_V q1500 q1502 qs29 q79 q1503) ⟨rfl, by decide +kernel, by decide +kernel, by decide +kernel⟩ ⟨Nat.le_of_ble_eq_true rfl, Nat.le_of_ble_eq_true rfl⟩ rfl rfl (Nat.le_of_ble_eq_true rfl) dX2_want_1 (Nat.le_of_ble_eq_true rfl) (Nat.le_of_ble_eq_true rfl)) hI (fun X_4 H_2 L_3 hq_5 hI_1 => ?_)
  obtain ⟨hM_6, hfr_7⟩ := hq_5
  obtain ⟨hf_8, hf_9, hf_10, hf_11, hf_12, hf_13, hf_14, hf_15, hf_16, hf_17, hf_18⟩ := id hM_6
  have hfr_19 := xk_fr.tr hfr hfr_7
  have hf_9 : X_4 (ad 0) = some ((o, 1), xk_iA g 0 294 (A 0)) := hf_9
  have hf_10 : X_4 (ad 1) = some ((o, 2), xk_iA g 0 294 (tl_cp (A 0) (A 1) 294)) := hf_10
  have hf_11 : X_4 (ad 2) = some ((o, 3), xk_iA g 0 294 (A 2)) := hf_11
  have hf_12 : X_4 (ad 3) = some ((o, 4), xk_iA g 0 294 (A 3)) := hf_12
  have hf_13 : X_4 (ad 4) = some ((o, 5), xk_iA g 0 2352 (A 4)) := hf_13
  have hf_14 : X_4 (ad 5) = some ((o, 6), xk_iA g 0 70 (A 5)) := hf_14
  have hf_15 : X_4 (ad 6) = some ((o, 7), xk_iA g 2 40 (A 6)) := hf_15
  have hf_16 : X_4 (ad 7) = some ((o, 8), xk_iA g 2 40 (A 7)) := hf_16
  have hf_17 : X_4 (ad 8) = some ((o, 9), xk_iA g 0 60 (A 8)) := hf_17
  have hf_18 : X_4 (ad 9) = some ((o, 10), xk_iA g 0 284 (A 9)) := hf_18
  have hf_8 : X_4 o = some ((o, 0), .inr (0, [.ref (ad 0), .ref (ad 1), .ref (ad 2), .ref (ad 3), .int (nI (S 0)), .ref (ad 4), .int (nI (S 1)), .int (nI (S 2)), .int (nI (S 3)), .int (tm_it (S 4)), .ref (ad 5), .int (nI (S 5)), .ref (ad 6), .ref (ad 7), .ref (ad 8), .int (nI (S 6)), .ref (ad 9), .int (nI (S 7)), .int (nI (S 8)), .int (nI (S 9)), .int (nI (S 10))])) := hf_8
  refine lv_aload_n hx hb dX2_want_4 rfl (lv_at hl 0 rfl) ?_
  refine lv_aload_n hx hb dX2_want_5 rfl (lv_at hl 0 rfl) ?_
  refine lv_iload_n hx hb dX2_want_6 rfl (lv_at hl 1 rfl) ?_
  have hM_20 : tm_Ok g X_4 o ad (va_up A 1 (tl_cp (A 0) (A 1) 294)) S := ⟨hf_8, hf_9, hf_10, hf_11, hf_12, hf_13, hf_14, hf_15, hf_16, hf_17, hf_18⟩
  refine xk_ri (xk_cV B hI_1 hl [.int x] [.ref o] 1 (m2_wantIt g hM_20 hk0 x) hf_8 rfl (lw_V q1577 q1579 qs43 q79 q1580) ⟨rfl, by decide +kernel, by decide +kernel, by decide +kernel⟩ ⟨Nat.le_of_ble_eq_true rfl, Nat.le_of_ble_eq_true rfl⟩ rfl rfl (Nat.le_of_ble_eq_true rfl) dX2_want_7 (Nat.le_of_ble_eq_true rfl) (Nat.le_of_ble_eq_true rfl)) hI_1 (fun X_24 H_22 L_23 hq_25 hI_21 => ?_)
  refine xk_top (y := tl_r (tl_set (A 0) 2 x 0 255)) rfl ?_
  obtain ⟨hM_26, hfr_27⟩ := hq_25
  obtain ⟨hf_28, hf_29, hf_30, hf_31, hf_32, hf_33, hf_34, hf_35, hf_36, hf_37, hf_38⟩ := id hM_26
  have hfr_39 := xk_fr.tr hfr_19 hfr_27
  have hf_29 : X_24 (ad 0) = some ((o, 1), xk_iA g 0 294 (tl_m (A 0) (tl_set (A 0) 2 x 0 255))) := hf_29
  have hf_30 : X_24 (ad 1) = some ((o, 2), xk_iA g 0 294 (tl_cp (A 0) (A 1) 294)) := hf_30
  have hf_31 : X_24 (ad 2) = some ((o, 3), xk_iA g 0 294 (A 2)) := hf_31
  have hf_32 : X_24 (ad 3) = some ((o, 4), xk_iA g 0 294 (A 3)) := hf_32
  have hf_33 : X_24 (ad 4) = some ((o, 5), xk_iA g 0 2352 (A 4)) := hf_33
  have hf_34 : X_24 (ad 5) = some ((o, 6), xk_iA g 0 70 (A 5)) := hf_34
  have hf_35 : X_24 (ad 6) = some ((o, 7), xk_iA g 2 40 (A 6)) := hf_35
  have hf_36 : X_24 (ad 7) = some ((o, 8), xk_iA g 2 40 (A 7)) := hf_36
  have hf_37 : X_24 (ad 8) = some ((o, 9), xk_iA g 0 60 (A 8)) := hf_37
  have hf_38 : X_24 (ad 9) = some ((o, 10), xk_iA g 0 284 (A 9)) := hf_38
  have hf_28 : X_24 o = some ((o, 0), .inr (0, [.ref (ad 0), .ref (ad 1), .ref (ad 2), .ref (ad 3), .int (nI (tl_S S (tl_set (A 0) 2 x 0 255) 0)), .ref (ad 4), .int (nI (tl_S S (tl_set (A 0) 2 x 0 255) 1)), .int (nI (tl_S S (tl_set (A 0) 2 x 0 255) 2)), .int (nI (tl_S S (tl_set (A 0) 2 x 0 255) 3)), .int (tm_it (tl_S S (tl_set (A 0) 2 x 0 255) 4)), .ref (ad 5), .int (nI (tl_S S (tl_set (A 0) 2 x 0 255) 5)), .ref (ad 6), .ref (ad 7), .ref (ad 8), .int (nI (tl_S S (tl_set (A 0) 2 x 0 255) 6)), .ref (ad 9), .int (nI (tl_S S (tl_set (A 0) 2 x 0 255) 7)), .int (nI (tl_S S (tl_set (A 0) 2 x 0 255) 8)), .int (nI (tl_S S (tl_set (A 0) 2 x 0 255) 9)), .int (nI (tl_S S (tl_set (A 0) 2 x 0 255) 10))])) := hf_28
  have hM_40 : tm_Ok g X_24 o ad (va_up (va_up A 0 (tl_m (A 0) (tl_set (A 0) 2 x 0 255))) 1 (tl_cp (A 0) (A 1) 294)) (tl_S S (tl_set (A 0) 2 x 0 255)) := ⟨hf_28, hf_29, hf_30, hf_31, hf_32, hf_33, hf_34, hf_35, hf_36, hf_37, hf_38⟩
  refine xk_ri (xk_cV B hI_21 hl [.int (tl_r (tl_set (A 0) 2 x 0 255))] [] 1 (m2_changed g hM_40 (tl_set (A 0) 2 x 0 255) (tl_set_okc (by omega) x _ _) (Nat.le_trans (Nat.le_of_eq (tl_S1 _ _)) hS1)) hf_28 rfl (lw_V q1531 q1533 qs35 q79 q1534) ⟨rfl, by decide +kernel, by decide +kernel, by decide +kernel⟩ ⟨Nat.le_of_ble_eq_true rfl, Nat.le_of_ble_eq_true rfl⟩ rfl rfl (Nat.le_of_ble_eq_true rfl) dX2_want_10 (Nat.le_of_ble_eq_true rfl) (Nat.le_of_ble_eq_true rfl)) hI_21 (fun X_44 H_42 L_43 hq_45 hI_41 => ?_)
  refine xk_top (y := tl_r (tl_set (A 0) 2 x 0 255)) rfl ?_
  obtain ⟨hM_46, hfr_47⟩ := hq_45
  obtain ⟨hf_48, hf_49, hf_50, hf_51, hf_52, hf_53, hf_54, hf_55, hf_56, hf_57, hf_58⟩ := id hM_46
  have hfr_59 := xk_fr.tr hfr_39 hfr_47
  have hf_49 : X_44 (ad 0) = some ((o, 1), xk_iA g 0 294 (tl_m (A 0) (tl_set (A 0) 2 x 0 255))) := hf_49
  have hf_50 : X_44 (ad 1) = some ((o, 2), xk_iA g 0 294 (tl_cp (A 0) (A 1) 294)) := hf_50
  have hf_51 : X_44 (ad 2) = some ((o, 3), xk_iA g 0 294 (A 2)) := hf_51
  have hf_52 : X_44 (ad 3) = some ((o, 4), xk_iA g 0 294 (A 3)) := hf_52
  have hf_53 : X_44 (ad 4) = some ((o, 5), xk_iA g 0 2352 (tl_pst (tl_is (tl_set (A 0) 2 x 0 255)) (tl_S S (tl_set (A 0) 2 x 0 255) 1) (A 4) (tl_cp (A 0) (A 1) 294))) := hf_53
  have hf_54 : X_44 (ad 5) = some ((o, 6), xk_iA g 0 70 (A 5)) := hf_54
  have hf_55 : X_44 (ad 6) = some ((o, 7), xk_iA g 2 40 (A 6)) := hf_55
  have hf_56 : X_44 (ad 7) = some ((o, 8), xk_iA g 2 40 (A 7)) := hf_56
  have hf_57 : X_44 (ad 8) = some ((o, 9), xk_iA g 0 60 (A 8)) := hf_57
  have hf_58 : X_44 (ad 9) = some ((o, 10), xk_iA g 0 284 (A 9)) := hf_58
  have hf_48 : X_44 o = some ((o, 0), .inr (0, [.ref (ad 0), .ref (ad 1), .ref (ad 2), .ref (ad 3), .int (nI (tl_S S (tl_set (A 0) 2 x 0 255) 0)), .ref (ad 4), .int (nI (tl_chn (tl_is (tl_set (A 0) 2 x 0 255)) (tl_S S (tl_set (A 0) 2 x 0 255) 1))), .int (nI (tl_S S (tl_set (A 0) 2 x 0 255) 2)), .int (nI (tl_S S (tl_set (A 0) 2 x 0 255) 3)), .int (tm_it (tl_S S (tl_set (A 0) 2 x 0 255) 4)), .ref (ad 5), .int (nI (tl_S S (tl_set (A 0) 2 x 0 255) 5)), .ref (ad 6), .ref (ad 7), .ref (ad 8), .int (nI (tl_S S (tl_set (A 0) 2 x 0 255) 6)), .ref (ad 9), .int (nI (tl_S S (tl_set (A 0) 2 x 0 255) 7)), .int (nI (tl_S S (tl_set (A 0) 2 x 0 255) 8)), .int (nI (tl_S S (tl_set (A 0) 2 x 0 255) 9)), .int (nI (tl_S S (tl_set (A 0) 2 x 0 255) 10))])) := hf_48
  have hM_60 : tm_Ok g X_44 o ad (va_up (va_up (va_up A 0 (tl_m (A 0) (tl_set (A 0) 2 x 0 255))) 1 (tl_cp (A 0) (A 1) 294)) 4 (tl_pst (tl_is (tl_set (A 0) 2 x 0 255)) (tl_S S (tl_set (A 0) 2 x 0 255) 1) (A 4) (tl_cp (A 0) (A 1) 294))) (va_up (tl_S S (tl_set (A 0) 2 x 0 255)) 1 (tl_chn (tl_is (tl_set (A 0) 2 x 0 255)) (tl_S S (tl_set (A 0) 2 x 0 255) 1))) := ⟨hf_48, hf_49, hf_50, hf_51, hf_52, hf_53, hf_54, hf_55, hf_56, hf_57, hf_58⟩
  exact xk_reti B hI_41 hr rfl dX2_want_13 (Nat.le_of_ble_eq_true rfl) (Nat.le_of_ble_eq_true rfl) (⟨rfl, hM_60, hfr_59⟩)
set_option maxHeartbeats 4000000 in
theorem m2_heavy (g : xk_G) {X : xk_H} {o : Nat} {ad : Nat → Nat} {A : Nat → Nat → Nat} {S : Nat → Nat} (hM : tm_Ok g X o ad A S) (hk : tl_inv (A 0)) (x : Int32) (y : Int32) (hS1 : S 1 ≤ 8) : xk_C g yX2_heavy (ws_ yX2_heavy cX2_heavy 3 (some .int)) ({ frames := 3, cells := 0, slots := 0, locals := 72 } : Room) [.ref o, .int x, .int y] X (xk_Qi (tl_r (tl_heavy (A 0) x y)) (fun X1 => tm_Ok g X1 o ad (tl_fA A S (tl_heavy (A 0) x y)) (tl_fS S (tl_heavy (A 0) x y)) ∧ xk_fr o X X1)) := by
  refine xk_ofW (by decide +kernel) (Nat.le_of_ble_eq_true rfl) (fun p e s m args below meth c B hr hname hargs hI ls hl => ?_)
  have B : xk_B g p s m args meth c RX2 cX2_heavy 3 := B
  have hl : lv_has ls 3 [(0, .ref o), (1, .int x), (2, .int y)] := hl
  have hx := B.1
  have hb := B.2.1
  have hM0 := hM
  obtain ⟨hO, hA0, hA1, hA2, hA3, hA4, hA5, hA6, hA7, hA8, hA9⟩ := hM
  have hk0 := hk
  obtain ⟨k0, kb, kw, kl, ks, kr1, kr2, kwt, kL⟩ := hk
  have hfr : xk_fr o X X := xk_fr.rf
  refine lv_aload_n hx hb dX2_heavy_0 rfl (lv_at hl 0 rfl) ?_
  refine xk_rv (xk_cV B hI hl [] [] 0 (m2_begins g hM0 ) hO rfl (lw_V q1500 q1502 qs29 q79 q1503) ⟨rfl, by decide +kernel, by decide +kernel, by decide +kernel⟩ ⟨Nat.le_of_ble_eq_true rfl, Nat.le_of_ble_eq_true rfl⟩ rfl rfl (Nat.le_of_ble_eq_true rfl) dX2_heavy_1 (Nat.le_of_ble_eq_true rfl) (Nat.le_of_ble_eq_true rfl)) hI (fun X_4 H_2 L_3 hq_5 hI_1 => ?_)
  obtain ⟨hM_6, hfr_7⟩ := hq_5
  obtain ⟨hf_8, hf_9, hf_10, hf_11, hf_12, hf_13, hf_14, hf_15, hf_16, hf_17, hf_18⟩ := id hM_6
  have hfr_19 := xk_fr.tr hfr hfr_7
  have hf_9 : X_4 (ad 0) = some ((o, 1), xk_iA g 0 294 (A 0)) := hf_9
  have hf_10 : X_4 (ad 1) = some ((o, 2), xk_iA g 0 294 (tl_cp (A 0) (A 1) 294)) := hf_10
  have hf_11 : X_4 (ad 2) = some ((o, 3), xk_iA g 0 294 (A 2)) := hf_11
  have hf_12 : X_4 (ad 3) = some ((o, 4), xk_iA g 0 294 (A 3)) := hf_12
  have hf_13 : X_4 (ad 4) = some ((o, 5), xk_iA g 0 2352 (A 4)) := hf_13
  have hf_14 : X_4 (ad 5) = some ((o, 6), xk_iA g 0 70 (A 5)) := hf_14
  have hf_15 : X_4 (ad 6) = some ((o, 7), xk_iA g 2 40 (A 6)) := hf_15
  have hf_16 : X_4 (ad 7) = some ((o, 8), xk_iA g 2 40 (A 7)) := hf_16
  have hf_17 : X_4 (ad 8) = some ((o, 9), xk_iA g 0 60 (A 8)) := hf_17
  have hf_18 : X_4 (ad 9) = some ((o, 10), xk_iA g 0 284 (A 9)) := hf_18
  have hf_8 : X_4 o = some ((o, 0), .inr (0, [.ref (ad 0), .ref (ad 1), .ref (ad 2), .ref (ad 3), .int (nI (S 0)), .ref (ad 4), .int (nI (S 1)), .int (nI (S 2)), .int (nI (S 3)), .int (tm_it (S 4)), .ref (ad 5), .int (nI (S 5)), .ref (ad 6), .ref (ad 7), .ref (ad 8), .int (nI (S 6)), .ref (ad 9), .int (nI (S 7)), .int (nI (S 8)), .int (nI (S 9)), .int (nI (S 10))])) := hf_8
  refine lv_aload_n hx hb dX2_heavy_4 rfl (lv_at hl 0 rfl) ?_
  refine lv_aload_n hx hb dX2_heavy_5 rfl (lv_at hl 0 rfl) ?_
  refine lv_iload_n hx hb dX2_heavy_6 rfl (lv_at hl 1 rfl) ?_
  refine lv_iload_n hx hb dX2_heavy_7 rfl (lv_at hl 2 rfl) ?_
  have hM_20 : tm_Ok g X_4 o ad (va_up A 1 (tl_cp (A 0) (A 1) 294)) S := ⟨hf_8, hf_9, hf_10, hf_11, hf_12, hf_13, hf_14, hf_15, hf_16, hf_17, hf_18⟩
  refine xk_ri (xk_cV B hI_1 hl [.int x, .int y] [.ref o] 2 (m2_heavyIt g hM_20 hk0 x y) hf_8 rfl (lw_V q1589 q1591 qs45 q79 q1592) ⟨rfl, by decide +kernel, by decide +kernel, by decide +kernel⟩ ⟨Nat.le_of_ble_eq_true rfl, Nat.le_of_ble_eq_true rfl⟩ rfl rfl (Nat.le_of_ble_eq_true rfl) dX2_heavy_8 (Nat.le_of_ble_eq_true rfl) (Nat.le_of_ble_eq_true rfl)) hI_1 (fun X_24 H_22 L_23 hq_25 hI_21 => ?_)
  refine xk_top (y := tl_r (tl_heavy (A 0) x y)) rfl ?_
  obtain ⟨hM_26, hfr_27⟩ := hq_25
  obtain ⟨hf_28, hf_29, hf_30, hf_31, hf_32, hf_33, hf_34, hf_35, hf_36, hf_37, hf_38⟩ := id hM_26
  have hfr_39 := xk_fr.tr hfr_19 hfr_27
  have hf_29 : X_24 (ad 0) = some ((o, 1), xk_iA g 0 294 (tl_m (A 0) (tl_heavy (A 0) x y))) := hf_29
  have hf_30 : X_24 (ad 1) = some ((o, 2), xk_iA g 0 294 (tl_cp (A 0) (A 1) 294)) := hf_30
  have hf_31 : X_24 (ad 2) = some ((o, 3), xk_iA g 0 294 (A 2)) := hf_31
  have hf_32 : X_24 (ad 3) = some ((o, 4), xk_iA g 0 294 (A 3)) := hf_32
  have hf_33 : X_24 (ad 4) = some ((o, 5), xk_iA g 0 2352 (A 4)) := hf_33
  have hf_34 : X_24 (ad 5) = some ((o, 6), xk_iA g 0 70 (A 5)) := hf_34
  have hf_35 : X_24 (ad 6) = some ((o, 7), xk_iA g 2 40 (A 6)) := hf_35
  have hf_36 : X_24 (ad 7) = some ((o, 8), xk_iA g 2 40 (A 7)) := hf_36
  have hf_37 : X_24 (ad 8) = some ((o, 9), xk_iA g 0 60 (A 8)) := hf_37
  have hf_38 : X_24 (ad 9) = some ((o, 10), xk_iA g 0 284 (A 9)) := hf_38
  have hf_28 : X_24 o = some ((o, 0), .inr (0, [.ref (ad 0), .ref (ad 1), .ref (ad 2), .ref (ad 3), .int (nI (tl_S S (tl_heavy (A 0) x y) 0)), .ref (ad 4), .int (nI (tl_S S (tl_heavy (A 0) x y) 1)), .int (nI (tl_S S (tl_heavy (A 0) x y) 2)), .int (nI (tl_S S (tl_heavy (A 0) x y) 3)), .int (tm_it (tl_S S (tl_heavy (A 0) x y) 4)), .ref (ad 5), .int (nI (tl_S S (tl_heavy (A 0) x y) 5)), .ref (ad 6), .ref (ad 7), .ref (ad 8), .int (nI (tl_S S (tl_heavy (A 0) x y) 6)), .ref (ad 9), .int (nI (tl_S S (tl_heavy (A 0) x y) 7)), .int (nI (tl_S S (tl_heavy (A 0) x y) 8)), .int (nI (tl_S S (tl_heavy (A 0) x y) 9)), .int (nI (tl_S S (tl_heavy (A 0) x y) 10))])) := hf_28
  have hM_40 : tm_Ok g X_24 o ad (va_up (va_up A 0 (tl_m (A 0) (tl_heavy (A 0) x y))) 1 (tl_cp (A 0) (A 1) 294)) (tl_S S (tl_heavy (A 0) x y)) := ⟨hf_28, hf_29, hf_30, hf_31, hf_32, hf_33, hf_34, hf_35, hf_36, hf_37, hf_38⟩
  refine xk_ri (xk_cV B hI_21 hl [.int (tl_r (tl_heavy (A 0) x y))] [] 1 (m2_changed g hM_40 (tl_heavy (A 0) x y) (tl_heavy_okc hk0 x y) (Nat.le_trans (Nat.le_of_eq (tl_S1 _ _)) hS1)) hf_28 rfl (lw_V q1531 q1533 qs35 q79 q1534) ⟨rfl, by decide +kernel, by decide +kernel, by decide +kernel⟩ ⟨Nat.le_of_ble_eq_true rfl, Nat.le_of_ble_eq_true rfl⟩ rfl rfl (Nat.le_of_ble_eq_true rfl) dX2_heavy_11 (Nat.le_of_ble_eq_true rfl) (Nat.le_of_ble_eq_true rfl)) hI_21 (fun X_44 H_42 L_43 hq_45 hI_41 => ?_)
  refine xk_top (y := tl_r (tl_heavy (A 0) x y)) rfl ?_
  obtain ⟨hM_46, hfr_47⟩ := hq_45
  obtain ⟨hf_48, hf_49, hf_50, hf_51, hf_52, hf_53, hf_54, hf_55, hf_56, hf_57, hf_58⟩ := id hM_46
  have hfr_59 := xk_fr.tr hfr_39 hfr_47
  have hf_49 : X_44 (ad 0) = some ((o, 1), xk_iA g 0 294 (tl_m (A 0) (tl_heavy (A 0) x y))) := hf_49
  have hf_50 : X_44 (ad 1) = some ((o, 2), xk_iA g 0 294 (tl_cp (A 0) (A 1) 294)) := hf_50
  have hf_51 : X_44 (ad 2) = some ((o, 3), xk_iA g 0 294 (A 2)) := hf_51
  have hf_52 : X_44 (ad 3) = some ((o, 4), xk_iA g 0 294 (A 3)) := hf_52
  have hf_53 : X_44 (ad 4) = some ((o, 5), xk_iA g 0 2352 (tl_pst (tl_is (tl_heavy (A 0) x y)) (tl_S S (tl_heavy (A 0) x y) 1) (A 4) (tl_cp (A 0) (A 1) 294))) := hf_53
  have hf_54 : X_44 (ad 5) = some ((o, 6), xk_iA g 0 70 (A 5)) := hf_54
  have hf_55 : X_44 (ad 6) = some ((o, 7), xk_iA g 2 40 (A 6)) := hf_55
  have hf_56 : X_44 (ad 7) = some ((o, 8), xk_iA g 2 40 (A 7)) := hf_56
  have hf_57 : X_44 (ad 8) = some ((o, 9), xk_iA g 0 60 (A 8)) := hf_57
  have hf_58 : X_44 (ad 9) = some ((o, 10), xk_iA g 0 284 (A 9)) := hf_58
  have hf_48 : X_44 o = some ((o, 0), .inr (0, [.ref (ad 0), .ref (ad 1), .ref (ad 2), .ref (ad 3), .int (nI (tl_S S (tl_heavy (A 0) x y) 0)), .ref (ad 4), .int (nI (tl_chn (tl_is (tl_heavy (A 0) x y)) (tl_S S (tl_heavy (A 0) x y) 1))), .int (nI (tl_S S (tl_heavy (A 0) x y) 2)), .int (nI (tl_S S (tl_heavy (A 0) x y) 3)), .int (tm_it (tl_S S (tl_heavy (A 0) x y) 4)), .ref (ad 5), .int (nI (tl_S S (tl_heavy (A 0) x y) 5)), .ref (ad 6), .ref (ad 7), .ref (ad 8), .int (nI (tl_S S (tl_heavy (A 0) x y) 6)), .ref (ad 9), .int (nI (tl_S S (tl_heavy (A 0) x y) 7)), .int (nI (tl_S S (tl_heavy (A 0) x y) 8)), .int (nI (tl_S S (tl_heavy (A 0) x y) 9)), .int (nI (tl_S S (tl_heavy (A 0) x y) 10))])) := hf_48
  have hM_60 : tm_Ok g X_44 o ad (va_up (va_up (va_up A 0 (tl_m (A 0) (tl_heavy (A 0) x y))) 1 (tl_cp (A 0) (A 1) 294)) 4 (tl_pst (tl_is (tl_heavy (A 0) x y)) (tl_S S (tl_heavy (A 0) x y) 1) (A 4) (tl_cp (A 0) (A 1) 294))) (va_up (tl_S S (tl_heavy (A 0) x y)) 1 (tl_chn (tl_is (tl_heavy (A 0) x y)) (tl_S S (tl_heavy (A 0) x y) 1))) := ⟨hf_48, hf_49, hf_50, hf_51, hf_52, hf_53, hf_54, hf_55, hf_56, hf_57, hf_58⟩
  exact xk_reti B hI_41 hr rfl dX2_heavy_14 (Nat.le_of_ble_eq_true rfl) (Nat.le_of_ble_eq_true rfl) (⟨rfl, hM_60, hfr_59⟩)
set_option maxHeartbeats 4000000 in
theorem m2_luck (g : xk_G) {X : xk_H} {o : Nat} {ad : Nat → Nat} {A : Nat → Nat → Nat} {S : Nat → Nat} (hM : tm_Ok g X o ad A S) (hk : tl_inv (A 0)) (x : Int32) (hS1 : S 1 ≤ 8) : xk_C g yX2_luck (ws_ yX2_luck cX2_luck 2 (some .int)) ({ frames := 3, cells := 0, slots := 0, locals := 71 } : Room) [.ref o, .int x] X (xk_Qi (tl_r (tl_set (A 0) 3 x 0 100)) (fun X1 => tm_Ok g X1 o ad (tl_fA A S (tl_set (A 0) 3 x 0 100)) (tl_fS S (tl_set (A 0) 3 x 0 100)) ∧ xk_fr o X X1)) := by
  refine xk_ofW (by decide +kernel) (Nat.le_of_ble_eq_true rfl) (fun p e s m args below meth c B hr hname hargs hI ls hl => ?_)
  have B : xk_B g p s m args meth c RX2 cX2_luck 2 := B
  have hl : lv_has ls 2 [(0, .ref o), (1, .int x)] := hl
  have hx := B.1
  have hb := B.2.1
  have hM0 := hM
  obtain ⟨hO, hA0, hA1, hA2, hA3, hA4, hA5, hA6, hA7, hA8, hA9⟩ := hM
  have hk0 := hk
  obtain ⟨k0, kb, kw, kl, ks, kr1, kr2, kwt, kL⟩ := hk
  have hfr : xk_fr o X X := xk_fr.rf
  refine lv_aload_n hx hb dX2_luck_0 rfl (lv_at hl 0 rfl) ?_
  refine xk_rv (xk_cV B hI hl [] [] 0 (m2_begins g hM0 ) hO rfl (lw_V q1500 q1502 qs29 q79 q1503) ⟨rfl, by decide +kernel, by decide +kernel, by decide +kernel⟩ ⟨Nat.le_of_ble_eq_true rfl, Nat.le_of_ble_eq_true rfl⟩ rfl rfl (Nat.le_of_ble_eq_true rfl) dX2_luck_1 (Nat.le_of_ble_eq_true rfl) (Nat.le_of_ble_eq_true rfl)) hI (fun X_4 H_2 L_3 hq_5 hI_1 => ?_)
  obtain ⟨hM_6, hfr_7⟩ := hq_5
  obtain ⟨hf_8, hf_9, hf_10, hf_11, hf_12, hf_13, hf_14, hf_15, hf_16, hf_17, hf_18⟩ := id hM_6
  have hfr_19 := xk_fr.tr hfr hfr_7
  have hf_9 : X_4 (ad 0) = some ((o, 1), xk_iA g 0 294 (A 0)) := hf_9
  have hf_10 : X_4 (ad 1) = some ((o, 2), xk_iA g 0 294 (tl_cp (A 0) (A 1) 294)) := hf_10
  have hf_11 : X_4 (ad 2) = some ((o, 3), xk_iA g 0 294 (A 2)) := hf_11
  have hf_12 : X_4 (ad 3) = some ((o, 4), xk_iA g 0 294 (A 3)) := hf_12
  have hf_13 : X_4 (ad 4) = some ((o, 5), xk_iA g 0 2352 (A 4)) := hf_13
  have hf_14 : X_4 (ad 5) = some ((o, 6), xk_iA g 0 70 (A 5)) := hf_14
  have hf_15 : X_4 (ad 6) = some ((o, 7), xk_iA g 2 40 (A 6)) := hf_15
  have hf_16 : X_4 (ad 7) = some ((o, 8), xk_iA g 2 40 (A 7)) := hf_16
  have hf_17 : X_4 (ad 8) = some ((o, 9), xk_iA g 0 60 (A 8)) := hf_17
  have hf_18 : X_4 (ad 9) = some ((o, 10), xk_iA g 0 284 (A 9)) := hf_18
  have hf_8 : X_4 o = some ((o, 0), .inr (0, [.ref (ad 0), .ref (ad 1), .ref (ad 2), .ref (ad 3), .int (nI (S 0)), .ref (ad 4), .int (nI (S 1)), .int (nI (S 2)), .int (nI (S 3)), .int (tm_it (S 4)), .ref (ad 5), .int (nI (S 5)), .ref (ad 6), .ref (ad 7), .ref (ad 8), .int (nI (S 6)), .ref (ad 9), .int (nI (S 7)), .int (nI (S 8)), .int (nI (S 9)), .int (nI (S 10))])) := hf_8
  refine lv_aload_n hx hb dX2_luck_4 rfl (lv_at hl 0 rfl) ?_
  refine lv_aload_n hx hb dX2_luck_5 rfl (lv_at hl 0 rfl) ?_
  refine lv_iload_n hx hb dX2_luck_6 rfl (lv_at hl 1 rfl) ?_
  have hM_20 : tm_Ok g X_4 o ad (va_up A 1 (tl_cp (A 0) (A 1) 294)) S := ⟨hf_8, hf_9, hf_10, hf_11, hf_12, hf_13, hf_14, hf_15, hf_16, hf_17, hf_18⟩
  refine xk_ri (xk_cV B hI_1 hl [.int x] [.ref o] 1 (m2_luckIt g hM_20 hk0 x) hf_8 rfl (lw_V q1598 q1600 qs46 q79 q1601) ⟨rfl, by decide +kernel, by decide +kernel, by decide +kernel⟩ ⟨Nat.le_of_ble_eq_true rfl, Nat.le_of_ble_eq_true rfl⟩ rfl rfl (Nat.le_of_ble_eq_true rfl) dX2_luck_7 (Nat.le_of_ble_eq_true rfl) (Nat.le_of_ble_eq_true rfl)) hI_1 (fun X_24 H_22 L_23 hq_25 hI_21 => ?_)
  refine xk_top (y := tl_r (tl_set (A 0) 3 x 0 100)) rfl ?_
  obtain ⟨hM_26, hfr_27⟩ := hq_25
  obtain ⟨hf_28, hf_29, hf_30, hf_31, hf_32, hf_33, hf_34, hf_35, hf_36, hf_37, hf_38⟩ := id hM_26
  have hfr_39 := xk_fr.tr hfr_19 hfr_27
  have hf_29 : X_24 (ad 0) = some ((o, 1), xk_iA g 0 294 (tl_m (A 0) (tl_set (A 0) 3 x 0 100))) := hf_29
  have hf_30 : X_24 (ad 1) = some ((o, 2), xk_iA g 0 294 (tl_cp (A 0) (A 1) 294)) := hf_30
  have hf_31 : X_24 (ad 2) = some ((o, 3), xk_iA g 0 294 (A 2)) := hf_31
  have hf_32 : X_24 (ad 3) = some ((o, 4), xk_iA g 0 294 (A 3)) := hf_32
  have hf_33 : X_24 (ad 4) = some ((o, 5), xk_iA g 0 2352 (A 4)) := hf_33
  have hf_34 : X_24 (ad 5) = some ((o, 6), xk_iA g 0 70 (A 5)) := hf_34
  have hf_35 : X_24 (ad 6) = some ((o, 7), xk_iA g 2 40 (A 6)) := hf_35
  have hf_36 : X_24 (ad 7) = some ((o, 8), xk_iA g 2 40 (A 7)) := hf_36
  have hf_37 : X_24 (ad 8) = some ((o, 9), xk_iA g 0 60 (A 8)) := hf_37
  have hf_38 : X_24 (ad 9) = some ((o, 10), xk_iA g 0 284 (A 9)) := hf_38
  have hf_28 : X_24 o = some ((o, 0), .inr (0, [.ref (ad 0), .ref (ad 1), .ref (ad 2), .ref (ad 3), .int (nI (tl_S S (tl_set (A 0) 3 x 0 100) 0)), .ref (ad 4), .int (nI (tl_S S (tl_set (A 0) 3 x 0 100) 1)), .int (nI (tl_S S (tl_set (A 0) 3 x 0 100) 2)), .int (nI (tl_S S (tl_set (A 0) 3 x 0 100) 3)), .int (tm_it (tl_S S (tl_set (A 0) 3 x 0 100) 4)), .ref (ad 5), .int (nI (tl_S S (tl_set (A 0) 3 x 0 100) 5)), .ref (ad 6), .ref (ad 7), .ref (ad 8), .int (nI (tl_S S (tl_set (A 0) 3 x 0 100) 6)), .ref (ad 9), .int (nI (tl_S S (tl_set (A 0) 3 x 0 100) 7)), .int (nI (tl_S S (tl_set (A 0) 3 x 0 100) 8)), .int (nI (tl_S S (tl_set (A 0) 3 x 0 100) 9)), .int (nI (tl_S S (tl_set (A 0) 3 x 0 100) 10))])) := hf_28
  have hM_40 : tm_Ok g X_24 o ad (va_up (va_up A 0 (tl_m (A 0) (tl_set (A 0) 3 x 0 100))) 1 (tl_cp (A 0) (A 1) 294)) (tl_S S (tl_set (A 0) 3 x 0 100)) := ⟨hf_28, hf_29, hf_30, hf_31, hf_32, hf_33, hf_34, hf_35, hf_36, hf_37, hf_38⟩
  refine xk_ri (xk_cV B hI_21 hl [.int (tl_r (tl_set (A 0) 3 x 0 100))] [] 1 (m2_changed g hM_40 (tl_set (A 0) 3 x 0 100) (tl_set_okc (by omega) x _ _) (Nat.le_trans (Nat.le_of_eq (tl_S1 _ _)) hS1)) hf_28 rfl (lw_V q1531 q1533 qs35 q79 q1534) ⟨rfl, by decide +kernel, by decide +kernel, by decide +kernel⟩ ⟨Nat.le_of_ble_eq_true rfl, Nat.le_of_ble_eq_true rfl⟩ rfl rfl (Nat.le_of_ble_eq_true rfl) dX2_luck_10 (Nat.le_of_ble_eq_true rfl) (Nat.le_of_ble_eq_true rfl)) hI_21 (fun X_44 H_42 L_43 hq_45 hI_41 => ?_)
  refine xk_top (y := tl_r (tl_set (A 0) 3 x 0 100)) rfl ?_
  obtain ⟨hM_46, hfr_47⟩ := hq_45
  obtain ⟨hf_48, hf_49, hf_50, hf_51, hf_52, hf_53, hf_54, hf_55, hf_56, hf_57, hf_58⟩ := id hM_46
  have hfr_59 := xk_fr.tr hfr_39 hfr_47
  have hf_49 : X_44 (ad 0) = some ((o, 1), xk_iA g 0 294 (tl_m (A 0) (tl_set (A 0) 3 x 0 100))) := hf_49
  have hf_50 : X_44 (ad 1) = some ((o, 2), xk_iA g 0 294 (tl_cp (A 0) (A 1) 294)) := hf_50
  have hf_51 : X_44 (ad 2) = some ((o, 3), xk_iA g 0 294 (A 2)) := hf_51
  have hf_52 : X_44 (ad 3) = some ((o, 4), xk_iA g 0 294 (A 3)) := hf_52
  have hf_53 : X_44 (ad 4) = some ((o, 5), xk_iA g 0 2352 (tl_pst (tl_is (tl_set (A 0) 3 x 0 100)) (tl_S S (tl_set (A 0) 3 x 0 100) 1) (A 4) (tl_cp (A 0) (A 1) 294))) := hf_53
  have hf_54 : X_44 (ad 5) = some ((o, 6), xk_iA g 0 70 (A 5)) := hf_54
  have hf_55 : X_44 (ad 6) = some ((o, 7), xk_iA g 2 40 (A 6)) := hf_55
  have hf_56 : X_44 (ad 7) = some ((o, 8), xk_iA g 2 40 (A 7)) := hf_56
  have hf_57 : X_44 (ad 8) = some ((o, 9), xk_iA g 0 60 (A 8)) := hf_57
  have hf_58 : X_44 (ad 9) = some ((o, 10), xk_iA g 0 284 (A 9)) := hf_58
  have hf_48 : X_44 o = some ((o, 0), .inr (0, [.ref (ad 0), .ref (ad 1), .ref (ad 2), .ref (ad 3), .int (nI (tl_S S (tl_set (A 0) 3 x 0 100) 0)), .ref (ad 4), .int (nI (tl_chn (tl_is (tl_set (A 0) 3 x 0 100)) (tl_S S (tl_set (A 0) 3 x 0 100) 1))), .int (nI (tl_S S (tl_set (A 0) 3 x 0 100) 2)), .int (nI (tl_S S (tl_set (A 0) 3 x 0 100) 3)), .int (tm_it (tl_S S (tl_set (A 0) 3 x 0 100) 4)), .ref (ad 5), .int (nI (tl_S S (tl_set (A 0) 3 x 0 100) 5)), .ref (ad 6), .ref (ad 7), .ref (ad 8), .int (nI (tl_S S (tl_set (A 0) 3 x 0 100) 6)), .ref (ad 9), .int (nI (tl_S S (tl_set (A 0) 3 x 0 100) 7)), .int (nI (tl_S S (tl_set (A 0) 3 x 0 100) 8)), .int (nI (tl_S S (tl_set (A 0) 3 x 0 100) 9)), .int (nI (tl_S S (tl_set (A 0) 3 x 0 100) 10))])) := hf_48
  have hM_60 : tm_Ok g X_44 o ad (va_up (va_up (va_up A 0 (tl_m (A 0) (tl_set (A 0) 3 x 0 100))) 1 (tl_cp (A 0) (A 1) 294)) 4 (tl_pst (tl_is (tl_set (A 0) 3 x 0 100)) (tl_S S (tl_set (A 0) 3 x 0 100) 1) (A 4) (tl_cp (A 0) (A 1) 294))) (va_up (tl_S S (tl_set (A 0) 3 x 0 100)) 1 (tl_chn (tl_is (tl_set (A 0) 3 x 0 100)) (tl_S S (tl_set (A 0) 3 x 0 100) 1))) := ⟨hf_48, hf_49, hf_50, hf_51, hf_52, hf_53, hf_54, hf_55, hf_56, hf_57, hf_58⟩
  exact xk_reti B hI_41 hr rfl dX2_luck_13 (Nat.le_of_ble_eq_true rfl) (Nat.le_of_ble_eq_true rfl) (⟨rfl, hM_60, hfr_59⟩)
set_option maxHeartbeats 4000000 in
theorem m2_seed (g : xk_G) {X : xk_H} {o : Nat} {ad : Nat → Nat} {A : Nat → Nat → Nat} {S : Nat → Nat} (hM : tm_Ok g X o ad A S) (hk : tl_inv (A 0)) (x : Int32) (hS1 : S 1 ≤ 8) : xk_C g yX2_seed (ws_ yX2_seed cX2_seed 2 (some .int)) ({ frames := 2, cells := 0, slots := 0, locals := 50 } : Room) [.ref o, .int x] X (xk_Qi (tl_r (tl_set (A 0) 4 x 0 999999)) (fun X1 => tm_Ok g X1 o ad (tl_fA A S (tl_set (A 0) 4 x 0 999999)) (tl_fS S (tl_set (A 0) 4 x 0 999999)) ∧ xk_fr o X X1)) := by
  refine xk_ofW (by decide +kernel) (Nat.le_of_ble_eq_true rfl) (fun p e s m args below meth c B hr hname hargs hI ls hl => ?_)
  have B : xk_B g p s m args meth c RX2 cX2_seed 2 := B
  have hl : lv_has ls 2 [(0, .ref o), (1, .int x)] := hl
  have hx := B.1
  have hb := B.2.1
  have hM0 := hM
  obtain ⟨hO, hA0, hA1, hA2, hA3, hA4, hA5, hA6, hA7, hA8, hA9⟩ := hM
  have hk0 := hk
  obtain ⟨k0, kb, kw, kl, ks, kr1, kr2, kwt, kL⟩ := hk
  have hfr : xk_fr o X X := xk_fr.rf
  refine lv_aload_n hx hb dX2_seed_0 rfl (lv_at hl 0 rfl) ?_
  refine xk_rv (xk_cV B hI hl [] [] 0 (m2_begins g hM0 ) hO rfl (lw_V q1500 q1502 qs29 q79 q1503) ⟨rfl, by decide +kernel, by decide +kernel, by decide +kernel⟩ ⟨Nat.le_of_ble_eq_true rfl, Nat.le_of_ble_eq_true rfl⟩ rfl rfl (Nat.le_of_ble_eq_true rfl) dX2_seed_1 (Nat.le_of_ble_eq_true rfl) (Nat.le_of_ble_eq_true rfl)) hI (fun X_4 H_2 L_3 hq_5 hI_1 => ?_)
  obtain ⟨hM_6, hfr_7⟩ := hq_5
  obtain ⟨hf_8, hf_9, hf_10, hf_11, hf_12, hf_13, hf_14, hf_15, hf_16, hf_17, hf_18⟩ := id hM_6
  have hfr_19 := xk_fr.tr hfr hfr_7
  have hf_9 : X_4 (ad 0) = some ((o, 1), xk_iA g 0 294 (A 0)) := hf_9
  have hf_10 : X_4 (ad 1) = some ((o, 2), xk_iA g 0 294 (tl_cp (A 0) (A 1) 294)) := hf_10
  have hf_11 : X_4 (ad 2) = some ((o, 3), xk_iA g 0 294 (A 2)) := hf_11
  have hf_12 : X_4 (ad 3) = some ((o, 4), xk_iA g 0 294 (A 3)) := hf_12
  have hf_13 : X_4 (ad 4) = some ((o, 5), xk_iA g 0 2352 (A 4)) := hf_13
  have hf_14 : X_4 (ad 5) = some ((o, 6), xk_iA g 0 70 (A 5)) := hf_14
  have hf_15 : X_4 (ad 6) = some ((o, 7), xk_iA g 2 40 (A 6)) := hf_15
  have hf_16 : X_4 (ad 7) = some ((o, 8), xk_iA g 2 40 (A 7)) := hf_16
  have hf_17 : X_4 (ad 8) = some ((o, 9), xk_iA g 0 60 (A 8)) := hf_17
  have hf_18 : X_4 (ad 9) = some ((o, 10), xk_iA g 0 284 (A 9)) := hf_18
  have hf_8 : X_4 o = some ((o, 0), .inr (0, [.ref (ad 0), .ref (ad 1), .ref (ad 2), .ref (ad 3), .int (nI (S 0)), .ref (ad 4), .int (nI (S 1)), .int (nI (S 2)), .int (nI (S 3)), .int (tm_it (S 4)), .ref (ad 5), .int (nI (S 5)), .ref (ad 6), .ref (ad 7), .ref (ad 8), .int (nI (S 6)), .ref (ad 9), .int (nI (S 7)), .int (nI (S 8)), .int (nI (S 9)), .int (nI (S 10))])) := hf_8
  refine lv_aload_n hx hb dX2_seed_4 rfl (lv_at hl 0 rfl) ?_
  refine lv_aload_n hx hb dX2_seed_5 rfl (lv_at hl 0 rfl) ?_
  refine lv_iconst (v := nI 4) hx hb dX2_seed_6 (by decide) ?_
  refine lv_iload_n hx hb dX2_seed_7 rfl (lv_at hl 1 rfl) ?_
  refine lv_iconst (v := nI 0) hx hb dX2_seed_8 (by decide) ?_
  refine xk_ldc B q1606 dX2_seed_9 (v := nI 999999) (by decide) ?_
  have hM_20 : tm_Ok g X_4 o ad (va_up A 1 (tl_cp (A 0) (A 1) 294)) S := ⟨hf_8, hf_9, hf_10, hf_11, hf_12, hf_13, hf_14, hf_15, hf_16, hf_17, hf_18⟩
  refine xk_ri (xk_cV B hI_1 hl [.int (nI 4), .int x, .int (nI 0), .int (nI 999999)] [.ref o] 4 (m2_setIt g hM_20 (w9 := 4) x (lo := 0) (hi := 999999) (by omega) (show A 0 4 < 2147483648 from by omega) (by decide) (by decide)) hf_8 rfl (lw_V q1581 q1583 qs44 q79 q1584) ⟨rfl, by decide +kernel, by decide +kernel, by decide +kernel⟩ ⟨Nat.le_of_ble_eq_true rfl, Nat.le_of_ble_eq_true rfl⟩ rfl rfl (Nat.le_of_ble_eq_true rfl) dX2_seed_11 (Nat.le_of_ble_eq_true rfl) (Nat.le_of_ble_eq_true rfl)) hI_1 (fun X_24 H_22 L_23 hq_25 hI_21 => ?_)
  refine xk_top (y := tl_r (tl_set (A 0) 4 x 0 999999)) rfl ?_
  obtain ⟨hM_26, hfr_27⟩ := hq_25
  obtain ⟨hf_28, hf_29, hf_30, hf_31, hf_32, hf_33, hf_34, hf_35, hf_36, hf_37, hf_38⟩ := id hM_26
  have hfr_39 := xk_fr.tr hfr_19 hfr_27
  have hf_29 : X_24 (ad 0) = some ((o, 1), xk_iA g 0 294 (tl_m (A 0) (tl_set (A 0) 4 x 0 999999))) := hf_29
  have hf_30 : X_24 (ad 1) = some ((o, 2), xk_iA g 0 294 (tl_cp (A 0) (A 1) 294)) := hf_30
  have hf_31 : X_24 (ad 2) = some ((o, 3), xk_iA g 0 294 (A 2)) := hf_31
  have hf_32 : X_24 (ad 3) = some ((o, 4), xk_iA g 0 294 (A 3)) := hf_32
  have hf_33 : X_24 (ad 4) = some ((o, 5), xk_iA g 0 2352 (A 4)) := hf_33
  have hf_34 : X_24 (ad 5) = some ((o, 6), xk_iA g 0 70 (A 5)) := hf_34
  have hf_35 : X_24 (ad 6) = some ((o, 7), xk_iA g 2 40 (A 6)) := hf_35
  have hf_36 : X_24 (ad 7) = some ((o, 8), xk_iA g 2 40 (A 7)) := hf_36
  have hf_37 : X_24 (ad 8) = some ((o, 9), xk_iA g 0 60 (A 8)) := hf_37
  have hf_38 : X_24 (ad 9) = some ((o, 10), xk_iA g 0 284 (A 9)) := hf_38
  have hf_28 : X_24 o = some ((o, 0), .inr (0, [.ref (ad 0), .ref (ad 1), .ref (ad 2), .ref (ad 3), .int (nI (tl_S S (tl_set (A 0) 4 x 0 999999) 0)), .ref (ad 4), .int (nI (tl_S S (tl_set (A 0) 4 x 0 999999) 1)), .int (nI (tl_S S (tl_set (A 0) 4 x 0 999999) 2)), .int (nI (tl_S S (tl_set (A 0) 4 x 0 999999) 3)), .int (tm_it (tl_S S (tl_set (A 0) 4 x 0 999999) 4)), .ref (ad 5), .int (nI (tl_S S (tl_set (A 0) 4 x 0 999999) 5)), .ref (ad 6), .ref (ad 7), .ref (ad 8), .int (nI (tl_S S (tl_set (A 0) 4 x 0 999999) 6)), .ref (ad 9), .int (nI (tl_S S (tl_set (A 0) 4 x 0 999999) 7)), .int (nI (tl_S S (tl_set (A 0) 4 x 0 999999) 8)), .int (nI (tl_S S (tl_set (A 0) 4 x 0 999999) 9)), .int (nI (tl_S S (tl_set (A 0) 4 x 0 999999) 10))])) := hf_28
  have hM_40 : tm_Ok g X_24 o ad (va_up (va_up A 0 (tl_m (A 0) (tl_set (A 0) 4 x 0 999999))) 1 (tl_cp (A 0) (A 1) 294)) (tl_S S (tl_set (A 0) 4 x 0 999999)) := ⟨hf_28, hf_29, hf_30, hf_31, hf_32, hf_33, hf_34, hf_35, hf_36, hf_37, hf_38⟩
  refine xk_ri (xk_cV B hI_21 hl [.int (tl_r (tl_set (A 0) 4 x 0 999999))] [] 1 (m2_changed g hM_40 (tl_set (A 0) 4 x 0 999999) (tl_set_okc (by omega) x _ _) (Nat.le_trans (Nat.le_of_eq (tl_S1 _ _)) hS1)) hf_28 rfl (lw_V q1531 q1533 qs35 q79 q1534) ⟨rfl, by decide +kernel, by decide +kernel, by decide +kernel⟩ ⟨Nat.le_of_ble_eq_true rfl, Nat.le_of_ble_eq_true rfl⟩ rfl rfl (Nat.le_of_ble_eq_true rfl) dX2_seed_14 (Nat.le_of_ble_eq_true rfl) (Nat.le_of_ble_eq_true rfl)) hI_21 (fun X_44 H_42 L_43 hq_45 hI_41 => ?_)
  refine xk_top (y := tl_r (tl_set (A 0) 4 x 0 999999)) rfl ?_
  obtain ⟨hM_46, hfr_47⟩ := hq_45
  obtain ⟨hf_48, hf_49, hf_50, hf_51, hf_52, hf_53, hf_54, hf_55, hf_56, hf_57, hf_58⟩ := id hM_46
  have hfr_59 := xk_fr.tr hfr_39 hfr_47
  have hf_49 : X_44 (ad 0) = some ((o, 1), xk_iA g 0 294 (tl_m (A 0) (tl_set (A 0) 4 x 0 999999))) := hf_49
  have hf_50 : X_44 (ad 1) = some ((o, 2), xk_iA g 0 294 (tl_cp (A 0) (A 1) 294)) := hf_50
  have hf_51 : X_44 (ad 2) = some ((o, 3), xk_iA g 0 294 (A 2)) := hf_51
  have hf_52 : X_44 (ad 3) = some ((o, 4), xk_iA g 0 294 (A 3)) := hf_52
  have hf_53 : X_44 (ad 4) = some ((o, 5), xk_iA g 0 2352 (tl_pst (tl_is (tl_set (A 0) 4 x 0 999999)) (tl_S S (tl_set (A 0) 4 x 0 999999) 1) (A 4) (tl_cp (A 0) (A 1) 294))) := hf_53
  have hf_54 : X_44 (ad 5) = some ((o, 6), xk_iA g 0 70 (A 5)) := hf_54
  have hf_55 : X_44 (ad 6) = some ((o, 7), xk_iA g 2 40 (A 6)) := hf_55
  have hf_56 : X_44 (ad 7) = some ((o, 8), xk_iA g 2 40 (A 7)) := hf_56
  have hf_57 : X_44 (ad 8) = some ((o, 9), xk_iA g 0 60 (A 8)) := hf_57
  have hf_58 : X_44 (ad 9) = some ((o, 10), xk_iA g 0 284 (A 9)) := hf_58
  have hf_48 : X_44 o = some ((o, 0), .inr (0, [.ref (ad 0), .ref (ad 1), .ref (ad 2), .ref (ad 3), .int (nI (tl_S S (tl_set (A 0) 4 x 0 999999) 0)), .ref (ad 4), .int (nI (tl_chn (tl_is (tl_set (A 0) 4 x 0 999999)) (tl_S S (tl_set (A 0) 4 x 0 999999) 1))), .int (nI (tl_S S (tl_set (A 0) 4 x 0 999999) 2)), .int (nI (tl_S S (tl_set (A 0) 4 x 0 999999) 3)), .int (tm_it (tl_S S (tl_set (A 0) 4 x 0 999999) 4)), .ref (ad 5), .int (nI (tl_S S (tl_set (A 0) 4 x 0 999999) 5)), .ref (ad 6), .ref (ad 7), .ref (ad 8), .int (nI (tl_S S (tl_set (A 0) 4 x 0 999999) 6)), .ref (ad 9), .int (nI (tl_S S (tl_set (A 0) 4 x 0 999999) 7)), .int (nI (tl_S S (tl_set (A 0) 4 x 0 999999) 8)), .int (nI (tl_S S (tl_set (A 0) 4 x 0 999999) 9)), .int (nI (tl_S S (tl_set (A 0) 4 x 0 999999) 10))])) := hf_48
  have hM_60 : tm_Ok g X_44 o ad (va_up (va_up (va_up A 0 (tl_m (A 0) (tl_set (A 0) 4 x 0 999999))) 1 (tl_cp (A 0) (A 1) 294)) 4 (tl_pst (tl_is (tl_set (A 0) 4 x 0 999999)) (tl_S S (tl_set (A 0) 4 x 0 999999) 1) (A 4) (tl_cp (A 0) (A 1) 294))) (va_up (tl_S S (tl_set (A 0) 4 x 0 999999)) 1 (tl_chn (tl_is (tl_set (A 0) 4 x 0 999999)) (tl_S S (tl_set (A 0) 4 x 0 999999) 1))) := ⟨hf_48, hf_49, hf_50, hf_51, hf_52, hf_53, hf_54, hf_55, hf_56, hf_57, hf_58⟩
  exact xk_reti B hI_41 hr rfl dX2_seed_17 (Nat.le_of_ble_eq_true rfl) (Nat.le_of_ble_eq_true rfl) (⟨rfl, hM_60, hfr_59⟩)
set_option maxHeartbeats 4000000 in
theorem m2_room (g : xk_G) {X : xk_H} {o : Nat} {ad : Nat → Nat} {A : Nat → Nat → Nat} {S : Nat → Nat} (hM : tm_Ok g X o ad A S) (hk : tl_inv (A 0)) (x : Int32) (hS1 : S 1 ≤ 8) : xk_C g yX2_room (ws_ yX2_room cX2_room 2 (some .int)) ({ frames := 3, cells := 0, slots := 0, locals := 71 } : Room) [.ref o, .int x] X (xk_Qi (tl_r (tl_set (A 0) 5 x 2 12)) (fun X1 => tm_Ok g X1 o ad (tl_fA A S (tl_set (A 0) 5 x 2 12)) (tl_fS S (tl_set (A 0) 5 x 2 12)) ∧ xk_fr o X X1)) := by
  refine xk_ofW (by decide +kernel) (Nat.le_of_ble_eq_true rfl) (fun p e s m args below meth c B hr hname hargs hI ls hl => ?_)
  have B : xk_B g p s m args meth c RX2 cX2_room 2 := B
  have hl : lv_has ls 2 [(0, .ref o), (1, .int x)] := hl
  have hx := B.1
  have hb := B.2.1
  have hM0 := hM
  obtain ⟨hO, hA0, hA1, hA2, hA3, hA4, hA5, hA6, hA7, hA8, hA9⟩ := hM
  have hk0 := hk
  obtain ⟨k0, kb, kw, kl, ks, kr1, kr2, kwt, kL⟩ := hk
  have hfr : xk_fr o X X := xk_fr.rf
  refine lv_aload_n hx hb dX2_room_0 rfl (lv_at hl 0 rfl) ?_
  refine xk_rv (xk_cV B hI hl [] [] 0 (m2_begins g hM0 ) hO rfl (lw_V q1500 q1502 qs29 q79 q1503) ⟨rfl, by decide +kernel, by decide +kernel, by decide +kernel⟩ ⟨Nat.le_of_ble_eq_true rfl, Nat.le_of_ble_eq_true rfl⟩ rfl rfl (Nat.le_of_ble_eq_true rfl) dX2_room_1 (Nat.le_of_ble_eq_true rfl) (Nat.le_of_ble_eq_true rfl)) hI (fun X_4 H_2 L_3 hq_5 hI_1 => ?_)
  obtain ⟨hM_6, hfr_7⟩ := hq_5
  obtain ⟨hf_8, hf_9, hf_10, hf_11, hf_12, hf_13, hf_14, hf_15, hf_16, hf_17, hf_18⟩ := id hM_6
  have hfr_19 := xk_fr.tr hfr hfr_7
  have hf_9 : X_4 (ad 0) = some ((o, 1), xk_iA g 0 294 (A 0)) := hf_9
  have hf_10 : X_4 (ad 1) = some ((o, 2), xk_iA g 0 294 (tl_cp (A 0) (A 1) 294)) := hf_10
  have hf_11 : X_4 (ad 2) = some ((o, 3), xk_iA g 0 294 (A 2)) := hf_11
  have hf_12 : X_4 (ad 3) = some ((o, 4), xk_iA g 0 294 (A 3)) := hf_12
  have hf_13 : X_4 (ad 4) = some ((o, 5), xk_iA g 0 2352 (A 4)) := hf_13
  have hf_14 : X_4 (ad 5) = some ((o, 6), xk_iA g 0 70 (A 5)) := hf_14
  have hf_15 : X_4 (ad 6) = some ((o, 7), xk_iA g 2 40 (A 6)) := hf_15
  have hf_16 : X_4 (ad 7) = some ((o, 8), xk_iA g 2 40 (A 7)) := hf_16
  have hf_17 : X_4 (ad 8) = some ((o, 9), xk_iA g 0 60 (A 8)) := hf_17
  have hf_18 : X_4 (ad 9) = some ((o, 10), xk_iA g 0 284 (A 9)) := hf_18
  have hf_8 : X_4 o = some ((o, 0), .inr (0, [.ref (ad 0), .ref (ad 1), .ref (ad 2), .ref (ad 3), .int (nI (S 0)), .ref (ad 4), .int (nI (S 1)), .int (nI (S 2)), .int (nI (S 3)), .int (tm_it (S 4)), .ref (ad 5), .int (nI (S 5)), .ref (ad 6), .ref (ad 7), .ref (ad 8), .int (nI (S 6)), .ref (ad 9), .int (nI (S 7)), .int (nI (S 8)), .int (nI (S 9)), .int (nI (S 10))])) := hf_8
  refine lv_aload_n hx hb dX2_room_4 rfl (lv_at hl 0 rfl) ?_
  refine lv_aload_n hx hb dX2_room_5 rfl (lv_at hl 0 rfl) ?_
  refine lv_iload_n hx hb dX2_room_6 rfl (lv_at hl 1 rfl) ?_
  have hM_20 : tm_Ok g X_4 o ad (va_up A 1 (tl_cp (A 0) (A 1) 294)) S := ⟨hf_8, hf_9, hf_10, hf_11, hf_12, hf_13, hf_14, hf_15, hf_16, hf_17, hf_18⟩
  refine xk_ri (xk_cV B hI_1 hl [.int x] [.ref o] 1 (m2_roomIt g hM_20 hk0 x) hf_8 rfl (lw_V q1611 q1613 qs47 q79 q1614) ⟨rfl, by decide +kernel, by decide +kernel, by decide +kernel⟩ ⟨Nat.le_of_ble_eq_true rfl, Nat.le_of_ble_eq_true rfl⟩ rfl rfl (Nat.le_of_ble_eq_true rfl) dX2_room_7 (Nat.le_of_ble_eq_true rfl) (Nat.le_of_ble_eq_true rfl)) hI_1 (fun X_24 H_22 L_23 hq_25 hI_21 => ?_)
  refine xk_top (y := tl_r (tl_set (A 0) 5 x 2 12)) rfl ?_
  obtain ⟨hM_26, hfr_27⟩ := hq_25
  obtain ⟨hf_28, hf_29, hf_30, hf_31, hf_32, hf_33, hf_34, hf_35, hf_36, hf_37, hf_38⟩ := id hM_26
  have hfr_39 := xk_fr.tr hfr_19 hfr_27
  have hf_29 : X_24 (ad 0) = some ((o, 1), xk_iA g 0 294 (tl_m (A 0) (tl_set (A 0) 5 x 2 12))) := hf_29
  have hf_30 : X_24 (ad 1) = some ((o, 2), xk_iA g 0 294 (tl_cp (A 0) (A 1) 294)) := hf_30
  have hf_31 : X_24 (ad 2) = some ((o, 3), xk_iA g 0 294 (A 2)) := hf_31
  have hf_32 : X_24 (ad 3) = some ((o, 4), xk_iA g 0 294 (A 3)) := hf_32
  have hf_33 : X_24 (ad 4) = some ((o, 5), xk_iA g 0 2352 (A 4)) := hf_33
  have hf_34 : X_24 (ad 5) = some ((o, 6), xk_iA g 0 70 (A 5)) := hf_34
  have hf_35 : X_24 (ad 6) = some ((o, 7), xk_iA g 2 40 (A 6)) := hf_35
  have hf_36 : X_24 (ad 7) = some ((o, 8), xk_iA g 2 40 (A 7)) := hf_36
  have hf_37 : X_24 (ad 8) = some ((o, 9), xk_iA g 0 60 (A 8)) := hf_37
  have hf_38 : X_24 (ad 9) = some ((o, 10), xk_iA g 0 284 (A 9)) := hf_38
  have hf_28 : X_24 o = some ((o, 0), .inr (0, [.ref (ad 0), .ref (ad 1), .ref (ad 2), .ref (ad 3), .int (nI (tl_S S (tl_set (A 0) 5 x 2 12) 0)), .ref (ad 4), .int (nI (tl_S S (tl_set (A 0) 5 x 2 12) 1)), .int (nI (tl_S S (tl_set (A 0) 5 x 2 12) 2)), .int (nI (tl_S S (tl_set (A 0) 5 x 2 12) 3)), .int (tm_it (tl_S S (tl_set (A 0) 5 x 2 12) 4)), .ref (ad 5), .int (nI (tl_S S (tl_set (A 0) 5 x 2 12) 5)), .ref (ad 6), .ref (ad 7), .ref (ad 8), .int (nI (tl_S S (tl_set (A 0) 5 x 2 12) 6)), .ref (ad 9), .int (nI (tl_S S (tl_set (A 0) 5 x 2 12) 7)), .int (nI (tl_S S (tl_set (A 0) 5 x 2 12) 8)), .int (nI (tl_S S (tl_set (A 0) 5 x 2 12) 9)), .int (nI (tl_S S (tl_set (A 0) 5 x 2 12) 10))])) := hf_28
  have hM_40 : tm_Ok g X_24 o ad (va_up (va_up A 0 (tl_m (A 0) (tl_set (A 0) 5 x 2 12))) 1 (tl_cp (A 0) (A 1) 294)) (tl_S S (tl_set (A 0) 5 x 2 12)) := ⟨hf_28, hf_29, hf_30, hf_31, hf_32, hf_33, hf_34, hf_35, hf_36, hf_37, hf_38⟩
  refine xk_ri (xk_cV B hI_21 hl [.int (tl_r (tl_set (A 0) 5 x 2 12))] [] 1 (m2_changed g hM_40 (tl_set (A 0) 5 x 2 12) (tl_set_okc (by omega) x _ _) (Nat.le_trans (Nat.le_of_eq (tl_S1 _ _)) hS1)) hf_28 rfl (lw_V q1531 q1533 qs35 q79 q1534) ⟨rfl, by decide +kernel, by decide +kernel, by decide +kernel⟩ ⟨Nat.le_of_ble_eq_true rfl, Nat.le_of_ble_eq_true rfl⟩ rfl rfl (Nat.le_of_ble_eq_true rfl) dX2_room_10 (Nat.le_of_ble_eq_true rfl) (Nat.le_of_ble_eq_true rfl)) hI_21 (fun X_44 H_42 L_43 hq_45 hI_41 => ?_)
  refine xk_top (y := tl_r (tl_set (A 0) 5 x 2 12)) rfl ?_
  obtain ⟨hM_46, hfr_47⟩ := hq_45
  obtain ⟨hf_48, hf_49, hf_50, hf_51, hf_52, hf_53, hf_54, hf_55, hf_56, hf_57, hf_58⟩ := id hM_46
  have hfr_59 := xk_fr.tr hfr_39 hfr_47
  have hf_49 : X_44 (ad 0) = some ((o, 1), xk_iA g 0 294 (tl_m (A 0) (tl_set (A 0) 5 x 2 12))) := hf_49
  have hf_50 : X_44 (ad 1) = some ((o, 2), xk_iA g 0 294 (tl_cp (A 0) (A 1) 294)) := hf_50
  have hf_51 : X_44 (ad 2) = some ((o, 3), xk_iA g 0 294 (A 2)) := hf_51
  have hf_52 : X_44 (ad 3) = some ((o, 4), xk_iA g 0 294 (A 3)) := hf_52
  have hf_53 : X_44 (ad 4) = some ((o, 5), xk_iA g 0 2352 (tl_pst (tl_is (tl_set (A 0) 5 x 2 12)) (tl_S S (tl_set (A 0) 5 x 2 12) 1) (A 4) (tl_cp (A 0) (A 1) 294))) := hf_53
  have hf_54 : X_44 (ad 5) = some ((o, 6), xk_iA g 0 70 (A 5)) := hf_54
  have hf_55 : X_44 (ad 6) = some ((o, 7), xk_iA g 2 40 (A 6)) := hf_55
  have hf_56 : X_44 (ad 7) = some ((o, 8), xk_iA g 2 40 (A 7)) := hf_56
  have hf_57 : X_44 (ad 8) = some ((o, 9), xk_iA g 0 60 (A 8)) := hf_57
  have hf_58 : X_44 (ad 9) = some ((o, 10), xk_iA g 0 284 (A 9)) := hf_58
  have hf_48 : X_44 o = some ((o, 0), .inr (0, [.ref (ad 0), .ref (ad 1), .ref (ad 2), .ref (ad 3), .int (nI (tl_S S (tl_set (A 0) 5 x 2 12) 0)), .ref (ad 4), .int (nI (tl_chn (tl_is (tl_set (A 0) 5 x 2 12)) (tl_S S (tl_set (A 0) 5 x 2 12) 1))), .int (nI (tl_S S (tl_set (A 0) 5 x 2 12) 2)), .int (nI (tl_S S (tl_set (A 0) 5 x 2 12) 3)), .int (tm_it (tl_S S (tl_set (A 0) 5 x 2 12) 4)), .ref (ad 5), .int (nI (tl_S S (tl_set (A 0) 5 x 2 12) 5)), .ref (ad 6), .ref (ad 7), .ref (ad 8), .int (nI (tl_S S (tl_set (A 0) 5 x 2 12) 6)), .ref (ad 9), .int (nI (tl_S S (tl_set (A 0) 5 x 2 12) 7)), .int (nI (tl_S S (tl_set (A 0) 5 x 2 12) 8)), .int (nI (tl_S S (tl_set (A 0) 5 x 2 12) 9)), .int (nI (tl_S S (tl_set (A 0) 5 x 2 12) 10))])) := hf_48
  have hM_60 : tm_Ok g X_44 o ad (va_up (va_up (va_up A 0 (tl_m (A 0) (tl_set (A 0) 5 x 2 12))) 1 (tl_cp (A 0) (A 1) 294)) 4 (tl_pst (tl_is (tl_set (A 0) 5 x 2 12)) (tl_S S (tl_set (A 0) 5 x 2 12) 1) (A 4) (tl_cp (A 0) (A 1) 294))) (va_up (tl_S S (tl_set (A 0) 5 x 2 12)) 1 (tl_chn (tl_is (tl_set (A 0) 5 x 2 12)) (tl_S S (tl_set (A 0) 5 x 2 12) 1))) := ⟨hf_48, hf_49, hf_50, hf_51, hf_52, hf_53, hf_54, hf_55, hf_56, hf_57, hf_58⟩
  exact xk_reti B hI_41 hr rfl dX2_room_13 (Nat.le_of_ble_eq_true rfl) (Nat.le_of_ble_eq_true rfl) (⟨rfl, hM_60, hfr_59⟩)
