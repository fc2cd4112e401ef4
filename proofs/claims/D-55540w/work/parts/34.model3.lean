/-! the model: walks, printed by tools/model.py -/
set_option maxRecDepth 100000
set_option maxHeartbeats 4000000 in
theorem m2_plantIt (g : xk_G) {X : xk_H} {o : Nat} {ad : Nat → Nat} {A : Nat → Nat → Nat} {S : Nat → Nat} (hM : tm_Ok g X o ad A S) (hk : tl_inv (A 0)) (x : Int32) : xk_C g yX2_plantIt (ws_ yX2_plantIt cX2_plantIt 3 (some .int)) ({ frames := 3, cells := 0, slots := 0, locals := 62 } : Room) [.ref o, .int x] X (xk_Qi (tl_r (tl_plant (A 0) x)) (fun X1 => tm_Ok g X1 o ad (va_up A 0 (tl_m (A 0) (tl_plant (A 0) x))) (tl_S S (tl_plant (A 0) x)) ∧ xk_fr o X X1)) := by
  refine xk_ofW (by decide +kernel) (Nat.le_of_ble_eq_true rfl) (fun p e s m args below meth c B hr hname hargs hI ls hl => ?_)
  have B : xk_B g p s m args meth c RX2 cX2_plantIt 3 := B
  have hl : lv_has ls 3 [(0, .ref o), (1, .int x)] := hl
  have hx := B.1
  have hb := B.2.1
  have hM0 := hM
  obtain ⟨hO, hA0, hA1, hA2, hA3, hA4, hA5, hA6, hA7, hA8, hA9⟩ := hM
  have hk0 := hk
  obtain ⟨k0, kb, kw, kl, ks, kr1, kr2, kwt, kL⟩ := hk
  have hfr : xk_fr o X X := xk_fr.rf
  refine lv_iload_n hx hb dX2_plantIt_0 rfl (lv_at hl 1 rfl) ?_
  refine lv_i2l hx hb dX2_plantIt_1 rfl ?_
  refine lv_lconst (v := 0) hx hb dX2_plantIt_2 (by decide) ?_
  refine lv_ldc2 hx hb B.ow (B.ts _ q1508) dX2_plantIt_3 ?_
  refine xk_ri0 (xk_cS B hI hl [.long ((x).toInt64), .long (0 : Int64), .long (255 : Int64)] [] 3 (m2_in g (x := (x).toInt) (lo := 0) (hi := 255) (Int32.toInt_toInt64 _) (by decide) (by decide)) (lw_S q1509 q1510 q79 q1511) ⟨by decide +kernel, by decide +kernel, by decide +kernel⟩ ⟨Nat.le_of_ble_eq_true rfl, Nat.le_of_ble_eq_true rfl⟩ rfl rfl (Nat.le_of_ble_eq_true rfl) dX2_plantIt_6 (Nat.le_of_ble_eq_true rfl) (Nat.le_of_ble_eq_true rfl)) hI (fun H_2 L_3 hI_1 => ?_)
  refine xk_top (y := xk_z (tl_rng x 0 255)) rfl ?_
  refine xk_if_ne_z (tgt := 15) hx hb dX2_plantIt_9 (by decide) (fun hc_9 => ?_) (fun hc_9 => ?_)
  · obtain ⟨hx1, hx2, hx3, hx4⟩ := tl_rng_k hc_9 (by decide)
    refine lv_aload_n hx hb dX2_plantIt_15 rfl (lv_at hl 0 rfl) ?_
    refine xk_ri (xk_cV B hI_1 hl [] [] 0 (m2_full g hM0 hk0) hO rfl (lw_V q1512 q1514 qs31 q79 q1515) ⟨rfl, by decide +kernel, by decide +kernel, by decide +kernel⟩ ⟨Nat.le_of_ble_eq_true rfl, Nat.le_of_ble_eq_true rfl⟩ rfl rfl (Nat.le_of_ble_eq_true rfl) dX2_plantIt_16 (Nat.le_of_ble_eq_true rfl) (Nat.le_of_ble_eq_true rfl)) hI_1 (fun X_7 H_5 L_6 hq_8 hI_4 => ?_)
    refine xk_top (y := if tl_fullR (A 0) = 0 then 0 else -3) rfl ?_
    obtain ⟨hM_9, hfr_10⟩ := hq_8
    by_cases hF : tl_fullR (A 0) = 0
    · rw [if_pos hF] at hM_9
      refine xk_top (y := nI 0) (by rw [if_pos hF]; rfl) ?_
      obtain ⟨hf_11, hf_12, hf_13, hf_14, hf_15, hf_16, hf_17, hf_18, hf_19, hf_20, hf_21⟩ := id hM_9
      have hfr_22 := xk_fr.tr hfr hfr_10
      have hf_12 : X_7 (ad 0) = some ((o, 1), xk_iA g 0 294 (A 0)) := hf_12
      have hf_13 : X_7 (ad 1) = some ((o, 2), xk_iA g 0 294 (A 1)) := hf_13
      have hf_14 : X_7 (ad 2) = some ((o, 3), xk_iA g 0 294 (A 2)) := hf_14
      have hf_15 : X_7 (ad 3) = some ((o, 4), xk_iA g 0 294 (A 3)) := hf_15
      have hf_16 : X_7 (ad 4) = some ((o, 5), xk_iA g 0 2352 (A 4)) := hf_16
      have hf_17 : X_7 (ad 5) = some ((o, 6), xk_iA g 0 70 (A 5)) := hf_17
      have hf_18 : X_7 (ad 6) = some ((o, 7), xk_iA g 2 40 (A 6)) := hf_18
      have hf_19 : X_7 (ad 7) = some ((o, 8), xk_iA g 2 40 (A 7)) := hf_19
      have hf_20 : X_7 (ad 8) = some ((o, 9), xk_iA g 0 60 (A 8)) := hf_20
      have hf_21 : X_7 (ad 9) = some ((o, 10), xk_iA g 0 284 (A 9)) := hf_21
      have hf_11 : X_7 o = some ((o, 0), .inr (0, [.ref (ad 0), .ref (ad 1), .ref (ad 2), .ref (ad 3), .int (nI (S 0)), .ref (ad 4), .int (nI (S 1)), .int (nI (S 2)), .int (nI (S 3)), .int (tm_it (S 4)), .ref (ad 5), .int (nI (S 5)), .ref (ad 6), .ref (ad 7), .ref (ad 8), .int (nI (S 6)), .ref (ad 9), .int (nI (S 7)), .int (nI (S 8)), .int (nI (S 9)), .int (nI (S 10))])) := hf_11
      refine lv_istore_n (lv' := [(2, .int (nI 0)), (0, .ref o), (1, .int x)]) hx hb dX2_plantIt_19 rfl hl (by decide) rfl (fun ls hl => ?_)
      refine lv_iload_n hx hb dX2_plantIt_20 rfl (lv_at hl 0 rfl) ?_
      refine xk_if_ge_t (tgt := 28) hx hb (by omega) dX2_plantIt_21 (by decide) (by decide) ?_
      obtain ⟨f1, f2⟩ := tl_fullR_0 hk0 hF
      refine lv_aload_n hx hb dX2_plantIt_28 rfl (lv_at hl 1 rfl) ?_
      refine lv_iload_n hx hb dX2_plantIt_29 rfl (lv_at hl 2 rfl) ?_
      refine xk_top hx1 ?_
      refine lv_iconst (v := nI 0) hx hb dX2_plantIt_30 (by decide) ?_
      refine lv_iconst (v := nI 0) hx hb dX2_plantIt_31 (by decide) ?_
      refine lv_iconst (v := nI 0) hx hb dX2_plantIt_32 (by decide) ?_
      refine lv_iconst (v := nI 0) hx hb dX2_plantIt_33 (by decide) ?_
      have hM_23 : tm_Ok g X_7 o ad A S := ⟨hf_11, hf_12, hf_13, hf_14, hf_15, hf_16, hf_17, hf_18, hf_19, hf_20, hf_21⟩
      refine xk_ri (xk_cV B hI_4 hl [.int (nI (tl_n x)), .int (nI 0), .int (nI 0), .int (nI 0), .int (nI 0)] [] 5 (m2_comes g hM_23 (tl_n x) 0 0 0 0 (by omega)) hf_11 rfl (lw_V q1527 q1529 qs34 q79 q1530) ⟨rfl, by decide +kernel, by decide +kernel, by decide +kernel⟩ ⟨Nat.le_of_ble_eq_true rfl, Nat.le_of_ble_eq_true rfl⟩ rfl rfl (Nat.le_of_ble_eq_true rfl) dX2_plantIt_34 (Nat.le_of_ble_eq_true rfl) (Nat.le_of_ble_eq_true rfl)) hI_4 (fun X_27 H_25 L_26 hq_28 hI_24 => ?_)
      refine xk_top (y := nI (A 0 0)) rfl ?_
      obtain ⟨hM_29, hfr_30⟩ := hq_28
      obtain ⟨hf_31, hf_32, hf_33, hf_34, hf_35, hf_36, hf_37, hf_38, hf_39, hf_40, hf_41⟩ := id hM_29
      have hfr_42 := xk_fr.tr hfr_22 hfr_30
      have hf_32 : X_27 (ad 0) = some ((o, 1), xk_iA g 0 294 (tl_come (A 0) (tl_n x) 0 0 0 0)) := hf_32
      have hf_33 : X_27 (ad 1) = some ((o, 2), xk_iA g 0 294 (A 1)) := hf_33
      have hf_34 : X_27 (ad 2) = some ((o, 3), xk_iA g 0 294 (A 2)) := hf_34
      have hf_35 : X_27 (ad 3) = some ((o, 4), xk_iA g 0 294 (A 3)) := hf_35
      have hf_36 : X_27 (ad 4) = some ((o, 5), xk_iA g 0 2352 (A 4)) := hf_36
      have hf_37 : X_27 (ad 5) = some ((o, 6), xk_iA g 0 70 (A 5)) := hf_37
      have hf_38 : X_27 (ad 6) = some ((o, 7), xk_iA g 2 40 (A 6)) := hf_38
      have hf_39 : X_27 (ad 7) = some ((o, 8), xk_iA g 2 40 (A 7)) := hf_39
      have hf_40 : X_27 (ad 8) = some ((o, 9), xk_iA g 0 60 (A 8)) := hf_40
      have hf_41 : X_27 (ad 9) = some ((o, 10), xk_iA g 0 284 (A 9)) := hf_41
      have hf_31 : X_27 o = some ((o, 0), .inr (0, [.ref (ad 0), .ref (ad 1), .ref (ad 2), .ref (ad 3), .int (nI (S 0)), .ref (ad 4), .int (nI (S 1)), .int (nI (S 2)), .int (nI (S 3)), .int (tm_it (S 4)), .ref (ad 5), .int (nI (S 5)), .ref (ad 6), .ref (ad 7), .ref (ad 8), .int (nI (S 6)), .ref (ad 9), .int (nI (S 7)), .int (nI (S 8)), .int (nI (S 9)), .int (nI (S 10))])) := hf_31
      have hM_43 : tm_Ok g X_27 o ad (va_up A 0 (tl_come (A 0) (tl_n x) 0 0 0 0)) S := ⟨hf_31, hf_32, hf_33, hf_34, hf_35, hf_36, hf_37, hf_38, hf_39, hf_40, hf_41⟩
      exact xk_reti B hI_24 hr rfl dX2_plantIt_37 (Nat.le_of_ble_eq_true rfl) (Nat.le_of_ble_eq_true rfl) ((by
          have hO_37 : tl_plant (A 0) x = tl_ok (A 0 0) (tl_come (A 0) (tl_n x) 0 0 0 0) := by unfold tl_plant; rw [if_pos hc_9, if_pos hF]
          rw [hO_37]; exact ⟨rfl, hM_43, hfr_42⟩))
    · rw [if_neg hF] at hM_9
      refine xk_top (y := (-3)) (if_neg hF) ?_
      obtain ⟨hf_44, hf_45, hf_46, hf_47, hf_48, hf_49, hf_50, hf_51, hf_52, hf_53, hf_54⟩ := id hM_9
      have hfr_55 := xk_fr.tr hfr hfr_10
      have hf_45 : X_7 (ad 0) = some ((o, 1), xk_iA g 0 294 (A 0)) := hf_45
      have hf_46 : X_7 (ad 1) = some ((o, 2), xk_iA g 0 294 (A 1)) := hf_46
      have hf_47 : X_7 (ad 2) = some ((o, 3), xk_iA g 0 294 (A 2)) := hf_47
      have hf_48 : X_7 (ad 3) = some ((o, 4), xk_iA g 0 294 (A 3)) := hf_48
      have hf_49 : X_7 (ad 4) = some ((o, 5), xk_iA g 0 2352 (A 4)) := hf_49
      have hf_50 : X_7 (ad 5) = some ((o, 6), xk_iA g 0 70 (A 5)) := hf_50
      have hf_51 : X_7 (ad 6) = some ((o, 7), xk_iA g 2 40 (A 6)) := hf_51
      have hf_52 : X_7 (ad 7) = some ((o, 8), xk_iA g 2 40 (A 7)) := hf_52
      have hf_53 : X_7 (ad 8) = some ((o, 9), xk_iA g 0 60 (A 8)) := hf_53
      have hf_54 : X_7 (ad 9) = some ((o, 10), xk_iA g 0 284 (A 9)) := hf_54
      have hf_44 : X_7 o = some ((o, 0), .inr (0, [.ref (ad 0), .ref (ad 1), .ref (ad 2), .ref (ad 3), .int (nI (S 0)), .ref (ad 4), .int (nI (S 1)), .int (nI (tl_fullR (A 0))), .int (nI (tl_fullD (A 0))), .int (tm_it (0)), .ref (ad 5), .int (nI (S 5)), .ref (ad 6), .ref (ad 7), .ref (ad 8), .int (nI (S 6)), .ref (ad 9), .int (nI (S 7)), .int (nI (S 8)), .int (nI (S 9)), .int (nI (S 10))])) := hf_44
      refine lv_istore_n (lv' := [(2, .int (-3)), (0, .ref o), (1, .int x)]) hx hb dX2_plantIt_19 rfl hl (by decide) rfl (fun ls hl => ?_)
      refine lv_iload_n hx hb dX2_plantIt_20 rfl (lv_at hl 0 rfl) ?_
      refine xk_raw_if_ge_f (tgt := 28) hx hb dX2_plantIt_21 (by decide) (by decide) ?_
      refine lv_iload_n hx hb dX2_plantIt_24 rfl (lv_at hl 0 rfl) ?_
      refine lv_goto (tgt := 37) hx hb dX2_plantIt_25 (by decide) ?_
      have hM_56 : tm_Ok g X_7 o ad A (va_up (va_up (va_up S 2 (tl_fullR (A 0))) 3 (tl_fullD (A 0))) 4 0) := ⟨hf_44, hf_45, hf_46, hf_47, hf_48, hf_49, hf_50, hf_51, hf_52, hf_53, hf_54⟩
      exact xk_reti B hI_4 hr rfl dX2_plantIt_37 (Nat.le_of_ble_eq_true rfl) (Nat.le_of_ble_eq_true rfl) ((by
          have hO_37 : tl_plant (A 0) x = tl_rf (tl_fullR (A 0)) (tl_fullD (A 0)) := by unfold tl_plant; rw [if_pos hc_9, if_neg hF]
          rw [hO_37]; exact ⟨rfl, hM_56, hfr_55⟩))
  · refine lv_bipush (v := (-2)) hx hb dX2_plantIt_12 (by decide) ?_
    exact xk_reti B hI_1 hr rfl dX2_plantIt_14 (Nat.le_of_ble_eq_true rfl) (Nat.le_of_ble_eq_true rfl) ((by
        have hO_14 : tl_plant (A 0) x = tl_wr (-2) := by unfold tl_plant; rw [if_neg (by rw [hc_9]; decide)]
        rw [hO_14]; exact ⟨rfl, hM0, hfr⟩))
set_option maxHeartbeats 4000000 in
theorem m2_breeds (g : xk_G) {X : xk_H} {o : Nat} {ad : Nat → Nat} {A : Nat → Nat → Nat} {S : Nat → Nat} (hM : tm_Ok g X o ad A S) (hk : tl_inv (A 0)) {a b k : Nat} (ha : a < A 0 0) (hb9 : b < A 0 0) (hk9 : k ≤ 8) (h40 : A 0 0 < 40) : xk_C g yX2_breeds (ws_ yX2_breeds cX2_breeds 7 (some .int)) ({ frames := 2, cells := 0, slots := 0, locals := 46 } : Room) [.ref o, .int (nI a), .int (nI b), .int (nI k)] X (xk_Qi (nI (A 0 0)) (fun X1 => tm_Ok g X1 o ad (va_up A 0 (tl_breed (A 0) a b k)) S ∧ xk_fr o X X1)) := by
  refine xk_ofW (by decide +kernel) (Nat.le_of_ble_eq_true rfl) (fun p e s m args below meth c B hr hname hargs hI ls hl => ?_)
  have B : xk_B g p s m args meth c RX2 cX2_breeds 7 := B
  have hl : lv_has ls 7 [(0, .ref o), (1, .int (nI a)), (2, .int (nI b)), (3, .int (nI k))] := hl
  have hx := B.1
  have hb := B.2.1
  have hM0 := hM
  obtain ⟨hO, hA0, hA1, hA2, hA3, hA4, hA5, hA6, hA7, hA8, hA9⟩ := hM
  have hk0 := hk
  obtain ⟨k0, kb, kw, kl, ks, kr1, kr2, kwt, kL⟩ := hk
  have hfr : xk_fr o X X := xk_fr.rf
  have q1 := kb a ha
  have q2 := kb b hb9
  have q3 := tl_seed_lt (A 0)
  have q4 := tl_seed_lt (tl_draw (A 0))
  refine lv_aload_n hx hb dX2_breeds_0 rfl (lv_at hl 0 rfl) ?_
  refine lv_iload_n hx hb dX2_breeds_1 rfl (lv_at hl 1 rfl) ?_
  refine lv_iload_n hx hb dX2_breeds_2 rfl (lv_at hl 2 rfl) ?_
  refine lv_iload_n hx hb dX2_breeds_3 rfl (lv_at hl 3 rfl) ?_
  refine xk_ri0 (xk_cV B hI hl [.int (nI a), .int (nI b), .int (nI k)] [] 3 (m2_mixed g hM0 (a := a) (b := b) (k := k) (by omega) (by omega) (by omega) (kb _ (by omega)).1 (kb _ (by omega)).1) hO rfl (lw_V q1556 q1558 qs40 q79 q1559) ⟨rfl, by decide +kernel, by decide +kernel, by decide +kernel⟩ ⟨Nat.le_of_ble_eq_true rfl, Nat.le_of_ble_eq_true rfl⟩ rfl rfl (Nat.le_of_ble_eq_true rfl) dX2_breeds_4 (Nat.le_of_ble_eq_true rfl) (Nat.le_of_ble_eq_true rfl)) hI (fun H_2 L_3 hI_1 => ?_)
  refine xk_top (y := nI (tl_mix (A 0 (14 + 7 * a)) (A 0 (14 + 7 * b)) k)) rfl ?_
  refine lv_istore (lv' := [(4, .int (nI (tl_mix (A 0 (14 + 7 * a)) (A 0 (14 + 7 * b)) k))), (0, .ref o), (1, .int (nI a)), (2, .int (nI b)), (3, .int (nI k))]) hx hb dX2_breeds_7 hl (by decide) rfl (fun ls hl => ?_)
  refine lv_aload_n hx hb dX2_breeds_9 rfl (lv_at hl 1 rfl) ?_
  refine xk_ri (xk_cV B hI_1 hl [] [] 0 (m2_drawn g hM0 (by omega)) hO rfl (lw_V q1560 q1562 qs41 q79 q1563) ⟨rfl, by decide +kernel, by decide +kernel, by decide +kernel⟩ ⟨Nat.le_of_ble_eq_true rfl, Nat.le_of_ble_eq_true rfl⟩ rfl rfl (Nat.le_of_ble_eq_true rfl) dX2_breeds_10 (Nat.le_of_ble_eq_true rfl) (Nat.le_of_ble_eq_true rfl)) hI_1 (fun X_7 H_5 L_6 hq_8 hI_4 => ?_)
  refine xk_top (y := nI (tl_seed (A 0))) rfl ?_
  obtain ⟨hM_9, hfr_10⟩ := hq_8
  obtain ⟨hf_11, hf_12, hf_13, hf_14, hf_15, hf_16, hf_17, hf_18, hf_19, hf_20, hf_21⟩ := id hM_9
  have hfr_22 := xk_fr.tr hfr hfr_10
  have hf_12 : X_7 (ad 0) = some ((o, 1), xk_iA g 0 294 (tl_draw (A 0))) := hf_12
  have hf_13 : X_7 (ad 1) = some ((o, 2), xk_iA g 0 294 (A 1)) := hf_13
  have hf_14 : X_7 (ad 2) = some ((o, 3), xk_iA g 0 294 (A 2)) := hf_14
  have hf_15 : X_7 (ad 3) = some ((o, 4), xk_iA g 0 294 (A 3)) := hf_15
  have hf_16 : X_7 (ad 4) = some ((o, 5), xk_iA g 0 2352 (A 4)) := hf_16
  have hf_17 : X_7 (ad 5) = some ((o, 6), xk_iA g 0 70 (A 5)) := hf_17
  have hf_18 : X_7 (ad 6) = some ((o, 7), xk_iA g 2 40 (A 6)) := hf_18
  have hf_19 : X_7 (ad 7) = some ((o, 8), xk_iA g 2 40 (A 7)) := hf_19
  have hf_20 : X_7 (ad 8) = some ((o, 9), xk_iA g 0 60 (A 8)) := hf_20
  have hf_21 : X_7 (ad 9) = some ((o, 10), xk_iA g 0 284 (A 9)) := hf_21
  have hf_11 : X_7 o = some ((o, 0), .inr (0, [.ref (ad 0), .ref (ad 1), .ref (ad 2), .ref (ad 3), .int (nI (S 0)), .ref (ad 4), .int (nI (S 1)), .int (nI (S 2)), .int (nI (S 3)), .int (tm_it (S 4)), .ref (ad 5), .int (nI (S 5)), .ref (ad 6), .ref (ad 7), .ref (ad 8), .int (nI (S 6)), .ref (ad 9), .int (nI (S 7)), .int (nI (S 8)), .int (nI (S 9)), .int (nI (S 10))])) := hf_11
  refine lv_bipush (v := nI 100) hx hb dX2_breeds_13 (by decide) ?_
  refine lv_irem hx hb dX2_breeds_15 (xk_ne0 (by omega) (by omega)) (xk_top (pk_rem (by omega) (by omega) (by omega)) ?_)
  refine lv_aload_n hx hb dX2_breeds_16 rfl (lv_at hl 1 rfl) ?_
  refine xk_get B hI_4 hf_11 rfl in_X2 0 (by decide) q1432 rfl dX2_breeds_17 ?_
  refine lv_iconst (v := nI 3) hx hb dX2_breeds_20 (by decide) ?_
  refine xk_iald B hI_4 hf_12 (by omega) (by decide) dX2_breeds_21 ?_
  refine xk_top (congrArg nI (show (tl_draw (A 0)) 3 = A 0 3 from by rw [tl_draw_ne (by omega)])) ?_
  refine xk_icmp_ge (tgt := 29) hx hb (by omega) (by omega) dX2_breeds_22 (by decide) (fun hc_22 => ?_) (fun hc_22 => ?_)
  · refine lv_iconst (v := nI 0) hx hb dX2_breeds_29 (by decide) ?_
    refine lv_istore (lv' := [(5, .int (nI 0)), (4, .int (nI (tl_mix (A 0 (14 + 7 * a)) (A 0 (14 + 7 * b)) k))), (0, .ref o), (1, .int (nI a)), (2, .int (nI b)), (3, .int (nI k))]) hx hb dX2_breeds_30 hl (by decide) rfl (fun ls hl => ?_)
    refine lv_iload hx hb dX2_breeds_32 (lv_at hl 1 rfl) ?_
    refine lv_iload hx hb dX2_breeds_34 (lv_at hl 0 rfl) ?_
    refine lv_iconst (v := nI 1) hx hb dX2_breeds_36 (by decide) ?_
    refine xk_icmp_ne_t (tgt := 52) hx hb (by omega) (by omega) dX2_breeds_37 (by decide) (by decide) ?_
    refine lv_iconst (v := nI 0) hx hb dX2_breeds_52 (by decide) ?_
    refine lv_ixor hx hb dX2_breeds_53 (xk_top (xk_xor _ _) ?_)
    refine xk_top (congrArg nI (Nat.xor_zero _)) ?_
    refine lv_istore (lv' := [(4, .int (nI (tl_mix (A 0 (14 + 7 * a)) (A 0 (14 + 7 * b)) k))), (5, .int (nI 0)), (0, .ref o), (1, .int (nI a)), (2, .int (nI b)), (3, .int (nI k))]) hx hb dX2_breeds_54 hl (by decide) rfl (fun ls hl => ?_)
    refine lv_iconst (v := nI 1) hx hb dX2_breeds_56 (by decide) ?_
    refine lv_aload_n hx hb dX2_breeds_57 rfl (lv_at hl 2 rfl) ?_
    refine xk_get B hI_4 hf_11 rfl in_X2 0 (by decide) q1432 rfl dX2_breeds_58 ?_
    refine lv_iload_n hx hb dX2_breeds_61 rfl (lv_at hl 3 rfl) ?_
    refine xk_ri0 (xk_cS B hI_4 hl [.int (nI a)] [.ref (ad 0), .int (nI 1)] 1 (m2_of g a) (lw_S q1524 q1525 q79 q1526) ⟨by decide +kernel, by decide +kernel, by decide +kernel⟩ ⟨Nat.le_of_ble_eq_true rfl, Nat.le_of_ble_eq_true rfl⟩ rfl rfl (Nat.le_of_ble_eq_true rfl) dX2_breeds_62 (Nat.le_of_ble_eq_true rfl) (Nat.le_of_ble_eq_true rfl)) hI_4 (fun H_24 L_25 hI_23 => ?_)
    refine xk_top (y := nI (14 + 7 * a)) rfl ?_
    refine lv_iconst (v := nI 5) hx hb dX2_breeds_65 (by decide) ?_
    refine lv_iadd hx hb dX2_breeds_66 (xk_top (nI_add _ _) ?_)
    refine xk_iald B hI_23 hf_12 (by omega) (by decide) dX2_breeds_67 ?_
    refine xk_top (congrArg nI (show (tl_draw (A 0)) (14 + 7 * a + 5) = A 0 (14 + 7 * a + 5) from by rw [tl_draw_ne (by omega)])) ?_
    refine lv_aload_n hx hb dX2_breeds_68 rfl (lv_at hl 2 rfl) ?_
    refine xk_get B hI_23 hf_11 rfl in_X2 0 (by decide) q1432 rfl dX2_breeds_69 ?_
    refine lv_iload_n hx hb dX2_breeds_72 rfl (lv_at hl 4 rfl) ?_
    refine xk_ri0 (xk_cS B hI_23 hl [.int (nI b)] [.ref (ad 0), .int (nI (A 0 (14 + 7 * a + 5))), .int (nI 1)] 1 (m2_of g b) (lw_S q1524 q1525 q79 q1526) ⟨by decide +kernel, by decide +kernel, by decide +kernel⟩ ⟨Nat.le_of_ble_eq_true rfl, Nat.le_of_ble_eq_true rfl⟩ rfl rfl (Nat.le_of_ble_eq_true rfl) dX2_breeds_73 (Nat.le_of_ble_eq_true rfl) (Nat.le_of_ble_eq_true rfl)) hI_23 (fun H_27 L_28 hI_26 => ?_)
    refine xk_top (y := nI (14 + 7 * b)) rfl ?_
    refine lv_iconst (v := nI 5) hx hb dX2_breeds_76 (by decide) ?_
    refine lv_iadd hx hb dX2_breeds_77 (xk_top (nI_add _ _) ?_)
    refine xk_iald B hI_26 hf_12 (by omega) (by decide) dX2_breeds_78 ?_
    refine xk_top (congrArg nI (show (tl_draw (A 0)) (14 + 7 * b + 5) = A 0 (14 + 7 * b + 5) from by rw [tl_draw_ne (by omega)])) ?_
    refine xk_max B hl q1564 q488 q87 q489 (Nat.le_of_ble_eq_true rfl) (Nat.le_of_ble_eq_true rfl) (by exact Nat.zero_le _) (by exact Nat.zero_le _) (z := nI (if A 0 (14 + 7 * a + 5) < A 0 (14 + 7 * b + 5) then A 0 (14 + 7 * b + 5) else A 0 (14 + 7 * a + 5))) (tl_max (by omega) (by omega)) dX2_breeds_79 ?_
    refine lv_iadd hx hb dX2_breeds_82 (xk_top (nI_add _ _) ?_)
    refine lv_istore (lv' := [(6, .int (nI (1 + (if A 0 (14 + 7 * a + 5) < A 0 (14 + 7 * b + 5) then A 0 (14 + 7 * b + 5) else A 0 (14 + 7 * a + 5))))), (4, .int (nI (tl_mix (A 0 (14 + 7 * a)) (A 0 (14 + 7 * b)) k))), (5, .int (nI 0)), (0, .ref o), (1, .int (nI a)), (2, .int (nI b)), (3, .int (nI k))]) hx hb dX2_breeds_83 hl (by decide) rfl (fun ls hl => ?_)
    refine lv_aload_n hx hb dX2_breeds_85 rfl (lv_at hl 3 rfl) ?_
    refine lv_iload hx hb dX2_breeds_86 (lv_at hl 1 rfl) ?_
    refine lv_iload_n hx hb dX2_breeds_88 rfl (lv_at hl 4 rfl) ?_
    refine lv_iconst (v := nI 1) hx hb dX2_breeds_89 (by decide) ?_
    refine lv_iadd hx hb dX2_breeds_90 (xk_top (nI_add _ _) ?_)
    refine lv_iload_n hx hb dX2_breeds_91 rfl (lv_at hl 5 rfl) ?_
    refine lv_iconst (v := nI 1) hx hb dX2_breeds_92 (by decide) ?_
    refine lv_iadd hx hb dX2_breeds_93 (xk_top (nI_add _ _) ?_)
    refine lv_iload hx hb dX2_breeds_94 (lv_at hl 0 rfl) ?_
    refine lv_iload hx hb dX2_breeds_96 (lv_at hl 2 rfl) ?_
    have hM_29 : tm_Ok g X_7 o ad (va_up A 0 (tl_draw (A 0))) S := ⟨hf_11, hf_12, hf_13, hf_14, hf_15, hf_16, hf_17, hf_18, hf_19, hf_20, hf_21⟩
    refine xk_ri (xk_cV B hI_26 hl [.int (nI (tl_mix (A 0 (14 + 7 * a)) (A 0 (14 + 7 * b)) k)), .int (nI (a + 1)), .int (nI (b + 1)), .int (nI (1 + (if A 0 (14 + 7 * a + 5) < A 0 (14 + 7 * b + 5) then A 0 (14 + 7 * b + 5) else A 0 (14 + 7 * a + 5)))), .int (nI 0)] [] 5 (m2_comes g hM_29 (tl_mix (A 0 (14 + 7 * a)) (A 0 (14 + 7 * b)) k) (a + 1) (b + 1) (1 + (if A 0 (14 + 7 * a + 5) < A 0 (14 + 7 * b + 5) then A 0 (14 + 7 * b + 5) else A 0 (14 + 7 * a + 5))) 0 (show (tl_draw (A 0)) 0 < 40 from by rw [tl_draw_ne (by omega)]; omega)) hf_11 rfl (lw_V q1527 q1529 qs34 q79 q1530) ⟨rfl, by decide +kernel, by decide +kernel, by decide +kernel⟩ ⟨Nat.le_of_ble_eq_true rfl, Nat.le_of_ble_eq_true rfl⟩ rfl rfl (Nat.le_of_ble_eq_true rfl) dX2_breeds_98 (Nat.le_of_ble_eq_true rfl) (Nat.le_of_ble_eq_true rfl)) hI_26 (fun X_33 H_31 L_32 hq_34 hI_30 => ?_)
    refine xk_top (y := nI ((tl_draw (A 0)) 0)) rfl ?_
    refine xk_top (congrArg nI (show (tl_draw (A 0)) 0 = A 0 0 from by rw [tl_draw_ne (by omega)])) ?_
    obtain ⟨hM_35, hfr_36⟩ := hq_34
    obtain ⟨hf_37, hf_38, hf_39, hf_40, hf_41, hf_42, hf_43, hf_44, hf_45, hf_46, hf_47⟩ := id hM_35
    have hfr_48 := xk_fr.tr hfr_22 hfr_36
    have hf_38 : X_33 (ad 0) = some ((o, 1), xk_iA g 0 294 (tl_come (tl_draw (A 0)) (tl_mix (A 0 (14 + 7 * a)) (A 0 (14 + 7 * b)) k) (a + 1) (b + 1) (1 + (if A 0 (14 + 7 * a + 5) < A 0 (14 + 7 * b + 5) then A 0 (14 + 7 * b + 5) else A 0 (14 + 7 * a + 5))) 0)) := hf_38
    have hf_39 : X_33 (ad 1) = some ((o, 2), xk_iA g 0 294 (A 1)) := hf_39
    have hf_40 : X_33 (ad 2) = some ((o, 3), xk_iA g 0 294 (A 2)) := hf_40
    have hf_41 : X_33 (ad 3) = some ((o, 4), xk_iA g 0 294 (A 3)) := hf_41
    have hf_42 : X_33 (ad 4) = some ((o, 5), xk_iA g 0 2352 (A 4)) := hf_42
    have hf_43 : X_33 (ad 5) = some ((o, 6), xk_iA g 0 70 (A 5)) := hf_43
    have hf_44 : X_33 (ad 6) = some ((o, 7), xk_iA g 2 40 (A 6)) := hf_44
    have hf_45 : X_33 (ad 7) = some ((o, 8), xk_iA g 2 40 (A 7)) := hf_45
    have hf_46 : X_33 (ad 8) = some ((o, 9), xk_iA g 0 60 (A 8)) := hf_46
    have hf_47 : X_33 (ad 9) = some ((o, 10), xk_iA g 0 284 (A 9)) := hf_47
    have hf_37 : X_33 o = some ((o, 0), .inr (0, [.ref (ad 0), .ref (ad 1), .ref (ad 2), .ref (ad 3), .int (nI (S 0)), .ref (ad 4), .int (nI (S 1)), .int (nI (S 2)), .int (nI (S 3)), .int (tm_it (S 4)), .ref (ad 5), .int (nI (S 5)), .ref (ad 6), .ref (ad 7), .ref (ad 8), .int (nI (S 6)), .ref (ad 9), .int (nI (S 7)), .int (nI (S 8)), .int (nI (S 9)), .int (nI (S 10))])) := hf_37
    have hM_49 : tm_Ok g X_33 o ad (va_up A 0 (tl_come (tl_draw (A 0)) (tl_mix (A 0 (14 + 7 * a)) (A 0 (14 + 7 * b)) k) (a + 1) (b + 1) (1 + (if A 0 (14 + 7 * a + 5) < A 0 (14 + 7 * b + 5) then A 0 (14 + 7 * b + 5) else A 0 (14 + 7 * a + 5))) 0)) S := ⟨hf_37, hf_38, hf_39, hf_40, hf_41, hf_42, hf_43, hf_44, hf_45, hf_46, hf_47⟩
    exact xk_reti B hI_30 hr rfl dX2_breeds_101 (Nat.le_of_ble_eq_true rfl) (Nat.le_of_ble_eq_true rfl) (⟨rfl, (by rw [show tl_breed (A 0) a b k = tl_come (tl_draw (A 0)) (tl_mix (A 0 (14 + 7 * a)) (A 0 (14 + 7 * b)) k) (a + 1) (b + 1) (1 + (if A 0 (14 + 7 * a + 5) < A 0 (14 + 7 * b + 5) then A 0 (14 + 7 * b + 5) else A 0 (14 + 7 * a + 5))) 0 from by unfold tl_breed tl_brM tl_brP; rw [show tl_brS (A 0) = false from decide_eq_false (by omega)]; rfl]; exact hM_49), hfr_48⟩)
  · refine lv_iconst (v := nI 1) hx hb dX2_breeds_25 (by decide) ?_
    refine lv_goto (tgt := 30) hx hb dX2_breeds_26 (by decide) ?_
    refine lv_istore (lv' := [(5, .int (nI 1)), (4, .int (nI (tl_mix (A 0 (14 + 7 * a)) (A 0 (14 + 7 * b)) k))), (0, .ref o), (1, .int (nI a)), (2, .int (nI b)), (3, .int (nI k))]) hx hb dX2_breeds_30 hl (by decide) rfl (fun ls hl => ?_)
    refine lv_iload hx hb dX2_breeds_32 (lv_at hl 1 rfl) ?_
    refine lv_iload hx hb dX2_breeds_34 (lv_at hl 0 rfl) ?_
    refine lv_iconst (v := nI 1) hx hb dX2_breeds_36 (by decide) ?_
    refine xk_icmp_ne_f (tgt := 52) hx hb (by omega) (by omega) dX2_breeds_37 (by decide) (by decide) ?_
    refine lv_iconst (v := nI 1) hx hb dX2_breeds_40 (by decide) ?_
    refine lv_aload_n hx hb dX2_breeds_41 rfl (lv_at hl 2 rfl) ?_
    have hM_50 : tm_Ok g X_7 o ad (va_up A 0 (tl_draw (A 0))) S := ⟨hf_11, hf_12, hf_13, hf_14, hf_15, hf_16, hf_17, hf_18, hf_19, hf_20, hf_21⟩
    refine xk_ri (xk_cV B hI_4 hl [] [.int (nI 1), .int (nI (tl_mix (A 0 (14 + 7 * a)) (A 0 (14 + 7 * b)) k))] 0 (m2_drawn g hM_50 (show tl_draw (A 0) 4 ≤ 999999 from by rw [tl_draw_4]; omega)) hf_11 rfl (lw_V q1560 q1562 qs41 q79 q1563) ⟨rfl, by decide +kernel, by decide +kernel, by decide +kernel⟩ ⟨Nat.le_of_ble_eq_true rfl, Nat.le_of_ble_eq_true rfl⟩ rfl rfl (Nat.le_of_ble_eq_true rfl) dX2_breeds_42 (Nat.le_of_ble_eq_true rfl) (Nat.le_of_ble_eq_true rfl)) hI_4 (fun X_54 H_52 L_53 hq_55 hI_51 => ?_)
    refine xk_top (y := nI (tl_seed (tl_draw (A 0)))) rfl ?_
    obtain ⟨hM_56, hfr_57⟩ := hq_55
    obtain ⟨hf_58, hf_59, hf_60, hf_61, hf_62, hf_63, hf_64, hf_65, hf_66, hf_67, hf_68⟩ := id hM_56
    have hfr_69 := xk_fr.tr hfr_22 hfr_57
    have hf_59 : X_54 (ad 0) = some ((o, 1), xk_iA g 0 294 (tl_draw (tl_draw (A 0)))) := hf_59
    have hf_60 : X_54 (ad 1) = some ((o, 2), xk_iA g 0 294 (A 1)) := hf_60
    have hf_61 : X_54 (ad 2) = some ((o, 3), xk_iA g 0 294 (A 2)) := hf_61
    have hf_62 : X_54 (ad 3) = some ((o, 4), xk_iA g 0 294 (A 3)) := hf_62
    have hf_63 : X_54 (ad 4) = some ((o, 5), xk_iA g 0 2352 (A 4)) := hf_63
    have hf_64 : X_54 (ad 5) = some ((o, 6), xk_iA g 0 70 (A 5)) := hf_64
    have hf_65 : X_54 (ad 6) = some ((o, 7), xk_iA g 2 40 (A 6)) := hf_65
    have hf_66 : X_54 (ad 7) = some ((o, 8), xk_iA g 2 40 (A 7)) := hf_66
    have hf_67 : X_54 (ad 8) = some ((o, 9), xk_iA g 0 60 (A 8)) := hf_67
    have hf_68 : X_54 (ad 9) = some ((o, 10), xk_iA g 0 284 (A 9)) := hf_68
    have hf_58 : X_54 o = some ((o, 0), .inr (0, [.ref (ad 0), .ref (ad 1), .ref (ad 2), .ref (ad 3), .int (nI (S 0)), .ref (ad 4), .int (nI (S 1)), .int (nI (S 2)), .int (nI (S 3)), .int (tm_it (S 4)), .ref (ad 5), .int (nI (S 5)), .ref (ad 6), .ref (ad 7), .ref (ad 8), .int (nI (S 6)), .ref (ad 9), .int (nI (S 7)), .int (nI (S 8)), .int (nI (S 9)), .int (nI (S 10))])) := hf_58
    refine lv_bipush (v := nI 8) hx hb dX2_breeds_45 (by decide) ?_
    refine lv_irem hx hb dX2_breeds_47 (xk_ne0 (by omega) (by omega)) (xk_top (pk_rem (by omega) (by omega) (by omega)) ?_)
    refine lv_ishl hx hb dX2_breeds_48 (xk_top (xk_shl1 (by omega)) ?_)
    refine lv_goto (tgt := 53) hx hb dX2_breeds_49 (by decide) ?_
    refine lv_ixor hx hb dX2_breeds_53 (xk_top (xk_xor _ _) ?_)
    refine lv_istore (lv' := [(4, .int (nI ((tl_mix (A 0 (14 + 7 * a)) (A 0 (14 + 7 * b)) k) ^^^ (2 ^ ((tl_seed (tl_draw (A 0))) % 8))))), (5, .int (nI 1)), (0, .ref o), (1, .int (nI a)), (2, .int (nI b)), (3, .int (nI k))]) hx hb dX2_breeds_54 hl (by decide) rfl (fun ls hl => ?_)
    refine lv_iconst (v := nI 1) hx hb dX2_breeds_56 (by decide) ?_
    refine lv_aload_n hx hb dX2_breeds_57 rfl (lv_at hl 2 rfl) ?_
    refine xk_get B hI_51 hf_58 rfl in_X2 0 (by decide) q1432 rfl dX2_breeds_58 ?_
    refine lv_iload_n hx hb dX2_breeds_61 rfl (lv_at hl 3 rfl) ?_
    refine xk_ri0 (xk_cS B hI_51 hl [.int (nI a)] [.ref (ad 0), .int (nI 1)] 1 (m2_of g a) (lw_S q1524 q1525 q79 q1526) ⟨by decide +kernel, by decide +kernel, by decide +kernel⟩ ⟨Nat.le_of_ble_eq_true rfl, Nat.le_of_ble_eq_true rfl⟩ rfl rfl (Nat.le_of_ble_eq_true rfl) dX2_breeds_62 (Nat.le_of_ble_eq_true rfl) (Nat.le_of_ble_eq_true rfl)) hI_51 (fun H_71 L_72 hI_70 => ?_)
    refine xk_top (y := nI (14 + 7 * a)) rfl ?_
    refine lv_iconst (v := nI 5) hx hb dX2_breeds_65 (by decide) ?_
    refine lv_iadd hx hb dX2_breeds_66 (xk_top (nI_add _ _) ?_)
    refine xk_iald B hI_70 hf_59 (by omega) (by decide) dX2_breeds_67 ?_
    refine xk_top (congrArg nI (show (tl_draw (tl_draw (A 0))) (14 + 7 * a + 5) = A 0 (14 + 7 * a + 5) from by rw [tl_draw_ne (by omega), tl_draw_ne (by omega)])) ?_
    refine lv_aload_n hx hb dX2_breeds_68 rfl (lv_at hl 2 rfl) ?_
    refine xk_get B hI_70 hf_58 rfl in_X2 0 (by decide) q1432 rfl dX2_breeds_69 ?_
    refine lv_iload_n hx hb dX2_breeds_72 rfl (lv_at hl 4 rfl) ?_
    refine xk_ri0 (xk_cS B hI_70 hl [.int (nI b)] [.ref (ad 0), .int (nI (A 0 (14 + 7 * a + 5))), .int (nI 1)] 1 (m2_of g b) (lw_S q1524 q1525 q79 q1526) ⟨by decide +kernel, by decide +kernel, by decide +kernel⟩ ⟨Nat.le_of_ble_eq_true rfl, Nat.le_of_ble_eq_true rfl⟩ rfl rfl (Nat.le_of_ble_eq_true rfl) dX2_breeds_73 (Nat.le_of_ble_eq_true rfl) (Nat.le_of_ble_eq_true rfl)) hI_70 (fun H_74 L_75 hI_73 => ?_)
    refine xk_top (y := nI (14 + 7 * b)) rfl ?_
    refine lv_iconst (v := nI 5) hx hb dX2_breeds_76 (by decide) ?_
    refine lv_iadd hx hb dX2_breeds_77 (xk_top (nI_add _ _) ?_)
    refine xk_iald B hI_73 hf_59 (by omega) (by decide) dX2_breeds_78 ?_
    refine xk_top (congrArg nI (show (tl_draw (tl_draw (A 0))) (14 + 7 * b + 5) = A 0 (14 + 7 * b + 5) from by rw [tl_draw_ne (by omega), tl_draw_ne (by omega)])) ?_
    refine xk_max B hl q1564 q488 q87 q489 (Nat.le_of_ble_eq_true rfl) (Nat.le_of_ble_eq_true rfl) (by exact Nat.zero_le _) (by exact Nat.zero_le _) (z := nI (if A 0 (14 + 7 * a + 5) < A 0 (14 + 7 * b + 5) then A 0 (14 + 7 * b + 5) else A 0 (14 + 7 * a + 5))) (tl_max (by omega) (by omega)) dX2_breeds_79 ?_
    refine lv_iadd hx hb dX2_breeds_82 (xk_top (nI_add _ _) ?_)
    refine lv_istore (lv' := [(6, .int (nI (1 + (if A 0 (14 + 7 * a + 5) < A 0 (14 + 7 * b + 5) then A 0 (14 + 7 * b + 5) else A 0 (14 + 7 * a + 5))))), (4, .int (nI ((tl_mix (A 0 (14 + 7 * a)) (A 0 (14 + 7 * b)) k) ^^^ (2 ^ ((tl_seed (tl_draw (A 0))) % 8))))), (5, .int (nI 1)), (0, .ref o), (1, .int (nI a)), (2, .int (nI b)), (3, .int (nI k))]) hx hb dX2_breeds_83 hl (by decide) rfl (fun ls hl => ?_)
    refine lv_aload_n hx hb dX2_breeds_85 rfl (lv_at hl 3 rfl) ?_
    refine lv_iload hx hb dX2_breeds_86 (lv_at hl 1 rfl) ?_
    refine lv_iload_n hx hb dX2_breeds_88 rfl (lv_at hl 4 rfl) ?_
    refine lv_iconst (v := nI 1) hx hb dX2_breeds_89 (by decide) ?_
    refine lv_iadd hx hb dX2_breeds_90 (xk_top (nI_add _ _) ?_)
    refine lv_iload_n hx hb dX2_breeds_91 rfl (lv_at hl 5 rfl) ?_
    refine lv_iconst (v := nI 1) hx hb dX2_breeds_92 (by decide) ?_
    refine lv_iadd hx hb dX2_breeds_93 (xk_top (nI_add _ _) ?_)
    refine lv_iload hx hb dX2_breeds_94 (lv_at hl 0 rfl) ?_
    refine lv_iload hx hb dX2_breeds_96 (lv_at hl 2 rfl) ?_
    have hM_76 : tm_Ok g X_54 o ad (va_up A 0 (tl_draw (tl_draw (A 0)))) S := ⟨hf_58, hf_59, hf_60, hf_61, hf_62, hf_63, hf_64, hf_65, hf_66, hf_67, hf_68⟩
    refine xk_ri (xk_cV B hI_73 hl [.int (nI ((tl_mix (A 0 (14 + 7 * a)) (A 0 (14 + 7 * b)) k) ^^^ (2 ^ ((tl_seed (tl_draw (A 0))) % 8)))), .int (nI (a + 1)), .int (nI (b + 1)), .int (nI (1 + (if A 0 (14 + 7 * a + 5) < A 0 (14 + 7 * b + 5) then A 0 (14 + 7 * b + 5) else A 0 (14 + 7 * a + 5)))), .int (nI 1)] [] 5 (m2_comes g hM_76 ((tl_mix (A 0 (14 + 7 * a)) (A 0 (14 + 7 * b)) k) ^^^ (2 ^ ((tl_seed (tl_draw (A 0))) % 8))) (a + 1) (b + 1) (1 + (if A 0 (14 + 7 * a + 5) < A 0 (14 + 7 * b + 5) then A 0 (14 + 7 * b + 5) else A 0 (14 + 7 * a + 5))) 1 (show (tl_draw (tl_draw (A 0))) 0 < 40 from by rw [tl_draw_ne (by omega), tl_draw_ne (by omega)]; omega)) hf_58 rfl (lw_V q1527 q1529 qs34 q79 q1530) ⟨rfl, by decide +kernel, by decide +kernel, by decide +kernel⟩ ⟨Nat.le_of_ble_eq_true rfl, Nat.le_of_ble_eq_true rfl⟩ rfl rfl (Nat.le_of_ble_eq_true rfl) dX2_breeds_98 (Nat.le_of_ble_eq_true rfl) (Nat.le_of_ble_eq_true rfl)) hI_73 (fun X_80 H_78 L_79 hq_81 hI_77 => ?_)
    refine xk_top (y := nI ((tl_draw (tl_draw (A 0))) 0)) rfl ?_
    refine xk_top (congrArg nI (show (tl_draw (tl_draw (A 0))) 0 = A 0 0 from by rw [tl_draw_ne (by omega), tl_draw_ne (by omega)])) ?_
    obtain ⟨hM_82, hfr_83⟩ := hq_81
    obtain ⟨hf_84, hf_85, hf_86, hf_87, hf_88, hf_89, hf_90, hf_91, hf_92, hf_93, hf_94⟩ := id hM_82
    have hfr_95 := xk_fr.tr hfr_69 hfr_83
    have hf_85 : X_80 (ad 0) = some ((o, 1), xk_iA g 0 294 (tl_come (tl_draw (tl_draw (A 0))) ((tl_mix (A 0 (14 + 7 * a)) (A 0 (14 + 7 * b)) k) ^^^ (2 ^ ((tl_seed (tl_draw (A 0))) % 8))) (a + 1) (b + 1) (1 + (if A 0 (14 + 7 * a + 5) < A 0 (14 + 7 * b + 5) then A 0 (14 + 7 * b + 5) else A 0 (14 + 7 * a + 5))) 1)) := hf_85
    have hf_86 : X_80 (ad 1) = some ((o, 2), xk_iA g 0 294 (A 1)) := hf_86
    have hf_87 : X_80 (ad 2) = some ((o, 3), xk_iA g 0 294 (A 2)) := hf_87
    have hf_88 : X_80 (ad 3) = some ((o, 4), xk_iA g 0 294 (A 3)) := hf_88
    have hf_89 : X_80 (ad 4) = some ((o, 5), xk_iA g 0 2352 (A 4)) := hf_89
    have hf_90 : X_80 (ad 5) = some ((o, 6), xk_iA g 0 70 (A 5)) := hf_90
    have hf_91 : X_80 (ad 6) = some ((o, 7), xk_iA g 2 40 (A 6)) := hf_91
    have hf_92 : X_80 (ad 7) = some ((o, 8), xk_iA g 2 40 (A 7)) := hf_92
    have hf_93 : X_80 (ad 8) = some ((o, 9), xk_iA g 0 60 (A 8)) := hf_93
    have hf_94 : X_80 (ad 9) = some ((o, 10), xk_iA g 0 284 (A 9)) := hf_94
    have hf_84 : X_80 o = some ((o, 0), .inr (0, [.ref (ad 0), .ref (ad 1), .ref (ad 2), .ref (ad 3), .int (nI (S 0)), .ref (ad 4), .int (nI (S 1)), .int (nI (S 2)), .int (nI (S 3)), .int (tm_it (S 4)), .ref (ad 5), .int (nI (S 5)), .ref (ad 6), .ref (ad 7), .ref (ad 8), .int (nI (S 6)), .ref (ad 9), .int (nI (S 7)), .int (nI (S 8)), .int (nI (S 9)), .int (nI (S 10))])) := hf_84
    have hM_96 : tm_Ok g X_80 o ad (va_up A 0 (tl_come (tl_draw (tl_draw (A 0))) ((tl_mix (A 0 (14 + 7 * a)) (A 0 (14 + 7 * b)) k) ^^^ (2 ^ ((tl_seed (tl_draw (A 0))) % 8))) (a + 1) (b + 1) (1 + (if A 0 (14 + 7 * a + 5) < A 0 (14 + 7 * b + 5) then A 0 (14 + 7 * b + 5) else A 0 (14 + 7 * a + 5))) 1)) S := ⟨hf_84, hf_85, hf_86, hf_87, hf_88, hf_89, hf_90, hf_91, hf_92, hf_93, hf_94⟩
    exact xk_reti B hI_77 hr rfl dX2_breeds_101 (Nat.le_of_ble_eq_true rfl) (Nat.le_of_ble_eq_true rfl) (⟨rfl, (by rw [show tl_breed (A 0) a b k = tl_come (tl_draw (tl_draw (A 0))) ((tl_mix (A 0 (14 + 7 * a)) (A 0 (14 + 7 * b)) k) ^^^ (2 ^ ((tl_seed (tl_draw (A 0))) % 8))) (a + 1) (b + 1) (1 + (if A 0 (14 + 7 * a + 5) < A 0 (14 + 7 * b + 5) then A 0 (14 + 7 * b + 5) else A 0 (14 + 7 * a + 5))) 1 from by unfold tl_breed tl_brM tl_brP; rw [show tl_brS (A 0) = true from decide_eq_true hc_22]; rfl]; exact hM_96), hfr_95⟩)
set_option maxHeartbeats 4000000 in
theorem m2_crossIt (g : xk_G) {X : xk_H} {o : Nat} {ad : Nat → Nat} {A : Nat → Nat → Nat} {S : Nat → Nat} (hM : tm_Ok g X o ad A S) (hk : tl_inv (A 0)) (x y z : Int32) : xk_C g yX2_crossIt (ws_ yX2_crossIt cX2_crossIt 5 (some .int)) ({ frames := 3, cells := 0, slots := 0, locals := 72 } : Room) [.ref o, .int x, .int y, .int z] X (xk_Qi (tl_r (tl_cross (A 0) x y z)) (fun X1 => tm_Ok g X1 o ad (va_up A 0 (tl_m (A 0) (tl_cross (A 0) x y z))) (tl_S S (tl_cross (A 0) x y z)) ∧ xk_fr o X X1)) := by
  refine xk_ofW (by decide +kernel) (Nat.le_of_ble_eq_true rfl) (fun p e s m args below meth c B hr hname hargs hI ls hl => ?_)
  have B : xk_B g p s m args meth c RX2 cX2_crossIt 5 := B
  have hl : lv_has ls 5 [(0, .ref o), (1, .int x), (2, .int y), (3, .int z)] := hl
  have hx := B.1
  have hb := B.2.1
  have hM0 := hM
  obtain ⟨hO, hA0, hA1, hA2, hA3, hA4, hA5, hA6, hA7, hA8, hA9⟩ := hM
  have hk0 := hk
  obtain ⟨k0, kb, kw, kl, ks, kr1, kr2, kwt, kL⟩ := hk
  have hfr : xk_fr o X X := xk_fr.rf
  refine lv_aload_n hx hb dX2_crossIt_0 rfl (lv_at hl 0 rfl) ?_
  refine lv_iload_n hx hb dX2_crossIt_1 rfl (lv_at hl 1 rfl) ?_
  refine xk_ri0 (xk_cV B hI hl [.int x] [] 1 (m2_isBulb g hM0 hk0 x) hO rfl (lw_V q1543 q1545 qs37 q79 q1546) ⟨rfl, by decide +kernel, by decide +kernel, by decide +kernel⟩ ⟨Nat.le_of_ble_eq_true rfl, Nat.le_of_ble_eq_true rfl⟩ rfl rfl (Nat.le_of_ble_eq_true rfl) dX2_crossIt_2 (Nat.le_of_ble_eq_true rfl) (Nat.le_of_ble_eq_true rfl)) hI (fun H_2 L_3 hI_1 => ?_)
  refine xk_top (y := xk_z (tl_isb (A 0) (x))) rfl ?_
  refine xk_if_eq_z (tgt := 16) hx hb dX2_crossIt_5 (by decide) (fun hc_5 => ?_) (fun hc_5 => ?_)
  · refine lv_iconst (v := (-1)) hx hb dX2_crossIt_16 (by decide) ?_
    exact xk_reti B hI_1 hr rfl dX2_crossIt_17 (Nat.le_of_ble_eq_true rfl) (Nat.le_of_ble_eq_true rfl) ((by
        have hO_17 : tl_cross (A 0) x y z = tl_wr (-1) := by unfold tl_cross; rw [if_neg (by rw [hc_5]; decide)]
        rw [hO_17]; exact ⟨rfl, hM0, hfr⟩))
  · refine lv_aload_n hx hb dX2_crossIt_8 rfl (lv_at hl 0 rfl) ?_
    refine lv_iload_n hx hb dX2_crossIt_9 rfl (lv_at hl 2 rfl) ?_
    refine xk_ri0 (xk_cV B hI_1 hl [.int y] [] 1 (m2_isBulb g hM0 hk0 y) hO rfl (lw_V q1543 q1545 qs37 q79 q1546) ⟨rfl, by decide +kernel, by decide +kernel, by decide +kernel⟩ ⟨Nat.le_of_ble_eq_true rfl, Nat.le_of_ble_eq_true rfl⟩ rfl rfl (Nat.le_of_ble_eq_true rfl) dX2_crossIt_10 (Nat.le_of_ble_eq_true rfl) (Nat.le_of_ble_eq_true rfl)) hI_1 (fun H_5 L_6 hI_4 => ?_)
    refine xk_top (y := xk_z (tl_isb (A 0) (y))) rfl ?_
    refine xk_if_ne_z (tgt := 18) hx hb dX2_crossIt_13 (by decide) (fun hc_13 => ?_) (fun hc_13 => ?_)
    · obtain ⟨hx1, hx2⟩ := tl_isb_k hc_5
      obtain ⟨hy1, hy2⟩ := tl_isb_k hc_13
      refine lv_iload_n hx hb dX2_crossIt_18 rfl (lv_at hl 3 rfl) ?_
      refine lv_i2l hx hb dX2_crossIt_19 rfl ?_
      refine lv_lconst (v := 0) hx hb dX2_crossIt_20 (by decide) ?_
      refine lv_ldc2 hx hb B.ow (B.ts _ q1547) dX2_crossIt_21 ?_
      refine xk_ri0 (xk_cS B hI_4 hl [.long ((z).toInt64), .long (0 : Int64), .long (8 : Int64)] [] 3 (m2_in g (x := (z).toInt) (lo := 0) (hi := 8) (Int32.toInt_toInt64 _) (by decide) (by decide)) (lw_S q1509 q1510 q79 q1511) ⟨by decide +kernel, by decide +kernel, by decide +kernel⟩ ⟨Nat.le_of_ble_eq_true rfl, Nat.le_of_ble_eq_true rfl⟩ rfl rfl (Nat.le_of_ble_eq_true rfl) dX2_crossIt_24 (Nat.le_of_ble_eq_true rfl) (Nat.le_of_ble_eq_true rfl)) hI_4 (fun H_8 L_9 hI_7 => ?_)
      refine xk_top (y := xk_z (tl_rng z 0 8)) rfl ?_
      refine xk_if_ne_z (tgt := 33) hx hb dX2_crossIt_27 (by decide) (fun hc_27 => ?_) (fun hc_27 => ?_)
      · obtain ⟨hz1, hz2, hz3, hz4⟩ := tl_rng_k hc_27 (by decide)
        refine lv_aload_n hx hb dX2_crossIt_33 rfl (lv_at hl 0 rfl) ?_
        refine lv_iload_n hx hb dX2_crossIt_34 rfl (lv_at hl 1 rfl) ?_
        refine xk_top hx1 ?_
        refine xk_ri0 (xk_cV B hI_7 hl [.int (nI (tl_n x))] [] 1 (m2_lives g hM0 (b := tl_n x) (by omega) (show A 0 (14 + 7 * (tl_n x) + 3) < 2147483648 from by first | omega | (have := kb (tl_n x) (by omega); omega))) hO rfl (lw_V q1548 q1550 qs38 q79 q1551) ⟨rfl, by decide +kernel, by decide +kernel, by decide +kernel⟩ ⟨Nat.le_of_ble_eq_true rfl, Nat.le_of_ble_eq_true rfl⟩ rfl rfl (Nat.le_of_ble_eq_true rfl) dX2_crossIt_35 (Nat.le_of_ble_eq_true rfl) (Nat.le_of_ble_eq_true rfl)) hI_7 (fun H_11 L_12 hI_10 => ?_)
        refine xk_top (y := xk_z (tl_al (A 0) (tl_n x))) rfl ?_
        refine xk_if_eq_z (tgt := 49) hx hb dX2_crossIt_38 (by decide) (fun hc_38 => ?_) (fun hc_38 => ?_)
        · refine lv_aload_n hx hb dX2_crossIt_49 rfl (lv_at hl 0 rfl) ?_
          refine lv_iconst (v := nI 3) hx hb dX2_crossIt_50 (by decide) ?_
          refine lv_aload_n hx hb dX2_crossIt_51 rfl (lv_at hl 0 rfl) ?_
          refine lv_iload_n hx hb dX2_crossIt_52 rfl (lv_at hl 1 rfl) ?_
          refine xk_top hx1 ?_
          refine xk_ri0 (xk_cV B hI_10 hl [.int (nI (tl_n x))] [.int (nI 3), .ref o] 1 (m2_lives g hM0 (b := tl_n x) (by omega) (show A 0 (14 + 7 * (tl_n x) + 3) < 2147483648 from by first | omega | (have := kb (tl_n x) (by omega); omega))) hO rfl (lw_V q1548 q1550 qs38 q79 q1551) ⟨rfl, by decide +kernel, by decide +kernel, by decide +kernel⟩ ⟨Nat.le_of_ble_eq_true rfl, Nat.le_of_ble_eq_true rfl⟩ rfl rfl (Nat.le_of_ble_eq_true rfl) dX2_crossIt_53 (Nat.le_of_ble_eq_true rfl) (Nat.le_of_ble_eq_true rfl)) hI_10 (fun H_14 L_15 hI_13 => ?_)
          refine xk_top (y := xk_z (tl_al (A 0) (tl_n x))) rfl ?_
          refine xk_if_eq_z_t (tgt := 63) hx hb dX2_crossIt_56 (by decide) hc_38 ?_
          refine lv_iload_n hx hb dX2_crossIt_63 rfl (lv_at hl 1 rfl) ?_
          refine xk_top hx1 ?_
          refine xk_ri (xk_cV B hI_13 hl [.int (nI 3), .int (nI (tl_n x))] [] 2 (m2_refuse g hM0 3 (tl_n x)) hO rfl (lw_V q1516 q1518 qs32 q79 q1519) ⟨rfl, by decide +kernel, by decide +kernel, by decide +kernel⟩ ⟨Nat.le_of_ble_eq_true rfl, Nat.le_of_ble_eq_true rfl⟩ rfl rfl (Nat.le_of_ble_eq_true rfl) dX2_crossIt_64 (Nat.le_of_ble_eq_true rfl) (Nat.le_of_ble_eq_true rfl)) hI_13 (fun X_19 H_17 L_18 hq_20 hI_16 => ?_)
          refine xk_top (y := (-3)) rfl ?_
          obtain ⟨hM_21, hfr_22⟩ := hq_20
          obtain ⟨hf_23, hf_24, hf_25, hf_26, hf_27, hf_28, hf_29, hf_30, hf_31, hf_32, hf_33⟩ := id hM_21
          have hfr_34 := xk_fr.tr hfr hfr_22
          have hf_24 : X_19 (ad 0) = some ((o, 1), xk_iA g 0 294 (A 0)) := hf_24
          have hf_25 : X_19 (ad 1) = some ((o, 2), xk_iA g 0 294 (A 1)) := hf_25
          have hf_26 : X_19 (ad 2) = some ((o, 3), xk_iA g 0 294 (A 2)) := hf_26
          have hf_27 : X_19 (ad 3) = some ((o, 4), xk_iA g 0 294 (A 3)) := hf_27
          have hf_28 : X_19 (ad 4) = some ((o, 5), xk_iA g 0 2352 (A 4)) := hf_28
          have hf_29 : X_19 (ad 5) = some ((o, 6), xk_iA g 0 70 (A 5)) := hf_29
          have hf_30 : X_19 (ad 6) = some ((o, 7), xk_iA g 2 40 (A 6)) := hf_30
          have hf_31 : X_19 (ad 7) = some ((o, 8), xk_iA g 2 40 (A 7)) := hf_31
          have hf_32 : X_19 (ad 8) = some ((o, 9), xk_iA g 0 60 (A 8)) := hf_32
          have hf_33 : X_19 (ad 9) = some ((o, 10), xk_iA g 0 284 (A 9)) := hf_33
          have hf_23 : X_19 o = some ((o, 0), .inr (0, [.ref (ad 0), .ref (ad 1), .ref (ad 2), .ref (ad 3), .int (nI (S 0)), .ref (ad 4), .int (nI (S 1)), .int (nI 3), .int (nI (tl_n x)), .int (tm_it (0)), .ref (ad 5), .int (nI (S 5)), .ref (ad 6), .ref (ad 7), .ref (ad 8), .int (nI (S 6)), .ref (ad 9), .int (nI (S 7)), .int (nI (S 8)), .int (nI (S 9)), .int (nI (S 10))])) := hf_23
          have hM_35 : tm_Ok g X_19 o ad A (va_up (va_up (va_up S 2 3) 3 (tl_n x)) 4 0) := ⟨hf_23, hf_24, hf_25, hf_26, hf_27, hf_28, hf_29, hf_30, hf_31, hf_32, hf_33⟩
          exact xk_reti B hI_16 hr rfl dX2_crossIt_67 (Nat.le_of_ble_eq_true rfl) (Nat.le_of_ble_eq_true rfl) ((by
              have hO_67 : tl_cross (A 0) x y z = tl_rf 3 (tl_n x) := by unfold tl_cross; rw [if_pos hc_5, if_pos hc_13, if_pos hc_27, if_neg (by rw [hc_38]; decide)]
              rw [hO_67]; exact ⟨rfl, hM_35, hfr_34⟩))
        · refine lv_aload_n hx hb dX2_crossIt_41 rfl (lv_at hl 0 rfl) ?_
          refine lv_iload_n hx hb dX2_crossIt_42 rfl (lv_at hl 2 rfl) ?_
          refine xk_top hy1 ?_
          refine xk_ri0 (xk_cV B hI_10 hl [.int (nI (tl_n y))] [] 1 (m2_lives g hM0 (b := tl_n y) (by omega) (show A 0 (14 + 7 * (tl_n y) + 3) < 2147483648 from by first | omega | (have := kb (tl_n y) (by omega); omega))) hO rfl (lw_V q1548 q1550 qs38 q79 q1551) ⟨rfl, by decide +kernel, by decide +kernel, by decide +kernel⟩ ⟨Nat.le_of_ble_eq_true rfl, Nat.le_of_ble_eq_true rfl⟩ rfl rfl (Nat.le_of_ble_eq_true rfl) dX2_crossIt_43 (Nat.le_of_ble_eq_true rfl) (Nat.le_of_ble_eq_true rfl)) hI_10 (fun H_37 L_38 hI_36 => ?_)
          refine xk_top (y := xk_z (tl_al (A 0) (tl_n y))) rfl ?_
          refine xk_if_ne_z (tgt := 68) hx hb dX2_crossIt_46 (by decide) (fun hc_46 => ?_) (fun hc_46 => ?_)
          · refine lv_aload_n hx hb dX2_crossIt_68 rfl (lv_at hl 0 rfl) ?_
            refine xk_ri (xk_cV B hI_36 hl [] [] 0 (m2_full g hM0 hk0) hO rfl (lw_V q1512 q1514 qs31 q79 q1515) ⟨rfl, by decide +kernel, by decide +kernel, by decide +kernel⟩ ⟨Nat.le_of_ble_eq_true rfl, Nat.le_of_ble_eq_true rfl⟩ rfl rfl (Nat.le_of_ble_eq_true rfl) dX2_crossIt_69 (Nat.le_of_ble_eq_true rfl) (Nat.le_of_ble_eq_true rfl)) hI_36 (fun X_42 H_40 L_41 hq_43 hI_39 => ?_)
            refine xk_top (y := if tl_fullR (A 0) = 0 then 0 else -3) rfl ?_
            obtain ⟨hM_44, hfr_45⟩ := hq_43
            by_cases hF : tl_fullR (A 0) = 0
            · rw [if_pos hF] at hM_44
              refine xk_top (y := nI 0) (by rw [if_pos hF]; rfl) ?_
              obtain ⟨hf_46, hf_47, hf_48, hf_49, hf_50, hf_51, hf_52, hf_53, hf_54, hf_55, hf_56⟩ := id hM_44
              have hfr_57 := xk_fr.tr hfr hfr_45
              have hf_47 : X_42 (ad 0) = some ((o, 1), xk_iA g 0 294 (A 0)) := hf_47
              have hf_48 : X_42 (ad 1) = some ((o, 2), xk_iA g 0 294 (A 1)) := hf_48
              have hf_49 : X_42 (ad 2) = some ((o, 3), xk_iA g 0 294 (A 2)) := hf_49
              have hf_50 : X_42 (ad 3) = some ((o, 4), xk_iA g 0 294 (A 3)) := hf_50
              have hf_51 : X_42 (ad 4) = some ((o, 5), xk_iA g 0 2352 (A 4)) := hf_51
              have hf_52 : X_42 (ad 5) = some ((o, 6), xk_iA g 0 70 (A 5)) := hf_52
              have hf_53 : X_42 (ad 6) = some ((o, 7), xk_iA g 2 40 (A 6)) := hf_53
              have hf_54 : X_42 (ad 7) = some ((o, 8), xk_iA g 2 40 (A 7)) := hf_54
              have hf_55 : X_42 (ad 8) = some ((o, 9), xk_iA g 0 60 (A 8)) := hf_55
              have hf_56 : X_42 (ad 9) = some ((o, 10), xk_iA g 0 284 (A 9)) := hf_56
              have hf_46 : X_42 o = some ((o, 0), .inr (0, [.ref (ad 0), .ref (ad 1), .ref (ad 2), .ref (ad 3), .int (nI (S 0)), .ref (ad 4), .int (nI (S 1)), .int (nI (S 2)), .int (nI (S 3)), .int (tm_it (S 4)), .ref (ad 5), .int (nI (S 5)), .ref (ad 6), .ref (ad 7), .ref (ad 8), .int (nI (S 6)), .ref (ad 9), .int (nI (S 7)), .int (nI (S 8)), .int (nI (S 9)), .int (nI (S 10))])) := hf_46
              refine lv_istore (lv' := [(4, .int (nI 0)), (0, .ref o), (1, .int x), (2, .int y), (3, .int z)]) hx hb dX2_crossIt_72 hl (by decide) rfl (fun ls hl => ?_)
              refine lv_iload hx hb dX2_crossIt_74 (lv_at hl 0 rfl) ?_
              refine xk_if_ge_t (tgt := 84) hx hb (by omega) dX2_crossIt_76 (by decide) (by decide) ?_
              obtain ⟨f1, f2⟩ := tl_fullR_0 hk0 hF
              refine lv_aload_n hx hb dX2_crossIt_84 rfl (lv_at hl 1 rfl) ?_
              refine lv_iload_n hx hb dX2_crossIt_85 rfl (lv_at hl 2 rfl) ?_
              refine xk_top hx1 ?_
              refine lv_iload_n hx hb dX2_crossIt_86 rfl (lv_at hl 3 rfl) ?_
              refine xk_top hy1 ?_
              refine lv_iload_n hx hb dX2_crossIt_87 rfl (lv_at hl 4 rfl) ?_
              refine xk_top hz1 ?_
              have hM_58 : tm_Ok g X_42 o ad A S := ⟨hf_46, hf_47, hf_48, hf_49, hf_50, hf_51, hf_52, hf_53, hf_54, hf_55, hf_56⟩
              refine xk_ri (xk_cV B hI_39 hl [.int (nI (tl_n x)), .int (nI (tl_n y)), .int (nI (tl_n z))] [] 3 (m2_breeds g hM_58 hk0 (a := tl_n x) (b := tl_n y) (k := tl_n z) (by omega) (by omega) (by omega) (by omega)) hf_46 rfl (lw_V q1552 q1554 qs39 q79 q1555) ⟨rfl, by decide +kernel, by decide +kernel, by decide +kernel⟩ ⟨Nat.le_of_ble_eq_true rfl, Nat.le_of_ble_eq_true rfl⟩ rfl rfl (Nat.le_of_ble_eq_true rfl) dX2_crossIt_88 (Nat.le_of_ble_eq_true rfl) (Nat.le_of_ble_eq_true rfl)) hI_39 (fun X_62 H_60 L_61 hq_63 hI_59 => ?_)
              refine xk_top (y := nI (A 0 0)) rfl ?_
              obtain ⟨hM_64, hfr_65⟩ := hq_63
              obtain ⟨hf_66, hf_67, hf_68, hf_69, hf_70, hf_71, hf_72, hf_73, hf_74, hf_75, hf_76⟩ := id hM_64
              have hfr_77 := xk_fr.tr hfr_57 hfr_65
              have hf_67 : X_62 (ad 0) = some ((o, 1), xk_iA g 0 294 (tl_breed (A 0) (tl_n x) (tl_n y) (tl_n z))) := hf_67
              have hf_68 : X_62 (ad 1) = some ((o, 2), xk_iA g 0 294 (A 1)) := hf_68
              have hf_69 : X_62 (ad 2) = some ((o, 3), xk_iA g 0 294 (A 2)) := hf_69
              have hf_70 : X_62 (ad 3) = some ((o, 4), xk_iA g 0 294 (A 3)) := hf_70
              have hf_71 : X_62 (ad 4) = some ((o, 5), xk_iA g 0 2352 (A 4)) := hf_71
              have hf_72 : X_62 (ad 5) = some ((o, 6), xk_iA g 0 70 (A 5)) := hf_72
              have hf_73 : X_62 (ad 6) = some ((o, 7), xk_iA g 2 40 (A 6)) := hf_73
              have hf_74 : X_62 (ad 7) = some ((o, 8), xk_iA g 2 40 (A 7)) := hf_74
              have hf_75 : X_62 (ad 8) = some ((o, 9), xk_iA g 0 60 (A 8)) := hf_75
              have hf_76 : X_62 (ad 9) = some ((o, 10), xk_iA g 0 284 (A 9)) := hf_76
              have hf_66 : X_62 o = some ((o, 0), .inr (0, [.ref (ad 0), .ref (ad 1), .ref (ad 2), .ref (ad 3), .int (nI (S 0)), .ref (ad 4), .int (nI (S 1)), .int (nI (S 2)), .int (nI (S 3)), .int (tm_it (S 4)), .ref (ad 5), .int (nI (S 5)), .ref (ad 6), .ref (ad 7), .ref (ad 8), .int (nI (S 6)), .ref (ad 9), .int (nI (S 7)), .int (nI (S 8)), .int (nI (S 9)), .int (nI (S 10))])) := hf_66
              have hM_78 : tm_Ok g X_62 o ad (va_up A 0 (tl_breed (A 0) (tl_n x) (tl_n y) (tl_n z))) S := ⟨hf_66, hf_67, hf_68, hf_69, hf_70, hf_71, hf_72, hf_73, hf_74, hf_75, hf_76⟩
              exact xk_reti B hI_59 hr rfl dX2_crossIt_91 (Nat.le_of_ble_eq_true rfl) (Nat.le_of_ble_eq_true rfl) ((by
                  have hO_91 : tl_cross (A 0) x y z = tl_ok (A 0 0) (tl_breed (A 0) (tl_n x) (tl_n y) (tl_n z)) := by unfold tl_cross; rw [if_pos hc_5, if_pos hc_13, if_pos hc_27, if_pos hc_38, if_pos hc_46, if_pos hF]
                  rw [hO_91]; exact ⟨rfl, hM_78, hfr_77⟩))
            · rw [if_neg hF] at hM_44
              refine xk_top (y := (-3)) (if_neg hF) ?_
              obtain ⟨hf_79, hf_80, hf_81, hf_82, hf_83, hf_84, hf_85, hf_86, hf_87, hf_88, hf_89⟩ := id hM_44
              have hfr_90 := xk_fr.tr hfr hfr_45
              have hf_80 : X_42 (ad 0) = some ((o, 1), xk_iA g 0 294 (A 0)) := hf_80
              have hf_81 : X_42 (ad 1) = some ((o, 2), xk_iA g 0 294 (A 1)) := hf_81
              have hf_82 : X_42 (ad 2) = some ((o, 3), xk_iA g 0 294 (A 2)) := hf_82
              have hf_83 : X_42 (ad 3) = some ((o, 4), xk_iA g 0 294 (A 3)) := hf_83
              have hf_84 : X_42 (ad 4) = some ((o, 5), xk_iA g 0 2352 (A 4)) := hf_84
              have hf_85 : X_42 (ad 5) = some ((o, 6), xk_iA g 0 70 (A 5)) := hf_85
              have hf_86 : X_42 (ad 6) = some ((o, 7), xk_iA g 2 40 (A 6)) := hf_86
              have hf_87 : X_42 (ad 7) = some ((o, 8), xk_iA g 2 40 (A 7)) := hf_87
              have hf_88 : X_42 (ad 8) = some ((o, 9), xk_iA g 0 60 (A 8)) := hf_88
              have hf_89 : X_42 (ad 9) = some ((o, 10), xk_iA g 0 284 (A 9)) := hf_89
              have hf_79 : X_42 o = some ((o, 0), .inr (0, [.ref (ad 0), .ref (ad 1), .ref (ad 2), .ref (ad 3), .int (nI (S 0)), .ref (ad 4), .int (nI (S 1)), .int (nI (tl_fullR (A 0))), .int (nI (tl_fullD (A 0))), .int (tm_it (0)), .ref (ad 5), .int (nI (S 5)), .ref (ad 6), .ref (ad 7), .ref (ad 8), .int (nI (S 6)), .ref (ad 9), .int (nI (S 7)), .int (nI (S 8)), .int (nI (S 9)), .int (nI (S 10))])) := hf_79
              refine lv_istore (lv' := [(4, .int (-3)), (0, .ref o), (1, .int x), (2, .int y), (3, .int z)]) hx hb dX2_crossIt_72 hl (by decide) rfl (fun ls hl => ?_)
              refine lv_iload hx hb dX2_crossIt_74 (lv_at hl 0 rfl) ?_
              refine xk_raw_if_ge_f (tgt := 84) hx hb dX2_crossIt_76 (by decide) (by decide) ?_
              refine lv_iload hx hb dX2_crossIt_79 (lv_at hl 0 rfl) ?_
              refine lv_goto (tgt := 91) hx hb dX2_crossIt_81 (by decide) ?_
              have hM_91 : tm_Ok g X_42 o ad A (va_up (va_up (va_up S 2 (tl_fullR (A 0))) 3 (tl_fullD (A 0))) 4 0) := ⟨hf_79, hf_80, hf_81, hf_82, hf_83, hf_84, hf_85, hf_86, hf_87, hf_88, hf_89⟩
              exact xk_reti B hI_39 hr rfl dX2_crossIt_91 (Nat.le_of_ble_eq_true rfl) (Nat.le_of_ble_eq_true rfl) ((by
                  have hO_91 : tl_cross (A 0) x y z = tl_rf (tl_fullR (A 0)) (tl_fullD (A 0)) := by unfold tl_cross; rw [if_pos hc_5, if_pos hc_13, if_pos hc_27, if_pos hc_38, if_pos hc_46, if_neg hF]
                  rw [hO_91]; exact ⟨rfl, hM_91, hfr_90⟩))
          · refine lv_aload_n hx hb dX2_crossIt_49 rfl (lv_at hl 0 rfl) ?_
            refine lv_iconst (v := nI 3) hx hb dX2_crossIt_50 (by decide) ?_
            refine lv_aload_n hx hb dX2_crossIt_51 rfl (lv_at hl 0 rfl) ?_
            refine lv_iload_n hx hb dX2_crossIt_52 rfl (lv_at hl 1 rfl) ?_
            refine xk_top hx1 ?_
            refine xk_ri0 (xk_cV B hI_36 hl [.int (nI (tl_n x))] [.int (nI 3), .ref o] 1 (m2_lives g hM0 (b := tl_n x) (by omega) (show A 0 (14 + 7 * (tl_n x) + 3) < 2147483648 from by first | omega | (have := kb (tl_n x) (by omega); omega))) hO rfl (lw_V q1548 q1550 qs38 q79 q1551) ⟨rfl, by decide +kernel, by decide +kernel, by decide +kernel⟩ ⟨Nat.le_of_ble_eq_true rfl, Nat.le_of_ble_eq_true rfl⟩ rfl rfl (Nat.le_of_ble_eq_true rfl) dX2_crossIt_53 (Nat.le_of_ble_eq_true rfl) (Nat.le_of_ble_eq_true rfl)) hI_36 (fun H_93 L_94 hI_92 => ?_)
            refine xk_top (y := xk_z (tl_al (A 0) (tl_n x))) rfl ?_
            refine xk_if_eq_z_f (tgt := 63) hx hb dX2_crossIt_56 (by decide) hc_38 ?_
            refine lv_iload_n hx hb dX2_crossIt_59 rfl (lv_at hl 2 rfl) ?_
            refine xk_top hy1 ?_
            refine lv_goto (tgt := 64) hx hb dX2_crossIt_60 (by decide) ?_
            refine xk_ri (xk_cV B hI_92 hl [.int (nI 3), .int (nI (tl_n y))] [] 2 (m2_refuse g hM0 3 (tl_n y)) hO rfl (lw_V q1516 q1518 qs32 q79 q1519) ⟨rfl, by decide +kernel, by decide +kernel, by decide +kernel⟩ ⟨Nat.le_of_ble_eq_true rfl, Nat.le_of_ble_eq_true rfl⟩ rfl rfl (Nat.le_of_ble_eq_true rfl) dX2_crossIt_64 (Nat.le_of_ble_eq_true rfl) (Nat.le_of_ble_eq_true rfl)) hI_92 (fun X_98 H_96 L_97 hq_99 hI_95 => ?_)
            refine xk_top (y := (-3)) rfl ?_
            obtain ⟨hM_100, hfr_101⟩ := hq_99
            obtain ⟨hf_102, hf_103, hf_104, hf_105, hf_106, hf_107, hf_108, hf_109, hf_110, hf_111, hf_112⟩ := id hM_100
            have hfr_113 := xk_fr.tr hfr hfr_101
            have hf_103 : X_98 (ad 0) = some ((o, 1), xk_iA g 0 294 (A 0)) := hf_103
            have hf_104 : X_98 (ad 1) = some ((o, 2), xk_iA g 0 294 (A 1)) := hf_104
            have hf_105 : X_98 (ad 2) = some ((o, 3), xk_iA g 0 294 (A 2)) := hf_105
            have hf_106 : X_98 (ad 3) = some ((o, 4), xk_iA g 0 294 (A 3)) := hf_106
            have hf_107 : X_98 (ad 4) = some ((o, 5), xk_iA g 0 2352 (A 4)) := hf_107
            have hf_108 : X_98 (ad 5) = some ((o, 6), xk_iA g 0 70 (A 5)) := hf_108
            have hf_109 : X_98 (ad 6) = some ((o, 7), xk_iA g 2 40 (A 6)) := hf_109
            have hf_110 : X_98 (ad 7) = some ((o, 8), xk_iA g 2 40 (A 7)) := hf_110
            have hf_111 : X_98 (ad 8) = some ((o, 9), xk_iA g 0 60 (A 8)) := hf_111
            have hf_112 : X_98 (ad 9) = some ((o, 10), xk_iA g 0 284 (A 9)) := hf_112
            have hf_102 : X_98 o = some ((o, 0), .inr (0, [.ref (ad 0), .ref (ad 1), .ref (ad 2), .ref (ad 3), .int (nI (S 0)), .ref (ad 4), .int (nI (S 1)), .int (nI 3), .int (nI (tl_n y)), .int (tm_it (0)), .ref (ad 5), .int (nI (S 5)), .ref (ad 6), .ref (ad 7), .ref (ad 8), .int (nI (S 6)), .ref (ad 9), .int (nI (S 7)), .int (nI (S 8)), .int (nI (S 9)), .int (nI (S 10))])) := hf_102
            have hM_114 : tm_Ok g X_98 o ad A (va_up (va_up (va_up S 2 3) 3 (tl_n y)) 4 0) := ⟨hf_102, hf_103, hf_104, hf_105, hf_106, hf_107, hf_108, hf_109, hf_110, hf_111, hf_112⟩
            exact xk_reti B hI_95 hr rfl dX2_crossIt_67 (Nat.le_of_ble_eq_true rfl) (Nat.le_of_ble_eq_true rfl) ((by
                have hO_67 : tl_cross (A 0) x y z = tl_rf 3 (tl_n y) := by unfold tl_cross; rw [if_pos hc_5, if_pos hc_13, if_pos hc_27, if_pos hc_38, if_neg (by rw [hc_46]; decide)]
                rw [hO_67]; exact ⟨rfl, hM_114, hfr_113⟩))
      · refine lv_bipush (v := (-2)) hx hb dX2_crossIt_30 (by decide) ?_
        exact xk_reti B hI_7 hr rfl dX2_crossIt_32 (Nat.le_of_ble_eq_true rfl) (Nat.le_of_ble_eq_true rfl) ((by
            have hO_32 : tl_cross (A 0) x y z = tl_wr (-2) := by unfold tl_cross; rw [if_pos hc_5, if_pos hc_13, if_neg (by rw [hc_27]; decide)]
            rw [hO_32]; exact ⟨rfl, hM0, hfr⟩))
    · refine lv_iconst (v := (-1)) hx hb dX2_crossIt_16 (by decide) ?_
      exact xk_reti B hI_4 hr rfl dX2_crossIt_17 (Nat.le_of_ble_eq_true rfl) (Nat.le_of_ble_eq_true rfl) ((by
          have hO_17 : tl_cross (A 0) x y z = tl_wr (-1) := by unfold tl_cross; rw [if_pos hc_5, if_neg (by rw [hc_13]; decide)]
          rw [hO_17]; exact ⟨rfl, hM0, hfr⟩))
set_option maxHeartbeats 4000000 in
theorem m2_dieIt (g : xk_G) {X : xk_H} {o : Nat} {ad : Nat → Nat} {A : Nat → Nat → Nat} {S : Nat → Nat} (hM : tm_Ok g X o ad A S) (hk : tl_inv (A 0)) (x : Int32) : xk_C g yX2_dieIt (ws_ yX2_dieIt cX2_dieIt 2 (some .int)) ({ frames := 2, cells := 0, slots := 0, locals := 46 } : Room) [.ref o, .int x] X (xk_Qi (tl_r (tl_die (A 0) x)) (fun X1 => tm_Ok g X1 o ad (va_up A 0 (tl_m (A 0) (tl_die (A 0) x))) (tl_S S (tl_die (A 0) x)) ∧ xk_fr o X X1)) := by
  refine xk_ofW (by decide +kernel) (Nat.le_of_ble_eq_true rfl) (fun p e s m args below meth c B hr hname hargs hI ls hl => ?_)
  have B : xk_B g p s m args meth c RX2 cX2_dieIt 2 := B
  have hl : lv_has ls 2 [(0, .ref o), (1, .int x)] := hl
  have hx := B.1
  have hb := B.2.1
  have hM0 := hM
  obtain ⟨hO, hA0, hA1, hA2, hA3, hA4, hA5, hA6, hA7, hA8, hA9⟩ := hM
  have hk0 := hk
  obtain ⟨k0, kb, kw, kl, ks, kr1, kr2, kwt, kL⟩ := hk
  have hfr : xk_fr o X X := xk_fr.rf
  refine lv_aload_n hx hb dX2_dieIt_0 rfl (lv_at hl 0 rfl) ?_
  refine lv_iload_n hx hb dX2_dieIt_1 rfl (lv_at hl 1 rfl) ?_
  refine xk_ri0 (xk_cV B hI hl [.int x] [] 1 (m2_isBulb g hM0 hk0 x) hO rfl (lw_V q1543 q1545 qs37 q79 q1546) ⟨rfl, by decide +kernel, by decide +kernel, by decide +kernel⟩ ⟨Nat.le_of_ble_eq_true rfl, Nat.le_of_ble_eq_true rfl⟩ rfl rfl (Nat.le_of_ble_eq_true rfl) dX2_dieIt_2 (Nat.le_of_ble_eq_true rfl) (Nat.le_of_ble_eq_true rfl)) hI (fun H_2 L_3 hI_1 => ?_)
  refine xk_top (y := xk_z (tl_isb (A 0) (x))) rfl ?_
  refine xk_if_ne_z (tgt := 10) hx hb dX2_dieIt_5 (by decide) (fun hc_5 => ?_) (fun hc_5 => ?_)
  · obtain ⟨hx1, hx2⟩ := tl_isb_k hc_5
    have q1 := kb _ hx2
    refine lv_aload_n hx hb dX2_dieIt_10 rfl (lv_at hl 0 rfl) ?_
    refine lv_iload_n hx hb dX2_dieIt_11 rfl (lv_at hl 1 rfl) ?_
    refine xk_top hx1 ?_
    refine xk_ri0 (xk_cV B hI_1 hl [.int (nI (tl_n x))] [] 1 (m2_lives g hM0 (b := tl_n x) (by omega) (show A 0 (14 + 7 * (tl_n x) + 3) < 2147483648 from by first | omega | (have := kb (tl_n x) (by omega); omega))) hO rfl (lw_V q1548 q1550 qs38 q79 q1551) ⟨rfl, by decide +kernel, by decide +kernel, by decide +kernel⟩ ⟨Nat.le_of_ble_eq_true rfl, Nat.le_of_ble_eq_true rfl⟩ rfl rfl (Nat.le_of_ble_eq_true rfl) dX2_dieIt_12 (Nat.le_of_ble_eq_true rfl) (Nat.le_of_ble_eq_true rfl)) hI_1 (fun H_5 L_6 hI_4 => ?_)
    refine xk_top (y := xk_z (tl_al (A 0) (tl_n x))) rfl ?_
    refine xk_if_ne_z (tgt := 25) hx hb dX2_dieIt_15 (by decide) (fun hc_15 => ?_) (fun hc_15 => ?_)
    · refine lv_aload_n hx hb dX2_dieIt_25 rfl (lv_at hl 0 rfl) ?_
      refine xk_get B hI_4 hO rfl in_X2 0 (by decide) q1432 rfl dX2_dieIt_26 ?_
      refine lv_iload_n hx hb dX2_dieIt_29 rfl (lv_at hl 1 rfl) ?_
      refine xk_top hx1 ?_
      refine xk_ri0 (xk_cS B hI_4 hl [.int (nI (tl_n x))] [.ref (ad 0)] 1 (m2_of g (tl_n x)) (lw_S q1524 q1525 q79 q1526) ⟨by decide +kernel, by decide +kernel, by decide +kernel⟩ ⟨Nat.le_of_ble_eq_true rfl, Nat.le_of_ble_eq_true rfl⟩ rfl rfl (Nat.le_of_ble_eq_true rfl) dX2_dieIt_30 (Nat.le_of_ble_eq_true rfl) (Nat.le_of_ble_eq_true rfl)) hI_4 (fun H_8 L_9 hI_7 => ?_)
      refine xk_top (y := nI (14 + 7 * (tl_n x))) rfl ?_
      refine lv_iconst (v := nI 3) hx hb dX2_dieIt_33 (by decide) ?_
      refine lv_iadd hx hb dX2_dieIt_34 (xk_top (nI_add _ _) ?_)
      refine lv_iconst (v := nI 0) hx hb dX2_dieIt_35 (by decide) ?_
      refine xk_iast B hI_7 hA0 (by omega) (by decide) dX2_dieIt_36 (fun X_10 H_14 L_15 hf_12 hn_11 hI_13 => ?_)
      have hfr_16 := xk_fr.put hfr hA0 hn_11
      have hk2 : tl_inv (va_up (A 0) (14 + 7 * tl_n x + 3) 0) := tl_inv_die hk0 hx2
      refine lv_aload_n hx hb dX2_dieIt_37 rfl (lv_at hl 0 rfl) ?_
      have hf_17 := xk_off hn_11 hO hA0 (xk_on1 (by decide))
      have hf_18 := xk_off hn_11 hA1 hA0 (xk_on1 (by decide))
      have hf_19 := xk_off hn_11 hA2 hA0 (xk_on1 (by decide))
      have hf_20 := xk_off hn_11 hA3 hA0 (xk_on1 (by decide))
      have hf_21 := xk_off hn_11 hA4 hA0 (xk_on1 (by decide))
      have hf_22 := xk_off hn_11 hA5 hA0 (xk_on1 (by decide))
      have hf_23 := xk_off hn_11 hA6 hA0 (xk_on1 (by decide))
      have hf_24 := xk_off hn_11 hA7 hA0 (xk_on1 (by decide))
      have hf_25 := xk_off hn_11 hA8 hA0 (xk_on1 (by decide))
      have hf_26 := xk_off hn_11 hA9 hA0 (xk_on1 (by decide))
      have hM_27 : tm_Ok g X_10 o ad (va_up A 0 (va_up (A 0) (14 + 7 * (tl_n x) + 3) 0)) S := ⟨hf_17, hf_12, hf_18, hf_19, hf_20, hf_21, hf_22, hf_23, hf_24, hf_25, hf_26⟩
      refine xk_ri0 (xk_cV B hI_13 hl [] [] 0 (m2_living g hM_27 hk2 ) hf_17 rfl (lw_V q1520 q1522 qs33 q79 q1523) ⟨rfl, by decide +kernel, by decide +kernel, by decide +kernel⟩ ⟨Nat.le_of_ble_eq_true rfl, Nat.le_of_ble_eq_true rfl⟩ rfl rfl (Nat.le_of_ble_eq_true rfl) dX2_dieIt_38 (Nat.le_of_ble_eq_true rfl) (Nat.le_of_ble_eq_true rfl)) hI_13 (fun H_29 L_30 hI_28 => ?_)
      refine xk_top (y := nI (tl_liv (va_up (A 0) (14 + 7 * (tl_n x) + 3) 0) ((va_up (A 0) (14 + 7 * (tl_n x) + 3) 0) 0))) rfl ?_
      refine xk_top (congrArg (fun z => nI (tl_liv (va_up (A 0) (14 + 7 * tl_n x + 3) 0) z)) (tl_un (by omega))) ?_
      exact xk_reti B hI_28 hr rfl dX2_dieIt_41 (Nat.le_of_ble_eq_true rfl) (Nat.le_of_ble_eq_true rfl) ((by
          have hO_41 : tl_die (A 0) x = tl_ok (tl_liv (tl_dieM (A 0) (tl_n x)) (A 0 0)) (tl_dieM (A 0) (tl_n x)) := by unfold tl_die; rw [if_pos hc_5, if_pos hc_15]
          rw [hO_41]; exact ⟨rfl, hM_27, hfr_16⟩))
    · refine lv_aload_n hx hb dX2_dieIt_18 rfl (lv_at hl 0 rfl) ?_
      refine lv_iconst (v := nI 3) hx hb dX2_dieIt_19 (by decide) ?_
      refine lv_iload_n hx hb dX2_dieIt_20 rfl (lv_at hl 1 rfl) ?_
      refine xk_top hx1 ?_
      refine xk_ri (xk_cV B hI_4 hl [.int (nI 3), .int (nI (tl_n x))] [] 2 (m2_refuse g hM0 3 (tl_n x)) hO rfl (lw_V q1516 q1518 qs32 q79 q1519) ⟨rfl, by decide +kernel, by decide +kernel, by decide +kernel⟩ ⟨Nat.le_of_ble_eq_true rfl, Nat.le_of_ble_eq_true rfl⟩ rfl rfl (Nat.le_of_ble_eq_true rfl) dX2_dieIt_21 (Nat.le_of_ble_eq_true rfl) (Nat.le_of_ble_eq_true rfl)) hI_4 (fun X_34 H_32 L_33 hq_35 hI_31 => ?_)
      refine xk_top (y := (-3)) rfl ?_
      obtain ⟨hM_36, hfr_37⟩ := hq_35
      obtain ⟨hf_38, hf_39, hf_40, hf_41, hf_42, hf_43, hf_44, hf_45, hf_46, hf_47, hf_48⟩ := id hM_36
      have hfr_49 := xk_fr.tr hfr hfr_37
      have hf_39 : X_34 (ad 0) = some ((o, 1), xk_iA g 0 294 (A 0)) := hf_39
      have hf_40 : X_34 (ad 1) = some ((o, 2), xk_iA g 0 294 (A 1)) := hf_40
      have hf_41 : X_34 (ad 2) = some ((o, 3), xk_iA g 0 294 (A 2)) := hf_41
      have hf_42 : X_34 (ad 3) = some ((o, 4), xk_iA g 0 294 (A 3)) := hf_42
      have hf_43 : X_34 (ad 4) = some ((o, 5), xk_iA g 0 2352 (A 4)) := hf_43
      have hf_44 : X_34 (ad 5) = some ((o, 6), xk_iA g 0 70 (A 5)) := hf_44
      have hf_45 : X_34 (ad 6) = some ((o, 7), xk_iA g 2 40 (A 6)) := hf_45
      have hf_46 : X_34 (ad 7) = some ((o, 8), xk_iA g 2 40 (A 7)) := hf_46
      have hf_47 : X_34 (ad 8) = some ((o, 9), xk_iA g 0 60 (A 8)) := hf_47
      have hf_48 : X_34 (ad 9) = some ((o, 10), xk_iA g 0 284 (A 9)) := hf_48
      have hf_38 : X_34 o = some ((o, 0), .inr (0, [.ref (ad 0), .ref (ad 1), .ref (ad 2), .ref (ad 3), .int (nI (S 0)), .ref (ad 4), .int (nI (S 1)), .int (nI 3), .int (nI (tl_n x)), .int (tm_it (0)), .ref (ad 5), .int (nI (S 5)), .ref (ad 6), .ref (ad 7), .ref (ad 8), .int (nI (S 6)), .ref (ad 9), .int (nI (S 7)), .int (nI (S 8)), .int (nI (S 9)), .int (nI (S 10))])) := hf_38
      have hM_50 : tm_Ok g X_34 o ad A (va_up (va_up (va_up S 2 3) 3 (tl_n x)) 4 0) := ⟨hf_38, hf_39, hf_40, hf_41, hf_42, hf_43, hf_44, hf_45, hf_46, hf_47, hf_48⟩
      exact xk_reti B hI_31 hr rfl dX2_dieIt_24 (Nat.le_of_ble_eq_true rfl) (Nat.le_of_ble_eq_true rfl) ((by
          have hO_24 : tl_die (A 0) x = tl_rf 3 (tl_n x) := by unfold tl_die; rw [if_pos hc_5, if_neg (by rw [hc_15]; decide)]
          rw [hO_24]; exact ⟨rfl, hM_50, hfr_49⟩))
  · refine lv_iconst (v := (-1)) hx hb dX2_dieIt_8 (by decide) ?_
    exact xk_reti B hI_1 hr rfl dX2_dieIt_9 (Nat.le_of_ble_eq_true rfl) (Nat.le_of_ble_eq_true rfl) ((by
        have hO_9 : tl_die (A 0) x = tl_wr (-1) := by unfold tl_die; rw [if_neg (by rw [hc_5]; decide)]
        rw [hO_9]; exact ⟨rfl, hM0, hfr⟩))
set_option maxHeartbeats 4000000 in
theorem m2_setIt (g : xk_G) {X : xk_H} {o : Nat} {ad : Nat → Nat} {A : Nat → Nat → Nat} {S : Nat → Nat} (hM : tm_Ok g X o ad A S) {w9 : Nat} (x : Int32) {lo hi : Nat} (hw9 : w9 < 14) (hv9 : A 0 w9 < 2147483648) (hlo : lo < 2147483648) (hhi : hi < 2147483648) : xk_C g yX2_setIt (ws_ yX2_setIt cX2_setIt 6 (some .int)) ({ frames := 1, cells := 0, slots := 0, locals := 25 } : Room) [.ref o, .int (nI w9), .int x, .int (nI lo), .int (nI hi)] X (xk_Qi (tl_r (tl_set (A 0) w9 x lo hi)) (fun X1 => tm_Ok g X1 o ad (va_up A 0 (tl_m (A 0) (tl_set (A 0) w9 x lo hi))) (tl_S S (tl_set (A 0) w9 x lo hi)) ∧ xk_fr o X X1)) := by
  refine xk_ofW (by decide +kernel) (Nat.le_of_ble_eq_true rfl) (fun p e s m args below meth c B hr hname hargs hI ls hl => ?_)
  have B : xk_B g p s m args meth c RX2 cX2_setIt 6 := B
  have hl : lv_has ls 6 [(0, .ref o), (1, .int (nI w9)), (2, .int x), (3, .int (nI lo)), (4, .int (nI hi))] := hl
  have hx := B.1
  have hb := B.2.1
  have hM0 := hM
  obtain ⟨hO, hA0, hA1, hA2, hA3, hA4, hA5, hA6, hA7, hA8, hA9⟩ := hM
  have hfr : xk_fr o X X := xk_fr.rf
  refine lv_iload_n hx hb dX2_setIt_0 rfl (lv_at hl 2 rfl) ?_
  refine lv_i2l hx hb dX2_setIt_1 rfl ?_
  refine lv_iload_n hx hb dX2_setIt_2 rfl (lv_at hl 3 rfl) ?_
  refine lv_i2l hx hb dX2_setIt_3 rfl ?_
  refine lv_iload hx hb dX2_setIt_4 (lv_at hl 4 rfl) ?_
  refine lv_i2l hx hb dX2_setIt_6 rfl ?_
  refine xk_ri0 (xk_cS B hI hl [.long ((x).toInt64), .long ((nI lo).toInt64), .long ((nI hi).toInt64)] [] 3 (m2_in g (x := x.toInt) (lo := (lo : Int)) (hi := (hi : Int)) (Int32.toInt_toInt64 _) ((Int32.toInt_toInt64 _).trans (nI_toInt (by omega))) ((Int32.toInt_toInt64 _).trans (nI_toInt (by omega)))) (lw_S q1509 q1510 q79 q1511) ⟨by decide +kernel, by decide +kernel, by decide +kernel⟩ ⟨Nat.le_of_ble_eq_true rfl, Nat.le_of_ble_eq_true rfl⟩ rfl rfl (Nat.le_of_ble_eq_true rfl) dX2_setIt_7 (Nat.le_of_ble_eq_true rfl) (Nat.le_of_ble_eq_true rfl)) hI (fun H_2 L_3 hI_1 => ?_)
  refine xk_top (y := xk_z (tl_rng x lo hi)) rfl ?_
  refine xk_if_ne_z (tgt := 16) hx hb dX2_setIt_10 (by decide) (fun hc_10 => ?_) (fun hc_10 => ?_)
  · obtain ⟨hx1, hx2, hx3, hx4⟩ := tl_rng_k hc_10 (by omega)
    refine lv_aload_n hx hb dX2_setIt_16 rfl (lv_at hl 0 rfl) ?_
    refine xk_get B hI_1 hO rfl in_X2 0 (by decide) q1432 rfl dX2_setIt_17 ?_
    refine lv_iload_n hx hb dX2_setIt_20 rfl (lv_at hl 1 rfl) ?_
    refine xk_iald B hI_1 hA0 (by omega) (by decide) dX2_setIt_21 ?_
    refine lv_istore (lv' := [(5, .int (nI (A 0 w9))), (0, .ref o), (1, .int (nI w9)), (2, .int x), (3, .int (nI lo)), (4, .int (nI hi))]) hx hb dX2_setIt_22 hl (by decide) rfl (fun ls hl => ?_)
    refine lv_iload hx hb dX2_setIt_24 (lv_at hl 0 rfl) ?_
    refine lv_iload_n hx hb dX2_setIt_26 rfl (lv_at hl 3 rfl) ?_
    refine xk_top hx1 ?_
    refine xk_icmp_ne (tgt := 37) hx hb (by omega) (by omega) dX2_setIt_27 (by decide) (fun hc_27 => ?_) (fun hc_27 => ?_)
    · refine lv_aload_n hx hb dX2_setIt_37 rfl (lv_at hl 1 rfl) ?_
      refine xk_get B hI_1 hO rfl in_X2 0 (by decide) q1432 rfl dX2_setIt_38 ?_
      refine lv_iload_n hx hb dX2_setIt_41 rfl (lv_at hl 2 rfl) ?_
      refine lv_iload_n hx hb dX2_setIt_42 rfl (lv_at hl 3 rfl) ?_
      refine xk_top hx1 ?_
      refine xk_iast B hI_1 hA0 (by omega) (by decide) dX2_setIt_43 (fun X_4 H_8 L_9 hf_6 hn_5 hI_7 => ?_)
      have hfr_10 := xk_fr.put hfr hA0 hn_5
      refine lv_iload hx hb dX2_setIt_44 (lv_at hl 0 rfl) ?_
      have hf_11 := xk_off hn_5 hO hA0 (xk_on1 (by decide))
      have hf_12 := xk_off hn_5 hA1 hA0 (xk_on1 (by decide))
      have hf_13 := xk_off hn_5 hA2 hA0 (xk_on1 (by decide))
      have hf_14 := xk_off hn_5 hA3 hA0 (xk_on1 (by decide))
      have hf_15 := xk_off hn_5 hA4 hA0 (xk_on1 (by decide))
      have hf_16 := xk_off hn_5 hA5 hA0 (xk_on1 (by decide))
      have hf_17 := xk_off hn_5 hA6 hA0 (xk_on1 (by decide))
      have hf_18 := xk_off hn_5 hA7 hA0 (xk_on1 (by decide))
      have hf_19 := xk_off hn_5 hA8 hA0 (xk_on1 (by decide))
      have hf_20 := xk_off hn_5 hA9 hA0 (xk_on1 (by decide))
      have hM_21 : tm_Ok g X_4 o ad (va_up A 0 (va_up (A 0) w9 (tl_n x))) S := ⟨hf_11, hf_6, hf_12, hf_13, hf_14, hf_15, hf_16, hf_17, hf_18, hf_19, hf_20⟩
      exact xk_reti B hI_7 hr rfl dX2_setIt_46 (Nat.le_of_ble_eq_true rfl) (Nat.le_of_ble_eq_true rfl) ((by
          have hO_46 : tl_set (A 0) w9 x lo hi = tl_ok (A 0 w9) (va_up (A 0) w9 (tl_n x)) := by unfold tl_set; rw [if_pos hc_10, if_neg hc_27]
          rw [hO_46]; exact ⟨rfl, hM_21, hfr_10⟩))
    · refine lv_aload_n hx hb dX2_setIt_30 rfl (lv_at hl 1 rfl) ?_
      refine lv_iconst (v := nI 4) hx hb dX2_setIt_31 (by decide) ?_
      refine lv_iload_n hx hb dX2_setIt_32 rfl (lv_at hl 3 rfl) ?_
      refine xk_top hx1 ?_
      refine xk_ri (xk_cV B hI_1 hl [.int (nI 4), .int (nI (tl_n x))] [] 2 (m2_refuse g hM0 4 (tl_n x)) hO rfl (lw_V q1516 q1518 qs32 q79 q1519) ⟨rfl, by decide +kernel, by decide +kernel, by decide +kernel⟩ ⟨Nat.le_of_ble_eq_true rfl, Nat.le_of_ble_eq_true rfl⟩ rfl rfl (Nat.le_of_ble_eq_true rfl) dX2_setIt_33 (Nat.le_of_ble_eq_true rfl) (Nat.le_of_ble_eq_true rfl)) hI_1 (fun X_25 H_23 L_24 hq_26 hI_22 => ?_)
      refine xk_top (y := (-3)) rfl ?_
      obtain ⟨hM_27, hfr_28⟩ := hq_26
      obtain ⟨hf_29, hf_30, hf_31, hf_32, hf_33, hf_34, hf_35, hf_36, hf_37, hf_38, hf_39⟩ := id hM_27
      have hfr_40 := xk_fr.tr hfr hfr_28
      have hf_30 : X_25 (ad 0) = some ((o, 1), xk_iA g 0 294 (A 0)) := hf_30
      have hf_31 : X_25 (ad 1) = some ((o, 2), xk_iA g 0 294 (A 1)) := hf_31
      have hf_32 : X_25 (ad 2) = some ((o, 3), xk_iA g 0 294 (A 2)) := hf_32
      have hf_33 : X_25 (ad 3) = some ((o, 4), xk_iA g 0 294 (A 3)) := hf_33
      have hf_34 : X_25 (ad 4) = some ((o, 5), xk_iA g 0 2352 (A 4)) := hf_34
      have hf_35 : X_25 (ad 5) = some ((o, 6), xk_iA g 0 70 (A 5)) := hf_35
      have hf_36 : X_25 (ad 6) = some ((o, 7), xk_iA g 2 40 (A 6)) := hf_36
      have hf_37 : X_25 (ad 7) = some ((o, 8), xk_iA g 2 40 (A 7)) := hf_37
      have hf_38 : X_25 (ad 8) = some ((o, 9), xk_iA g 0 60 (A 8)) := hf_38
      have hf_39 : X_25 (ad 9) = some ((o, 10), xk_iA g 0 284 (A 9)) := hf_39
      have hf_29 : X_25 o = some ((o, 0), .inr (0, [.ref (ad 0), .ref (ad 1), .ref (ad 2), .ref (ad 3), .int (nI (S 0)), .ref (ad 4), .int (nI (S 1)), .int (nI 4), .int (nI (tl_n x)), .int (tm_it (0)), .ref (ad 5), .int (nI (S 5)), .ref (ad 6), .ref (ad 7), .ref (ad 8), .int (nI (S 6)), .ref (ad 9), .int (nI (S 7)), .int (nI (S 8)), .int (nI (S 9)), .int (nI (S 10))])) := hf_29
      have hM_41 : tm_Ok g X_25 o ad A (va_up (va_up (va_up S 2 4) 3 (tl_n x)) 4 0) := ⟨hf_29, hf_30, hf_31, hf_32, hf_33, hf_34, hf_35, hf_36, hf_37, hf_38, hf_39⟩
      exact xk_reti B hI_22 hr rfl dX2_setIt_36 (Nat.le_of_ble_eq_true rfl) (Nat.le_of_ble_eq_true rfl) ((by
          have hO_36 : tl_set (A 0) w9 x lo hi = tl_rf 4 (tl_n x) := by unfold tl_set; rw [if_pos hc_10, if_pos hc_27]
          rw [hO_36]; exact ⟨rfl, hM_41, hfr_40⟩))
  · refine lv_bipush (v := (-2)) hx hb dX2_setIt_13 (by decide) ?_
    exact xk_reti B hI_1 hr rfl dX2_setIt_15 (Nat.le_of_ble_eq_true rfl) (Nat.le_of_ble_eq_true rfl) ((by
        have hO_15 : tl_set (A 0) w9 x lo hi = tl_wr (-2) := by unfold tl_set; rw [if_neg (by rw [hc_10]; decide)]
        rw [hO_15]; exact ⟨rfl, hM0, hfr⟩))
