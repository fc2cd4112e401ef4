/-! the model: walks, printed by tools/model.py -/
set_option maxRecDepth 100000
def tl_dscR (m : Nat → Nat) (x : Int32) : Int32 := if tl_isb m x = true then nI (tl_dsc m (tl_n x)).length else -1
theorem tl_tel_s (m : Nat → Nat) (k : Nat) (h : 0 < k) : tl_tel m (k + 1) = tl_tel m k ++ [44] ++ tl_dig (tl_atN m k) := by
  simp only [tl_tel]
  rw [if_pos h]
theorem tl_tel_1 (m : Nat → Nat) : tl_tel m (0 + 1) = [] ++ tl_dig (tl_atN m 0) := rfl
set_option maxHeartbeats 4000000 in
theorem m2_here (g : xk_G) {X : xk_H} {o : Nat} {ad : Nat → Nat} {A : Nat → Nat → Nat} {S : Nat → Nat} (hM : tm_Ok g X o ad A S) (hS9 : S 9 ≤ 70) (hS8 : S 8 ≤ 70) : xk_C g yX2_here (ws_ yX2_here cX2_here 1 (some .int)) ({ frames := 0, cells := 0, slots := 0, locals := 0 } : Room) [.ref o] X (xk_Qi (tl_d (tl_hc (A 5) (S 9) (S 8))) (fun X1 => X1 = X)) := by
  refine xk_ofW (by decide +kernel) (Nat.le_of_ble_eq_true rfl) (fun p e s m args below meth c B hr hname hargs hI ls hl => ?_)
  have B : xk_B g p s m args meth c RX2 cX2_here 1 := B
  have hl : lv_has ls 1 [(0, .ref o)] := hl
  have hx := B.1
  have hb := B.2.1
  have hM0 := hM
  obtain ⟨hO, hA0, hA1, hA2, hA3, hA4, hA5, hA6, hA7, hA8, hA9⟩ := hM
  have hfr : xk_fr o X X := xk_fr.rf
  refine lv_aload_n hx hb dX2_here_0 rfl (lv_at hl 0 rfl) ?_
  refine xk_get B hI hO rfl in_X2 18 (by decide) q1450 rfl dX2_here_1 ?_
  refine lv_aload_n hx hb dX2_here_4 rfl (lv_at hl 0 rfl) ?_
  refine xk_get B hI hO rfl in_X2 19 (by decide) q1451 rfl dX2_here_5 ?_
  refine xk_icmp_ge (tgt := 23) hx hb (by omega) (by omega) dX2_here_8 (by decide) (fun hc_8 => ?_) (fun hc_8 => ?_)
  · refine lv_iconst (v := (-1)) hx hb dX2_here_23 (by decide) ?_
    exact xk_reti B hI hr rfl dX2_here_24 (Nat.le_of_ble_eq_true rfl) (Nat.le_of_ble_eq_true rfl) (⟨by unfold tl_hc; rw [if_neg (by omega)]; rfl, rfl⟩)
  · refine lv_aload_n hx hb dX2_here_11 rfl (lv_at hl 0 rfl) ?_
    refine xk_get B hI hO rfl in_X2 10 (by decide) q1442 rfl dX2_here_12 ?_
    refine lv_aload_n hx hb dX2_here_15 rfl (lv_at hl 0 rfl) ?_
    refine xk_get B hI hO rfl in_X2 18 (by decide) q1450 rfl dX2_here_16 ?_
    refine xk_iald B hI hA5 (by omega) (by decide) dX2_here_19 ?_
    refine lv_goto (tgt := 24) hx hb dX2_here_20 (by decide) ?_
    exact xk_reti B hI hr rfl dX2_here_24 (Nat.le_of_ble_eq_true rfl) (Nat.le_of_ble_eq_true rfl) (⟨by unfold tl_hc; rw [if_pos hc_8]; rfl, rfl⟩)
theorem tl_hc_le {t : Nat → Nat} {z pl : Nat} (hz : z ≤ 70) (ht : ∀ j, j < 70 → t j ≤ 126) : tl_hc t z pl ≤ 127 := by
  unfold tl_hc
  by_cases h : pl < z
  · rw [if_pos h]
    have := ht pl (by omega)
    omega
  · rw [if_neg h]
    omega
set_option maxHeartbeats 4000000 in
theorem m2_expects (g : xk_G) {X : xk_H} {o : Nat} {ad : Nat → Nat} {A : Nat → Nat → Nat} {S : Nat → Nat} (hM : tm_Ok g X o ad A S) {c9 : Nat} (hc9 : c9 < 128) (hS9 : S 9 ≤ 70) (hS8 : S 8 ≤ 70) (hS10 : S 10 ≤ 1) (ht9 : ∀ j, j < 70 → A 5 j ≤ 126) : xk_C g yX2_expects (ws_ yX2_expects cX2_expects 2 none) ({ frames := 1, cells := 0, slots := 0, locals := 20 } : Room) [.ref o, .int (nI c9)] X (xk_Qv (fun X1 => tm_Ok g X1 o ad A (va_up (va_up S 8 (tl_stp (tl_exw (A 5) (S 9) (S 10) (S 8) c9) (S 8))) 10 (tl_exw (A 5) (S 9) (S 10) (S 8) c9)) ∧ xk_fr o X X1)) := by
  refine xk_ofW (by decide +kernel) (Nat.le_of_ble_eq_true rfl) (fun p e s m args below meth c B hr hname hargs hI ls hl => ?_)
  have B : xk_B g p s m args meth c RX2 cX2_expects 2 := B
  have hl : lv_has ls 2 [(0, .ref o), (1, .int (nI c9))] := hl
  have hx := B.1
  have hb := B.2.1
  have hM0 := hM
  obtain ⟨hO, hA0, hA1, hA2, hA3, hA4, hA5, hA6, hA7, hA8, hA9⟩ := hM
  have hfr : xk_fr o X X := xk_fr.rf
  have qh := tl_hc_le (pl := S 8) hS9 ht9
  refine lv_aload_n hx hb dX2_expects_0 rfl (lv_at hl 0 rfl) ?_
  refine lv_aload_n hx hb dX2_expects_1 rfl (lv_at hl 0 rfl) ?_
  refine xk_get B hI hO rfl in_X2 20 (by decide) q1452 rfl dX2_expects_2 ?_
  refine xk_if_ne (tgt := 16) hx hb (by omega) dX2_expects_5 (by decide) (fun hc_5 => ?_) (fun hc_5 => ?_)
  · refine lv_iconst (v := nI 1) hx hb dX2_expects_16 (by decide) ?_
    refine lv_goto (tgt := 21) hx hb dX2_expects_17 (by decide) ?_
    refine xk_put B hI hO rfl in_X2 tyX2 tyX2_ok nmX2 20 (by decide) q1452 rfl (by decide) (by decide) (Nat.le_of_ble_eq_true rfl) dX2_expects_21 (fun X_1 H_5 L_6 hf_3 hn_2 hI_4 => ?_)
    have hf_3 : X_1 o = some ((o, 0), .inr (0, [.ref (ad 0), .ref (ad 1), .ref (ad 2), .ref (ad 3), .int (nI (S 0)), .ref (ad 4), .int (nI (S 1)), .int (nI (S 2)), .int (nI (S 3)), .int (tm_it (S 4)), .ref (ad 5), .int (nI (S 5)), .ref (ad 6), .ref (ad 7), .ref (ad 8), .int (nI (S 6)), .ref (ad 9), .int (nI (S 7)), .int (nI (S 8)), .int (nI (S 9)), .int (nI 1)])) := hf_3
    have hfr_7 := xk_fr.put hfr hO hn_2
    refine lv_aload_n hx hb dX2_expects_24 rfl (lv_at hl 0 rfl) ?_
    refine lv_dup hx hb dX2_expects_25 rfl ?_
    refine xk_get B hI_4 hf_3 rfl in_X2 18 (by decide) q1450 rfl dX2_expects_26 ?_
    refine lv_aload_n hx hb dX2_expects_29 rfl (lv_at hl 0 rfl) ?_
    refine xk_get B hI_4 hf_3 rfl in_X2 20 (by decide) q1452 rfl dX2_expects_30 ?_
    refine xk_if_eq_f (tgt := 40) hx hb (by omega) dX2_expects_33 (by decide) (by decide) ?_
    refine lv_iconst (v := nI 0) hx hb dX2_expects_36 (by decide) ?_
    refine lv_goto (tgt := 41) hx hb dX2_expects_37 (by decide) ?_
    refine lv_iadd hx hb dX2_expects_41 (xk_top (nI_add _ _) ?_)
    refine xk_put B hI_4 hf_3 rfl in_X2 tyX2 tyX2_ok nmX2 18 (by decide) q1450 rfl rfl rfl (Nat.le_of_ble_eq_true rfl) dX2_expects_42 (fun X_8 H_12 L_13 hf_10 hn_9 hI_11 => ?_)
    have hf_10 : X_8 o = some ((o, 0), .inr (0, [.ref (ad 0), .ref (ad 1), .ref (ad 2), .ref (ad 3), .int (nI (S 0)), .ref (ad 4), .int (nI (S 1)), .int (nI (S 2)), .int (nI (S 3)), .int (tm_it (S 4)), .ref (ad 5), .int (nI (S 5)), .ref (ad 6), .ref (ad 7), .ref (ad 8), .int (nI (S 6)), .ref (ad 9), .int (nI (S 7)), .int (nI (S 8 + 0)), .int (nI (S 9)), .int (nI 1)])) := hf_10
    have hfr_14 := xk_fr.put hfr_7 hf_3 hn_9
    have hf_15 := xk_off hn_2 hA0 hO (xk_on1 (by decide))
    have hf_16 := xk_off hn_9 hf_15 hf_3 (xk_on1 (by decide))
    have hf_17 := xk_off hn_2 hA1 hO (xk_on1 (by decide))
    have hf_18 := xk_off hn_9 hf_17 hf_3 (xk_on1 (by decide))
    have hf_19 := xk_off hn_2 hA2 hO (xk_on1 (by decide))
    have hf_20 := xk_off hn_9 hf_19 hf_3 (xk_on1 (by decide))
    have hf_21 := xk_off hn_2 hA3 hO (xk_on1 (by decide))
    have hf_22 := xk_off hn_9 hf_21 hf_3 (xk_on1 (by decide))
    have hf_23 := xk_off hn_2 hA4 hO (xk_on1 (by decide))
    have hf_24 := xk_off hn_9 hf_23 hf_3 (xk_on1 (by decide))
    have hf_25 := xk_off hn_2 hA5 hO (xk_on1 (by decide))
    have hf_26 := xk_off hn_9 hf_25 hf_3 (xk_on1 (by decide))
    have hf_27 := xk_off hn_2 hA6 hO (xk_on1 (by decide))
    have hf_28 := xk_off hn_9 hf_27 hf_3 (xk_on1 (by decide))
    have hf_29 := xk_off hn_2 hA7 hO (xk_on1 (by decide))
    have hf_30 := xk_off hn_9 hf_29 hf_3 (xk_on1 (by decide))
    have hf_31 := xk_off hn_2 hA8 hO (xk_on1 (by decide))
    have hf_32 := xk_off hn_9 hf_31 hf_3 (xk_on1 (by decide))
    have hf_33 := xk_off hn_2 hA9 hO (xk_on1 (by decide))
    have hf_34 := xk_off hn_9 hf_33 hf_3 (xk_on1 (by decide))
    have hM_35 : tm_Ok g X_8 o ad A (va_up (va_up S 8 (S 8 + 0)) 10 1) := ⟨hf_10, hf_16, hf_18, hf_20, hf_22, hf_24, hf_26, hf_28, hf_30, hf_32, hf_34⟩
    exact xk_retv B hI_11 hr dX2_expects_45 (Nat.le_of_ble_eq_true rfl) (Nat.le_of_ble_eq_true rfl) ((by rw [show tl_exw (A 5) (S 9) (S 10) (S 8) c9 = 1 from if_neg (fun z => absurd z.1 (by omega))]; exact ⟨rfl, hM_35, hfr_14⟩))
  · refine lv_aload_n hx hb dX2_expects_8 rfl (lv_at hl 0 rfl) ?_
    refine xk_ri0 (xk_cV B hI hl [] [.ref o] 0 (m2_here g hM0 (show S 9 ≤ 70 from by omega) (show S 8 ≤ 70 from by omega)) hO rfl (lw_V q1743 q1745 qs60 q79 q1746) ⟨rfl, by decide +kernel, by decide +kernel, by decide +kernel⟩ ⟨Nat.le_of_ble_eq_true rfl, Nat.le_of_ble_eq_true rfl⟩ rfl rfl (Nat.le_of_ble_eq_true rfl) dX2_expects_9 (Nat.le_of_ble_eq_true rfl) (Nat.le_of_ble_eq_true rfl)) hI (fun H_37 L_38 hI_36 => ?_)
    refine xk_top (y := tl_d (tl_hc (A 5) (S 9) (S 8))) rfl ?_
    refine lv_iload_n hx hb dX2_expects_12 rfl (lv_at hl 1 rfl) ?_
    refine lv_icmp_eq (tgt := 20) hx hb dX2_expects_13 (by decide) (fun hc_13 => ?_) (fun hc_13 => ?_)
    · refine lv_iconst (v := nI 0) hx hb dX2_expects_20 (by decide) ?_
      refine xk_put B hI_36 hO rfl in_X2 tyX2 tyX2_ok nmX2 20 (by decide) q1452 rfl (by decide) (by decide) (Nat.le_of_ble_eq_true rfl) dX2_expects_21 (fun X_39 H_43 L_44 hf_41 hn_40 hI_42 => ?_)
      have hf_41 : X_39 o = some ((o, 0), .inr (0, [.ref (ad 0), .ref (ad 1), .ref (ad 2), .ref (ad 3), .int (nI (S 0)), .ref (ad 4), .int (nI (S 1)), .int (nI (S 2)), .int (nI (S 3)), .int (tm_it (S 4)), .ref (ad 5), .int (nI (S 5)), .ref (ad 6), .ref (ad 7), .ref (ad 8), .int (nI (S 6)), .ref (ad 9), .int (nI (S 7)), .int (nI (S 8)), .int (nI (S 9)), .int (nI 0)])) := hf_41
      have hfr_45 := xk_fr.put hfr hO hn_40
      refine lv_aload_n hx hb dX2_expects_24 rfl (lv_at hl 0 rfl) ?_
      refine lv_dup hx hb dX2_expects_25 rfl ?_
      refine xk_get B hI_42 hf_41 rfl in_X2 18 (by decide) q1450 rfl dX2_expects_26 ?_
      refine lv_aload_n hx hb dX2_expects_29 rfl (lv_at hl 0 rfl) ?_
      refine xk_get B hI_42 hf_41 rfl in_X2 20 (by decide) q1452 rfl dX2_expects_30 ?_
      refine xk_if_eq_t (tgt := 40) hx hb (by omega) dX2_expects_33 (by decide) (by decide) ?_
      refine lv_iconst (v := nI 1) hx hb dX2_expects_40 (by decide) ?_
      refine lv_iadd hx hb dX2_expects_41 (xk_top (nI_add _ _) ?_)
      refine xk_put B hI_42 hf_41 rfl in_X2 tyX2 tyX2_ok nmX2 18 (by decide) q1450 rfl rfl rfl (Nat.le_of_ble_eq_true rfl) dX2_expects_42 (fun X_46 H_50 L_51 hf_48 hn_47 hI_49 => ?_)
      have hf_48 : X_46 o = some ((o, 0), .inr (0, [.ref (ad 0), .ref (ad 1), .ref (ad 2), .ref (ad 3), .int (nI (S 0)), .ref (ad 4), .int (nI (S 1)), .int (nI (S 2)), .int (nI (S 3)), .int (tm_it (S 4)), .ref (ad 5), .int (nI (S 5)), .ref (ad 6), .ref (ad 7), .ref (ad 8), .int (nI (S 6)), .ref (ad 9), .int (nI (S 7)), .int (nI (S 8 + 1)), .int (nI (S 9)), .int (nI 0)])) := hf_48
      have hfr_52 := xk_fr.put hfr_45 hf_41 hn_47
      have hf_53 := xk_off hn_40 hA0 hO (xk_on1 (by decide))
      have hf_54 := xk_off hn_47 hf_53 hf_41 (xk_on1 (by decide))
      have hf_55 := xk_off hn_40 hA1 hO (xk_on1 (by decide))
      have hf_56 := xk_off hn_47 hf_55 hf_41 (xk_on1 (by decide))
      have hf_57 := xk_off hn_40 hA2 hO (xk_on1 (by decide))
      have hf_58 := xk_off hn_47 hf_57 hf_41 (xk_on1 (by decide))
      have hf_59 := xk_off hn_40 hA3 hO (xk_on1 (by decide))
      have hf_60 := xk_off hn_47 hf_59 hf_41 (xk_on1 (by decide))
      have hf_61 := xk_off hn_40 hA4 hO (xk_on1 (by decide))
      have hf_62 := xk_off hn_47 hf_61 hf_41 (xk_on1 (by decide))
      have hf_63 := xk_off hn_40 hA5 hO (xk_on1 (by decide))
      have hf_64 := xk_off hn_47 hf_63 hf_41 (xk_on1 (by decide))
      have hf_65 := xk_off hn_40 hA6 hO (xk_on1 (by decide))
      have hf_66 := xk_off hn_47 hf_65 hf_41 (xk_on1 (by decide))
      have hf_67 := xk_off hn_40 hA7 hO (xk_on1 (by decide))
      have hf_68 := xk_off hn_47 hf_67 hf_41 (xk_on1 (by decide))
      have hf_69 := xk_off hn_40 hA8 hO (xk_on1 (by decide))
      have hf_70 := xk_off hn_47 hf_69 hf_41 (xk_on1 (by decide))
      have hf_71 := xk_off hn_40 hA9 hO (xk_on1 (by decide))
      have hf_72 := xk_off hn_47 hf_71 hf_41 (xk_on1 (by decide))
      have hM_73 : tm_Ok g X_46 o ad A (va_up (va_up S 8 (S 8 + 1)) 10 0) := ⟨hf_48, hf_54, hf_56, hf_58, hf_60, hf_62, hf_64, hf_66, hf_68, hf_70, hf_72⟩
      exact xk_retv B hI_49 hr dX2_expects_45 (Nat.le_of_ble_eq_true rfl) (Nat.le_of_ble_eq_true rfl) ((by rw [show tl_exw (A 5) (S 9) (S 10) (S 8) c9 = 0 from if_pos ⟨hc_5, (tl_d_eq (by omega) (by omega)).mp hc_13⟩]; exact ⟨rfl, hM_73, hfr_52⟩))
    · refine lv_iconst (v := nI 1) hx hb dX2_expects_16 (by decide) ?_
      refine lv_goto (tgt := 21) hx hb dX2_expects_17 (by decide) ?_
      refine xk_put B hI_36 hO rfl in_X2 tyX2 tyX2_ok nmX2 20 (by decide) q1452 rfl (by decide) (by decide) (Nat.le_of_ble_eq_true rfl) dX2_expects_21 (fun X_74 H_78 L_79 hf_76 hn_75 hI_77 => ?_)
      have hf_76 : X_74 o = some ((o, 0), .inr (0, [.ref (ad 0), .ref (ad 1), .ref (ad 2), .ref (ad 3), .int (nI (S 0)), .ref (ad 4), .int (nI (S 1)), .int (nI (S 2)), .int (nI (S 3)), .int (tm_it (S 4)), .ref (ad 5), .int (nI (S 5)), .ref (ad 6), .ref (ad 7), .ref (ad 8), .int (nI (S 6)), .ref (ad 9), .int (nI (S 7)), .int (nI (S 8)), .int (nI (S 9)), .int (nI 1)])) := hf_76
      have hfr_80 := xk_fr.put hfr hO hn_75
      refine lv_aload_n hx hb dX2_expects_24 rfl (lv_at hl 0 rfl) ?_
      refine lv_dup hx hb dX2_expects_25 rfl ?_
      refine xk_get B hI_77 hf_76 rfl in_X2 18 (by decide) q1450 rfl dX2_expects_26 ?_
      refine lv_aload_n hx hb dX2_expects_29 rfl (lv_at hl 0 rfl) ?_
      refine xk_get B hI_77 hf_76 rfl in_X2 20 (by decide) q1452 rfl dX2_expects_30 ?_
      refine xk_if_eq_f (tgt := 40) hx hb (by omega) dX2_expects_33 (by decide) (by decide) ?_
      refine lv_iconst (v := nI 0) hx hb dX2_expects_36 (by decide) ?_
      refine lv_goto (tgt := 41) hx hb dX2_expects_37 (by decide) ?_
      refine lv_iadd hx hb dX2_expects_41 (xk_top (nI_add _ _) ?_)
      refine xk_put B hI_77 hf_76 rfl in_X2 tyX2 tyX2_ok nmX2 18 (by decide) q1450 rfl rfl rfl (Nat.le_of_ble_eq_true rfl) dX2_expects_42 (fun X_81 H_85 L_86 hf_83 hn_82 hI_84 => ?_)
      have hf_83 : X_81 o = some ((o, 0), .inr (0, [.ref (ad 0), .ref (ad 1), .ref (ad 2), .ref (ad 3), .int (nI (S 0)), .ref (ad 4), .int (nI (S 1)), .int (nI (S 2)), .int (nI (S 3)), .int (tm_it (S 4)), .ref (ad 5), .int (nI (S 5)), .ref (ad 6), .ref (ad 7), .ref (ad 8), .int (nI (S 6)), .ref (ad 9), .int (nI (S 7)), .int (nI (S 8 + 0)), .int (nI (S 9)), .int (nI 1)])) := hf_83
      have hfr_87 := xk_fr.put hfr_80 hf_76 hn_82
      have hf_88 := xk_off hn_75 hA0 hO (xk_on1 (by decide))
      have hf_89 := xk_off hn_82 hf_88 hf_76 (xk_on1 (by decide))
      have hf_90 := xk_off hn_75 hA1 hO (xk_on1 (by decide))
      have hf_91 := xk_off hn_82 hf_90 hf_76 (xk_on1 (by decide))
      have hf_92 := xk_off hn_75 hA2 hO (xk_on1 (by decide))
      have hf_93 := xk_off hn_82 hf_92 hf_76 (xk_on1 (by decide))
      have hf_94 := xk_off hn_75 hA3 hO (xk_on1 (by decide))
      have hf_95 := xk_off hn_82 hf_94 hf_76 (xk_on1 (by decide))
      have hf_96 := xk_off hn_75 hA4 hO (xk_on1 (by decide))
      have hf_97 := xk_off hn_82 hf_96 hf_76 (xk_on1 (by decide))
      have hf_98 := xk_off hn_75 hA5 hO (xk_on1 (by decide))
      have hf_99 := xk_off hn_82 hf_98 hf_76 (xk_on1 (by decide))
      have hf_100 := xk_off hn_75 hA6 hO (xk_on1 (by decide))
      have hf_101 := xk_off hn_82 hf_100 hf_76 (xk_on1 (by decide))
      have hf_102 := xk_off hn_75 hA7 hO (xk_on1 (by decide))
      have hf_103 := xk_off hn_82 hf_102 hf_76 (xk_on1 (by decide))
      have hf_104 := xk_off hn_75 hA8 hO (xk_on1 (by decide))
      have hf_105 := xk_off hn_82 hf_104 hf_76 (xk_on1 (by decide))
      have hf_106 := xk_off hn_75 hA9 hO (xk_on1 (by decide))
      have hf_107 := xk_off hn_82 hf_106 hf_76 (xk_on1 (by decide))
      have hM_108 : tm_Ok g X_81 o ad A (va_up (va_up S 8 (S 8 + 0)) 10 1) := ⟨hf_83, hf_89, hf_91, hf_93, hf_95, hf_97, hf_99, hf_101, hf_103, hf_105, hf_107⟩
      exact xk_retv B hI_84 hr dX2_expects_45 (Nat.le_of_ble_eq_true rfl) (Nat.le_of_ble_eq_true rfl) ((by rw [show tl_exw (A 5) (S 9) (S 10) (S 8) c9 = 1 from if_neg (fun z => hc_13 ((tl_d_eq (by omega) (by omega)).mpr z.2))]; exact ⟨rfl, hM_108, hfr_87⟩))
theorem tl_ztop {a b : Bool} (h : a = b) : xk_z a = xk_z b := by rw [h]
theorem tl_d_sub {h : Nat} (h1 : tl_isd h = true) : tl_d h - nI 48 = nI (h - 49) := by
  have h2 : 49 ≤ h ∧ h ≤ 58 := of_decide_eq_true h1
  obtain ⟨k, rfl⟩ : ∃ k, h = k + 1 := ⟨h - 1, by omega⟩
  show nI k - nI 48 = _
  rw [pk_sub (by omega)]
  exact congrArg nI (by omega)
set_option maxHeartbeats 4000000 in
theorem m2_digit (g : xk_G) {X : xk_H} {o : Nat} {ad : Nat → Nat} {A : Nat → Nat → Nat} {S : Nat → Nat} (hM : tm_Ok g X o ad A S) (hS9 : S 9 ≤ 70) (hS8 : S 8 ≤ 70) (hS10 : S 10 ≤ 1) (ht9 : ∀ j, j < 70 → A 5 j ≤ 126) : xk_C g yX2_digit (ws_ yX2_digit cX2_digit 2 (some .int)) ({ frames := 1, cells := 0, slots := 0, locals := 25 } : Room) [.ref o] X (xk_Qi (nI (tl_dgv (A 5) (S 9) (S 10) (S 8))) (fun X1 => tm_Ok g X1 o ad A (va_up (va_up S 8 (tl_stp (tl_dgw (A 5) (S 9) (S 10) (S 8)) (S 8))) 10 (tl_dgw (A 5) (S 9) (S 10) (S 8))) ∧ xk_fr o X X1)) := by
  refine xk_ofW (by decide +kernel) (Nat.le_of_ble_eq_true rfl) (fun p e s m args below meth c B hr hname hargs hI ls hl => ?_)
  have B : xk_B g p s m args meth c RX2 cX2_digit 2 := B
  have hl : lv_has ls 2 [(0, .ref o)] := hl
  have hx := B.1
  have hb := B.2.1
  have hM0 := hM
  obtain ⟨hO, hA0, hA1, hA2, hA3, hA4, hA5, hA6, hA7, hA8, hA9⟩ := hM
  have hfr : xk_fr o X X := xk_fr.rf
  have qh := tl_hc_le (pl := S 8) hS9 ht9
  refine lv_aload_n hx hb dX2_digit_0 rfl (lv_at hl 0 rfl) ?_
  refine lv_aload_n hx hb dX2_digit_1 rfl (lv_at hl 0 rfl) ?_
  refine xk_get B hI hO rfl in_X2 20 (by decide) q1452 rfl dX2_digit_2 ?_
  refine xk_if_ne (tgt := 25) hx hb (by omega) dX2_digit_5 (by decide) (fun hc_5 => ?_) (fun hc_5 => ?_)
  · refine lv_iconst (v := nI 1) hx hb dX2_digit_25 (by decide) ?_
    refine lv_goto (tgt := 30) hx hb dX2_digit_26 (by decide) ?_
    refine xk_put B hI hO rfl in_X2 tyX2 tyX2_ok nmX2 20 (by decide) q1452 rfl (by decide) (by decide) (Nat.le_of_ble_eq_true rfl) dX2_digit_30 (fun X_1 H_5 L_6 hf_3 hn_2 hI_4 => ?_)
    have hf_3 : X_1 o = some ((o, 0), .inr (0, [.ref (ad 0), .ref (ad 1), .ref (ad 2), .ref (ad 3), .int (nI (S 0)), .ref (ad 4), .int (nI (S 1)), .int (nI (S 2)), .int (nI (S 3)), .int (tm_it (S 4)), .ref (ad 5), .int (nI (S 5)), .ref (ad 6), .ref (ad 7), .ref (ad 8), .int (nI (S 6)), .ref (ad 9), .int (nI (S 7)), .int (nI (S 8)), .int (nI (S 9)), .int (nI 1)])) := hf_3
    have hfr_7 := xk_fr.put hfr hO hn_2
    refine lv_aload_n hx hb dX2_digit_33 rfl (lv_at hl 0 rfl) ?_
    refine xk_get B hI_4 hf_3 rfl in_X2 20 (by decide) q1452 rfl dX2_digit_34 ?_
    refine xk_if_eq_f (tgt := 44) hx hb (by omega) dX2_digit_37 (by decide) (by decide) ?_
    refine lv_iconst (v := nI 0) hx hb dX2_digit_40 (by decide) ?_
    refine lv_goto (tgt := 51) hx hb dX2_digit_41 (by decide) ?_
    refine lv_istore_n (lv' := [(1, .int (nI 0)), (0, .ref o)]) hx hb dX2_digit_51 rfl hl (by decide) rfl (fun ls hl => ?_)
    refine lv_aload_n hx hb dX2_digit_52 rfl (lv_at hl 1 rfl) ?_
    refine lv_dup hx hb dX2_digit_53 rfl ?_
    refine xk_get B hI_4 hf_3 rfl in_X2 18 (by decide) q1450 rfl dX2_digit_54 ?_
    refine lv_aload_n hx hb dX2_digit_57 rfl (lv_at hl 1 rfl) ?_
    refine xk_get B hI_4 hf_3 rfl in_X2 20 (by decide) q1452 rfl dX2_digit_58 ?_
    refine xk_if_eq_f (tgt := 68) hx hb (by omega) dX2_digit_61 (by decide) (by decide) ?_
    refine lv_iconst (v := nI 0) hx hb dX2_digit_64 (by decide) ?_
    refine lv_goto (tgt := 69) hx hb dX2_digit_65 (by decide) ?_
    refine lv_iadd hx hb dX2_digit_69 (xk_top (nI_add _ _) ?_)
    refine xk_put B hI_4 hf_3 rfl in_X2 tyX2 tyX2_ok nmX2 18 (by decide) q1450 rfl rfl rfl (Nat.le_of_ble_eq_true rfl) dX2_digit_70 (fun X_8 H_12 L_13 hf_10 hn_9 hI_11 => ?_)
    have hf_10 : X_8 o = some ((o, 0), .inr (0, [.ref (ad 0), .ref (ad 1), .ref (ad 2), .ref (ad 3), .int (nI (S 0)), .ref (ad 4), .int (nI (S 1)), .int (nI (S 2)), .int (nI (S 3)), .int (tm_it (S 4)), .ref (ad 5), .int (nI (S 5)), .ref (ad 6), .ref (ad 7), .ref (ad 8), .int (nI (S 6)), .ref (ad 9), .int (nI (S 7)), .int (nI (S 8 + 0)), .int (nI (S 9)), .int (nI 1)])) := hf_10
    have hfr_14 := xk_fr.put hfr_7 hf_3 hn_9
    refine lv_iload_n hx hb dX2_digit_73 rfl (lv_at hl 0 rfl) ?_
    have hf_15 := xk_off hn_2 hA0 hO (xk_on1 (by decide))
    have hf_16 := xk_off hn_9 hf_15 hf_3 (xk_on1 (by decide))
    have hf_17 := xk_off hn_2 hA1 hO (xk_on1 (by decide))
    have hf_18 := xk_off hn_9 hf_17 hf_3 (xk_on1 (by decide))
    have hf_19 := xk_off hn_2 hA2 hO (xk_on1 (by decide))
    have hf_20 := xk_off hn_9 hf_19 hf_3 (xk_on1 (by decide))
    have hf_21 := xk_off hn_2 hA3 hO (xk_on1 (by decide))
    have hf_22 := xk_off hn_9 hf_21 hf_3 (xk_on1 (by decide))
    have hf_23 := xk_off hn_2 hA4 hO (xk_on1 (by decide))
    have hf_24 := xk_off hn_9 hf_23 hf_3 (xk_on1 (by decide))
    have hf_25 := xk_off hn_2 hA5 hO (xk_on1 (by decide))
    have hf_26 := xk_off hn_9 hf_25 hf_3 (xk_on1 (by decide))
    have hf_27 := xk_off hn_2 hA6 hO (xk_on1 (by decide))
    have hf_28 := xk_off hn_9 hf_27 hf_3 (xk_on1 (by decide))
    have hf_29 := xk_off hn_2 hA7 hO (xk_on1 (by decide))
    have hf_30 := xk_off hn_9 hf_29 hf_3 (xk_on1 (by decide))
    have hf_31 := xk_off hn_2 hA8 hO (xk_on1 (by decide))
    have hf_32 := xk_off hn_9 hf_31 hf_3 (xk_on1 (by decide))
    have hf_33 := xk_off hn_2 hA9 hO (xk_on1 (by decide))
    have hf_34 := xk_off hn_9 hf_33 hf_3 (xk_on1 (by decide))
    have hM_35 : tm_Ok g X_8 o ad A (va_up (va_up S 8 (S 8 + 0)) 10 1) := ⟨hf_10, hf_16, hf_18, hf_20, hf_22, hf_24, hf_26, hf_28, hf_30, hf_32, hf_34⟩
    exact xk_reti B hI_11 hr rfl dX2_digit_74 (Nat.le_of_ble_eq_true rfl) (Nat.le_of_ble_eq_true rfl) ((by rw [show tl_dgv (A 5) (S 9) (S 10) (S 8) = 0 from by unfold tl_dgv; rw [show tl_dgw (A 5) (S 9) (S 10) (S 8) = 1 from if_neg (fun z => absurd z.1 (by omega))]; rfl, show tl_dgw (A 5) (S 9) (S 10) (S 8) = 1 from if_neg (fun z => absurd z.1 (by omega))]; exact ⟨rfl, hM_35, hfr_14⟩))
  · refine lv_aload_n hx hb dX2_digit_8 rfl (lv_at hl 0 rfl) ?_
    refine xk_ri0 (xk_cV B hI hl [] [.ref o] 0 (m2_here g hM0 (show S 9 ≤ 70 from by omega) (show S 8 ≤ 70 from by omega)) hO rfl (lw_V q1743 q1745 qs60 q79 q1746) ⟨rfl, by decide +kernel, by decide +kernel, by decide +kernel⟩ ⟨Nat.le_of_ble_eq_true rfl, Nat.le_of_ble_eq_true rfl⟩ rfl rfl (Nat.le_of_ble_eq_true rfl) dX2_digit_9 (Nat.le_of_ble_eq_true rfl) (Nat.le_of_ble_eq_true rfl)) hI (fun H_37 L_38 hI_36 => ?_)
    refine xk_top (y := tl_d (tl_hc (A 5) (S 9) (S 8))) rfl ?_
    refine lv_i2l hx hb dX2_digit_12 rfl ?_
    refine lv_ldc2 hx hb B.ow (B.ts _ q1755) dX2_digit_13 ?_
    refine lv_ldc2 hx hb B.ow (B.ts _ q1756) dX2_digit_16 ?_
    refine xk_ri0 (xk_cS B hI_36 hl [.long ((tl_d (tl_hc (A 5) (S 9) (S 8))).toInt64), .long (48 : Int64), .long (57 : Int64)] [.ref o] 3 (m2_in g (x := (tl_d (tl_hc (A 5) (S 9) (S 8))).toInt) (lo := 48) (hi := 57) (Int32.toInt_toInt64 _) (by decide) (by decide)) (lw_S q1509 q1510 q79 q1511) ⟨by decide +kernel, by decide +kernel, by decide +kernel⟩ ⟨Nat.le_of_ble_eq_true rfl, Nat.le_of_ble_eq_true rfl⟩ rfl rfl (Nat.le_of_ble_eq_true rfl) dX2_digit_19 (Nat.le_of_ble_eq_true rfl) (Nat.le_of_ble_eq_true rfl)) hI_36 (fun H_40 L_41 hI_39 => ?_)
    refine xk_top (y := xk_z (tl_rng (tl_d (tl_hc (A 5) (S 9) (S 8))) 48 57)) rfl ?_
    refine xk_top (y := xk_z (tl_isd (tl_hc (A 5) (S 9) (S 8)))) (tl_ztop (tl_d_rng (by omega))) ?_
    refine xk_if_ne_z (tgt := 29) hx hb dX2_digit_22 (by decide) (fun hc_22 => ?_) (fun hc_22 => ?_)
    · refine lv_iconst (v := nI 0) hx hb dX2_digit_29 (by decide) ?_
      refine xk_put B hI_39 hO rfl in_X2 tyX2 tyX2_ok nmX2 20 (by decide) q1452 rfl (by decide) (by decide) (Nat.le_of_ble_eq_true rfl) dX2_digit_30 (fun X_42 H_46 L_47 hf_44 hn_43 hI_45 => ?_)
      have hf_44 : X_42 o = some ((o, 0), .inr (0, [.ref (ad 0), .ref (ad 1), .ref (ad 2), .ref (ad 3), .int (nI (S 0)), .ref (ad 4), .int (nI (S 1)), .int (nI (S 2)), .int (nI (S 3)), .int (tm_it (S 4)), .ref (ad 5), .int (nI (S 5)), .ref (ad 6), .ref (ad 7), .ref (ad 8), .int (nI (S 6)), .ref (ad 9), .int (nI (S 7)), .int (nI (S 8)), .int (nI (S 9)), .int (nI 0)])) := hf_44
      have hfr_48 := xk_fr.put hfr hO hn_43
      refine lv_aload_n hx hb dX2_digit_33 rfl (lv_at hl 0 rfl) ?_
      refine xk_get B hI_45 hf_44 rfl in_X2 20 (by decide) q1452 rfl dX2_digit_34 ?_
      refine xk_if_eq_t (tgt := 44) hx hb (by omega) dX2_digit_37 (by decide) (by decide) ?_
      refine lv_aload_n hx hb dX2_digit_44 rfl (lv_at hl 0 rfl) ?_
      have hf_49 := xk_off hn_43 hA0 hO (xk_on1 (by decide))
      have hf_50 := xk_off hn_43 hA1 hO (xk_on1 (by decide))
      have hf_51 := xk_off hn_43 hA2 hO (xk_on1 (by decide))
      have hf_52 := xk_off hn_43 hA3 hO (xk_on1 (by decide))
      have hf_53 := xk_off hn_43 hA4 hO (xk_on1 (by decide))
      have hf_54 := xk_off hn_43 hA5 hO (xk_on1 (by decide))
      have hf_55 := xk_off hn_43 hA6 hO (xk_on1 (by decide))
      have hf_56 := xk_off hn_43 hA7 hO (xk_on1 (by decide))
      have hf_57 := xk_off hn_43 hA8 hO (xk_on1 (by decide))
      have hf_58 := xk_off hn_43 hA9 hO (xk_on1 (by decide))
      have hM_59 : tm_Ok g X_42 o ad A (va_up S 10 0) := ⟨hf_44, hf_49, hf_50, hf_51, hf_52, hf_53, hf_54, hf_55, hf_56, hf_57, hf_58⟩
      refine xk_ri0 (xk_cV B hI_45 hl [] [] 0 (m2_here g hM_59 (show S 9 ≤ 70 from by omega) (show S 8 ≤ 70 from by omega)) hf_44 rfl (lw_V q1743 q1745 qs60 q79 q1746) ⟨rfl, by decide +kernel, by decide +kernel, by decide +kernel⟩ ⟨Nat.le_of_ble_eq_true rfl, Nat.le_of_ble_eq_true rfl⟩ rfl rfl (Nat.le_of_ble_eq_true rfl) dX2_digit_45 (Nat.le_of_ble_eq_true rfl) (Nat.le_of_ble_eq_true rfl)) hI_45 (fun H_61 L_62 hI_60 => ?_)
      refine xk_top (y := tl_d (tl_hc (A 5) (S 9) (S 8))) rfl ?_
      refine lv_bipush (v := nI 48) hx hb dX2_digit_48 (by decide) ?_
      refine lv_isub hx hb dX2_digit_50 ?_
      refine xk_top (tl_d_sub hc_22) ?_
      refine lv_istore_n (lv' := [(1, .int (nI (tl_hc (A 5) (S 9) (S 8) - 49))), (0, .ref o)]) hx hb dX2_digit_51 rfl hl (by decide) rfl (fun ls hl => ?_)
      refine lv_aload_n hx hb dX2_digit_52 rfl (lv_at hl 1 rfl) ?_
      refine lv_dup hx hb dX2_digit_53 rfl ?_
      refine xk_get B hI_60 hf_44 rfl in_X2 18 (by decide) q1450 rfl dX2_digit_54 ?_
      refine lv_aload_n hx hb dX2_digit_57 rfl (lv_at hl 1 rfl) ?_
      refine xk_get B hI_60 hf_44 rfl in_X2 20 (by decide) q1452 rfl dX2_digit_58 ?_
      refine xk_if_eq_t (tgt := 68) hx hb (by omega) dX2_digit_61 (by decide) (by decide) ?_
      refine lv_iconst (v := nI 1) hx hb dX2_digit_68 (by decide) ?_
      refine lv_iadd hx hb dX2_digit_69 (xk_top (nI_add _ _) ?_)
      refine xk_put B hI_60 hf_44 rfl in_X2 tyX2 tyX2_ok nmX2 18 (by decide) q1450 rfl rfl rfl (Nat.le_of_ble_eq_true rfl) dX2_digit_70 (fun X_63 H_67 L_68 hf_65 hn_64 hI_66 => ?_)
      have hf_65 : X_63 o = some ((o, 0), .inr (0, [.ref (ad 0), .ref (ad 1), .ref (ad 2), .ref (ad 3), .int (nI (S 0)), .ref (ad 4), .int (nI (S 1)), .int (nI (S 2)), .int (nI (S 3)), .int (tm_it (S 4)), .ref (ad 5), .int (nI (S 5)), .ref (ad 6), .ref (ad 7), .ref (ad 8), .int (nI (S 6)), .ref (ad 9), .int (nI (S 7)), .int (nI (S 8 + 1)), .int (nI (S 9)), .int (nI 0)])) := hf_65
      have hfr_69 := xk_fr.put hfr_48 hf_44 hn_64
      refine lv_iload_n hx hb dX2_digit_73 rfl (lv_at hl 0 rfl) ?_
      have hf_70 := xk_off hn_64 hf_49 hf_44 (xk_on1 (by decide))
      have hf_71 := xk_off hn_64 hf_50 hf_44 (xk_on1 (by decide))
      have hf_72 := xk_off hn_64 hf_51 hf_44 (xk_on1 (by decide))
      have hf_73 := xk_off hn_64 hf_52 hf_44 (xk_on1 (by decide))
      have hf_74 := xk_off hn_64 hf_53 hf_44 (xk_on1 (by decide))
      have hf_75 := xk_off hn_64 hf_54 hf_44 (xk_on1 (by decide))
      have hf_76 := xk_off hn_64 hf_55 hf_44 (xk_on1 (by decide))
      have hf_77 := xk_off hn_64 hf_56 hf_44 (xk_on1 (by decide))
      have hf_78 := xk_off hn_64 hf_57 hf_44 (xk_on1 (by decide))
      have hf_79 := xk_off hn_64 hf_58 hf_44 (xk_on1 (by decide))
      have hM_80 : tm_Ok g X_63 o ad A (va_up (va_up S 8 (S 8 + 1)) 10 0) := ⟨hf_65, hf_70, hf_71, hf_72, hf_73, hf_74, hf_75, hf_76, hf_77, hf_78, hf_79⟩
      exact xk_reti B hI_66 hr rfl dX2_digit_74 (Nat.le_of_ble_eq_true rfl) (Nat.le_of_ble_eq_true rfl) ((by rw [show tl_dgv (A 5) (S 9) (S 10) (S 8) = tl_hc (A 5) (S 9) (S 8) - 49 from by unfold tl_dgv; rw [show tl_dgw (A 5) (S 9) (S 10) (S 8) = 0 from if_pos ⟨hc_5, hc_22⟩]; rfl, show tl_dgw (A 5) (S 9) (S 10) (S 8) = 0 from if_pos ⟨hc_5, hc_22⟩]; exact ⟨rfl, hM_80, hfr_69⟩))
    · refine lv_iconst (v := nI 1) hx hb dX2_digit_25 (by decide) ?_
      refine lv_goto (tgt := 30) hx hb dX2_digit_26 (by decide) ?_
      refine xk_put B hI_39 hO rfl in_X2 tyX2 tyX2_ok nmX2 20 (by decide) q1452 rfl (by decide) (by decide) (Nat.le_of_ble_eq_true rfl) dX2_digit_30 (fun X_81 H_85 L_86 hf_83 hn_82 hI_84 => ?_)
      have hf_83 : X_81 o = some ((o, 0), .inr (0, [.ref (ad 0), .ref (ad 1), .ref (ad 2), .ref (ad 3), .int (nI (S 0)), .ref (ad 4), .int (nI (S 1)), .int (nI (S 2)), .int (nI (S 3)), .int (tm_it (S 4)), .ref (ad 5), .int (nI (S 5)), .ref (ad 6), .ref (ad 7), .ref (ad 8), .int (nI (S 6)), .ref (ad 9), .int (nI (S 7)), .int (nI (S 8)), .int (nI (S 9)), .int (nI 1)])) := hf_83
      have hfr_87 := xk_fr.put hfr hO hn_82
      refine lv_aload_n hx hb dX2_digit_33 rfl (lv_at hl 0 rfl) ?_
      refine xk_get B hI_84 hf_83 rfl in_X2 20 (by decide) q1452 rfl dX2_digit_34 ?_
      refine xk_if_eq_f (tgt := 44) hx hb (by omega) dX2_digit_37 (by decide) (by decide) ?_
      refine lv_iconst (v := nI 0) hx hb dX2_digit_40 (by decide) ?_
      refine lv_goto (tgt := 51) hx hb dX2_digit_41 (by decide) ?_
      refine lv_istore_n (lv' := [(1, .int (nI 0)), (0, .ref o)]) hx hb dX2_digit_51 rfl hl (by decide) rfl (fun ls hl => ?_)
      refine lv_aload_n hx hb dX2_digit_52 rfl (lv_at hl 1 rfl) ?_
      refine lv_dup hx hb dX2_digit_53 rfl ?_
      refine xk_get B hI_84 hf_83 rfl in_X2 18 (by decide) q1450 rfl dX2_digit_54 ?_
      refine lv_aload_n hx hb dX2_digit_57 rfl (lv_at hl 1 rfl) ?_
      refine xk_get B hI_84 hf_83 rfl in_X2 20 (by decide) q1452 rfl dX2_digit_58 ?_
      refine xk_if_eq_f (tgt := 68) hx hb (by omega) dX2_digit_61 (by decide) (by decide) ?_
      refine lv_iconst (v := nI 0) hx hb dX2_digit_64 (by decide) ?_
      refine lv_goto (tgt := 69) hx hb dX2_digit_65 (by decide) ?_
      refine lv_iadd hx hb dX2_digit_69 (xk_top (nI_add _ _) ?_)
      refine xk_put B hI_84 hf_83 rfl in_X2 tyX2 tyX2_ok nmX2 18 (by decide) q1450 rfl rfl rfl (Nat.le_of_ble_eq_true rfl) dX2_digit_70 (fun X_88 H_92 L_93 hf_90 hn_89 hI_91 => ?_)
      have hf_90 : X_88 o = some ((o, 0), .inr (0, [.ref (ad 0), .ref (ad 1), .ref (ad 2), .ref (ad 3), .int (nI (S 0)), .ref (ad 4), .int (nI (S 1)), .int (nI (S 2)), .int (nI (S 3)), .int (tm_it (S 4)), .ref (ad 5), .int (nI (S 5)), .ref (ad 6), .ref (ad 7), .ref (ad 8), .int (nI (S 6)), .ref (ad 9), .int (nI (S 7)), .int (nI (S 8 + 0)), .int (nI (S 9)), .int (nI 1)])) := hf_90
      have hfr_94 := xk_fr.put hfr_87 hf_83 hn_89
      refine lv_iload_n hx hb dX2_digit_73 rfl (lv_at hl 0 rfl) ?_
      have hf_95 := xk_off hn_82 hA0 hO (xk_on1 (by decide))
      have hf_96 := xk_off hn_89 hf_95 hf_83 (xk_on1 (by decide))
      have hf_97 := xk_off hn_82 hA1 hO (xk_on1 (by decide))
      have hf_98 := xk_off hn_89 hf_97 hf_83 (xk_on1 (by decide))
      have hf_99 := xk_off hn_82 hA2 hO (xk_on1 (by decide))
      have hf_100 := xk_off hn_89 hf_99 hf_83 (xk_on1 (by decide))
      have hf_101 := xk_off hn_82 hA3 hO (xk_on1 (by decide))
      have hf_102 := xk_off hn_89 hf_101 hf_83 (xk_on1 (by decide))
      have hf_103 := xk_off hn_82 hA4 hO (xk_on1 (by decide))
      have hf_104 := xk_off hn_89 hf_103 hf_83 (xk_on1 (by decide))
      have hf_105 := xk_off hn_82 hA5 hO (xk_on1 (by decide))
      have hf_106 := xk_off hn_89 hf_105 hf_83 (xk_on1 (by decide))
      have hf_107 := xk_off hn_82 hA6 hO (xk_on1 (by decide))
      have hf_108 := xk_off hn_89 hf_107 hf_83 (xk_on1 (by decide))
      have hf_109 := xk_off hn_82 hA7 hO (xk_on1 (by decide))
      have hf_110 := xk_off hn_89 hf_109 hf_83 (xk_on1 (by decide))
      have hf_111 := xk_off hn_82 hA8 hO (xk_on1 (by decide))
      have hf_112 := xk_off hn_89 hf_111 hf_83 (xk_on1 (by decide))
      have hf_113 := xk_off hn_82 hA9 hO (xk_on1 (by decide))
      have hf_114 := xk_off hn_89 hf_113 hf_83 (xk_on1 (by decide))
      have hM_115 : tm_Ok g X_88 o ad A (va_up (va_up S 8 (S 8 + 0)) 10 1) := ⟨hf_90, hf_96, hf_98, hf_100, hf_102, hf_104, hf_106, hf_108, hf_110, hf_112, hf_114⟩
      exact xk_reti B hI_91 hr rfl dX2_digit_74 (Nat.le_of_ble_eq_true rfl) (Nat.le_of_ble_eq_true rfl) ((by rw [show tl_dgv (A 5) (S 9) (S 10) (S 8) = 0 from by unfold tl_dgv; rw [show tl_dgw (A 5) (S 9) (S 10) (S 8) = 1 from if_neg (fun z => absurd (hc_22.symm.trans z.2) (by decide))]; rfl, show tl_dgw (A 5) (S 9) (S 10) (S 8) = 1 from if_neg (fun z => absurd (hc_22.symm.trans z.2) (by decide))]; exact ⟨rfl, hM_115, hfr_94⟩))
