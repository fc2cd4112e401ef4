/-! the model: walks, printed by tools/model.py -/
set_option maxRecDepth 100000
set_option maxHeartbeats 4000000 in
theorem m2_readOrder (g : xk_G) {X : xk_H} {o : Nat} {ad : Nat → Nat} {A : Nat → Nat → Nat} {S : Nat → Nat} (hM : tm_Ok g X o ad A S) (hS7 : S 7 ≤ 70) (hS8z : S 8 ≤ S 9) (hS9 : S 9 ≤ 70) (hS8 : S 8 ≤ 70) (hS10 : S 10 ≤ 1) (ht9 : ∀ j, j < 70 → A 5 j ≤ 126) : xk_C g yX2_readOrder (ws_ yX2_readOrder cX2_readOrder 3 none) ({ frames := 3, cells := 0, slots := 0, locals := 69 } : Room) [.ref o] X (xk_Qv (fun X1 => tm_Ok g X1 o ad (va_up A 9 (if tl_isl (tl_hc (A 5) (S 9) (S 8)) = true then tl_oA (A 5) (S 9) (S 7) (S 8) (tl_hc (A 5) (S 9) (S 8)) (A 9) else A 9)) (va_up (va_up (va_up S 7 (if tl_isl (tl_hc (A 5) (S 9) (S 8)) = true then S 7 + 1 else S 7)) 8 (if tl_isl (tl_hc (A 5) (S 9) (S 8)) = true then (tl_oS (A 5) (S 9) (S 8) (tl_hc (A 5) (S 9) (S 8))).2 else S 8)) 10 (if tl_isl (tl_hc (A 5) (S 9) (S 8)) = true then (tl_oS (A 5) (S 9) (S 8) (tl_hc (A 5) (S 9) (S 8))).1 else 1)) ∧ xk_fr o X X1)) := by
  refine xk_ofW (by decide +kernel) (Nat.le_of_ble_eq_true rfl) (fun p e s m args below meth c B hr hname hargs hI ls hl => ?_)
  have B : xk_B g p s m args meth c RX2 cX2_readOrder 3 := B
  have hl : lv_has ls 3 [(0, .ref o)] := hl
  have hx := B.1
  have hb := B.2.1
  have hM0 := hM
  obtain ⟨hO, hA0, hA1, hA2, hA3, hA4, hA5, hA6, hA7, hA8, hA9⟩ := hM
  have hfr : xk_fr o X X := xk_fr.rf
  have qh := tl_hc_le (pl := S 8) hS9 ht9
  refine lv_iconst (v := nI 4) hx hb dX2_readOrder_0 (by decide) ?_
  refine lv_aload_n hx hb dX2_readOrder_1 rfl (lv_at hl 0 rfl) ?_
  refine xk_get B hI hO rfl in_X2 17 (by decide) q1449 rfl dX2_readOrder_2 ?_
  refine lv_imul hx hb dX2_readOrder_5 (xk_top (pk_mul _ _) ?_)
  refine lv_istore_n (lv' := [(1, .int (nI (4 * (S 7)))), (0, .ref o)]) hx hb dX2_readOrder_6 rfl hl (by decide) rfl (fun ls hl => ?_)
  refine lv_aload_n hx hb dX2_readOrder_7 rfl (lv_at hl 1 rfl) ?_
  refine xk_ri0 (xk_cV B hI hl [] [] 0 (m2_here g hM0 (show S 9 ≤ 70 from by omega) (show S 8 ≤ 70 from by omega)) hO rfl (lw_V q1743 q1745 qs60 q79 q1746) ⟨rfl, by decide +kernel, by decide +kernel, by decide +kernel⟩ ⟨Nat.le_of_ble_eq_true rfl, Nat.le_of_ble_eq_true rfl⟩ rfl rfl (Nat.le_of_ble_eq_true rfl) dX2_readOrder_8 (Nat.le_of_ble_eq_true rfl) (Nat.le_of_ble_eq_true rfl)) hI (fun H_2 L_3 hI_1 => ?_)
  refine xk_top (y := tl_d (tl_hc (A 5) (S 9) (S 8))) rfl ?_
  refine lv_istore_n (lv' := [(2, .int (tl_d (tl_hc (A 5) (S 9) (S 8)))), (1, .int (nI (4 * (S 7)))), (0, .ref o)]) hx hb dX2_readOrder_11 rfl hl (by decide) rfl (fun ls hl => ?_)
  refine lv_aload_n hx hb dX2_readOrder_12 rfl (lv_at hl 2 rfl) ?_
  refine lv_iload_n hx hb dX2_readOrder_13 rfl (lv_at hl 0 rfl) ?_
  refine lv_bipush (v := nI 112) hx hb dX2_readOrder_14 (by decide) ?_
  refine lv_icmp_eq (tgt := 65) hx hb dX2_readOrder_16 (by decide) (fun hc_16 => ?_) (fun hc_16 => ?_)
  · have hh : tl_hc (A 5) (S 9) (S 8) = 113 := (tl_d_eq (by omega) (by decide)).mp hc_16
    have hlt := tl_hc_z (t := A 5) (z := S 9) (pl := S 8) (by omega)
    refine lv_iconst (v := nI 0) hx hb dX2_readOrder_65 (by decide) ?_
    refine xk_put B hI_1 hO rfl in_X2 tyX2 tyX2_ok nmX2 20 (by decide) q1452 rfl (by decide) (by decide) (Nat.le_of_ble_eq_true rfl) dX2_readOrder_66 (fun X_4 H_8 L_9 hf_6 hn_5 hI_7 => ?_)
    have hf_6 : X_4 o = some ((o, 0), .inr (0, [.ref (ad 0), .ref (ad 1), .ref (ad 2), .ref (ad 3), .int (nI (S 0)), .ref (ad 4), .int (nI (S 1)), .int (nI (S 2)), .int (nI (S 3)), .int (tm_it (S 4)), .ref (ad 5), .int (nI (S 5)), .ref (ad 6), .ref (ad 7), .ref (ad 8), .int (nI (S 6)), .ref (ad 9), .int (nI (S 7)), .int (nI (S 8)), .int (nI (S 9)), .int (nI 0)])) := hf_6
    have hfr_10 := xk_fr.put hfr hO hn_5
    refine lv_aload_n hx hb dX2_readOrder_69 rfl (lv_at hl 2 rfl) ?_
    refine xk_get B hI_7 hf_6 rfl in_X2 20 (by decide) q1452 rfl dX2_readOrder_70 ?_
    refine xk_if_eq_t (tgt := 77) hx hb (by omega) dX2_readOrder_73 (by decide) (by decide) ?_
    refine lv_aload_n hx hb dX2_readOrder_77 rfl (lv_at hl 2 rfl) ?_
    refine lv_dup hx hb dX2_readOrder_78 rfl ?_
    refine xk_get B hI_7 hf_6 rfl in_X2 18 (by decide) q1450 rfl dX2_readOrder_79 ?_
    refine lv_iconst (v := nI 1) hx hb dX2_readOrder_82 (by decide) ?_
    refine lv_iadd hx hb dX2_readOrder_83 (xk_top (nI_add _ _) ?_)
    refine xk_put B hI_7 hf_6 rfl in_X2 tyX2 tyX2_ok nmX2 18 (by decide) q1450 rfl rfl rfl (Nat.le_of_ble_eq_true rfl) dX2_readOrder_84 (fun X_11 H_15 L_16 hf_13 hn_12 hI_14 => ?_)
    have hf_13 : X_11 o = some ((o, 0), .inr (0, [.ref (ad 0), .ref (ad 1), .ref (ad 2), .ref (ad 3), .int (nI (S 0)), .ref (ad 4), .int (nI (S 1)), .int (nI (S 2)), .int (nI (S 3)), .int (tm_it (S 4)), .ref (ad 5), .int (nI (S 5)), .ref (ad 6), .ref (ad 7), .ref (ad 8), .int (nI (S 6)), .ref (ad 9), .int (nI (S 7)), .int (nI (S 8 + 1)), .int (nI (S 9)), .int (nI 0)])) := hf_13
    have hfr_17 := xk_fr.put hfr_10 hf_6 hn_12
    refine lv_aload_n hx hb dX2_readOrder_87 rfl (lv_at hl 2 rfl) ?_
    refine xk_get B hI_14 hf_13 rfl in_X2 16 (by decide) q1448 rfl dX2_readOrder_88 ?_
    refine lv_iload_n hx hb dX2_readOrder_91 rfl (lv_at hl 1 rfl) ?_
    refine lv_iload_n hx hb dX2_readOrder_92 rfl (lv_at hl 0 rfl) ?_
    refine xk_top hc_16 ?_
    have hf_18 := xk_off hn_5 hA9 hO (xk_on1 (by decide))
    have hf_19 := xk_off hn_12 hf_18 hf_6 (xk_on1 (by decide))
    refine xk_iast B hI_14 hf_19 (by omega) (by decide) dX2_readOrder_93 (fun X_20 H_24 L_25 hf_22 hn_21 hI_23 => ?_)
    have hfr_26 := xk_fr.put hfr_17 hf_19 hn_21
    refine lv_aload_n hx hb dX2_readOrder_94 rfl (lv_at hl 2 rfl) ?_
    refine lv_dup hx hb dX2_readOrder_95 rfl ?_
    have hf_27 := xk_off hn_21 hf_13 hf_19 (xk_on1 (by decide))
    refine xk_get B hI_23 hf_27 rfl in_X2 17 (by decide) q1449 rfl dX2_readOrder_96 ?_
    refine lv_iconst (v := nI 1) hx hb dX2_readOrder_99 (by decide) ?_
    refine lv_iadd hx hb dX2_readOrder_100 (xk_top (nI_add _ _) ?_)
    refine xk_put B hI_23 hf_27 rfl in_X2 tyX2 tyX2_ok nmX2 17 (by decide) q1449 rfl rfl rfl (Nat.le_of_ble_eq_true rfl) dX2_readOrder_101 (fun X_28 H_32 L_33 hf_30 hn_29 hI_31 => ?_)
    have hf_30 : X_28 o = some ((o, 0), .inr (0, [.ref (ad 0), .ref (ad 1), .ref (ad 2), .ref (ad 3), .int (nI (S 0)), .ref (ad 4), .int (nI (S 1)), .int (nI (S 2)), .int (nI (S 3)), .int (tm_it (S 4)), .ref (ad 5), .int (nI (S 5)), .ref (ad 6), .ref (ad 7), .ref (ad 8), .int (nI (S 6)), .ref (ad 9), .int (nI (S 7 + 1)), .int (nI (S 8 + 1)), .int (nI (S 9)), .int (nI 0)])) := hf_30
    have hfr_34 := xk_fr.put hfr_26 hf_27 hn_29
    refine lv_iload_n hx hb dX2_readOrder_104 rfl (lv_at hl 0 rfl) ?_
    refine xk_top hc_16 ?_
    refine lv_lookup (tgt := 242) (off := 137) hx hb dX2_readOrder_105 (by decide) (by rw [nI_toInt (by decide)]; decide) (by decide) ?_
    refine lv_aload_n hx hb dX2_readOrder_242 rfl (lv_at hl 2 rfl) ?_
    refine xk_get B hI_31 hf_30 rfl in_X2 16 (by decide) q1448 rfl dX2_readOrder_243 ?_
    refine lv_iload_n hx hb dX2_readOrder_246 rfl (lv_at hl 1 rfl) ?_
    refine lv_iconst (v := nI 1) hx hb dX2_readOrder_247 (by decide) ?_
    refine lv_iadd hx hb dX2_readOrder_248 (xk_top (nI_add _ _) ?_)
    refine lv_aload_n hx hb dX2_readOrder_249 rfl (lv_at hl 2 rfl) ?_
    refine lv_iconst (v := nI 3) hx hb dX2_readOrder_250 (by decide) ?_
    have hf_35 := xk_off hn_5 hA0 hO (xk_on1 (by decide))
    have hf_36 := xk_off hn_12 hf_35 hf_6 (xk_on1 (by decide))
    have hf_37 := xk_off hn_21 hf_36 hf_19 (xk_on1 (by decide))
    have hf_38 := xk_off hn_29 hf_37 hf_27 (xk_on1 (by decide))
    have hf_39 := xk_off hn_5 hA1 hO (xk_on1 (by decide))
    have hf_40 := xk_off hn_12 hf_39 hf_6 (xk_on1 (by decide))
    have hf_41 := xk_off hn_21 hf_40 hf_19 (xk_on1 (by decide))
    have hf_42 := xk_off hn_29 hf_41 hf_27 (xk_on1 (by decide))
    have hf_43 := xk_off hn_5 hA2 hO (xk_on1 (by decide))
    have hf_44 := xk_off hn_12 hf_43 hf_6 (xk_on1 (by decide))
    have hf_45 := xk_off hn_21 hf_44 hf_19 (xk_on1 (by decide))
    have hf_46 := xk_off hn_29 hf_45 hf_27 (xk_on1 (by decide))
    have hf_47 := xk_off hn_5 hA3 hO (xk_on1 (by decide))
    have hf_48 := xk_off hn_12 hf_47 hf_6 (xk_on1 (by decide))
    have hf_49 := xk_off hn_21 hf_48 hf_19 (xk_on1 (by decide))
    have hf_50 := xk_off hn_29 hf_49 hf_27 (xk_on1 (by decide))
    have hf_51 := xk_off hn_5 hA4 hO (xk_on1 (by decide))
    have hf_52 := xk_off hn_12 hf_51 hf_6 (xk_on1 (by decide))
    have hf_53 := xk_off hn_21 hf_52 hf_19 (xk_on1 (by decide))
    have hf_54 := xk_off hn_29 hf_53 hf_27 (xk_on1 (by decide))
    have hf_55 := xk_off hn_5 hA5 hO (xk_on1 (by decide))
    have hf_56 := xk_off hn_12 hf_55 hf_6 (xk_on1 (by decide))
    have hf_57 := xk_off hn_21 hf_56 hf_19 (xk_on1 (by decide))
    have hf_58 := xk_off hn_29 hf_57 hf_27 (xk_on1 (by decide))
    have hf_59 := xk_off hn_5 hA6 hO (xk_on1 (by decide))
    have hf_60 := xk_off hn_12 hf_59 hf_6 (xk_on1 (by decide))
    have hf_61 := xk_off hn_21 hf_60 hf_19 (xk_on1 (by decide))
    have hf_62 := xk_off hn_29 hf_61 hf_27 (xk_on1 (by decide))
    have hf_63 := xk_off hn_5 hA7 hO (xk_on1 (by decide))
    have hf_64 := xk_off hn_12 hf_63 hf_6 (xk_on1 (by decide))
    have hf_65 := xk_off hn_21 hf_64 hf_19 (xk_on1 (by decide))
    have hf_66 := xk_off hn_29 hf_65 hf_27 (xk_on1 (by decide))
    have hf_67 := xk_off hn_5 hA8 hO (xk_on1 (by decide))
    have hf_68 := xk_off hn_12 hf_67 hf_6 (xk_on1 (by decide))
    have hf_69 := xk_off hn_21 hf_68 hf_19 (xk_on1 (by decide))
    have hf_70 := xk_off hn_29 hf_69 hf_27 (xk_on1 (by decide))
    have hf_71 := xk_off hn_29 hf_22 hf_27 (xk_on1 (by decide))
    have hM_72 : tm_Ok g X_28 o ad (va_up A 9 (va_up (A 9) (4 * (S 7)) 112)) (va_up (va_up (va_up S 7 (S 7 + 1)) 8 (S 8 + 1)) 10 0) := ⟨hf_30, hf_38, hf_42, hf_46, hf_50, hf_54, hf_58, hf_62, hf_66, hf_70, hf_71⟩
    refine xk_ri (xk_cV B hI_31 hl [.int (nI 3)] [.int (nI (4 * (S 7) + 1)), .ref (ad 9)] 1 (m2_number g hM_72 (mo := 3) (by decide) (by decide) (show S 8 + 1 ≤ S 9 from by omega) (show S 9 ≤ 70 from by omega) (show S 8 + 1 ≤ 70 from by omega) (show 0 ≤ 1 from by omega) ht9) hf_30 rfl (lw_V q1747 q1749 qs61 q79 q1750) ⟨rfl, by decide +kernel, by decide +kernel, by decide +kernel⟩ ⟨Nat.le_of_ble_eq_true rfl, Nat.le_of_ble_eq_true rfl⟩ rfl rfl (Nat.le_of_ble_eq_true rfl) dX2_readOrder_251 (Nat.le_of_ble_eq_true rfl) (Nat.le_of_ble_eq_true rfl)) hI_31 (fun X_76 H_74 L_75 hq_77 hI_73 => ?_)
    refine xk_top (y := nI ((tl_num (A 5) (S 9) (0) (S 8 + 1) 3).1)) rfl ?_
    obtain ⟨hM_78, hfr_79⟩ := hq_77
    obtain ⟨hf_80, hf_81, hf_82, hf_83, hf_84, hf_85, hf_86, hf_87, hf_88, hf_89, hf_90⟩ := id hM_78
    have hfr_91 := xk_fr.tr hfr_34 hfr_79
    have hf_81 : X_76 (ad 0) = some ((o, 1), xk_iA g 0 294 (A 0)) := hf_81
    have hf_82 : X_76 (ad 1) = some ((o, 2), xk_iA g 0 294 (A 1)) := hf_82
    have hf_83 : X_76 (ad 2) = some ((o, 3), xk_iA g 0 294 (A 2)) := hf_83
    have hf_84 : X_76 (ad 3) = some ((o, 4), xk_iA g 0 294 (A 3)) := hf_84
    have hf_85 : X_76 (ad 4) = some ((o, 5), xk_iA g 0 2352 (A 4)) := hf_85
    have hf_86 : X_76 (ad 5) = some ((o, 6), xk_iA g 0 70 (A 5)) := hf_86
    have hf_87 : X_76 (ad 6) = some ((o, 7), xk_iA g 2 40 (A 6)) := hf_87
    have hf_88 : X_76 (ad 7) = some ((o, 8), xk_iA g 2 40 (A 7)) := hf_88
    have hf_89 : X_76 (ad 8) = some ((o, 9), xk_iA g 0 60 (A 8)) := hf_89
    have hf_90 : X_76 (ad 9) = some ((o, 10), xk_iA g 0 284 (va_up (A 9) (4 * (S 7)) 112)) := hf_90
    have hf_80 : X_76 o = some ((o, 0), .inr (0, [.ref (ad 0), .ref (ad 1), .ref (ad 2), .ref (ad 3), .int (nI (S 0)), .ref (ad 4), .int (nI (S 1)), .int (nI (S 2)), .int (nI (S 3)), .int (tm_it (S 4)), .ref (ad 5), .int (nI (S 5)), .ref (ad 6), .ref (ad 7), .ref (ad 8), .int (nI (S 6)), .ref (ad 9), .int (nI (S 7 + 1)), .int (nI ((tl_num (A 5) (S 9) (0) (S 8 + 1) 3).2)), .int (nI (S 9)), .int (nI (tl_dgw (A 5) (S 9) (0) (S 8 + 1)))])) := hf_80
    have hw254 := tl_dgw_le (A 5) (S 9) (0) (S 8 + 1)
    have hz254 : (tl_num (A 5) (S 9) (0) (S 8 + 1) 3).2 ≤ (S 9) := tl_num_z (by omega)
    refine xk_iast B hI_73 hf_90 (by omega) (by decide) dX2_readOrder_254 (fun X_92 H_96 L_97 hf_94 hn_93 hI_95 => ?_)
    have hfr_98 := xk_fr.put hfr_91 hf_90 hn_93
    have hf_99 := xk_off hn_93 hf_80 hf_90 (xk_on1 (by decide))
    have hf_100 := xk_off hn_93 hf_81 hf_90 (xk_on1 (by decide))
    have hf_101 := xk_off hn_93 hf_82 hf_90 (xk_on1 (by decide))
    have hf_102 := xk_off hn_93 hf_83 hf_90 (xk_on1 (by decide))
    have hf_103 := xk_off hn_93 hf_84 hf_90 (xk_on1 (by decide))
    have hf_104 := xk_off hn_93 hf_85 hf_90 (xk_on1 (by decide))
    have hf_105 := xk_off hn_93 hf_86 hf_90 (xk_on1 (by decide))
    have hf_106 := xk_off hn_93 hf_87 hf_90 (xk_on1 (by decide))
    have hf_107 := xk_off hn_93 hf_88 hf_90 (xk_on1 (by decide))
    have hf_108 := xk_off hn_93 hf_89 hf_90 (xk_on1 (by decide))
    have hM_109 : tm_Ok g X_92 o ad (va_up A 9 (va_up (va_up (A 9) (4 * (S 7)) 112) (4 * (S 7) + 1) ((tl_num (A 5) (S 9) (0) (S 8 + 1) 3).1))) (va_up (va_up (va_up S 7 (S 7 + 1)) 8 ((tl_num (A 5) (S 9) (0) (S 8 + 1) 3).2)) 10 (tl_dgw (A 5) (S 9) (0) (S 8 + 1))) := ⟨hf_99, hf_100, hf_101, hf_102, hf_103, hf_104, hf_105, hf_106, hf_107, hf_108, hf_94⟩
    exact xk_retv B hI_95 hr dX2_readOrder_255 (Nat.le_of_ble_eq_true rfl) (Nat.le_of_ble_eq_true rfl) ((by rw [show tl_isl (tl_hc (A 5) (S 9) (S 8)) = true from decide_eq_true (by omega), show tl_oS (A 5) (S 9) (S 8) (tl_hc (A 5) (S 9) (S 8)) = tl_sN (A 5) (S 9) 3 (0, S 8 + 1) from by unfold tl_oS; rw [if_neg (by omega), if_neg (by omega), if_neg (by omega)], show tl_oA (A 5) (S 9) (S 7) (S 8) (tl_hc (A 5) (S 9) (S 8)) (A 9) = va_up (va_up (A 9) (4 * (S 7)) 112) (4 * (S 7) + 1) ((tl_num (A 5) (S 9) (0) (S 8 + 1) 3).1) from by unfold tl_oA; rw [if_neg (by omega), if_neg (by omega), if_neg (by omega), hh]; rfl]; exact ⟨rfl, hM_109, hfr_98⟩))
  · refine lv_iload_n hx hb dX2_readOrder_19 rfl (lv_at hl 0 rfl) ?_
    refine lv_bipush (v := nI 120) hx hb dX2_readOrder_20 (by decide) ?_
    refine lv_icmp_eq (tgt := 65) hx hb dX2_readOrder_22 (by decide) (fun hc_22 => ?_) (fun hc_22 => ?_)
    · have hh : tl_hc (A 5) (S 9) (S 8) = 121 := (tl_d_eq (by omega) (by decide)).mp hc_22
      have hlt := tl_hc_z (t := A 5) (z := S 9) (pl := S 8) (by omega)
      refine lv_iconst (v := nI 0) hx hb dX2_readOrder_65 (by decide) ?_
      refine xk_put B hI_1 hO rfl in_X2 tyX2 tyX2_ok nmX2 20 (by decide) q1452 rfl (by decide) (by decide) (Nat.le_of_ble_eq_true rfl) dX2_readOrder_66 (fun X_110 H_114 L_115 hf_112 hn_111 hI_113 => ?_)
      have hf_112 : X_110 o = some ((o, 0), .inr (0, [.ref (ad 0), .ref (ad 1), .ref (ad 2), .ref (ad 3), .int (nI (S 0)), .ref (ad 4), .int (nI (S 1)), .int (nI (S 2)), .int (nI (S 3)), .int (tm_it (S 4)), .ref (ad 5), .int (nI (S 5)), .ref (ad 6), .ref (ad 7), .ref (ad 8), .int (nI (S 6)), .ref (ad 9), .int (nI (S 7)), .int (nI (S 8)), .int (nI (S 9)), .int (nI 0)])) := hf_112
      have hfr_116 := xk_fr.put hfr hO hn_111
      refine lv_aload_n hx hb dX2_readOrder_69 rfl (lv_at hl 2 rfl) ?_
      refine xk_get B hI_113 hf_112 rfl in_X2 20 (by decide) q1452 rfl dX2_readOrder_70 ?_
      refine xk_if_eq_t (tgt := 77) hx hb (by omega) dX2_readOrder_73 (by decide) (by decide) ?_
      refine lv_aload_n hx hb dX2_readOrder_77 rfl (lv_at hl 2 rfl) ?_
      refine lv_dup hx hb dX2_readOrder_78 rfl ?_
      refine xk_get B hI_113 hf_112 rfl in_X2 18 (by decide) q1450 rfl dX2_readOrder_79 ?_
      refine lv_iconst (v := nI 1) hx hb dX2_readOrder_82 (by decide) ?_
      refine lv_iadd hx hb dX2_readOrder_83 (xk_top (nI_add _ _) ?_)
      refine xk_put B hI_113 hf_112 rfl in_X2 tyX2 tyX2_ok nmX2 18 (by decide) q1450 rfl rfl rfl (Nat.le_of_ble_eq_true rfl) dX2_readOrder_84 (fun X_117 H_121 L_122 hf_119 hn_118 hI_120 => ?_)
      have hf_119 : X_117 o = some ((o, 0), .inr (0, [.ref (ad 0), .ref (ad 1), .ref (ad 2), .ref (ad 3), .int (nI (S 0)), .ref (ad 4), .int (nI (S 1)), .int (nI (S 2)), .int (nI (S 3)), .int (tm_it (S 4)), .ref (ad 5), .int (nI (S 5)), .ref (ad 6), .ref (ad 7), .ref (ad 8), .int (nI (S 6)), .ref (ad 9), .int (nI (S 7)), .int (nI (S 8 + 1)), .int (nI (S 9)), .int (nI 0)])) := hf_119
      have hfr_123 := xk_fr.put hfr_116 hf_112 hn_118
      refine lv_aload_n hx hb dX2_readOrder_87 rfl (lv_at hl 2 rfl) ?_
      refine xk_get B hI_120 hf_119 rfl in_X2 16 (by decide) q1448 rfl dX2_readOrder_88 ?_
      refine lv_iload_n hx hb dX2_readOrder_91 rfl (lv_at hl 1 rfl) ?_
      refine lv_iload_n hx hb dX2_readOrder_92 rfl (lv_at hl 0 rfl) ?_
      refine xk_top hc_22 ?_
      have hf_124 := xk_off hn_111 hA9 hO (xk_on1 (by decide))
      have hf_125 := xk_off hn_118 hf_124 hf_112 (xk_on1 (by decide))
      refine xk_iast B hI_120 hf_125 (by omega) (by decide) dX2_readOrder_93 (fun X_126 H_130 L_131 hf_128 hn_127 hI_129 => ?_)
      have hfr_132 := xk_fr.put hfr_123 hf_125 hn_127
      refine lv_aload_n hx hb dX2_readOrder_94 rfl (lv_at hl 2 rfl) ?_
      refine lv_dup hx hb dX2_readOrder_95 rfl ?_
      have hf_133 := xk_off hn_127 hf_119 hf_125 (xk_on1 (by decide))
      refine xk_get B hI_129 hf_133 rfl in_X2 17 (by decide) q1449 rfl dX2_readOrder_96 ?_
      refine lv_iconst (v := nI 1) hx hb dX2_readOrder_99 (by decide) ?_
      refine lv_iadd hx hb dX2_readOrder_100 (xk_top (nI_add _ _) ?_)
      refine xk_put B hI_129 hf_133 rfl in_X2 tyX2 tyX2_ok nmX2 17 (by decide) q1449 rfl rfl rfl (Nat.le_of_ble_eq_true rfl) dX2_readOrder_101 (fun X_134 H_138 L_139 hf_136 hn_135 hI_137 => ?_)
      have hf_136 : X_134 o = some ((o, 0), .inr (0, [.ref (ad 0), .ref (ad 1), .ref (ad 2), .ref (ad 3), .int (nI (S 0)), .ref (ad 4), .int (nI (S 1)), .int (nI (S 2)), .int (nI (S 3)), .int (tm_it (S 4)), .ref (ad 5), .int (nI (S 5)), .ref (ad 6), .ref (ad 7), .ref (ad 8), .int (nI (S 6)), .ref (ad 9), .int (nI (S 7 + 1)), .int (nI (S 8 + 1)), .int (nI (S 9)), .int (nI 0)])) := hf_136
      have hfr_140 := xk_fr.put hfr_132 hf_133 hn_135
      refine lv_iload_n hx hb dX2_readOrder_104 rfl (lv_at hl 0 rfl) ?_
      refine xk_top hc_22 ?_
      refine lv_lookup (tgt := 140) (off := 35) hx hb dX2_readOrder_105 (by decide) (by rw [nI_toInt (by decide)]; decide) (by decide) ?_
      refine lv_aload_n hx hb dX2_readOrder_140 rfl (lv_at hl 2 rfl) ?_
      refine xk_get B hI_137 hf_136 rfl in_X2 16 (by decide) q1448 rfl dX2_readOrder_141 ?_
      refine lv_iload_n hx hb dX2_readOrder_144 rfl (lv_at hl 1 rfl) ?_
      refine lv_iconst (v := nI 1) hx hb dX2_readOrder_145 (by decide) ?_
      refine lv_iadd hx hb dX2_readOrder_146 (xk_top (nI_add _ _) ?_)
      refine lv_aload_n hx hb dX2_readOrder_147 rfl (lv_at hl 2 rfl) ?_
      refine lv_iconst (v := nI 2) hx hb dX2_readOrder_148 (by decide) ?_
      have hf_141 := xk_off hn_111 hA0 hO (xk_on1 (by decide))
      have hf_142 := xk_off hn_118 hf_141 hf_112 (xk_on1 (by decide))
      have hf_143 := xk_off hn_127 hf_142 hf_125 (xk_on1 (by decide))
      have hf_144 := xk_off hn_135 hf_143 hf_133 (xk_on1 (by decide))
      have hf_145 := xk_off hn_111 hA1 hO (xk_on1 (by decide))
      have hf_146 := xk_off hn_118 hf_145 hf_112 (xk_on1 (by decide))
      have hf_147 := xk_off hn_127 hf_146 hf_125 (xk_on1 (by decide))
      have hf_148 := xk_off hn_135 hf_147 hf_133 (xk_on1 (by decide))
      have hf_149 := xk_off hn_111 hA2 hO (xk_on1 (by decide))
      have hf_150 := xk_off hn_118 hf_149 hf_112 (xk_on1 (by decide))
      have hf_151 := xk_off hn_127 hf_150 hf_125 (xk_on1 (by decide))
      have hf_152 := xk_off hn_135 hf_151 hf_133 (xk_on1 (by decide))
      have hf_153 := xk_off hn_111 hA3 hO (xk_on1 (by decide))
      have hf_154 := xk_off hn_118 hf_153 hf_112 (xk_on1 (by decide))
      have hf_155 := xk_off hn_127 hf_154 hf_125 (xk_on1 (by decide))
      have hf_156 := xk_off hn_135 hf_155 hf_133 (xk_on1 (by decide))
      have hf_157 := xk_off hn_111 hA4 hO (xk_on1 (by decide))
      have hf_158 := xk_off hn_118 hf_157 hf_112 (xk_on1 (by decide))
      have hf_159 := xk_off hn_127 hf_158 hf_125 (xk_on1 (by decide))
      have hf_160 := xk_off hn_135 hf_159 hf_133 (xk_on1 (by decide))
      have hf_161 := xk_off hn_111 hA5 hO (xk_on1 (by decide))
      have hf_162 := xk_off hn_118 hf_161 hf_112 (xk_on1 (by decide))
      have hf_163 := xk_off hn_127 hf_162 hf_125 (xk_on1 (by decide))
      have hf_164 := xk_off hn_135 hf_163 hf_133 (xk_on1 (by decide))
      have hf_165 := xk_off hn_111 hA6 hO (xk_on1 (by decide))
      have hf_166 := xk_off hn_118 hf_165 hf_112 (xk_on1 (by decide))
      have hf_167 := xk_off hn_127 hf_166 hf_125 (xk_on1 (by decide))
      have hf_168 := xk_off hn_135 hf_167 hf_133 (xk_on1 (by decide))
      have hf_169 := xk_off hn_111 hA7 hO (xk_on1 (by decide))
      have hf_170 := xk_off hn_118 hf_169 hf_112 (xk_on1 (by decide))
      have hf_171 := xk_off hn_127 hf_170 hf_125 (xk_on1 (by decide))
      have hf_172 := xk_off hn_135 hf_171 hf_133 (xk_on1 (by decide))
      have hf_173 := xk_off hn_111 hA8 hO (xk_on1 (by decide))
      have hf_174 := xk_off hn_118 hf_173 hf_112 (xk_on1 (by decide))
      have hf_175 := xk_off hn_127 hf_174 hf_125 (xk_on1 (by decide))
      have hf_176 := xk_off hn_135 hf_175 hf_133 (xk_on1 (by decide))
      have hf_177 := xk_off hn_135 hf_128 hf_133 (xk_on1 (by decide))
      have hM_178 : tm_Ok g X_134 o ad (va_up A 9 (va_up (A 9) (4 * (S 7)) 120)) (va_up (va_up (va_up S 7 (S 7 + 1)) 8 (S 8 + 1)) 10 0) := ⟨hf_136, hf_144, hf_148, hf_152, hf_156, hf_160, hf_164, hf_168, hf_172, hf_176, hf_177⟩
      refine xk_ri (xk_cV B hI_137 hl [.int (nI 2)] [.int (nI (4 * (S 7) + 1)), .ref (ad 9)] 1 (m2_number g hM_178 (mo := 2) (by decide) (by decide) (show S 8 + 1 ≤ S 9 from by omega) (show S 9 ≤ 70 from by omega) (show S 8 + 1 ≤ 70 from by omega) (show 0 ≤ 1 from by omega) ht9) hf_136 rfl (lw_V q1747 q1749 qs61 q79 q1750) ⟨rfl, by decide +kernel, by decide +kernel, by decide +kernel⟩ ⟨Nat.le_of_ble_eq_true rfl, Nat.le_of_ble_eq_true rfl⟩ rfl rfl (Nat.le_of_ble_eq_true rfl) dX2_readOrder_149 (Nat.le_of_ble_eq_true rfl) (Nat.le_of_ble_eq_true rfl)) hI_137 (fun X_182 H_180 L_181 hq_183 hI_179 => ?_)
      refine xk_top (y := nI ((tl_num (A 5) (S 9) (0) (S 8 + 1) 2).1)) rfl ?_
      obtain ⟨hM_184, hfr_185⟩ := hq_183
      obtain ⟨hf_186, hf_187, hf_188, hf_189, hf_190, hf_191, hf_192, hf_193, hf_194, hf_195, hf_196⟩ := id hM_184
      have hfr_197 := xk_fr.tr hfr_140 hfr_185
      have hf_187 : X_182 (ad 0) = some ((o, 1), xk_iA g 0 294 (A 0)) := hf_187
      have hf_188 : X_182 (ad 1) = some ((o, 2), xk_iA g 0 294 (A 1)) := hf_188
      have hf_189 : X_182 (ad 2) = some ((o, 3), xk_iA g 0 294 (A 2)) := hf_189
      have hf_190 : X_182 (ad 3) = some ((o, 4), xk_iA g 0 294 (A 3)) := hf_190
      have hf_191 : X_182 (ad 4) = some ((o, 5), xk_iA g 0 2352 (A 4)) := hf_191
      have hf_192 : X_182 (ad 5) = some ((o, 6), xk_iA g 0 70 (A 5)) := hf_192
      have hf_193 : X_182 (ad 6) = some ((o, 7), xk_iA g 2 40 (A 6)) := hf_193
      have hf_194 : X_182 (ad 7) = some ((o, 8), xk_iA g 2 40 (A 7)) := hf_194
      have hf_195 : X_182 (ad 8) = some ((o, 9), xk_iA g 0 60 (A 8)) := hf_195
      have hf_196 : X_182 (ad 9) = some ((o, 10), xk_iA g 0 284 (va_up (A 9) (4 * (S 7)) 120)) := hf_196
      have hf_186 : X_182 o = some ((o, 0), .inr (0, [.ref (ad 0), .ref (ad 1), .ref (ad 2), .ref (ad 3), .int (nI (S 0)), .ref (ad 4), .int (nI (S 1)), .int (nI (S 2)), .int (nI (S 3)), .int (tm_it (S 4)), .ref (ad 5), .int (nI (S 5)), .ref (ad 6), .ref (ad 7), .ref (ad 8), .int (nI (S 6)), .ref (ad 9), .int (nI (S 7 + 1)), .int (nI ((tl_num (A 5) (S 9) (0) (S 8 + 1) 2).2)), .int (nI (S 9)), .int (nI (tl_dgw (A 5) (S 9) (0) (S 8 + 1)))])) := hf_186
      have hw152 := tl_dgw_le (A 5) (S 9) (0) (S 8 + 1)
      have hz152 : (tl_num (A 5) (S 9) (0) (S 8 + 1) 2).2 ≤ (S 9) := tl_num_z (by omega)
      refine xk_iast B hI_179 hf_196 (by omega) (by decide) dX2_readOrder_152 (fun X_198 H_202 L_203 hf_200 hn_199 hI_201 => ?_)
      have hfr_204 := xk_fr.put hfr_197 hf_196 hn_199
      refine lv_aload_n hx hb dX2_readOrder_153 rfl (lv_at hl 2 rfl) ?_
      refine lv_bipush (v := nI 44) hx hb dX2_readOrder_154 (by decide) ?_
      have hf_205 := xk_off hn_199 hf_186 hf_196 (xk_on1 (by decide))
      have hf_206 := xk_off hn_199 hf_187 hf_196 (xk_on1 (by decide))
      have hf_207 := xk_off hn_199 hf_188 hf_196 (xk_on1 (by decide))
      have hf_208 := xk_off hn_199 hf_189 hf_196 (xk_on1 (by decide))
      have hf_209 := xk_off hn_199 hf_190 hf_196 (xk_on1 (by decide))
      have hf_210 := xk_off hn_199 hf_191 hf_196 (xk_on1 (by decide))
      have hf_211 := xk_off hn_199 hf_192 hf_196 (xk_on1 (by decide))
      have hf_212 := xk_off hn_199 hf_193 hf_196 (xk_on1 (by decide))
      have hf_213 := xk_off hn_199 hf_194 hf_196 (xk_on1 (by decide))
      have hf_214 := xk_off hn_199 hf_195 hf_196 (xk_on1 (by decide))
      have hM_215 : tm_Ok g X_198 o ad (va_up A 9 (va_up (va_up (A 9) (4 * (S 7)) 120) (4 * (S 7) + 1) ((tl_num (A 5) (S 9) (0) (S 8 + 1) 2).1))) (va_up (va_up (va_up S 7 (S 7 + 1)) 8 ((tl_num (A 5) (S 9) (0) (S 8 + 1) 2).2)) 10 (tl_dgw (A 5) (S 9) (0) (S 8 + 1))) := ⟨hf_205, hf_206, hf_207, hf_208, hf_209, hf_210, hf_211, hf_212, hf_213, hf_214, hf_200⟩
      refine xk_rv (xk_cV B hI_201 hl [.int (nI 44)] [] 1 (m2_expects g hM_215 (c9 := 44) (by decide) (show S 9 ≤ 70 from by omega) (show (tl_num (A 5) (S 9) (0) (S 8 + 1) 2).2 ≤ 70 from by omega) (show tl_dgw (A 5) (S 9) (0) (S 8 + 1) ≤ 1 from by omega) ht9) hf_205 rfl (lw_V q1757 q1759 qs63 q79 q1760) ⟨rfl, by decide +kernel, by decide +kernel, by decide +kernel⟩ ⟨Nat.le_of_ble_eq_true rfl, Nat.le_of_ble_eq_true rfl⟩ rfl rfl (Nat.le_of_ble_eq_true rfl) dX2_readOrder_156 (Nat.le_of_ble_eq_true rfl) (Nat.le_of_ble_eq_true rfl)) hI_201 (fun X_219 H_217 L_218 hq_220 hI_216 => ?_)
      obtain ⟨hM_221, hfr_222⟩ := hq_220
      obtain ⟨hf_223, hf_224, hf_225, hf_226, hf_227, hf_228, hf_229, hf_230, hf_231, hf_232, hf_233⟩ := id hM_221
      have hfr_234 := xk_fr.tr hfr_204 hfr_222
      have hf_224 : X_219 (ad 0) = some ((o, 1), xk_iA g 0 294 (A 0)) := hf_224
      have hf_225 : X_219 (ad 1) = some ((o, 2), xk_iA g 0 294 (A 1)) := hf_225
      have hf_226 : X_219 (ad 2) = some ((o, 3), xk_iA g 0 294 (A 2)) := hf_226
      have hf_227 : X_219 (ad 3) = some ((o, 4), xk_iA g 0 294 (A 3)) := hf_227
      have hf_228 : X_219 (ad 4) = some ((o, 5), xk_iA g 0 2352 (A 4)) := hf_228
      have hf_229 : X_219 (ad 5) = some ((o, 6), xk_iA g 0 70 (A 5)) := hf_229
      have hf_230 : X_219 (ad 6) = some ((o, 7), xk_iA g 2 40 (A 6)) := hf_230
      have hf_231 : X_219 (ad 7) = some ((o, 8), xk_iA g 2 40 (A 7)) := hf_231
      have hf_232 : X_219 (ad 8) = some ((o, 9), xk_iA g 0 60 (A 8)) := hf_232
      have hf_233 : X_219 (ad 9) = some ((o, 10), xk_iA g 0 284 (va_up (va_up (A 9) (4 * (S 7)) 120) (4 * (S 7) + 1) ((tl_num (A 5) (S 9) (0) (S 8 + 1) 2).1))) := hf_233
      have hf_223 : X_219 o = some ((o, 0), .inr (0, [.ref (ad 0), .ref (ad 1), .ref (ad 2), .ref (ad 3), .int (nI (S 0)), .ref (ad 4), .int (nI (S 1)), .int (nI (S 2)), .int (nI (S 3)), .int (tm_it (S 4)), .ref (ad 5), .int (nI (S 5)), .ref (ad 6), .ref (ad 7), .ref (ad 8), .int (nI (S 6)), .ref (ad 9), .int (nI (S 7 + 1)), .int (nI (tl_stp (tl_exw (A 5) (S 9) (tl_dgw (A 5) (S 9) (0) (S 8 + 1)) ((tl_num (A 5) (S 9) (0) (S 8 + 1) 2).2) 44) ((tl_num (A 5) (S 9) (0) (S 8 + 1) 2).2))), .int (nI (S 9)), .int (nI (tl_exw (A 5) (S 9) (tl_dgw (A 5) (S 9) (0) (S 8 + 1)) ((tl_num (A 5) (S 9) (0) (S 8 + 1) 2).2) 44))])) := hf_223
      have hw159 := tl_exw_le (A 5) (S 9) (tl_dgw (A 5) (S 9) (0) (S 8 + 1)) ((tl_num (A 5) (S 9) (0) (S 8 + 1) 2).2) 44
      have hz159 : tl_stp (tl_exw (A 5) (S 9) (tl_dgw (A 5) (S 9) (0) (S 8 + 1)) ((tl_num (A 5) (S 9) (0) (S 8 + 1) 2).2) 44) ((tl_num (A 5) (S 9) (0) (S 8 + 1) 2).2) ≤ (S 9) := tl_exw_z (by omega)
      refine lv_aload_n hx hb dX2_readOrder_159 rfl (lv_at hl 2 rfl) ?_
      refine xk_get B hI_216 hf_223 rfl in_X2 16 (by decide) q1448 rfl dX2_readOrder_160 ?_
      refine lv_iload_n hx hb dX2_readOrder_163 rfl (lv_at hl 1 rfl) ?_
      refine lv_iconst (v := nI 2) hx hb dX2_readOrder_164 (by decide) ?_
      refine lv_iadd hx hb dX2_readOrder_165 (xk_top (nI_add _ _) ?_)
      refine lv_aload_n hx hb dX2_readOrder_166 rfl (lv_at hl 2 rfl) ?_
      refine lv_iconst (v := nI 2) hx hb dX2_readOrder_167 (by decide) ?_
      have hM_235 : tm_Ok g X_219 o ad (va_up A 9 (va_up (va_up (A 9) (4 * (S 7)) 120) (4 * (S 7) + 1) ((tl_num (A 5) (S 9) (0) (S 8 + 1) 2).1))) (va_up (va_up (va_up S 7 (S 7 + 1)) 8 (tl_stp (tl_exw (A 5) (S 9) (tl_dgw (A 5) (S 9) (0) (S 8 + 1)) ((tl_num (A 5) (S 9) (0) (S 8 + 1) 2).2) 44) ((tl_num (A 5) (S 9) (0) (S 8 + 1) 2).2))) 10 (tl_exw (A 5) (S 9) (tl_dgw (A 5) (S 9) (0) (S 8 + 1)) ((tl_num (A 5) (S 9) (0) (S 8 + 1) 2).2) 44)) := ⟨hf_223, hf_224, hf_225, hf_226, hf_227, hf_228, hf_229, hf_230, hf_231, hf_232, hf_233⟩
      refine xk_ri (xk_cV B hI_216 hl [.int (nI 2)] [.int (nI (4 * (S 7) + 2)), .ref (ad 9)] 1 (m2_number g hM_235 (mo := 2) (by decide) (by decide) (show tl_stp (tl_exw (A 5) (S 9) (tl_dgw (A 5) (S 9) (0) (S 8 + 1)) ((tl_num (A 5) (S 9) (0) (S 8 + 1) 2).2) 44) ((tl_num (A 5) (S 9) (0) (S 8 + 1) 2).2) ≤ S 9 from by omega) (show S 9 ≤ 70 from by omega) (show tl_stp (tl_exw (A 5) (S 9) (tl_dgw (A 5) (S 9) (0) (S 8 + 1)) ((tl_num (A 5) (S 9) (0) (S 8 + 1) 2).2) 44) ((tl_num (A 5) (S 9) (0) (S 8 + 1) 2).2) ≤ 70 from by omega) (show tl_exw (A 5) (S 9) (tl_dgw (A 5) (S 9) (0) (S 8 + 1)) ((tl_num (A 5) (S 9) (0) (S 8 + 1) 2).2) 44 ≤ 1 from by omega) ht9) hf_223 rfl (lw_V q1747 q1749 qs61 q79 q1750) ⟨rfl, by decide +kernel, by decide +kernel, by decide +kernel⟩ ⟨Nat.le_of_ble_eq_true rfl, Nat.le_of_ble_eq_true rfl⟩ rfl rfl (Nat.le_of_ble_eq_true rfl) dX2_readOrder_168 (Nat.le_of_ble_eq_true rfl) (Nat.le_of_ble_eq_true rfl)) hI_216 (fun X_239 H_237 L_238 hq_240 hI_236 => ?_)
      refine xk_top (y := nI ((tl_num (A 5) (S 9) (tl_exw (A 5) (S 9) (tl_dgw (A 5) (S 9) (0) (S 8 + 1)) ((tl_num (A 5) (S 9) (0) (S 8 + 1) 2).2) 44) (tl_stp (tl_exw (A 5) (S 9) (tl_dgw (A 5) (S 9) (0) (S 8 + 1)) ((tl_num (A 5) (S 9) (0) (S 8 + 1) 2).2) 44) ((tl_num (A 5) (S 9) (0) (S 8 + 1) 2).2)) 2).1)) rfl ?_
      obtain ⟨hM_241, hfr_242⟩ := hq_240
      obtain ⟨hf_243, hf_244, hf_245, hf_246, hf_247, hf_248, hf_249, hf_250, hf_251, hf_252, hf_253⟩ := id hM_241
      have hfr_254 := xk_fr.tr hfr_234 hfr_242
      have hf_244 : X_239 (ad 0) = some ((o, 1), xk_iA g 0 294 (A 0)) := hf_244
      have hf_245 : X_239 (ad 1) = some ((o, 2), xk_iA g 0 294 (A 1)) := hf_245
      have hf_246 : X_239 (ad 2) = some ((o, 3), xk_iA g 0 294 (A 2)) := hf_246
      have hf_247 : X_239 (ad 3) = some ((o, 4), xk_iA g 0 294 (A 3)) := hf_247
      have hf_248 : X_239 (ad 4) = some ((o, 5), xk_iA g 0 2352 (A 4)) := hf_248
      have hf_249 : X_239 (ad 5) = some ((o, 6), xk_iA g 0 70 (A 5)) := hf_249
      have hf_250 : X_239 (ad 6) = some ((o, 7), xk_iA g 2 40 (A 6)) := hf_250
      have hf_251 : X_239 (ad 7) = some ((o, 8), xk_iA g 2 40 (A 7)) := hf_251
      have hf_252 : X_239 (ad 8) = some ((o, 9), xk_iA g 0 60 (A 8)) := hf_252
      have hf_253 : X_239 (ad 9) = some ((o, 10), xk_iA g 0 284 (va_up (va_up (A 9) (4 * (S 7)) 120) (4 * (S 7) + 1) ((tl_num (A 5) (S 9) (0) (S 8 + 1) 2).1))) := hf_253
      have hf_243 : X_239 o = some ((o, 0), .inr (0, [.ref (ad 0), .ref (ad 1), .ref (ad 2), .ref (ad 3), .int (nI (S 0)), .ref (ad 4), .int (nI (S 1)), .int (nI (S 2)), .int (nI (S 3)), .int (tm_it (S 4)), .ref (ad 5), .int (nI (S 5)), .ref (ad 6), .ref (ad 7), .ref (ad 8), .int (nI (S 6)), .ref (ad 9), .int (nI (S 7 + 1)), .int (nI ((tl_num (A 5) (S 9) (tl_exw (A 5) (S 9) (tl_dgw (A 5) (S 9) (0) (S 8 + 1)) ((tl_num (A 5) (S 9) (0) (S 8 + 1) 2).2) 44) (tl_stp (tl_exw (A 5) (S 9) (tl_dgw (A 5) (S 9) (0) (S 8 + 1)) ((tl_num (A 5) (S 9) (0) (S 8 + 1) 2).2) 44) ((tl_num (A 5) (S 9) (0) (S 8 + 1) 2).2)) 2).2)), .int (nI (S 9)), .int (nI (tl_dgw (A 5) (S 9) (tl_exw (A 5) (S 9) (tl_dgw (A 5) (S 9) (0) (S 8 + 1)) ((tl_num (A 5) (S 9) (0) (S 8 + 1) 2).2) 44) (tl_stp (tl_exw (A 5) (S 9) (tl_dgw (A 5) (S 9) (0) (S 8 + 1)) ((tl_num (A 5) (S 9) (0) (S 8 + 1) 2).2) 44) ((tl_num (A 5) (S 9) (0) (S 8 + 1) 2).2))))])) := hf_243
      have hw171 := tl_dgw_le (A 5) (S 9) (tl_exw (A 5) (S 9) (tl_dgw (A 5) (S 9) (0) (S 8 + 1)) ((tl_num (A 5) (S 9) (0) (S 8 + 1) 2).2) 44) (tl_stp (tl_exw (A 5) (S 9) (tl_dgw (A 5) (S 9) (0) (S 8 + 1)) ((tl_num (A 5) (S 9) (0) (S 8 + 1) 2).2) 44) ((tl_num (A 5) (S 9) (0) (S 8 + 1) 2).2))
      have hz171 : (tl_num (A 5) (S 9) (tl_exw (A 5) (S 9) (tl_dgw (A 5) (S 9) (0) (S 8 + 1)) ((tl_num (A 5) (S 9) (0) (S 8 + 1) 2).2) 44) (tl_stp (tl_exw (A 5) (S 9) (tl_dgw (A 5) (S 9) (0) (S 8 + 1)) ((tl_num (A 5) (S 9) (0) (S 8 + 1) 2).2) 44) ((tl_num (A 5) (S 9) (0) (S 8 + 1) 2).2)) 2).2 ≤ (S 9) := tl_num_z (by omega)
      refine xk_iast B hI_236 hf_253 (by omega) (by decide) dX2_readOrder_171 (fun X_255 H_259 L_260 hf_257 hn_256 hI_258 => ?_)
      have hfr_261 := xk_fr.put hfr_254 hf_253 hn_256
      refine lv_aload_n hx hb dX2_readOrder_172 rfl (lv_at hl 2 rfl) ?_
      refine lv_bipush (v := nI 64) hx hb dX2_readOrder_173 (by decide) ?_
      have hf_262 := xk_off hn_256 hf_243 hf_253 (xk_on1 (by decide))
      have hf_263 := xk_off hn_256 hf_244 hf_253 (xk_on1 (by decide))
      have hf_264 := xk_off hn_256 hf_245 hf_253 (xk_on1 (by decide))
      have hf_265 := xk_off hn_256 hf_246 hf_253 (xk_on1 (by decide))
      have hf_266 := xk_off hn_256 hf_247 hf_253 (xk_on1 (by decide))
      have hf_267 := xk_off hn_256 hf_248 hf_253 (xk_on1 (by decide))
      have hf_268 := xk_off hn_256 hf_249 hf_253 (xk_on1 (by decide))
      have hf_269 := xk_off hn_256 hf_250 hf_253 (xk_on1 (by decide))
      have hf_270 := xk_off hn_256 hf_251 hf_253 (xk_on1 (by decide))
      have hf_271 := xk_off hn_256 hf_252 hf_253 (xk_on1 (by decide))
      have hM_272 : tm_Ok g X_255 o ad (va_up A 9 (va_up (va_up (va_up (A 9) (4 * (S 7)) 120) (4 * (S 7) + 1) ((tl_num (A 5) (S 9) (0) (S 8 + 1) 2).1)) (4 * (S 7) + 2) ((tl_num (A 5) (S 9) (tl_exw (A 5) (S 9) (tl_dgw (A 5) (S 9) (0) (S 8 + 1)) ((tl_num (A 5) (S 9) (0) (S 8 + 1) 2).2) 44) (tl_stp (tl_exw (A 5) (S 9) (tl_dgw (A 5) (S 9) (0) (S 8 + 1)) ((tl_num (A 5) (S 9) (0) (S 8 + 1) 2).2) 44) ((tl_num (A 5) (S 9) (0) (S 8 + 1) 2).2)) 2).1))) (va_up (va_up (va_up S 7 (S 7 + 1)) 8 ((tl_num (A 5) (S 9) (tl_exw (A 5) (S 9) (tl_dgw (A 5) (S 9) (0) (S 8 + 1)) ((tl_num (A 5) (S 9) (0) (S 8 + 1) 2).2) 44) (tl_stp (tl_exw (A 5) (S 9) (tl_dgw (A 5) (S 9) (0) (S 8 + 1)) ((tl_num (A 5) (S 9) (0) (S 8 + 1) 2).2) 44) ((tl_num (A 5) (S 9) (0) (S 8 + 1) 2).2)) 2).2)) 10 (tl_dgw (A 5) (S 9) (tl_exw (A 5) (S 9) (tl_dgw (A 5) (S 9) (0) (S 8 + 1)) ((tl_num (A 5) (S 9) (0) (S 8 + 1) 2).2) 44) (tl_stp (tl_exw (A 5) (S 9) (tl_dgw (A 5) (S 9) (0) (S 8 + 1)) ((tl_num (A 5) (S 9) (0) (S 8 + 1) 2).2) 44) ((tl_num (A 5) (S 9) (0) (S 8 + 1) 2).2)))) := ⟨hf_262, hf_263, hf_264, hf_265, hf_266, hf_267, hf_268, hf_269, hf_270, hf_271, hf_257⟩
      refine xk_rv (xk_cV B hI_258 hl [.int (nI 64)] [] 1 (m2_expects g hM_272 (c9 := 64) (by decide) (show S 9 ≤ 70 from by omega) (show (tl_num (A 5) (S 9) (tl_exw (A 5) (S 9) (tl_dgw (A 5) (S 9) (0) (S 8 + 1)) ((tl_num (A 5) (S 9) (0) (S 8 + 1) 2).2) 44) (tl_stp (tl_exw (A 5) (S 9) (tl_dgw (A 5) (S 9) (0) (S 8 + 1)) ((tl_num (A 5) (S 9) (0) (S 8 + 1) 2).2) 44) ((tl_num (A 5) (S 9) (0) (S 8 + 1) 2).2)) 2).2 ≤ 70 from by omega) (show tl_dgw (A 5) (S 9) (tl_exw (A 5) (S 9) (tl_dgw (A 5) (S 9) (0) (S 8 + 1)) ((tl_num (A 5) (S 9) (0) (S 8 + 1) 2).2) 44) (tl_stp (tl_exw (A 5) (S 9) (tl_dgw (A 5) (S 9) (0) (S 8 + 1)) ((tl_num (A 5) (S 9) (0) (S 8 + 1) 2).2) 44) ((tl_num (A 5) (S 9) (0) (S 8 + 1) 2).2)) ≤ 1 from by omega) ht9) hf_262 rfl (lw_V q1757 q1759 qs63 q79 q1760) ⟨rfl, by decide +kernel, by decide +kernel, by decide +kernel⟩ ⟨Nat.le_of_ble_eq_true rfl, Nat.le_of_ble_eq_true rfl⟩ rfl rfl (Nat.le_of_ble_eq_true rfl) dX2_readOrder_175 (Nat.le_of_ble_eq_true rfl) (Nat.le_of_ble_eq_true rfl)) hI_258 (fun X_276 H_274 L_275 hq_277 hI_273 => ?_)
      obtain ⟨hM_278, hfr_279⟩ := hq_277
      obtain ⟨hf_280, hf_281, hf_282, hf_283, hf_284, hf_285, hf_286, hf_287, hf_288, hf_289, hf_290⟩ := id hM_278
      have hfr_291 := xk_fr.tr hfr_261 hfr_279
      have hf_281 : X_276 (ad 0) = some ((o, 1), xk_iA g 0 294 (A 0)) := hf_281
      have hf_282 : X_276 (ad 1) = some ((o, 2), xk_iA g 0 294 (A 1)) := hf_282
      have hf_283 : X_276 (ad 2) = some ((o, 3), xk_iA g 0 294 (A 2)) := hf_283
      have hf_284 : X_276 (ad 3) = some ((o, 4), xk_iA g 0 294 (A 3)) := hf_284
      have hf_285 : X_276 (ad 4) = some ((o, 5), xk_iA g 0 2352 (A 4)) := hf_285
      have hf_286 : X_276 (ad 5) = some ((o, 6), xk_iA g 0 70 (A 5)) := hf_286
      have hf_287 : X_276 (ad 6) = some ((o, 7), xk_iA g 2 40 (A 6)) := hf_287
      have hf_288 : X_276 (ad 7) = some ((o, 8), xk_iA g 2 40 (A 7)) := hf_288
      have hf_289 : X_276 (ad 8) = some ((o, 9), xk_iA g 0 60 (A 8)) := hf_289
      have hf_290 : X_276 (ad 9) = some ((o, 10), xk_iA g 0 284 (va_up (va_up (va_up (A 9) (4 * (S 7)) 120) (4 * (S 7) + 1) ((tl_num (A 5) (S 9) (0) (S 8 + 1) 2).1)) (4 * (S 7) + 2) ((tl_num (A 5) (S 9) (tl_exw (A 5) (S 9) (tl_dgw (A 5) (S 9) (0) (S 8 + 1)) ((tl_num (A 5) (S 9) (0) (S 8 + 1) 2).2) 44) (tl_stp (tl_exw (A 5) (S 9) (tl_dgw (A 5) (S 9) (0) (S 8 + 1)) ((tl_num (A 5) (S 9) (0) (S 8 + 1) 2).2) 44) ((tl_num (A 5) (S 9) (0) (S 8 + 1) 2).2)) 2).1))) := hf_290
      have hf_280 : X_276 o = some ((o, 0), .inr (0, [.ref (ad 0), .ref (ad 1), .ref (ad 2), .ref (ad 3), .int (nI (S 0)), .ref (ad 4), .int (nI (S 1)), .int (nI (S 2)), .int (nI (S 3)), .int (tm_it (S 4)), .ref (ad 5), .int (nI (S 5)), .ref (ad 6), .ref (ad 7), .ref (ad 8), .int (nI (S 6)), .ref (ad 9), .int (nI (S 7 + 1)), .int (nI (tl_stp (tl_exw (A 5) (S 9) (tl_dgw (A 5) (S 9) (tl_exw (A 5) (S 9) (tl_dgw (A 5) (S 9) (0) (S 8 + 1)) ((tl_num (A 5) (S 9) (0) (S 8 + 1) 2).2) 44) (tl_stp (tl_exw (A 5) (S 9) (tl_dgw (A 5) (S 9) (0) (S 8 + 1)) ((tl_num (A 5) (S 9) (0) (S 8 + 1) 2).2) 44) ((tl_num (A 5) (S 9) (0) (S 8 + 1) 2).2))) ((tl_num (A 5) (S 9) (tl_exw (A 5) (S 9) (tl_dgw (A 5) (S 9) (0) (S 8 + 1)) ((tl_num (A 5) (S 9) (0) (S 8 + 1) 2).2) 44) (tl_stp (tl_exw (A 5) (S 9) (tl_dgw (A 5) (S 9) (0) (S 8 + 1)) ((tl_num (A 5) (S 9) (0) (S 8 + 1) 2).2) 44) ((tl_num (A 5) (S 9) (0) (S 8 + 1) 2).2)) 2).2) 64) ((tl_num (A 5) (S 9) (tl_exw (A 5) (S 9) (tl_dgw (A 5) (S 9) (0) (S 8 + 1)) ((tl_num (A 5) (S 9) (0) (S 8 + 1) 2).2) 44) (tl_stp (tl_exw (A 5) (S 9) (tl_dgw (A 5) (S 9) (0) (S 8 + 1)) ((tl_num (A 5) (S 9) (0) (S 8 + 1) 2).2) 44) ((tl_num (A 5) (S 9) (0) (S 8 + 1) 2).2)) 2).2))), .int (nI (S 9)), .int (nI (tl_exw (A 5) (S 9) (tl_dgw (A 5) (S 9) (tl_exw (A 5) (S 9) (tl_dgw (A 5) (S 9) (0) (S 8 + 1)) ((tl_num (A 5) (S 9) (0) (S 8 + 1) 2).2) 44) (tl_stp (tl_exw (A 5) (S 9) (tl_dgw (A 5) (S 9) (0) (S 8 + 1)) ((tl_num (A 5) (S 9) (0) (S 8 + 1) 2).2) 44) ((tl_num (A 5) (S 9) (0) (S 8 + 1) 2).2))) ((tl_num (A 5) (S 9) (tl_exw (A 5) (S 9) (tl_dgw (A 5) (S 9) (0) (S 8 + 1)) ((tl_num (A 5) (S 9) (0) (S 8 + 1) 2).2) 44) (tl_stp (tl_exw (A 5) (S 9) (tl_dgw (A 5) (S 9) (0) (S 8 + 1)) ((tl_num (A 5) (S 9) (0) (S 8 + 1) 2).2) 44) ((tl_num (A 5) (S 9) (0) (S 8 + 1) 2).2)) 2).2) 64))])) := hf_280
      have hw178 := tl_exw_le (A 5) (S 9) (tl_dgw (A 5) (S 9) (tl_exw (A 5) (S 9) (tl_dgw (A 5) (S 9) (0) (S 8 + 1)) ((tl_num (A 5) (S 9) (0) (S 8 + 1) 2).2) 44) (tl_stp (tl_exw (A 5) (S 9) (tl_dgw (A 5) (S 9) (0) (S 8 + 1)) ((tl_num (A 5) (S 9) (0) (S 8 + 1) 2).2) 44) ((tl_num (A 5) (S 9) (0) (S 8 + 1) 2).2))) ((tl_num (A 5) (S 9) (tl_exw (A 5) (S 9) (tl_dgw (A 5) (S 9) (0) (S 8 + 1)) ((tl_num (A 5) (S 9) (0) (S 8 + 1) 2).2) 44) (tl_stp (tl_exw (A 5) (S 9) (tl_dgw (A 5) (S 9) (0) (S 8 + 1)) ((tl_num (A 5) (S 9) (0) (S 8 + 1) 2).2) 44) ((tl_num (A 5) (S 9) (0) (S 8 + 1) 2).2)) 2).2) 64
      have hz178 : tl_stp (tl_exw (A 5) (S 9) (tl_dgw (A 5) (S 9) (tl_exw (A 5) (S 9) (tl_dgw (A 5) (S 9) (0) (S 8 + 1)) ((tl_num (A 5) (S 9) (0) (S 8 + 1) 2).2) 44) (tl_stp (tl_exw (A 5) (S 9) (tl_dgw (A 5) (S 9) (0) (S 8 + 1)) ((tl_num (A 5) (S 9) (0) (S 8 + 1) 2).2) 44) ((tl_num (A 5) (S 9) (0) (S 8 + 1) 2).2))) ((tl_num (A 5) (S 9) (tl_exw (A 5) (S 9) (tl_dgw (A 5) (S 9) (0) (S 8 + 1)) ((tl_num (A 5) (S 9) (0) (S 8 + 1) 2).2) 44) (tl_stp (tl_exw (A 5) (S 9) (tl_dgw (A 5) (S 9) (0) (S 8 + 1)) ((tl_num (A 5) (S 9) (0) (S 8 + 1) 2).2) 44) ((tl_num (A 5) (S 9) (0) (S 8 + 1) 2).2)) 2).2) 64) ((tl_num (A 5) (S 9) (tl_exw (A 5) (S 9) (tl_dgw (A 5) (S 9) (0) (S 8 + 1)) ((tl_num (A 5) (S 9) (0) (S 8 + 1) 2).2) 44) (tl_stp (tl_exw (A 5) (S 9) (tl_dgw (A 5) (S 9) (0) (S 8 + 1)) ((tl_num (A 5) (S 9) (0) (S 8 + 1) 2).2) 44) ((tl_num (A 5) (S 9) (0) (S 8 + 1) 2).2)) 2).2) ≤ (S 9) := tl_exw_z (by omega)
      refine lv_aload_n hx hb dX2_readOrder_178 rfl (lv_at hl 2 rfl) ?_
      refine xk_get B hI_273 hf_280 rfl in_X2 16 (by decide) q1448 rfl dX2_readOrder_179 ?_
      refine lv_iload_n hx hb dX2_readOrder_182 rfl (lv_at hl 1 rfl) ?_
      refine lv_iconst (v := nI 3) hx hb dX2_readOrder_183 (by decide) ?_
      refine lv_iadd hx hb dX2_readOrder_184 (xk_top (nI_add _ _) ?_)
      refine lv_aload_n hx hb dX2_readOrder_185 rfl (lv_at hl 2 rfl) ?_
      have hM_292 : tm_Ok g X_276 o ad (va_up A 9 (va_up (va_up (va_up (A 9) (4 * (S 7)) 120) (4 * (S 7) + 1) ((tl_num (A 5) (S 9) (0) (S 8 + 1) 2).1)) (4 * (S 7) + 2) ((tl_num (A 5) (S 9) (tl_exw (A 5) (S 9) (tl_dgw (A 5) (S 9) (0) (S 8 + 1)) ((tl_num (A 5) (S 9) (0) (S 8 + 1) 2).2) 44) (tl_stp (tl_exw (A 5) (S 9) (tl_dgw (A 5) (S 9) (0) (S 8 + 1)) ((tl_num (A 5) (S 9) (0) (S 8 + 1) 2).2) 44) ((tl_num (A 5) (S 9) (0) (S 8 + 1) 2).2)) 2).1))) (va_up (va_up (va_up S 7 (S 7 + 1)) 8 (tl_stp (tl_exw (A 5) (S 9) (tl_dgw (A 5) (S 9) (tl_exw (A 5) (S 9) (tl_dgw (A 5) (S 9) (0) (S 8 + 1)) ((tl_num (A 5) (S 9) (0) (S 8 + 1) 2).2) 44) (tl_stp (tl_exw (A 5) (S 9) (tl_dgw (A 5) (S 9) (0) (S 8 + 1)) ((tl_num (A 5) (S 9) (0) (S 8 + 1) 2).2) 44) ((tl_num (A 5) (S 9) (0) (S 8 + 1) 2).2))) ((tl_num (A 5) (S 9) (tl_exw (A 5) (S 9) (tl_dgw (A 5) (S 9) (0) (S 8 + 1)) ((tl_num (A 5) (S 9) (0) (S 8 + 1) 2).2) 44) (tl_stp (tl_exw (A 5) (S 9) (tl_dgw (A 5) (S 9) (0) (S 8 + 1)) ((tl_num (A 5) (S 9) (0) (S 8 + 1) 2).2) 44) ((tl_num (A 5) (S 9) (0) (S 8 + 1) 2).2)) 2).2) 64) ((tl_num (A 5) (S 9) (tl_exw (A 5) (S 9) (tl_dgw (A 5) (S 9) (0) (S 8 + 1)) ((tl_num (A 5) (S 9) (0) (S 8 + 1) 2).2) 44) (tl_stp (tl_exw (A 5) (S 9) (tl_dgw (A 5) (S 9) (0) (S 8 + 1)) ((tl_num (A 5) (S 9) (0) (S 8 + 1) 2).2) 44) ((tl_num (A 5) (S 9) (0) (S 8 + 1) 2).2)) 2).2))) 10 (tl_exw (A 5) (S 9) (tl_dgw (A 5) (S 9) (tl_exw (A 5) (S 9) (tl_dgw (A 5) (S 9) (0) (S 8 + 1)) ((tl_num (A 5) (S 9) (0) (S 8 + 1) 2).2) 44) (tl_stp (tl_exw (A 5) (S 9) (tl_dgw (A 5) (S 9) (0) (S 8 + 1)) ((tl_num (A 5) (S 9) (0) (S 8 + 1) 2).2) 44) ((tl_num (A 5) (S 9) (0) (S 8 + 1) 2).2))) ((tl_num (A 5) (S 9) (tl_exw (A 5) (S 9) (tl_dgw (A 5) (S 9) (0) (S 8 + 1)) ((tl_num (A 5) (S 9) (0) (S 8 + 1) 2).2) 44) (tl_stp (tl_exw (A 5) (S 9) (tl_dgw (A 5) (S 9) (0) (S 8 + 1)) ((tl_num (A 5) (S 9) (0) (S 8 + 1) 2).2) 44) ((tl_num (A 5) (S 9) (0) (S 8 + 1) 2).2)) 2).2) 64)) := ⟨hf_280, hf_281, hf_282, hf_283, hf_284, hf_285, hf_286, hf_287, hf_288, hf_289, hf_290⟩
      refine xk_ri (xk_cV B hI_273 hl [] [.int (nI (4 * (S 7) + 3)), .ref (ad 9)] 0 (m2_digit g hM_292 (show S 9 ≤ 70 from by omega) (show tl_stp (tl_exw (A 5) (S 9) (tl_dgw (A 5) (S 9) (tl_exw (A 5) (S 9) (tl_dgw (A 5) (S 9) (0) (S 8 + 1)) ((tl_num (A 5) (S 9) (0) (S 8 + 1) 2).2) 44) (tl_stp (tl_exw (A 5) (S 9) (tl_dgw (A 5) (S 9) (0) (S 8 + 1)) ((tl_num (A 5) (S 9) (0) (S 8 + 1) 2).2) 44) ((tl_num (A 5) (S 9) (0) (S 8 + 1) 2).2))) ((tl_num (A 5) (S 9) (tl_exw (A 5) (S 9) (tl_dgw (A 5) (S 9) (0) (S 8 + 1)) ((tl_num (A 5) (S 9) (0) (S 8 + 1) 2).2) 44) (tl_stp (tl_exw (A 5) (S 9) (tl_dgw (A 5) (S 9) (0) (S 8 + 1)) ((tl_num (A 5) (S 9) (0) (S 8 + 1) 2).2) 44) ((tl_num (A 5) (S 9) (0) (S 8 + 1) 2).2)) 2).2) 64) ((tl_num (A 5) (S 9) (tl_exw (A 5) (S 9) (tl_dgw (A 5) (S 9) (0) (S 8 + 1)) ((tl_num (A 5) (S 9) (0) (S 8 + 1) 2).2) 44) (tl_stp (tl_exw (A 5) (S 9) (tl_dgw (A 5) (S 9) (0) (S 8 + 1)) ((tl_num (A 5) (S 9) (0) (S 8 + 1) 2).2) 44) ((tl_num (A 5) (S 9) (0) (S 8 + 1) 2).2)) 2).2) ≤ 70 from by omega) (show tl_exw (A 5) (S 9) (tl_dgw (A 5) (S 9) (tl_exw (A 5) (S 9) (tl_dgw (A 5) (S 9) (0) (S 8 + 1)) ((tl_num (A 5) (S 9) (0) (S 8 + 1) 2).2) 44) (tl_stp (tl_exw (A 5) (S 9) (tl_dgw (A 5) (S 9) (0) (S 8 + 1)) ((tl_num (A 5) (S 9) (0) (S 8 + 1) 2).2) 44) ((tl_num (A 5) (S 9) (0) (S 8 + 1) 2).2))) ((tl_num (A 5) (S 9) (tl_exw (A 5) (S 9) (tl_dgw (A 5) (S 9) (0) (S 8 + 1)) ((tl_num (A 5) (S 9) (0) (S 8 + 1) 2).2) 44) (tl_stp (tl_exw (A 5) (S 9) (tl_dgw (A 5) (S 9) (0) (S 8 + 1)) ((tl_num (A 5) (S 9) (0) (S 8 + 1) 2).2) 44) ((tl_num (A 5) (S 9) (0) (S 8 + 1) 2).2)) 2).2) 64 ≤ 1 from by omega) ht9) hf_280 rfl (lw_V q1751 q1753 qs62 q79 q1754) ⟨rfl, by decide +kernel, by decide +kernel, by decide +kernel⟩ ⟨Nat.le_of_ble_eq_true rfl, Nat.le_of_ble_eq_true rfl⟩ rfl rfl (Nat.le_of_ble_eq_true rfl) dX2_readOrder_186 (Nat.le_of_ble_eq_true rfl) (Nat.le_of_ble_eq_true rfl)) hI_273 (fun X_296 H_294 L_295 hq_297 hI_293 => ?_)
      refine xk_top (y := nI (tl_dgv (A 5) (S 9) (tl_exw (A 5) (S 9) (tl_dgw (A 5) (S 9) (tl_exw (A 5) (S 9) (tl_dgw (A 5) (S 9) (0) (S 8 + 1)) ((tl_num (A 5) (S 9) (0) (S 8 + 1) 2).2) 44) (tl_stp (tl_exw (A 5) (S 9) (tl_dgw (A 5) (S 9) (0) (S 8 + 1)) ((tl_num (A 5) (S 9) (0) (S 8 + 1) 2).2) 44) ((tl_num (A 5) (S 9) (0) (S 8 + 1) 2).2))) ((tl_num (A 5) (S 9) (tl_exw (A 5) (S 9) (tl_dgw (A 5) (S 9) (0) (S 8 + 1)) ((tl_num (A 5) (S 9) (0) (S 8 + 1) 2).2) 44) (tl_stp (tl_exw (A 5) (S 9) (tl_dgw (A 5) (S 9) (0) (S 8 + 1)) ((tl_num (A 5) (S 9) (0) (S 8 + 1) 2).2) 44) ((tl_num (A 5) (S 9) (0) (S 8 + 1) 2).2)) 2).2) 64) (tl_stp (tl_exw (A 5) (S 9) (tl_dgw (A 5) (S 9) (tl_exw (A 5) (S 9) (tl_dgw (A 5) (S 9) (0) (S 8 + 1)) ((tl_num (A 5) (S 9) (0) (S 8 + 1) 2).2) 44) (tl_stp (tl_exw (A 5) (S 9) (tl_dgw (A 5) (S 9) (0) (S 8 + 1)) ((tl_num (A 5) (S 9) (0) (S 8 + 1) 2).2) 44) ((tl_num (A 5) (S 9) (0) (S 8 + 1) 2).2))) ((tl_num (A 5) (S 9) (tl_exw (A 5) (S 9) (tl_dgw (A 5) (S 9) (0) (S 8 + 1)) ((tl_num (A 5) (S 9) (0) (S 8 + 1) 2).2) 44) (tl_stp (tl_exw (A 5) (S 9) (tl_dgw (A 5) (S 9) (0) (S 8 + 1)) ((tl_num (A 5) (S 9) (0) (S 8 + 1) 2).2) 44) ((tl_num (A 5) (S 9) (0) (S 8 + 1) 2).2)) 2).2) 64) ((tl_num (A 5) (S 9) (tl_exw (A 5) (S 9) (tl_dgw (A 5) (S 9) (0) (S 8 + 1)) ((tl_num (A 5) (S 9) (0) (S 8 + 1) 2).2) 44) (tl_stp (tl_exw (A 5) (S 9) (tl_dgw (A 5) (S 9) (0) (S 8 + 1)) ((tl_num (A 5) (S 9) (0) (S 8 + 1) 2).2) 44) ((tl_num (A 5) (S 9) (0) (S 8 + 1) 2).2)) 2).2)))) rfl ?_
      obtain ⟨hM_298, hfr_299⟩ := hq_297
      obtain ⟨hf_300, hf_301, hf_302, hf_303, hf_304, hf_305, hf_306, hf_307, hf_308, hf_309, hf_310⟩ := id hM_298
      have hfr_311 := xk_fr.tr hfr_291 hfr_299
      have hf_301 : X_296 (ad 0) = some ((o, 1), xk_iA g 0 294 (A 0)) := hf_301
      have hf_302 : X_296 (ad 1) = some ((o, 2), xk_iA g 0 294 (A 1)) := hf_302
      have hf_303 : X_296 (ad 2) = some ((o, 3), xk_iA g 0 294 (A 2)) := hf_303
      have hf_304 : X_296 (ad 3) = some ((o, 4), xk_iA g 0 294 (A 3)) := hf_304
      have hf_305 : X_296 (ad 4) = some ((o, 5), xk_iA g 0 2352 (A 4)) := hf_305
      have hf_306 : X_296 (ad 5) = some ((o, 6), xk_iA g 0 70 (A 5)) := hf_306
      have hf_307 : X_296 (ad 6) = some ((o, 7), xk_iA g 2 40 (A 6)) := hf_307
      have hf_308 : X_296 (ad 7) = some ((o, 8), xk_iA g 2 40 (A 7)) := hf_308
      have hf_309 : X_296 (ad 8) = some ((o, 9), xk_iA g 0 60 (A 8)) := hf_309
      have hf_310 : X_296 (ad 9) = some ((o, 10), xk_iA g 0 284 (va_up (va_up (va_up (A 9) (4 * (S 7)) 120) (4 * (S 7) + 1) ((tl_num (A 5) (S 9) (0) (S 8 + 1) 2).1)) (4 * (S 7) + 2) ((tl_num (A 5) (S 9) (tl_exw (A 5) (S 9) (tl_dgw (A 5) (S 9) (0) (S 8 + 1)) ((tl_num (A 5) (S 9) (0) (S 8 + 1) 2).2) 44) (tl_stp (tl_exw (A 5) (S 9) (tl_dgw (A 5) (S 9) (0) (S 8 + 1)) ((tl_num (A 5) (S 9) (0) (S 8 + 1) 2).2) 44) ((tl_num (A 5) (S 9) (0) (S 8 + 1) 2).2)) 2).1))) := hf_310
      have hf_300 : X_296 o = some ((o, 0), .inr (0, [.ref (ad 0), .ref (ad 1), .ref (ad 2), .ref (ad 3), .int (nI (S 0)), .ref (ad 4), .int (nI (S 1)), .int (nI (S 2)), .int (nI (S 3)), .int (tm_it (S 4)), .ref (ad 5), .int (nI (S 5)), .ref (ad 6), .ref (ad 7), .ref (ad 8), .int (nI (S 6)), .ref (ad 9), .int (nI (S 7 + 1)), .int (nI (tl_stp (tl_dgw (A 5) (S 9) (tl_exw (A 5) (S 9) (tl_dgw (A 5) (S 9) (tl_exw (A 5) (S 9) (tl_dgw (A 5) (S 9) (0) (S 8 + 1)) ((tl_num (A 5) (S 9) (0) (S 8 + 1) 2).2) 44) (tl_stp (tl_exw (A 5) (S 9) (tl_dgw (A 5) (S 9) (0) (S 8 + 1)) ((tl_num (A 5) (S 9) (0) (S 8 + 1) 2).2) 44) ((tl_num (A 5) (S 9) (0) (S 8 + 1) 2).2))) ((tl_num (A 5) (S 9) (tl_exw (A 5) (S 9) (tl_dgw (A 5) (S 9) (0) (S 8 + 1)) ((tl_num (A 5) (S 9) (0) (S 8 + 1) 2).2) 44) (tl_stp (tl_exw (A 5) (S 9) (tl_dgw (A 5) (S 9) (0) (S 8 + 1)) ((tl_num (A 5) (S 9) (0) (S 8 + 1) 2).2) 44) ((tl_num (A 5) (S 9) (0) (S 8 + 1) 2).2)) 2).2) 64) (tl_stp (tl_exw (A 5) (S 9) (tl_dgw (A 5) (S 9) (tl_exw (A 5) (S 9) (tl_dgw (A 5) (S 9) (0) (S 8 + 1)) ((tl_num (A 5) (S 9) (0) (S 8 + 1) 2).2) 44) (tl_stp (tl_exw (A 5) (S 9) (tl_dgw (A 5) (S 9) (0) (S 8 + 1)) ((tl_num (A 5) (S 9) (0) (S 8 + 1) 2).2) 44) ((tl_num (A 5) (S 9) (0) (S 8 + 1) 2).2))) ((tl_num (A 5) (S 9) (tl_exw (A 5) (S 9) (tl_dgw (A 5) (S 9) (0) (S 8 + 1)) ((tl_num (A 5) (S 9) (0) (S 8 + 1) 2).2) 44) (tl_stp (tl_exw (A 5) (S 9) (tl_dgw (A 5) (S 9) (0) (S 8 + 1)) ((tl_num (A 5) (S 9) (0) (S 8 + 1) 2).2) 44) ((tl_num (A 5) (S 9) (0) (S 8 + 1) 2).2)) 2).2) 64) ((tl_num (A 5) (S 9) (tl_exw (A 5) (S 9) (tl_dgw (A 5) (S 9) (0) (S 8 + 1)) ((tl_num (A 5) (S 9) (0) (S 8 + 1) 2).2) 44) (tl_stp (tl_exw (A 5) (S 9) (tl_dgw (A 5) (S 9) (0) (S 8 + 1)) ((tl_num (A 5) (S 9) (0) (S 8 + 1) 2).2) 44) ((tl_num (A 5) (S 9) (0) (S 8 + 1) 2).2)) 2).2))) (tl_stp (tl_exw (A 5) (S 9) (tl_dgw (A 5) (S 9) (tl_exw (A 5) (S 9) (tl_dgw (A 5) (S 9) (0) (S 8 + 1)) ((tl_num (A 5) (S 9) (0) (S 8 + 1) 2).2) 44) (tl_stp (tl_exw (A 5) (S 9) (tl_dgw (A 5) (S 9) (0) (S 8 + 1)) ((tl_num (A 5) (S 9) (0) (S 8 + 1) 2).2) 44) ((tl_num (A 5) (S 9) (0) (S 8 + 1) 2).2))) ((tl_num (A 5) (S 9) (tl_exw (A 5) (S 9) (tl_dgw (A 5) (S 9) (0) (S 8 + 1)) ((tl_num (A 5) (S 9) (0) (S 8 + 1) 2).2) 44) (tl_stp (tl_exw (A 5) (S 9) (tl_dgw (A 5) (S 9) (0) (S 8 + 1)) ((tl_num (A 5) (S 9) (0) (S 8 + 1) 2).2) 44) ((tl_num (A 5) (S 9) (0) (S 8 + 1) 2).2)) 2).2) 64) ((tl_num (A 5) (S 9) (tl_exw (A 5) (S 9) (tl_dgw (A 5) (S 9) (0) (S 8 + 1)) ((tl_num (A 5) (S 9) (0) (S 8 + 1) 2).2) 44) (tl_stp (tl_exw (A 5) (S 9) (tl_dgw (A 5) (S 9) (0) (S 8 + 1)) ((tl_num (A 5) (S 9) (0) (S 8 + 1) 2).2) 44) ((tl_num (A 5) (S 9) (0) (S 8 + 1) 2).2)) 2).2)))), .int (nI (S 9)), .int (nI (tl_dgw (A 5) (S 9) (tl_exw (A 5) (S 9) (tl_dgw (A 5) (S 9) (tl_exw (A 5) (S 9) (tl_dgw (A 5) (S 9) (0) (S 8 + 1)) ((tl_num (A 5) (S 9) (0) (S 8 + 1) 2).2) 44) (tl_stp (tl_exw (A 5) (S 9) (tl_dgw (A 5) (S 9) (0) (S 8 + 1)) ((tl_num (A 5) (S 9) (0) (S 8 + 1) 2).2) 44) ((tl_num (A 5) (S 9) (0) (S 8 + 1) 2).2))) ((tl_num (A 5) (S 9) (tl_exw (A 5) (S 9) (tl_dgw (A 5) (S 9) (0) (S 8 + 1)) ((tl_num (A 5) (S 9) (0) (S 8 + 1) 2).2) 44) (tl_stp (tl_exw (A 5) (S 9) (tl_dgw (A 5) (S 9) (0) (S 8 + 1)) ((tl_num (A 5) (S 9) (0) (S 8 + 1) 2).2) 44) ((tl_num (A 5) (S 9) (0) (S 8 + 1) 2).2)) 2).2) 64) (tl_stp (tl_exw (A 5) (S 9) (tl_dgw (A 5) (S 9) (tl_exw (A 5) (S 9) (tl_dgw (A 5) (S 9) (0) (S 8 + 1)) ((tl_num (A 5) (S 9) (0) (S 8 + 1) 2).2) 44) (tl_stp (tl_exw (A 5) (S 9) (tl_dgw (A 5) (S 9) (0) (S 8 + 1)) ((tl_num (A 5) (S 9) (0) (S 8 + 1) 2).2) 44) ((tl_num (A 5) (S 9) (0) (S 8 + 1) 2).2))) ((tl_num (A 5) (S 9) (tl_exw (A 5) (S 9) (tl_dgw (A 5) (S 9) (0) (S 8 + 1)) ((tl_num (A 5) (S 9) (0) (S 8 + 1) 2).2) 44) (tl_stp (tl_exw (A 5) (S 9) (tl_dgw (A 5) (S 9) (0) (S 8 + 1)) ((tl_num (A 5) (S 9) (0) (S 8 + 1) 2).2) 44) ((tl_num (A 5) (S 9) (0) (S 8 + 1) 2).2)) 2).2) 64) ((tl_num (A 5) (S 9) (tl_exw (A 5) (S 9) (tl_dgw (A 5) (S 9) (0) (S 8 + 1)) ((tl_num (A 5) (S 9) (0) (S 8 + 1) 2).2) 44) (tl_stp (tl_exw (A 5) (S 9) (tl_dgw (A 5) (S 9) (0) (S 8 + 1)) ((tl_num (A 5) (S 9) (0) (S 8 + 1) 2).2) 44) ((tl_num (A 5) (S 9) (0) (S 8 + 1) 2).2)) 2).2))))])) := hf_300
      have hd189 := tl_dgv_le (A 5) (S 9) (tl_exw (A 5) (S 9) (tl_dgw (A 5) (S 9) (tl_exw (A 5) (S 9) (tl_dgw (A 5) (S 9) (0) (S 8 + 1)) ((tl_num (A 5) (S 9) (0) (S 8 + 1) 2).2) 44) (tl_stp (tl_exw (A 5) (S 9) (tl_dgw (A 5) (S 9) (0) (S 8 + 1)) ((tl_num (A 5) (S 9) (0) (S 8 + 1) 2).2) 44) ((tl_num (A 5) (S 9) (0) (S 8 + 1) 2).2))) ((tl_num (A 5) (S 9) (tl_exw (A 5) (S 9) (tl_dgw (A 5) (S 9) (0) (S 8 + 1)) ((tl_num (A 5) (S 9) (0) (S 8 + 1) 2).2) 44) (tl_stp (tl_exw (A 5) (S 9) (tl_dgw (A 5) (S 9) (0) (S 8 + 1)) ((tl_num (A 5) (S 9) (0) (S 8 + 1) 2).2) 44) ((tl_num (A 5) (S 9) (0) (S 8 + 1) 2).2)) 2).2) 64) (tl_stp (tl_exw (A 5) (S 9) (tl_dgw (A 5) (S 9) (tl_exw (A 5) (S 9) (tl_dgw (A 5) (S 9) (0) (S 8 + 1)) ((tl_num (A 5) (S 9) (0) (S 8 + 1) 2).2) 44) (tl_stp (tl_exw (A 5) (S 9) (tl_dgw (A 5) (S 9) (0) (S 8 + 1)) ((tl_num (A 5) (S 9) (0) (S 8 + 1) 2).2) 44) ((tl_num (A 5) (S 9) (0) (S 8 + 1) 2).2))) ((tl_num (A 5) (S 9) (tl_exw (A 5) (S 9) (tl_dgw (A 5) (S 9) (0) (S 8 + 1)) ((tl_num (A 5) (S 9) (0) (S 8 + 1) 2).2) 44) (tl_stp (tl_exw (A 5) (S 9) (tl_dgw (A 5) (S 9) (0) (S 8 + 1)) ((tl_num (A 5) (S 9) (0) (S 8 + 1) 2).2) 44) ((tl_num (A 5) (S 9) (0) (S 8 + 1) 2).2)) 2).2) 64) ((tl_num (A 5) (S 9) (tl_exw (A 5) (S 9) (tl_dgw (A 5) (S 9) (0) (S 8 + 1)) ((tl_num (A 5) (S 9) (0) (S 8 + 1) 2).2) 44) (tl_stp (tl_exw (A 5) (S 9) (tl_dgw (A 5) (S 9) (0) (S 8 + 1)) ((tl_num (A 5) (S 9) (0) (S 8 + 1) 2).2) 44) ((tl_num (A 5) (S 9) (0) (S 8 + 1) 2).2)) 2).2))
      have hw189 := tl_dgw_le (A 5) (S 9) (tl_exw (A 5) (S 9) (tl_dgw (A 5) (S 9) (tl_exw (A 5) (S 9) (tl_dgw (A 5) (S 9) (0) (S 8 + 1)) ((tl_num (A 5) (S 9) (0) (S 8 + 1) 2).2) 44) (tl_stp (tl_exw (A 5) (S 9) (tl_dgw (A 5) (S 9) (0) (S 8 + 1)) ((tl_num (A 5) (S 9) (0) (S 8 + 1) 2).2) 44) ((tl_num (A 5) (S 9) (0) (S 8 + 1) 2).2))) ((tl_num (A 5) (S 9) (tl_exw (A 5) (S 9) (tl_dgw (A 5) (S 9) (0) (S 8 + 1)) ((tl_num (A 5) (S 9) (0) (S 8 + 1) 2).2) 44) (tl_stp (tl_exw (A 5) (S 9) (tl_dgw (A 5) (S 9) (0) (S 8 + 1)) ((tl_num (A 5) (S 9) (0) (S 8 + 1) 2).2) 44) ((tl_num (A 5) (S 9) (0) (S 8 + 1) 2).2)) 2).2) 64) (tl_stp (tl_exw (A 5) (S 9) (tl_dgw (A 5) (S 9) (tl_exw (A 5) (S 9) (tl_dgw (A 5) (S 9) (0) (S 8 + 1)) ((tl_num (A 5) (S 9) (0) (S 8 + 1) 2).2) 44) (tl_stp (tl_exw (A 5) (S 9) (tl_dgw (A 5) (S 9) (0) (S 8 + 1)) ((tl_num (A 5) (S 9) (0) (S 8 + 1) 2).2) 44) ((tl_num (A 5) (S 9) (0) (S 8 + 1) 2).2))) ((tl_num (A 5) (S 9) (tl_exw (A 5) (S 9) (tl_dgw (A 5) (S 9) (0) (S 8 + 1)) ((tl_num (A 5) (S 9) (0) (S 8 + 1) 2).2) 44) (tl_stp (tl_exw (A 5) (S 9) (tl_dgw (A 5) (S 9) (0) (S 8 + 1)) ((tl_num (A 5) (S 9) (0) (S 8 + 1) 2).2) 44) ((tl_num (A 5) (S 9) (0) (S 8 + 1) 2).2)) 2).2) 64) ((tl_num (A 5) (S 9) (tl_exw (A 5) (S 9) (tl_dgw (A 5) (S 9) (0) (S 8 + 1)) ((tl_num (A 5) (S 9) (0) (S 8 + 1) 2).2) 44) (tl_stp (tl_exw (A 5) (S 9) (tl_dgw (A 5) (S 9) (0) (S 8 + 1)) ((tl_num (A 5) (S 9) (0) (S 8 + 1) 2).2) 44) ((tl_num (A 5) (S 9) (0) (S 8 + 1) 2).2)) 2).2))
      have hz189 : tl_stp (tl_dgw (A 5) (S 9) (tl_exw (A 5) (S 9) (tl_dgw (A 5) (S 9) (tl_exw (A 5) (S 9) (tl_dgw (A 5) (S 9) (0) (S 8 + 1)) ((tl_num (A 5) (S 9) (0) (S 8 + 1) 2).2) 44) (tl_stp (tl_exw (A 5) (S 9) (tl_dgw (A 5) (S 9) (0) (S 8 + 1)) ((tl_num (A 5) (S 9) (0) (S 8 + 1) 2).2) 44) ((tl_num (A 5) (S 9) (0) (S 8 + 1) 2).2))) ((tl_num (A 5) (S 9) (tl_exw (A 5) (S 9) (tl_dgw (A 5) (S 9) (0) (S 8 + 1)) ((tl_num (A 5) (S 9) (0) (S 8 + 1) 2).2) 44) (tl_stp (tl_exw (A 5) (S 9) (tl_dgw (A 5) (S 9) (0) (S 8 + 1)) ((tl_num (A 5) (S 9) (0) (S 8 + 1) 2).2) 44) ((tl_num (A 5) (S 9) (0) (S 8 + 1) 2).2)) 2).2) 64) (tl_stp (tl_exw (A 5) (S 9) (tl_dgw (A 5) (S 9) (tl_exw (A 5) (S 9) (tl_dgw (A 5) (S 9) (0) (S 8 + 1)) ((tl_num (A 5) (S 9) (0) (S 8 + 1) 2).2) 44) (tl_stp (tl_exw (A 5) (S 9) (tl_dgw (A 5) (S 9) (0) (S 8 + 1)) ((tl_num (A 5) (S 9) (0) (S 8 + 1) 2).2) 44) ((tl_num (A 5) (S 9) (0) (S 8 + 1) 2).2))) ((tl_num (A 5) (S 9) (tl_exw (A 5) (S 9) (tl_dgw (A 5) (S 9) (0) (S 8 + 1)) ((tl_num (A 5) (S 9) (0) (S 8 + 1) 2).2) 44) (tl_stp (tl_exw (A 5) (S 9) (tl_dgw (A 5) (S 9) (0) (S 8 + 1)) ((tl_num (A 5) (S 9) (0) (S 8 + 1) 2).2) 44) ((tl_num (A 5) (S 9) (0) (S 8 + 1) 2).2)) 2).2) 64) ((tl_num (A 5) (S 9) (tl_exw (A 5) (S 9) (tl_dgw (A 5) (S 9) (0) (S 8 + 1)) ((tl_num (A 5) (S 9) (0) (S 8 + 1) 2).2) 44) (tl_stp (tl_exw (A 5) (S 9) (tl_dgw (A 5) (S 9) (0) (S 8 + 1)) ((tl_num (A 5) (S 9) (0) (S 8 + 1) 2).2) 44) ((tl_num (A 5) (S 9) (0) (S 8 + 1) 2).2)) 2).2))) (tl_stp (tl_exw (A 5) (S 9) (tl_dgw (A 5) (S 9) (tl_exw (A 5) (S 9) (tl_dgw (A 5) (S 9) (0) (S 8 + 1)) ((tl_num (A 5) (S 9) (0) (S 8 + 1) 2).2) 44) (tl_stp (tl_exw (A 5) (S 9) (tl_dgw (A 5) (S 9) (0) (S 8 + 1)) ((tl_num (A 5) (S 9) (0) (S 8 + 1) 2).2) 44) ((tl_num (A 5) (S 9) (0) (S 8 + 1) 2).2))) ((tl_num (A 5) (S 9) (tl_exw (A 5) (S 9) (tl_dgw (A 5) (S 9) (0) (S 8 + 1)) ((tl_num (A 5) (S 9) (0) (S 8 + 1) 2).2) 44) (tl_stp (tl_exw (A 5) (S 9) (tl_dgw (A 5) (S 9) (0) (S 8 + 1)) ((tl_num (A 5) (S 9) (0) (S 8 + 1) 2).2) 44) ((tl_num (A 5) (S 9) (0) (S 8 + 1) 2).2)) 2).2) 64) ((tl_num (A 5) (S 9) (tl_exw (A 5) (S 9) (tl_dgw (A 5) (S 9) (0) (S 8 + 1)) ((tl_num (A 5) (S 9) (0) (S 8 + 1) 2).2) 44) (tl_stp (tl_exw (A 5) (S 9) (tl_dgw (A 5) (S 9) (0) (S 8 + 1)) ((tl_num (A 5) (S 9) (0) (S 8 + 1) 2).2) 44) ((tl_num (A 5) (S 9) (0) (S 8 + 1) 2).2)) 2).2)) ≤ (S 9) := tl_dgw_z (by omega)
      refine xk_iast B hI_293 hf_310 (by omega) (by decide) dX2_readOrder_189 (fun X_312 H_316 L_317 hf_314 hn_313 hI_315 => ?_)
      have hfr_318 := xk_fr.put hfr_311 hf_310 hn_313
      refine lv_goto (tgt := 255) hx hb dX2_readOrder_190 (by decide) ?_
      have hf_319 := xk_off hn_313 hf_300 hf_310 (xk_on1 (by decide))
      have hf_320 := xk_off hn_313 hf_301 hf_310 (xk_on1 (by decide))
      have hf_321 := xk_off hn_313 hf_302 hf_310 (xk_on1 (by decide))
      have hf_322 := xk_off hn_313 hf_303 hf_310 (xk_on1 (by decide))
      have hf_323 := xk_off hn_313 hf_304 hf_310 (xk_on1 (by decide))
      have hf_324 := xk_off hn_313 hf_305 hf_310 (xk_on1 (by decide))
      have hf_325 := xk_off hn_313 hf_306 hf_310 (xk_on1 (by decide))
      have hf_326 := xk_off hn_313 hf_307 hf_310 (xk_on1 (by decide))
      have hf_327 := xk_off hn_313 hf_308 hf_310 (xk_on1 (by decide))
      have hf_328 := xk_off hn_313 hf_309 hf_310 (xk_on1 (by decide))
      have hM_329 : tm_Ok g X_312 o ad (va_up A 9 (va_up (va_up (va_up (va_up (A 9) (4 * (S 7)) 120) (4 * (S 7) + 1) ((tl_num (A 5) (S 9) (0) (S 8 + 1) 2).1)) (4 * (S 7) + 2) ((tl_num (A 5) (S 9) (tl_exw (A 5) (S 9) (tl_dgw (A 5) (S 9) (0) (S 8 + 1)) ((tl_num (A 5) (S 9) (0) (S 8 + 1) 2).2) 44) (tl_stp (tl_exw (A 5) (S 9) (tl_dgw (A 5) (S 9) (0) (S 8 + 1)) ((tl_num (A 5) (S 9) (0) (S 8 + 1) 2).2) 44) ((tl_num (A 5) (S 9) (0) (S 8 + 1) 2).2)) 2).1)) (4 * (S 7) + 3) (tl_dgv (A 5) (S 9) (tl_exw (A 5) (S 9) (tl_dgw (A 5) (S 9) (tl_exw (A 5) (S 9) (tl_dgw (A 5) (S 9) (0) (S 8 + 1)) ((tl_num (A 5) (S 9) (0) (S 8 + 1) 2).2) 44) (tl_stp (tl_exw (A 5) (S 9) (tl_dgw (A 5) (S 9) (0) (S 8 + 1)) ((tl_num (A 5) (S 9) (0) (S 8 + 1) 2).2) 44) ((tl_num (A 5) (S 9) (0) (S 8 + 1) 2).2))) ((tl_num (A 5) (S 9) (tl_exw (A 5) (S 9) (tl_dgw (A 5) (S 9) (0) (S 8 + 1)) ((tl_num (A 5) (S 9) (0) (S 8 + 1) 2).2) 44) (tl_stp (tl_exw (A 5) (S 9) (tl_dgw (A 5) (S 9) (0) (S 8 + 1)) ((tl_num (A 5) (S 9) (0) (S 8 + 1) 2).2) 44) ((tl_num (A 5) (S 9) (0) (S 8 + 1) 2).2)) 2).2) 64) (tl_stp (tl_exw (A 5) (S 9) (tl_dgw (A 5) (S 9) (tl_exw (A 5) (S 9) (tl_dgw (A 5) (S 9) (0) (S 8 + 1)) ((tl_num (A 5) (S 9) (0) (S 8 + 1) 2).2) 44) (tl_stp (tl_exw (A 5) (S 9) (tl_dgw (A 5) (S 9) (0) (S 8 + 1)) ((tl_num (A 5) (S 9) (0) (S 8 + 1) 2).2) 44) ((tl_num (A 5) (S 9) (0) (S 8 + 1) 2).2))) ((tl_num (A 5) (S 9) (tl_exw (A 5) (S 9) (tl_dgw (A 5) (S 9) (0) (S 8 + 1)) ((tl_num (A 5) (S 9) (0) (S 8 + 1) 2).2) 44) (tl_stp (tl_exw (A 5) (S 9) (tl_dgw (A 5) (S 9) (0) (S 8 + 1)) ((tl_num (A 5) (S 9) (0) (S 8 + 1) 2).2) 44) ((tl_num (A 5) (S 9) (0) (S 8 + 1) 2).2)) 2).2) 64) ((tl_num (A 5) (S 9) (tl_exw (A 5) (S 9) (tl_dgw (A 5) (S 9) (0) (S 8 + 1)) ((tl_num (A 5) (S 9) (0) (S 8 + 1) 2).2) 44) (tl_stp (tl_exw (A 5) (S 9) (tl_dgw (A 5) (S 9) (0) (S 8 + 1)) ((tl_num (A 5) (S 9) (0) (S 8 + 1) 2).2) 44) ((tl_num (A 5) (S 9) (0) (S 8 + 1) 2).2)) 2).2))))) (va_up (va_up (va_up S 7 (S 7 + 1)) 8 (tl_stp (tl_dgw (A 5) (S 9) (tl_exw (A 5) (S 9) (tl_dgw (A 5) (S 9) (tl_exw (A 5) (S 9) (tl_dgw (A 5) (S 9) (0) (S 8 + 1)) ((tl_num (A 5) (S 9) (0) (S 8 + 1) 2).2) 44) (tl_stp (tl_exw (A 5) (S 9) (tl_dgw (A 5) (S 9) (0) (S 8 + 1)) ((tl_num (A 5) (S 9) (0) (S 8 + 1) 2).2) 44) ((tl_num (A 5) (S 9) (0) (S 8 + 1) 2).2))) ((tl_num (A 5) (S 9) (tl_exw (A 5) (S 9) (tl_dgw (A 5) (S 9) (0) (S 8 + 1)) ((tl_num (A 5) (S 9) (0) (S 8 + 1) 2).2) 44) (tl_stp (tl_exw (A 5) (S 9) (tl_dgw (A 5) (S 9) (0) (S 8 + 1)) ((tl_num (A 5) (S 9) (0) (S 8 + 1) 2).2) 44) ((tl_num (A 5) (S 9) (0) (S 8 + 1) 2).2)) 2).2) 64) (tl_stp (tl_exw (A 5) (S 9) (tl_dgw (A 5) (S 9) (tl_exw (A 5) (S 9) (tl_dgw (A 5) (S 9) (0) (S 8 + 1)) ((tl_num (A 5) (S 9) (0) (S 8 + 1) 2).2) 44) (tl_stp (tl_exw (A 5) (S 9) (tl_dgw (A 5) (S 9) (0) (S 8 + 1)) ((tl_num (A 5) (S 9) (0) (S 8 + 1) 2).2) 44) ((tl_num (A 5) (S 9) (0) (S 8 + 1) 2).2))) ((tl_num (A 5) (S 9) (tl_exw (A 5) (S 9) (tl_dgw (A 5) (S 9) (0) (S 8 + 1)) ((tl_num (A 5) (S 9) (0) (S 8 + 1) 2).2) 44) (tl_stp (tl_exw (A 5) (S 9) (tl_dgw (A 5) (S 9) (0) (S 8 + 1)) ((tl_num (A 5) (S 9) (0) (S 8 + 1) 2).2) 44) ((tl_num (A 5) (S 9) (0) (S 8 + 1) 2).2)) 2).2) 64) ((tl_num (A 5) (S 9) (tl_exw (A 5) (S 9) (tl_dgw (A 5) (S 9) (0) (S 8 + 1)) ((tl_num (A 5) (S 9) (0) (S 8 + 1) 2).2) 44) (tl_stp (tl_exw (A 5) (S 9) (tl_dgw (A 5) (S 9) (0) (S 8 + 1)) ((tl_num (A 5) (S 9) (0) (S 8 + 1) 2).2) 44) ((tl_num (A 5) (S 9) (0) (S 8 + 1) 2).2)) 2).2))) (tl_stp (tl_exw (A 5) (S 9) (tl_dgw (A 5) (S 9) (tl_exw (A 5) (S 9) (tl_dgw (A 5) (S 9) (0) (S 8 + 1)) ((tl_num (A 5) (S 9) (0) (S 8 + 1) 2).2) 44) (tl_stp (tl_exw (A 5) (S 9) (tl_dgw (A 5) (S 9) (0) (S 8 + 1)) ((tl_num (A 5) (S 9) (0) (S 8 + 1) 2).2) 44) ((tl_num (A 5) (S 9) (0) (S 8 + 1) 2).2))) ((tl_num (A 5) (S 9) (tl_exw (A 5) (S 9) (tl_dgw (A 5) (S 9) (0) (S 8 + 1)) ((tl_num (A 5) (S 9) (0) (S 8 + 1) 2).2) 44) (tl_stp (tl_exw (A 5) (S 9) (tl_dgw (A 5) (S 9) (0) (S 8 + 1)) ((tl_num (A 5) (S 9) (0) (S 8 + 1) 2).2) 44) ((tl_num (A 5) (S 9) (0) (S 8 + 1) 2).2)) 2).2) 64) ((tl_num (A 5) (S 9) (tl_exw (A 5) (S 9) (tl_dgw (A 5) (S 9) (0) (S 8 + 1)) ((tl_num (A 5) (S 9) (0) (S 8 + 1) 2).2) 44) (tl_stp (tl_exw (A 5) (S 9) (tl_dgw (A 5) (S 9) (0) (S 8 + 1)) ((tl_num (A 5) (S 9) (0) (S 8 + 1) 2).2) 44) ((tl_num (A 5) (S 9) (0) (S 8 + 1) 2).2)) 2).2)))) 10 (tl_dgw (A 5) (S 9) (tl_exw (A 5) (S 9) (tl_dgw (A 5) (S 9) (tl_exw (A 5) (S 9) (tl_dgw (A 5) (S 9) (0) (S 8 + 1)) ((tl_num (A 5) (S 9) (0) (S 8 + 1) 2).2) 44) (tl_stp (tl_exw (A 5) (S 9) (tl_dgw (A 5) (S 9) (0) (S 8 + 1)) ((tl_num (A 5) (S 9) (0) (S 8 + 1) 2).2) 44) ((tl_num (A 5) (S 9) (0) (S 8 + 1) 2).2))) ((tl_num (A 5) (S 9) (tl_exw (A 5) (S 9) (tl_dgw (A 5) (S 9) (0) (S 8 + 1)) ((tl_num (A 5) (S 9) (0) (S 8 + 1) 2).2) 44) (tl_stp (tl_exw (A 5) (S 9) (tl_dgw (A 5) (S 9) (0) (S 8 + 1)) ((tl_num (A 5) (S 9) (0) (S 8 + 1) 2).2) 44) ((tl_num (A 5) (S 9) (0) (S 8 + 1) 2).2)) 2).2) 64) (tl_stp (tl_exw (A 5) (S 9) (tl_dgw (A 5) (S 9) (tl_exw (A 5) (S 9) (tl_dgw (A 5) (S 9) (0) (S 8 + 1)) ((tl_num (A 5) (S 9) (0) (S 8 + 1) 2).2) 44) (tl_stp (tl_exw (A 5) (S 9) (tl_dgw (A 5) (S 9) (0) (S 8 + 1)) ((tl_num (A 5) (S 9) (0) (S 8 + 1) 2).2) 44) ((tl_num (A 5) (S 9) (0) (S 8 + 1) 2).2))) ((tl_num (A 5) (S 9) (tl_exw (A 5) (S 9) (tl_dgw (A 5) (S 9) (0) (S 8 + 1)) ((tl_num (A 5) (S 9) (0) (S 8 + 1) 2).2) 44) (tl_stp (tl_exw (A 5) (S 9) (tl_dgw (A 5) (S 9) (0) (S 8 + 1)) ((tl_num (A 5) (S 9) (0) (S 8 + 1) 2).2) 44) ((tl_num (A 5) (S 9) (0) (S 8 + 1) 2).2)) 2).2) 64) ((tl_num (A 5) (S 9) (tl_exw (A 5) (S 9) (tl_dgw (A 5) (S 9) (0) (S 8 + 1)) ((tl_num (A 5) (S 9) (0) (S 8 + 1) 2).2) 44) (tl_stp (tl_exw (A 5) (S 9) (tl_dgw (A 5) (S 9) (0) (S 8 + 1)) ((tl_num (A 5) (S 9) (0) (S 8 + 1) 2).2) 44) ((tl_num (A 5) (S 9) (0) (S 8 + 1) 2).2)) 2).2)))) := ⟨hf_319, hf_320, hf_321, hf_322, hf_323, hf_324, hf_325, hf_326, hf_327, hf_328, hf_314⟩
      exact xk_retv B hI_315 hr dX2_readOrder_255 (Nat.le_of_ble_eq_true rfl) (Nat.le_of_ble_eq_true rfl) ((by rw [show tl_isl (tl_hc (A 5) (S 9) (S 8)) = true from decide_eq_true (by omega), show tl_oS (A 5) (S 9) (S 8) (tl_hc (A 5) (S 9) (S 8)) = tl_sD (A 5) (S 9) (tl_x2 (A 5) (S 9) (S 8)) from by unfold tl_oS; rw [if_pos hh], show tl_oA (A 5) (S 9) (S 7) (S 8) (tl_hc (A 5) (S 9) (S 8)) (A 9) = va_up (va_up (va_up (va_up (A 9) (4 * (S 7)) 120) (4 * (S 7) + 1) ((tl_num (A 5) (S 9) (0) (S 8 + 1) 2).1)) (4 * (S 7) + 2) ((tl_num (A 5) (S 9) (tl_exw (A 5) (S 9) (tl_dgw (A 5) (S 9) (0) (S 8 + 1)) ((tl_num (A 5) (S 9) (0) (S 8 + 1) 2).2) 44) (tl_stp (tl_exw (A 5) (S 9) (tl_dgw (A 5) (S 9) (0) (S 8 + 1)) ((tl_num (A 5) (S 9) (0) (S 8 + 1) 2).2) 44) ((tl_num (A 5) (S 9) (0) (S 8 + 1) 2).2)) 2).1)) (4 * (S 7) + 3) (tl_dgv (A 5) (S 9) (tl_exw (A 5) (S 9) (tl_dgw (A 5) (S 9) (tl_exw (A 5) (S 9) (tl_dgw (A 5) (S 9) (0) (S 8 + 1)) ((tl_num (A 5) (S 9) (0) (S 8 + 1) 2).2) 44) (tl_stp (tl_exw (A 5) (S 9) (tl_dgw (A 5) (S 9) (0) (S 8 + 1)) ((tl_num (A 5) (S 9) (0) (S 8 + 1) 2).2) 44) ((tl_num (A 5) (S 9) (0) (S 8 + 1) 2).2))) ((tl_num (A 5) (S 9) (tl_exw (A 5) (S 9) (tl_dgw (A 5) (S 9) (0) (S 8 + 1)) ((tl_num (A 5) (S 9) (0) (S 8 + 1) 2).2) 44) (tl_stp (tl_exw (A 5) (S 9) (tl_dgw (A 5) (S 9) (0) (S 8 + 1)) ((tl_num (A 5) (S 9) (0) (S 8 + 1) 2).2) 44) ((tl_num (A 5) (S 9) (0) (S 8 + 1) 2).2)) 2).2) 64) (tl_stp (tl_exw (A 5) (S 9) (tl_dgw (A 5) (S 9) (tl_exw (A 5) (S 9) (tl_dgw (A 5) (S 9) (0) (S 8 + 1)) ((tl_num (A 5) (S 9) (0) (S 8 + 1) 2).2) 44) (tl_stp (tl_exw (A 5) (S 9) (tl_dgw (A 5) (S 9) (0) (S 8 + 1)) ((tl_num (A 5) (S 9) (0) (S 8 + 1) 2).2) 44) ((tl_num (A 5) (S 9) (0) (S 8 + 1) 2).2))) ((tl_num (A 5) (S 9) (tl_exw (A 5) (S 9) (tl_dgw (A 5) (S 9) (0) (S 8 + 1)) ((tl_num (A 5) (S 9) (0) (S 8 + 1) 2).2) 44) (tl_stp (tl_exw (A 5) (S 9) (tl_dgw (A 5) (S 9) (0) (S 8 + 1)) ((tl_num (A 5) (S 9) (0) (S 8 + 1) 2).2) 44) ((tl_num (A 5) (S 9) (0) (S 8 + 1) 2).2)) 2).2) 64) ((tl_num (A 5) (S 9) (tl_exw (A 5) (S 9) (tl_dgw (A 5) (S 9) (0) (S 8 + 1)) ((tl_num (A 5) (S 9) (0) (S 8 + 1) 2).2) 44) (tl_stp (tl_exw (A 5) (S 9) (tl_dgw (A 5) (S 9) (0) (S 8 + 1)) ((tl_num (A 5) (S 9) (0) (S 8 + 1) 2).2) 44) ((tl_num (A 5) (S 9) (0) (S 8 + 1) 2).2)) 2).2))) from by unfold tl_oA; rw [if_pos hh, hh]; rfl]; exact ⟨rfl, hM_329, hfr_318⟩))
    · refine lv_iload_n hx hb dX2_readOrder_25 rfl (lv_at hl 0 rfl) ?_
      refine lv_bipush (v := nI 100) hx hb dX2_readOrder_26 (by decide) ?_
      refine lv_icmp_eq (tgt := 65) hx hb dX2_readOrder_28 (by decide) (fun hc_28 => ?_) (fun hc_28 => ?_)
      · have hh : tl_hc (A 5) (S 9) (S 8) = 101 := (tl_d_eq (by omega) (by decide)).mp hc_28
        have hlt := tl_hc_z (t := A 5) (z := S 9) (pl := S 8) (by omega)
        refine lv_iconst (v := nI 0) hx hb dX2_readOrder_65 (by decide) ?_
        refine xk_put B hI_1 hO rfl in_X2 tyX2 tyX2_ok nmX2 20 (by decide) q1452 rfl (by decide) (by decide) (Nat.le_of_ble_eq_true rfl) dX2_readOrder_66 (fun X_330 H_334 L_335 hf_332 hn_331 hI_333 => ?_)
        have hf_332 : X_330 o = some ((o, 0), .inr (0, [.ref (ad 0), .ref (ad 1), .ref (ad 2), .ref (ad 3), .int (nI (S 0)), .ref (ad 4), .int (nI (S 1)), .int (nI (S 2)), .int (nI (S 3)), .int (tm_it (S 4)), .ref (ad 5), .int (nI (S 5)), .ref (ad 6), .ref (ad 7), .ref (ad 8), .int (nI (S 6)), .ref (ad 9), .int (nI (S 7)), .int (nI (S 8)), .int (nI (S 9)), .int (nI 0)])) := hf_332
        have hfr_336 := xk_fr.put hfr hO hn_331
        refine lv_aload_n hx hb dX2_readOrder_69 rfl (lv_at hl 2 rfl) ?_
        refine xk_get B hI_333 hf_332 rfl in_X2 20 (by decide) q1452 rfl dX2_readOrder_70 ?_
        refine xk_if_eq_t (tgt := 77) hx hb (by omega) dX2_readOrder_73 (by decide) (by decide) ?_
        refine lv_aload_n hx hb dX2_readOrder_77 rfl (lv_at hl 2 rfl) ?_
        refine lv_dup hx hb dX2_readOrder_78 rfl ?_
        refine xk_get B hI_333 hf_332 rfl in_X2 18 (by decide) q1450 rfl dX2_readOrder_79 ?_
        refine lv_iconst (v := nI 1) hx hb dX2_readOrder_82 (by decide) ?_
        refine lv_iadd hx hb dX2_readOrder_83 (xk_top (nI_add _ _) ?_)
        refine xk_put B hI_333 hf_332 rfl in_X2 tyX2 tyX2_ok nmX2 18 (by decide) q1450 rfl rfl rfl (Nat.le_of_ble_eq_true rfl) dX2_readOrder_84 (fun X_337 H_341 L_342 hf_339 hn_338 hI_340 => ?_)
        have hf_339 : X_337 o = some ((o, 0), .inr (0, [.ref (ad 0), .ref (ad 1), .ref (ad 2), .ref (ad 3), .int (nI (S 0)), .ref (ad 4), .int (nI (S 1)), .int (nI (S 2)), .int (nI (S 3)), .int (tm_it (S 4)), .ref (ad 5), .int (nI (S 5)), .ref (ad 6), .ref (ad 7), .ref (ad 8), .int (nI (S 6)), .ref (ad 9), .int (nI (S 7)), .int (nI (S 8 + 1)), .int (nI (S 9)), .int (nI 0)])) := hf_339
        have hfr_343 := xk_fr.put hfr_336 hf_332 hn_338
        refine lv_aload_n hx hb dX2_readOrder_87 rfl (lv_at hl 2 rfl) ?_
        refine xk_get B hI_340 hf_339 rfl in_X2 16 (by decide) q1448 rfl dX2_readOrder_88 ?_
        refine lv_iload_n hx hb dX2_readOrder_91 rfl (lv_at hl 1 rfl) ?_
        refine lv_iload_n hx hb dX2_readOrder_92 rfl (lv_at hl 0 rfl) ?_
        refine xk_top hc_28 ?_
        have hf_344 := xk_off hn_331 hA9 hO (xk_on1 (by decide))
        have hf_345 := xk_off hn_338 hf_344 hf_332 (xk_on1 (by decide))
        refine xk_iast B hI_340 hf_345 (by omega) (by decide) dX2_readOrder_93 (fun X_346 H_350 L_351 hf_348 hn_347 hI_349 => ?_)
        have hfr_352 := xk_fr.put hfr_343 hf_345 hn_347
        refine lv_aload_n hx hb dX2_readOrder_94 rfl (lv_at hl 2 rfl) ?_
        refine lv_dup hx hb dX2_readOrder_95 rfl ?_
        have hf_353 := xk_off hn_347 hf_339 hf_345 (xk_on1 (by decide))
        refine xk_get B hI_349 hf_353 rfl in_X2 17 (by decide) q1449 rfl dX2_readOrder_96 ?_
        refine lv_iconst (v := nI 1) hx hb dX2_readOrder_99 (by decide) ?_
        refine lv_iadd hx hb dX2_readOrder_100 (xk_top (nI_add _ _) ?_)
        refine xk_put B hI_349 hf_353 rfl in_X2 tyX2 tyX2_ok nmX2 17 (by decide) q1449 rfl rfl rfl (Nat.le_of_ble_eq_true rfl) dX2_readOrder_101 (fun X_354 H_358 L_359 hf_356 hn_355 hI_357 => ?_)
        have hf_356 : X_354 o = some ((o, 0), .inr (0, [.ref (ad 0), .ref (ad 1), .ref (ad 2), .ref (ad 3), .int (nI (S 0)), .ref (ad 4), .int (nI (S 1)), .int (nI (S 2)), .int (nI (S 3)), .int (tm_it (S 4)), .ref (ad 5), .int (nI (S 5)), .ref (ad 6), .ref (ad 7), .ref (ad 8), .int (nI (S 6)), .ref (ad 9), .int (nI (S 7 + 1)), .int (nI (S 8 + 1)), .int (nI (S 9)), .int (nI 0)])) := hf_356
        have hfr_360 := xk_fr.put hfr_352 hf_353 hn_355
        refine lv_iload_n hx hb dX2_readOrder_104 rfl (lv_at hl 0 rfl) ?_
        refine xk_top hc_28 ?_
        refine lv_lookup (tgt := 193) (off := 88) hx hb dX2_readOrder_105 (by decide) (by rw [nI_toInt (by decide)]; decide) (by decide) ?_
        refine lv_aload_n hx hb dX2_readOrder_193 rfl (lv_at hl 2 rfl) ?_
        refine xk_get B hI_357 hf_356 rfl in_X2 16 (by decide) q1448 rfl dX2_readOrder_194 ?_
        refine lv_iload_n hx hb dX2_readOrder_197 rfl (lv_at hl 1 rfl) ?_
        refine lv_iconst (v := nI 1) hx hb dX2_readOrder_198 (by decide) ?_
        refine lv_iadd hx hb dX2_readOrder_199 (xk_top (nI_add _ _) ?_)
        refine lv_aload_n hx hb dX2_readOrder_200 rfl (lv_at hl 2 rfl) ?_
        refine lv_iconst (v := nI 2) hx hb dX2_readOrder_201 (by decide) ?_
        have hf_361 := xk_off hn_331 hA0 hO (xk_on1 (by decide))
        have hf_362 := xk_off hn_338 hf_361 hf_332 (xk_on1 (by decide))
        have hf_363 := xk_off hn_347 hf_362 hf_345 (xk_on1 (by decide))
        have hf_364 := xk_off hn_355 hf_363 hf_353 (xk_on1 (by decide))
        have hf_365 := xk_off hn_331 hA1 hO (xk_on1 (by decide))
        have hf_366 := xk_off hn_338 hf_365 hf_332 (xk_on1 (by decide))
        have hf_367 := xk_off hn_347 hf_366 hf_345 (xk_on1 (by decide))
        have hf_368 := xk_off hn_355 hf_367 hf_353 (xk_on1 (by decide))
        have hf_369 := xk_off hn_331 hA2 hO (xk_on1 (by decide))
        have hf_370 := xk_off hn_338 hf_369 hf_332 (xk_on1 (by decide))
        have hf_371 := xk_off hn_347 hf_370 hf_345 (xk_on1 (by decide))
        have hf_372 := xk_off hn_355 hf_371 hf_353 (xk_on1 (by decide))
        have hf_373 := xk_off hn_331 hA3 hO (xk_on1 (by decide))
        have hf_374 := xk_off hn_338 hf_373 hf_332 (xk_on1 (by decide))
        have hf_375 := xk_off hn_347 hf_374 hf_345 (xk_on1 (by decide))
        have hf_376 := xk_off hn_355 hf_375 hf_353 (xk_on1 (by decide))
        have hf_377 := xk_off hn_331 hA4 hO (xk_on1 (by decide))
        have hf_378 := xk_off hn_338 hf_377 hf_332 (xk_on1 (by decide))
        have hf_379 := xk_off hn_347 hf_378 hf_345 (xk_on1 (by decide))
        have hf_380 := xk_off hn_355 hf_379 hf_353 (xk_on1 (by decide))
        have hf_381 := xk_off hn_331 hA5 hO (xk_on1 (by decide))
        have hf_382 := xk_off hn_338 hf_381 hf_332 (xk_on1 (by decide))
        have hf_383 := xk_off hn_347 hf_382 hf_345 (xk_on1 (by decide))
        have hf_384 := xk_off hn_355 hf_383 hf_353 (xk_on1 (by decide))
        have hf_385 := xk_off hn_331 hA6 hO (xk_on1 (by decide))
        have hf_386 := xk_off hn_338 hf_385 hf_332 (xk_on1 (by decide))
        have hf_387 := xk_off hn_347 hf_386 hf_345 (xk_on1 (by decide))
        have hf_388 := xk_off hn_355 hf_387 hf_353 (xk_on1 (by decide))
        have hf_389 := xk_off hn_331 hA7 hO (xk_on1 (by decide))
        have hf_390 := xk_off hn_338 hf_389 hf_332 (xk_on1 (by decide))
        have hf_391 := xk_off hn_347 hf_390 hf_345 (xk_on1 (by decide))
        have hf_392 := xk_off hn_355 hf_391 hf_353 (xk_on1 (by decide))
        have hf_393 := xk_off hn_331 hA8 hO (xk_on1 (by decide))
        have hf_394 := xk_off hn_338 hf_393 hf_332 (xk_on1 (by decide))
        have hf_395 := xk_off hn_347 hf_394 hf_345 (xk_on1 (by decide))
        have hf_396 := xk_off hn_355 hf_395 hf_353 (xk_on1 (by decide))
        have hf_397 := xk_off hn_355 hf_348 hf_353 (xk_on1 (by decide))
        have hM_398 : tm_Ok g X_354 o ad (va_up A 9 (va_up (A 9) (4 * (S 7)) 100)) (va_up (va_up (va_up S 7 (S 7 + 1)) 8 (S 8 + 1)) 10 0) := ⟨hf_356, hf_364, hf_368, hf_372, hf_376, hf_380, hf_384, hf_388, hf_392, hf_396, hf_397⟩
        refine xk_ri (xk_cV B hI_357 hl [.int (nI 2)] [.int (nI (4 * (S 7) + 1)), .ref (ad 9)] 1 (m2_number g hM_398 (mo := 2) (by decide) (by decide) (show S 8 + 1 ≤ S 9 from by omega) (show S 9 ≤ 70 from by omega) (show S 8 + 1 ≤ 70 from by omega) (show 0 ≤ 1 from by omega) ht9) hf_356 rfl (lw_V q1747 q1749 qs61 q79 q1750) ⟨rfl, by decide +kernel, by decide +kernel, by decide +kernel⟩ ⟨Nat.le_of_ble_eq_true rfl, Nat.le_of_ble_eq_true rfl⟩ rfl rfl (Nat.le_of_ble_eq_true rfl) dX2_readOrder_202 (Nat.le_of_ble_eq_true rfl) (Nat.le_of_ble_eq_true rfl)) hI_357 (fun X_402 H_400 L_401 hq_403 hI_399 => ?_)
        refine xk_top (y := nI ((tl_num (A 5) (S 9) (0) (S 8 + 1) 2).1)) rfl ?_
        obtain ⟨hM_404, hfr_405⟩ := hq_403
        obtain ⟨hf_406, hf_407, hf_408, hf_409, hf_410, hf_411, hf_412, hf_413, hf_414, hf_415, hf_416⟩ := id hM_404
        have hfr_417 := xk_fr.tr hfr_360 hfr_405
        have hf_407 : X_402 (ad 0) = some ((o, 1), xk_iA g 0 294 (A 0)) := hf_407
        have hf_408 : X_402 (ad 1) = some ((o, 2), xk_iA g 0 294 (A 1)) := hf_408
        have hf_409 : X_402 (ad 2) = some ((o, 3), xk_iA g 0 294 (A 2)) := hf_409
        have hf_410 : X_402 (ad 3) = some ((o, 4), xk_iA g 0 294 (A 3)) := hf_410
        have hf_411 : X_402 (ad 4) = some ((o, 5), xk_iA g 0 2352 (A 4)) := hf_411
        have hf_412 : X_402 (ad 5) = some ((o, 6), xk_iA g 0 70 (A 5)) := hf_412
        have hf_413 : X_402 (ad 6) = some ((o, 7), xk_iA g 2 40 (A 6)) := hf_413
        have hf_414 : X_402 (ad 7) = some ((o, 8), xk_iA g 2 40 (A 7)) := hf_414
        have hf_415 : X_402 (ad 8) = some ((o, 9), xk_iA g 0 60 (A 8)) := hf_415
        have hf_416 : X_402 (ad 9) = some ((o, 10), xk_iA g 0 284 (va_up (A 9) (4 * (S 7)) 100)) := hf_416
        have hf_406 : X_402 o = some ((o, 0), .inr (0, [.ref (ad 0), .ref (ad 1), .ref (ad 2), .ref (ad 3), .int (nI (S 0)), .ref (ad 4), .int (nI (S 1)), .int (nI (S 2)), .int (nI (S 3)), .int (tm_it (S 4)), .ref (ad 5), .int (nI (S 5)), .ref (ad 6), .ref (ad 7), .ref (ad 8), .int (nI (S 6)), .ref (ad 9), .int (nI (S 7 + 1)), .int (nI ((tl_num (A 5) (S 9) (0) (S 8 + 1) 2).2)), .int (nI (S 9)), .int (nI (tl_dgw (A 5) (S 9) (0) (S 8 + 1)))])) := hf_406
        have hw205 := tl_dgw_le (A 5) (S 9) (0) (S 8 + 1)
        have hz205 : (tl_num (A 5) (S 9) (0) (S 8 + 1) 2).2 ≤ (S 9) := tl_num_z (by omega)
        refine xk_iast B hI_399 hf_416 (by omega) (by decide) dX2_readOrder_205 (fun X_418 H_422 L_423 hf_420 hn_419 hI_421 => ?_)
        have hfr_424 := xk_fr.put hfr_417 hf_416 hn_419
        refine lv_goto (tgt := 255) hx hb dX2_readOrder_206 (by decide) ?_
        have hf_425 := xk_off hn_419 hf_406 hf_416 (xk_on1 (by decide))
        have hf_426 := xk_off hn_419 hf_407 hf_416 (xk_on1 (by decide))
        have hf_427 := xk_off hn_419 hf_408 hf_416 (xk_on1 (by decide))
        have hf_428 := xk_off hn_419 hf_409 hf_416 (xk_on1 (by decide))
        have hf_429 := xk_off hn_419 hf_410 hf_416 (xk_on1 (by decide))
        have hf_430 := xk_off hn_419 hf_411 hf_416 (xk_on1 (by decide))
        have hf_431 := xk_off hn_419 hf_412 hf_416 (xk_on1 (by decide))
        have hf_432 := xk_off hn_419 hf_413 hf_416 (xk_on1 (by decide))
        have hf_433 := xk_off hn_419 hf_414 hf_416 (xk_on1 (by decide))
        have hf_434 := xk_off hn_419 hf_415 hf_416 (xk_on1 (by decide))
        have hM_435 : tm_Ok g X_418 o ad (va_up A 9 (va_up (va_up (A 9) (4 * (S 7)) 100) (4 * (S 7) + 1) ((tl_num (A 5) (S 9) (0) (S 8 + 1) 2).1))) (va_up (va_up (va_up S 7 (S 7 + 1)) 8 ((tl_num (A 5) (S 9) (0) (S 8 + 1) 2).2)) 10 (tl_dgw (A 5) (S 9) (0) (S 8 + 1))) := ⟨hf_425, hf_426, hf_427, hf_428, hf_429, hf_430, hf_431, hf_432, hf_433, hf_434, hf_420⟩
        exact xk_retv B hI_421 hr dX2_readOrder_255 (Nat.le_of_ble_eq_true rfl) (Nat.le_of_ble_eq_true rfl) ((by rw [show tl_isl (tl_hc (A 5) (S 9) (S 8)) = true from decide_eq_true (by omega), show tl_oS (A 5) (S 9) (S 8) (tl_hc (A 5) (S 9) (S 8)) = tl_sN (A 5) (S 9) 2 (0, S 8 + 1) from by unfold tl_oS; rw [if_neg (by omega), if_pos hh], show tl_oA (A 5) (S 9) (S 7) (S 8) (tl_hc (A 5) (S 9) (S 8)) (A 9) = va_up (va_up (A 9) (4 * (S 7)) 100) (4 * (S 7) + 1) ((tl_num (A 5) (S 9) (0) (S 8 + 1) 2).1) from by unfold tl_oA; rw [if_neg (by omega), if_pos hh, hh]; rfl]; exact ⟨rfl, hM_435, hfr_424⟩))
      · refine lv_iload_n hx hb dX2_readOrder_31 rfl (lv_at hl 0 rfl) ?_
        refine lv_bipush (v := nI 119) hx hb dX2_readOrder_32 (by decide) ?_
        refine lv_icmp_eq (tgt := 65) hx hb dX2_readOrder_34 (by decide) (fun hc_34 => ?_) (fun hc_34 => ?_)
        · have hh : tl_hc (A 5) (S 9) (S 8) = 120 := (tl_d_eq (by omega) (by decide)).mp hc_34
          have hlt := tl_hc_z (t := A 5) (z := S 9) (pl := S 8) (by omega)
          refine lv_iconst (v := nI 0) hx hb dX2_readOrder_65 (by decide) ?_
          refine xk_put B hI_1 hO rfl in_X2 tyX2 tyX2_ok nmX2 20 (by decide) q1452 rfl (by decide) (by decide) (Nat.le_of_ble_eq_true rfl) dX2_readOrder_66 (fun X_436 H_440 L_441 hf_438 hn_437 hI_439 => ?_)
          have hf_438 : X_436 o = some ((o, 0), .inr (0, [.ref (ad 0), .ref (ad 1), .ref (ad 2), .ref (ad 3), .int (nI (S 0)), .ref (ad 4), .int (nI (S 1)), .int (nI (S 2)), .int (nI (S 3)), .int (tm_it (S 4)), .ref (ad 5), .int (nI (S 5)), .ref (ad 6), .ref (ad 7), .ref (ad 8), .int (nI (S 6)), .ref (ad 9), .int (nI (S 7)), .int (nI (S 8)), .int (nI (S 9)), .int (nI 0)])) := hf_438
          have hfr_442 := xk_fr.put hfr hO hn_437
          refine lv_aload_n hx hb dX2_readOrder_69 rfl (lv_at hl 2 rfl) ?_
          refine xk_get B hI_439 hf_438 rfl in_X2 20 (by decide) q1452 rfl dX2_readOrder_70 ?_
          refine xk_if_eq_t (tgt := 77) hx hb (by omega) dX2_readOrder_73 (by decide) (by decide) ?_
          refine lv_aload_n hx hb dX2_readOrder_77 rfl (lv_at hl 2 rfl) ?_
          refine lv_dup hx hb dX2_readOrder_78 rfl ?_
          refine xk_get B hI_439 hf_438 rfl in_X2 18 (by decide) q1450 rfl dX2_readOrder_79 ?_
          refine lv_iconst (v := nI 1) hx hb dX2_readOrder_82 (by decide) ?_
          refine lv_iadd hx hb dX2_readOrder_83 (xk_top (nI_add _ _) ?_)
          refine xk_put B hI_439 hf_438 rfl in_X2 tyX2 tyX2_ok nmX2 18 (by decide) q1450 rfl rfl rfl (Nat.le_of_ble_eq_true rfl) dX2_readOrder_84 (fun X_443 H_447 L_448 hf_445 hn_444 hI_446 => ?_)
          have hf_445 : X_443 o = some ((o, 0), .inr (0, [.ref (ad 0), .ref (ad 1), .ref (ad 2), .ref (ad 3), .int (nI (S 0)), .ref (ad 4), .int (nI (S 1)), .int (nI (S 2)), .int (nI (S 3)), .int (tm_it (S 4)), .ref (ad 5), .int (nI (S 5)), .ref (ad 6), .ref (ad 7), .ref (ad 8), .int (nI (S 6)), .ref (ad 9), .int (nI (S 7)), .int (nI (S 8 + 1)), .int (nI (S 9)), .int (nI 0)])) := hf_445
          have hfr_449 := xk_fr.put hfr_442 hf_438 hn_444
          refine lv_aload_n hx hb dX2_readOrder_87 rfl (lv_at hl 2 rfl) ?_
          refine xk_get B hI_446 hf_445 rfl in_X2 16 (by decide) q1448 rfl dX2_readOrder_88 ?_
          refine lv_iload_n hx hb dX2_readOrder_91 rfl (lv_at hl 1 rfl) ?_
          refine lv_iload_n hx hb dX2_readOrder_92 rfl (lv_at hl 0 rfl) ?_
          refine xk_top hc_34 ?_
          have hf_450 := xk_off hn_437 hA9 hO (xk_on1 (by decide))
          have hf_451 := xk_off hn_444 hf_450 hf_438 (xk_on1 (by decide))
          refine xk_iast B hI_446 hf_451 (by omega) (by decide) dX2_readOrder_93 (fun X_452 H_456 L_457 hf_454 hn_453 hI_455 => ?_)
          have hfr_458 := xk_fr.put hfr_449 hf_451 hn_453
          refine lv_aload_n hx hb dX2_readOrder_94 rfl (lv_at hl 2 rfl) ?_
          refine lv_dup hx hb dX2_readOrder_95 rfl ?_
          have hf_459 := xk_off hn_453 hf_445 hf_451 (xk_on1 (by decide))
          refine xk_get B hI_455 hf_459 rfl in_X2 17 (by decide) q1449 rfl dX2_readOrder_96 ?_
          refine lv_iconst (v := nI 1) hx hb dX2_readOrder_99 (by decide) ?_
          refine lv_iadd hx hb dX2_readOrder_100 (xk_top (nI_add _ _) ?_)
          refine xk_put B hI_455 hf_459 rfl in_X2 tyX2 tyX2_ok nmX2 17 (by decide) q1449 rfl rfl rfl (Nat.le_of_ble_eq_true rfl) dX2_readOrder_101 (fun X_460 H_464 L_465 hf_462 hn_461 hI_463 => ?_)
          have hf_462 : X_460 o = some ((o, 0), .inr (0, [.ref (ad 0), .ref (ad 1), .ref (ad 2), .ref (ad 3), .int (nI (S 0)), .ref (ad 4), .int (nI (S 1)), .int (nI (S 2)), .int (nI (S 3)), .int (tm_it (S 4)), .ref (ad 5), .int (nI (S 5)), .ref (ad 6), .ref (ad 7), .ref (ad 8), .int (nI (S 6)), .ref (ad 9), .int (nI (S 7 + 1)), .int (nI (S 8 + 1)), .int (nI (S 9)), .int (nI 0)])) := hf_462
          have hfr_466 := xk_fr.put hfr_458 hf_459 hn_461
          refine lv_iload_n hx hb dX2_readOrder_104 rfl (lv_at hl 0 rfl) ?_
          refine xk_top hc_34 ?_
          refine lv_lookup (tgt := 242) (off := 137) hx hb dX2_readOrder_105 (by decide) (by rw [nI_toInt (by decide)]; decide) (by decide) ?_
          refine lv_aload_n hx hb dX2_readOrder_242 rfl (lv_at hl 2 rfl) ?_
          refine xk_get B hI_463 hf_462 rfl in_X2 16 (by decide) q1448 rfl dX2_readOrder_243 ?_
          refine lv_iload_n hx hb dX2_readOrder_246 rfl (lv_at hl 1 rfl) ?_
          refine lv_iconst (v := nI 1) hx hb dX2_readOrder_247 (by decide) ?_
          refine lv_iadd hx hb dX2_readOrder_248 (xk_top (nI_add _ _) ?_)
          refine lv_aload_n hx hb dX2_readOrder_249 rfl (lv_at hl 2 rfl) ?_
          refine lv_iconst (v := nI 3) hx hb dX2_readOrder_250 (by decide) ?_
          have hf_467 := xk_off hn_437 hA0 hO (xk_on1 (by decide))
          have hf_468 := xk_off hn_444 hf_467 hf_438 (xk_on1 (by decide))
          have hf_469 := xk_off hn_453 hf_468 hf_451 (xk_on1 (by decide))
          have hf_470 := xk_off hn_461 hf_469 hf_459 (xk_on1 (by decide))
          have hf_471 := xk_off hn_437 hA1 hO (xk_on1 (by decide))
          have hf_472 := xk_off hn_444 hf_471 hf_438 (xk_on1 (by decide))
          have hf_473 := xk_off hn_453 hf_472 hf_451 (xk_on1 (by decide))
          have hf_474 := xk_off hn_461 hf_473 hf_459 (xk_on1 (by decide))
          have hf_475 := xk_off hn_437 hA2 hO (xk_on1 (by decide))
          have hf_476 := xk_off hn_444 hf_475 hf_438 (xk_on1 (by decide))
          have hf_477 := xk_off hn_453 hf_476 hf_451 (xk_on1 (by decide))
          have hf_478 := xk_off hn_461 hf_477 hf_459 (xk_on1 (by decide))
          have hf_479 := xk_off hn_437 hA3 hO (xk_on1 (by decide))
          have hf_480 := xk_off hn_444 hf_479 hf_438 (xk_on1 (by decide))
          have hf_481 := xk_off hn_453 hf_480 hf_451 (xk_on1 (by decide))
          have hf_482 := xk_off hn_461 hf_481 hf_459 (xk_on1 (by decide))
          have hf_483 := xk_off hn_437 hA4 hO (xk_on1 (by decide))
          have hf_484 := xk_off hn_444 hf_483 hf_438 (xk_on1 (by decide))
          have hf_485 := xk_off hn_453 hf_484 hf_451 (xk_on1 (by decide))
          have hf_486 := xk_off hn_461 hf_485 hf_459 (xk_on1 (by decide))
          have hf_487 := xk_off hn_437 hA5 hO (xk_on1 (by decide))
          have hf_488 := xk_off hn_444 hf_487 hf_438 (xk_on1 (by decide))
          have hf_489 := xk_off hn_453 hf_488 hf_451 (xk_on1 (by decide))
          have hf_490 := xk_off hn_461 hf_489 hf_459 (xk_on1 (by decide))
          have hf_491 := xk_off hn_437 hA6 hO (xk_on1 (by decide))
          have hf_492 := xk_off hn_444 hf_491 hf_438 (xk_on1 (by decide))
          have hf_493 := xk_off hn_453 hf_492 hf_451 (xk_on1 (by decide))
          have hf_494 := xk_off hn_461 hf_493 hf_459 (xk_on1 (by decide))
          have hf_495 := xk_off hn_437 hA7 hO (xk_on1 (by decide))
          have hf_496 := xk_off hn_444 hf_495 hf_438 (xk_on1 (by decide))
          have hf_497 := xk_off hn_453 hf_496 hf_451 (xk_on1 (by decide))
          have hf_498 := xk_off hn_461 hf_497 hf_459 (xk_on1 (by decide))
          have hf_499 := xk_off hn_437 hA8 hO (xk_on1 (by decide))
          have hf_500 := xk_off hn_444 hf_499 hf_438 (xk_on1 (by decide))
          have hf_501 := xk_off hn_453 hf_500 hf_451 (xk_on1 (by decide))
          have hf_502 := xk_off hn_461 hf_501 hf_459 (xk_on1 (by decide))
          have hf_503 := xk_off hn_461 hf_454 hf_459 (xk_on1 (by decide))
          have hM_504 : tm_Ok g X_460 o ad (va_up A 9 (va_up (A 9) (4 * (S 7)) 119)) (va_up (va_up (va_up S 7 (S 7 + 1)) 8 (S 8 + 1)) 10 0) := ⟨hf_462, hf_470, hf_474, hf_478, hf_482, hf_486, hf_490, hf_494, hf_498, hf_502, hf_503⟩
          refine xk_ri (xk_cV B hI_463 hl [.int (nI 3)] [.int (nI (4 * (S 7) + 1)), .ref (ad 9)] 1 (m2_number g hM_504 (mo := 3) (by decide) (by decide) (show S 8 + 1 ≤ S 9 from by omega) (show S 9 ≤ 70 from by omega) (show S 8 + 1 ≤ 70 from by omega) (show 0 ≤ 1 from by omega) ht9) hf_462 rfl (lw_V q1747 q1749 qs61 q79 q1750) ⟨rfl, by decide +kernel, by decide +kernel, by decide +kernel⟩ ⟨Nat.le_of_ble_eq_true rfl, Nat.le_of_ble_eq_true rfl⟩ rfl rfl (Nat.le_of_ble_eq_true rfl) dX2_readOrder_251 (Nat.le_of_ble_eq_true rfl) (Nat.le_of_ble_eq_true rfl)) hI_463 (fun X_508 H_506 L_507 hq_509 hI_505 => ?_)
          refine xk_top (y := nI ((tl_num (A 5) (S 9) (0) (S 8 + 1) 3).1)) rfl ?_
          obtain ⟨hM_510, hfr_511⟩ := hq_509
          obtain ⟨hf_512, hf_513, hf_514, hf_515, hf_516, hf_517, hf_518, hf_519, hf_520, hf_521, hf_522⟩ := id hM_510
          have hfr_523 := xk_fr.tr hfr_466 hfr_511
          have hf_513 : X_508 (ad 0) = some ((o, 1), xk_iA g 0 294 (A 0)) := hf_513
          have hf_514 : X_508 (ad 1) = some ((o, 2), xk_iA g 0 294 (A 1)) := hf_514
          have hf_515 : X_508 (ad 2) = some ((o, 3), xk_iA g 0 294 (A 2)) := hf_515
          have hf_516 : X_508 (ad 3) = some ((o, 4), xk_iA g 0 294 (A 3)) := hf_516
          have hf_517 : X_508 (ad 4) = some ((o, 5), xk_iA g 0 2352 (A 4)) := hf_517
          have hf_518 : X_508 (ad 5) = some ((o, 6), xk_iA g 0 70 (A 5)) := hf_518
          have hf_519 : X_508 (ad 6) = some ((o, 7), xk_iA g 2 40 (A 6)) := hf_519
          have hf_520 : X_508 (ad 7) = some ((o, 8), xk_iA g 2 40 (A 7)) := hf_520
          have hf_521 : X_508 (ad 8) = some ((o, 9), xk_iA g 0 60 (A 8)) := hf_521
          have hf_522 : X_508 (ad 9) = some ((o, 10), xk_iA g 0 284 (va_up (A 9) (4 * (S 7)) 119)) := hf_522
          have hf_512 : X_508 o = some ((o, 0), .inr (0, [.ref (ad 0), .ref (ad 1), .ref (ad 2), .ref (ad 3), .int (nI (S 0)), .ref (ad 4), .int (nI (S 1)), .int (nI (S 2)), .int (nI (S 3)), .int (tm_it (S 4)), .ref (ad 5), .int (nI (S 5)), .ref (ad 6), .ref (ad 7), .ref (ad 8), .int (nI (S 6)), .ref (ad 9), .int (nI (S 7 + 1)), .int (nI ((tl_num (A 5) (S 9) (0) (S 8 + 1) 3).2)), .int (nI (S 9)), .int (nI (tl_dgw (A 5) (S 9) (0) (S 8 + 1)))])) := hf_512
          have hw254 := tl_dgw_le (A 5) (S 9) (0) (S 8 + 1)
          have hz254 : (tl_num (A 5) (S 9) (0) (S 8 + 1) 3).2 ≤ (S 9) := tl_num_z (by omega)
          refine xk_iast B hI_505 hf_522 (by omega) (by decide) dX2_readOrder_254 (fun X_524 H_528 L_529 hf_526 hn_525 hI_527 => ?_)
          have hfr_530 := xk_fr.put hfr_523 hf_522 hn_525
          have hf_531 := xk_off hn_525 hf_512 hf_522 (xk_on1 (by decide))
          have hf_532 := xk_off hn_525 hf_513 hf_522 (xk_on1 (by decide))
          have hf_533 := xk_off hn_525 hf_514 hf_522 (xk_on1 (by decide))
          have hf_534 := xk_off hn_525 hf_515 hf_522 (xk_on1 (by decide))
          have hf_535 := xk_off hn_525 hf_516 hf_522 (xk_on1 (by decide))
          have hf_536 := xk_off hn_525 hf_517 hf_522 (xk_on1 (by decide))
          have hf_537 := xk_off hn_525 hf_518 hf_522 (xk_on1 (by decide))
          have hf_538 := xk_off hn_525 hf_519 hf_522 (xk_on1 (by decide))
          have hf_539 := xk_off hn_525 hf_520 hf_522 (xk_on1 (by decide))
          have hf_540 := xk_off hn_525 hf_521 hf_522 (xk_on1 (by decide))
          have hM_541 : tm_Ok g X_524 o ad (va_up A 9 (va_up (va_up (A 9) (4 * (S 7)) 119) (4 * (S 7) + 1) ((tl_num (A 5) (S 9) (0) (S 8 + 1) 3).1))) (va_up (va_up (va_up S 7 (S 7 + 1)) 8 ((tl_num (A 5) (S 9) (0) (S 8 + 1) 3).2)) 10 (tl_dgw (A 5) (S 9) (0) (S 8 + 1))) := ⟨hf_531, hf_532, hf_533, hf_534, hf_535, hf_536, hf_537, hf_538, hf_539, hf_540, hf_526⟩
          exact xk_retv B hI_527 hr dX2_readOrder_255 (Nat.le_of_ble_eq_true rfl) (Nat.le_of_ble_eq_true rfl) ((by rw [show tl_isl (tl_hc (A 5) (S 9) (S 8)) = true from decide_eq_true (by omega), show tl_oS (A 5) (S 9) (S 8) (tl_hc (A 5) (S 9) (S 8)) = tl_sN (A 5) (S 9) 3 (0, S 8 + 1) from by unfold tl_oS; rw [if_neg (by omega), if_neg (by omega), if_neg (by omega)], show tl_oA (A 5) (S 9) (S 7) (S 8) (tl_hc (A 5) (S 9) (S 8)) (A 9) = va_up (va_up (A 9) (4 * (S 7)) 119) (4 * (S 7) + 1) ((tl_num (A 5) (S 9) (0) (S 8 + 1) 3).1) from by unfold tl_oA; rw [if_neg (by omega), if_neg (by omega), if_neg (by omega), hh]; rfl]; exact ⟨rfl, hM_541, hfr_530⟩))
        · refine lv_iload_n hx hb dX2_readOrder_37 rfl (lv_at hl 0 rfl) ?_
          refine lv_bipush (v := nI 108) hx hb dX2_readOrder_38 (by decide) ?_
          refine lv_icmp_eq (tgt := 65) hx hb dX2_readOrder_40 (by decide) (fun hc_40 => ?_) (fun hc_40 => ?_)
          · have hh : tl_hc (A 5) (S 9) (S 8) = 109 := (tl_d_eq (by omega) (by decide)).mp hc_40
            have hlt := tl_hc_z (t := A 5) (z := S 9) (pl := S 8) (by omega)
            refine lv_iconst (v := nI 0) hx hb dX2_readOrder_65 (by decide) ?_
            refine xk_put B hI_1 hO rfl in_X2 tyX2 tyX2_ok nmX2 20 (by decide) q1452 rfl (by decide) (by decide) (Nat.le_of_ble_eq_true rfl) dX2_readOrder_66 (fun X_542 H_546 L_547 hf_544 hn_543 hI_545 => ?_)
            have hf_544 : X_542 o = some ((o, 0), .inr (0, [.ref (ad 0), .ref (ad 1), .ref (ad 2), .ref (ad 3), .int (nI (S 0)), .ref (ad 4), .int (nI (S 1)), .int (nI (S 2)), .int (nI (S 3)), .int (tm_it (S 4)), .ref (ad 5), .int (nI (S 5)), .ref (ad 6), .ref (ad 7), .ref (ad 8), .int (nI (S 6)), .ref (ad 9), .int (nI (S 7)), .int (nI (S 8)), .int (nI (S 9)), .int (nI 0)])) := hf_544
            have hfr_548 := xk_fr.put hfr hO hn_543
            refine lv_aload_n hx hb dX2_readOrder_69 rfl (lv_at hl 2 rfl) ?_
            refine xk_get B hI_545 hf_544 rfl in_X2 20 (by decide) q1452 rfl dX2_readOrder_70 ?_
            refine xk_if_eq_t (tgt := 77) hx hb (by omega) dX2_readOrder_73 (by decide) (by decide) ?_
            refine lv_aload_n hx hb dX2_readOrder_77 rfl (lv_at hl 2 rfl) ?_
            refine lv_dup hx hb dX2_readOrder_78 rfl ?_
            refine xk_get B hI_545 hf_544 rfl in_X2 18 (by decide) q1450 rfl dX2_readOrder_79 ?_
            refine lv_iconst (v := nI 1) hx hb dX2_readOrder_82 (by decide) ?_
            refine lv_iadd hx hb dX2_readOrder_83 (xk_top (nI_add _ _) ?_)
            refine xk_put B hI_545 hf_544 rfl in_X2 tyX2 tyX2_ok nmX2 18 (by decide) q1450 rfl rfl rfl (Nat.le_of_ble_eq_true rfl) dX2_readOrder_84 (fun X_549 H_553 L_554 hf_551 hn_550 hI_552 => ?_)
            have hf_551 : X_549 o = some ((o, 0), .inr (0, [.ref (ad 0), .ref (ad 1), .ref (ad 2), .ref (ad 3), .int (nI (S 0)), .ref (ad 4), .int (nI (S 1)), .int (nI (S 2)), .int (nI (S 3)), .int (tm_it (S 4)), .ref (ad 5), .int (nI (S 5)), .ref (ad 6), .ref (ad 7), .ref (ad 8), .int (nI (S 6)), .ref (ad 9), .int (nI (S 7)), .int (nI (S 8 + 1)), .int (nI (S 9)), .int (nI 0)])) := hf_551
            have hfr_555 := xk_fr.put hfr_548 hf_544 hn_550
            refine lv_aload_n hx hb dX2_readOrder_87 rfl (lv_at hl 2 rfl) ?_
            refine xk_get B hI_552 hf_551 rfl in_X2 16 (by decide) q1448 rfl dX2_readOrder_88 ?_
            refine lv_iload_n hx hb dX2_readOrder_91 rfl (lv_at hl 1 rfl) ?_
            refine lv_iload_n hx hb dX2_readOrder_92 rfl (lv_at hl 0 rfl) ?_
            refine xk_top hc_40 ?_
            have hf_556 := xk_off hn_543 hA9 hO (xk_on1 (by decide))
            have hf_557 := xk_off hn_550 hf_556 hf_544 (xk_on1 (by decide))
            refine xk_iast B hI_552 hf_557 (by omega) (by decide) dX2_readOrder_93 (fun X_558 H_562 L_563 hf_560 hn_559 hI_561 => ?_)
            have hfr_564 := xk_fr.put hfr_555 hf_557 hn_559
            refine lv_aload_n hx hb dX2_readOrder_94 rfl (lv_at hl 2 rfl) ?_
            refine lv_dup hx hb dX2_readOrder_95 rfl ?_
            have hf_565 := xk_off hn_559 hf_551 hf_557 (xk_on1 (by decide))
            refine xk_get B hI_561 hf_565 rfl in_X2 17 (by decide) q1449 rfl dX2_readOrder_96 ?_
            refine lv_iconst (v := nI 1) hx hb dX2_readOrder_99 (by decide) ?_
            refine lv_iadd hx hb dX2_readOrder_100 (xk_top (nI_add _ _) ?_)
            refine xk_put B hI_561 hf_565 rfl in_X2 tyX2 tyX2_ok nmX2 17 (by decide) q1449 rfl rfl rfl (Nat.le_of_ble_eq_true rfl) dX2_readOrder_101 (fun X_566 H_570 L_571 hf_568 hn_567 hI_569 => ?_)
            have hf_568 : X_566 o = some ((o, 0), .inr (0, [.ref (ad 0), .ref (ad 1), .ref (ad 2), .ref (ad 3), .int (nI (S 0)), .ref (ad 4), .int (nI (S 1)), .int (nI (S 2)), .int (nI (S 3)), .int (tm_it (S 4)), .ref (ad 5), .int (nI (S 5)), .ref (ad 6), .ref (ad 7), .ref (ad 8), .int (nI (S 6)), .ref (ad 9), .int (nI (S 7 + 1)), .int (nI (S 8 + 1)), .int (nI (S 9)), .int (nI 0)])) := hf_568
            have hfr_572 := xk_fr.put hfr_564 hf_565 hn_567
            refine lv_iload_n hx hb dX2_readOrder_104 rfl (lv_at hl 0 rfl) ?_
            refine xk_top hc_40 ?_
            refine lv_lookup (tgt := 242) (off := 137) hx hb dX2_readOrder_105 (by decide) (by rw [nI_toInt (by decide)]; decide) (by decide) ?_
            refine lv_aload_n hx hb dX2_readOrder_242 rfl (lv_at hl 2 rfl) ?_
            refine xk_get B hI_569 hf_568 rfl in_X2 16 (by decide) q1448 rfl dX2_readOrder_243 ?_
            refine lv_iload_n hx hb dX2_readOrder_246 rfl (lv_at hl 1 rfl) ?_
            refine lv_iconst (v := nI 1) hx hb dX2_readOrder_247 (by decide) ?_
            refine lv_iadd hx hb dX2_readOrder_248 (xk_top (nI_add _ _) ?_)
            refine lv_aload_n hx hb dX2_readOrder_249 rfl (lv_at hl 2 rfl) ?_
            refine lv_iconst (v := nI 3) hx hb dX2_readOrder_250 (by decide) ?_
            have hf_573 := xk_off hn_543 hA0 hO (xk_on1 (by decide))
            have hf_574 := xk_off hn_550 hf_573 hf_544 (xk_on1 (by decide))
            have hf_575 := xk_off hn_559 hf_574 hf_557 (xk_on1 (by decide))
            have hf_576 := xk_off hn_567 hf_575 hf_565 (xk_on1 (by decide))
            have hf_577 := xk_off hn_543 hA1 hO (xk_on1 (by decide))
            have hf_578 := xk_off hn_550 hf_577 hf_544 (xk_on1 (by decide))
            have hf_579 := xk_off hn_559 hf_578 hf_557 (xk_on1 (by decide))
            have hf_580 := xk_off hn_567 hf_579 hf_565 (xk_on1 (by decide))
            have hf_581 := xk_off hn_543 hA2 hO (xk_on1 (by decide))
            have hf_582 := xk_off hn_550 hf_581 hf_544 (xk_on1 (by decide))
            have hf_583 := xk_off hn_559 hf_582 hf_557 (xk_on1 (by decide))
            have hf_584 := xk_off hn_567 hf_583 hf_565 (xk_on1 (by decide))
            have hf_585 := xk_off hn_543 hA3 hO (xk_on1 (by decide))
            have hf_586 := xk_off hn_550 hf_585 hf_544 (xk_on1 (by decide))
            have hf_587 := xk_off hn_559 hf_586 hf_557 (xk_on1 (by decide))
            have hf_588 := xk_off hn_567 hf_587 hf_565 (xk_on1 (by decide))
            have hf_589 := xk_off hn_543 hA4 hO (xk_on1 (by decide))
            have hf_590 := xk_off hn_550 hf_589 hf_544 (xk_on1 (by decide))
            have hf_591 := xk_off hn_559 hf_590 hf_557 (xk_on1 (by decide))
            have hf_592 := xk_off hn_567 hf_591 hf_565 (xk_on1 (by decide))
            have hf_593 := xk_off hn_543 hA5 hO (xk_on1 (by decide))
            have hf_594 := xk_off hn_550 hf_593 hf_544 (xk_on1 (by decide))
            have hf_595 := xk_off hn_559 hf_594 hf_557 (xk_on1 (by decide))
            have hf_596 := xk_off hn_567 hf_595 hf_565 (xk_on1 (by decide))
            have hf_597 := xk_off hn_543 hA6 hO (xk_on1 (by decide))
            have hf_598 := xk_off hn_550 hf_597 hf_544 (xk_on1 (by decide))
            have hf_599 := xk_off hn_559 hf_598 hf_557 (xk_on1 (by decide))
            have hf_600 := xk_off hn_567 hf_599 hf_565 (xk_on1 (by decide))
            have hf_601 := xk_off hn_543 hA7 hO (xk_on1 (by decide))
            have hf_602 := xk_off hn_550 hf_601 hf_544 (xk_on1 (by decide))
            have hf_603 := xk_off hn_559 hf_602 hf_557 (xk_on1 (by decide))
            have hf_604 := xk_off hn_567 hf_603 hf_565 (xk_on1 (by decide))
            have hf_605 := xk_off hn_543 hA8 hO (xk_on1 (by decide))
            have hf_606 := xk_off hn_550 hf_605 hf_544 (xk_on1 (by decide))
            have hf_607 := xk_off hn_559 hf_606 hf_557 (xk_on1 (by decide))
            have hf_608 := xk_off hn_567 hf_607 hf_565 (xk_on1 (by decide))
            have hf_609 := xk_off hn_567 hf_560 hf_565 (xk_on1 (by decide))
            have hM_610 : tm_Ok g X_566 o ad (va_up A 9 (va_up (A 9) (4 * (S 7)) 108)) (va_up (va_up (va_up S 7 (S 7 + 1)) 8 (S 8 + 1)) 10 0) := ⟨hf_568, hf_576, hf_580, hf_584, hf_588, hf_592, hf_596, hf_600, hf_604, hf_608, hf_609⟩
            refine xk_ri (xk_cV B hI_569 hl [.int (nI 3)] [.int (nI (4 * (S 7) + 1)), .ref (ad 9)] 1 (m2_number g hM_610 (mo := 3) (by decide) (by decide) (show S 8 + 1 ≤ S 9 from by omega) (show S 9 ≤ 70 from by omega) (show S 8 + 1 ≤ 70 from by omega) (show 0 ≤ 1 from by omega) ht9) hf_568 rfl (lw_V q1747 q1749 qs61 q79 q1750) ⟨rfl, by decide +kernel, by decide +kernel, by decide +kernel⟩ ⟨Nat.le_of_ble_eq_true rfl, Nat.le_of_ble_eq_true rfl⟩ rfl rfl (Nat.le_of_ble_eq_true rfl) dX2_readOrder_251 (Nat.le_of_ble_eq_true rfl) (Nat.le_of_ble_eq_true rfl)) hI_569 (fun X_614 H_612 L_613 hq_615 hI_611 => ?_)
            refine xk_top (y := nI ((tl_num (A 5) (S 9) (0) (S 8 + 1) 3).1)) rfl ?_
            obtain ⟨hM_616, hfr_617⟩ := hq_615
            obtain ⟨hf_618, hf_619, hf_620, hf_621, hf_622, hf_623, hf_624, hf_625, hf_626, hf_627, hf_628⟩ := id hM_616
            have hfr_629 := xk_fr.tr hfr_572 hfr_617
            have hf_619 : X_614 (ad 0) = some ((o, 1), xk_iA g 0 294 (A 0)) := hf_619
            have hf_620 : X_614 (ad 1) = some ((o, 2), xk_iA g 0 294 (A 1)) := hf_620
            have hf_621 : X_614 (ad 2) = some ((o, 3), xk_iA g 0 294 (A 2)) := hf_621
            have hf_622 : X_614 (ad 3) = some ((o, 4), xk_iA g 0 294 (A 3)) := hf_622
            have hf_623 : X_614 (ad 4) = some ((o, 5), xk_iA g 0 2352 (A 4)) := hf_623
            have hf_624 : X_614 (ad 5) = some ((o, 6), xk_iA g 0 70 (A 5)) := hf_624
            have hf_625 : X_614 (ad 6) = some ((o, 7), xk_iA g 2 40 (A 6)) := hf_625
            have hf_626 : X_614 (ad 7) = some ((o, 8), xk_iA g 2 40 (A 7)) := hf_626
            have hf_627 : X_614 (ad 8) = some ((o, 9), xk_iA g 0 60 (A 8)) := hf_627
            have hf_628 : X_614 (ad 9) = some ((o, 10), xk_iA g 0 284 (va_up (A 9) (4 * (S 7)) 108)) := hf_628
            have hf_618 : X_614 o = some ((o, 0), .inr (0, [.ref (ad 0), .ref (ad 1), .ref (ad 2), .ref (ad 3), .int (nI (S 0)), .ref (ad 4), .int (nI (S 1)), .int (nI (S 2)), .int (nI (S 3)), .int (tm_it (S 4)), .ref (ad 5), .int (nI (S 5)), .ref (ad 6), .ref (ad 7), .ref (ad 8), .int (nI (S 6)), .ref (ad 9), .int (nI (S 7 + 1)), .int (nI ((tl_num (A 5) (S 9) (0) (S 8 + 1) 3).2)), .int (nI (S 9)), .int (nI (tl_dgw (A 5) (S 9) (0) (S 8 + 1)))])) := hf_618
            have hw254 := tl_dgw_le (A 5) (S 9) (0) (S 8 + 1)
            have hz254 : (tl_num (A 5) (S 9) (0) (S 8 + 1) 3).2 ≤ (S 9) := tl_num_z (by omega)
            refine xk_iast B hI_611 hf_628 (by omega) (by decide) dX2_readOrder_254 (fun X_630 H_634 L_635 hf_632 hn_631 hI_633 => ?_)
            have hfr_636 := xk_fr.put hfr_629 hf_628 hn_631
            have hf_637 := xk_off hn_631 hf_618 hf_628 (xk_on1 (by decide))
            have hf_638 := xk_off hn_631 hf_619 hf_628 (xk_on1 (by decide))
            have hf_639 := xk_off hn_631 hf_620 hf_628 (xk_on1 (by decide))
            have hf_640 := xk_off hn_631 hf_621 hf_628 (xk_on1 (by decide))
            have hf_641 := xk_off hn_631 hf_622 hf_628 (xk_on1 (by decide))
            have hf_642 := xk_off hn_631 hf_623 hf_628 (xk_on1 (by decide))
            have hf_643 := xk_off hn_631 hf_624 hf_628 (xk_on1 (by decide))
            have hf_644 := xk_off hn_631 hf_625 hf_628 (xk_on1 (by decide))
            have hf_645 := xk_off hn_631 hf_626 hf_628 (xk_on1 (by decide))
            have hf_646 := xk_off hn_631 hf_627 hf_628 (xk_on1 (by decide))
            have hM_647 : tm_Ok g X_630 o ad (va_up A 9 (va_up (va_up (A 9) (4 * (S 7)) 108) (4 * (S 7) + 1) ((tl_num (A 5) (S 9) (0) (S 8 + 1) 3).1))) (va_up (va_up (va_up S 7 (S 7 + 1)) 8 ((tl_num (A 5) (S 9) (0) (S 8 + 1) 3).2)) 10 (tl_dgw (A 5) (S 9) (0) (S 8 + 1))) := ⟨hf_637, hf_638, hf_639, hf_640, hf_641, hf_642, hf_643, hf_644, hf_645, hf_646, hf_632⟩
            exact xk_retv B hI_633 hr dX2_readOrder_255 (Nat.le_of_ble_eq_true rfl) (Nat.le_of_ble_eq_true rfl) ((by rw [show tl_isl (tl_hc (A 5) (S 9) (S 8)) = true from decide_eq_true (by omega), show tl_oS (A 5) (S 9) (S 8) (tl_hc (A 5) (S 9) (S 8)) = tl_sN (A 5) (S 9) 3 (0, S 8 + 1) from by unfold tl_oS; rw [if_neg (by omega), if_neg (by omega), if_neg (by omega)], show tl_oA (A 5) (S 9) (S 7) (S 8) (tl_hc (A 5) (S 9) (S 8)) (A 9) = va_up (va_up (A 9) (4 * (S 7)) 108) (4 * (S 7) + 1) ((tl_num (A 5) (S 9) (0) (S 8 + 1) 3).1) from by unfold tl_oA; rw [if_neg (by omega), if_neg (by omega), if_neg (by omega), hh]; rfl]; exact ⟨rfl, hM_647, hfr_636⟩))
          · refine lv_iload_n hx hb dX2_readOrder_43 rfl (lv_at hl 0 rfl) ?_
            refine lv_bipush (v := nI 114) hx hb dX2_readOrder_44 (by decide) ?_
            refine lv_icmp_eq (tgt := 65) hx hb dX2_readOrder_46 (by decide) (fun hc_46 => ?_) (fun hc_46 => ?_)
            · have hh : tl_hc (A 5) (S 9) (S 8) = 115 := (tl_d_eq (by omega) (by decide)).mp hc_46
              have hlt := tl_hc_z (t := A 5) (z := S 9) (pl := S 8) (by omega)
              refine lv_iconst (v := nI 0) hx hb dX2_readOrder_65 (by decide) ?_
              refine xk_put B hI_1 hO rfl in_X2 tyX2 tyX2_ok nmX2 20 (by decide) q1452 rfl (by decide) (by decide) (Nat.le_of_ble_eq_true rfl) dX2_readOrder_66 (fun X_648 H_652 L_653 hf_650 hn_649 hI_651 => ?_)
              have hf_650 : X_648 o = some ((o, 0), .inr (0, [.ref (ad 0), .ref (ad 1), .ref (ad 2), .ref (ad 3), .int (nI (S 0)), .ref (ad 4), .int (nI (S 1)), .int (nI (S 2)), .int (nI (S 3)), .int (tm_it (S 4)), .ref (ad 5), .int (nI (S 5)), .ref (ad 6), .ref (ad 7), .ref (ad 8), .int (nI (S 6)), .ref (ad 9), .int (nI (S 7)), .int (nI (S 8)), .int (nI (S 9)), .int (nI 0)])) := hf_650
              have hfr_654 := xk_fr.put hfr hO hn_649
              refine lv_aload_n hx hb dX2_readOrder_69 rfl (lv_at hl 2 rfl) ?_
              refine xk_get B hI_651 hf_650 rfl in_X2 20 (by decide) q1452 rfl dX2_readOrder_70 ?_
              refine xk_if_eq_t (tgt := 77) hx hb (by omega) dX2_readOrder_73 (by decide) (by decide) ?_
              refine lv_aload_n hx hb dX2_readOrder_77 rfl (lv_at hl 2 rfl) ?_
              refine lv_dup hx hb dX2_readOrder_78 rfl ?_
              refine xk_get B hI_651 hf_650 rfl in_X2 18 (by decide) q1450 rfl dX2_readOrder_79 ?_
              refine lv_iconst (v := nI 1) hx hb dX2_readOrder_82 (by decide) ?_
              refine lv_iadd hx hb dX2_readOrder_83 (xk_top (nI_add _ _) ?_)
              refine xk_put B hI_651 hf_650 rfl in_X2 tyX2 tyX2_ok nmX2 18 (by decide) q1450 rfl rfl rfl (Nat.le_of_ble_eq_true rfl) dX2_readOrder_84 (fun X_655 H_659 L_660 hf_657 hn_656 hI_658 => ?_)
              have hf_657 : X_655 o = some ((o, 0), .inr (0, [.ref (ad 0), .ref (ad 1), .ref (ad 2), .ref (ad 3), .int (nI (S 0)), .ref (ad 4), .int (nI (S 1)), .int (nI (S 2)), .int (nI (S 3)), .int (tm_it (S 4)), .ref (ad 5), .int (nI (S 5)), .ref (ad 6), .ref (ad 7), .ref (ad 8), .int (nI (S 6)), .ref (ad 9), .int (nI (S 7)), .int (nI (S 8 + 1)), .int (nI (S 9)), .int (nI 0)])) := hf_657
              have hfr_661 := xk_fr.put hfr_654 hf_650 hn_656
              refine lv_aload_n hx hb dX2_readOrder_87 rfl (lv_at hl 2 rfl) ?_
              refine xk_get B hI_658 hf_657 rfl in_X2 16 (by decide) q1448 rfl dX2_readOrder_88 ?_
              refine lv_iload_n hx hb dX2_readOrder_91 rfl (lv_at hl 1 rfl) ?_
              refine lv_iload_n hx hb dX2_readOrder_92 rfl (lv_at hl 0 rfl) ?_
              refine xk_top hc_46 ?_
              have hf_662 := xk_off hn_649 hA9 hO (xk_on1 (by decide))
              have hf_663 := xk_off hn_656 hf_662 hf_650 (xk_on1 (by decide))
              refine xk_iast B hI_658 hf_663 (by omega) (by decide) dX2_readOrder_93 (fun X_664 H_668 L_669 hf_666 hn_665 hI_667 => ?_)
              have hfr_670 := xk_fr.put hfr_661 hf_663 hn_665
              refine lv_aload_n hx hb dX2_readOrder_94 rfl (lv_at hl 2 rfl) ?_
              refine lv_dup hx hb dX2_readOrder_95 rfl ?_
              have hf_671 := xk_off hn_665 hf_657 hf_663 (xk_on1 (by decide))
              refine xk_get B hI_667 hf_671 rfl in_X2 17 (by decide) q1449 rfl dX2_readOrder_96 ?_
              refine lv_iconst (v := nI 1) hx hb dX2_readOrder_99 (by decide) ?_
              refine lv_iadd hx hb dX2_readOrder_100 (xk_top (nI_add _ _) ?_)
              refine xk_put B hI_667 hf_671 rfl in_X2 tyX2 tyX2_ok nmX2 17 (by decide) q1449 rfl rfl rfl (Nat.le_of_ble_eq_true rfl) dX2_readOrder_101 (fun X_672 H_676 L_677 hf_674 hn_673 hI_675 => ?_)
              have hf_674 : X_672 o = some ((o, 0), .inr (0, [.ref (ad 0), .ref (ad 1), .ref (ad 2), .ref (ad 3), .int (nI (S 0)), .ref (ad 4), .int (nI (S 1)), .int (nI (S 2)), .int (nI (S 3)), .int (tm_it (S 4)), .ref (ad 5), .int (nI (S 5)), .ref (ad 6), .ref (ad 7), .ref (ad 8), .int (nI (S 6)), .ref (ad 9), .int (nI (S 7 + 1)), .int (nI (S 8 + 1)), .int (nI (S 9)), .int (nI 0)])) := hf_674
              have hfr_678 := xk_fr.put hfr_670 hf_671 hn_673
              refine lv_iload_n hx hb dX2_readOrder_104 rfl (lv_at hl 0 rfl) ?_
              refine xk_top hc_46 ?_
              refine lv_lookup (tgt := 242) (off := 137) hx hb dX2_readOrder_105 (by decide) (by rw [nI_toInt (by decide)]; decide) (by decide) ?_
              refine lv_aload_n hx hb dX2_readOrder_242 rfl (lv_at hl 2 rfl) ?_
              refine xk_get B hI_675 hf_674 rfl in_X2 16 (by decide) q1448 rfl dX2_readOrder_243 ?_
              refine lv_iload_n hx hb dX2_readOrder_246 rfl (lv_at hl 1 rfl) ?_
              refine lv_iconst (v := nI 1) hx hb dX2_readOrder_247 (by decide) ?_
              refine lv_iadd hx hb dX2_readOrder_248 (xk_top (nI_add _ _) ?_)
              refine lv_aload_n hx hb dX2_readOrder_249 rfl (lv_at hl 2 rfl) ?_
              refine lv_iconst (v := nI 3) hx hb dX2_readOrder_250 (by decide) ?_
              have hf_679 := xk_off hn_649 hA0 hO (xk_on1 (by decide))
              have hf_680 := xk_off hn_656 hf_679 hf_650 (xk_on1 (by decide))
              have hf_681 := xk_off hn_665 hf_680 hf_663 (xk_on1 (by decide))
              have hf_682 := xk_off hn_673 hf_681 hf_671 (xk_on1 (by decide))
              have hf_683 := xk_off hn_649 hA1 hO (xk_on1 (by decide))
              have hf_684 := xk_off hn_656 hf_683 hf_650 (xk_on1 (by decide))
              have hf_685 := xk_off hn_665 hf_684 hf_663 (xk_on1 (by decide))
              have hf_686 := xk_off hn_673 hf_685 hf_671 (xk_on1 (by decide))
              have hf_687 := xk_off hn_649 hA2 hO (xk_on1 (by decide))
              have hf_688 := xk_off hn_656 hf_687 hf_650 (xk_on1 (by decide))
              have hf_689 := xk_off hn_665 hf_688 hf_663 (xk_on1 (by decide))
              have hf_690 := xk_off hn_673 hf_689 hf_671 (xk_on1 (by decide))
              have hf_691 := xk_off hn_649 hA3 hO (xk_on1 (by decide))
              have hf_692 := xk_off hn_656 hf_691 hf_650 (xk_on1 (by decide))
              have hf_693 := xk_off hn_665 hf_692 hf_663 (xk_on1 (by decide))
              have hf_694 := xk_off hn_673 hf_693 hf_671 (xk_on1 (by decide))
              have hf_695 := xk_off hn_649 hA4 hO (xk_on1 (by decide))
              have hf_696 := xk_off hn_656 hf_695 hf_650 (xk_on1 (by decide))
              have hf_697 := xk_off hn_665 hf_696 hf_663 (xk_on1 (by decide))
              have hf_698 := xk_off hn_673 hf_697 hf_671 (xk_on1 (by decide))
              have hf_699 := xk_off hn_649 hA5 hO (xk_on1 (by decide))
              have hf_700 := xk_off hn_656 hf_699 hf_650 (xk_on1 (by decide))
              have hf_701 := xk_off hn_665 hf_700 hf_663 (xk_on1 (by decide))
              have hf_702 := xk_off hn_673 hf_701 hf_671 (xk_on1 (by decide))
              have hf_703 := xk_off hn_649 hA6 hO (xk_on1 (by decide))
              have hf_704 := xk_off hn_656 hf_703 hf_650 (xk_on1 (by decide))
              have hf_705 := xk_off hn_665 hf_704 hf_663 (xk_on1 (by decide))
              have hf_706 := xk_off hn_673 hf_705 hf_671 (xk_on1 (by decide))
              have hf_707 := xk_off hn_649 hA7 hO (xk_on1 (by decide))
              have hf_708 := xk_off hn_656 hf_707 hf_650 (xk_on1 (by decide))
              have hf_709 := xk_off hn_665 hf_708 hf_663 (xk_on1 (by decide))
              have hf_710 := xk_off hn_673 hf_709 hf_671 (xk_on1 (by decide))
              have hf_711 := xk_off hn_649 hA8 hO (xk_on1 (by decide))
              have hf_712 := xk_off hn_656 hf_711 hf_650 (xk_on1 (by decide))
              have hf_713 := xk_off hn_665 hf_712 hf_663 (xk_on1 (by decide))
              have hf_714 := xk_off hn_673 hf_713 hf_671 (xk_on1 (by decide))
              have hf_715 := xk_off hn_673 hf_666 hf_671 (xk_on1 (by decide))
              have hM_716 : tm_Ok g X_672 o ad (va_up A 9 (va_up (A 9) (4 * (S 7)) 114)) (va_up (va_up (va_up S 7 (S 7 + 1)) 8 (S 8 + 1)) 10 0) := ⟨hf_674, hf_682, hf_686, hf_690, hf_694, hf_698, hf_702, hf_706, hf_710, hf_714, hf_715⟩
              refine xk_ri (xk_cV B hI_675 hl [.int (nI 3)] [.int (nI (4 * (S 7) + 1)), .ref (ad 9)] 1 (m2_number g hM_716 (mo := 3) (by decide) (by decide) (show S 8 + 1 ≤ S 9 from by omega) (show S 9 ≤ 70 from by omega) (show S 8 + 1 ≤ 70 from by omega) (show 0 ≤ 1 from by omega) ht9) hf_674 rfl (lw_V q1747 q1749 qs61 q79 q1750) ⟨rfl, by decide +kernel, by decide +kernel, by decide +kernel⟩ ⟨Nat.le_of_ble_eq_true rfl, Nat.le_of_ble_eq_true rfl⟩ rfl rfl (Nat.le_of_ble_eq_true rfl) dX2_readOrder_251 (Nat.le_of_ble_eq_true rfl) (Nat.le_of_ble_eq_true rfl)) hI_675 (fun X_720 H_718 L_719 hq_721 hI_717 => ?_)
              refine xk_top (y := nI ((tl_num (A 5) (S 9) (0) (S 8 + 1) 3).1)) rfl ?_
              obtain ⟨hM_722, hfr_723⟩ := hq_721
              obtain ⟨hf_724, hf_725, hf_726, hf_727, hf_728, hf_729, hf_730, hf_731, hf_732, hf_733, hf_734⟩ := id hM_722
              have hfr_735 := xk_fr.tr hfr_678 hfr_723
              have hf_725 : X_720 (ad 0) = some ((o, 1), xk_iA g 0 294 (A 0)) := hf_725
              have hf_726 : X_720 (ad 1) = some ((o, 2), xk_iA g 0 294 (A 1)) := hf_726
              have hf_727 : X_720 (ad 2) = some ((o, 3), xk_iA g 0 294 (A 2)) := hf_727
              have hf_728 : X_720 (ad 3) = some ((o, 4), xk_iA g 0 294 (A 3)) := hf_728
              have hf_729 : X_720 (ad 4) = some ((o, 5), xk_iA g 0 2352 (A 4)) := hf_729
              have hf_730 : X_720 (ad 5) = some ((o, 6), xk_iA g 0 70 (A 5)) := hf_730
              have hf_731 : X_720 (ad 6) = some ((o, 7), xk_iA g 2 40 (A 6)) := hf_731
              have hf_732 : X_720 (ad 7) = some ((o, 8), xk_iA g 2 40 (A 7)) := hf_732
              have hf_733 : X_720 (ad 8) = some ((o, 9), xk_iA g 0 60 (A 8)) := hf_733
              have hf_734 : X_720 (ad 9) = some ((o, 10), xk_iA g 0 284 (va_up (A 9) (4 * (S 7)) 114)) := hf_734
              have hf_724 : X_720 o = some ((o, 0), .inr (0, [.ref (ad 0), .ref (ad 1), .ref (ad 2), .ref (ad 3), .int (nI (S 0)), .ref (ad 4), .int (nI (S 1)), .int (nI (S 2)), .int (nI (S 3)), .int (tm_it (S 4)), .ref (ad 5), .int (nI (S 5)), .ref (ad 6), .ref (ad 7), .ref (ad 8), .int (nI (S 6)), .ref (ad 9), .int (nI (S 7 + 1)), .int (nI ((tl_num (A 5) (S 9) (0) (S 8 + 1) 3).2)), .int (nI (S 9)), .int (nI (tl_dgw (A 5) (S 9) (0) (S 8 + 1)))])) := hf_724
              have hw254 := tl_dgw_le (A 5) (S 9) (0) (S 8 + 1)
              have hz254 : (tl_num (A 5) (S 9) (0) (S 8 + 1) 3).2 ≤ (S 9) := tl_num_z (by omega)
              refine xk_iast B hI_717 hf_734 (by omega) (by decide) dX2_readOrder_254 (fun X_736 H_740 L_741 hf_738 hn_737 hI_739 => ?_)
              have hfr_742 := xk_fr.put hfr_735 hf_734 hn_737
              have hf_743 := xk_off hn_737 hf_724 hf_734 (xk_on1 (by decide))
              have hf_744 := xk_off hn_737 hf_725 hf_734 (xk_on1 (by decide))
              have hf_745 := xk_off hn_737 hf_726 hf_734 (xk_on1 (by decide))
              have hf_746 := xk_off hn_737 hf_727 hf_734 (xk_on1 (by decide))
              have hf_747 := xk_off hn_737 hf_728 hf_734 (xk_on1 (by decide))
              have hf_748 := xk_off hn_737 hf_729 hf_734 (xk_on1 (by decide))
              have hf_749 := xk_off hn_737 hf_730 hf_734 (xk_on1 (by decide))
              have hf_750 := xk_off hn_737 hf_731 hf_734 (xk_on1 (by decide))
              have hf_751 := xk_off hn_737 hf_732 hf_734 (xk_on1 (by decide))
              have hf_752 := xk_off hn_737 hf_733 hf_734 (xk_on1 (by decide))
              have hM_753 : tm_Ok g X_736 o ad (va_up A 9 (va_up (va_up (A 9) (4 * (S 7)) 114) (4 * (S 7) + 1) ((tl_num (A 5) (S 9) (0) (S 8 + 1) 3).1))) (va_up (va_up (va_up S 7 (S 7 + 1)) 8 ((tl_num (A 5) (S 9) (0) (S 8 + 1) 3).2)) 10 (tl_dgw (A 5) (S 9) (0) (S 8 + 1))) := ⟨hf_743, hf_744, hf_745, hf_746, hf_747, hf_748, hf_749, hf_750, hf_751, hf_752, hf_738⟩
              exact xk_retv B hI_739 hr dX2_readOrder_255 (Nat.le_of_ble_eq_true rfl) (Nat.le_of_ble_eq_true rfl) ((by rw [show tl_isl (tl_hc (A 5) (S 9) (S 8)) = true from decide_eq_true (by omega), show tl_oS (A 5) (S 9) (S 8) (tl_hc (A 5) (S 9) (S 8)) = tl_sN (A 5) (S 9) 3 (0, S 8 + 1) from by unfold tl_oS; rw [if_neg (by omega), if_neg (by omega), if_neg (by omega)], show tl_oA (A 5) (S 9) (S 7) (S 8) (tl_hc (A 5) (S 9) (S 8)) (A 9) = va_up (va_up (A 9) (4 * (S 7)) 114) (4 * (S 7) + 1) ((tl_num (A 5) (S 9) (0) (S 8 + 1) 3).1) from by unfold tl_oA; rw [if_neg (by omega), if_neg (by omega), if_neg (by omega), hh]; rfl]; exact ⟨rfl, hM_753, hfr_742⟩))
            · refine lv_iload_n hx hb dX2_readOrder_49 rfl (lv_at hl 0 rfl) ?_
              refine lv_bipush (v := nI 121) hx hb dX2_readOrder_50 (by decide) ?_
              refine lv_icmp_eq (tgt := 65) hx hb dX2_readOrder_52 (by decide) (fun hc_52 => ?_) (fun hc_52 => ?_)
              · have hh : tl_hc (A 5) (S 9) (S 8) = 122 := (tl_d_eq (by omega) (by decide)).mp hc_52
                have hlt := tl_hc_z (t := A 5) (z := S 9) (pl := S 8) (by omega)
                refine lv_iconst (v := nI 0) hx hb dX2_readOrder_65 (by decide) ?_
                refine xk_put B hI_1 hO rfl in_X2 tyX2 tyX2_ok nmX2 20 (by decide) q1452 rfl (by decide) (by decide) (Nat.le_of_ble_eq_true rfl) dX2_readOrder_66 (fun X_754 H_758 L_759 hf_756 hn_755 hI_757 => ?_)
                have hf_756 : X_754 o = some ((o, 0), .inr (0, [.ref (ad 0), .ref (ad 1), .ref (ad 2), .ref (ad 3), .int (nI (S 0)), .ref (ad 4), .int (nI (S 1)), .int (nI (S 2)), .int (nI (S 3)), .int (tm_it (S 4)), .ref (ad 5), .int (nI (S 5)), .ref (ad 6), .ref (ad 7), .ref (ad 8), .int (nI (S 6)), .ref (ad 9), .int (nI (S 7)), .int (nI (S 8)), .int (nI (S 9)), .int (nI 0)])) := hf_756
                have hfr_760 := xk_fr.put hfr hO hn_755
                refine lv_aload_n hx hb dX2_readOrder_69 rfl (lv_at hl 2 rfl) ?_
                refine xk_get B hI_757 hf_756 rfl in_X2 20 (by decide) q1452 rfl dX2_readOrder_70 ?_
                refine xk_if_eq_t (tgt := 77) hx hb (by omega) dX2_readOrder_73 (by decide) (by decide) ?_
                refine lv_aload_n hx hb dX2_readOrder_77 rfl (lv_at hl 2 rfl) ?_
                refine lv_dup hx hb dX2_readOrder_78 rfl ?_
                refine xk_get B hI_757 hf_756 rfl in_X2 18 (by decide) q1450 rfl dX2_readOrder_79 ?_
                refine lv_iconst (v := nI 1) hx hb dX2_readOrder_82 (by decide) ?_
                refine lv_iadd hx hb dX2_readOrder_83 (xk_top (nI_add _ _) ?_)
                refine xk_put B hI_757 hf_756 rfl in_X2 tyX2 tyX2_ok nmX2 18 (by decide) q1450 rfl rfl rfl (Nat.le_of_ble_eq_true rfl) dX2_readOrder_84 (fun X_761 H_765 L_766 hf_763 hn_762 hI_764 => ?_)
                have hf_763 : X_761 o = some ((o, 0), .inr (0, [.ref (ad 0), .ref (ad 1), .ref (ad 2), .ref (ad 3), .int (nI (S 0)), .ref (ad 4), .int (nI (S 1)), .int (nI (S 2)), .int (nI (S 3)), .int (tm_it (S 4)), .ref (ad 5), .int (nI (S 5)), .ref (ad 6), .ref (ad 7), .ref (ad 8), .int (nI (S 6)), .ref (ad 9), .int (nI (S 7)), .int (nI (S 8 + 1)), .int (nI (S 9)), .int (nI 0)])) := hf_763
                have hfr_767 := xk_fr.put hfr_760 hf_756 hn_762
                refine lv_aload_n hx hb dX2_readOrder_87 rfl (lv_at hl 2 rfl) ?_
                refine xk_get B hI_764 hf_763 rfl in_X2 16 (by decide) q1448 rfl dX2_readOrder_88 ?_
                refine lv_iload_n hx hb dX2_readOrder_91 rfl (lv_at hl 1 rfl) ?_
                refine lv_iload_n hx hb dX2_readOrder_92 rfl (lv_at hl 0 rfl) ?_
                refine xk_top hc_52 ?_
                have hf_768 := xk_off hn_755 hA9 hO (xk_on1 (by decide))
                have hf_769 := xk_off hn_762 hf_768 hf_756 (xk_on1 (by decide))
                refine xk_iast B hI_764 hf_769 (by omega) (by decide) dX2_readOrder_93 (fun X_770 H_774 L_775 hf_772 hn_771 hI_773 => ?_)
                have hfr_776 := xk_fr.put hfr_767 hf_769 hn_771
                refine lv_aload_n hx hb dX2_readOrder_94 rfl (lv_at hl 2 rfl) ?_
                refine lv_dup hx hb dX2_readOrder_95 rfl ?_
                have hf_777 := xk_off hn_771 hf_763 hf_769 (xk_on1 (by decide))
                refine xk_get B hI_773 hf_777 rfl in_X2 17 (by decide) q1449 rfl dX2_readOrder_96 ?_
                refine lv_iconst (v := nI 1) hx hb dX2_readOrder_99 (by decide) ?_
                refine lv_iadd hx hb dX2_readOrder_100 (xk_top (nI_add _ _) ?_)
                refine xk_put B hI_773 hf_777 rfl in_X2 tyX2 tyX2_ok nmX2 17 (by decide) q1449 rfl rfl rfl (Nat.le_of_ble_eq_true rfl) dX2_readOrder_101 (fun X_778 H_782 L_783 hf_780 hn_779 hI_781 => ?_)
                have hf_780 : X_778 o = some ((o, 0), .inr (0, [.ref (ad 0), .ref (ad 1), .ref (ad 2), .ref (ad 3), .int (nI (S 0)), .ref (ad 4), .int (nI (S 1)), .int (nI (S 2)), .int (nI (S 3)), .int (tm_it (S 4)), .ref (ad 5), .int (nI (S 5)), .ref (ad 6), .ref (ad 7), .ref (ad 8), .int (nI (S 6)), .ref (ad 9), .int (nI (S 7 + 1)), .int (nI (S 8 + 1)), .int (nI (S 9)), .int (nI 0)])) := hf_780
                have hfr_784 := xk_fr.put hfr_776 hf_777 hn_779
                refine lv_iload_n hx hb dX2_readOrder_104 rfl (lv_at hl 0 rfl) ?_
                refine xk_top hc_52 ?_
                refine lv_lookup (tgt := 242) (off := 137) hx hb dX2_readOrder_105 (by decide) (by rw [nI_toInt (by decide)]; decide) (by decide) ?_
                refine lv_aload_n hx hb dX2_readOrder_242 rfl (lv_at hl 2 rfl) ?_
                refine xk_get B hI_781 hf_780 rfl in_X2 16 (by decide) q1448 rfl dX2_readOrder_243 ?_
                refine lv_iload_n hx hb dX2_readOrder_246 rfl (lv_at hl 1 rfl) ?_
                refine lv_iconst (v := nI 1) hx hb dX2_readOrder_247 (by decide) ?_
                refine lv_iadd hx hb dX2_readOrder_248 (xk_top (nI_add _ _) ?_)
                refine lv_aload_n hx hb dX2_readOrder_249 rfl (lv_at hl 2 rfl) ?_
                refine lv_iconst (v := nI 3) hx hb dX2_readOrder_250 (by decide) ?_
                have hf_785 := xk_off hn_755 hA0 hO (xk_on1 (by decide))
                have hf_786 := xk_off hn_762 hf_785 hf_756 (xk_on1 (by decide))
                have hf_787 := xk_off hn_771 hf_786 hf_769 (xk_on1 (by decide))
                have hf_788 := xk_off hn_779 hf_787 hf_777 (xk_on1 (by decide))
                have hf_789 := xk_off hn_755 hA1 hO (xk_on1 (by decide))
                have hf_790 := xk_off hn_762 hf_789 hf_756 (xk_on1 (by decide))
                have hf_791 := xk_off hn_771 hf_790 hf_769 (xk_on1 (by decide))
                have hf_792 := xk_off hn_779 hf_791 hf_777 (xk_on1 (by decide))
                have hf_793 := xk_off hn_755 hA2 hO (xk_on1 (by decide))
                have hf_794 := xk_off hn_762 hf_793 hf_756 (xk_on1 (by decide))
                have hf_795 := xk_off hn_771 hf_794 hf_769 (xk_on1 (by decide))
                have hf_796 := xk_off hn_779 hf_795 hf_777 (xk_on1 (by decide))
                have hf_797 := xk_off hn_755 hA3 hO (xk_on1 (by decide))
                have hf_798 := xk_off hn_762 hf_797 hf_756 (xk_on1 (by decide))
                have hf_799 := xk_off hn_771 hf_798 hf_769 (xk_on1 (by decide))
                have hf_800 := xk_off hn_779 hf_799 hf_777 (xk_on1 (by decide))
                have hf_801 := xk_off hn_755 hA4 hO (xk_on1 (by decide))
                have hf_802 := xk_off hn_762 hf_801 hf_756 (xk_on1 (by decide))
                have hf_803 := xk_off hn_771 hf_802 hf_769 (xk_on1 (by decide))
                have hf_804 := xk_off hn_779 hf_803 hf_777 (xk_on1 (by decide))
                have hf_805 := xk_off hn_755 hA5 hO (xk_on1 (by decide))
                have hf_806 := xk_off hn_762 hf_805 hf_756 (xk_on1 (by decide))
                have hf_807 := xk_off hn_771 hf_806 hf_769 (xk_on1 (by decide))
                have hf_808 := xk_off hn_779 hf_807 hf_777 (xk_on1 (by decide))
                have hf_809 := xk_off hn_755 hA6 hO (xk_on1 (by decide))
                have hf_810 := xk_off hn_762 hf_809 hf_756 (xk_on1 (by decide))
                have hf_811 := xk_off hn_771 hf_810 hf_769 (xk_on1 (by decide))
                have hf_812 := xk_off hn_779 hf_811 hf_777 (xk_on1 (by decide))
                have hf_813 := xk_off hn_755 hA7 hO (xk_on1 (by decide))
                have hf_814 := xk_off hn_762 hf_813 hf_756 (xk_on1 (by decide))
                have hf_815 := xk_off hn_771 hf_814 hf_769 (xk_on1 (by decide))
                have hf_816 := xk_off hn_779 hf_815 hf_777 (xk_on1 (by decide))
                have hf_817 := xk_off hn_755 hA8 hO (xk_on1 (by decide))
                have hf_818 := xk_off hn_762 hf_817 hf_756 (xk_on1 (by decide))
                have hf_819 := xk_off hn_771 hf_818 hf_769 (xk_on1 (by decide))
                have hf_820 := xk_off hn_779 hf_819 hf_777 (xk_on1 (by decide))
                have hf_821 := xk_off hn_779 hf_772 hf_777 (xk_on1 (by decide))
                have hM_822 : tm_Ok g X_778 o ad (va_up A 9 (va_up (A 9) (4 * (S 7)) 121)) (va_up (va_up (va_up S 7 (S 7 + 1)) 8 (S 8 + 1)) 10 0) := ⟨hf_780, hf_788, hf_792, hf_796, hf_800, hf_804, hf_808, hf_812, hf_816, hf_820, hf_821⟩
                refine xk_ri (xk_cV B hI_781 hl [.int (nI 3)] [.int (nI (4 * (S 7) + 1)), .ref (ad 9)] 1 (m2_number g hM_822 (mo := 3) (by decide) (by decide) (show S 8 + 1 ≤ S 9 from by omega) (show S 9 ≤ 70 from by omega) (show S 8 + 1 ≤ 70 from by omega) (show 0 ≤ 1 from by omega) ht9) hf_780 rfl (lw_V q1747 q1749 qs61 q79 q1750) ⟨rfl, by decide +kernel, by decide +kernel, by decide +kernel⟩ ⟨Nat.le_of_ble_eq_true rfl, Nat.le_of_ble_eq_true rfl⟩ rfl rfl (Nat.le_of_ble_eq_true rfl) dX2_readOrder_251 (Nat.le_of_ble_eq_true rfl) (Nat.le_of_ble_eq_true rfl)) hI_781 (fun X_826 H_824 L_825 hq_827 hI_823 => ?_)
                refine xk_top (y := nI ((tl_num (A 5) (S 9) (0) (S 8 + 1) 3).1)) rfl ?_
                obtain ⟨hM_828, hfr_829⟩ := hq_827
                obtain ⟨hf_830, hf_831, hf_832, hf_833, hf_834, hf_835, hf_836, hf_837, hf_838, hf_839, hf_840⟩ := id hM_828
                have hfr_841 := xk_fr.tr hfr_784 hfr_829
                have hf_831 : X_826 (ad 0) = some ((o, 1), xk_iA g 0 294 (A 0)) := hf_831
                have hf_832 : X_826 (ad 1) = some ((o, 2), xk_iA g 0 294 (A 1)) := hf_832
                have hf_833 : X_826 (ad 2) = some ((o, 3), xk_iA g 0 294 (A 2)) := hf_833
                have hf_834 : X_826 (ad 3) = some ((o, 4), xk_iA g 0 294 (A 3)) := hf_834
                have hf_835 : X_826 (ad 4) = some ((o, 5), xk_iA g 0 2352 (A 4)) := hf_835
                have hf_836 : X_826 (ad 5) = some ((o, 6), xk_iA g 0 70 (A 5)) := hf_836
                have hf_837 : X_826 (ad 6) = some ((o, 7), xk_iA g 2 40 (A 6)) := hf_837
                have hf_838 : X_826 (ad 7) = some ((o, 8), xk_iA g 2 40 (A 7)) := hf_838
                have hf_839 : X_826 (ad 8) = some ((o, 9), xk_iA g 0 60 (A 8)) := hf_839
                have hf_840 : X_826 (ad 9) = some ((o, 10), xk_iA g 0 284 (va_up (A 9) (4 * (S 7)) 121)) := hf_840
                have hf_830 : X_826 o = some ((o, 0), .inr (0, [.ref (ad 0), .ref (ad 1), .ref (ad 2), .ref (ad 3), .int (nI (S 0)), .ref (ad 4), .int (nI (S 1)), .int (nI (S 2)), .int (nI (S 3)), .int (tm_it (S 4)), .ref (ad 5), .int (nI (S 5)), .ref (ad 6), .ref (ad 7), .ref (ad 8), .int (nI (S 6)), .ref (ad 9), .int (nI (S 7 + 1)), .int (nI ((tl_num (A 5) (S 9) (0) (S 8 + 1) 3).2)), .int (nI (S 9)), .int (nI (tl_dgw (A 5) (S 9) (0) (S 8 + 1)))])) := hf_830
                have hw254 := tl_dgw_le (A 5) (S 9) (0) (S 8 + 1)
                have hz254 : (tl_num (A 5) (S 9) (0) (S 8 + 1) 3).2 ≤ (S 9) := tl_num_z (by omega)
                refine xk_iast B hI_823 hf_840 (by omega) (by decide) dX2_readOrder_254 (fun X_842 H_846 L_847 hf_844 hn_843 hI_845 => ?_)
                have hfr_848 := xk_fr.put hfr_841 hf_840 hn_843
                have hf_849 := xk_off hn_843 hf_830 hf_840 (xk_on1 (by decide))
                have hf_850 := xk_off hn_843 hf_831 hf_840 (xk_on1 (by decide))
                have hf_851 := xk_off hn_843 hf_832 hf_840 (xk_on1 (by decide))
                have hf_852 := xk_off hn_843 hf_833 hf_840 (xk_on1 (by decide))
                have hf_853 := xk_off hn_843 hf_834 hf_840 (xk_on1 (by decide))
                have hf_854 := xk_off hn_843 hf_835 hf_840 (xk_on1 (by decide))
                have hf_855 := xk_off hn_843 hf_836 hf_840 (xk_on1 (by decide))
                have hf_856 := xk_off hn_843 hf_837 hf_840 (xk_on1 (by decide))
                have hf_857 := xk_off hn_843 hf_838 hf_840 (xk_on1 (by decide))
                have hf_858 := xk_off hn_843 hf_839 hf_840 (xk_on1 (by decide))
                have hM_859 : tm_Ok g X_842 o ad (va_up A 9 (va_up (va_up (A 9) (4 * (S 7)) 121) (4 * (S 7) + 1) ((tl_num (A 5) (S 9) (0) (S 8 + 1) 3).1))) (va_up (va_up (va_up S 7 (S 7 + 1)) 8 ((tl_num (A 5) (S 9) (0) (S 8 + 1) 3).2)) 10 (tl_dgw (A 5) (S 9) (0) (S 8 + 1))) := ⟨hf_849, hf_850, hf_851, hf_852, hf_853, hf_854, hf_855, hf_856, hf_857, hf_858, hf_844⟩
                exact xk_retv B hI_845 hr dX2_readOrder_255 (Nat.le_of_ble_eq_true rfl) (Nat.le_of_ble_eq_true rfl) ((by rw [show tl_isl (tl_hc (A 5) (S 9) (S 8)) = true from decide_eq_true (by omega), show tl_oS (A 5) (S 9) (S 8) (tl_hc (A 5) (S 9) (S 8)) = tl_sN (A 5) (S 9) 3 (0, S 8 + 1) from by unfold tl_oS; rw [if_neg (by omega), if_neg (by omega), if_neg (by omega)], show tl_oA (A 5) (S 9) (S 7) (S 8) (tl_hc (A 5) (S 9) (S 8)) (A 9) = va_up (va_up (A 9) (4 * (S 7)) 121) (4 * (S 7) + 1) ((tl_num (A 5) (S 9) (0) (S 8 + 1) 3).1) from by unfold tl_oA; rw [if_neg (by omega), if_neg (by omega), if_neg (by omega), hh]; rfl]; exact ⟨rfl, hM_859, hfr_848⟩))
              · refine lv_iload_n hx hb dX2_readOrder_55 rfl (lv_at hl 0 rfl) ?_
                refine lv_bipush (v := nI 104) hx hb dX2_readOrder_56 (by decide) ?_
                refine lv_icmp_eq (tgt := 65) hx hb dX2_readOrder_58 (by decide) (fun hc_58 => ?_) (fun hc_58 => ?_)
                · have hh : tl_hc (A 5) (S 9) (S 8) = 105 := (tl_d_eq (by omega) (by decide)).mp hc_58
                  have hlt := tl_hc_z (t := A 5) (z := S 9) (pl := S 8) (by omega)
                  refine lv_iconst (v := nI 0) hx hb dX2_readOrder_65 (by decide) ?_
                  refine xk_put B hI_1 hO rfl in_X2 tyX2 tyX2_ok nmX2 20 (by decide) q1452 rfl (by decide) (by decide) (Nat.le_of_ble_eq_true rfl) dX2_readOrder_66 (fun X_860 H_864 L_865 hf_862 hn_861 hI_863 => ?_)
                  have hf_862 : X_860 o = some ((o, 0), .inr (0, [.ref (ad 0), .ref (ad 1), .ref (ad 2), .ref (ad 3), .int (nI (S 0)), .ref (ad 4), .int (nI (S 1)), .int (nI (S 2)), .int (nI (S 3)), .int (tm_it (S 4)), .ref (ad 5), .int (nI (S 5)), .ref (ad 6), .ref (ad 7), .ref (ad 8), .int (nI (S 6)), .ref (ad 9), .int (nI (S 7)), .int (nI (S 8)), .int (nI (S 9)), .int (nI 0)])) := hf_862
                  have hfr_866 := xk_fr.put hfr hO hn_861
                  refine lv_aload_n hx hb dX2_readOrder_69 rfl (lv_at hl 2 rfl) ?_
                  refine xk_get B hI_863 hf_862 rfl in_X2 20 (by decide) q1452 rfl dX2_readOrder_70 ?_
                  refine xk_if_eq_t (tgt := 77) hx hb (by omega) dX2_readOrder_73 (by decide) (by decide) ?_
                  refine lv_aload_n hx hb dX2_readOrder_77 rfl (lv_at hl 2 rfl) ?_
                  refine lv_dup hx hb dX2_readOrder_78 rfl ?_
                  refine xk_get B hI_863 hf_862 rfl in_X2 18 (by decide) q1450 rfl dX2_readOrder_79 ?_
                  refine lv_iconst (v := nI 1) hx hb dX2_readOrder_82 (by decide) ?_
                  refine lv_iadd hx hb dX2_readOrder_83 (xk_top (nI_add _ _) ?_)
                  refine xk_put B hI_863 hf_862 rfl in_X2 tyX2 tyX2_ok nmX2 18 (by decide) q1450 rfl rfl rfl (Nat.le_of_ble_eq_true rfl) dX2_readOrder_84 (fun X_867 H_871 L_872 hf_869 hn_868 hI_870 => ?_)
                  have hf_869 : X_867 o = some ((o, 0), .inr (0, [.ref (ad 0), .ref (ad 1), .ref (ad 2), .ref (ad 3), .int (nI (S 0)), .ref (ad 4), .int (nI (S 1)), .int (nI (S 2)), .int (nI (S 3)), .int (tm_it (S 4)), .ref (ad 5), .int (nI (S 5)), .ref (ad 6), .ref (ad 7), .ref (ad 8), .int (nI (S 6)), .ref (ad 9), .int (nI (S 7)), .int (nI (S 8 + 1)), .int (nI (S 9)), .int (nI 0)])) := hf_869
                  have hfr_873 := xk_fr.put hfr_866 hf_862 hn_868
                  refine lv_aload_n hx hb dX2_readOrder_87 rfl (lv_at hl 2 rfl) ?_
                  refine xk_get B hI_870 hf_869 rfl in_X2 16 (by decide) q1448 rfl dX2_readOrder_88 ?_
                  refine lv_iload_n hx hb dX2_readOrder_91 rfl (lv_at hl 1 rfl) ?_
                  refine lv_iload_n hx hb dX2_readOrder_92 rfl (lv_at hl 0 rfl) ?_
                  refine xk_top hc_58 ?_
                  have hf_874 := xk_off hn_861 hA9 hO (xk_on1 (by decide))
                  have hf_875 := xk_off hn_868 hf_874 hf_862 (xk_on1 (by decide))
                  refine xk_iast B hI_870 hf_875 (by omega) (by decide) dX2_readOrder_93 (fun X_876 H_880 L_881 hf_878 hn_877 hI_879 => ?_)
                  have hfr_882 := xk_fr.put hfr_873 hf_875 hn_877
                  refine lv_aload_n hx hb dX2_readOrder_94 rfl (lv_at hl 2 rfl) ?_
                  refine lv_dup hx hb dX2_readOrder_95 rfl ?_
                  have hf_883 := xk_off hn_877 hf_869 hf_875 (xk_on1 (by decide))
                  refine xk_get B hI_879 hf_883 rfl in_X2 17 (by decide) q1449 rfl dX2_readOrder_96 ?_
                  refine lv_iconst (v := nI 1) hx hb dX2_readOrder_99 (by decide) ?_
                  refine lv_iadd hx hb dX2_readOrder_100 (xk_top (nI_add _ _) ?_)
                  refine xk_put B hI_879 hf_883 rfl in_X2 tyX2 tyX2_ok nmX2 17 (by decide) q1449 rfl rfl rfl (Nat.le_of_ble_eq_true rfl) dX2_readOrder_101 (fun X_884 H_888 L_889 hf_886 hn_885 hI_887 => ?_)
                  have hf_886 : X_884 o = some ((o, 0), .inr (0, [.ref (ad 0), .ref (ad 1), .ref (ad 2), .ref (ad 3), .int (nI (S 0)), .ref (ad 4), .int (nI (S 1)), .int (nI (S 2)), .int (nI (S 3)), .int (tm_it (S 4)), .ref (ad 5), .int (nI (S 5)), .ref (ad 6), .ref (ad 7), .ref (ad 8), .int (nI (S 6)), .ref (ad 9), .int (nI (S 7 + 1)), .int (nI (S 8 + 1)), .int (nI (S 9)), .int (nI 0)])) := hf_886
                  have hfr_890 := xk_fr.put hfr_882 hf_883 hn_885
                  refine lv_iload_n hx hb dX2_readOrder_104 rfl (lv_at hl 0 rfl) ?_
                  refine xk_top hc_58 ?_
                  refine lv_lookup (tgt := 209) (off := 104) hx hb dX2_readOrder_105 (by decide) (by rw [nI_toInt (by decide)]; decide) (by decide) ?_
                  refine lv_aload_n hx hb dX2_readOrder_209 rfl (lv_at hl 2 rfl) ?_
                  refine xk_get B hI_887 hf_886 rfl in_X2 16 (by decide) q1448 rfl dX2_readOrder_210 ?_
                  refine lv_iload_n hx hb dX2_readOrder_213 rfl (lv_at hl 1 rfl) ?_
                  refine lv_iconst (v := nI 1) hx hb dX2_readOrder_214 (by decide) ?_
                  refine lv_iadd hx hb dX2_readOrder_215 (xk_top (nI_add _ _) ?_)
                  refine lv_aload_n hx hb dX2_readOrder_216 rfl (lv_at hl 2 rfl) ?_
                  have hf_891 := xk_off hn_861 hA0 hO (xk_on1 (by decide))
                  have hf_892 := xk_off hn_868 hf_891 hf_862 (xk_on1 (by decide))
                  have hf_893 := xk_off hn_877 hf_892 hf_875 (xk_on1 (by decide))
                  have hf_894 := xk_off hn_885 hf_893 hf_883 (xk_on1 (by decide))
                  have hf_895 := xk_off hn_861 hA1 hO (xk_on1 (by decide))
                  have hf_896 := xk_off hn_868 hf_895 hf_862 (xk_on1 (by decide))
                  have hf_897 := xk_off hn_877 hf_896 hf_875 (xk_on1 (by decide))
                  have hf_898 := xk_off hn_885 hf_897 hf_883 (xk_on1 (by decide))
                  have hf_899 := xk_off hn_861 hA2 hO (xk_on1 (by decide))
                  have hf_900 := xk_off hn_868 hf_899 hf_862 (xk_on1 (by decide))
                  have hf_901 := xk_off hn_877 hf_900 hf_875 (xk_on1 (by decide))
                  have hf_902 := xk_off hn_885 hf_901 hf_883 (xk_on1 (by decide))
                  have hf_903 := xk_off hn_861 hA3 hO (xk_on1 (by decide))
                  have hf_904 := xk_off hn_868 hf_903 hf_862 (xk_on1 (by decide))
                  have hf_905 := xk_off hn_877 hf_904 hf_875 (xk_on1 (by decide))
                  have hf_906 := xk_off hn_885 hf_905 hf_883 (xk_on1 (by decide))
                  have hf_907 := xk_off hn_861 hA4 hO (xk_on1 (by decide))
                  have hf_908 := xk_off hn_868 hf_907 hf_862 (xk_on1 (by decide))
                  have hf_909 := xk_off hn_877 hf_908 hf_875 (xk_on1 (by decide))
                  have hf_910 := xk_off hn_885 hf_909 hf_883 (xk_on1 (by decide))
                  have hf_911 := xk_off hn_861 hA5 hO (xk_on1 (by decide))
                  have hf_912 := xk_off hn_868 hf_911 hf_862 (xk_on1 (by decide))
                  have hf_913 := xk_off hn_877 hf_912 hf_875 (xk_on1 (by decide))
                  have hf_914 := xk_off hn_885 hf_913 hf_883 (xk_on1 (by decide))
                  have hf_915 := xk_off hn_861 hA6 hO (xk_on1 (by decide))
                  have hf_916 := xk_off hn_868 hf_915 hf_862 (xk_on1 (by decide))
                  have hf_917 := xk_off hn_877 hf_916 hf_875 (xk_on1 (by decide))
                  have hf_918 := xk_off hn_885 hf_917 hf_883 (xk_on1 (by decide))
                  have hf_919 := xk_off hn_861 hA7 hO (xk_on1 (by decide))
                  have hf_920 := xk_off hn_868 hf_919 hf_862 (xk_on1 (by decide))
                  have hf_921 := xk_off hn_877 hf_920 hf_875 (xk_on1 (by decide))
                  have hf_922 := xk_off hn_885 hf_921 hf_883 (xk_on1 (by decide))
                  have hf_923 := xk_off hn_861 hA8 hO (xk_on1 (by decide))
                  have hf_924 := xk_off hn_868 hf_923 hf_862 (xk_on1 (by decide))
                  have hf_925 := xk_off hn_877 hf_924 hf_875 (xk_on1 (by decide))
                  have hf_926 := xk_off hn_885 hf_925 hf_883 (xk_on1 (by decide))
                  have hf_927 := xk_off hn_885 hf_878 hf_883 (xk_on1 (by decide))
                  have hM_928 : tm_Ok g X_884 o ad (va_up A 9 (va_up (A 9) (4 * (S 7)) 104)) (va_up (va_up (va_up S 7 (S 7 + 1)) 8 (S 8 + 1)) 10 0) := ⟨hf_886, hf_894, hf_898, hf_902, hf_906, hf_910, hf_914, hf_918, hf_922, hf_926, hf_927⟩
                  refine xk_ri (xk_cV B hI_887 hl [] [.int (nI (4 * (S 7) + 1)), .ref (ad 9)] 0 (m2_digit g hM_928 (show S 9 ≤ 70 from by omega) (show S 8 + 1 ≤ 70 from by omega) (show 0 ≤ 1 from by omega) ht9) hf_886 rfl (lw_V q1751 q1753 qs62 q79 q1754) ⟨rfl, by decide +kernel, by decide +kernel, by decide +kernel⟩ ⟨Nat.le_of_ble_eq_true rfl, Nat.le_of_ble_eq_true rfl⟩ rfl rfl (Nat.le_of_ble_eq_true rfl) dX2_readOrder_217 (Nat.le_of_ble_eq_true rfl) (Nat.le_of_ble_eq_true rfl)) hI_887 (fun X_932 H_930 L_931 hq_933 hI_929 => ?_)
                  refine xk_top (y := nI (tl_dgv (A 5) (S 9) (0) (S 8 + 1))) rfl ?_
                  obtain ⟨hM_934, hfr_935⟩ := hq_933
                  obtain ⟨hf_936, hf_937, hf_938, hf_939, hf_940, hf_941, hf_942, hf_943, hf_944, hf_945, hf_946⟩ := id hM_934
                  have hfr_947 := xk_fr.tr hfr_890 hfr_935
                  have hf_937 : X_932 (ad 0) = some ((o, 1), xk_iA g 0 294 (A 0)) := hf_937
                  have hf_938 : X_932 (ad 1) = some ((o, 2), xk_iA g 0 294 (A 1)) := hf_938
                  have hf_939 : X_932 (ad 2) = some ((o, 3), xk_iA g 0 294 (A 2)) := hf_939
                  have hf_940 : X_932 (ad 3) = some ((o, 4), xk_iA g 0 294 (A 3)) := hf_940
                  have hf_941 : X_932 (ad 4) = some ((o, 5), xk_iA g 0 2352 (A 4)) := hf_941
                  have hf_942 : X_932 (ad 5) = some ((o, 6), xk_iA g 0 70 (A 5)) := hf_942
                  have hf_943 : X_932 (ad 6) = some ((o, 7), xk_iA g 2 40 (A 6)) := hf_943
                  have hf_944 : X_932 (ad 7) = some ((o, 8), xk_iA g 2 40 (A 7)) := hf_944
                  have hf_945 : X_932 (ad 8) = some ((o, 9), xk_iA g 0 60 (A 8)) := hf_945
                  have hf_946 : X_932 (ad 9) = some ((o, 10), xk_iA g 0 284 (va_up (A 9) (4 * (S 7)) 104)) := hf_946
                  have hf_936 : X_932 o = some ((o, 0), .inr (0, [.ref (ad 0), .ref (ad 1), .ref (ad 2), .ref (ad 3), .int (nI (S 0)), .ref (ad 4), .int (nI (S 1)), .int (nI (S 2)), .int (nI (S 3)), .int (tm_it (S 4)), .ref (ad 5), .int (nI (S 5)), .ref (ad 6), .ref (ad 7), .ref (ad 8), .int (nI (S 6)), .ref (ad 9), .int (nI (S 7 + 1)), .int (nI (tl_stp (tl_dgw (A 5) (S 9) (0) (S 8 + 1)) (S 8 + 1))), .int (nI (S 9)), .int (nI (tl_dgw (A 5) (S 9) (0) (S 8 + 1)))])) := hf_936
                  have hd220 := tl_dgv_le (A 5) (S 9) (0) (S 8 + 1)
                  have hw220 := tl_dgw_le (A 5) (S 9) (0) (S 8 + 1)
                  have hz220 : tl_stp (tl_dgw (A 5) (S 9) (0) (S 8 + 1)) (S 8 + 1) ≤ (S 9) := tl_dgw_z (by omega)
                  refine xk_iast B hI_929 hf_946 (by omega) (by decide) dX2_readOrder_220 (fun X_948 H_952 L_953 hf_950 hn_949 hI_951 => ?_)
                  have hfr_954 := xk_fr.put hfr_947 hf_946 hn_949
                  refine lv_aload_n hx hb dX2_readOrder_221 rfl (lv_at hl 2 rfl) ?_
                  refine lv_bipush (v := nI 61) hx hb dX2_readOrder_222 (by decide) ?_
                  have hf_955 := xk_off hn_949 hf_936 hf_946 (xk_on1 (by decide))
                  have hf_956 := xk_off hn_949 hf_937 hf_946 (xk_on1 (by decide))
                  have hf_957 := xk_off hn_949 hf_938 hf_946 (xk_on1 (by decide))
                  have hf_958 := xk_off hn_949 hf_939 hf_946 (xk_on1 (by decide))
                  have hf_959 := xk_off hn_949 hf_940 hf_946 (xk_on1 (by decide))
                  have hf_960 := xk_off hn_949 hf_941 hf_946 (xk_on1 (by decide))
                  have hf_961 := xk_off hn_949 hf_942 hf_946 (xk_on1 (by decide))
                  have hf_962 := xk_off hn_949 hf_943 hf_946 (xk_on1 (by decide))
                  have hf_963 := xk_off hn_949 hf_944 hf_946 (xk_on1 (by decide))
                  have hf_964 := xk_off hn_949 hf_945 hf_946 (xk_on1 (by decide))
                  have hM_965 : tm_Ok g X_948 o ad (va_up A 9 (va_up (va_up (A 9) (4 * (S 7)) 104) (4 * (S 7) + 1) (tl_dgv (A 5) (S 9) (0) (S 8 + 1)))) (va_up (va_up (va_up S 7 (S 7 + 1)) 8 (tl_stp (tl_dgw (A 5) (S 9) (0) (S 8 + 1)) (S 8 + 1))) 10 (tl_dgw (A 5) (S 9) (0) (S 8 + 1))) := ⟨hf_955, hf_956, hf_957, hf_958, hf_959, hf_960, hf_961, hf_962, hf_963, hf_964, hf_950⟩
                  refine xk_rv (xk_cV B hI_951 hl [.int (nI 61)] [] 1 (m2_expects g hM_965 (c9 := 61) (by decide) (show S 9 ≤ 70 from by omega) (show tl_stp (tl_dgw (A 5) (S 9) (0) (S 8 + 1)) (S 8 + 1) ≤ 70 from by omega) (show tl_dgw (A 5) (S 9) (0) (S 8 + 1) ≤ 1 from by omega) ht9) hf_955 rfl (lw_V q1757 q1759 qs63 q79 q1760) ⟨rfl, by decide +kernel, by decide +kernel, by decide +kernel⟩ ⟨Nat.le_of_ble_eq_true rfl, Nat.le_of_ble_eq_true rfl⟩ rfl rfl (Nat.le_of_ble_eq_true rfl) dX2_readOrder_224 (Nat.le_of_ble_eq_true rfl) (Nat.le_of_ble_eq_true rfl)) hI_951 (fun X_969 H_967 L_968 hq_970 hI_966 => ?_)
                  obtain ⟨hM_971, hfr_972⟩ := hq_970
                  obtain ⟨hf_973, hf_974, hf_975, hf_976, hf_977, hf_978, hf_979, hf_980, hf_981, hf_982, hf_983⟩ := id hM_971
                  have hfr_984 := xk_fr.tr hfr_954 hfr_972
                  have hf_974 : X_969 (ad 0) = some ((o, 1), xk_iA g 0 294 (A 0)) := hf_974
                  have hf_975 : X_969 (ad 1) = some ((o, 2), xk_iA g 0 294 (A 1)) := hf_975
                  have hf_976 : X_969 (ad 2) = some ((o, 3), xk_iA g 0 294 (A 2)) := hf_976
                  have hf_977 : X_969 (ad 3) = some ((o, 4), xk_iA g 0 294 (A 3)) := hf_977
                  have hf_978 : X_969 (ad 4) = some ((o, 5), xk_iA g 0 2352 (A 4)) := hf_978
                  have hf_979 : X_969 (ad 5) = some ((o, 6), xk_iA g 0 70 (A 5)) := hf_979
                  have hf_980 : X_969 (ad 6) = some ((o, 7), xk_iA g 2 40 (A 6)) := hf_980
                  have hf_981 : X_969 (ad 7) = some ((o, 8), xk_iA g 2 40 (A 7)) := hf_981
                  have hf_982 : X_969 (ad 8) = some ((o, 9), xk_iA g 0 60 (A 8)) := hf_982
                  have hf_983 : X_969 (ad 9) = some ((o, 10), xk_iA g 0 284 (va_up (va_up (A 9) (4 * (S 7)) 104) (4 * (S 7) + 1) (tl_dgv (A 5) (S 9) (0) (S 8 + 1)))) := hf_983
                  have hf_973 : X_969 o = some ((o, 0), .inr (0, [.ref (ad 0), .ref (ad 1), .ref (ad 2), .ref (ad 3), .int (nI (S 0)), .ref (ad 4), .int (nI (S 1)), .int (nI (S 2)), .int (nI (S 3)), .int (tm_it (S 4)), .ref (ad 5), .int (nI (S 5)), .ref (ad 6), .ref (ad 7), .ref (ad 8), .int (nI (S 6)), .ref (ad 9), .int (nI (S 7 + 1)), .int (nI (tl_stp (tl_exw (A 5) (S 9) (tl_dgw (A 5) (S 9) (0) (S 8 + 1)) (tl_stp (tl_dgw (A 5) (S 9) (0) (S 8 + 1)) (S 8 + 1)) 61) (tl_stp (tl_dgw (A 5) (S 9) (0) (S 8 + 1)) (S 8 + 1)))), .int (nI (S 9)), .int (nI (tl_exw (A 5) (S 9) (tl_dgw (A 5) (S 9) (0) (S 8 + 1)) (tl_stp (tl_dgw (A 5) (S 9) (0) (S 8 + 1)) (S 8 + 1)) 61))])) := hf_973
                  have hw227 := tl_exw_le (A 5) (S 9) (tl_dgw (A 5) (S 9) (0) (S 8 + 1)) (tl_stp (tl_dgw (A 5) (S 9) (0) (S 8 + 1)) (S 8 + 1)) 61
                  have hz227 : tl_stp (tl_exw (A 5) (S 9) (tl_dgw (A 5) (S 9) (0) (S 8 + 1)) (tl_stp (tl_dgw (A 5) (S 9) (0) (S 8 + 1)) (S 8 + 1)) 61) (tl_stp (tl_dgw (A 5) (S 9) (0) (S 8 + 1)) (S 8 + 1)) ≤ (S 9) := tl_exw_z (by omega)
                  refine lv_aload_n hx hb dX2_readOrder_227 rfl (lv_at hl 2 rfl) ?_
                  refine xk_get B hI_966 hf_973 rfl in_X2 16 (by decide) q1448 rfl dX2_readOrder_228 ?_
                  refine lv_iload_n hx hb dX2_readOrder_231 rfl (lv_at hl 1 rfl) ?_
                  refine lv_iconst (v := nI 2) hx hb dX2_readOrder_232 (by decide) ?_
                  refine lv_iadd hx hb dX2_readOrder_233 (xk_top (nI_add _ _) ?_)
                  refine lv_aload_n hx hb dX2_readOrder_234 rfl (lv_at hl 2 rfl) ?_
                  have hM_985 : tm_Ok g X_969 o ad (va_up A 9 (va_up (va_up (A 9) (4 * (S 7)) 104) (4 * (S 7) + 1) (tl_dgv (A 5) (S 9) (0) (S 8 + 1)))) (va_up (va_up (va_up S 7 (S 7 + 1)) 8 (tl_stp (tl_exw (A 5) (S 9) (tl_dgw (A 5) (S 9) (0) (S 8 + 1)) (tl_stp (tl_dgw (A 5) (S 9) (0) (S 8 + 1)) (S 8 + 1)) 61) (tl_stp (tl_dgw (A 5) (S 9) (0) (S 8 + 1)) (S 8 + 1)))) 10 (tl_exw (A 5) (S 9) (tl_dgw (A 5) (S 9) (0) (S 8 + 1)) (tl_stp (tl_dgw (A 5) (S 9) (0) (S 8 + 1)) (S 8 + 1)) 61)) := ⟨hf_973, hf_974, hf_975, hf_976, hf_977, hf_978, hf_979, hf_980, hf_981, hf_982, hf_983⟩
                  refine xk_ri (xk_cV B hI_966 hl [] [.int (nI (4 * (S 7) + 2)), .ref (ad 9)] 0 (m2_digit g hM_985 (show S 9 ≤ 70 from by omega) (show tl_stp (tl_exw (A 5) (S 9) (tl_dgw (A 5) (S 9) (0) (S 8 + 1)) (tl_stp (tl_dgw (A 5) (S 9) (0) (S 8 + 1)) (S 8 + 1)) 61) (tl_stp (tl_dgw (A 5) (S 9) (0) (S 8 + 1)) (S 8 + 1)) ≤ 70 from by omega) (show tl_exw (A 5) (S 9) (tl_dgw (A 5) (S 9) (0) (S 8 + 1)) (tl_stp (tl_dgw (A 5) (S 9) (0) (S 8 + 1)) (S 8 + 1)) 61 ≤ 1 from by omega) ht9) hf_973 rfl (lw_V q1751 q1753 qs62 q79 q1754) ⟨rfl, by decide +kernel, by decide +kernel, by decide +kernel⟩ ⟨Nat.le_of_ble_eq_true rfl, Nat.le_of_ble_eq_true rfl⟩ rfl rfl (Nat.le_of_ble_eq_true rfl) dX2_readOrder_235 (Nat.le_of_ble_eq_true rfl) (Nat.le_of_ble_eq_true rfl)) hI_966 (fun X_989 H_987 L_988 hq_990 hI_986 => ?_)
                  refine xk_top (y := nI (tl_dgv (A 5) (S 9) (tl_exw (A 5) (S 9) (tl_dgw (A 5) (S 9) (0) (S 8 + 1)) (tl_stp (tl_dgw (A 5) (S 9) (0) (S 8 + 1)) (S 8 + 1)) 61) (tl_stp (tl_exw (A 5) (S 9) (tl_dgw (A 5) (S 9) (0) (S 8 + 1)) (tl_stp (tl_dgw (A 5) (S 9) (0) (S 8 + 1)) (S 8 + 1)) 61) (tl_stp (tl_dgw (A 5) (S 9) (0) (S 8 + 1)) (S 8 + 1))))) rfl ?_
                  obtain ⟨hM_991, hfr_992⟩ := hq_990
                  obtain ⟨hf_993, hf_994, hf_995, hf_996, hf_997, hf_998, hf_999, hf_1000, hf_1001, hf_1002, hf_1003⟩ := id hM_991
                  have hfr_1004 := xk_fr.tr hfr_984 hfr_992
                  have hf_994 : X_989 (ad 0) = some ((o, 1), xk_iA g 0 294 (A 0)) := hf_994
                  have hf_995 : X_989 (ad 1) = some ((o, 2), xk_iA g 0 294 (A 1)) := hf_995
                  have hf_996 : X_989 (ad 2) = some ((o, 3), xk_iA g 0 294 (A 2)) := hf_996
                  have hf_997 : X_989 (ad 3) = some ((o, 4), xk_iA g 0 294 (A 3)) := hf_997
                  have hf_998 : X_989 (ad 4) = some ((o, 5), xk_iA g 0 2352 (A 4)) := hf_998
                  have hf_999 : X_989 (ad 5) = some ((o, 6), xk_iA g 0 70 (A 5)) := hf_999
                  have hf_1000 : X_989 (ad 6) = some ((o, 7), xk_iA g 2 40 (A 6)) := hf_1000
                  have hf_1001 : X_989 (ad 7) = some ((o, 8), xk_iA g 2 40 (A 7)) := hf_1001
                  have hf_1002 : X_989 (ad 8) = some ((o, 9), xk_iA g 0 60 (A 8)) := hf_1002
                  have hf_1003 : X_989 (ad 9) = some ((o, 10), xk_iA g 0 284 (va_up (va_up (A 9) (4 * (S 7)) 104) (4 * (S 7) + 1) (tl_dgv (A 5) (S 9) (0) (S 8 + 1)))) := hf_1003
                  have hf_993 : X_989 o = some ((o, 0), .inr (0, [.ref (ad 0), .ref (ad 1), .ref (ad 2), .ref (ad 3), .int (nI (S 0)), .ref (ad 4), .int (nI (S 1)), .int (nI (S 2)), .int (nI (S 3)), .int (tm_it (S 4)), .ref (ad 5), .int (nI (S 5)), .ref (ad 6), .ref (ad 7), .ref (ad 8), .int (nI (S 6)), .ref (ad 9), .int (nI (S 7 + 1)), .int (nI (tl_stp (tl_dgw (A 5) (S 9) (tl_exw (A 5) (S 9) (tl_dgw (A 5) (S 9) (0) (S 8 + 1)) (tl_stp (tl_dgw (A 5) (S 9) (0) (S 8 + 1)) (S 8 + 1)) 61) (tl_stp (tl_exw (A 5) (S 9) (tl_dgw (A 5) (S 9) (0) (S 8 + 1)) (tl_stp (tl_dgw (A 5) (S 9) (0) (S 8 + 1)) (S 8 + 1)) 61) (tl_stp (tl_dgw (A 5) (S 9) (0) (S 8 + 1)) (S 8 + 1)))) (tl_stp (tl_exw (A 5) (S 9) (tl_dgw (A 5) (S 9) (0) (S 8 + 1)) (tl_stp (tl_dgw (A 5) (S 9) (0) (S 8 + 1)) (S 8 + 1)) 61) (tl_stp (tl_dgw (A 5) (S 9) (0) (S 8 + 1)) (S 8 + 1))))), .int (nI (S 9)), .int (nI (tl_dgw (A 5) (S 9) (tl_exw (A 5) (S 9) (tl_dgw (A 5) (S 9) (0) (S 8 + 1)) (tl_stp (tl_dgw (A 5) (S 9) (0) (S 8 + 1)) (S 8 + 1)) 61) (tl_stp (tl_exw (A 5) (S 9) (tl_dgw (A 5) (S 9) (0) (S 8 + 1)) (tl_stp (tl_dgw (A 5) (S 9) (0) (S 8 + 1)) (S 8 + 1)) 61) (tl_stp (tl_dgw (A 5) (S 9) (0) (S 8 + 1)) (S 8 + 1)))))])) := hf_993
                  have hd238 := tl_dgv_le (A 5) (S 9) (tl_exw (A 5) (S 9) (tl_dgw (A 5) (S 9) (0) (S 8 + 1)) (tl_stp (tl_dgw (A 5) (S 9) (0) (S 8 + 1)) (S 8 + 1)) 61) (tl_stp (tl_exw (A 5) (S 9) (tl_dgw (A 5) (S 9) (0) (S 8 + 1)) (tl_stp (tl_dgw (A 5) (S 9) (0) (S 8 + 1)) (S 8 + 1)) 61) (tl_stp (tl_dgw (A 5) (S 9) (0) (S 8 + 1)) (S 8 + 1)))
                  have hw238 := tl_dgw_le (A 5) (S 9) (tl_exw (A 5) (S 9) (tl_dgw (A 5) (S 9) (0) (S 8 + 1)) (tl_stp (tl_dgw (A 5) (S 9) (0) (S 8 + 1)) (S 8 + 1)) 61) (tl_stp (tl_exw (A 5) (S 9) (tl_dgw (A 5) (S 9) (0) (S 8 + 1)) (tl_stp (tl_dgw (A 5) (S 9) (0) (S 8 + 1)) (S 8 + 1)) 61) (tl_stp (tl_dgw (A 5) (S 9) (0) (S 8 + 1)) (S 8 + 1)))
                  have hz238 : tl_stp (tl_dgw (A 5) (S 9) (tl_exw (A 5) (S 9) (tl_dgw (A 5) (S 9) (0) (S 8 + 1)) (tl_stp (tl_dgw (A 5) (S 9) (0) (S 8 + 1)) (S 8 + 1)) 61) (tl_stp (tl_exw (A 5) (S 9) (tl_dgw (A 5) (S 9) (0) (S 8 + 1)) (tl_stp (tl_dgw (A 5) (S 9) (0) (S 8 + 1)) (S 8 + 1)) 61) (tl_stp (tl_dgw (A 5) (S 9) (0) (S 8 + 1)) (S 8 + 1)))) (tl_stp (tl_exw (A 5) (S 9) (tl_dgw (A 5) (S 9) (0) (S 8 + 1)) (tl_stp (tl_dgw (A 5) (S 9) (0) (S 8 + 1)) (S 8 + 1)) 61) (tl_stp (tl_dgw (A 5) (S 9) (0) (S 8 + 1)) (S 8 + 1))) ≤ (S 9) := tl_dgw_z (by omega)
                  refine xk_iast B hI_986 hf_1003 (by omega) (by decide) dX2_readOrder_238 (fun X_1005 H_1009 L_1010 hf_1007 hn_1006 hI_1008 => ?_)
                  have hfr_1011 := xk_fr.put hfr_1004 hf_1003 hn_1006
                  refine lv_goto (tgt := 255) hx hb dX2_readOrder_239 (by decide) ?_
                  have hf_1012 := xk_off hn_1006 hf_993 hf_1003 (xk_on1 (by decide))
                  have hf_1013 := xk_off hn_1006 hf_994 hf_1003 (xk_on1 (by decide))
                  have hf_1014 := xk_off hn_1006 hf_995 hf_1003 (xk_on1 (by decide))
                  have hf_1015 := xk_off hn_1006 hf_996 hf_1003 (xk_on1 (by decide))
                  have hf_1016 := xk_off hn_1006 hf_997 hf_1003 (xk_on1 (by decide))
                  have hf_1017 := xk_off hn_1006 hf_998 hf_1003 (xk_on1 (by decide))
                  have hf_1018 := xk_off hn_1006 hf_999 hf_1003 (xk_on1 (by decide))
                  have hf_1019 := xk_off hn_1006 hf_1000 hf_1003 (xk_on1 (by decide))
                  have hf_1020 := xk_off hn_1006 hf_1001 hf_1003 (xk_on1 (by decide))
                  have hf_1021 := xk_off hn_1006 hf_1002 hf_1003 (xk_on1 (by decide))
                  have hM_1022 : tm_Ok g X_1005 o ad (va_up A 9 (va_up (va_up (va_up (A 9) (4 * (S 7)) 104) (4 * (S 7) + 1) (tl_dgv (A 5) (S 9) (0) (S 8 + 1))) (4 * (S 7) + 2) (tl_dgv (A 5) (S 9) (tl_exw (A 5) (S 9) (tl_dgw (A 5) (S 9) (0) (S 8 + 1)) (tl_stp (tl_dgw (A 5) (S 9) (0) (S 8 + 1)) (S 8 + 1)) 61) (tl_stp (tl_exw (A 5) (S 9) (tl_dgw (A 5) (S 9) (0) (S 8 + 1)) (tl_stp (tl_dgw (A 5) (S 9) (0) (S 8 + 1)) (S 8 + 1)) 61) (tl_stp (tl_dgw (A 5) (S 9) (0) (S 8 + 1)) (S 8 + 1)))))) (va_up (va_up (va_up S 7 (S 7 + 1)) 8 (tl_stp (tl_dgw (A 5) (S 9) (tl_exw (A 5) (S 9) (tl_dgw (A 5) (S 9) (0) (S 8 + 1)) (tl_stp (tl_dgw (A 5) (S 9) (0) (S 8 + 1)) (S 8 + 1)) 61) (tl_stp (tl_exw (A 5) (S 9) (tl_dgw (A 5) (S 9) (0) (S 8 + 1)) (tl_stp (tl_dgw (A 5) (S 9) (0) (S 8 + 1)) (S 8 + 1)) 61) (tl_stp (tl_dgw (A 5) (S 9) (0) (S 8 + 1)) (S 8 + 1)))) (tl_stp (tl_exw (A 5) (S 9) (tl_dgw (A 5) (S 9) (0) (S 8 + 1)) (tl_stp (tl_dgw (A 5) (S 9) (0) (S 8 + 1)) (S 8 + 1)) 61) (tl_stp (tl_dgw (A 5) (S 9) (0) (S 8 + 1)) (S 8 + 1))))) 10 (tl_dgw (A 5) (S 9) (tl_exw (A 5) (S 9) (tl_dgw (A 5) (S 9) (0) (S 8 + 1)) (tl_stp (tl_dgw (A 5) (S 9) (0) (S 8 + 1)) (S 8 + 1)) 61) (tl_stp (tl_exw (A 5) (S 9) (tl_dgw (A 5) (S 9) (0) (S 8 + 1)) (tl_stp (tl_dgw (A 5) (S 9) (0) (S 8 + 1)) (S 8 + 1)) 61) (tl_stp (tl_dgw (A 5) (S 9) (0) (S 8 + 1)) (S 8 + 1))))) := ⟨hf_1012, hf_1013, hf_1014, hf_1015, hf_1016, hf_1017, hf_1018, hf_1019, hf_1020, hf_1021, hf_1007⟩
                  exact xk_retv B hI_1008 hr dX2_readOrder_255 (Nat.le_of_ble_eq_true rfl) (Nat.le_of_ble_eq_true rfl) ((by rw [show tl_isl (tl_hc (A 5) (S 9) (S 8)) = true from decide_eq_true (by omega), show tl_oS (A 5) (S 9) (S 8) (tl_hc (A 5) (S 9) (S 8)) = tl_sD (A 5) (S 9) (tl_h1 (A 5) (S 9) (S 8)) from by unfold tl_oS; rw [if_neg (by omega), if_neg (by omega), if_pos hh], show tl_oA (A 5) (S 9) (S 7) (S 8) (tl_hc (A 5) (S 9) (S 8)) (A 9) = va_up (va_up (va_up (A 9) (4 * (S 7)) 104) (4 * (S 7) + 1) (tl_dgv (A 5) (S 9) (0) (S 8 + 1))) (4 * (S 7) + 2) (tl_dgv (A 5) (S 9) (tl_exw (A 5) (S 9) (tl_dgw (A 5) (S 9) (0) (S 8 + 1)) (tl_stp (tl_dgw (A 5) (S 9) (0) (S 8 + 1)) (S 8 + 1)) 61) (tl_stp (tl_exw (A 5) (S 9) (tl_dgw (A 5) (S 9) (0) (S 8 + 1)) (tl_stp (tl_dgw (A 5) (S 9) (0) (S 8 + 1)) (S 8 + 1)) 61) (tl_stp (tl_dgw (A 5) (S 9) (0) (S 8 + 1)) (S 8 + 1)))) from by unfold tl_oA; rw [if_neg (by omega), if_neg (by omega), if_pos hh, hh]; rfl]; exact ⟨rfl, hM_1022, hfr_1011⟩))
                · have hq16 : ¬ tl_hc (A 5) (S 9) (S 8) = 113 := fun z => hc_16 ((tl_d_eq (by omega) (by decide)).mpr z)
                  have hq22 : ¬ tl_hc (A 5) (S 9) (S 8) = 121 := fun z => hc_22 ((tl_d_eq (by omega) (by decide)).mpr z)
                  have hq28 : ¬ tl_hc (A 5) (S 9) (S 8) = 101 := fun z => hc_28 ((tl_d_eq (by omega) (by decide)).mpr z)
                  have hq34 : ¬ tl_hc (A 5) (S 9) (S 8) = 120 := fun z => hc_34 ((tl_d_eq (by omega) (by decide)).mpr z)
                  have hq40 : ¬ tl_hc (A 5) (S 9) (S 8) = 109 := fun z => hc_40 ((tl_d_eq (by omega) (by decide)).mpr z)
                  have hq46 : ¬ tl_hc (A 5) (S 9) (S 8) = 115 := fun z => hc_46 ((tl_d_eq (by omega) (by decide)).mpr z)
                  have hq52 : ¬ tl_hc (A 5) (S 9) (S 8) = 122 := fun z => hc_52 ((tl_d_eq (by omega) (by decide)).mpr z)
                  have hq58 : ¬ tl_hc (A 5) (S 9) (S 8) = 105 := fun z => hc_58 ((tl_d_eq (by omega) (by decide)).mpr z)
                  refine lv_iconst (v := nI 1) hx hb dX2_readOrder_61 (by decide) ?_
                  refine lv_goto (tgt := 66) hx hb dX2_readOrder_62 (by decide) ?_
                  refine xk_put B hI_1 hO rfl in_X2 tyX2 tyX2_ok nmX2 20 (by decide) q1452 rfl (by decide) (by decide) (Nat.le_of_ble_eq_true rfl) dX2_readOrder_66 (fun X_1023 H_1027 L_1028 hf_1025 hn_1024 hI_1026 => ?_)
                  have hf_1025 : X_1023 o = some ((o, 0), .inr (0, [.ref (ad 0), .ref (ad 1), .ref (ad 2), .ref (ad 3), .int (nI (S 0)), .ref (ad 4), .int (nI (S 1)), .int (nI (S 2)), .int (nI (S 3)), .int (tm_it (S 4)), .ref (ad 5), .int (nI (S 5)), .ref (ad 6), .ref (ad 7), .ref (ad 8), .int (nI (S 6)), .ref (ad 9), .int (nI (S 7)), .int (nI (S 8)), .int (nI (S 9)), .int (nI 1)])) := hf_1025
                  have hfr_1029 := xk_fr.put hfr hO hn_1024
                  refine lv_aload_n hx hb dX2_readOrder_69 rfl (lv_at hl 2 rfl) ?_
                  refine xk_get B hI_1026 hf_1025 rfl in_X2 20 (by decide) q1452 rfl dX2_readOrder_70 ?_
                  refine xk_if_eq_f (tgt := 77) hx hb (by omega) dX2_readOrder_73 (by decide) (by decide) ?_
                  have hf_1030 := xk_off hn_1024 hA0 hO (xk_on1 (by decide))
                  have hf_1031 := xk_off hn_1024 hA1 hO (xk_on1 (by decide))
                  have hf_1032 := xk_off hn_1024 hA2 hO (xk_on1 (by decide))
                  have hf_1033 := xk_off hn_1024 hA3 hO (xk_on1 (by decide))
                  have hf_1034 := xk_off hn_1024 hA4 hO (xk_on1 (by decide))
                  have hf_1035 := xk_off hn_1024 hA5 hO (xk_on1 (by decide))
                  have hf_1036 := xk_off hn_1024 hA6 hO (xk_on1 (by decide))
                  have hf_1037 := xk_off hn_1024 hA7 hO (xk_on1 (by decide))
                  have hf_1038 := xk_off hn_1024 hA8 hO (xk_on1 (by decide))
                  have hf_1039 := xk_off hn_1024 hA9 hO (xk_on1 (by decide))
                  have hM_1040 : tm_Ok g X_1023 o ad A (va_up S 10 1) := ⟨hf_1025, hf_1030, hf_1031, hf_1032, hf_1033, hf_1034, hf_1035, hf_1036, hf_1037, hf_1038, hf_1039⟩
                  exact xk_retv B hI_1026 hr dX2_readOrder_76 (Nat.le_of_ble_eq_true rfl) (Nat.le_of_ble_eq_true rfl) ((by rw [show tl_isl (tl_hc (A 5) (S 9) (S 8)) = false from decide_eq_false (fun z => by omega)]; exact ⟨rfl, hM_1040, hfr_1029⟩))
set_option maxHeartbeats 4000000 in
theorem m2_does (g : xk_G) {X : xk_H} {o : Nat} {ad : Nat → Nat} {A : Nat → Nat → Nat} {S : Nat → Nat} (hM : tm_Ok g X o ad A S) (hk : tl_inv (A 0)) {f9 : Nat} (hf9 : f9 + 3 < 284) (hL9 : A 9 f9 = 112 ∨ A 9 f9 = 120 ∨ A 9 f9 = 100 ∨ A 9 f9 = 119 ∨ A 9 f9 = 108 ∨ A 9 f9 = 114 ∨ A 9 f9 = 121 ∨ A 9 f9 = 104) : xk_C g yX2_does (ws_ yX2_does cX2_does 4 (some .int)) ({ frames := 6, cells := 0, slots := 0, locals := 141 } : Room) [.ref o, .int (nI f9)] X (xk_Qi (tl_r (tl_does (A 0) (A 9 f9) (A 9 (f9 + 1)) (A 9 (f9 + 2)) (A 9 (f9 + 3)))) (fun X1 => tm_Ok g X1 o ad (va_up A 0 (tl_m (A 0) (tl_does (A 0) (A 9 f9) (A 9 (f9 + 1)) (A 9 (f9 + 2)) (A 9 (f9 + 3))))) (tl_S S (tl_does (A 0) (A 9 f9) (A 9 (f9 + 1)) (A 9 (f9 + 2)) (A 9 (f9 + 3)))) ∧ xk_fr o X X1)) := by
  refine xk_ofW (by decide +kernel) (Nat.le_of_ble_eq_true rfl) (fun p e s m args below meth c B hr hname hargs hI ls hl => ?_)
  have B : xk_B g p s m args meth c RX2 cX2_does 4 := B
  have hl : lv_has ls 4 [(0, .ref o), (1, .int (nI f9))] := hl
  have hx := B.1
  have hb := B.2.1
  have hM0 := hM
  obtain ⟨hO, hA0, hA1, hA2, hA3, hA4, hA5, hA6, hA7, hA8, hA9⟩ := hM
  have hk0 := hk
  obtain ⟨k0, kb, kw, kl, ks, kr1, kr2, kwt, kL⟩ := hk
  have hfr : xk_fr o X X := xk_fr.rf
  refine lv_aload_n hx hb dX2_does_0 rfl (lv_at hl 0 rfl) ?_
  refine xk_get B hI hO rfl in_X2 16 (by decide) q1448 rfl dX2_does_1 ?_
  refine lv_iload_n hx hb dX2_does_4 rfl (lv_at hl 1 rfl) ?_
  refine lv_iconst (v := nI 1) hx hb dX2_does_5 (by decide) ?_
  refine lv_iadd hx hb dX2_does_6 (xk_top (nI_add _ _) ?_)
  refine xk_iald B hI hA9 (by omega) (by decide) dX2_does_7 ?_
  refine lv_istore_n (lv' := [(2, .int (nI (A 9 (f9 + 1)))), (0, .ref o), (1, .int (nI f9))]) hx hb dX2_does_8 rfl hl (by decide) rfl (fun ls hl => ?_)
  refine lv_aload_n hx hb dX2_does_9 rfl (lv_at hl 1 rfl) ?_
  refine xk_get B hI hO rfl in_X2 16 (by decide) q1448 rfl dX2_does_10 ?_
  refine lv_iload_n hx hb dX2_does_13 rfl (lv_at hl 2 rfl) ?_
  refine lv_iconst (v := nI 2) hx hb dX2_does_14 (by decide) ?_
  refine lv_iadd hx hb dX2_does_15 (xk_top (nI_add _ _) ?_)
  refine xk_iald B hI hA9 (by omega) (by decide) dX2_does_16 ?_
  refine lv_istore_n (lv' := [(3, .int (nI (A 9 (f9 + 2)))), (2, .int (nI (A 9 (f9 + 1)))), (0, .ref o), (1, .int (nI f9))]) hx hb dX2_does_17 rfl hl (by decide) rfl (fun ls hl => ?_)
  refine lv_aload_n hx hb dX2_does_18 rfl (lv_at hl 2 rfl) ?_
  refine xk_get B hI hO rfl in_X2 16 (by decide) q1448 rfl dX2_does_19 ?_
  refine lv_iload_n hx hb dX2_does_22 rfl (lv_at hl 3 rfl) ?_
  refine xk_iald B hI hA9 (by omega) (by decide) dX2_does_23 ?_
  rcases hL9 with hc112 | hc120 | hc100 | hc119 | hc108 | hc114 | hc121 | hc104
  · refine xk_top (y := nI 112) (congrArg nI hc112) ?_
    refine lv_tableIn (tgt := 128) (off := 104) hx hb dX2_does_24 (by rw [nI_toInt (by decide)]; decide) (by rw [nI_toInt (by decide)]; decide) (by rw [nI_toInt (by decide)]; decide) (by decide) ?_
    refine lv_aload_n hx hb dX2_does_128 rfl (lv_at hl 2 rfl) ?_
    refine lv_iload_n hx hb dX2_does_129 rfl (lv_at hl 1 rfl) ?_
    refine xk_ri (xk_cV B hI hl [.int (nI (A 9 (f9 + 1)))] [] 1 (m2_plantIt g hM0 hk0 (nI (A 9 (f9 + 1)))) hO rfl (lw_V q1504 q1506 qs30 q79 q1507) ⟨rfl, by decide +kernel, by decide +kernel, by decide +kernel⟩ ⟨Nat.le_of_ble_eq_true rfl, Nat.le_of_ble_eq_true rfl⟩ rfl rfl (Nat.le_of_ble_eq_true rfl) dX2_does_130 (Nat.le_of_ble_eq_true rfl) (Nat.le_of_ble_eq_true rfl)) hI (fun X_4 H_2 L_3 hq_5 hI_1 => ?_)
    refine xk_top (y := tl_r (tl_plant (A 0) (nI (A 9 (f9 + 1))))) rfl ?_
    obtain ⟨hM_6, hfr_7⟩ := hq_5
    obtain ⟨hf_8, hf_9, hf_10, hf_11, hf_12, hf_13, hf_14, hf_15, hf_16, hf_17, hf_18⟩ := id hM_6
    have hfr_19 := xk_fr.tr hfr hfr_7
    have hf_9 : X_4 (ad 0) = some ((o, 1), xk_iA g 0 294 (tl_m (A 0) (tl_plant (A 0) (nI (A 9 (f9 + 1)))))) := hf_9
    have hf_10 : X_4 (ad 1) = some ((o, 2), xk_iA g 0 294 (A 1)) := hf_10
    have hf_11 : X_4 (ad 2) = some ((o, 3), xk_iA g 0 294 (A 2)) := hf_11
    have hf_12 : X_4 (ad 3) = some ((o, 4), xk_iA g 0 294 (A 3)) := hf_12
    have hf_13 : X_4 (ad 4) = some ((o, 5), xk_iA g 0 2352 (A 4)) := hf_13
    have hf_14 : X_4 (ad 5) = some ((o, 6), xk_iA g 0 70 (A 5)) := hf_14
    have hf_15 : X_4 (ad 6) = some ((o, 7), xk_iA g 2 40 (A 6)) := hf_15
    have hf_16 : X_4 (ad 7) = some ((o, 8), xk_iA g 2 40 (A 7)) := hf_16
    have hf_17 : X_4 (ad 8) = some ((o, 9), xk_iA g 0 60 (A 8)) := hf_17
    have hf_18 : X_4 (ad 9) = some ((o, 10), xk_iA g 0 284 (A 9)) := hf_18
    have hf_8 : X_4 o = some ((o, 0), .inr (0, [.ref (ad 0), .ref (ad 1), .ref (ad 2), .ref (ad 3), .int (nI (tl_S S (tl_plant (A 0) (nI (A 9 (f9 + 1)))) 0)), .ref (ad 4), .int (nI (tl_S S (tl_plant (A 0) (nI (A 9 (f9 + 1)))) 1)), .int (nI (tl_S S (tl_plant (A 0) (nI (A 9 (f9 + 1)))) 2)), .int (nI (tl_S S (tl_plant (A 0) (nI (A 9 (f9 + 1)))) 3)), .int (tm_it (tl_S S (tl_plant (A 0) (nI (A 9 (f9 + 1)))) 4)), .ref (ad 5), .int (nI (tl_S S (tl_plant (A 0) (nI (A 9 (f9 + 1)))) 5)), .ref (ad 6), .ref (ad 7), .ref (ad 8), .int (nI (tl_S S (tl_plant (A 0) (nI (A 9 (f9 + 1)))) 6)), .ref (ad 9), .int (nI (tl_S S (tl_plant (A 0) (nI (A 9 (f9 + 1)))) 7)), .int (nI (tl_S S (tl_plant (A 0) (nI (A 9 (f9 + 1)))) 8)), .int (nI (tl_S S (tl_plant (A 0) (nI (A 9 (f9 + 1)))) 9)), .int (nI (tl_S S (tl_plant (A 0) (nI (A 9 (f9 + 1)))) 10))])) := hf_8
    have hM_20 : tm_Ok g X_4 o ad (va_up A 0 (tl_m (A 0) (tl_plant (A 0) (nI (A 9 (f9 + 1)))))) (tl_S S (tl_plant (A 0) (nI (A 9 (f9 + 1))))) := ⟨hf_8, hf_9, hf_10, hf_11, hf_12, hf_13, hf_14, hf_15, hf_16, hf_17, hf_18⟩
    exact xk_reti B hI_1 hr rfl dX2_does_133 (Nat.le_of_ble_eq_true rfl) (Nat.le_of_ble_eq_true rfl) ((by rw [show tl_does (A 0) (A 9 f9) (A 9 (f9 + 1)) (A 9 (f9 + 2)) (A 9 (f9 + 3)) = tl_plant (A 0) (nI (A 9 (f9 + 1))) from by unfold tl_does; rw [if_pos hc112]]; exact ⟨rfl, hM_20, hfr_19⟩))
  · refine xk_top (y := nI 120) (congrArg nI hc120) ?_
    refine lv_tableIn (tgt := 134) (off := 110) hx hb dX2_does_24 (by rw [nI_toInt (by decide)]; decide) (by rw [nI_toInt (by decide)]; decide) (by rw [nI_toInt (by decide)]; decide) (by decide) ?_
    refine lv_aload_n hx hb dX2_does_134 rfl (lv_at hl 2 rfl) ?_
    refine lv_iload_n hx hb dX2_does_135 rfl (lv_at hl 1 rfl) ?_
    refine lv_iload_n hx hb dX2_does_136 rfl (lv_at hl 0 rfl) ?_
    refine lv_aload_n hx hb dX2_does_137 rfl (lv_at hl 2 rfl) ?_
    refine xk_get B hI hO rfl in_X2 16 (by decide) q1448 rfl dX2_does_138 ?_
    refine lv_iload_n hx hb dX2_does_141 rfl (lv_at hl 3 rfl) ?_
    refine lv_iconst (v := nI 3) hx hb dX2_does_142 (by decide) ?_
    refine lv_iadd hx hb dX2_does_143 (xk_top (nI_add _ _) ?_)
    refine xk_iald B hI hA9 (by omega) (by decide) dX2_does_144 ?_
    refine xk_ri (xk_cV B hI hl [.int (nI (A 9 (f9 + 1))), .int (nI (A 9 (f9 + 2))), .int (nI (A 9 (f9 + 3)))] [] 3 (m2_crossIt g hM0 hk0 (nI (A 9 (f9 + 1))) (nI (A 9 (f9 + 2))) (nI (A 9 (f9 + 3)))) hO rfl (lw_V q1539 q1541 qs36 q79 q1542) ⟨rfl, by decide +kernel, by decide +kernel, by decide +kernel⟩ ⟨Nat.le_of_ble_eq_true rfl, Nat.le_of_ble_eq_true rfl⟩ rfl rfl (Nat.le_of_ble_eq_true rfl) dX2_does_145 (Nat.le_of_ble_eq_true rfl) (Nat.le_of_ble_eq_true rfl)) hI (fun X_24 H_22 L_23 hq_25 hI_21 => ?_)
    refine xk_top (y := tl_r (tl_cross (A 0) (nI (A 9 (f9 + 1))) (nI (A 9 (f9 + 2))) (nI (A 9 (f9 + 3))))) rfl ?_
    obtain ⟨hM_26, hfr_27⟩ := hq_25
    obtain ⟨hf_28, hf_29, hf_30, hf_31, hf_32, hf_33, hf_34, hf_35, hf_36, hf_37, hf_38⟩ := id hM_26
    have hfr_39 := xk_fr.tr hfr hfr_27
    have hf_29 : X_24 (ad 0) = some ((o, 1), xk_iA g 0 294 (tl_m (A 0) (tl_cross (A 0) (nI (A 9 (f9 + 1))) (nI (A 9 (f9 + 2))) (nI (A 9 (f9 + 3)))))) := hf_29
    have hf_30 : X_24 (ad 1) = some ((o, 2), xk_iA g 0 294 (A 1)) := hf_30
    have hf_31 : X_24 (ad 2) = some ((o, 3), xk_iA g 0 294 (A 2)) := hf_31
    have hf_32 : X_24 (ad 3) = some ((o, 4), xk_iA g 0 294 (A 3)) := hf_32
    have hf_33 : X_24 (ad 4) = some ((o, 5), xk_iA g 0 2352 (A 4)) := hf_33
    have hf_34 : X_24 (ad 5) = some ((o, 6), xk_iA g 0 70 (A 5)) := hf_34
    have hf_35 : X_24 (ad 6) = some ((o, 7), xk_iA g 2 40 (A 6)) := hf_35
    have hf_36 : X_24 (ad 7) = some ((o, 8), xk_iA g 2 40 (A 7)) := hf_36
    have hf_37 : X_24 (ad 8) = some ((o, 9), xk_iA g 0 60 (A 8)) := hf_37
    have hf_38 : X_24 (ad 9) = some ((o, 10), xk_iA g 0 284 (A 9)) := hf_38
    have hf_28 : X_24 o = some ((o, 0), .inr (0, [.ref (ad 0), .ref (ad 1), .ref (ad 2), .ref (ad 3), .int (nI (tl_S S (tl_cross (A 0) (nI (A 9 (f9 + 1))) (nI (A 9 (f9 + 2))) (nI (A 9 (f9 + 3)))) 0)), .ref (ad 4), .int (nI (tl_S S (tl_cross (A 0) (nI (A 9 (f9 + 1))) (nI (A 9 (f9 + 2))) (nI (A 9 (f9 + 3)))) 1)), .int (nI (tl_S S (tl_cross (A 0) (nI (A 9 (f9 + 1))) (nI (A 9 (f9 + 2))) (nI (A 9 (f9 + 3)))) 2)), .int (nI (tl_S S (tl_cross (A 0) (nI (A 9 (f9 + 1))) (nI (A 9 (f9 + 2))) (nI (A 9 (f9 + 3)))) 3)), .int (tm_it (tl_S S (tl_cross (A 0) (nI (A 9 (f9 + 1))) (nI (A 9 (f9 + 2))) (nI (A 9 (f9 + 3)))) 4)), .ref (ad 5), .int (nI (tl_S S (tl_cross (A 0) (nI (A 9 (f9 + 1))) (nI (A 9 (f9 + 2))) (nI (A 9 (f9 + 3)))) 5)), .ref (ad 6), .ref (ad 7), .ref (ad 8), .int (nI (tl_S S (tl_cross (A 0) (nI (A 9 (f9 + 1))) (nI (A 9 (f9 + 2))) (nI (A 9 (f9 + 3)))) 6)), .ref (ad 9), .int (nI (tl_S S (tl_cross (A 0) (nI (A 9 (f9 + 1))) (nI (A 9 (f9 + 2))) (nI (A 9 (f9 + 3)))) 7)), .int (nI (tl_S S (tl_cross (A 0) (nI (A 9 (f9 + 1))) (nI (A 9 (f9 + 2))) (nI (A 9 (f9 + 3)))) 8)), .int (nI (tl_S S (tl_cross (A 0) (nI (A 9 (f9 + 1))) (nI (A 9 (f9 + 2))) (nI (A 9 (f9 + 3)))) 9)), .int (nI (tl_S S (tl_cross (A 0) (nI (A 9 (f9 + 1))) (nI (A 9 (f9 + 2))) (nI (A 9 (f9 + 3)))) 10))])) := hf_28
    have hM_40 : tm_Ok g X_24 o ad (va_up A 0 (tl_m (A 0) (tl_cross (A 0) (nI (A 9 (f9 + 1))) (nI (A 9 (f9 + 2))) (nI (A 9 (f9 + 3)))))) (tl_S S (tl_cross (A 0) (nI (A 9 (f9 + 1))) (nI (A 9 (f9 + 2))) (nI (A 9 (f9 + 3))))) := ⟨hf_28, hf_29, hf_30, hf_31, hf_32, hf_33, hf_34, hf_35, hf_36, hf_37, hf_38⟩
    exact xk_reti B hI_21 hr rfl dX2_does_148 (Nat.le_of_ble_eq_true rfl) (Nat.le_of_ble_eq_true rfl) ((by rw [show tl_does (A 0) (A 9 f9) (A 9 (f9 + 1)) (A 9 (f9 + 2)) (A 9 (f9 + 3)) = tl_cross (A 0) (nI (A 9 (f9 + 1))) (nI (A 9 (f9 + 2))) (nI (A 9 (f9 + 3))) from by unfold tl_does; rw [if_neg (by omega), if_pos hc120]]; exact ⟨rfl, hM_40, hfr_39⟩))
  · refine xk_top (y := nI 100) (congrArg nI hc100) ?_
    refine lv_tableIn (tgt := 149) (off := 125) hx hb dX2_does_24 (by rw [nI_toInt (by decide)]; decide) (by rw [nI_toInt (by decide)]; decide) (by rw [nI_toInt (by decide)]; decide) (by decide) ?_
    refine lv_aload_n hx hb dX2_does_149 rfl (lv_at hl 2 rfl) ?_
    refine lv_iload_n hx hb dX2_does_150 rfl (lv_at hl 1 rfl) ?_
    refine xk_ri (xk_cV B hI hl [.int (nI (A 9 (f9 + 1)))] [] 1 (m2_dieIt g hM0 hk0 (nI (A 9 (f9 + 1)))) hO rfl (lw_V q1569 q1571 qs42 q79 q1572) ⟨rfl, by decide +kernel, by decide +kernel, by decide +kernel⟩ ⟨Nat.le_of_ble_eq_true rfl, Nat.le_of_ble_eq_true rfl⟩ rfl rfl (Nat.le_of_ble_eq_true rfl) dX2_does_151 (Nat.le_of_ble_eq_true rfl) (Nat.le_of_ble_eq_true rfl)) hI (fun X_44 H_42 L_43 hq_45 hI_41 => ?_)
    refine xk_top (y := tl_r (tl_die (A 0) (nI (A 9 (f9 + 1))))) rfl ?_
    obtain ⟨hM_46, hfr_47⟩ := hq_45
    obtain ⟨hf_48, hf_49, hf_50, hf_51, hf_52, hf_53, hf_54, hf_55, hf_56, hf_57, hf_58⟩ := id hM_46
    have hfr_59 := xk_fr.tr hfr hfr_47
    have hf_49 : X_44 (ad 0) = some ((o, 1), xk_iA g 0 294 (tl_m (A 0) (tl_die (A 0) (nI (A 9 (f9 + 1)))))) := hf_49
    have hf_50 : X_44 (ad 1) = some ((o, 2), xk_iA g 0 294 (A 1)) := hf_50
    have hf_51 : X_44 (ad 2) = some ((o, 3), xk_iA g 0 294 (A 2)) := hf_51
    have hf_52 : X_44 (ad 3) = some ((o, 4), xk_iA g 0 294 (A 3)) := hf_52
    have hf_53 : X_44 (ad 4) = some ((o, 5), xk_iA g 0 2352 (A 4)) := hf_53
    have hf_54 : X_44 (ad 5) = some ((o, 6), xk_iA g 0 70 (A 5)) := hf_54
    have hf_55 : X_44 (ad 6) = some ((o, 7), xk_iA g 2 40 (A 6)) := hf_55
    have hf_56 : X_44 (ad 7) = some ((o, 8), xk_iA g 2 40 (A 7)) := hf_56
    have hf_57 : X_44 (ad 8) = some ((o, 9), xk_iA g 0 60 (A 8)) := hf_57
    have hf_58 : X_44 (ad 9) = some ((o, 10), xk_iA g 0 284 (A 9)) := hf_58
    have hf_48 : X_44 o = some ((o, 0), .inr (0, [.ref (ad 0), .ref (ad 1), .ref (ad 2), .ref (ad 3), .int (nI (tl_S S (tl_die (A 0) (nI (A 9 (f9 + 1)))) 0)), .ref (ad 4), .int (nI (tl_S S (tl_die (A 0) (nI (A 9 (f9 + 1)))) 1)), .int (nI (tl_S S (tl_die (A 0) (nI (A 9 (f9 + 1)))) 2)), .int (nI (tl_S S (tl_die (A 0) (nI (A 9 (f9 + 1)))) 3)), .int (tm_it (tl_S S (tl_die (A 0) (nI (A 9 (f9 + 1)))) 4)), .ref (ad 5), .int (nI (tl_S S (tl_die (A 0) (nI (A 9 (f9 + 1)))) 5)), .ref (ad 6), .ref (ad 7), .ref (ad 8), .int (nI (tl_S S (tl_die (A 0) (nI (A 9 (f9 + 1)))) 6)), .ref (ad 9), .int (nI (tl_S S (tl_die (A 0) (nI (A 9 (f9 + 1)))) 7)), .int (nI (tl_S S (tl_die (A 0) (nI (A 9 (f9 + 1)))) 8)), .int (nI (tl_S S (tl_die (A 0) (nI (A 9 (f9 + 1)))) 9)), .int (nI (tl_S S (tl_die (A 0) (nI (A 9 (f9 + 1)))) 10))])) := hf_48
    have hM_60 : tm_Ok g X_44 o ad (va_up A 0 (tl_m (A 0) (tl_die (A 0) (nI (A 9 (f9 + 1)))))) (tl_S S (tl_die (A 0) (nI (A 9 (f9 + 1))))) := ⟨hf_48, hf_49, hf_50, hf_51, hf_52, hf_53, hf_54, hf_55, hf_56, hf_57, hf_58⟩
    exact xk_reti B hI_41 hr rfl dX2_does_154 (Nat.le_of_ble_eq_true rfl) (Nat.le_of_ble_eq_true rfl) ((by rw [show tl_does (A 0) (A 9 f9) (A 9 (f9 + 1)) (A 9 (f9 + 2)) (A 9 (f9 + 3)) = tl_die (A 0) (nI (A 9 (f9 + 1))) from by unfold tl_does; rw [if_neg (by omega), if_neg (by omega), if_pos hc100]]; exact ⟨rfl, hM_60, hfr_59⟩))
  · refine xk_top (y := nI 119) (congrArg nI hc119) ?_
    refine lv_tableIn (tgt := 155) (off := 131) hx hb dX2_does_24 (by rw [nI_toInt (by decide)]; decide) (by rw [nI_toInt (by decide)]; decide) (by rw [nI_toInt (by decide)]; decide) (by decide) ?_
    refine lv_aload_n hx hb dX2_does_155 rfl (lv_at hl 2 rfl) ?_
    refine lv_iload_n hx hb dX2_does_156 rfl (lv_at hl 1 rfl) ?_
    refine xk_ri (xk_cV B hI hl [.int (nI (A 9 (f9 + 1)))] [] 1 (m2_wantIt g hM0 hk0 (nI (A 9 (f9 + 1)))) hO rfl (lw_V q1577 q1579 qs43 q79 q1580) ⟨rfl, by decide +kernel, by decide +kernel, by decide +kernel⟩ ⟨Nat.le_of_ble_eq_true rfl, Nat.le_of_ble_eq_true rfl⟩ rfl rfl (Nat.le_of_ble_eq_true rfl) dX2_does_157 (Nat.le_of_ble_eq_true rfl) (Nat.le_of_ble_eq_true rfl)) hI (fun X_64 H_62 L_63 hq_65 hI_61 => ?_)
    refine xk_top (y := tl_r (tl_set (A 0) 2 (nI (A 9 (f9 + 1))) 0 255)) rfl ?_
    obtain ⟨hM_66, hfr_67⟩ := hq_65
    obtain ⟨hf_68, hf_69, hf_70, hf_71, hf_72, hf_73, hf_74, hf_75, hf_76, hf_77, hf_78⟩ := id hM_66
    have hfr_79 := xk_fr.tr hfr hfr_67
    have hf_69 : X_64 (ad 0) = some ((o, 1), xk_iA g 0 294 (tl_m (A 0) (tl_set (A 0) 2 (nI (A 9 (f9 + 1))) 0 255))) := hf_69
    have hf_70 : X_64 (ad 1) = some ((o, 2), xk_iA g 0 294 (A 1)) := hf_70
    have hf_71 : X_64 (ad 2) = some ((o, 3), xk_iA g 0 294 (A 2)) := hf_71
    have hf_72 : X_64 (ad 3) = some ((o, 4), xk_iA g 0 294 (A 3)) := hf_72
    have hf_73 : X_64 (ad 4) = some ((o, 5), xk_iA g 0 2352 (A 4)) := hf_73
    have hf_74 : X_64 (ad 5) = some ((o, 6), xk_iA g 0 70 (A 5)) := hf_74
    have hf_75 : X_64 (ad 6) = some ((o, 7), xk_iA g 2 40 (A 6)) := hf_75
    have hf_76 : X_64 (ad 7) = some ((o, 8), xk_iA g 2 40 (A 7)) := hf_76
    have hf_77 : X_64 (ad 8) = some ((o, 9), xk_iA g 0 60 (A 8)) := hf_77
    have hf_78 : X_64 (ad 9) = some ((o, 10), xk_iA g 0 284 (A 9)) := hf_78
    have hf_68 : X_64 o = some ((o, 0), .inr (0, [.ref (ad 0), .ref (ad 1), .ref (ad 2), .ref (ad 3), .int (nI (tl_S S (tl_set (A 0) 2 (nI (A 9 (f9 + 1))) 0 255) 0)), .ref (ad 4), .int (nI (tl_S S (tl_set (A 0) 2 (nI (A 9 (f9 + 1))) 0 255) 1)), .int (nI (tl_S S (tl_set (A 0) 2 (nI (A 9 (f9 + 1))) 0 255) 2)), .int (nI (tl_S S (tl_set (A 0) 2 (nI (A 9 (f9 + 1))) 0 255) 3)), .int (tm_it (tl_S S (tl_set (A 0) 2 (nI (A 9 (f9 + 1))) 0 255) 4)), .ref (ad 5), .int (nI (tl_S S (tl_set (A 0) 2 (nI (A 9 (f9 + 1))) 0 255) 5)), .ref (ad 6), .ref (ad 7), .ref (ad 8), .int (nI (tl_S S (tl_set (A 0) 2 (nI (A 9 (f9 + 1))) 0 255) 6)), .ref (ad 9), .int (nI (tl_S S (tl_set (A 0) 2 (nI (A 9 (f9 + 1))) 0 255) 7)), .int (nI (tl_S S (tl_set (A 0) 2 (nI (A 9 (f9 + 1))) 0 255) 8)), .int (nI (tl_S S (tl_set (A 0) 2 (nI (A 9 (f9 + 1))) 0 255) 9)), .int (nI (tl_S S (tl_set (A 0) 2 (nI (A 9 (f9 + 1))) 0 255) 10))])) := hf_68
    have hM_80 : tm_Ok g X_64 o ad (va_up A 0 (tl_m (A 0) (tl_set (A 0) 2 (nI (A 9 (f9 + 1))) 0 255))) (tl_S S (tl_set (A 0) 2 (nI (A 9 (f9 + 1))) 0 255)) := ⟨hf_68, hf_69, hf_70, hf_71, hf_72, hf_73, hf_74, hf_75, hf_76, hf_77, hf_78⟩
    exact xk_reti B hI_61 hr rfl dX2_does_160 (Nat.le_of_ble_eq_true rfl) (Nat.le_of_ble_eq_true rfl) ((by rw [show tl_does (A 0) (A 9 f9) (A 9 (f9 + 1)) (A 9 (f9 + 2)) (A 9 (f9 + 3)) = tl_set (A 0) 2 (nI (A 9 (f9 + 1))) 0 255 from by unfold tl_does; rw [if_neg (by omega), if_neg (by omega), if_neg (by omega), if_pos hc119]]; exact ⟨rfl, hM_80, hfr_79⟩))
  · refine xk_top (y := nI 108) (congrArg nI hc108) ?_
    refine lv_tableIn (tgt := 161) (off := 137) hx hb dX2_does_24 (by rw [nI_toInt (by decide)]; decide) (by rw [nI_toInt (by decide)]; decide) (by rw [nI_toInt (by decide)]; decide) (by decide) ?_
    refine lv_aload_n hx hb dX2_does_161 rfl (lv_at hl 2 rfl) ?_
    refine lv_iload_n hx hb dX2_does_162 rfl (lv_at hl 1 rfl) ?_
    refine xk_ri (xk_cV B hI hl [.int (nI (A 9 (f9 + 1)))] [] 1 (m2_luckIt g hM0 hk0 (nI (A 9 (f9 + 1)))) hO rfl (lw_V q1598 q1600 qs46 q79 q1601) ⟨rfl, by decide +kernel, by decide +kernel, by decide +kernel⟩ ⟨Nat.le_of_ble_eq_true rfl, Nat.le_of_ble_eq_true rfl⟩ rfl rfl (Nat.le_of_ble_eq_true rfl) dX2_does_163 (Nat.le_of_ble_eq_true rfl) (Nat.le_of_ble_eq_true rfl)) hI (fun X_84 H_82 L_83 hq_85 hI_81 => ?_)
    refine xk_top (y := tl_r (tl_set (A 0) 3 (nI (A 9 (f9 + 1))) 0 100)) rfl ?_
    obtain ⟨hM_86, hfr_87⟩ := hq_85
    obtain ⟨hf_88, hf_89, hf_90, hf_91, hf_92, hf_93, hf_94, hf_95, hf_96, hf_97, hf_98⟩ := id hM_86
    have hfr_99 := xk_fr.tr hfr hfr_87
    have hf_89 : X_84 (ad 0) = some ((o, 1), xk_iA g 0 294 (tl_m (A 0) (tl_set (A 0) 3 (nI (A 9 (f9 + 1))) 0 100))) := hf_89
    have hf_90 : X_84 (ad 1) = some ((o, 2), xk_iA g 0 294 (A 1)) := hf_90
    have hf_91 : X_84 (ad 2) = some ((o, 3), xk_iA g 0 294 (A 2)) := hf_91
    have hf_92 : X_84 (ad 3) = some ((o, 4), xk_iA g 0 294 (A 3)) := hf_92
    have hf_93 : X_84 (ad 4) = some ((o, 5), xk_iA g 0 2352 (A 4)) := hf_93
    have hf_94 : X_84 (ad 5) = some ((o, 6), xk_iA g 0 70 (A 5)) := hf_94
    have hf_95 : X_84 (ad 6) = some ((o, 7), xk_iA g 2 40 (A 6)) := hf_95
    have hf_96 : X_84 (ad 7) = some ((o, 8), xk_iA g 2 40 (A 7)) := hf_96
    have hf_97 : X_84 (ad 8) = some ((o, 9), xk_iA g 0 60 (A 8)) := hf_97
    have hf_98 : X_84 (ad 9) = some ((o, 10), xk_iA g 0 284 (A 9)) := hf_98
    have hf_88 : X_84 o = some ((o, 0), .inr (0, [.ref (ad 0), .ref (ad 1), .ref (ad 2), .ref (ad 3), .int (nI (tl_S S (tl_set (A 0) 3 (nI (A 9 (f9 + 1))) 0 100) 0)), .ref (ad 4), .int (nI (tl_S S (tl_set (A 0) 3 (nI (A 9 (f9 + 1))) 0 100) 1)), .int (nI (tl_S S (tl_set (A 0) 3 (nI (A 9 (f9 + 1))) 0 100) 2)), .int (nI (tl_S S (tl_set (A 0) 3 (nI (A 9 (f9 + 1))) 0 100) 3)), .int (tm_it (tl_S S (tl_set (A 0) 3 (nI (A 9 (f9 + 1))) 0 100) 4)), .ref (ad 5), .int (nI (tl_S S (tl_set (A 0) 3 (nI (A 9 (f9 + 1))) 0 100) 5)), .ref (ad 6), .ref (ad 7), .ref (ad 8), .int (nI (tl_S S (tl_set (A 0) 3 (nI (A 9 (f9 + 1))) 0 100) 6)), .ref (ad 9), .int (nI (tl_S S (tl_set (A 0) 3 (nI (A 9 (f9 + 1))) 0 100) 7)), .int (nI (tl_S S (tl_set (A 0) 3 (nI (A 9 (f9 + 1))) 0 100) 8)), .int (nI (tl_S S (tl_set (A 0) 3 (nI (A 9 (f9 + 1))) 0 100) 9)), .int (nI (tl_S S (tl_set (A 0) 3 (nI (A 9 (f9 + 1))) 0 100) 10))])) := hf_88
    have hM_100 : tm_Ok g X_84 o ad (va_up A 0 (tl_m (A 0) (tl_set (A 0) 3 (nI (A 9 (f9 + 1))) 0 100))) (tl_S S (tl_set (A 0) 3 (nI (A 9 (f9 + 1))) 0 100)) := ⟨hf_88, hf_89, hf_90, hf_91, hf_92, hf_93, hf_94, hf_95, hf_96, hf_97, hf_98⟩
    exact xk_reti B hI_81 hr rfl dX2_does_166 (Nat.le_of_ble_eq_true rfl) (Nat.le_of_ble_eq_true rfl) ((by rw [show tl_does (A 0) (A 9 f9) (A 9 (f9 + 1)) (A 9 (f9 + 2)) (A 9 (f9 + 3)) = tl_set (A 0) 3 (nI (A 9 (f9 + 1))) 0 100 from by unfold tl_does; rw [if_neg (by omega), if_neg (by omega), if_neg (by omega), if_neg (by omega), if_pos hc108]]; exact ⟨rfl, hM_100, hfr_99⟩))
  · refine xk_top (y := nI 114) (congrArg nI hc114) ?_
    refine lv_tableIn (tgt := 167) (off := 143) hx hb dX2_does_24 (by rw [nI_toInt (by decide)]; decide) (by rw [nI_toInt (by decide)]; decide) (by rw [nI_toInt (by decide)]; decide) (by decide) ?_
    refine lv_aload_n hx hb dX2_does_167 rfl (lv_at hl 2 rfl) ?_
    refine lv_iload_n hx hb dX2_does_168 rfl (lv_at hl 1 rfl) ?_
    refine xk_ri (xk_cV B hI hl [.int (nI (A 9 (f9 + 1)))] [] 1 (m2_roomIt g hM0 hk0 (nI (A 9 (f9 + 1)))) hO rfl (lw_V q1611 q1613 qs47 q79 q1614) ⟨rfl, by decide +kernel, by decide +kernel, by decide +kernel⟩ ⟨Nat.le_of_ble_eq_true rfl, Nat.le_of_ble_eq_true rfl⟩ rfl rfl (Nat.le_of_ble_eq_true rfl) dX2_does_169 (Nat.le_of_ble_eq_true rfl) (Nat.le_of_ble_eq_true rfl)) hI (fun X_104 H_102 L_103 hq_105 hI_101 => ?_)
    refine xk_top (y := tl_r (tl_set (A 0) 5 (nI (A 9 (f9 + 1))) 2 12)) rfl ?_
    obtain ⟨hM_106, hfr_107⟩ := hq_105
    obtain ⟨hf_108, hf_109, hf_110, hf_111, hf_112, hf_113, hf_114, hf_115, hf_116, hf_117, hf_118⟩ := id hM_106
    have hfr_119 := xk_fr.tr hfr hfr_107
    have hf_109 : X_104 (ad 0) = some ((o, 1), xk_iA g 0 294 (tl_m (A 0) (tl_set (A 0) 5 (nI (A 9 (f9 + 1))) 2 12))) := hf_109
    have hf_110 : X_104 (ad 1) = some ((o, 2), xk_iA g 0 294 (A 1)) := hf_110
    have hf_111 : X_104 (ad 2) = some ((o, 3), xk_iA g 0 294 (A 2)) := hf_111
    have hf_112 : X_104 (ad 3) = some ((o, 4), xk_iA g 0 294 (A 3)) := hf_112
    have hf_113 : X_104 (ad 4) = some ((o, 5), xk_iA g 0 2352 (A 4)) := hf_113
    have hf_114 : X_104 (ad 5) = some ((o, 6), xk_iA g 0 70 (A 5)) := hf_114
    have hf_115 : X_104 (ad 6) = some ((o, 7), xk_iA g 2 40 (A 6)) := hf_115
    have hf_116 : X_104 (ad 7) = some ((o, 8), xk_iA g 2 40 (A 7)) := hf_116
    have hf_117 : X_104 (ad 8) = some ((o, 9), xk_iA g 0 60 (A 8)) := hf_117
    have hf_118 : X_104 (ad 9) = some ((o, 10), xk_iA g 0 284 (A 9)) := hf_118
    have hf_108 : X_104 o = some ((o, 0), .inr (0, [.ref (ad 0), .ref (ad 1), .ref (ad 2), .ref (ad 3), .int (nI (tl_S S (tl_set (A 0) 5 (nI (A 9 (f9 + 1))) 2 12) 0)), .ref (ad 4), .int (nI (tl_S S (tl_set (A 0) 5 (nI (A 9 (f9 + 1))) 2 12) 1)), .int (nI (tl_S S (tl_set (A 0) 5 (nI (A 9 (f9 + 1))) 2 12) 2)), .int (nI (tl_S S (tl_set (A 0) 5 (nI (A 9 (f9 + 1))) 2 12) 3)), .int (tm_it (tl_S S (tl_set (A 0) 5 (nI (A 9 (f9 + 1))) 2 12) 4)), .ref (ad 5), .int (nI (tl_S S (tl_set (A 0) 5 (nI (A 9 (f9 + 1))) 2 12) 5)), .ref (ad 6), .ref (ad 7), .ref (ad 8), .int (nI (tl_S S (tl_set (A 0) 5 (nI (A 9 (f9 + 1))) 2 12) 6)), .ref (ad 9), .int (nI (tl_S S (tl_set (A 0) 5 (nI (A 9 (f9 + 1))) 2 12) 7)), .int (nI (tl_S S (tl_set (A 0) 5 (nI (A 9 (f9 + 1))) 2 12) 8)), .int (nI (tl_S S (tl_set (A 0) 5 (nI (A 9 (f9 + 1))) 2 12) 9)), .int (nI (tl_S S (tl_set (A 0) 5 (nI (A 9 (f9 + 1))) 2 12) 10))])) := hf_108
    have hM_120 : tm_Ok g X_104 o ad (va_up A 0 (tl_m (A 0) (tl_set (A 0) 5 (nI (A 9 (f9 + 1))) 2 12))) (tl_S S (tl_set (A 0) 5 (nI (A 9 (f9 + 1))) 2 12)) := ⟨hf_108, hf_109, hf_110, hf_111, hf_112, hf_113, hf_114, hf_115, hf_116, hf_117, hf_118⟩
    exact xk_reti B hI_101 hr rfl dX2_does_172 (Nat.le_of_ble_eq_true rfl) (Nat.le_of_ble_eq_true rfl) ((by rw [show tl_does (A 0) (A 9 f9) (A 9 (f9 + 1)) (A 9 (f9 + 2)) (A 9 (f9 + 3)) = tl_set (A 0) 5 (nI (A 9 (f9 + 1))) 2 12 from by unfold tl_does; rw [if_neg (by omega), if_neg (by omega), if_neg (by omega), if_neg (by omega), if_neg (by omega), if_pos hc114]]; exact ⟨rfl, hM_120, hfr_119⟩))
  · refine xk_top (y := nI 121) (congrArg nI hc121) ?_
    refine lv_tableIn (tgt := 173) (off := 149) hx hb dX2_does_24 (by rw [nI_toInt (by decide)]; decide) (by rw [nI_toInt (by decide)]; decide) (by rw [nI_toInt (by decide)]; decide) (by decide) ?_
    refine lv_aload_n hx hb dX2_does_173 rfl (lv_at hl 2 rfl) ?_
    refine lv_iload_n hx hb dX2_does_174 rfl (lv_at hl 1 rfl) ?_
    refine xk_ri (xk_cV B hI hl [.int (nI (A 9 (f9 + 1)))] [] 1 (m2_yearsIt g hM0 hk0 (nI (A 9 (f9 + 1)))) hO rfl (lw_V q1619 q1621 qs48 q79 q1622) ⟨rfl, by decide +kernel, by decide +kernel, by decide +kernel⟩ ⟨Nat.le_of_ble_eq_true rfl, Nat.le_of_ble_eq_true rfl⟩ rfl rfl (Nat.le_of_ble_eq_true rfl) dX2_does_175 (Nat.le_of_ble_eq_true rfl) (Nat.le_of_ble_eq_true rfl)) hI (fun X_124 H_122 L_123 hq_125 hI_121 => ?_)
    refine xk_top (y := tl_r (tl_years (A 0) (nI (A 9 (f9 + 1))))) rfl ?_
    obtain ⟨hM_126, hfr_127⟩ := hq_125
    obtain ⟨hf_128, hf_129, hf_130, hf_131, hf_132, hf_133, hf_134, hf_135, hf_136, hf_137, hf_138⟩ := id hM_126
    have hfr_139 := xk_fr.tr hfr hfr_127
    have hf_129 : X_124 (ad 0) = some ((o, 1), xk_iA g 0 294 (tl_m (A 0) (tl_years (A 0) (nI (A 9 (f9 + 1)))))) := hf_129
    have hf_130 : X_124 (ad 1) = some ((o, 2), xk_iA g 0 294 (A 1)) := hf_130
    have hf_131 : X_124 (ad 2) = some ((o, 3), xk_iA g 0 294 (A 2)) := hf_131
    have hf_132 : X_124 (ad 3) = some ((o, 4), xk_iA g 0 294 (A 3)) := hf_132
    have hf_133 : X_124 (ad 4) = some ((o, 5), xk_iA g 0 2352 (A 4)) := hf_133
    have hf_134 : X_124 (ad 5) = some ((o, 6), xk_iA g 0 70 (A 5)) := hf_134
    have hf_135 : X_124 (ad 6) = some ((o, 7), xk_iA g 2 40 (A 6)) := hf_135
    have hf_136 : X_124 (ad 7) = some ((o, 8), xk_iA g 2 40 (A 7)) := hf_136
    have hf_137 : X_124 (ad 8) = some ((o, 9), xk_iA g 0 60 (A 8)) := hf_137
    have hf_138 : X_124 (ad 9) = some ((o, 10), xk_iA g 0 284 (A 9)) := hf_138
    have hf_128 : X_124 o = some ((o, 0), .inr (0, [.ref (ad 0), .ref (ad 1), .ref (ad 2), .ref (ad 3), .int (nI (tl_S S (tl_years (A 0) (nI (A 9 (f9 + 1)))) 0)), .ref (ad 4), .int (nI (tl_S S (tl_years (A 0) (nI (A 9 (f9 + 1)))) 1)), .int (nI (tl_S S (tl_years (A 0) (nI (A 9 (f9 + 1)))) 2)), .int (nI (tl_S S (tl_years (A 0) (nI (A 9 (f9 + 1)))) 3)), .int (tm_it (tl_S S (tl_years (A 0) (nI (A 9 (f9 + 1)))) 4)), .ref (ad 5), .int (nI (tl_S S (tl_years (A 0) (nI (A 9 (f9 + 1)))) 5)), .ref (ad 6), .ref (ad 7), .ref (ad 8), .int (nI (tl_S S (tl_years (A 0) (nI (A 9 (f9 + 1)))) 6)), .ref (ad 9), .int (nI (tl_S S (tl_years (A 0) (nI (A 9 (f9 + 1)))) 7)), .int (nI (tl_S S (tl_years (A 0) (nI (A 9 (f9 + 1)))) 8)), .int (nI (tl_S S (tl_years (A 0) (nI (A 9 (f9 + 1)))) 9)), .int (nI (tl_S S (tl_years (A 0) (nI (A 9 (f9 + 1)))) 10))])) := hf_128
    have hM_140 : tm_Ok g X_124 o ad (va_up A 0 (tl_m (A 0) (tl_years (A 0) (nI (A 9 (f9 + 1)))))) (tl_S S (tl_years (A 0) (nI (A 9 (f9 + 1))))) := ⟨hf_128, hf_129, hf_130, hf_131, hf_132, hf_133, hf_134, hf_135, hf_136, hf_137, hf_138⟩
    exact xk_reti B hI_121 hr rfl dX2_does_178 (Nat.le_of_ble_eq_true rfl) (Nat.le_of_ble_eq_true rfl) ((by rw [show tl_does (A 0) (A 9 f9) (A 9 (f9 + 1)) (A 9 (f9 + 2)) (A 9 (f9 + 3)) = tl_years (A 0) (nI (A 9 (f9 + 1))) from by unfold tl_does; rw [if_neg (by omega), if_neg (by omega), if_neg (by omega), if_neg (by omega), if_neg (by omega), if_neg (by omega), if_pos hc121]]; exact ⟨rfl, hM_140, hfr_139⟩))
  · refine xk_top (y := nI 104) (congrArg nI hc104) ?_
    refine lv_tableIn (tgt := 179) (off := 155) hx hb dX2_does_24 (by rw [nI_toInt (by decide)]; decide) (by rw [nI_toInt (by decide)]; decide) (by rw [nI_toInt (by decide)]; decide) (by decide) ?_
    refine lv_aload_n hx hb dX2_does_179 rfl (lv_at hl 2 rfl) ?_
    refine lv_iload_n hx hb dX2_does_180 rfl (lv_at hl 1 rfl) ?_
    refine lv_iload_n hx hb dX2_does_181 rfl (lv_at hl 0 rfl) ?_
    refine xk_ri (xk_cV B hI hl [.int (nI (A 9 (f9 + 1))), .int (nI (A 9 (f9 + 2)))] [] 2 (m2_heavyIt g hM0 hk0 (nI (A 9 (f9 + 1))) (nI (A 9 (f9 + 2)))) hO rfl (lw_V q1589 q1591 qs45 q79 q1592) ⟨rfl, by decide +kernel, by decide +kernel, by decide +kernel⟩ ⟨Nat.le_of_ble_eq_true rfl, Nat.le_of_ble_eq_true rfl⟩ rfl rfl (Nat.le_of_ble_eq_true rfl) dX2_does_182 (Nat.le_of_ble_eq_true rfl) (Nat.le_of_ble_eq_true rfl)) hI (fun X_144 H_142 L_143 hq_145 hI_141 => ?_)
    refine xk_top (y := tl_r (tl_heavy (A 0) (nI (A 9 (f9 + 1))) (nI (A 9 (f9 + 2))))) rfl ?_
    obtain ⟨hM_146, hfr_147⟩ := hq_145
    obtain ⟨hf_148, hf_149, hf_150, hf_151, hf_152, hf_153, hf_154, hf_155, hf_156, hf_157, hf_158⟩ := id hM_146
    have hfr_159 := xk_fr.tr hfr hfr_147
    have hf_149 : X_144 (ad 0) = some ((o, 1), xk_iA g 0 294 (tl_m (A 0) (tl_heavy (A 0) (nI (A 9 (f9 + 1))) (nI (A 9 (f9 + 2)))))) := hf_149
    have hf_150 : X_144 (ad 1) = some ((o, 2), xk_iA g 0 294 (A 1)) := hf_150
    have hf_151 : X_144 (ad 2) = some ((o, 3), xk_iA g 0 294 (A 2)) := hf_151
    have hf_152 : X_144 (ad 3) = some ((o, 4), xk_iA g 0 294 (A 3)) := hf_152
    have hf_153 : X_144 (ad 4) = some ((o, 5), xk_iA g 0 2352 (A 4)) := hf_153
    have hf_154 : X_144 (ad 5) = some ((o, 6), xk_iA g 0 70 (A 5)) := hf_154
    have hf_155 : X_144 (ad 6) = some ((o, 7), xk_iA g 2 40 (A 6)) := hf_155
    have hf_156 : X_144 (ad 7) = some ((o, 8), xk_iA g 2 40 (A 7)) := hf_156
    have hf_157 : X_144 (ad 8) = some ((o, 9), xk_iA g 0 60 (A 8)) := hf_157
    have hf_158 : X_144 (ad 9) = some ((o, 10), xk_iA g 0 284 (A 9)) := hf_158
    have hf_148 : X_144 o = some ((o, 0), .inr (0, [.ref (ad 0), .ref (ad 1), .ref (ad 2), .ref (ad 3), .int (nI (tl_S S (tl_heavy (A 0) (nI (A 9 (f9 + 1))) (nI (A 9 (f9 + 2)))) 0)), .ref (ad 4), .int (nI (tl_S S (tl_heavy (A 0) (nI (A 9 (f9 + 1))) (nI (A 9 (f9 + 2)))) 1)), .int (nI (tl_S S (tl_heavy (A 0) (nI (A 9 (f9 + 1))) (nI (A 9 (f9 + 2)))) 2)), .int (nI (tl_S S (tl_heavy (A 0) (nI (A 9 (f9 + 1))) (nI (A 9 (f9 + 2)))) 3)), .int (tm_it (tl_S S (tl_heavy (A 0) (nI (A 9 (f9 + 1))) (nI (A 9 (f9 + 2)))) 4)), .ref (ad 5), .int (nI (tl_S S (tl_heavy (A 0) (nI (A 9 (f9 + 1))) (nI (A 9 (f9 + 2)))) 5)), .ref (ad 6), .ref (ad 7), .ref (ad 8), .int (nI (tl_S S (tl_heavy (A 0) (nI (A 9 (f9 + 1))) (nI (A 9 (f9 + 2)))) 6)), .ref (ad 9), .int (nI (tl_S S (tl_heavy (A 0) (nI (A 9 (f9 + 1))) (nI (A 9 (f9 + 2)))) 7)), .int (nI (tl_S S (tl_heavy (A 0) (nI (A 9 (f9 + 1))) (nI (A 9 (f9 + 2)))) 8)), .int (nI (tl_S S (tl_heavy (A 0) (nI (A 9 (f9 + 1))) (nI (A 9 (f9 + 2)))) 9)), .int (nI (tl_S S (tl_heavy (A 0) (nI (A 9 (f9 + 1))) (nI (A 9 (f9 + 2)))) 10))])) := hf_148
    have hM_160 : tm_Ok g X_144 o ad (va_up A 0 (tl_m (A 0) (tl_heavy (A 0) (nI (A 9 (f9 + 1))) (nI (A 9 (f9 + 2)))))) (tl_S S (tl_heavy (A 0) (nI (A 9 (f9 + 1))) (nI (A 9 (f9 + 2))))) := ⟨hf_148, hf_149, hf_150, hf_151, hf_152, hf_153, hf_154, hf_155, hf_156, hf_157, hf_158⟩
    exact xk_reti B hI_141 hr rfl dX2_does_185 (Nat.le_of_ble_eq_true rfl) (Nat.le_of_ble_eq_true rfl) ((by rw [show tl_does (A 0) (A 9 f9) (A 9 (f9 + 1)) (A 9 (f9 + 2)) (A 9 (f9 + 3)) = tl_heavy (A 0) (nI (A 9 (f9 + 1))) (nI (A 9 (f9 + 2))) from by unfold tl_does; rw [if_neg (by omega), if_neg (by omega), if_neg (by omega), if_neg (by omega), if_neg (by omega), if_neg (by omega), if_neg (by omega)]]; exact ⟨rfl, hM_160, hfr_159⟩))
