/-! the model: walks, printed by tools/model.py -/
set_option maxRecDepth 100000
set_option maxHeartbeats 4000000 in
theorem m2_describe (g : xk_G) {X : xk_H} {o : Nat} {ad : Nat → Nat} {A : Nat → Nat → Nat} {S : Nat → Nat} (hM : tm_Ok g X o ad A S) (hk : tl_inv (A 0)) (x : Int32) : xk_C g yX2_describe (ws_ yX2_describe cX2_describe 4 (some .int)) ({ frames := 2, cells := 0, slots := 0, locals := 46 } : Room) [.ref o, .int x] X (xk_Qi (tl_dscR (A 0) x) (fun X1 => tm_Ok g X1 o ad (if tl_isb (A 0) x = true then va_up A 8 (tl_puts (A 8) 0 (tl_dsc (A 0) (tl_n x))) else A) (if tl_isb (A 0) x = true then va_up S 6 (tl_dsc (A 0) (tl_n x)).length else S) ∧ xk_fr o X X1)) := by
  refine xk_ofW (by decide +kernel) (Nat.le_of_ble_eq_true rfl) (fun p e s m args below meth c B hr hname hargs hI ls hl => ?_)
  have B : xk_B g p s m args meth c RX2 cX2_describe 4 := B
  have hl : lv_has ls 4 [(0, .ref o), (1, .int x)] := hl
  have hx := B.1
  have hb := B.2.1
  have hM0 := hM
  obtain ⟨hO, hA0, hA1, hA2, hA3, hA4, hA5, hA6, hA7, hA8, hA9⟩ := hM
  have hk0 := hk
  obtain ⟨k0, kb, kw, kl, ks, kr1, kr2, kwt, kL⟩ := hk
  have hfr : xk_fr o X X := xk_fr.rf
  refine lv_aload_n hx hb dX2_describe_0 rfl (lv_at hl 0 rfl) ?_
  refine lv_iload_n hx hb dX2_describe_1 rfl (lv_at hl 1 rfl) ?_
  refine xk_ri0 (xk_cV B hI hl [.int x] [] 1 (m2_isBulb g hM0 hk0 x) hO rfl (lw_V q1543 q1545 qs37 q79 q1546) ⟨rfl, by decide +kernel, by decide +kernel, by decide +kernel⟩ ⟨Nat.le_of_ble_eq_true rfl, Nat.le_of_ble_eq_true rfl⟩ rfl rfl (Nat.le_of_ble_eq_true rfl) dX2_describe_2 (Nat.le_of_ble_eq_true rfl) (Nat.le_of_ble_eq_true rfl)) hI (fun H_2 L_3 hI_1 => ?_)
  refine xk_top (y := xk_z (tl_isb (A 0) (x))) rfl ?_
  refine xk_if_ne_z (tgt := 10) hx hb dX2_describe_5 (by decide) (fun hc_5 => ?_) (fun hc_5 => ?_)
  · obtain ⟨hx1, hx2⟩ := tl_isb_k hc_5
    have qb := kb _ hx2
    have l0 := tl_dig_len (tl_n x)
    have lw := tl_dig_len (tl_wor (A 0) (A 0 (14 + 7 * tl_n x)) 8)
    have qw := tl_wor_le (m := A 0) (p := (A 0 (14 + 7 * tl_n x))) (n := 8) kwt
    have l1 := tl_dig_len (A 0 (14 + 7 * tl_n x + 1) - 1)
    have l2 := tl_dig_len (A 0 (14 + 7 * tl_n x + 2) - 1)
    have lp := fun k => tl_pet_len (A 0 (14 + 7 * tl_n x)) k
    refine lv_iload_n hx hb dX2_describe_10 rfl (lv_at hl 1 rfl) ?_
    refine xk_top hx1 ?_
    refine xk_ri0 (xk_cS B hI_1 hl [.int (nI (tl_n x))] [] 1 (m2_of g (tl_n x)) (lw_S q1524 q1525 q79 q1526) ⟨by decide +kernel, by decide +kernel, by decide +kernel⟩ ⟨Nat.le_of_ble_eq_true rfl, Nat.le_of_ble_eq_true rfl⟩ rfl rfl (Nat.le_of_ble_eq_true rfl) dX2_describe_11 (Nat.le_of_ble_eq_true rfl) (Nat.le_of_ble_eq_true rfl)) hI_1 (fun H_5 L_6 hI_4 => ?_)
    refine xk_top (y := nI (14 + 7 * (tl_n x))) rfl ?_
    refine lv_istore_n (lv' := [(2, .int (nI (14 + 7 * (tl_n x)))), (0, .ref o), (1, .int x)]) hx hb dX2_describe_14 rfl hl (by decide) rfl (fun ls hl => ?_)
    refine lv_aload_n hx hb dX2_describe_15 rfl (lv_at hl 1 rfl) ?_
    refine lv_iconst (v := nI 0) hx hb dX2_describe_16 (by decide) ?_
    refine xk_put B hI_4 hO rfl in_X2 tyX2 tyX2_ok nmX2 15 (by decide) q1447 rfl rfl rfl (Nat.le_of_ble_eq_true rfl) dX2_describe_17 (fun X_7 H_11 L_12 hf_9 hn_8 hI_10 => ?_)
    have hf_9 : X_7 o = some ((o, 0), .inr (0, [.ref (ad 0), .ref (ad 1), .ref (ad 2), .ref (ad 3), .int (nI (S 0)), .ref (ad 4), .int (nI (S 1)), .int (nI (S 2)), .int (nI (S 3)), .int (tm_it (S 4)), .ref (ad 5), .int (nI (S 5)), .ref (ad 6), .ref (ad 7), .ref (ad 8), .int (nI 0), .ref (ad 9), .int (nI (S 7)), .int (nI (S 8)), .int (nI (S 9)), .int (nI (S 10))])) := hf_9
    have hfr_13 := xk_fr.put hfr hO hn_8
    have hf_14 := xk_off hn_8 hA8 hO (xk_on1 (by decide))
    have hf_9 : X_7 o = some ((o, 0), .inr (0, [.ref (ad 0), .ref (ad 1), .ref (ad 2), .ref (ad 3), .int (nI (S 0)), .ref (ad 4), .int (nI (S 1)), .int (nI (S 2)), .int (nI (S 3)), .int (tm_it (S 4)), .ref (ad 5), .int (nI (S 5)), .ref (ad 6), .ref (ad 7), .ref (ad 8), .int (nI tl_nil.length), .ref (ad 9), .int (nI (S 7)), .int (nI (S 8)), .int (nI (S 9)), .int (nI (S 10))])) := hf_9
    refine lv_aload_n hx hb dX2_describe_20 rfl (lv_at hl 1 rfl) ?_
    refine lv_iload_n hx hb dX2_describe_21 rfl (lv_at hl 2 rfl) ?_
    refine xk_top hx1 ?_
    have hf_15 := xk_off hn_8 hA0 hO (xk_on1 (by decide))
    have hf_16 := xk_off hn_8 hA1 hO (xk_on1 (by decide))
    have hf_17 := xk_off hn_8 hA2 hO (xk_on1 (by decide))
    have hf_18 := xk_off hn_8 hA3 hO (xk_on1 (by decide))
    have hf_19 := xk_off hn_8 hA4 hO (xk_on1 (by decide))
    have hf_20 := xk_off hn_8 hA5 hO (xk_on1 (by decide))
    have hf_21 := xk_off hn_8 hA6 hO (xk_on1 (by decide))
    have hf_22 := xk_off hn_8 hA7 hO (xk_on1 (by decide))
    have hf_23 := xk_off hn_8 hA9 hO (xk_on1 (by decide))
    have hM_24 : tm_Ok g X_7 o ad (va_up A 8 (tl_puts (A 8) 0 (tl_nil))) (va_up S 6 tl_nil.length) := ⟨hf_9, hf_15, hf_16, hf_17, hf_18, hf_19, hf_20, hf_21, hf_22, hf_14, hf_23⟩
    refine xk_rv (xk_cV B hI_10 hl [.int (nI (tl_n x))] [] 1 (m2_writesNumber g hM_24 (L0 := A 8) (cs := (tl_nil)) (tl_n x) (by omega) rfl rfl (by first | omega | (simp only [List.length_append, List.length_cons, List.length_nil, tl_nil_len]; omega))) hf_9 rfl (lw_V q1713 q1715 qs57 q79 q1716) ⟨rfl, by decide +kernel, by decide +kernel, by decide +kernel⟩ ⟨Nat.le_of_ble_eq_true rfl, Nat.le_of_ble_eq_true rfl⟩ rfl rfl (Nat.le_of_ble_eq_true rfl) dX2_describe_22 (Nat.le_of_ble_eq_true rfl) (Nat.le_of_ble_eq_true rfl)) hI_10 (fun X_28 H_26 L_27 hq_29 hI_25 => ?_)
    obtain ⟨hM_30, hfr_31⟩ := hq_29
    obtain ⟨hf_32, hf_33, hf_34, hf_35, hf_36, hf_37, hf_38, hf_39, hf_40, hf_41, hf_42⟩ := id hM_30
    have hfr_43 := xk_fr.tr hfr_13 hfr_31
    have hf_33 : X_28 (ad 0) = some ((o, 1), xk_iA g 0 294 (A 0)) := hf_33
    have hf_34 : X_28 (ad 1) = some ((o, 2), xk_iA g 0 294 (A 1)) := hf_34
    have hf_35 : X_28 (ad 2) = some ((o, 3), xk_iA g 0 294 (A 2)) := hf_35
    have hf_36 : X_28 (ad 3) = some ((o, 4), xk_iA g 0 294 (A 3)) := hf_36
    have hf_37 : X_28 (ad 4) = some ((o, 5), xk_iA g 0 2352 (A 4)) := hf_37
    have hf_38 : X_28 (ad 5) = some ((o, 6), xk_iA g 0 70 (A 5)) := hf_38
    have hf_39 : X_28 (ad 6) = some ((o, 7), xk_iA g 2 40 (A 6)) := hf_39
    have hf_40 : X_28 (ad 7) = some ((o, 8), xk_iA g 2 40 (A 7)) := hf_40
    have hf_41 : X_28 (ad 8) = some ((o, 9), xk_iA g 0 60 (tl_puts (A 8) 0 (tl_nil ++ tl_dig (tl_n x)))) := hf_41
    have hf_42 : X_28 (ad 9) = some ((o, 10), xk_iA g 0 284 (A 9)) := hf_42
    have hf_32 : X_28 o = some ((o, 0), .inr (0, [.ref (ad 0), .ref (ad 1), .ref (ad 2), .ref (ad 3), .int (nI (S 0)), .ref (ad 4), .int (nI (S 1)), .int (nI (S 2)), .int (nI (S 3)), .int (tm_it (S 4)), .ref (ad 5), .int (nI (S 5)), .ref (ad 6), .ref (ad 7), .ref (ad 8), .int (nI ((tl_nil ++ tl_dig (tl_n x)).length)), .ref (ad 9), .int (nI (S 7)), .int (nI (S 8)), .int (nI (S 9)), .int (nI (S 10))])) := hf_32
    refine lv_aload_n hx hb dX2_describe_25 rfl (lv_at hl 1 rfl) ?_
    refine lv_bipush (v := nI 61) hx hb dX2_describe_26 (by decide) ?_
    have hM_44 : tm_Ok g X_28 o ad (va_up A 8 (tl_puts (A 8) 0 (tl_nil ++ tl_dig (tl_n x)))) (va_up S 6 ((tl_nil ++ tl_dig (tl_n x)).length)) := ⟨hf_32, hf_33, hf_34, hf_35, hf_36, hf_37, hf_38, hf_39, hf_40, hf_41, hf_42⟩
    refine xk_rv (xk_cV B hI_25 hl [.int (nI 61)] [] 1 (m2_sign0 g hM_44 (L0 := A 8) (cs := (tl_nil ++ tl_dig (tl_n x))) 61 rfl rfl (by first | omega | (simp only [List.length_append, List.length_cons, List.length_nil, tl_nil_len]; omega))) hf_32 rfl (lw_V q1717 q1719 qs58 q79 q1720) ⟨rfl, by decide +kernel, by decide +kernel, by decide +kernel⟩ ⟨Nat.le_of_ble_eq_true rfl, Nat.le_of_ble_eq_true rfl⟩ rfl rfl (Nat.le_of_ble_eq_true rfl) dX2_describe_28 (Nat.le_of_ble_eq_true rfl) (Nat.le_of_ble_eq_true rfl)) hI_25 (fun X_48 H_46 L_47 hq_49 hI_45 => ?_)
    obtain ⟨hM_50, hfr_51⟩ := hq_49
    obtain ⟨hf_52, hf_53, hf_54, hf_55, hf_56, hf_57, hf_58, hf_59, hf_60, hf_61, hf_62⟩ := id hM_50
    have hfr_63 := xk_fr.tr hfr_43 hfr_51
    have hf_53 : X_48 (ad 0) = some ((o, 1), xk_iA g 0 294 (A 0)) := hf_53
    have hf_54 : X_48 (ad 1) = some ((o, 2), xk_iA g 0 294 (A 1)) := hf_54
    have hf_55 : X_48 (ad 2) = some ((o, 3), xk_iA g 0 294 (A 2)) := hf_55
    have hf_56 : X_48 (ad 3) = some ((o, 4), xk_iA g 0 294 (A 3)) := hf_56
    have hf_57 : X_48 (ad 4) = some ((o, 5), xk_iA g 0 2352 (A 4)) := hf_57
    have hf_58 : X_48 (ad 5) = some ((o, 6), xk_iA g 0 70 (A 5)) := hf_58
    have hf_59 : X_48 (ad 6) = some ((o, 7), xk_iA g 2 40 (A 6)) := hf_59
    have hf_60 : X_48 (ad 7) = some ((o, 8), xk_iA g 2 40 (A 7)) := hf_60
    have hf_61 : X_48 (ad 8) = some ((o, 9), xk_iA g 0 60 (tl_puts (A 8) 0 (tl_nil ++ tl_dig (tl_n x) ++ [61]))) := hf_61
    have hf_62 : X_48 (ad 9) = some ((o, 10), xk_iA g 0 284 (A 9)) := hf_62
    have hf_52 : X_48 o = some ((o, 0), .inr (0, [.ref (ad 0), .ref (ad 1), .ref (ad 2), .ref (ad 3), .int (nI (S 0)), .ref (ad 4), .int (nI (S 1)), .int (nI (S 2)), .int (nI (S 3)), .int (tm_it (S 4)), .ref (ad 5), .int (nI (S 5)), .ref (ad 6), .ref (ad 7), .ref (ad 8), .int (nI ((tl_nil ++ tl_dig (tl_n x) ++ [61]).length)), .ref (ad 9), .int (nI (S 7)), .int (nI (S 8)), .int (nI (S 9)), .int (nI (S 10))])) := hf_52
    refine lv_iconst (v := nI 0) hx hb dX2_describe_31 (by decide) ?_
    refine lv_istore_n (lv' := [(3, .int (nI 0)), (2, .int (nI (14 + 7 * (tl_n x)))), (0, .ref o), (1, .int x)]) hx hb dX2_describe_32 rfl hl (by decide) rfl (fun ls hl => ?_)
    have hloop_33 : ∀ (n_33 : Nat) (k : Nat) (Xl_33 : xk_H) (H_64 : Heap) (L_65 : List Loc), (k ≤ 8) → 8 - k < n_33 → (tm_Ok g Xl_33 o ad (va_up A 8 (tl_puts (A 8) 0 (tl_nil ++ tl_dig (tl_n x) ++ [61] ++ tl_pet (A 0 (14 + 7 * tl_n x)) k))) (va_up S 6 ((tl_nil ++ tl_dig (tl_n x) ++ [61] ++ tl_pet (A 0 (14 + 7 * tl_n x)) k).length))) → (xk_fr o X Xl_33) → xk_I g s H_64 Xl_33 L_65 → ∀ ls : Array Slot, lv_has ls 4 [(0, .ref o), (1, .int x), (2, .int (nI (14 + 7 * tl_n x))), (3, .int (nI k))] → W p (xk_l g) e (({ frames := 2, cells := 0, slots := 0, locals := 46 } : Room)) s m args below meth c H_64 L_65 0 0 (MQ below (xk_Q g (xk_Qi (tl_dscR (A 0) x) (fun X1 => tm_Ok g X1 o ad (if tl_isb (A 0) x = true then va_up A 8 (tl_puts (A 8) 0 (tl_dsc (A 0) (tl_n x))) else A) (if tl_isb (A 0) x = true then va_up S 6 (tl_dsc (A 0) (tl_n x)).length else S) ∧ xk_fr o X X1))) args s (0) (0) (xk_A g)) (F0 m 33 ls []) := by
      intro n_33
      induction n_33 with
      | zero => intros; omega
      | succ n_33 ih_33 =>
        intro k Xl_33 H_64 L_65 hk1 hm_33  hMl_33 hfrl_33 hI_66 ls hl
        obtain ⟨hf_67, hf_68, hf_69, hf_70, hf_71, hf_72, hf_73, hf_74, hf_75, hf_76, hf_77⟩ := id hMl_33
        have hf_68 : Xl_33 (ad 0) = some ((o, 1), xk_iA g 0 294 (A 0)) := hf_68
        have hf_69 : Xl_33 (ad 1) = some ((o, 2), xk_iA g 0 294 (A 1)) := hf_69
        have hf_70 : Xl_33 (ad 2) = some ((o, 3), xk_iA g 0 294 (A 2)) := hf_70
        have hf_71 : Xl_33 (ad 3) = some ((o, 4), xk_iA g 0 294 (A 3)) := hf_71
        have hf_72 : Xl_33 (ad 4) = some ((o, 5), xk_iA g 0 2352 (A 4)) := hf_72
        have hf_73 : Xl_33 (ad 5) = some ((o, 6), xk_iA g 0 70 (A 5)) := hf_73
        have hf_74 : Xl_33 (ad 6) = some ((o, 7), xk_iA g 2 40 (A 6)) := hf_74
        have hf_75 : Xl_33 (ad 7) = some ((o, 8), xk_iA g 2 40 (A 7)) := hf_75
        have hf_76 : Xl_33 (ad 8) = some ((o, 9), xk_iA g 0 60 (tl_puts (A 8) 0 (tl_nil ++ tl_dig (tl_n x) ++ [61] ++ tl_pet (A 0 (14 + 7 * tl_n x)) k))) := hf_76
        have hf_77 : Xl_33 (ad 9) = some ((o, 10), xk_iA g 0 284 (A 9)) := hf_77
        have hf_67 : Xl_33 o = some ((o, 0), .inr (0, [.ref (ad 0), .ref (ad 1), .ref (ad 2), .ref (ad 3), .int (nI (S 0)), .ref (ad 4), .int (nI (S 1)), .int (nI (S 2)), .int (nI (S 3)), .int (tm_it (S 4)), .ref (ad 5), .int (nI (S 5)), .ref (ad 6), .ref (ad 7), .ref (ad 8), .int (nI ((tl_nil ++ tl_dig (tl_n x) ++ [61] ++ tl_pet (A 0 (14 + 7 * tl_n x)) k).length)), .ref (ad 9), .int (nI (S 7)), .int (nI (S 8)), .int (nI (S 9)), .int (nI (S 10))])) := hf_67
        refine lv_iload_n hx hb dX2_describe_33 rfl (lv_at hl 3 rfl) ?_
        refine lv_bipush (v := nI 8) hx hb dX2_describe_34 (by decide) ?_
        refine xk_icmp_ge (tgt := 70) hx hb (by omega) (by omega) dX2_describe_36 (by decide) (fun hc_36 => ?_) (fun hc_36 => ?_)
        · have hk8 : k = 8 := by omega
          subst hk8
          have lp8 := lp 8
          refine lv_aload_n hx hb dX2_describe_70 rfl (lv_at hl 0 rfl) ?_
          refine lv_bipush (v := nI 35) hx hb dX2_describe_71 (by decide) ?_
          have hM_78 : tm_Ok g Xl_33 o ad (va_up A 8 (tl_puts (A 8) 0 (tl_nil ++ tl_dig (tl_n x) ++ [61] ++ tl_pet (A 0 (14 + 7 * tl_n x)) 8))) (va_up S 6 ((tl_nil ++ tl_dig (tl_n x) ++ [61] ++ tl_pet (A 0 (14 + 7 * tl_n x)) 8).length)) := ⟨hf_67, hf_68, hf_69, hf_70, hf_71, hf_72, hf_73, hf_74, hf_75, hf_76, hf_77⟩
          refine xk_rv (xk_cV B hI_66 hl [.int (nI 35)] [] 1 (m2_sign0 g hM_78 (L0 := A 8) (cs := (tl_nil ++ tl_dig (tl_n x) ++ [61] ++ tl_pet (A 0 (14 + 7 * tl_n x)) 8)) 35 rfl rfl (by first | omega | (simp only [List.length_append, List.length_cons, List.length_nil, tl_nil_len]; omega))) hf_67 rfl (lw_V q1717 q1719 qs58 q79 q1720) ⟨rfl, by decide +kernel, by decide +kernel, by decide +kernel⟩ ⟨Nat.le_of_ble_eq_true rfl, Nat.le_of_ble_eq_true rfl⟩ rfl rfl (Nat.le_of_ble_eq_true rfl) dX2_describe_73 (Nat.le_of_ble_eq_true rfl) (Nat.le_of_ble_eq_true rfl)) hI_66 (fun X_82 H_80 L_81 hq_83 hI_79 => ?_)
          obtain ⟨hM_84, hfr_85⟩ := hq_83
          obtain ⟨hf_86, hf_87, hf_88, hf_89, hf_90, hf_91, hf_92, hf_93, hf_94, hf_95, hf_96⟩ := id hM_84
          have hfr_97 := xk_fr.tr hfrl_33 hfr_85
          have hf_87 : X_82 (ad 0) = some ((o, 1), xk_iA g 0 294 (A 0)) := hf_87
          have hf_88 : X_82 (ad 1) = some ((o, 2), xk_iA g 0 294 (A 1)) := hf_88
          have hf_89 : X_82 (ad 2) = some ((o, 3), xk_iA g 0 294 (A 2)) := hf_89
          have hf_90 : X_82 (ad 3) = some ((o, 4), xk_iA g 0 294 (A 3)) := hf_90
          have hf_91 : X_82 (ad 4) = some ((o, 5), xk_iA g 0 2352 (A 4)) := hf_91
          have hf_92 : X_82 (ad 5) = some ((o, 6), xk_iA g 0 70 (A 5)) := hf_92
          have hf_93 : X_82 (ad 6) = some ((o, 7), xk_iA g 2 40 (A 6)) := hf_93
          have hf_94 : X_82 (ad 7) = some ((o, 8), xk_iA g 2 40 (A 7)) := hf_94
          have hf_95 : X_82 (ad 8) = some ((o, 9), xk_iA g 0 60 (tl_puts (A 8) 0 (tl_nil ++ tl_dig (tl_n x) ++ [61] ++ tl_pet (A 0 (14 + 7 * tl_n x)) 8 ++ [35]))) := hf_95
          have hf_96 : X_82 (ad 9) = some ((o, 10), xk_iA g 0 284 (A 9)) := hf_96
          have hf_86 : X_82 o = some ((o, 0), .inr (0, [.ref (ad 0), .ref (ad 1), .ref (ad 2), .ref (ad 3), .int (nI (S 0)), .ref (ad 4), .int (nI (S 1)), .int (nI (S 2)), .int (nI (S 3)), .int (tm_it (S 4)), .ref (ad 5), .int (nI (S 5)), .ref (ad 6), .ref (ad 7), .ref (ad 8), .int (nI ((tl_nil ++ tl_dig (tl_n x) ++ [61] ++ tl_pet (A 0 (14 + 7 * tl_n x)) 8 ++ [35]).length)), .ref (ad 9), .int (nI (S 7)), .int (nI (S 8)), .int (nI (S 9)), .int (nI (S 10))])) := hf_86
          refine lv_aload_n hx hb dX2_describe_76 rfl (lv_at hl 0 rfl) ?_
          refine lv_aload_n hx hb dX2_describe_77 rfl (lv_at hl 0 rfl) ?_
          refine lv_aload_n hx hb dX2_describe_78 rfl (lv_at hl 0 rfl) ?_
          refine xk_get B hI_79 hf_86 rfl in_X2 0 (by decide) q1432 rfl dX2_describe_79 ?_
          refine lv_iload_n hx hb dX2_describe_82 rfl (lv_at hl 2 rfl) ?_
          refine xk_iald B hI_79 hf_87 (by omega) (by decide) dX2_describe_83 ?_
          have hM_98 : tm_Ok g X_82 o ad (va_up A 8 (tl_puts (A 8) 0 (tl_nil ++ tl_dig (tl_n x) ++ [61] ++ tl_pet (A 0 (14 + 7 * tl_n x)) 8 ++ [35]))) (va_up S 6 ((tl_nil ++ tl_dig (tl_n x) ++ [61] ++ tl_pet (A 0 (14 + 7 * tl_n x)) 8 ++ [35]).length)) := ⟨hf_86, hf_87, hf_88, hf_89, hf_90, hf_91, hf_92, hf_93, hf_94, hf_95, hf_96⟩
          refine xk_ri0 (xk_cV B hI_79 hl [.int (nI (A 0 (14 + 7 * tl_n x)))] [.ref o] 1 (m2_worth g hM_98 hk0 (pt := A 0 (14 + 7 * tl_n x)) (by omega)) hf_86 rfl (lw_V q1636 q1638 qs52 q79 q1639) ⟨rfl, by decide +kernel, by decide +kernel, by decide +kernel⟩ ⟨Nat.le_of_ble_eq_true rfl, Nat.le_of_ble_eq_true rfl⟩ rfl rfl (Nat.le_of_ble_eq_true rfl) dX2_describe_84 (Nat.le_of_ble_eq_true rfl) (Nat.le_of_ble_eq_true rfl)) hI_79 (fun H_100 L_101 hI_99 => ?_)
          refine xk_top (y := nI (tl_wor (A 0) (A 0 (14 + 7 * tl_n x)) 8)) rfl ?_
          refine xk_rv (xk_cV B hI_99 hl [.int (nI (tl_wor (A 0) (A 0 (14 + 7 * tl_n x)) 8))] [] 1 (m2_writesNumber g hM_98 (L0 := A 8) (cs := (tl_nil ++ tl_dig (tl_n x) ++ [61] ++ tl_pet (A 0 (14 + 7 * tl_n x)) 8 ++ [35])) (tl_wor (A 0) (A 0 (14 + 7 * tl_n x)) 8) (by omega) rfl rfl (by first | omega | (simp only [List.length_append, List.length_cons, List.length_nil, tl_nil_len]; omega))) hf_86 rfl (lw_V q1713 q1715 qs57 q79 q1716) ⟨rfl, by decide +kernel, by decide +kernel, by decide +kernel⟩ ⟨Nat.le_of_ble_eq_true rfl, Nat.le_of_ble_eq_true rfl⟩ rfl rfl (Nat.le_of_ble_eq_true rfl) dX2_describe_87 (Nat.le_of_ble_eq_true rfl) (Nat.le_of_ble_eq_true rfl)) hI_99 (fun X_105 H_103 L_104 hq_106 hI_102 => ?_)
          obtain ⟨hM_107, hfr_108⟩ := hq_106
          obtain ⟨hf_109, hf_110, hf_111, hf_112, hf_113, hf_114, hf_115, hf_116, hf_117, hf_118, hf_119⟩ := id hM_107
          have hfr_120 := xk_fr.tr hfr_97 hfr_108
          have hf_110 : X_105 (ad 0) = some ((o, 1), xk_iA g 0 294 (A 0)) := hf_110
          have hf_111 : X_105 (ad 1) = some ((o, 2), xk_iA g 0 294 (A 1)) := hf_111
          have hf_112 : X_105 (ad 2) = some ((o, 3), xk_iA g 0 294 (A 2)) := hf_112
          have hf_113 : X_105 (ad 3) = some ((o, 4), xk_iA g 0 294 (A 3)) := hf_113
          have hf_114 : X_105 (ad 4) = some ((o, 5), xk_iA g 0 2352 (A 4)) := hf_114
          have hf_115 : X_105 (ad 5) = some ((o, 6), xk_iA g 0 70 (A 5)) := hf_115
          have hf_116 : X_105 (ad 6) = some ((o, 7), xk_iA g 2 40 (A 6)) := hf_116
          have hf_117 : X_105 (ad 7) = some ((o, 8), xk_iA g 2 40 (A 7)) := hf_117
          have hf_118 : X_105 (ad 8) = some ((o, 9), xk_iA g 0 60 (tl_puts (A 8) 0 (tl_nil ++ tl_dig (tl_n x) ++ [61] ++ tl_pet (A 0 (14 + 7 * tl_n x)) 8 ++ [35] ++ tl_dig (tl_wor (A 0) (A 0 (14 + 7 * tl_n x)) 8)))) := hf_118
          have hf_119 : X_105 (ad 9) = some ((o, 10), xk_iA g 0 284 (A 9)) := hf_119
          have hf_109 : X_105 o = some ((o, 0), .inr (0, [.ref (ad 0), .ref (ad 1), .ref (ad 2), .ref (ad 3), .int (nI (S 0)), .ref (ad 4), .int (nI (S 1)), .int (nI (S 2)), .int (nI (S 3)), .int (tm_it (S 4)), .ref (ad 5), .int (nI (S 5)), .ref (ad 6), .ref (ad 7), .ref (ad 8), .int (nI ((tl_nil ++ tl_dig (tl_n x) ++ [61] ++ tl_pet (A 0 (14 + 7 * tl_n x)) 8 ++ [35] ++ tl_dig (tl_wor (A 0) (A 0 (14 + 7 * tl_n x)) 8)).length)), .ref (ad 9), .int (nI (S 7)), .int (nI (S 8)), .int (nI (S 9)), .int (nI (S 10))])) := hf_109
          refine lv_aload_n hx hb dX2_describe_90 rfl (lv_at hl 0 rfl) ?_
          refine xk_get B hI_102 hf_109 rfl in_X2 0 (by decide) q1432 rfl dX2_describe_91 ?_
          refine lv_iload_n hx hb dX2_describe_94 rfl (lv_at hl 2 rfl) ?_
          refine lv_iconst (v := nI 1) hx hb dX2_describe_95 (by decide) ?_
          refine lv_iadd hx hb dX2_describe_96 (xk_top (nI_add _ _) ?_)
          refine xk_iald B hI_102 hf_110 (by omega) (by decide) dX2_describe_97 ?_
          refine xk_if_le (tgt := 141) hx hb (by omega) dX2_describe_98 (by decide) (fun hc_98 => ?_) (fun hc_98 => ?_)
          · refine lv_aload_n hx hb dX2_describe_141 rfl (lv_at hl 0 rfl) ?_
            refine lv_iload_n hx hb dX2_describe_142 rfl (lv_at hl 1 rfl) ?_
            refine xk_top hx1 ?_
            have hM_121 : tm_Ok g X_105 o ad (va_up A 8 (tl_puts (A 8) 0 (tl_nil ++ tl_dig (tl_n x) ++ [61] ++ tl_pet (A 0 (14 + 7 * tl_n x)) 8 ++ [35] ++ tl_dig (tl_wor (A 0) (A 0 (14 + 7 * tl_n x)) 8)))) (va_up S 6 ((tl_nil ++ tl_dig (tl_n x) ++ [61] ++ tl_pet (A 0 (14 + 7 * tl_n x)) 8 ++ [35] ++ tl_dig (tl_wor (A 0) (A 0 (14 + 7 * tl_n x)) 8)).length)) := ⟨hf_109, hf_110, hf_111, hf_112, hf_113, hf_114, hf_115, hf_116, hf_117, hf_118, hf_119⟩
            refine xk_ri0 (xk_cV B hI_102 hl [.int (nI (tl_n x))] [] 1 (m2_lives g hM_121 (b := tl_n x) (by omega) (show A 0 (14 + 7 * (tl_n x) + 3) < 2147483648 from by first | omega | (have := kb (tl_n x) (by omega); omega))) hf_109 rfl (lw_V q1548 q1550 qs38 q79 q1551) ⟨rfl, by decide +kernel, by decide +kernel, by decide +kernel⟩ ⟨Nat.le_of_ble_eq_true rfl, Nat.le_of_ble_eq_true rfl⟩ rfl rfl (Nat.le_of_ble_eq_true rfl) dX2_describe_143 (Nat.le_of_ble_eq_true rfl) (Nat.le_of_ble_eq_true rfl)) hI_102 (fun H_123 L_124 hI_122 => ?_)
            refine xk_top (y := xk_z (tl_al (A 0) (tl_n x))) rfl ?_
            refine xk_if_ne_z (tgt := 155) hx hb dX2_describe_146 (by decide) (fun hc_146 => ?_) (fun hc_146 => ?_)
            · refine lv_aload_n hx hb dX2_describe_155 rfl (lv_at hl 0 rfl) ?_
              refine xk_get B hI_122 hf_109 rfl in_X2 15 (by decide) q1447 rfl dX2_describe_156 ?_
              exact xk_reti B hI_122 hr rfl dX2_describe_159 (Nat.le_of_ble_eq_true rfl) (Nat.le_of_ble_eq_true rfl) ((by unfold tl_dscR; rw [if_pos hc_5, if_pos hc_5, if_pos hc_5, show tl_dsc (A 0) (tl_n x) = tl_nil ++ tl_dig (tl_n x) ++ [61] ++ tl_pet (A 0 (14 + 7 * tl_n x)) 8 ++ [35] ++ tl_dig (tl_wor (A 0) (A 0 (14 + 7 * tl_n x)) 8) from by unfold tl_dsc; rw [if_pos hc_146, if_neg (by omega)]; rfl]; exact ⟨rfl, hM_121, hfr_120⟩))
            · refine lv_aload_n hx hb dX2_describe_149 rfl (lv_at hl 0 rfl) ?_
              refine lv_bipush (v := nI 43) hx hb dX2_describe_150 (by decide) ?_
              refine xk_rv (xk_cV B hI_122 hl [.int (nI 43)] [] 1 (m2_sign0 g hM_121 (L0 := A 8) (cs := (tl_nil ++ tl_dig (tl_n x) ++ [61] ++ tl_pet (A 0 (14 + 7 * tl_n x)) 8 ++ [35] ++ tl_dig (tl_wor (A 0) (A 0 (14 + 7 * tl_n x)) 8))) 43 rfl rfl (by first | omega | (simp only [List.length_append, List.length_cons, List.length_nil, tl_nil_len]; omega))) hf_109 rfl (lw_V q1717 q1719 qs58 q79 q1720) ⟨rfl, by decide +kernel, by decide +kernel, by decide +kernel⟩ ⟨Nat.le_of_ble_eq_true rfl, Nat.le_of_ble_eq_true rfl⟩ rfl rfl (Nat.le_of_ble_eq_true rfl) dX2_describe_152 (Nat.le_of_ble_eq_true rfl) (Nat.le_of_ble_eq_true rfl)) hI_122 (fun X_128 H_126 L_127 hq_129 hI_125 => ?_)
              obtain ⟨hM_130, hfr_131⟩ := hq_129
              obtain ⟨hf_132, hf_133, hf_134, hf_135, hf_136, hf_137, hf_138, hf_139, hf_140, hf_141, hf_142⟩ := id hM_130
              have hfr_143 := xk_fr.tr hfr_120 hfr_131
              have hf_133 : X_128 (ad 0) = some ((o, 1), xk_iA g 0 294 (A 0)) := hf_133
              have hf_134 : X_128 (ad 1) = some ((o, 2), xk_iA g 0 294 (A 1)) := hf_134
              have hf_135 : X_128 (ad 2) = some ((o, 3), xk_iA g 0 294 (A 2)) := hf_135
              have hf_136 : X_128 (ad 3) = some ((o, 4), xk_iA g 0 294 (A 3)) := hf_136
              have hf_137 : X_128 (ad 4) = some ((o, 5), xk_iA g 0 2352 (A 4)) := hf_137
              have hf_138 : X_128 (ad 5) = some ((o, 6), xk_iA g 0 70 (A 5)) := hf_138
              have hf_139 : X_128 (ad 6) = some ((o, 7), xk_iA g 2 40 (A 6)) := hf_139
              have hf_140 : X_128 (ad 7) = some ((o, 8), xk_iA g 2 40 (A 7)) := hf_140
              have hf_141 : X_128 (ad 8) = some ((o, 9), xk_iA g 0 60 (tl_puts (A 8) 0 (tl_nil ++ tl_dig (tl_n x) ++ [61] ++ tl_pet (A 0 (14 + 7 * tl_n x)) 8 ++ [35] ++ tl_dig (tl_wor (A 0) (A 0 (14 + 7 * tl_n x)) 8) ++ [43]))) := hf_141
              have hf_142 : X_128 (ad 9) = some ((o, 10), xk_iA g 0 284 (A 9)) := hf_142
              have hf_132 : X_128 o = some ((o, 0), .inr (0, [.ref (ad 0), .ref (ad 1), .ref (ad 2), .ref (ad 3), .int (nI (S 0)), .ref (ad 4), .int (nI (S 1)), .int (nI (S 2)), .int (nI (S 3)), .int (tm_it (S 4)), .ref (ad 5), .int (nI (S 5)), .ref (ad 6), .ref (ad 7), .ref (ad 8), .int (nI ((tl_nil ++ tl_dig (tl_n x) ++ [61] ++ tl_pet (A 0 (14 + 7 * tl_n x)) 8 ++ [35] ++ tl_dig (tl_wor (A 0) (A 0 (14 + 7 * tl_n x)) 8) ++ [43]).length)), .ref (ad 9), .int (nI (S 7)), .int (nI (S 8)), .int (nI (S 9)), .int (nI (S 10))])) := hf_132
              refine lv_aload_n hx hb dX2_describe_155 rfl (lv_at hl 0 rfl) ?_
              refine xk_get B hI_125 hf_132 rfl in_X2 15 (by decide) q1447 rfl dX2_describe_156 ?_
              have hM_144 : tm_Ok g X_128 o ad (va_up A 8 (tl_puts (A 8) 0 (tl_nil ++ tl_dig (tl_n x) ++ [61] ++ tl_pet (A 0 (14 + 7 * tl_n x)) 8 ++ [35] ++ tl_dig (tl_wor (A 0) (A 0 (14 + 7 * tl_n x)) 8) ++ [43]))) (va_up S 6 ((tl_nil ++ tl_dig (tl_n x) ++ [61] ++ tl_pet (A 0 (14 + 7 * tl_n x)) 8 ++ [35] ++ tl_dig (tl_wor (A 0) (A 0 (14 + 7 * tl_n x)) 8) ++ [43]).length)) := ⟨hf_132, hf_133, hf_134, hf_135, hf_136, hf_137, hf_138, hf_139, hf_140, hf_141, hf_142⟩
              exact xk_reti B hI_125 hr rfl dX2_describe_159 (Nat.le_of_ble_eq_true rfl) (Nat.le_of_ble_eq_true rfl) ((by unfold tl_dscR; rw [if_pos hc_5, if_pos hc_5, if_pos hc_5, show tl_dsc (A 0) (tl_n x) = tl_nil ++ tl_dig (tl_n x) ++ [61] ++ tl_pet (A 0 (14 + 7 * tl_n x)) 8 ++ [35] ++ tl_dig (tl_wor (A 0) (A 0 (14 + 7 * tl_n x)) 8) ++ [43] from by unfold tl_dsc; rw [if_neg (by rw [hc_146]; decide), if_neg (by omega)]; rfl]; exact ⟨rfl, hM_144, hfr_143⟩))
          · refine lv_aload_n hx hb dX2_describe_101 rfl (lv_at hl 0 rfl) ?_
            refine lv_bipush (v := nI 126) hx hb dX2_describe_102 (by decide) ?_
            have hM_145 : tm_Ok g X_105 o ad (va_up A 8 (tl_puts (A 8) 0 (tl_nil ++ tl_dig (tl_n x) ++ [61] ++ tl_pet (A 0 (14 + 7 * tl_n x)) 8 ++ [35] ++ tl_dig (tl_wor (A 0) (A 0 (14 + 7 * tl_n x)) 8)))) (va_up S 6 ((tl_nil ++ tl_dig (tl_n x) ++ [61] ++ tl_pet (A 0 (14 + 7 * tl_n x)) 8 ++ [35] ++ tl_dig (tl_wor (A 0) (A 0 (14 + 7 * tl_n x)) 8)).length)) := ⟨hf_109, hf_110, hf_111, hf_112, hf_113, hf_114, hf_115, hf_116, hf_117, hf_118, hf_119⟩
            refine xk_rv (xk_cV B hI_102 hl [.int (nI 126)] [] 1 (m2_sign0 g hM_145 (L0 := A 8) (cs := (tl_nil ++ tl_dig (tl_n x) ++ [61] ++ tl_pet (A 0 (14 + 7 * tl_n x)) 8 ++ [35] ++ tl_dig (tl_wor (A 0) (A 0 (14 + 7 * tl_n x)) 8))) 126 rfl rfl (by first | omega | (simp only [List.length_append, List.length_cons, List.length_nil, tl_nil_len]; omega))) hf_109 rfl (lw_V q1717 q1719 qs58 q79 q1720) ⟨rfl, by decide +kernel, by decide +kernel, by decide +kernel⟩ ⟨Nat.le_of_ble_eq_true rfl, Nat.le_of_ble_eq_true rfl⟩ rfl rfl (Nat.le_of_ble_eq_true rfl) dX2_describe_104 (Nat.le_of_ble_eq_true rfl) (Nat.le_of_ble_eq_true rfl)) hI_102 (fun X_149 H_147 L_148 hq_150 hI_146 => ?_)
            obtain ⟨hM_151, hfr_152⟩ := hq_150
            obtain ⟨hf_153, hf_154, hf_155, hf_156, hf_157, hf_158, hf_159, hf_160, hf_161, hf_162, hf_163⟩ := id hM_151
            have hfr_164 := xk_fr.tr hfr_120 hfr_152
            have hf_154 : X_149 (ad 0) = some ((o, 1), xk_iA g 0 294 (A 0)) := hf_154
            have hf_155 : X_149 (ad 1) = some ((o, 2), xk_iA g 0 294 (A 1)) := hf_155
            have hf_156 : X_149 (ad 2) = some ((o, 3), xk_iA g 0 294 (A 2)) := hf_156
            have hf_157 : X_149 (ad 3) = some ((o, 4), xk_iA g 0 294 (A 3)) := hf_157
            have hf_158 : X_149 (ad 4) = some ((o, 5), xk_iA g 0 2352 (A 4)) := hf_158
            have hf_159 : X_149 (ad 5) = some ((o, 6), xk_iA g 0 70 (A 5)) := hf_159
            have hf_160 : X_149 (ad 6) = some ((o, 7), xk_iA g 2 40 (A 6)) := hf_160
            have hf_161 : X_149 (ad 7) = some ((o, 8), xk_iA g 2 40 (A 7)) := hf_161
            have hf_162 : X_149 (ad 8) = some ((o, 9), xk_iA g 0 60 (tl_puts (A 8) 0 (tl_nil ++ tl_dig (tl_n x) ++ [61] ++ tl_pet (A 0 (14 + 7 * tl_n x)) 8 ++ [35] ++ tl_dig (tl_wor (A 0) (A 0 (14 + 7 * tl_n x)) 8) ++ [126]))) := hf_162
            have hf_163 : X_149 (ad 9) = some ((o, 10), xk_iA g 0 284 (A 9)) := hf_163
            have hf_153 : X_149 o = some ((o, 0), .inr (0, [.ref (ad 0), .ref (ad 1), .ref (ad 2), .ref (ad 3), .int (nI (S 0)), .ref (ad 4), .int (nI (S 1)), .int (nI (S 2)), .int (nI (S 3)), .int (tm_it (S 4)), .ref (ad 5), .int (nI (S 5)), .ref (ad 6), .ref (ad 7), .ref (ad 8), .int (nI ((tl_nil ++ tl_dig (tl_n x) ++ [61] ++ tl_pet (A 0 (14 + 7 * tl_n x)) 8 ++ [35] ++ tl_dig (tl_wor (A 0) (A 0 (14 + 7 * tl_n x)) 8) ++ [126]).length)), .ref (ad 9), .int (nI (S 7)), .int (nI (S 8)), .int (nI (S 9)), .int (nI (S 10))])) := hf_153
            refine lv_aload_n hx hb dX2_describe_107 rfl (lv_at hl 0 rfl) ?_
            refine lv_aload_n hx hb dX2_describe_108 rfl (lv_at hl 0 rfl) ?_
            refine xk_get B hI_146 hf_153 rfl in_X2 0 (by decide) q1432 rfl dX2_describe_109 ?_
            refine lv_iload_n hx hb dX2_describe_112 rfl (lv_at hl 2 rfl) ?_
            refine lv_iconst (v := nI 1) hx hb dX2_describe_113 (by decide) ?_
            refine lv_iadd hx hb dX2_describe_114 (xk_top (nI_add _ _) ?_)
            refine xk_iald B hI_146 hf_154 (by omega) (by decide) dX2_describe_115 ?_
            refine lv_iconst (v := nI 1) hx hb dX2_describe_116 (by decide) ?_
            refine lv_isub hx hb dX2_describe_117 (xk_top (pk_sub (by omega)) ?_)
            have hM_165 : tm_Ok g X_149 o ad (va_up A 8 (tl_puts (A 8) 0 (tl_nil ++ tl_dig (tl_n x) ++ [61] ++ tl_pet (A 0 (14 + 7 * tl_n x)) 8 ++ [35] ++ tl_dig (tl_wor (A 0) (A 0 (14 + 7 * tl_n x)) 8) ++ [126]))) (va_up S 6 ((tl_nil ++ tl_dig (tl_n x) ++ [61] ++ tl_pet (A 0 (14 + 7 * tl_n x)) 8 ++ [35] ++ tl_dig (tl_wor (A 0) (A 0 (14 + 7 * tl_n x)) 8) ++ [126]).length)) := ⟨hf_153, hf_154, hf_155, hf_156, hf_157, hf_158, hf_159, hf_160, hf_161, hf_162, hf_163⟩
            refine xk_rv (xk_cV B hI_146 hl [.int (nI ((A 0 (14 + 7 * tl_n x + 1)) - 1))] [] 1 (m2_writesNumber g hM_165 (L0 := A 8) (cs := (tl_nil ++ tl_dig (tl_n x) ++ [61] ++ tl_pet (A 0 (14 + 7 * tl_n x)) 8 ++ [35] ++ tl_dig (tl_wor (A 0) (A 0 (14 + 7 * tl_n x)) 8) ++ [126])) ((A 0 (14 + 7 * tl_n x + 1)) - 1) (by omega) rfl rfl (by first | omega | (simp only [List.length_append, List.length_cons, List.length_nil, tl_nil_len]; omega))) hf_153 rfl (lw_V q1713 q1715 qs57 q79 q1716) ⟨rfl, by decide +kernel, by decide +kernel, by decide +kernel⟩ ⟨Nat.le_of_ble_eq_true rfl, Nat.le_of_ble_eq_true rfl⟩ rfl rfl (Nat.le_of_ble_eq_true rfl) dX2_describe_118 (Nat.le_of_ble_eq_true rfl) (Nat.le_of_ble_eq_true rfl)) hI_146 (fun X_169 H_167 L_168 hq_170 hI_166 => ?_)
            obtain ⟨hM_171, hfr_172⟩ := hq_170
            obtain ⟨hf_173, hf_174, hf_175, hf_176, hf_177, hf_178, hf_179, hf_180, hf_181, hf_182, hf_183⟩ := id hM_171
            have hfr_184 := xk_fr.tr hfr_164 hfr_172
            have hf_174 : X_169 (ad 0) = some ((o, 1), xk_iA g 0 294 (A 0)) := hf_174
            have hf_175 : X_169 (ad 1) = some ((o, 2), xk_iA g 0 294 (A 1)) := hf_175
            have hf_176 : X_169 (ad 2) = some ((o, 3), xk_iA g 0 294 (A 2)) := hf_176
            have hf_177 : X_169 (ad 3) = some ((o, 4), xk_iA g 0 294 (A 3)) := hf_177
            have hf_178 : X_169 (ad 4) = some ((o, 5), xk_iA g 0 2352 (A 4)) := hf_178
            have hf_179 : X_169 (ad 5) = some ((o, 6), xk_iA g 0 70 (A 5)) := hf_179
            have hf_180 : X_169 (ad 6) = some ((o, 7), xk_iA g 2 40 (A 6)) := hf_180
            have hf_181 : X_169 (ad 7) = some ((o, 8), xk_iA g 2 40 (A 7)) := hf_181
            have hf_182 : X_169 (ad 8) = some ((o, 9), xk_iA g 0 60 (tl_puts (A 8) 0 (tl_nil ++ tl_dig (tl_n x) ++ [61] ++ tl_pet (A 0 (14 + 7 * tl_n x)) 8 ++ [35] ++ tl_dig (tl_wor (A 0) (A 0 (14 + 7 * tl_n x)) 8) ++ [126] ++ tl_dig ((A 0 (14 + 7 * tl_n x + 1)) - 1)))) := hf_182
            have hf_183 : X_169 (ad 9) = some ((o, 10), xk_iA g 0 284 (A 9)) := hf_183
            have hf_173 : X_169 o = some ((o, 0), .inr (0, [.ref (ad 0), .ref (ad 1), .ref (ad 2), .ref (ad 3), .int (nI (S 0)), .ref (ad 4), .int (nI (S 1)), .int (nI (S 2)), .int (nI (S 3)), .int (tm_it (S 4)), .ref (ad 5), .int (nI (S 5)), .ref (ad 6), .ref (ad 7), .ref (ad 8), .int (nI ((tl_nil ++ tl_dig (tl_n x) ++ [61] ++ tl_pet (A 0 (14 + 7 * tl_n x)) 8 ++ [35] ++ tl_dig (tl_wor (A 0) (A 0 (14 + 7 * tl_n x)) 8) ++ [126] ++ tl_dig ((A 0 (14 + 7 * tl_n x + 1)) - 1)).length)), .ref (ad 9), .int (nI (S 7)), .int (nI (S 8)), .int (nI (S 9)), .int (nI (S 10))])) := hf_173
            refine lv_aload_n hx hb dX2_describe_121 rfl (lv_at hl 0 rfl) ?_
            refine lv_bipush (v := nI 120) hx hb dX2_describe_122 (by decide) ?_
            have hM_185 : tm_Ok g X_169 o ad (va_up A 8 (tl_puts (A 8) 0 (tl_nil ++ tl_dig (tl_n x) ++ [61] ++ tl_pet (A 0 (14 + 7 * tl_n x)) 8 ++ [35] ++ tl_dig (tl_wor (A 0) (A 0 (14 + 7 * tl_n x)) 8) ++ [126] ++ tl_dig ((A 0 (14 + 7 * tl_n x + 1)) - 1)))) (va_up S 6 ((tl_nil ++ tl_dig (tl_n x) ++ [61] ++ tl_pet (A 0 (14 + 7 * tl_n x)) 8 ++ [35] ++ tl_dig (tl_wor (A 0) (A 0 (14 + 7 * tl_n x)) 8) ++ [126] ++ tl_dig ((A 0 (14 + 7 * tl_n x + 1)) - 1)).length)) := ⟨hf_173, hf_174, hf_175, hf_176, hf_177, hf_178, hf_179, hf_180, hf_181, hf_182, hf_183⟩
            refine xk_rv (xk_cV B hI_166 hl [.int (nI 120)] [] 1 (m2_sign0 g hM_185 (L0 := A 8) (cs := (tl_nil ++ tl_dig (tl_n x) ++ [61] ++ tl_pet (A 0 (14 + 7 * tl_n x)) 8 ++ [35] ++ tl_dig (tl_wor (A 0) (A 0 (14 + 7 * tl_n x)) 8) ++ [126] ++ tl_dig ((A 0 (14 + 7 * tl_n x + 1)) - 1))) 120 rfl rfl (by first | omega | (simp only [List.length_append, List.length_cons, List.length_nil, tl_nil_len]; omega))) hf_173 rfl (lw_V q1717 q1719 qs58 q79 q1720) ⟨rfl, by decide +kernel, by decide +kernel, by decide +kernel⟩ ⟨Nat.le_of_ble_eq_true rfl, Nat.le_of_ble_eq_true rfl⟩ rfl rfl (Nat.le_of_ble_eq_true rfl) dX2_describe_124 (Nat.le_of_ble_eq_true rfl) (Nat.le_of_ble_eq_true rfl)) hI_166 (fun X_189 H_187 L_188 hq_190 hI_186 => ?_)
            obtain ⟨hM_191, hfr_192⟩ := hq_190
            obtain ⟨hf_193, hf_194, hf_195, hf_196, hf_197, hf_198, hf_199, hf_200, hf_201, hf_202, hf_203⟩ := id hM_191
            have hfr_204 := xk_fr.tr hfr_184 hfr_192
            have hf_194 : X_189 (ad 0) = some ((o, 1), xk_iA g 0 294 (A 0)) := hf_194
            have hf_195 : X_189 (ad 1) = some ((o, 2), xk_iA g 0 294 (A 1)) := hf_195
            have hf_196 : X_189 (ad 2) = some ((o, 3), xk_iA g 0 294 (A 2)) := hf_196
            have hf_197 : X_189 (ad 3) = some ((o, 4), xk_iA g 0 294 (A 3)) := hf_197
            have hf_198 : X_189 (ad 4) = some ((o, 5), xk_iA g 0 2352 (A 4)) := hf_198
            have hf_199 : X_189 (ad 5) = some ((o, 6), xk_iA g 0 70 (A 5)) := hf_199
            have hf_200 : X_189 (ad 6) = some ((o, 7), xk_iA g 2 40 (A 6)) := hf_200
            have hf_201 : X_189 (ad 7) = some ((o, 8), xk_iA g 2 40 (A 7)) := hf_201
            have hf_202 : X_189 (ad 8) = some ((o, 9), xk_iA g 0 60 (tl_puts (A 8) 0 (tl_nil ++ tl_dig (tl_n x) ++ [61] ++ tl_pet (A 0 (14 + 7 * tl_n x)) 8 ++ [35] ++ tl_dig (tl_wor (A 0) (A 0 (14 + 7 * tl_n x)) 8) ++ [126] ++ tl_dig ((A 0 (14 + 7 * tl_n x + 1)) - 1) ++ [120]))) := hf_202
            have hf_203 : X_189 (ad 9) = some ((o, 10), xk_iA g 0 284 (A 9)) := hf_203
            have hf_193 : X_189 o = some ((o, 0), .inr (0, [.ref (ad 0), .ref (ad 1), .ref (ad 2), .ref (ad 3), .int (nI (S 0)), .ref (ad 4), .int (nI (S 1)), .int (nI (S 2)), .int (nI (S 3)), .int (tm_it (S 4)), .ref (ad 5), .int (nI (S 5)), .ref (ad 6), .ref (ad 7), .ref (ad 8), .int (nI ((tl_nil ++ tl_dig (tl_n x) ++ [61] ++ tl_pet (A 0 (14 + 7 * tl_n x)) 8 ++ [35] ++ tl_dig (tl_wor (A 0) (A 0 (14 + 7 * tl_n x)) 8) ++ [126] ++ tl_dig ((A 0 (14 + 7 * tl_n x + 1)) - 1) ++ [120]).length)), .ref (ad 9), .int (nI (S 7)), .int (nI (S 8)), .int (nI (S 9)), .int (nI (S 10))])) := hf_193
            refine lv_aload_n hx hb dX2_describe_127 rfl (lv_at hl 0 rfl) ?_
            refine lv_aload_n hx hb dX2_describe_128 rfl (lv_at hl 0 rfl) ?_
            refine xk_get B hI_186 hf_193 rfl in_X2 0 (by decide) q1432 rfl dX2_describe_129 ?_
            refine lv_iload_n hx hb dX2_describe_132 rfl (lv_at hl 2 rfl) ?_
            refine lv_iconst (v := nI 2) hx hb dX2_describe_133 (by decide) ?_
            refine lv_iadd hx hb dX2_describe_134 (xk_top (nI_add _ _) ?_)
            refine xk_iald B hI_186 hf_194 (by omega) (by decide) dX2_describe_135 ?_
            refine lv_iconst (v := nI 1) hx hb dX2_describe_136 (by decide) ?_
            refine lv_isub hx hb dX2_describe_137 (xk_top (pk_sub (by omega)) ?_)
            have hM_205 : tm_Ok g X_189 o ad (va_up A 8 (tl_puts (A 8) 0 (tl_nil ++ tl_dig (tl_n x) ++ [61] ++ tl_pet (A 0 (14 + 7 * tl_n x)) 8 ++ [35] ++ tl_dig (tl_wor (A 0) (A 0 (14 + 7 * tl_n x)) 8) ++ [126] ++ tl_dig ((A 0 (14 + 7 * tl_n x + 1)) - 1) ++ [120]))) (va_up S 6 ((tl_nil ++ tl_dig (tl_n x) ++ [61] ++ tl_pet (A 0 (14 + 7 * tl_n x)) 8 ++ [35] ++ tl_dig (tl_wor (A 0) (A 0 (14 + 7 * tl_n x)) 8) ++ [126] ++ tl_dig ((A 0 (14 + 7 * tl_n x + 1)) - 1) ++ [120]).length)) := ⟨hf_193, hf_194, hf_195, hf_196, hf_197, hf_198, hf_199, hf_200, hf_201, hf_202, hf_203⟩
            refine xk_rv (xk_cV B hI_186 hl [.int (nI ((A 0 (14 + 7 * tl_n x + 2)) - 1))] [] 1 (m2_writesNumber g hM_205 (L0 := A 8) (cs := (tl_nil ++ tl_dig (tl_n x) ++ [61] ++ tl_pet (A 0 (14 + 7 * tl_n x)) 8 ++ [35] ++ tl_dig (tl_wor (A 0) (A 0 (14 + 7 * tl_n x)) 8) ++ [126] ++ tl_dig ((A 0 (14 + 7 * tl_n x + 1)) - 1) ++ [120])) ((A 0 (14 + 7 * tl_n x + 2)) - 1) (by omega) rfl rfl (by first | omega | (simp only [List.length_append, List.length_cons, List.length_nil, tl_nil_len]; omega))) hf_193 rfl (lw_V q1713 q1715 qs57 q79 q1716) ⟨rfl, by decide +kernel, by decide +kernel, by decide +kernel⟩ ⟨Nat.le_of_ble_eq_true rfl, Nat.le_of_ble_eq_true rfl⟩ rfl rfl (Nat.le_of_ble_eq_true rfl) dX2_describe_138 (Nat.le_of_ble_eq_true rfl) (Nat.le_of_ble_eq_true rfl)) hI_186 (fun X_209 H_207 L_208 hq_210 hI_206 => ?_)
            obtain ⟨hM_211, hfr_212⟩ := hq_210
            obtain ⟨hf_213, hf_214, hf_215, hf_216, hf_217, hf_218, hf_219, hf_220, hf_221, hf_222, hf_223⟩ := id hM_211
            have hfr_224 := xk_fr.tr hfr_204 hfr_212
            have hf_214 : X_209 (ad 0) = some ((o, 1), xk_iA g 0 294 (A 0)) := hf_214
            have hf_215 : X_209 (ad 1) = some ((o, 2), xk_iA g 0 294 (A 1)) := hf_215
            have hf_216 : X_209 (ad 2) = some ((o, 3), xk_iA g 0 294 (A 2)) := hf_216
            have hf_217 : X_209 (ad 3) = some ((o, 4), xk_iA g 0 294 (A 3)) := hf_217
            have hf_218 : X_209 (ad 4) = some ((o, 5), xk_iA g 0 2352 (A 4)) := hf_218
            have hf_219 : X_209 (ad 5) = some ((o, 6), xk_iA g 0 70 (A 5)) := hf_219
            have hf_220 : X_209 (ad 6) = some ((o, 7), xk_iA g 2 40 (A 6)) := hf_220
            have hf_221 : X_209 (ad 7) = some ((o, 8), xk_iA g 2 40 (A 7)) := hf_221
            have hf_222 : X_209 (ad 8) = some ((o, 9), xk_iA g 0 60 (tl_puts (A 8) 0 (tl_nil ++ tl_dig (tl_n x) ++ [61] ++ tl_pet (A 0 (14 + 7 * tl_n x)) 8 ++ [35] ++ tl_dig (tl_wor (A 0) (A 0 (14 + 7 * tl_n x)) 8) ++ [126] ++ tl_dig ((A 0 (14 + 7 * tl_n x + 1)) - 1) ++ [120] ++ tl_dig ((A 0 (14 + 7 * tl_n x + 2)) - 1)))) := hf_222
            have hf_223 : X_209 (ad 9) = some ((o, 10), xk_iA g 0 284 (A 9)) := hf_223
            have hf_213 : X_209 o = some ((o, 0), .inr (0, [.ref (ad 0), .ref (ad 1), .ref (ad 2), .ref (ad 3), .int (nI (S 0)), .ref (ad 4), .int (nI (S 1)), .int (nI (S 2)), .int (nI (S 3)), .int (tm_it (S 4)), .ref (ad 5), .int (nI (S 5)), .ref (ad 6), .ref (ad 7), .ref (ad 8), .int (nI ((tl_nil ++ tl_dig (tl_n x) ++ [61] ++ tl_pet (A 0 (14 + 7 * tl_n x)) 8 ++ [35] ++ tl_dig (tl_wor (A 0) (A 0 (14 + 7 * tl_n x)) 8) ++ [126] ++ tl_dig ((A 0 (14 + 7 * tl_n x + 1)) - 1) ++ [120] ++ tl_dig ((A 0 (14 + 7 * tl_n x + 2)) - 1)).length)), .ref (ad 9), .int (nI (S 7)), .int (nI (S 8)), .int (nI (S 9)), .int (nI (S 10))])) := hf_213
            refine lv_aload_n hx hb dX2_describe_141 rfl (lv_at hl 0 rfl) ?_
            refine lv_iload_n hx hb dX2_describe_142 rfl (lv_at hl 1 rfl) ?_
            refine xk_top hx1 ?_
            have hM_225 : tm_Ok g X_209 o ad (va_up A 8 (tl_puts (A 8) 0 (tl_nil ++ tl_dig (tl_n x) ++ [61] ++ tl_pet (A 0 (14 + 7 * tl_n x)) 8 ++ [35] ++ tl_dig (tl_wor (A 0) (A 0 (14 + 7 * tl_n x)) 8) ++ [126] ++ tl_dig ((A 0 (14 + 7 * tl_n x + 1)) - 1) ++ [120] ++ tl_dig ((A 0 (14 + 7 * tl_n x + 2)) - 1)))) (va_up S 6 ((tl_nil ++ tl_dig (tl_n x) ++ [61] ++ tl_pet (A 0 (14 + 7 * tl_n x)) 8 ++ [35] ++ tl_dig (tl_wor (A 0) (A 0 (14 + 7 * tl_n x)) 8) ++ [126] ++ tl_dig ((A 0 (14 + 7 * tl_n x + 1)) - 1) ++ [120] ++ tl_dig ((A 0 (14 + 7 * tl_n x + 2)) - 1)).length)) := ⟨hf_213, hf_214, hf_215, hf_216, hf_217, hf_218, hf_219, hf_220, hf_221, hf_222, hf_223⟩
            refine xk_ri0 (xk_cV B hI_206 hl [.int (nI (tl_n x))] [] 1 (m2_lives g hM_225 (b := tl_n x) (by omega) (show A 0 (14 + 7 * (tl_n x) + 3) < 2147483648 from by first | omega | (have := kb (tl_n x) (by omega); omega))) hf_213 rfl (lw_V q1548 q1550 qs38 q79 q1551) ⟨rfl, by decide +kernel, by decide +kernel, by decide +kernel⟩ ⟨Nat.le_of_ble_eq_true rfl, Nat.le_of_ble_eq_true rfl⟩ rfl rfl (Nat.le_of_ble_eq_true rfl) dX2_describe_143 (Nat.le_of_ble_eq_true rfl) (Nat.le_of_ble_eq_true rfl)) hI_206 (fun H_227 L_228 hI_226 => ?_)
            refine xk_top (y := xk_z (tl_al (A 0) (tl_n x))) rfl ?_
            refine xk_if_ne_z (tgt := 155) hx hb dX2_describe_146 (by decide) (fun hc_146 => ?_) (fun hc_146 => ?_)
            · refine lv_aload_n hx hb dX2_describe_155 rfl (lv_at hl 0 rfl) ?_
              refine xk_get B hI_226 hf_213 rfl in_X2 15 (by decide) q1447 rfl dX2_describe_156 ?_
              exact xk_reti B hI_226 hr rfl dX2_describe_159 (Nat.le_of_ble_eq_true rfl) (Nat.le_of_ble_eq_true rfl) ((by unfold tl_dscR; rw [if_pos hc_5, if_pos hc_5, if_pos hc_5, show tl_dsc (A 0) (tl_n x) = tl_nil ++ tl_dig (tl_n x) ++ [61] ++ tl_pet (A 0 (14 + 7 * tl_n x)) 8 ++ [35] ++ tl_dig (tl_wor (A 0) (A 0 (14 + 7 * tl_n x)) 8) ++ [126] ++ tl_dig ((A 0 (14 + 7 * tl_n x + 1)) - 1) ++ [120] ++ tl_dig ((A 0 (14 + 7 * tl_n x + 2)) - 1) from by unfold tl_dsc; rw [if_pos hc_146, if_pos hc_98]; rfl]; exact ⟨rfl, hM_225, hfr_224⟩))
            · refine lv_aload_n hx hb dX2_describe_149 rfl (lv_at hl 0 rfl) ?_
              refine lv_bipush (v := nI 43) hx hb dX2_describe_150 (by decide) ?_
              refine xk_rv (xk_cV B hI_226 hl [.int (nI 43)] [] 1 (m2_sign0 g hM_225 (L0 := A 8) (cs := (tl_nil ++ tl_dig (tl_n x) ++ [61] ++ tl_pet (A 0 (14 + 7 * tl_n x)) 8 ++ [35] ++ tl_dig (tl_wor (A 0) (A 0 (14 + 7 * tl_n x)) 8) ++ [126] ++ tl_dig ((A 0 (14 + 7 * tl_n x + 1)) - 1) ++ [120] ++ tl_dig ((A 0 (14 + 7 * tl_n x + 2)) - 1))) 43 rfl rfl (by first | omega | (simp only [List.length_append, List.length_cons, List.length_nil, tl_nil_len]; omega))) hf_213 rfl (lw_V q1717 q1719 qs58 q79 q1720) ⟨rfl, by decide +kernel, by decide +kernel, by decide +kernel⟩ ⟨Nat.le_of_ble_eq_true rfl, Nat.le_of_ble_eq_true rfl⟩ rfl rfl (Nat.le_of_ble_eq_true rfl) dX2_describe_152 (Nat.le_of_ble_eq_true rfl) (Nat.le_of_ble_eq_true rfl)) hI_226 (fun X_232 H_230 L_231 hq_233 hI_229 => ?_)
              obtain ⟨hM_234, hfr_235⟩ := hq_233
              obtain ⟨hf_236, hf_237, hf_238, hf_239, hf_240, hf_241, hf_242, hf_243, hf_244, hf_245, hf_246⟩ := id hM_234
              have hfr_247 := xk_fr.tr hfr_224 hfr_235
              have hf_237 : X_232 (ad 0) = some ((o, 1), xk_iA g 0 294 (A 0)) := hf_237
              have hf_238 : X_232 (ad 1) = some ((o, 2), xk_iA g 0 294 (A 1)) := hf_238
              have hf_239 : X_232 (ad 2) = some ((o, 3), xk_iA g 0 294 (A 2)) := hf_239
              have hf_240 : X_232 (ad 3) = some ((o, 4), xk_iA g 0 294 (A 3)) := hf_240
              have hf_241 : X_232 (ad 4) = some ((o, 5), xk_iA g 0 2352 (A 4)) := hf_241
              have hf_242 : X_232 (ad 5) = some ((o, 6), xk_iA g 0 70 (A 5)) := hf_242
              have hf_243 : X_232 (ad 6) = some ((o, 7), xk_iA g 2 40 (A 6)) := hf_243
              have hf_244 : X_232 (ad 7) = some ((o, 8), xk_iA g 2 40 (A 7)) := hf_244
              have hf_245 : X_232 (ad 8) = some ((o, 9), xk_iA g 0 60 (tl_puts (A 8) 0 (tl_nil ++ tl_dig (tl_n x) ++ [61] ++ tl_pet (A 0 (14 + 7 * tl_n x)) 8 ++ [35] ++ tl_dig (tl_wor (A 0) (A 0 (14 + 7 * tl_n x)) 8) ++ [126] ++ tl_dig ((A 0 (14 + 7 * tl_n x + 1)) - 1) ++ [120] ++ tl_dig ((A 0 (14 + 7 * tl_n x + 2)) - 1) ++ [43]))) := hf_245
              have hf_246 : X_232 (ad 9) = some ((o, 10), xk_iA g 0 284 (A 9)) := hf_246
              have hf_236 : X_232 o = some ((o, 0), .inr (0, [.ref (ad 0), .ref (ad 1), .ref (ad 2), .ref (ad 3), .int (nI (S 0)), .ref (ad 4), .int (nI (S 1)), .int (nI (S 2)), .int (nI (S 3)), .int (tm_it (S 4)), .ref (ad 5), .int (nI (S 5)), .ref (ad 6), .ref (ad 7), .ref (ad 8), .int (nI ((tl_nil ++ tl_dig (tl_n x) ++ [61] ++ tl_pet (A 0 (14 + 7 * tl_n x)) 8 ++ [35] ++ tl_dig (tl_wor (A 0) (A 0 (14 + 7 * tl_n x)) 8) ++ [126] ++ tl_dig ((A 0 (14 + 7 * tl_n x + 1)) - 1) ++ [120] ++ tl_dig ((A 0 (14 + 7 * tl_n x + 2)) - 1) ++ [43]).length)), .ref (ad 9), .int (nI (S 7)), .int (nI (S 8)), .int (nI (S 9)), .int (nI (S 10))])) := hf_236
              refine lv_aload_n hx hb dX2_describe_155 rfl (lv_at hl 0 rfl) ?_
              refine xk_get B hI_229 hf_236 rfl in_X2 15 (by decide) q1447 rfl dX2_describe_156 ?_
              have hM_248 : tm_Ok g X_232 o ad (va_up A 8 (tl_puts (A 8) 0 (tl_nil ++ tl_dig (tl_n x) ++ [61] ++ tl_pet (A 0 (14 + 7 * tl_n x)) 8 ++ [35] ++ tl_dig (tl_wor (A 0) (A 0 (14 + 7 * tl_n x)) 8) ++ [126] ++ tl_dig ((A 0 (14 + 7 * tl_n x + 1)) - 1) ++ [120] ++ tl_dig ((A 0 (14 + 7 * tl_n x + 2)) - 1) ++ [43]))) (va_up S 6 ((tl_nil ++ tl_dig (tl_n x) ++ [61] ++ tl_pet (A 0 (14 + 7 * tl_n x)) 8 ++ [35] ++ tl_dig (tl_wor (A 0) (A 0 (14 + 7 * tl_n x)) 8) ++ [126] ++ tl_dig ((A 0 (14 + 7 * tl_n x + 1)) - 1) ++ [120] ++ tl_dig ((A 0 (14 + 7 * tl_n x + 2)) - 1) ++ [43]).length)) := ⟨hf_236, hf_237, hf_238, hf_239, hf_240, hf_241, hf_242, hf_243, hf_244, hf_245, hf_246⟩
              exact xk_reti B hI_229 hr rfl dX2_describe_159 (Nat.le_of_ble_eq_true rfl) (Nat.le_of_ble_eq_true rfl) ((by unfold tl_dscR; rw [if_pos hc_5, if_pos hc_5, if_pos hc_5, show tl_dsc (A 0) (tl_n x) = tl_nil ++ tl_dig (tl_n x) ++ [61] ++ tl_pet (A 0 (14 + 7 * tl_n x)) 8 ++ [35] ++ tl_dig (tl_wor (A 0) (A 0 (14 + 7 * tl_n x)) 8) ++ [126] ++ tl_dig ((A 0 (14 + 7 * tl_n x + 1)) - 1) ++ [120] ++ tl_dig ((A 0 (14 + 7 * tl_n x + 2)) - 1) ++ [43] from by unfold tl_dsc; rw [if_neg (by rw [hc_146]; decide), if_pos hc_98]; rfl]; exact ⟨rfl, hM_248, hfr_247⟩))
        · have lpk := lp k
          refine lv_aload_n hx hb dX2_describe_39 rfl (lv_at hl 0 rfl) ?_
          refine lv_aload_n hx hb dX2_describe_40 rfl (lv_at hl 0 rfl) ?_
          refine xk_get B hI_66 hf_67 rfl in_X2 0 (by decide) q1432 rfl dX2_describe_41 ?_
          refine lv_iload_n hx hb dX2_describe_44 rfl (lv_at hl 2 rfl) ?_
          refine xk_iald B hI_66 hf_68 (by omega) (by decide) dX2_describe_45 ?_
          refine lv_iload_n hx hb dX2_describe_46 rfl (lv_at hl 3 rfl) ?_
          refine lv_ishr hx hb dX2_describe_47 (xk_top (xk_shr (by omega) (by omega)) ?_)
          refine lv_iconst (v := nI 1) hx hb dX2_describe_48 (by decide) ?_
          refine lv_iand hx hb dX2_describe_49 (xk_top (xk_and _ _) ?_)
          refine xk_top (y := nI (tl_bit (A 0 (14 + 7 * tl_n x)) k)) rfl ?_
          have lb := tl_bit_le (A 0 (14 + 7 * tl_n x)) k
          refine lv_iconst (v := nI 1) hx hb dX2_describe_50 (by decide) ?_
          refine xk_icmp_ne (tgt := 59) hx hb (by omega) (by omega) dX2_describe_51 (by decide) (fun hc_51 => ?_) (fun hc_51 => ?_)
          · refine lv_bipush (v := nI 119) hx hb dX2_describe_59 (by decide) ?_
            refine xk_rv (xk_cV B hI_66 hl [.int (nI 119)] [] 1 (m2_sign0 g hMl_33 (L0 := A 8) (cs := (tl_nil ++ tl_dig (tl_n x) ++ [61] ++ tl_pet (A 0 (14 + 7 * tl_n x)) k)) 119 rfl rfl (by first | omega | (simp only [List.length_append, List.length_cons, List.length_nil, tl_nil_len]; omega))) hf_67 rfl (lw_V q1717 q1719 qs58 q79 q1720) ⟨rfl, by decide +kernel, by decide +kernel, by decide +kernel⟩ ⟨Nat.le_of_ble_eq_true rfl, Nat.le_of_ble_eq_true rfl⟩ rfl rfl (Nat.le_of_ble_eq_true rfl) dX2_describe_61 (Nat.le_of_ble_eq_true rfl) (Nat.le_of_ble_eq_true rfl)) hI_66 (fun X_252 H_250 L_251 hq_253 hI_249 => ?_)
            obtain ⟨hM_254, hfr_255⟩ := hq_253
            obtain ⟨hf_256, hf_257, hf_258, hf_259, hf_260, hf_261, hf_262, hf_263, hf_264, hf_265, hf_266⟩ := id hM_254
            have hfr_267 := xk_fr.tr hfrl_33 hfr_255
            have hf_257 : X_252 (ad 0) = some ((o, 1), xk_iA g 0 294 (A 0)) := hf_257
            have hf_258 : X_252 (ad 1) = some ((o, 2), xk_iA g 0 294 (A 1)) := hf_258
            have hf_259 : X_252 (ad 2) = some ((o, 3), xk_iA g 0 294 (A 2)) := hf_259
            have hf_260 : X_252 (ad 3) = some ((o, 4), xk_iA g 0 294 (A 3)) := hf_260
            have hf_261 : X_252 (ad 4) = some ((o, 5), xk_iA g 0 2352 (A 4)) := hf_261
            have hf_262 : X_252 (ad 5) = some ((o, 6), xk_iA g 0 70 (A 5)) := hf_262
            have hf_263 : X_252 (ad 6) = some ((o, 7), xk_iA g 2 40 (A 6)) := hf_263
            have hf_264 : X_252 (ad 7) = some ((o, 8), xk_iA g 2 40 (A 7)) := hf_264
            have hf_265 : X_252 (ad 8) = some ((o, 9), xk_iA g 0 60 (tl_puts (A 8) 0 (tl_nil ++ tl_dig (tl_n x) ++ [61] ++ tl_pet (A 0 (14 + 7 * tl_n x)) k ++ [119]))) := hf_265
            have hf_266 : X_252 (ad 9) = some ((o, 10), xk_iA g 0 284 (A 9)) := hf_266
            have hf_256 : X_252 o = some ((o, 0), .inr (0, [.ref (ad 0), .ref (ad 1), .ref (ad 2), .ref (ad 3), .int (nI (S 0)), .ref (ad 4), .int (nI (S 1)), .int (nI (S 2)), .int (nI (S 3)), .int (tm_it (S 4)), .ref (ad 5), .int (nI (S 5)), .ref (ad 6), .ref (ad 7), .ref (ad 8), .int (nI ((tl_nil ++ tl_dig (tl_n x) ++ [61] ++ tl_pet (A 0 (14 + 7 * tl_n x)) k ++ [119]).length)), .ref (ad 9), .int (nI (S 7)), .int (nI (S 8)), .int (nI (S 9)), .int (nI (S 10))])) := hf_256
            refine lv_iinc (v := nI (k + 1)) (lv' := [(3, .int (nI (k + 1))), (0, .ref o), (1, .int x), (2, .int (nI (14 + 7 * tl_n x)))]) hx hb dX2_describe_64 hl (k := 3) rfl (xk_inc k) (by decide) rfl (fun ls hl => ?_)
            refine lv_goto (tgt := 33) hx hb dX2_describe_67 (by decide) ?_
            have hM_268 : tm_Ok g X_252 o ad (va_up A 8 (tl_puts (A 8) 0 (tl_nil ++ tl_dig (tl_n x) ++ [61] ++ tl_pet (A 0 (14 + 7 * tl_n x)) k ++ [119]))) (va_up S 6 ((tl_nil ++ tl_dig (tl_n x) ++ [61] ++ tl_pet (A 0 (14 + 7 * tl_n x)) k ++ [119]).length)) := ⟨hf_256, hf_257, hf_258, hf_259, hf_260, hf_261, hf_262, hf_263, hf_264, hf_265, hf_266⟩
            exact ih_33 (k + 1) X_252 _ _ (by omega) (by omega)  (by rw [show tl_nil ++ tl_dig (tl_n x) ++ [61] ++ tl_pet (A 0 (14 + 7 * tl_n x)) (k + 1) = tl_nil ++ tl_dig (tl_n x) ++ [61] ++ tl_pet (A 0 (14 + 7 * tl_n x)) k ++ [119] from by simp only [tl_pet, if_neg hc_51, List.append_assoc]]; exact hM_268) hfr_267 hI_249 ls (lv_sub hl [1, 2, 3, 0] rfl)
          · refine lv_bipush (v := nI 82) hx hb dX2_describe_54 (by decide) ?_
            refine lv_goto (tgt := 61) hx hb dX2_describe_56 (by decide) ?_
            refine xk_rv (xk_cV B hI_66 hl [.int (nI 82)] [] 1 (m2_sign0 g hMl_33 (L0 := A 8) (cs := (tl_nil ++ tl_dig (tl_n x) ++ [61] ++ tl_pet (A 0 (14 + 7 * tl_n x)) k)) 82 rfl rfl (by first | omega | (simp only [List.length_append, List.length_cons, List.length_nil, tl_nil_len]; omega))) hf_67 rfl (lw_V q1717 q1719 qs58 q79 q1720) ⟨rfl, by decide +kernel, by decide +kernel, by decide +kernel⟩ ⟨Nat.le_of_ble_eq_true rfl, Nat.le_of_ble_eq_true rfl⟩ rfl rfl (Nat.le_of_ble_eq_true rfl) dX2_describe_61 (Nat.le_of_ble_eq_true rfl) (Nat.le_of_ble_eq_true rfl)) hI_66 (fun X_272 H_270 L_271 hq_273 hI_269 => ?_)
            obtain ⟨hM_274, hfr_275⟩ := hq_273
            obtain ⟨hf_276, hf_277, hf_278, hf_279, hf_280, hf_281, hf_282, hf_283, hf_284, hf_285, hf_286⟩ := id hM_274
            have hfr_287 := xk_fr.tr hfrl_33 hfr_275
            have hf_277 : X_272 (ad 0) = some ((o, 1), xk_iA g 0 294 (A 0)) := hf_277
            have hf_278 : X_272 (ad 1) = some ((o, 2), xk_iA g 0 294 (A 1)) := hf_278
            have hf_279 : X_272 (ad 2) = some ((o, 3), xk_iA g 0 294 (A 2)) := hf_279
            have hf_280 : X_272 (ad 3) = some ((o, 4), xk_iA g 0 294 (A 3)) := hf_280
            have hf_281 : X_272 (ad 4) = some ((o, 5), xk_iA g 0 2352 (A 4)) := hf_281
            have hf_282 : X_272 (ad 5) = some ((o, 6), xk_iA g 0 70 (A 5)) := hf_282
            have hf_283 : X_272 (ad 6) = some ((o, 7), xk_iA g 2 40 (A 6)) := hf_283
            have hf_284 : X_272 (ad 7) = some ((o, 8), xk_iA g 2 40 (A 7)) := hf_284
            have hf_285 : X_272 (ad 8) = some ((o, 9), xk_iA g 0 60 (tl_puts (A 8) 0 (tl_nil ++ tl_dig (tl_n x) ++ [61] ++ tl_pet (A 0 (14 + 7 * tl_n x)) k ++ [82]))) := hf_285
            have hf_286 : X_272 (ad 9) = some ((o, 10), xk_iA g 0 284 (A 9)) := hf_286
            have hf_276 : X_272 o = some ((o, 0), .inr (0, [.ref (ad 0), .ref (ad 1), .ref (ad 2), .ref (ad 3), .int (nI (S 0)), .ref (ad 4), .int (nI (S 1)), .int (nI (S 2)), .int (nI (S 3)), .int (tm_it (S 4)), .ref (ad 5), .int (nI (S 5)), .ref (ad 6), .ref (ad 7), .ref (ad 8), .int (nI ((tl_nil ++ tl_dig (tl_n x) ++ [61] ++ tl_pet (A 0 (14 + 7 * tl_n x)) k ++ [82]).length)), .ref (ad 9), .int (nI (S 7)), .int (nI (S 8)), .int (nI (S 9)), .int (nI (S 10))])) := hf_276
            refine lv_iinc (v := nI (k + 1)) (lv' := [(3, .int (nI (k + 1))), (0, .ref o), (1, .int x), (2, .int (nI (14 + 7 * tl_n x)))]) hx hb dX2_describe_64 hl (k := 3) rfl (xk_inc k) (by decide) rfl (fun ls hl => ?_)
            refine lv_goto (tgt := 33) hx hb dX2_describe_67 (by decide) ?_
            have hM_288 : tm_Ok g X_272 o ad (va_up A 8 (tl_puts (A 8) 0 (tl_nil ++ tl_dig (tl_n x) ++ [61] ++ tl_pet (A 0 (14 + 7 * tl_n x)) k ++ [82]))) (va_up S 6 ((tl_nil ++ tl_dig (tl_n x) ++ [61] ++ tl_pet (A 0 (14 + 7 * tl_n x)) k ++ [82]).length)) := ⟨hf_276, hf_277, hf_278, hf_279, hf_280, hf_281, hf_282, hf_283, hf_284, hf_285, hf_286⟩
            exact ih_33 (k + 1) X_272 _ _ (by omega) (by omega)  (by rw [show tl_nil ++ tl_dig (tl_n x) ++ [61] ++ tl_pet (A 0 (14 + 7 * tl_n x)) (k + 1) = tl_nil ++ tl_dig (tl_n x) ++ [61] ++ tl_pet (A 0 (14 + 7 * tl_n x)) k ++ [82] from by simp only [tl_pet, if_pos hc_51, List.append_assoc]]; exact hM_288) hfr_287 hI_269 ls (lv_sub hl [1, 2, 3, 0] rfl)
    have hM_289 : tm_Ok g X_48 o ad (va_up A 8 (tl_puts (A 8) 0 (tl_nil ++ tl_dig (tl_n x) ++ [61]))) (va_up S 6 ((tl_nil ++ tl_dig (tl_n x) ++ [61]).length)) := ⟨hf_52, hf_53, hf_54, hf_55, hf_56, hf_57, hf_58, hf_59, hf_60, hf_61, hf_62⟩
    exact hloop_33 (8 - 0 + 1) 0 X_48 _ _ (by omega) (Nat.lt_succ_self _)  (by rw [show tl_nil ++ tl_dig (tl_n x) ++ [61] ++ tl_pet (A 0 (14 + 7 * tl_n x)) 0 = tl_nil ++ tl_dig (tl_n x) ++ [61] from List.append_nil _]; exact hM_289) hfr_63 hI_45 ls (lv_sub hl [2, 3, 1, 0] rfl)
  · refine lv_iconst (v := (-1)) hx hb dX2_describe_8 (by decide) ?_
    exact xk_reti B hI_1 hr rfl dX2_describe_9 (Nat.le_of_ble_eq_true rfl) (Nat.le_of_ble_eq_true rfl) ((by unfold tl_dscR; rw [if_neg (by rw [hc_5]; decide), if_neg (by rw [hc_5]; decide), if_neg (by rw [hc_5]; decide)]; exact ⟨rfl, hM0, hfr⟩))
set_option maxHeartbeats 4000000 in
theorem m2_tell (g : xk_G) {X : xk_H} {o : Nat} {ad : Nat → Nat} {A : Nat → Nat → Nat} {S : Nat → Nat} (hM : tm_Ok g X o ad A S) (hk : tl_inv (A 0))  : xk_C g yX2_tell (ws_ yX2_tell cX2_tell 3 (some .int)) ({ frames := 3, cells := 0, slots := 0, locals := 66 } : Room) [.ref o] X (xk_Qi (nI (tl_tel (A 0) (tl_liv (A 0) (A 0 0))).length) (fun X1 => tm_Ok g X1 o ad (va_up A 8 (tl_puts (A 8) 0 (tl_tel (A 0) (tl_liv (A 0) (A 0 0))))) (va_up S 6 (tl_tel (A 0) (tl_liv (A 0) (A 0 0))).length) ∧ xk_fr o X X1)) := by
  refine xk_ofW (by decide +kernel) (Nat.le_of_ble_eq_true rfl) (fun p e s m args below meth c B hr hname hargs hI ls hl => ?_)
  have B : xk_B g p s m args meth c RX2 cX2_tell 3 := B
  have hl : lv_has ls 3 [(0, .ref o)] := hl
  have hx := B.1
  have hb := B.2.1
  have hM0 := hM
  obtain ⟨hO, hA0, hA1, hA2, hA3, hA4, hA5, hA6, hA7, hA8, hA9⟩ := hM
  have hk0 := hk
  obtain ⟨k0, kb, kw, kl, ks, kr1, kr2, kwt, kL⟩ := hk
  have hfr : xk_fr o X X := xk_fr.rf
  refine lv_aload_n hx hb dX2_tell_0 rfl (lv_at hl 0 rfl) ?_
  refine lv_iconst (v := nI 0) hx hb dX2_tell_1 (by decide) ?_
  refine xk_put B hI hO rfl in_X2 tyX2 tyX2_ok nmX2 15 (by decide) q1447 rfl rfl rfl (Nat.le_of_ble_eq_true rfl) dX2_tell_2 (fun X_1 H_5 L_6 hf_3 hn_2 hI_4 => ?_)
  have hf_3 : X_1 o = some ((o, 0), .inr (0, [.ref (ad 0), .ref (ad 1), .ref (ad 2), .ref (ad 3), .int (nI (S 0)), .ref (ad 4), .int (nI (S 1)), .int (nI (S 2)), .int (nI (S 3)), .int (tm_it (S 4)), .ref (ad 5), .int (nI (S 5)), .ref (ad 6), .ref (ad 7), .ref (ad 8), .int (nI 0), .ref (ad 9), .int (nI (S 7)), .int (nI (S 8)), .int (nI (S 9)), .int (nI (S 10))])) := hf_3
  have hfr_7 := xk_fr.put hfr hO hn_2
  have hf_8 := xk_off hn_2 hA8 hO (xk_on1 (by decide))
  have hf_3 : X_1 o = some ((o, 0), .inr (0, [.ref (ad 0), .ref (ad 1), .ref (ad 2), .ref (ad 3), .int (nI (S 0)), .ref (ad 4), .int (nI (S 1)), .int (nI (S 2)), .int (nI (S 3)), .int (tm_it (S 4)), .ref (ad 5), .int (nI (S 5)), .ref (ad 6), .ref (ad 7), .ref (ad 8), .int (nI tl_nil.length), .ref (ad 9), .int (nI (S 7)), .int (nI (S 8)), .int (nI (S 9)), .int (nI (S 10))])) := hf_3
  refine lv_aload_n hx hb dX2_tell_5 rfl (lv_at hl 0 rfl) ?_
  have hf_9 := xk_off hn_2 hA0 hO (xk_on1 (by decide))
  have hf_10 := xk_off hn_2 hA1 hO (xk_on1 (by decide))
  have hf_11 := xk_off hn_2 hA2 hO (xk_on1 (by decide))
  have hf_12 := xk_off hn_2 hA3 hO (xk_on1 (by decide))
  have hf_13 := xk_off hn_2 hA4 hO (xk_on1 (by decide))
  have hf_14 := xk_off hn_2 hA5 hO (xk_on1 (by decide))
  have hf_15 := xk_off hn_2 hA6 hO (xk_on1 (by decide))
  have hf_16 := xk_off hn_2 hA7 hO (xk_on1 (by decide))
  have hf_17 := xk_off hn_2 hA9 hO (xk_on1 (by decide))
  have hM_18 : tm_Ok g X_1 o ad (va_up A 8 (tl_puts (A 8) 0 (tl_nil))) (va_up S 6 tl_nil.length) := ⟨hf_3, hf_9, hf_10, hf_11, hf_12, hf_13, hf_14, hf_15, hf_16, hf_8, hf_17⟩
  refine xk_ri0 (xk_cV B hI_4 hl [] [] 0 (m2_living g hM_18 hk0 ) hf_3 rfl (lw_V q1520 q1522 qs33 q79 q1523) ⟨rfl, by decide +kernel, by decide +kernel, by decide +kernel⟩ ⟨Nat.le_of_ble_eq_true rfl, Nat.le_of_ble_eq_true rfl⟩ rfl rfl (Nat.le_of_ble_eq_true rfl) dX2_tell_6 (Nat.le_of_ble_eq_true rfl) (Nat.le_of_ble_eq_true rfl)) hI_4 (fun H_20 L_21 hI_19 => ?_)
  refine xk_top (y := nI (tl_liv (A 0) ((A 0) 0))) rfl ?_
  refine lv_istore_n (lv' := [(1, .int (nI (tl_liv (A 0) ((A 0) 0)))), (0, .ref o)]) hx hb dX2_tell_9 rfl hl (by decide) rfl (fun ls hl => ?_)
  refine lv_iconst (v := nI 0) hx hb dX2_tell_10 (by decide) ?_
  refine lv_istore_n (lv' := [(2, .int (nI 0)), (1, .int (nI (tl_liv (A 0) ((A 0) 0)))), (0, .ref o)]) hx hb dX2_tell_11 rfl hl (by decide) rfl (fun ls hl => ?_)
  have hloop_12 : ∀ (n_12 : Nat) (k : Nat) (Xl_12 : xk_H) (H_22 : Heap) (L_23 : List Loc), (k ≤ tl_liv (A 0) (A 0 0)) → tl_liv (A 0) (A 0 0) - k < n_12 → (tm_Ok g Xl_12 o ad (va_up A 8 (tl_puts (A 8) 0 (tl_tel (A 0) k))) (va_up S 6 ((tl_tel (A 0) k).length))) → (xk_fr o X Xl_12) → xk_I g s H_22 Xl_12 L_23 → ∀ ls : Array Slot, lv_has ls 3 [(0, .ref o), (1, .int (nI (tl_liv (A 0) (A 0 0)))), (2, .int (nI k))] → W p (xk_l g) e (({ frames := 3, cells := 0, slots := 0, locals := 66 } : Room)) s m args below meth c H_22 L_23 0 0 (MQ below (xk_Q g (xk_Qi (nI (tl_tel (A 0) (tl_liv (A 0) (A 0 0))).length) (fun X1 => tm_Ok g X1 o ad (va_up A 8 (tl_puts (A 8) 0 (tl_tel (A 0) (tl_liv (A 0) (A 0 0))))) (va_up S 6 (tl_tel (A 0) (tl_liv (A 0) (A 0 0))).length) ∧ xk_fr o X X1))) args s (0) (0) (xk_A g)) (F0 m 12 ls []) := by
    intro n_12
    induction n_12 with
    | zero => intros; omega
    | succ n_12 ih_12 =>
      intro k Xl_12 H_22 L_23 hk1 hm_12  hMl_12 hfrl_12 hI_24 ls hl
      obtain ⟨hf_25, hf_26, hf_27, hf_28, hf_29, hf_30, hf_31, hf_32, hf_33, hf_34, hf_35⟩ := id hMl_12
      have hf_26 : Xl_12 (ad 0) = some ((o, 1), xk_iA g 0 294 (A 0)) := hf_26
      have hf_27 : Xl_12 (ad 1) = some ((o, 2), xk_iA g 0 294 (A 1)) := hf_27
      have hf_28 : Xl_12 (ad 2) = some ((o, 3), xk_iA g 0 294 (A 2)) := hf_28
      have hf_29 : Xl_12 (ad 3) = some ((o, 4), xk_iA g 0 294 (A 3)) := hf_29
      have hf_30 : Xl_12 (ad 4) = some ((o, 5), xk_iA g 0 2352 (A 4)) := hf_30
      have hf_31 : Xl_12 (ad 5) = some ((o, 6), xk_iA g 0 70 (A 5)) := hf_31
      have hf_32 : Xl_12 (ad 6) = some ((o, 7), xk_iA g 2 40 (A 6)) := hf_32
      have hf_33 : Xl_12 (ad 7) = some ((o, 8), xk_iA g 2 40 (A 7)) := hf_33
      have hf_34 : Xl_12 (ad 8) = some ((o, 9), xk_iA g 0 60 (tl_puts (A 8) 0 (tl_tel (A 0) k))) := hf_34
      have hf_35 : Xl_12 (ad 9) = some ((o, 10), xk_iA g 0 284 (A 9)) := hf_35
      have hf_25 : Xl_12 o = some ((o, 0), .inr (0, [.ref (ad 0), .ref (ad 1), .ref (ad 2), .ref (ad 3), .int (nI (S 0)), .ref (ad 4), .int (nI (S 1)), .int (nI (S 2)), .int (nI (S 3)), .int (tm_it (S 4)), .ref (ad 5), .int (nI (S 5)), .ref (ad 6), .ref (ad 7), .ref (ad 8), .int (nI ((tl_tel (A 0) k).length)), .ref (ad 9), .int (nI (S 7)), .int (nI (S 8)), .int (nI (S 9)), .int (nI (S 10))])) := hf_25
      refine lv_iload_n hx hb dX2_tell_12 rfl (lv_at hl 2 rfl) ?_
      refine lv_iload_n hx hb dX2_tell_13 rfl (lv_at hl 1 rfl) ?_
      refine xk_icmp_ge (tgt := 42) hx hb (by omega) (by omega) dX2_tell_14 (by decide) (fun hc_14 => ?_) (fun hc_14 => ?_)
      · have hk2 : k = tl_liv (A 0) (A 0 0) := by omega
        refine lv_aload_n hx hb dX2_tell_42 rfl (lv_at hl 0 rfl) ?_
        refine xk_get B hI_24 hf_25 rfl in_X2 15 (by decide) q1447 rfl dX2_tell_43 ?_
        exact xk_reti B hI_24 hr rfl dX2_tell_46 (Nat.le_of_ble_eq_true rfl) (Nat.le_of_ble_eq_true rfl) ((by rw [← hk2]; exact ⟨rfl, hMl_12, hfrl_12⟩))
      · have lt9 := tl_tel_len (A 0) k
        have hat := tl_at_some (pl := k) (tl_inv_liv hk0) hc_14
        have ld9 := tl_dig_len (tl_atN (A 0) k)
        refine lv_iload_n hx hb dX2_tell_17 rfl (lv_at hl 2 rfl) ?_
        refine xk_if_le (tgt := 27) hx hb (by omega) dX2_tell_18 (by decide) (fun hc_18 => ?_) (fun hc_18 => ?_)
        · refine lv_aload_n hx hb dX2_tell_27 rfl (lv_at hl 0 rfl) ?_
          refine lv_aload_n hx hb dX2_tell_28 rfl (lv_at hl 0 rfl) ?_
          refine lv_iload_n hx hb dX2_tell_29 rfl (lv_at hl 2 rfl) ?_
          refine xk_ri0 (xk_cV B hI_24 hl [.int (nI k)] [.ref o] 1 (m2_atN g hMl_12 hk0 (pl := k) (by omega)) hf_25 rfl (lw_V q1632 q1634 qs51 q79 q1635) ⟨rfl, by decide +kernel, by decide +kernel, by decide +kernel⟩ ⟨Nat.le_of_ble_eq_true rfl, Nat.le_of_ble_eq_true rfl⟩ rfl rfl (Nat.le_of_ble_eq_true rfl) dX2_tell_30 (Nat.le_of_ble_eq_true rfl) (Nat.le_of_ble_eq_true rfl)) hI_24 (fun H_37 L_38 hI_36 => ?_)
          refine xk_top (y := tl_oI (tl_at (A 0) k)) rfl ?_
          refine xk_top (y := nI (tl_atN (A 0) k)) (by rw [hat.1]; rfl) ?_
          refine xk_rv (xk_cV B hI_36 hl [.int (nI (tl_atN (A 0) k))] [] 1 (m2_writesNumber g hMl_12 (L0 := A 8) (cs := (tl_tel (A 0) k)) (tl_atN (A 0) k) (by omega) rfl rfl (by first | omega | (simp only [List.length_append, List.length_cons, List.length_nil, tl_nil_len]; omega))) hf_25 rfl (lw_V q1713 q1715 qs57 q79 q1716) ⟨rfl, by decide +kernel, by decide +kernel, by decide +kernel⟩ ⟨Nat.le_of_ble_eq_true rfl, Nat.le_of_ble_eq_true rfl⟩ rfl rfl (Nat.le_of_ble_eq_true rfl) dX2_tell_33 (Nat.le_of_ble_eq_true rfl) (Nat.le_of_ble_eq_true rfl)) hI_36 (fun X_42 H_40 L_41 hq_43 hI_39 => ?_)
          obtain ⟨hM_44, hfr_45⟩ := hq_43
          obtain ⟨hf_46, hf_47, hf_48, hf_49, hf_50, hf_51, hf_52, hf_53, hf_54, hf_55, hf_56⟩ := id hM_44
          have hfr_57 := xk_fr.tr hfrl_12 hfr_45
          have hf_47 : X_42 (ad 0) = some ((o, 1), xk_iA g 0 294 (A 0)) := hf_47
          have hf_48 : X_42 (ad 1) = some ((o, 2), xk_iA g 0 294 (A 1)) := hf_48
          have hf_49 : X_42 (ad 2) = some ((o, 3), xk_iA g 0 294 (A 2)) := hf_49
          have hf_50 : X_42 (ad 3) = some ((o, 4), xk_iA g 0 294 (A 3)) := hf_50
          have hf_51 : X_42 (ad 4) = some ((o, 5), xk_iA g 0 2352 (A 4)) := hf_51
          have hf_52 : X_42 (ad 5) = some ((o, 6), xk_iA g 0 70 (A 5)) := hf_52
          have hf_53 : X_42 (ad 6) = some ((o, 7), xk_iA g 2 40 (A 6)) := hf_53
          have hf_54 : X_42 (ad 7) = some ((o, 8), xk_iA g 2 40 (A 7)) := hf_54
          have hf_55 : X_42 (ad 8) = some ((o, 9), xk_iA g 0 60 (tl_puts (A 8) 0 (tl_tel (A 0) k ++ tl_dig (tl_atN (A 0) k)))) := hf_55
          have hf_56 : X_42 (ad 9) = some ((o, 10), xk_iA g 0 284 (A 9)) := hf_56
          have hf_46 : X_42 o = some ((o, 0), .inr (0, [.ref (ad 0), .ref (ad 1), .ref (ad 2), .ref (ad 3), .int (nI (S 0)), .ref (ad 4), .int (nI (S 1)), .int (nI (S 2)), .int (nI (S 3)), .int (tm_it (S 4)), .ref (ad 5), .int (nI (S 5)), .ref (ad 6), .ref (ad 7), .ref (ad 8), .int (nI ((tl_tel (A 0) k ++ tl_dig (tl_atN (A 0) k)).length)), .ref (ad 9), .int (nI (S 7)), .int (nI (S 8)), .int (nI (S 9)), .int (nI (S 10))])) := hf_46
          refine lv_iinc (v := nI (k + 1)) (lv' := [(2, .int (nI (k + 1))), (0, .ref o), (1, .int (nI (tl_liv (A 0) (A 0 0))))]) hx hb dX2_tell_36 hl (k := 2) rfl (xk_inc k) (by decide) rfl (fun ls hl => ?_)
          refine lv_goto (tgt := 12) hx hb dX2_tell_39 (by decide) ?_
          have hM_58 : tm_Ok g X_42 o ad (va_up A 8 (tl_puts (A 8) 0 (tl_tel (A 0) k ++ tl_dig (tl_atN (A 0) k)))) (va_up S 6 ((tl_tel (A 0) k ++ tl_dig (tl_atN (A 0) k)).length)) := ⟨hf_46, hf_47, hf_48, hf_49, hf_50, hf_51, hf_52, hf_53, hf_54, hf_55, hf_56⟩
          exact ih_12 (k + 1) X_42 _ _ (by omega) (by omega)  (by rw [show tl_tel (A 0) (k + 1) = tl_tel (A 0) k ++ tl_dig (tl_atN (A 0) k) from by simp only [tl_tel]; rw [if_neg (by omega)]]; exact hM_58) hfr_57 hI_39 ls (lv_sub hl [1, 2, 0] rfl)
        · refine lv_aload_n hx hb dX2_tell_21 rfl (lv_at hl 0 rfl) ?_
          refine lv_bipush (v := nI 44) hx hb dX2_tell_22 (by decide) ?_
          refine xk_rv (xk_cV B hI_24 hl [.int (nI 44)] [] 1 (m2_sign0 g hMl_12 (L0 := A 8) (cs := (tl_tel (A 0) k)) 44 rfl rfl (by first | omega | (simp only [List.length_append, List.length_cons, List.length_nil, tl_nil_len]; omega))) hf_25 rfl (lw_V q1717 q1719 qs58 q79 q1720) ⟨rfl, by decide +kernel, by decide +kernel, by decide +kernel⟩ ⟨Nat.le_of_ble_eq_true rfl, Nat.le_of_ble_eq_true rfl⟩ rfl rfl (Nat.le_of_ble_eq_true rfl) dX2_tell_24 (Nat.le_of_ble_eq_true rfl) (Nat.le_of_ble_eq_true rfl)) hI_24 (fun X_62 H_60 L_61 hq_63 hI_59 => ?_)
          obtain ⟨hM_64, hfr_65⟩ := hq_63
          obtain ⟨hf_66, hf_67, hf_68, hf_69, hf_70, hf_71, hf_72, hf_73, hf_74, hf_75, hf_76⟩ := id hM_64
          have hfr_77 := xk_fr.tr hfrl_12 hfr_65
          have hf_67 : X_62 (ad 0) = some ((o, 1), xk_iA g 0 294 (A 0)) := hf_67
          have hf_68 : X_62 (ad 1) = some ((o, 2), xk_iA g 0 294 (A 1)) := hf_68
          have hf_69 : X_62 (ad 2) = some ((o, 3), xk_iA g 0 294 (A 2)) := hf_69
          have hf_70 : X_62 (ad 3) = some ((o, 4), xk_iA g 0 294 (A 3)) := hf_70
          have hf_71 : X_62 (ad 4) = some ((o, 5), xk_iA g 0 2352 (A 4)) := hf_71
          have hf_72 : X_62 (ad 5) = some ((o, 6), xk_iA g 0 70 (A 5)) := hf_72
          have hf_73 : X_62 (ad 6) = some ((o, 7), xk_iA g 2 40 (A 6)) := hf_73
          have hf_74 : X_62 (ad 7) = some ((o, 8), xk_iA g 2 40 (A 7)) := hf_74
          have hf_75 : X_62 (ad 8) = some ((o, 9), xk_iA g 0 60 (tl_puts (A 8) 0 (tl_tel (A 0) k ++ [44]))) := hf_75
          have hf_76 : X_62 (ad 9) = some ((o, 10), xk_iA g 0 284 (A 9)) := hf_76
          have hf_66 : X_62 o = some ((o, 0), .inr (0, [.ref (ad 0), .ref (ad 1), .ref (ad 2), .ref (ad 3), .int (nI (S 0)), .ref (ad 4), .int (nI (S 1)), .int (nI (S 2)), .int (nI (S 3)), .int (tm_it (S 4)), .ref (ad 5), .int (nI (S 5)), .ref (ad 6), .ref (ad 7), .ref (ad 8), .int (nI ((tl_tel (A 0) k ++ [44]).length)), .ref (ad 9), .int (nI (S 7)), .int (nI (S 8)), .int (nI (S 9)), .int (nI (S 10))])) := hf_66
          refine lv_aload_n hx hb dX2_tell_27 rfl (lv_at hl 0 rfl) ?_
          refine lv_aload_n hx hb dX2_tell_28 rfl (lv_at hl 0 rfl) ?_
          refine lv_iload_n hx hb dX2_tell_29 rfl (lv_at hl 2 rfl) ?_
          have hM_78 : tm_Ok g X_62 o ad (va_up A 8 (tl_puts (A 8) 0 (tl_tel (A 0) k ++ [44]))) (va_up S 6 ((tl_tel (A 0) k ++ [44]).length)) := ⟨hf_66, hf_67, hf_68, hf_69, hf_70, hf_71, hf_72, hf_73, hf_74, hf_75, hf_76⟩
          refine xk_ri0 (xk_cV B hI_59 hl [.int (nI k)] [.ref o] 1 (m2_atN g hM_78 hk0 (pl := k) (by omega)) hf_66 rfl (lw_V q1632 q1634 qs51 q79 q1635) ⟨rfl, by decide +kernel, by decide +kernel, by decide +kernel⟩ ⟨Nat.le_of_ble_eq_true rfl, Nat.le_of_ble_eq_true rfl⟩ rfl rfl (Nat.le_of_ble_eq_true rfl) dX2_tell_30 (Nat.le_of_ble_eq_true rfl) (Nat.le_of_ble_eq_true rfl)) hI_59 (fun H_80 L_81 hI_79 => ?_)
          refine xk_top (y := tl_oI (tl_at (A 0) k)) rfl ?_
          refine xk_top (y := nI (tl_atN (A 0) k)) (by rw [hat.1]; rfl) ?_
          refine xk_rv (xk_cV B hI_79 hl [.int (nI (tl_atN (A 0) k))] [] 1 (m2_writesNumber g hM_78 (L0 := A 8) (cs := (tl_tel (A 0) k ++ [44])) (tl_atN (A 0) k) (by omega) rfl rfl (by first | omega | (simp only [List.length_append, List.length_cons, List.length_nil, tl_nil_len]; omega))) hf_66 rfl (lw_V q1713 q1715 qs57 q79 q1716) ⟨rfl, by decide +kernel, by decide +kernel, by decide +kernel⟩ ⟨Nat.le_of_ble_eq_true rfl, Nat.le_of_ble_eq_true rfl⟩ rfl rfl (Nat.le_of_ble_eq_true rfl) dX2_tell_33 (Nat.le_of_ble_eq_true rfl) (Nat.le_of_ble_eq_true rfl)) hI_79 (fun X_85 H_83 L_84 hq_86 hI_82 => ?_)
          obtain ⟨hM_87, hfr_88⟩ := hq_86
          obtain ⟨hf_89, hf_90, hf_91, hf_92, hf_93, hf_94, hf_95, hf_96, hf_97, hf_98, hf_99⟩ := id hM_87
          have hfr_100 := xk_fr.tr hfr_77 hfr_88
          have hf_90 : X_85 (ad 0) = some ((o, 1), xk_iA g 0 294 (A 0)) := hf_90
          have hf_91 : X_85 (ad 1) = some ((o, 2), xk_iA g 0 294 (A 1)) := hf_91
          have hf_92 : X_85 (ad 2) = some ((o, 3), xk_iA g 0 294 (A 2)) := hf_92
          have hf_93 : X_85 (ad 3) = some ((o, 4), xk_iA g 0 294 (A 3)) := hf_93
          have hf_94 : X_85 (ad 4) = some ((o, 5), xk_iA g 0 2352 (A 4)) := hf_94
          have hf_95 : X_85 (ad 5) = some ((o, 6), xk_iA g 0 70 (A 5)) := hf_95
          have hf_96 : X_85 (ad 6) = some ((o, 7), xk_iA g 2 40 (A 6)) := hf_96
          have hf_97 : X_85 (ad 7) = some ((o, 8), xk_iA g 2 40 (A 7)) := hf_97
          have hf_98 : X_85 (ad 8) = some ((o, 9), xk_iA g 0 60 (tl_puts (A 8) 0 (tl_tel (A 0) k ++ [44] ++ tl_dig (tl_atN (A 0) k)))) := hf_98
          have hf_99 : X_85 (ad 9) = some ((o, 10), xk_iA g 0 284 (A 9)) := hf_99
          have hf_89 : X_85 o = some ((o, 0), .inr (0, [.ref (ad 0), .ref (ad 1), .ref (ad 2), .ref (ad 3), .int (nI (S 0)), .ref (ad 4), .int (nI (S 1)), .int (nI (S 2)), .int (nI (S 3)), .int (tm_it (S 4)), .ref (ad 5), .int (nI (S 5)), .ref (ad 6), .ref (ad 7), .ref (ad 8), .int (nI ((tl_tel (A 0) k ++ [44] ++ tl_dig (tl_atN (A 0) k)).length)), .ref (ad 9), .int (nI (S 7)), .int (nI (S 8)), .int (nI (S 9)), .int (nI (S 10))])) := hf_89
          refine lv_iinc (v := nI (k + 1)) (lv' := [(2, .int (nI (k + 1))), (0, .ref o), (1, .int (nI (tl_liv (A 0) (A 0 0))))]) hx hb dX2_tell_36 hl (k := 2) rfl (xk_inc k) (by decide) rfl (fun ls hl => ?_)
          refine lv_goto (tgt := 12) hx hb dX2_tell_39 (by decide) ?_
          have hM_101 : tm_Ok g X_85 o ad (va_up A 8 (tl_puts (A 8) 0 (tl_tel (A 0) k ++ [44] ++ tl_dig (tl_atN (A 0) k)))) (va_up S 6 ((tl_tel (A 0) k ++ [44] ++ tl_dig (tl_atN (A 0) k)).length)) := ⟨hf_89, hf_90, hf_91, hf_92, hf_93, hf_94, hf_95, hf_96, hf_97, hf_98, hf_99⟩
          exact ih_12 (k + 1) X_85 _ _ (by omega) (by omega)  (by rw [show tl_tel (A 0) (k + 1) = tl_tel (A 0) k ++ [44] ++ tl_dig (tl_atN (A 0) k) from by simp only [tl_tel]; rw [if_pos hc_18]]; exact hM_101) hfr_100 hI_82 ls (lv_sub hl [1, 2, 0] rfl)
  exact hloop_12 (tl_liv (A 0) (A 0 0) - 0 + 1) 0 X_1 _ _ (by omega) (Nat.lt_succ_self _)  hM_18 hfr_7 hI_19 ls (lv_sub hl [2, 1, 0] rfl)
set_option maxHeartbeats 4000000 in
theorem m2_number (g : xk_G) {X : xk_H} {o : Nat} {ad : Nat → Nat} {A : Nat → Nat → Nat} {S : Nat → Nat} (hM : tm_Ok g X o ad A S) {mo : Nat} (hmo : 1 ≤ mo) (hmo3 : mo ≤ 3) (hS8z : S 8 ≤ S 9) (hS9 : S 9 ≤ 70) (hS8 : S 8 ≤ 70) (hS10 : S 10 ≤ 1) (ht9 : ∀ j, j < 70 → A 5 j ≤ 126) : xk_C g yX2_number (ws_ yX2_number cX2_number 4 (some .int)) ({ frames := 2, cells := 0, slots := 0, locals := 46 } : Room) [.ref o, .int (nI mo)] X (xk_Qi (nI (tl_num (A 5) (S 9) (S 10) (S 8) mo).1) (fun X1 => tm_Ok g X1 o ad A (va_up (va_up S 8 (tl_num (A 5) (S 9) (S 10) (S 8) mo).2) 10 (tl_dgw (A 5) (S 9) (S 10) (S 8))) ∧ xk_fr o X X1)) := by
  refine xk_ofW (by decide +kernel) (Nat.le_of_ble_eq_true rfl) (fun p e s m args below meth c B hr hname hargs hI ls hl => ?_)
  have B : xk_B g p s m args meth c RX2 cX2_number 4 := B
  have hl : lv_has ls 4 [(0, .ref o), (1, .int (nI mo))] := hl
  have hx := B.1
  have hb := B.2.1
  have hM0 := hM
  obtain ⟨hO, hA0, hA1, hA2, hA3, hA4, hA5, hA6, hA7, hA8, hA9⟩ := hM
  have hfr : xk_fr o X X := xk_fr.rf
  refine lv_aload_n hx hb dX2_number_0 rfl (lv_at hl 0 rfl) ?_
  refine xk_ri (xk_cV B hI hl [] [] 0 (m2_digit g hM0 (show S 9 ≤ 70 from by omega) (show S 8 ≤ 70 from by omega) (show S 10 ≤ 1 from by omega) ht9) hO rfl (lw_V q1751 q1753 qs62 q79 q1754) ⟨rfl, by decide +kernel, by decide +kernel, by decide +kernel⟩ ⟨Nat.le_of_ble_eq_true rfl, Nat.le_of_ble_eq_true rfl⟩ rfl rfl (Nat.le_of_ble_eq_true rfl) dX2_number_1 (Nat.le_of_ble_eq_true rfl) (Nat.le_of_ble_eq_true rfl)) hI (fun X_4 H_2 L_3 hq_5 hI_1 => ?_)
  refine xk_top (y := nI (tl_dgv (A 5) (S 9) (S 10) (S 8))) rfl ?_
  obtain ⟨hM_6, hfr_7⟩ := hq_5
  obtain ⟨hf_8, hf_9, hf_10, hf_11, hf_12, hf_13, hf_14, hf_15, hf_16, hf_17, hf_18⟩ := id hM_6
  have hfr_19 := xk_fr.tr hfr hfr_7
  have hf_9 : X_4 (ad 0) = some ((o, 1), xk_iA g 0 294 (A 0)) := hf_9
  have hf_10 : X_4 (ad 1) = some ((o, 2), xk_iA g 0 294 (A 1)) := hf_10
  have hf_11 : X_4 (ad 2) = some ((o, 3), xk_iA g 0 294 (A 2)) := hf_11
  have hf_12 : X_4 (ad 3) = some ((o, 4), xk_iA g 0 294 (A 3)) := hf_12
  have hf_13 : X_4 (ad 4) = some ((o, 5), xk_iA g 0 2352 (A 4)) := hf_13
  have hf_14 : X_4 (ad 5) = some ((o, 6), xk_iA g 0 70 (A 5)) := hf_14
  have hf_15 : X_4 (ad 6) = some ((o, 7), xk_iA g 2 40 (A 6)) := hf_15
  have hf_16 : X_4 (ad 7) = some ((o, 8), xk_iA g 2 40 (A 7)) := hf_16
  have hf_17 : X_4 (ad 8) = some ((o, 9), xk_iA g 0 60 (A 8)) := hf_17
  have hf_18 : X_4 (ad 9) = some ((o, 10), xk_iA g 0 284 (A 9)) := hf_18
  have hf_8 : X_4 o = some ((o, 0), .inr (0, [.ref (ad 0), .ref (ad 1), .ref (ad 2), .ref (ad 3), .int (nI (S 0)), .ref (ad 4), .int (nI (S 1)), .int (nI (S 2)), .int (nI (S 3)), .int (tm_it (S 4)), .ref (ad 5), .int (nI (S 5)), .ref (ad 6), .ref (ad 7), .ref (ad 8), .int (nI (S 6)), .ref (ad 9), .int (nI (S 7)), .int (nI (tl_stp (tl_dgw (A 5) (S 9) (S 10) (S 8)) (S 8))), .int (nI (S 9)), .int (nI (tl_dgw (A 5) (S 9) (S 10) (S 8)))])) := hf_8
  have hd4 := tl_dgv_le (A 5) (S 9) (S 10) (S 8)
  have hw4 := tl_dgw_le (A 5) (S 9) (S 10) (S 8)
  have hz4 : tl_stp (tl_dgw (A 5) (S 9) (S 10) (S 8)) (S 8) ≤ (S 9) := tl_dgw_z (by omega)
  refine lv_istore_n (lv' := [(2, .int (nI (tl_dgv (A 5) (S 9) (S 10) (S 8)))), (0, .ref o), (1, .int (nI mo))]) hx hb dX2_number_4 rfl hl (by decide) rfl (fun ls hl => ?_)
  refine lv_iconst (v := nI 1) hx hb dX2_number_5 (by decide) ?_
  refine lv_istore_n (lv' := [(3, .int (nI 1)), (2, .int (nI (tl_dgv (A 5) (S 9) (S 10) (S 8)))), (0, .ref o), (1, .int (nI mo))]) hx hb dX2_number_6 rfl hl (by decide) rfl (fun ls hl => ?_)
  have hloop_7 : ∀ (n_7 : Nat) (k : Nat) (v9 : Nat) (p9 : Nat) (w9 : Nat) (Xl_7 : xk_H) (H_20 : Heap) (L_21 : List Loc), (1 ≤ k) → (k ≤ mo) → (k ≤ 1 → v9 ≤ 9) → (k ≤ 2 → v9 ≤ 99) → (v9 ≤ 999) → (p9 ≤ S 9) → (w9 ≤ 1) → (w9 = tl_dgw (A 5) (S 9) (S 10) (S 8)) → (tl_num (A 5) (S 9) (S 10) (S 8) mo = tl_nm (A 5) (S 9) (mo - k) w9 v9 p9) → mo - k < n_7 → (tm_Ok g Xl_7 o ad A (va_up (va_up S 8 p9) 10 w9)) → (xk_fr o X Xl_7) → xk_I g s H_20 Xl_7 L_21 → ∀ ls : Array Slot, lv_has ls 4 [(0, .ref o), (1, .int (nI mo)), (2, .int (nI v9)), (3, .int (nI k))] → W p (xk_l g) e (({ frames := 2, cells := 0, slots := 0, locals := 46 } : Room)) s m args below meth c H_20 L_21 0 0 (MQ below (xk_Q g (xk_Qi (nI (tl_num (A 5) (S 9) (S 10) (S 8) mo).1) (fun X1 => tm_Ok g X1 o ad A (va_up (va_up S 8 (tl_num (A 5) (S 9) (S 10) (S 8) mo).2) 10 (tl_dgw (A 5) (S 9) (S 10) (S 8))) ∧ xk_fr o X X1))) args s (0) (0) (xk_A g)) (F0 m 7 ls []) := by
    intro n_7
    induction n_7 with
    | zero => intros; omega
    | succ n_7 ih_7 =>
      intro k v9 p9 w9 Xl_7 H_20 L_21 hk1 hk2 hv1 hv2 hv3 hp1 hw1 hw0 hres hm_7  hMl_7 hfrl_7 hI_22 ls hl
      obtain ⟨hf_23, hf_24, hf_25, hf_26, hf_27, hf_28, hf_29, hf_30, hf_31, hf_32, hf_33⟩ := id hMl_7
      have hf_24 : Xl_7 (ad 0) = some ((o, 1), xk_iA g 0 294 (A 0)) := hf_24
      have hf_25 : Xl_7 (ad 1) = some ((o, 2), xk_iA g 0 294 (A 1)) := hf_25
      have hf_26 : Xl_7 (ad 2) = some ((o, 3), xk_iA g 0 294 (A 2)) := hf_26
      have hf_27 : Xl_7 (ad 3) = some ((o, 4), xk_iA g 0 294 (A 3)) := hf_27
      have hf_28 : Xl_7 (ad 4) = some ((o, 5), xk_iA g 0 2352 (A 4)) := hf_28
      have hf_29 : Xl_7 (ad 5) = some ((o, 6), xk_iA g 0 70 (A 5)) := hf_29
      have hf_30 : Xl_7 (ad 6) = some ((o, 7), xk_iA g 2 40 (A 6)) := hf_30
      have hf_31 : Xl_7 (ad 7) = some ((o, 8), xk_iA g 2 40 (A 7)) := hf_31
      have hf_32 : Xl_7 (ad 8) = some ((o, 9), xk_iA g 0 60 (A 8)) := hf_32
      have hf_33 : Xl_7 (ad 9) = some ((o, 10), xk_iA g 0 284 (A 9)) := hf_33
      have hf_23 : Xl_7 o = some ((o, 0), .inr (0, [.ref (ad 0), .ref (ad 1), .ref (ad 2), .ref (ad 3), .int (nI (S 0)), .ref (ad 4), .int (nI (S 1)), .int (nI (S 2)), .int (nI (S 3)), .int (tm_it (S 4)), .ref (ad 5), .int (nI (S 5)), .ref (ad 6), .ref (ad 7), .ref (ad 8), .int (nI (S 6)), .ref (ad 9), .int (nI (S 7)), .int (nI p9), .int (nI (S 9)), .int (nI w9)])) := hf_23
      refine lv_iload_n hx hb dX2_number_7 rfl (lv_at hl 3 rfl) ?_
      refine lv_iload_n hx hb dX2_number_8 rfl (lv_at hl 1 rfl) ?_
      refine xk_icmp_ge (tgt := 52) hx hb (by omega) (by omega) dX2_number_9 (by decide) (fun hc_9 => ?_) (fun hc_9 => ?_)
      · refine lv_iload_n hx hb dX2_number_52 rfl (lv_at hl 2 rfl) ?_
        exact xk_reti B hI_22 hr rfl dX2_number_53 (Nat.le_of_ble_eq_true rfl) (Nat.le_of_ble_eq_true rfl) ((by rw [show tl_num (A 5) (S 9) (S 10) (S 8) mo = (v9, p9) from by rw [hres, show mo - k = 0 by omega]; rfl, ← hw0]; exact ⟨rfl, hMl_7, hfrl_7⟩))
      · have qh := tl_hc_le (pl := p9) hS9 ht9
        refine lv_aload_n hx hb dX2_number_12 rfl (lv_at hl 0 rfl) ?_
        refine xk_get B hI_22 hf_23 rfl in_X2 20 (by decide) q1452 rfl dX2_number_13 ?_
        refine xk_if_ne (tgt := 52) hx hb (by omega) dX2_number_16 (by decide) (fun hc_16 => ?_) (fun hc_16 => ?_)
        · refine lv_iload_n hx hb dX2_number_52 rfl (lv_at hl 2 rfl) ?_
          exact xk_reti B hI_22 hr rfl dX2_number_53 (Nat.le_of_ble_eq_true rfl) (Nat.le_of_ble_eq_true rfl) ((by rw [show tl_num (A 5) (S 9) (S 10) (S 8) mo = (v9, p9) from by rw [hres, show mo - k = (mo - k - 1) + 1 by omega]; show (if _ then _ else _) = _; rw [if_neg (fun z => absurd z.1 (by omega))], ← hw0]; exact ⟨rfl, hMl_7, hfrl_7⟩))
        · refine lv_aload_n hx hb dX2_number_19 rfl (lv_at hl 0 rfl) ?_
          refine xk_ri0 (xk_cV B hI_22 hl [] [] 0 (m2_here g hMl_7 (show S 9 ≤ 70 from by omega) (show p9 ≤ 70 from by omega)) hf_23 rfl (lw_V q1743 q1745 qs60 q79 q1746) ⟨rfl, by decide +kernel, by decide +kernel, by decide +kernel⟩ ⟨Nat.le_of_ble_eq_true rfl, Nat.le_of_ble_eq_true rfl⟩ rfl rfl (Nat.le_of_ble_eq_true rfl) dX2_number_20 (Nat.le_of_ble_eq_true rfl) (Nat.le_of_ble_eq_true rfl)) hI_22 (fun H_35 L_36 hI_34 => ?_)
          refine xk_top (y := tl_d (tl_hc (A 5) (S 9) (p9))) rfl ?_
          refine lv_i2l hx hb dX2_number_23 rfl ?_
          refine lv_ldc2 hx hb B.ow (B.ts _ q1755) dX2_number_24 ?_
          refine lv_ldc2 hx hb B.ow (B.ts _ q1756) dX2_number_27 ?_
          refine xk_ri0 (xk_cS B hI_34 hl [.long ((tl_d (tl_hc (A 5) (S 9) (p9))).toInt64), .long (48 : Int64), .long (57 : Int64)] [] 3 (m2_in g (x := (tl_d (tl_hc (A 5) (S 9) p9)).toInt) (lo := 48) (hi := 57) (Int32.toInt_toInt64 _) (by decide) (by decide)) (lw_S q1509 q1510 q79 q1511) ⟨by decide +kernel, by decide +kernel, by decide +kernel⟩ ⟨Nat.le_of_ble_eq_true rfl, Nat.le_of_ble_eq_true rfl⟩ rfl rfl (Nat.le_of_ble_eq_true rfl) dX2_number_30 (Nat.le_of_ble_eq_true rfl) (Nat.le_of_ble_eq_true rfl)) hI_34 (fun H_38 L_39 hI_37 => ?_)
          refine xk_top (y := xk_z (tl_rng (tl_d (tl_hc (A 5) (S 9) p9)) 48 57)) rfl ?_
          refine xk_top (y := xk_z (tl_isd (tl_hc (A 5) (S 9) p9))) (tl_ztop (tl_d_rng (by omega))) ?_
          refine xk_if_eq_z (tgt := 52) hx hb dX2_number_33 (by decide) (fun hc_33 => ?_) (fun hc_33 => ?_)
          · refine lv_iload_n hx hb dX2_number_52 rfl (lv_at hl 2 rfl) ?_
            exact xk_reti B hI_37 hr rfl dX2_number_53 (Nat.le_of_ble_eq_true rfl) (Nat.le_of_ble_eq_true rfl) ((by rw [show tl_num (A 5) (S 9) (S 10) (S 8) mo = (v9, p9) from by rw [hres, show mo - k = (mo - k - 1) + 1 by omega]; show (if _ then _ else _) = _; rw [if_neg (fun z => absurd (hc_33.symm.trans z.2) (by decide))], ← hw0]; exact ⟨rfl, hMl_7, hfrl_7⟩))
          · have hdw : tl_dgw (A 5) (S 9) w9 p9 = 0 := if_pos ⟨hc_16, hc_33⟩
            have hdv : tl_dgv (A 5) (S 9) w9 p9 = tl_hc (A 5) (S 9) p9 - 49 := if_pos hdw
            have hds : tl_stp 0 p9 = p9 + 1 := rfl
            refine lv_bipush (v := nI 10) hx hb dX2_number_36 (by decide) ?_
            refine lv_iload_n hx hb dX2_number_38 rfl (lv_at hl 2 rfl) ?_
            refine lv_imul hx hb dX2_number_39 (xk_top (pk_mul _ _) ?_)
            refine lv_aload_n hx hb dX2_number_40 rfl (lv_at hl 0 rfl) ?_
            refine xk_ri (xk_cV B hI_37 hl [] [.int (nI (10 * v9))] 0 (m2_digit g hMl_7 (show S 9 ≤ 70 from by omega) (show p9 ≤ 70 from by omega) (show w9 ≤ 1 from by omega) ht9) hf_23 rfl (lw_V q1751 q1753 qs62 q79 q1754) ⟨rfl, by decide +kernel, by decide +kernel, by decide +kernel⟩ ⟨Nat.le_of_ble_eq_true rfl, Nat.le_of_ble_eq_true rfl⟩ rfl rfl (Nat.le_of_ble_eq_true rfl) dX2_number_41 (Nat.le_of_ble_eq_true rfl) (Nat.le_of_ble_eq_true rfl)) hI_37 (fun X_43 H_41 L_42 hq_44 hI_40 => ?_)
            refine xk_top (y := nI (tl_dgv (A 5) (S 9) (w9) (p9))) rfl ?_
            obtain ⟨hM_45, hfr_46⟩ := hq_44
            obtain ⟨hf_47, hf_48, hf_49, hf_50, hf_51, hf_52, hf_53, hf_54, hf_55, hf_56, hf_57⟩ := id hM_45
            have hfr_58 := xk_fr.tr hfrl_7 hfr_46
            have hf_48 : X_43 (ad 0) = some ((o, 1), xk_iA g 0 294 (A 0)) := hf_48
            have hf_49 : X_43 (ad 1) = some ((o, 2), xk_iA g 0 294 (A 1)) := hf_49
            have hf_50 : X_43 (ad 2) = some ((o, 3), xk_iA g 0 294 (A 2)) := hf_50
            have hf_51 : X_43 (ad 3) = some ((o, 4), xk_iA g 0 294 (A 3)) := hf_51
            have hf_52 : X_43 (ad 4) = some ((o, 5), xk_iA g 0 2352 (A 4)) := hf_52
            have hf_53 : X_43 (ad 5) = some ((o, 6), xk_iA g 0 70 (A 5)) := hf_53
            have hf_54 : X_43 (ad 6) = some ((o, 7), xk_iA g 2 40 (A 6)) := hf_54
            have hf_55 : X_43 (ad 7) = some ((o, 8), xk_iA g 2 40 (A 7)) := hf_55
            have hf_56 : X_43 (ad 8) = some ((o, 9), xk_iA g 0 60 (A 8)) := hf_56
            have hf_57 : X_43 (ad 9) = some ((o, 10), xk_iA g 0 284 (A 9)) := hf_57
            have hf_47 : X_43 o = some ((o, 0), .inr (0, [.ref (ad 0), .ref (ad 1), .ref (ad 2), .ref (ad 3), .int (nI (S 0)), .ref (ad 4), .int (nI (S 1)), .int (nI (S 2)), .int (nI (S 3)), .int (tm_it (S 4)), .ref (ad 5), .int (nI (S 5)), .ref (ad 6), .ref (ad 7), .ref (ad 8), .int (nI (S 6)), .ref (ad 9), .int (nI (S 7)), .int (nI (tl_stp (tl_dgw (A 5) (S 9) (w9) (p9)) (p9))), .int (nI (S 9)), .int (nI (tl_dgw (A 5) (S 9) (w9) (p9)))])) := hf_47
            have hd44 := tl_dgv_le (A 5) (S 9) (w9) (p9)
            have hw44 := tl_dgw_le (A 5) (S 9) (w9) (p9)
            have hz44 : tl_stp (tl_dgw (A 5) (S 9) (w9) (p9)) (p9) ≤ (S 9) := tl_dgw_z (by omega)
            refine lv_iadd hx hb dX2_number_44 (xk_top (nI_add _ _) ?_)
            refine lv_istore_n (lv' := [(2, .int (nI (10 * v9 + (tl_dgv (A 5) (S 9) (w9) (p9))))), (0, .ref o), (1, .int (nI mo)), (3, .int (nI k))]) hx hb dX2_number_45 rfl hl (by decide) rfl (fun ls hl => ?_)
            refine lv_iinc (v := nI (k + 1)) (lv' := [(3, .int (nI (k + 1))), (2, .int (nI (10 * v9 + (tl_dgv (A 5) (S 9) (w9) (p9))))), (0, .ref o), (1, .int (nI mo))]) hx hb dX2_number_46 hl (k := 3) rfl (xk_inc k) (by decide) rfl (fun ls hl => ?_)
            refine lv_goto (tgt := 7) hx hb dX2_number_49 (by decide) ?_
            have hM_59 : tm_Ok g X_43 o ad A (va_up (va_up S 8 (tl_stp (tl_dgw (A 5) (S 9) (w9) (p9)) (p9))) 10 (tl_dgw (A 5) (S 9) (w9) (p9))) := ⟨hf_47, hf_48, hf_49, hf_50, hf_51, hf_52, hf_53, hf_54, hf_55, hf_56, hf_57⟩
            exact ih_7 (k + 1) (10 * v9 + (tl_dgv (A 5) (S 9) (w9) (p9))) (tl_stp (tl_dgw (A 5) (S 9) (w9) (p9)) (p9)) (tl_dgw (A 5) (S 9) (w9) (p9)) X_43 _ _ (by omega) (by omega) (by omega) (by omega) (by omega) (by omega) (by omega) (by rw [hdw, ← hw0, hc_16]) (by rw [hres, show mo - k = (mo - (k + 1)) + 1 by omega]; show (if _ then _ else _) = _; rw [if_pos ⟨hc_16, hc_33⟩, hdw, hdv, hds, hc_16]) (by omega)  hM_59 hfr_58 hI_40 ls (lv_sub hl [2, 3, 1, 0] rfl)
  have hM_60 : tm_Ok g X_4 o ad A (va_up (va_up S 8 (tl_stp (tl_dgw (A 5) (S 9) (S 10) (S 8)) (S 8))) 10 (tl_dgw (A 5) (S 9) (S 10) (S 8))) := ⟨hf_8, hf_9, hf_10, hf_11, hf_12, hf_13, hf_14, hf_15, hf_16, hf_17, hf_18⟩
  exact hloop_7 (mo - 1 + 1) 1 (tl_dgv (A 5) (S 9) (S 10) (S 8)) (tl_stp (tl_dgw (A 5) (S 9) (S 10) (S 8)) (S 8)) (tl_dgw (A 5) (S 9) (S 10) (S 8)) X_4 _ _ (by omega) (by omega) (by omega) (by omega) (by omega) (by omega) (by omega) (by rfl) (by rfl) (Nat.lt_succ_self _)  hM_60 hfr_19 hI_1 ls (lv_sub hl [2, 3, 1, 0] rfl)
