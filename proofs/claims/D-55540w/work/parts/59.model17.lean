/-! the model: walks, printed by tools/model.py -/
set_option maxRecDepth 100000
set_option maxHeartbeats 4000000 in
theorem m2_read (g : xk_G) {X : xk_H} {o : Nat} {ad : Nat → Nat} {A : Nat → Nat → Nat} {S : Nat → Nat} (hM : tm_Ok g X o ad A S) (hk : tl_inv (A 0)) (hS1 : S 1 ≤ 8) (hS5 : S 5 ≤ 70) (ht9 : ∀ j, j < 70 → A 5 j ≤ 126) : xk_C g yX2_read (ws_ yX2_read cX2_read 5 (some .int)) ({ frames := 7, cells := 0, slots := 0, locals := 164 } : Room) [.ref o] X (xk_Qi (tl_rdR (tl_ps (A 5) (S 5) (S 5 + 1) (0, 0, 0, A 9)) (tl_rn (tl_P.O (tl_ps (A 5) (S 5) (S 5 + 1) (0, 0, 0, A 9))) (tl_P.om (tl_ps (A 5) (S 5) (S 5 + 1) (0, 0, 0, A 9))) 0 (A 0))) (fun X1 => tm_Ok g X1 o ad (tl_rdA A S (tl_ps (A 5) (S 5) (S 5 + 1) (0, 0, 0, A 9)) (tl_rn (tl_P.O (tl_ps (A 5) (S 5) (S 5 + 1) (0, 0, 0, A 9))) (tl_P.om (tl_ps (A 5) (S 5) (S 5 + 1) (0, 0, 0, A 9))) 0 (A 0))) (tl_rdS S (tl_ps (A 5) (S 5) (S 5 + 1) (0, 0, 0, A 9)) (tl_rn (tl_P.O (tl_ps (A 5) (S 5) (S 5 + 1) (0, 0, 0, A 9))) (tl_P.om (tl_ps (A 5) (S 5) (S 5 + 1) (0, 0, 0, A 9))) 0 (A 0))) ∧ xk_fr o X X1)) := by
  refine xk_ofW (by decide +kernel) (Nat.le_of_ble_eq_true rfl) (fun p e s m args below meth c B hr hname hargs hI ls hl => ?_)
  have B : xk_B g p s m args meth c RX2 cX2_read 5 := B
  have hl : lv_has ls 5 [(0, .ref o)] := hl
  have hx := B.1
  have hb := B.2.1
  have hM0 := hM
  obtain ⟨hO, hA0, hA1, hA2, hA3, hA4, hA5, hA6, hA7, hA8, hA9⟩ := hM
  have hk0 := hk
  obtain ⟨k0, kb, kw, kl, ks, kr1, kr2, kwt, kL⟩ := hk
  have hfr : xk_fr o X X := xk_fr.rf
  refine lv_aload_n hx hb dX2_read_0 rfl (lv_at hl 0 rfl) ?_
  refine xk_rv (xk_cV B hI hl [] [] 0 (m2_begins g hM0 ) hO rfl (lw_V q1500 q1502 qs29 q79 q1503) ⟨rfl, by decide +kernel, by decide +kernel, by decide +kernel⟩ ⟨Nat.le_of_ble_eq_true rfl, Nat.le_of_ble_eq_true rfl⟩ rfl rfl (Nat.le_of_ble_eq_true rfl) dX2_read_1 (Nat.le_of_ble_eq_true rfl) (Nat.le_of_ble_eq_true rfl)) hI (fun X_4 H_2 L_3 hq_5 hI_1 => ?_)
  obtain ⟨hM_6, hfr_7⟩ := hq_5
  obtain ⟨hf_8, hf_9, hf_10, hf_11, hf_12, hf_13, hf_14, hf_15, hf_16, hf_17, hf_18⟩ := id hM_6
  have hfr_19 := xk_fr.tr hfr hfr_7
  have hf_9 : X_4 (ad 0) = some ((o, 1), xk_iA g 0 294 (A 0)) := hf_9
  have hf_10 : X_4 (ad 1) = some ((o, 2), xk_iA g 0 294 (tl_cp (A 0) (A 1) 294)) := hf_10
  have hf_11 : X_4 (ad 2) = some ((o, 3), xk_iA g 0 294 (A 2)) := hf_11
  have hf_12 : X_4 (ad 3) = some ((o, 4), xk_iA g 0 294 (A 3)) := hf_12
  have hf_13 : X_4 (ad 4) = some ((o, 5), xk_iA g 0 2352 (A 4)) := hf_13
  have hf_14 : X_4 (ad 5) = some ((o, 6), xk_iA g 0 70 (A 5)) := hf_14
  have hf_15 : X_4 (ad 6) = some ((o, 7), xk_iA g 2 40 (A 6)) := hf_15
  have hf_16 : X_4 (ad 7) = some ((o, 8), xk_iA g 2 40 (A 7)) := hf_16
  have hf_17 : X_4 (ad 8) = some ((o, 9), xk_iA g 0 60 (A 8)) := hf_17
  have hf_18 : X_4 (ad 9) = some ((o, 10), xk_iA g 0 284 (A 9)) := hf_18
  have hf_8 : X_4 o = some ((o, 0), .inr (0, [.ref (ad 0), .ref (ad 1), .ref (ad 2), .ref (ad 3), .int (nI (S 0)), .ref (ad 4), .int (nI (S 1)), .int (nI (S 2)), .int (nI (S 3)), .int (tm_it (S 4)), .ref (ad 5), .int (nI (S 5)), .ref (ad 6), .ref (ad 7), .ref (ad 8), .int (nI (S 6)), .ref (ad 9), .int (nI (S 7)), .int (nI (S 8)), .int (nI (S 9)), .int (nI (S 10))])) := hf_8
  refine lv_aload_n hx hb dX2_read_4 rfl (lv_at hl 0 rfl) ?_
  refine lv_aload_n hx hb dX2_read_5 rfl (lv_at hl 0 rfl) ?_
  refine xk_get B hI_1 hf_8 rfl in_X2 11 (by decide) q1443 rfl dX2_read_6 ?_
  refine xk_put B hI_1 hf_8 rfl in_X2 tyX2 tyX2_ok nmX2 19 (by decide) q1451 rfl rfl rfl (Nat.le_of_ble_eq_true rfl) dX2_read_9 (fun X_20 H_24 L_25 hf_22 hn_21 hI_23 => ?_)
  have hf_22 : X_20 o = some ((o, 0), .inr (0, [.ref (ad 0), .ref (ad 1), .ref (ad 2), .ref (ad 3), .int (nI (S 0)), .ref (ad 4), .int (nI (S 1)), .int (nI (S 2)), .int (nI (S 3)), .int (tm_it (S 4)), .ref (ad 5), .int (nI (S 5)), .ref (ad 6), .ref (ad 7), .ref (ad 8), .int (nI (S 6)), .ref (ad 9), .int (nI (S 7)), .int (nI (S 8)), .int (nI (S 5)), .int (nI (S 10))])) := hf_22
  have hfr_26 := xk_fr.put hfr_19 hf_8 hn_21
  refine lv_aload_n hx hb dX2_read_12 rfl (lv_at hl 0 rfl) ?_
  refine lv_iconst (v := nI 0) hx hb dX2_read_13 (by decide) ?_
  refine xk_put B hI_23 hf_22 rfl in_X2 tyX2 tyX2_ok nmX2 11 (by decide) q1443 rfl rfl rfl (Nat.le_of_ble_eq_true rfl) dX2_read_14 (fun X_27 H_31 L_32 hf_29 hn_28 hI_30 => ?_)
  have hf_29 : X_27 o = some ((o, 0), .inr (0, [.ref (ad 0), .ref (ad 1), .ref (ad 2), .ref (ad 3), .int (nI (S 0)), .ref (ad 4), .int (nI (S 1)), .int (nI (S 2)), .int (nI (S 3)), .int (tm_it (S 4)), .ref (ad 5), .int (nI 0), .ref (ad 6), .ref (ad 7), .ref (ad 8), .int (nI (S 6)), .ref (ad 9), .int (nI (S 7)), .int (nI (S 8)), .int (nI (S 5)), .int (nI (S 10))])) := hf_29
  have hfr_33 := xk_fr.put hfr_26 hf_22 hn_28
  refine lv_aload_n hx hb dX2_read_17 rfl (lv_at hl 0 rfl) ?_
  refine lv_iconst (v := nI 0) hx hb dX2_read_18 (by decide) ?_
  refine xk_put B hI_30 hf_29 rfl in_X2 tyX2 tyX2_ok nmX2 18 (by decide) q1450 rfl rfl rfl (Nat.le_of_ble_eq_true rfl) dX2_read_19 (fun X_34 H_38 L_39 hf_36 hn_35 hI_37 => ?_)
  have hf_36 : X_34 o = some ((o, 0), .inr (0, [.ref (ad 0), .ref (ad 1), .ref (ad 2), .ref (ad 3), .int (nI (S 0)), .ref (ad 4), .int (nI (S 1)), .int (nI (S 2)), .int (nI (S 3)), .int (tm_it (S 4)), .ref (ad 5), .int (nI 0), .ref (ad 6), .ref (ad 7), .ref (ad 8), .int (nI (S 6)), .ref (ad 9), .int (nI (S 7)), .int (nI 0), .int (nI (S 5)), .int (nI (S 10))])) := hf_36
  have hfr_40 := xk_fr.put hfr_33 hf_29 hn_35
  refine lv_aload_n hx hb dX2_read_22 rfl (lv_at hl 0 rfl) ?_
  refine lv_iconst (v := nI 0) hx hb dX2_read_23 (by decide) ?_
  refine xk_put B hI_37 hf_36 rfl in_X2 tyX2 tyX2_ok nmX2 17 (by decide) q1449 rfl rfl rfl (Nat.le_of_ble_eq_true rfl) dX2_read_24 (fun X_41 H_45 L_46 hf_43 hn_42 hI_44 => ?_)
  have hf_43 : X_41 o = some ((o, 0), .inr (0, [.ref (ad 0), .ref (ad 1), .ref (ad 2), .ref (ad 3), .int (nI (S 0)), .ref (ad 4), .int (nI (S 1)), .int (nI (S 2)), .int (nI (S 3)), .int (tm_it (S 4)), .ref (ad 5), .int (nI 0), .ref (ad 6), .ref (ad 7), .ref (ad 8), .int (nI (S 6)), .ref (ad 9), .int (nI 0), .int (nI 0), .int (nI (S 5)), .int (nI (S 10))])) := hf_43
  have hfr_47 := xk_fr.put hfr_40 hf_36 hn_42
  refine lv_aload_n hx hb dX2_read_27 rfl (lv_at hl 0 rfl) ?_
  refine lv_iconst (v := nI 0) hx hb dX2_read_28 (by decide) ?_
  refine xk_put B hI_44 hf_43 rfl in_X2 tyX2 tyX2_ok nmX2 20 (by decide) q1452 rfl (by decide) (by decide) (Nat.le_of_ble_eq_true rfl) dX2_read_29 (fun X_48 H_52 L_53 hf_50 hn_49 hI_51 => ?_)
  have hf_50 : X_48 o = some ((o, 0), .inr (0, [.ref (ad 0), .ref (ad 1), .ref (ad 2), .ref (ad 3), .int (nI (S 0)), .ref (ad 4), .int (nI (S 1)), .int (nI (S 2)), .int (nI (S 3)), .int (tm_it (S 4)), .ref (ad 5), .int (nI 0), .ref (ad 6), .ref (ad 7), .ref (ad 8), .int (nI (S 6)), .ref (ad 9), .int (nI 0), .int (nI 0), .int (nI (S 5)), .int (nI 0)])) := hf_50
  have hfr_54 := xk_fr.put hfr_47 hf_43 hn_49
  refine lv_iconst (v := nI 1) hx hb dX2_read_32 (by decide) ?_
  refine lv_istore_n (lv' := [(1, .int (nI 1)), (0, .ref o)]) hx hb dX2_read_33 rfl hl (by decide) rfl (fun ls hl => ?_)
  have hloop_34 : ∀ (n_34 : Nat) (n9 : Nat) (c9 : Nat) (om : Nat) (pl : Nat) (w : Nat) (O : Nat → Nat) (Xl_34 : xk_H) (H_55 : Heap) (L_56 : List Loc), (c9 ≤ 1) → ((tl_ps (A 5) (S 5) (S 5 + 1) (0, 0, 0, A 9)) = if c9 = 1 then tl_ps (A 5) (S 5) n9 (om, pl, w, O) else (om, pl, w, O)) → (tl_Pk (S 5) (om, pl, w, O)) → (c9 = 1 → S 5 - pl < n9) → (c9 = 1 → w = 0) → n9 < n_34 → (tm_Ok g Xl_34 o ad (va_up (va_up A 1 (tl_cp (A 0) (A 1) 294)) 9 O) (va_up (va_up (va_up (va_up (va_up S 5 0) 7 om) 8 pl) 9 (S 5)) 10 w)) → (xk_fr o X Xl_34) → xk_I g s H_55 Xl_34 L_56 → ∀ ls : Array Slot, lv_has ls 5 [(0, .ref o), (1, .int (nI c9))] → W p (xk_l g) e (({ frames := 7, cells := 0, slots := 0, locals := 164 } : Room)) s m args below meth c H_55 L_56 0 0 (MQ below (xk_Q g (xk_Qi (tl_rdR (tl_ps (A 5) (S 5) (S 5 + 1) (0, 0, 0, A 9)) (tl_rn (tl_P.O (tl_ps (A 5) (S 5) (S 5 + 1) (0, 0, 0, A 9))) (tl_P.om (tl_ps (A 5) (S 5) (S 5 + 1) (0, 0, 0, A 9))) 0 (A 0))) (fun X1 => tm_Ok g X1 o ad (tl_rdA A S (tl_ps (A 5) (S 5) (S 5 + 1) (0, 0, 0, A 9)) (tl_rn (tl_P.O (tl_ps (A 5) (S 5) (S 5 + 1) (0, 0, 0, A 9))) (tl_P.om (tl_ps (A 5) (S 5) (S 5 + 1) (0, 0, 0, A 9))) 0 (A 0))) (tl_rdS S (tl_ps (A 5) (S 5) (S 5 + 1) (0, 0, 0, A 9)) (tl_rn (tl_P.O (tl_ps (A 5) (S 5) (S 5 + 1) (0, 0, 0, A 9))) (tl_P.om (tl_ps (A 5) (S 5) (S 5 + 1) (0, 0, 0, A 9))) 0 (A 0))) ∧ xk_fr o X X1))) args s (0) (0) (xk_A g)) (F0 m 34 ls []) := by
    intro n_34
    induction n_34 with
    | zero => intros; omega
    | succ n_34 ih_34 =>
      intro n9 c9 om pl w O Xl_34 H_55 L_56 hcc hres hPk hnz hw0 hm_34  hMl_34 hfrl_34 hI_57 ls hl
      obtain ⟨hf_58, hf_59, hf_60, hf_61, hf_62, hf_63, hf_64, hf_65, hf_66, hf_67, hf_68⟩ := id hMl_34
      have hf_59 : Xl_34 (ad 0) = some ((o, 1), xk_iA g 0 294 (A 0)) := hf_59
      have hf_60 : Xl_34 (ad 1) = some ((o, 2), xk_iA g 0 294 (tl_cp (A 0) (A 1) 294)) := hf_60
      have hf_61 : Xl_34 (ad 2) = some ((o, 3), xk_iA g 0 294 (A 2)) := hf_61
      have hf_62 : Xl_34 (ad 3) = some ((o, 4), xk_iA g 0 294 (A 3)) := hf_62
      have hf_63 : Xl_34 (ad 4) = some ((o, 5), xk_iA g 0 2352 (A 4)) := hf_63
      have hf_64 : Xl_34 (ad 5) = some ((o, 6), xk_iA g 0 70 (A 5)) := hf_64
      have hf_65 : Xl_34 (ad 6) = some ((o, 7), xk_iA g 2 40 (A 6)) := hf_65
      have hf_66 : Xl_34 (ad 7) = some ((o, 8), xk_iA g 2 40 (A 7)) := hf_66
      have hf_67 : Xl_34 (ad 8) = some ((o, 9), xk_iA g 0 60 (A 8)) := hf_67
      have hf_68 : Xl_34 (ad 9) = some ((o, 10), xk_iA g 0 284 O) := hf_68
      have hf_58 : Xl_34 o = some ((o, 0), .inr (0, [.ref (ad 0), .ref (ad 1), .ref (ad 2), .ref (ad 3), .int (nI (S 0)), .ref (ad 4), .int (nI (S 1)), .int (nI (S 2)), .int (nI (S 3)), .int (tm_it (S 4)), .ref (ad 5), .int (nI 0), .ref (ad 6), .ref (ad 7), .ref (ad 8), .int (nI (S 6)), .ref (ad 9), .int (nI om), .int (nI pl), .int (nI (S 5)), .int (nI w)])) := hf_58
      refine lv_iload_n hx hb dX2_read_34 rfl (lv_at hl 1 rfl) ?_
      refine xk_if_eq (tgt := 92) hx hb (by omega) dX2_read_35 (by decide) (fun hc_35 => ?_) (fun hc_35 => ?_)
      · have hP : (tl_ps (A 5) (S 5) (S 5 + 1) (0, 0, 0, A 9)) = (om, pl, w, O) := hres.trans (if_neg (by omega))
        have hwk : w ≤ 1 := hPk.2.2.1
        have hpo : om ≤ pl := hPk.1
        have hpz : pl ≤ S 5 := hPk.2.1
        have hlet : ∀ i, i < om → tl_let (O (4 * i)) := hPk.2.2.2
        refine lv_aload_n hx hb dX2_read_92 rfl (lv_at hl 0 rfl) ?_
        refine xk_get B hI_57 hf_58 rfl in_X2 20 (by decide) q1452 rfl dX2_read_93 ?_
        refine xk_if_eq (tgt := 107) hx hb (by omega) dX2_read_96 (by decide) (fun hc_96 => ?_) (fun hc_96 => ?_)
        · refine lv_iconst (v := nI 0) hx hb dX2_read_107 (by decide) ?_
          refine lv_istore_n (lv' := [(2, .int (nI 0)), (0, .ref o), (1, .int (nI c9))]) hx hb dX2_read_108 rfl hl (by decide) rfl (fun ls hl => ?_)
          have hloop_109 : ∀ (n_109 : Nat) (k : Nat) (r9 : Nat → Nat) (Xl_109 : xk_H) (H_69 : Heap) (L_70 : List Loc), (k ≤ om) → ((tl_rn (tl_P.O (om, pl, w, O)) (tl_P.om (om, pl, w, O)) 0 (A 0)) = tl_rn O (om - k) k r9) → (tl_inv r9) → om - k < n_109 → (tm_Ok g Xl_109 o ad (va_up (va_up (va_up A 0 r9) 1 (tl_cp (A 0) (A 1) 294)) 9 O) (va_up (va_up (va_up (va_up (va_up S 5 0) 7 om) 8 pl) 9 (S 5)) 10 w)) → (xk_fr o X Xl_109) → xk_I g s H_69 Xl_109 L_70 → ∀ ls : Array Slot, lv_has ls 5 [(0, .ref o), (1, .int (nI c9)), (2, .int (nI k))] → W p (xk_l g) e (({ frames := 7, cells := 0, slots := 0, locals := 164 } : Room)) s m args below meth c H_69 L_70 0 0 (MQ below (xk_Q g (xk_Qi (tl_rdR (tl_ps (A 5) (S 5) (S 5 + 1) (0, 0, 0, A 9)) (tl_rn (tl_P.O (tl_ps (A 5) (S 5) (S 5 + 1) (0, 0, 0, A 9))) (tl_P.om (tl_ps (A 5) (S 5) (S 5 + 1) (0, 0, 0, A 9))) 0 (A 0))) (fun X1 => tm_Ok g X1 o ad (tl_rdA A S (tl_ps (A 5) (S 5) (S 5 + 1) (0, 0, 0, A 9)) (tl_rn (tl_P.O (tl_ps (A 5) (S 5) (S 5 + 1) (0, 0, 0, A 9))) (tl_P.om (tl_ps (A 5) (S 5) (S 5 + 1) (0, 0, 0, A 9))) 0 (A 0))) (tl_rdS S (tl_ps (A 5) (S 5) (S 5 + 1) (0, 0, 0, A 9)) (tl_rn (tl_P.O (tl_ps (A 5) (S 5) (S 5 + 1) (0, 0, 0, A 9))) (tl_P.om (tl_ps (A 5) (S 5) (S 5 + 1) (0, 0, 0, A 9))) 0 (A 0))) ∧ xk_fr o X X1))) args s (0) (0) (xk_A g)) (F0 m 109 ls []) := by
            intro n_109
            induction n_109 with
            | zero => intros; omega
            | succ n_109 ih_109 =>
              intro k r9 Xl_109 H_69 L_70 hk1 hrn hmi hm_109  hMl_109 hfrl_109 hI_71 ls hl
              obtain ⟨hf_72, hf_73, hf_74, hf_75, hf_76, hf_77, hf_78, hf_79, hf_80, hf_81, hf_82⟩ := id hMl_109
              have hf_73 : Xl_109 (ad 0) = some ((o, 1), xk_iA g 0 294 r9) := hf_73
              have hf_74 : Xl_109 (ad 1) = some ((o, 2), xk_iA g 0 294 (tl_cp (A 0) (A 1) 294)) := hf_74
              have hf_75 : Xl_109 (ad 2) = some ((o, 3), xk_iA g 0 294 (A 2)) := hf_75
              have hf_76 : Xl_109 (ad 3) = some ((o, 4), xk_iA g 0 294 (A 3)) := hf_76
              have hf_77 : Xl_109 (ad 4) = some ((o, 5), xk_iA g 0 2352 (A 4)) := hf_77
              have hf_78 : Xl_109 (ad 5) = some ((o, 6), xk_iA g 0 70 (A 5)) := hf_78
              have hf_79 : Xl_109 (ad 6) = some ((o, 7), xk_iA g 2 40 (A 6)) := hf_79
              have hf_80 : Xl_109 (ad 7) = some ((o, 8), xk_iA g 2 40 (A 7)) := hf_80
              have hf_81 : Xl_109 (ad 8) = some ((o, 9), xk_iA g 0 60 (A 8)) := hf_81
              have hf_82 : Xl_109 (ad 9) = some ((o, 10), xk_iA g 0 284 O) := hf_82
              have hf_72 : Xl_109 o = some ((o, 0), .inr (0, [.ref (ad 0), .ref (ad 1), .ref (ad 2), .ref (ad 3), .int (nI (S 0)), .ref (ad 4), .int (nI (S 1)), .int (nI (S 2)), .int (nI (S 3)), .int (tm_it (S 4)), .ref (ad 5), .int (nI 0), .ref (ad 6), .ref (ad 7), .ref (ad 8), .int (nI (S 6)), .ref (ad 9), .int (nI om), .int (nI pl), .int (nI (S 5)), .int (nI w)])) := hf_72
              refine lv_iload_n hx hb dX2_read_109 rfl (lv_at hl 2 rfl) ?_
              refine lv_aload_n hx hb dX2_read_110 rfl (lv_at hl 0 rfl) ?_
              refine xk_get B hI_71 hf_72 rfl in_X2 17 (by decide) q1449 rfl dX2_read_111 ?_
              refine xk_icmp_ge (tgt := 198) hx hb (by omega) (by omega) dX2_read_114 (by decide) (fun hc_114 => ?_) (fun hc_114 => ?_)
              · have hN : (tl_rn (tl_P.O (om, pl, w, O)) (tl_P.om (om, pl, w, O)) 0 (A 0)) = (k, r9, none) := by rw [hrn, show om - k = 0 by omega]; rfl
                refine lv_aload_n hx hb dX2_read_198 rfl (lv_at hl 0 rfl) ?_
                refine lv_aload_n hx hb dX2_read_199 rfl (lv_at hl 0 rfl) ?_
                refine xk_get B hI_71 hf_72 rfl in_X2 17 (by decide) q1449 rfl dX2_read_200 ?_
                refine xk_ri (xk_cV B hI_71 hl [.int (nI om)] [] 1 (m2_changedO g hMl_109 (r9 := om) (by omega) hS1) hf_72 rfl (lw_V q1531 q1533 qs35 q79 q1534) ⟨rfl, by decide +kernel, by decide +kernel, by decide +kernel⟩ ⟨Nat.le_of_ble_eq_true rfl, Nat.le_of_ble_eq_true rfl⟩ rfl rfl (Nat.le_of_ble_eq_true rfl) dX2_read_203 (Nat.le_of_ble_eq_true rfl) (Nat.le_of_ble_eq_true rfl)) hI_71 (fun X_86 H_84 L_85 hq_87 hI_83 => ?_)
                refine xk_top (y := nI om) rfl ?_
                obtain ⟨hM_88, hfr_89⟩ := hq_87
                obtain ⟨hf_90, hf_91, hf_92, hf_93, hf_94, hf_95, hf_96, hf_97, hf_98, hf_99, hf_100⟩ := id hM_88
                have hfr_101 := xk_fr.tr hfrl_109 hfr_89
                have hf_91 : X_86 (ad 0) = some ((o, 1), xk_iA g 0 294 r9) := hf_91
                have hf_92 : X_86 (ad 1) = some ((o, 2), xk_iA g 0 294 (tl_cp (A 0) (A 1) 294)) := hf_92
                have hf_93 : X_86 (ad 2) = some ((o, 3), xk_iA g 0 294 (A 2)) := hf_93
                have hf_94 : X_86 (ad 3) = some ((o, 4), xk_iA g 0 294 (A 3)) := hf_94
                have hf_95 : X_86 (ad 4) = some ((o, 5), xk_iA g 0 2352 (tl_pst true (S 1) (A 4) (tl_cp (A 0) (A 1) 294))) := hf_95
                have hf_96 : X_86 (ad 5) = some ((o, 6), xk_iA g 0 70 (A 5)) := hf_96
                have hf_97 : X_86 (ad 6) = some ((o, 7), xk_iA g 2 40 (A 6)) := hf_97
                have hf_98 : X_86 (ad 7) = some ((o, 8), xk_iA g 2 40 (A 7)) := hf_98
                have hf_99 : X_86 (ad 8) = some ((o, 9), xk_iA g 0 60 (A 8)) := hf_99
                have hf_100 : X_86 (ad 9) = some ((o, 10), xk_iA g 0 284 O) := hf_100
                have hf_90 : X_86 o = some ((o, 0), .inr (0, [.ref (ad 0), .ref (ad 1), .ref (ad 2), .ref (ad 3), .int (nI (S 0)), .ref (ad 4), .int (nI (tl_chn true (S 1))), .int (nI (S 2)), .int (nI (S 3)), .int (tm_it (S 4)), .ref (ad 5), .int (nI 0), .ref (ad 6), .ref (ad 7), .ref (ad 8), .int (nI (S 6)), .ref (ad 9), .int (nI om), .int (nI pl), .int (nI (S 5)), .int (nI w)])) := hf_90
                have hM_102 : tm_Ok g X_86 o ad (va_up (va_up (va_up (va_up A 0 r9) 1 (tl_cp (A 0) (A 1) 294)) 4 (tl_pst true (S 1) (A 4) (tl_cp (A 0) (A 1) 294))) 9 O) (va_up (va_up (va_up (va_up (va_up (va_up S 1 (tl_chn true (S 1))) 5 0) 7 om) 8 pl) 9 (S 5)) 10 w) := ⟨hf_90, hf_91, hf_92, hf_93, hf_94, hf_95, hf_96, hf_97, hf_98, hf_99, hf_100⟩
                exact xk_reti B hI_83 hr rfl dX2_read_206 (Nat.le_of_ble_eq_true rfl) (Nat.le_of_ble_eq_true rfl) ((by rw [hP, hN, tl_rdR_n (by omega), tl_rdA_n (by omega), tl_rdS_n (by omega)]; exact ⟨rfl, hM_102, hfr_101⟩))
              · refine lv_aload_n hx hb dX2_read_117 rfl (lv_at hl 0 rfl) ?_
                refine lv_iconst (v := nI 4) hx hb dX2_read_118 (by decide) ?_
                refine lv_iload_n hx hb dX2_read_119 rfl (lv_at hl 2 rfl) ?_
                refine lv_imul hx hb dX2_read_120 (xk_top (pk_mul _ _) ?_)
                refine xk_ri (xk_cV B hI_71 hl [.int (nI (4 * k))] [] 1 (m2_does g hMl_109 hmi (f9 := 4 * k) (by omega) (hlet k (by omega))) hf_72 rfl (lw_V q1761 q1763 qs64 q79 q1764) ⟨rfl, by decide +kernel, by decide +kernel, by decide +kernel⟩ ⟨Nat.le_of_ble_eq_true rfl, Nat.le_of_ble_eq_true rfl⟩ rfl rfl (Nat.le_of_ble_eq_true rfl) dX2_read_121 (Nat.le_of_ble_eq_true rfl) (Nat.le_of_ble_eq_true rfl)) hI_71 (fun X_106 H_104 L_105 hq_107 hI_103 => ?_)
                refine xk_top (y := tl_r (tl_do1 O k (r9))) rfl ?_
                obtain ⟨hM_108, hfr_109⟩ := hq_107
                obtain ⟨hf_110, hf_111, hf_112, hf_113, hf_114, hf_115, hf_116, hf_117, hf_118, hf_119, hf_120⟩ := id hM_108
                have hfr_121 := xk_fr.tr hfrl_109 hfr_109
                have hf_111 : X_106 (ad 0) = some ((o, 1), xk_iA g 0 294 (tl_m r9 (tl_do1 O k (r9)))) := hf_111
                have hf_112 : X_106 (ad 1) = some ((o, 2), xk_iA g 0 294 (tl_cp (A 0) (A 1) 294)) := hf_112
                have hf_113 : X_106 (ad 2) = some ((o, 3), xk_iA g 0 294 (A 2)) := hf_113
                have hf_114 : X_106 (ad 3) = some ((o, 4), xk_iA g 0 294 (A 3)) := hf_114
                have hf_115 : X_106 (ad 4) = some ((o, 5), xk_iA g 0 2352 (A 4)) := hf_115
                have hf_116 : X_106 (ad 5) = some ((o, 6), xk_iA g 0 70 (A 5)) := hf_116
                have hf_117 : X_106 (ad 6) = some ((o, 7), xk_iA g 2 40 (A 6)) := hf_117
                have hf_118 : X_106 (ad 7) = some ((o, 8), xk_iA g 2 40 (A 7)) := hf_118
                have hf_119 : X_106 (ad 8) = some ((o, 9), xk_iA g 0 60 (A 8)) := hf_119
                have hf_120 : X_106 (ad 9) = some ((o, 10), xk_iA g 0 284 O) := hf_120
                have hf_110 : X_106 o = some ((o, 0), .inr (0, [.ref (ad 0), .ref (ad 1), .ref (ad 2), .ref (ad 3), .int (nI (tl_S (va_up (va_up (va_up (va_up (va_up S 5 0) 7 om) 8 pl) 9 (S 5)) 10 w) (tl_do1 O k (r9)) 0)), .ref (ad 4), .int (nI (tl_S (va_up (va_up (va_up (va_up (va_up S 5 0) 7 om) 8 pl) 9 (S 5)) 10 w) (tl_do1 O k (r9)) 1)), .int (nI (tl_S (va_up (va_up (va_up (va_up (va_up S 5 0) 7 om) 8 pl) 9 (S 5)) 10 w) (tl_do1 O k (r9)) 2)), .int (nI (tl_S (va_up (va_up (va_up (va_up (va_up S 5 0) 7 om) 8 pl) 9 (S 5)) 10 w) (tl_do1 O k (r9)) 3)), .int (tm_it (tl_S (va_up (va_up (va_up (va_up (va_up S 5 0) 7 om) 8 pl) 9 (S 5)) 10 w) (tl_do1 O k (r9)) 4)), .ref (ad 5), .int (nI (tl_S (va_up (va_up (va_up (va_up (va_up S 5 0) 7 om) 8 pl) 9 (S 5)) 10 w) (tl_do1 O k (r9)) 5)), .ref (ad 6), .ref (ad 7), .ref (ad 8), .int (nI (tl_S (va_up (va_up (va_up (va_up (va_up S 5 0) 7 om) 8 pl) 9 (S 5)) 10 w) (tl_do1 O k (r9)) 6)), .ref (ad 9), .int (nI (tl_S (va_up (va_up (va_up (va_up (va_up S 5 0) 7 om) 8 pl) 9 (S 5)) 10 w) (tl_do1 O k (r9)) 7)), .int (nI (tl_S (va_up (va_up (va_up (va_up (va_up S 5 0) 7 om) 8 pl) 9 (S 5)) 10 w) (tl_do1 O k (r9)) 8)), .int (nI (tl_S (va_up (va_up (va_up (va_up (va_up S 5 0) 7 om) 8 pl) 9 (S 5)) 10 w) (tl_do1 O k (r9)) 9)), .int (nI (tl_S (va_up (va_up (va_up (va_up (va_up S 5 0) 7 om) 8 pl) 9 (S 5)) 10 w) (tl_do1 O k (r9)) 10))])) := hf_110
                refine lv_istore_n (lv' := [(3, .int (tl_r (tl_do1 O k (r9)))), (0, .ref o), (1, .int (nI c9)), (2, .int (nI k))]) hx hb dX2_read_124 rfl hl (by decide) rfl (fun ls hl => ?_)
                refine lv_iload_n hx hb dX2_read_125 rfl (lv_at hl 0 rfl) ?_
                refine lv_if_ge (tgt := 192) hx hb dX2_read_126 (by decide) (fun hc_126 => ?_) (fun hc_126 => ?_)
                · have hok : tl_is (tl_do1 O k r9) = true := (tl_is_r (tl_does_okc hmi)).mpr (by first | exact hc_126 | exact Int32.not_lt.mpr hc_126)
                  refine lv_iinc (v := nI (k + 1)) (lv' := [(2, .int (nI (k + 1))), (3, .int (tl_r (tl_do1 O k (r9)))), (0, .ref o), (1, .int (nI c9))]) hx hb dX2_read_192 hl (k := 3) rfl (xk_inc k) (by decide) rfl (fun ls hl => ?_)
                  refine lv_goto (tgt := 109) hx hb dX2_read_195 (by decide) ?_
                  have hM_122 : tm_Ok g X_106 o ad (va_up (va_up (va_up A 0 (tl_m r9 (tl_do1 O k (r9)))) 1 (tl_cp (A 0) (A 1) 294)) 9 O) (tl_S (va_up (va_up (va_up (va_up (va_up S 5 0) 7 om) 8 pl) 9 (S 5)) 10 w) (tl_do1 O k (r9))) := ⟨hf_110, hf_111, hf_112, hf_113, hf_114, hf_115, hf_116, hf_117, hf_118, hf_119, hf_120⟩
                  exact ih_109 (k + 1) (tl_m r9 (tl_do1 O k (r9))) X_106 _ _ (by omega) (by rw [hrn, show om - k = (om - (k + 1)) + 1 by omega]; exact (show (if _ then _ else _) = _ by rw [if_pos hok])) (tl_does_inv hmi) (by omega)  (by have q := hM_122; rw [tl_S_is hok] at q; exact q) hfr_121 hI_103 ls (lv_sub hl [2, 3, 0] rfl)
                · have hno : ¬ tl_is (tl_do1 O k r9) = true := fun z => (tl_is_r (tl_does_okc hmi)).mp z (by first | exact hc_126 | exact Int32.not_le.mp hc_126)
                  refine lv_iconst (v := nI 0) hx hb dX2_read_129 (by decide) ?_
                  refine lv_istore (lv' := [(4, .int (nI 0)), (3, .int (tl_r (tl_do1 O k (r9)))), (0, .ref o), (1, .int (nI c9)), (2, .int (nI k))]) hx hb dX2_read_130 hl (by decide) rfl (fun ls hl => ?_)
                  have hloop_132 : ∀ (n_132 : Nat) (k4 : Nat) (f : Nat → Nat) (Xl_132 : xk_H) (H_123 : Heap) (L_124 : List Loc), (k4 ≤ 294) → (f = tl_cp (tl_cp (A 0) (A 1) 294) (tl_m r9 (tl_do1 O k r9)) k4) → 294 - k4 < n_132 → Xl_132 (ad 0) = some ((o, 1), xk_iA g 0 294 f) → (∀ b, b ≠ (ad 0) → Xl_132 b = X_106 b) → (xk_fr o X Xl_132) → xk_I g s H_123 Xl_132 L_124 → ∀ ls : Array Slot, lv_has ls 5 [(0, .ref o), (1, .int (nI c9)), (2, .int (nI k)), (3, .int (tl_r (tl_do1 O k r9))), (4, .int (nI k4))] → W p (xk_l g) e (({ frames := 7, cells := 0, slots := 0, locals := 164 } : Room)) s m args below meth c H_123 L_124 0 0 (MQ below (xk_Q g (xk_Qi (tl_rdR (tl_ps (A 5) (S 5) (S 5 + 1) (0, 0, 0, A 9)) (tl_rn (tl_P.O (tl_ps (A 5) (S 5) (S 5 + 1) (0, 0, 0, A 9))) (tl_P.om (tl_ps (A 5) (S 5) (S 5 + 1) (0, 0, 0, A 9))) 0 (A 0))) (fun X1 => tm_Ok g X1 o ad (tl_rdA A S (tl_ps (A 5) (S 5) (S 5 + 1) (0, 0, 0, A 9)) (tl_rn (tl_P.O (tl_ps (A 5) (S 5) (S 5 + 1) (0, 0, 0, A 9))) (tl_P.om (tl_ps (A 5) (S 5) (S 5 + 1) (0, 0, 0, A 9))) 0 (A 0))) (tl_rdS S (tl_ps (A 5) (S 5) (S 5 + 1) (0, 0, 0, A 9)) (tl_rn (tl_P.O (tl_ps (A 5) (S 5) (S 5 + 1) (0, 0, 0, A 9))) (tl_P.om (tl_ps (A 5) (S 5) (S 5 + 1) (0, 0, 0, A 9))) 0 (A 0))) ∧ xk_fr o X X1))) args s (0) (0) (xk_A g)) (F0 m 132 ls []) := by
                    intro n_132
                    induction n_132 with
                    | zero => intros; omega
                    | succ n_132 ih_132 =>
                      intro k4 f Xl_132 H_123 L_124 hk4 hf4 hm_132 hfl0_132 hne_132 hfrl_132 hI_125 ls hl
                      refine lv_iload hx hb dX2_read_132 (lv_at hl 4 rfl) ?_
                      refine lv_sipush (v := nI 294) hx hb dX2_read_134 (by decide) ?_
                      refine xk_icmp_ge (tgt := 160) hx hb (by omega) (by omega) dX2_read_137 (by decide) (fun hc_137 => ?_) (fun hc_137 => ?_)
                      · have hk5 : k4 = 294 := by omega
                        subst hk5
                        rw [tl_m_not hno] at hf4
                        have hN : (tl_rn (tl_P.O (om, pl, w, O)) (tl_P.om (om, pl, w, O)) 0 (A 0)) = (k, r9, some (tl_do1 O k r9)) := by rw [hrn, show om - k = (om - k - 1) + 1 by omega]; exact (show (if _ then _ else _) = _ by rw [if_neg hno])
                        refine lv_aload_n hx hb dX2_read_160 rfl (lv_at hl 0 rfl) ?_
                        refine lv_iload_n hx hb dX2_read_161 rfl (lv_at hl 3 rfl) ?_
                        refine lv_bipush (v := (-3)) hx hb dX2_read_162 (by decide) ?_
                        refine lv_icmp_ne (tgt := 171) hx hb dX2_read_164 (by decide) (fun hc_164 => ?_) (fun hc_164 => ?_)
                        · refine lv_aload_n hx hb dX2_read_171 rfl (lv_at hl 0 rfl) ?_
                          have hf_126 := (hne_132 _ (xk_ne hf_111 hf_110 (xk_on1 (by decide)))).trans hf_110
                          refine xk_get B hI_125 hf_126 rfl in_X2 9 (by decide) q1441 rfl dX2_read_172 ?_
                          refine xk_put B hI_125 hf_126 rfl in_X2 tyX2 tyX2_ok nmX2 9 (by decide) q1441 rfl rfl rfl (Nat.le_of_ble_eq_true rfl) dX2_read_175 (fun X_127 H_131 L_132 hf_129 hn_128 hI_130 => ?_)
                          have hf_129 : X_127 o = some ((o, 0), .inr (0, [.ref (ad 0), .ref (ad 1), .ref (ad 2), .ref (ad 3), .int (nI (tl_S (va_up (va_up (va_up (va_up (va_up S 5 0) 7 om) 8 pl) 9 (S 5)) 10 w) (tl_do1 O k (r9)) 0)), .ref (ad 4), .int (nI (tl_S (va_up (va_up (va_up (va_up (va_up S 5 0) 7 om) 8 pl) 9 (S 5)) 10 w) (tl_do1 O k (r9)) 1)), .int (nI (tl_S (va_up (va_up (va_up (va_up (va_up S 5 0) 7 om) 8 pl) 9 (S 5)) 10 w) (tl_do1 O k (r9)) 2)), .int (nI (tl_S (va_up (va_up (va_up (va_up (va_up S 5 0) 7 om) 8 pl) 9 (S 5)) 10 w) (tl_do1 O k (r9)) 3)), .int (tm_it (tl_S (va_up (va_up (va_up (va_up (va_up S 5 0) 7 om) 8 pl) 9 (S 5)) 10 w) (tl_do1 O k (r9)) 4)), .ref (ad 5), .int (nI (tl_S (va_up (va_up (va_up (va_up (va_up S 5 0) 7 om) 8 pl) 9 (S 5)) 10 w) (tl_do1 O k (r9)) 5)), .ref (ad 6), .ref (ad 7), .ref (ad 8), .int (nI (tl_S (va_up (va_up (va_up (va_up (va_up S 5 0) 7 om) 8 pl) 9 (S 5)) 10 w) (tl_do1 O k (r9)) 6)), .ref (ad 9), .int (nI (tl_S (va_up (va_up (va_up (va_up (va_up S 5 0) 7 om) 8 pl) 9 (S 5)) 10 w) (tl_do1 O k (r9)) 7)), .int (nI (tl_S (va_up (va_up (va_up (va_up (va_up S 5 0) 7 om) 8 pl) 9 (S 5)) 10 w) (tl_do1 O k (r9)) 8)), .int (nI (tl_S (va_up (va_up (va_up (va_up (va_up S 5 0) 7 om) 8 pl) 9 (S 5)) 10 w) (tl_do1 O k (r9)) 9)), .int (nI (tl_S (va_up (va_up (va_up (va_up (va_up S 5 0) 7 om) 8 pl) 9 (S 5)) 10 w) (tl_do1 O k (r9)) 10))])) := hf_129
                          have hfr_133 := xk_fr.put hfrl_132 hf_126 hn_128
                          refine lv_iload_n hx hb dX2_read_178 rfl (lv_at hl 3 rfl) ?_
                          refine lv_bipush (v := (-3)) hx hb dX2_read_179 (by decide) ?_
                          refine xk_raw_icmp_ne_t (tgt := 189) hx hb dX2_read_181 (by decide) hc_164 ?_
                          refine lv_bipush (v := (-2)) hx hb dX2_read_189 (by decide) ?_
                          have hf_134 := xk_off hn_128 hfl0_132 hf_126 (xk_on1 (by decide))
                          have hf_135 := (hne_132 _ (xk_ne hf_111 hf_112 (xk_on1 (by decide)))).trans hf_112
                          have hf_136 := xk_off hn_128 hf_135 hf_126 (xk_on1 (by decide))
                          have hf_137 := (hne_132 _ (xk_ne hf_111 hf_113 (xk_on1 (by decide)))).trans hf_113
                          have hf_138 := xk_off hn_128 hf_137 hf_126 (xk_on1 (by decide))
                          have hf_139 := (hne_132 _ (xk_ne hf_111 hf_114 (xk_on1 (by decide)))).trans hf_114
                          have hf_140 := xk_off hn_128 hf_139 hf_126 (xk_on1 (by decide))
                          have hf_141 := (hne_132 _ (xk_ne hf_111 hf_115 (xk_on1 (by decide)))).trans hf_115
                          have hf_142 := xk_off hn_128 hf_141 hf_126 (xk_on1 (by decide))
                          have hf_143 := (hne_132 _ (xk_ne hf_111 hf_116 (xk_on1 (by decide)))).trans hf_116
                          have hf_144 := xk_off hn_128 hf_143 hf_126 (xk_on1 (by decide))
                          have hf_145 := (hne_132 _ (xk_ne hf_111 hf_117 (xk_on1 (by decide)))).trans hf_117
                          have hf_146 := xk_off hn_128 hf_145 hf_126 (xk_on1 (by decide))
                          have hf_147 := (hne_132 _ (xk_ne hf_111 hf_118 (xk_on1 (by decide)))).trans hf_118
                          have hf_148 := xk_off hn_128 hf_147 hf_126 (xk_on1 (by decide))
                          have hf_149 := (hne_132 _ (xk_ne hf_111 hf_119 (xk_on1 (by decide)))).trans hf_119
                          have hf_150 := xk_off hn_128 hf_149 hf_126 (xk_on1 (by decide))
                          have hf_151 := (hne_132 _ (xk_ne hf_111 hf_120 (xk_on1 (by decide)))).trans hf_120
                          have hf_152 := xk_off hn_128 hf_151 hf_126 (xk_on1 (by decide))
                          have hM_153 : tm_Ok g X_127 o ad (va_up (va_up (va_up A 0 f) 1 (tl_cp (A 0) (A 1) 294)) 9 O) (tl_S (va_up (va_up (va_up (va_up (va_up S 5 0) 7 om) 8 pl) 9 (S 5)) 10 w) (tl_do1 O k (r9))) := ⟨hf_129, hf_134, hf_136, hf_138, hf_140, hf_142, hf_144, hf_146, hf_148, hf_150, hf_152⟩
                          exact xk_reti B hI_130 hr rfl dX2_read_191 (Nat.le_of_ble_eq_true rfl) (Nat.le_of_ble_eq_true rfl) ((by rw [hP, hN, tl_rdR_2 (by omega) hc_164, tl_rdA_f (by omega), tl_rdS_2 (by omega) hc_164, show tl_cp (tl_cp (A 0) (A 1) 294) r9 294 = f from hf4.symm]; exact ⟨rfl, hM_153, hfr_133⟩))
                        · refine lv_iload_n hx hb dX2_read_167 rfl (lv_at hl 2 rfl) ?_
                          refine lv_goto (tgt := 175) hx hb dX2_read_168 (by decide) ?_
                          have hf_154 := (hne_132 _ (xk_ne hf_111 hf_110 (xk_on1 (by decide)))).trans hf_110
                          refine xk_put B hI_125 hf_154 rfl in_X2 tyX2 tyX2_ok nmX2 9 (by decide) q1441 rfl rfl rfl (Nat.le_of_ble_eq_true rfl) dX2_read_175 (fun X_155 H_159 L_160 hf_157 hn_156 hI_158 => ?_)
                          have hf_157 : X_155 o = some ((o, 0), .inr (0, [.ref (ad 0), .ref (ad 1), .ref (ad 2), .ref (ad 3), .int (nI (tl_S (va_up (va_up (va_up (va_up (va_up S 5 0) 7 om) 8 pl) 9 (S 5)) 10 w) (tl_do1 O k (r9)) 0)), .ref (ad 4), .int (nI (tl_S (va_up (va_up (va_up (va_up (va_up S 5 0) 7 om) 8 pl) 9 (S 5)) 10 w) (tl_do1 O k (r9)) 1)), .int (nI (tl_S (va_up (va_up (va_up (va_up (va_up S 5 0) 7 om) 8 pl) 9 (S 5)) 10 w) (tl_do1 O k (r9)) 2)), .int (nI (tl_S (va_up (va_up (va_up (va_up (va_up S 5 0) 7 om) 8 pl) 9 (S 5)) 10 w) (tl_do1 O k (r9)) 3)), .int (nI k), .ref (ad 5), .int (nI (tl_S (va_up (va_up (va_up (va_up (va_up S 5 0) 7 om) 8 pl) 9 (S 5)) 10 w) (tl_do1 O k (r9)) 5)), .ref (ad 6), .ref (ad 7), .ref (ad 8), .int (nI (tl_S (va_up (va_up (va_up (va_up (va_up S 5 0) 7 om) 8 pl) 9 (S 5)) 10 w) (tl_do1 O k (r9)) 6)), .ref (ad 9), .int (nI (tl_S (va_up (va_up (va_up (va_up (va_up S 5 0) 7 om) 8 pl) 9 (S 5)) 10 w) (tl_do1 O k (r9)) 7)), .int (nI (tl_S (va_up (va_up (va_up (va_up (va_up S 5 0) 7 om) 8 pl) 9 (S 5)) 10 w) (tl_do1 O k (r9)) 8)), .int (nI (tl_S (va_up (va_up (va_up (va_up (va_up S 5 0) 7 om) 8 pl) 9 (S 5)) 10 w) (tl_do1 O k (r9)) 9)), .int (nI (tl_S (va_up (va_up (va_up (va_up (va_up S 5 0) 7 om) 8 pl) 9 (S 5)) 10 w) (tl_do1 O k (r9)) 10))])) := hf_157
                          have hfr_161 := xk_fr.put hfrl_132 hf_154 hn_156
                          refine lv_iload_n hx hb dX2_read_178 rfl (lv_at hl 3 rfl) ?_
                          refine lv_bipush (v := (-3)) hx hb dX2_read_179 (by decide) ?_
                          refine xk_raw_icmp_ne_f (tgt := 189) hx hb dX2_read_181 (by decide) (fun z => z hc_164) ?_
                          refine lv_bipush (v := (-3)) hx hb dX2_read_184 (by decide) ?_
                          refine lv_goto (tgt := 191) hx hb dX2_read_186 (by decide) ?_
                          have hf_162 := xk_off hn_156 hfl0_132 hf_154 (xk_on1 (by decide))
                          have hf_163 := (hne_132 _ (xk_ne hf_111 hf_112 (xk_on1 (by decide)))).trans hf_112
                          have hf_164 := xk_off hn_156 hf_163 hf_154 (xk_on1 (by decide))
                          have hf_165 := (hne_132 _ (xk_ne hf_111 hf_113 (xk_on1 (by decide)))).trans hf_113
                          have hf_166 := xk_off hn_156 hf_165 hf_154 (xk_on1 (by decide))
                          have hf_167 := (hne_132 _ (xk_ne hf_111 hf_114 (xk_on1 (by decide)))).trans hf_114
                          have hf_168 := xk_off hn_156 hf_167 hf_154 (xk_on1 (by decide))
                          have hf_169 := (hne_132 _ (xk_ne hf_111 hf_115 (xk_on1 (by decide)))).trans hf_115
                          have hf_170 := xk_off hn_156 hf_169 hf_154 (xk_on1 (by decide))
                          have hf_171 := (hne_132 _ (xk_ne hf_111 hf_116 (xk_on1 (by decide)))).trans hf_116
                          have hf_172 := xk_off hn_156 hf_171 hf_154 (xk_on1 (by decide))
                          have hf_173 := (hne_132 _ (xk_ne hf_111 hf_117 (xk_on1 (by decide)))).trans hf_117
                          have hf_174 := xk_off hn_156 hf_173 hf_154 (xk_on1 (by decide))
                          have hf_175 := (hne_132 _ (xk_ne hf_111 hf_118 (xk_on1 (by decide)))).trans hf_118
                          have hf_176 := xk_off hn_156 hf_175 hf_154 (xk_on1 (by decide))
                          have hf_177 := (hne_132 _ (xk_ne hf_111 hf_119 (xk_on1 (by decide)))).trans hf_119
                          have hf_178 := xk_off hn_156 hf_177 hf_154 (xk_on1 (by decide))
                          have hf_179 := (hne_132 _ (xk_ne hf_111 hf_120 (xk_on1 (by decide)))).trans hf_120
                          have hf_180 := xk_off hn_156 hf_179 hf_154 (xk_on1 (by decide))
                          have hM_181 : tm_Ok g X_155 o ad (va_up (va_up (va_up A 0 f) 1 (tl_cp (A 0) (A 1) 294)) 9 O) (va_up (tl_S (va_up (va_up (va_up (va_up (va_up S 5 0) 7 om) 8 pl) 9 (S 5)) 10 w) (tl_do1 O k (r9))) 4 (k + 1)) := ⟨hf_157, hf_162, hf_164, hf_166, hf_168, hf_170, hf_172, hf_174, hf_176, hf_178, hf_180⟩
                          exact xk_reti B hI_158 hr rfl dX2_read_191 (Nat.le_of_ble_eq_true rfl) (Nat.le_of_ble_eq_true rfl) ((by rw [hP, hN, tl_rdR_3 (by omega) hc_164, tl_rdA_f (by omega), tl_rdS_3 (by omega) hc_164, show tl_cp (tl_cp (A 0) (A 1) 294) r9 294 = f from hf4.symm]; exact ⟨rfl, hM_181, hfr_161⟩))
                      · refine lv_aload_n hx hb dX2_read_140 rfl (lv_at hl 0 rfl) ?_
                        have hf_182 := (hne_132 _ (xk_ne hf_111 hf_110 (xk_on1 (by decide)))).trans hf_110
                        refine xk_get B hI_125 hf_182 rfl in_X2 0 (by decide) q1432 rfl dX2_read_141 ?_
                        refine lv_iload hx hb dX2_read_144 (lv_at hl 4 rfl) ?_
                        refine lv_aload_n hx hb dX2_read_146 rfl (lv_at hl 0 rfl) ?_
                        refine xk_get B hI_125 hf_182 rfl in_X2 1 (by decide) q1433 rfl dX2_read_147 ?_
                        refine lv_iload hx hb dX2_read_150 (lv_at hl 4 rfl) ?_
                        have hf_183 := (hne_132 _ (xk_ne hf_111 hf_112 (xk_on1 (by decide)))).trans hf_112
                        refine xk_iald B hI_125 hf_183 (by omega) (by decide) dX2_read_152 ?_
                        refine xk_iast B hI_125 hfl0_132 (by omega) (by decide) dX2_read_153 (fun X_184 H_188 L_189 hf_186 hn_185 hI_187 => ?_)
                        have hfr_190 := xk_fr.put hfrl_132 hfl0_132 hn_185
                        refine lv_iinc (v := nI (k4 + 1)) (lv' := [(4, .int (nI (k4 + 1))), (0, .ref o), (1, .int (nI c9)), (2, .int (nI k)), (3, .int (tl_r (tl_do1 O k r9)))]) hx hb dX2_read_154 hl (k := 4) rfl (xk_inc k4) (by decide) rfl (fun ls hl => ?_)
                        refine lv_goto (tgt := 132) hx hb dX2_read_157 (by decide) ?_
                        exact ih_132 (k4 + 1) (va_up f k4 ((tl_cp (A 0) (A 1) 294) k4)) X_184 _ _ (by omega) (by rw [hf4]; exact tl_cp_s _ _ _) (by omega) hf_186 (fun b z0 => ((hn_185 b z0).trans (hne_132 b z0))) hfr_190 hI_187 ls (lv_sub hl [1, 2, 3, 4, 0] rfl)
                  exact hloop_132 (294 - 0 + 1) 0 (tl_m r9 (tl_do1 O k (r9))) X_106 _ _ (by omega) (by exact (tl_cp_0 _ _).symm) (Nat.lt_succ_self _) hf_111 (fun _ _ => rfl) hfr_121 hI_103 ls (lv_sub hl [2, 3, 4, 1, 0] rfl)
          exact hloop_109 (om - 0 + 1) 0 (A 0) Xl_34 _ _ (by exact Nat.zero_le _) (by rfl) hk0 (Nat.lt_succ_self _)  hMl_34 hfrl_34 hI_57 ls (lv_sub hl [1, 2, 0] rfl)
        · refine lv_bipush (v := (-100)) hx hb dX2_read_99 (by decide) ?_
          refine lv_aload_n hx hb dX2_read_101 rfl (lv_at hl 0 rfl) ?_
          refine xk_get B hI_57 hf_58 rfl in_X2 18 (by decide) q1450 rfl dX2_read_102 ?_
          refine lv_isub hx hb dX2_read_105 ?_
          exact xk_reti B hI_57 hr rfl dX2_read_106 (Nat.le_of_ble_eq_true rfl) (Nat.le_of_ble_eq_true rfl) ((by rw [hP, tl_rdR_w (by omega), tl_rdA_w (by omega), tl_rdS_w (by omega)]; exact ⟨rfl, hMl_34, hfrl_34⟩))
      · have hc1 : c9 = 1 := by omega
        have hn1 := hnz hc1
        have hw1 := hw0 hc1
        have hpo : om ≤ pl := hPk.1
        have hpz : pl ≤ S 5 := hPk.2.1
        refine lv_aload_n hx hb dX2_read_38 rfl (lv_at hl 0 rfl) ?_
        refine xk_rv (xk_cV B hI_57 hl [] [] 0 (m2_readOrder g hMl_34 (show om ≤ 70 from by omega) (show pl ≤ S 5 from by omega) hS5 (show pl ≤ 70 from by omega) (show w ≤ 1 from by omega) ht9) hf_58 rfl (lw_V q1739 q1741 qs59 q79 q1742) ⟨rfl, by decide +kernel, by decide +kernel, by decide +kernel⟩ ⟨Nat.le_of_ble_eq_true rfl, Nat.le_of_ble_eq_true rfl⟩ rfl rfl (Nat.le_of_ble_eq_true rfl) dX2_read_39 (Nat.le_of_ble_eq_true rfl) (Nat.le_of_ble_eq_true rfl)) hI_57 (fun X_194 H_192 L_193 hq_195 hI_191 => ?_)
        obtain ⟨hM_196, hfr_197⟩ := hq_195
        obtain ⟨hf_198, hf_199, hf_200, hf_201, hf_202, hf_203, hf_204, hf_205, hf_206, hf_207, hf_208⟩ := id hM_196
        have hfr_209 := xk_fr.tr hfrl_34 hfr_197
        have hf_199 : X_194 (ad 0) = some ((o, 1), xk_iA g 0 294 (A 0)) := hf_199
        have hf_200 : X_194 (ad 1) = some ((o, 2), xk_iA g 0 294 (tl_cp (A 0) (A 1) 294)) := hf_200
        have hf_201 : X_194 (ad 2) = some ((o, 3), xk_iA g 0 294 (A 2)) := hf_201
        have hf_202 : X_194 (ad 3) = some ((o, 4), xk_iA g 0 294 (A 3)) := hf_202
        have hf_203 : X_194 (ad 4) = some ((o, 5), xk_iA g 0 2352 (A 4)) := hf_203
        have hf_204 : X_194 (ad 5) = some ((o, 6), xk_iA g 0 70 (A 5)) := hf_204
        have hf_205 : X_194 (ad 6) = some ((o, 7), xk_iA g 2 40 (A 6)) := hf_205
        have hf_206 : X_194 (ad 7) = some ((o, 8), xk_iA g 2 40 (A 7)) := hf_206
        have hf_207 : X_194 (ad 8) = some ((o, 9), xk_iA g 0 60 (A 8)) := hf_207
        have hf_208 : X_194 (ad 9) = some ((o, 10), xk_iA g 0 284 (tl_P.O (tl_rd (A 5) (S 5) (om, pl, w, O)))) := hf_208
        have hf_198 : X_194 o = some ((o, 0), .inr (0, [.ref (ad 0), .ref (ad 1), .ref (ad 2), .ref (ad 3), .int (nI (S 0)), .ref (ad 4), .int (nI (S 1)), .int (nI (S 2)), .int (nI (S 3)), .int (tm_it (S 4)), .ref (ad 5), .int (nI 0), .ref (ad 6), .ref (ad 7), .ref (ad 8), .int (nI (S 6)), .ref (ad 9), .int (nI (tl_P.om (tl_rd (A 5) (S 5) (om, pl, w, O)))), .int (nI (tl_P.pl (tl_rd (A 5) (S 5) (om, pl, w, O)))), .int (nI (S 5)), .int (nI (tl_P.w (tl_rd (A 5) (S 5) (om, pl, w, O))))])) := hf_198
        obtain ⟨hkP, hkl, hkw⟩ := tl_rd_k (t := A 5) hPk
        have hko : tl_P.om (tl_rd (A 5) (S 5) (om, pl, w, O)) ≤ tl_P.pl (tl_rd (A 5) (S 5) (om, pl, w, O)) := hkP.1
        have hkz : tl_P.pl (tl_rd (A 5) (S 5) (om, pl, w, O)) ≤ S 5 := hkP.2.1
        have hk1 : tl_P.w (tl_rd (A 5) (S 5) (om, pl, w, O)) ≤ 1 := hkP.2.2.1
        have hkl : pl ≤ tl_P.pl (tl_rd (A 5) (S 5) (om, pl, w, O)) := hkl
        have hkw : tl_P.w (tl_rd (A 5) (S 5) (om, pl, w, O)) = 0 → pl + 1 ≤ tl_P.pl (tl_rd (A 5) (S 5) (om, pl, w, O)) := hkw
        refine lv_aload_n hx hb dX2_read_42 rfl (lv_at hl 0 rfl) ?_
        refine xk_get B hI_191 hf_198 rfl in_X2 20 (by decide) q1452 rfl dX2_read_43 ?_
        refine xk_if_ne (tgt := 64) hx hb (by omega) dX2_read_46 (by decide) (fun hc_46 => ?_) (fun hc_46 => ?_)
        · refine lv_iconst (v := nI 0) hx hb dX2_read_64 (by decide) ?_
          refine lv_istore_n (lv' := [(1, .int (nI 0)), (0, .ref o)]) hx hb dX2_read_65 rfl hl (by decide) rfl (fun ls hl => ?_)
          refine lv_iload_n hx hb dX2_read_66 rfl (lv_at hl 0 rfl) ?_
          refine xk_if_eq_t (tgt := 34) hx hb (by omega) dX2_read_67 (by decide) (by decide) ?_
          have hM_210 : tm_Ok g X_194 o ad (va_up (va_up A 1 (tl_cp (A 0) (A 1) 294)) 9 (tl_P.O (tl_rd (A 5) (S 5) (om, pl, w, O)))) (va_up (va_up (va_up (va_up (va_up S 5 0) 7 (tl_P.om (tl_rd (A 5) (S 5) (om, pl, w, O)))) 8 (tl_P.pl (tl_rd (A 5) (S 5) (om, pl, w, O)))) 9 (S 5)) 10 (tl_P.w (tl_rd (A 5) (S 5) (om, pl, w, O)))) := ⟨hf_198, hf_199, hf_200, hf_201, hf_202, hf_203, hf_204, hf_205, hf_206, hf_207, hf_208⟩
          exact ih_34 (n9 - 1) 0 (tl_P.om (tl_rd (A 5) (S 5) (om, pl, w, O))) (tl_P.pl (tl_rd (A 5) (S 5) (om, pl, w, O))) (tl_P.w (tl_rd (A 5) (S 5) (om, pl, w, O))) (tl_P.O (tl_rd (A 5) (S 5) (om, pl, w, O))) X_194 _ _ (by decide) (by rw [hres, if_pos hc1, show n9 = (n9 - 1) + 1 by omega]; exact (show (if _ then _ else _) = _ by rw [if_neg (fun z => absurd z.1 (by omega))]; rfl)) hkP (fun z => absurd z (by decide)) (fun z => absurd z (by decide)) (by omega)  hM_210 hfr_209 hI_191 ls (lv_sub hl [1, 0] rfl)
        · refine lv_aload_n hx hb dX2_read_49 rfl (lv_at hl 0 rfl) ?_
          refine xk_get B hI_191 hf_198 rfl in_X2 18 (by decide) q1450 rfl dX2_read_50 ?_
          refine lv_aload_n hx hb dX2_read_53 rfl (lv_at hl 0 rfl) ?_
          refine xk_get B hI_191 hf_198 rfl in_X2 19 (by decide) q1451 rfl dX2_read_54 ?_
          refine xk_icmp_ge (tgt := 64) hx hb (by omega) (by omega) dX2_read_57 (by decide) (fun hc_57 => ?_) (fun hc_57 => ?_)
          · refine lv_iconst (v := nI 0) hx hb dX2_read_64 (by decide) ?_
            refine lv_istore_n (lv' := [(1, .int (nI 0)), (0, .ref o)]) hx hb dX2_read_65 rfl hl (by decide) rfl (fun ls hl => ?_)
            refine lv_iload_n hx hb dX2_read_66 rfl (lv_at hl 0 rfl) ?_
            refine xk_if_eq_t (tgt := 34) hx hb (by omega) dX2_read_67 (by decide) (by decide) ?_
            have hM_211 : tm_Ok g X_194 o ad (va_up (va_up A 1 (tl_cp (A 0) (A 1) 294)) 9 (tl_P.O (tl_rd (A 5) (S 5) (om, pl, w, O)))) (va_up (va_up (va_up (va_up (va_up S 5 0) 7 (tl_P.om (tl_rd (A 5) (S 5) (om, pl, w, O)))) 8 (tl_P.pl (tl_rd (A 5) (S 5) (om, pl, w, O)))) 9 (S 5)) 10 (tl_P.w (tl_rd (A 5) (S 5) (om, pl, w, O)))) := ⟨hf_198, hf_199, hf_200, hf_201, hf_202, hf_203, hf_204, hf_205, hf_206, hf_207, hf_208⟩
            exact ih_34 (n9 - 1) 0 (tl_P.om (tl_rd (A 5) (S 5) (om, pl, w, O))) (tl_P.pl (tl_rd (A 5) (S 5) (om, pl, w, O))) (tl_P.w (tl_rd (A 5) (S 5) (om, pl, w, O))) (tl_P.O (tl_rd (A 5) (S 5) (om, pl, w, O))) X_194 _ _ (by decide) (by rw [hres, if_pos hc1, show n9 = (n9 - 1) + 1 by omega]; exact (show (if _ then _ else _) = _ by rw [if_neg (fun z => absurd z.2 (by omega))]; rfl)) hkP (fun z => absurd z (by decide)) (fun z => absurd z (by decide)) (by omega)  hM_211 hfr_209 hI_191 ls (lv_sub hl [1, 0] rfl)
          · refine lv_iconst (v := nI 1) hx hb dX2_read_60 (by decide) ?_
            refine lv_goto (tgt := 65) hx hb dX2_read_61 (by decide) ?_
            refine lv_istore_n (lv' := [(1, .int (nI 1)), (0, .ref o)]) hx hb dX2_read_65 rfl hl (by decide) rfl (fun ls hl => ?_)
            refine lv_iload_n hx hb dX2_read_66 rfl (lv_at hl 0 rfl) ?_
            refine xk_if_eq_f (tgt := 34) hx hb (by omega) dX2_read_67 (by decide) (by decide) ?_
            refine lv_aload_n hx hb dX2_read_70 rfl (lv_at hl 1 rfl) ?_
            refine lv_bipush (v := nI 59) hx hb dX2_read_71 (by decide) ?_
            have hM_212 : tm_Ok g X_194 o ad (va_up (va_up A 1 (tl_cp (A 0) (A 1) 294)) 9 (tl_P.O (tl_rd (A 5) (S 5) (om, pl, w, O)))) (va_up (va_up (va_up (va_up (va_up S 5 0) 7 (tl_P.om (tl_rd (A 5) (S 5) (om, pl, w, O)))) 8 (tl_P.pl (tl_rd (A 5) (S 5) (om, pl, w, O)))) 9 (S 5)) 10 (tl_P.w (tl_rd (A 5) (S 5) (om, pl, w, O)))) := ⟨hf_198, hf_199, hf_200, hf_201, hf_202, hf_203, hf_204, hf_205, hf_206, hf_207, hf_208⟩
            refine xk_rv (xk_cV B hI_191 hl [.int (nI 59)] [] 1 (m2_expects g hM_212 (c9 := 59) (by decide) (show S 5 ≤ 70 from by omega) (show tl_P.pl (tl_rd (A 5) (S 5) (om, pl, w, O)) ≤ 70 from by omega) (show tl_P.w (tl_rd (A 5) (S 5) (om, pl, w, O)) ≤ 1 from by omega) ht9) hf_198 rfl (lw_V q1757 q1759 qs63 q79 q1760) ⟨rfl, by decide +kernel, by decide +kernel, by decide +kernel⟩ ⟨Nat.le_of_ble_eq_true rfl, Nat.le_of_ble_eq_true rfl⟩ rfl rfl (Nat.le_of_ble_eq_true rfl) dX2_read_73 (Nat.le_of_ble_eq_true rfl) (Nat.le_of_ble_eq_true rfl)) hI_191 (fun X_216 H_214 L_215 hq_217 hI_213 => ?_)
            obtain ⟨hM_218, hfr_219⟩ := hq_217
            obtain ⟨hf_220, hf_221, hf_222, hf_223, hf_224, hf_225, hf_226, hf_227, hf_228, hf_229, hf_230⟩ := id hM_218
            have hfr_231 := xk_fr.tr hfr_209 hfr_219
            have hf_221 : X_216 (ad 0) = some ((o, 1), xk_iA g 0 294 (A 0)) := hf_221
            have hf_222 : X_216 (ad 1) = some ((o, 2), xk_iA g 0 294 (tl_cp (A 0) (A 1) 294)) := hf_222
            have hf_223 : X_216 (ad 2) = some ((o, 3), xk_iA g 0 294 (A 2)) := hf_223
            have hf_224 : X_216 (ad 3) = some ((o, 4), xk_iA g 0 294 (A 3)) := hf_224
            have hf_225 : X_216 (ad 4) = some ((o, 5), xk_iA g 0 2352 (A 4)) := hf_225
            have hf_226 : X_216 (ad 5) = some ((o, 6), xk_iA g 0 70 (A 5)) := hf_226
            have hf_227 : X_216 (ad 6) = some ((o, 7), xk_iA g 2 40 (A 6)) := hf_227
            have hf_228 : X_216 (ad 7) = some ((o, 8), xk_iA g 2 40 (A 7)) := hf_228
            have hf_229 : X_216 (ad 8) = some ((o, 9), xk_iA g 0 60 (A 8)) := hf_229
            have hf_230 : X_216 (ad 9) = some ((o, 10), xk_iA g 0 284 (tl_P.O (tl_rd (A 5) (S 5) (om, pl, w, O)))) := hf_230
            have hf_220 : X_216 o = some ((o, 0), .inr (0, [.ref (ad 0), .ref (ad 1), .ref (ad 2), .ref (ad 3), .int (nI (S 0)), .ref (ad 4), .int (nI (S 1)), .int (nI (S 2)), .int (nI (S 3)), .int (tm_it (S 4)), .ref (ad 5), .int (nI 0), .ref (ad 6), .ref (ad 7), .ref (ad 8), .int (nI (S 6)), .ref (ad 9), .int (nI (tl_P.om (tl_rd (A 5) (S 5) (om, pl, w, O)))), .int (nI (tl_stp (tl_exw (A 5) (S 5) (tl_P.w (tl_rd (A 5) (S 5) (om, pl, w, O))) (tl_P.pl (tl_rd (A 5) (S 5) (om, pl, w, O))) 59) (tl_P.pl (tl_rd (A 5) (S 5) (om, pl, w, O))))), .int (nI (S 5)), .int (nI (tl_exw (A 5) (S 5) (tl_P.w (tl_rd (A 5) (S 5) (om, pl, w, O))) (tl_P.pl (tl_rd (A 5) (S 5) (om, pl, w, O))) 59))])) := hf_220
            have hw76 := tl_exw_le (A 5) (S 5) (tl_P.w (tl_rd (A 5) (S 5) (om, pl, w, O))) (tl_P.pl (tl_rd (A 5) (S 5) (om, pl, w, O))) 59
            have hz76 : tl_stp (tl_exw (A 5) (S 5) (tl_P.w (tl_rd (A 5) (S 5) (om, pl, w, O))) (tl_P.pl (tl_rd (A 5) (S 5) (om, pl, w, O))) 59) (tl_P.pl (tl_rd (A 5) (S 5) (om, pl, w, O))) ≤ (S 5) := tl_exw_z (by omega)
            refine lv_aload_n hx hb dX2_read_76 rfl (lv_at hl 1 rfl) ?_
            refine xk_get B hI_213 hf_220 rfl in_X2 20 (by decide) q1452 rfl dX2_read_77 ?_
            refine xk_if_ne (tgt := 87) hx hb (by omega) dX2_read_80 (by decide) (fun hc_80 => ?_) (fun hc_80 => ?_)
            · refine lv_iconst (v := nI 0) hx hb dX2_read_87 (by decide) ?_
              refine lv_istore_n (lv' := [(1, .int (nI 0)), (0, .ref o)]) hx hb dX2_read_88 rfl hl (by decide) rfl (fun ls hl => ?_)
              refine lv_goto (tgt := 34) hx hb dX2_read_89 (by decide) ?_
              have hM_232 : tm_Ok g X_216 o ad (va_up (va_up A 1 (tl_cp (A 0) (A 1) 294)) 9 (tl_P.O (tl_rd (A 5) (S 5) (om, pl, w, O)))) (va_up (va_up (va_up (va_up (va_up S 5 0) 7 (tl_P.om (tl_rd (A 5) (S 5) (om, pl, w, O)))) 8 (tl_stp (tl_exw (A 5) (S 5) (tl_P.w (tl_rd (A 5) (S 5) (om, pl, w, O))) (tl_P.pl (tl_rd (A 5) (S 5) (om, pl, w, O))) 59) (tl_P.pl (tl_rd (A 5) (S 5) (om, pl, w, O))))) 9 (S 5)) 10 (tl_exw (A 5) (S 5) (tl_P.w (tl_rd (A 5) (S 5) (om, pl, w, O))) (tl_P.pl (tl_rd (A 5) (S 5) (om, pl, w, O))) 59)) := ⟨hf_220, hf_221, hf_222, hf_223, hf_224, hf_225, hf_226, hf_227, hf_228, hf_229, hf_230⟩
              exact ih_34 (n9 - 1) 0 (tl_P.om (tl_rd (A 5) (S 5) (om, pl, w, O))) (tl_stp (tl_exw (A 5) (S 5) (tl_P.w (tl_rd (A 5) (S 5) (om, pl, w, O))) (tl_P.pl (tl_rd (A 5) (S 5) (om, pl, w, O))) 59) (tl_P.pl (tl_rd (A 5) (S 5) (om, pl, w, O)))) (tl_exw (A 5) (S 5) (tl_P.w (tl_rd (A 5) (S 5) (om, pl, w, O))) (tl_P.pl (tl_rd (A 5) (S 5) (om, pl, w, O))) 59) (tl_P.O (tl_rd (A 5) (S 5) (om, pl, w, O))) X_216 _ _ (by decide) (by rw [hres, if_pos hc1, show n9 = (n9 - 1) + 1 by omega]; exact (show (if _ then _ else _) = _ by rw [if_pos ⟨by omega, by omega⟩, if_neg (show ¬ tl_P.w (tl_ex (A 5) (S 5) 59 (tl_rd (A 5) (S 5) (om, pl, w, O))) = 0 from by rw [show tl_P.w (tl_ex (A 5) (S 5) 59 (tl_rd (A 5) (S 5) (om, pl, w, O))) = tl_exw (A 5) (S 5) (tl_P.w (tl_rd (A 5) (S 5) (om, pl, w, O))) (tl_P.pl (tl_rd (A 5) (S 5) (om, pl, w, O))) 59 from rfl]; omega)]; rfl)) (tl_ex_k hkP).1 (fun z => absurd z (by decide)) (fun z => absurd z (by decide)) (by omega)  hM_232 hfr_231 hI_213 ls (lv_sub hl [1, 0] rfl)
            · refine lv_iconst (v := nI 1) hx hb dX2_read_83 (by decide) ?_
              refine lv_goto (tgt := 88) hx hb dX2_read_84 (by decide) ?_
              refine lv_istore_n (lv' := [(1, .int (nI 1)), (0, .ref o)]) hx hb dX2_read_88 rfl hl (by decide) rfl (fun ls hl => ?_)
              refine lv_goto (tgt := 34) hx hb dX2_read_89 (by decide) ?_
              have hM_233 : tm_Ok g X_216 o ad (va_up (va_up A 1 (tl_cp (A 0) (A 1) 294)) 9 (tl_P.O (tl_rd (A 5) (S 5) (om, pl, w, O)))) (va_up (va_up (va_up (va_up (va_up S 5 0) 7 (tl_P.om (tl_rd (A 5) (S 5) (om, pl, w, O)))) 8 (tl_stp (tl_exw (A 5) (S 5) (tl_P.w (tl_rd (A 5) (S 5) (om, pl, w, O))) (tl_P.pl (tl_rd (A 5) (S 5) (om, pl, w, O))) 59) (tl_P.pl (tl_rd (A 5) (S 5) (om, pl, w, O))))) 9 (S 5)) 10 (tl_exw (A 5) (S 5) (tl_P.w (tl_rd (A 5) (S 5) (om, pl, w, O))) (tl_P.pl (tl_rd (A 5) (S 5) (om, pl, w, O))) 59)) := ⟨hf_220, hf_221, hf_222, hf_223, hf_224, hf_225, hf_226, hf_227, hf_228, hf_229, hf_230⟩
              exact ih_34 (n9 - 1) 1 (tl_P.om (tl_rd (A 5) (S 5) (om, pl, w, O))) (tl_stp (tl_exw (A 5) (S 5) (tl_P.w (tl_rd (A 5) (S 5) (om, pl, w, O))) (tl_P.pl (tl_rd (A 5) (S 5) (om, pl, w, O))) 59) (tl_P.pl (tl_rd (A 5) (S 5) (om, pl, w, O)))) (tl_exw (A 5) (S 5) (tl_P.w (tl_rd (A 5) (S 5) (om, pl, w, O))) (tl_P.pl (tl_rd (A 5) (S 5) (om, pl, w, O))) 59) (tl_P.O (tl_rd (A 5) (S 5) (om, pl, w, O))) X_216 _ _ (by decide) (by rw [hres, if_pos hc1, show n9 = (n9 - 1) + 1 by omega]; exact (show (if _ then _ else _) = _ by rw [if_pos ⟨by omega, by omega⟩, if_pos (show tl_P.w (tl_ex (A 5) (S 5) 59 (tl_rd (A 5) (S 5) (om, pl, w, O))) = 0 from by rw [show tl_P.w (tl_ex (A 5) (S 5) 59 (tl_rd (A 5) (S 5) (om, pl, w, O))) = tl_exw (A 5) (S 5) (tl_P.w (tl_rd (A 5) (S 5) (om, pl, w, O))) (tl_P.pl (tl_rd (A 5) (S 5) (om, pl, w, O))) 59 from rfl]; omega)]; rfl)) (tl_ex_k hkP).1 (fun _ => by have hq := hkw (by omega); have hg : tl_P.pl (tl_rd (A 5) (S 5) (om, pl, w, O)) ≤ tl_stp (tl_exw (A 5) (S 5) (tl_P.w (tl_rd (A 5) (S 5) (om, pl, w, O))) (tl_P.pl (tl_rd (A 5) (S 5) (om, pl, w, O))) 59) (tl_P.pl (tl_rd (A 5) (S 5) (om, pl, w, O))) := tl_stp_g _ _; omega) (fun _ => by omega) (by omega)  hM_233 hfr_231 hI_213 ls (lv_sub hl [1, 0] rfl)
  have hf_234 := xk_off hn_21 hf_9 hf_8 (xk_on1 (by decide))
  have hf_235 := xk_off hn_28 hf_234 hf_22 (xk_on1 (by decide))
  have hf_236 := xk_off hn_35 hf_235 hf_29 (xk_on1 (by decide))
  have hf_237 := xk_off hn_42 hf_236 hf_36 (xk_on1 (by decide))
  have hf_238 := xk_off hn_49 hf_237 hf_43 (xk_on1 (by decide))
  have hf_239 := xk_off hn_21 hf_10 hf_8 (xk_on1 (by decide))
  have hf_240 := xk_off hn_28 hf_239 hf_22 (xk_on1 (by decide))
  have hf_241 := xk_off hn_35 hf_240 hf_29 (xk_on1 (by decide))
  have hf_242 := xk_off hn_42 hf_241 hf_36 (xk_on1 (by decide))
  have hf_243 := xk_off hn_49 hf_242 hf_43 (xk_on1 (by decide))
  have hf_244 := xk_off hn_21 hf_11 hf_8 (xk_on1 (by decide))
  have hf_245 := xk_off hn_28 hf_244 hf_22 (xk_on1 (by decide))
  have hf_246 := xk_off hn_35 hf_245 hf_29 (xk_on1 (by decide))
  have hf_247 := xk_off hn_42 hf_246 hf_36 (xk_on1 (by decide))
  have hf_248 := xk_off hn_49 hf_247 hf_43 (xk_on1 (by decide))
  have hf_249 := xk_off hn_21 hf_12 hf_8 (xk_on1 (by decide))
  have hf_250 := xk_off hn_28 hf_249 hf_22 (xk_on1 (by decide))
  have hf_251 := xk_off hn_35 hf_250 hf_29 (xk_on1 (by decide))
  have hf_252 := xk_off hn_42 hf_251 hf_36 (xk_on1 (by decide))
  have hf_253 := xk_off hn_49 hf_252 hf_43 (xk_on1 (by decide))
  have hf_254 := xk_off hn_21 hf_13 hf_8 (xk_on1 (by decide))
  have hf_255 := xk_off hn_28 hf_254 hf_22 (xk_on1 (by decide))
  have hf_256 := xk_off hn_35 hf_255 hf_29 (xk_on1 (by decide))
  have hf_257 := xk_off hn_42 hf_256 hf_36 (xk_on1 (by decide))
  have hf_258 := xk_off hn_49 hf_257 hf_43 (xk_on1 (by decide))
  have hf_259 := xk_off hn_21 hf_14 hf_8 (xk_on1 (by decide))
  have hf_260 := xk_off hn_28 hf_259 hf_22 (xk_on1 (by decide))
  have hf_261 := xk_off hn_35 hf_260 hf_29 (xk_on1 (by decide))
  have hf_262 := xk_off hn_42 hf_261 hf_36 (xk_on1 (by decide))
  have hf_263 := xk_off hn_49 hf_262 hf_43 (xk_on1 (by decide))
  have hf_264 := xk_off hn_21 hf_15 hf_8 (xk_on1 (by decide))
  have hf_265 := xk_off hn_28 hf_264 hf_22 (xk_on1 (by decide))
  have hf_266 := xk_off hn_35 hf_265 hf_29 (xk_on1 (by decide))
  have hf_267 := xk_off hn_42 hf_266 hf_36 (xk_on1 (by decide))
  have hf_268 := xk_off hn_49 hf_267 hf_43 (xk_on1 (by decide))
  have hf_269 := xk_off hn_21 hf_16 hf_8 (xk_on1 (by decide))
  have hf_270 := xk_off hn_28 hf_269 hf_22 (xk_on1 (by decide))
  have hf_271 := xk_off hn_35 hf_270 hf_29 (xk_on1 (by decide))
  have hf_272 := xk_off hn_42 hf_271 hf_36 (xk_on1 (by decide))
  have hf_273 := xk_off hn_49 hf_272 hf_43 (xk_on1 (by decide))
  have hf_274 := xk_off hn_21 hf_17 hf_8 (xk_on1 (by decide))
  have hf_275 := xk_off hn_28 hf_274 hf_22 (xk_on1 (by decide))
  have hf_276 := xk_off hn_35 hf_275 hf_29 (xk_on1 (by decide))
  have hf_277 := xk_off hn_42 hf_276 hf_36 (xk_on1 (by decide))
  have hf_278 := xk_off hn_49 hf_277 hf_43 (xk_on1 (by decide))
  have hf_279 := xk_off hn_21 hf_18 hf_8 (xk_on1 (by decide))
  have hf_280 := xk_off hn_28 hf_279 hf_22 (xk_on1 (by decide))
  have hf_281 := xk_off hn_35 hf_280 hf_29 (xk_on1 (by decide))
  have hf_282 := xk_off hn_42 hf_281 hf_36 (xk_on1 (by decide))
  have hf_283 := xk_off hn_49 hf_282 hf_43 (xk_on1 (by decide))
  have hM_284 : tm_Ok g X_48 o ad (va_up A 1 (tl_cp (A 0) (A 1) 294)) (va_up (va_up (va_up (va_up (va_up S 5 0) 7 0) 8 0) 9 (S 5)) 10 0) := ⟨hf_50, hf_238, hf_243, hf_248, hf_253, hf_258, hf_263, hf_268, hf_273, hf_278, hf_283⟩
  exact hloop_34 ((S 5 + 1) + 1) (S 5 + 1) 1 0 0 0 (A 9) X_48 _ _ (by decide) (by rfl) (⟨Nat.le_refl 0, Nat.zero_le _, Nat.zero_le _, fun i hi => absurd hi (Nat.not_lt_zero i)⟩) (by intro _; omega) (by intro _; rfl) (Nat.lt_succ_self _)  hM_284 hfr_54 hI_51 ls (lv_sub hl [1, 0] rfl)
