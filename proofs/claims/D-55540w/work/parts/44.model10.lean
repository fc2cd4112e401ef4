/-! the model: walks, printed by tools/model.py -/
set_option maxRecDepth 100000
set_option maxHeartbeats 4000000 in
theorem m2_yearGoes (g : xk_G) {X : xk_H} {o : Nat} {ad : Nat → Nat} {A : Nat → Nat → Nat} {S : Nat → Nat} (hM : tm_Ok g X o ad A S) (hk : tl_inv (A 0))  : xk_C g yX2_yearGoes (ws_ yX2_yearGoes cX2_yearGoes 6 (some .int)) ({ frames := 3, cells := 0, slots := 0, locals := 72 } : Room) [.ref o] X (xk_Qi (nI (if tl_yrb (A 0) = true then 1 else 0)) (fun X1 => tm_Ok g X1 o ad (va_up A 0 (tl_yr (A 0))) S ∧ xk_fr o X X1)) := by
  refine xk_ofW (by decide +kernel) (Nat.le_of_ble_eq_true rfl) (fun p e s m args below meth c B hr hname hargs hI ls hl => ?_)
  have B : xk_B g p s m args meth c RX2 cX2_yearGoes 6 := B
  have hl : lv_has ls 6 [(0, .ref o)] := hl
  have hx := B.1
  have hb := B.2.1
  have hM0 := hM
  obtain ⟨hO, hA0, hA1, hA2, hA3, hA4, hA5, hA6, hA7, hA8, hA9⟩ := hM
  have hk0 := hk
  obtain ⟨k0, kb, kw, kl, ks, kr1, kr2, kwt, kL⟩ := hk
  have hfr : xk_fr o X X := xk_fr.rf
  refine lv_iconst (v := nI 0) hx hb dX2_yearGoes_0 (by decide) ?_
  refine lv_istore_n (lv' := [(1, .int (nI 0)), (0, .ref o)]) hx hb dX2_yearGoes_1 rfl hl (by decide) rfl (fun ls hl => ?_)
  refine lv_aload_n hx hb dX2_yearGoes_2 rfl (lv_at hl 1 rfl) ?_
  refine xk_ri0 (xk_cV B hI hl [] [] 0 (m2_living g hM0 hk0 ) hO rfl (lw_V q1520 q1522 qs33 q79 q1523) ⟨rfl, by decide +kernel, by decide +kernel, by decide +kernel⟩ ⟨Nat.le_of_ble_eq_true rfl, Nat.le_of_ble_eq_true rfl⟩ rfl rfl (Nat.le_of_ble_eq_true rfl) dX2_yearGoes_3 (Nat.le_of_ble_eq_true rfl) (Nat.le_of_ble_eq_true rfl)) hI (fun H_2 L_3 hI_1 => ?_)
  refine xk_top (y := nI (tl_liv (A 0) ((A 0) 0))) rfl ?_
  refine lv_istore_n (lv' := [(2, .int (nI (tl_liv (A 0) ((A 0) 0)))), (1, .int (nI 0)), (0, .ref o)]) hx hb dX2_yearGoes_6 rfl hl (by decide) rfl (fun ls hl => ?_)
  refine lv_iload_n hx hb dX2_yearGoes_7 rfl (lv_at hl 0 rfl) ?_
  refine lv_iconst (v := nI 2) hx hb dX2_yearGoes_8 (by decide) ?_
  refine xk_icmp_lt (tgt := 63) hx hb (by omega) (by omega) dX2_yearGoes_9 (by decide) (fun hc_9 => ?_) (fun hc_9 => ?_)
  · have hyb : tl_yrb (A 0) = false := decide_eq_false (by omega)
    have hF : tl_yr1 (A 0) = A 0 := by unfold tl_yr1; rw [if_neg (by rw [hyb]; decide)]
    have hFi : tl_inv (A 0) := by rw [← hF]; exact tl_yr1_inv hk0
    have hF5 : (A 0) 5 = A 0 5 := rfl
    have hF1 : (A 0) 1 = A 0 1 := rfl
    refine lv_aload_n hx hb dX2_yearGoes_63 rfl (lv_at hl 2 rfl) ?_
    refine xk_ri0 (xk_cV B hI_1 hl [] [] 0 (m2_living g hM0 hFi ) hO rfl (lw_V q1520 q1522 qs33 q79 q1523) ⟨rfl, by decide +kernel, by decide +kernel, by decide +kernel⟩ ⟨Nat.le_of_ble_eq_true rfl, Nat.le_of_ble_eq_true rfl⟩ rfl rfl (Nat.le_of_ble_eq_true rfl) dX2_yearGoes_64 (Nat.le_of_ble_eq_true rfl) (Nat.le_of_ble_eq_true rfl)) hI_1 (fun H_5 L_6 hI_4 => ?_)
    refine xk_top (y := nI (tl_liv (A 0) ((A 0) 0))) rfl ?_
    refine lv_istore_n (lv' := [(3, .int (nI (tl_liv (A 0) ((A 0) 0)))), (2, .int (nI (tl_liv (A 0) ((A 0) 0)))), (1, .int (nI 0)), (0, .ref o)]) hx hb dX2_yearGoes_67 rfl hl (by decide) rfl (fun ls hl => ?_)
    have hloop_68 : ∀ (n_68 : Nat) (left : Nat) (f : Nat → Nat) (Xl_68 : xk_H) (H_7 : Heap) (L_8 : List Loc), (tl_yr2 (A 0) = tl_cut f (A 0 5) left) → (tl_inv f) → (left = tl_liv f (f 0)) → (f 5 = A 0 5) → (f 1 = A 0 1) → left < n_68 → Xl_68 (ad 0) = some ((o, 1), xk_iA g 0 294 f) → (∀ b, b ≠ (ad 0) → Xl_68 b = X b) → (xk_fr o X Xl_68) → xk_I g s H_7 Xl_68 L_8 → ∀ ls : Array Slot, lv_has ls 6 [(0, .ref o), (1, .int (nI 0)), (2, .int (nI (tl_liv (A 0) ((A 0) 0)))), (3, .int (nI left))] → W p (xk_l g) e (({ frames := 3, cells := 0, slots := 0, locals := 72 } : Room)) s m args below meth c H_7 L_8 0 0 (MQ below (xk_Q g (xk_Qi (nI (if tl_yrb (A 0) = true then 1 else 0)) (fun X1 => tm_Ok g X1 o ad (va_up A 0 (tl_yr (A 0))) S ∧ xk_fr o X X1))) args s (0) (0) (xk_A g)) (F0 m 68 ls []) := by
      intro n_68
      induction n_68 with
      | zero => intros; omega
      | succ n_68 ih_68 =>
        intro left f Xl_68 H_7 L_8 hres hfi hleft h5 h1 hm_68 hfl0_68 hne_68 hfrl_68 hI_9 ls hl
        refine lv_iload_n hx hb dX2_yearGoes_68 rfl (lv_at hl 3 rfl) ?_
        have hl12 := hfi.2.2.2.2.2.2.2.2
        refine lv_aload_n hx hb dX2_yearGoes_69 rfl (lv_at hl 0 rfl) ?_
        have hf_10 := (hne_68 _ (xk_ne hA0 hO (xk_on1 (by decide)))).trans hO
        refine xk_get B hI_9 hf_10 rfl in_X2 0 (by decide) q1432 rfl dX2_yearGoes_70 ?_
        refine lv_iconst (v := nI 5) hx hb dX2_yearGoes_73 (by decide) ?_
        refine xk_iald B hI_9 hfl0_68 (by omega) (by decide) dX2_yearGoes_74 ?_
        refine xk_icmp_le (tgt := 102) hx hb (by omega) (by omega) dX2_yearGoes_75 (by decide) (fun hc_75 => ?_) (fun hc_75 => ?_)
        · refine lv_aload_n hx hb dX2_yearGoes_102 rfl (lv_at hl 0 rfl) ?_
          refine xk_get B hI_9 hf_10 rfl in_X2 0 (by decide) q1432 rfl dX2_yearGoes_103 ?_
          refine lv_iconst (v := nI 1) hx hb dX2_yearGoes_106 (by decide) ?_
          refine lv_dup2_11 hx hb dX2_yearGoes_107 rfl rfl ?_
          refine xk_iald B hI_9 hfl0_68 (by omega) (by decide) dX2_yearGoes_108 ?_
          refine lv_iconst (v := nI 1) hx hb dX2_yearGoes_109 (by decide) ?_
          refine lv_iadd hx hb dX2_yearGoes_110 (xk_top (nI_add _ _) ?_)
          refine xk_iast B hI_9 hfl0_68 (by omega) (by decide) dX2_yearGoes_111 (fun X_11 H_15 L_16 hf_13 hn_12 hI_14 => ?_)
          have hfr_17 := xk_fr.put hfrl_68 hfl0_68 hn_12
          refine lv_iload_n hx hb dX2_yearGoes_112 rfl (lv_at hl 1 rfl) ?_
          have hf_18 := xk_off hn_12 hf_10 hfl0_68 (xk_on1 (by decide))
          have hf_19 := (hne_68 _ (xk_ne hA0 hA1 (xk_on1 (by decide)))).trans hA1
          have hf_20 := xk_off hn_12 hf_19 hfl0_68 (xk_on1 (by decide))
          have hf_21 := (hne_68 _ (xk_ne hA0 hA2 (xk_on1 (by decide)))).trans hA2
          have hf_22 := xk_off hn_12 hf_21 hfl0_68 (xk_on1 (by decide))
          have hf_23 := (hne_68 _ (xk_ne hA0 hA3 (xk_on1 (by decide)))).trans hA3
          have hf_24 := xk_off hn_12 hf_23 hfl0_68 (xk_on1 (by decide))
          have hf_25 := (hne_68 _ (xk_ne hA0 hA4 (xk_on1 (by decide)))).trans hA4
          have hf_26 := xk_off hn_12 hf_25 hfl0_68 (xk_on1 (by decide))
          have hf_27 := (hne_68 _ (xk_ne hA0 hA5 (xk_on1 (by decide)))).trans hA5
          have hf_28 := xk_off hn_12 hf_27 hfl0_68 (xk_on1 (by decide))
          have hf_29 := (hne_68 _ (xk_ne hA0 hA6 (xk_on1 (by decide)))).trans hA6
          have hf_30 := xk_off hn_12 hf_29 hfl0_68 (xk_on1 (by decide))
          have hf_31 := (hne_68 _ (xk_ne hA0 hA7 (xk_on1 (by decide)))).trans hA7
          have hf_32 := xk_off hn_12 hf_31 hfl0_68 (xk_on1 (by decide))
          have hf_33 := (hne_68 _ (xk_ne hA0 hA8 (xk_on1 (by decide)))).trans hA8
          have hf_34 := xk_off hn_12 hf_33 hfl0_68 (xk_on1 (by decide))
          have hf_35 := (hne_68 _ (xk_ne hA0 hA9 (xk_on1 (by decide)))).trans hA9
          have hf_36 := xk_off hn_12 hf_35 hfl0_68 (xk_on1 (by decide))
          have hM_37 : tm_Ok g X_11 o ad (va_up A 0 (va_up f 1 (f 1 + 1))) S := ⟨hf_18, hf_13, hf_20, hf_22, hf_24, hf_26, hf_28, hf_30, hf_32, hf_34, hf_36⟩
          exact xk_reti B hI_14 hr rfl dX2_yearGoes_113 (Nat.le_of_ble_eq_true rfl) (Nat.le_of_ble_eq_true rfl) (⟨(by rw [hyb]; rfl), (by rw [show tl_yr (A 0) = va_up f 1 (f 1 + 1) from by unfold tl_yr; rw [hres, tl_cut_e (by omega), h1]]; exact hM_37), hfr_17⟩)
        · have hb2 := tl_at_some (m := f) (pl := left - 1) (tl_inv_liv hfi) (by omega)
          have hb0 := hfi.1
          refine lv_aload_n hx hb dX2_yearGoes_78 rfl (lv_at hl 0 rfl) ?_
          refine xk_get B hI_9 hf_10 rfl in_X2 0 (by decide) q1432 rfl dX2_yearGoes_79 ?_
          refine lv_aload_n hx hb dX2_yearGoes_82 rfl (lv_at hl 0 rfl) ?_
          refine lv_iload_n hx hb dX2_yearGoes_83 rfl (lv_at hl 3 rfl) ?_
          refine lv_iconst (v := nI 1) hx hb dX2_yearGoes_84 (by decide) ?_
          refine lv_isub hx hb dX2_yearGoes_85 (xk_top (pk_sub (by omega)) ?_)
          have hf_38 := (hne_68 _ (xk_ne hA0 hA1 (xk_on1 (by decide)))).trans hA1
          have hf_39 := (hne_68 _ (xk_ne hA0 hA2 (xk_on1 (by decide)))).trans hA2
          have hf_40 := (hne_68 _ (xk_ne hA0 hA3 (xk_on1 (by decide)))).trans hA3
          have hf_41 := (hne_68 _ (xk_ne hA0 hA4 (xk_on1 (by decide)))).trans hA4
          have hf_42 := (hne_68 _ (xk_ne hA0 hA5 (xk_on1 (by decide)))).trans hA5
          have hf_43 := (hne_68 _ (xk_ne hA0 hA6 (xk_on1 (by decide)))).trans hA6
          have hf_44 := (hne_68 _ (xk_ne hA0 hA7 (xk_on1 (by decide)))).trans hA7
          have hf_45 := (hne_68 _ (xk_ne hA0 hA8 (xk_on1 (by decide)))).trans hA8
          have hf_46 := (hne_68 _ (xk_ne hA0 hA9 (xk_on1 (by decide)))).trans hA9
          have hM_47 : tm_Ok g Xl_68 o ad (va_up A 0 f) S := ⟨hf_10, hfl0_68, hf_38, hf_39, hf_40, hf_41, hf_42, hf_43, hf_44, hf_45, hf_46⟩
          refine xk_ri0 (xk_cV B hI_9 hl [.int (nI (left - 1))] [.ref (ad 0)] 1 (m2_atN g hM_47 hfi (pl := left - 1) (by omega)) hf_10 rfl (lw_V q1632 q1634 qs51 q79 q1635) ⟨rfl, by decide +kernel, by decide +kernel, by decide +kernel⟩ ⟨Nat.le_of_ble_eq_true rfl, Nat.le_of_ble_eq_true rfl⟩ rfl rfl (Nat.le_of_ble_eq_true rfl) dX2_yearGoes_86 (Nat.le_of_ble_eq_true rfl) (Nat.le_of_ble_eq_true rfl)) hI_9 (fun H_49 L_50 hI_48 => ?_)
          refine xk_top (y := tl_oI (tl_at (f) (left - 1))) rfl ?_
          refine xk_top (y := nI (tl_atN f (left - 1))) (by rw [hb2.1]; rfl) ?_
          refine xk_ri0 (xk_cS B hI_48 hl [.int (nI (tl_atN f (left - 1)))] [.ref (ad 0)] 1 (m2_of g (tl_atN f (left - 1))) (lw_S q1524 q1525 q79 q1526) ⟨by decide +kernel, by decide +kernel, by decide +kernel⟩ ⟨Nat.le_of_ble_eq_true rfl, Nat.le_of_ble_eq_true rfl⟩ rfl rfl (Nat.le_of_ble_eq_true rfl) dX2_yearGoes_89 (Nat.le_of_ble_eq_true rfl) (Nat.le_of_ble_eq_true rfl)) hI_48 (fun H_52 L_53 hI_51 => ?_)
          refine xk_top (y := nI (14 + 7 * (tl_atN f (left - 1)))) rfl ?_
          refine lv_iconst (v := nI 3) hx hb dX2_yearGoes_92 (by decide) ?_
          refine lv_iadd hx hb dX2_yearGoes_93 (xk_top (nI_add _ _) ?_)
          refine lv_iconst (v := nI 0) hx hb dX2_yearGoes_94 (by decide) ?_
          refine xk_iast B hI_51 hfl0_68 (by omega) (by decide) dX2_yearGoes_95 (fun X_54 H_58 L_59 hf_56 hn_55 hI_57 => ?_)
          have hfr_60 := xk_fr.put hfrl_68 hfl0_68 hn_55
          refine lv_iinc (v := nI (left - 1)) (lv' := [(3, .int (nI (left - 1))), (0, .ref o), (1, .int (nI 0)), (2, .int (nI (tl_liv (A 0) ((A 0) 0))))]) hx hb dX2_yearGoes_96 hl (k := 3) rfl (xk_dec (by omega)) (by decide) rfl (fun ls hl => ?_)
          refine lv_goto (tgt := 68) hx hb dX2_yearGoes_99 (by decide) ?_
          exact ih_68 (left - 1) (va_up f ((14 + 7 * (tl_atN f (left - 1))) + 3) 0) X_54 _ _ (hres.trans (tl_cut_s (by omega))) (tl_inv_die hfi hb2.2.1) (by have := tl_liv_die1 hb2.2.1 hb2.2.2; rw [show va_up f (14 + 7 * tl_atN f (left - 1) + 3) 0 0 = f 0 from tl_un (by omega)]; show _ = tl_liv (tl_dieM f (tl_atN f (left - 1))) (f 0); omega) ((tl_dieM_ne (by omega)).trans h5) ((tl_dieM_ne (by omega)).trans h1) (by omega) hf_56 (fun b z0 => ((hn_55 b z0).trans (hne_68 b z0))) hfr_60 hI_57 ls (lv_sub hl [1, 2, 3, 0] rfl)
    exact hloop_68 ((tl_liv (A 0) ((A 0) 0)) + 1) (tl_liv (A 0) ((A 0) 0)) (A 0) X _ _ (by unfold tl_yr2; rw [hF]) hFi (by rfl) hF5 hF1 (Nat.lt_succ_self _) hA0 (fun _ _ => rfl) hfr hI_4 ls (lv_sub hl [3, 2, 1, 0] rfl)
  · refine lv_iload_n hx hb dX2_yearGoes_12 rfl (lv_at hl 0 rfl) ?_
    refine lv_bipush (v := nI 12) hx hb dX2_yearGoes_13 (by decide) ?_
    refine xk_icmp_ge (tgt := 63) hx hb (by omega) (by omega) dX2_yearGoes_15 (by decide) (fun hc_15 => ?_) (fun hc_15 => ?_)
    · have hyb : tl_yrb (A 0) = false := decide_eq_false (by omega)
      have hF : tl_yr1 (A 0) = A 0 := by unfold tl_yr1; rw [if_neg (by rw [hyb]; decide)]
      have hFi : tl_inv (A 0) := by rw [← hF]; exact tl_yr1_inv hk0
      have hF5 : (A 0) 5 = A 0 5 := rfl
      have hF1 : (A 0) 1 = A 0 1 := rfl
      refine lv_aload_n hx hb dX2_yearGoes_63 rfl (lv_at hl 2 rfl) ?_
      refine xk_ri0 (xk_cV B hI_1 hl [] [] 0 (m2_living g hM0 hFi ) hO rfl (lw_V q1520 q1522 qs33 q79 q1523) ⟨rfl, by decide +kernel, by decide +kernel, by decide +kernel⟩ ⟨Nat.le_of_ble_eq_true rfl, Nat.le_of_ble_eq_true rfl⟩ rfl rfl (Nat.le_of_ble_eq_true rfl) dX2_yearGoes_64 (Nat.le_of_ble_eq_true rfl) (Nat.le_of_ble_eq_true rfl)) hI_1 (fun H_62 L_63 hI_61 => ?_)
      refine xk_top (y := nI (tl_liv (A 0) ((A 0) 0))) rfl ?_
      refine lv_istore_n (lv' := [(3, .int (nI (tl_liv (A 0) ((A 0) 0)))), (2, .int (nI (tl_liv (A 0) ((A 0) 0)))), (1, .int (nI 0)), (0, .ref o)]) hx hb dX2_yearGoes_67 rfl hl (by decide) rfl (fun ls hl => ?_)
      have hloop_68 : ∀ (n_68 : Nat) (left : Nat) (f : Nat → Nat) (Xl_68 : xk_H) (H_64 : Heap) (L_65 : List Loc), (tl_yr2 (A 0) = tl_cut f (A 0 5) left) → (tl_inv f) → (left = tl_liv f (f 0)) → (f 5 = A 0 5) → (f 1 = A 0 1) → left < n_68 → Xl_68 (ad 0) = some ((o, 1), xk_iA g 0 294 f) → (∀ b, b ≠ (ad 0) → Xl_68 b = X b) → (xk_fr o X Xl_68) → xk_I g s H_64 Xl_68 L_65 → ∀ ls : Array Slot, lv_has ls 6 [(0, .ref o), (1, .int (nI 0)), (2, .int (nI (tl_liv (A 0) ((A 0) 0)))), (3, .int (nI left))] → W p (xk_l g) e (({ frames := 3, cells := 0, slots := 0, locals := 72 } : Room)) s m args below meth c H_64 L_65 0 0 (MQ below (xk_Q g (xk_Qi (nI (if tl_yrb (A 0) = true then 1 else 0)) (fun X1 => tm_Ok g X1 o ad (va_up A 0 (tl_yr (A 0))) S ∧ xk_fr o X X1))) args s (0) (0) (xk_A g)) (F0 m 68 ls []) := by
        intro n_68
        induction n_68 with
        | zero => intros; omega
        | succ n_68 ih_68 =>
          intro left f Xl_68 H_64 L_65 hres hfi hleft h5 h1 hm_68 hfl0_68 hne_68 hfrl_68 hI_66 ls hl
          refine lv_iload_n hx hb dX2_yearGoes_68 rfl (lv_at hl 3 rfl) ?_
          have hl12 := hfi.2.2.2.2.2.2.2.2
          refine lv_aload_n hx hb dX2_yearGoes_69 rfl (lv_at hl 0 rfl) ?_
          have hf_67 := (hne_68 _ (xk_ne hA0 hO (xk_on1 (by decide)))).trans hO
          refine xk_get B hI_66 hf_67 rfl in_X2 0 (by decide) q1432 rfl dX2_yearGoes_70 ?_
          refine lv_iconst (v := nI 5) hx hb dX2_yearGoes_73 (by decide) ?_
          refine xk_iald B hI_66 hfl0_68 (by omega) (by decide) dX2_yearGoes_74 ?_
          refine xk_icmp_le (tgt := 102) hx hb (by omega) (by omega) dX2_yearGoes_75 (by decide) (fun hc_75 => ?_) (fun hc_75 => ?_)
          · refine lv_aload_n hx hb dX2_yearGoes_102 rfl (lv_at hl 0 rfl) ?_
            refine xk_get B hI_66 hf_67 rfl in_X2 0 (by decide) q1432 rfl dX2_yearGoes_103 ?_
            refine lv_iconst (v := nI 1) hx hb dX2_yearGoes_106 (by decide) ?_
            refine lv_dup2_11 hx hb dX2_yearGoes_107 rfl rfl ?_
            refine xk_iald B hI_66 hfl0_68 (by omega) (by decide) dX2_yearGoes_108 ?_
            refine lv_iconst (v := nI 1) hx hb dX2_yearGoes_109 (by decide) ?_
            refine lv_iadd hx hb dX2_yearGoes_110 (xk_top (nI_add _ _) ?_)
            refine xk_iast B hI_66 hfl0_68 (by omega) (by decide) dX2_yearGoes_111 (fun X_68 H_72 L_73 hf_70 hn_69 hI_71 => ?_)
            have hfr_74 := xk_fr.put hfrl_68 hfl0_68 hn_69
            refine lv_iload_n hx hb dX2_yearGoes_112 rfl (lv_at hl 1 rfl) ?_
            have hf_75 := xk_off hn_69 hf_67 hfl0_68 (xk_on1 (by decide))
            have hf_76 := (hne_68 _ (xk_ne hA0 hA1 (xk_on1 (by decide)))).trans hA1
            have hf_77 := xk_off hn_69 hf_76 hfl0_68 (xk_on1 (by decide))
            have hf_78 := (hne_68 _ (xk_ne hA0 hA2 (xk_on1 (by decide)))).trans hA2
            have hf_79 := xk_off hn_69 hf_78 hfl0_68 (xk_on1 (by decide))
            have hf_80 := (hne_68 _ (xk_ne hA0 hA3 (xk_on1 (by decide)))).trans hA3
            have hf_81 := xk_off hn_69 hf_80 hfl0_68 (xk_on1 (by decide))
            have hf_82 := (hne_68 _ (xk_ne hA0 hA4 (xk_on1 (by decide)))).trans hA4
            have hf_83 := xk_off hn_69 hf_82 hfl0_68 (xk_on1 (by decide))
            have hf_84 := (hne_68 _ (xk_ne hA0 hA5 (xk_on1 (by decide)))).trans hA5
            have hf_85 := xk_off hn_69 hf_84 hfl0_68 (xk_on1 (by decide))
            have hf_86 := (hne_68 _ (xk_ne hA0 hA6 (xk_on1 (by decide)))).trans hA6
            have hf_87 := xk_off hn_69 hf_86 hfl0_68 (xk_on1 (by decide))
            have hf_88 := (hne_68 _ (xk_ne hA0 hA7 (xk_on1 (by decide)))).trans hA7
            have hf_89 := xk_off hn_69 hf_88 hfl0_68 (xk_on1 (by decide))
            have hf_90 := (hne_68 _ (xk_ne hA0 hA8 (xk_on1 (by decide)))).trans hA8
            have hf_91 := xk_off hn_69 hf_90 hfl0_68 (xk_on1 (by decide))
            have hf_92 := (hne_68 _ (xk_ne hA0 hA9 (xk_on1 (by decide)))).trans hA9
            have hf_93 := xk_off hn_69 hf_92 hfl0_68 (xk_on1 (by decide))
            have hM_94 : tm_Ok g X_68 o ad (va_up A 0 (va_up f 1 (f 1 + 1))) S := ⟨hf_75, hf_70, hf_77, hf_79, hf_81, hf_83, hf_85, hf_87, hf_89, hf_91, hf_93⟩
            exact xk_reti B hI_71 hr rfl dX2_yearGoes_113 (Nat.le_of_ble_eq_true rfl) (Nat.le_of_ble_eq_true rfl) (⟨(by rw [hyb]; rfl), (by rw [show tl_yr (A 0) = va_up f 1 (f 1 + 1) from by unfold tl_yr; rw [hres, tl_cut_e (by omega), h1]]; exact hM_94), hfr_74⟩)
          · have hb2 := tl_at_some (m := f) (pl := left - 1) (tl_inv_liv hfi) (by omega)
            have hb0 := hfi.1
            refine lv_aload_n hx hb dX2_yearGoes_78 rfl (lv_at hl 0 rfl) ?_
            refine xk_get B hI_66 hf_67 rfl in_X2 0 (by decide) q1432 rfl dX2_yearGoes_79 ?_
            refine lv_aload_n hx hb dX2_yearGoes_82 rfl (lv_at hl 0 rfl) ?_
            refine lv_iload_n hx hb dX2_yearGoes_83 rfl (lv_at hl 3 rfl) ?_
            refine lv_iconst (v := nI 1) hx hb dX2_yearGoes_84 (by decide) ?_
            refine lv_isub hx hb dX2_yearGoes_85 (xk_top (pk_sub (by omega)) ?_)
            have hf_95 := (hne_68 _ (xk_ne hA0 hA1 (xk_on1 (by decide)))).trans hA1
            have hf_96 := (hne_68 _ (xk_ne hA0 hA2 (xk_on1 (by decide)))).trans hA2
            have hf_97 := (hne_68 _ (xk_ne hA0 hA3 (xk_on1 (by decide)))).trans hA3
            have hf_98 := (hne_68 _ (xk_ne hA0 hA4 (xk_on1 (by decide)))).trans hA4
            have hf_99 := (hne_68 _ (xk_ne hA0 hA5 (xk_on1 (by decide)))).trans hA5
            have hf_100 := (hne_68 _ (xk_ne hA0 hA6 (xk_on1 (by decide)))).trans hA6
            have hf_101 := (hne_68 _ (xk_ne hA0 hA7 (xk_on1 (by decide)))).trans hA7
            have hf_102 := (hne_68 _ (xk_ne hA0 hA8 (xk_on1 (by decide)))).trans hA8
            have hf_103 := (hne_68 _ (xk_ne hA0 hA9 (xk_on1 (by decide)))).trans hA9
            have hM_104 : tm_Ok g Xl_68 o ad (va_up A 0 f) S := ⟨hf_67, hfl0_68, hf_95, hf_96, hf_97, hf_98, hf_99, hf_100, hf_101, hf_102, hf_103⟩
            refine xk_ri0 (xk_cV B hI_66 hl [.int (nI (left - 1))] [.ref (ad 0)] 1 (m2_atN g hM_104 hfi (pl := left - 1) (by omega)) hf_67 rfl (lw_V q1632 q1634 qs51 q79 q1635) ⟨rfl, by decide +kernel, by decide +kernel, by decide +kernel⟩ ⟨Nat.le_of_ble_eq_true rfl, Nat.le_of_ble_eq_true rfl⟩ rfl rfl (Nat.le_of_ble_eq_true rfl) dX2_yearGoes_86 (Nat.le_of_ble_eq_true rfl) (Nat.le_of_ble_eq_true rfl)) hI_66 (fun H_106 L_107 hI_105 => ?_)
            refine xk_top (y := tl_oI (tl_at (f) (left - 1))) rfl ?_
            refine xk_top (y := nI (tl_atN f (left - 1))) (by rw [hb2.1]; rfl) ?_
            refine xk_ri0 (xk_cS B hI_105 hl [.int (nI (tl_atN f (left - 1)))] [.ref (ad 0)] 1 (m2_of g (tl_atN f (left - 1))) (lw_S q1524 q1525 q79 q1526) ⟨by decide +kernel, by decide +kernel, by decide +kernel⟩ ⟨Nat.le_of_ble_eq_true rfl, Nat.le_of_ble_eq_true rfl⟩ rfl rfl (Nat.le_of_ble_eq_true rfl) dX2_yearGoes_89 (Nat.le_of_ble_eq_true rfl) (Nat.le_of_ble_eq_true rfl)) hI_105 (fun H_109 L_110 hI_108 => ?_)
            refine xk_top (y := nI (14 + 7 * (tl_atN f (left - 1)))) rfl ?_
            refine lv_iconst (v := nI 3) hx hb dX2_yearGoes_92 (by decide) ?_
            refine lv_iadd hx hb dX2_yearGoes_93 (xk_top (nI_add _ _) ?_)
            refine lv_iconst (v := nI 0) hx hb dX2_yearGoes_94 (by decide) ?_
            refine xk_iast B hI_108 hfl0_68 (by omega) (by decide) dX2_yearGoes_95 (fun X_111 H_115 L_116 hf_113 hn_112 hI_114 => ?_)
            have hfr_117 := xk_fr.put hfrl_68 hfl0_68 hn_112
            refine lv_iinc (v := nI (left - 1)) (lv' := [(3, .int (nI (left - 1))), (0, .ref o), (1, .int (nI 0)), (2, .int (nI (tl_liv (A 0) ((A 0) 0))))]) hx hb dX2_yearGoes_96 hl (k := 3) rfl (xk_dec (by omega)) (by decide) rfl (fun ls hl => ?_)
            refine lv_goto (tgt := 68) hx hb dX2_yearGoes_99 (by decide) ?_
            exact ih_68 (left - 1) (va_up f ((14 + 7 * (tl_atN f (left - 1))) + 3) 0) X_111 _ _ (hres.trans (tl_cut_s (by omega))) (tl_inv_die hfi hb2.2.1) (by have := tl_liv_die1 hb2.2.1 hb2.2.2; rw [show va_up f (14 + 7 * tl_atN f (left - 1) + 3) 0 0 = f 0 from tl_un (by omega)]; show _ = tl_liv (tl_dieM f (tl_atN f (left - 1))) (f 0); omega) ((tl_dieM_ne (by omega)).trans h5) ((tl_dieM_ne (by omega)).trans h1) (by omega) hf_113 (fun b z0 => ((hn_112 b z0).trans (hne_68 b z0))) hfr_117 hI_114 ls (lv_sub hl [1, 2, 3, 0] rfl)
      exact hloop_68 ((tl_liv (A 0) ((A 0) 0)) + 1) (tl_liv (A 0) ((A 0) 0)) (A 0) X _ _ (by unfold tl_yr2; rw [hF]) hFi (by rfl) hF5 hF1 (Nat.lt_succ_self _) hA0 (fun _ _ => rfl) hfr hI_61 ls (lv_sub hl [3, 2, 1, 0] rfl)
    · refine lv_aload_n hx hb dX2_yearGoes_18 rfl (lv_at hl 2 rfl) ?_
      refine xk_get B hI_1 hO rfl in_X2 0 (by decide) q1432 rfl dX2_yearGoes_19 ?_
      refine lv_iconst (v := nI 0) hx hb dX2_yearGoes_22 (by decide) ?_
      refine xk_iald B hI_1 hA0 (by omega) (by decide) dX2_yearGoes_23 ?_
      refine lv_bipush (v := nI 40) hx hb dX2_yearGoes_24 (by decide) ?_
      refine xk_icmp_ge (tgt := 63) hx hb (by omega) (by omega) dX2_yearGoes_26 (by decide) (fun hc_26 => ?_) (fun hc_26 => ?_)
      · have hyb : tl_yrb (A 0) = false := decide_eq_false (by omega)
        have hF : tl_yr1 (A 0) = A 0 := by unfold tl_yr1; rw [if_neg (by rw [hyb]; decide)]
        have hFi : tl_inv (A 0) := by rw [← hF]; exact tl_yr1_inv hk0
        have hF5 : (A 0) 5 = A 0 5 := rfl
        have hF1 : (A 0) 1 = A 0 1 := rfl
        refine lv_aload_n hx hb dX2_yearGoes_63 rfl (lv_at hl 2 rfl) ?_
        refine xk_ri0 (xk_cV B hI_1 hl [] [] 0 (m2_living g hM0 hFi ) hO rfl (lw_V q1520 q1522 qs33 q79 q1523) ⟨rfl, by decide +kernel, by decide +kernel, by decide +kernel⟩ ⟨Nat.le_of_ble_eq_true rfl, Nat.le_of_ble_eq_true rfl⟩ rfl rfl (Nat.le_of_ble_eq_true rfl) dX2_yearGoes_64 (Nat.le_of_ble_eq_true rfl) (Nat.le_of_ble_eq_true rfl)) hI_1 (fun H_119 L_120 hI_118 => ?_)
        refine xk_top (y := nI (tl_liv (A 0) ((A 0) 0))) rfl ?_
        refine lv_istore_n (lv' := [(3, .int (nI (tl_liv (A 0) ((A 0) 0)))), (2, .int (nI (tl_liv (A 0) ((A 0) 0)))), (1, .int (nI 0)), (0, .ref o)]) hx hb dX2_yearGoes_67 rfl hl (by decide) rfl (fun ls hl => ?_)
        have hloop_68 : ∀ (n_68 : Nat) (left : Nat) (f : Nat → Nat) (Xl_68 : xk_H) (H_121 : Heap) (L_122 : List Loc), (tl_yr2 (A 0) = tl_cut f (A 0 5) left) → (tl_inv f) → (left = tl_liv f (f 0)) → (f 5 = A 0 5) → (f 1 = A 0 1) → left < n_68 → Xl_68 (ad 0) = some ((o, 1), xk_iA g 0 294 f) → (∀ b, b ≠ (ad 0) → Xl_68 b = X b) → (xk_fr o X Xl_68) → xk_I g s H_121 Xl_68 L_122 → ∀ ls : Array Slot, lv_has ls 6 [(0, .ref o), (1, .int (nI 0)), (2, .int (nI (tl_liv (A 0) ((A 0) 0)))), (3, .int (nI left))] → W p (xk_l g) e (({ frames := 3, cells := 0, slots := 0, locals := 72 } : Room)) s m args below meth c H_121 L_122 0 0 (MQ below (xk_Q g (xk_Qi (nI (if tl_yrb (A 0) = true then 1 else 0)) (fun X1 => tm_Ok g X1 o ad (va_up A 0 (tl_yr (A 0))) S ∧ xk_fr o X X1))) args s (0) (0) (xk_A g)) (F0 m 68 ls []) := by
          intro n_68
          induction n_68 with
          | zero => intros; omega
          | succ n_68 ih_68 =>
            intro left f Xl_68 H_121 L_122 hres hfi hleft h5 h1 hm_68 hfl0_68 hne_68 hfrl_68 hI_123 ls hl
            refine lv_iload_n hx hb dX2_yearGoes_68 rfl (lv_at hl 3 rfl) ?_
            have hl12 := hfi.2.2.2.2.2.2.2.2
            refine lv_aload_n hx hb dX2_yearGoes_69 rfl (lv_at hl 0 rfl) ?_
            have hf_124 := (hne_68 _ (xk_ne hA0 hO (xk_on1 (by decide)))).trans hO
            refine xk_get B hI_123 hf_124 rfl in_X2 0 (by decide) q1432 rfl dX2_yearGoes_70 ?_
            refine lv_iconst (v := nI 5) hx hb dX2_yearGoes_73 (by decide) ?_
            refine xk_iald B hI_123 hfl0_68 (by omega) (by decide) dX2_yearGoes_74 ?_
            refine xk_icmp_le (tgt := 102) hx hb (by omega) (by omega) dX2_yearGoes_75 (by decide) (fun hc_75 => ?_) (fun hc_75 => ?_)
            · refine lv_aload_n hx hb dX2_yearGoes_102 rfl (lv_at hl 0 rfl) ?_
              refine xk_get B hI_123 hf_124 rfl in_X2 0 (by decide) q1432 rfl dX2_yearGoes_103 ?_
              refine lv_iconst (v := nI 1) hx hb dX2_yearGoes_106 (by decide) ?_
              refine lv_dup2_11 hx hb dX2_yearGoes_107 rfl rfl ?_
              refine xk_iald B hI_123 hfl0_68 (by omega) (by decide) dX2_yearGoes_108 ?_
              refine lv_iconst (v := nI 1) hx hb dX2_yearGoes_109 (by decide) ?_
              refine lv_iadd hx hb dX2_yearGoes_110 (xk_top (nI_add _ _) ?_)
              refine xk_iast B hI_123 hfl0_68 (by omega) (by decide) dX2_yearGoes_111 (fun X_125 H_129 L_130 hf_127 hn_126 hI_128 => ?_)
              have hfr_131 := xk_fr.put hfrl_68 hfl0_68 hn_126
              refine lv_iload_n hx hb dX2_yearGoes_112 rfl (lv_at hl 1 rfl) ?_
              have hf_132 := xk_off hn_126 hf_124 hfl0_68 (xk_on1 (by decide))
              have hf_133 := (hne_68 _ (xk_ne hA0 hA1 (xk_on1 (by decide)))).trans hA1
              have hf_134 := xk_off hn_126 hf_133 hfl0_68 (xk_on1 (by decide))
              have hf_135 := (hne_68 _ (xk_ne hA0 hA2 (xk_on1 (by decide)))).trans hA2
              have hf_136 := xk_off hn_126 hf_135 hfl0_68 (xk_on1 (by decide))
              have hf_137 := (hne_68 _ (xk_ne hA0 hA3 (xk_on1 (by decide)))).trans hA3
              have hf_138 := xk_off hn_126 hf_137 hfl0_68 (xk_on1 (by decide))
              have hf_139 := (hne_68 _ (xk_ne hA0 hA4 (xk_on1 (by decide)))).trans hA4
              have hf_140 := xk_off hn_126 hf_139 hfl0_68 (xk_on1 (by decide))
              have hf_141 := (hne_68 _ (xk_ne hA0 hA5 (xk_on1 (by decide)))).trans hA5
              have hf_142 := xk_off hn_126 hf_141 hfl0_68 (xk_on1 (by decide))
              have hf_143 := (hne_68 _ (xk_ne hA0 hA6 (xk_on1 (by decide)))).trans hA6
              have hf_144 := xk_off hn_126 hf_143 hfl0_68 (xk_on1 (by decide))
              have hf_145 := (hne_68 _ (xk_ne hA0 hA7 (xk_on1 (by decide)))).trans hA7
              have hf_146 := xk_off hn_126 hf_145 hfl0_68 (xk_on1 (by decide))
              have hf_147 := (hne_68 _ (xk_ne hA0 hA8 (xk_on1 (by decide)))).trans hA8
              have hf_148 := xk_off hn_126 hf_147 hfl0_68 (xk_on1 (by decide))
              have hf_149 := (hne_68 _ (xk_ne hA0 hA9 (xk_on1 (by decide)))).trans hA9
              have hf_150 := xk_off hn_126 hf_149 hfl0_68 (xk_on1 (by decide))
              have hM_151 : tm_Ok g X_125 o ad (va_up A 0 (va_up f 1 (f 1 + 1))) S := ⟨hf_132, hf_127, hf_134, hf_136, hf_138, hf_140, hf_142, hf_144, hf_146, hf_148, hf_150⟩
              exact xk_reti B hI_128 hr rfl dX2_yearGoes_113 (Nat.le_of_ble_eq_true rfl) (Nat.le_of_ble_eq_true rfl) (⟨(by rw [hyb]; rfl), (by rw [show tl_yr (A 0) = va_up f 1 (f 1 + 1) from by unfold tl_yr; rw [hres, tl_cut_e (by omega), h1]]; exact hM_151), hfr_131⟩)
            · have hb2 := tl_at_some (m := f) (pl := left - 1) (tl_inv_liv hfi) (by omega)
              have hb0 := hfi.1
              refine lv_aload_n hx hb dX2_yearGoes_78 rfl (lv_at hl 0 rfl) ?_
              refine xk_get B hI_123 hf_124 rfl in_X2 0 (by decide) q1432 rfl dX2_yearGoes_79 ?_
              refine lv_aload_n hx hb dX2_yearGoes_82 rfl (lv_at hl 0 rfl) ?_
              refine lv_iload_n hx hb dX2_yearGoes_83 rfl (lv_at hl 3 rfl) ?_
              refine lv_iconst (v := nI 1) hx hb dX2_yearGoes_84 (by decide) ?_
              refine lv_isub hx hb dX2_yearGoes_85 (xk_top (pk_sub (by omega)) ?_)
              have hf_152 := (hne_68 _ (xk_ne hA0 hA1 (xk_on1 (by decide)))).trans hA1
              have hf_153 := (hne_68 _ (xk_ne hA0 hA2 (xk_on1 (by decide)))).trans hA2
              have hf_154 := (hne_68 _ (xk_ne hA0 hA3 (xk_on1 (by decide)))).trans hA3
              have hf_155 := (hne_68 _ (xk_ne hA0 hA4 (xk_on1 (by decide)))).trans hA4
              have hf_156 := (hne_68 _ (xk_ne hA0 hA5 (xk_on1 (by decide)))).trans hA5
              have hf_157 := (hne_68 _ (xk_ne hA0 hA6 (xk_on1 (by decide)))).trans hA6
              have hf_158 := (hne_68 _ (xk_ne hA0 hA7 (xk_on1 (by decide)))).trans hA7
              have hf_159 := (hne_68 _ (xk_ne hA0 hA8 (xk_on1 (by decide)))).trans hA8
              have hf_160 := (hne_68 _ (xk_ne hA0 hA9 (xk_on1 (by decide)))).trans hA9
              have hM_161 : tm_Ok g Xl_68 o ad (va_up A 0 f) S := ⟨hf_124, hfl0_68, hf_152, hf_153, hf_154, hf_155, hf_156, hf_157, hf_158, hf_159, hf_160⟩
              refine xk_ri0 (xk_cV B hI_123 hl [.int (nI (left - 1))] [.ref (ad 0)] 1 (m2_atN g hM_161 hfi (pl := left - 1) (by omega)) hf_124 rfl (lw_V q1632 q1634 qs51 q79 q1635) ⟨rfl, by decide +kernel, by decide +kernel, by decide +kernel⟩ ⟨Nat.le_of_ble_eq_true rfl, Nat.le_of_ble_eq_true rfl⟩ rfl rfl (Nat.le_of_ble_eq_true rfl) dX2_yearGoes_86 (Nat.le_of_ble_eq_true rfl) (Nat.le_of_ble_eq_true rfl)) hI_123 (fun H_163 L_164 hI_162 => ?_)
              refine xk_top (y := tl_oI (tl_at (f) (left - 1))) rfl ?_
              refine xk_top (y := nI (tl_atN f (left - 1))) (by rw [hb2.1]; rfl) ?_
              refine xk_ri0 (xk_cS B hI_162 hl [.int (nI (tl_atN f (left - 1)))] [.ref (ad 0)] 1 (m2_of g (tl_atN f (left - 1))) (lw_S q1524 q1525 q79 q1526) ⟨by decide +kernel, by decide +kernel, by decide +kernel⟩ ⟨Nat.le_of_ble_eq_true rfl, Nat.le_of_ble_eq_true rfl⟩ rfl rfl (Nat.le_of_ble_eq_true rfl) dX2_yearGoes_89 (Nat.le_of_ble_eq_true rfl) (Nat.le_of_ble_eq_true rfl)) hI_162 (fun H_166 L_167 hI_165 => ?_)
              refine xk_top (y := nI (14 + 7 * (tl_atN f (left - 1)))) rfl ?_
              refine lv_iconst (v := nI 3) hx hb dX2_yearGoes_92 (by decide) ?_
              refine lv_iadd hx hb dX2_yearGoes_93 (xk_top (nI_add _ _) ?_)
              refine lv_iconst (v := nI 0) hx hb dX2_yearGoes_94 (by decide) ?_
              refine xk_iast B hI_165 hfl0_68 (by omega) (by decide) dX2_yearGoes_95 (fun X_168 H_172 L_173 hf_170 hn_169 hI_171 => ?_)
              have hfr_174 := xk_fr.put hfrl_68 hfl0_68 hn_169
              refine lv_iinc (v := nI (left - 1)) (lv' := [(3, .int (nI (left - 1))), (0, .ref o), (1, .int (nI 0)), (2, .int (nI (tl_liv (A 0) ((A 0) 0))))]) hx hb dX2_yearGoes_96 hl (k := 3) rfl (xk_dec (by omega)) (by decide) rfl (fun ls hl => ?_)
              refine lv_goto (tgt := 68) hx hb dX2_yearGoes_99 (by decide) ?_
              exact ih_68 (left - 1) (va_up f ((14 + 7 * (tl_atN f (left - 1))) + 3) 0) X_168 _ _ (hres.trans (tl_cut_s (by omega))) (tl_inv_die hfi hb2.2.1) (by have := tl_liv_die1 hb2.2.1 hb2.2.2; rw [show va_up f (14 + 7 * tl_atN f (left - 1) + 3) 0 0 = f 0 from tl_un (by omega)]; show _ = tl_liv (tl_dieM f (tl_atN f (left - 1))) (f 0); omega) ((tl_dieM_ne (by omega)).trans h5) ((tl_dieM_ne (by omega)).trans h1) (by omega) hf_170 (fun b z0 => ((hn_169 b z0).trans (hne_68 b z0))) hfr_174 hI_171 ls (lv_sub hl [1, 2, 3, 0] rfl)
        exact hloop_68 ((tl_liv (A 0) ((A 0) 0)) + 1) (tl_liv (A 0) ((A 0) 0)) (A 0) X _ _ (by unfold tl_yr2; rw [hF]) hFi (by rfl) hF5 hF1 (Nat.lt_succ_self _) hA0 (fun _ _ => rfl) hfr hI_118 ls (lv_sub hl [3, 2, 1, 0] rfl)
      · refine lv_aload_n hx hb dX2_yearGoes_29 rfl (lv_at hl 2 rfl) ?_
        refine lv_iconst (v := nI 0) hx hb dX2_yearGoes_30 (by decide) ?_
        refine xk_ri0 (xk_cV B hI_1 hl [.int (nI 0)] [] 1 (m2_atN g hM0 hk0 (pl := 0) (by omega)) hO rfl (lw_V q1632 q1634 qs51 q79 q1635) ⟨rfl, by decide +kernel, by decide +kernel, by decide +kernel⟩ ⟨Nat.le_of_ble_eq_true rfl, Nat.le_of_ble_eq_true rfl⟩ rfl rfl (Nat.le_of_ble_eq_true rfl) dX2_yearGoes_31 (Nat.le_of_ble_eq_true rfl) (Nat.le_of_ble_eq_true rfl)) hI_1 (fun H_176 L_177 hI_175 => ?_)
        refine xk_top (y := tl_oI (tl_at (A 0) 0)) rfl ?_
        have ha0 := tl_at_some (m := A 0) (pl := 0) (tl_inv_liv hk0) (by omega)
        refine xk_top (y := nI (tl_atN (A 0) 0)) (by rw [ha0.1]; rfl) ?_
        refine lv_istore_n (lv' := [(3, .int (nI (tl_atN (A 0) 0))), (2, .int (nI (tl_liv (A 0) ((A 0) 0)))), (1, .int (nI 0)), (0, .ref o)]) hx hb dX2_yearGoes_34 rfl hl (by decide) rfl (fun ls hl => ?_)
        refine lv_aload_n hx hb dX2_yearGoes_35 rfl (lv_at hl 3 rfl) ?_
        refine lv_iconst (v := nI 1) hx hb dX2_yearGoes_36 (by decide) ?_
        refine xk_ri0 (xk_cV B hI_175 hl [.int (nI 1)] [] 1 (m2_atN g hM0 hk0 (pl := 1) (by omega)) hO rfl (lw_V q1632 q1634 qs51 q79 q1635) ⟨rfl, by decide +kernel, by decide +kernel, by decide +kernel⟩ ⟨Nat.le_of_ble_eq_true rfl, Nat.le_of_ble_eq_true rfl⟩ rfl rfl (Nat.le_of_ble_eq_true rfl) dX2_yearGoes_37 (Nat.le_of_ble_eq_true rfl) (Nat.le_of_ble_eq_true rfl)) hI_175 (fun H_179 L_180 hI_178 => ?_)
        refine xk_top (y := tl_oI (tl_at (A 0) 1)) rfl ?_
        have ha1 := tl_at_some (m := A 0) (pl := 1) (tl_inv_liv hk0) (by omega)
        refine xk_top (y := nI (tl_atN (A 0) 1)) (by rw [ha1.1]; rfl) ?_
        refine lv_istore (lv' := [(4, .int (nI (tl_atN (A 0) 1))), (3, .int (nI (tl_atN (A 0) 0))), (2, .int (nI (tl_liv (A 0) ((A 0) 0)))), (1, .int (nI 0)), (0, .ref o)]) hx hb dX2_yearGoes_40 hl (by decide) rfl (fun ls hl => ?_)
        refine lv_aload_n hx hb dX2_yearGoes_42 rfl (lv_at hl 4 rfl) ?_
        refine xk_ri (xk_cV B hI_178 hl [] [] 0 (m2_drawn g hM0 (by omega)) hO rfl (lw_V q1560 q1562 qs41 q79 q1563) ⟨rfl, by decide +kernel, by decide +kernel, by decide +kernel⟩ ⟨Nat.le_of_ble_eq_true rfl, Nat.le_of_ble_eq_true rfl⟩ rfl rfl (Nat.le_of_ble_eq_true rfl) dX2_yearGoes_43 (Nat.le_of_ble_eq_true rfl) (Nat.le_of_ble_eq_true rfl)) hI_178 (fun X_184 H_182 L_183 hq_185 hI_181 => ?_)
        refine xk_top (y := nI (tl_seed (A 0))) rfl ?_
        obtain ⟨hM_186, hfr_187⟩ := hq_185
        obtain ⟨hf_188, hf_189, hf_190, hf_191, hf_192, hf_193, hf_194, hf_195, hf_196, hf_197, hf_198⟩ := id hM_186
        have hfr_199 := xk_fr.tr hfr hfr_187
        have hf_189 : X_184 (ad 0) = some ((o, 1), xk_iA g 0 294 (tl_draw (A 0))) := hf_189
        have hf_190 : X_184 (ad 1) = some ((o, 2), xk_iA g 0 294 (A 1)) := hf_190
        have hf_191 : X_184 (ad 2) = some ((o, 3), xk_iA g 0 294 (A 2)) := hf_191
        have hf_192 : X_184 (ad 3) = some ((o, 4), xk_iA g 0 294 (A 3)) := hf_192
        have hf_193 : X_184 (ad 4) = some ((o, 5), xk_iA g 0 2352 (A 4)) := hf_193
        have hf_194 : X_184 (ad 5) = some ((o, 6), xk_iA g 0 70 (A 5)) := hf_194
        have hf_195 : X_184 (ad 6) = some ((o, 7), xk_iA g 2 40 (A 6)) := hf_195
        have hf_196 : X_184 (ad 7) = some ((o, 8), xk_iA g 2 40 (A 7)) := hf_196
        have hf_197 : X_184 (ad 8) = some ((o, 9), xk_iA g 0 60 (A 8)) := hf_197
        have hf_198 : X_184 (ad 9) = some ((o, 10), xk_iA g 0 284 (A 9)) := hf_198
        have hf_188 : X_184 o = some ((o, 0), .inr (0, [.ref (ad 0), .ref (ad 1), .ref (ad 2), .ref (ad 3), .int (nI (S 0)), .ref (ad 4), .int (nI (S 1)), .int (nI (S 2)), .int (nI (S 3)), .int (tm_it (S 4)), .ref (ad 5), .int (nI (S 5)), .ref (ad 6), .ref (ad 7), .ref (ad 8), .int (nI (S 6)), .ref (ad 9), .int (nI (S 7)), .int (nI (S 8)), .int (nI (S 9)), .int (nI (S 10))])) := hf_188
        have hsl := tl_seed_lt (A 0)
        refine lv_bipush (v := nI 9) hx hb dX2_yearGoes_46 (by decide) ?_
        refine lv_irem hx hb dX2_yearGoes_48 (xk_ne0 (by omega) (by omega)) (xk_top (pk_rem (by omega) (by omega) (by omega)) ?_)
        refine lv_istore (lv' := [(5, .int (nI ((tl_seed (A 0)) % 9))), (4, .int (nI (tl_atN (A 0) 1))), (3, .int (nI (tl_atN (A 0) 0))), (2, .int (nI (tl_liv (A 0) ((A 0) 0)))), (1, .int (nI 0)), (0, .ref o)]) hx hb dX2_yearGoes_49 hl (by decide) rfl (fun ls hl => ?_)
        have hkd : tl_inv (tl_draw (A 0)) := tl_inv_draw hk0
        refine lv_aload_n hx hb dX2_yearGoes_51 rfl (lv_at hl 5 rfl) ?_
        refine lv_iload_n hx hb dX2_yearGoes_52 rfl (lv_at hl 2 rfl) ?_
        refine lv_iload hx hb dX2_yearGoes_53 (lv_at hl 1 rfl) ?_
        refine lv_iload hx hb dX2_yearGoes_55 (lv_at hl 0 rfl) ?_
        have hM_200 : tm_Ok g X_184 o ad (va_up A 0 (tl_draw (A 0))) S := ⟨hf_188, hf_189, hf_190, hf_191, hf_192, hf_193, hf_194, hf_195, hf_196, hf_197, hf_198⟩
        refine xk_ri (xk_cV B hI_181 hl [.int (nI (tl_atN (A 0) 0)), .int (nI (tl_atN (A 0) 1)), .int (nI ((tl_seed (A 0)) % 9))] [] 3 (m2_breeds g hM_200 hkd (a := tl_atN (A 0) 0) (b := tl_atN (A 0) 1) (k := (tl_seed (A 0)) % 9) (by show _ < tl_draw (A 0) 0; rw [tl_draw_ne (by decide)]; omega) (by show _ < tl_draw (A 0) 0; rw [tl_draw_ne (by decide)]; omega) (by omega) (by show tl_draw (A 0) 0 < 40; rw [tl_draw_ne (by decide)]; omega)) hf_188 rfl (lw_V q1552 q1554 qs39 q79 q1555) ⟨rfl, by decide +kernel, by decide +kernel, by decide +kernel⟩ ⟨Nat.le_of_ble_eq_true rfl, Nat.le_of_ble_eq_true rfl⟩ rfl rfl (Nat.le_of_ble_eq_true rfl) dX2_yearGoes_57 (Nat.le_of_ble_eq_true rfl) (Nat.le_of_ble_eq_true rfl)) hI_181 (fun X_204 H_202 L_203 hq_205 hI_201 => ?_)
        refine xk_top (y := nI ((tl_draw (A 0)) 0)) rfl ?_
        obtain ⟨hM_206, hfr_207⟩ := hq_205
        obtain ⟨hf_208, hf_209, hf_210, hf_211, hf_212, hf_213, hf_214, hf_215, hf_216, hf_217, hf_218⟩ := id hM_206
        have hfr_219 := xk_fr.tr hfr_199 hfr_207
        have hf_209 : X_204 (ad 0) = some ((o, 1), xk_iA g 0 294 (tl_breed (tl_draw (A 0)) (tl_atN (A 0) 0) (tl_atN (A 0) 1) ((tl_seed (A 0)) % 9))) := hf_209
        have hf_210 : X_204 (ad 1) = some ((o, 2), xk_iA g 0 294 (A 1)) := hf_210
        have hf_211 : X_204 (ad 2) = some ((o, 3), xk_iA g 0 294 (A 2)) := hf_211
        have hf_212 : X_204 (ad 3) = some ((o, 4), xk_iA g 0 294 (A 3)) := hf_212
        have hf_213 : X_204 (ad 4) = some ((o, 5), xk_iA g 0 2352 (A 4)) := hf_213
        have hf_214 : X_204 (ad 5) = some ((o, 6), xk_iA g 0 70 (A 5)) := hf_214
        have hf_215 : X_204 (ad 6) = some ((o, 7), xk_iA g 2 40 (A 6)) := hf_215
        have hf_216 : X_204 (ad 7) = some ((o, 8), xk_iA g 2 40 (A 7)) := hf_216
        have hf_217 : X_204 (ad 8) = some ((o, 9), xk_iA g 0 60 (A 8)) := hf_217
        have hf_218 : X_204 (ad 9) = some ((o, 10), xk_iA g 0 284 (A 9)) := hf_218
        have hf_208 : X_204 o = some ((o, 0), .inr (0, [.ref (ad 0), .ref (ad 1), .ref (ad 2), .ref (ad 3), .int (nI (S 0)), .ref (ad 4), .int (nI (S 1)), .int (nI (S 2)), .int (nI (S 3)), .int (tm_it (S 4)), .ref (ad 5), .int (nI (S 5)), .ref (ad 6), .ref (ad 7), .ref (ad 8), .int (nI (S 6)), .ref (ad 9), .int (nI (S 7)), .int (nI (S 8)), .int (nI (S 9)), .int (nI (S 10))])) := hf_208
        refine lv_pop hx hb dX2_yearGoes_60 rfl ?_
        refine lv_iconst (v := nI 1) hx hb dX2_yearGoes_61 (by decide) ?_
        refine lv_istore_n (lv' := [(1, .int (nI 1)), (5, .int (nI ((tl_seed (A 0)) % 9))), (4, .int (nI (tl_atN (A 0) 1))), (3, .int (nI (tl_atN (A 0) 0))), (2, .int (nI (tl_liv (A 0) ((A 0) 0)))), (0, .ref o)]) hx hb dX2_yearGoes_62 rfl hl (by decide) rfl (fun ls hl => ?_)
        have hyb : tl_yrb (A 0) = true := decide_eq_true (by omega)
        have hF : tl_yr1 (A 0) = tl_breed (tl_draw (A 0)) (tl_atN (A 0) 0) (tl_atN (A 0) 1) ((tl_seed (A 0)) % 9) := by unfold tl_yr1; rw [if_pos hyb]
        have hFi : tl_inv (tl_breed (tl_draw (A 0)) (tl_atN (A 0) 0) (tl_atN (A 0) 1) ((tl_seed (A 0)) % 9)) := by rw [← hF]; exact tl_yr1_inv hk0
        have hF5 : (tl_breed (tl_draw (A 0)) (tl_atN (A 0) 0) (tl_atN (A 0) 1) ((tl_seed (A 0)) % 9)) 5 = A 0 5 := (by rw [← hF]; exact tl_yr1_lo (by decide) (by decide) (by decide))
        have hF1 : (tl_breed (tl_draw (A 0)) (tl_atN (A 0) 0) (tl_atN (A 0) 1) ((tl_seed (A 0)) % 9)) 1 = A 0 1 := (by rw [← hF]; exact tl_yr1_lo (by decide) (by decide) (by decide))
        refine lv_aload_n hx hb dX2_yearGoes_63 rfl (lv_at hl 5 rfl) ?_
        have hM_220 : tm_Ok g X_204 o ad (va_up A 0 (tl_breed (tl_draw (A 0)) (tl_atN (A 0) 0) (tl_atN (A 0) 1) ((tl_seed (A 0)) % 9))) S := ⟨hf_208, hf_209, hf_210, hf_211, hf_212, hf_213, hf_214, hf_215, hf_216, hf_217, hf_218⟩
        refine xk_ri0 (xk_cV B hI_201 hl [] [] 0 (m2_living g hM_220 hFi ) hf_208 rfl (lw_V q1520 q1522 qs33 q79 q1523) ⟨rfl, by decide +kernel, by decide +kernel, by decide +kernel⟩ ⟨Nat.le_of_ble_eq_true rfl, Nat.le_of_ble_eq_true rfl⟩ rfl rfl (Nat.le_of_ble_eq_true rfl) dX2_yearGoes_64 (Nat.le_of_ble_eq_true rfl) (Nat.le_of_ble_eq_true rfl)) hI_201 (fun H_222 L_223 hI_221 => ?_)
        refine xk_top (y := nI (tl_liv (tl_breed (tl_draw (A 0)) (tl_atN (A 0) 0) (tl_atN (A 0) 1) ((tl_seed (A 0)) % 9)) ((tl_breed (tl_draw (A 0)) (tl_atN (A 0) 0) (tl_atN (A 0) 1) ((tl_seed (A 0)) % 9)) 0))) rfl ?_
        refine lv_istore_n (lv' := [(3, .int (nI (tl_liv (tl_breed (tl_draw (A 0)) (tl_atN (A 0) 0) (tl_atN (A 0) 1) ((tl_seed (A 0)) % 9)) ((tl_breed (tl_draw (A 0)) (tl_atN (A 0) 0) (tl_atN (A 0) 1) ((tl_seed (A 0)) % 9)) 0)))), (1, .int (nI 1)), (5, .int (nI ((tl_seed (A 0)) % 9))), (4, .int (nI (tl_atN (A 0) 1))), (2, .int (nI (tl_liv (A 0) ((A 0) 0)))), (0, .ref o)]) hx hb dX2_yearGoes_67 rfl hl (by decide) rfl (fun ls hl => ?_)
        have hloop_68 : ∀ (n_68 : Nat) (left : Nat) (f : Nat → Nat) (Xl_68 : xk_H) (H_224 : Heap) (L_225 : List Loc), (tl_yr2 (A 0) = tl_cut f (A 0 5) left) → (tl_inv f) → (left = tl_liv f (f 0)) → (f 5 = A 0 5) → (f 1 = A 0 1) → left < n_68 → Xl_68 (ad 0) = some ((o, 1), xk_iA g 0 294 f) → (∀ b, b ≠ (ad 0) → Xl_68 b = X_204 b) → (xk_fr o X Xl_68) → xk_I g s H_224 Xl_68 L_225 → ∀ ls : Array Slot, lv_has ls 6 [(0, .ref o), (1, .int (nI 1)), (2, .int (nI (tl_liv (A 0) ((A 0) 0)))), (3, .int (nI left))] → W p (xk_l g) e (({ frames := 3, cells := 0, slots := 0, locals := 72 } : Room)) s m args below meth c H_224 L_225 0 0 (MQ below (xk_Q g (xk_Qi (nI (if tl_yrb (A 0) = true then 1 else 0)) (fun X1 => tm_Ok g X1 o ad (va_up A 0 (tl_yr (A 0))) S ∧ xk_fr o X X1))) args s (0) (0) (xk_A g)) (F0 m 68 ls []) := by
          intro n_68
          induction n_68 with
          | zero => intros; omega
          | succ n_68 ih_68 =>
            intro left f Xl_68 H_224 L_225 hres hfi hleft h5 h1 hm_68 hfl0_68 hne_68 hfrl_68 hI_226 ls hl
            refine lv_iload_n hx hb dX2_yearGoes_68 rfl (lv_at hl 3 rfl) ?_
            have hl12 := hfi.2.2.2.2.2.2.2.2
            refine lv_aload_n hx hb dX2_yearGoes_69 rfl (lv_at hl 0 rfl) ?_
            have hf_227 := (hne_68 _ (xk_ne hf_209 hf_208 (xk_on1 (by decide)))).trans hf_208
            refine xk_get B hI_226 hf_227 rfl in_X2 0 (by decide) q1432 rfl dX2_yearGoes_70 ?_
            refine lv_iconst (v := nI 5) hx hb dX2_yearGoes_73 (by decide) ?_
            refine xk_iald B hI_226 hfl0_68 (by omega) (by decide) dX2_yearGoes_74 ?_
            refine xk_icmp_le (tgt := 102) hx hb (by omega) (by omega) dX2_yearGoes_75 (by decide) (fun hc_75 => ?_) (fun hc_75 => ?_)
            · refine lv_aload_n hx hb dX2_yearGoes_102 rfl (lv_at hl 0 rfl) ?_
              refine xk_get B hI_226 hf_227 rfl in_X2 0 (by decide) q1432 rfl dX2_yearGoes_103 ?_
              refine lv_iconst (v := nI 1) hx hb dX2_yearGoes_106 (by decide) ?_
              refine lv_dup2_11 hx hb dX2_yearGoes_107 rfl rfl ?_
              refine xk_iald B hI_226 hfl0_68 (by omega) (by decide) dX2_yearGoes_108 ?_
              refine lv_iconst (v := nI 1) hx hb dX2_yearGoes_109 (by decide) ?_
              refine lv_iadd hx hb dX2_yearGoes_110 (xk_top (nI_add _ _) ?_)
              refine xk_iast B hI_226 hfl0_68 (by omega) (by decide) dX2_yearGoes_111 (fun X_228 H_232 L_233 hf_230 hn_229 hI_231 => ?_)
              have hfr_234 := xk_fr.put hfrl_68 hfl0_68 hn_229
              refine lv_iload_n hx hb dX2_yearGoes_112 rfl (lv_at hl 1 rfl) ?_
              have hf_235 := xk_off hn_229 hf_227 hfl0_68 (xk_on1 (by decide))
              have hf_236 := (hne_68 _ (xk_ne hf_209 hf_210 (xk_on1 (by decide)))).trans hf_210
              have hf_237 := xk_off hn_229 hf_236 hfl0_68 (xk_on1 (by decide))
              have hf_238 := (hne_68 _ (xk_ne hf_209 hf_211 (xk_on1 (by decide)))).trans hf_211
              have hf_239 := xk_off hn_229 hf_238 hfl0_68 (xk_on1 (by decide))
              have hf_240 := (hne_68 _ (xk_ne hf_209 hf_212 (xk_on1 (by decide)))).trans hf_212
              have hf_241 := xk_off hn_229 hf_240 hfl0_68 (xk_on1 (by decide))
              have hf_242 := (hne_68 _ (xk_ne hf_209 hf_213 (xk_on1 (by decide)))).trans hf_213
              have hf_243 := xk_off hn_229 hf_242 hfl0_68 (xk_on1 (by decide))
              have hf_244 := (hne_68 _ (xk_ne hf_209 hf_214 (xk_on1 (by decide)))).trans hf_214
              have hf_245 := xk_off hn_229 hf_244 hfl0_68 (xk_on1 (by decide))
              have hf_246 := (hne_68 _ (xk_ne hf_209 hf_215 (xk_on1 (by decide)))).trans hf_215
              have hf_247 := xk_off hn_229 hf_246 hfl0_68 (xk_on1 (by decide))
              have hf_248 := (hne_68 _ (xk_ne hf_209 hf_216 (xk_on1 (by decide)))).trans hf_216
              have hf_249 := xk_off hn_229 hf_248 hfl0_68 (xk_on1 (by decide))
              have hf_250 := (hne_68 _ (xk_ne hf_209 hf_217 (xk_on1 (by decide)))).trans hf_217
              have hf_251 := xk_off hn_229 hf_250 hfl0_68 (xk_on1 (by decide))
              have hf_252 := (hne_68 _ (xk_ne hf_209 hf_218 (xk_on1 (by decide)))).trans hf_218
              have hf_253 := xk_off hn_229 hf_252 hfl0_68 (xk_on1 (by decide))
              have hM_254 : tm_Ok g X_228 o ad (va_up A 0 (va_up f 1 (f 1 + 1))) S := ⟨hf_235, hf_230, hf_237, hf_239, hf_241, hf_243, hf_245, hf_247, hf_249, hf_251, hf_253⟩
              exact xk_reti B hI_231 hr rfl dX2_yearGoes_113 (Nat.le_of_ble_eq_true rfl) (Nat.le_of_ble_eq_true rfl) (⟨(by rw [hyb]; rfl), (by rw [show tl_yr (A 0) = va_up f 1 (f 1 + 1) from by unfold tl_yr; rw [hres, tl_cut_e (by omega), h1]]; exact hM_254), hfr_234⟩)
            · have hb2 := tl_at_some (m := f) (pl := left - 1) (tl_inv_liv hfi) (by omega)
              have hb0 := hfi.1
              refine lv_aload_n hx hb dX2_yearGoes_78 rfl (lv_at hl 0 rfl) ?_
              refine xk_get B hI_226 hf_227 rfl in_X2 0 (by decide) q1432 rfl dX2_yearGoes_79 ?_
              refine lv_aload_n hx hb dX2_yearGoes_82 rfl (lv_at hl 0 rfl) ?_
              refine lv_iload_n hx hb dX2_yearGoes_83 rfl (lv_at hl 3 rfl) ?_
              refine lv_iconst (v := nI 1) hx hb dX2_yearGoes_84 (by decide) ?_
              refine lv_isub hx hb dX2_yearGoes_85 (xk_top (pk_sub (by omega)) ?_)
              have hf_255 := (hne_68 _ (xk_ne hf_209 hf_210 (xk_on1 (by decide)))).trans hf_210
              have hf_256 := (hne_68 _ (xk_ne hf_209 hf_211 (xk_on1 (by decide)))).trans hf_211
              have hf_257 := (hne_68 _ (xk_ne hf_209 hf_212 (xk_on1 (by decide)))).trans hf_212
              have hf_258 := (hne_68 _ (xk_ne hf_209 hf_213 (xk_on1 (by decide)))).trans hf_213
              have hf_259 := (hne_68 _ (xk_ne hf_209 hf_214 (xk_on1 (by decide)))).trans hf_214
              have hf_260 := (hne_68 _ (xk_ne hf_209 hf_215 (xk_on1 (by decide)))).trans hf_215
              have hf_261 := (hne_68 _ (xk_ne hf_209 hf_216 (xk_on1 (by decide)))).trans hf_216
              have hf_262 := (hne_68 _ (xk_ne hf_209 hf_217 (xk_on1 (by decide)))).trans hf_217
              have hf_263 := (hne_68 _ (xk_ne hf_209 hf_218 (xk_on1 (by decide)))).trans hf_218
              have hM_264 : tm_Ok g Xl_68 o ad (va_up A 0 f) S := ⟨hf_227, hfl0_68, hf_255, hf_256, hf_257, hf_258, hf_259, hf_260, hf_261, hf_262, hf_263⟩
              refine xk_ri0 (xk_cV B hI_226 hl [.int (nI (left - 1))] [.ref (ad 0)] 1 (m2_atN g hM_264 hfi (pl := left - 1) (by omega)) hf_227 rfl (lw_V q1632 q1634 qs51 q79 q1635) ⟨rfl, by decide +kernel, by decide +kernel, by decide +kernel⟩ ⟨Nat.le_of_ble_eq_true rfl, Nat.le_of_ble_eq_true rfl⟩ rfl rfl (Nat.le_of_ble_eq_true rfl) dX2_yearGoes_86 (Nat.le_of_ble_eq_true rfl) (Nat.le_of_ble_eq_true rfl)) hI_226 (fun H_266 L_267 hI_265 => ?_)
              refine xk_top (y := tl_oI (tl_at (f) (left - 1))) rfl ?_
              refine xk_top (y := nI (tl_atN f (left - 1))) (by rw [hb2.1]; rfl) ?_
              refine xk_ri0 (xk_cS B hI_265 hl [.int (nI (tl_atN f (left - 1)))] [.ref (ad 0)] 1 (m2_of g (tl_atN f (left - 1))) (lw_S q1524 q1525 q79 q1526) ⟨by decide +kernel, by decide +kernel, by decide +kernel⟩ ⟨Nat.le_of_ble_eq_true rfl, Nat.le_of_ble_eq_true rfl⟩ rfl rfl (Nat.le_of_ble_eq_true rfl) dX2_yearGoes_89 (Nat.le_of_ble_eq_true rfl) (Nat.le_of_ble_eq_true rfl)) hI_265 (fun H_269 L_270 hI_268 => ?_)
              refine xk_top (y := nI (14 + 7 * (tl_atN f (left - 1)))) rfl ?_
              refine lv_iconst (v := nI 3) hx hb dX2_yearGoes_92 (by decide) ?_
              refine lv_iadd hx hb dX2_yearGoes_93 (xk_top (nI_add _ _) ?_)
              refine lv_iconst (v := nI 0) hx hb dX2_yearGoes_94 (by decide) ?_
              refine xk_iast B hI_268 hfl0_68 (by omega) (by decide) dX2_yearGoes_95 (fun X_271 H_275 L_276 hf_273 hn_272 hI_274 => ?_)
              have hfr_277 := xk_fr.put hfrl_68 hfl0_68 hn_272
              refine lv_iinc (v := nI (left - 1)) (lv' := [(3, .int (nI (left - 1))), (0, .ref o), (1, .int (nI 1)), (2, .int (nI (tl_liv (A 0) ((A 0) 0))))]) hx hb dX2_yearGoes_96 hl (k := 3) rfl (xk_dec (by omega)) (by decide) rfl (fun ls hl => ?_)
              refine lv_goto (tgt := 68) hx hb dX2_yearGoes_99 (by decide) ?_
              exact ih_68 (left - 1) (va_up f ((14 + 7 * (tl_atN f (left - 1))) + 3) 0) X_271 _ _ (hres.trans (tl_cut_s (by omega))) (tl_inv_die hfi hb2.2.1) (by have := tl_liv_die1 hb2.2.1 hb2.2.2; rw [show va_up f (14 + 7 * tl_atN f (left - 1) + 3) 0 0 = f 0 from tl_un (by omega)]; show _ = tl_liv (tl_dieM f (tl_atN f (left - 1))) (f 0); omega) ((tl_dieM_ne (by omega)).trans h5) ((tl_dieM_ne (by omega)).trans h1) (by omega) hf_273 (fun b z0 => ((hn_272 b z0).trans (hne_68 b z0))) hfr_277 hI_274 ls (lv_sub hl [1, 2, 3, 0] rfl)
        exact hloop_68 ((tl_liv (tl_breed (tl_draw (A 0)) (tl_atN (A 0) 0) (tl_atN (A 0) 1) ((tl_seed (A 0)) % 9)) ((tl_breed (tl_draw (A 0)) (tl_atN (A 0) 0) (tl_atN (A 0) 1) ((tl_seed (A 0)) % 9)) 0)) + 1) (tl_liv (tl_breed (tl_draw (A 0)) (tl_atN (A 0) 0) (tl_atN (A 0) 1) ((tl_seed (A 0)) % 9)) ((tl_breed (tl_draw (A 0)) (tl_atN (A 0) 0) (tl_atN (A 0) 1) ((tl_seed (A 0)) % 9)) 0)) (tl_breed (tl_draw (A 0)) (tl_atN (A 0) 0) (tl_atN (A 0) 1) ((tl_seed (A 0)) % 9)) X_204 _ _ (by unfold tl_yr2; rw [hF]) hFi (by rfl) hF5 hF1 (Nat.lt_succ_self _) hf_209 (fun _ _ => rfl) hfr_219 hI_221 ls (lv_sub hl [5, 1, 4, 0] rfl)
set_option maxHeartbeats 4000000 in
theorem m2_yearsGo (g : xk_G) {X : xk_H} {o : Nat} {ad : Nat → Nat} {A : Nat → Nat → Nat} {S : Nat → Nat} (hM : tm_Ok g X o ad A S) (hk : tl_inv (A 0)) {n9 : Nat} (hn9 : n9 < 2147483648) : xk_C g yX2_yearsGo (ws_ yX2_yearsGo cX2_yearsGo 4 (some .int)) ({ frames := 4, cells := 0, slots := 0, locals := 97 } : Room) [.ref o, .int (nI n9)] X (xk_Qi (nI (tl_yrn (A 0) n9)) (fun X1 => tm_Ok g X1 o ad (va_up A 0 (tl_yrs (A 0) n9)) S ∧ xk_fr o X X1)) := by
  refine xk_ofW (by decide +kernel) (Nat.le_of_ble_eq_true rfl) (fun p e s m args below meth c B hr hname hargs hI ls hl => ?_)
  have B : xk_B g p s m args meth c RX2 cX2_yearsGo 4 := B
  have hl : lv_has ls 4 [(0, .ref o), (1, .int (nI n9))] := hl
  have hx := B.1
  have hb := B.2.1
  have hM0 := hM
  obtain ⟨hO, hA0, hA1, hA2, hA3, hA4, hA5, hA6, hA7, hA8, hA9⟩ := hM
  have hk0 := hk
  obtain ⟨k0, kb, kw, kl, ks, kr1, kr2, kwt, kL⟩ := hk
  have hfr : xk_fr o X X := xk_fr.rf
  refine lv_iconst (v := nI 0) hx hb dX2_yearsGo_0 (by decide) ?_
  refine lv_istore_n (lv' := [(2, .int (nI 0)), (0, .ref o), (1, .int (nI n9))]) hx hb dX2_yearsGo_1 rfl hl (by decide) rfl (fun ls hl => ?_)
  refine lv_iconst (v := nI 0) hx hb dX2_yearsGo_2 (by decide) ?_
  refine lv_istore_n (lv' := [(3, .int (nI 0)), (2, .int (nI 0)), (0, .ref o), (1, .int (nI n9))]) hx hb dX2_yearsGo_3 rfl hl (by decide) rfl (fun ls hl => ?_)
  have hloop_4 : ∀ (n_4 : Nat) (k : Nat) (c9 : Nat) (Xl_4 : xk_H) (H_1 : Heap) (L_2 : List Loc), (k ≤ n9) → (c9 = tl_yrn (A 0) k) → n9 - k < n_4 → (tm_Ok g Xl_4 o ad (va_up A 0 (tl_yrs (A 0) k)) S) → (xk_fr o X Xl_4) → xk_I g s H_1 Xl_4 L_2 → ∀ ls : Array Slot, lv_has ls 4 [(0, .ref o), (1, .int (nI n9)), (2, .int (nI c9)), (3, .int (nI k))] → W p (xk_l g) e (({ frames := 4, cells := 0, slots := 0, locals := 97 } : Room)) s m args below meth c H_1 L_2 0 0 (MQ below (xk_Q g (xk_Qi (nI (tl_yrn (A 0) n9)) (fun X1 => tm_Ok g X1 o ad (va_up A 0 (tl_yrs (A 0) n9)) S ∧ xk_fr o X X1))) args s (0) (0) (xk_A g)) (F0 m 4 ls []) := by
    intro n_4
    induction n_4 with
    | zero => intros; omega
    | succ n_4 ih_4 =>
      intro k c9 Xl_4 H_1 L_2 hk1 hc1 hm_4  hMl_4 hfrl_4 hI_3 ls hl
      obtain ⟨hf_4, hf_5, hf_6, hf_7, hf_8, hf_9, hf_10, hf_11, hf_12, hf_13, hf_14⟩ := id hMl_4
      have hf_5 : Xl_4 (ad 0) = some ((o, 1), xk_iA g 0 294 (tl_yrs (A 0) k)) := hf_5
      have hf_6 : Xl_4 (ad 1) = some ((o, 2), xk_iA g 0 294 (A 1)) := hf_6
      have hf_7 : Xl_4 (ad 2) = some ((o, 3), xk_iA g 0 294 (A 2)) := hf_7
      have hf_8 : Xl_4 (ad 3) = some ((o, 4), xk_iA g 0 294 (A 3)) := hf_8
      have hf_9 : Xl_4 (ad 4) = some ((o, 5), xk_iA g 0 2352 (A 4)) := hf_9
      have hf_10 : Xl_4 (ad 5) = some ((o, 6), xk_iA g 0 70 (A 5)) := hf_10
      have hf_11 : Xl_4 (ad 6) = some ((o, 7), xk_iA g 2 40 (A 6)) := hf_11
      have hf_12 : Xl_4 (ad 7) = some ((o, 8), xk_iA g 2 40 (A 7)) := hf_12
      have hf_13 : Xl_4 (ad 8) = some ((o, 9), xk_iA g 0 60 (A 8)) := hf_13
      have hf_14 : Xl_4 (ad 9) = some ((o, 10), xk_iA g 0 284 (A 9)) := hf_14
      have hf_4 : Xl_4 o = some ((o, 0), .inr (0, [.ref (ad 0), .ref (ad 1), .ref (ad 2), .ref (ad 3), .int (nI (S 0)), .ref (ad 4), .int (nI (S 1)), .int (nI (S 2)), .int (nI (S 3)), .int (tm_it (S 4)), .ref (ad 5), .int (nI (S 5)), .ref (ad 6), .ref (ad 7), .ref (ad 8), .int (nI (S 6)), .ref (ad 9), .int (nI (S 7)), .int (nI (S 8)), .int (nI (S 9)), .int (nI (S 10))])) := hf_4
      refine lv_iload_n hx hb dX2_yearsGo_4 rfl (lv_at hl 3 rfl) ?_
      refine lv_iload_n hx hb dX2_yearsGo_5 rfl (lv_at hl 1 rfl) ?_
      refine xk_icmp_ge (tgt := 22) hx hb (by omega) (by omega) dX2_yearsGo_6 (by decide) (fun hc_6 => ?_) (fun hc_6 => ?_)
      · have hk2 : k = n9 := by omega
        subst hk2
        subst hc1
        refine lv_iload_n hx hb dX2_yearsGo_22 rfl (lv_at hl 2 rfl) ?_
        exact xk_reti B hI_3 hr rfl dX2_yearsGo_23 (Nat.le_of_ble_eq_true rfl) (Nat.le_of_ble_eq_true rfl) (⟨rfl, hMl_4, hfrl_4⟩)
      · have hki : tl_inv (tl_yrs (A 0) k) := tl_yrs_inv hk0 k
        refine lv_iload_n hx hb dX2_yearsGo_9 rfl (lv_at hl 2 rfl) ?_
        refine lv_aload_n hx hb dX2_yearsGo_10 rfl (lv_at hl 0 rfl) ?_
        refine xk_ri (xk_cV B hI_3 hl [] [.int (nI c9)] 0 (m2_yearGoes g hMl_4 hki ) hf_4 rfl (lw_V q1628 q1630 qs50 q79 q1631) ⟨rfl, by decide +kernel, by decide +kernel, by decide +kernel⟩ ⟨Nat.le_of_ble_eq_true rfl, Nat.le_of_ble_eq_true rfl⟩ rfl rfl (Nat.le_of_ble_eq_true rfl) dX2_yearsGo_11 (Nat.le_of_ble_eq_true rfl) (Nat.le_of_ble_eq_true rfl)) hI_3 (fun X_18 H_16 L_17 hq_19 hI_15 => ?_)
        refine xk_top (y := nI (if tl_yrb (tl_yrs (A 0) k) = true then 1 else 0)) rfl ?_
        obtain ⟨hM_20, hfr_21⟩ := hq_19
        obtain ⟨hf_22, hf_23, hf_24, hf_25, hf_26, hf_27, hf_28, hf_29, hf_30, hf_31, hf_32⟩ := id hM_20
        have hfr_33 := xk_fr.tr hfrl_4 hfr_21
        have hf_23 : X_18 (ad 0) = some ((o, 1), xk_iA g 0 294 (tl_yr (tl_yrs (A 0) k))) := hf_23
        have hf_24 : X_18 (ad 1) = some ((o, 2), xk_iA g 0 294 (A 1)) := hf_24
        have hf_25 : X_18 (ad 2) = some ((o, 3), xk_iA g 0 294 (A 2)) := hf_25
        have hf_26 : X_18 (ad 3) = some ((o, 4), xk_iA g 0 294 (A 3)) := hf_26
        have hf_27 : X_18 (ad 4) = some ((o, 5), xk_iA g 0 2352 (A 4)) := hf_27
        have hf_28 : X_18 (ad 5) = some ((o, 6), xk_iA g 0 70 (A 5)) := hf_28
        have hf_29 : X_18 (ad 6) = some ((o, 7), xk_iA g 2 40 (A 6)) := hf_29
        have hf_30 : X_18 (ad 7) = some ((o, 8), xk_iA g 2 40 (A 7)) := hf_30
        have hf_31 : X_18 (ad 8) = some ((o, 9), xk_iA g 0 60 (A 8)) := hf_31
        have hf_32 : X_18 (ad 9) = some ((o, 10), xk_iA g 0 284 (A 9)) := hf_32
        have hf_22 : X_18 o = some ((o, 0), .inr (0, [.ref (ad 0), .ref (ad 1), .ref (ad 2), .ref (ad 3), .int (nI (S 0)), .ref (ad 4), .int (nI (S 1)), .int (nI (S 2)), .int (nI (S 3)), .int (tm_it (S 4)), .ref (ad 5), .int (nI (S 5)), .ref (ad 6), .ref (ad 7), .ref (ad 8), .int (nI (S 6)), .ref (ad 9), .int (nI (S 7)), .int (nI (S 8)), .int (nI (S 9)), .int (nI (S 10))])) := hf_22
        refine lv_iadd hx hb dX2_yearsGo_14 (xk_top (nI_add _ _) ?_)
        refine lv_istore_n (lv' := [(2, .int (nI (c9 + (if tl_yrb (tl_yrs (A 0) k) = true then 1 else 0)))), (0, .ref o), (1, .int (nI n9)), (3, .int (nI k))]) hx hb dX2_yearsGo_15 rfl hl (by decide) rfl (fun ls hl => ?_)
        refine lv_iinc (v := nI (k + 1)) (lv' := [(3, .int (nI (k + 1))), (2, .int (nI (c9 + (if tl_yrb (tl_yrs (A 0) k) = true then 1 else 0)))), (0, .ref o), (1, .int (nI n9))]) hx hb dX2_yearsGo_16 hl (k := 3) rfl (xk_inc k) (by decide) rfl (fun ls hl => ?_)
        refine lv_goto (tgt := 4) hx hb dX2_yearsGo_19 (by decide) ?_
        have hM_34 : tm_Ok g X_18 o ad (va_up A 0 (tl_yr (tl_yrs (A 0) k))) S := ⟨hf_22, hf_23, hf_24, hf_25, hf_26, hf_27, hf_28, hf_29, hf_30, hf_31, hf_32⟩
        exact ih_4 (k + 1) (c9 + (if tl_yrb (tl_yrs (A 0) k) = true then 1 else 0)) X_18 _ _ (by omega) (by rw [hc1]; rfl) (by omega)  hM_34 hfr_33 hI_15 ls (lv_sub hl [2, 3, 1, 0] rfl)
  exact hloop_4 (n9 - 0 + 1) 0 0 X _ _ (by omega) (by rfl) (Nat.lt_succ_self _)  hM0 hfr hI ls (lv_sub hl [2, 3, 1, 0] rfl)
set_option maxHeartbeats 4000000 in
theorem m2_yearsIt (g : xk_G) {X : xk_H} {o : Nat} {ad : Nat → Nat} {A : Nat → Nat → Nat} {S : Nat → Nat} (hM : tm_Ok g X o ad A S) (hk : tl_inv (A 0)) (x : Int32) : xk_C g yX2_yearsIt (ws_ yX2_yearsIt cX2_yearsIt 2 (some .int)) ({ frames := 5, cells := 0, slots := 0, locals := 120 } : Room) [.ref o, .int x] X (xk_Qi (tl_r (tl_years (A 0) x)) (fun X1 => tm_Ok g X1 o ad (va_up A 0 (tl_m (A 0) (tl_years (A 0) x))) (tl_S S (tl_years (A 0) x)) ∧ xk_fr o X X1)) := by
  refine xk_ofW (by decide +kernel) (Nat.le_of_ble_eq_true rfl) (fun p e s m args below meth c B hr hname hargs hI ls hl => ?_)
  have B : xk_B g p s m args meth c RX2 cX2_yearsIt 2 := B
  have hl : lv_has ls 2 [(0, .ref o), (1, .int x)] := hl
  have hx := B.1
  have hb := B.2.1
  have hM0 := hM
  obtain ⟨hO, hA0, hA1, hA2, hA3, hA4, hA5, hA6, hA7, hA8, hA9⟩ := hM
  have hk0 := hk
  obtain ⟨k0, kb, kw, kl, ks, kr1, kr2, kwt, kL⟩ := hk
  have hfr : xk_fr o X X := xk_fr.rf
  refine lv_iload_n hx hb dX2_yearsIt_0 rfl (lv_at hl 1 rfl) ?_
  refine lv_i2l hx hb dX2_yearsIt_1 rfl ?_
  refine lv_lconst (v := 1) hx hb dX2_yearsIt_2 (by decide) ?_
  refine lv_ldc2 hx hb B.ow (B.ts _ q1623) dX2_yearsIt_3 ?_
  refine xk_ri0 (xk_cS B hI hl [.long ((x).toInt64), .long (1 : Int64), .long (20 : Int64)] [] 3 (m2_in g (x := (x).toInt) (lo := 1) (hi := 20) (Int32.toInt_toInt64 _) (by decide) (by decide)) (lw_S q1509 q1510 q79 q1511) ⟨by decide +kernel, by decide +kernel, by decide +kernel⟩ ⟨Nat.le_of_ble_eq_true rfl, Nat.le_of_ble_eq_true rfl⟩ rfl rfl (Nat.le_of_ble_eq_true rfl) dX2_yearsIt_6 (Nat.le_of_ble_eq_true rfl) (Nat.le_of_ble_eq_true rfl)) hI (fun H_2 L_3 hI_1 => ?_)
  refine xk_top (y := xk_z (tl_rng x 1 20)) rfl ?_
  refine xk_if_eq_z (tgt := 20) hx hb dX2_yearsIt_9 (by decide) (fun hc_9 => ?_) (fun hc_9 => ?_)
  · refine lv_bipush (v := (-2)) hx hb dX2_yearsIt_20 (by decide) ?_
    exact xk_reti B hI_1 hr rfl dX2_yearsIt_22 (Nat.le_of_ble_eq_true rfl) (Nat.le_of_ble_eq_true rfl) ((by rw [show tl_years (A 0) x = tl_wr (-2) from if_neg (by rw [hc_9]; decide)]; exact ⟨rfl, hM0, hfr⟩))
  · obtain ⟨hx1, hx2, hx3, hx4⟩ := tl_rng_k hc_9 (by decide)
    refine lv_aload_n hx hb dX2_yearsIt_12 rfl (lv_at hl 0 rfl) ?_
    refine lv_iload_n hx hb dX2_yearsIt_13 rfl (lv_at hl 1 rfl) ?_
    refine xk_top hx1 ?_
    refine xk_ri (xk_cV B hI_1 hl [.int (nI (tl_n x))] [] 1 (m2_yearsGo g hM0 hk0 (n9 := tl_n x) (by omega)) hO rfl (lw_V q1624 q1626 qs49 q79 q1627) ⟨rfl, by decide +kernel, by decide +kernel, by decide +kernel⟩ ⟨Nat.le_of_ble_eq_true rfl, Nat.le_of_ble_eq_true rfl⟩ rfl rfl (Nat.le_of_ble_eq_true rfl) dX2_yearsIt_14 (Nat.le_of_ble_eq_true rfl) (Nat.le_of_ble_eq_true rfl)) hI_1 (fun X_7 H_5 L_6 hq_8 hI_4 => ?_)
    refine xk_top (y := nI (tl_yrn (A 0) (tl_n x))) rfl ?_
    obtain ⟨hM_9, hfr_10⟩ := hq_8
    obtain ⟨hf_11, hf_12, hf_13, hf_14, hf_15, hf_16, hf_17, hf_18, hf_19, hf_20, hf_21⟩ := id hM_9
    have hfr_22 := xk_fr.tr hfr hfr_10
    have hf_12 : X_7 (ad 0) = some ((o, 1), xk_iA g 0 294 (tl_yrs (A 0) (tl_n x))) := hf_12
    have hf_13 : X_7 (ad 1) = some ((o, 2), xk_iA g 0 294 (A 1)) := hf_13
    have hf_14 : X_7 (ad 2) = some ((o, 3), xk_iA g 0 294 (A 2)) := hf_14
    have hf_15 : X_7 (ad 3) = some ((o, 4), xk_iA g 0 294 (A 3)) := hf_15
    have hf_16 : X_7 (ad 4) = some ((o, 5), xk_iA g 0 2352 (A 4)) := hf_16
    have hf_17 : X_7 (ad 5) = some ((o, 6), xk_iA g 0 70 (A 5)) := hf_17
    have hf_18 : X_7 (ad 6) = some ((o, 7), xk_iA g 2 40 (A 6)) := hf_18
    have hf_19 : X_7 (ad 7) = some ((o, 8), xk_iA g 2 40 (A 7)) := hf_19
    have hf_20 : X_7 (ad 8) = some ((o, 9), xk_iA g 0 60 (A 8)) := hf_20
    have hf_21 : X_7 (ad 9) = some ((o, 10), xk_iA g 0 284 (A 9)) := hf_21
    have hf_11 : X_7 o = some ((o, 0), .inr (0, [.ref (ad 0), .ref (ad 1), .ref (ad 2), .ref (ad 3), .int (nI (S 0)), .ref (ad 4), .int (nI (S 1)), .int (nI (S 2)), .int (nI (S 3)), .int (tm_it (S 4)), .ref (ad 5), .int (nI (S 5)), .ref (ad 6), .ref (ad 7), .ref (ad 8), .int (nI (S 6)), .ref (ad 9), .int (nI (S 7)), .int (nI (S 8)), .int (nI (S 9)), .int (nI (S 10))])) := hf_11
    refine lv_goto (tgt := 22) hx hb dX2_yearsIt_17 (by decide) ?_
    have hM_23 : tm_Ok g X_7 o ad (va_up A 0 (tl_yrs (A 0) (tl_n x))) S := ⟨hf_11, hf_12, hf_13, hf_14, hf_15, hf_16, hf_17, hf_18, hf_19, hf_20, hf_21⟩
    exact xk_reti B hI_4 hr rfl dX2_yearsIt_22 (Nat.le_of_ble_eq_true rfl) (Nat.le_of_ble_eq_true rfl) ((by rw [show tl_years (A 0) x = tl_ok (tl_yrn (A 0) (tl_n x)) (tl_yrs (A 0) (tl_n x)) from if_pos hc_9]; exact ⟨rfl, hM_23, hfr_22⟩))
set_option maxHeartbeats 4000000 in
theorem m2_years (g : xk_G) {X : xk_H} {o : Nat} {ad : Nat → Nat} {A : Nat → Nat → Nat} {S : Nat → Nat} (hM : tm_Ok g X o ad A S) (hk : tl_inv (A 0)) (x : Int32) (hS1 : S 1 ≤ 8) : xk_C g yX2_years (ws_ yX2_years cX2_years 2 (some .int)) ({ frames := 6, cells := 0, slots := 0, locals := 141 } : Room) [.ref o, .int x] X (xk_Qi (tl_r (tl_years (A 0) x)) (fun X1 => tm_Ok g X1 o ad (tl_fA A S (tl_years (A 0) x)) (tl_fS S (tl_years (A 0) x)) ∧ xk_fr o X X1)) := by
  refine xk_ofW (by decide +kernel) (Nat.le_of_ble_eq_true rfl) (fun p e s m args below meth c B hr hname hargs hI ls hl => ?_)
  have B : xk_B g p s m args meth c RX2 cX2_years 2 := B
  have hl : lv_has ls 2 [(0, .ref o), (1, .int x)] := hl
  have hx := B.1
  have hb := B.2.1
  have hM0 := hM
  obtain ⟨hO, hA0, hA1, hA2, hA3, hA4, hA5, hA6, hA7, hA8, hA9⟩ := hM
  have hk0 := hk
  obtain ⟨k0, kb, kw, kl, ks, kr1, kr2, kwt, kL⟩ := hk
  have hfr : xk_fr o X X := xk_fr.rf
  refine lv_aload_n hx hb dX2_years_0 rfl (lv_at hl 0 rfl) ?_
  refine xk_rv (xk_cV B hI hl [] [] 0 (m2_begins g hM0 ) hO rfl (lw_V q1500 q1502 qs29 q79 q1503) ⟨rfl, by decide +kernel, by decide +kernel, by decide +kernel⟩ ⟨Nat.le_of_ble_eq_true rfl, Nat.le_of_ble_eq_true rfl⟩ rfl rfl (Nat.le_of_ble_eq_true rfl) dX2_years_1 (Nat.le_of_ble_eq_true rfl) (Nat.le_of_ble_eq_true rfl)) hI (fun X_4 H_2 L_3 hq_5 hI_1 => ?_)
  obtain ⟨hM_6, hfr_7⟩ := hq_5
  obtain ⟨hf_8, hf_9, hf_10, hf_11, hf_12, hf_13, hf_14, hf_15, hf_16, hf_17, hf_18⟩ := id hM_6
  have hfr_19 := xk_fr.tr hfr hfr_7
  have hf_9 : X_4 (ad 0) = some ((o, 1), xk_iA g 0 294 (A 0)) := hf_9
  have hf_10 : X_4 (ad 1) = some ((o, 2), xk_iA g 0 294 (tl_cp (A 0) (A 1) 294)) := hf_10
  have hf_11 : X_4 (ad 2) = some ((o, 3), xk_iA g 0 294 (A 2)) := hf_11
  have hf_12 : X_4 (ad 3) = some ((o, 4), xk_iA g 0 294 (A 3)) := hf_12
  have hf_13 : X_4 (ad 4) = some ((o, 5), xk_iA g 0 2352 (A 4)) := hf_13
  have hf_14 : X_4 (ad 5) = some ((o, 6), xk_iA g 0 70 (A 5)) := hf_14
  have hf_15 : X_4 (ad 6) = some ((o, 7), xk_iA g 2 40 (A 6)) := hf_15
  have hf_16 : X_4 (ad 7) = some ((o, 8), xk_iA g 2 40 (A 7)) := hf_16
  have hf_17 : X_4 (ad 8) = some ((o, 9), xk_iA g 0 60 (A 8)) := hf_17
  have hf_18 : X_4 (ad 9) = some ((o, 10), xk_iA g 0 284 (A 9)) := hf_18
  have hf_8 : X_4 o = some ((o, 0), .inr (0, [.ref (ad 0), .ref (ad 1), .ref (ad 2), .ref (ad 3), .int (nI (S 0)), .ref (ad 4), .int (nI (S 1)), .int (nI (S 2)), .int (nI (S 3)), .int (tm_it (S 4)), .ref (ad 5), .int (nI (S 5)), .ref (ad 6), .ref (ad 7), .ref (ad 8), .int (nI (S 6)), .ref (ad 9), .int (nI (S 7)), .int (nI (S 8)), .int (nI (S 9)), .int (nI (S 10))])) := hf_8
  refine lv_aload_n hx hb dX2_years_4 rfl (lv_at hl 0 rfl) ?_
  refine lv_aload_n hx hb dX2_years_5 rfl (lv_at hl 0 rfl) ?_
  refine lv_iload_n hx hb dX2_years_6 rfl (lv_at hl 1 rfl) ?_
  have hM_20 : tm_Ok g X_4 o ad (va_up A 1 (tl_cp (A 0) (A 1) 294)) S := ⟨hf_8, hf_9, hf_10, hf_11, hf_12, hf_13, hf_14, hf_15, hf_16, hf_17, hf_18⟩
  refine xk_ri (xk_cV B hI_1 hl [.int x] [.ref o] 1 (m2_yearsIt g hM_20 hk0 x) hf_8 rfl (lw_V q1619 q1621 qs48 q79 q1622) ⟨rfl, by decide +kernel, by decide +kernel, by decide +kernel⟩ ⟨Nat.le_of_ble_eq_true rfl, Nat.le_of_ble_eq_true rfl⟩ rfl rfl (Nat.le_of_ble_eq_true rfl) dX2_years_7 (Nat.le_of_ble_eq_true rfl) (Nat.le_of_ble_eq_true rfl)) hI_1 (fun X_24 H_22 L_23 hq_25 hI_21 => ?_)
  refine xk_top (y := tl_r (tl_years (A 0) x)) rfl ?_
  obtain ⟨hM_26, hfr_27⟩ := hq_25
  obtain ⟨hf_28, hf_29, hf_30, hf_31, hf_32, hf_33, hf_34, hf_35, hf_36, hf_37, hf_38⟩ := id hM_26
  have hfr_39 := xk_fr.tr hfr_19 hfr_27
  have hf_29 : X_24 (ad 0) = some ((o, 1), xk_iA g 0 294 (tl_m (A 0) (tl_years (A 0) x))) := hf_29
  have hf_30 : X_24 (ad 1) = some ((o, 2), xk_iA g 0 294 (tl_cp (A 0) (A 1) 294)) := hf_30
  have hf_31 : X_24 (ad 2) = some ((o, 3), xk_iA g 0 294 (A 2)) := hf_31
  have hf_32 : X_24 (ad 3) = some ((o, 4), xk_iA g 0 294 (A 3)) := hf_32
  have hf_33 : X_24 (ad 4) = some ((o, 5), xk_iA g 0 2352 (A 4)) := hf_33
  have hf_34 : X_24 (ad 5) = some ((o, 6), xk_iA g 0 70 (A 5)) := hf_34
  have hf_35 : X_24 (ad 6) = some ((o, 7), xk_iA g 2 40 (A 6)) := hf_35
  have hf_36 : X_24 (ad 7) = some ((o, 8), xk_iA g 2 40 (A 7)) := hf_36
  have hf_37 : X_24 (ad 8) = some ((o, 9), xk_iA g 0 60 (A 8)) := hf_37
  have hf_38 : X_24 (ad 9) = some ((o, 10), xk_iA g 0 284 (A 9)) := hf_38
  have hf_28 : X_24 o = some ((o, 0), .inr (0, [.ref (ad 0), .ref (ad 1), .ref (ad 2), .ref (ad 3), .int (nI (tl_S S (tl_years (A 0) x) 0)), .ref (ad 4), .int (nI (tl_S S (tl_years (A 0) x) 1)), .int (nI (tl_S S (tl_years (A 0) x) 2)), .int (nI (tl_S S (tl_years (A 0) x) 3)), .int (tm_it (tl_S S (tl_years (A 0) x) 4)), .ref (ad 5), .int (nI (tl_S S (tl_years (A 0) x) 5)), .ref (ad 6), .ref (ad 7), .ref (ad 8), .int (nI (tl_S S (tl_years (A 0) x) 6)), .ref (ad 9), .int (nI (tl_S S (tl_years (A 0) x) 7)), .int (nI (tl_S S (tl_years (A 0) x) 8)), .int (nI (tl_S S (tl_years (A 0) x) 9)), .int (nI (tl_S S (tl_years (A 0) x) 10))])) := hf_28
  have hM_40 : tm_Ok g X_24 o ad (va_up (va_up A 0 (tl_m (A 0) (tl_years (A 0) x))) 1 (tl_cp (A 0) (A 1) 294)) (tl_S S (tl_years (A 0) x)) := ⟨hf_28, hf_29, hf_30, hf_31, hf_32, hf_33, hf_34, hf_35, hf_36, hf_37, hf_38⟩
  refine xk_ri (xk_cV B hI_21 hl [.int (tl_r (tl_years (A 0) x))] [] 1 (m2_changed g hM_40 (tl_years (A 0) x) (tl_years_okc (A 0) x) (Nat.le_trans (Nat.le_of_eq (tl_S1 _ _)) hS1)) hf_28 rfl (lw_V q1531 q1533 qs35 q79 q1534) ⟨rfl, by decide +kernel, by decide +kernel, by decide +kernel⟩ ⟨Nat.le_of_ble_eq_true rfl, Nat.le_of_ble_eq_true rfl⟩ rfl rfl (Nat.le_of_ble_eq_true rfl) dX2_years_10 (Nat.le_of_ble_eq_true rfl) (Nat.le_of_ble_eq_true rfl)) hI_21 (fun X_44 H_42 L_43 hq_45 hI_41 => ?_)
  refine xk_top (y := tl_r (tl_years (A 0) x)) rfl ?_
  obtain ⟨hM_46, hfr_47⟩ := hq_45
  obtain ⟨hf_48, hf_49, hf_50, hf_51, hf_52, hf_53, hf_54, hf_55, hf_56, hf_57, hf_58⟩ := id hM_46
  have hfr_59 := xk_fr.tr hfr_39 hfr_47
  have hf_49 : X_44 (ad 0) = some ((o, 1), xk_iA g 0 294 (tl_m (A 0) (tl_years (A 0) x))) := hf_49
  have hf_50 : X_44 (ad 1) = some ((o, 2), xk_iA g 0 294 (tl_cp (A 0) (A 1) 294)) := hf_50
  have hf_51 : X_44 (ad 2) = some ((o, 3), xk_iA g 0 294 (A 2)) := hf_51
  have hf_52 : X_44 (ad 3) = some ((o, 4), xk_iA g 0 294 (A 3)) := hf_52
  have hf_53 : X_44 (ad 4) = some ((o, 5), xk_iA g 0 2352 (tl_pst (tl_is (tl_years (A 0) x)) (tl_S S (tl_years (A 0) x) 1) (A 4) (tl_cp (A 0) (A 1) 294))) := hf_53
  have hf_54 : X_44 (ad 5) = some ((o, 6), xk_iA g 0 70 (A 5)) := hf_54
  have hf_55 : X_44 (ad 6) = some ((o, 7), xk_iA g 2 40 (A 6)) := hf_55
  have hf_56 : X_44 (ad 7) = some ((o, 8), xk_iA g 2 40 (A 7)) := hf_56
  have hf_57 : X_44 (ad 8) = some ((o, 9), xk_iA g 0 60 (A 8)) := hf_57
  have hf_58 : X_44 (ad 9) = some ((o, 10), xk_iA g 0 284 (A 9)) := hf_58
  have hf_48 : X_44 o = some ((o, 0), .inr (0, [.ref (ad 0), .ref (ad 1), .ref (ad 2), .ref (ad 3), .int (nI (tl_S S (tl_years (A 0) x) 0)), .ref (ad 4), .int (nI (tl_chn (tl_is (tl_years (A 0) x)) (tl_S S (tl_years (A 0) x) 1))), .int (nI (tl_S S (tl_years (A 0) x) 2)), .int (nI (tl_S S (tl_years (A 0) x) 3)), .int (tm_it (tl_S S (tl_years (A 0) x) 4)), .ref (ad 5), .int (nI (tl_S S (tl_years (A 0) x) 5)), .ref (ad 6), .ref (ad 7), .ref (ad 8), .int (nI (tl_S S (tl_years (A 0) x) 6)), .ref (ad 9), .int (nI (tl_S S (tl_years (A 0) x) 7)), .int (nI (tl_S S (tl_years (A 0) x) 8)), .int (nI (tl_S S (tl_years (A 0) x) 9)), .int (nI (tl_S S (tl_years (A 0) x) 10))])) := hf_48
  have hM_60 : tm_Ok g X_44 o ad (va_up (va_up (va_up A 0 (tl_m (A 0) (tl_years (A 0) x))) 1 (tl_cp (A 0) (A 1) 294)) 4 (tl_pst (tl_is (tl_years (A 0) x)) (tl_S S (tl_years (A 0) x) 1) (A 4) (tl_cp (A 0) (A 1) 294))) (va_up (tl_S S (tl_years (A 0) x)) 1 (tl_chn (tl_is (tl_years (A 0) x)) (tl_S S (tl_years (A 0) x) 1))) := ⟨hf_48, hf_49, hf_50, hf_51, hf_52, hf_53, hf_54, hf_55, hf_56, hf_57, hf_58⟩
  exact xk_reti B hI_41 hr rfl dX2_years_13 (Nat.le_of_ble_eq_true rfl) (Nat.le_of_ble_eq_true rfl) (⟨rfl, hM_60, hfr_59⟩)
