/-! the model: walks, printed by tools/model.py -/
set_option maxRecDepth 100000
set_option maxHeartbeats 4000000 in
theorem m2_areKin (g : xk_G) {X : xk_H} {o : Nat} {ad : Nat → Nat} {A : Nat → Nat → Nat} {S : Nat → Nat} (hM : tm_Ok g X o ad A S) (hk : tl_inv (A 0)) (x y : Int32) : xk_C g yX2_areKin (ws_ yX2_areKin cX2_areKin 5 (some .int)) ({ frames := 2, cells := 0, slots := 0, locals := 46 } : Room) [.ref o, .int x, .int y] X (xk_Qi (tl_kin (A 0) x y) (fun X1 => ∃ f6 f7 : Nat → Nat, tm_Ok g X1 o ad (va_up (va_up A 6 f6) 7 f7) S ∧ xk_fr o X X1)) := by
  refine xk_ofW (by decide +kernel) (Nat.le_of_ble_eq_true rfl) (fun p e s m args below meth c B hr hname hargs hI ls hl => ?_)
  have B : xk_B g p s m args meth c RX2 cX2_areKin 5 := B
  have hl : lv_has ls 5 [(0, .ref o), (1, .int x), (2, .int y)] := hl
  have hx := B.1
  have hb := B.2.1
  have hM0 := hM
  obtain ⟨hO, hA0, hA1, hA2, hA3, hA4, hA5, hA6, hA7, hA8, hA9⟩ := hM
  have hk0 := hk
  obtain ⟨k0, kb, kw, kl, ks, kr1, kr2, kwt, kL⟩ := hk
  have hfr : xk_fr o X X := xk_fr.rf
  refine lv_aload_n hx hb dX2_areKin_0 rfl (lv_at hl 0 rfl) ?_
  refine lv_iload_n hx hb dX2_areKin_1 rfl (lv_at hl 1 rfl) ?_
  refine xk_ri0 (xk_cV B hI hl [.int x] [] 1 (m2_isBulb g hM0 hk0 x) hO rfl (lw_V q1543 q1545 qs37 q79 q1546) ⟨rfl, by decide +kernel, by decide +kernel, by decide +kernel⟩ ⟨Nat.le_of_ble_eq_true rfl, Nat.le_of_ble_eq_true rfl⟩ rfl rfl (Nat.le_of_ble_eq_true rfl) dX2_areKin_2 (Nat.le_of_ble_eq_true rfl) (Nat.le_of_ble_eq_true rfl)) hI (fun H_2 L_3 hI_1 => ?_)
  refine xk_top (y := xk_z (tl_isb (A 0) (x))) rfl ?_
  refine xk_if_eq_z (tgt := 16) hx hb dX2_areKin_5 (by decide) (fun hc_5 => ?_) (fun hc_5 => ?_)
  · refine lv_iconst (v := (-1)) hx hb dX2_areKin_16 (by decide) ?_
    have hM_4 : tm_Ok g X o ad (va_up (va_up A 6 (A 6)) 7 (A 7)) S := ⟨hO, hA0, hA1, hA2, hA3, hA4, hA5, hA6, hA7, hA8, hA9⟩
    exact xk_reti B hI_1 hr rfl dX2_areKin_17 (Nat.le_of_ble_eq_true rfl) (Nat.le_of_ble_eq_true rfl) (⟨(by unfold tl_kin; rw [if_neg (by rw [hc_5]; decide)]), (A 6), (A 7), hM_4, hfr⟩)
  · refine lv_aload_n hx hb dX2_areKin_8 rfl (lv_at hl 0 rfl) ?_
    refine lv_iload_n hx hb dX2_areKin_9 rfl (lv_at hl 2 rfl) ?_
    refine xk_ri0 (xk_cV B hI_1 hl [.int y] [] 1 (m2_isBulb g hM0 hk0 y) hO rfl (lw_V q1543 q1545 qs37 q79 q1546) ⟨rfl, by decide +kernel, by decide +kernel, by decide +kernel⟩ ⟨Nat.le_of_ble_eq_true rfl, Nat.le_of_ble_eq_true rfl⟩ rfl rfl (Nat.le_of_ble_eq_true rfl) dX2_areKin_10 (Nat.le_of_ble_eq_true rfl) (Nat.le_of_ble_eq_true rfl)) hI_1 (fun H_6 L_7 hI_5 => ?_)
    refine xk_top (y := xk_z (tl_isb (A 0) (y))) rfl ?_
    refine xk_if_ne_z (tgt := 18) hx hb dX2_areKin_13 (by decide) (fun hc_13 => ?_) (fun hc_13 => ?_)
    · obtain ⟨hx1, hx2⟩ := tl_isb_k hc_5
      obtain ⟨hy1, hy2⟩ := tl_isb_k hc_13
      refine lv_aload_n hx hb dX2_areKin_18 rfl (lv_at hl 0 rfl) ?_
      refine lv_iload_n hx hb dX2_areKin_19 rfl (lv_at hl 1 rfl) ?_
      refine xk_top hx1 ?_
      refine xk_rv (xk_cV B hI_5 hl [.int (nI (tl_n x))] [] 1 (m2_marksUp g hM0 hk0 (b := tl_n x) (show tl_n x < A 0 0 from by omega)) hO rfl (lw_V q1655 q1657 qs54 q79 q1658) ⟨rfl, by decide +kernel, by decide +kernel, by decide +kernel⟩ ⟨Nat.le_of_ble_eq_true rfl, Nat.le_of_ble_eq_true rfl⟩ rfl rfl (Nat.le_of_ble_eq_true rfl) dX2_areKin_20 (Nat.le_of_ble_eq_true rfl) (Nat.le_of_ble_eq_true rfl)) hI_5 (fun X_11 H_9 L_10 hq_12 hI_8 => ?_)
      obtain ⟨hM_13, hfr_14⟩ := hq_12
      obtain ⟨hf_15, hf_16, hf_17, hf_18, hf_19, hf_20, hf_21, hf_22, hf_23, hf_24, hf_25⟩ := id hM_13
      have hfr_26 := xk_fr.tr hfr hfr_14
      have hf_16 : X_11 (ad 0) = some ((o, 1), xk_iA g 0 294 (A 0)) := hf_16
      have hf_17 : X_11 (ad 1) = some ((o, 2), xk_iA g 0 294 (A 1)) := hf_17
      have hf_18 : X_11 (ad 2) = some ((o, 3), xk_iA g 0 294 (A 2)) := hf_18
      have hf_19 : X_11 (ad 3) = some ((o, 4), xk_iA g 0 294 (A 3)) := hf_19
      have hf_20 : X_11 (ad 4) = some ((o, 5), xk_iA g 0 2352 (A 4)) := hf_20
      have hf_21 : X_11 (ad 5) = some ((o, 6), xk_iA g 0 70 (A 5)) := hf_21
      have hf_22 : X_11 (ad 6) = some ((o, 7), xk_iA g 2 40 (tl_mu (A 0) (A 6) (tl_n x))) := hf_22
      have hf_23 : X_11 (ad 7) = some ((o, 8), xk_iA g 2 40 (A 7)) := hf_23
      have hf_24 : X_11 (ad 8) = some ((o, 9), xk_iA g 0 60 (A 8)) := hf_24
      have hf_25 : X_11 (ad 9) = some ((o, 10), xk_iA g 0 284 (A 9)) := hf_25
      have hf_15 : X_11 o = some ((o, 0), .inr (0, [.ref (ad 0), .ref (ad 1), .ref (ad 2), .ref (ad 3), .int (nI (S 0)), .ref (ad 4), .int (nI (S 1)), .int (nI (S 2)), .int (nI (S 3)), .int (tm_it (S 4)), .ref (ad 5), .int (nI (S 5)), .ref (ad 6), .ref (ad 7), .ref (ad 8), .int (nI (S 6)), .ref (ad 9), .int (nI (S 7)), .int (nI (S 8)), .int (nI (S 9)), .int (nI (S 10))])) := hf_15
      refine lv_iconst (v := nI 0) hx hb dX2_areKin_23 (by decide) ?_
      refine lv_istore_n (lv' := [(3, .int (nI 0)), (0, .ref o), (1, .int x), (2, .int y)]) hx hb dX2_areKin_24 rfl hl (by decide) rfl (fun ls hl => ?_)
      have hloop_25 : ∀ (n_25 : Nat) (k : Nat) (f : Nat → Nat) (Xl_25 : xk_H) (H_27 : Heap) (L_28 : List Loc), (k ≤ 40) → (f = tl_cp (tl_mu (A 0) (A 6) (tl_n x)) (A 7) k) → 40 - k < n_25 → Xl_25 (ad 7) = some ((o, 8), xk_iA g 2 40 f) → (∀ b, b ≠ (ad 7) → Xl_25 b = X_11 b) → (xk_fr o X Xl_25) → xk_I g s H_27 Xl_25 L_28 → ∀ ls : Array Slot, lv_has ls 5 [(0, .ref o), (1, .int x), (2, .int y), (3, .int (nI k))] → W p (xk_l g) e (({ frames := 2, cells := 0, slots := 0, locals := 46 } : Room)) s m args below meth c H_27 L_28 0 0 (MQ below (xk_Q g (xk_Qi (tl_kin (A 0) x y) (fun X1 => ∃ f6 f7 : Nat → Nat, tm_Ok g X1 o ad (va_up (va_up A 6 f6) 7 f7) S ∧ xk_fr o X X1))) args s (0) (0) (xk_A g)) (F0 m 25 ls []) := by
        intro n_25
        induction n_25 with
        | zero => intros; omega
        | succ n_25 ih_25 =>
          intro k f Xl_25 H_27 L_28 hk1 hf1 hm_25 hfl0_25 hne_25 hfrl_25 hI_29 ls hl
          refine lv_iload_n hx hb dX2_areKin_25 rfl (lv_at hl 3 rfl) ?_
          refine lv_bipush (v := nI 40) hx hb dX2_areKin_26 (by decide) ?_
          refine xk_icmp_ge (tgt := 49) hx hb (by omega) (by omega) dX2_areKin_28 (by decide) (fun hc_28 => ?_) (fun hc_28 => ?_)
          · have hk2 : k = 40 := by omega
            subst hk2
            refine lv_aload_n hx hb dX2_areKin_49 rfl (lv_at hl 0 rfl) ?_
            refine lv_iload_n hx hb dX2_areKin_50 rfl (lv_at hl 2 rfl) ?_
            refine xk_top hy1 ?_
            have hf_30 := (hne_25 _ (xk_ne hf_23 hf_15 (xk_on1 (by decide)))).trans hf_15
            have hf_31 := (hne_25 _ (xk_ne hf_23 hf_16 (xk_on1 (by decide)))).trans hf_16
            have hf_32 := (hne_25 _ (xk_ne hf_23 hf_17 (xk_on1 (by decide)))).trans hf_17
            have hf_33 := (hne_25 _ (xk_ne hf_23 hf_18 (xk_on1 (by decide)))).trans hf_18
            have hf_34 := (hne_25 _ (xk_ne hf_23 hf_19 (xk_on1 (by decide)))).trans hf_19
            have hf_35 := (hne_25 _ (xk_ne hf_23 hf_20 (xk_on1 (by decide)))).trans hf_20
            have hf_36 := (hne_25 _ (xk_ne hf_23 hf_21 (xk_on1 (by decide)))).trans hf_21
            have hf_37 := (hne_25 _ (xk_ne hf_23 hf_22 (xk_on1 (by decide)))).trans hf_22
            have hf_38 := (hne_25 _ (xk_ne hf_23 hf_24 (xk_on1 (by decide)))).trans hf_24
            have hf_39 := (hne_25 _ (xk_ne hf_23 hf_25 (xk_on1 (by decide)))).trans hf_25
            have hM_40 : tm_Ok g Xl_25 o ad (va_up (va_up A 6 (tl_mu (A 0) (A 6) (tl_n x))) 7 f) S := ⟨hf_30, hf_31, hf_32, hf_33, hf_34, hf_35, hf_36, hf_37, hfl0_25, hf_38, hf_39⟩
            refine xk_rv (xk_cV B hI_29 hl [.int (nI (tl_n y))] [] 1 (m2_marksUp g hM_40 hk0 (b := tl_n y) (show tl_n y < A 0 0 from by omega)) hf_30 rfl (lw_V q1655 q1657 qs54 q79 q1658) ⟨rfl, by decide +kernel, by decide +kernel, by decide +kernel⟩ ⟨Nat.le_of_ble_eq_true rfl, Nat.le_of_ble_eq_true rfl⟩ rfl rfl (Nat.le_of_ble_eq_true rfl) dX2_areKin_51 (Nat.le_of_ble_eq_true rfl) (Nat.le_of_ble_eq_true rfl)) hI_29 (fun X_44 H_42 L_43 hq_45 hI_41 => ?_)
            obtain ⟨hM_46, hfr_47⟩ := hq_45
            obtain ⟨hf_48, hf_49, hf_50, hf_51, hf_52, hf_53, hf_54, hf_55, hf_56, hf_57, hf_58⟩ := id hM_46
            have hfr_59 := xk_fr.tr hfrl_25 hfr_47
            have hf_49 : X_44 (ad 0) = some ((o, 1), xk_iA g 0 294 (A 0)) := hf_49
            have hf_50 : X_44 (ad 1) = some ((o, 2), xk_iA g 0 294 (A 1)) := hf_50
            have hf_51 : X_44 (ad 2) = some ((o, 3), xk_iA g 0 294 (A 2)) := hf_51
            have hf_52 : X_44 (ad 3) = some ((o, 4), xk_iA g 0 294 (A 3)) := hf_52
            have hf_53 : X_44 (ad 4) = some ((o, 5), xk_iA g 0 2352 (A 4)) := hf_53
            have hf_54 : X_44 (ad 5) = some ((o, 6), xk_iA g 0 70 (A 5)) := hf_54
            have hf_55 : X_44 (ad 6) = some ((o, 7), xk_iA g 2 40 (tl_mu (A 0) (tl_mu (A 0) (A 6) (tl_n x)) (tl_n y))) := hf_55
            have hf_56 : X_44 (ad 7) = some ((o, 8), xk_iA g 2 40 f) := hf_56
            have hf_57 : X_44 (ad 8) = some ((o, 9), xk_iA g 0 60 (A 8)) := hf_57
            have hf_58 : X_44 (ad 9) = some ((o, 10), xk_iA g 0 284 (A 9)) := hf_58
            have hf_48 : X_44 o = some ((o, 0), .inr (0, [.ref (ad 0), .ref (ad 1), .ref (ad 2), .ref (ad 3), .int (nI (S 0)), .ref (ad 4), .int (nI (S 1)), .int (nI (S 2)), .int (nI (S 3)), .int (tm_it (S 4)), .ref (ad 5), .int (nI (S 5)), .ref (ad 6), .ref (ad 7), .ref (ad 8), .int (nI (S 6)), .ref (ad 9), .int (nI (S 7)), .int (nI (S 8)), .int (nI (S 9)), .int (nI (S 10))])) := hf_48
            refine lv_iconst (v := nI 0) hx hb dX2_areKin_54 (by decide) ?_
            refine lv_istore_n (lv' := [(3, .int (nI 0)), (0, .ref o), (1, .int x), (2, .int y)]) hx hb dX2_areKin_55 rfl hl (by decide) rfl (fun ls hl => ?_)
            refine lv_iconst (v := nI 0) hx hb dX2_areKin_56 (by decide) ?_
            refine lv_istore (lv' := [(4, .int (nI 0)), (3, .int (nI 0)), (0, .ref o), (1, .int x), (2, .int y)]) hx hb dX2_areKin_57 hl (by decide) rfl (fun ls hl => ?_)
            have hloop_59 : ∀ (n_59 : Nat) (k2 : Nat) (c9 : Nat) (H_60 : Heap) (L_61 : List Loc), (k2 ≤ 40) → (c9 = tl_any f (tl_mu (A 0) (tl_mu (A 0) (A 6) (tl_n x)) (tl_n y)) k2) → 40 - k2 < n_59 → xk_I g s H_60 X_44 L_61 → ∀ ls : Array Slot, lv_has ls 5 [(0, .ref o), (1, .int x), (2, .int y), (3, .int (nI c9)), (4, .int (nI k2))] → W p (xk_l g) e (({ frames := 2, cells := 0, slots := 0, locals := 46 } : Room)) s m args below meth c H_60 L_61 0 0 (MQ below (xk_Q g (xk_Qi (tl_kin (A 0) x y) (fun X1 => ∃ f6 f7 : Nat → Nat, tm_Ok g X1 o ad (va_up (va_up A 6 f6) 7 f7) S ∧ xk_fr o X X1))) args s (0) (0) (xk_A g)) (F0 m 59 ls []) := by
              intro n_59
              induction n_59 with
              | zero => intros; omega
              | succ n_59 ih_59 =>
                intro k2 c9 H_60 L_61 hk12 hc1 hm_59  hI_62 ls hl
                refine lv_iload hx hb dX2_areKin_59 (lv_at hl 4 rfl) ?_
                refine lv_bipush (v := nI 40) hx hb dX2_areKin_61 (by decide) ?_
                refine xk_icmp_ge (tgt := 102) hx hb (by omega) (by omega) dX2_areKin_63 (by decide) (fun hc_63 => ?_) (fun hc_63 => ?_)
                · have hk22 : k2 = 40 := by omega
                  have hb5 := tl_any_le f (tl_mu (A 0) (tl_mu (A 0) (A 6) (tl_n x)) (tl_n y)) k2
                  have hkin : tl_any (tl_up0 (A 0) (tl_n x)) (tl_up0 (A 0) (tl_n y)) 40 = c9 := (by rw [hc1, hk22]; exact tl_any_ext (fun j hj => by rw [hf1]; exact (tl_mu_ext (by omega) j hj).trans (if_pos hj).symm) (fun j hj => tl_mu_ext (by omega) j hj))
                  refine lv_iload_n hx hb dX2_areKin_102 rfl (lv_at hl 3 rfl) ?_
                  refine xk_if_eq (tgt := 110) hx hb (by omega) dX2_areKin_103 (by decide) (fun hc_103 => ?_) (fun hc_103 => ?_)
                  · refine lv_iconst (v := nI 0) hx hb dX2_areKin_110 (by decide) ?_
                    have hM_63 : tm_Ok g X_44 o ad (va_up (va_up A 6 (tl_mu (A 0) (tl_mu (A 0) (A 6) (tl_n x)) (tl_n y))) 7 f) S := ⟨hf_48, hf_49, hf_50, hf_51, hf_52, hf_53, hf_54, hf_55, hf_56, hf_57, hf_58⟩
                    exact xk_reti B hI_62 hr rfl dX2_areKin_111 (Nat.le_of_ble_eq_true rfl) (Nat.le_of_ble_eq_true rfl) (⟨(by unfold tl_kin; rw [if_pos hc_5, if_pos hc_13, hkin, show c9 = 0 by omega]), (tl_mu (A 0) (tl_mu (A 0) (A 6) (tl_n x)) (tl_n y)), (f), hM_63, hfr_59⟩)
                  · refine lv_iconst (v := nI 1) hx hb dX2_areKin_106 (by decide) ?_
                    refine lv_goto (tgt := 111) hx hb dX2_areKin_107 (by decide) ?_
                    have hM_64 : tm_Ok g X_44 o ad (va_up (va_up A 6 (tl_mu (A 0) (tl_mu (A 0) (A 6) (tl_n x)) (tl_n y))) 7 f) S := ⟨hf_48, hf_49, hf_50, hf_51, hf_52, hf_53, hf_54, hf_55, hf_56, hf_57, hf_58⟩
                    exact xk_reti B hI_62 hr rfl dX2_areKin_111 (Nat.le_of_ble_eq_true rfl) (Nat.le_of_ble_eq_true rfl) (⟨(by unfold tl_kin; rw [if_pos hc_5, if_pos hc_13, hkin, show c9 = 1 by omega]), (tl_mu (A 0) (tl_mu (A 0) (A 6) (tl_n x)) (tl_n y)), (f), hM_64, hfr_59⟩)
                · have hb2 := tl_mu_le (m := A 0) (h := (tl_mu (A 0) (A 6) (tl_n x))) (b := tl_n y) k2 hc_63
                  have hb3 := tl_mu_le (m := A 0) (h := A 6) (b := tl_n x) k2 hc_63
                  have hb4 : f k2 = tl_mu (A 0) (A 6) (tl_n x) k2 := by rw [hf1]; exact if_pos hc_63
                  have hb5 := tl_any_le f (tl_mu (A 0) (tl_mu (A 0) (A 6) (tl_n x)) (tl_n y)) k2
                  refine lv_iload_n hx hb dX2_areKin_66 rfl (lv_at hl 3 rfl) ?_
                  refine xk_if_ne (tgt := 90) hx hb (by omega) dX2_areKin_67 (by decide) (fun hc_67 => ?_) (fun hc_67 => ?_)
                  · refine lv_iconst (v := nI 1) hx hb dX2_areKin_90 (by decide) ?_
                    refine lv_goto (tgt := 95) hx hb dX2_areKin_91 (by decide) ?_
                    refine lv_istore_n (lv' := [(3, .int (nI 1)), (0, .ref o), (1, .int x), (2, .int y), (4, .int (nI k2))]) hx hb dX2_areKin_95 rfl hl (by decide) rfl (fun ls hl => ?_)
                    refine lv_iinc (v := nI (k2 + 1)) (lv' := [(4, .int (nI (k2 + 1))), (3, .int (nI 1)), (0, .ref o), (1, .int x), (2, .int y)]) hx hb dX2_areKin_96 hl (k := 4) rfl (xk_inc k2) (by decide) rfl (fun ls hl => ?_)
                    refine lv_goto (tgt := 59) hx hb dX2_areKin_99 (by decide) ?_
                    exact ih_59 (k2 + 1) 1 _ _ (by omega) (by show _ = (if 0 < tl_any f (tl_mu (A 0) (tl_mu (A 0) (A 6) (tl_n x)) (tl_n y)) k2 ∨ (0 < f k2 ∧ 0 < tl_mu (A 0) (tl_mu (A 0) (A 6) (tl_n x)) (tl_n y) k2) then 1 else 0); rw [← hc1]; first | rw [if_pos (by omega)] | rw [if_neg (by omega)]) (by omega) hI_62 ls (lv_sub hl [2, 3, 4, 1, 0] rfl)
                  · refine lv_aload_n hx hb dX2_areKin_70 rfl (lv_at hl 0 rfl) ?_
                    refine xk_get B hI_62 hf_48 rfl in_X2 13 (by decide) q1445 rfl dX2_areKin_71 ?_
                    refine lv_iload hx hb dX2_areKin_74 (lv_at hl 4 rfl) ?_
                    refine xk_zald B hI_62 hf_56 (by omega) (by decide) dX2_areKin_76 ?_
                    refine xk_if_eq (tgt := 94) hx hb (by omega) dX2_areKin_77 (by decide) (fun hc_77 => ?_) (fun hc_77 => ?_)
                    · refine lv_iconst (v := nI 0) hx hb dX2_areKin_94 (by decide) ?_
                      refine lv_istore_n (lv' := [(3, .int (nI 0)), (0, .ref o), (1, .int x), (2, .int y), (4, .int (nI k2))]) hx hb dX2_areKin_95 rfl hl (by decide) rfl (fun ls hl => ?_)
                      refine lv_iinc (v := nI (k2 + 1)) (lv' := [(4, .int (nI (k2 + 1))), (3, .int (nI 0)), (0, .ref o), (1, .int x), (2, .int y)]) hx hb dX2_areKin_96 hl (k := 4) rfl (xk_inc k2) (by decide) rfl (fun ls hl => ?_)
                      refine lv_goto (tgt := 59) hx hb dX2_areKin_99 (by decide) ?_
                      exact ih_59 (k2 + 1) 0 _ _ (by omega) (by show _ = (if 0 < tl_any f (tl_mu (A 0) (tl_mu (A 0) (A 6) (tl_n x)) (tl_n y)) k2 ∨ (0 < f k2 ∧ 0 < tl_mu (A 0) (tl_mu (A 0) (A 6) (tl_n x)) (tl_n y) k2) then 1 else 0); rw [← hc1]; first | rw [if_pos (by omega)] | rw [if_neg (by omega)]) (by omega) hI_62 ls (lv_sub hl [2, 3, 4, 1, 0] rfl)
                    · refine lv_aload_n hx hb dX2_areKin_80 rfl (lv_at hl 0 rfl) ?_
                      refine xk_get B hI_62 hf_48 rfl in_X2 12 (by decide) q1444 rfl dX2_areKin_81 ?_
                      refine lv_iload hx hb dX2_areKin_84 (lv_at hl 4 rfl) ?_
                      refine xk_zald B hI_62 hf_55 (by omega) (by decide) dX2_areKin_86 ?_
                      refine xk_if_eq (tgt := 94) hx hb (by omega) dX2_areKin_87 (by decide) (fun hc_87 => ?_) (fun hc_87 => ?_)
                      · refine lv_iconst (v := nI 0) hx hb dX2_areKin_94 (by decide) ?_
                        refine lv_istore_n (lv' := [(3, .int (nI 0)), (0, .ref o), (1, .int x), (2, .int y), (4, .int (nI k2))]) hx hb dX2_areKin_95 rfl hl (by decide) rfl (fun ls hl => ?_)
                        refine lv_iinc (v := nI (k2 + 1)) (lv' := [(4, .int (nI (k2 + 1))), (3, .int (nI 0)), (0, .ref o), (1, .int x), (2, .int y)]) hx hb dX2_areKin_96 hl (k := 4) rfl (xk_inc k2) (by decide) rfl (fun ls hl => ?_)
                        refine lv_goto (tgt := 59) hx hb dX2_areKin_99 (by decide) ?_
                        exact ih_59 (k2 + 1) 0 _ _ (by omega) (by show _ = (if 0 < tl_any f (tl_mu (A 0) (tl_mu (A 0) (A 6) (tl_n x)) (tl_n y)) k2 ∨ (0 < f k2 ∧ 0 < tl_mu (A 0) (tl_mu (A 0) (A 6) (tl_n x)) (tl_n y) k2) then 1 else 0); rw [← hc1]; first | rw [if_pos (by omega)] | rw [if_neg (by omega)]) (by omega) hI_62 ls (lv_sub hl [2, 3, 4, 1, 0] rfl)
                      · refine lv_iconst (v := nI 1) hx hb dX2_areKin_90 (by decide) ?_
                        refine lv_goto (tgt := 95) hx hb dX2_areKin_91 (by decide) ?_
                        refine lv_istore_n (lv' := [(3, .int (nI 1)), (0, .ref o), (1, .int x), (2, .int y), (4, .int (nI k2))]) hx hb dX2_areKin_95 rfl hl (by decide) rfl (fun ls hl => ?_)
                        refine lv_iinc (v := nI (k2 + 1)) (lv' := [(4, .int (nI (k2 + 1))), (3, .int (nI 1)), (0, .ref o), (1, .int x), (2, .int y)]) hx hb dX2_areKin_96 hl (k := 4) rfl (xk_inc k2) (by decide) rfl (fun ls hl => ?_)
                        refine lv_goto (tgt := 59) hx hb dX2_areKin_99 (by decide) ?_
                        exact ih_59 (k2 + 1) 1 _ _ (by omega) (by show _ = (if 0 < tl_any f (tl_mu (A 0) (tl_mu (A 0) (A 6) (tl_n x)) (tl_n y)) k2 ∨ (0 < f k2 ∧ 0 < tl_mu (A 0) (tl_mu (A 0) (A 6) (tl_n x)) (tl_n y) k2) then 1 else 0); rw [← hc1]; first | rw [if_pos (by omega)] | rw [if_neg (by omega)]) (by omega) hI_62 ls (lv_sub hl [2, 3, 4, 1, 0] rfl)
            exact hloop_59 (40 - 0 + 1) 0 0 _ _ (by omega) (by rfl) (Nat.lt_succ_self _) hI_41 ls (lv_sub hl [2, 3, 4, 1, 0] rfl)
          · have hb1 := tl_mu_le (m := A 0) (h := A 6) (b := tl_n x) k hc_28
            refine lv_aload_n hx hb dX2_areKin_31 rfl (lv_at hl 0 rfl) ?_
            have hf_65 := (hne_25 _ (xk_ne hf_23 hf_15 (xk_on1 (by decide)))).trans hf_15
            refine xk_get B hI_29 hf_65 rfl in_X2 13 (by decide) q1445 rfl dX2_areKin_32 ?_
            refine lv_iload_n hx hb dX2_areKin_35 rfl (lv_at hl 3 rfl) ?_
            refine lv_aload_n hx hb dX2_areKin_36 rfl (lv_at hl 0 rfl) ?_
            refine xk_get B hI_29 hf_65 rfl in_X2 12 (by decide) q1444 rfl dX2_areKin_37 ?_
            refine lv_iload_n hx hb dX2_areKin_40 rfl (lv_at hl 3 rfl) ?_
            have hf_66 := (hne_25 _ (xk_ne hf_23 hf_22 (xk_on1 (by decide)))).trans hf_22
            refine xk_zald B hI_29 hf_66 (by omega) (by decide) dX2_areKin_41 ?_
            refine xk_zast B hI_29 hfl0_25 (by omega) (by omega) (by decide) dX2_areKin_42 (fun X_67 H_71 L_72 hf_69 hn_68 hI_70 => ?_)
            have hfr_73 := xk_fr.put hfrl_25 hfl0_25 hn_68
            refine lv_iinc (v := nI (k + 1)) (lv' := [(3, .int (nI (k + 1))), (0, .ref o), (1, .int x), (2, .int y)]) hx hb dX2_areKin_43 hl (k := 3) rfl (xk_inc k) (by decide) rfl (fun ls hl => ?_)
            refine lv_goto (tgt := 25) hx hb dX2_areKin_46 (by decide) ?_
            exact ih_25 (k + 1) (va_up f k ((tl_mu (A 0) (A 6) (tl_n x)) k)) X_67 _ _ (by omega) (by rw [hf1]; exact tl_cp_s _ _ _) (by omega) hf_69 (fun b z0 => ((hn_68 b z0).trans (hne_25 b z0))) hfr_73 hI_70 ls (lv_sub hl [1, 2, 3, 0] rfl)
      exact hloop_25 (40 - 0 + 1) 0 (A 7) X_11 _ _ (by omega) (by exact (tl_cp_0 _ _).symm) (Nat.lt_succ_self _) hf_23 (fun _ _ => rfl) hfr_26 hI_8 ls (lv_sub hl [1, 2, 3, 0] rfl)
    · refine lv_iconst (v := (-1)) hx hb dX2_areKin_16 (by decide) ?_
      have hM_74 : tm_Ok g X o ad (va_up (va_up A 6 (A 6)) 7 (A 7)) S := ⟨hO, hA0, hA1, hA2, hA3, hA4, hA5, hA6, hA7, hA8, hA9⟩
      exact xk_reti B hI_5 hr rfl dX2_areKin_17 (Nat.le_of_ble_eq_true rfl) (Nat.le_of_ble_eq_true rfl) (⟨(by unfold tl_kin; rw [if_pos hc_5, if_neg (by rw [hc_13]; decide)]), (A 6), (A 7), hM_74, hfr⟩)
set_option maxHeartbeats 4000000 in
theorem m2_areKinAgain (g : xk_G) {X : xk_H} {o : Nat} {ad : Nat → Nat} {A : Nat → Nat → Nat} {S : Nat → Nat} (hM : tm_Ok g X o ad A S) (hk : tl_inv (A 0)) (x y : Int32) : xk_C g yX2_areKinAgain (ws_ yX2_areKinAgain cX2_areKinAgain 3 (some .int)) ({ frames := 3, cells := 0, slots := 0, locals := 70 } : Room) [.ref o, .int x, .int y] X (xk_Qi (tl_kin (A 0) x y) (fun X1 => ∃ f6 f7 : Nat → Nat, tm_Ok g X1 o ad (va_up (va_up A 6 f6) 7 f7) S ∧ xk_fr o X X1)) := by
  refine xk_ofW (by decide +kernel) (Nat.le_of_ble_eq_true rfl) (fun p e s m args below meth c B hr hname hargs hI ls hl => ?_)
  have B : xk_B g p s m args meth c RX2 cX2_areKinAgain 3 := B
  have hl : lv_has ls 3 [(0, .ref o), (1, .int x), (2, .int y)] := hl
  have hx := B.1
  have hb := B.2.1
  have hM0 := hM
  obtain ⟨hO, hA0, hA1, hA2, hA3, hA4, hA5, hA6, hA7, hA8, hA9⟩ := hM
  have hk0 := hk
  obtain ⟨k0, kb, kw, kl, ks, kr1, kr2, kwt, kL⟩ := hk
  have hfr : xk_fr o X X := xk_fr.rf
  refine lv_aload_n hx hb dX2_areKinAgain_0 rfl (lv_at hl 0 rfl) ?_
  refine lv_iload_n hx hb dX2_areKinAgain_1 rfl (lv_at hl 1 rfl) ?_
  refine lv_iload_n hx hb dX2_areKinAgain_2 rfl (lv_at hl 2 rfl) ?_
  refine xk_ri (xk_cV B hI hl [.int x, .int y] [] 2 (m2_areKin g hM0 hk0 x y) hO rfl (lw_V q1663 q1652 q1653 q79 q1654) ⟨rfl, by decide +kernel, by decide +kernel, by decide +kernel⟩ ⟨Nat.le_of_ble_eq_true rfl, Nat.le_of_ble_eq_true rfl⟩ rfl rfl (Nat.le_of_ble_eq_true rfl) dX2_areKinAgain_3 (Nat.le_of_ble_eq_true rfl) (Nat.le_of_ble_eq_true rfl)) hI (fun X_4 H_2 L_3 hq_5 hI_1 => ?_)
  refine xk_top (y := tl_kin (A 0) x y) rfl ?_
  obtain ⟨f_8, f_9, hM_6, hfr_7⟩ := hq_5
  obtain ⟨hf_10, hf_11, hf_12, hf_13, hf_14, hf_15, hf_16, hf_17, hf_18, hf_19, hf_20⟩ := id hM_6
  have hfr_21 := xk_fr.tr hfr hfr_7
  have hf_11 : X_4 (ad 0) = some ((o, 1), xk_iA g 0 294 (A 0)) := hf_11
  have hf_12 : X_4 (ad 1) = some ((o, 2), xk_iA g 0 294 (A 1)) := hf_12
  have hf_13 : X_4 (ad 2) = some ((o, 3), xk_iA g 0 294 (A 2)) := hf_13
  have hf_14 : X_4 (ad 3) = some ((o, 4), xk_iA g 0 294 (A 3)) := hf_14
  have hf_15 : X_4 (ad 4) = some ((o, 5), xk_iA g 0 2352 (A 4)) := hf_15
  have hf_16 : X_4 (ad 5) = some ((o, 6), xk_iA g 0 70 (A 5)) := hf_16
  have hf_17 : X_4 (ad 6) = some ((o, 7), xk_iA g 2 40 f_8) := hf_17
  have hf_18 : X_4 (ad 7) = some ((o, 8), xk_iA g 2 40 f_9) := hf_18
  have hf_19 : X_4 (ad 8) = some ((o, 9), xk_iA g 0 60 (A 8)) := hf_19
  have hf_20 : X_4 (ad 9) = some ((o, 10), xk_iA g 0 284 (A 9)) := hf_20
  have hf_10 : X_4 o = some ((o, 0), .inr (0, [.ref (ad 0), .ref (ad 1), .ref (ad 2), .ref (ad 3), .int (nI (S 0)), .ref (ad 4), .int (nI (S 1)), .int (nI (S 2)), .int (nI (S 3)), .int (tm_it (S 4)), .ref (ad 5), .int (nI (S 5)), .ref (ad 6), .ref (ad 7), .ref (ad 8), .int (nI (S 6)), .ref (ad 9), .int (nI (S 7)), .int (nI (S 8)), .int (nI (S 9)), .int (nI (S 10))])) := hf_10
  have hM_22 : tm_Ok g X_4 o ad (va_up (va_up A 6 f_8) 7 f_9) S := ⟨hf_10, hf_11, hf_12, hf_13, hf_14, hf_15, hf_16, hf_17, hf_18, hf_19, hf_20⟩
  exact xk_reti B hI_1 hr rfl dX2_areKinAgain_6 (Nat.le_of_ble_eq_true rfl) (Nat.le_of_ble_eq_true rfl) (⟨rfl, (f_8), (f_9), hM_22, hfr_21⟩)
theorem tl_d1 (n : Nat) : tl_d n = nI n - 1 := by
  cases n with
  | zero => decide
  | succ n =>
    show nI n = nI (n + 1) - 1
    rw [← nI_1]
    exact (Int32.add_sub_cancel (nI n) 1).symm
theorem tl_dadd (n : Nat) : tl_d n + nI 1 = tl_d (n + 1) := by
  cases n with
  | zero => decide
  | succ n => exact nI_1 n
theorem tl_dadd0 (n : Nat) : tl_d n + nI 0 = tl_d n := Int32.add_zero _
set_option maxHeartbeats 4000000 in
theorem m2_forebears (g : xk_G) {X : xk_H} {o : Nat} {ad : Nat → Nat} {A : Nat → Nat → Nat} {S : Nat → Nat} (hM : tm_Ok g X o ad A S) (hk : tl_inv (A 0)) (x : Int32) : xk_C g yX2_forebears (ws_ yX2_forebears cX2_forebears 4 (some .int)) ({ frames := 2, cells := 0, slots := 0, locals := 46 } : Room) [.ref o, .int x] X (xk_Qi (tl_fore (A 0) x) (fun X1 => ∃ f6 : Nat → Nat, tm_Ok g X1 o ad (va_up A 6 f6) S ∧ xk_fr o X X1)) := by
  refine xk_ofW (by decide +kernel) (Nat.le_of_ble_eq_true rfl) (fun p e s m args below meth c B hr hname hargs hI ls hl => ?_)
  have B : xk_B g p s m args meth c RX2 cX2_forebears 4 := B
  have hl : lv_has ls 4 [(0, .ref o), (1, .int x)] := hl
  have hx := B.1
  have hb := B.2.1
  have hM0 := hM
  obtain ⟨hO, hA0, hA1, hA2, hA3, hA4, hA5, hA6, hA7, hA8, hA9⟩ := hM
  have hk0 := hk
  obtain ⟨k0, kb, kw, kl, ks, kr1, kr2, kwt, kL⟩ := hk
  have hfr : xk_fr o X X := xk_fr.rf
  refine lv_aload_n hx hb dX2_forebears_0 rfl (lv_at hl 0 rfl) ?_
  refine lv_iload_n hx hb dX2_forebears_1 rfl (lv_at hl 1 rfl) ?_
  refine xk_ri0 (xk_cV B hI hl [.int x] [] 1 (m2_isBulb g hM0 hk0 x) hO rfl (lw_V q1543 q1545 qs37 q79 q1546) ⟨rfl, by decide +kernel, by decide +kernel, by decide +kernel⟩ ⟨Nat.le_of_ble_eq_true rfl, Nat.le_of_ble_eq_true rfl⟩ rfl rfl (Nat.le_of_ble_eq_true rfl) dX2_forebears_2 (Nat.le_of_ble_eq_true rfl) (Nat.le_of_ble_eq_true rfl)) hI (fun H_2 L_3 hI_1 => ?_)
  refine xk_top (y := xk_z (tl_isb (A 0) (x))) rfl ?_
  refine xk_if_ne_z (tgt := 10) hx hb dX2_forebears_5 (by decide) (fun hc_5 => ?_) (fun hc_5 => ?_)
  · obtain ⟨hx1, hx2⟩ := tl_isb_k hc_5
    refine lv_aload_n hx hb dX2_forebears_10 rfl (lv_at hl 0 rfl) ?_
    refine lv_iload_n hx hb dX2_forebears_11 rfl (lv_at hl 1 rfl) ?_
    refine xk_top hx1 ?_
    refine xk_rv (xk_cV B hI_1 hl [.int (nI (tl_n x))] [] 1 (m2_marksUp g hM0 hk0 (b := tl_n x) (show tl_n x < A 0 0 from by omega)) hO rfl (lw_V q1655 q1657 qs54 q79 q1658) ⟨rfl, by decide +kernel, by decide +kernel, by decide +kernel⟩ ⟨Nat.le_of_ble_eq_true rfl, Nat.le_of_ble_eq_true rfl⟩ rfl rfl (Nat.le_of_ble_eq_true rfl) dX2_forebears_12 (Nat.le_of_ble_eq_true rfl) (Nat.le_of_ble_eq_true rfl)) hI_1 (fun X_7 H_5 L_6 hq_8 hI_4 => ?_)
    obtain ⟨hM_9, hfr_10⟩ := hq_8
    obtain ⟨hf_11, hf_12, hf_13, hf_14, hf_15, hf_16, hf_17, hf_18, hf_19, hf_20, hf_21⟩ := id hM_9
    have hfr_22 := xk_fr.tr hfr hfr_10
    have hf_12 : X_7 (ad 0) = some ((o, 1), xk_iA g 0 294 (A 0)) := hf_12
    have hf_13 : X_7 (ad 1) = some ((o, 2), xk_iA g 0 294 (A 1)) := hf_13
    have hf_14 : X_7 (ad 2) = some ((o, 3), xk_iA g 0 294 (A 2)) := hf_14
    have hf_15 : X_7 (ad 3) = some ((o, 4), xk_iA g 0 294 (A 3)) := hf_15
    have hf_16 : X_7 (ad 4) = some ((o, 5), xk_iA g 0 2352 (A 4)) := hf_16
    have hf_17 : X_7 (ad 5) = some ((o, 6), xk_iA g 0 70 (A 5)) := hf_17
    have hf_18 : X_7 (ad 6) = some ((o, 7), xk_iA g 2 40 (tl_mu (A 0) (A 6) (tl_n x))) := hf_18
    have hf_19 : X_7 (ad 7) = some ((o, 8), xk_iA g 2 40 (A 7)) := hf_19
    have hf_20 : X_7 (ad 8) = some ((o, 9), xk_iA g 0 60 (A 8)) := hf_20
    have hf_21 : X_7 (ad 9) = some ((o, 10), xk_iA g 0 284 (A 9)) := hf_21
    have hf_11 : X_7 o = some ((o, 0), .inr (0, [.ref (ad 0), .ref (ad 1), .ref (ad 2), .ref (ad 3), .int (nI (S 0)), .ref (ad 4), .int (nI (S 1)), .int (nI (S 2)), .int (nI (S 3)), .int (tm_it (S 4)), .ref (ad 5), .int (nI (S 5)), .ref (ad 6), .ref (ad 7), .ref (ad 8), .int (nI (S 6)), .ref (ad 9), .int (nI (S 7)), .int (nI (S 8)), .int (nI (S 9)), .int (nI (S 10))])) := hf_11
    refine lv_iconst (v := (-1)) hx hb dX2_forebears_15 (by decide) ?_
    refine lv_istore_n (lv' := [(2, .int (-1)), (0, .ref o), (1, .int x)]) hx hb dX2_forebears_16 rfl hl (by decide) rfl (fun ls hl => ?_)
    refine lv_iconst (v := nI 0) hx hb dX2_forebears_17 (by decide) ?_
    refine lv_istore_n (lv' := [(3, .int (nI 0)), (2, .int (-1)), (0, .ref o), (1, .int x)]) hx hb dX2_forebears_18 rfl hl (by decide) rfl (fun ls hl => ?_)
    have hloop_19 : ∀ (n_19 : Nat) (k : Nat) (n9 : Nat) (H_23 : Heap) (L_24 : List Loc), (k ≤ 40) → (n9 = tl_sum (tl_mu (A 0) (A 6) (tl_n x)) k) → 40 - k < n_19 → xk_I g s H_23 X_7 L_24 → ∀ ls : Array Slot, lv_has ls 4 [(0, .ref o), (1, .int x), (2, .int (tl_d n9)), (3, .int (nI k))] → W p (xk_l g) e (({ frames := 2, cells := 0, slots := 0, locals := 46 } : Room)) s m args below meth c H_23 L_24 0 0 (MQ below (xk_Q g (xk_Qi (tl_fore (A 0) x) (fun X1 => ∃ f6 : Nat → Nat, tm_Ok g X1 o ad (va_up A 6 f6) S ∧ xk_fr o X X1))) args s (0) (0) (xk_A g)) (F0 m 19 ls []) := by
      intro n_19
      induction n_19 with
      | zero => intros; omega
      | succ n_19 ih_19 =>
        intro k n9 H_23 L_24 hk1 hc1 hm_19  hI_25 ls hl
        refine lv_iload_n hx hb dX2_forebears_19 rfl (lv_at hl 3 rfl) ?_
        refine lv_bipush (v := nI 40) hx hb dX2_forebears_20 (by decide) ?_
        refine xk_icmp_ge (tgt := 48) hx hb (by omega) (by omega) dX2_forebears_22 (by decide) (fun hc_22 => ?_) (fun hc_22 => ?_)
        · refine lv_iload_n hx hb dX2_forebears_48 rfl (lv_at hl 2 rfl) ?_
          have hM_26 : tm_Ok g X_7 o ad (va_up A 6 (tl_mu (A 0) (A 6) (tl_n x))) S := ⟨hf_11, hf_12, hf_13, hf_14, hf_15, hf_16, hf_17, hf_18, hf_19, hf_20, hf_21⟩
          exact xk_reti B hI_25 hr rfl dX2_forebears_49 (Nat.le_of_ble_eq_true rfl) (Nat.le_of_ble_eq_true rfl) (⟨(by unfold tl_fore; rw [if_pos hc_5, show tl_sum (tl_up0 (A 0) (tl_n x)) 40 = n9 from by rw [hc1, show k = 40 by omega]; exact tl_sum_ext (fun j hj => tl_mu_ext (by omega) j hj)]; exact congrArg (fun z => some (Value.int z)) (tl_d1 n9)), (tl_mu (A 0) (A 6) (tl_n x)), hM_26, hfr_22⟩)
        · have hb1 := tl_mu_le (m := A 0) (h := A 6) (b := tl_n x) k hc_22
          refine lv_iload_n hx hb dX2_forebears_25 rfl (lv_at hl 2 rfl) ?_
          refine lv_aload_n hx hb dX2_forebears_26 rfl (lv_at hl 0 rfl) ?_
          refine xk_get B hI_25 hf_11 rfl in_X2 12 (by decide) q1444 rfl dX2_forebears_27 ?_
          refine lv_iload_n hx hb dX2_forebears_30 rfl (lv_at hl 3 rfl) ?_
          refine xk_zald B hI_25 hf_18 (by omega) (by decide) dX2_forebears_31 ?_
          refine xk_if_eq (tgt := 39) hx hb (by omega) dX2_forebears_32 (by decide) (fun hc_32 => ?_) (fun hc_32 => ?_)
          · refine lv_iconst (v := nI 0) hx hb dX2_forebears_39 (by decide) ?_
            refine lv_iadd hx hb dX2_forebears_40 ?_
            refine xk_top (tl_dadd0 n9) ?_
            refine lv_istore_n (lv' := [(2, .int (tl_d n9)), (0, .ref o), (1, .int x), (3, .int (nI k))]) hx hb dX2_forebears_41 rfl hl (by decide) rfl (fun ls hl => ?_)
            refine lv_iinc (v := nI (k + 1)) (lv' := [(3, .int (nI (k + 1))), (2, .int (tl_d n9)), (0, .ref o), (1, .int x)]) hx hb dX2_forebears_42 hl (k := 3) rfl (xk_inc k) (by decide) rfl (fun ls hl => ?_)
            refine lv_goto (tgt := 19) hx hb dX2_forebears_45 (by decide) ?_
            exact ih_19 (k + 1) n9 _ _ (by omega) (by show _ = tl_sum (tl_mu (A 0) (A 6) (tl_n x)) k + (if 0 < tl_mu (A 0) (A 6) (tl_n x) k then 1 else 0); rw [← hc1]; first | rw [if_pos (by omega)] | rw [if_neg (by omega)]; try rfl) (by omega) hI_25 ls (lv_sub hl [2, 3, 1, 0] rfl)
          · refine lv_iconst (v := nI 1) hx hb dX2_forebears_35 (by decide) ?_
            refine lv_goto (tgt := 40) hx hb dX2_forebears_36 (by decide) ?_
            refine lv_iadd hx hb dX2_forebears_40 ?_
            refine xk_top (tl_dadd n9) ?_
            refine lv_istore_n (lv' := [(2, .int (tl_d (n9 + 1))), (0, .ref o), (1, .int x), (3, .int (nI k))]) hx hb dX2_forebears_41 rfl hl (by decide) rfl (fun ls hl => ?_)
            refine lv_iinc (v := nI (k + 1)) (lv' := [(3, .int (nI (k + 1))), (2, .int (tl_d (n9 + 1))), (0, .ref o), (1, .int x)]) hx hb dX2_forebears_42 hl (k := 3) rfl (xk_inc k) (by decide) rfl (fun ls hl => ?_)
            refine lv_goto (tgt := 19) hx hb dX2_forebears_45 (by decide) ?_
            exact ih_19 (k + 1) (n9 + 1) _ _ (by omega) (by show _ = tl_sum (tl_mu (A 0) (A 6) (tl_n x)) k + (if 0 < tl_mu (A 0) (A 6) (tl_n x) k then 1 else 0); rw [← hc1]; first | rw [if_pos (by omega)] | rw [if_neg (by omega)]; try rfl) (by omega) hI_25 ls (lv_sub hl [2, 3, 1, 0] rfl)
    exact hloop_19 (40 - 0 + 1) 0 0 _ _ (by omega) (by rfl) (Nat.lt_succ_self _) hI_4 ls (lv_sub hl [2, 3, 1, 0] rfl)
  · refine lv_iconst (v := (-1)) hx hb dX2_forebears_8 (by decide) ?_
    have hM_27 : tm_Ok g X o ad (va_up A 6 (A 6)) S := ⟨hO, hA0, hA1, hA2, hA3, hA4, hA5, hA6, hA7, hA8, hA9⟩
    exact xk_reti B hI_1 hr rfl dX2_forebears_9 (Nat.le_of_ble_eq_true rfl) (Nat.le_of_ble_eq_true rfl) (⟨(by unfold tl_fore; rw [if_neg (by rw [hc_5]; decide)]), (A 6), hM_27, hfr⟩)
theorem tl_ll_ext {m f f2 : Nat → Nat} {n : Nat} (hf : ∀ j, j < n → f j = f2 j) : tl_ll m f n = tl_ll m f2 n := by
  induction n with
  | zero => rfl
  | succ n ih =>
    simp only [tl_ll]
    rw [ih (fun j hj => hf j (by omega)), hf n (by omega)]
theorem tl_lm_ext {m f f2 : Nat → Nat} {n : Nat} (hf : ∀ j, j < n → f j = f2 j) : tl_lm m f n = tl_lm m f2 n := by
  induction n with
  | zero => rfl
  | succ n ih =>
    simp only [tl_lm]
    rw [ih (fun j hj => hf j (by omega)), hf n (by omega)]
set_option maxHeartbeats 4000000 in
theorem m2_lineOf (g : xk_G) {X : xk_H} {o : Nat} {ad : Nat → Nat} {A : Nat → Nat → Nat} {S : Nat → Nat} (hM : tm_Ok g X o ad A S) (hk : tl_inv (A 0)) (x y : Int32) : xk_C g yX2_lineOf (ws_ yX2_lineOf cX2_lineOf 8 (some .int)) ({ frames := 2, cells := 0, slots := 0, locals := 46 } : Room) [.ref o, .int x, .int y] X (xk_Qi (tl_line (A 0) x y) (fun X1 => ∃ f6 : Nat → Nat, tm_Ok g X1 o ad (va_up A 6 f6) S ∧ xk_fr o X X1)) := by
  refine xk_ofW (by decide +kernel) (Nat.le_of_ble_eq_true rfl) (fun p e s m args below meth c B hr hname hargs hI ls hl => ?_)
  have B : xk_B g p s m args meth c RX2 cX2_lineOf 8 := B
  have hl : lv_has ls 8 [(0, .ref o), (1, .int x), (2, .int y)] := hl
  have hx := B.1
  have hb := B.2.1
  have hM0 := hM
  obtain ⟨hO, hA0, hA1, hA2, hA3, hA4, hA5, hA6, hA7, hA8, hA9⟩ := hM
  have hk0 := hk
  obtain ⟨k0, kb, kw, kl, ks, kr1, kr2, kwt, kL⟩ := hk
  have hfr : xk_fr o X X := xk_fr.rf
  refine lv_aload_n hx hb dX2_lineOf_0 rfl (lv_at hl 0 rfl) ?_
  refine lv_iload_n hx hb dX2_lineOf_1 rfl (lv_at hl 1 rfl) ?_
  refine xk_ri0 (xk_cV B hI hl [.int x] [] 1 (m2_isBulb g hM0 hk0 x) hO rfl (lw_V q1543 q1545 qs37 q79 q1546) ⟨rfl, by decide +kernel, by decide +kernel, by decide +kernel⟩ ⟨Nat.le_of_ble_eq_true rfl, Nat.le_of_ble_eq_true rfl⟩ rfl rfl (Nat.le_of_ble_eq_true rfl) dX2_lineOf_2 (Nat.le_of_ble_eq_true rfl) (Nat.le_of_ble_eq_true rfl)) hI (fun H_2 L_3 hI_1 => ?_)
  refine xk_top (y := xk_z (tl_isb (A 0) (x))) rfl ?_
  refine xk_if_ne_z (tgt := 10) hx hb dX2_lineOf_5 (by decide) (fun hc_5 => ?_) (fun hc_5 => ?_)
  · obtain ⟨hx1, hx2⟩ := tl_isb_k hc_5
    refine lv_iload_n hx hb dX2_lineOf_10 rfl (lv_at hl 2 rfl) ?_
    refine lv_i2l hx hb dX2_lineOf_11 rfl ?_
    refine lv_lconst (v := 0) hx hb dX2_lineOf_12 (by decide) ?_
    refine lv_ldc2 hx hb B.ow (B.ts _ q1672) dX2_lineOf_13 ?_
    refine xk_ri0 (xk_cS B hI_1 hl [.long ((y).toInt64), .long (0 : Int64), .long (2 : Int64)] [] 3 (m2_in g (x := (y).toInt) (lo := 0) (hi := 2) (Int32.toInt_toInt64 _) (by decide) (by decide)) (lw_S q1509 q1510 q79 q1511) ⟨by decide +kernel, by decide +kernel, by decide +kernel⟩ ⟨Nat.le_of_ble_eq_true rfl, Nat.le_of_ble_eq_true rfl⟩ rfl rfl (Nat.le_of_ble_eq_true rfl) dX2_lineOf_16 (Nat.le_of_ble_eq_true rfl) (Nat.le_of_ble_eq_true rfl)) hI_1 (fun H_5 L_6 hI_4 => ?_)
    refine xk_top (y := xk_z (tl_rng y 0 2)) rfl ?_
    refine xk_if_ne_z (tgt := 25) hx hb dX2_lineOf_19 (by decide) (fun hc_19 => ?_) (fun hc_19 => ?_)
    · obtain ⟨hy1, hy2, hy3, hy4⟩ := tl_rng_k hc_19 (by decide)
      refine lv_aload_n hx hb dX2_lineOf_25 rfl (lv_at hl 0 rfl) ?_
      refine lv_iload_n hx hb dX2_lineOf_26 rfl (lv_at hl 1 rfl) ?_
      refine xk_top hx1 ?_
      refine xk_rv (xk_cV B hI_4 hl [.int (nI (tl_n x))] [] 1 (m2_marksDown g hM0 hk0 (b := tl_n x) (show tl_n x < A 0 0 from by omega)) hO rfl (lw_V q1673 q1675 qs55 q79 q1676) ⟨rfl, by decide +kernel, by decide +kernel, by decide +kernel⟩ ⟨Nat.le_of_ble_eq_true rfl, Nat.le_of_ble_eq_true rfl⟩ rfl rfl (Nat.le_of_ble_eq_true rfl) dX2_lineOf_27 (Nat.le_of_ble_eq_true rfl) (Nat.le_of_ble_eq_true rfl)) hI_4 (fun X_10 H_8 L_9 hq_11 hI_7 => ?_)
      obtain ⟨hM_12, hfr_13⟩ := hq_11
      obtain ⟨hf_14, hf_15, hf_16, hf_17, hf_18, hf_19, hf_20, hf_21, hf_22, hf_23, hf_24⟩ := id hM_12
      have hfr_25 := xk_fr.tr hfr hfr_13
      have hf_15 : X_10 (ad 0) = some ((o, 1), xk_iA g 0 294 (A 0)) := hf_15
      have hf_16 : X_10 (ad 1) = some ((o, 2), xk_iA g 0 294 (A 1)) := hf_16
      have hf_17 : X_10 (ad 2) = some ((o, 3), xk_iA g 0 294 (A 2)) := hf_17
      have hf_18 : X_10 (ad 3) = some ((o, 4), xk_iA g 0 294 (A 3)) := hf_18
      have hf_19 : X_10 (ad 4) = some ((o, 5), xk_iA g 0 2352 (A 4)) := hf_19
      have hf_20 : X_10 (ad 5) = some ((o, 6), xk_iA g 0 70 (A 5)) := hf_20
      have hf_21 : X_10 (ad 6) = some ((o, 7), xk_iA g 2 40 (tl_md (A 0) (A 6) (tl_n x) 40)) := hf_21
      have hf_22 : X_10 (ad 7) = some ((o, 8), xk_iA g 2 40 (A 7)) := hf_22
      have hf_23 : X_10 (ad 8) = some ((o, 9), xk_iA g 0 60 (A 8)) := hf_23
      have hf_24 : X_10 (ad 9) = some ((o, 10), xk_iA g 0 284 (A 9)) := hf_24
      have hf_14 : X_10 o = some ((o, 0), .inr (0, [.ref (ad 0), .ref (ad 1), .ref (ad 2), .ref (ad 3), .int (nI (S 0)), .ref (ad 4), .int (nI (S 1)), .int (nI (S 2)), .int (nI (S 3)), .int (tm_it (S 4)), .ref (ad 5), .int (nI (S 5)), .ref (ad 6), .ref (ad 7), .ref (ad 8), .int (nI (S 6)), .ref (ad 9), .int (nI (S 7)), .int (nI (S 8)), .int (nI (S 9)), .int (nI (S 10))])) := hf_14
      refine lv_iconst (v := nI 0) hx hb dX2_lineOf_30 (by decide) ?_
      refine lv_istore_n (lv' := [(3, .int (nI 0)), (0, .ref o), (1, .int x), (2, .int y)]) hx hb dX2_lineOf_31 rfl hl (by decide) rfl (fun ls hl => ?_)
      refine lv_iconst (v := nI 0) hx hb dX2_lineOf_32 (by decide) ?_
      refine lv_istore (lv' := [(4, .int (nI 0)), (3, .int (nI 0)), (0, .ref o), (1, .int x), (2, .int y)]) hx hb dX2_lineOf_33 hl (by decide) rfl (fun ls hl => ?_)
      refine lv_bipush (v := (-4)) hx hb dX2_lineOf_35 (by decide) ?_
      refine lv_istore (lv' := [(5, .int (-4)), (4, .int (nI 0)), (3, .int (nI 0)), (0, .ref o), (1, .int x), (2, .int y)]) hx hb dX2_lineOf_37 hl (by decide) rfl (fun ls hl => ?_)
      refine lv_iconst (v := nI 0) hx hb dX2_lineOf_39 (by decide) ?_
      refine lv_istore (lv' := [(6, .int (nI 0)), (5, .int (-4)), (4, .int (nI 0)), (3, .int (nI 0)), (0, .ref o), (1, .int x), (2, .int y)]) hx hb dX2_lineOf_40 hl (by decide) rfl (fun ls hl => ?_)
      have hloop_42 : ∀ (n_42 : Nat) (k : Nat) (all9 : Nat) (live9 : Nat) (q9 : Nat) (H_26 : Heap) (L_27 : List Loc), (k ≤ A 0 0) → (all9 = tl_sum (tl_md (A 0) (A 6) (tl_n x) 40) k) → (live9 = tl_ll (A 0) (tl_md (A 0) (A 6) (tl_n x) 40) k) → (q9 = tl_lm (A 0) (tl_md (A 0) (A 6) (tl_n x) 40) k) → A 0 0 - k < n_42 → xk_I g s H_26 X_10 L_27 → ∀ ls : Array Slot, lv_has ls 8 [(0, .ref o), (1, .int x), (2, .int y), (3, .int (nI all9)), (4, .int (nI live9)), (5, .int (tm_it q9)), (6, .int (nI k))] → W p (xk_l g) e (({ frames := 2, cells := 0, slots := 0, locals := 46 } : Room)) s m args below meth c H_26 L_27 0 0 (MQ below (xk_Q g (xk_Qi (tl_line (A 0) x y) (fun X1 => ∃ f6 : Nat → Nat, tm_Ok g X1 o ad (va_up A 6 f6) S ∧ xk_fr o X X1))) args s (0) (0) (xk_A g)) (F0 m 42 ls []) := by
        intro n_42
        induction n_42 with
        | zero => intros; omega
        | succ n_42 ih_42 =>
          intro k all9 live9 q9 H_26 L_27 hk1 hl1 hl2 hl3 hm_42  hI_28 ls hl
          refine lv_iload hx hb dX2_lineOf_42 (lv_at hl 6 rfl) ?_
          refine lv_aload_n hx hb dX2_lineOf_44 rfl (lv_at hl 0 rfl) ?_
          refine xk_get B hI_28 hf_14 rfl in_X2 0 (by decide) q1432 rfl dX2_lineOf_45 ?_
          refine lv_iconst (v := nI 0) hx hb dX2_lineOf_48 (by decide) ?_
          refine xk_iald B hI_28 hf_15 (by omega) (by decide) dX2_lineOf_49 ?_
          refine xk_icmp_ge (tgt := 163) hx hb (by omega) (by omega) dX2_lineOf_50 (by decide) (fun hc_50 => ?_) (fun hc_50 => ?_)
          · have qs := tl_ll_le (A 0) (tl_md (A 0) (A 6) (tl_n x) 40) k
            have qt := tl_sum_le (tl_md (A 0) (A 6) (tl_n x) 40) k
            have hE1 : ∀ j, j < 40 → (tl_md (A 0) (A 6) (tl_n x) 40) j = tl_dn0 (A 0) (tl_n x) j := fun j hj => tl_md_ext (fun c hc => ⟨(kb c hc).2.1, (kb c hc).2.2.1, (kb c hc).2.2.2.1⟩) j hj
            refine lv_iload_n hx hb dX2_lineOf_163 rfl (lv_at hl 2 rfl) ?_
            refine xk_top hy1 ?_
            refine xk_if_ne (tgt := 171) hx hb (by omega) dX2_lineOf_164 (by decide) (fun hc_164 => ?_) (fun hc_164 => ?_)
            · refine lv_iload_n hx hb dX2_lineOf_171 rfl (lv_at hl 2 rfl) ?_
              refine xk_top hy1 ?_
              refine lv_iconst (v := nI 1) hx hb dX2_lineOf_172 (by decide) ?_
              refine xk_icmp_ne (tgt := 181) hx hb (by omega) (by omega) dX2_lineOf_173 (by decide) (fun hc_173 => ?_) (fun hc_173 => ?_)
              · refine lv_iload hx hb dX2_lineOf_181 (lv_at hl 5 rfl) ?_
                have hM_29 : tm_Ok g X_10 o ad (va_up A 6 (tl_md (A 0) (A 6) (tl_n x) 40)) S := ⟨hf_14, hf_15, hf_16, hf_17, hf_18, hf_19, hf_20, hf_21, hf_22, hf_23, hf_24⟩
                exact xk_reti B hI_28 hr rfl dX2_lineOf_183 (Nat.le_of_ble_eq_true rfl) (Nat.le_of_ble_eq_true rfl) (⟨(by unfold tl_line; rw [if_pos hc_5, if_pos hc_19, if_neg (by omega), if_neg hc_173, hl3, show A 0 0 = k by omega]; exact congrArg (fun z => some (Value.int (tm_it z))) (tl_lm_ext (fun j hj => hE1 j (by omega)))), (tl_md (A 0) (A 6) (tl_n x) 40), hM_29, hfr_25⟩)
              · refine lv_iload hx hb dX2_lineOf_176 (lv_at hl 4 rfl) ?_
                refine lv_goto (tgt := 183) hx hb dX2_lineOf_178 (by decide) ?_
                have hM_30 : tm_Ok g X_10 o ad (va_up A 6 (tl_md (A 0) (A 6) (tl_n x) 40)) S := ⟨hf_14, hf_15, hf_16, hf_17, hf_18, hf_19, hf_20, hf_21, hf_22, hf_23, hf_24⟩
                exact xk_reti B hI_28 hr rfl dX2_lineOf_183 (Nat.le_of_ble_eq_true rfl) (Nat.le_of_ble_eq_true rfl) (⟨(by unfold tl_line; rw [if_pos hc_5, if_pos hc_19, if_neg (by omega), if_pos hc_173, hl2, show A 0 0 = k by omega]; exact congrArg (fun z => some (Value.int (nI z))) (tl_ll_ext (fun j hj => hE1 j (by omega)))), (tl_md (A 0) (A 6) (tl_n x) 40), hM_30, hfr_25⟩)
            · refine lv_iload_n hx hb dX2_lineOf_167 rfl (lv_at hl 3 rfl) ?_
              refine lv_goto (tgt := 183) hx hb dX2_lineOf_168 (by decide) ?_
              have hM_31 : tm_Ok g X_10 o ad (va_up A 6 (tl_md (A 0) (A 6) (tl_n x) 40)) S := ⟨hf_14, hf_15, hf_16, hf_17, hf_18, hf_19, hf_20, hf_21, hf_22, hf_23, hf_24⟩
              exact xk_reti B hI_28 hr rfl dX2_lineOf_183 (Nat.le_of_ble_eq_true rfl) (Nat.le_of_ble_eq_true rfl) (⟨(by unfold tl_line; rw [if_pos hc_5, if_pos hc_19, if_pos hc_164, hl1, show A 0 0 = k by omega]; exact congrArg (fun z => some (Value.int (nI z))) (tl_sum_ext (fun j hj => hE1 j (by omega)))), (tl_md (A 0) (A 6) (tl_n x) 40), hM_31, hfr_25⟩)
          · have qb := kb k hc_50
            have hb1 := tl_md_le (m := A 0) (h := A 6) (b := tl_n x) (k := 40) k (by omega)
            have qs := tl_ll_le (A 0) (tl_md (A 0) (A 6) (tl_n x) 40) k
            have qt := tl_sum_le (tl_md (A 0) (A 6) (tl_n x) 40) k
            have qw := tl_wor_le (m := A 0) (p := A 0 (14 + 7 * k)) (n := 8) kwt
            have ql := tl_lm_le (m := A 0) (f := (tl_md (A 0) (A 6) (tl_n x) 40)) kwt k
            refine lv_aload_n hx hb dX2_lineOf_53 rfl (lv_at hl 0 rfl) ?_
            refine xk_get B hI_28 hf_14 rfl in_X2 12 (by decide) q1444 rfl dX2_lineOf_54 ?_
            refine lv_iload hx hb dX2_lineOf_57 (lv_at hl 6 rfl) ?_
            refine xk_zald B hI_28 hf_21 (by omega) (by decide) dX2_lineOf_59 ?_
            refine xk_if_eq (tgt := 76) hx hb (by omega) dX2_lineOf_60 (by decide) (fun hc_60 => ?_) (fun hc_60 => ?_)
            · refine lv_iconst (v := nI 0) hx hb dX2_lineOf_76 (by decide) ?_
              refine lv_istore (lv' := [(7, .int (nI 0)), (0, .ref o), (1, .int x), (2, .int y), (3, .int (nI all9)), (4, .int (nI live9)), (5, .int (tm_it q9)), (6, .int (nI k))]) hx hb dX2_lineOf_77 hl (by decide) rfl (fun ls hl => ?_)
              refine lv_iload_n hx hb dX2_lineOf_79 rfl (lv_at hl 4 rfl) ?_
              refine lv_aload_n hx hb dX2_lineOf_80 rfl (lv_at hl 1 rfl) ?_
              refine xk_get B hI_28 hf_14 rfl in_X2 12 (by decide) q1444 rfl dX2_lineOf_81 ?_
              refine lv_iload hx hb dX2_lineOf_84 (lv_at hl 7 rfl) ?_
              refine xk_zald B hI_28 hf_21 (by omega) (by decide) dX2_lineOf_86 ?_
              refine xk_if_eq (tgt := 94) hx hb (by omega) dX2_lineOf_87 (by decide) (fun hc_87 => ?_) (fun hc_87 => ?_)
              · refine lv_iconst (v := nI 0) hx hb dX2_lineOf_94 (by decide) ?_
                refine lv_iadd hx hb dX2_lineOf_95 (xk_top (nI_add _ _) ?_)
                refine lv_istore_n (lv' := [(3, .int (nI (all9 + 0))), (7, .int (nI 0)), (0, .ref o), (1, .int x), (2, .int y), (4, .int (nI live9)), (5, .int (tm_it q9)), (6, .int (nI k))]) hx hb dX2_lineOf_96 rfl hl (by decide) rfl (fun ls hl => ?_)
                refine lv_iload hx hb dX2_lineOf_97 (lv_at hl 5 rfl) ?_
                refine lv_iload hx hb dX2_lineOf_99 (lv_at hl 1 rfl) ?_
                refine xk_if_eq_t (tgt := 108) hx hb (by omega) dX2_lineOf_101 (by decide) (by decide) ?_
                refine lv_iconst (v := nI 0) hx hb dX2_lineOf_108 (by decide) ?_
                refine lv_iadd hx hb dX2_lineOf_109 (xk_top (nI_add _ _) ?_)
                refine lv_istore (lv' := [(4, .int (nI (live9 + 0))), (3, .int (nI (all9 + 0))), (7, .int (nI 0)), (0, .ref o), (1, .int x), (2, .int y), (5, .int (tm_it q9)), (6, .int (nI k))]) hx hb dX2_lineOf_110 hl (by decide) rfl (fun ls hl => ?_)
                refine lv_iload hx hb dX2_lineOf_112 (lv_at hl 2 rfl) ?_
                refine xk_if_eq_t (tgt := 153) hx hb (by omega) dX2_lineOf_114 (by decide) (by decide) ?_
                refine lv_iload hx hb dX2_lineOf_153 (lv_at hl 6 rfl) ?_
                refine lv_istore (lv' := [(5, .int (tm_it q9)), (4, .int (nI (live9 + 0))), (3, .int (nI (all9 + 0))), (7, .int (nI 0)), (0, .ref o), (1, .int x), (2, .int y), (6, .int (nI k))]) hx hb dX2_lineOf_155 hl (by decide) rfl (fun ls hl => ?_)
                refine lv_iinc (v := nI (k + 1)) (lv' := [(6, .int (nI (k + 1))), (5, .int (tm_it q9)), (4, .int (nI (live9 + 0))), (3, .int (nI (all9 + 0))), (7, .int (nI 0)), (0, .ref o), (1, .int x), (2, .int y)]) hx hb dX2_lineOf_157 hl (k := 7) rfl (xk_inc k) (by decide) rfl (fun ls hl => ?_)
                refine lv_goto (tgt := 42) hx hb dX2_lineOf_160 (by decide) ?_
                exact ih_42 (k + 1) (all9 + 0) (live9 + 0) q9 _ _ (by omega) (by show _ = tl_sum (tl_md (A 0) (A 6) (tl_n x) 40) k + (if 0 < (tl_md (A 0) (A 6) (tl_n x) 40) k then 1 else 0); rw [← hl1, if_neg (by omega)]) (by show _ = tl_ll (A 0) (tl_md (A 0) (A 6) (tl_n x) 40) k + (if 0 < (tl_md (A 0) (A 6) (tl_n x) 40) k ∧ tl_al (A 0) k = true then 1 else 0); rw [← hl2, if_neg (fun z => absurd z.1 (by omega))]) (by show _ = (if 0 < (tl_md (A 0) (A 6) (tl_n x) 40) k ∧ tl_al (A 0) k = true ∧ tl_lm (A 0) (tl_md (A 0) (A 6) (tl_n x) 40) k < tl_wor (A 0) (A 0 (14 + 7 * k)) 8 + 1 then tl_wor (A 0) (A 0 (14 + 7 * k)) 8 + 1 else tl_lm (A 0) (tl_md (A 0) (A 6) (tl_n x) 40) k); rw [← hl3, if_neg (fun z => absurd z.1 (by omega))]) (by omega) hI_28 ls (lv_sub hl [5, 6, 7, 3, 2, 1, 0] rfl)
              · exfalso; omega
            · refine lv_aload_n hx hb dX2_lineOf_63 rfl (lv_at hl 0 rfl) ?_
              refine lv_iload hx hb dX2_lineOf_64 (lv_at hl 6 rfl) ?_
              have hM_32 : tm_Ok g X_10 o ad (va_up A 6 (tl_md (A 0) (A 6) (tl_n x) 40)) S := ⟨hf_14, hf_15, hf_16, hf_17, hf_18, hf_19, hf_20, hf_21, hf_22, hf_23, hf_24⟩
              refine xk_ri0 (xk_cV B hI_28 hl [.int (nI k)] [] 1 (m2_lives g hM_32 (b := k) (by omega) (show A 0 (14 + 7 * k + 3) < 2147483648 from by first | omega | (have := kb k (by omega); omega))) hf_14 rfl (lw_V q1548 q1550 qs38 q79 q1551) ⟨rfl, by decide +kernel, by decide +kernel, by decide +kernel⟩ ⟨Nat.le_of_ble_eq_true rfl, Nat.le_of_ble_eq_true rfl⟩ rfl rfl (Nat.le_of_ble_eq_true rfl) dX2_lineOf_66 (Nat.le_of_ble_eq_true rfl) (Nat.le_of_ble_eq_true rfl)) hI_28 (fun H_34 L_35 hI_33 => ?_)
              refine xk_top (y := xk_z (tl_al (A 0) k)) rfl ?_
              refine xk_if_eq_z (tgt := 76) hx hb dX2_lineOf_69 (by decide) (fun hc_69 => ?_) (fun hc_69 => ?_)
              · refine lv_iconst (v := nI 0) hx hb dX2_lineOf_76 (by decide) ?_
                refine lv_istore (lv' := [(7, .int (nI 0)), (0, .ref o), (1, .int x), (2, .int y), (3, .int (nI all9)), (4, .int (nI live9)), (5, .int (tm_it q9)), (6, .int (nI k))]) hx hb dX2_lineOf_77 hl (by decide) rfl (fun ls hl => ?_)
                refine lv_iload_n hx hb dX2_lineOf_79 rfl (lv_at hl 4 rfl) ?_
                refine lv_aload_n hx hb dX2_lineOf_80 rfl (lv_at hl 1 rfl) ?_
                refine xk_get B hI_33 hf_14 rfl in_X2 12 (by decide) q1444 rfl dX2_lineOf_81 ?_
                refine lv_iload hx hb dX2_lineOf_84 (lv_at hl 7 rfl) ?_
                refine xk_zald B hI_33 hf_21 (by omega) (by decide) dX2_lineOf_86 ?_
                refine xk_if_eq (tgt := 94) hx hb (by omega) dX2_lineOf_87 (by decide) (fun hc_87 => ?_) (fun hc_87 => ?_)
                · exfalso; omega
                · refine lv_iconst (v := nI 1) hx hb dX2_lineOf_90 (by decide) ?_
                  refine lv_goto (tgt := 95) hx hb dX2_lineOf_91 (by decide) ?_
                  refine lv_iadd hx hb dX2_lineOf_95 (xk_top (nI_add _ _) ?_)
                  refine lv_istore_n (lv' := [(3, .int (nI (all9 + 1))), (7, .int (nI 0)), (0, .ref o), (1, .int x), (2, .int y), (4, .int (nI live9)), (5, .int (tm_it q9)), (6, .int (nI k))]) hx hb dX2_lineOf_96 rfl hl (by decide) rfl (fun ls hl => ?_)
                  refine lv_iload hx hb dX2_lineOf_97 (lv_at hl 5 rfl) ?_
                  refine lv_iload hx hb dX2_lineOf_99 (lv_at hl 1 rfl) ?_
                  refine xk_if_eq_t (tgt := 108) hx hb (by omega) dX2_lineOf_101 (by decide) (by decide) ?_
                  refine lv_iconst (v := nI 0) hx hb dX2_lineOf_108 (by decide) ?_
                  refine lv_iadd hx hb dX2_lineOf_109 (xk_top (nI_add _ _) ?_)
                  refine lv_istore (lv' := [(4, .int (nI (live9 + 0))), (3, .int (nI (all9 + 1))), (7, .int (nI 0)), (0, .ref o), (1, .int x), (2, .int y), (5, .int (tm_it q9)), (6, .int (nI k))]) hx hb dX2_lineOf_110 hl (by decide) rfl (fun ls hl => ?_)
                  refine lv_iload hx hb dX2_lineOf_112 (lv_at hl 2 rfl) ?_
                  refine xk_if_eq_t (tgt := 153) hx hb (by omega) dX2_lineOf_114 (by decide) (by decide) ?_
                  refine lv_iload hx hb dX2_lineOf_153 (lv_at hl 6 rfl) ?_
                  refine lv_istore (lv' := [(5, .int (tm_it q9)), (4, .int (nI (live9 + 0))), (3, .int (nI (all9 + 1))), (7, .int (nI 0)), (0, .ref o), (1, .int x), (2, .int y), (6, .int (nI k))]) hx hb dX2_lineOf_155 hl (by decide) rfl (fun ls hl => ?_)
                  refine lv_iinc (v := nI (k + 1)) (lv' := [(6, .int (nI (k + 1))), (5, .int (tm_it q9)), (4, .int (nI (live9 + 0))), (3, .int (nI (all9 + 1))), (7, .int (nI 0)), (0, .ref o), (1, .int x), (2, .int y)]) hx hb dX2_lineOf_157 hl (k := 7) rfl (xk_inc k) (by decide) rfl (fun ls hl => ?_)
                  refine lv_goto (tgt := 42) hx hb dX2_lineOf_160 (by decide) ?_
                  exact ih_42 (k + 1) (all9 + 1) (live9 + 0) q9 _ _ (by omega) (by show _ = tl_sum (tl_md (A 0) (A 6) (tl_n x) 40) k + (if 0 < (tl_md (A 0) (A 6) (tl_n x) 40) k then 1 else 0); rw [← hl1, if_pos (by omega)]) (by show _ = tl_ll (A 0) (tl_md (A 0) (A 6) (tl_n x) 40) k + (if 0 < (tl_md (A 0) (A 6) (tl_n x) 40) k ∧ tl_al (A 0) k = true then 1 else 0); rw [← hl2, if_neg (fun z => absurd (hc_69.symm.trans z.2) (by decide))]) (by show _ = (if 0 < (tl_md (A 0) (A 6) (tl_n x) 40) k ∧ tl_al (A 0) k = true ∧ tl_lm (A 0) (tl_md (A 0) (A 6) (tl_n x) 40) k < tl_wor (A 0) (A 0 (14 + 7 * k)) 8 + 1 then tl_wor (A 0) (A 0 (14 + 7 * k)) 8 + 1 else tl_lm (A 0) (tl_md (A 0) (A 6) (tl_n x) 40) k); rw [← hl3, if_neg (fun z => absurd (hc_69.symm.trans z.2.1) (by decide))]) (by omega) hI_33 ls (lv_sub hl [5, 6, 7, 3, 2, 1, 0] rfl)
              · refine lv_iconst (v := nI 1) hx hb dX2_lineOf_72 (by decide) ?_
                refine lv_goto (tgt := 77) hx hb dX2_lineOf_73 (by decide) ?_
                refine lv_istore (lv' := [(7, .int (nI 1)), (0, .ref o), (1, .int x), (2, .int y), (3, .int (nI all9)), (4, .int (nI live9)), (5, .int (tm_it q9)), (6, .int (nI k))]) hx hb dX2_lineOf_77 hl (by decide) rfl (fun ls hl => ?_)
                refine lv_iload_n hx hb dX2_lineOf_79 rfl (lv_at hl 4 rfl) ?_
                refine lv_aload_n hx hb dX2_lineOf_80 rfl (lv_at hl 1 rfl) ?_
                refine xk_get B hI_33 hf_14 rfl in_X2 12 (by decide) q1444 rfl dX2_lineOf_81 ?_
                refine lv_iload hx hb dX2_lineOf_84 (lv_at hl 7 rfl) ?_
                refine xk_zald B hI_33 hf_21 (by omega) (by decide) dX2_lineOf_86 ?_
                refine xk_if_eq (tgt := 94) hx hb (by omega) dX2_lineOf_87 (by decide) (fun hc_87 => ?_) (fun hc_87 => ?_)
                · exfalso; omega
                · refine lv_iconst (v := nI 1) hx hb dX2_lineOf_90 (by decide) ?_
                  refine lv_goto (tgt := 95) hx hb dX2_lineOf_91 (by decide) ?_
                  refine lv_iadd hx hb dX2_lineOf_95 (xk_top (nI_add _ _) ?_)
                  refine lv_istore_n (lv' := [(3, .int (nI (all9 + 1))), (7, .int (nI 1)), (0, .ref o), (1, .int x), (2, .int y), (4, .int (nI live9)), (5, .int (tm_it q9)), (6, .int (nI k))]) hx hb dX2_lineOf_96 rfl hl (by decide) rfl (fun ls hl => ?_)
                  refine lv_iload hx hb dX2_lineOf_97 (lv_at hl 5 rfl) ?_
                  refine lv_iload hx hb dX2_lineOf_99 (lv_at hl 1 rfl) ?_
                  refine xk_if_eq_f (tgt := 108) hx hb (by omega) dX2_lineOf_101 (by decide) (by decide) ?_
                  refine lv_iconst (v := nI 1) hx hb dX2_lineOf_104 (by decide) ?_
                  refine lv_goto (tgt := 109) hx hb dX2_lineOf_105 (by decide) ?_
                  refine lv_iadd hx hb dX2_lineOf_109 (xk_top (nI_add _ _) ?_)
                  refine lv_istore (lv' := [(4, .int (nI (live9 + 1))), (3, .int (nI (all9 + 1))), (7, .int (nI 1)), (0, .ref o), (1, .int x), (2, .int y), (5, .int (tm_it q9)), (6, .int (nI k))]) hx hb dX2_lineOf_110 hl (by decide) rfl (fun ls hl => ?_)
                  refine lv_iload hx hb dX2_lineOf_112 (lv_at hl 2 rfl) ?_
                  refine xk_if_eq_f (tgt := 153) hx hb (by omega) dX2_lineOf_114 (by decide) (by decide) ?_
                  refine lv_aload_n hx hb dX2_lineOf_117 rfl (lv_at hl 3 rfl) ?_
                  refine lv_aload_n hx hb dX2_lineOf_118 rfl (lv_at hl 3 rfl) ?_
                  refine xk_get B hI_33 hf_14 rfl in_X2 0 (by decide) q1432 rfl dX2_lineOf_119 ?_
                  refine lv_iload hx hb dX2_lineOf_122 (lv_at hl 7 rfl) ?_
                  refine xk_ri0 (xk_cS B hI_33 hl [.int (nI k)] [.ref (ad 0), .ref o] 1 (m2_of g k) (lw_S q1524 q1525 q79 q1526) ⟨by decide +kernel, by decide +kernel, by decide +kernel⟩ ⟨Nat.le_of_ble_eq_true rfl, Nat.le_of_ble_eq_true rfl⟩ rfl rfl (Nat.le_of_ble_eq_true rfl) dX2_lineOf_124 (Nat.le_of_ble_eq_true rfl) (Nat.le_of_ble_eq_true rfl)) hI_33 (fun H_37 L_38 hI_36 => ?_)
                  refine xk_top (y := nI (14 + 7 * k)) rfl ?_
                  refine xk_iald B hI_36 hf_15 (by omega) (by decide) dX2_lineOf_127 ?_
                  refine xk_ri0 (xk_cV B hI_36 hl [.int (nI (A 0 (14 + 7 * k)))] [] 1 (m2_worth g hM_32 hk0 (pt := A 0 (14 + 7 * k)) (by omega)) hf_14 rfl (lw_V q1636 q1638 qs52 q79 q1639) ⟨rfl, by decide +kernel, by decide +kernel, by decide +kernel⟩ ⟨Nat.le_of_ble_eq_true rfl, Nat.le_of_ble_eq_true rfl⟩ rfl rfl (Nat.le_of_ble_eq_true rfl) dX2_lineOf_128 (Nat.le_of_ble_eq_true rfl) (Nat.le_of_ble_eq_true rfl)) hI_36 (fun H_40 L_41 hI_39 => ?_)
                  refine xk_top (y := nI (tl_wor (A 0) (A 0 (14 + 7 * k)) 8)) rfl ?_
                  refine lv_iload hx hb dX2_lineOf_131 (lv_at hl 6 rfl) ?_
                  refine lv_icmp_le (tgt := 153) hx hb dX2_lineOf_133 (by decide) (fun hc_133 => ?_) (fun hc_133 => ?_)
                  · have hq9 : ¬ q9 < tl_wor (A 0) (A 0 (14 + 7 * k)) 8 + 1 := fun z => Int32.not_le.mpr ((tl_itlt (by omega) (by omega)).mpr z) hc_133
                    refine lv_iload hx hb dX2_lineOf_153 (lv_at hl 6 rfl) ?_
                    refine lv_istore (lv' := [(5, .int (tm_it q9)), (4, .int (nI (live9 + 1))), (3, .int (nI (all9 + 1))), (7, .int (nI 1)), (0, .ref o), (1, .int x), (2, .int y), (6, .int (nI k))]) hx hb dX2_lineOf_155 hl (by decide) rfl (fun ls hl => ?_)
                    refine lv_iinc (v := nI (k + 1)) (lv' := [(6, .int (nI (k + 1))), (5, .int (tm_it q9)), (4, .int (nI (live9 + 1))), (3, .int (nI (all9 + 1))), (7, .int (nI 1)), (0, .ref o), (1, .int x), (2, .int y)]) hx hb dX2_lineOf_157 hl (k := 7) rfl (xk_inc k) (by decide) rfl (fun ls hl => ?_)
                    refine lv_goto (tgt := 42) hx hb dX2_lineOf_160 (by decide) ?_
                    exact ih_42 (k + 1) (all9 + 1) (live9 + 1) q9 _ _ (by omega) (by show _ = tl_sum (tl_md (A 0) (A 6) (tl_n x) 40) k + (if 0 < (tl_md (A 0) (A 6) (tl_n x) 40) k then 1 else 0); rw [← hl1, if_pos (by omega)]) (by show _ = tl_ll (A 0) (tl_md (A 0) (A 6) (tl_n x) 40) k + (if 0 < (tl_md (A 0) (A 6) (tl_n x) 40) k ∧ tl_al (A 0) k = true then 1 else 0); rw [← hl2, if_pos ⟨by omega, hc_69⟩]) (by show _ = (if 0 < (tl_md (A 0) (A 6) (tl_n x) 40) k ∧ tl_al (A 0) k = true ∧ tl_lm (A 0) (tl_md (A 0) (A 6) (tl_n x) 40) k < tl_wor (A 0) (A 0 (14 + 7 * k)) 8 + 1 then tl_wor (A 0) (A 0 (14 + 7 * k)) 8 + 1 else tl_lm (A 0) (tl_md (A 0) (A 6) (tl_n x) 40) k); rw [← hl3, if_neg (fun z => hq9 z.2.2)]) (by omega) hI_39 ls (lv_sub hl [5, 6, 7, 3, 2, 1, 0] rfl)
                  · have hq9 : q9 < tl_wor (A 0) (A 0 (14 + 7 * k)) 8 + 1 := (tl_itlt (by omega) (by omega)).mp (Int32.not_le.mp hc_133)
                    refine lv_aload_n hx hb dX2_lineOf_136 rfl (lv_at hl 3 rfl) ?_
                    refine lv_aload_n hx hb dX2_lineOf_137 rfl (lv_at hl 3 rfl) ?_
                    refine xk_get B hI_39 hf_14 rfl in_X2 0 (by decide) q1432 rfl dX2_lineOf_138 ?_
                    refine lv_iload hx hb dX2_lineOf_141 (lv_at hl 7 rfl) ?_
                    refine xk_ri0 (xk_cS B hI_39 hl [.int (nI k)] [.ref (ad 0), .ref o] 1 (m2_of g k) (lw_S q1524 q1525 q79 q1526) ⟨by decide +kernel, by decide +kernel, by decide +kernel⟩ ⟨Nat.le_of_ble_eq_true rfl, Nat.le_of_ble_eq_true rfl⟩ rfl rfl (Nat.le_of_ble_eq_true rfl) dX2_lineOf_143 (Nat.le_of_ble_eq_true rfl) (Nat.le_of_ble_eq_true rfl)) hI_39 (fun H_43 L_44 hI_42 => ?_)
                    refine xk_top (y := nI (14 + 7 * k)) rfl ?_
                    refine xk_iald B hI_42 hf_15 (by omega) (by decide) dX2_lineOf_146 ?_
                    refine xk_ri0 (xk_cV B hI_42 hl [.int (nI (A 0 (14 + 7 * k)))] [] 1 (m2_worth g hM_32 hk0 (pt := A 0 (14 + 7 * k)) (by omega)) hf_14 rfl (lw_V q1636 q1638 qs52 q79 q1639) ⟨rfl, by decide +kernel, by decide +kernel, by decide +kernel⟩ ⟨Nat.le_of_ble_eq_true rfl, Nat.le_of_ble_eq_true rfl⟩ rfl rfl (Nat.le_of_ble_eq_true rfl) dX2_lineOf_147 (Nat.le_of_ble_eq_true rfl) (Nat.le_of_ble_eq_true rfl)) hI_42 (fun H_46 L_47 hI_45 => ?_)
                    refine xk_top (y := nI (tl_wor (A 0) (A 0 (14 + 7 * k)) 8)) rfl ?_
                    refine lv_goto (tgt := 155) hx hb dX2_lineOf_150 (by decide) ?_
                    refine lv_istore (lv' := [(5, .int (nI (tl_wor (A 0) (A 0 (14 + 7 * k)) 8))), (4, .int (nI (live9 + 1))), (3, .int (nI (all9 + 1))), (7, .int (nI 1)), (0, .ref o), (1, .int x), (2, .int y), (6, .int (nI k))]) hx hb dX2_lineOf_155 hl (by decide) rfl (fun ls hl => ?_)
                    refine lv_iinc (v := nI (k + 1)) (lv' := [(6, .int (nI (k + 1))), (5, .int (nI (tl_wor (A 0) (A 0 (14 + 7 * k)) 8))), (4, .int (nI (live9 + 1))), (3, .int (nI (all9 + 1))), (7, .int (nI 1)), (0, .ref o), (1, .int x), (2, .int y)]) hx hb dX2_lineOf_157 hl (k := 7) rfl (xk_inc k) (by decide) rfl (fun ls hl => ?_)
                    refine lv_goto (tgt := 42) hx hb dX2_lineOf_160 (by decide) ?_
                    exact ih_42 (k + 1) (all9 + 1) (live9 + 1) (tl_wor (A 0) (A 0 (14 + 7 * k)) 8 + 1) _ _ (by omega) (by show _ = tl_sum (tl_md (A 0) (A 6) (tl_n x) 40) k + (if 0 < (tl_md (A 0) (A 6) (tl_n x) 40) k then 1 else 0); rw [← hl1, if_pos (by omega)]) (by show _ = tl_ll (A 0) (tl_md (A 0) (A 6) (tl_n x) 40) k + (if 0 < (tl_md (A 0) (A 6) (tl_n x) 40) k ∧ tl_al (A 0) k = true then 1 else 0); rw [← hl2, if_pos ⟨by omega, hc_69⟩]) (by show _ = (if 0 < (tl_md (A 0) (A 6) (tl_n x) 40) k ∧ tl_al (A 0) k = true ∧ tl_lm (A 0) (tl_md (A 0) (A 6) (tl_n x) 40) k < tl_wor (A 0) (A 0 (14 + 7 * k)) 8 + 1 then tl_wor (A 0) (A 0 (14 + 7 * k)) 8 + 1 else tl_lm (A 0) (tl_md (A 0) (A 6) (tl_n x) 40) k); rw [← hl3, if_pos ⟨by omega, hc_69, hq9⟩]) (by omega) hI_45 ls (lv_sub hl [5, 6, 7, 3, 2, 1, 0] rfl)
      exact hloop_42 (A 0 0 - 0 + 1) 0 0 0 0 _ _ (by omega) (by rfl) (by rfl) (by rfl) (Nat.lt_succ_self _) hI_7 ls (lv_sub hl [4, 5, 6, 3, 2, 1, 0] rfl)
    · refine lv_bipush (v := (-2)) hx hb dX2_lineOf_22 (by decide) ?_
      have hM_48 : tm_Ok g X o ad (va_up A 6 (A 6)) S := ⟨hO, hA0, hA1, hA2, hA3, hA4, hA5, hA6, hA7, hA8, hA9⟩
      exact xk_reti B hI_4 hr rfl dX2_lineOf_24 (Nat.le_of_ble_eq_true rfl) (Nat.le_of_ble_eq_true rfl) (⟨(by unfold tl_line; rw [if_pos hc_5, if_neg (by rw [hc_19]; decide)]), (A 6), hM_48, hfr⟩)
  · refine lv_iconst (v := (-1)) hx hb dX2_lineOf_8 (by decide) ?_
    have hM_49 : tm_Ok g X o ad (va_up A 6 (A 6)) S := ⟨hO, hA0, hA1, hA2, hA3, hA4, hA5, hA6, hA7, hA8, hA9⟩
    exact xk_reti B hI_1 hr rfl dX2_lineOf_9 (Nat.le_of_ble_eq_true rfl) (Nat.le_of_ble_eq_true rfl) (⟨(by unfold tl_line; rw [if_neg (by rw [hc_5]; decide)]), (A 6), hM_49, hfr⟩)
set_option maxHeartbeats 4000000 in
theorem m2_unlike (g : xk_G) {X : xk_H} {o : Nat} {ad : Nat → Nat} {A : Nat → Nat → Nat} {S : Nat → Nat} (hM : tm_Ok g X o ad A S) (hk : tl_inv (A 0))  : xk_C g yX2_unlike (ws_ yX2_unlike cX2_unlike 5 (some .int)) ({ frames := 2, cells := 0, slots := 0, locals := 41 } : Room) [.ref o] X (xk_Qi (nI (tl_unl (A 0) (A 0 0))) (fun X1 => X1 = X)) := by
  refine xk_ofW (by decide +kernel) (Nat.le_of_ble_eq_true rfl) (fun p e s m args below meth c B hr hname hargs hI ls hl => ?_)
  have B : xk_B g p s m args meth c RX2 cX2_unlike 5 := B
  have hl : lv_has ls 5 [(0, .ref o)] := hl
  have hx := B.1
  have hb := B.2.1
  have hM0 := hM
  obtain ⟨hO, hA0, hA1, hA2, hA3, hA4, hA5, hA6, hA7, hA8, hA9⟩ := hM
  have hk0 := hk
  obtain ⟨k0, kb, kw, kl, ks, kr1, kr2, kwt, kL⟩ := hk
  have hfr : xk_fr o X X := xk_fr.rf
  refine lv_iconst (v := nI 0) hx hb dX2_unlike_0 (by decide) ?_
  refine lv_istore_n (lv' := [(1, .int (nI 0)), (0, .ref o)]) hx hb dX2_unlike_1 rfl hl (by decide) rfl (fun ls hl => ?_)
  refine lv_iconst (v := nI 0) hx hb dX2_unlike_2 (by decide) ?_
  refine lv_istore_n (lv' := [(2, .int (nI 0)), (1, .int (nI 0)), (0, .ref o)]) hx hb dX2_unlike_3 rfl hl (by decide) rfl (fun ls hl => ?_)
  have hloop_4 : ∀ (n_4 : Nat) (b9 : Nat) (c9 : Nat) (H_1 : Heap) (L_2 : List Loc), (b9 ≤ A 0 0) → (c9 = tl_unl (A 0) b9) → A 0 0 - b9 < n_4 → xk_I g s H_1 X L_2 → ∀ ls : Array Slot, lv_has ls 5 [(0, .ref o), (1, .int (nI c9)), (2, .int (nI b9))] → W p (xk_l g) e (({ frames := 2, cells := 0, slots := 0, locals := 41 } : Room)) s m args below meth c H_1 L_2 0 0 (MQ below (xk_Q g (xk_Qi (nI (tl_unl (A 0) (A 0 0))) (fun X1 => X1 = X))) args s (0) (0) (xk_A g)) (F0 m 4 ls []) := by
    intro n_4
    induction n_4 with
    | zero => intros; omega
    | succ n_4 ih_4 =>
      intro b9 c9 H_1 L_2 hb1 hc1 hm_4  hI_3 ls hl
      refine lv_iload_n hx hb dX2_unlike_4 rfl (lv_at hl 2 rfl) ?_
      refine lv_aload_n hx hb dX2_unlike_5 rfl (lv_at hl 0 rfl) ?_
      refine xk_get B hI_3 hO rfl in_X2 0 (by decide) q1432 rfl dX2_unlike_6 ?_
      refine lv_iconst (v := nI 0) hx hb dX2_unlike_9 (by decide) ?_
      refine xk_iald B hI_3 hA0 (by omega) (by decide) dX2_unlike_10 ?_
      refine xk_icmp_ge (tgt := 94) hx hb (by omega) (by omega) dX2_unlike_11 (by decide) (fun hc_11 => ?_) (fun hc_11 => ?_)
      · have q1 : b9 = A 0 0 := by omega
        refine lv_iload_n hx hb dX2_unlike_94 rfl (lv_at hl 1 rfl) ?_
        exact xk_reti B hI_3 hr rfl dX2_unlike_95 (Nat.le_of_ble_eq_true rfl) (Nat.le_of_ble_eq_true rfl) (⟨by rw [hc1, q1], rfl⟩)
      · have qb := kb b9 hc_11
        have qu := tl_unl_le (A 0) b9
        refine lv_aload_n hx hb dX2_unlike_14 rfl (lv_at hl 0 rfl) ?_
        refine lv_iload_n hx hb dX2_unlike_15 rfl (lv_at hl 2 rfl) ?_
        refine xk_ri0 (xk_cV B hI_3 hl [.int (nI b9)] [] 1 (m2_lives g hM0 (b := b9) (by omega) (show A 0 (14 + 7 * b9 + 3) < 2147483648 from by first | omega | (have := kb b9 (by omega); omega))) hO rfl (lw_V q1548 q1550 qs38 q79 q1551) ⟨rfl, by decide +kernel, by decide +kernel, by decide +kernel⟩ ⟨Nat.le_of_ble_eq_true rfl, Nat.le_of_ble_eq_true rfl⟩ rfl rfl (Nat.le_of_ble_eq_true rfl) dX2_unlike_16 (Nat.le_of_ble_eq_true rfl) (Nat.le_of_ble_eq_true rfl)) hI_3 (fun H_5 L_6 hI_4 => ?_)
        refine xk_top (y := xk_z (tl_al (A 0) b9)) rfl ?_
        refine lv_istore_n (lv' := [(3, .int (xk_z (tl_al (A 0) b9))), (0, .ref o), (1, .int (nI c9)), (2, .int (nI b9))]) hx hb dX2_unlike_19 rfl hl (by decide) rfl (fun ls hl => ?_)
        refine lv_iconst (v := nI 0) hx hb dX2_unlike_20 (by decide) ?_
        refine lv_istore (lv' := [(4, .int (nI 0)), (3, .int (xk_z (tl_al (A 0) b9))), (0, .ref o), (1, .int (nI c9)), (2, .int (nI b9))]) hx hb dX2_unlike_21 hl (by decide) rfl (fun ls hl => ?_)
        have hloop_23 : ∀ (n_23 : Nat) (o9 : Nat) (v9 : Bool) (H_7 : Heap) (L_8 : List Loc), (o9 ≤ b9) → (v9 = tl_nw (A 0) b9 o9) → b9 - o9 < n_23 → xk_I g s H_7 X L_8 → ∀ ls : Array Slot, lv_has ls 5 [(0, .ref o), (1, .int (nI c9)), (2, .int (nI b9)), (3, .int (xk_z v9)), (4, .int (nI o9))] → W p (xk_l g) e (({ frames := 2, cells := 0, slots := 0, locals := 41 } : Room)) s m args below meth c H_7 L_8 0 0 (MQ below (xk_Q g (xk_Qi (nI (tl_unl (A 0) (A 0 0))) (fun X1 => X1 = X))) args s (0) (0) (xk_A g)) (F0 m 23 ls []) := by
          intro n_23
          induction n_23 with
          | zero => intros; omega
          | succ n_23 ih_23 =>
            intro o9 v9 H_7 L_8 ho1 hv1 hm_23  hI_9 ls hl
            refine lv_iload hx hb dX2_unlike_23 (lv_at hl 4 rfl) ?_
            refine lv_iload_n hx hb dX2_unlike_25 rfl (lv_at hl 2 rfl) ?_
            refine xk_icmp_ge (tgt := 76) hx hb (by omega) (by omega) dX2_unlike_26 (by decide) (fun hc_26 => ?_) (fun hc_26 => ?_)
            · have ho2 : o9 = b9 := by omega
              refine lv_iload_n hx hb dX2_unlike_76 rfl (lv_at hl 1 rfl) ?_
              refine lv_iload_n hx hb dX2_unlike_77 rfl (lv_at hl 3 rfl) ?_
              refine xk_if_eq_z (tgt := 85) hx hb dX2_unlike_78 (by decide) (fun hc_78 => ?_) (fun hc_78 => ?_)
              · have hc2 : ¬ tl_nw (A 0) b9 b9 = true := by rw [show tl_nw (A 0) b9 b9 = false by rw [← hc_78, hv1, ho2]]; decide
                refine lv_iconst (v := nI 0) hx hb dX2_unlike_85 (by decide) ?_
                refine lv_iadd hx hb dX2_unlike_86 (xk_top (nI_add _ _) ?_)
                refine lv_istore_n (lv' := [(1, .int (nI (c9 + 0))), (0, .ref o), (2, .int (nI b9)), (3, .int (xk_z v9)), (4, .int (nI o9))]) hx hb dX2_unlike_87 rfl hl (by decide) rfl (fun ls hl => ?_)
                refine lv_iinc (v := nI (b9 + 1)) (lv' := [(2, .int (nI (b9 + 1))), (1, .int (nI (c9 + 0))), (0, .ref o), (3, .int (xk_z v9)), (4, .int (nI o9))]) hx hb dX2_unlike_88 hl (k := 2) rfl (xk_inc b9) (by decide) rfl (fun ls hl => ?_)
                refine lv_goto (tgt := 4) hx hb dX2_unlike_91 (by decide) ?_
                exact ih_4 (b9 + 1) (c9 + 0) _ _ (by omega) (by show _ = tl_unl (A 0) b9 + (if tl_nw (A 0) b9 b9 = true then 1 else 0); rw [← hc1]; first | rw [if_pos hc2] | rw [if_neg hc2]) (by omega) hI_9 ls (lv_sub hl [2, 1, 0] rfl)
              · have hc2 : tl_nw (A 0) b9 b9 = true := by rw [← hc_78, hv1, ho2]
                refine lv_iconst (v := nI 1) hx hb dX2_unlike_81 (by decide) ?_
                refine lv_goto (tgt := 86) hx hb dX2_unlike_82 (by decide) ?_
                refine lv_iadd hx hb dX2_unlike_86 (xk_top (nI_add _ _) ?_)
                refine lv_istore_n (lv' := [(1, .int (nI (c9 + 1))), (0, .ref o), (2, .int (nI b9)), (3, .int (xk_z v9)), (4, .int (nI o9))]) hx hb dX2_unlike_87 rfl hl (by decide) rfl (fun ls hl => ?_)
                refine lv_iinc (v := nI (b9 + 1)) (lv' := [(2, .int (nI (b9 + 1))), (1, .int (nI (c9 + 1))), (0, .ref o), (3, .int (xk_z v9)), (4, .int (nI o9))]) hx hb dX2_unlike_88 hl (k := 2) rfl (xk_inc b9) (by decide) rfl (fun ls hl => ?_)
                refine lv_goto (tgt := 4) hx hb dX2_unlike_91 (by decide) ?_
                exact ih_4 (b9 + 1) (c9 + 1) _ _ (by omega) (by show _ = tl_unl (A 0) b9 + (if tl_nw (A 0) b9 b9 = true then 1 else 0); rw [← hc1]; first | rw [if_pos hc2] | rw [if_neg hc2]) (by omega) hI_9 ls (lv_sub hl [2, 1, 0] rfl)
            · have qo := kb o9 (by omega)
              refine lv_iload_n hx hb dX2_unlike_29 rfl (lv_at hl 3 rfl) ?_
              refine xk_if_eq_z (tgt := 68) hx hb dX2_unlike_30 (by decide) (fun hc_30 => ?_) (fun hc_30 => ?_)
              · refine lv_iconst (v := nI 0) hx hb dX2_unlike_68 (by decide) ?_
                refine lv_istore_n (lv' := [(3, .int (nI 0)), (0, .ref o), (1, .int (nI c9)), (2, .int (nI b9)), (4, .int (nI o9))]) hx hb dX2_unlike_69 rfl hl (by decide) rfl (fun ls hl => ?_)
                refine lv_iinc (v := nI (o9 + 1)) (lv' := [(4, .int (nI (o9 + 1))), (3, .int (nI 0)), (0, .ref o), (1, .int (nI c9)), (2, .int (nI b9))]) hx hb dX2_unlike_70 hl (k := 4) rfl (xk_inc o9) (by decide) rfl (fun ls hl => ?_)
                refine lv_goto (tgt := 23) hx hb dX2_unlike_73 (by decide) ?_
                exact ih_23 (o9 + 1) false _ _ (by omega) (by show _ = (tl_nw (A 0) b9 o9 && !(tl_al (A 0) o9 && decide (A 0 (14 + 7 * o9) = A 0 (14 + 7 * b9)))); rw [← hv1]; first | (rw [hc_30]; rfl) | (rw [hc_30, hc_39]; rfl) | (rw [hc_30, hc_39, show decide (A 0 (14 + 7 * o9) = A 0 (14 + 7 * b9)) = true from decide_eq_true hc_61]; rfl) | (rw [hc_30, hc_39, show decide (A 0 (14 + 7 * o9) = A 0 (14 + 7 * b9)) = false from decide_eq_false hc_61]; rfl)) (by omega) hI_9 ls (lv_sub hl [2, 3, 4, 1, 0] rfl)
              · refine lv_aload_n hx hb dX2_unlike_33 rfl (lv_at hl 0 rfl) ?_
                refine lv_iload hx hb dX2_unlike_34 (lv_at hl 4 rfl) ?_
                refine xk_ri0 (xk_cV B hI_9 hl [.int (nI o9)] [] 1 (m2_lives g hM0 (b := o9) (by omega) (show A 0 (14 + 7 * o9 + 3) < 2147483648 from by first | omega | (have := kb o9 (by omega); omega))) hO rfl (lw_V q1548 q1550 qs38 q79 q1551) ⟨rfl, by decide +kernel, by decide +kernel, by decide +kernel⟩ ⟨Nat.le_of_ble_eq_true rfl, Nat.le_of_ble_eq_true rfl⟩ rfl rfl (Nat.le_of_ble_eq_true rfl) dX2_unlike_36 (Nat.le_of_ble_eq_true rfl) (Nat.le_of_ble_eq_true rfl)) hI_9 (fun H_11 L_12 hI_10 => ?_)
                refine xk_top (y := xk_z (tl_al (A 0) o9)) rfl ?_
                refine xk_if_eq_z (tgt := 64) hx hb dX2_unlike_39 (by decide) (fun hc_39 => ?_) (fun hc_39 => ?_)
                · refine lv_iconst (v := nI 1) hx hb dX2_unlike_64 (by decide) ?_
                  refine lv_goto (tgt := 69) hx hb dX2_unlike_65 (by decide) ?_
                  refine lv_istore_n (lv' := [(3, .int (nI 1)), (0, .ref o), (1, .int (nI c9)), (2, .int (nI b9)), (4, .int (nI o9))]) hx hb dX2_unlike_69 rfl hl (by decide) rfl (fun ls hl => ?_)
                  refine lv_iinc (v := nI (o9 + 1)) (lv' := [(4, .int (nI (o9 + 1))), (3, .int (nI 1)), (0, .ref o), (1, .int (nI c9)), (2, .int (nI b9))]) hx hb dX2_unlike_70 hl (k := 4) rfl (xk_inc o9) (by decide) rfl (fun ls hl => ?_)
                  refine lv_goto (tgt := 23) hx hb dX2_unlike_73 (by decide) ?_
                  exact ih_23 (o9 + 1) true _ _ (by omega) (by show _ = (tl_nw (A 0) b9 o9 && !(tl_al (A 0) o9 && decide (A 0 (14 + 7 * o9) = A 0 (14 + 7 * b9)))); rw [← hv1]; first | (rw [hc_30]; rfl) | (rw [hc_30, hc_39]; rfl) | (rw [hc_30, hc_39, show decide (A 0 (14 + 7 * o9) = A 0 (14 + 7 * b9)) = true from decide_eq_true hc_61]; rfl) | (rw [hc_30, hc_39, show decide (A 0 (14 + 7 * o9) = A 0 (14 + 7 * b9)) = false from decide_eq_false hc_61]; rfl)) (by omega) hI_10 ls (lv_sub hl [2, 3, 4, 1, 0] rfl)
                · refine lv_aload_n hx hb dX2_unlike_42 rfl (lv_at hl 0 rfl) ?_
                  refine xk_get B hI_10 hO rfl in_X2 0 (by decide) q1432 rfl dX2_unlike_43 ?_
                  refine lv_iload hx hb dX2_unlike_46 (lv_at hl 4 rfl) ?_
                  refine xk_ri0 (xk_cS B hI_10 hl [.int (nI o9)] [.ref (ad 0)] 1 (m2_of g o9) (lw_S q1524 q1525 q79 q1526) ⟨by decide +kernel, by decide +kernel, by decide +kernel⟩ ⟨Nat.le_of_ble_eq_true rfl, Nat.le_of_ble_eq_true rfl⟩ rfl rfl (Nat.le_of_ble_eq_true rfl) dX2_unlike_48 (Nat.le_of_ble_eq_true rfl) (Nat.le_of_ble_eq_true rfl)) hI_10 (fun H_14 L_15 hI_13 => ?_)
                  refine xk_top (y := nI (14 + 7 * o9)) rfl ?_
                  refine xk_iald B hI_13 hA0 (by omega) (by decide) dX2_unlike_51 ?_
                  refine lv_aload_n hx hb dX2_unlike_52 rfl (lv_at hl 0 rfl) ?_
                  refine xk_get B hI_13 hO rfl in_X2 0 (by decide) q1432 rfl dX2_unlike_53 ?_
                  refine lv_iload_n hx hb dX2_unlike_56 rfl (lv_at hl 2 rfl) ?_
                  refine xk_ri0 (xk_cS B hI_13 hl [.int (nI b9)] [.ref (ad 0), .int (nI (A 0 (14 + 7 * o9)))] 1 (m2_of g b9) (lw_S q1524 q1525 q79 q1526) ⟨by decide +kernel, by decide +kernel, by decide +kernel⟩ ⟨Nat.le_of_ble_eq_true rfl, Nat.le_of_ble_eq_true rfl⟩ rfl rfl (Nat.le_of_ble_eq_true rfl) dX2_unlike_57 (Nat.le_of_ble_eq_true rfl) (Nat.le_of_ble_eq_true rfl)) hI_13 (fun H_17 L_18 hI_16 => ?_)
                  refine xk_top (y := nI (14 + 7 * b9)) rfl ?_
                  refine xk_iald B hI_16 hA0 (by omega) (by decide) dX2_unlike_60 ?_
                  refine xk_icmp_eq (tgt := 68) hx hb (by omega) (by omega) dX2_unlike_61 (by decide) (fun hc_61 => ?_) (fun hc_61 => ?_)
                  · refine lv_iconst (v := nI 0) hx hb dX2_unlike_68 (by decide) ?_
                    refine lv_istore_n (lv' := [(3, .int (nI 0)), (0, .ref o), (1, .int (nI c9)), (2, .int (nI b9)), (4, .int (nI o9))]) hx hb dX2_unlike_69 rfl hl (by decide) rfl (fun ls hl => ?_)
                    refine lv_iinc (v := nI (o9 + 1)) (lv' := [(4, .int (nI (o9 + 1))), (3, .int (nI 0)), (0, .ref o), (1, .int (nI c9)), (2, .int (nI b9))]) hx hb dX2_unlike_70 hl (k := 4) rfl (xk_inc o9) (by decide) rfl (fun ls hl => ?_)
                    refine lv_goto (tgt := 23) hx hb dX2_unlike_73 (by decide) ?_
                    exact ih_23 (o9 + 1) false _ _ (by omega) (by show _ = (tl_nw (A 0) b9 o9 && !(tl_al (A 0) o9 && decide (A 0 (14 + 7 * o9) = A 0 (14 + 7 * b9)))); rw [← hv1]; first | (rw [hc_30]; rfl) | (rw [hc_30, hc_39]; rfl) | (rw [hc_30, hc_39, show decide (A 0 (14 + 7 * o9) = A 0 (14 + 7 * b9)) = true from decide_eq_true hc_61]; rfl) | (rw [hc_30, hc_39, show decide (A 0 (14 + 7 * o9) = A 0 (14 + 7 * b9)) = false from decide_eq_false hc_61]; rfl)) (by omega) hI_16 ls (lv_sub hl [2, 3, 4, 1, 0] rfl)
                  · refine lv_iconst (v := nI 1) hx hb dX2_unlike_64 (by decide) ?_
                    refine lv_goto (tgt := 69) hx hb dX2_unlike_65 (by decide) ?_
                    refine lv_istore_n (lv' := [(3, .int (nI 1)), (0, .ref o), (1, .int (nI c9)), (2, .int (nI b9)), (4, .int (nI o9))]) hx hb dX2_unlike_69 rfl hl (by decide) rfl (fun ls hl => ?_)
                    refine lv_iinc (v := nI (o9 + 1)) (lv' := [(4, .int (nI (o9 + 1))), (3, .int (nI 1)), (0, .ref o), (1, .int (nI c9)), (2, .int (nI b9))]) hx hb dX2_unlike_70 hl (k := 4) rfl (xk_inc o9) (by decide) rfl (fun ls hl => ?_)
                    refine lv_goto (tgt := 23) hx hb dX2_unlike_73 (by decide) ?_
                    exact ih_23 (o9 + 1) true _ _ (by omega) (by show _ = (tl_nw (A 0) b9 o9 && !(tl_al (A 0) o9 && decide (A 0 (14 + 7 * o9) = A 0 (14 + 7 * b9)))); rw [← hv1]; first | (rw [hc_30]; rfl) | (rw [hc_30, hc_39]; rfl) | (rw [hc_30, hc_39, show decide (A 0 (14 + 7 * o9) = A 0 (14 + 7 * b9)) = true from decide_eq_true hc_61]; rfl) | (rw [hc_30, hc_39, show decide (A 0 (14 + 7 * o9) = A 0 (14 + 7 * b9)) = false from decide_eq_false hc_61]; rfl)) (by omega) hI_16 ls (lv_sub hl [2, 3, 4, 1, 0] rfl)
        exact hloop_23 (b9 - 0 + 1) 0 (tl_al (A 0) b9) _ _ (by omega) (by rfl) (Nat.lt_succ_self _) hI_4 ls (lv_sub hl [2, 3, 4, 1, 0] rfl)
  exact hloop_4 (A 0 0 - 0 + 1) 0 0 _ _ (by omega) (by rfl) (Nat.lt_succ_self _) hI ls (lv_sub hl [2, 1, 0] rfl)
set_option maxHeartbeats 4000000 in
theorem m2_would (g : xk_G) {X : xk_H} {o : Nat} {ad : Nat → Nat} {A : Nat → Nat → Nat} {S : Nat → Nat} (hM : tm_Ok g X o ad A S) (hk : tl_inv (A 0)) (x y z v : Int32) : xk_C g yX2_would (ws_ yX2_would cX2_would 6 (some .int)) ({ frames := 2, cells := 0, slots := 0, locals := 46 } : Room) [.ref o, .int x, .int y, .int z, .int v] X (xk_Qi (tl_would (A 0) x y z v) (fun X1 => X1 = X)) := by
  refine xk_ofW (by decide +kernel) (Nat.le_of_ble_eq_true rfl) (fun p e s m args below meth c B hr hname hargs hI ls hl => ?_)
  have B : xk_B g p s m args meth c RX2 cX2_would 6 := B
  have hl : lv_has ls 6 [(0, .ref o), (1, .int x), (2, .int y), (3, .int z), (4, .int v)] := hl
  have hx := B.1
  have hb := B.2.1
  have hM0 := hM
  obtain ⟨hO, hA0, hA1, hA2, hA3, hA4, hA5, hA6, hA7, hA8, hA9⟩ := hM
  have hk0 := hk
  obtain ⟨k0, kb, kw, kl, ks, kr1, kr2, kwt, kL⟩ := hk
  have hfr : xk_fr o X X := xk_fr.rf
  refine lv_aload_n hx hb dX2_would_0 rfl (lv_at hl 0 rfl) ?_
  refine lv_iload_n hx hb dX2_would_1 rfl (lv_at hl 1 rfl) ?_
  refine xk_ri0 (xk_cV B hI hl [.int x] [] 1 (m2_isBulb g hM0 hk0 x) hO rfl (lw_V q1543 q1545 qs37 q79 q1546) ⟨rfl, by decide +kernel, by decide +kernel, by decide +kernel⟩ ⟨Nat.le_of_ble_eq_true rfl, Nat.le_of_ble_eq_true rfl⟩ rfl rfl (Nat.le_of_ble_eq_true rfl) dX2_would_2 (Nat.le_of_ble_eq_true rfl) (Nat.le_of_ble_eq_true rfl)) hI (fun H_2 L_3 hI_1 => ?_)
  refine xk_top (y := xk_z (tl_isb (A 0) (x))) rfl ?_
  refine xk_if_eq_z (tgt := 16) hx hb dX2_would_5 (by decide) (fun hc_5 => ?_) (fun hc_5 => ?_)
  · refine lv_iconst (v := (-1)) hx hb dX2_would_16 (by decide) ?_
    exact xk_reti B hI_1 hr rfl dX2_would_17 (Nat.le_of_ble_eq_true rfl) (Nat.le_of_ble_eq_true rfl) (⟨by unfold tl_would; rw [if_neg (by rw [hc_5]; decide)]; try rfl, rfl⟩)
  · refine lv_aload_n hx hb dX2_would_8 rfl (lv_at hl 0 rfl) ?_
    refine lv_iload_n hx hb dX2_would_9 rfl (lv_at hl 2 rfl) ?_
    refine xk_ri0 (xk_cV B hI_1 hl [.int y] [] 1 (m2_isBulb g hM0 hk0 y) hO rfl (lw_V q1543 q1545 qs37 q79 q1546) ⟨rfl, by decide +kernel, by decide +kernel, by decide +kernel⟩ ⟨Nat.le_of_ble_eq_true rfl, Nat.le_of_ble_eq_true rfl⟩ rfl rfl (Nat.le_of_ble_eq_true rfl) dX2_would_10 (Nat.le_of_ble_eq_true rfl) (Nat.le_of_ble_eq_true rfl)) hI_1 (fun H_5 L_6 hI_4 => ?_)
    refine xk_top (y := xk_z (tl_isb (A 0) (y))) rfl ?_
    refine xk_if_ne_z (tgt := 18) hx hb dX2_would_13 (by decide) (fun hc_13 => ?_) (fun hc_13 => ?_)
    · obtain ⟨hx1, hx2⟩ := tl_isb_k hc_5
      obtain ⟨hy1, hy2⟩ := tl_isb_k hc_13
      refine lv_iload_n hx hb dX2_would_18 rfl (lv_at hl 3 rfl) ?_
      refine lv_i2l hx hb dX2_would_19 rfl ?_
      refine lv_lconst (v := 0) hx hb dX2_would_20 (by decide) ?_
      refine lv_ldc2 hx hb B.ow (B.ts _ q1547) dX2_would_21 ?_
      refine xk_ri0 (xk_cS B hI_4 hl [.long ((z).toInt64), .long (0 : Int64), .long (8 : Int64)] [] 3 (m2_in g (x := (z).toInt) (lo := 0) (hi := 8) (Int32.toInt_toInt64 _) (by decide) (by decide)) (lw_S q1509 q1510 q79 q1511) ⟨by decide +kernel, by decide +kernel, by decide +kernel⟩ ⟨Nat.le_of_ble_eq_true rfl, Nat.le_of_ble_eq_true rfl⟩ rfl rfl (Nat.le_of_ble_eq_true rfl) dX2_would_24 (Nat.le_of_ble_eq_true rfl) (Nat.le_of_ble_eq_true rfl)) hI_4 (fun H_8 L_9 hI_7 => ?_)
      refine xk_top (y := xk_z (tl_rng z 0 8)) rfl ?_
      refine xk_if_eq_z (tgt := 41) hx hb dX2_would_27 (by decide) (fun hc_27 => ?_) (fun hc_27 => ?_)
      · refine lv_bipush (v := (-2)) hx hb dX2_would_41 (by decide) ?_
        exact xk_reti B hI_7 hr rfl dX2_would_43 (Nat.le_of_ble_eq_true rfl) (Nat.le_of_ble_eq_true rfl) (⟨by unfold tl_would; rw [if_pos hc_5, if_pos hc_13, if_neg (by rw [hc_27]; decide)]; try rfl, rfl⟩)
      · refine lv_iload hx hb dX2_would_30 (lv_at hl 4 rfl) ?_
        refine lv_i2l hx hb dX2_would_32 rfl ?_
        refine lv_lconst (v := 0) hx hb dX2_would_33 (by decide) ?_
        refine lv_lconst (v := 1) hx hb dX2_would_34 (by decide) ?_
        refine xk_ri0 (xk_cS B hI_7 hl [.long ((v).toInt64), .long (0 : Int64), .long (1 : Int64)] [] 3 (m2_in g (x := (v).toInt) (lo := 0) (hi := 1) (Int32.toInt_toInt64 _) (by decide) (by decide)) (lw_S q1509 q1510 q79 q1511) ⟨by decide +kernel, by decide +kernel, by decide +kernel⟩ ⟨Nat.le_of_ble_eq_true rfl, Nat.le_of_ble_eq_true rfl⟩ rfl rfl (Nat.le_of_ble_eq_true rfl) dX2_would_35 (Nat.le_of_ble_eq_true rfl) (Nat.le_of_ble_eq_true rfl)) hI_7 (fun H_11 L_12 hI_10 => ?_)
        refine xk_top (y := xk_z (tl_rng v 0 1)) rfl ?_
        refine xk_if_ne_z (tgt := 44) hx hb dX2_would_38 (by decide) (fun hc_38 => ?_) (fun hc_38 => ?_)
        · obtain ⟨hz1, hz2, hz3, hz4⟩ := tl_rng_k hc_27 (by decide)
          obtain ⟨hv1, hv2, hv3, hv4⟩ := tl_rng_k hc_38 (by decide)
          have qm := tl_mix_lt (k := tl_n z) (kb _ hx2).1 (kb _ hy2).1
          refine lv_aload_n hx hb dX2_would_44 rfl (lv_at hl 0 rfl) ?_
          refine lv_iload_n hx hb dX2_would_45 rfl (lv_at hl 1 rfl) ?_
          refine xk_top hx1 ?_
          refine lv_iload_n hx hb dX2_would_46 rfl (lv_at hl 2 rfl) ?_
          refine xk_top hy1 ?_
          refine lv_iload_n hx hb dX2_would_47 rfl (lv_at hl 3 rfl) ?_
          refine xk_top hz1 ?_
          refine xk_ri0 (xk_cV B hI_10 hl [.int (nI (tl_n x)), .int (nI (tl_n y)), .int (nI (tl_n z))] [] 3 (m2_mixed g hM0 (a := tl_n x) (b := tl_n y) (k := tl_n z) (by omega) (by omega) (by omega) (kb _ (by omega)).1 (kb _ (by omega)).1) hO rfl (lw_V q1556 q1558 qs40 q79 q1559) ⟨rfl, by decide +kernel, by decide +kernel, by decide +kernel⟩ ⟨Nat.le_of_ble_eq_true rfl, Nat.le_of_ble_eq_true rfl⟩ rfl rfl (Nat.le_of_ble_eq_true rfl) dX2_would_48 (Nat.le_of_ble_eq_true rfl) (Nat.le_of_ble_eq_true rfl)) hI_10 (fun H_14 L_15 hI_13 => ?_)
          refine xk_top (y := nI (tl_mix (A 0 (14 + 7 * (tl_n x))) (A 0 (14 + 7 * (tl_n y))) (tl_n z))) rfl ?_
          refine lv_istore (lv' := [(5, .int (nI (tl_mix (A 0 (14 + 7 * (tl_n x))) (A 0 (14 + 7 * (tl_n y))) (tl_n z)))), (0, .ref o), (1, .int x), (2, .int y), (3, .int z), (4, .int v)]) hx hb dX2_would_51 hl (by decide) rfl (fun ls hl => ?_)
          refine lv_iload hx hb dX2_would_53 (lv_at hl 5 rfl) ?_
          refine xk_top hv1 ?_
          refine xk_if_ne (tgt := 63) hx hb (by omega) dX2_would_55 (by decide) (fun hc_55 => ?_) (fun hc_55 => ?_)
          · refine lv_aload_n hx hb dX2_would_63 rfl (lv_at hl 1 rfl) ?_
            refine lv_iload hx hb dX2_would_64 (lv_at hl 0 rfl) ?_
            refine xk_ri0 (xk_cV B hI_13 hl [.int (nI (tl_mix (A 0 (14 + 7 * (tl_n x))) (A 0 (14 + 7 * (tl_n y))) (tl_n z)))] [] 1 (m2_worth g hM0 hk0 (pt := tl_mix (A 0 (14 + 7 * (tl_n x))) (A 0 (14 + 7 * (tl_n y))) (tl_n z)) (by omega)) hO rfl (lw_V q1636 q1638 qs52 q79 q1639) ⟨rfl, by decide +kernel, by decide +kernel, by decide +kernel⟩ ⟨Nat.le_of_ble_eq_true rfl, Nat.le_of_ble_eq_true rfl⟩ rfl rfl (Nat.le_of_ble_eq_true rfl) dX2_would_66 (Nat.le_of_ble_eq_true rfl) (Nat.le_of_ble_eq_true rfl)) hI_13 (fun H_17 L_18 hI_16 => ?_)
            refine xk_top (y := nI (tl_wor (A 0) (tl_mix (A 0 (14 + 7 * (tl_n x))) (A 0 (14 + 7 * (tl_n y))) (tl_n z)) 8)) rfl ?_
            exact xk_reti B hI_16 hr rfl dX2_would_69 (Nat.le_of_ble_eq_true rfl) (Nat.le_of_ble_eq_true rfl) (⟨by unfold tl_would; rw [if_pos hc_5, if_pos hc_13, if_pos hc_27, if_pos hc_38, if_neg (by omega)]; try rfl, rfl⟩)
          · refine lv_iload hx hb dX2_would_58 (lv_at hl 0 rfl) ?_
            refine lv_goto (tgt := 69) hx hb dX2_would_60 (by decide) ?_
            exact xk_reti B hI_13 hr rfl dX2_would_69 (Nat.le_of_ble_eq_true rfl) (Nat.le_of_ble_eq_true rfl) (⟨by unfold tl_would; rw [if_pos hc_5, if_pos hc_13, if_pos hc_27, if_pos hc_38, if_pos hc_55]; try rfl, rfl⟩)
        · refine lv_bipush (v := (-2)) hx hb dX2_would_41 (by decide) ?_
          exact xk_reti B hI_10 hr rfl dX2_would_43 (Nat.le_of_ble_eq_true rfl) (Nat.le_of_ble_eq_true rfl) (⟨by unfold tl_would; rw [if_pos hc_5, if_pos hc_13, if_pos hc_27, if_neg (by rw [hc_38]; decide)]; try rfl, rfl⟩)
    · refine lv_iconst (v := (-1)) hx hb dX2_would_16 (by decide) ?_
      exact xk_reti B hI_4 hr rfl dX2_would_17 (Nat.le_of_ble_eq_true rfl) (Nat.le_of_ble_eq_true rfl) (⟨by unfold tl_would; rw [if_pos hc_5, if_neg (by rw [hc_13]; decide)]; try rfl, rfl⟩)
