/-! the model: walks, printed by tools/model.py -/
set_option maxRecDepth 100000
set_option maxHeartbeats 4000000 in
theorem m2_changedW (g : xk_G) {X : xk_H} {o : Nat} {ad : Nat → Nat} {A : Nat → Nat → Nat} {S : Nat → Nat} (hM : tm_Ok g X o ad A S) {c9 : Int32} (hc9 : c9 < 0) : xk_C g yX2_changed (ws_ yX2_changed cX2_changed 3 (some .int)) ({ frames := 0, cells := 0, slots := 0, locals := 0 } : Room) [.ref o, .int c9] X (xk_Qi c9 (fun X1 => tm_Ok g X1 o ad (va_up A 4 (A 4)) (va_up S 1 (S 1)) ∧ xk_fr o X X1)) := by
  refine xk_ofW (by decide +kernel) (Nat.le_of_ble_eq_true rfl) (fun p e s m args below meth c B hr hname hargs hI ls hl => ?_)
  have B : xk_B g p s m args meth c RX2 cX2_changed 3 := B
  have hl : lv_has ls 3 [(0, .ref o), (1, .int c9)] := hl
  have hx := B.1
  have hb := B.2.1
  have hM0 := hM
  obtain ⟨hO, hA0, hA1, hA2, hA3, hA4, hA5, hA6, hA7, hA8, hA9⟩ := hM
  have hfr : xk_fr o X X := xk_fr.rf
  refine lv_iload_n hx hb dX2_changed_0 rfl (lv_at hl 1 rfl) ?_
  refine xk_raw_if_ge_f (tgt := 6) hx hb dX2_changed_1 (by decide) (Int32.not_le.mpr hc9) ?_
  refine lv_iload_n hx hb dX2_changed_4 rfl (lv_at hl 1 rfl) ?_
  exact xk_reti B hI hr rfl dX2_changed_5 (Nat.le_of_ble_eq_true rfl) (Nat.le_of_ble_eq_true rfl) (⟨rfl, hM0, hfr⟩)
set_option maxHeartbeats 4000000 in
theorem m2_changedO (g : xk_G) {X : xk_H} {o : Nat} {ad : Nat → Nat} {A : Nat → Nat → Nat} {S : Nat → Nat} (hM : tm_Ok g X o ad A S) {r9 : Nat} (hr9 : r9 < 2147483648) (hS1 : S 1 ≤ 8) : xk_C g yX2_changed (ws_ yX2_changed cX2_changed 3 (some .int)) ({ frames := 0, cells := 0, slots := 0, locals := 0 } : Room) [.ref o, .int (nI r9)] X (xk_Qi (nI r9) (fun X1 => tm_Ok g X1 o ad (va_up A 4 (tl_pst true (S 1) (A 4) (A 1))) (va_up S 1 (tl_chn true (S 1))) ∧ xk_fr o X X1)) := by
  refine xk_ofW (by decide +kernel) (Nat.le_of_ble_eq_true rfl) (fun p e s m args below meth c B hr hname hargs hI ls hl => ?_)
  have B : xk_B g p s m args meth c RX2 cX2_changed 3 := B
  have hl : lv_has ls 3 [(0, .ref o), (1, .int (nI r9))] := hl
  have hx := B.1
  have hb := B.2.1
  have hM0 := hM
  obtain ⟨hO, hA0, hA1, hA2, hA3, hA4, hA5, hA6, hA7, hA8, hA9⟩ := hM
  have hfr : xk_fr o X X := xk_fr.rf
  refine lv_iload_n hx hb dX2_changed_0 rfl (lv_at hl 1 rfl) ?_
  refine xk_if_ge_t (tgt := 6) hx hb (by omega) dX2_changed_1 (by decide) trivial ?_
  refine lv_aload_n hx hb dX2_changed_6 rfl (lv_at hl 0 rfl) ?_
  refine xk_get B hI hO rfl in_X2 6 (by decide) q1438 rfl dX2_changed_7 ?_
  refine lv_bipush (v := nI 8) hx hb dX2_changed_10 (by decide) ?_
  refine xk_icmp_ne (tgt := 56) hx hb (by omega) (by omega) dX2_changed_12 (by decide) (fun hc_12 => ?_) (fun hc_12 => ?_)
  · refine lv_iconst (v := nI 0) hx hb dX2_changed_56 (by decide) ?_
    refine lv_istore_n (lv' := [(2, .int (nI 0)), (0, .ref o), (1, .int (nI r9))]) hx hb dX2_changed_57 rfl hl (by decide) rfl (fun ls hl => ?_)
    have hloop_58 : ∀ (n_58 : Nat) (k2 : Nat) (f2 : Nat → Nat) (Xl_58 : xk_H) (H_1 : Heap) (L_2 : List Loc), (k2 ≤ 294) → (f2 = tl_blk (S 1) k2 (A 1) (A 4)) → 294 - k2 < n_58 → Xl_58 (ad 4) = some ((o, 5), xk_iA g 0 2352 f2) → (∀ b, b ≠ (ad 4) → Xl_58 b = X b) → (xk_fr o X Xl_58) → xk_I g s H_1 Xl_58 L_2 → ∀ ls : Array Slot, lv_has ls 3 [(0, .ref o), (1, .int (nI r9)), (2, .int (nI k2))] → W p (xk_l g) e (({ frames := 0, cells := 0, slots := 0, locals := 0 } : Room)) s m args below meth c H_1 L_2 0 0 (MQ below (xk_Q g (xk_Qi (nI r9) (fun X1 => tm_Ok g X1 o ad (va_up A 4 (tl_pst true (S 1) (A 4) (A 1))) (va_up S 1 (tl_chn true (S 1))) ∧ xk_fr o X X1))) args s (0) (0) (xk_A g)) (F0 m 58 ls []) := by
      intro n_58
      induction n_58 with
      | zero => intros; omega
      | succ n_58 ih_58 =>
        intro k2 f2 Xl_58 H_1 L_2 hk12 hf12 hm_58 hfl0_58 hne_58 hfrl_58 hI_3 ls hl
        refine lv_iload_n hx hb dX2_changed_58 rfl (lv_at hl 2 rfl) ?_
        refine lv_sipush (v := nI 294) hx hb dX2_changed_59 (by decide) ?_
        refine xk_icmp_ge (tgt := 92) hx hb (by omega) (by omega) dX2_changed_62 (by decide) (fun hc_62 => ?_) (fun hc_62 => ?_)
        · have hk22 : k2 = 294 := by omega
          subst hk22
          refine lv_aload_n hx hb dX2_changed_92 rfl (lv_at hl 0 rfl) ?_
          refine lv_dup hx hb dX2_changed_93 rfl ?_
          have hf_4 := (hne_58 _ (xk_ne hA4 hO (xk_on1 (by decide)))).trans hO
          refine xk_get B hI_3 hf_4 rfl in_X2 6 (by decide) q1438 rfl dX2_changed_94 ?_
          refine lv_iconst (v := nI 1) hx hb dX2_changed_97 (by decide) ?_
          refine lv_iadd hx hb dX2_changed_98 (xk_top (nI_add _ _) ?_)
          refine xk_put B hI_3 hf_4 rfl in_X2 tyX2 tyX2_ok nmX2 6 (by decide) q1438 rfl rfl rfl (Nat.le_of_ble_eq_true rfl) dX2_changed_99 (fun X_5 H_9 L_10 hf_7 hn_6 hI_8 => ?_)
          have hf_7 : X_5 o = some ((o, 0), .inr (0, [.ref (ad 0), .ref (ad 1), .ref (ad 2), .ref (ad 3), .int (nI (S 0)), .ref (ad 4), .int (nI (S 1 + 1)), .int (nI (S 2)), .int (nI (S 3)), .int (tm_it (S 4)), .ref (ad 5), .int (nI (S 5)), .ref (ad 6), .ref (ad 7), .ref (ad 8), .int (nI (S 6)), .ref (ad 9), .int (nI (S 7)), .int (nI (S 8)), .int (nI (S 9)), .int (nI (S 10))])) := hf_7
          have hfr_11 := xk_fr.put hfrl_58 hf_4 hn_6
          refine lv_iload_n hx hb dX2_changed_102 rfl (lv_at hl 1 rfl) ?_
          have hf_12 := (hne_58 _ (xk_ne hA4 hA0 (xk_on1 (by decide)))).trans hA0
          have hf_13 := xk_off hn_6 hf_12 hf_4 (xk_on1 (by decide))
          have hf_14 := (hne_58 _ (xk_ne hA4 hA1 (xk_on1 (by decide)))).trans hA1
          have hf_15 := xk_off hn_6 hf_14 hf_4 (xk_on1 (by decide))
          have hf_16 := (hne_58 _ (xk_ne hA4 hA2 (xk_on1 (by decide)))).trans hA2
          have hf_17 := xk_off hn_6 hf_16 hf_4 (xk_on1 (by decide))
          have hf_18 := (hne_58 _ (xk_ne hA4 hA3 (xk_on1 (by decide)))).trans hA3
          have hf_19 := xk_off hn_6 hf_18 hf_4 (xk_on1 (by decide))
          have hf_20 := xk_off hn_6 hfl0_58 hf_4 (xk_on1 (by decide))
          have hf_21 := (hne_58 _ (xk_ne hA4 hA5 (xk_on1 (by decide)))).trans hA5
          have hf_22 := xk_off hn_6 hf_21 hf_4 (xk_on1 (by decide))
          have hf_23 := (hne_58 _ (xk_ne hA4 hA6 (xk_on1 (by decide)))).trans hA6
          have hf_24 := xk_off hn_6 hf_23 hf_4 (xk_on1 (by decide))
          have hf_25 := (hne_58 _ (xk_ne hA4 hA7 (xk_on1 (by decide)))).trans hA7
          have hf_26 := xk_off hn_6 hf_25 hf_4 (xk_on1 (by decide))
          have hf_27 := (hne_58 _ (xk_ne hA4 hA8 (xk_on1 (by decide)))).trans hA8
          have hf_28 := xk_off hn_6 hf_27 hf_4 (xk_on1 (by decide))
          have hf_29 := (hne_58 _ (xk_ne hA4 hA9 (xk_on1 (by decide)))).trans hA9
          have hf_30 := xk_off hn_6 hf_29 hf_4 (xk_on1 (by decide))
          have hM_31 : tm_Ok g X_5 o ad (va_up A 4 f2) (va_up S 1 (S 1 + 1)) := ⟨hf_7, hf_13, hf_15, hf_17, hf_19, hf_20, hf_22, hf_24, hf_26, hf_28, hf_30⟩
          exact xk_reti B hI_8 hr rfl dX2_changed_103 (Nat.le_of_ble_eq_true rfl) (Nat.le_of_ble_eq_true rfl) (⟨rfl, (by rw [show tl_pst true (S 1) (A 4) (A 1) = f2 from by first | (rw [hf12, hf1]; unfold tl_pst; rw [if_pos rfl, if_pos (by omega)]) | (rw [hf12]; unfold tl_pst; rw [if_pos rfl, if_neg (by omega)]), show tl_chn true (S 1) = S 1 + 1 from by unfold tl_chn; rw [if_pos rfl]; first | rw [if_pos (by omega)] | rw [if_neg (by omega)]]; exact hM_31), hfr_11⟩)
        · refine lv_aload_n hx hb dX2_changed_65 rfl (lv_at hl 0 rfl) ?_
          have hf_32 := (hne_58 _ (xk_ne hA4 hO (xk_on1 (by decide)))).trans hO
          refine xk_get B hI_3 hf_32 rfl in_X2 5 (by decide) q1437 rfl dX2_changed_66 ?_
          refine lv_sipush (v := nI 294) hx hb dX2_changed_69 (by decide) ?_
          refine lv_aload_n hx hb dX2_changed_72 rfl (lv_at hl 0 rfl) ?_
          refine xk_get B hI_3 hf_32 rfl in_X2 6 (by decide) q1438 rfl dX2_changed_73 ?_
          refine lv_imul hx hb dX2_changed_76 (xk_top (pk_mul _ _) ?_)
          refine lv_iload_n hx hb dX2_changed_77 rfl (lv_at hl 2 rfl) ?_
          refine lv_iadd hx hb dX2_changed_78 (xk_top (nI_add _ _) ?_)
          refine lv_aload_n hx hb dX2_changed_79 rfl (lv_at hl 0 rfl) ?_
          refine xk_get B hI_3 hf_32 rfl in_X2 1 (by decide) q1433 rfl dX2_changed_80 ?_
          refine lv_iload_n hx hb dX2_changed_83 rfl (lv_at hl 2 rfl) ?_
          have hf_33 := (hne_58 _ (xk_ne hA4 hA1 (xk_on1 (by decide)))).trans hA1
          refine xk_iald B hI_3 hf_33 (by omega) (by decide) dX2_changed_84 ?_
          refine xk_iast B hI_3 hfl0_58 (by omega) (by decide) dX2_changed_85 (fun X_34 H_38 L_39 hf_36 hn_35 hI_37 => ?_)
          have hfr_40 := xk_fr.put hfrl_58 hfl0_58 hn_35
          refine lv_iinc (v := nI (k2 + 1)) (lv' := [(2, .int (nI (k2 + 1))), (0, .ref o), (1, .int (nI r9))]) hx hb dX2_changed_86 hl (k := 2) rfl (xk_inc k2) (by decide) rfl (fun ls hl => ?_)
          refine lv_goto (tgt := 58) hx hb dX2_changed_89 (by decide) ?_
          exact ih_58 (k2 + 1) (va_up f2 (294 * (S 1) + k2) (A 1 k2)) X_34 _ _ (by omega) (by rw [hf12]; exact tl_blk_s _ _ _ _) (by omega) hf_36 (fun b z0 => ((hn_35 b z0).trans (hne_58 b z0))) hfr_40 hI_37 ls (lv_sub hl [1, 2, 0] rfl)
    exact hloop_58 (294 - 0 + 1) 0 (A 4) X _ _ (by omega) (by exact (tl_blk_0 _ _ _).symm) (Nat.lt_succ_self _) hA4 (fun _ _ => rfl) hfr hI ls (lv_sub hl [1, 2, 0] rfl)
  · refine lv_iconst (v := nI 0) hx hb dX2_changed_15 (by decide) ?_
    refine lv_istore_n (lv' := [(2, .int (nI 0)), (0, .ref o), (1, .int (nI r9))]) hx hb dX2_changed_16 rfl hl (by decide) rfl (fun ls hl => ?_)
    have hloop_17 : ∀ (n_17 : Nat) (k : Nat) (f : Nat → Nat) (Xl_17 : xk_H) (H_41 : Heap) (L_42 : List Loc), (k ≤ 2058) → (f = tl_cp (fun j => A 4 (j + 294)) (A 4) k) → 2058 - k < n_17 → Xl_17 (ad 4) = some ((o, 5), xk_iA g 0 2352 f) → (∀ b, b ≠ (ad 4) → Xl_17 b = X b) → (xk_fr o X Xl_17) → xk_I g s H_41 Xl_17 L_42 → ∀ ls : Array Slot, lv_has ls 3 [(0, .ref o), (1, .int (nI r9)), (2, .int (nI k))] → W p (xk_l g) e (({ frames := 0, cells := 0, slots := 0, locals := 0 } : Room)) s m args below meth c H_41 L_42 0 0 (MQ below (xk_Q g (xk_Qi (nI r9) (fun X1 => tm_Ok g X1 o ad (va_up A 4 (tl_pst true (S 1) (A 4) (A 1))) (va_up S 1 (tl_chn true (S 1))) ∧ xk_fr o X X1))) args s (0) (0) (xk_A g)) (F0 m 17 ls []) := by
      intro n_17
      induction n_17 with
      | zero => intros; omega
      | succ n_17 ih_17 =>
        intro k f Xl_17 H_41 L_42 hk1 hf1 hm_17 hfl0_17 hne_17 hfrl_17 hI_43 ls hl
        refine lv_iload_n hx hb dX2_changed_17 rfl (lv_at hl 2 rfl) ?_
        refine lv_sipush (v := nI 2058) hx hb dX2_changed_18 (by decide) ?_
        refine xk_icmp_ge (tgt := 46) hx hb (by omega) (by omega) dX2_changed_21 (by decide) (fun hc_21 => ?_) (fun hc_21 => ?_)
        · have hk2 : k = 2058 := by omega
          subst hk2
          refine lv_aload_n hx hb dX2_changed_46 rfl (lv_at hl 0 rfl) ?_
          refine lv_dup hx hb dX2_changed_47 rfl ?_
          have hf_44 := (hne_17 _ (xk_ne hA4 hO (xk_on1 (by decide)))).trans hO
          refine xk_get B hI_43 hf_44 rfl in_X2 6 (by decide) q1438 rfl dX2_changed_48 ?_
          refine lv_iconst (v := nI 1) hx hb dX2_changed_51 (by decide) ?_
          refine lv_isub hx hb dX2_changed_52 (xk_top (pk_sub (by omega)) ?_)
          refine xk_put B hI_43 hf_44 rfl in_X2 tyX2 tyX2_ok nmX2 6 (by decide) q1438 rfl rfl rfl (Nat.le_of_ble_eq_true rfl) dX2_changed_53 (fun X_45 H_49 L_50 hf_47 hn_46 hI_48 => ?_)
          have hf_47 : X_45 o = some ((o, 0), .inr (0, [.ref (ad 0), .ref (ad 1), .ref (ad 2), .ref (ad 3), .int (nI (S 0)), .ref (ad 4), .int (nI ((S 1) - 1)), .int (nI (S 2)), .int (nI (S 3)), .int (tm_it (S 4)), .ref (ad 5), .int (nI (S 5)), .ref (ad 6), .ref (ad 7), .ref (ad 8), .int (nI (S 6)), .ref (ad 9), .int (nI (S 7)), .int (nI (S 8)), .int (nI (S 9)), .int (nI (S 10))])) := hf_47
          have hfr_51 := xk_fr.put hfrl_17 hf_44 hn_46
          refine lv_iconst (v := nI 0) hx hb dX2_changed_56 (by decide) ?_
          refine lv_istore_n (lv' := [(2, .int (nI 0)), (0, .ref o), (1, .int (nI r9))]) hx hb dX2_changed_57 rfl hl (by decide) rfl (fun ls hl => ?_)
          have hf_52 := xk_off hn_46 hfl0_17 hf_44 (xk_on1 (by decide))
          have hloop_58 : ∀ (n_58 : Nat) (k2 : Nat) (f2 : Nat → Nat) (Xl_58 : xk_H) (H_53 : Heap) (L_54 : List Loc), (k2 ≤ 294) → (f2 = tl_blk ((S 1) - 1) k2 (A 1) (f)) → 294 - k2 < n_58 → Xl_58 (ad 4) = some ((o, 5), xk_iA g 0 2352 f2) → (∀ b, b ≠ (ad 4) → Xl_58 b = X_45 b) → (xk_fr o X Xl_58) → xk_I g s H_53 Xl_58 L_54 → ∀ ls : Array Slot, lv_has ls 3 [(0, .ref o), (1, .int (nI r9)), (2, .int (nI k2))] → W p (xk_l g) e (({ frames := 0, cells := 0, slots := 0, locals := 0 } : Room)) s m args below meth c H_53 L_54 0 0 (MQ below (xk_Q g (xk_Qi (nI r9) (fun X1 => tm_Ok g X1 o ad (va_up A 4 (tl_pst true (S 1) (A 4) (A 1))) (va_up S 1 (tl_chn true (S 1))) ∧ xk_fr o X X1))) args s (0) (0) (xk_A g)) (F0 m 58 ls []) := by
            intro n_58
            induction n_58 with
            | zero => intros; omega
            | succ n_58 ih_58 =>
              intro k2 f2 Xl_58 H_53 L_54 hk12 hf12 hm_58 hfl0_58 hne_58 hfrl_58 hI_55 ls hl
              refine lv_iload_n hx hb dX2_changed_58 rfl (lv_at hl 2 rfl) ?_
              refine lv_sipush (v := nI 294) hx hb dX2_changed_59 (by decide) ?_
              refine xk_icmp_ge (tgt := 92) hx hb (by omega) (by omega) dX2_changed_62 (by decide) (fun hc_62 => ?_) (fun hc_62 => ?_)
              · have hk22 : k2 = 294 := by omega
                subst hk22
                refine lv_aload_n hx hb dX2_changed_92 rfl (lv_at hl 0 rfl) ?_
                refine lv_dup hx hb dX2_changed_93 rfl ?_
                have hf_56 := (hne_58 _ (xk_ne hf_52 hf_47 (xk_on1 (by decide)))).trans hf_47
                refine xk_get B hI_55 hf_56 rfl in_X2 6 (by decide) q1438 rfl dX2_changed_94 ?_
                refine lv_iconst (v := nI 1) hx hb dX2_changed_97 (by decide) ?_
                refine lv_iadd hx hb dX2_changed_98 (xk_top (nI_add _ _) ?_)
                refine xk_put B hI_55 hf_56 rfl in_X2 tyX2 tyX2_ok nmX2 6 (by decide) q1438 rfl rfl rfl (Nat.le_of_ble_eq_true rfl) dX2_changed_99 (fun X_57 H_61 L_62 hf_59 hn_58 hI_60 => ?_)
                have hf_59 : X_57 o = some ((o, 0), .inr (0, [.ref (ad 0), .ref (ad 1), .ref (ad 2), .ref (ad 3), .int (nI (S 0)), .ref (ad 4), .int (nI (((S 1) - 1) + 1)), .int (nI (S 2)), .int (nI (S 3)), .int (tm_it (S 4)), .ref (ad 5), .int (nI (S 5)), .ref (ad 6), .ref (ad 7), .ref (ad 8), .int (nI (S 6)), .ref (ad 9), .int (nI (S 7)), .int (nI (S 8)), .int (nI (S 9)), .int (nI (S 10))])) := hf_59
                have hfr_63 := xk_fr.put hfrl_58 hf_56 hn_58
                refine lv_iload_n hx hb dX2_changed_102 rfl (lv_at hl 1 rfl) ?_
                have hf_64 := (hne_17 _ (xk_ne hA4 hA0 (xk_on1 (by decide)))).trans hA0
                have hf_65 := xk_off hn_46 hf_64 hf_44 (xk_on1 (by decide))
                have hf_66 := (hne_58 _ (xk_ne hf_52 hf_65 (xk_on1 (by decide)))).trans hf_65
                have hf_67 := xk_off hn_58 hf_66 hf_56 (xk_on1 (by decide))
                have hf_68 := (hne_17 _ (xk_ne hA4 hA1 (xk_on1 (by decide)))).trans hA1
                have hf_69 := xk_off hn_46 hf_68 hf_44 (xk_on1 (by decide))
                have hf_70 := (hne_58 _ (xk_ne hf_52 hf_69 (xk_on1 (by decide)))).trans hf_69
                have hf_71 := xk_off hn_58 hf_70 hf_56 (xk_on1 (by decide))
                have hf_72 := (hne_17 _ (xk_ne hA4 hA2 (xk_on1 (by decide)))).trans hA2
                have hf_73 := xk_off hn_46 hf_72 hf_44 (xk_on1 (by decide))
                have hf_74 := (hne_58 _ (xk_ne hf_52 hf_73 (xk_on1 (by decide)))).trans hf_73
                have hf_75 := xk_off hn_58 hf_74 hf_56 (xk_on1 (by decide))
                have hf_76 := (hne_17 _ (xk_ne hA4 hA3 (xk_on1 (by decide)))).trans hA3
                have hf_77 := xk_off hn_46 hf_76 hf_44 (xk_on1 (by decide))
                have hf_78 := (hne_58 _ (xk_ne hf_52 hf_77 (xk_on1 (by decide)))).trans hf_77
                have hf_79 := xk_off hn_58 hf_78 hf_56 (xk_on1 (by decide))
                have hf_80 := xk_off hn_58 hfl0_58 hf_56 (xk_on1 (by decide))
                have hf_81 := (hne_17 _ (xk_ne hA4 hA5 (xk_on1 (by decide)))).trans hA5
                have hf_82 := xk_off hn_46 hf_81 hf_44 (xk_on1 (by decide))
                have hf_83 := (hne_58 _ (xk_ne hf_52 hf_82 (xk_on1 (by decide)))).trans hf_82
                have hf_84 := xk_off hn_58 hf_83 hf_56 (xk_on1 (by decide))
                have hf_85 := (hne_17 _ (xk_ne hA4 hA6 (xk_on1 (by decide)))).trans hA6
                have hf_86 := xk_off hn_46 hf_85 hf_44 (xk_on1 (by decide))
                have hf_87 := (hne_58 _ (xk_ne hf_52 hf_86 (xk_on1 (by decide)))).trans hf_86
                have hf_88 := xk_off hn_58 hf_87 hf_56 (xk_on1 (by decide))
                have hf_89 := (hne_17 _ (xk_ne hA4 hA7 (xk_on1 (by decide)))).trans hA7
                have hf_90 := xk_off hn_46 hf_89 hf_44 (xk_on1 (by decide))
                have hf_91 := (hne_58 _ (xk_ne hf_52 hf_90 (xk_on1 (by decide)))).trans hf_90
                have hf_92 := xk_off hn_58 hf_91 hf_56 (xk_on1 (by decide))
                have hf_93 := (hne_17 _ (xk_ne hA4 hA8 (xk_on1 (by decide)))).trans hA8
                have hf_94 := xk_off hn_46 hf_93 hf_44 (xk_on1 (by decide))
                have hf_95 := (hne_58 _ (xk_ne hf_52 hf_94 (xk_on1 (by decide)))).trans hf_94
                have hf_96 := xk_off hn_58 hf_95 hf_56 (xk_on1 (by decide))
                have hf_97 := (hne_17 _ (xk_ne hA4 hA9 (xk_on1 (by decide)))).trans hA9
                have hf_98 := xk_off hn_46 hf_97 hf_44 (xk_on1 (by decide))
                have hf_99 := (hne_58 _ (xk_ne hf_52 hf_98 (xk_on1 (by decide)))).trans hf_98
                have hf_100 := xk_off hn_58 hf_99 hf_56 (xk_on1 (by decide))
                have hM_101 : tm_Ok g X_57 o ad (va_up A 4 f2) (va_up S 1 (((S 1) - 1) + 1)) := ⟨hf_59, hf_67, hf_71, hf_75, hf_79, hf_80, hf_84, hf_88, hf_92, hf_96, hf_100⟩
                exact xk_reti B hI_60 hr rfl dX2_changed_103 (Nat.le_of_ble_eq_true rfl) (Nat.le_of_ble_eq_true rfl) (⟨rfl, (by rw [show tl_pst true (S 1) (A 4) (A 1) = f2 from by first | (rw [hf12, hf1]; unfold tl_pst; rw [if_pos rfl, if_pos (by omega)]) | (rw [hf12]; unfold tl_pst; rw [if_pos rfl, if_neg (by omega)]), show tl_chn true (S 1) = ((S 1) - 1) + 1 from by unfold tl_chn; rw [if_pos rfl]; first | rw [if_pos (by omega)] | rw [if_neg (by omega)]]; exact hM_101), hfr_63⟩)
              · refine lv_aload_n hx hb dX2_changed_65 rfl (lv_at hl 0 rfl) ?_
                have hf_102 := (hne_58 _ (xk_ne hf_52 hf_47 (xk_on1 (by decide)))).trans hf_47
                refine xk_get B hI_55 hf_102 rfl in_X2 5 (by decide) q1437 rfl dX2_changed_66 ?_
                refine lv_sipush (v := nI 294) hx hb dX2_changed_69 (by decide) ?_
                refine lv_aload_n hx hb dX2_changed_72 rfl (lv_at hl 0 rfl) ?_
                refine xk_get B hI_55 hf_102 rfl in_X2 6 (by decide) q1438 rfl dX2_changed_73 ?_
                refine lv_imul hx hb dX2_changed_76 (xk_top (pk_mul _ _) ?_)
                refine lv_iload_n hx hb dX2_changed_77 rfl (lv_at hl 2 rfl) ?_
                refine lv_iadd hx hb dX2_changed_78 (xk_top (nI_add _ _) ?_)
                refine lv_aload_n hx hb dX2_changed_79 rfl (lv_at hl 0 rfl) ?_
                refine xk_get B hI_55 hf_102 rfl in_X2 1 (by decide) q1433 rfl dX2_changed_80 ?_
                refine lv_iload_n hx hb dX2_changed_83 rfl (lv_at hl 2 rfl) ?_
                have hf_103 := (hne_17 _ (xk_ne hA4 hA1 (xk_on1 (by decide)))).trans hA1
                have hf_104 := xk_off hn_46 hf_103 hf_44 (xk_on1 (by decide))
                have hf_105 := (hne_58 _ (xk_ne hf_52 hf_104 (xk_on1 (by decide)))).trans hf_104
                refine xk_iald B hI_55 hf_105 (by omega) (by decide) dX2_changed_84 ?_
                refine xk_iast B hI_55 hfl0_58 (by omega) (by decide) dX2_changed_85 (fun X_106 H_110 L_111 hf_108 hn_107 hI_109 => ?_)
                have hfr_112 := xk_fr.put hfrl_58 hfl0_58 hn_107
                refine lv_iinc (v := nI (k2 + 1)) (lv' := [(2, .int (nI (k2 + 1))), (0, .ref o), (1, .int (nI r9))]) hx hb dX2_changed_86 hl (k := 2) rfl (xk_inc k2) (by decide) rfl (fun ls hl => ?_)
                refine lv_goto (tgt := 58) hx hb dX2_changed_89 (by decide) ?_
                exact ih_58 (k2 + 1) (va_up f2 ((294 * ((S 1) - 1)) + k2) (A 1 k2)) X_106 _ _ (by omega) (by rw [hf12]; exact tl_blk_s _ _ _ _) (by omega) hf_108 (fun b z0 => ((hn_107 b z0).trans (hne_58 b z0))) hfr_112 hI_109 ls (lv_sub hl [1, 2, 0] rfl)
          exact hloop_58 (294 - 0 + 1) 0 f X_45 _ _ (by omega) (by exact (tl_blk_0 _ _ _).symm) (Nat.lt_succ_self _) hf_52 (fun _ _ => rfl) hfr_51 hI_48 ls (lv_sub hl [1, 2, 0] rfl)
        · refine lv_aload_n hx hb dX2_changed_24 rfl (lv_at hl 0 rfl) ?_
          have hf_113 := (hne_17 _ (xk_ne hA4 hO (xk_on1 (by decide)))).trans hO
          refine xk_get B hI_43 hf_113 rfl in_X2 5 (by decide) q1437 rfl dX2_changed_25 ?_
          refine lv_iload_n hx hb dX2_changed_28 rfl (lv_at hl 2 rfl) ?_
          refine lv_aload_n hx hb dX2_changed_29 rfl (lv_at hl 0 rfl) ?_
          refine xk_get B hI_43 hf_113 rfl in_X2 5 (by decide) q1437 rfl dX2_changed_30 ?_
          refine lv_iload_n hx hb dX2_changed_33 rfl (lv_at hl 2 rfl) ?_
          refine lv_sipush (v := nI 294) hx hb dX2_changed_34 (by decide) ?_
          refine lv_iadd hx hb dX2_changed_37 (xk_top (nI_add _ _) ?_)
          refine xk_iald B hI_43 hfl0_17 (by omega) (by decide) dX2_changed_38 ?_
          refine xk_iast B hI_43 hfl0_17 (by omega) (by decide) dX2_changed_39 (fun X_114 H_118 L_119 hf_116 hn_115 hI_117 => ?_)
          have hfr_120 := xk_fr.put hfrl_17 hfl0_17 hn_115
          refine lv_iinc (v := nI (k + 1)) (lv' := [(2, .int (nI (k + 1))), (0, .ref o), (1, .int (nI r9))]) hx hb dX2_changed_40 hl (k := 2) rfl (xk_inc k) (by decide) rfl (fun ls hl => ?_)
          refine lv_goto (tgt := 17) hx hb dX2_changed_43 (by decide) ?_
          exact ih_17 (k + 1) (va_up f k (f (k + 294))) X_114 _ _ (by omega) (by rw [hf1]; exact tl_cp_sh _ _) (by omega) hf_116 (fun b z0 => ((hn_115 b z0).trans (hne_17 b z0))) hfr_120 hI_117 ls (lv_sub hl [1, 2, 0] rfl)
    exact hloop_17 (2058 - 0 + 1) 0 (A 4) X _ _ (by omega) (by exact (tl_cp_0 _ _).symm) (Nat.lt_succ_self _) hA4 (fun _ _ => rfl) hfr hI ls (lv_sub hl [1, 2, 0] rfl)
theorem m2_changed (g : xk_G) {X : xk_H} {o : Nat} {ad : Nat → Nat} {A : Nat → Nat → Nat} {S : Nat → Nat} (hM : tm_Ok g X o ad A S) (O : tl_O) (hO : tl_okc O) (hS1 : S 1 ≤ 8) : xk_C g yX2_changed (ws_ yX2_changed cX2_changed 3 (some .int)) ({ frames := 0, cells := 0, slots := 0, locals := 0 } : Room) [.ref o, .int (tl_r O)] X (xk_Qi (tl_r O) (fun X1 => tm_Ok g X1 o ad (va_up A 4 (tl_pst (tl_is O) (S 1) (A 4) (A 1))) (va_up S 1 (tl_chn (tl_is O) (S 1))) ∧ xk_fr o X X1)) := by
  rcases O with ⟨r, m'⟩ | c9 | ⟨r, d⟩
  · exact m2_changedO g hM hO hS1
  · exact m2_changedW g hM hO
  · exact m2_changedW g hM (show (-3 : Int32) < 0 by decide)
set_option maxHeartbeats 4000000 in
theorem m2_full (g : xk_G) {X : xk_H} {o : Nat} {ad : Nat → Nat} {A : Nat → Nat → Nat} {S : Nat → Nat} (hM : tm_Ok g X o ad A S) (hk : tl_inv (A 0))  : xk_C g yX2_full (ws_ yX2_full cX2_full 1 (some .int)) ({ frames := 2, cells := 0, slots := 0, locals := 42 } : Room) [.ref o] X (xk_Qi (if tl_fullR (A 0) = 0 then 0 else -3) (fun X1 => tm_Ok g X1 o ad A (if tl_fullR (A 0) = 0 then S else tl_ref S (tl_fullR (A 0)) (tl_fullD (A 0))) ∧ xk_fr o X X1)) := by
  refine xk_ofW (by decide +kernel) (Nat.le_of_ble_eq_true rfl) (fun p e s m args below meth c B hr hname hargs hI ls hl => ?_)
  have B : xk_B g p s m args meth c RX2 cX2_full 1 := B
  have hl : lv_has ls 1 [(0, .ref o)] := hl
  have hx := B.1
  have hb := B.2.1
  have hM0 := hM
  obtain ⟨hO, hA0, hA1, hA2, hA3, hA4, hA5, hA6, hA7, hA8, hA9⟩ := hM
  have hk0 := hk
  obtain ⟨k0, kb, kw, kl, ks, kr1, kr2, kwt, kL⟩ := hk
  have hfr : xk_fr o X X := xk_fr.rf
  refine lv_aload_n hx hb dX2_full_0 rfl (lv_at hl 0 rfl) ?_
  refine xk_get B hI hO rfl in_X2 0 (by decide) q1432 rfl dX2_full_1 ?_
  refine lv_iconst (v := nI 0) hx hb dX2_full_4 (by decide) ?_
  refine xk_iald B hI hA0 (by omega) (by decide) dX2_full_5 ?_
  refine lv_bipush (v := nI 40) hx hb dX2_full_6 (by decide) ?_
  refine xk_icmp_ne (tgt := 19) hx hb (by omega) (by omega) dX2_full_8 (by decide) (fun hc_8 => ?_) (fun hc_8 => ?_)
  · refine lv_aload_n hx hb dX2_full_19 rfl (lv_at hl 0 rfl) ?_
    refine xk_ri0 (xk_cV B hI hl [] [] 0 (m2_living g hM0 hk0 ) hO rfl (lw_V q1520 q1522 qs33 q79 q1523) ⟨rfl, by decide +kernel, by decide +kernel, by decide +kernel⟩ ⟨Nat.le_of_ble_eq_true rfl, Nat.le_of_ble_eq_true rfl⟩ rfl rfl (Nat.le_of_ble_eq_true rfl) dX2_full_20 (Nat.le_of_ble_eq_true rfl) (Nat.le_of_ble_eq_true rfl)) hI (fun H_2 L_3 hI_1 => ?_)
    refine xk_top (y := nI (tl_liv (A 0) ((A 0) 0))) rfl ?_
    refine lv_bipush (v := nI 12) hx hb dX2_full_23 (by decide) ?_
    refine xk_icmp_ne (tgt := 38) hx hb (by omega) (by omega) dX2_full_25 (by decide) (fun hc_25 => ?_) (fun hc_25 => ?_)
    · refine lv_iconst (v := nI 0) hx hb dX2_full_38 (by decide) ?_
      exact xk_reti B hI_1 hr rfl dX2_full_39 (Nat.le_of_ble_eq_true rfl) (Nat.le_of_ble_eq_true rfl) (⟨by rw [show tl_fullR (A 0) = 0 from (if_neg hc_8).trans (if_neg hc_25)]; rfl, (by rw [show tl_fullR (A 0) = 0 from (if_neg hc_8).trans (if_neg hc_25)]; exact hM0), hfr⟩)
    · refine lv_aload_n hx hb dX2_full_28 rfl (lv_at hl 0 rfl) ?_
      refine lv_iconst (v := nI 2) hx hb dX2_full_29 (by decide) ?_
      refine lv_bipush (v := nI 12) hx hb dX2_full_30 (by decide) ?_
      refine xk_ri (xk_cV B hI_1 hl [.int (nI 2), .int (nI 12)] [] 2 (m2_refuse g hM0 2 12) hO rfl (lw_V q1516 q1518 qs32 q79 q1519) ⟨rfl, by decide +kernel, by decide +kernel, by decide +kernel⟩ ⟨Nat.le_of_ble_eq_true rfl, Nat.le_of_ble_eq_true rfl⟩ rfl rfl (Nat.le_of_ble_eq_true rfl) dX2_full_32 (Nat.le_of_ble_eq_true rfl) (Nat.le_of_ble_eq_true rfl)) hI_1 (fun X_7 H_5 L_6 hq_8 hI_4 => ?_)
      refine xk_top (y := (-3)) rfl ?_
      obtain ⟨hM_9, hfr_10⟩ := hq_8
      obtain ⟨hf_11, hf_12, hf_13, hf_14, hf_15, hf_16, hf_17, hf_18, hf_19, hf_20, hf_21⟩ := id hM_9
      have hfr_22 := xk_fr.tr hfr hfr_10
      have hf_12 : X_7 (ad 0) = some ((o, 1), xk_iA g 0 294 (A 0)) := hf_12
      have hf_13 : X_7 (ad 1) = some ((o, 2), xk_iA g 0 294 (A 1)) := hf_13
      have hf_14 : X_7 (ad 2) = some ((o, 3), xk_iA g 0 294 (A 2)) := hf_14
      have hf_15 : X_7 (ad 3) = some ((o, 4), xk_iA g 0 294 (A 3)) := hf_15
      have hf_16 : X_7 (ad 4) = some ((o, 5), xk_iA g 0 2352 (A 4)) := hf_16
      have hf_17 : X_7 (ad 5) = some ((o, 6), xk_iA g 0 70 (A 5)) := hf_17
      have hf_18 : X_7 (ad 6) = some ((o, 7), xk_iA g 2 40 (A 6)) := hf_18
      have hf_19 : X_7 (ad 7) = some ((o, 8), xk_iA g 2 40 (A 7)) := hf_19
      have hf_20 : X_7 (ad 8) = some ((o, 9), xk_iA g 0 60 (A 8)) := hf_20
      have hf_21 : X_7 (ad 9) = some ((o, 10), xk_iA g 0 284 (A 9)) := hf_21
      have hf_11 : X_7 o = some ((o, 0), .inr (0, [.ref (ad 0), .ref (ad 1), .ref (ad 2), .ref (ad 3), .int (nI (S 0)), .ref (ad 4), .int (nI (S 1)), .int (nI 2), .int (nI 12), .int (tm_it (0)), .ref (ad 5), .int (nI (S 5)), .ref (ad 6), .ref (ad 7), .ref (ad 8), .int (nI (S 6)), .ref (ad 9), .int (nI (S 7)), .int (nI (S 8)), .int (nI (S 9)), .int (nI (S 10))])) := hf_11
      refine lv_goto (tgt := 39) hx hb dX2_full_35 (by decide) ?_
      have hM_23 : tm_Ok g X_7 o ad A (va_up (va_up (va_up S 2 2) 3 12) 4 0) := ⟨hf_11, hf_12, hf_13, hf_14, hf_15, hf_16, hf_17, hf_18, hf_19, hf_20, hf_21⟩
      exact xk_reti B hI_4 hr rfl dX2_full_39 (Nat.le_of_ble_eq_true rfl) (Nat.le_of_ble_eq_true rfl) (⟨by rw [show tl_fullR (A 0) = 2 from (if_neg hc_8).trans (if_pos hc_25)]; rfl, (by rw [show tl_fullR (A 0) = 2 from (if_neg hc_8).trans (if_pos hc_25), show tl_fullD (A 0) = 12 from if_neg hc_8]; exact hM_23), hfr_22⟩)
  · refine lv_aload_n hx hb dX2_full_11 rfl (lv_at hl 0 rfl) ?_
    refine lv_iconst (v := nI 1) hx hb dX2_full_12 (by decide) ?_
    refine lv_bipush (v := nI 40) hx hb dX2_full_13 (by decide) ?_
    refine xk_ri (xk_cV B hI hl [.int (nI 1), .int (nI 40)] [] 2 (m2_refuse g hM0 1 40) hO rfl (lw_V q1516 q1518 qs32 q79 q1519) ⟨rfl, by decide +kernel, by decide +kernel, by decide +kernel⟩ ⟨Nat.le_of_ble_eq_true rfl, Nat.le_of_ble_eq_true rfl⟩ rfl rfl (Nat.le_of_ble_eq_true rfl) dX2_full_15 (Nat.le_of_ble_eq_true rfl) (Nat.le_of_ble_eq_true rfl)) hI (fun X_27 H_25 L_26 hq_28 hI_24 => ?_)
    refine xk_top (y := (-3)) rfl ?_
    obtain ⟨hM_29, hfr_30⟩ := hq_28
    obtain ⟨hf_31, hf_32, hf_33, hf_34, hf_35, hf_36, hf_37, hf_38, hf_39, hf_40, hf_41⟩ := id hM_29
    have hfr_42 := xk_fr.tr hfr hfr_30
    have hf_32 : X_27 (ad 0) = some ((o, 1), xk_iA g 0 294 (A 0)) := hf_32
    have hf_33 : X_27 (ad 1) = some ((o, 2), xk_iA g 0 294 (A 1)) := hf_33
    have hf_34 : X_27 (ad 2) = some ((o, 3), xk_iA g 0 294 (A 2)) := hf_34
    have hf_35 : X_27 (ad 3) = some ((o, 4), xk_iA g 0 294 (A 3)) := hf_35
    have hf_36 : X_27 (ad 4) = some ((o, 5), xk_iA g 0 2352 (A 4)) := hf_36
    have hf_37 : X_27 (ad 5) = some ((o, 6), xk_iA g 0 70 (A 5)) := hf_37
    have hf_38 : X_27 (ad 6) = some ((o, 7), xk_iA g 2 40 (A 6)) := hf_38
    have hf_39 : X_27 (ad 7) = some ((o, 8), xk_iA g 2 40 (A 7)) := hf_39
    have hf_40 : X_27 (ad 8) = some ((o, 9), xk_iA g 0 60 (A 8)) := hf_40
    have hf_41 : X_27 (ad 9) = some ((o, 10), xk_iA g 0 284 (A 9)) := hf_41
    have hf_31 : X_27 o = some ((o, 0), .inr (0, [.ref (ad 0), .ref (ad 1), .ref (ad 2), .ref (ad 3), .int (nI (S 0)), .ref (ad 4), .int (nI (S 1)), .int (nI 1), .int (nI 40), .int (tm_it (0)), .ref (ad 5), .int (nI (S 5)), .ref (ad 6), .ref (ad 7), .ref (ad 8), .int (nI (S 6)), .ref (ad 9), .int (nI (S 7)), .int (nI (S 8)), .int (nI (S 9)), .int (nI (S 10))])) := hf_31
    have hM_43 : tm_Ok g X_27 o ad A (va_up (va_up (va_up S 2 1) 3 40) 4 0) := ⟨hf_31, hf_32, hf_33, hf_34, hf_35, hf_36, hf_37, hf_38, hf_39, hf_40, hf_41⟩
    exact xk_reti B hI_24 hr rfl dX2_full_18 (Nat.le_of_ble_eq_true rfl) (Nat.le_of_ble_eq_true rfl) (⟨by rw [show tl_fullR (A 0) = 1 from if_pos hc_8]; rfl, (by rw [show tl_fullR (A 0) = 1 from if_pos hc_8, show tl_fullD (A 0) = 40 from if_pos hc_8]; exact hM_43), hfr_42⟩)
set_option maxHeartbeats 4000000 in
theorem m2_comes (g : xk_G) {X : xk_H} {o : Nat} {ad : Nat → Nat} {A : Nat → Nat → Nat} {S : Nat → Nat} (hM : tm_Ok g X o ad A S) (pt mo fa ge sp : Nat) (h40 : A 0 0 < 40) : xk_C g yX2_comes (ws_ yX2_comes cX2_comes 7 (some .int)) ({ frames := 1, cells := 0, slots := 0, locals := 20 } : Room) [.ref o, .int (nI pt), .int (nI mo), .int (nI fa), .int (nI ge), .int (nI sp)] X (xk_Qi (nI (A 0 0)) (fun X1 => tm_Ok g X1 o ad (va_up A 0 (tl_come (A 0) pt mo fa ge sp)) S ∧ xk_fr o X X1)) := by
  refine xk_ofW (by decide +kernel) (Nat.le_of_ble_eq_true rfl) (fun p e s m args below meth c B hr hname hargs hI ls hl => ?_)
  have B : xk_B g p s m args meth c RX2 cX2_comes 7 := B
  have hl : lv_has ls 7 [(0, .ref o), (1, .int (nI pt)), (2, .int (nI mo)), (3, .int (nI fa)), (4, .int (nI ge)), (5, .int (nI sp))] := hl
  have hx := B.1
  have hb := B.2.1
  have hM0 := hM
  obtain ⟨hO, hA0, hA1, hA2, hA3, hA4, hA5, hA6, hA7, hA8, hA9⟩ := hM
  have hfr : xk_fr o X X := xk_fr.rf
  refine lv_aload_n hx hb dX2_comes_0 rfl (lv_at hl 0 rfl) ?_
  refine xk_get B hI hO rfl in_X2 0 (by decide) q1432 rfl dX2_comes_1 ?_
  refine lv_iconst (v := nI 0) hx hb dX2_comes_4 (by decide) ?_
  refine xk_iald B hI hA0 (by omega) (by decide) dX2_comes_5 ?_
  refine xk_ri0 (xk_cS B hI hl [.int (nI (A 0 0))] [] 1 (m2_of g (A 0 0)) (lw_S q1524 q1525 q79 q1526) ⟨by decide +kernel, by decide +kernel, by decide +kernel⟩ ⟨Nat.le_of_ble_eq_true rfl, Nat.le_of_ble_eq_true rfl⟩ rfl rfl (Nat.le_of_ble_eq_true rfl) dX2_comes_6 (Nat.le_of_ble_eq_true rfl) (Nat.le_of_ble_eq_true rfl)) hI (fun H_2 L_3 hI_1 => ?_)
  refine xk_top (y := nI (14 + 7 * (A 0 0))) rfl ?_
  refine lv_istore (lv' := [(6, .int (nI (14 + 7 * (A 0 0)))), (0, .ref o), (1, .int (nI pt)), (2, .int (nI mo)), (3, .int (nI fa)), (4, .int (nI ge)), (5, .int (nI sp))]) hx hb dX2_comes_9 hl (by decide) rfl (fun ls hl => ?_)
  refine lv_aload_n hx hb dX2_comes_11 rfl (lv_at hl 1 rfl) ?_
  refine xk_get B hI_1 hO rfl in_X2 0 (by decide) q1432 rfl dX2_comes_12 ?_
  refine lv_iload hx hb dX2_comes_15 (lv_at hl 0 rfl) ?_
  refine lv_iload_n hx hb dX2_comes_17 rfl (lv_at hl 2 rfl) ?_
  refine xk_iast B hI_1 hA0 (by omega) (by decide) dX2_comes_18 (fun X_4 H_8 L_9 hf_6 hn_5 hI_7 => ?_)
  have hfr_10 := xk_fr.put hfr hA0 hn_5
  refine lv_aload_n hx hb dX2_comes_19 rfl (lv_at hl 1 rfl) ?_
  have hf_11 := xk_off hn_5 hO hA0 (xk_on1 (by decide))
  refine xk_get B hI_7 hf_11 rfl in_X2 0 (by decide) q1432 rfl dX2_comes_20 ?_
  refine lv_iload hx hb dX2_comes_23 (lv_at hl 0 rfl) ?_
  refine lv_iconst (v := nI 1) hx hb dX2_comes_25 (by decide) ?_
  refine lv_iadd hx hb dX2_comes_26 (xk_top (nI_add _ _) ?_)
  refine lv_iload_n hx hb dX2_comes_27 rfl (lv_at hl 3 rfl) ?_
  refine xk_iast B hI_7 hf_6 (by omega) (by decide) dX2_comes_28 (fun X_12 H_16 L_17 hf_14 hn_13 hI_15 => ?_)
  have hfr_18 := xk_fr.put hfr_10 hf_6 hn_13
  refine lv_aload_n hx hb dX2_comes_29 rfl (lv_at hl 1 rfl) ?_
  have hf_19 := xk_off hn_13 hf_11 hf_6 (xk_on1 (by decide))
  refine xk_get B hI_15 hf_19 rfl in_X2 0 (by decide) q1432 rfl dX2_comes_30 ?_
  refine lv_iload hx hb dX2_comes_33 (lv_at hl 0 rfl) ?_
  refine lv_iconst (v := nI 2) hx hb dX2_comes_35 (by decide) ?_
  refine lv_iadd hx hb dX2_comes_36 (xk_top (nI_add _ _) ?_)
  refine lv_iload_n hx hb dX2_comes_37 rfl (lv_at hl 4 rfl) ?_
  refine xk_iast B hI_15 hf_14 (by omega) (by decide) dX2_comes_38 (fun X_20 H_24 L_25 hf_22 hn_21 hI_23 => ?_)
  have hfr_26 := xk_fr.put hfr_18 hf_14 hn_21
  refine lv_aload_n hx hb dX2_comes_39 rfl (lv_at hl 1 rfl) ?_
  have hf_27 := xk_off hn_21 hf_19 hf_14 (xk_on1 (by decide))
  refine xk_get B hI_23 hf_27 rfl in_X2 0 (by decide) q1432 rfl dX2_comes_40 ?_
  refine lv_iload hx hb dX2_comes_43 (lv_at hl 0 rfl) ?_
  refine lv_iconst (v := nI 3) hx hb dX2_comes_45 (by decide) ?_
  refine lv_iadd hx hb dX2_comes_46 (xk_top (nI_add _ _) ?_)
  refine lv_iconst (v := nI 1) hx hb dX2_comes_47 (by decide) ?_
  refine xk_iast B hI_23 hf_22 (by omega) (by decide) dX2_comes_48 (fun X_28 H_32 L_33 hf_30 hn_29 hI_31 => ?_)
  have hfr_34 := xk_fr.put hfr_26 hf_22 hn_29
  refine lv_aload_n hx hb dX2_comes_49 rfl (lv_at hl 1 rfl) ?_
  have hf_35 := xk_off hn_29 hf_27 hf_22 (xk_on1 (by decide))
  refine xk_get B hI_31 hf_35 rfl in_X2 0 (by decide) q1432 rfl dX2_comes_50 ?_
  refine lv_iload hx hb dX2_comes_53 (lv_at hl 0 rfl) ?_
  refine lv_iconst (v := nI 4) hx hb dX2_comes_55 (by decide) ?_
  refine lv_iadd hx hb dX2_comes_56 (xk_top (nI_add _ _) ?_)
  refine lv_aload_n hx hb dX2_comes_57 rfl (lv_at hl 1 rfl) ?_
  refine xk_get B hI_31 hf_35 rfl in_X2 0 (by decide) q1432 rfl dX2_comes_58 ?_
  refine lv_iconst (v := nI 1) hx hb dX2_comes_61 (by decide) ?_
  refine xk_iald B hI_31 hf_30 (by omega) (by decide) dX2_comes_62 ?_
  refine xk_top (congrArg nI (show (va_up (va_up (va_up (va_up (A 0) (14 + 7 * (A 0 0)) pt) (14 + 7 * (A 0 0) + 1) mo) (14 + 7 * (A 0 0) + 2) fa) (14 + 7 * (A 0 0) + 3) 1) 1 = A 0 1 from by rw [tl_un (by omega), tl_un (by omega), tl_un (by omega), tl_un (by omega)])) ?_
  refine xk_iast B hI_31 hf_30 (by omega) (by decide) dX2_comes_63 (fun X_36 H_40 L_41 hf_38 hn_37 hI_39 => ?_)
  have hfr_42 := xk_fr.put hfr_34 hf_30 hn_37
  refine lv_aload_n hx hb dX2_comes_64 rfl (lv_at hl 1 rfl) ?_
  have hf_43 := xk_off hn_37 hf_35 hf_30 (xk_on1 (by decide))
  refine xk_get B hI_39 hf_43 rfl in_X2 0 (by decide) q1432 rfl dX2_comes_65 ?_
  refine lv_iload hx hb dX2_comes_68 (lv_at hl 0 rfl) ?_
  refine lv_iconst (v := nI 5) hx hb dX2_comes_70 (by decide) ?_
  refine lv_iadd hx hb dX2_comes_71 (xk_top (nI_add _ _) ?_)
  refine lv_iload hx hb dX2_comes_72 (lv_at hl 5 rfl) ?_
  refine xk_iast B hI_39 hf_38 (by omega) (by decide) dX2_comes_74 (fun X_44 H_48 L_49 hf_46 hn_45 hI_47 => ?_)
  have hfr_50 := xk_fr.put hfr_42 hf_38 hn_45
  refine lv_aload_n hx hb dX2_comes_75 rfl (lv_at hl 1 rfl) ?_
  have hf_51 := xk_off hn_45 hf_43 hf_38 (xk_on1 (by decide))
  refine xk_get B hI_47 hf_51 rfl in_X2 0 (by decide) q1432 rfl dX2_comes_76 ?_
  refine lv_iload hx hb dX2_comes_79 (lv_at hl 0 rfl) ?_
  refine lv_bipush (v := nI 6) hx hb dX2_comes_81 (by decide) ?_
  refine lv_iadd hx hb dX2_comes_83 (xk_top (nI_add _ _) ?_)
  refine lv_iload hx hb dX2_comes_84 (lv_at hl 6 rfl) ?_
  refine xk_iast B hI_47 hf_46 (by omega) (by decide) dX2_comes_86 (fun X_52 H_56 L_57 hf_54 hn_53 hI_55 => ?_)
  have hfr_58 := xk_fr.put hfr_50 hf_46 hn_53
  refine lv_aload_n hx hb dX2_comes_87 rfl (lv_at hl 1 rfl) ?_
  have hf_59 := xk_off hn_53 hf_51 hf_46 (xk_on1 (by decide))
  refine xk_get B hI_55 hf_59 rfl in_X2 0 (by decide) q1432 rfl dX2_comes_88 ?_
  refine lv_iconst (v := nI 0) hx hb dX2_comes_91 (by decide) ?_
  refine lv_dup2_11 hx hb dX2_comes_92 rfl rfl ?_
  refine xk_iald B hI_55 hf_54 (by omega) (by decide) dX2_comes_93 ?_
  refine xk_top (congrArg nI (show (va_up (va_up (va_up (va_up (va_up (va_up (va_up (A 0) (14 + 7 * (A 0 0)) pt) (14 + 7 * (A 0 0) + 1) mo) (14 + 7 * (A 0 0) + 2) fa) (14 + 7 * (A 0 0) + 3) 1) (14 + 7 * (A 0 0) + 4) (A 0 1)) (14 + 7 * (A 0 0) + 5) ge) (14 + 7 * (A 0 0) + 6) sp) 0 = A 0 0 from by rw [tl_un (by omega), tl_un (by omega), tl_un (by omega), tl_un (by omega), tl_un (by omega), tl_un (by omega), tl_un (by omega)])) ?_
  refine lv_iconst (v := nI 1) hx hb dX2_comes_94 (by decide) ?_
  refine lv_iadd hx hb dX2_comes_95 (xk_top (nI_add _ _) ?_)
  refine xk_iast B hI_55 hf_54 (by omega) (by decide) dX2_comes_96 (fun X_60 H_64 L_65 hf_62 hn_61 hI_63 => ?_)
  have hfr_66 := xk_fr.put hfr_58 hf_54 hn_61
  refine lv_aload_n hx hb dX2_comes_97 rfl (lv_at hl 1 rfl) ?_
  have hf_67 := xk_off hn_61 hf_59 hf_54 (xk_on1 (by decide))
  refine xk_get B hI_63 hf_67 rfl in_X2 0 (by decide) q1432 rfl dX2_comes_98 ?_
  refine lv_iconst (v := nI 0) hx hb dX2_comes_101 (by decide) ?_
  refine xk_iald B hI_63 hf_62 (by omega) (by decide) dX2_comes_102 ?_
  refine xk_top (congrArg nI (show (va_up (va_up (va_up (va_up (va_up (va_up (va_up (va_up (A 0) (14 + 7 * (A 0 0)) pt) (14 + 7 * (A 0 0) + 1) mo) (14 + 7 * (A 0 0) + 2) fa) (14 + 7 * (A 0 0) + 3) 1) (14 + 7 * (A 0 0) + 4) (A 0 1)) (14 + 7 * (A 0 0) + 5) ge) (14 + 7 * (A 0 0) + 6) sp) 0 (A 0 0 + 1)) 0 = A 0 0 + 1 from by rw [tl_us])) ?_
  refine lv_iconst (v := nI 1) hx hb dX2_comes_103 (by decide) ?_
  refine lv_isub hx hb dX2_comes_104 (xk_top (pk_sub (by omega)) ?_)
  refine xk_top (congrArg nI (Nat.add_sub_cancel (n := A 0 0) (m := 1))) ?_
  have hf_68 := xk_off hn_5 hA1 hA0 (xk_on1 (by decide))
  have hf_69 := xk_off hn_13 hf_68 hf_6 (xk_on1 (by decide))
  have hf_70 := xk_off hn_21 hf_69 hf_14 (xk_on1 (by decide))
  have hf_71 := xk_off hn_29 hf_70 hf_22 (xk_on1 (by decide))
  have hf_72 := xk_off hn_37 hf_71 hf_30 (xk_on1 (by decide))
  have hf_73 := xk_off hn_45 hf_72 hf_38 (xk_on1 (by decide))
  have hf_74 := xk_off hn_53 hf_73 hf_46 (xk_on1 (by decide))
  have hf_75 := xk_off hn_61 hf_74 hf_54 (xk_on1 (by decide))
  have hf_76 := xk_off hn_5 hA2 hA0 (xk_on1 (by decide))
  have hf_77 := xk_off hn_13 hf_76 hf_6 (xk_on1 (by decide))
  have hf_78 := xk_off hn_21 hf_77 hf_14 (xk_on1 (by decide))
  have hf_79 := xk_off hn_29 hf_78 hf_22 (xk_on1 (by decide))
  have hf_80 := xk_off hn_37 hf_79 hf_30 (xk_on1 (by decide))
  have hf_81 := xk_off hn_45 hf_80 hf_38 (xk_on1 (by decide))
  have hf_82 := xk_off hn_53 hf_81 hf_46 (xk_on1 (by decide))
  have hf_83 := xk_off hn_61 hf_82 hf_54 (xk_on1 (by decide))
  have hf_84 := xk_off hn_5 hA3 hA0 (xk_on1 (by decide))
  have hf_85 := xk_off hn_13 hf_84 hf_6 (xk_on1 (by decide))
  have hf_86 := xk_off hn_21 hf_85 hf_14 (xk_on1 (by decide))
  have hf_87 := xk_off hn_29 hf_86 hf_22 (xk_on1 (by decide))
  have hf_88 := xk_off hn_37 hf_87 hf_30 (xk_on1 (by decide))
  have hf_89 := xk_off hn_45 hf_88 hf_38 (xk_on1 (by decide))
  have hf_90 := xk_off hn_53 hf_89 hf_46 (xk_on1 (by decide))
  have hf_91 := xk_off hn_61 hf_90 hf_54 (xk_on1 (by decide))
  have hf_92 := xk_off hn_5 hA4 hA0 (xk_on1 (by decide))
  have hf_93 := xk_off hn_13 hf_92 hf_6 (xk_on1 (by decide))
  have hf_94 := xk_off hn_21 hf_93 hf_14 (xk_on1 (by decide))
  have hf_95 := xk_off hn_29 hf_94 hf_22 (xk_on1 (by decide))
  have hf_96 := xk_off hn_37 hf_95 hf_30 (xk_on1 (by decide))
  have hf_97 := xk_off hn_45 hf_96 hf_38 (xk_on1 (by decide))
  have hf_98 := xk_off hn_53 hf_97 hf_46 (xk_on1 (by decide))
  have hf_99 := xk_off hn_61 hf_98 hf_54 (xk_on1 (by decide))
  have hf_100 := xk_off hn_5 hA5 hA0 (xk_on1 (by decide))
  have hf_101 := xk_off hn_13 hf_100 hf_6 (xk_on1 (by decide))
  have hf_102 := xk_off hn_21 hf_101 hf_14 (xk_on1 (by decide))
  have hf_103 := xk_off hn_29 hf_102 hf_22 (xk_on1 (by decide))
  have hf_104 := xk_off hn_37 hf_103 hf_30 (xk_on1 (by decide))
  have hf_105 := xk_off hn_45 hf_104 hf_38 (xk_on1 (by decide))
  have hf_106 := xk_off hn_53 hf_105 hf_46 (xk_on1 (by decide))
  have hf_107 := xk_off hn_61 hf_106 hf_54 (xk_on1 (by decide))
  have hf_108 := xk_off hn_5 hA6 hA0 (xk_on1 (by decide))
  have hf_109 := xk_off hn_13 hf_108 hf_6 (xk_on1 (by decide))
  have hf_110 := xk_off hn_21 hf_109 hf_14 (xk_on1 (by decide))
  have hf_111 := xk_off hn_29 hf_110 hf_22 (xk_on1 (by decide))
  have hf_112 := xk_off hn_37 hf_111 hf_30 (xk_on1 (by decide))
  have hf_113 := xk_off hn_45 hf_112 hf_38 (xk_on1 (by decide))
  have hf_114 := xk_off hn_53 hf_113 hf_46 (xk_on1 (by decide))
  have hf_115 := xk_off hn_61 hf_114 hf_54 (xk_on1 (by decide))
  have hf_116 := xk_off hn_5 hA7 hA0 (xk_on1 (by decide))
  have hf_117 := xk_off hn_13 hf_116 hf_6 (xk_on1 (by decide))
  have hf_118 := xk_off hn_21 hf_117 hf_14 (xk_on1 (by decide))
  have hf_119 := xk_off hn_29 hf_118 hf_22 (xk_on1 (by decide))
  have hf_120 := xk_off hn_37 hf_119 hf_30 (xk_on1 (by decide))
  have hf_121 := xk_off hn_45 hf_120 hf_38 (xk_on1 (by decide))
  have hf_122 := xk_off hn_53 hf_121 hf_46 (xk_on1 (by decide))
  have hf_123 := xk_off hn_61 hf_122 hf_54 (xk_on1 (by decide))
  have hf_124 := xk_off hn_5 hA8 hA0 (xk_on1 (by decide))
  have hf_125 := xk_off hn_13 hf_124 hf_6 (xk_on1 (by decide))
  have hf_126 := xk_off hn_21 hf_125 hf_14 (xk_on1 (by decide))
  have hf_127 := xk_off hn_29 hf_126 hf_22 (xk_on1 (by decide))
  have hf_128 := xk_off hn_37 hf_127 hf_30 (xk_on1 (by decide))
  have hf_129 := xk_off hn_45 hf_128 hf_38 (xk_on1 (by decide))
  have hf_130 := xk_off hn_53 hf_129 hf_46 (xk_on1 (by decide))
  have hf_131 := xk_off hn_61 hf_130 hf_54 (xk_on1 (by decide))
  have hf_132 := xk_off hn_5 hA9 hA0 (xk_on1 (by decide))
  have hf_133 := xk_off hn_13 hf_132 hf_6 (xk_on1 (by decide))
  have hf_134 := xk_off hn_21 hf_133 hf_14 (xk_on1 (by decide))
  have hf_135 := xk_off hn_29 hf_134 hf_22 (xk_on1 (by decide))
  have hf_136 := xk_off hn_37 hf_135 hf_30 (xk_on1 (by decide))
  have hf_137 := xk_off hn_45 hf_136 hf_38 (xk_on1 (by decide))
  have hf_138 := xk_off hn_53 hf_137 hf_46 (xk_on1 (by decide))
  have hf_139 := xk_off hn_61 hf_138 hf_54 (xk_on1 (by decide))
  have hM_140 : tm_Ok g X_60 o ad (va_up A 0 (va_up (va_up (va_up (va_up (va_up (va_up (va_up (va_up (A 0) (14 + 7 * (A 0 0)) pt) (14 + 7 * (A 0 0) + 1) mo) (14 + 7 * (A 0 0) + 2) fa) (14 + 7 * (A 0 0) + 3) 1) (14 + 7 * (A 0 0) + 4) (A 0 1)) (14 + 7 * (A 0 0) + 5) ge) (14 + 7 * (A 0 0) + 6) sp) 0 (A 0 0 + 1))) S := ⟨hf_67, hf_62, hf_75, hf_83, hf_91, hf_99, hf_107, hf_115, hf_123, hf_131, hf_139⟩
  exact xk_reti B hI_63 hr rfl dX2_comes_105 (Nat.le_of_ble_eq_true rfl) (Nat.le_of_ble_eq_true rfl) (⟨rfl, (by rw [← tl_come_eq]; exact hM_140), hfr_66⟩)
set_option maxHeartbeats 4000000 in
theorem m2_drawn (g : xk_G) {X : xk_H} {o : Nat} {ad : Nat → Nat} {A : Nat → Nat → Nat} {S : Nat → Nat} (hM : tm_Ok g X o ad A S) (hs9 : A 0 4 ≤ 999999) : xk_C g yX2_drawn (ws_ yX2_drawn cX2_drawn 1 (some .int)) ({ frames := 0, cells := 0, slots := 0, locals := 0 } : Room) [.ref o] X (xk_Qi (nI (tl_seed (A 0))) (fun X1 => tm_Ok g X1 o ad (va_up A 0 (tl_draw (A 0))) S ∧ xk_fr o X X1)) := by
  refine xk_ofW (by decide +kernel) (Nat.le_of_ble_eq_true rfl) (fun p e s m args below meth c B hr hname hargs hI ls hl => ?_)
  have B : xk_B g p s m args meth c RX2 cX2_drawn 1 := B
  have hl : lv_has ls 1 [(0, .ref o)] := hl
  have hx := B.1
  have hb := B.2.1
  have hM0 := hM
  obtain ⟨hO, hA0, hA1, hA2, hA3, hA4, hA5, hA6, hA7, hA8, hA9⟩ := hM
  have hfr : xk_fr o X X := xk_fr.rf
  refine lv_aload_n hx hb dX2_drawn_0 rfl (lv_at hl 0 rfl) ?_
  refine xk_get B hI hO rfl in_X2 0 (by decide) q1432 rfl dX2_drawn_1 ?_
  refine lv_iconst (v := nI 4) hx hb dX2_drawn_4 (by decide) ?_
  refine lv_sipush (v := nI 421) hx hb dX2_drawn_5 (by decide) ?_
  refine lv_aload_n hx hb dX2_drawn_8 rfl (lv_at hl 0 rfl) ?_
  refine xk_get B hI hO rfl in_X2 0 (by decide) q1432 rfl dX2_drawn_9 ?_
  refine lv_iconst (v := nI 4) hx hb dX2_drawn_12 (by decide) ?_
  refine xk_iald B hI hA0 (by omega) (by decide) dX2_drawn_13 ?_
  refine lv_imul hx hb dX2_drawn_14 (xk_top (pk_mul _ _) ?_)
  refine lv_sipush (v := nI 1663) hx hb dX2_drawn_15 (by decide) ?_
  refine lv_iadd hx hb dX2_drawn_18 (xk_top (nI_add _ _) ?_)
  refine lv_sipush (v := nI 7875) hx hb dX2_drawn_19 (by decide) ?_
  refine lv_irem hx hb dX2_drawn_22 (xk_ne0 (by omega) (by omega)) (xk_top (pk_rem (by omega) (by omega) (by omega)) ?_)
  refine xk_top (congrArg nI (tl_seed_eq (A 0)).symm) ?_
  refine xk_iast B hI hA0 (by omega) (by decide) dX2_drawn_23 (fun X_1 H_5 L_6 hf_3 hn_2 hI_4 => ?_)
  have hfr_7 := xk_fr.put hfr hA0 hn_2
  refine lv_aload_n hx hb dX2_drawn_24 rfl (lv_at hl 0 rfl) ?_
  have hf_8 := xk_off hn_2 hO hA0 (xk_on1 (by decide))
  refine xk_get B hI_4 hf_8 rfl in_X2 0 (by decide) q1432 rfl dX2_drawn_25 ?_
  refine lv_iconst (v := nI 4) hx hb dX2_drawn_28 (by decide) ?_
  refine xk_iald B hI_4 hf_3 (by omega) (by decide) dX2_drawn_29 ?_
  refine xk_top (congrArg nI (show (va_up (A 0) 4 (tl_seed (A 0))) 4 = tl_seed (A 0) from by rw [tl_us])) ?_
  have hf_9 := xk_off hn_2 hA1 hA0 (xk_on1 (by decide))
  have hf_10 := xk_off hn_2 hA2 hA0 (xk_on1 (by decide))
  have hf_11 := xk_off hn_2 hA3 hA0 (xk_on1 (by decide))
  have hf_12 := xk_off hn_2 hA4 hA0 (xk_on1 (by decide))
  have hf_13 := xk_off hn_2 hA5 hA0 (xk_on1 (by decide))
  have hf_14 := xk_off hn_2 hA6 hA0 (xk_on1 (by decide))
  have hf_15 := xk_off hn_2 hA7 hA0 (xk_on1 (by decide))
  have hf_16 := xk_off hn_2 hA8 hA0 (xk_on1 (by decide))
  have hf_17 := xk_off hn_2 hA9 hA0 (xk_on1 (by decide))
  have hM_18 : tm_Ok g X_1 o ad (va_up A 0 (va_up (A 0) 4 (tl_seed (A 0)))) S := ⟨hf_8, hf_3, hf_9, hf_10, hf_11, hf_12, hf_13, hf_14, hf_15, hf_16, hf_17⟩
  exact xk_reti B hI_4 hr rfl dX2_drawn_30 (Nat.le_of_ble_eq_true rfl) (Nat.le_of_ble_eq_true rfl) (⟨rfl, hM_18, hfr_7⟩)
set_option maxHeartbeats 4000000 in
theorem m2_mixed (g : xk_G) {X : xk_H} {o : Nat} {ad : Nat → Nat} {A : Nat → Nat → Nat} {S : Nat → Nat} (hM : tm_Ok g X o ad A S) {a b k : Nat} (ha : a < 40) (hb9 : b < 40) (hk9 : k ≤ 8) (ha1 : A 0 (14 + 7 * a) < 256) (hb1 : A 0 (14 + 7 * b) < 256) : xk_C g yX2_mixed (ws_ yX2_mixed cX2_mixed 5 (some .int)) ({ frames := 1, cells := 0, slots := 0, locals := 20 } : Room) [.ref o, .int (nI a), .int (nI b), .int (nI k)] X (xk_Qi (nI (tl_mix (A 0 (14 + 7 * a)) (A 0 (14 + 7 * b)) k)) (fun X1 => X1 = X)) := by
  refine xk_ofW (by decide +kernel) (Nat.le_of_ble_eq_true rfl) (fun p e s m args below meth c B hr hname hargs hI ls hl => ?_)
  have B : xk_B g p s m args meth c RX2 cX2_mixed 5 := B
  have hl : lv_has ls 5 [(0, .ref o), (1, .int (nI a)), (2, .int (nI b)), (3, .int (nI k))] := hl
  have hx := B.1
  have hb := B.2.1
  have hM0 := hM
  obtain ⟨hO, hA0, hA1, hA2, hA3, hA4, hA5, hA6, hA7, hA8, hA9⟩ := hM
  have hfr : xk_fr o X X := xk_fr.rf
  refine lv_iconst (v := nI 1) hx hb dX2_mixed_0 (by decide) ?_
  refine lv_iload_n hx hb dX2_mixed_1 rfl (lv_at hl 3 rfl) ?_
  refine lv_ishl hx hb dX2_mixed_2 (xk_top (xk_shl1 (by omega)) ?_)
  refine lv_iconst (v := nI 1) hx hb dX2_mixed_3 (by decide) ?_
  refine lv_isub hx hb dX2_mixed_4 (xk_top (pk_sub (by exact Nat.one_le_two_pow)) ?_)
  refine lv_istore (lv' := [(4, .int (nI ((2 ^ k) - 1))), (0, .ref o), (1, .int (nI a)), (2, .int (nI b)), (3, .int (nI k))]) hx hb dX2_mixed_5 hl (by decide) rfl (fun ls hl => ?_)
  refine lv_aload_n hx hb dX2_mixed_7 rfl (lv_at hl 1 rfl) ?_
  refine xk_get B hI hO rfl in_X2 0 (by decide) q1432 rfl dX2_mixed_8 ?_
  refine lv_iload_n hx hb dX2_mixed_11 rfl (lv_at hl 2 rfl) ?_
  refine xk_ri0 (xk_cS B hI hl [.int (nI a)] [.ref (ad 0)] 1 (m2_of g a) (lw_S q1524 q1525 q79 q1526) ⟨by decide +kernel, by decide +kernel, by decide +kernel⟩ ⟨Nat.le_of_ble_eq_true rfl, Nat.le_of_ble_eq_true rfl⟩ rfl rfl (Nat.le_of_ble_eq_true rfl) dX2_mixed_12 (Nat.le_of_ble_eq_true rfl) (Nat.le_of_ble_eq_true rfl)) hI (fun H_2 L_3 hI_1 => ?_)
  refine xk_top (y := nI (14 + 7 * a)) rfl ?_
  refine xk_iald B hI_1 hA0 (by omega) (by decide) dX2_mixed_15 ?_
  refine lv_iload hx hb dX2_mixed_16 (lv_at hl 0 rfl) ?_
  refine lv_iand hx hb dX2_mixed_18 (xk_top (xk_and _ _) ?_)
  refine lv_aload_n hx hb dX2_mixed_19 rfl (lv_at hl 1 rfl) ?_
  refine xk_get B hI_1 hO rfl in_X2 0 (by decide) q1432 rfl dX2_mixed_20 ?_
  refine lv_iload_n hx hb dX2_mixed_23 rfl (lv_at hl 3 rfl) ?_
  refine xk_ri0 (xk_cS B hI_1 hl [.int (nI b)] [.ref (ad 0), .int (nI ((A 0 (14 + 7 * a)) &&& ((2 ^ k) - 1)))] 1 (m2_of g b) (lw_S q1524 q1525 q79 q1526) ⟨by decide +kernel, by decide +kernel, by decide +kernel⟩ ⟨Nat.le_of_ble_eq_true rfl, Nat.le_of_ble_eq_true rfl⟩ rfl rfl (Nat.le_of_ble_eq_true rfl) dX2_mixed_24 (Nat.le_of_ble_eq_true rfl) (Nat.le_of_ble_eq_true rfl)) hI_1 (fun H_5 L_6 hI_4 => ?_)
  refine xk_top (y := nI (14 + 7 * b)) rfl ?_
  refine xk_iald B hI_4 hA0 (by omega) (by decide) dX2_mixed_27 ?_
  refine lv_iload hx hb dX2_mixed_28 (lv_at hl 0 rfl) ?_
  refine lv_iconst (v := (-1)) hx hb dX2_mixed_30 (by decide) ?_
  refine lv_ixor hx hb dX2_mixed_31 ?_
  refine lv_iand hx hb dX2_mixed_32 ?_
  refine xk_top (tl_andn hb1) ?_
  refine lv_ior hx hb dX2_mixed_33 (xk_top (xk_or _ _) ?_)
  exact xk_reti B hI_4 hr rfl dX2_mixed_34 (Nat.le_of_ble_eq_true rfl) (Nat.le_of_ble_eq_true rfl) (⟨rfl, rfl⟩)
