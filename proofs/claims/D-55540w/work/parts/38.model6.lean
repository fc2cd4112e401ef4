/-! the model: walks, printed by tools/model.py -/
set_option maxRecDepth 100000
set_option maxHeartbeats 4000000 in
theorem m2_marksUp (g : xk_G) {X : xk_H} {o : Nat} {ad : Nat → Nat} {A : Nat → Nat → Nat} {S : Nat → Nat} (hM : tm_Ok g X o ad A S) (hk : tl_inv (A 0)) {b : Nat} (hb9 : b < A 0 0) : xk_C g yX2_marksUp (ws_ yX2_marksUp cX2_marksUp 3 none) ({ frames := 1, cells := 0, slots := 0, locals := 20 } : Room) [.ref o, .int (nI b)] X (xk_Qv (fun X1 => tm_Ok g X1 o ad (va_up A 6 (tl_mu (A 0) (A 6) b)) S ∧ xk_fr o X X1)) := by
  refine xk_ofW (by decide +kernel) (Nat.le_of_ble_eq_true rfl) (fun p e s m args below meth c B hr hname hargs hI ls hl => ?_)
  have B : xk_B g p s m args meth c RX2 cX2_marksUp 3 := B
  have hl : lv_has ls 3 [(0, .ref o), (1, .int (nI b))] := hl
  have hx := B.1
  have hb := B.2.1
  have hM0 := hM
  obtain ⟨hO, hA0, hA1, hA2, hA3, hA4, hA5, hA6, hA7, hA8, hA9⟩ := hM
  have hk0 := hk
  obtain ⟨k0, kb, kw, kl, ks, kr1, kr2, kwt, kL⟩ := hk
  have hfr : xk_fr o X X := xk_fr.rf
  refine lv_iconst (v := nI 0) hx hb dX2_marksUp_0 (by decide) ?_
  refine lv_istore_n (lv' := [(2, .int (nI 0)), (0, .ref o), (1, .int (nI b))]) hx hb dX2_marksUp_1 rfl hl (by decide) rfl (fun ls hl => ?_)
  have hloop_2 : ∀ (n_2 : Nat) (k : Nat) (f : Nat → Nat) (Xl_2 : xk_H) (H_1 : Heap) (L_2 : List Loc), (k ≤ 40) → (f = tl_cp (tl_m0 b) (A 6) k) → 40 - k < n_2 → Xl_2 (ad 6) = some ((o, 7), xk_iA g 2 40 f) → (∀ b, b ≠ (ad 6) → Xl_2 b = X b) → (xk_fr o X Xl_2) → xk_I g s H_1 Xl_2 L_2 → ∀ ls : Array Slot, lv_has ls 3 [(0, .ref o), (1, .int (nI b)), (2, .int (nI k))] → W p (xk_l g) e (({ frames := 1, cells := 0, slots := 0, locals := 20 } : Room)) s m args below meth c H_1 L_2 0 0 (MQ below (xk_Q g (xk_Qv (fun X1 => tm_Ok g X1 o ad (va_up A 6 (tl_mu (A 0) (A 6) b)) S ∧ xk_fr o X X1))) args s (0) (0) (xk_A g)) (F0 m 2 ls []) := by
    intro n_2
    induction n_2 with
    | zero => intros; omega
    | succ n_2 ih_2 =>
      intro k f Xl_2 H_1 L_2 hk1 hf1 hm_2 hfl0_2 hne_2 hfrl_2 hI_3 ls hl
      refine lv_iload_n hx hb dX2_marksUp_2 rfl (lv_at hl 2 rfl) ?_
      refine lv_bipush (v := nI 40) hx hb dX2_marksUp_3 (by decide) ?_
      refine xk_icmp_ge (tgt := 30) hx hb (by omega) (by omega) dX2_marksUp_5 (by decide) (fun hc_5 => ?_) (fun hc_5 => ?_)
      · have hk2 : k = 40 := by omega
        subst hk2
        subst hf1
        refine lv_iload_n hx hb dX2_marksUp_30 rfl (lv_at hl 1 rfl) ?_
        refine lv_istore_n (lv' := [(2, .int (nI b)), (0, .ref o), (1, .int (nI b))]) hx hb dX2_marksUp_31 rfl hl (by decide) rfl (fun ls hl => ?_)
        have hloop_32 : ∀ (n_32 : Nat) (n : Nat) (f2 : Nat → Nat) (Xl_32 : xk_H) (H_4 : Heap) (L_5 : List Loc), (n ≤ b + 1) → (∀ j, j < 40 → f2 j ≤ 1) → (tl_mu (A 0) (A 6) b = tl_mup (A 0) n f2) → n < n_32 → Xl_32 (ad 6) = some ((o, 7), xk_iA g 2 40 f2) → (∀ b, b ≠ (ad 6) → Xl_32 b = Xl_2 b) → (xk_fr o X Xl_32) → xk_I g s H_4 Xl_32 L_5 → ∀ ls : Array Slot, lv_has ls 3 [(0, .ref o), (1, .int (nI b)), (2, .int (tl_d n))] → W p (xk_l g) e (({ frames := 1, cells := 0, slots := 0, locals := 20 } : Room)) s m args below meth c H_4 L_5 0 0 (MQ below (xk_Q g (xk_Qv (fun X1 => tm_Ok g X1 o ad (va_up A 6 (tl_mu (A 0) (A 6) b)) S ∧ xk_fr o X X1))) args s (0) (0) (xk_A g)) (F0 m 32 ls []) := by
          intro n_32
          induction n_32 with
          | zero => intros; omega
          | succ n_32 ih_32 =>
            intro n f2 Xl_32 H_4 L_5 hn1 hbd hres hm_32 hfl0_32 hne_32 hfrl_32 hI_6 ls hl
            refine lv_iload_n hx hb dX2_marksUp_32 rfl (lv_at hl 2 rfl) ?_
            rcases n with _ | k
            · refine xk_raw_if_lt_t (x := -1) (tgt := 103) hx hb dX2_marksUp_33 (by decide) (by decide) ?_
              have hf_7 := (hne_2 _ (xk_ne hA6 hO (xk_on1 (by decide)))).trans hO
              have hf_8 := (hne_32 _ (xk_ne hfl0_2 hf_7 (xk_on1 (by decide)))).trans hf_7
              have hf_9 := (hne_2 _ (xk_ne hA6 hA0 (xk_on1 (by decide)))).trans hA0
              have hf_10 := (hne_32 _ (xk_ne hfl0_2 hf_9 (xk_on1 (by decide)))).trans hf_9
              have hf_11 := (hne_2 _ (xk_ne hA6 hA1 (xk_on1 (by decide)))).trans hA1
              have hf_12 := (hne_32 _ (xk_ne hfl0_2 hf_11 (xk_on1 (by decide)))).trans hf_11
              have hf_13 := (hne_2 _ (xk_ne hA6 hA2 (xk_on1 (by decide)))).trans hA2
              have hf_14 := (hne_32 _ (xk_ne hfl0_2 hf_13 (xk_on1 (by decide)))).trans hf_13
              have hf_15 := (hne_2 _ (xk_ne hA6 hA3 (xk_on1 (by decide)))).trans hA3
              have hf_16 := (hne_32 _ (xk_ne hfl0_2 hf_15 (xk_on1 (by decide)))).trans hf_15
              have hf_17 := (hne_2 _ (xk_ne hA6 hA4 (xk_on1 (by decide)))).trans hA4
              have hf_18 := (hne_32 _ (xk_ne hfl0_2 hf_17 (xk_on1 (by decide)))).trans hf_17
              have hf_19 := (hne_2 _ (xk_ne hA6 hA5 (xk_on1 (by decide)))).trans hA5
              have hf_20 := (hne_32 _ (xk_ne hfl0_2 hf_19 (xk_on1 (by decide)))).trans hf_19
              have hf_21 := (hne_2 _ (xk_ne hA6 hA7 (xk_on1 (by decide)))).trans hA7
              have hf_22 := (hne_32 _ (xk_ne hfl0_2 hf_21 (xk_on1 (by decide)))).trans hf_21
              have hf_23 := (hne_2 _ (xk_ne hA6 hA8 (xk_on1 (by decide)))).trans hA8
              have hf_24 := (hne_32 _ (xk_ne hfl0_2 hf_23 (xk_on1 (by decide)))).trans hf_23
              have hf_25 := (hne_2 _ (xk_ne hA6 hA9 (xk_on1 (by decide)))).trans hA9
              have hf_26 := (hne_32 _ (xk_ne hfl0_2 hf_25 (xk_on1 (by decide)))).trans hf_25
              have hM_27 : tm_Ok g Xl_32 o ad (va_up A 6 f2) S := ⟨hf_8, hf_10, hf_12, hf_14, hf_16, hf_18, hf_20, hfl0_32, hf_22, hf_24, hf_26⟩
              exact xk_retv B hI_6 hr dX2_marksUp_103 (Nat.le_of_ble_eq_true rfl) (Nat.le_of_ble_eq_true rfl) (⟨rfl, (by rw [show tl_mu (A 0) (A 6) b = f2 from hres]; exact hM_27), hfrl_32⟩)
            · have hl : lv_has ls 3 [(0, .ref o), (1, .int (nI b)), (2, .int (nI k))] := hl
              have qb := kb k (by omega)
              have qf := hbd k (by omega)
              refine xk_if_lt_f (a := k) (tgt := 103) hx hb (by omega) dX2_marksUp_33 (by decide) trivial ?_
              refine lv_aload_n hx hb dX2_marksUp_36 rfl (lv_at hl 0 rfl) ?_
              have hf_28 := (hne_2 _ (xk_ne hA6 hO (xk_on1 (by decide)))).trans hO
              have hf_29 := (hne_32 _ (xk_ne hfl0_2 hf_28 (xk_on1 (by decide)))).trans hf_28
              refine xk_get B hI_6 hf_29 rfl in_X2 12 (by decide) q1444 rfl dX2_marksUp_37 ?_
              refine lv_iload_n hx hb dX2_marksUp_40 rfl (lv_at hl 2 rfl) ?_
              refine xk_zald B hI_6 hfl0_32 (by omega) (by decide) dX2_marksUp_41 ?_
              refine xk_if_eq (tgt := 97) hx hb (by omega) dX2_marksUp_42 (by decide) (fun hc_42 => ?_) (fun hc_42 => ?_)
              · refine lv_iinc (v := tl_d k) (lv' := [(2, .int (tl_d k)), (0, .ref o), (1, .int (nI b))]) hx hb dX2_marksUp_97 hl (k := 2) rfl (tl_dd k) (by decide) rfl (fun ls hl => ?_)
                refine lv_goto (tgt := 32) hx hb dX2_marksUp_100 (by decide) ?_
                exact ih_32 k f2 Xl_32 _ _ (by omega) (fun j hj => hbd j hj) (by rw [hres]; show tl_mup _ k (if _ then _ else _) = _; rw [if_neg (by omega)]) (by omega) hfl0_32 (fun b z0 => (hne_32 b z0)) hfrl_32 hI_6 ls (lv_sub hl [1, 2, 0] rfl)
              · refine lv_aload_n hx hb dX2_marksUp_45 rfl (lv_at hl 0 rfl) ?_
                refine xk_get B hI_6 hf_29 rfl in_X2 0 (by decide) q1432 rfl dX2_marksUp_46 ?_
                refine lv_iload_n hx hb dX2_marksUp_49 rfl (lv_at hl 2 rfl) ?_
                refine xk_ri0 (xk_cS B hI_6 hl [.int (nI k)] [.ref (ad 0)] 1 (m2_of g k) (lw_S q1524 q1525 q79 q1526) ⟨by decide +kernel, by decide +kernel, by decide +kernel⟩ ⟨Nat.le_of_ble_eq_true rfl, Nat.le_of_ble_eq_true rfl⟩ rfl rfl (Nat.le_of_ble_eq_true rfl) dX2_marksUp_50 (Nat.le_of_ble_eq_true rfl) (Nat.le_of_ble_eq_true rfl)) hI_6 (fun H_31 L_32 hI_30 => ?_)
                refine xk_top (y := nI (14 + 7 * k)) rfl ?_
                refine lv_iconst (v := nI 1) hx hb dX2_marksUp_53 (by decide) ?_
                refine lv_iadd hx hb dX2_marksUp_54 (xk_top (nI_add _ _) ?_)
                have hf_33 := (hne_2 _ (xk_ne hA6 hA0 (xk_on1 (by decide)))).trans hA0
                have hf_34 := (hne_32 _ (xk_ne hfl0_2 hf_33 (xk_on1 (by decide)))).trans hf_33
                refine xk_iald B hI_30 hf_34 (by omega) (by decide) dX2_marksUp_55 ?_
                refine xk_if_le (tgt := 97) hx hb (by omega) dX2_marksUp_56 (by decide) (fun hc_56 => ?_) (fun hc_56 => ?_)
                · refine lv_iinc (v := tl_d k) (lv' := [(2, .int (tl_d k)), (0, .ref o), (1, .int (nI b))]) hx hb dX2_marksUp_97 hl (k := 2) rfl (tl_dd k) (by decide) rfl (fun ls hl => ?_)
                  refine lv_goto (tgt := 32) hx hb dX2_marksUp_100 (by decide) ?_
                  exact ih_32 k f2 Xl_32 _ _ (by omega) (fun j hj => hbd j hj) (by rw [hres]; show tl_mup _ k (if _ then _ else _) = _; rw [if_neg (by omega)]) (by omega) hfl0_32 (fun b z0 => (hne_32 b z0)) hfrl_32 hI_30 ls (lv_sub hl [1, 2, 0] rfl)
                · refine lv_aload_n hx hb dX2_marksUp_59 rfl (lv_at hl 0 rfl) ?_
                  refine xk_get B hI_30 hf_29 rfl in_X2 12 (by decide) q1444 rfl dX2_marksUp_60 ?_
                  refine lv_aload_n hx hb dX2_marksUp_63 rfl (lv_at hl 0 rfl) ?_
                  refine xk_get B hI_30 hf_29 rfl in_X2 0 (by decide) q1432 rfl dX2_marksUp_64 ?_
                  refine lv_iload_n hx hb dX2_marksUp_67 rfl (lv_at hl 2 rfl) ?_
                  refine xk_ri0 (xk_cS B hI_30 hl [.int (nI k)] [.ref (ad 0), .ref (ad 6)] 1 (m2_of g k) (lw_S q1524 q1525 q79 q1526) ⟨by decide +kernel, by decide +kernel, by decide +kernel⟩ ⟨Nat.le_of_ble_eq_true rfl, Nat.le_of_ble_eq_true rfl⟩ rfl rfl (Nat.le_of_ble_eq_true rfl) dX2_marksUp_68 (Nat.le_of_ble_eq_true rfl) (Nat.le_of_ble_eq_true rfl)) hI_30 (fun H_36 L_37 hI_35 => ?_)
                  refine xk_top (y := nI (14 + 7 * k)) rfl ?_
                  refine lv_iconst (v := nI 1) hx hb dX2_marksUp_71 (by decide) ?_
                  refine lv_iadd hx hb dX2_marksUp_72 (xk_top (nI_add _ _) ?_)
                  refine xk_iald B hI_35 hf_34 (by omega) (by decide) dX2_marksUp_73 ?_
                  refine lv_iconst (v := nI 1) hx hb dX2_marksUp_74 (by decide) ?_
                  refine lv_isub hx hb dX2_marksUp_75 (xk_top (pk_sub (by omega)) ?_)
                  refine lv_iconst (v := nI 1) hx hb dX2_marksUp_76 (by decide) ?_
                  refine xk_zast B hI_35 hfl0_32 (by omega) (by omega) (by decide) dX2_marksUp_77 (fun X_38 H_42 L_43 hf_40 hn_39 hI_41 => ?_)
                  have hfr_44 := xk_fr.put hfrl_32 hfl0_32 hn_39
                  refine lv_aload_n hx hb dX2_marksUp_78 rfl (lv_at hl 0 rfl) ?_
                  have hf_45 := xk_off hn_39 hf_29 hfl0_32 (xk_on1 (by decide))
                  refine xk_get B hI_41 hf_45 rfl in_X2 12 (by decide) q1444 rfl dX2_marksUp_79 ?_
                  refine lv_aload_n hx hb dX2_marksUp_82 rfl (lv_at hl 0 rfl) ?_
                  refine xk_get B hI_41 hf_45 rfl in_X2 0 (by decide) q1432 rfl dX2_marksUp_83 ?_
                  refine lv_iload_n hx hb dX2_marksUp_86 rfl (lv_at hl 2 rfl) ?_
                  refine xk_ri0 (xk_cS B hI_41 hl [.int (nI k)] [.ref (ad 0), .ref (ad 6)] 1 (m2_of g k) (lw_S q1524 q1525 q79 q1526) ⟨by decide +kernel, by decide +kernel, by decide +kernel⟩ ⟨Nat.le_of_ble_eq_true rfl, Nat.le_of_ble_eq_true rfl⟩ rfl rfl (Nat.le_of_ble_eq_true rfl) dX2_marksUp_87 (Nat.le_of_ble_eq_true rfl) (Nat.le_of_ble_eq_true rfl)) hI_41 (fun H_47 L_48 hI_46 => ?_)
                  refine xk_top (y := nI (14 + 7 * k)) rfl ?_
                  refine lv_iconst (v := nI 2) hx hb dX2_marksUp_90 (by decide) ?_
                  refine lv_iadd hx hb dX2_marksUp_91 (xk_top (nI_add _ _) ?_)
                  have hf_49 := xk_off hn_39 hf_34 hfl0_32 (xk_on1 (by decide))
                  refine xk_iald B hI_46 hf_49 (by omega) (by decide) dX2_marksUp_92 ?_
                  refine lv_iconst (v := nI 1) hx hb dX2_marksUp_93 (by decide) ?_
                  refine lv_isub hx hb dX2_marksUp_94 (xk_top (pk_sub (by omega)) ?_)
                  refine lv_iconst (v := nI 1) hx hb dX2_marksUp_95 (by decide) ?_
                  refine xk_zast B hI_46 hf_40 (by omega) (by omega) (by decide) dX2_marksUp_96 (fun X_50 H_54 L_55 hf_52 hn_51 hI_53 => ?_)
                  have hfr_56 := xk_fr.put hfr_44 hf_40 hn_51
                  refine lv_iinc (v := tl_d k) (lv' := [(2, .int (tl_d k)), (0, .ref o), (1, .int (nI b))]) hx hb dX2_marksUp_97 hl (k := 2) rfl (tl_dd k) (by decide) rfl (fun ls hl => ?_)
                  refine lv_goto (tgt := 32) hx hb dX2_marksUp_100 (by decide) ?_
                  exact ih_32 k (va_up (va_up f2 ((A 0 (14 + 7 * k + 1)) - 1) 1) ((A 0 (14 + 7 * k + 2)) - 1) 1) X_50 _ _ (by omega) (fun j hj => tl_up_le (Nat.le_refl _) (tl_up_le (Nat.le_refl _) (hbd j hj))) (by rw [hres]; show tl_mup _ k (if _ then _ else _) = _; rw [if_pos ⟨hc_42, hc_56⟩]) (by omega) hf_52 (fun b z0 => ((hn_51 b z0).trans ((hn_39 b z0).trans (hne_32 b z0)))) hfr_56 hI_53 ls (lv_sub hl [1, 2, 0] rfl)
        exact hloop_32 ((b + 1) + 1) (b + 1) (tl_cp (tl_m0 b) (A 6) 40) Xl_2 _ _ (by omega) (fun j hj => tl_m0_le hj) (by rfl) (Nat.lt_succ_self _) hfl0_2 (fun _ _ => rfl) hfrl_2 hI_3 ls (lv_sub hl [1, 2, 0] rfl)
      · refine lv_aload_n hx hb dX2_marksUp_8 rfl (lv_at hl 0 rfl) ?_
        have hf_57 := (hne_2 _ (xk_ne hA6 hO (xk_on1 (by decide)))).trans hO
        refine xk_get B hI_3 hf_57 rfl in_X2 12 (by decide) q1444 rfl dX2_marksUp_9 ?_
        refine lv_iload_n hx hb dX2_marksUp_12 rfl (lv_at hl 2 rfl) ?_
        refine lv_iload_n hx hb dX2_marksUp_13 rfl (lv_at hl 2 rfl) ?_
        refine lv_iload_n hx hb dX2_marksUp_14 rfl (lv_at hl 1 rfl) ?_
        refine xk_icmp_ne (tgt := 22) hx hb (by omega) (by omega) dX2_marksUp_15 (by decide) (fun hc_15 => ?_) (fun hc_15 => ?_)
        · refine lv_iconst (v := nI 0) hx hb dX2_marksUp_22 (by decide) ?_
          refine xk_zast B hI_3 hfl0_2 (by omega) (by omega) (by decide) dX2_marksUp_23 (fun X_58 H_62 L_63 hf_60 hn_59 hI_61 => ?_)
          have hfr_64 := xk_fr.put hfrl_2 hfl0_2 hn_59
          refine lv_iinc (v := nI (k + 1)) (lv' := [(2, .int (nI (k + 1))), (0, .ref o), (1, .int (nI b))]) hx hb dX2_marksUp_24 hl (k := 2) rfl (xk_inc k) (by decide) rfl (fun ls hl => ?_)
          refine lv_goto (tgt := 2) hx hb dX2_marksUp_27 (by decide) ?_
          exact ih_2 (k + 1) (va_up f k 0) X_58 _ _ (by omega) (by rw [hf1, ← tl_cp_s]; congr 1; show _ = (if k = b then 1 else 0); first | rw [if_pos hc_15] | rw [if_neg hc_15]) (by omega) hf_60 (fun b z0 => ((hn_59 b z0).trans (hne_2 b z0))) hfr_64 hI_61 ls (lv_sub hl [1, 2, 0] rfl)
        · refine lv_iconst (v := nI 1) hx hb dX2_marksUp_18 (by decide) ?_
          refine lv_goto (tgt := 23) hx hb dX2_marksUp_19 (by decide) ?_
          refine xk_zast B hI_3 hfl0_2 (by omega) (by omega) (by decide) dX2_marksUp_23 (fun X_65 H_69 L_70 hf_67 hn_66 hI_68 => ?_)
          have hfr_71 := xk_fr.put hfrl_2 hfl0_2 hn_66
          refine lv_iinc (v := nI (k + 1)) (lv' := [(2, .int (nI (k + 1))), (0, .ref o), (1, .int (nI b))]) hx hb dX2_marksUp_24 hl (k := 2) rfl (xk_inc k) (by decide) rfl (fun ls hl => ?_)
          refine lv_goto (tgt := 2) hx hb dX2_marksUp_27 (by decide) ?_
          exact ih_2 (k + 1) (va_up f k 1) X_65 _ _ (by omega) (by rw [hf1, ← tl_cp_s]; congr 1; show _ = (if k = b then 1 else 0); first | rw [if_pos hc_15] | rw [if_neg hc_15]) (by omega) hf_67 (fun b z0 => ((hn_66 b z0).trans (hne_2 b z0))) hfr_71 hI_68 ls (lv_sub hl [1, 2, 0] rfl)
  exact hloop_2 (40 - 0 + 1) 0 (A 6) X _ _ (by omega) (by exact (tl_cp_0 _ _).symm) (Nat.lt_succ_self _) hA6 (fun _ _ => rfl) hfr hI ls (lv_sub hl [1, 2, 0] rfl)
set_option maxHeartbeats 4000000 in
theorem m2_marksDown (g : xk_G) {X : xk_H} {o : Nat} {ad : Nat → Nat} {A : Nat → Nat → Nat} {S : Nat → Nat} (hM : tm_Ok g X o ad A S) (hk : tl_inv (A 0)) {b : Nat} (hb9 : b < A 0 0) : xk_C g yX2_marksDown (ws_ yX2_marksDown cX2_marksDown 4 none) ({ frames := 1, cells := 0, slots := 0, locals := 20 } : Room) [.ref o, .int (nI b)] X (xk_Qv (fun X1 => tm_Ok g X1 o ad (va_up A 6 (tl_md (A 0) (A 6) b 40)) S ∧ xk_fr o X X1)) := by
  refine xk_ofW (by decide +kernel) (Nat.le_of_ble_eq_true rfl) (fun p e s m args below meth c B hr hname hargs hI ls hl => ?_)
  have B : xk_B g p s m args meth c RX2 cX2_marksDown 4 := B
  have hl : lv_has ls 4 [(0, .ref o), (1, .int (nI b))] := hl
  have hx := B.1
  have hb := B.2.1
  have hM0 := hM
  obtain ⟨hO, hA0, hA1, hA2, hA3, hA4, hA5, hA6, hA7, hA8, hA9⟩ := hM
  have hk0 := hk
  obtain ⟨k0, kb, kw, kl, ks, kr1, kr2, kwt, kL⟩ := hk
  have hfr : xk_fr o X X := xk_fr.rf
  refine lv_iconst (v := nI 0) hx hb dX2_marksDown_0 (by decide) ?_
  refine lv_istore_n (lv' := [(2, .int (nI 0)), (0, .ref o), (1, .int (nI b))]) hx hb dX2_marksDown_1 rfl hl (by decide) rfl (fun ls hl => ?_)
  have hloop_2 : ∀ (n_2 : Nat) (k : Nat) (f : Nat → Nat) (Xl_2 : xk_H) (H_1 : Heap) (L_2 : List Loc), (k ≤ 40) → (f = tl_md (A 0) (A 6) b k) → 40 - k < n_2 → Xl_2 (ad 6) = some ((o, 7), xk_iA g 2 40 f) → (∀ b, b ≠ (ad 6) → Xl_2 b = X b) → (xk_fr o X Xl_2) → xk_I g s H_1 Xl_2 L_2 → ∀ ls : Array Slot, lv_has ls 4 [(0, .ref o), (1, .int (nI b)), (2, .int (nI k))] → W p (xk_l g) e (({ frames := 1, cells := 0, slots := 0, locals := 20 } : Room)) s m args below meth c H_1 L_2 0 0 (MQ below (xk_Q g (xk_Qv (fun X1 => tm_Ok g X1 o ad (va_up A 6 (tl_md (A 0) (A 6) b 40)) S ∧ xk_fr o X X1))) args s (0) (0) (xk_A g)) (F0 m 2 ls []) := by
    intro n_2
    induction n_2 with
    | zero => intros; omega
    | succ n_2 ih_2 =>
      intro k f Xl_2 H_1 L_2 hk1 hf1 hm_2 hfl0_2 hne_2 hfrl_2 hI_3 ls hl
      refine lv_iload_n hx hb dX2_marksDown_2 rfl (lv_at hl 2 rfl) ?_
      refine lv_bipush (v := nI 40) hx hb dX2_marksDown_3 (by decide) ?_
      refine xk_icmp_ge (tgt := 108) hx hb (by omega) (by omega) dX2_marksDown_5 (by decide) (fun hc_5 => ?_) (fun hc_5 => ?_)
      · have hk2 : k = 40 := by omega
        subst hk2
        subst hf1
        have hf_4 := (hne_2 _ (xk_ne hA6 hO (xk_on1 (by decide)))).trans hO
        have hf_5 := (hne_2 _ (xk_ne hA6 hA0 (xk_on1 (by decide)))).trans hA0
        have hf_6 := (hne_2 _ (xk_ne hA6 hA1 (xk_on1 (by decide)))).trans hA1
        have hf_7 := (hne_2 _ (xk_ne hA6 hA2 (xk_on1 (by decide)))).trans hA2
        have hf_8 := (hne_2 _ (xk_ne hA6 hA3 (xk_on1 (by decide)))).trans hA3
        have hf_9 := (hne_2 _ (xk_ne hA6 hA4 (xk_on1 (by decide)))).trans hA4
        have hf_10 := (hne_2 _ (xk_ne hA6 hA5 (xk_on1 (by decide)))).trans hA5
        have hf_11 := (hne_2 _ (xk_ne hA6 hA7 (xk_on1 (by decide)))).trans hA7
        have hf_12 := (hne_2 _ (xk_ne hA6 hA8 (xk_on1 (by decide)))).trans hA8
        have hf_13 := (hne_2 _ (xk_ne hA6 hA9 (xk_on1 (by decide)))).trans hA9
        have hM_14 : tm_Ok g Xl_2 o ad (va_up A 6 (tl_md (A 0) (A 6) b 40)) S := ⟨hf_4, hf_5, hf_6, hf_7, hf_8, hf_9, hf_10, hfl0_2, hf_11, hf_12, hf_13⟩
        exact xk_retv B hI_3 hr dX2_marksDown_108 (Nat.le_of_ble_eq_true rfl) (Nat.le_of_ble_eq_true rfl) (⟨rfl, hM_14, hfrl_2⟩)
      · have hbd : ∀ j, j < k → f j ≤ 1 := by rw [hf1]; exact tl_md_le
        refine lv_iload_n hx hb dX2_marksDown_8 rfl (lv_at hl 2 rfl) ?_
        refine lv_iload_n hx hb dX2_marksDown_9 rfl (lv_at hl 1 rfl) ?_
        refine xk_icmp_ne (tgt := 17) hx hb (by omega) (by omega) dX2_marksDown_10 (by decide) (fun hc_10 => ?_) (fun hc_10 => ?_)
        · refine lv_iconst (v := nI 0) hx hb dX2_marksDown_17 (by decide) ?_
          refine lv_istore_n (lv' := [(3, .int (nI 0)), (0, .ref o), (1, .int (nI b)), (2, .int (nI k))]) hx hb dX2_marksDown_18 rfl hl (by decide) rfl (fun ls hl => ?_)
          refine lv_iload_n hx hb dX2_marksDown_19 rfl (lv_at hl 3 rfl) ?_
          refine lv_aload_n hx hb dX2_marksDown_20 rfl (lv_at hl 1 rfl) ?_
          have hf_15 := (hne_2 _ (xk_ne hA6 hO (xk_on1 (by decide)))).trans hO
          refine xk_get B hI_3 hf_15 rfl in_X2 0 (by decide) q1432 rfl dX2_marksDown_21 ?_
          refine lv_iconst (v := nI 0) hx hb dX2_marksDown_24 (by decide) ?_
          have hf_16 := (hne_2 _ (xk_ne hA6 hA0 (xk_on1 (by decide)))).trans hA0
          refine xk_iald B hI_3 hf_16 (by omega) (by decide) dX2_marksDown_25 ?_
          refine xk_icmp_ge (tgt := 95) hx hb (by omega) (by omega) dX2_marksDown_26 (by decide) (fun hc_26 => ?_) (fun hc_26 => ?_)
          · refine lv_aload_n hx hb dX2_marksDown_95 rfl (lv_at hl 1 rfl) ?_
            refine xk_get B hI_3 hf_15 rfl in_X2 12 (by decide) q1444 rfl dX2_marksDown_96 ?_
            refine lv_iload_n hx hb dX2_marksDown_99 rfl (lv_at hl 3 rfl) ?_
            refine lv_iload_n hx hb dX2_marksDown_100 rfl (lv_at hl 0 rfl) ?_
            refine xk_zast B hI_3 hfl0_2 (by omega) (by omega) (by decide) dX2_marksDown_101 (fun X_17 H_21 L_22 hf_19 hn_18 hI_20 => ?_)
            have hfr_23 := xk_fr.put hfrl_2 hfl0_2 hn_18
            refine lv_iinc (v := nI (k + 1)) (lv' := [(2, .int (nI (k + 1))), (3, .int (nI 0)), (0, .ref o), (1, .int (nI b))]) hx hb dX2_marksDown_102 hl (k := 3) rfl (xk_inc k) (by decide) rfl (fun ls hl => ?_)
            refine lv_goto (tgt := 2) hx hb dX2_marksDown_105 (by decide) ?_
            exact ih_2 (k + 1) (va_up f k 0) X_17 _ _ (by omega) (by show _ = va_up (tl_md (A 0) (A 6) b k) k (tl_mdv (A 0) (tl_md (A 0) (A 6) b k) b k); rw [← hf1]; exact congrArg (va_up f k) (by unfold tl_mdv; split <;> (try split) <;> omega)) (by omega) hf_19 (fun b z0 => ((hn_18 b z0).trans (hne_2 b z0))) hfr_23 hI_20 ls (lv_sub hl [2, 3, 0] rfl)
          · have qb := kb k hc_26
            refine lv_aload_n hx hb dX2_marksDown_29 rfl (lv_at hl 1 rfl) ?_
            refine xk_get B hI_3 hf_15 rfl in_X2 0 (by decide) q1432 rfl dX2_marksDown_30 ?_
            refine lv_iload_n hx hb dX2_marksDown_33 rfl (lv_at hl 3 rfl) ?_
            refine xk_ri0 (xk_cS B hI_3 hl [.int (nI k)] [.ref (ad 0)] 1 (m2_of g k) (lw_S q1524 q1525 q79 q1526) ⟨by decide +kernel, by decide +kernel, by decide +kernel⟩ ⟨Nat.le_of_ble_eq_true rfl, Nat.le_of_ble_eq_true rfl⟩ rfl rfl (Nat.le_of_ble_eq_true rfl) dX2_marksDown_34 (Nat.le_of_ble_eq_true rfl) (Nat.le_of_ble_eq_true rfl)) hI_3 (fun H_25 L_26 hI_24 => ?_)
            refine xk_top (y := nI (14 + 7 * k)) rfl ?_
            refine lv_iconst (v := nI 1) hx hb dX2_marksDown_37 (by decide) ?_
            refine lv_iadd hx hb dX2_marksDown_38 (xk_top (nI_add _ _) ?_)
            refine xk_iald B hI_24 hf_16 (by omega) (by decide) dX2_marksDown_39 ?_
            refine xk_if_le (tgt := 95) hx hb (by omega) dX2_marksDown_40 (by decide) (fun hc_40 => ?_) (fun hc_40 => ?_)
            · refine lv_aload_n hx hb dX2_marksDown_95 rfl (lv_at hl 1 rfl) ?_
              refine xk_get B hI_24 hf_15 rfl in_X2 12 (by decide) q1444 rfl dX2_marksDown_96 ?_
              refine lv_iload_n hx hb dX2_marksDown_99 rfl (lv_at hl 3 rfl) ?_
              refine lv_iload_n hx hb dX2_marksDown_100 rfl (lv_at hl 0 rfl) ?_
              refine xk_zast B hI_24 hfl0_2 (by omega) (by omega) (by decide) dX2_marksDown_101 (fun X_27 H_31 L_32 hf_29 hn_28 hI_30 => ?_)
              have hfr_33 := xk_fr.put hfrl_2 hfl0_2 hn_28
              refine lv_iinc (v := nI (k + 1)) (lv' := [(2, .int (nI (k + 1))), (3, .int (nI 0)), (0, .ref o), (1, .int (nI b))]) hx hb dX2_marksDown_102 hl (k := 3) rfl (xk_inc k) (by decide) rfl (fun ls hl => ?_)
              refine lv_goto (tgt := 2) hx hb dX2_marksDown_105 (by decide) ?_
              exact ih_2 (k + 1) (va_up f k 0) X_27 _ _ (by omega) (by show _ = va_up (tl_md (A 0) (A 6) b k) k (tl_mdv (A 0) (tl_md (A 0) (A 6) b k) b k); rw [← hf1]; exact congrArg (va_up f k) (by unfold tl_mdv; split <;> (try split) <;> omega)) (by omega) hf_29 (fun b z0 => ((hn_28 b z0).trans (hne_2 b z0))) hfr_33 hI_30 ls (lv_sub hl [2, 3, 0] rfl)
            · refine lv_iload_n hx hb dX2_marksDown_43 rfl (lv_at hl 0 rfl) ?_
              refine xk_if_ne_f (tgt := 89) hx hb (by omega) dX2_marksDown_44 (by decide) (by decide) ?_
              have qm := hbd (A 0 (14 + 7 * k + 1) - 1) (by omega)
              refine lv_aload_n hx hb dX2_marksDown_47 rfl (lv_at hl 1 rfl) ?_
              refine xk_get B hI_24 hf_15 rfl in_X2 12 (by decide) q1444 rfl dX2_marksDown_48 ?_
              refine lv_aload_n hx hb dX2_marksDown_51 rfl (lv_at hl 1 rfl) ?_
              refine xk_get B hI_24 hf_15 rfl in_X2 0 (by decide) q1432 rfl dX2_marksDown_52 ?_
              refine lv_iload_n hx hb dX2_marksDown_55 rfl (lv_at hl 3 rfl) ?_
              refine xk_ri0 (xk_cS B hI_24 hl [.int (nI k)] [.ref (ad 0), .ref (ad 6)] 1 (m2_of g k) (lw_S q1524 q1525 q79 q1526) ⟨by decide +kernel, by decide +kernel, by decide +kernel⟩ ⟨Nat.le_of_ble_eq_true rfl, Nat.le_of_ble_eq_true rfl⟩ rfl rfl (Nat.le_of_ble_eq_true rfl) dX2_marksDown_56 (Nat.le_of_ble_eq_true rfl) (Nat.le_of_ble_eq_true rfl)) hI_24 (fun H_35 L_36 hI_34 => ?_)
              refine xk_top (y := nI (14 + 7 * k)) rfl ?_
              refine lv_iconst (v := nI 1) hx hb dX2_marksDown_59 (by decide) ?_
              refine lv_iadd hx hb dX2_marksDown_60 (xk_top (nI_add _ _) ?_)
              refine xk_iald B hI_34 hf_16 (by omega) (by decide) dX2_marksDown_61 ?_
              refine lv_iconst (v := nI 1) hx hb dX2_marksDown_62 (by decide) ?_
              refine lv_isub hx hb dX2_marksDown_63 (xk_top (pk_sub (by omega)) ?_)
              refine xk_zald B hI_34 hfl0_2 (by omega) (by decide) dX2_marksDown_64 ?_
              refine xk_if_ne (tgt := 89) hx hb (by omega) dX2_marksDown_65 (by decide) (fun hc_65 => ?_) (fun hc_65 => ?_)
              · refine lv_iconst (v := nI 1) hx hb dX2_marksDown_89 (by decide) ?_
                refine lv_goto (tgt := 94) hx hb dX2_marksDown_90 (by decide) ?_
                refine lv_istore_n (lv' := [(3, .int (nI 1)), (0, .ref o), (1, .int (nI b)), (2, .int (nI k))]) hx hb dX2_marksDown_94 rfl hl (by decide) rfl (fun ls hl => ?_)
                refine lv_aload_n hx hb dX2_marksDown_95 rfl (lv_at hl 1 rfl) ?_
                refine xk_get B hI_34 hf_15 rfl in_X2 12 (by decide) q1444 rfl dX2_marksDown_96 ?_
                refine lv_iload_n hx hb dX2_marksDown_99 rfl (lv_at hl 3 rfl) ?_
                refine lv_iload_n hx hb dX2_marksDown_100 rfl (lv_at hl 0 rfl) ?_
                refine xk_zast B hI_34 hfl0_2 (by omega) (by omega) (by decide) dX2_marksDown_101 (fun X_37 H_41 L_42 hf_39 hn_38 hI_40 => ?_)
                have hfr_43 := xk_fr.put hfrl_2 hfl0_2 hn_38
                refine lv_iinc (v := nI (k + 1)) (lv' := [(2, .int (nI (k + 1))), (3, .int (nI 1)), (0, .ref o), (1, .int (nI b))]) hx hb dX2_marksDown_102 hl (k := 3) rfl (xk_inc k) (by decide) rfl (fun ls hl => ?_)
                refine lv_goto (tgt := 2) hx hb dX2_marksDown_105 (by decide) ?_
                exact ih_2 (k + 1) (va_up f k 1) X_37 _ _ (by omega) (by show _ = va_up (tl_md (A 0) (A 6) b k) k (tl_mdv (A 0) (tl_md (A 0) (A 6) b k) b k); rw [← hf1]; exact congrArg (va_up f k) (by unfold tl_mdv; split <;> (try split) <;> omega)) (by omega) hf_39 (fun b z0 => ((hn_38 b z0).trans (hne_2 b z0))) hfr_43 hI_40 ls (lv_sub hl [2, 3, 0] rfl)
              · have qf := hbd (A 0 (14 + 7 * k + 2) - 1) (by omega)
                refine lv_aload_n hx hb dX2_marksDown_68 rfl (lv_at hl 1 rfl) ?_
                refine xk_get B hI_34 hf_15 rfl in_X2 12 (by decide) q1444 rfl dX2_marksDown_69 ?_
                refine lv_aload_n hx hb dX2_marksDown_72 rfl (lv_at hl 1 rfl) ?_
                refine xk_get B hI_34 hf_15 rfl in_X2 0 (by decide) q1432 rfl dX2_marksDown_73 ?_
                refine lv_iload_n hx hb dX2_marksDown_76 rfl (lv_at hl 3 rfl) ?_
                refine xk_ri0 (xk_cS B hI_34 hl [.int (nI k)] [.ref (ad 0), .ref (ad 6)] 1 (m2_of g k) (lw_S q1524 q1525 q79 q1526) ⟨by decide +kernel, by decide +kernel, by decide +kernel⟩ ⟨Nat.le_of_ble_eq_true rfl, Nat.le_of_ble_eq_true rfl⟩ rfl rfl (Nat.le_of_ble_eq_true rfl) dX2_marksDown_77 (Nat.le_of_ble_eq_true rfl) (Nat.le_of_ble_eq_true rfl)) hI_34 (fun H_45 L_46 hI_44 => ?_)
                refine xk_top (y := nI (14 + 7 * k)) rfl ?_
                refine lv_iconst (v := nI 2) hx hb dX2_marksDown_80 (by decide) ?_
                refine lv_iadd hx hb dX2_marksDown_81 (xk_top (nI_add _ _) ?_)
                refine xk_iald B hI_44 hf_16 (by omega) (by decide) dX2_marksDown_82 ?_
                refine lv_iconst (v := nI 1) hx hb dX2_marksDown_83 (by decide) ?_
                refine lv_isub hx hb dX2_marksDown_84 (xk_top (pk_sub (by omega)) ?_)
                refine xk_zald B hI_44 hfl0_2 (by omega) (by decide) dX2_marksDown_85 ?_
                refine xk_if_eq (tgt := 93) hx hb (by omega) dX2_marksDown_86 (by decide) (fun hc_86 => ?_) (fun hc_86 => ?_)
                · refine lv_iconst (v := nI 0) hx hb dX2_marksDown_93 (by decide) ?_
                  refine lv_istore_n (lv' := [(3, .int (nI 0)), (0, .ref o), (1, .int (nI b)), (2, .int (nI k))]) hx hb dX2_marksDown_94 rfl hl (by decide) rfl (fun ls hl => ?_)
                  refine lv_aload_n hx hb dX2_marksDown_95 rfl (lv_at hl 1 rfl) ?_
                  refine xk_get B hI_44 hf_15 rfl in_X2 12 (by decide) q1444 rfl dX2_marksDown_96 ?_
                  refine lv_iload_n hx hb dX2_marksDown_99 rfl (lv_at hl 3 rfl) ?_
                  refine lv_iload_n hx hb dX2_marksDown_100 rfl (lv_at hl 0 rfl) ?_
                  refine xk_zast B hI_44 hfl0_2 (by omega) (by omega) (by decide) dX2_marksDown_101 (fun X_47 H_51 L_52 hf_49 hn_48 hI_50 => ?_)
                  have hfr_53 := xk_fr.put hfrl_2 hfl0_2 hn_48
                  refine lv_iinc (v := nI (k + 1)) (lv' := [(2, .int (nI (k + 1))), (3, .int (nI 0)), (0, .ref o), (1, .int (nI b))]) hx hb dX2_marksDown_102 hl (k := 3) rfl (xk_inc k) (by decide) rfl (fun ls hl => ?_)
                  refine lv_goto (tgt := 2) hx hb dX2_marksDown_105 (by decide) ?_
                  exact ih_2 (k + 1) (va_up f k 0) X_47 _ _ (by omega) (by show _ = va_up (tl_md (A 0) (A 6) b k) k (tl_mdv (A 0) (tl_md (A 0) (A 6) b k) b k); rw [← hf1]; exact congrArg (va_up f k) (by unfold tl_mdv; split <;> (try split) <;> omega)) (by omega) hf_49 (fun b z0 => ((hn_48 b z0).trans (hne_2 b z0))) hfr_53 hI_50 ls (lv_sub hl [2, 3, 0] rfl)
                · refine lv_iconst (v := nI 1) hx hb dX2_marksDown_89 (by decide) ?_
                  refine lv_goto (tgt := 94) hx hb dX2_marksDown_90 (by decide) ?_
                  refine lv_istore_n (lv' := [(3, .int (nI 1)), (0, .ref o), (1, .int (nI b)), (2, .int (nI k))]) hx hb dX2_marksDown_94 rfl hl (by decide) rfl (fun ls hl => ?_)
                  refine lv_aload_n hx hb dX2_marksDown_95 rfl (lv_at hl 1 rfl) ?_
                  refine xk_get B hI_44 hf_15 rfl in_X2 12 (by decide) q1444 rfl dX2_marksDown_96 ?_
                  refine lv_iload_n hx hb dX2_marksDown_99 rfl (lv_at hl 3 rfl) ?_
                  refine lv_iload_n hx hb dX2_marksDown_100 rfl (lv_at hl 0 rfl) ?_
                  refine xk_zast B hI_44 hfl0_2 (by omega) (by omega) (by decide) dX2_marksDown_101 (fun X_54 H_58 L_59 hf_56 hn_55 hI_57 => ?_)
                  have hfr_60 := xk_fr.put hfrl_2 hfl0_2 hn_55
                  refine lv_iinc (v := nI (k + 1)) (lv' := [(2, .int (nI (k + 1))), (3, .int (nI 1)), (0, .ref o), (1, .int (nI b))]) hx hb dX2_marksDown_102 hl (k := 3) rfl (xk_inc k) (by decide) rfl (fun ls hl => ?_)
                  refine lv_goto (tgt := 2) hx hb dX2_marksDown_105 (by decide) ?_
                  exact ih_2 (k + 1) (va_up f k 1) X_54 _ _ (by omega) (by show _ = va_up (tl_md (A 0) (A 6) b k) k (tl_mdv (A 0) (tl_md (A 0) (A 6) b k) b k); rw [← hf1]; exact congrArg (va_up f k) (by unfold tl_mdv; split <;> (try split) <;> omega)) (by omega) hf_56 (fun b z0 => ((hn_55 b z0).trans (hne_2 b z0))) hfr_60 hI_57 ls (lv_sub hl [2, 3, 0] rfl)
        · refine lv_iconst (v := nI 1) hx hb dX2_marksDown_13 (by decide) ?_
          refine lv_goto (tgt := 18) hx hb dX2_marksDown_14 (by decide) ?_
          refine lv_istore_n (lv' := [(3, .int (nI 1)), (0, .ref o), (1, .int (nI b)), (2, .int (nI k))]) hx hb dX2_marksDown_18 rfl hl (by decide) rfl (fun ls hl => ?_)
          refine lv_iload_n hx hb dX2_marksDown_19 rfl (lv_at hl 3 rfl) ?_
          refine lv_aload_n hx hb dX2_marksDown_20 rfl (lv_at hl 1 rfl) ?_
          have hf_61 := (hne_2 _ (xk_ne hA6 hO (xk_on1 (by decide)))).trans hO
          refine xk_get B hI_3 hf_61 rfl in_X2 0 (by decide) q1432 rfl dX2_marksDown_21 ?_
          refine lv_iconst (v := nI 0) hx hb dX2_marksDown_24 (by decide) ?_
          have hf_62 := (hne_2 _ (xk_ne hA6 hA0 (xk_on1 (by decide)))).trans hA0
          refine xk_iald B hI_3 hf_62 (by omega) (by decide) dX2_marksDown_25 ?_
          refine xk_icmp_ge (tgt := 95) hx hb (by omega) (by omega) dX2_marksDown_26 (by decide) (fun hc_26 => ?_) (fun hc_26 => ?_)
          · refine lv_aload_n hx hb dX2_marksDown_95 rfl (lv_at hl 1 rfl) ?_
            refine xk_get B hI_3 hf_61 rfl in_X2 12 (by decide) q1444 rfl dX2_marksDown_96 ?_
            refine lv_iload_n hx hb dX2_marksDown_99 rfl (lv_at hl 3 rfl) ?_
            refine lv_iload_n hx hb dX2_marksDown_100 rfl (lv_at hl 0 rfl) ?_
            refine xk_zast B hI_3 hfl0_2 (by omega) (by omega) (by decide) dX2_marksDown_101 (fun X_63 H_67 L_68 hf_65 hn_64 hI_66 => ?_)
            have hfr_69 := xk_fr.put hfrl_2 hfl0_2 hn_64
            refine lv_iinc (v := nI (k + 1)) (lv' := [(2, .int (nI (k + 1))), (3, .int (nI 1)), (0, .ref o), (1, .int (nI b))]) hx hb dX2_marksDown_102 hl (k := 3) rfl (xk_inc k) (by decide) rfl (fun ls hl => ?_)
            refine lv_goto (tgt := 2) hx hb dX2_marksDown_105 (by decide) ?_
            exact ih_2 (k + 1) (va_up f k 1) X_63 _ _ (by omega) (by show _ = va_up (tl_md (A 0) (A 6) b k) k (tl_mdv (A 0) (tl_md (A 0) (A 6) b k) b k); rw [← hf1]; exact congrArg (va_up f k) (by unfold tl_mdv; split <;> (try split) <;> omega)) (by omega) hf_65 (fun b z0 => ((hn_64 b z0).trans (hne_2 b z0))) hfr_69 hI_66 ls (lv_sub hl [2, 3, 0] rfl)
          · have qb := kb k hc_26
            refine lv_aload_n hx hb dX2_marksDown_29 rfl (lv_at hl 1 rfl) ?_
            refine xk_get B hI_3 hf_61 rfl in_X2 0 (by decide) q1432 rfl dX2_marksDown_30 ?_
            refine lv_iload_n hx hb dX2_marksDown_33 rfl (lv_at hl 3 rfl) ?_
            refine xk_ri0 (xk_cS B hI_3 hl [.int (nI k)] [.ref (ad 0)] 1 (m2_of g k) (lw_S q1524 q1525 q79 q1526) ⟨by decide +kernel, by decide +kernel, by decide +kernel⟩ ⟨Nat.le_of_ble_eq_true rfl, Nat.le_of_ble_eq_true rfl⟩ rfl rfl (Nat.le_of_ble_eq_true rfl) dX2_marksDown_34 (Nat.le_of_ble_eq_true rfl) (Nat.le_of_ble_eq_true rfl)) hI_3 (fun H_71 L_72 hI_70 => ?_)
            refine xk_top (y := nI (14 + 7 * k)) rfl ?_
            refine lv_iconst (v := nI 1) hx hb dX2_marksDown_37 (by decide) ?_
            refine lv_iadd hx hb dX2_marksDown_38 (xk_top (nI_add _ _) ?_)
            refine xk_iald B hI_70 hf_62 (by omega) (by decide) dX2_marksDown_39 ?_
            refine xk_if_le (tgt := 95) hx hb (by omega) dX2_marksDown_40 (by decide) (fun hc_40 => ?_) (fun hc_40 => ?_)
            · refine lv_aload_n hx hb dX2_marksDown_95 rfl (lv_at hl 1 rfl) ?_
              refine xk_get B hI_70 hf_61 rfl in_X2 12 (by decide) q1444 rfl dX2_marksDown_96 ?_
              refine lv_iload_n hx hb dX2_marksDown_99 rfl (lv_at hl 3 rfl) ?_
              refine lv_iload_n hx hb dX2_marksDown_100 rfl (lv_at hl 0 rfl) ?_
              refine xk_zast B hI_70 hfl0_2 (by omega) (by omega) (by decide) dX2_marksDown_101 (fun X_73 H_77 L_78 hf_75 hn_74 hI_76 => ?_)
              have hfr_79 := xk_fr.put hfrl_2 hfl0_2 hn_74
              refine lv_iinc (v := nI (k + 1)) (lv' := [(2, .int (nI (k + 1))), (3, .int (nI 1)), (0, .ref o), (1, .int (nI b))]) hx hb dX2_marksDown_102 hl (k := 3) rfl (xk_inc k) (by decide) rfl (fun ls hl => ?_)
              refine lv_goto (tgt := 2) hx hb dX2_marksDown_105 (by decide) ?_
              exact ih_2 (k + 1) (va_up f k 1) X_73 _ _ (by omega) (by show _ = va_up (tl_md (A 0) (A 6) b k) k (tl_mdv (A 0) (tl_md (A 0) (A 6) b k) b k); rw [← hf1]; exact congrArg (va_up f k) (by unfold tl_mdv; split <;> (try split) <;> omega)) (by omega) hf_75 (fun b z0 => ((hn_74 b z0).trans (hne_2 b z0))) hfr_79 hI_76 ls (lv_sub hl [2, 3, 0] rfl)
            · refine lv_iload_n hx hb dX2_marksDown_43 rfl (lv_at hl 0 rfl) ?_
              refine xk_if_ne_t (tgt := 89) hx hb (by omega) dX2_marksDown_44 (by decide) (by decide) ?_
              refine lv_iconst (v := nI 1) hx hb dX2_marksDown_89 (by decide) ?_
              refine lv_goto (tgt := 94) hx hb dX2_marksDown_90 (by decide) ?_
              refine lv_istore_n (lv' := [(3, .int (nI 1)), (0, .ref o), (1, .int (nI b)), (2, .int (nI k))]) hx hb dX2_marksDown_94 rfl hl (by decide) rfl (fun ls hl => ?_)
              refine lv_aload_n hx hb dX2_marksDown_95 rfl (lv_at hl 1 rfl) ?_
              refine xk_get B hI_70 hf_61 rfl in_X2 12 (by decide) q1444 rfl dX2_marksDown_96 ?_
              refine lv_iload_n hx hb dX2_marksDown_99 rfl (lv_at hl 3 rfl) ?_
              refine lv_iload_n hx hb dX2_marksDown_100 rfl (lv_at hl 0 rfl) ?_
              refine xk_zast B hI_70 hfl0_2 (by omega) (by omega) (by decide) dX2_marksDown_101 (fun X_80 H_84 L_85 hf_82 hn_81 hI_83 => ?_)
              have hfr_86 := xk_fr.put hfrl_2 hfl0_2 hn_81
              refine lv_iinc (v := nI (k + 1)) (lv' := [(2, .int (nI (k + 1))), (3, .int (nI 1)), (0, .ref o), (1, .int (nI b))]) hx hb dX2_marksDown_102 hl (k := 3) rfl (xk_inc k) (by decide) rfl (fun ls hl => ?_)
              refine lv_goto (tgt := 2) hx hb dX2_marksDown_105 (by decide) ?_
              exact ih_2 (k + 1) (va_up f k 1) X_80 _ _ (by omega) (by show _ = va_up (tl_md (A 0) (A 6) b k) k (tl_mdv (A 0) (tl_md (A 0) (A 6) b k) b k); rw [← hf1]; exact congrArg (va_up f k) (by unfold tl_mdv; split <;> (try split) <;> omega)) (by omega) hf_82 (fun b z0 => ((hn_81 b z0).trans (hne_2 b z0))) hfr_86 hI_83 ls (lv_sub hl [2, 3, 0] rfl)
  exact hloop_2 (40 - 0 + 1) 0 (A 6) X _ _ (by omega) (by rfl) (Nat.lt_succ_self _) hA6 (fun _ _ => rfl) hfr hI ls (lv_sub hl [1, 2, 0] rfl)
