/-! the model: walks, printed by tools/model.py -/
set_option maxRecDepth 100000
set_option maxHeartbeats 4000000 in
theorem m2_atN (g : xk_G) {X : xk_H} {o : Nat} {ad : Nat → Nat} {A : Nat → Nat → Nat} {S : Nat → Nat} (hM : tm_Ok g X o ad A S) (hk : tl_inv (A 0)) {pl : Nat} (hpl : pl < 2147483648) : xk_C g yX2_at (ws_ yX2_at cX2_at 6 (some .int)) ({ frames := 2, cells := 0, slots := 0, locals := 41 } : Room) [.ref o, .int (nI pl)] X (xk_Qi (tl_oI (tl_at (A 0) pl)) (fun X1 => X1 = X)) := by
  refine xk_ofW (by decide +kernel) (Nat.le_of_ble_eq_true rfl) (fun p e s m args below meth c B hr hname hargs hI ls hl => ?_)
  have B : xk_B g p s m args meth c RX2 cX2_at 6 := B
  have hl : lv_has ls 6 [(0, .ref o), (1, .int (nI pl))] := hl
  have hx := B.1
  have hb := B.2.1
  have hM0 := hM
  obtain ⟨hO, hA0, hA1, hA2, hA3, hA4, hA5, hA6, hA7, hA8, hA9⟩ := hM
  have hk0 := hk
  obtain ⟨k0, kb, kw, kl, ks, kr1, kr2, kwt, kL⟩ := hk
  have hfr : xk_fr o X X := xk_fr.rf
  refine lv_iconst (v := nI 0) hx hb dX2_at_0 (by decide) ?_
  refine lv_istore_n (lv' := [(2, .int (nI 0)), (0, .ref o), (1, .int (nI pl))]) hx hb dX2_at_1 rfl hl (by decide) rfl (fun ls hl => ?_)
  have hloop_2 : ∀ (n_2 : Nat) (b9 : Nat) (H_1 : Heap) (L_2 : List Loc), (b9 ≤ A 0 0) → (tl_at (A 0) pl = tl_find (A 0) pl (A 0 0 - b9) b9) → A 0 0 - b9 < n_2 → xk_I g s H_1 X L_2 → ∀ ls : Array Slot, lv_has ls 6 [(0, .ref o), (1, .int (nI pl)), (2, .int (nI b9))] → W p (xk_l g) e (({ frames := 2, cells := 0, slots := 0, locals := 41 } : Room)) s m args below meth c H_1 L_2 0 0 (MQ below (xk_Q g (xk_Qi (tl_oI (tl_at (A 0) pl)) (fun X1 => X1 = X))) args s (0) (0) (xk_A g)) (F0 m 2 ls []) := by
    intro n_2
    induction n_2 with
    | zero => intros; omega
    | succ n_2 ih_2 =>
      intro b9 H_1 L_2 hb1 hres hm_2  hI_3 ls hl
      refine lv_iload_n hx hb dX2_at_2 rfl (lv_at hl 2 rfl) ?_
      refine lv_aload_n hx hb dX2_at_3 rfl (lv_at hl 0 rfl) ?_
      refine xk_get B hI_3 hO rfl in_X2 0 (by decide) q1432 rfl dX2_at_4 ?_
      refine lv_iconst (v := nI 0) hx hb dX2_at_7 (by decide) ?_
      refine xk_iald B hI_3 hA0 (by omega) (by decide) dX2_at_8 ?_
      refine xk_icmp_ge (tgt := 118) hx hb (by omega) (by omega) dX2_at_9 (by decide) (fun hc_9 => ?_) (fun hc_9 => ?_)
      · refine lv_iconst (v := (-1)) hx hb dX2_at_118 (by decide) ?_
        exact xk_reti B hI_3 hr rfl dX2_at_119 (Nat.le_of_ble_eq_true rfl) (Nat.le_of_ble_eq_true rfl) (⟨by rw [hres, show A 0 0 - b9 = 0 by omega]; rfl, rfl⟩)
      · have qb := kb b9 hc_9
        have qw := tl_wor_le (m := A 0) (p := A 0 (14 + 7 * b9)) (n := 8) kwt
        refine lv_iconst (v := nI 0) hx hb dX2_at_12 (by decide) ?_
        refine lv_istore_n (lv' := [(3, .int (nI 0)), (0, .ref o), (1, .int (nI pl)), (2, .int (nI b9))]) hx hb dX2_at_13 rfl hl (by decide) rfl (fun ls hl => ?_)
        refine lv_iconst (v := nI 0) hx hb dX2_at_14 (by decide) ?_
        refine lv_istore (lv' := [(4, .int (nI 0)), (3, .int (nI 0)), (0, .ref o), (1, .int (nI pl)), (2, .int (nI b9))]) hx hb dX2_at_15 hl (by decide) rfl (fun ls hl => ?_)
        have hloop_17 : ∀ (n_17 : Nat) (o9 : Nat) (c9 : Nat) (H_4 : Heap) (L_5 : List Loc), (o9 ≤ A 0 0) → (c9 = tl_cnt (A 0) b9 o9) → A 0 0 - o9 < n_17 → xk_I g s H_4 X L_5 → ∀ ls : Array Slot, lv_has ls 6 [(0, .ref o), (1, .int (nI pl)), (2, .int (nI b9)), (3, .int (nI c9)), (4, .int (nI o9))] → W p (xk_l g) e (({ frames := 2, cells := 0, slots := 0, locals := 41 } : Room)) s m args below meth c H_4 L_5 0 0 (MQ below (xk_Q g (xk_Qi (tl_oI (tl_at (A 0) pl)) (fun X1 => X1 = X))) args s (0) (0) (xk_A g)) (F0 m 17 ls []) := by
          intro n_17
          induction n_17 with
          | zero => intros; omega
          | succ n_17 ih_17 =>
            intro o9 c9 H_4 L_5 ho1 hc1 hm_17  hI_6 ls hl
            refine lv_iload hx hb dX2_at_17 (lv_at hl 4 rfl) ?_
            refine lv_aload_n hx hb dX2_at_19 rfl (lv_at hl 0 rfl) ?_
            refine xk_get B hI_6 hO rfl in_X2 0 (by decide) q1432 rfl dX2_at_20 ?_
            refine lv_iconst (v := nI 0) hx hb dX2_at_23 (by decide) ?_
            refine xk_iald B hI_6 hA0 (by omega) (by decide) dX2_at_24 ?_
            refine xk_icmp_ge (tgt := 97) hx hb (by omega) (by omega) dX2_at_25 (by decide) (fun hc_25 => ?_) (fun hc_25 => ?_)
            · have ho2 : o9 = A 0 0 := by omega
              have qc := tl_cnt_le (A 0) b9 (A 0 0)
              have hc2 : c9 = tl_cnt (A 0) b9 (A 0 0) := by rw [hc1, ho2]
              refine lv_aload_n hx hb dX2_at_97 rfl (lv_at hl 0 rfl) ?_
              refine lv_iload_n hx hb dX2_at_98 rfl (lv_at hl 2 rfl) ?_
              refine xk_ri0 (xk_cV B hI_6 hl [.int (nI b9)] [] 1 (m2_lives g hM0 (b := b9) (by omega) (show A 0 (14 + 7 * b9 + 3) < 2147483648 from by first | omega | (have := kb b9 (by omega); omega))) hO rfl (lw_V q1548 q1550 qs38 q79 q1551) ⟨rfl, by decide +kernel, by decide +kernel, by decide +kernel⟩ ⟨Nat.le_of_ble_eq_true rfl, Nat.le_of_ble_eq_true rfl⟩ rfl rfl (Nat.le_of_ble_eq_true rfl) dX2_at_99 (Nat.le_of_ble_eq_true rfl) (Nat.le_of_ble_eq_true rfl)) hI_6 (fun H_8 L_9 hI_7 => ?_)
              refine xk_top (y := xk_z (tl_al (A 0) b9)) rfl ?_
              refine xk_if_eq_z (tgt := 112) hx hb dX2_at_102 (by decide) (fun hc_102 => ?_) (fun hc_102 => ?_)
              · have hF9 : ¬ (tl_al (A 0) b9 = true ∧ tl_cnt (A 0) b9 (A 0 0) = pl) := fun q => by first | exact absurd (hc_102.symm.trans q.1) (by decide) | omega
                refine lv_iinc (v := nI (b9 + 1)) (lv' := [(2, .int (nI (b9 + 1))), (0, .ref o), (1, .int (nI pl)), (3, .int (nI c9)), (4, .int (nI o9))]) hx hb dX2_at_112 hl (k := 2) rfl (xk_inc b9) (by decide) rfl (fun ls hl => ?_)
                refine lv_goto (tgt := 2) hx hb dX2_at_115 (by decide) ?_
                exact ih_2 (b9 + 1) _ _ (by omega) (by rw [hres, show A 0 0 - b9 = (A 0 0 - (b9 + 1)) + 1 by omega]; show (if _ then _ else _) = _; rw [if_neg hF9]) (by omega) hI_7 ls (lv_sub hl [1, 2, 0] rfl)
              · refine lv_iload_n hx hb dX2_at_105 rfl (lv_at hl 3 rfl) ?_
                refine lv_iload_n hx hb dX2_at_106 rfl (lv_at hl 1 rfl) ?_
                refine xk_icmp_ne (tgt := 112) hx hb (by omega) (by omega) dX2_at_107 (by decide) (fun hc_107 => ?_) (fun hc_107 => ?_)
                · have hF9 : ¬ (tl_al (A 0) b9 = true ∧ tl_cnt (A 0) b9 (A 0 0) = pl) := fun q => by first | exact absurd (hc_102.symm.trans q.1) (by decide) | omega
                  refine lv_iinc (v := nI (b9 + 1)) (lv' := [(2, .int (nI (b9 + 1))), (0, .ref o), (1, .int (nI pl)), (3, .int (nI c9)), (4, .int (nI o9))]) hx hb dX2_at_112 hl (k := 2) rfl (xk_inc b9) (by decide) rfl (fun ls hl => ?_)
                  refine lv_goto (tgt := 2) hx hb dX2_at_115 (by decide) ?_
                  exact ih_2 (b9 + 1) _ _ (by omega) (by rw [hres, show A 0 0 - b9 = (A 0 0 - (b9 + 1)) + 1 by omega]; show (if _ then _ else _) = _; rw [if_neg hF9]) (by omega) hI_7 ls (lv_sub hl [1, 2, 0] rfl)
                · refine lv_iload_n hx hb dX2_at_110 rfl (lv_at hl 2 rfl) ?_
                  exact xk_reti B hI_7 hr rfl dX2_at_111 (Nat.le_of_ble_eq_true rfl) (Nat.le_of_ble_eq_true rfl) (⟨by rw [hres, show A 0 0 - b9 = (A 0 0 - (b9 + 1)) + 1 by omega]; show _ = some (Value.int (tl_oI (if _ then _ else _))); rw [if_pos ⟨hc_102, by omega⟩]; rfl, rfl⟩)
            · have qo := kb o9 hc_25
              have qv := tl_wor_le (m := A 0) (p := A 0 (14 + 7 * o9)) (n := 8) kwt
              have qc := tl_cnt_le (A 0) b9 o9
              refine lv_aload_n hx hb dX2_at_28 rfl (lv_at hl 0 rfl) ?_
              refine lv_aload_n hx hb dX2_at_29 rfl (lv_at hl 0 rfl) ?_
              refine xk_get B hI_6 hO rfl in_X2 0 (by decide) q1432 rfl dX2_at_30 ?_
              refine lv_iload hx hb dX2_at_33 (lv_at hl 4 rfl) ?_
              refine xk_ri0 (xk_cS B hI_6 hl [.int (nI o9)] [.ref (ad 0), .ref o] 1 (m2_of g o9) (lw_S q1524 q1525 q79 q1526) ⟨by decide +kernel, by decide +kernel, by decide +kernel⟩ ⟨Nat.le_of_ble_eq_true rfl, Nat.le_of_ble_eq_true rfl⟩ rfl rfl (Nat.le_of_ble_eq_true rfl) dX2_at_35 (Nat.le_of_ble_eq_true rfl) (Nat.le_of_ble_eq_true rfl)) hI_6 (fun H_11 L_12 hI_10 => ?_)
              refine xk_top (y := nI (14 + 7 * o9)) rfl ?_
              refine xk_iald B hI_10 hA0 (by omega) (by decide) dX2_at_38 ?_
              refine xk_ri0 (xk_cV B hI_10 hl [.int (nI (A 0 (14 + 7 * o9)))] [] 1 (m2_worth g hM0 hk0 (pt := A 0 (14 + 7 * o9)) (by omega)) hO rfl (lw_V q1636 q1638 qs52 q79 q1639) ⟨rfl, by decide +kernel, by decide +kernel, by decide +kernel⟩ ⟨Nat.le_of_ble_eq_true rfl, Nat.le_of_ble_eq_true rfl⟩ rfl rfl (Nat.le_of_ble_eq_true rfl) dX2_at_39 (Nat.le_of_ble_eq_true rfl) (Nat.le_of_ble_eq_true rfl)) hI_10 (fun H_14 L_15 hI_13 => ?_)
              refine xk_top (y := nI (tl_wor (A 0) (A 0 (14 + 7 * o9)) 8)) rfl ?_
              refine lv_aload_n hx hb dX2_at_42 rfl (lv_at hl 0 rfl) ?_
              refine lv_aload_n hx hb dX2_at_43 rfl (lv_at hl 0 rfl) ?_
              refine xk_get B hI_13 hO rfl in_X2 0 (by decide) q1432 rfl dX2_at_44 ?_
              refine lv_iload_n hx hb dX2_at_47 rfl (lv_at hl 2 rfl) ?_
              refine xk_ri0 (xk_cS B hI_13 hl [.int (nI b9)] [.ref (ad 0), .ref o, .int (nI (tl_wor (A 0) (A 0 (14 + 7 * o9)) 8))] 1 (m2_of g b9) (lw_S q1524 q1525 q79 q1526) ⟨by decide +kernel, by decide +kernel, by decide +kernel⟩ ⟨Nat.le_of_ble_eq_true rfl, Nat.le_of_ble_eq_true rfl⟩ rfl rfl (Nat.le_of_ble_eq_true rfl) dX2_at_48 (Nat.le_of_ble_eq_true rfl) (Nat.le_of_ble_eq_true rfl)) hI_13 (fun H_17 L_18 hI_16 => ?_)
              refine xk_top (y := nI (14 + 7 * b9)) rfl ?_
              refine xk_iald B hI_16 hA0 (by omega) (by decide) dX2_at_51 ?_
              refine xk_ri0 (xk_cV B hI_16 hl [.int (nI (A 0 (14 + 7 * b9)))] [.int (nI (tl_wor (A 0) (A 0 (14 + 7 * o9)) 8))] 1 (m2_worth g hM0 hk0 (pt := A 0 (14 + 7 * b9)) (by omega)) hO rfl (lw_V q1636 q1638 qs52 q79 q1639) ⟨rfl, by decide +kernel, by decide +kernel, by decide +kernel⟩ ⟨Nat.le_of_ble_eq_true rfl, Nat.le_of_ble_eq_true rfl⟩ rfl rfl (Nat.le_of_ble_eq_true rfl) dX2_at_52 (Nat.le_of_ble_eq_true rfl) (Nat.le_of_ble_eq_true rfl)) hI_16 (fun H_20 L_21 hI_19 => ?_)
              refine xk_top (y := nI (tl_wor (A 0) (A 0 (14 + 7 * b9)) 8)) rfl ?_
              refine lv_isub hx hb dX2_at_55 ?_
              refine lv_istore (lv' := [(5, .int ((nI (tl_wor (A 0) (A 0 (14 + 7 * o9)) 8)) - (nI (tl_wor (A 0) (A 0 (14 + 7 * b9)) 8)))), (0, .ref o), (1, .int (nI pl)), (2, .int (nI b9)), (3, .int (nI c9)), (4, .int (nI o9))]) hx hb dX2_at_56 hl (by decide) rfl (fun ls hl => ?_)
              refine lv_iload_n hx hb dX2_at_58 rfl (lv_at hl 4 rfl) ?_
              refine lv_aload_n hx hb dX2_at_59 rfl (lv_at hl 1 rfl) ?_
              refine lv_iload hx hb dX2_at_60 (lv_at hl 5 rfl) ?_
              refine xk_ri0 (xk_cV B hI_19 hl [.int (nI o9)] [.int (nI c9)] 1 (m2_lives g hM0 (b := o9) (by omega) (show A 0 (14 + 7 * o9 + 3) < 2147483648 from by first | omega | (have := kb o9 (by omega); omega))) hO rfl (lw_V q1548 q1550 qs38 q79 q1551) ⟨rfl, by decide +kernel, by decide +kernel, by decide +kernel⟩ ⟨Nat.le_of_ble_eq_true rfl, Nat.le_of_ble_eq_true rfl⟩ rfl rfl (Nat.le_of_ble_eq_true rfl) dX2_at_62 (Nat.le_of_ble_eq_true rfl) (Nat.le_of_ble_eq_true rfl)) hI_19 (fun H_23 L_24 hI_22 => ?_)
              refine xk_top (y := xk_z (tl_al (A 0) o9)) rfl ?_
              refine xk_if_eq_z (tgt := 88) hx hb dX2_at_65 (by decide) (fun hc_65 => ?_) (fun hc_65 => ?_)
              · have hA9 : ¬ (tl_al (A 0) o9 = true ∧ tl_ahd (A 0) o9 b9 = true) := fun q => by
                  have q2 := of_decide_eq_true q.2
                  first | exact absurd (hc_65.symm.trans q.1) (by decide) | omega
                refine lv_iconst (v := nI 0) hx hb dX2_at_88 (by decide) ?_
                refine lv_iadd hx hb dX2_at_89 (xk_top (nI_add _ _) ?_)
                refine lv_istore_n (lv' := [(3, .int (nI (c9 + 0))), (5, .int ((nI (tl_wor (A 0) (A 0 (14 + 7 * o9)) 8)) - (nI (tl_wor (A 0) (A 0 (14 + 7 * b9)) 8)))), (0, .ref o), (1, .int (nI pl)), (2, .int (nI b9)), (4, .int (nI o9))]) hx hb dX2_at_90 rfl hl (by decide) rfl (fun ls hl => ?_)
                refine lv_iinc (v := nI (o9 + 1)) (lv' := [(4, .int (nI (o9 + 1))), (3, .int (nI (c9 + 0))), (5, .int ((nI (tl_wor (A 0) (A 0 (14 + 7 * o9)) 8)) - (nI (tl_wor (A 0) (A 0 (14 + 7 * b9)) 8)))), (0, .ref o), (1, .int (nI pl)), (2, .int (nI b9))]) hx hb dX2_at_91 hl (k := 5) rfl (xk_inc o9) (by decide) rfl (fun ls hl => ?_)
                refine lv_goto (tgt := 17) hx hb dX2_at_94 (by decide) ?_
                exact ih_17 (o9 + 1) (c9 + 0) _ _ (by omega) (by rw [hc1]; show _ = tl_cnt (A 0) b9 o9 + (if tl_al (A 0) o9 = true ∧ tl_ahd (A 0) o9 b9 = true then 1 else 0); first | rw [if_pos hA9] | rw [if_neg hA9]) (by omega) hI_22 ls (lv_sub hl [3, 4, 5, 1, 0] rfl)
              · refine lv_iload hx hb dX2_at_68 (lv_at hl 0 rfl) ?_
                refine lv_if_gt (tgt := 84) hx hb dX2_at_70 (by decide) (fun hc_70 => ?_) (fun hc_70 => ?_)
                · have h70 := (tl_sub0 (a := tl_wor (A 0) (A 0 (14 + 7 * o9)) 8) (b := tl_wor (A 0) (A 0 (14 + 7 * b9)) 8) (by omega) (by omega)).1.mp hc_70
                  have hA9 : tl_al (A 0) o9 = true ∧ tl_ahd (A 0) o9 b9 = true := ⟨hc_65, decide_eq_true (by omega)⟩
                  refine lv_iconst (v := nI 1) hx hb dX2_at_84 (by decide) ?_
                  refine lv_goto (tgt := 89) hx hb dX2_at_85 (by decide) ?_
                  refine lv_iadd hx hb dX2_at_89 (xk_top (nI_add _ _) ?_)
                  refine lv_istore_n (lv' := [(3, .int (nI (c9 + 1))), (5, .int ((nI (tl_wor (A 0) (A 0 (14 + 7 * o9)) 8)) - (nI (tl_wor (A 0) (A 0 (14 + 7 * b9)) 8)))), (0, .ref o), (1, .int (nI pl)), (2, .int (nI b9)), (4, .int (nI o9))]) hx hb dX2_at_90 rfl hl (by decide) rfl (fun ls hl => ?_)
                  refine lv_iinc (v := nI (o9 + 1)) (lv' := [(4, .int (nI (o9 + 1))), (3, .int (nI (c9 + 1))), (5, .int ((nI (tl_wor (A 0) (A 0 (14 + 7 * o9)) 8)) - (nI (tl_wor (A 0) (A 0 (14 + 7 * b9)) 8)))), (0, .ref o), (1, .int (nI pl)), (2, .int (nI b9))]) hx hb dX2_at_91 hl (k := 5) rfl (xk_inc o9) (by decide) rfl (fun ls hl => ?_)
                  refine lv_goto (tgt := 17) hx hb dX2_at_94 (by decide) ?_
                  exact ih_17 (o9 + 1) (c9 + 1) _ _ (by omega) (by rw [hc1]; show _ = tl_cnt (A 0) b9 o9 + (if tl_al (A 0) o9 = true ∧ tl_ahd (A 0) o9 b9 = true then 1 else 0); first | rw [if_pos hA9] | rw [if_neg hA9]) (by omega) hI_22 ls (lv_sub hl [3, 4, 5, 1, 0] rfl)
                · have h70 : ¬ tl_wor (A 0) (A 0 (14 + 7 * b9)) 8 < tl_wor (A 0) (A 0 (14 + 7 * o9)) 8 := fun q => hc_70 ((tl_sub0 (a := tl_wor (A 0) (A 0 (14 + 7 * o9)) 8) (b := tl_wor (A 0) (A 0 (14 + 7 * b9)) 8) (by omega) (by omega)).1.mpr q)
                  refine lv_iload hx hb dX2_at_73 (lv_at hl 0 rfl) ?_
                  refine lv_if_ne (tgt := 88) hx hb dX2_at_75 (by decide) (fun hc_75 => ?_) (fun hc_75 => ?_)
                  · have h75 : ¬ tl_wor (A 0) (A 0 (14 + 7 * o9)) 8 = tl_wor (A 0) (A 0 (14 + 7 * b9)) 8 := fun q => hc_75 ((tl_sub0 (a := tl_wor (A 0) (A 0 (14 + 7 * o9)) 8) (b := tl_wor (A 0) (A 0 (14 + 7 * b9)) 8) (by omega) (by omega)).2.mpr q)
                    have hA9 : ¬ (tl_al (A 0) o9 = true ∧ tl_ahd (A 0) o9 b9 = true) := fun q => by
                      have q2 := of_decide_eq_true q.2
                      first | exact absurd (hc_65.symm.trans q.1) (by decide) | omega
                    refine lv_iconst (v := nI 0) hx hb dX2_at_88 (by decide) ?_
                    refine lv_iadd hx hb dX2_at_89 (xk_top (nI_add _ _) ?_)
                    refine lv_istore_n (lv' := [(3, .int (nI (c9 + 0))), (5, .int ((nI (tl_wor (A 0) (A 0 (14 + 7 * o9)) 8)) - (nI (tl_wor (A 0) (A 0 (14 + 7 * b9)) 8)))), (0, .ref o), (1, .int (nI pl)), (2, .int (nI b9)), (4, .int (nI o9))]) hx hb dX2_at_90 rfl hl (by decide) rfl (fun ls hl => ?_)
                    refine lv_iinc (v := nI (o9 + 1)) (lv' := [(4, .int (nI (o9 + 1))), (3, .int (nI (c9 + 0))), (5, .int ((nI (tl_wor (A 0) (A 0 (14 + 7 * o9)) 8)) - (nI (tl_wor (A 0) (A 0 (14 + 7 * b9)) 8)))), (0, .ref o), (1, .int (nI pl)), (2, .int (nI b9))]) hx hb dX2_at_91 hl (k := 5) rfl (xk_inc o9) (by decide) rfl (fun ls hl => ?_)
                    refine lv_goto (tgt := 17) hx hb dX2_at_94 (by decide) ?_
                    exact ih_17 (o9 + 1) (c9 + 0) _ _ (by omega) (by rw [hc1]; show _ = tl_cnt (A 0) b9 o9 + (if tl_al (A 0) o9 = true ∧ tl_ahd (A 0) o9 b9 = true then 1 else 0); first | rw [if_pos hA9] | rw [if_neg hA9]) (by omega) hI_22 ls (lv_sub hl [3, 4, 5, 1, 0] rfl)
                  · have h75 := (tl_sub0 (a := tl_wor (A 0) (A 0 (14 + 7 * o9)) 8) (b := tl_wor (A 0) (A 0 (14 + 7 * b9)) 8) (by omega) (by omega)).2.mp hc_75
                    refine lv_iload hx hb dX2_at_78 (lv_at hl 5 rfl) ?_
                    refine lv_iload_n hx hb dX2_at_80 rfl (lv_at hl 3 rfl) ?_
                    refine xk_icmp_le (tgt := 88) hx hb (by omega) (by omega) dX2_at_81 (by decide) (fun hc_81 => ?_) (fun hc_81 => ?_)
                    · have hA9 : ¬ (tl_al (A 0) o9 = true ∧ tl_ahd (A 0) o9 b9 = true) := fun q => by
                        have q2 := of_decide_eq_true q.2
                        first | exact absurd (hc_65.symm.trans q.1) (by decide) | omega
                      refine lv_iconst (v := nI 0) hx hb dX2_at_88 (by decide) ?_
                      refine lv_iadd hx hb dX2_at_89 (xk_top (nI_add _ _) ?_)
                      refine lv_istore_n (lv' := [(3, .int (nI (c9 + 0))), (5, .int ((nI (tl_wor (A 0) (A 0 (14 + 7 * o9)) 8)) - (nI (tl_wor (A 0) (A 0 (14 + 7 * b9)) 8)))), (0, .ref o), (1, .int (nI pl)), (2, .int (nI b9)), (4, .int (nI o9))]) hx hb dX2_at_90 rfl hl (by decide) rfl (fun ls hl => ?_)
                      refine lv_iinc (v := nI (o9 + 1)) (lv' := [(4, .int (nI (o9 + 1))), (3, .int (nI (c9 + 0))), (5, .int ((nI (tl_wor (A 0) (A 0 (14 + 7 * o9)) 8)) - (nI (tl_wor (A 0) (A 0 (14 + 7 * b9)) 8)))), (0, .ref o), (1, .int (nI pl)), (2, .int (nI b9))]) hx hb dX2_at_91 hl (k := 5) rfl (xk_inc o9) (by decide) rfl (fun ls hl => ?_)
                      refine lv_goto (tgt := 17) hx hb dX2_at_94 (by decide) ?_
                      exact ih_17 (o9 + 1) (c9 + 0) _ _ (by omega) (by rw [hc1]; show _ = tl_cnt (A 0) b9 o9 + (if tl_al (A 0) o9 = true ∧ tl_ahd (A 0) o9 b9 = true then 1 else 0); first | rw [if_pos hA9] | rw [if_neg hA9]) (by omega) hI_22 ls (lv_sub hl [3, 4, 5, 1, 0] rfl)
                    · have hA9 : tl_al (A 0) o9 = true ∧ tl_ahd (A 0) o9 b9 = true := ⟨hc_65, decide_eq_true (by omega)⟩
                      refine lv_iconst (v := nI 1) hx hb dX2_at_84 (by decide) ?_
                      refine lv_goto (tgt := 89) hx hb dX2_at_85 (by decide) ?_
                      refine lv_iadd hx hb dX2_at_89 (xk_top (nI_add _ _) ?_)
                      refine lv_istore_n (lv' := [(3, .int (nI (c9 + 1))), (5, .int ((nI (tl_wor (A 0) (A 0 (14 + 7 * o9)) 8)) - (nI (tl_wor (A 0) (A 0 (14 + 7 * b9)) 8)))), (0, .ref o), (1, .int (nI pl)), (2, .int (nI b9)), (4, .int (nI o9))]) hx hb dX2_at_90 rfl hl (by decide) rfl (fun ls hl => ?_)
                      refine lv_iinc (v := nI (o9 + 1)) (lv' := [(4, .int (nI (o9 + 1))), (3, .int (nI (c9 + 1))), (5, .int ((nI (tl_wor (A 0) (A 0 (14 + 7 * o9)) 8)) - (nI (tl_wor (A 0) (A 0 (14 + 7 * b9)) 8)))), (0, .ref o), (1, .int (nI pl)), (2, .int (nI b9))]) hx hb dX2_at_91 hl (k := 5) rfl (xk_inc o9) (by decide) rfl (fun ls hl => ?_)
                      refine lv_goto (tgt := 17) hx hb dX2_at_94 (by decide) ?_
                      exact ih_17 (o9 + 1) (c9 + 1) _ _ (by omega) (by rw [hc1]; show _ = tl_cnt (A 0) b9 o9 + (if tl_al (A 0) o9 = true ∧ tl_ahd (A 0) o9 b9 = true then 1 else 0); first | rw [if_pos hA9] | rw [if_neg hA9]) (by omega) hI_22 ls (lv_sub hl [3, 4, 5, 1, 0] rfl)
        exact hloop_17 (A 0 0 - 0 + 1) 0 0 _ _ (by omega) (by rfl) (Nat.lt_succ_self _) hI_3 ls (lv_sub hl [2, 3, 4, 1, 0] rfl)
  exact hloop_2 (A 0 0 - 0 + 1) 0 _ _ (by omega) (by rfl) (Nat.lt_succ_self _) hI ls (lv_sub hl [1, 2, 0] rfl)
set_option maxHeartbeats 4000000 in
theorem m2_atM (g : xk_G) {X : xk_H} {o : Nat} {ad : Nat → Nat} {A : Nat → Nat → Nat} {S : Nat → Nat} (hM : tm_Ok g X o ad A S) (hk : tl_inv (A 0)) {x9 : Int32} (hx9 : x9.toInt < 0) : xk_C g yX2_at (ws_ yX2_at cX2_at 6 (some .int)) ({ frames := 2, cells := 0, slots := 0, locals := 41 } : Room) [.ref o, .int x9] X (xk_Qi (-1) (fun X1 => X1 = X)) := by
  refine xk_ofW (by decide +kernel) (Nat.le_of_ble_eq_true rfl) (fun p e s m args below meth c B hr hname hargs hI ls hl => ?_)
  have B : xk_B g p s m args meth c RX2 cX2_at 6 := B
  have hl : lv_has ls 6 [(0, .ref o), (1, .int x9)] := hl
  have hx := B.1
  have hb := B.2.1
  have hM0 := hM
  obtain ⟨hO, hA0, hA1, hA2, hA3, hA4, hA5, hA6, hA7, hA8, hA9⟩ := hM
  have hk0 := hk
  obtain ⟨k0, kb, kw, kl, ks, kr1, kr2, kwt, kL⟩ := hk
  have hfr : xk_fr o X X := xk_fr.rf
  refine lv_iconst (v := nI 0) hx hb dX2_at_0 (by decide) ?_
  refine lv_istore_n (lv' := [(2, .int (nI 0)), (0, .ref o), (1, .int x9)]) hx hb dX2_at_1 rfl hl (by decide) rfl (fun ls hl => ?_)
  have hloop_2 : ∀ (n_2 : Nat) (b9 : Nat) (H_1 : Heap) (L_2 : List Loc), (b9 ≤ A 0 0) → A 0 0 - b9 < n_2 → xk_I g s H_1 X L_2 → ∀ ls : Array Slot, lv_has ls 6 [(0, .ref o), (1, .int x9), (2, .int (nI b9))] → W p (xk_l g) e (({ frames := 2, cells := 0, slots := 0, locals := 41 } : Room)) s m args below meth c H_1 L_2 0 0 (MQ below (xk_Q g (xk_Qi (-1) (fun X1 => X1 = X))) args s (0) (0) (xk_A g)) (F0 m 2 ls []) := by
    intro n_2
    induction n_2 with
    | zero => intros; omega
    | succ n_2 ih_2 =>
      intro b9 H_1 L_2 hb1 hm_2  hI_3 ls hl
      refine lv_iload_n hx hb dX2_at_2 rfl (lv_at hl 2 rfl) ?_
      refine lv_aload_n hx hb dX2_at_3 rfl (lv_at hl 0 rfl) ?_
      refine xk_get B hI_3 hO rfl in_X2 0 (by decide) q1432 rfl dX2_at_4 ?_
      refine lv_iconst (v := nI 0) hx hb dX2_at_7 (by decide) ?_
      refine xk_iald B hI_3 hA0 (by omega) (by decide) dX2_at_8 ?_
      refine xk_icmp_ge (tgt := 118) hx hb (by omega) (by omega) dX2_at_9 (by decide) (fun hc_9 => ?_) (fun hc_9 => ?_)
      · refine lv_iconst (v := (-1)) hx hb dX2_at_118 (by decide) ?_
        exact xk_reti B hI_3 hr rfl dX2_at_119 (Nat.le_of_ble_eq_true rfl) (Nat.le_of_ble_eq_true rfl) (⟨rfl, rfl⟩)
      · have qb := kb b9 hc_9
        have qw := tl_wor_le (m := A 0) (p := A 0 (14 + 7 * b9)) (n := 8) kwt
        refine lv_iconst (v := nI 0) hx hb dX2_at_12 (by decide) ?_
        refine lv_istore_n (lv' := [(3, .int (nI 0)), (0, .ref o), (1, .int x9), (2, .int (nI b9))]) hx hb dX2_at_13 rfl hl (by decide) rfl (fun ls hl => ?_)
        refine lv_iconst (v := nI 0) hx hb dX2_at_14 (by decide) ?_
        refine lv_istore (lv' := [(4, .int (nI 0)), (3, .int (nI 0)), (0, .ref o), (1, .int x9), (2, .int (nI b9))]) hx hb dX2_at_15 hl (by decide) rfl (fun ls hl => ?_)
        have hloop_17 : ∀ (n_17 : Nat) (o9 : Nat) (c9 : Nat) (H_4 : Heap) (L_5 : List Loc), (o9 ≤ A 0 0) → (c9 = tl_cnt (A 0) b9 o9) → A 0 0 - o9 < n_17 → xk_I g s H_4 X L_5 → ∀ ls : Array Slot, lv_has ls 6 [(0, .ref o), (1, .int x9), (2, .int (nI b9)), (3, .int (nI c9)), (4, .int (nI o9))] → W p (xk_l g) e (({ frames := 2, cells := 0, slots := 0, locals := 41 } : Room)) s m args below meth c H_4 L_5 0 0 (MQ below (xk_Q g (xk_Qi (-1) (fun X1 => X1 = X))) args s (0) (0) (xk_A g)) (F0 m 17 ls []) := by
          intro n_17
          induction n_17 with
          | zero => intros; omega
          | succ n_17 ih_17 =>
            intro o9 c9 H_4 L_5 ho1 hc1 hm_17  hI_6 ls hl
            refine lv_iload hx hb dX2_at_17 (lv_at hl 4 rfl) ?_
            refine lv_aload_n hx hb dX2_at_19 rfl (lv_at hl 0 rfl) ?_
            refine xk_get B hI_6 hO rfl in_X2 0 (by decide) q1432 rfl dX2_at_20 ?_
            refine lv_iconst (v := nI 0) hx hb dX2_at_23 (by decide) ?_
            refine xk_iald B hI_6 hA0 (by omega) (by decide) dX2_at_24 ?_
            refine xk_icmp_ge (tgt := 97) hx hb (by omega) (by omega) dX2_at_25 (by decide) (fun hc_25 => ?_) (fun hc_25 => ?_)
            · have ho2 : o9 = A 0 0 := by omega
              have qc := tl_cnt_le (A 0) b9 (A 0 0)
              have hc2 : c9 = tl_cnt (A 0) b9 (A 0 0) := by rw [hc1, ho2]
              refine lv_aload_n hx hb dX2_at_97 rfl (lv_at hl 0 rfl) ?_
              refine lv_iload_n hx hb dX2_at_98 rfl (lv_at hl 2 rfl) ?_
              refine xk_ri0 (xk_cV B hI_6 hl [.int (nI b9)] [] 1 (m2_lives g hM0 (b := b9) (by omega) (show A 0 (14 + 7 * b9 + 3) < 2147483648 from by first | omega | (have := kb b9 (by omega); omega))) hO rfl (lw_V q1548 q1550 qs38 q79 q1551) ⟨rfl, by decide +kernel, by decide +kernel, by decide +kernel⟩ ⟨Nat.le_of_ble_eq_true rfl, Nat.le_of_ble_eq_true rfl⟩ rfl rfl (Nat.le_of_ble_eq_true rfl) dX2_at_99 (Nat.le_of_ble_eq_true rfl) (Nat.le_of_ble_eq_true rfl)) hI_6 (fun H_8 L_9 hI_7 => ?_)
              refine xk_top (y := xk_z (tl_al (A 0) b9)) rfl ?_
              refine xk_if_eq_z (tgt := 112) hx hb dX2_at_102 (by decide) (fun hc_102 => ?_) (fun hc_102 => ?_)
              · refine lv_iinc (v := nI (b9 + 1)) (lv' := [(2, .int (nI (b9 + 1))), (0, .ref o), (1, .int x9), (3, .int (nI c9)), (4, .int (nI o9))]) hx hb dX2_at_112 hl (k := 2) rfl (xk_inc b9) (by decide) rfl (fun ls hl => ?_)
                refine lv_goto (tgt := 2) hx hb dX2_at_115 (by decide) ?_
                exact ih_2 (b9 + 1) _ _ (by omega) (by omega) hI_7 ls (lv_sub hl [1, 2, 0] rfl)
              · refine lv_iload_n hx hb dX2_at_105 rfl (lv_at hl 3 rfl) ?_
                refine lv_iload_n hx hb dX2_at_106 rfl (lv_at hl 1 rfl) ?_
                refine xk_raw_icmp_ne_t (tgt := 112) hx hb dX2_at_107 (by decide) (tl_neg_ne hx9 (by omega)) ?_
                refine lv_iinc (v := nI (b9 + 1)) (lv' := [(2, .int (nI (b9 + 1))), (0, .ref o), (1, .int x9), (3, .int (nI c9)), (4, .int (nI o9))]) hx hb dX2_at_112 hl (k := 2) rfl (xk_inc b9) (by decide) rfl (fun ls hl => ?_)
                refine lv_goto (tgt := 2) hx hb dX2_at_115 (by decide) ?_
                exact ih_2 (b9 + 1) _ _ (by omega) (by omega) hI_7 ls (lv_sub hl [1, 2, 0] rfl)
            · have qo := kb o9 hc_25
              have qv := tl_wor_le (m := A 0) (p := A 0 (14 + 7 * o9)) (n := 8) kwt
              have qc := tl_cnt_le (A 0) b9 o9
              refine lv_aload_n hx hb dX2_at_28 rfl (lv_at hl 0 rfl) ?_
              refine lv_aload_n hx hb dX2_at_29 rfl (lv_at hl 0 rfl) ?_
              refine xk_get B hI_6 hO rfl in_X2 0 (by decide) q1432 rfl dX2_at_30 ?_
              refine lv_iload hx hb dX2_at_33 (lv_at hl 4 rfl) ?_
              refine xk_ri0 (xk_cS B hI_6 hl [.int (nI o9)] [.ref (ad 0), .ref o] 1 (m2_of g o9) (lw_S q1524 q1525 q79 q1526) ⟨by decide +kernel, by decide +kernel, by decide +kernel⟩ ⟨Nat.le_of_ble_eq_true rfl, Nat.le_of_ble_eq_true rfl⟩ rfl rfl (Nat.le_of_ble_eq_true rfl) dX2_at_35 (Nat.le_of_ble_eq_true rfl) (Nat.le_of_ble_eq_true rfl)) hI_6 (fun H_11 L_12 hI_10 => ?_)
              refine xk_top (y := nI (14 + 7 * o9)) rfl ?_
              refine xk_iald B hI_10 hA0 (by omega) (by decide) dX2_at_38 ?_
              refine xk_ri0 (xk_cV B hI_10 hl [.int (nI (A 0 (14 + 7 * o9)))] [] 1 (m2_worth g hM0 hk0 (pt := A 0 (14 + 7 * o9)) (by omega)) hO rfl (lw_V q1636 q1638 qs52 q79 q1639) ⟨rfl, by decide +kernel, by decide +kernel, by decide +kernel⟩ ⟨Nat.le_of_ble_eq_true rfl, Nat.le_of_ble_eq_true rfl⟩ rfl rfl (Nat.le_of_ble_eq_true rfl) dX2_at_39 (Nat.le_of_ble_eq_true rfl) (Nat.le_of_ble_eq_true rfl)) hI_10 (fun H_14 L_15 hI_13 => ?_)
              refine xk_top (y := nI (tl_wor (A 0) (A 0 (14 + 7 * o9)) 8)) rfl ?_
              refine lv_aload_n hx hb dX2_at_42 rfl (lv_at hl 0 rfl) ?_
              refine lv_aload_n hx hb dX2_at_43 rfl (lv_at hl 0 rfl) ?_
              refine xk_get B hI_13 hO rfl in_X2 0 (by decide) q1432 rfl dX2_at_44 ?_
              refine lv_iload_n hx hb dX2_at_47 rfl (lv_at hl 2 rfl) ?_
              refine xk_ri0 (xk_cS B hI_13 hl [.int (nI b9)] [.ref (ad 0), .ref o, .int (nI (tl_wor (A 0) (A 0 (14 + 7 * o9)) 8))] 1 (m2_of g b9) (lw_S q1524 q1525 q79 q1526) ⟨by decide +kernel, by decide +kernel, by decide +kernel⟩ ⟨Nat.le_of_ble_eq_true rfl, Nat.le_of_ble_eq_true rfl⟩ rfl rfl (Nat.le_of_ble_eq_true rfl) dX2_at_48 (Nat.le_of_ble_eq_true rfl) (Nat.le_of_ble_eq_true rfl)) hI_13 (fun H_17 L_18 hI_16 => ?_)
              refine xk_top (y := nI (14 + 7 * b9)) rfl ?_
              refine xk_iald B hI_16 hA0 (by omega) (by decide) dX2_at_51 ?_
              refine xk_ri0 (xk_cV B hI_16 hl [.int (nI (A 0 (14 + 7 * b9)))] [.int (nI (tl_wor (A 0) (A 0 (14 + 7 * o9)) 8))] 1 (m2_worth g hM0 hk0 (pt := A 0 (14 + 7 * b9)) (by omega)) hO rfl (lw_V q1636 q1638 qs52 q79 q1639) ⟨rfl, by decide +kernel, by decide +kernel, by decide +kernel⟩ ⟨Nat.le_of_ble_eq_true rfl, Nat.le_of_ble_eq_true rfl⟩ rfl rfl (Nat.le_of_ble_eq_true rfl) dX2_at_52 (Nat.le_of_ble_eq_true rfl) (Nat.le_of_ble_eq_true rfl)) hI_16 (fun H_20 L_21 hI_19 => ?_)
              refine xk_top (y := nI (tl_wor (A 0) (A 0 (14 + 7 * b9)) 8)) rfl ?_
              refine lv_isub hx hb dX2_at_55 ?_
              refine lv_istore (lv' := [(5, .int ((nI (tl_wor (A 0) (A 0 (14 + 7 * o9)) 8)) - (nI (tl_wor (A 0) (A 0 (14 + 7 * b9)) 8)))), (0, .ref o), (1, .int x9), (2, .int (nI b9)), (3, .int (nI c9)), (4, .int (nI o9))]) hx hb dX2_at_56 hl (by decide) rfl (fun ls hl => ?_)
              refine lv_iload_n hx hb dX2_at_58 rfl (lv_at hl 4 rfl) ?_
              refine lv_aload_n hx hb dX2_at_59 rfl (lv_at hl 1 rfl) ?_
              refine lv_iload hx hb dX2_at_60 (lv_at hl 5 rfl) ?_
              refine xk_ri0 (xk_cV B hI_19 hl [.int (nI o9)] [.int (nI c9)] 1 (m2_lives g hM0 (b := o9) (by omega) (show A 0 (14 + 7 * o9 + 3) < 2147483648 from by first | omega | (have := kb o9 (by omega); omega))) hO rfl (lw_V q1548 q1550 qs38 q79 q1551) ⟨rfl, by decide +kernel, by decide +kernel, by decide +kernel⟩ ⟨Nat.le_of_ble_eq_true rfl, Nat.le_of_ble_eq_true rfl⟩ rfl rfl (Nat.le_of_ble_eq_true rfl) dX2_at_62 (Nat.le_of_ble_eq_true rfl) (Nat.le_of_ble_eq_true rfl)) hI_19 (fun H_23 L_24 hI_22 => ?_)
              refine xk_top (y := xk_z (tl_al (A 0) o9)) rfl ?_
              refine xk_if_eq_z (tgt := 88) hx hb dX2_at_65 (by decide) (fun hc_65 => ?_) (fun hc_65 => ?_)
              · have hA9 : ¬ (tl_al (A 0) o9 = true ∧ tl_ahd (A 0) o9 b9 = true) := fun q => by
                  have q2 := of_decide_eq_true q.2
                  first | exact absurd (hc_65.symm.trans q.1) (by decide) | omega
                refine lv_iconst (v := nI 0) hx hb dX2_at_88 (by decide) ?_
                refine lv_iadd hx hb dX2_at_89 (xk_top (nI_add _ _) ?_)
                refine lv_istore_n (lv' := [(3, .int (nI (c9 + 0))), (5, .int ((nI (tl_wor (A 0) (A 0 (14 + 7 * o9)) 8)) - (nI (tl_wor (A 0) (A 0 (14 + 7 * b9)) 8)))), (0, .ref o), (1, .int x9), (2, .int (nI b9)), (4, .int (nI o9))]) hx hb dX2_at_90 rfl hl (by decide) rfl (fun ls hl => ?_)
                refine lv_iinc (v := nI (o9 + 1)) (lv' := [(4, .int (nI (o9 + 1))), (3, .int (nI (c9 + 0))), (5, .int ((nI (tl_wor (A 0) (A 0 (14 + 7 * o9)) 8)) - (nI (tl_wor (A 0) (A 0 (14 + 7 * b9)) 8)))), (0, .ref o), (1, .int x9), (2, .int (nI b9))]) hx hb dX2_at_91 hl (k := 5) rfl (xk_inc o9) (by decide) rfl (fun ls hl => ?_)
                refine lv_goto (tgt := 17) hx hb dX2_at_94 (by decide) ?_
                exact ih_17 (o9 + 1) (c9 + 0) _ _ (by omega) (by rw [hc1]; show _ = tl_cnt (A 0) b9 o9 + (if tl_al (A 0) o9 = true ∧ tl_ahd (A 0) o9 b9 = true then 1 else 0); first | rw [if_pos hA9] | rw [if_neg hA9]) (by omega) hI_22 ls (lv_sub hl [3, 4, 5, 1, 0] rfl)
              · refine lv_iload hx hb dX2_at_68 (lv_at hl 0 rfl) ?_
                refine lv_if_gt (tgt := 84) hx hb dX2_at_70 (by decide) (fun hc_70 => ?_) (fun hc_70 => ?_)
                · have h70 := (tl_sub0 (a := tl_wor (A 0) (A 0 (14 + 7 * o9)) 8) (b := tl_wor (A 0) (A 0 (14 + 7 * b9)) 8) (by omega) (by omega)).1.mp hc_70
                  have hA9 : tl_al (A 0) o9 = true ∧ tl_ahd (A 0) o9 b9 = true := ⟨hc_65, decide_eq_true (by omega)⟩
                  refine lv_iconst (v := nI 1) hx hb dX2_at_84 (by decide) ?_
                  refine lv_goto (tgt := 89) hx hb dX2_at_85 (by decide) ?_
                  refine lv_iadd hx hb dX2_at_89 (xk_top (nI_add _ _) ?_)
                  refine lv_istore_n (lv' := [(3, .int (nI (c9 + 1))), (5, .int ((nI (tl_wor (A 0) (A 0 (14 + 7 * o9)) 8)) - (nI (tl_wor (A 0) (A 0 (14 + 7 * b9)) 8)))), (0, .ref o), (1, .int x9), (2, .int (nI b9)), (4, .int (nI o9))]) hx hb dX2_at_90 rfl hl (by decide) rfl (fun ls hl => ?_)
                  refine lv_iinc (v := nI (o9 + 1)) (lv' := [(4, .int (nI (o9 + 1))), (3, .int (nI (c9 + 1))), (5, .int ((nI (tl_wor (A 0) (A 0 (14 + 7 * o9)) 8)) - (nI (tl_wor (A 0) (A 0 (14 + 7 * b9)) 8)))), (0, .ref o), (1, .int x9), (2, .int (nI b9))]) hx hb dX2_at_91 hl (k := 5) rfl (xk_inc o9) (by decide) rfl (fun ls hl => ?_)
                  refine lv_goto (tgt := 17) hx hb dX2_at_94 (by decide) ?_
                  exact ih_17 (o9 + 1) (c9 + 1) _ _ (by omega) (by rw [hc1]; show _ = tl_cnt (A 0) b9 o9 + (if tl_al (A 0) o9 = true ∧ tl_ahd (A 0) o9 b9 = true then 1 else 0); first | rw [if_pos hA9] | rw [if_neg hA9]) (by omega) hI_22 ls (lv_sub hl [3, 4, 5, 1, 0] rfl)
                · have h70 : ¬ tl_wor (A 0) (A 0 (14 + 7 * b9)) 8 < tl_wor (A 0) (A 0 (14 + 7 * o9)) 8 := fun q => hc_70 ((tl_sub0 (a := tl_wor (A 0) (A 0 (14 + 7 * o9)) 8) (b := tl_wor (A 0) (A 0 (14 + 7 * b9)) 8) (by omega) (by omega)).1.mpr q)
                  refine lv_iload hx hb dX2_at_73 (lv_at hl 0 rfl) ?_
                  refine lv_if_ne (tgt := 88) hx hb dX2_at_75 (by decide) (fun hc_75 => ?_) (fun hc_75 => ?_)
                  · have h75 : ¬ tl_wor (A 0) (A 0 (14 + 7 * o9)) 8 = tl_wor (A 0) (A 0 (14 + 7 * b9)) 8 := fun q => hc_75 ((tl_sub0 (a := tl_wor (A 0) (A 0 (14 + 7 * o9)) 8) (b := tl_wor (A 0) (A 0 (14 + 7 * b9)) 8) (by omega) (by omega)).2.mpr q)
                    have hA9 : ¬ (tl_al (A 0) o9 = true ∧ tl_ahd (A 0) o9 b9 = true) := fun q => by
                      have q2 := of_decide_eq_true q.2
                      first | exact absurd (hc_65.symm.trans q.1) (by decide) | omega
                    refine lv_iconst (v := nI 0) hx hb dX2_at_88 (by decide) ?_
                    refine lv_iadd hx hb dX2_at_89 (xk_top (nI_add _ _) ?_)
                    refine lv_istore_n (lv' := [(3, .int (nI (c9 + 0))), (5, .int ((nI (tl_wor (A 0) (A 0 (14 + 7 * o9)) 8)) - (nI (tl_wor (A 0) (A 0 (14 + 7 * b9)) 8)))), (0, .ref o), (1, .int x9), (2, .int (nI b9)), (4, .int (nI o9))]) hx hb dX2_at_90 rfl hl (by decide) rfl (fun ls hl => ?_)
                    refine lv_iinc (v := nI (o9 + 1)) (lv' := [(4, .int (nI (o9 + 1))), (3, .int (nI (c9 + 0))), (5, .int ((nI (tl_wor (A 0) (A 0 (14 + 7 * o9)) 8)) - (nI (tl_wor (A 0) (A 0 (14 + 7 * b9)) 8)))), (0, .ref o), (1, .int x9), (2, .int (nI b9))]) hx hb dX2_at_91 hl (k := 5) rfl (xk_inc o9) (by decide) rfl (fun ls hl => ?_)
                    refine lv_goto (tgt := 17) hx hb dX2_at_94 (by decide) ?_
                    exact ih_17 (o9 + 1) (c9 + 0) _ _ (by omega) (by rw [hc1]; show _ = tl_cnt (A 0) b9 o9 + (if tl_al (A 0) o9 = true ∧ tl_ahd (A 0) o9 b9 = true then 1 else 0); first | rw [if_pos hA9] | rw [if_neg hA9]) (by omega) hI_22 ls (lv_sub hl [3, 4, 5, 1, 0] rfl)
                  · have h75 := (tl_sub0 (a := tl_wor (A 0) (A 0 (14 + 7 * o9)) 8) (b := tl_wor (A 0) (A 0 (14 + 7 * b9)) 8) (by omega) (by omega)).2.mp hc_75
                    refine lv_iload hx hb dX2_at_78 (lv_at hl 5 rfl) ?_
                    refine lv_iload_n hx hb dX2_at_80 rfl (lv_at hl 3 rfl) ?_
                    refine xk_icmp_le (tgt := 88) hx hb (by omega) (by omega) dX2_at_81 (by decide) (fun hc_81 => ?_) (fun hc_81 => ?_)
                    · have hA9 : ¬ (tl_al (A 0) o9 = true ∧ tl_ahd (A 0) o9 b9 = true) := fun q => by
                        have q2 := of_decide_eq_true q.2
                        first | exact absurd (hc_65.symm.trans q.1) (by decide) | omega
                      refine lv_iconst (v := nI 0) hx hb dX2_at_88 (by decide) ?_
                      refine lv_iadd hx hb dX2_at_89 (xk_top (nI_add _ _) ?_)
                      refine lv_istore_n (lv' := [(3, .int (nI (c9 + 0))), (5, .int ((nI (tl_wor (A 0) (A 0 (14 + 7 * o9)) 8)) - (nI (tl_wor (A 0) (A 0 (14 + 7 * b9)) 8)))), (0, .ref o), (1, .int x9), (2, .int (nI b9)), (4, .int (nI o9))]) hx hb dX2_at_90 rfl hl (by decide) rfl (fun ls hl => ?_)
                      refine lv_iinc (v := nI (o9 + 1)) (lv' := [(4, .int (nI (o9 + 1))), (3, .int (nI (c9 + 0))), (5, .int ((nI (tl_wor (A 0) (A 0 (14 + 7 * o9)) 8)) - (nI (tl_wor (A 0) (A 0 (14 + 7 * b9)) 8)))), (0, .ref o), (1, .int x9), (2, .int (nI b9))]) hx hb dX2_at_91 hl (k := 5) rfl (xk_inc o9) (by decide) rfl (fun ls hl => ?_)
                      refine lv_goto (tgt := 17) hx hb dX2_at_94 (by decide) ?_
                      exact ih_17 (o9 + 1) (c9 + 0) _ _ (by omega) (by rw [hc1]; show _ = tl_cnt (A 0) b9 o9 + (if tl_al (A 0) o9 = true ∧ tl_ahd (A 0) o9 b9 = true then 1 else 0); first | rw [if_pos hA9] | rw [if_neg hA9]) (by omega) hI_22 ls (lv_sub hl [3, 4, 5, 1, 0] rfl)
                    · have hA9 : tl_al (A 0) o9 = true ∧ tl_ahd (A 0) o9 b9 = true := ⟨hc_65, decide_eq_true (by omega)⟩
                      refine lv_iconst (v := nI 1) hx hb dX2_at_84 (by decide) ?_
                      refine lv_goto (tgt := 89) hx hb dX2_at_85 (by decide) ?_
                      refine lv_iadd hx hb dX2_at_89 (xk_top (nI_add _ _) ?_)
                      refine lv_istore_n (lv' := [(3, .int (nI (c9 + 1))), (5, .int ((nI (tl_wor (A 0) (A 0 (14 + 7 * o9)) 8)) - (nI (tl_wor (A 0) (A 0 (14 + 7 * b9)) 8)))), (0, .ref o), (1, .int x9), (2, .int (nI b9)), (4, .int (nI o9))]) hx hb dX2_at_90 rfl hl (by decide) rfl (fun ls hl => ?_)
                      refine lv_iinc (v := nI (o9 + 1)) (lv' := [(4, .int (nI (o9 + 1))), (3, .int (nI (c9 + 1))), (5, .int ((nI (tl_wor (A 0) (A 0 (14 + 7 * o9)) 8)) - (nI (tl_wor (A 0) (A 0 (14 + 7 * b9)) 8)))), (0, .ref o), (1, .int x9), (2, .int (nI b9))]) hx hb dX2_at_91 hl (k := 5) rfl (xk_inc o9) (by decide) rfl (fun ls hl => ?_)
                      refine lv_goto (tgt := 17) hx hb dX2_at_94 (by decide) ?_
                      exact ih_17 (o9 + 1) (c9 + 1) _ _ (by omega) (by rw [hc1]; show _ = tl_cnt (A 0) b9 o9 + (if tl_al (A 0) o9 = true ∧ tl_ahd (A 0) o9 b9 = true then 1 else 0); first | rw [if_pos hA9] | rw [if_neg hA9]) (by omega) hI_22 ls (lv_sub hl [3, 4, 5, 1, 0] rfl)
        exact hloop_17 (A 0 0 - 0 + 1) 0 0 _ _ (by omega) (by rfl) (Nat.lt_succ_self _) hI_3 ls (lv_sub hl [2, 3, 4, 1, 0] rfl)
  exact hloop_2 (A 0 0 - 0 + 1) 0 _ _ (by omega) (Nat.lt_succ_self _) hI ls (lv_sub hl [1, 2, 0] rfl)
theorem m2_at (g : xk_G) {X : xk_H} {o : Nat} {ad : Nat → Nat} {A : Nat → Nat → Nat} {S : Nat → Nat} (hM : tm_Ok g X o ad A S) (hk : tl_inv (A 0)) (x : Int32) : xk_C g yX2_at (ws_ yX2_at cX2_at 6 (some .int)) ({ frames := 2, cells := 0, slots := 0, locals := 41 } : Room) [.ref o, .int x] X (xk_Qi (tl_atx (A 0) x) (fun X1 => X1 = X)) := by
  unfold tl_atx
  by_cases h : x.toInt < 0
  · rw [if_pos h]
    exact m2_atM g hM hk h
  · rw [if_neg h]
    have h1 : tl_rng x 0 2147483647 = true := decide_eq_true (by
      have := Int32.toInt_lt x
      omega)
    obtain ⟨h2, -, h3, h4⟩ := tl_rng_k h1 (by decide)
    have := m2_atN g hM hk (pl := tl_n x) h4
    rwa [← h2] at this
set_option maxHeartbeats 4000000 in
theorem m2_ranked (g : xk_G) {X : xk_H} {o : Nat} {ad : Nat → Nat} {A : Nat → Nat → Nat} {S : Nat → Nat} (hM : tm_Ok g X o ad A S) (hk : tl_inv (A 0)) (x : Int32) : xk_C g yX2_ranked (ws_ yX2_ranked cX2_ranked 2 (some .int)) ({ frames := 3, cells := 0, slots := 0, locals := 66 } : Room) [.ref o, .int x] X (xk_Qi (tl_atx (A 0) x) (fun X1 => X1 = X)) := by
  refine xk_ofW (by decide +kernel) (Nat.le_of_ble_eq_true rfl) (fun p e s m args below meth c B hr hname hargs hI ls hl => ?_)
  have B : xk_B g p s m args meth c RX2 cX2_ranked 2 := B
  have hl : lv_has ls 2 [(0, .ref o), (1, .int x)] := hl
  have hx := B.1
  have hb := B.2.1
  have hM0 := hM
  obtain ⟨hO, hA0, hA1, hA2, hA3, hA4, hA5, hA6, hA7, hA8, hA9⟩ := hM
  have hk0 := hk
  obtain ⟨k0, kb, kw, kl, ks, kr1, kr2, kwt, kL⟩ := hk
  have hfr : xk_fr o X X := xk_fr.rf
  refine lv_aload_n hx hb dX2_ranked_0 rfl (lv_at hl 0 rfl) ?_
  refine lv_iload_n hx hb dX2_ranked_1 rfl (lv_at hl 1 rfl) ?_
  refine xk_ri0 (xk_cV B hI hl [.int x] [] 1 (m2_at g hM0 hk0 x) hO rfl (lw_V q1632 q1634 qs51 q79 q1635) ⟨rfl, by decide +kernel, by decide +kernel, by decide +kernel⟩ ⟨Nat.le_of_ble_eq_true rfl, Nat.le_of_ble_eq_true rfl⟩ rfl rfl (Nat.le_of_ble_eq_true rfl) dX2_ranked_2 (Nat.le_of_ble_eq_true rfl) (Nat.le_of_ble_eq_true rfl)) hI (fun H_2 L_3 hI_1 => ?_)
  refine xk_top (y := tl_atx (A 0) x) rfl ?_
  exact xk_reti B hI_1 hr rfl dX2_ranked_5 (Nat.le_of_ble_eq_true rfl) (Nat.le_of_ble_eq_true rfl) (⟨rfl, rfl⟩)
set_option maxHeartbeats 4000000 in
theorem m2_children (g : xk_G) {X : xk_H} {o : Nat} {ad : Nat → Nat} {A : Nat → Nat → Nat} {S : Nat → Nat} (hM : tm_Ok g X o ad A S) (hk : tl_inv (A 0)) {b : Nat} (hb9 : b < 40) : xk_C g yX2_children (ws_ yX2_children cX2_children 4 (some .int)) ({ frames := 1, cells := 0, slots := 0, locals := 20 } : Room) [.ref o, .int (nI b)] X (xk_Qi (nI (tl_chd (A 0) b (A 0 0))) (fun X1 => X1 = X)) := by
  refine xk_ofW (by decide +kernel) (Nat.le_of_ble_eq_true rfl) (fun p e s m args below meth c B hr hname hargs hI ls hl => ?_)
  have B : xk_B g p s m args meth c RX2 cX2_children 4 := B
  have hl : lv_has ls 4 [(0, .ref o), (1, .int (nI b))] := hl
  have hx := B.1
  have hb := B.2.1
  have hM0 := hM
  obtain ⟨hO, hA0, hA1, hA2, hA3, hA4, hA5, hA6, hA7, hA8, hA9⟩ := hM
  have hk0 := hk
  obtain ⟨k0, kb, kw, kl, ks, kr1, kr2, kwt, kL⟩ := hk
  have hfr : xk_fr o X X := xk_fr.rf
  refine lv_iconst (v := nI 0) hx hb dX2_children_0 (by decide) ?_
  refine lv_istore_n (lv' := [(2, .int (nI 0)), (0, .ref o), (1, .int (nI b))]) hx hb dX2_children_1 rfl hl (by decide) rfl (fun ls hl => ?_)
  refine lv_iconst (v := nI 0) hx hb dX2_children_2 (by decide) ?_
  refine lv_istore_n (lv' := [(3, .int (nI 0)), (2, .int (nI 0)), (0, .ref o), (1, .int (nI b))]) hx hb dX2_children_3 rfl hl (by decide) rfl (fun ls hl => ?_)
  have hloop_4 : ∀ (n_4 : Nat) (k : Nat) (c9 : Nat) (H_1 : Heap) (L_2 : List Loc), (k ≤ A 0 0) → (c9 = tl_chd (A 0) b k) → A 0 0 - k < n_4 → xk_I g s H_1 X L_2 → ∀ ls : Array Slot, lv_has ls 4 [(0, .ref o), (1, .int (nI b)), (2, .int (nI c9)), (3, .int (nI k))] → W p (xk_l g) e (({ frames := 1, cells := 0, slots := 0, locals := 20 } : Room)) s m args below meth c H_1 L_2 0 0 (MQ below (xk_Q g (xk_Qi (nI (tl_chd (A 0) b (A 0 0))) (fun X1 => X1 = X))) args s (0) (0) (xk_A g)) (F0 m 4 ls []) := by
    intro n_4
    induction n_4 with
    | zero => intros; omega
    | succ n_4 ih_4 =>
      intro k c9 H_1 L_2 hk1 hc1 hm_4  hI_3 ls hl
      refine lv_iload_n hx hb dX2_children_4 rfl (lv_at hl 3 rfl) ?_
      refine lv_aload_n hx hb dX2_children_5 rfl (lv_at hl 0 rfl) ?_
      refine xk_get B hI_3 hO rfl in_X2 0 (by decide) q1432 rfl dX2_children_6 ?_
      refine lv_iconst (v := nI 0) hx hb dX2_children_9 (by decide) ?_
      refine xk_iald B hI_3 hA0 (by omega) (by decide) dX2_children_10 ?_
      refine xk_icmp_ge (tgt := 62) hx hb (by omega) (by omega) dX2_children_11 (by decide) (fun hc_11 => ?_) (fun hc_11 => ?_)
      · have q1 : k = A 0 0 := by omega
        refine lv_iload_n hx hb dX2_children_62 rfl (lv_at hl 2 rfl) ?_
        exact xk_reti B hI_3 hr rfl dX2_children_63 (Nat.le_of_ble_eq_true rfl) (Nat.le_of_ble_eq_true rfl) (⟨by rw [hc1, q1], rfl⟩)
      · have qb := kb k hc_11
        have qc := tl_chd_le (A 0) b k
        refine lv_iload_n hx hb dX2_children_14 rfl (lv_at hl 2 rfl) ?_
        refine lv_aload_n hx hb dX2_children_15 rfl (lv_at hl 0 rfl) ?_
        refine xk_get B hI_3 hO rfl in_X2 0 (by decide) q1432 rfl dX2_children_16 ?_
        refine lv_iload_n hx hb dX2_children_19 rfl (lv_at hl 3 rfl) ?_
        refine xk_ri0 (xk_cS B hI_3 hl [.int (nI k)] [.ref (ad 0), .int (nI c9)] 1 (m2_of g k) (lw_S q1524 q1525 q79 q1526) ⟨by decide +kernel, by decide +kernel, by decide +kernel⟩ ⟨Nat.le_of_ble_eq_true rfl, Nat.le_of_ble_eq_true rfl⟩ rfl rfl (Nat.le_of_ble_eq_true rfl) dX2_children_20 (Nat.le_of_ble_eq_true rfl) (Nat.le_of_ble_eq_true rfl)) hI_3 (fun H_5 L_6 hI_4 => ?_)
        refine xk_top (y := nI (14 + 7 * k)) rfl ?_
        refine lv_iconst (v := nI 1) hx hb dX2_children_23 (by decide) ?_
        refine lv_iadd hx hb dX2_children_24 (xk_top (nI_add _ _) ?_)
        refine xk_iald B hI_4 hA0 (by omega) (by decide) dX2_children_25 ?_
        refine lv_iload_n hx hb dX2_children_26 rfl (lv_at hl 1 rfl) ?_
        refine lv_iconst (v := nI 1) hx hb dX2_children_27 (by decide) ?_
        refine lv_iadd hx hb dX2_children_28 (xk_top (nI_add _ _) ?_)
        refine xk_icmp_eq (tgt := 49) hx hb (by omega) (by omega) dX2_children_29 (by decide) (fun hc_29 => ?_) (fun hc_29 => ?_)
        · have hA9 : A 0 (14 + 7 * k + 1) = b + 1 ∨ A 0 (14 + 7 * k + 2) = b + 1 := by omega
          refine lv_iconst (v := nI 1) hx hb dX2_children_49 (by decide) ?_
          refine lv_goto (tgt := 54) hx hb dX2_children_50 (by decide) ?_
          refine lv_iadd hx hb dX2_children_54 (xk_top (nI_add _ _) ?_)
          refine lv_istore_n (lv' := [(2, .int (nI (c9 + 1))), (0, .ref o), (1, .int (nI b)), (3, .int (nI k))]) hx hb dX2_children_55 rfl hl (by decide) rfl (fun ls hl => ?_)
          refine lv_iinc (v := nI (k + 1)) (lv' := [(3, .int (nI (k + 1))), (2, .int (nI (c9 + 1))), (0, .ref o), (1, .int (nI b))]) hx hb dX2_children_56 hl (k := 3) rfl (xk_inc k) (by decide) rfl (fun ls hl => ?_)
          refine lv_goto (tgt := 4) hx hb dX2_children_59 (by decide) ?_
          exact ih_4 (k + 1) (c9 + 1) _ _ (by omega) (by rw [hc1]; show _ = tl_chd (A 0) b k + (if A 0 (14 + 7 * k + 1) = b + 1 ∨ A 0 (14 + 7 * k + 2) = b + 1 then 1 else 0); first | rw [if_pos hA9] | rw [if_neg hA9]) (by omega) hI_4 ls (lv_sub hl [2, 3, 1, 0] rfl)
        · refine lv_aload_n hx hb dX2_children_32 rfl (lv_at hl 0 rfl) ?_
          refine xk_get B hI_4 hO rfl in_X2 0 (by decide) q1432 rfl dX2_children_33 ?_
          refine lv_iload_n hx hb dX2_children_36 rfl (lv_at hl 3 rfl) ?_
          refine xk_ri0 (xk_cS B hI_4 hl [.int (nI k)] [.ref (ad 0), .int (nI c9)] 1 (m2_of g k) (lw_S q1524 q1525 q79 q1526) ⟨by decide +kernel, by decide +kernel, by decide +kernel⟩ ⟨Nat.le_of_ble_eq_true rfl, Nat.le_of_ble_eq_true rfl⟩ rfl rfl (Nat.le_of_ble_eq_true rfl) dX2_children_37 (Nat.le_of_ble_eq_true rfl) (Nat.le_of_ble_eq_true rfl)) hI_4 (fun H_8 L_9 hI_7 => ?_)
          refine xk_top (y := nI (14 + 7 * k)) rfl ?_
          refine lv_iconst (v := nI 2) hx hb dX2_children_40 (by decide) ?_
          refine lv_iadd hx hb dX2_children_41 (xk_top (nI_add _ _) ?_)
          refine xk_iald B hI_7 hA0 (by omega) (by decide) dX2_children_42 ?_
          refine lv_iload_n hx hb dX2_children_43 rfl (lv_at hl 1 rfl) ?_
          refine lv_iconst (v := nI 1) hx hb dX2_children_44 (by decide) ?_
          refine lv_iadd hx hb dX2_children_45 (xk_top (nI_add _ _) ?_)
          refine xk_icmp_ne (tgt := 53) hx hb (by omega) (by omega) dX2_children_46 (by decide) (fun hc_46 => ?_) (fun hc_46 => ?_)
          · have hA9 : ¬ (A 0 (14 + 7 * k + 1) = b + 1 ∨ A 0 (14 + 7 * k + 2) = b + 1) := by omega
            refine lv_iconst (v := nI 0) hx hb dX2_children_53 (by decide) ?_
            refine lv_iadd hx hb dX2_children_54 (xk_top (nI_add _ _) ?_)
            refine lv_istore_n (lv' := [(2, .int (nI (c9 + 0))), (0, .ref o), (1, .int (nI b)), (3, .int (nI k))]) hx hb dX2_children_55 rfl hl (by decide) rfl (fun ls hl => ?_)
            refine lv_iinc (v := nI (k + 1)) (lv' := [(3, .int (nI (k + 1))), (2, .int (nI (c9 + 0))), (0, .ref o), (1, .int (nI b))]) hx hb dX2_children_56 hl (k := 3) rfl (xk_inc k) (by decide) rfl (fun ls hl => ?_)
            refine lv_goto (tgt := 4) hx hb dX2_children_59 (by decide) ?_
            exact ih_4 (k + 1) (c9 + 0) _ _ (by omega) (by rw [hc1]; show _ = tl_chd (A 0) b k + (if A 0 (14 + 7 * k + 1) = b + 1 ∨ A 0 (14 + 7 * k + 2) = b + 1 then 1 else 0); first | rw [if_pos hA9] | rw [if_neg hA9]) (by omega) hI_7 ls (lv_sub hl [2, 3, 1, 0] rfl)
          · have hA9 : A 0 (14 + 7 * k + 1) = b + 1 ∨ A 0 (14 + 7 * k + 2) = b + 1 := by omega
            refine lv_iconst (v := nI 1) hx hb dX2_children_49 (by decide) ?_
            refine lv_goto (tgt := 54) hx hb dX2_children_50 (by decide) ?_
            refine lv_iadd hx hb dX2_children_54 (xk_top (nI_add _ _) ?_)
            refine lv_istore_n (lv' := [(2, .int (nI (c9 + 1))), (0, .ref o), (1, .int (nI b)), (3, .int (nI k))]) hx hb dX2_children_55 rfl hl (by decide) rfl (fun ls hl => ?_)
            refine lv_iinc (v := nI (k + 1)) (lv' := [(3, .int (nI (k + 1))), (2, .int (nI (c9 + 1))), (0, .ref o), (1, .int (nI b))]) hx hb dX2_children_56 hl (k := 3) rfl (xk_inc k) (by decide) rfl (fun ls hl => ?_)
            refine lv_goto (tgt := 4) hx hb dX2_children_59 (by decide) ?_
            exact ih_4 (k + 1) (c9 + 1) _ _ (by omega) (by rw [hc1]; show _ = tl_chd (A 0) b k + (if A 0 (14 + 7 * k + 1) = b + 1 ∨ A 0 (14 + 7 * k + 2) = b + 1 then 1 else 0); first | rw [if_pos hA9] | rw [if_neg hA9]) (by omega) hI_7 ls (lv_sub hl [2, 3, 1, 0] rfl)
  exact hloop_4 (A 0 0 - 0 + 1) 0 0 _ _ (by omega) (by rfl) (Nat.lt_succ_self _) hI ls (lv_sub hl [2, 3, 1, 0] rfl)
set_option maxHeartbeats 4000000 in
theorem m2_bulbOf (g : xk_G) {X : xk_H} {o : Nat} {ad : Nat → Nat} {A : Nat → Nat → Nat} {S : Nat → Nat} (hM : tm_Ok g X o ad A S) (hk : tl_inv (A 0)) (x y : Int32) : xk_C g yX2_bulbOf (ws_ yX2_bulbOf cX2_bulbOf 4 (some .int)) ({ frames := 2, cells := 0, slots := 0, locals := 46 } : Room) [.ref o, .int x, .int y] X (xk_Qi (tl_bulbOf (A 0) x y) (fun X1 => X1 = X)) := by
  refine xk_ofW (by decide +kernel) (Nat.le_of_ble_eq_true rfl) (fun p e s m args below meth c B hr hname hargs hI ls hl => ?_)
  have B : xk_B g p s m args meth c RX2 cX2_bulbOf 4 := B
  have hl : lv_has ls 4 [(0, .ref o), (1, .int x), (2, .int y)] := hl
  have hx := B.1
  have hb := B.2.1
  have hM0 := hM
  obtain ⟨hO, hA0, hA1, hA2, hA3, hA4, hA5, hA6, hA7, hA8, hA9⟩ := hM
  have hk0 := hk
  obtain ⟨k0, kb, kw, kl, ks, kr1, kr2, kwt, kL⟩ := hk
  have hfr : xk_fr o X X := xk_fr.rf
  refine lv_aload_n hx hb dX2_bulbOf_0 rfl (lv_at hl 0 rfl) ?_
  refine lv_iload_n hx hb dX2_bulbOf_1 rfl (lv_at hl 1 rfl) ?_
  refine xk_ri0 (xk_cV B hI hl [.int x] [] 1 (m2_isBulb g hM0 hk0 x) hO rfl (lw_V q1543 q1545 qs37 q79 q1546) ⟨rfl, by decide +kernel, by decide +kernel, by decide +kernel⟩ ⟨Nat.le_of_ble_eq_true rfl, Nat.le_of_ble_eq_true rfl⟩ rfl rfl (Nat.le_of_ble_eq_true rfl) dX2_bulbOf_2 (Nat.le_of_ble_eq_true rfl) (Nat.le_of_ble_eq_true rfl)) hI (fun H_2 L_3 hI_1 => ?_)
  refine xk_top (y := xk_z (tl_isb (A 0) (x))) rfl ?_
  refine xk_if_ne_z (tgt := 10) hx hb dX2_bulbOf_5 (by decide) (fun hc_5 => ?_) (fun hc_5 => ?_)
  · obtain ⟨hx1, hx2⟩ := tl_isb_k hc_5
    have qb := kb _ hx2
    refine lv_iload_n hx hb dX2_bulbOf_10 rfl (lv_at hl 1 rfl) ?_
    refine xk_top hx1 ?_
    refine xk_ri0 (xk_cS B hI_1 hl [.int (nI (tl_n x))] [] 1 (m2_of g (tl_n x)) (lw_S q1524 q1525 q79 q1526) ⟨by decide +kernel, by decide +kernel, by decide +kernel⟩ ⟨Nat.le_of_ble_eq_true rfl, Nat.le_of_ble_eq_true rfl⟩ rfl rfl (Nat.le_of_ble_eq_true rfl) dX2_bulbOf_11 (Nat.le_of_ble_eq_true rfl) (Nat.le_of_ble_eq_true rfl)) hI_1 (fun H_5 L_6 hI_4 => ?_)
    refine xk_top (y := nI (14 + 7 * (tl_n x))) rfl ?_
    refine lv_istore_n (lv' := [(3, .int (nI (14 + 7 * (tl_n x)))), (0, .ref o), (1, .int x), (2, .int y)]) hx hb dX2_bulbOf_14 rfl hl (by decide) rfl (fun ls hl => ?_)
    refine lv_iload_n hx hb dX2_bulbOf_15 rfl (lv_at hl 3 rfl) ?_
    by_cases hs_0 : y = nI 0
    · refine lv_tableIn (tgt := 72) (off := 56) hx hb dX2_bulbOf_16 (by rw [hs_0]; decide) (by rw [hs_0]; decide) (by rw [hs_0]; decide) (by decide) ?_
      refine lv_aload_n hx hb dX2_bulbOf_72 rfl (lv_at hl 1 rfl) ?_
      refine xk_get B hI_4 hO rfl in_X2 0 (by decide) q1432 rfl dX2_bulbOf_73 ?_
      refine lv_iload_n hx hb dX2_bulbOf_76 rfl (lv_at hl 0 rfl) ?_
      refine xk_iald B hI_4 hA0 (by omega) (by decide) dX2_bulbOf_77 ?_
      exact xk_reti B hI_4 hr rfl dX2_bulbOf_78 (Nat.le_of_ble_eq_true rfl) (Nat.le_of_ble_eq_true rfl) (⟨by unfold tl_bulbOf; rw [if_pos hc_5, if_pos hs_0], rfl⟩)
    · by_cases hs_1 : y = nI 1
      · refine lv_tableIn (tgt := 79) (off := 63) hx hb dX2_bulbOf_16 (by rw [hs_1]; decide) (by rw [hs_1]; decide) (by rw [hs_1]; decide) (by decide) ?_
        refine lv_aload_n hx hb dX2_bulbOf_79 rfl (lv_at hl 1 rfl) ?_
        refine lv_aload_n hx hb dX2_bulbOf_80 rfl (lv_at hl 1 rfl) ?_
        refine xk_get B hI_4 hO rfl in_X2 0 (by decide) q1432 rfl dX2_bulbOf_81 ?_
        refine lv_iload_n hx hb dX2_bulbOf_84 rfl (lv_at hl 0 rfl) ?_
        refine xk_iald B hI_4 hA0 (by omega) (by decide) dX2_bulbOf_85 ?_
        refine xk_ri0 (xk_cV B hI_4 hl [.int (nI (A 0 (14 + 7 * (tl_n x))))] [] 1 (m2_worth g hM0 hk0 (pt := A 0 (14 + 7 * (tl_n x))) (by omega)) hO rfl (lw_V q1636 q1638 qs52 q79 q1639) ⟨rfl, by decide +kernel, by decide +kernel, by decide +kernel⟩ ⟨Nat.le_of_ble_eq_true rfl, Nat.le_of_ble_eq_true rfl⟩ rfl rfl (Nat.le_of_ble_eq_true rfl) dX2_bulbOf_86 (Nat.le_of_ble_eq_true rfl) (Nat.le_of_ble_eq_true rfl)) hI_4 (fun H_8 L_9 hI_7 => ?_)
        refine xk_top (y := nI (tl_wor (A 0) (A 0 (14 + 7 * (tl_n x))) 8)) rfl ?_
        exact xk_reti B hI_7 hr rfl dX2_bulbOf_89 (Nat.le_of_ble_eq_true rfl) (Nat.le_of_ble_eq_true rfl) (⟨by unfold tl_bulbOf; rw [if_pos hc_5, if_neg hs_0, if_pos hs_1], rfl⟩)
      · by_cases hs_2 : y = nI 2
        · refine lv_tableIn (tgt := 90) (off := 74) hx hb dX2_bulbOf_16 (by rw [hs_2]; decide) (by rw [hs_2]; decide) (by rw [hs_2]; decide) (by decide) ?_
          refine lv_aload_n hx hb dX2_bulbOf_90 rfl (lv_at hl 1 rfl) ?_
          refine xk_get B hI_4 hO rfl in_X2 0 (by decide) q1432 rfl dX2_bulbOf_91 ?_
          refine lv_iload_n hx hb dX2_bulbOf_94 rfl (lv_at hl 0 rfl) ?_
          refine lv_iload_n hx hb dX2_bulbOf_95 rfl (lv_at hl 3 rfl) ?_
          refine xk_top hs_2 ?_
          refine lv_iadd hx hb dX2_bulbOf_96 (xk_top (nI_add _ _) ?_)
          refine lv_iconst (v := nI 1) hx hb dX2_bulbOf_97 (by decide) ?_
          refine lv_isub hx hb dX2_bulbOf_98 (xk_top (pk_sub (by omega)) ?_)
          refine xk_top (congrArg nI (show _ = 14 + 7 * tl_n x + 1 by omega)) ?_
          refine xk_iald B hI_4 hA0 (by omega) (by decide) dX2_bulbOf_99 ?_
          refine xk_if_ne (tgt := 108) hx hb (by omega) dX2_bulbOf_100 (by decide) (fun hc_100 => ?_) (fun hc_100 => ?_)
          · refine lv_aload_n hx hb dX2_bulbOf_108 rfl (lv_at hl 1 rfl) ?_
            refine xk_get B hI_4 hO rfl in_X2 0 (by decide) q1432 rfl dX2_bulbOf_109 ?_
            refine lv_iload_n hx hb dX2_bulbOf_112 rfl (lv_at hl 0 rfl) ?_
            refine lv_iload_n hx hb dX2_bulbOf_113 rfl (lv_at hl 3 rfl) ?_
            refine xk_top hs_2 ?_
            refine lv_iadd hx hb dX2_bulbOf_114 (xk_top (nI_add _ _) ?_)
            refine lv_iconst (v := nI 1) hx hb dX2_bulbOf_115 (by decide) ?_
            refine lv_isub hx hb dX2_bulbOf_116 (xk_top (pk_sub (by omega)) ?_)
            refine xk_top (congrArg nI (show _ = 14 + 7 * tl_n x + 1 by omega)) ?_
            refine xk_iald B hI_4 hA0 (by omega) (by decide) dX2_bulbOf_117 ?_
            refine lv_iconst (v := nI 1) hx hb dX2_bulbOf_118 (by decide) ?_
            refine lv_isub hx hb dX2_bulbOf_119 (xk_top (pk_sub (by omega)) ?_)
            exact xk_reti B hI_4 hr rfl dX2_bulbOf_120 (Nat.le_of_ble_eq_true rfl) (Nat.le_of_ble_eq_true rfl) (⟨by unfold tl_bulbOf; rw [if_pos hc_5, if_neg hs_0, if_neg hs_1, if_pos hs_2]; exact congrArg (fun z => some (Value.int z)) (tl_it_s hc_100 (by omega)), rfl⟩)
          · refine lv_bipush (v := (-4)) hx hb dX2_bulbOf_103 (by decide) ?_
            refine lv_goto (tgt := 120) hx hb dX2_bulbOf_105 (by decide) ?_
            exact xk_reti B hI_4 hr rfl dX2_bulbOf_120 (Nat.le_of_ble_eq_true rfl) (Nat.le_of_ble_eq_true rfl) (⟨by unfold tl_bulbOf; rw [if_pos hc_5, if_neg hs_0, if_neg hs_1, if_pos hs_2]; rw [hc_100]; rfl, rfl⟩)
        · by_cases hs_3 : y = nI 3
          · refine lv_tableIn (tgt := 90) (off := 74) hx hb dX2_bulbOf_16 (by rw [hs_3]; decide) (by rw [hs_3]; decide) (by rw [hs_3]; decide) (by decide) ?_
            refine lv_aload_n hx hb dX2_bulbOf_90 rfl (lv_at hl 1 rfl) ?_
            refine xk_get B hI_4 hO rfl in_X2 0 (by decide) q1432 rfl dX2_bulbOf_91 ?_
            refine lv_iload_n hx hb dX2_bulbOf_94 rfl (lv_at hl 0 rfl) ?_
            refine lv_iload_n hx hb dX2_bulbOf_95 rfl (lv_at hl 3 rfl) ?_
            refine xk_top hs_3 ?_
            refine lv_iadd hx hb dX2_bulbOf_96 (xk_top (nI_add _ _) ?_)
            refine lv_iconst (v := nI 1) hx hb dX2_bulbOf_97 (by decide) ?_
            refine lv_isub hx hb dX2_bulbOf_98 (xk_top (pk_sub (by omega)) ?_)
            refine xk_top (congrArg nI (show _ = 14 + 7 * tl_n x + 2 by omega)) ?_
            refine xk_iald B hI_4 hA0 (by omega) (by decide) dX2_bulbOf_99 ?_
            refine xk_if_ne (tgt := 108) hx hb (by omega) dX2_bulbOf_100 (by decide) (fun hc_100 => ?_) (fun hc_100 => ?_)
            · refine lv_aload_n hx hb dX2_bulbOf_108 rfl (lv_at hl 1 rfl) ?_
              refine xk_get B hI_4 hO rfl in_X2 0 (by decide) q1432 rfl dX2_bulbOf_109 ?_
              refine lv_iload_n hx hb dX2_bulbOf_112 rfl (lv_at hl 0 rfl) ?_
              refine lv_iload_n hx hb dX2_bulbOf_113 rfl (lv_at hl 3 rfl) ?_
              refine xk_top hs_3 ?_
              refine lv_iadd hx hb dX2_bulbOf_114 (xk_top (nI_add _ _) ?_)
              refine lv_iconst (v := nI 1) hx hb dX2_bulbOf_115 (by decide) ?_
              refine lv_isub hx hb dX2_bulbOf_116 (xk_top (pk_sub (by omega)) ?_)
              refine xk_top (congrArg nI (show _ = 14 + 7 * tl_n x + 2 by omega)) ?_
              refine xk_iald B hI_4 hA0 (by omega) (by decide) dX2_bulbOf_117 ?_
              refine lv_iconst (v := nI 1) hx hb dX2_bulbOf_118 (by decide) ?_
              refine lv_isub hx hb dX2_bulbOf_119 (xk_top (pk_sub (by omega)) ?_)
              exact xk_reti B hI_4 hr rfl dX2_bulbOf_120 (Nat.le_of_ble_eq_true rfl) (Nat.le_of_ble_eq_true rfl) (⟨by unfold tl_bulbOf; rw [if_pos hc_5, if_neg hs_0, if_neg hs_1, if_neg hs_2, if_pos hs_3]; exact congrArg (fun z => some (Value.int z)) (tl_it_s hc_100 (by omega)), rfl⟩)
            · refine lv_bipush (v := (-4)) hx hb dX2_bulbOf_103 (by decide) ?_
              refine lv_goto (tgt := 120) hx hb dX2_bulbOf_105 (by decide) ?_
              exact xk_reti B hI_4 hr rfl dX2_bulbOf_120 (Nat.le_of_ble_eq_true rfl) (Nat.le_of_ble_eq_true rfl) (⟨by unfold tl_bulbOf; rw [if_pos hc_5, if_neg hs_0, if_neg hs_1, if_neg hs_2, if_pos hs_3]; rw [hc_100]; rfl, rfl⟩)
          · by_cases hs_4 : y = nI 4
            · refine lv_tableIn (tgt := 121) (off := 105) hx hb dX2_bulbOf_16 (by rw [hs_4]; decide) (by rw [hs_4]; decide) (by rw [hs_4]; decide) (by decide) ?_
              refine lv_aload_n hx hb dX2_bulbOf_121 rfl (lv_at hl 1 rfl) ?_
              refine xk_get B hI_4 hO rfl in_X2 0 (by decide) q1432 rfl dX2_bulbOf_122 ?_
              refine lv_iload_n hx hb dX2_bulbOf_125 rfl (lv_at hl 0 rfl) ?_
              refine lv_iload_n hx hb dX2_bulbOf_126 rfl (lv_at hl 3 rfl) ?_
              refine xk_top hs_4 ?_
              refine lv_iadd hx hb dX2_bulbOf_127 (xk_top (nI_add _ _) ?_)
              refine lv_iconst (v := nI 1) hx hb dX2_bulbOf_128 (by decide) ?_
              refine lv_isub hx hb dX2_bulbOf_129 (xk_top (pk_sub (by omega)) ?_)
              refine xk_top (congrArg nI (show _ = 14 + 7 * tl_n x + 3 by omega)) ?_
              refine xk_iald B hI_4 hA0 (by omega) (by decide) dX2_bulbOf_130 ?_
              exact xk_reti B hI_4 hr rfl dX2_bulbOf_131 (Nat.le_of_ble_eq_true rfl) (Nat.le_of_ble_eq_true rfl) (⟨by unfold tl_bulbOf; rw [if_pos hc_5, if_neg hs_0, if_neg hs_1, if_neg hs_2, if_neg hs_3, if_pos hs_4], rfl⟩)
            · by_cases hs_5 : y = nI 5
              · refine lv_tableIn (tgt := 121) (off := 105) hx hb dX2_bulbOf_16 (by rw [hs_5]; decide) (by rw [hs_5]; decide) (by rw [hs_5]; decide) (by decide) ?_
                refine lv_aload_n hx hb dX2_bulbOf_121 rfl (lv_at hl 1 rfl) ?_
                refine xk_get B hI_4 hO rfl in_X2 0 (by decide) q1432 rfl dX2_bulbOf_122 ?_
                refine lv_iload_n hx hb dX2_bulbOf_125 rfl (lv_at hl 0 rfl) ?_
                refine lv_iload_n hx hb dX2_bulbOf_126 rfl (lv_at hl 3 rfl) ?_
                refine xk_top hs_5 ?_
                refine lv_iadd hx hb dX2_bulbOf_127 (xk_top (nI_add _ _) ?_)
                refine lv_iconst (v := nI 1) hx hb dX2_bulbOf_128 (by decide) ?_
                refine lv_isub hx hb dX2_bulbOf_129 (xk_top (pk_sub (by omega)) ?_)
                refine xk_top (congrArg nI (show _ = 14 + 7 * tl_n x + 4 by omega)) ?_
                refine xk_iald B hI_4 hA0 (by omega) (by decide) dX2_bulbOf_130 ?_
                exact xk_reti B hI_4 hr rfl dX2_bulbOf_131 (Nat.le_of_ble_eq_true rfl) (Nat.le_of_ble_eq_true rfl) (⟨by unfold tl_bulbOf; rw [if_pos hc_5, if_neg hs_0, if_neg hs_1, if_neg hs_2, if_neg hs_3, if_neg hs_4, if_pos hs_5], rfl⟩)
              · by_cases hs_6 : y = nI 6
                · refine lv_tableIn (tgt := 121) (off := 105) hx hb dX2_bulbOf_16 (by rw [hs_6]; decide) (by rw [hs_6]; decide) (by rw [hs_6]; decide) (by decide) ?_
                  refine lv_aload_n hx hb dX2_bulbOf_121 rfl (lv_at hl 1 rfl) ?_
                  refine xk_get B hI_4 hO rfl in_X2 0 (by decide) q1432 rfl dX2_bulbOf_122 ?_
                  refine lv_iload_n hx hb dX2_bulbOf_125 rfl (lv_at hl 0 rfl) ?_
                  refine lv_iload_n hx hb dX2_bulbOf_126 rfl (lv_at hl 3 rfl) ?_
                  refine xk_top hs_6 ?_
                  refine lv_iadd hx hb dX2_bulbOf_127 (xk_top (nI_add _ _) ?_)
                  refine lv_iconst (v := nI 1) hx hb dX2_bulbOf_128 (by decide) ?_
                  refine lv_isub hx hb dX2_bulbOf_129 (xk_top (pk_sub (by omega)) ?_)
                  refine xk_top (congrArg nI (show _ = 14 + 7 * tl_n x + 5 by omega)) ?_
                  refine xk_iald B hI_4 hA0 (by omega) (by decide) dX2_bulbOf_130 ?_
                  exact xk_reti B hI_4 hr rfl dX2_bulbOf_131 (Nat.le_of_ble_eq_true rfl) (Nat.le_of_ble_eq_true rfl) (⟨by unfold tl_bulbOf; rw [if_pos hc_5, if_neg hs_0, if_neg hs_1, if_neg hs_2, if_neg hs_3, if_neg hs_4, if_neg hs_5, if_pos hs_6], rfl⟩)
                · by_cases hs_7 : y = nI 7
                  · refine lv_tableIn (tgt := 121) (off := 105) hx hb dX2_bulbOf_16 (by rw [hs_7]; decide) (by rw [hs_7]; decide) (by rw [hs_7]; decide) (by decide) ?_
                    refine lv_aload_n hx hb dX2_bulbOf_121 rfl (lv_at hl 1 rfl) ?_
                    refine xk_get B hI_4 hO rfl in_X2 0 (by decide) q1432 rfl dX2_bulbOf_122 ?_
                    refine lv_iload_n hx hb dX2_bulbOf_125 rfl (lv_at hl 0 rfl) ?_
                    refine lv_iload_n hx hb dX2_bulbOf_126 rfl (lv_at hl 3 rfl) ?_
                    refine xk_top hs_7 ?_
                    refine lv_iadd hx hb dX2_bulbOf_127 (xk_top (nI_add _ _) ?_)
                    refine lv_iconst (v := nI 1) hx hb dX2_bulbOf_128 (by decide) ?_
                    refine lv_isub hx hb dX2_bulbOf_129 (xk_top (pk_sub (by omega)) ?_)
                    refine xk_top (congrArg nI (show _ = 14 + 7 * tl_n x + 6 by omega)) ?_
                    refine xk_iald B hI_4 hA0 (by omega) (by decide) dX2_bulbOf_130 ?_
                    exact xk_reti B hI_4 hr rfl dX2_bulbOf_131 (Nat.le_of_ble_eq_true rfl) (Nat.le_of_ble_eq_true rfl) (⟨by unfold tl_bulbOf; rw [if_pos hc_5, if_neg hs_0, if_neg hs_1, if_neg hs_2, if_neg hs_3, if_neg hs_4, if_neg hs_5, if_neg hs_6, if_pos hs_7], rfl⟩)
                  · by_cases hs_8 : y = nI 8
                    · refine lv_tableIn (tgt := 132) (off := 116) hx hb dX2_bulbOf_16 (by rw [hs_8]; decide) (by rw [hs_8]; decide) (by rw [hs_8]; decide) (by decide) ?_
                      refine lv_aload_n hx hb dX2_bulbOf_132 rfl (lv_at hl 1 rfl) ?_
                      refine lv_iload_n hx hb dX2_bulbOf_133 rfl (lv_at hl 2 rfl) ?_
                      refine xk_top hx1 ?_
                      refine xk_ri0 (xk_cV B hI_4 hl [.int (nI (tl_n x))] [] 1 (m2_children g hM0 hk0 (b := tl_n x) (by omega)) hO rfl (lw_V q1644 q1646 qs53 q79 q1647) ⟨rfl, by decide +kernel, by decide +kernel, by decide +kernel⟩ ⟨Nat.le_of_ble_eq_true rfl, Nat.le_of_ble_eq_true rfl⟩ rfl rfl (Nat.le_of_ble_eq_true rfl) dX2_bulbOf_134 (Nat.le_of_ble_eq_true rfl) (Nat.le_of_ble_eq_true rfl)) hI_4 (fun H_11 L_12 hI_10 => ?_)
                      refine xk_top (y := nI (tl_chd (A 0) (tl_n x) (A 0 0))) rfl ?_
                      exact xk_reti B hI_10 hr rfl dX2_bulbOf_137 (Nat.le_of_ble_eq_true rfl) (Nat.le_of_ble_eq_true rfl) (⟨by unfold tl_bulbOf; rw [if_pos hc_5, if_neg hs_0, if_neg hs_1, if_neg hs_2, if_neg hs_3, if_neg hs_4, if_neg hs_5, if_neg hs_6, if_neg hs_7, if_pos hs_8], rfl⟩)
                    · by_cases hs_9 : y = nI 9
                      · refine lv_tableIn (tgt := 138) (off := 122) hx hb dX2_bulbOf_16 (by rw [hs_9]; decide) (by rw [hs_9]; decide) (by rw [hs_9]; decide) (by decide) ?_
                        have q9 := tl_xor256 qb.1 kw
                        refine lv_aload_n hx hb dX2_bulbOf_138 rfl (lv_at hl 1 rfl) ?_
                        refine xk_get B hI_4 hO rfl in_X2 0 (by decide) q1432 rfl dX2_bulbOf_139 ?_
                        refine lv_iload_n hx hb dX2_bulbOf_142 rfl (lv_at hl 0 rfl) ?_
                        refine xk_iald B hI_4 hA0 (by omega) (by decide) dX2_bulbOf_143 ?_
                        refine lv_aload_n hx hb dX2_bulbOf_144 rfl (lv_at hl 1 rfl) ?_
                        refine xk_get B hI_4 hO rfl in_X2 0 (by decide) q1432 rfl dX2_bulbOf_145 ?_
                        refine lv_iconst (v := nI 2) hx hb dX2_bulbOf_148 (by decide) ?_
                        refine xk_iald B hI_4 hA0 (by omega) (by decide) dX2_bulbOf_149 ?_
                        refine lv_ixor hx hb dX2_bulbOf_150 (xk_top (xk_xor _ _) ?_)
                        refine xk_ri0 (xk_cS B hI_4 hl [.int (nI ((A 0 (14 + 7 * (tl_n x))) ^^^ (A 0 2)))] [] 1 (m2_ones g (pt := (A 0 (14 + 7 * (tl_n x))) ^^^ (A 0 2)) (by omega)) (lw_S q1648 q1649 q79 q1650) ⟨by decide +kernel, by decide +kernel, by decide +kernel⟩ ⟨Nat.le_of_ble_eq_true rfl, Nat.le_of_ble_eq_true rfl⟩ rfl rfl (Nat.le_of_ble_eq_true rfl) dX2_bulbOf_151 (Nat.le_of_ble_eq_true rfl) (Nat.le_of_ble_eq_true rfl)) hI_4 (fun H_14 L_15 hI_13 => ?_)
                        refine xk_top (y := nI (tl_ones ((A 0 (14 + 7 * (tl_n x))) ^^^ (A 0 2)) 8)) rfl ?_
                        exact xk_reti B hI_13 hr rfl dX2_bulbOf_154 (Nat.le_of_ble_eq_true rfl) (Nat.le_of_ble_eq_true rfl) (⟨by unfold tl_bulbOf; rw [if_pos hc_5, if_neg hs_0, if_neg hs_1, if_neg hs_2, if_neg hs_3, if_neg hs_4, if_neg hs_5, if_neg hs_6, if_neg hs_7, if_neg hs_8, if_pos hs_9], rfl⟩)
                      · refine lv_tableOut (tgt := 155) hx hb dX2_bulbOf_16 (tl_swout (n := 9) (fun i hi => by rcases (show i = 0 ∨ i = 1 ∨ i = 2 ∨ i = 3 ∨ i = 4 ∨ i = 5 ∨ i = 6 ∨ i = 7 ∨ i = 8 ∨ i = 9 by omega) with rfl | rfl | rfl | rfl | rfl | rfl | rfl | rfl | rfl | rfl <;> assumption)) (by decide) ?_
                        refine lv_bipush (v := (-2)) hx hb dX2_bulbOf_155 (by decide) ?_
                        exact xk_reti B hI_4 hr rfl dX2_bulbOf_157 (Nat.le_of_ble_eq_true rfl) (Nat.le_of_ble_eq_true rfl) (⟨by unfold tl_bulbOf; rw [if_pos hc_5, if_neg hs_0, if_neg hs_1, if_neg hs_2, if_neg hs_3, if_neg hs_4, if_neg hs_5, if_neg hs_6, if_neg hs_7, if_neg hs_8, if_neg hs_9], rfl⟩)
  · refine lv_iconst (v := (-1)) hx hb dX2_bulbOf_8 (by decide) ?_
    exact xk_reti B hI_1 hr rfl dX2_bulbOf_9 (Nat.le_of_ble_eq_true rfl) (Nat.le_of_ble_eq_true rfl) (⟨congrArg (fun z => some (Value.int z)) (if_neg (by rw [hc_5]; decide)).symm, rfl⟩)
set_option maxHeartbeats 4000000 in
theorem m2_apart (g : xk_G) {X : xk_H} {o : Nat} {ad : Nat → Nat} {A : Nat → Nat → Nat} {S : Nat → Nat} (hM : tm_Ok g X o ad A S) (hk : tl_inv (A 0)) (x y : Int32) : xk_C g yX2_apart (ws_ yX2_apart cX2_apart 3 (some .int)) ({ frames := 2, cells := 0, slots := 0, locals := 46 } : Room) [.ref o, .int x, .int y] X (xk_Qi (tl_apart (A 0) x y) (fun X1 => X1 = X)) := by
  refine xk_ofW (by decide +kernel) (Nat.le_of_ble_eq_true rfl) (fun p e s m args below meth c B hr hname hargs hI ls hl => ?_)
  have B : xk_B g p s m args meth c RX2 cX2_apart 3 := B
  have hl : lv_has ls 3 [(0, .ref o), (1, .int x), (2, .int y)] := hl
  have hx := B.1
  have hb := B.2.1
  have hM0 := hM
  obtain ⟨hO, hA0, hA1, hA2, hA3, hA4, hA5, hA6, hA7, hA8, hA9⟩ := hM
  have hk0 := hk
  obtain ⟨k0, kb, kw, kl, ks, kr1, kr2, kwt, kL⟩ := hk
  have hfr : xk_fr o X X := xk_fr.rf
  refine lv_aload_n hx hb dX2_apart_0 rfl (lv_at hl 0 rfl) ?_
  refine lv_iload_n hx hb dX2_apart_1 rfl (lv_at hl 1 rfl) ?_
  refine xk_ri0 (xk_cV B hI hl [.int x] [] 1 (m2_isBulb g hM0 hk0 x) hO rfl (lw_V q1543 q1545 qs37 q79 q1546) ⟨rfl, by decide +kernel, by decide +kernel, by decide +kernel⟩ ⟨Nat.le_of_ble_eq_true rfl, Nat.le_of_ble_eq_true rfl⟩ rfl rfl (Nat.le_of_ble_eq_true rfl) dX2_apart_2 (Nat.le_of_ble_eq_true rfl) (Nat.le_of_ble_eq_true rfl)) hI (fun H_2 L_3 hI_1 => ?_)
  refine xk_top (y := xk_z (tl_isb (A 0) (x))) rfl ?_
  refine xk_if_eq_z (tgt := 41) hx hb dX2_apart_5 (by decide) (fun hc_5 => ?_) (fun hc_5 => ?_)
  · refine lv_iconst (v := (-1)) hx hb dX2_apart_41 (by decide) ?_
    exact xk_reti B hI_1 hr rfl dX2_apart_42 (Nat.le_of_ble_eq_true rfl) (Nat.le_of_ble_eq_true rfl) (⟨by unfold tl_apart; rw [if_neg (by rw [hc_5]; decide)], rfl⟩)
  · refine lv_aload_n hx hb dX2_apart_8 rfl (lv_at hl 0 rfl) ?_
    refine lv_iload_n hx hb dX2_apart_9 rfl (lv_at hl 2 rfl) ?_
    refine xk_ri0 (xk_cV B hI_1 hl [.int y] [] 1 (m2_isBulb g hM0 hk0 y) hO rfl (lw_V q1543 q1545 qs37 q79 q1546) ⟨rfl, by decide +kernel, by decide +kernel, by decide +kernel⟩ ⟨Nat.le_of_ble_eq_true rfl, Nat.le_of_ble_eq_true rfl⟩ rfl rfl (Nat.le_of_ble_eq_true rfl) dX2_apart_10 (Nat.le_of_ble_eq_true rfl) (Nat.le_of_ble_eq_true rfl)) hI_1 (fun H_5 L_6 hI_4 => ?_)
    refine xk_top (y := xk_z (tl_isb (A 0) (y))) rfl ?_
    refine xk_if_eq_z (tgt := 41) hx hb dX2_apart_13 (by decide) (fun hc_13 => ?_) (fun hc_13 => ?_)
    · refine lv_iconst (v := (-1)) hx hb dX2_apart_41 (by decide) ?_
      exact xk_reti B hI_4 hr rfl dX2_apart_42 (Nat.le_of_ble_eq_true rfl) (Nat.le_of_ble_eq_true rfl) (⟨by unfold tl_apart; rw [if_pos hc_5, if_neg (by rw [hc_13]; decide)], rfl⟩)
    · obtain ⟨hx1, hx2⟩ := tl_isb_k hc_5
      obtain ⟨hy1, hy2⟩ := tl_isb_k hc_13
      have qx := kb _ hx2
      have qy := kb _ hy2
      have q9 := tl_xor256 qx.1 qy.1
      refine lv_aload_n hx hb dX2_apart_16 rfl (lv_at hl 0 rfl) ?_
      refine xk_get B hI_4 hO rfl in_X2 0 (by decide) q1432 rfl dX2_apart_17 ?_
      refine lv_iload_n hx hb dX2_apart_20 rfl (lv_at hl 1 rfl) ?_
      refine xk_top hx1 ?_
      refine xk_ri0 (xk_cS B hI_4 hl [.int (nI (tl_n x))] [.ref (ad 0)] 1 (m2_of g (tl_n x)) (lw_S q1524 q1525 q79 q1526) ⟨by decide +kernel, by decide +kernel, by decide +kernel⟩ ⟨Nat.le_of_ble_eq_true rfl, Nat.le_of_ble_eq_true rfl⟩ rfl rfl (Nat.le_of_ble_eq_true rfl) dX2_apart_21 (Nat.le_of_ble_eq_true rfl) (Nat.le_of_ble_eq_true rfl)) hI_4 (fun H_8 L_9 hI_7 => ?_)
      refine xk_top (y := nI (14 + 7 * (tl_n x))) rfl ?_
      refine xk_iald B hI_7 hA0 (by omega) (by decide) dX2_apart_24 ?_
      refine lv_aload_n hx hb dX2_apart_25 rfl (lv_at hl 0 rfl) ?_
      refine xk_get B hI_7 hO rfl in_X2 0 (by decide) q1432 rfl dX2_apart_26 ?_
      refine lv_iload_n hx hb dX2_apart_29 rfl (lv_at hl 2 rfl) ?_
      refine xk_top hy1 ?_
      refine xk_ri0 (xk_cS B hI_7 hl [.int (nI (tl_n y))] [.ref (ad 0), .int (nI (A 0 (14 + 7 * (tl_n x))))] 1 (m2_of g (tl_n y)) (lw_S q1524 q1525 q79 q1526) ⟨by decide +kernel, by decide +kernel, by decide +kernel⟩ ⟨Nat.le_of_ble_eq_true rfl, Nat.le_of_ble_eq_true rfl⟩ rfl rfl (Nat.le_of_ble_eq_true rfl) dX2_apart_30 (Nat.le_of_ble_eq_true rfl) (Nat.le_of_ble_eq_true rfl)) hI_7 (fun H_11 L_12 hI_10 => ?_)
      refine xk_top (y := nI (14 + 7 * (tl_n y))) rfl ?_
      refine xk_iald B hI_10 hA0 (by omega) (by decide) dX2_apart_33 ?_
      refine lv_ixor hx hb dX2_apart_34 (xk_top (xk_xor _ _) ?_)
      refine xk_ri0 (xk_cS B hI_10 hl [.int (nI ((A 0 (14 + 7 * (tl_n x))) ^^^ (A 0 (14 + 7 * (tl_n y)))))] [] 1 (m2_ones g (pt := (A 0 (14 + 7 * (tl_n x))) ^^^ (A 0 (14 + 7 * (tl_n y)))) (by omega)) (lw_S q1648 q1649 q79 q1650) ⟨by decide +kernel, by decide +kernel, by decide +kernel⟩ ⟨Nat.le_of_ble_eq_true rfl, Nat.le_of_ble_eq_true rfl⟩ rfl rfl (Nat.le_of_ble_eq_true rfl) dX2_apart_35 (Nat.le_of_ble_eq_true rfl) (Nat.le_of_ble_eq_true rfl)) hI_10 (fun H_14 L_15 hI_13 => ?_)
      refine xk_top (y := nI (tl_ones ((A 0 (14 + 7 * (tl_n x))) ^^^ (A 0 (14 + 7 * (tl_n y)))) 8)) rfl ?_
      refine lv_goto (tgt := 42) hx hb dX2_apart_38 (by decide) ?_
      exact xk_reti B hI_13 hr rfl dX2_apart_42 (Nat.le_of_ble_eq_true rfl) (Nat.le_of_ble_eq_true rfl) (⟨by unfold tl_apart; rw [if_pos hc_5, if_pos hc_13], rfl⟩)
