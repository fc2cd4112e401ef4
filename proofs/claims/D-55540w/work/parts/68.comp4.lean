/-! the component: printed by tools/comp4.py -/
set_option maxRecDepth 100000
set_option maxHeartbeats 4000000 in
theorem c2_drawn (g : xk_G) {X : xk_H} {r b w l : Nat} {m9 : Nat → Nat} (hO : X b = some ((r, 1), .inr (2, [.ref l, .ref w, .int (nI (m9 2)), .int (nI (m9 3)), .int (nI (m9 4)), .int (nI (m9 5)), .int (nI (m9 1))]))) (hs : m9 4 ≤ 999999) : xk_C g yX1_drawn (ws_ yX1_drawn cX1_drawn 1 (some .int)) ({ frames := 0, cells := 0, slots := 0, locals := 0 } : Room) [.ref b] X (xk_Qi (nI (tl_seed m9)) (fun X1 => X1 b = some ((r, 1), .inr (2, [.ref l, .ref w, .int (nI (tl_draw m9 2)), .int (nI (tl_draw m9 3)), .int (nI (tl_draw m9 4)), .int (nI (tl_draw m9 5)), .int (nI (tl_draw m9 1))])) ∧ xk_f1 (r, 1) X X1)) := by
  refine xk_ofW (by decide +kernel) (Nat.le_of_ble_eq_true rfl) (fun p e s m args below meth c B hr hname hargs hI ls hl => ?_)
  have B : xk_B g p s m args meth c RX1 cX1_drawn 1 := B
  have hl : lv_has ls 1 [(0, .ref b)] := hl
  have hx := B.1
  have hb := B.2.1
  refine lv_aload_n hx hb dX1_drawn_0 rfl (lv_at hl 0 rfl) ?_
  refine lv_sipush (v := nI 421) hx hb dX1_drawn_1 (by decide) ?_
  refine lv_aload_n hx hb dX1_drawn_4 rfl (lv_at hl 0 rfl) ?_
  refine xk_get B hI hO rfl in_X1 4 (by decide) q153 rfl dX1_drawn_5 ?_
  refine lv_imul hx hb dX1_drawn_8 (xk_top (pk_mul _ _) ?_)
  refine lv_sipush (v := nI 1663) hx hb dX1_drawn_9 (by decide) ?_
  refine lv_iadd hx hb dX1_drawn_12 (xk_top (nI_add _ _) ?_)
  refine lv_sipush (v := nI 7875) hx hb dX1_drawn_13 (by decide) ?_
  refine lv_irem hx hb dX1_drawn_16 (xk_ne0 (by omega) (by omega)) (xk_top (pk_rem (by omega) (by omega) (by omega)) ?_)
  refine xk_top (congrArg nI ((tl_seed_eq m9).symm.trans tl_draw_4.symm)) ?_
  refine xk_put B hI hO rfl in_X1 tyX1 tyX1_ok nmX1 4 (by decide) q153 rfl rfl rfl (Nat.le_of_ble_eq_true rfl) dX1_drawn_17 (fun X_1 H_5 L_6 hf_3 hn_2 hI_4 => ?_)
  have hf_3 : X_1 b = some ((r, 1), .inr (2, [.ref l, .ref w, .int (nI (m9 2)), .int (nI (m9 3)), .int (nI (tl_draw m9 4)), .int (nI (m9 5)), .int (nI (m9 1))])) := hf_3
  have hfm_7 : xk_fx (fun o => o = (r, 1)) X X_1 := xk_fx.put xk_fx.rf hn_2 hO (Or.inl rfl)
  refine lv_aload_n hx hb dX1_drawn_20 rfl (lv_at hl 0 rfl) ?_
  refine xk_get B hI_4 hf_3 rfl in_X1 4 (by decide) q153 rfl dX1_drawn_21 ?_
  exact xk_reti B hI_4 hr rfl dX1_drawn_24 (Nat.le_of_ble_eq_true rfl) (Nat.le_of_ble_eq_true rfl) (⟨congrArg (fun z => some (Value.int (nI z))) tl_draw_4, hf_3, hfm_7⟩)
set_option maxHeartbeats 4000000 in
theorem c2_told (g : xk_G) {X : xk_H} {a9 b9 : Nat} (ha9 : a9 < 2147483648) (hb9 : b9 < 2147483648) : xk_CX g yX1_told (ws_ yX1_told cX1_told 2 (some .int)) ({ frames := 6, cells := 1, slots := 8, locals := 104 } : Room) [.int (nI a9), .int (nI b9)] X (fun v X1 => v = some (.int (nI a9)) ∧ ¬ a9 = b9 ∧ X1 = X) (fun E q X1 => a9 = b9 ∧ tb_re E q X1 (nI 4) (nI b9) ∧ xk_le X X1) := by
  refine xk_ofWX (by decide +kernel) (Nat.le_of_ble_eq_true rfl) (fun p e s m args below meth c B hex hr hname hargs hI ls hl => ?_)
  have B : xk_B g p s m args meth c RX1 cX1_told 2 := B
  have hl : lv_has ls 2 [(0, .int (nI a9)), (1, .int (nI b9))] := hl
  have hx := B.1
  have hb := B.2.1
  refine lv_iload_n hx hb dX1_told_0 rfl (lv_at hl 0 rfl) ?_
  refine lv_iload_n hx hb dX1_told_1 rfl (lv_at hl 1 rfl) ?_
  refine xk_icmp_ne (tgt := 9) hx hb (by omega) (by omega) dX1_told_2 (by decide) (fun hc_2 => ?_) (fun hc_2 => ?_)
  · refine lv_iconst (v := nI 0) hx hb dX1_told_9 (by decide) ?_
    refine lv_iconst (v := nI 4) hx hb dX1_told_10 (by decide) ?_
    refine lv_iload_n hx hb dX1_told_11 rfl (lv_at hl 1 rfl) ?_
    refine xk_runX (xk_cSNX B hI hl [.int (nI 0), .int (nI 4), .int (nI b9)] [] 3 (c0_refuseIf g (b9 := false) (x9 := nI 4) (y9 := nI b9)) q342 q343 q69 q344 ⟨by decide +kernel, by decide +kernel, by decide +kernel⟩ ⟨Nat.le_of_ble_eq_true rfl, Nat.le_of_ble_eq_true rfl⟩ rfl rfl (Nat.le_of_ble_eq_true rfl) dX1_told_12 (Nat.le_of_ble_eq_true rfl) (Nat.le_of_ble_eq_true rfl)) hI (fun E_4 q_5 ce_6 X_7 H_8 L_9 hq_10 hI_11 hce_12 hcv_13 hcl_14 => ?_) (fun v_15 X_16 H_2 L_3 hq_17 hI_1 => ?_)
    · obtain ⟨hb_18, hex_19, hle_20⟩ := hq_10
      have hfm_21 : xk_fx (fun _ => False) X X_7 := xk_fx.le xk_fx.rf hle_20
      exact absurd hb_18 (by decide)
    · obtain ⟨rfl, hz_12_22, hx_23⟩ := hq_17
      obtain rfl : X = X_16 := hx_23.symm
      refine W.eq (g2 := F0 m 15 ls []) rfl ?_
      refine lv_iload_n hx hb dX1_told_15 rfl (lv_at hl 0 rfl) ?_
      exact vx_ret (xk_reti B hI_1 hr rfl dX1_told_16 (Nat.le_of_ble_eq_true rfl) (Nat.le_of_ble_eq_true rfl) (⟨rfl, hc_2, rfl⟩))
  · refine lv_iconst (v := nI 1) hx hb dX1_told_5 (by decide) ?_
    refine lv_goto (tgt := 10) hx hb dX1_told_6 (by decide) ?_
    refine lv_iconst (v := nI 4) hx hb dX1_told_10 (by decide) ?_
    refine lv_iload_n hx hb dX1_told_11 rfl (lv_at hl 1 rfl) ?_
    refine xk_runX (xk_cSNX B hI hl [.int (nI 1), .int (nI 4), .int (nI b9)] [] 3 (c0_refuseIf g (b9 := true) (x9 := nI 4) (y9 := nI b9)) q342 q343 q69 q344 ⟨by decide +kernel, by decide +kernel, by decide +kernel⟩ ⟨Nat.le_of_ble_eq_true rfl, Nat.le_of_ble_eq_true rfl⟩ rfl rfl (Nat.le_of_ble_eq_true rfl) dX1_told_12 (Nat.le_of_ble_eq_true rfl) (Nat.le_of_ble_eq_true rfl)) hI (fun E_27 q_28 ce_29 X_30 H_31 L_32 hq_33 hI_34 hce_35 hcv_36 hcl_37 => ?_) (fun v_38 X_39 H_25 L_26 hq_40 hI_24 => ?_)
    · obtain ⟨hb_41, hex_42, hle_43⟩ := hq_33
      have hfm_44 : xk_fx (fun _ => False) X X_30 := xk_fx.le xk_fx.rf hle_43
      exact xk_outX B hI_34 hex hce_35 hcv_36 hcl_37 (Nat.le_of_ble_eq_true rfl) (Nat.le_of_ble_eq_true rfl) (⟨hc_2, hex_42, (xk_fx.tole hfm_44)⟩)
    · obtain ⟨rfl, hz_12_45, hx_46⟩ := hq_40
      obtain rfl : X = X_39 := hx_46.symm
      exact absurd hz_12_45 (by decide)
set_option maxHeartbeats 4000000 in
theorem c2_mustLive (g : xk_G) {X : xk_H} {o n9 p9 mo fa li ye ge sp : Nat} {ow : Nat × Nat} (hO : X o = some (ow, .inr (3, [.int (nI n9), .int (nI p9), .int (tm_it mo), .int (tm_it fa), .int (nI ye), .int (nI ge), .int (nI sp), .int (nI (1 - li))]))) (hli : li ≤ 1) : xk_CX g yX1_mustLive (ws_ yX1_mustLive cX1_mustLive 1 none) ({ frames := 6, cells := 1, slots := 8, locals := 104 } : Room) [.ref o] X (fun v X1 => v = none ∧ li = 1 ∧ X1 = X) (fun E q X1 => li = 0 ∧ tb_re E q X1 (nI 3) (nI n9) ∧ xk_le X X1) := by
  refine xk_ofWX (by decide +kernel) (Nat.le_of_ble_eq_true rfl) (fun p e s m args below meth c B hex hr hname hargs hI ls hl => ?_)
  have B : xk_B g p s m args meth c RX1 cX1_mustLive 1 := B
  have hl : lv_has ls 1 [(0, .ref o)] := hl
  have hx := B.1
  have hb := B.2.1
  refine lv_aload_n hx hb dX1_mustLive_0 rfl (lv_at hl 0 rfl) ?_
  refine xk_get B hI hO rfl in_X5 7 (by decide) q445 rfl dX1_mustLive_1 ?_
  refine xk_top (tl_z1 hli) ?_
  refine lv_iconst (v := nI 3) hx hb dX1_mustLive_4 (by decide) ?_
  refine lv_aload_n hx hb dX1_mustLive_5 rfl (lv_at hl 0 rfl) ?_
  refine xk_get B hI hO rfl in_X5 0 (by decide) q425 rfl dX1_mustLive_6 ?_
  refine xk_runX (xk_cSNX B hI hl [.int (xk_z (decide (li = 0))), .int (nI 3), .int (nI n9)] [] 3 (c0_refuseIf g (b9 := decide (li = 0)) (x9 := nI 3) (y9 := nI n9)) q342 q343 q69 q344 ⟨by decide +kernel, by decide +kernel, by decide +kernel⟩ ⟨Nat.le_of_ble_eq_true rfl, Nat.le_of_ble_eq_true rfl⟩ rfl rfl (Nat.le_of_ble_eq_true rfl) dX1_mustLive_9 (Nat.le_of_ble_eq_true rfl) (Nat.le_of_ble_eq_true rfl)) hI (fun E_4 q_5 ce_6 X_7 H_8 L_9 hq_10 hI_11 hce_12 hcv_13 hcl_14 => ?_) (fun v_15 X_16 H_2 L_3 hq_17 hI_1 => ?_)
  · obtain ⟨hb_18, hex_19, hle_20⟩ := hq_10
    have hfm_21 : xk_fx (fun _ => False) X X_7 := xk_fx.le xk_fx.rf hle_20
    exact xk_outX B hI_11 hex hce_12 hcv_13 hcl_14 (Nat.le_of_ble_eq_true rfl) (Nat.le_of_ble_eq_true rfl) (⟨of_decide_eq_true hb_18, hex_19, (xk_fx.tole hfm_21)⟩)
  · obtain ⟨rfl, hz_9_22, hx_23⟩ := hq_17
    obtain rfl : X = X_16 := hx_23.symm
    refine W.eq (g2 := F0 m 12 ls []) rfl ?_
    exact vx_ret (xk_retv B hI_1 hr dX1_mustLive_12 (Nat.le_of_ble_eq_true rfl) (Nat.le_of_ble_eq_true rfl) (⟨rfl, by have := of_decide_eq_false hz_9_22; omega, rfl⟩))
set_option maxHeartbeats 4000000 in
theorem c2_mayCome (g : xk_G) {X : xk_H} {r b w l a : Nat} {mc : Int32} {pp mm : Nat → Nat} (hB : tb_B g X r b w l a mc pp mm) (hk : tl_inv mm)  : xk_CX g yX1_mayCome (ws_ yX1_mayCome cX1_mayCome 1 none) ({ frames := 6, cells := 3, slots := 20, locals := 104 } : Room) [.ref b] X (fun v X1 => v = none ∧ tl_fullR mm = 0 ∧ xk_le X X1) (fun E q X1 => tl_fullR mm ≠ 0 ∧ tb_re E q X1 (nI (tl_fullR mm)) (nI (tl_fullD mm)) ∧ xk_le X X1) := by
  refine xk_ofWX (by decide +kernel) (Nat.le_of_ble_eq_true rfl) (fun p e s m args below meth c B hex hr hname hargs hI ls hl => ?_)
  have B : xk_B g p s m args meth c RX1 cX1_mayCome 1 := B
  have hl : lv_has ls 1 [(0, .ref b)] := hl
  have hx := B.1
  have hb := B.2.1
  obtain ⟨hB1, hB2, hL, hF⟩ := id hB
  have hk0 := hk
  obtain ⟨k0, kb, kw, kl, ks, kr1, kr2, kwt, kL⟩ := hk
  refine lv_aload_n hx hb dX1_mayCome_0 rfl (lv_at hl 0 rfl) ?_
  refine xk_get B hI hB1 rfl in_X1 0 (by decide) q145 rfl dX1_mayCome_1 ?_
  refine xk_ri0 (xk_cV B hI hl [] [] 0 (j2_size g hL) hL.1 rfl (lw_V q338 q339 q340 q73 q341) ⟨rfl, by decide +kernel, by decide +kernel, by decide +kernel⟩ ⟨Nat.le_of_ble_eq_true rfl, Nat.le_of_ble_eq_true rfl⟩ rfl rfl (Nat.le_of_ble_eq_true rfl) dX1_mayCome_4 (Nat.le_of_ble_eq_true rfl) (Nat.le_of_ble_eq_true rfl)) hI (fun H_2 L_3 hI_1 => ?_)
  refine xk_top (y := nI (mm 0)) rfl ?_
  refine lv_bipush (v := nI 40) hx hb dX1_mayCome_7 (by decide) ?_
  refine xk_icmp_ne (tgt := 16) hx hb (by omega) (by omega) dX1_mayCome_9 (by decide) (fun hc_9 => ?_) (fun hc_9 => ?_)
  · refine lv_iconst (v := nI 0) hx hb dX1_mayCome_16 (by decide) ?_
    refine lv_iconst (v := nI 1) hx hb dX1_mayCome_17 (by decide) ?_
    refine lv_bipush (v := nI 40) hx hb dX1_mayCome_18 (by decide) ?_
    refine xk_runX (xk_cSNX B hI_1 hl [.int (nI 0), .int (nI 1), .int (nI 40)] [] 3 (c0_refuseIf g (b9 := false) (x9 := nI 1) (y9 := nI 40)) q342 q343 q69 q344 ⟨by decide +kernel, by decide +kernel, by decide +kernel⟩ ⟨Nat.le_of_ble_eq_true rfl, Nat.le_of_ble_eq_true rfl⟩ rfl rfl (Nat.le_of_ble_eq_true rfl) dX1_mayCome_20 (Nat.le_of_ble_eq_true rfl) (Nat.le_of_ble_eq_true rfl)) hI_1 (fun E_7 q_8 ce_9 X_10 H_11 L_12 hq_13 hI_14 hce_15 hcv_16 hcl_17 => ?_) (fun v_18 X_19 H_5 L_6 hq_20 hI_4 => ?_)
    · obtain ⟨hb_21, hex_22, hle_23⟩ := hq_13
      have hfm_24 : xk_fx (fun _ => False) X X_10 := xk_fx.le xk_fx.rf hle_23
      exact absurd hb_21 (by decide)
    · obtain ⟨rfl, hz_20_25, hx_26⟩ := hq_20
      obtain rfl : X = X_19 := hx_26.symm
      refine W.eq (g2 := F0 m 23 ls []) rfl ?_
      refine lv_aload_n hx hb dX1_mayCome_23 rfl (lv_at hl 0 rfl) ?_
      have hB_27 : tb_B g X r b w l a mc pp mm := ⟨hB1, hB2, hL, hF⟩
      refine xk_ri (xk_cV B hI_4 hl [] [] 0 (c1_living g hB_27 hk0 ) hB1 rfl (lw_V q368 q369 q370 q70 q371) ⟨rfl, by decide +kernel, by decide +kernel, by decide +kernel⟩ ⟨Nat.le_of_ble_eq_true rfl, Nat.le_of_ble_eq_true rfl⟩ rfl rfl (Nat.le_of_ble_eq_true rfl) dX1_mayCome_24 (Nat.le_of_ble_eq_true rfl) (Nat.le_of_ble_eq_true rfl)) hI_4 (fun X_31 H_29 L_30 hq_32 hI_28 => ?_)
      refine xk_top (y := nI (tl_liv mm (mm 0))) rfl ?_
      have hfm_33 : xk_fx (fun _ => False) X X_31 := xk_fx.le xk_fx.rf hq_32
      refine lv_bipush (v := nI 12) hx hb dX1_mayCome_27 (by decide) ?_
      refine xk_icmp_ne (tgt := 36) hx hb (by omega) (by omega) dX1_mayCome_29 (by decide) (fun hc_29 => ?_) (fun hc_29 => ?_)
      · refine lv_iconst (v := nI 0) hx hb dX1_mayCome_36 (by decide) ?_
        refine lv_iconst (v := nI 2) hx hb dX1_mayCome_37 (by decide) ?_
        refine lv_bipush (v := nI 12) hx hb dX1_mayCome_38 (by decide) ?_
        refine xk_runX (xk_cSNX B hI_28 hl [.int (nI 0), .int (nI 2), .int (nI 12)] [] 3 (c0_refuseIf g (b9 := false) (x9 := nI 2) (y9 := nI 12)) q342 q343 q69 q344 ⟨by decide +kernel, by decide +kernel, by decide +kernel⟩ ⟨Nat.le_of_ble_eq_true rfl, Nat.le_of_ble_eq_true rfl⟩ rfl rfl (Nat.le_of_ble_eq_true rfl) dX1_mayCome_40 (Nat.le_of_ble_eq_true rfl) (Nat.le_of_ble_eq_true rfl)) hI_28 (fun E_37 q_38 ce_39 X_40 H_41 L_42 hq_43 hI_44 hce_45 hcv_46 hcl_47 => ?_) (fun v_48 X_49 H_35 L_36 hq_50 hI_34 => ?_)
        · obtain ⟨hb_51, hex_52, hle_53⟩ := hq_43
          have hfm_54 : xk_fx (fun _ => False) X X_40 := xk_fx.le hfm_33 hle_53
          exact absurd hb_51 (by decide)
        · obtain ⟨rfl, hz_40_55, hx_56⟩ := hq_50
          obtain rfl : X_31 = X_49 := hx_56.symm
          refine W.eq (g2 := F0 m 43 ls []) rfl ?_
          exact vx_ret (xk_retv B hI_34 hr dX1_mayCome_43 (Nat.le_of_ble_eq_true rfl) (Nat.le_of_ble_eq_true rfl) (⟨rfl, (if_neg hc_9).trans (if_neg hc_29), (xk_fx.tole hfm_33)⟩))
      · refine lv_iconst (v := nI 1) hx hb dX1_mayCome_32 (by decide) ?_
        refine lv_goto (tgt := 37) hx hb dX1_mayCome_33 (by decide) ?_
        refine lv_iconst (v := nI 2) hx hb dX1_mayCome_37 (by decide) ?_
        refine lv_bipush (v := nI 12) hx hb dX1_mayCome_38 (by decide) ?_
        refine xk_runX (xk_cSNX B hI_28 hl [.int (nI 1), .int (nI 2), .int (nI 12)] [] 3 (c0_refuseIf g (b9 := true) (x9 := nI 2) (y9 := nI 12)) q342 q343 q69 q344 ⟨by decide +kernel, by decide +kernel, by decide +kernel⟩ ⟨Nat.le_of_ble_eq_true rfl, Nat.le_of_ble_eq_true rfl⟩ rfl rfl (Nat.le_of_ble_eq_true rfl) dX1_mayCome_40 (Nat.le_of_ble_eq_true rfl) (Nat.le_of_ble_eq_true rfl)) hI_28 (fun E_60 q_61 ce_62 X_63 H_64 L_65 hq_66 hI_67 hce_68 hcv_69 hcl_70 => ?_) (fun v_71 X_72 H_58 L_59 hq_73 hI_57 => ?_)
        · obtain ⟨hb_74, hex_75, hle_76⟩ := hq_66
          have hfm_77 : xk_fx (fun _ => False) X X_63 := xk_fx.le hfm_33 hle_76
          exact xk_outX B hI_67 hex hce_68 hcv_69 hcl_70 (Nat.le_of_ble_eq_true rfl) (Nat.le_of_ble_eq_true rfl) (⟨by rw [show tl_fullR mm = 2 from (if_neg hc_9).trans (if_pos hc_29)]; decide, by rw [show tl_fullR mm = 2 from (if_neg hc_9).trans (if_pos hc_29), show tl_fullD mm = 12 from if_neg hc_9]; exact hex_75, (xk_fx.tole hfm_77)⟩)
        · obtain ⟨rfl, hz_40_78, hx_79⟩ := hq_73
          obtain rfl : X_31 = X_72 := hx_79.symm
          exact absurd hz_40_78 (by decide)
  · refine lv_iconst (v := nI 1) hx hb dX1_mayCome_12 (by decide) ?_
    refine lv_goto (tgt := 17) hx hb dX1_mayCome_13 (by decide) ?_
    refine lv_iconst (v := nI 1) hx hb dX1_mayCome_17 (by decide) ?_
    refine lv_bipush (v := nI 40) hx hb dX1_mayCome_18 (by decide) ?_
    refine xk_runX (xk_cSNX B hI_1 hl [.int (nI 1), .int (nI 1), .int (nI 40)] [] 3 (c0_refuseIf g (b9 := true) (x9 := nI 1) (y9 := nI 40)) q342 q343 q69 q344 ⟨by decide +kernel, by decide +kernel, by decide +kernel⟩ ⟨Nat.le_of_ble_eq_true rfl, Nat.le_of_ble_eq_true rfl⟩ rfl rfl (Nat.le_of_ble_eq_true rfl) dX1_mayCome_20 (Nat.le_of_ble_eq_true rfl) (Nat.le_of_ble_eq_true rfl)) hI_1 (fun E_83 q_84 ce_85 X_86 H_87 L_88 hq_89 hI_90 hce_91 hcv_92 hcl_93 => ?_) (fun v_94 X_95 H_81 L_82 hq_96 hI_80 => ?_)
    · obtain ⟨hb_97, hex_98, hle_99⟩ := hq_89
      have hfm_100 : xk_fx (fun _ => False) X X_86 := xk_fx.le xk_fx.rf hle_99
      exact xk_outX B hI_90 hex hce_91 hcv_92 hcl_93 (Nat.le_of_ble_eq_true rfl) (Nat.le_of_ble_eq_true rfl) (⟨by rw [show tl_fullR mm = 1 from if_pos hc_9]; decide, by rw [show tl_fullR mm = 1 from if_pos hc_9, show tl_fullD mm = 40 from if_pos hc_9]; exact hex_98, (xk_fx.tole hfm_100)⟩)
    · obtain ⟨rfl, hz_20_101, hx_102⟩ := hq_96
      obtain rfl : X = X_95 := hx_102.symm
      exact absurd hz_20_101 (by decide)
set_option maxHeartbeats 4000000 in
theorem c2_comes (g : xk_G) {X : xk_H} {r b w l a o n n9 p9 ye ge sp hd : Nat} {x2 x3 mc : Int32} {pp m9 : Nat → Nat} {ow : Nat × Nat} (hB : X b = some ((r, 1), .inr (2, [.ref l, .ref w, .int (nI (m9 2)), .int (nI (m9 3)), .int (nI (m9 4)), .int (nI (m9 5)), .int (nI (m9 1))]))) (hL : tb_L g X l a (r, 3) (r, 4) mc n pp) (hn : n ≤ 48) (hO : X o = some (ow, .inr (3, [.int (nI n9), .int (nI p9), .int x2, .int x3, .int (nI ye), .int (nI ge), .int (nI sp), .int (nI hd)]))) (h3 : ow ≠ (r, 3)) (h4 : ow ≠ (r, 4)) (hob : ∀ i, i < n → xk_is2 g X (r, 3) (r, 4) (pp i)) : xk_C g yX1_comes (ws_ yX1_comes cX1_comes 3 (some .int)) ({ frames := 7, cells := tl_gc n, slots := tl_gs n, locals := 149 } : Room) [.ref b, .ref o] X (xk_Qi (nI n9) (fun X1 => ∃ q, tb_L g X1 l q (r, 3) (r, 4) (mc + nI 1) (n + 1) (va_up pp n o) ∧ xk_f2 (r, 3) (r, 4) X X1)) := by
  refine xk_ofW (by decide +kernel) (Nat.le_of_ble_eq_true rfl) (fun p e s m args below meth c B hr hname hargs hI ls hl => ?_)
  have B : xk_B g p s m args meth c RX1 cX1_comes 3 := B
  have hl : lv_has ls 3 [(0, .ref b), (1, .ref o)] := hl
  have hx := B.1
  have hb := B.2.1
  refine lv_aload_n hx hb dX1_comes_0 rfl (lv_at hl 0 rfl) ?_
  refine xk_get B hI hB rfl in_X1 0 (by decide) q145 rfl dX1_comes_1 ?_
  refine lv_aload_n hx hb dX1_comes_4 rfl (lv_at hl 1 rfl) ?_
  refine xk_ri (xk_cV B hI hl [.ref o] [] 1 (j2_add g hL (by omega) (xk_on1 (by decide)) ⟨_, _, hO, xk_kd5, not_or.mpr ⟨h3, h4⟩⟩ hob) hL.1 rfl (lw_V q468 q469 q470 q73 q471) ⟨rfl, by decide +kernel, by decide +kernel, by decide +kernel⟩ ⟨Nat.le_of_ble_eq_true rfl, Nat.le_of_ble_eq_true rfl⟩ rfl rfl (Nat.le_of_ble_eq_true rfl) dX1_comes_5 (by (try dsimp only); omega) (by (try dsimp only); omega)) hI (fun X_4 H_2 L_3 hq_5 hI_1 => ?_)
  refine xk_top (y := nI 1) rfl ?_
  obtain ⟨qa_6, hL_7, hf2_8⟩ := hq_5
  have hfm_9 : xk_fx (fun o => o = (r, 3) ∨ o = (r, 4)) X X_4 := xk_fx.tr xk_fx.rf hf2_8 (fun a o e q z => z.elim (fun z => (Or.inl z)) (fun z => (Or.inr z)))
  refine lv_istore_n (lv' := [(2, .int (nI 1)), (0, .ref b), (1, .ref o)]) hx hb dX1_comes_8 rfl hl (by decide) rfl (fun ls hl => ?_)
  refine lv_aload_n hx hb dX1_comes_9 rfl (lv_at hl 2 rfl) ?_
  have hf_10 := hf2_8 _ _ _ hO (not_or.mpr ⟨h3, h4⟩)
  refine xk_get B hI_1 hf_10 rfl in_X5 0 (by decide) q425 rfl dX1_comes_10 ?_
  exact xk_reti B hI_1 hr rfl dX1_comes_13 (by (try dsimp only); omega) (by (try dsimp only); omega) (⟨rfl, _, hL_7, hfm_9⟩)
set_option maxHeartbeats 4000000 in
theorem c2_breeds (g : xk_G) {X : xk_H} {r b w l a : Nat} {mc : Int32} {pp mm : Nat → Nat} (hB : tb_B g X r b w l a mc pp mm) (hk : tl_inv mm) {i j k c9 rc : Nat} (hC : X c9 = some ((rc, 0), .inr (4, [.ref (pp i), .ref (pp j), .int (nI k)]))) (hrc : rc ≠ r) (hi : i < mm 0) (hj : j < mm 0) (hk8 : k ≤ 8) (h40 : mm 0 < 40) : xk_C g yX1_breeds (ws_ yX1_breeds cX1_breeds 5 (some .int)) ({ frames := 8, cells := 1 + tl_gc (mm 0), slots := 8 + tl_gs (mm 0), locals := 171 } : Room) [.ref b, .ref c9] X (xk_Qi (nI (mm 0)) (fun X1 => ∃ (a1 : Nat) (mc1 : Int32) (pp1 : Nat → Nat), tb_B g X1 r b w l a1 mc1 pp1 (tl_breed mm i j k) ∧ xk_fx (fun o => o.1 = r) X X1)) := by
  refine xk_ofW (by decide +kernel) (Nat.le_of_ble_eq_true rfl) (fun p e s m args below meth c B hr hname hargs hI ls hl => ?_)
  have B : xk_B g p s m args meth c RX1 cX1_breeds 5 := B
  have hl : lv_has ls 5 [(0, .ref b), (1, .ref c9)] := hl
  have hx := B.1
  have hb := B.2.1
  obtain ⟨hB1, hB2, hL, hF⟩ := id hB
  have hk0 := hk
  obtain ⟨k0, kb, kw, kl, ks, kr1, kr2, kwt, kL⟩ := hk
  refine lv_aload_n hx hb dX1_breeds_0 rfl (lv_at hl 1 rfl) ?_
  have hb_1 : X (pp i) = some ((r, 10 + i), .inr (3, [.int (nI i), .int (nI (mm (14 + 7 * i))), .int (tm_it (mm (14 + 7 * i + 1))), .int (tm_it (mm (14 + 7 * i + 2))), .int (nI (mm (14 + 7 * i + 4))), .int (nI (mm (14 + 7 * i + 5))), .int (nI (mm (14 + 7 * i + 6))), .int (nI (1 - mm (14 + 7 * i + 3)))])) := hF i hi
  obtain ⟨kp_1, kp1_1, kp2_1, kp3_1, kp4_1, kp5_1, kp6_1⟩ := kb i hi
  have hb_2 : X (pp j) = some ((r, 10 + j), .inr (3, [.int (nI j), .int (nI (mm (14 + 7 * j))), .int (tm_it (mm (14 + 7 * j + 1))), .int (tm_it (mm (14 + 7 * j + 2))), .int (nI (mm (14 + 7 * j + 4))), .int (nI (mm (14 + 7 * j + 5))), .int (nI (mm (14 + 7 * j + 6))), .int (nI (1 - mm (14 + 7 * j + 3)))])) := hF j hj
  obtain ⟨kp_2, kp1_2, kp2_2, kp3_2, kp4_2, kp5_2, kp6_2⟩ := kb j hj
  refine xk_ri0 (xk_cV B hI hl [] [] 0 (cc_pattern g hC hb_1 hb_2 (by omega) (by omega) (by omega)) hC rfl (lw_V q662 q663 q664 q92 q665) ⟨rfl, by decide +kernel, by decide +kernel, by decide +kernel⟩ ⟨Nat.le_of_ble_eq_true rfl, Nat.le_of_ble_eq_true rfl⟩ rfl rfl (Nat.le_of_ble_eq_true rfl) dX1_breeds_1 (by (try dsimp only); omega) (by (try dsimp only); omega)) hI (fun H_4 L_5 hI_3 => ?_)
  refine xk_top (y := nI (tl_mix (mm (14 + 7 * i)) (mm (14 + 7 * j)) k)) rfl ?_
  refine lv_istore_n (lv' := [(2, .int (nI (tl_mix (mm (14 + 7 * i)) (mm (14 + 7 * j)) k))), (0, .ref b), (1, .ref c9)]) hx hb dX1_breeds_4 rfl hl (by decide) rfl (fun ls hl => ?_)
  refine lv_aload_n hx hb dX1_breeds_5 rfl (lv_at hl 1 rfl) ?_
  refine xk_ri (xk_cV B hI_3 hl [] [] 0 (c2_drawn g (m9 := mm) hB1 ks) hB1 rfl (lw_V q666 q668 qs12 q70 q669) ⟨rfl, by decide +kernel, by decide +kernel, by decide +kernel⟩ ⟨Nat.le_of_ble_eq_true rfl, Nat.le_of_ble_eq_true rfl⟩ rfl rfl (Nat.le_of_ble_eq_true rfl) dX1_breeds_6 (by (try dsimp only); omega) (by (try dsimp only); omega)) hI_3 (fun X_9 H_7 L_8 hq_10 hI_6 => ?_)
  refine xk_top (y := nI (tl_seed mm)) rfl ?_
  obtain ⟨hf_11, hf1_12⟩ := hq_10
  have hfm_13 : xk_fx (fun o => o.1 = r) X X_9 := xk_fx.tr xk_fx.rf hf1_12 (fun a o e q z => (by rw [z]))
  have hsd13 := tl_seed_lt mm
  refine lv_bipush (v := nI 100) hx hb dX1_breeds_9 (by decide) ?_
  refine lv_irem hx hb dX1_breeds_11 (xk_ne0 (by omega) (by omega)) (xk_top (pk_rem (by omega) (by omega) (by omega)) ?_)
  refine lv_aload_n hx hb dX1_breeds_12 rfl (lv_at hl 1 rfl) ?_
  refine xk_get B hI_6 hf_11 rfl in_X1 3 (by decide) q151 rfl dX1_breeds_13 ?_
  refine xk_top (congrArg nI (tl_draw_ne (by decide))) ?_
  refine xk_icmp_ge (tgt := 23) hx hb (by omega) (by omega) dX1_breeds_16 (by decide) (fun hc_16 => ?_) (fun hc_16 => ?_)
  · refine lv_iconst (v := nI 0) hx hb dX1_breeds_23 (by decide) ?_
    refine lv_istore_n (lv' := [(3, .int (nI 0)), (2, .int (nI (tl_mix (mm (14 + 7 * i)) (mm (14 + 7 * j)) k))), (0, .ref b), (1, .ref c9)]) hx hb dX1_breeds_24 rfl hl (by decide) rfl (fun ls hl => ?_)
    refine lv_iload_n hx hb dX1_breeds_25 rfl (lv_at hl 0 rfl) ?_
    refine xk_if_eq_t (tgt := 41) hx hb (by omega) dX1_breeds_26 (by decide) (by decide) ?_
    refine lv_iconst (v := nI 1) hx hb dX1_breeds_41 (by decide) ?_
    refine lv_aload_n hx hb dX1_breeds_42 rfl (lv_at hl 3 rfl) ?_
    have hf_15 := hf1_12 _ _ _ hC (xk_on2 (by decide))
    refine xk_get B hI_6 hf_15 rfl in_X6 0 (by decide) q637 rfl dX1_breeds_43 ?_
    have hf_16 := hf1_12 _ _ _ hb_1 (xk_on1 (by omega))
    refine xk_get B hI_6 hf_16 rfl in_X5 5 (by decide) q440 rfl dX1_breeds_46 ?_
    refine lv_aload_n hx hb dX1_breeds_49 rfl (lv_at hl 3 rfl) ?_
    refine xk_get B hI_6 hf_15 rfl in_X6 1 (by decide) q640 rfl dX1_breeds_50 ?_
    have hf_17 := hf1_12 _ _ _ hb_2 (xk_on1 (by omega))
    refine xk_get B hI_6 hf_17 rfl in_X5 5 (by decide) q440 rfl dX1_breeds_53 ?_
    refine xk_max B hl q670 q488 q87 q489 (Nat.le_of_ble_eq_true rfl) (Nat.le_of_ble_eq_true rfl) (Nat.zero_le _) (Nat.zero_le _) (z := nI (if mm (14 + 7 * i + 5) < mm (14 + 7 * j + 5) then mm (14 + 7 * j + 5) else mm (14 + 7 * i + 5))) (tl_max (by omega) (by omega)) dX1_breeds_56 ?_
    refine lv_iadd hx hb dX1_breeds_59 (xk_top (nI_add _ _) ?_)
    refine lv_istore (lv' := [(4, .int (nI (1 + (if mm (14 + 7 * i + 5) < mm (14 + 7 * j + 5) then mm (14 + 7 * j + 5) else mm (14 + 7 * i + 5))))), (3, .int (nI 0)), (2, .int (nI (tl_mix (mm (14 + 7 * i)) (mm (14 + 7 * j)) k))), (0, .ref b), (1, .ref c9)]) hx hb dX1_breeds_60 hl (by decide) rfl (fun ls hl => ?_)
    refine lv_aload_n hx hb dX1_breeds_62 rfl (lv_at hl 3 rfl) ?_
    refine xk_newo B hI_6 (fun q9 => (r, 10 + mm 0)) (ci := 3) (C := RX5) (T := TX5) (N := 8) rfl in_X5 tyX5 tyX5_ok q418 q419 q85 (fs := [.int (nI 0), .int (nI 0), .int (nI 0), .int (nI 0), .int (nI 0), .int (nI 0), .int (nI 0), .int (nI 0)]) (fun j hj => by rcases (show j = 0 ∨ j = 1 ∨ j = 2 ∨ j = 3 ∨ j = 4 ∨ j = 5 ∨ j = 6 ∨ j = 7 by omega) with rfl | rfl | rfl | rfl | rfl | rfl | rfl | rfl <;> rfl) (by (try dsimp only); omega) (by (try dsimp only); omega) dX1_breeds_63 (fun q_18 X_19 H_20 h0_21 hf_22 hn_23 hI_24 => ?_)
    have hle_25 := xk_le.fresh h0_21 hn_23
    have hfm_26 : xk_fx (fun o => o.1 = r) X X_19 := xk_fx.le hfm_13 hle_25
    refine lv_dup hx hb dX1_breeds_66 rfl ?_
    refine lv_aload_n hx hb dX1_breeds_67 rfl (lv_at hl 3 rfl) ?_
    have hf_27 := hle_25 _ _ hf_11
    refine xk_get B hI_24 hf_27 rfl in_X1 0 (by decide) q145 rfl dX1_breeds_68 ?_
    have hf_28 := tb_L.kp hL (fun _ _ q => hf1_12 _ _ _ q (xk_on1 (by decide))) (fun _ _ q => hf1_12 _ _ _ q (xk_on1 (by decide)))
    have hf_29 := tb_L.le hf_28 hle_25
    refine xk_ri0 (xk_cV B hI_24 hl [] [.ref q_18, .ref q_18, .ref b] 0 (j2_size g hf_29) hf_29.1 rfl (lw_V q338 q339 q340 q73 q341) ⟨rfl, by decide +kernel, by decide +kernel, by decide +kernel⟩ ⟨Nat.le_of_ble_eq_true rfl, Nat.le_of_ble_eq_true rfl⟩ rfl rfl (Nat.le_of_ble_eq_true rfl) dX1_breeds_71 (by (try dsimp only); omega) (by (try dsimp only); omega)) hI_24 (fun H_31 L_32 hI_30 => ?_)
    refine xk_top (y := nI (mm 0)) rfl ?_
    refine lv_iload_n hx hb dX1_breeds_74 rfl (lv_at hl 2 rfl) ?_
    refine lv_aload_n hx hb dX1_breeds_75 rfl (lv_at hl 4 rfl) ?_
    have hf_33 := hle_25 _ _ hf_15
    refine xk_get B hI_30 hf_33 rfl in_X6 0 (by decide) q637 rfl dX1_breeds_76 ?_
    have hf_34 := hle_25 _ _ hf_16
    refine xk_get B hI_30 hf_34 rfl in_X5 0 (by decide) q425 rfl dX1_breeds_79 ?_
    refine lv_aload_n hx hb dX1_breeds_82 rfl (lv_at hl 4 rfl) ?_
    refine xk_get B hI_30 hf_33 rfl in_X6 1 (by decide) q640 rfl dX1_breeds_83 ?_
    have hf_35 := hle_25 _ _ hf_17
    refine xk_get B hI_30 hf_35 rfl in_X5 0 (by decide) q425 rfl dX1_breeds_86 ?_
    refine lv_aload_n hx hb dX1_breeds_89 rfl (lv_at hl 3 rfl) ?_
    refine xk_get B hI_30 hf_27 rfl in_X1 6 (by decide) q157 rfl dX1_breeds_90 ?_
    refine lv_iload hx hb dX1_breeds_93 (lv_at hl 0 rfl) ?_
    refine lv_iload_n hx hb dX1_breeds_95 rfl (lv_at hl 1 rfl) ?_
    refine xk_rv (xk_cI B hI_30 hl [.int (nI (mm 0)), .int (nI (tl_mix (mm (14 + 7 * i)) (mm (14 + 7 * j)) k)), .int (nI i), .int (nI j), .int (nI ((tl_draw mm) 1)), .int (nI (1 + (if mm (14 + 7 * i + 5) < mm (14 + 7 * j + 5) then mm (14 + 7 * j + 5) else mm (14 + 7 * i + 5)))), .int (nI 0)] [.ref q_18, .ref b] 7 (cb_init g hf_22 (by decide)) q422 q85 q420 q421 rfl ⟨by decide +kernel, by decide +kernel, by decide +kernel⟩ ⟨Nat.le_of_ble_eq_true rfl, Nat.le_of_ble_eq_true rfl⟩ rfl rfl (Nat.le_of_ble_eq_true rfl) dX1_breeds_96 (by (try dsimp only); omega) (by (try dsimp only); omega)) hI_30 (fun X_39 H_37 L_38 hq_40 hI_36 => ?_)
    obtain ⟨hf_41, hf1_42⟩ := hq_40
    have hfm_43 : xk_fx (fun o => o.1 = r) X X_39 := xk_fx.tr hfm_26 hf1_42 (fun a o e q z => (by rw [z]))
    have hf_41 : X_39 q_18 = some ((r, 10 + mm 0), .inr (3, [.int (nI (mm 0)), .int (nI (tl_mix (mm (14 + 7 * i)) (mm (14 + 7 * j)) k)), .int (nI i), .int (nI j), .int (nI ((tl_draw mm) 1)), .int (nI (1 + (if mm (14 + 7 * i + 5) < mm (14 + 7 * j + 5) then mm (14 + 7 * j + 5) else mm (14 + 7 * i + 5)))), .int (nI 0), .int (nI 0)])) := hf_41
    have hf_44 := hf1_42 _ _ _ hf_27 (xk_on1 (by omega))
    have hf_45 := tb_L.kp hf_29 (fun _ _ q => hf1_42 _ _ _ q (xk_on1 (by omega))) (fun _ _ q => hf1_42 _ _ _ q (xk_on1 (by omega)))
    have hf_46 := tb_F.kp hF (fun i hi9 => (fun _ _ q => hf1_12 _ _ _ q (xk_on1 (by omega))))
    have hf_47 := tb_F.le hf_46 hle_25
    have hf_48 := tb_F.kp hf_47 (fun i hi9 => (fun _ _ q => hf1_42 _ _ _ q (xk_on1 (by omega))))
    refine xk_ri (xk_cV B hI_36 hl [.ref q_18] [] 1 (c2_comes g (m9 := (tl_draw mm)) hf_44 hf_45 (by omega) hf_41 (xk_on1 (by omega)) (xk_on1 (by omega)) (fun i9 hi9 => ⟨_, _, hf_48 i9 hi9, xk_kd5, not_or.mpr ⟨xk_on1 (by omega), xk_on1 (by omega)⟩⟩)) hf_44 rfl (lw_V q464 q466 qs2 q70 q467) ⟨rfl, by decide +kernel, by decide +kernel, by decide +kernel⟩ ⟨Nat.le_of_ble_eq_true rfl, Nat.le_of_ble_eq_true rfl⟩ rfl rfl (Nat.le_of_ble_eq_true rfl) dX1_breeds_99 (by (try dsimp only); omega) (by (try dsimp only); omega)) hI_36 (fun X_52 H_50 L_51 hq_53 hI_49 => ?_)
    refine xk_top (y := nI (mm 0)) rfl ?_
    obtain ⟨qa_54, hL_55, hf2_56⟩ := hq_53
    have hfm_57 : xk_fx (fun o => o.1 = r) X X_52 := xk_fx.tr hfm_43 hf2_56 (fun a o e q z => z.elim (fun z => (by rw [z])) (fun z => (by rw [z])))
    have hf_58 := hf2_56 _ _ _ hf_44 (not_or.mpr ⟨(xk_on1 (by decide)), (xk_on1 (by decide))⟩)
    have hf_59 := hf1_12 _ _ _ hB2 (xk_on1 (by decide))
    have hf_60 := hle_25 _ _ hf_59
    have hf_61 := hf1_42 _ _ _ hf_60 (xk_on1 (by omega))
    have hf_62 := hf2_56 _ _ _ hf_61 (not_or.mpr ⟨(xk_on1 (by decide)), (xk_on1 (by decide))⟩)
    have hf_63 := tb_F.kp hf_48 (fun i hi9 => (fun _ _ q => hf2_56 _ _ _ q (not_or.mpr ⟨(xk_on1 (by omega)), (xk_on1 (by omega))⟩)))
    have hf_64 := hf2_56 _ _ _ hf_41 (not_or.mpr ⟨(xk_on1 (by omega)), (xk_on1 (by omega))⟩)
    have hS9 : tl_brS mm = false := decide_eq_false (by omega)
    have hfin : tb_B g X_52 r b w l qa_54 (mc + nI 1) (va_up pp (mm 0) q_18) (tl_breed mm i j k) := by
      unfold tl_breed tl_brM tl_brP
      simp only [hS9, Bool.false_eq_true, if_false]
      exact tb_come (mm := (tl_draw mm)) (p := _) (mo := i + 1) (fa := j + 1) hf_58 (by rw [tl_wf_cg (m2 := (tl_draw mm)) (mm := mm) (fun k9 hk9 => tl_draw_ne (by omega))]; exact hf_62) hL_55 (hf_63.cg (fun k9 hk9 => tl_draw_ne (by omega))) hf_64
    exact xk_reti B hI_49 hr rfl dX1_breeds_102 (by (try dsimp only); omega) (by (try dsimp only); omega) (⟨rfl, _, _, _, hfin, hfm_57⟩)
  · refine lv_iconst (v := nI 1) hx hb dX1_breeds_19 (by decide) ?_
    refine lv_goto (tgt := 24) hx hb dX1_breeds_20 (by decide) ?_
    refine lv_istore_n (lv' := [(3, .int (nI 1)), (2, .int (nI (tl_mix (mm (14 + 7 * i)) (mm (14 + 7 * j)) k))), (0, .ref b), (1, .ref c9)]) hx hb dX1_breeds_24 rfl hl (by decide) rfl (fun ls hl => ?_)
    refine lv_iload_n hx hb dX1_breeds_25 rfl (lv_at hl 0 rfl) ?_
    refine xk_if_eq_f (tgt := 41) hx hb (by omega) dX1_breeds_26 (by decide) (by decide) ?_
    refine lv_iload_n hx hb dX1_breeds_29 rfl (lv_at hl 1 rfl) ?_
    refine lv_iconst (v := nI 1) hx hb dX1_breeds_30 (by decide) ?_
    refine lv_aload_n hx hb dX1_breeds_31 rfl (lv_at hl 2 rfl) ?_
    refine xk_ri (xk_cV B hI_6 hl [] [.int (nI 1), .int (nI (tl_mix (mm (14 + 7 * i)) (mm (14 + 7 * j)) k))] 0 (c2_drawn g (m9 := (tl_draw mm)) hf_11 (by rw [tl_draw_4]; have := tl_seed_lt mm; omega)) hf_11 rfl (lw_V q666 q668 qs12 q70 q669) ⟨rfl, by decide +kernel, by decide +kernel, by decide +kernel⟩ ⟨Nat.le_of_ble_eq_true rfl, Nat.le_of_ble_eq_true rfl⟩ rfl rfl (Nat.le_of_ble_eq_true rfl) dX1_breeds_32 (by (try dsimp only); omega) (by (try dsimp only); omega)) hI_6 (fun X_68 H_66 L_67 hq_69 hI_65 => ?_)
    refine xk_top (y := nI (tl_seed (tl_draw mm))) rfl ?_
    obtain ⟨hf_70, hf1_71⟩ := hq_69
    have hfm_72 : xk_fx (fun o => o.1 = r) X X_68 := xk_fx.tr hfm_13 hf1_71 (fun a o e q z => (by rw [z]))
    have hsd72 := tl_seed_lt (tl_draw mm)
    refine lv_bipush (v := nI 8) hx hb dX1_breeds_35 (by decide) ?_
    refine lv_irem hx hb dX1_breeds_37 (xk_ne0 (by omega) (by omega)) (xk_top (pk_rem (by omega) (by omega) (by omega)) ?_)
    refine lv_ishl hx hb dX1_breeds_38 (xk_top (xk_shl1 (by omega)) ?_)
    refine lv_ixor hx hb dX1_breeds_39 (xk_top (xk_xor _ _) ?_)
    refine lv_istore_n (lv' := [(2, .int (nI ((tl_mix (mm (14 + 7 * i)) (mm (14 + 7 * j)) k) ^^^ (2 ^ ((tl_seed (tl_draw mm)) % 8))))), (3, .int (nI 1)), (0, .ref b), (1, .ref c9)]) hx hb dX1_breeds_40 rfl hl (by decide) rfl (fun ls hl => ?_)
    refine lv_iconst (v := nI 1) hx hb dX1_breeds_41 (by decide) ?_
    refine lv_aload_n hx hb dX1_breeds_42 rfl (lv_at hl 3 rfl) ?_
    have hf_74 := hf1_12 _ _ _ hC (xk_on2 (by decide))
    have hf_75 := hf1_71 _ _ _ hf_74 (xk_on2 (by decide))
    refine xk_get B hI_65 hf_75 rfl in_X6 0 (by decide) q637 rfl dX1_breeds_43 ?_
    have hf_76 := hf1_12 _ _ _ hb_1 (xk_on1 (by omega))
    have hf_77 := hf1_71 _ _ _ hf_76 (xk_on1 (by omega))
    refine xk_get B hI_65 hf_77 rfl in_X5 5 (by decide) q440 rfl dX1_breeds_46 ?_
    refine lv_aload_n hx hb dX1_breeds_49 rfl (lv_at hl 3 rfl) ?_
    refine xk_get B hI_65 hf_75 rfl in_X6 1 (by decide) q640 rfl dX1_breeds_50 ?_
    have hf_78 := hf1_12 _ _ _ hb_2 (xk_on1 (by omega))
    have hf_79 := hf1_71 _ _ _ hf_78 (xk_on1 (by omega))
    refine xk_get B hI_65 hf_79 rfl in_X5 5 (by decide) q440 rfl dX1_breeds_53 ?_
    refine xk_max B hl q670 q488 q87 q489 (Nat.le_of_ble_eq_true rfl) (Nat.le_of_ble_eq_true rfl) (Nat.zero_le _) (Nat.zero_le _) (z := nI (if mm (14 + 7 * i + 5) < mm (14 + 7 * j + 5) then mm (14 + 7 * j + 5) else mm (14 + 7 * i + 5))) (tl_max (by omega) (by omega)) dX1_breeds_56 ?_
    refine lv_iadd hx hb dX1_breeds_59 (xk_top (nI_add _ _) ?_)
    refine lv_istore (lv' := [(4, .int (nI (1 + (if mm (14 + 7 * i + 5) < mm (14 + 7 * j + 5) then mm (14 + 7 * j + 5) else mm (14 + 7 * i + 5))))), (2, .int (nI ((tl_mix (mm (14 + 7 * i)) (mm (14 + 7 * j)) k) ^^^ (2 ^ ((tl_seed (tl_draw mm)) % 8))))), (3, .int (nI 1)), (0, .ref b), (1, .ref c9)]) hx hb dX1_breeds_60 hl (by decide) rfl (fun ls hl => ?_)
    refine lv_aload_n hx hb dX1_breeds_62 rfl (lv_at hl 3 rfl) ?_
    refine xk_newo B hI_65 (fun q9 => (r, 10 + mm 0)) (ci := 3) (C := RX5) (T := TX5) (N := 8) rfl in_X5 tyX5 tyX5_ok q418 q419 q85 (fs := [.int (nI 0), .int (nI 0), .int (nI 0), .int (nI 0), .int (nI 0), .int (nI 0), .int (nI 0), .int (nI 0)]) (fun j hj => by rcases (show j = 0 ∨ j = 1 ∨ j = 2 ∨ j = 3 ∨ j = 4 ∨ j = 5 ∨ j = 6 ∨ j = 7 by omega) with rfl | rfl | rfl | rfl | rfl | rfl | rfl | rfl <;> rfl) (by (try dsimp only); omega) (by (try dsimp only); omega) dX1_breeds_63 (fun q_80 X_81 H_82 h0_83 hf_84 hn_85 hI_86 => ?_)
    have hle_87 := xk_le.fresh h0_83 hn_85
    have hfm_88 : xk_fx (fun o => o.1 = r) X X_81 := xk_fx.le hfm_72 hle_87
    refine lv_dup hx hb dX1_breeds_66 rfl ?_
    refine lv_aload_n hx hb dX1_breeds_67 rfl (lv_at hl 3 rfl) ?_
    have hf_89 := hle_87 _ _ hf_70
    refine xk_get B hI_86 hf_89 rfl in_X1 0 (by decide) q145 rfl dX1_breeds_68 ?_
    have hf_90 := tb_L.kp hL (fun _ _ q => hf1_12 _ _ _ q (xk_on1 (by decide))) (fun _ _ q => hf1_12 _ _ _ q (xk_on1 (by decide)))
    have hf_91 := tb_L.kp hf_90 (fun _ _ q => hf1_71 _ _ _ q (xk_on1 (by decide))) (fun _ _ q => hf1_71 _ _ _ q (xk_on1 (by decide)))
    have hf_92 := tb_L.le hf_91 hle_87
    refine xk_ri0 (xk_cV B hI_86 hl [] [.ref q_80, .ref q_80, .ref b] 0 (j2_size g hf_92) hf_92.1 rfl (lw_V q338 q339 q340 q73 q341) ⟨rfl, by decide +kernel, by decide +kernel, by decide +kernel⟩ ⟨Nat.le_of_ble_eq_true rfl, Nat.le_of_ble_eq_true rfl⟩ rfl rfl (Nat.le_of_ble_eq_true rfl) dX1_breeds_71 (by (try dsimp only); omega) (by (try dsimp only); omega)) hI_86 (fun H_94 L_95 hI_93 => ?_)
    refine xk_top (y := nI (mm 0)) rfl ?_
    refine lv_iload_n hx hb dX1_breeds_74 rfl (lv_at hl 1 rfl) ?_
    refine lv_aload_n hx hb dX1_breeds_75 rfl (lv_at hl 4 rfl) ?_
    have hf_96 := hle_87 _ _ hf_75
    refine xk_get B hI_93 hf_96 rfl in_X6 0 (by decide) q637 rfl dX1_breeds_76 ?_
    have hf_97 := hle_87 _ _ hf_77
    refine xk_get B hI_93 hf_97 rfl in_X5 0 (by decide) q425 rfl dX1_breeds_79 ?_
    refine lv_aload_n hx hb dX1_breeds_82 rfl (lv_at hl 4 rfl) ?_
    refine xk_get B hI_93 hf_96 rfl in_X6 1 (by decide) q640 rfl dX1_breeds_83 ?_
    have hf_98 := hle_87 _ _ hf_79
    refine xk_get B hI_93 hf_98 rfl in_X5 0 (by decide) q425 rfl dX1_breeds_86 ?_
    refine lv_aload_n hx hb dX1_breeds_89 rfl (lv_at hl 3 rfl) ?_
    refine xk_get B hI_93 hf_89 rfl in_X1 6 (by decide) q157 rfl dX1_breeds_90 ?_
    refine lv_iload hx hb dX1_breeds_93 (lv_at hl 0 rfl) ?_
    refine lv_iload_n hx hb dX1_breeds_95 rfl (lv_at hl 2 rfl) ?_
    refine xk_rv (xk_cI B hI_93 hl [.int (nI (mm 0)), .int (nI ((tl_mix (mm (14 + 7 * i)) (mm (14 + 7 * j)) k) ^^^ (2 ^ ((tl_seed (tl_draw mm)) % 8)))), .int (nI i), .int (nI j), .int (nI ((tl_draw (tl_draw mm)) 1)), .int (nI (1 + (if mm (14 + 7 * i + 5) < mm (14 + 7 * j + 5) then mm (14 + 7 * j + 5) else mm (14 + 7 * i + 5)))), .int (nI 1)] [.ref q_80, .ref b] 7 (cb_init g hf_84 (by decide)) q422 q85 q420 q421 rfl ⟨by decide +kernel, by decide +kernel, by decide +kernel⟩ ⟨Nat.le_of_ble_eq_true rfl, Nat.le_of_ble_eq_true rfl⟩ rfl rfl (Nat.le_of_ble_eq_true rfl) dX1_breeds_96 (by (try dsimp only); omega) (by (try dsimp only); omega)) hI_93 (fun X_102 H_100 L_101 hq_103 hI_99 => ?_)
    obtain ⟨hf_104, hf1_105⟩ := hq_103
    have hfm_106 : xk_fx (fun o => o.1 = r) X X_102 := xk_fx.tr hfm_88 hf1_105 (fun a o e q z => (by rw [z]))
    have hf_104 : X_102 q_80 = some ((r, 10 + mm 0), .inr (3, [.int (nI (mm 0)), .int (nI ((tl_mix (mm (14 + 7 * i)) (mm (14 + 7 * j)) k) ^^^ (2 ^ ((tl_seed (tl_draw mm)) % 8)))), .int (nI i), .int (nI j), .int (nI ((tl_draw (tl_draw mm)) 1)), .int (nI (1 + (if mm (14 + 7 * i + 5) < mm (14 + 7 * j + 5) then mm (14 + 7 * j + 5) else mm (14 + 7 * i + 5)))), .int (nI 1), .int (nI 0)])) := hf_104
    have hf_107 := hf1_105 _ _ _ hf_89 (xk_on1 (by omega))
    have hf_108 := tb_L.kp hf_92 (fun _ _ q => hf1_105 _ _ _ q (xk_on1 (by omega))) (fun _ _ q => hf1_105 _ _ _ q (xk_on1 (by omega)))
    have hf_109 := tb_F.kp hF (fun i hi9 => (fun _ _ q => hf1_12 _ _ _ q (xk_on1 (by omega))))
    have hf_110 := tb_F.kp hf_109 (fun i hi9 => (fun _ _ q => hf1_71 _ _ _ q (xk_on1 (by omega))))
    have hf_111 := tb_F.le hf_110 hle_87
    have hf_112 := tb_F.kp hf_111 (fun i hi9 => (fun _ _ q => hf1_105 _ _ _ q (xk_on1 (by omega))))
    refine xk_ri (xk_cV B hI_99 hl [.ref q_80] [] 1 (c2_comes g (m9 := (tl_draw (tl_draw mm))) hf_107 hf_108 (by omega) hf_104 (xk_on1 (by omega)) (xk_on1 (by omega)) (fun i9 hi9 => ⟨_, _, hf_112 i9 hi9, xk_kd5, not_or.mpr ⟨xk_on1 (by omega), xk_on1 (by omega)⟩⟩)) hf_107 rfl (lw_V q464 q466 qs2 q70 q467) ⟨rfl, by decide +kernel, by decide +kernel, by decide +kernel⟩ ⟨Nat.le_of_ble_eq_true rfl, Nat.le_of_ble_eq_true rfl⟩ rfl rfl (Nat.le_of_ble_eq_true rfl) dX1_breeds_99 (by (try dsimp only); omega) (by (try dsimp only); omega)) hI_99 (fun X_116 H_114 L_115 hq_117 hI_113 => ?_)
    refine xk_top (y := nI (mm 0)) rfl ?_
    obtain ⟨qa_118, hL_119, hf2_120⟩ := hq_117
    have hfm_121 : xk_fx (fun o => o.1 = r) X X_116 := xk_fx.tr hfm_106 hf2_120 (fun a o e q z => z.elim (fun z => (by rw [z])) (fun z => (by rw [z])))
    have hf_122 := hf2_120 _ _ _ hf_107 (not_or.mpr ⟨(xk_on1 (by decide)), (xk_on1 (by decide))⟩)
    have hf_123 := hf1_12 _ _ _ hB2 (xk_on1 (by decide))
    have hf_124 := hf1_71 _ _ _ hf_123 (xk_on1 (by decide))
    have hf_125 := hle_87 _ _ hf_124
    have hf_126 := hf1_105 _ _ _ hf_125 (xk_on1 (by omega))
    have hf_127 := hf2_120 _ _ _ hf_126 (not_or.mpr ⟨(xk_on1 (by decide)), (xk_on1 (by decide))⟩)
    have hf_128 := tb_F.kp hf_112 (fun i hi9 => (fun _ _ q => hf2_120 _ _ _ q (not_or.mpr ⟨(xk_on1 (by omega)), (xk_on1 (by omega))⟩)))
    have hf_129 := hf2_120 _ _ _ hf_104 (not_or.mpr ⟨(xk_on1 (by omega)), (xk_on1 (by omega))⟩)
    have hS9 : tl_brS mm = true := decide_eq_true (by omega)
    have hfin : tb_B g X_116 r b w l qa_118 (mc + nI 1) (va_up pp (mm 0) q_80) (tl_breed mm i j k) := by
      unfold tl_breed tl_brM tl_brP
      simp only [hS9, if_true]
      exact tb_come (mm := (tl_draw (tl_draw mm))) (p := _) (mo := i + 1) (fa := j + 1) hf_122 (by rw [tl_wf_cg (m2 := (tl_draw (tl_draw mm))) (mm := mm) (fun k9 hk9 => (tl_draw_ne (by omega)).trans (tl_draw_ne (by omega)))]; exact hf_127) hL_119 (hf_128.cg (fun k9 hk9 => (tl_draw_ne (by omega)).trans (tl_draw_ne (by omega)))) hf_129
    exact xk_reti B hI_113 hr rfl dX1_breeds_102 (by (try dsimp only); omega) (by (try dsimp only); omega) (⟨rfl, _, _, _, hfin, hfm_121⟩)
