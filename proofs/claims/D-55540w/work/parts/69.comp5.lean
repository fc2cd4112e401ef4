/-! the component: printed by tools/comp4.py -/
set_option maxRecDepth 100000
set_option maxHeartbeats 4000000 in
theorem c2_hasWanted (g : xk_G) {X : xk_H} {r b w l a : Nat} {mc : Int32} {pp mm : Nat → Nat} (hB : tb_B g X r b w l a mc pp mm) (hk : tl_inv mm) {x9 : Nat} (hx9 : x9 < 2147483648) : xk_CX g yX1_hasWanted (ws_ yX1_hasWanted cX1_hasWanted 3 (some .int)) ({ frames := 7, cells := 1, slots := 8, locals := 125 } : Room) [.ref b, .int (nI x9)] X (fun v X1 => v = some (.int (nI (mm 2))) ∧ ¬ mm 2 = x9 ∧ ∃ (a1 : Nat) (mc1 : Int32) (pp1 : Nat → Nat), tb_B g X1 r b w l a1 mc1 pp1 (va_up mm 2 x9) ∧ xk_fx (fun o => o.1 = r) X X1) (fun E q X1 => mm 2 = x9 ∧ tb_re E q X1 (nI 4) (nI x9) ∧ xk_fx (fun o => o.1 = r) X X1) := by
  refine xk_ofWX (by decide +kernel) (Nat.le_of_ble_eq_true rfl) (fun p e s m args below meth c B hex hr hname hargs hI ls hl => ?_)
  have B : xk_B g p s m args meth c RX1 cX1_hasWanted 3 := B
  have hl : lv_has ls 3 [(0, .ref b), (1, .int (nI x9))] := hl
  have hx := B.1
  have hb := B.2.1
  obtain ⟨hB1, hB2, hL, hF⟩ := id hB
  have hk0 := hk
  obtain ⟨k0, kb, kw, kl, ks, kr1, kr2, kwt, kL⟩ := hk
  refine lv_aload_n hx hb dX1_hasWanted_0 rfl (lv_at hl 0 rfl) ?_
  refine xk_get B hI hB1 rfl in_X1 2 (by decide) q149 rfl dX1_hasWanted_1 ?_
  refine lv_iload_n hx hb dX1_hasWanted_4 rfl (lv_at hl 1 rfl) ?_
  refine xk_runX (xk_cSX B hI hl [.int (nI (mm 2)), .int (nI x9)] [] 2 (c2_told g (a9 := mm 2) (b9 := x9) (by omega) (by omega)) (lw_S q697 q698 q70 q699) ⟨by decide +kernel, by decide +kernel, by decide +kernel⟩ ⟨Nat.le_of_ble_eq_true rfl, Nat.le_of_ble_eq_true rfl⟩ rfl rfl (Nat.le_of_ble_eq_true rfl) dX1_hasWanted_5 (Nat.le_of_ble_eq_true rfl) (Nat.le_of_ble_eq_true rfl)) hI (fun E_4 q_5 ce_6 X_7 H_8 L_9 hq_10 hI_11 hce_12 hcv_13 hcl_14 => ?_) (fun v_15 X_16 H_2 L_3 hq_17 hI_1 => ?_)
  · obtain ⟨hb_18, hex_19, hle_20⟩ := hq_10
    have hfm_21 : xk_fx (fun o => o.1 = r) X X_7 := xk_fx.le xk_fx.rf hle_20
    exact xk_outX B hI_11 hex hce_12 hcv_13 hcl_14 (Nat.le_of_ble_eq_true rfl) (Nat.le_of_ble_eq_true rfl) (⟨hb_18, hex_19, hfm_21⟩)
  · obtain ⟨rfl, hz_5_22, hx_23⟩ := hq_17
    obtain rfl : X = X_16 := hx_23.symm
    refine W.eq (g2 := F0 m 8 ls [.int (nI (mm 2))]) rfl ?_
    refine lv_istore_n (lv' := [(2, .int (nI (mm 2))), (0, .ref b), (1, .int (nI x9))]) hx hb dX1_hasWanted_8 rfl hl (by decide) rfl (fun ls hl => ?_)
    refine lv_aload_n hx hb dX1_hasWanted_9 rfl (lv_at hl 1 rfl) ?_
    refine lv_iload_n hx hb dX1_hasWanted_10 rfl (lv_at hl 2 rfl) ?_
    refine xk_put B hI_1 hB1 rfl in_X1 tyX1 tyX1_ok nmX1 2 (by decide) q149 rfl rfl rfl (Nat.le_of_ble_eq_true rfl) dX1_hasWanted_11 (fun X_24 H_28 L_29 hf_26 hn_25 hI_27 => ?_)
    have hf_26 : X_24 b = some ((r, 1), .inr (2, [.ref l, .ref w, .int (nI x9), .int (nI (mm 3)), .int (nI (mm 4)), .int (nI (mm 5)), .int (nI (mm 1))])) := hf_26
    have hfm_30 : xk_fx (fun o => o.1 = r) X X_24 := xk_fx.put xk_fx.rf hn_25 hB1 (Or.inl rfl)
    refine lv_iload_n hx hb dX1_hasWanted_14 rfl (lv_at hl 0 rfl) ?_
    have hf_31 := xk_off hn_25 hB2 hB1 (xk_on1 (by decide))
    have hf_32 := tb_L.kp hL (fun _ _ q => xk_off hn_25 q hB1 (xk_on1 (by decide))) (fun _ _ q => xk_off hn_25 q hB1 (xk_on1 (by decide)))
    have hf_33 := tb_F.kp hF (fun i hi9 => (fun _ _ q => xk_off hn_25 q hB1 (xk_on1 (by omega))))
    exact vx_ret (xk_reti B hI_27 hr rfl dX1_hasWanted_15 (Nat.le_of_ble_eq_true rfl) (Nat.le_of_ble_eq_true rfl) (⟨rfl, hz_5_22, _, _, _, tb_setv (mm := mm) (m2 := va_up mm 2 x9) hf_26 (by rw [tl_wf_cg (m2 := va_up mm 2 x9) (mm := mm) (fun k9 hk9 => if_neg (by omega))]; exact hf_31) hf_32 hf_33 rfl (fun k9 hk9 => if_neg (by omega)), hfm_30⟩))
set_option maxHeartbeats 4000000 in
theorem c2_hasLuck (g : xk_G) {X : xk_H} {r b w l a : Nat} {mc : Int32} {pp mm : Nat → Nat} (hB : tb_B g X r b w l a mc pp mm) (hk : tl_inv mm) {x9 : Nat} (hx9 : x9 < 2147483648) : xk_CX g yX1_hasLuck (ws_ yX1_hasLuck cX1_hasLuck 3 (some .int)) ({ frames := 7, cells := 1, slots := 8, locals := 125 } : Room) [.ref b, .int (nI x9)] X (fun v X1 => v = some (.int (nI (mm 3))) ∧ ¬ mm 3 = x9 ∧ ∃ (a1 : Nat) (mc1 : Int32) (pp1 : Nat → Nat), tb_B g X1 r b w l a1 mc1 pp1 (va_up mm 3 x9) ∧ xk_fx (fun o => o.1 = r) X X1) (fun E q X1 => mm 3 = x9 ∧ tb_re E q X1 (nI 4) (nI x9) ∧ xk_fx (fun o => o.1 = r) X X1) := by
  refine xk_ofWX (by decide +kernel) (Nat.le_of_ble_eq_true rfl) (fun p e s m args below meth c B hex hr hname hargs hI ls hl => ?_)
  have B : xk_B g p s m args meth c RX1 cX1_hasLuck 3 := B
  have hl : lv_has ls 3 [(0, .ref b), (1, .int (nI x9))] := hl
  have hx := B.1
  have hb := B.2.1
  obtain ⟨hB1, hB2, hL, hF⟩ := id hB
  have hk0 := hk
  obtain ⟨k0, kb, kw, kl, ks, kr1, kr2, kwt, kL⟩ := hk
  refine lv_aload_n hx hb dX1_hasLuck_0 rfl (lv_at hl 0 rfl) ?_
  refine xk_get B hI hB1 rfl in_X1 3 (by decide) q151 rfl dX1_hasLuck_1 ?_
  refine lv_iload_n hx hb dX1_hasLuck_4 rfl (lv_at hl 1 rfl) ?_
  refine xk_runX (xk_cSX B hI hl [.int (nI (mm 3)), .int (nI x9)] [] 2 (c2_told g (a9 := mm 3) (b9 := x9) (by omega) (by omega)) (lw_S q697 q698 q70 q699) ⟨by decide +kernel, by decide +kernel, by decide +kernel⟩ ⟨Nat.le_of_ble_eq_true rfl, Nat.le_of_ble_eq_true rfl⟩ rfl rfl (Nat.le_of_ble_eq_true rfl) dX1_hasLuck_5 (Nat.le_of_ble_eq_true rfl) (Nat.le_of_ble_eq_true rfl)) hI (fun E_4 q_5 ce_6 X_7 H_8 L_9 hq_10 hI_11 hce_12 hcv_13 hcl_14 => ?_) (fun v_15 X_16 H_2 L_3 hq_17 hI_1 => ?_)
  · obtain ⟨hb_18, hex_19, hle_20⟩ := hq_10
    have hfm_21 : xk_fx (fun o => o.1 = r) X X_7 := xk_fx.le xk_fx.rf hle_20
    exact xk_outX B hI_11 hex hce_12 hcv_13 hcl_14 (Nat.le_of_ble_eq_true rfl) (Nat.le_of_ble_eq_true rfl) (⟨hb_18, hex_19, hfm_21⟩)
  · obtain ⟨rfl, hz_5_22, hx_23⟩ := hq_17
    obtain rfl : X = X_16 := hx_23.symm
    refine W.eq (g2 := F0 m 8 ls [.int (nI (mm 3))]) rfl ?_
    refine lv_istore_n (lv' := [(2, .int (nI (mm 3))), (0, .ref b), (1, .int (nI x9))]) hx hb dX1_hasLuck_8 rfl hl (by decide) rfl (fun ls hl => ?_)
    refine lv_aload_n hx hb dX1_hasLuck_9 rfl (lv_at hl 1 rfl) ?_
    refine lv_iload_n hx hb dX1_hasLuck_10 rfl (lv_at hl 2 rfl) ?_
    refine xk_put B hI_1 hB1 rfl in_X1 tyX1 tyX1_ok nmX1 3 (by decide) q151 rfl rfl rfl (Nat.le_of_ble_eq_true rfl) dX1_hasLuck_11 (fun X_24 H_28 L_29 hf_26 hn_25 hI_27 => ?_)
    have hf_26 : X_24 b = some ((r, 1), .inr (2, [.ref l, .ref w, .int (nI (mm 2)), .int (nI x9), .int (nI (mm 4)), .int (nI (mm 5)), .int (nI (mm 1))])) := hf_26
    have hfm_30 : xk_fx (fun o => o.1 = r) X X_24 := xk_fx.put xk_fx.rf hn_25 hB1 (Or.inl rfl)
    refine lv_iload_n hx hb dX1_hasLuck_14 rfl (lv_at hl 0 rfl) ?_
    have hf_31 := xk_off hn_25 hB2 hB1 (xk_on1 (by decide))
    have hf_32 := tb_L.kp hL (fun _ _ q => xk_off hn_25 q hB1 (xk_on1 (by decide))) (fun _ _ q => xk_off hn_25 q hB1 (xk_on1 (by decide)))
    have hf_33 := tb_F.kp hF (fun i hi9 => (fun _ _ q => xk_off hn_25 q hB1 (xk_on1 (by omega))))
    exact vx_ret (xk_reti B hI_27 hr rfl dX1_hasLuck_15 (Nat.le_of_ble_eq_true rfl) (Nat.le_of_ble_eq_true rfl) (⟨rfl, hz_5_22, _, _, _, tb_setv (mm := mm) (m2 := va_up mm 3 x9) hf_26 (by rw [tl_wf_cg (m2 := va_up mm 3 x9) (mm := mm) (fun k9 hk9 => if_neg (by omega))]; exact hf_31) hf_32 hf_33 rfl (fun k9 hk9 => if_neg (by omega)), hfm_30⟩))
set_option maxHeartbeats 4000000 in
theorem c2_hasSeed (g : xk_G) {X : xk_H} {r b w l a : Nat} {mc : Int32} {pp mm : Nat → Nat} (hB : tb_B g X r b w l a mc pp mm) (hk : tl_inv mm) {x9 : Nat} (hx9 : x9 < 2147483648) : xk_CX g yX1_hasSeed (ws_ yX1_hasSeed cX1_hasSeed 3 (some .int)) ({ frames := 7, cells := 1, slots := 8, locals := 125 } : Room) [.ref b, .int (nI x9)] X (fun v X1 => v = some (.int (nI (mm 4))) ∧ ¬ mm 4 = x9 ∧ ∃ (a1 : Nat) (mc1 : Int32) (pp1 : Nat → Nat), tb_B g X1 r b w l a1 mc1 pp1 (va_up mm 4 x9) ∧ xk_fx (fun o => o.1 = r) X X1) (fun E q X1 => mm 4 = x9 ∧ tb_re E q X1 (nI 4) (nI x9) ∧ xk_fx (fun o => o.1 = r) X X1) := by
  refine xk_ofWX (by decide +kernel) (Nat.le_of_ble_eq_true rfl) (fun p e s m args below meth c B hex hr hname hargs hI ls hl => ?_)
  have B : xk_B g p s m args meth c RX1 cX1_hasSeed 3 := B
  have hl : lv_has ls 3 [(0, .ref b), (1, .int (nI x9))] := hl
  have hx := B.1
  have hb := B.2.1
  obtain ⟨hB1, hB2, hL, hF⟩ := id hB
  have hk0 := hk
  obtain ⟨k0, kb, kw, kl, ks, kr1, kr2, kwt, kL⟩ := hk
  refine lv_aload_n hx hb dX1_hasSeed_0 rfl (lv_at hl 0 rfl) ?_
  refine xk_get B hI hB1 rfl in_X1 4 (by decide) q153 rfl dX1_hasSeed_1 ?_
  refine lv_iload_n hx hb dX1_hasSeed_4 rfl (lv_at hl 1 rfl) ?_
  refine xk_runX (xk_cSX B hI hl [.int (nI (mm 4)), .int (nI x9)] [] 2 (c2_told g (a9 := mm 4) (b9 := x9) (by omega) (by omega)) (lw_S q697 q698 q70 q699) ⟨by decide +kernel, by decide +kernel, by decide +kernel⟩ ⟨Nat.le_of_ble_eq_true rfl, Nat.le_of_ble_eq_true rfl⟩ rfl rfl (Nat.le_of_ble_eq_true rfl) dX1_hasSeed_5 (Nat.le_of_ble_eq_true rfl) (Nat.le_of_ble_eq_true rfl)) hI (fun E_4 q_5 ce_6 X_7 H_8 L_9 hq_10 hI_11 hce_12 hcv_13 hcl_14 => ?_) (fun v_15 X_16 H_2 L_3 hq_17 hI_1 => ?_)
  · obtain ⟨hb_18, hex_19, hle_20⟩ := hq_10
    have hfm_21 : xk_fx (fun o => o.1 = r) X X_7 := xk_fx.le xk_fx.rf hle_20
    exact xk_outX B hI_11 hex hce_12 hcv_13 hcl_14 (Nat.le_of_ble_eq_true rfl) (Nat.le_of_ble_eq_true rfl) (⟨hb_18, hex_19, hfm_21⟩)
  · obtain ⟨rfl, hz_5_22, hx_23⟩ := hq_17
    obtain rfl : X = X_16 := hx_23.symm
    refine W.eq (g2 := F0 m 8 ls [.int (nI (mm 4))]) rfl ?_
    refine lv_istore_n (lv' := [(2, .int (nI (mm 4))), (0, .ref b), (1, .int (nI x9))]) hx hb dX1_hasSeed_8 rfl hl (by decide) rfl (fun ls hl => ?_)
    refine lv_aload_n hx hb dX1_hasSeed_9 rfl (lv_at hl 1 rfl) ?_
    refine lv_iload_n hx hb dX1_hasSeed_10 rfl (lv_at hl 2 rfl) ?_
    refine xk_put B hI_1 hB1 rfl in_X1 tyX1 tyX1_ok nmX1 4 (by decide) q153 rfl rfl rfl (Nat.le_of_ble_eq_true rfl) dX1_hasSeed_11 (fun X_24 H_28 L_29 hf_26 hn_25 hI_27 => ?_)
    have hf_26 : X_24 b = some ((r, 1), .inr (2, [.ref l, .ref w, .int (nI (mm 2)), .int (nI (mm 3)), .int (nI x9), .int (nI (mm 5)), .int (nI (mm 1))])) := hf_26
    have hfm_30 : xk_fx (fun o => o.1 = r) X X_24 := xk_fx.put xk_fx.rf hn_25 hB1 (Or.inl rfl)
    refine lv_iload_n hx hb dX1_hasSeed_14 rfl (lv_at hl 0 rfl) ?_
    have hf_31 := xk_off hn_25 hB2 hB1 (xk_on1 (by decide))
    have hf_32 := tb_L.kp hL (fun _ _ q => xk_off hn_25 q hB1 (xk_on1 (by decide))) (fun _ _ q => xk_off hn_25 q hB1 (xk_on1 (by decide)))
    have hf_33 := tb_F.kp hF (fun i hi9 => (fun _ _ q => xk_off hn_25 q hB1 (xk_on1 (by omega))))
    exact vx_ret (xk_reti B hI_27 hr rfl dX1_hasSeed_15 (Nat.le_of_ble_eq_true rfl) (Nat.le_of_ble_eq_true rfl) (⟨rfl, hz_5_22, _, _, _, tb_setv (mm := mm) (m2 := va_up mm 4 x9) hf_26 (by rw [tl_wf_cg (m2 := va_up mm 4 x9) (mm := mm) (fun k9 hk9 => if_neg (by omega))]; exact hf_31) hf_32 hf_33 rfl (fun k9 hk9 => if_neg (by omega)), hfm_30⟩))
set_option maxHeartbeats 4000000 in
theorem c2_hasRoom (g : xk_G) {X : xk_H} {r b w l a : Nat} {mc : Int32} {pp mm : Nat → Nat} (hB : tb_B g X r b w l a mc pp mm) (hk : tl_inv mm) {x9 : Nat} (hx9 : x9 < 2147483648) : xk_CX g yX1_hasRoom (ws_ yX1_hasRoom cX1_hasRoom 3 (some .int)) ({ frames := 7, cells := 1, slots := 8, locals := 125 } : Room) [.ref b, .int (nI x9)] X (fun v X1 => v = some (.int (nI (mm 5))) ∧ ¬ mm 5 = x9 ∧ ∃ (a1 : Nat) (mc1 : Int32) (pp1 : Nat → Nat), tb_B g X1 r b w l a1 mc1 pp1 (va_up mm 5 x9) ∧ xk_fx (fun o => o.1 = r) X X1) (fun E q X1 => mm 5 = x9 ∧ tb_re E q X1 (nI 4) (nI x9) ∧ xk_fx (fun o => o.1 = r) X X1) := by
  refine xk_ofWX (by decide +kernel) (Nat.le_of_ble_eq_true rfl) (fun p e s m args below meth c B hex hr hname hargs hI ls hl => ?_)
  have B : xk_B g p s m args meth c RX1 cX1_hasRoom 3 := B
  have hl : lv_has ls 3 [(0, .ref b), (1, .int (nI x9))] := hl
  have hx := B.1
  have hb := B.2.1
  obtain ⟨hB1, hB2, hL, hF⟩ := id hB
  have hk0 := hk
  obtain ⟨k0, kb, kw, kl, ks, kr1, kr2, kwt, kL⟩ := hk
  refine lv_aload_n hx hb dX1_hasRoom_0 rfl (lv_at hl 0 rfl) ?_
  refine xk_get B hI hB1 rfl in_X1 5 (by decide) q155 rfl dX1_hasRoom_1 ?_
  refine lv_iload_n hx hb dX1_hasRoom_4 rfl (lv_at hl 1 rfl) ?_
  refine xk_runX (xk_cSX B hI hl [.int (nI (mm 5)), .int (nI x9)] [] 2 (c2_told g (a9 := mm 5) (b9 := x9) (by omega) (by omega)) (lw_S q697 q698 q70 q699) ⟨by decide +kernel, by decide +kernel, by decide +kernel⟩ ⟨Nat.le_of_ble_eq_true rfl, Nat.le_of_ble_eq_true rfl⟩ rfl rfl (Nat.le_of_ble_eq_true rfl) dX1_hasRoom_5 (Nat.le_of_ble_eq_true rfl) (Nat.le_of_ble_eq_true rfl)) hI (fun E_4 q_5 ce_6 X_7 H_8 L_9 hq_10 hI_11 hce_12 hcv_13 hcl_14 => ?_) (fun v_15 X_16 H_2 L_3 hq_17 hI_1 => ?_)
  · obtain ⟨hb_18, hex_19, hle_20⟩ := hq_10
    have hfm_21 : xk_fx (fun o => o.1 = r) X X_7 := xk_fx.le xk_fx.rf hle_20
    exact xk_outX B hI_11 hex hce_12 hcv_13 hcl_14 (Nat.le_of_ble_eq_true rfl) (Nat.le_of_ble_eq_true rfl) (⟨hb_18, hex_19, hfm_21⟩)
  · obtain ⟨rfl, hz_5_22, hx_23⟩ := hq_17
    obtain rfl : X = X_16 := hx_23.symm
    refine W.eq (g2 := F0 m 8 ls [.int (nI (mm 5))]) rfl ?_
    refine lv_istore_n (lv' := [(2, .int (nI (mm 5))), (0, .ref b), (1, .int (nI x9))]) hx hb dX1_hasRoom_8 rfl hl (by decide) rfl (fun ls hl => ?_)
    refine lv_aload_n hx hb dX1_hasRoom_9 rfl (lv_at hl 1 rfl) ?_
    refine lv_iload_n hx hb dX1_hasRoom_10 rfl (lv_at hl 2 rfl) ?_
    refine xk_put B hI_1 hB1 rfl in_X1 tyX1 tyX1_ok nmX1 5 (by decide) q155 rfl rfl rfl (Nat.le_of_ble_eq_true rfl) dX1_hasRoom_11 (fun X_24 H_28 L_29 hf_26 hn_25 hI_27 => ?_)
    have hf_26 : X_24 b = some ((r, 1), .inr (2, [.ref l, .ref w, .int (nI (mm 2)), .int (nI (mm 3)), .int (nI (mm 4)), .int (nI x9), .int (nI (mm 1))])) := hf_26
    have hfm_30 : xk_fx (fun o => o.1 = r) X X_24 := xk_fx.put xk_fx.rf hn_25 hB1 (Or.inl rfl)
    refine lv_iload_n hx hb dX1_hasRoom_14 rfl (lv_at hl 0 rfl) ?_
    have hf_31 := xk_off hn_25 hB2 hB1 (xk_on1 (by decide))
    have hf_32 := tb_L.kp hL (fun _ _ q => xk_off hn_25 q hB1 (xk_on1 (by decide))) (fun _ _ q => xk_off hn_25 q hB1 (xk_on1 (by decide)))
    have hf_33 := tb_F.kp hF (fun i hi9 => (fun _ _ q => xk_off hn_25 q hB1 (xk_on1 (by omega))))
    exact vx_ret (xk_reti B hI_27 hr rfl dX1_hasRoom_15 (Nat.le_of_ble_eq_true rfl) (Nat.le_of_ble_eq_true rfl) (⟨rfl, hz_5_22, _, _, _, tb_setv (mm := mm) (m2 := va_up mm 5 x9) hf_26 (by rw [tl_wf_cg (m2 := va_up mm 5 x9) (mm := mm) (fun k9 hk9 => if_neg (by omega))]; exact hf_31) hf_32 hf_33 rfl (fun k9 hk9 => if_neg (by omega)), hfm_30⟩))
set_option maxHeartbeats 4000000 in
theorem c2_weighs (g : xk_G) {X : xk_H} {r b w l a : Nat} {mc : Int32} {pp mm : Nat → Nat} (hB : tb_B g X r b w l a mc pp mm) (hk : tl_inv mm) {i9 x9 : Nat} (hi9 : i9 < 8) (hx9 : x9 < 2147483648) : xk_CX g yX1_weighs (ws_ yX1_weighs cX1_weighs 4 (some .int)) ({ frames := 7, cells := 1, slots := 8, locals := 125 } : Room) [.ref b, .int (nI i9), .int (nI x9)] X (fun v X1 => v = some (.int (nI (mm (6 + i9)))) ∧ ¬ mm (6 + i9) = x9 ∧ ∃ (a1 : Nat) (mc1 : Int32) (pp1 : Nat → Nat), tb_B g X1 r b w l a1 mc1 pp1 (va_up mm (6 + i9) x9) ∧ xk_fx (fun o => o.1 = r) X X1) (fun E q X1 => mm (6 + i9) = x9 ∧ tb_re E q X1 (nI 4) (nI x9) ∧ xk_fx (fun o => o.1 = r) X X1) := by
  refine xk_ofWX (by decide +kernel) (Nat.le_of_ble_eq_true rfl) (fun p e s m args below meth c B hex hr hname hargs hI ls hl => ?_)
  have B : xk_B g p s m args meth c RX1 cX1_weighs 4 := B
  have hl : lv_has ls 4 [(0, .ref b), (1, .int (nI i9)), (2, .int (nI x9))] := hl
  have hx := B.1
  have hb := B.2.1
  obtain ⟨hB1, hB2, hL, hF⟩ := id hB
  have hk0 := hk
  obtain ⟨k0, kb, kw, kl, ks, kr1, kr2, kwt, kL⟩ := hk
  have hwk := kwt i9 hi9
  refine lv_aload_n hx hb dX1_weighs_0 rfl (lv_at hl 0 rfl) ?_
  refine xk_get B hI hB1 rfl in_X1 1 (by decide) q147 rfl dX1_weighs_1 ?_
  refine lv_iload_n hx hb dX1_weighs_4 rfl (lv_at hl 1 rfl) ?_
  refine xk_iald B hI hB2 (by omega) (by decide) dX1_weighs_5 ?_
  refine xk_top (congrArg nI (tl_wf_lt hi9)) ?_
  refine lv_iload_n hx hb dX1_weighs_6 rfl (lv_at hl 2 rfl) ?_
  refine xk_runX (xk_cSX B hI hl [.int (nI (mm (6 + i9))), .int (nI x9)] [] 2 (c2_told g (a9 := mm (6 + i9)) (b9 := x9) (by omega) (by omega)) (lw_S q697 q698 q70 q699) ⟨by decide +kernel, by decide +kernel, by decide +kernel⟩ ⟨Nat.le_of_ble_eq_true rfl, Nat.le_of_ble_eq_true rfl⟩ rfl rfl (Nat.le_of_ble_eq_true rfl) dX1_weighs_7 (Nat.le_of_ble_eq_true rfl) (Nat.le_of_ble_eq_true rfl)) hI (fun E_4 q_5 ce_6 X_7 H_8 L_9 hq_10 hI_11 hce_12 hcv_13 hcl_14 => ?_) (fun v_15 X_16 H_2 L_3 hq_17 hI_1 => ?_)
  · obtain ⟨hb_18, hex_19, hle_20⟩ := hq_10
    have hfm_21 : xk_fx (fun o => o.1 = r) X X_7 := xk_fx.le xk_fx.rf hle_20
    exact xk_outX B hI_11 hex hce_12 hcv_13 hcl_14 (Nat.le_of_ble_eq_true rfl) (Nat.le_of_ble_eq_true rfl) (⟨hb_18, hex_19, hfm_21⟩)
  · obtain ⟨rfl, hz_7_22, hx_23⟩ := hq_17
    obtain rfl : X = X_16 := hx_23.symm
    refine W.eq (g2 := F0 m 10 ls [.int (nI (mm (6 + i9)))]) rfl ?_
    refine lv_istore_n (lv' := [(3, .int (nI (mm (6 + i9)))), (0, .ref b), (1, .int (nI i9)), (2, .int (nI x9))]) hx hb dX1_weighs_10 rfl hl (by decide) rfl (fun ls hl => ?_)
    refine lv_aload_n hx hb dX1_weighs_11 rfl (lv_at hl 1 rfl) ?_
    refine xk_get B hI_1 hB1 rfl in_X1 1 (by decide) q147 rfl dX1_weighs_12 ?_
    refine lv_iload_n hx hb dX1_weighs_15 rfl (lv_at hl 2 rfl) ?_
    refine lv_iload_n hx hb dX1_weighs_16 rfl (lv_at hl 3 rfl) ?_
    refine xk_iast B hI_1 hB2 (by omega) (by decide) dX1_weighs_17 (fun X_24 H_28 L_29 hf_26 hn_25 hI_27 => ?_)
    have hfm_30 : xk_fx (fun o => o.1 = r) X X_24 := xk_fx.put xk_fx.rf hn_25 hB2 (Or.inl rfl)
    refine lv_iload_n hx hb dX1_weighs_18 rfl (lv_at hl 0 rfl) ?_
    have hf_31 := xk_off hn_25 hB1 hB2 (xk_on1 (by decide))
    have hf_32 := tb_L.kp hL (fun _ _ q => xk_off hn_25 q hB2 (xk_on1 (by decide))) (fun _ _ q => xk_off hn_25 q hB2 (xk_on1 (by decide)))
    have hf_33 := tb_F.kp hF (fun i hi9 => (fun _ _ q => xk_off hn_25 q hB2 (xk_on1 (by omega))))
    exact vx_ret (xk_reti B hI_27 hr rfl dX1_weighs_19 (Nat.le_of_ble_eq_true rfl) (Nat.le_of_ble_eq_true rfl) (⟨rfl, hz_7_22, _, _, _, tb_weigh hi9 hf_31 hf_26 hf_32 hf_33, hfm_30⟩))
set_option maxHeartbeats 4000000 in
theorem c2_bulb (g : xk_G) {X : xk_H} {r b w l a : Nat} {mc : Int32} {pp mm : Nat → Nat} (hB : tb_B g X r b w l a mc pp mm) (hk : tl_inv mm) {x : Int32} : xk_CX g yX1_bulb (ws_ yX1_bulb cX1_bulb 2 (some (.object "TulipLines$Bulb"))) ({ frames := 6, cells := 1, slots := 7, locals := 102 } : Room) [.ref b, .int x] X (fun v X1 => v = some (.ref (pp (tl_n x))) ∧ tl_isb mm x = true ∧ X1 = X) (fun E q X1 => tl_isb mm x = false ∧ tb_wr E q X1 (-1) ∧ xk_le X X1) := by
  refine xk_ofWX (by decide +kernel) (Nat.le_of_ble_eq_true rfl) (fun p e s m args below meth c B hex hr hname hargs hI ls hl => ?_)
  have B : xk_B g p s m args meth c RX1 cX1_bulb 2 := B
  have hl : lv_has ls 2 [(0, .ref b), (1, .int x)] := hl
  have hx := B.1
  have hb := B.2.1
  obtain ⟨hB1, hB2, hL, hF⟩ := id hB
  have hk0 := hk
  obtain ⟨k0, kb, kw, kl, ks, kr1, kr2, kwt, kL⟩ := hk
  refine lv_aload_n hx hb dX1_bulb_0 rfl (lv_at hl 0 rfl) ?_
  refine lv_iload_n hx hb dX1_bulb_1 rfl (lv_at hl 1 rfl) ?_
  have hB_1 : tb_B g X r b w l a mc pp mm := ⟨hB1, hB2, hL, hF⟩
  refine xk_ri0 (xk_cV B hI hl [.int x] [] 1 (c1_has g hB_1 hk0 (x := x)) hB1 rfl (lw_V q610 q611 q612 q70 q613) ⟨rfl, by decide +kernel, by decide +kernel, by decide +kernel⟩ ⟨Nat.le_of_ble_eq_true rfl, Nat.le_of_ble_eq_true rfl⟩ rfl rfl (Nat.le_of_ble_eq_true rfl) dX1_bulb_2 (Nat.le_of_ble_eq_true rfl) (Nat.le_of_ble_eq_true rfl)) hI (fun H_3 L_4 hI_2 => ?_)
  refine xk_top (y := xk_z (tl_isb mm x)) rfl ?_
  refine lv_iconst (v := (-1)) hx hb dX1_bulb_5 (by decide) ?_
  refine xk_runX (xk_cSNX B hI_2 hl [.int (xk_z (tl_isb mm x)), .int (-1)] [] 2 (c0_wants g (b9 := tl_isb mm x) (c9 := (-1))) q615 q266 q69 q267 ⟨by decide +kernel, by decide +kernel, by decide +kernel⟩ ⟨Nat.le_of_ble_eq_true rfl, Nat.le_of_ble_eq_true rfl⟩ rfl rfl (Nat.le_of_ble_eq_true rfl) dX1_bulb_6 (Nat.le_of_ble_eq_true rfl) (Nat.le_of_ble_eq_true rfl)) hI_2 (fun E_8 q_9 ce_10 X_11 H_12 L_13 hq_14 hI_15 hce_16 hcv_17 hcl_18 => ?_) (fun v_19 X_20 H_6 L_7 hq_21 hI_5 => ?_)
  · obtain ⟨hb_22, hex_23, hle_24⟩ := hq_14
    have hfm_25 : xk_fx (fun _ => False) X X_11 := xk_fx.le xk_fx.rf hle_24
    exact xk_outX B hI_15 hex hce_16 hcv_17 hcl_18 (Nat.le_of_ble_eq_true rfl) (Nat.le_of_ble_eq_true rfl) (⟨hb_22, hex_23, (xk_fx.tole hfm_25)⟩)
  · obtain ⟨rfl, hz_6_26, hx_27⟩ := hq_21
    obtain rfl : X = X_20 := hx_27.symm
    refine W.eq (g2 := F0 m 9 ls []) rfl ?_
    refine lv_aload_n hx hb dX1_bulb_9 rfl (lv_at hl 0 rfl) ?_
    refine xk_get B hI_5 hB1 rfl in_X1 0 (by decide) q145 rfl dX1_bulb_10 ?_
    refine lv_iload_n hx hb dX1_bulb_13 rfl (lv_at hl 1 rfl) ?_
    obtain ⟨hxe, hxl⟩ := tl_isb_k hz_6_26
    refine xk_top hxe ?_
    refine xk_rq0 (xk_cV B hI_5 hl [.int (nI (tl_n x))] [] 1 (j2_get g hL (i := tl_n x) (by omega)) hL.1 rfl (lw_V q616 q617 q618 q73 q619) ⟨rfl, by decide +kernel, by decide +kernel, by decide +kernel⟩ ⟨Nat.le_of_ble_eq_true rfl, Nat.le_of_ble_eq_true rfl⟩ rfl rfl (Nat.le_of_ble_eq_true rfl) dX1_bulb_14 (Nat.le_of_ble_eq_true rfl) (Nat.le_of_ble_eq_true rfl)) hI_5 (fun H_29 L_30 hI_28 => ?_)
    refine W.eq (g2 := F0 m 17 ls [.ref (pp (tl_n x))]) rfl ?_
    have hb_31 : X (pp (tl_n x)) = some ((r, 10 + (tl_n x)), .inr (3, [.int (nI (tl_n x)), .int (nI (mm (14 + 7 * (tl_n x)))), .int (tm_it (mm (14 + 7 * (tl_n x) + 1))), .int (tm_it (mm (14 + 7 * (tl_n x) + 2))), .int (nI (mm (14 + 7 * (tl_n x) + 4))), .int (nI (mm (14 + 7 * (tl_n x) + 5))), .int (nI (mm (14 + 7 * (tl_n x) + 6))), .int (nI (1 - mm (14 + 7 * (tl_n x) + 3)))])) := hF (tl_n x) hxl
    obtain ⟨kp_31, kp1_31, kp2_31, kp3_31, kp4_31, kp5_31, kp6_31⟩ := kb (tl_n x) hxl
    refine xk_castS B hI_28 hb_31 rfl q418 dX1_bulb_17 ?_
    exact vx_ret (xk_retr B hI_28 hr (Or.inl ⟨_, rfl⟩) (Or.inr ⟨_, rfl⟩) dX1_bulb_20 (Nat.le_of_ble_eq_true rfl) (Nat.le_of_ble_eq_true rfl) (⟨rfl, hz_6_26, rfl⟩))
set_option maxHeartbeats 4000000 in
theorem c2_dies (g : xk_G) {X : xk_H} {r b w l a : Nat} {mc : Int32} {pp mm : Nat → Nat} (hB : tb_B g X r b w l a mc pp mm) (hk : tl_inv mm) {i : Nat} (hi : i < mm 0) : xk_CX g yX1_dies (ws_ yX1_dies cX1_dies 2 (some .int)) ({ frames := 7, cells := 2, slots := 12, locals := 124 } : Room) [.ref b, .ref (pp i)] X (fun v X1 => v = some (.int (nI (tl_liv (tl_dieM mm i) (mm 0)))) ∧ mm (14 + 7 * i + 3) = 1 ∧ ∃ (a1 : Nat) (mc1 : Int32) (pp1 : Nat → Nat), tb_B g X1 r b w l a1 mc1 pp1 (tl_dieM mm i) ∧ xk_fx (fun o => o.1 = r) X X1) (fun E q X1 => mm (14 + 7 * i + 3) = 0 ∧ tb_re E q X1 (nI 3) (nI i) ∧ xk_fx (fun o => o.1 = r) X X1) := by
  refine xk_ofWX (by decide +kernel) (Nat.le_of_ble_eq_true rfl) (fun p e s m args below meth c B hex hr hname hargs hI ls hl => ?_)
  have B : xk_B g p s m args meth c RX1 cX1_dies 2 := B
  have hl : lv_has ls 2 [(0, .ref b), (1, .ref (pp i))] := hl
  have hx := B.1
  have hb := B.2.1
  obtain ⟨hB1, hB2, hL, hF⟩ := id hB
  have hk0 := hk
  obtain ⟨k0, kb, kw, kl, ks, kr1, kr2, kwt, kL⟩ := hk
  refine lv_aload_n hx hb dX1_dies_0 rfl (lv_at hl 1 rfl) ?_
  have hb_1 : X (pp i) = some ((r, 10 + i), .inr (3, [.int (nI i), .int (nI (mm (14 + 7 * i))), .int (tm_it (mm (14 + 7 * i + 1))), .int (tm_it (mm (14 + 7 * i + 2))), .int (nI (mm (14 + 7 * i + 4))), .int (nI (mm (14 + 7 * i + 5))), .int (nI (mm (14 + 7 * i + 6))), .int (nI (1 - mm (14 + 7 * i + 3)))])) := hF i hi
  obtain ⟨kp_1, kp1_1, kp2_1, kp3_1, kp4_1, kp5_1, kp6_1⟩ := kb i hi
  refine xk_runX (xk_cSX B hI hl [.ref (pp i)] [] 1 (c2_mustLive g hb_1 (by omega)) (lw_S q655 q656 q70 q657) ⟨by decide +kernel, by decide +kernel, by decide +kernel⟩ ⟨Nat.le_of_ble_eq_true rfl, Nat.le_of_ble_eq_true rfl⟩ rfl rfl (Nat.le_of_ble_eq_true rfl) dX1_dies_1 (Nat.le_of_ble_eq_true rfl) (Nat.le_of_ble_eq_true rfl)) hI (fun E_5 q_6 ce_7 X_8 H_9 L_10 hq_11 hI_12 hce_13 hcv_14 hcl_15 => ?_) (fun v_16 X_17 H_3 L_4 hq_18 hI_2 => ?_)
  · obtain ⟨hb_19, hex_20, hle_21⟩ := hq_11
    have hfm_22 : xk_fx (fun o => o.1 = r) X X_8 := xk_fx.le xk_fx.rf hle_21
    exact xk_outX B hI_12 hex hce_13 hcv_14 hcl_15 (Nat.le_of_ble_eq_true rfl) (Nat.le_of_ble_eq_true rfl) (⟨hb_19, hex_20, hfm_22⟩)
  · obtain ⟨rfl, hz_1_23, hx_24⟩ := hq_18
    obtain rfl : X = X_17 := hx_24.symm
    refine W.eq (g2 := F0 m 4 ls []) rfl ?_
    refine lv_aload_n hx hb dX1_dies_4 rfl (lv_at hl 1 rfl) ?_
    refine lv_iconst (v := nI 1) hx hb dX1_dies_5 (by decide) ?_
    refine xk_put B hI_2 hb_1 rfl in_X5 tyX5 tyX5_ok nmX5 7 (by decide) q445 rfl (by decide) (by decide) (Nat.le_of_ble_eq_true rfl) dX1_dies_6 (fun X_25 H_29 L_30 hf_27 hn_26 hI_28 => ?_)
    have hf_27 : X_25 (pp i) = some ((r, 10 + i), .inr (3, [.int (nI i), .int (nI (mm (14 + 7 * i))), .int (tm_it (mm (14 + 7 * i + 1))), .int (tm_it (mm (14 + 7 * i + 2))), .int (nI (mm (14 + 7 * i + 4))), .int (nI (mm (14 + 7 * i + 5))), .int (nI (mm (14 + 7 * i + 6))), .int (nI 1)])) := hf_27
    have hfm_31 : xk_fx (fun o => o.1 = r) X X_25 := xk_fx.put xk_fx.rf hn_26 hb_1 (Or.inl rfl)
    have hF_32 := tb_F.die (i := i) hF hi hn_26 hf_27
    have hf_33 := xk_off hn_26 hB1 hb_1 (xk_on1 (by omega))
    have hf_34 := xk_off hn_26 hB2 hb_1 (xk_on1 (by omega))
    have hf_35 := tb_L.kp hL (fun _ _ q => xk_off hn_26 q hb_1 (xk_on1 (by omega))) (fun _ _ q => xk_off hn_26 q hb_1 (xk_on1 (by omega)))
    have hk_36 := tl_inv_die hk0 hi
    obtain ⟨hB_37, hB_38, hB_39, hB_40⟩ : tb_B g X_25 r b w l a mc pp (tl_dieM mm i) := tb_die hf_33 hf_34 hf_35 hF_32
    refine lv_aload_n hx hb dX1_dies_9 rfl (lv_at hl 0 rfl) ?_
    have hB_41 : tb_B g X_25 r b w l a mc pp (tl_dieM mm i) := ⟨hB_37, hB_38, hB_39, hB_40⟩
    refine xk_ri (xk_cV B hI_28 hl [] [] 0 (c1_living g hB_41 hk_36 ) hB_37 rfl (lw_V q368 q369 q370 q70 q371) ⟨rfl, by decide +kernel, by decide +kernel, by decide +kernel⟩ ⟨Nat.le_of_ble_eq_true rfl, Nat.le_of_ble_eq_true rfl⟩ rfl rfl (Nat.le_of_ble_eq_true rfl) dX1_dies_10 (Nat.le_of_ble_eq_true rfl) (Nat.le_of_ble_eq_true rfl)) hI_28 (fun X_45 H_43 L_44 hq_46 hI_42 => ?_)
    refine xk_top (y := nI (tl_liv (tl_dieM mm i) ((tl_dieM mm i) 0))) rfl ?_
    have hfm_47 : xk_fx (fun o => o.1 = r) X X_45 := xk_fx.le hfm_31 hq_46
    have hf_48 := hq_46 _ _ hB_37
    have hf_49 := hq_46 _ _ hB_38
    have hf_50 := tb_L.le hB_39 hq_46
    have hf_51 := tb_F.le hB_40 hq_46
    have hB_52 : tb_B g X_45 r b w l a mc pp (tl_dieM mm i) := ⟨hf_48, hf_49, hf_50, hf_51⟩
    exact vx_ret (xk_reti B hI_42 hr rfl dX1_dies_13 (Nat.le_of_ble_eq_true rfl) (Nat.le_of_ble_eq_true rfl) (⟨by rw [tl_dieM_ne (by omega)], by omega, _, _, _, hB_52, hfm_47⟩))
