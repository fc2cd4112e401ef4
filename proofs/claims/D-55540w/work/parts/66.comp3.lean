/-! the component: printed by tools/comp2.py -/
set_option maxRecDepth 100000
set_option maxHeartbeats 4000000 in
theorem c0_wants (g : xk_G) {X : xk_H} {b9 : Bool} {c9 : Int32} : xk_CX g yX0_wants (ws_ yX0_wants cX0_wants 2 none) ({ frames := 5, cells := 1, slots := 7, locals := 81 } : Room) [.int (xk_z b9), .int c9] X (fun v X1 => v = none ∧ b9 = true ∧ X1 = X) (fun E q X1 => b9 = false ∧ tb_wr E q X1 c9 ∧ xk_le X X1) := by
  refine xk_ofWX (by decide +kernel) (Nat.le_of_ble_eq_true rfl) (fun p e s m args below meth c B hex hr hname hargs hI ls hl => ?_)
  have B : xk_B g p s m args meth c RX0 cX0_wants 2 := B
  have hl : lv_has ls 2 [(0, .int (xk_z b9)), (1, .int c9)] := hl
  have hx := B.1
  have hb := B.2.1
  refine lv_iload_n hx hb dX0_wants_0 rfl (lv_at hl 0 rfl) ?_
  refine xk_if_ne_z (tgt := 13) hx hb dX0_wants_1 (by decide) (fun hc_1 => ?_) (fun hc_1 => ?_)
  · exact vx_ret (xk_retv B hI hr dX0_wants_13 (Nat.le_of_ble_eq_true rfl) (Nat.le_of_ble_eq_true rfl) (⟨rfl, hc_1, rfl⟩))
  · obtain ⟨r_1, hroot_2⟩ := xk_root hI.2
    have hnr_3 : xk_nr r_1 X := xk_nr.back (P := (fun _ => False)) hroot_2 xk_fx.rf (fun _ z => z.elim)
    refine xk_newoF B hI (fun q9 => (r_1, 0)) (ci := 8) (C := RX3) (T := TX3) (N := 7) rfl in_X3 tyX3 tyX3_ok q268 q269 q82 (fs := [.null, .null, .null, .null, .null, .int (nI 0), .int (nI 0)]) (fun j hj => by rcases (show j = 0 ∨ j = 1 ∨ j = 2 ∨ j = 3 ∨ j = 4 ∨ j = 5 ∨ j = 6 by omega) with rfl | rfl | rfl | rfl | rfl | rfl | rfl <;> rfl) (Nat.le_of_ble_eq_true rfl) (Nat.le_of_ble_eq_true rfl) dX0_wants_4 (fun q_4 X_5 H_6 h0_7 hf_8 hn_9 hI_10 hfr_12 => ?_)
    have hle_11 := xk_le.fresh h0_7 hn_9
    have hfm_13 : xk_fx (fun _ => False) X X_5 := xk_fx.le xk_fx.rf hle_11
    refine lv_dup hx hb dX0_wants_7 rfl ?_
    refine lv_iload_n hx hb dX0_wants_8 rfl (lv_at hl 1 rfl) ?_
    refine xk_rv (xk_cIM B hI_10 hl [.int c9] [.ref q_4] 1 (cx_wrong g hf_8) hfr_12 q309 q82 q307 q308 rfl ⟨by decide +kernel, by decide +kernel, by decide +kernel⟩ ⟨Nat.le_of_ble_eq_true rfl, Nat.le_of_ble_eq_true rfl⟩ rfl rfl (Nat.le_of_ble_eq_true rfl) dX0_wants_9 (Nat.le_of_ble_eq_true rfl) (Nat.le_of_ble_eq_true rfl)) hI_10 (fun X_14 H_17 L_18 hq_15 hI_16 => ?_)
    obtain ⟨⟨fs_19, hf_20, hv_22⟩, hf1_21⟩ := hq_15
    have hfm_23 : xk_fx (fun _ => False) X X_14 := xk_fx.tr hfm_13 hf1_21 (fun a o e q z => (absurd (congrArg Prod.fst z) (hnr_3 _ _ _ q)))
    exact xk_thr B hI_16 hex hf_20 rfl dX0_wants_12 (Nat.le_of_ble_eq_true rfl) (Nat.le_of_ble_eq_true rfl) (⟨hc_1, ⟨rfl, _, _, hf_20, hv_22⟩, (xk_fx.tole hfm_23)⟩)
set_option maxHeartbeats 4000000 in
theorem c0_refuseIf (g : xk_G) {X : xk_H} {b9 : Bool} {x9 y9 : Int32} : xk_CX g yX0_refuseIf (ws_ yX0_refuseIf cX0_refuseIf 3 none) ({ frames := 5, cells := 1, slots := 8, locals := 82 } : Room) [.int (xk_z b9), .int x9, .int y9] X (fun v X1 => v = none ∧ b9 = false ∧ X1 = X) (fun E q X1 => b9 = true ∧ tb_re E q X1 x9 y9 ∧ xk_le X X1) := by
  refine xk_ofWX (by decide +kernel) (Nat.le_of_ble_eq_true rfl) (fun p e s m args below meth c B hex hr hname hargs hI ls hl => ?_)
  have B : xk_B g p s m args meth c RX0 cX0_refuseIf 3 := B
  have hl : lv_has ls 3 [(0, .int (xk_z b9)), (1, .int x9), (2, .int y9)] := hl
  have hx := B.1
  have hb := B.2.1
  refine lv_iload_n hx hb dX0_refuseIf_0 rfl (lv_at hl 0 rfl) ?_
  refine xk_if_eq_z (tgt := 14) hx hb dX0_refuseIf_1 (by decide) (fun hc_1 => ?_) (fun hc_1 => ?_)
  · exact vx_ret (xk_retv B hI hr dX0_refuseIf_14 (Nat.le_of_ble_eq_true rfl) (Nat.le_of_ble_eq_true rfl) (⟨rfl, hc_1, rfl⟩))
  · obtain ⟨r_1, hroot_2⟩ := xk_root hI.2
    have hnr_3 : xk_nr r_1 X := xk_nr.back (P := (fun _ => False)) hroot_2 xk_fx.rf (fun _ z => z.elim)
    refine xk_newoF B hI (fun q9 => (r_1, 0)) (ci := 9) (C := RX4) (T := TX4) (N := 8) rfl in_X4 tyX4 tyX4_ok q345 q346 q83 (fs := [.null, .null, .null, .null, .null, .int (nI 0), .int (nI 0), .int (nI 0)]) (fun j hj => by rcases (show j = 0 ∨ j = 1 ∨ j = 2 ∨ j = 3 ∨ j = 4 ∨ j = 5 ∨ j = 6 ∨ j = 7 by omega) with rfl | rfl | rfl | rfl | rfl | rfl | rfl | rfl <;> rfl) (Nat.le_of_ble_eq_true rfl) (Nat.le_of_ble_eq_true rfl) dX0_refuseIf_4 (fun q_4 X_5 H_6 h0_7 hf_8 hn_9 hI_10 hfr_12 => ?_)
    have hle_11 := xk_le.fresh h0_7 hn_9
    have hfm_13 : xk_fx (fun _ => False) X X_5 := xk_fx.le xk_fx.rf hle_11
    refine lv_dup hx hb dX0_refuseIf_7 rfl ?_
    refine lv_iload_n hx hb dX0_refuseIf_8 rfl (lv_at hl 1 rfl) ?_
    refine lv_iload_n hx hb dX0_refuseIf_9 rfl (lv_at hl 2 rfl) ?_
    refine xk_rv (xk_cIM B hI_10 hl [.int x9, .int y9] [.ref q_4] 2 (cx_refusal g hf_8) hfr_12 q356 q83 q354 q355 rfl ⟨by decide +kernel, by decide +kernel, by decide +kernel⟩ ⟨Nat.le_of_ble_eq_true rfl, Nat.le_of_ble_eq_true rfl⟩ rfl rfl (Nat.le_of_ble_eq_true rfl) dX0_refuseIf_10 (Nat.le_of_ble_eq_true rfl) (Nat.le_of_ble_eq_true rfl)) hI_10 (fun X_14 H_17 L_18 hq_15 hI_16 => ?_)
    obtain ⟨⟨fs_19, hf_20, hv_22, hv_23⟩, hf1_21⟩ := hq_15
    have hfm_24 : xk_fx (fun _ => False) X X_14 := xk_fx.tr hfm_13 hf1_21 (fun a o e q z => (absurd (congrArg Prod.fst z) (hnr_3 _ _ _ q)))
    exact xk_thr B hI_16 hex hf_20 rfl dX0_refuseIf_13 (Nat.le_of_ble_eq_true rfl) (Nat.le_of_ble_eq_true rfl) (⟨hc_1, ⟨rfl, _, _, hf_20, hv_22, hv_23⟩, (xk_fx.tole hfm_24)⟩)
