/-! the component: printed by tools/comp2.py -/
set_option maxRecDepth 100000
set_option maxHeartbeats 4000000 in
theorem c0_isBetween (g : xk_G) {X : xk_H} {x lo hi : Int32} {a9 b9 : Int} (ha : lo.toInt = a9) (hb9 : hi.toInt = b9) : xk_C g yX0_isBetween (ws_ yX0_isBetween cX0_isBetween 3 (some .boolean)) ({ frames := 0, cells := 0, slots := 0, locals := 0 } : Room) [.int x, .int lo, .int hi] X (xk_Qi (xk_z (tl_rng x a9 b9)) (fun X1 => X1 = X)) := by
  refine xk_ofW (by decide +kernel) (Nat.le_of_ble_eq_true rfl) (fun p e s m args below meth c B hr hname hargs hI ls hl => ?_)
  have B : xk_B g p s m args meth c RX0 cX0_isBetween 3 := B
  have hl : lv_has ls 3 [(0, .int x), (1, .int lo), (2, .int hi)] := hl
  have hx := B.1
  have hb := B.2.1
  refine lv_iload_n hx hb dX0_isBetween_0 rfl (lv_at hl 0 rfl) ?_
  refine lv_iload_n hx hb dX0_isBetween_1 rfl (lv_at hl 1 rfl) ?_
  refine lv_icmp_lt (tgt := 14) hx hb dX0_isBetween_2 (by decide) (fun hc_2 => ?_) (fun hc_2 => ?_)
  · refine lv_iconst (v := nI 0) hx hb dX0_isBetween_14 (by decide) ?_
    exact xk_reti B hI hr (by decide) dX0_isBetween_15 (Nat.le_of_ble_eq_true rfl) (Nat.le_of_ble_eq_true rfl) (⟨by rw [show tl_rng x a9 b9 = false from decide_eq_false (fun z => by have := Int32.lt_iff_toInt_lt.mp hc_2; omega), xk_z0], rfl⟩)
  · refine lv_iload_n hx hb dX0_isBetween_5 rfl (lv_at hl 0 rfl) ?_
    refine lv_iload_n hx hb dX0_isBetween_6 rfl (lv_at hl 2 rfl) ?_
    refine lv_icmp_gt (tgt := 14) hx hb dX0_isBetween_7 (by decide) (fun hc_7 => ?_) (fun hc_7 => ?_)
    · refine lv_iconst (v := nI 0) hx hb dX0_isBetween_14 (by decide) ?_
      exact xk_reti B hI hr (by decide) dX0_isBetween_15 (Nat.le_of_ble_eq_true rfl) (Nat.le_of_ble_eq_true rfl) (⟨by rw [show tl_rng x a9 b9 = false from decide_eq_false (fun z => by have := Int32.lt_iff_toInt_lt.mp hc_7; omega), xk_z0], rfl⟩)
    · refine lv_iconst (v := nI 1) hx hb dX0_isBetween_10 (by decide) ?_
      refine lv_goto (tgt := 15) hx hb dX0_isBetween_11 (by decide) ?_
      exact xk_reti B hI hr (by decide) dX0_isBetween_15 (Nat.le_of_ble_eq_true rfl) (Nat.le_of_ble_eq_true rfl) (⟨by rw [show tl_rng x a9 b9 = true from decide_eq_true ⟨by have := Int32.le_iff_toInt_le.mp (Int32.not_lt.mp hc_2); omega, by have := Int32.le_iff_toInt_le.mp (Int32.not_lt.mp hc_7); omega⟩, xk_z1], rfl⟩)
set_option maxHeartbeats 4000000 in
theorem c0_isRed (g : xk_G) {X : xk_H} {p9 k9 : Nat} (hp : p9 < 2147483648) (hk9 : k9 < 32) : xk_C g yX0_isRed (ws_ yX0_isRed cX0_isRed 2 (some .boolean)) ({ frames := 0, cells := 0, slots := 0, locals := 0 } : Room) [.int (nI p9), .int (nI k9)] X (xk_Qi (nI (tl_bit p9 k9)) (fun X1 => X1 = X)) := by
  refine xk_ofW (by decide +kernel) (Nat.le_of_ble_eq_true rfl) (fun p e s m args below meth c B hr hname hargs hI ls hl => ?_)
  have B : xk_B g p s m args meth c RX0 cX0_isRed 2 := B
  have hl : lv_has ls 2 [(0, .int (nI p9)), (1, .int (nI k9))] := hl
  have hx := B.1
  have hb := B.2.1
  refine lv_iload_n hx hb dX0_isRed_0 rfl (lv_at hl 0 rfl) ?_
  refine lv_iload_n hx hb dX0_isRed_1 rfl (lv_at hl 1 rfl) ?_
  refine lv_ishr hx hb dX0_isRed_2 (xk_top (xk_shr (by omega) (by omega)) ?_)
  refine lv_iconst (v := nI 1) hx hb dX0_isRed_3 (by decide) ?_
  refine lv_iand hx hb dX0_isRed_4 (xk_top (xk_and _ _) ?_)
  refine xk_top (congrArg nI (show p9 / 2 ^ k9 &&& 1 = tl_bit p9 k9 from rfl)) ?_
  refine lv_iconst (v := nI 1) hx hb dX0_isRed_5 (by decide) ?_
  have hbt := tl_bit_le p9 k9
  refine xk_icmp_ne (tgt := 13) hx hb (by omega) (by omega) dX0_isRed_6 (by decide) (fun hc_6 => ?_) (fun hc_6 => ?_)
  · refine lv_iconst (v := nI 0) hx hb dX0_isRed_13 (by decide) ?_
    exact xk_reti B hI hr (by decide) dX0_isRed_14 (Nat.le_of_ble_eq_true rfl) (Nat.le_of_ble_eq_true rfl) (⟨by rw [show tl_bit p9 k9 = 0 by omega], rfl⟩)
  · refine lv_iconst (v := nI 1) hx hb dX0_isRed_9 (by decide) ?_
    refine lv_goto (tgt := 14) hx hb dX0_isRed_10 (by decide) ?_
    exact xk_reti B hI hr (by decide) dX0_isRed_14 (Nat.le_of_ble_eq_true rfl) (Nat.le_of_ble_eq_true rfl) (⟨by rw [show tl_bit p9 k9 = 1 by omega], rfl⟩)
set_option maxHeartbeats 4000000 in
theorem cb_isBred (g : xk_G) {X : xk_H} {o n9 p9 mo fa li ye ge sp : Nat} {ow : Nat × Nat} (hO : X o = some (ow, .inr (3, [.int (nI n9), .int (nI p9), .int (tm_it mo), .int (tm_it fa), .int (nI ye), .int (nI ge), .int (nI sp), .int (nI (1 - li))]))) (hmo : mo ≤ 40) : xk_C g yX5_isBred (ws_ yX5_isBred cX5_isBred 1 (some .boolean)) ({ frames := 0, cells := 0, slots := 0, locals := 0 } : Room) [.ref o] X (xk_Qi (nI (if mo = 0 then 0 else 1)) (fun X1 => X1 = X)) := by
  refine xk_ofW (by decide +kernel) (Nat.le_of_ble_eq_true rfl) (fun p e s m args below meth c B hr hname hargs hI ls hl => ?_)
  have B : xk_B g p s m args meth c RX5 cX5_isBred 1 := B
  have hl : lv_has ls 1 [(0, .ref o)] := hl
  have hx := B.1
  have hb := B.2.1
  refine lv_aload_n hx hb dX5_isBred_0 rfl (lv_at hl 0 rfl) ?_
  refine xk_get B hI hO rfl in_X5 2 (by decide) q431 rfl dX5_isBred_1 ?_
  refine lv_bipush (v := (-4)) hx hb dX5_isBred_4 (by decide) ?_
  refine lv_icmp_eq (tgt := 13) hx hb dX5_isBred_6 (by decide) (fun hc_6 => ?_) (fun hc_6 => ?_)
  · refine lv_iconst (v := nI 0) hx hb dX5_isBred_13 (by decide) ?_
    exact xk_reti B hI hr (by decide) dX5_isBred_14 (Nat.le_of_ble_eq_true rfl) (Nat.le_of_ble_eq_true rfl) (⟨by rw [if_pos (tb_it4 hmo hc_6)], rfl⟩)
  · refine lv_iconst (v := nI 1) hx hb dX5_isBred_9 (by decide) ?_
    refine lv_goto (tgt := 14) hx hb dX5_isBred_10 (by decide) ?_
    exact xk_reti B hI hr (by decide) dX5_isBred_14 (Nat.le_of_ble_eq_true rfl) (Nat.le_of_ble_eq_true rfl) (⟨by rw [if_neg (fun z => hc_6 (by rw [z]; rfl))], rfl⟩)
set_option maxHeartbeats 4000000 in
theorem cb_init (g : xk_G) {X : xk_H} {o n9 p9 ye ge sp : Nat} {mo fa : Int32} {ow : Nat × Nat} (hO : X o = some (ow, .inr (3, [.int (nI 0), .int (nI 0), .int (nI 0), .int (nI 0), .int (nI 0), .int (nI 0), .int (nI 0), .int (nI 0)]))) (hsp : sp ≤ 1) : xk_C g yX5_init (ws_ yX5_init cX5_init 8 none) ({ frames := 1, cells := 0, slots := 0, locals := 12 } : Room) [.ref o, .int (nI n9), .int (nI p9), .int mo, .int fa, .int (nI ye), .int (nI ge), .int (nI sp)] X (xk_Qv (fun X1 => X1 o = some (ow, .inr (3, [.int (nI n9), .int (nI p9), .int mo, .int fa, .int (nI ye), .int (nI ge), .int (nI sp), .int (nI 0)])) ∧ xk_f1 ow X X1)) := by
  refine xk_ofW (by decide +kernel) (Nat.le_of_ble_eq_true rfl) (fun p e s m args below meth c B hr hname hargs hI ls hl => ?_)
  have B : xk_B g p s m args meth c RX5 cX5_init 8 := B
  have hl : lv_has ls 8 [(0, .ref o), (1, .int (nI n9)), (2, .int (nI p9)), (3, .int mo), (4, .int fa), (5, .int (nI ye)), (6, .int (nI ge)), (7, .int (nI sp))] := hl
  have hx := B.1
  have hb := B.2.1
  refine lv_aload_n hx hb dX5_init_0 rfl (lv_at hl 0 rfl) ?_
  refine W.objInit hx hb B.ow (B.ts _ q423) (B.ts _ q108) (B.ts _ q109) rfl (by rw [B.2.2.1]; exact hl.1) rfl dX5_init_1 (Nat.le_of_ble_eq_true rfl) (Nat.le_of_ble_eq_true rfl) ?_
  refine W.eq (g2 := F0 m 4 ls []) rfl ?_
  refine lv_aload_n hx hb dX5_init_4 rfl (lv_at hl 0 rfl) ?_
  refine lv_iload_n hx hb dX5_init_5 rfl (lv_at hl 1 rfl) ?_
  refine xk_putF B hI hname hO rfl in_X5 tyX5 tyX5_ok nmX5 0 (by decide) q424 rfl rfl rfl rfl (Nat.le_of_ble_eq_true rfl) dX5_init_6 (fun X_1 H_5 L_6 hf_3 hn_2 hI_4 => ?_)
  have hf_3 : X_1 o = some (ow, .inr (3, [.int (nI n9), .int (nI 0), .int (nI 0), .int (nI 0), .int (nI 0), .int (nI 0), .int (nI 0), .int (nI 0)])) := hf_3
  have hfm_7 : xk_fx (fun o => o = ow) X X_1 := xk_fx.put xk_fx.rf hn_2 hO (Or.inl rfl)
  refine lv_aload_n hx hb dX5_init_9 rfl (lv_at hl 0 rfl) ?_
  refine lv_iload_n hx hb dX5_init_10 rfl (lv_at hl 2 rfl) ?_
  refine xk_putF B hI_4 hname hf_3 rfl in_X5 tyX5 tyX5_ok nmX5 1 (by decide) q427 rfl rfl rfl rfl (Nat.le_of_ble_eq_true rfl) dX5_init_11 (fun X_8 H_12 L_13 hf_10 hn_9 hI_11 => ?_)
  have hf_10 : X_8 o = some (ow, .inr (3, [.int (nI n9), .int (nI p9), .int (nI 0), .int (nI 0), .int (nI 0), .int (nI 0), .int (nI 0), .int (nI 0)])) := hf_10
  have hfm_14 : xk_fx (fun o => o = ow) X X_8 := xk_fx.put hfm_7 hn_9 hf_3 (Or.inl rfl)
  refine lv_aload_n hx hb dX5_init_14 rfl (lv_at hl 0 rfl) ?_
  refine lv_iload_n hx hb dX5_init_15 rfl (lv_at hl 3 rfl) ?_
  refine xk_putF B hI_11 hname hf_10 rfl in_X5 tyX5 tyX5_ok nmX5 2 (by decide) q431 rfl rfl rfl rfl (Nat.le_of_ble_eq_true rfl) dX5_init_16 (fun X_15 H_19 L_20 hf_17 hn_16 hI_18 => ?_)
  have hf_17 : X_15 o = some (ow, .inr (3, [.int (nI n9), .int (nI p9), .int mo, .int (nI 0), .int (nI 0), .int (nI 0), .int (nI 0), .int (nI 0)])) := hf_17
  have hfm_21 : xk_fx (fun o => o = ow) X X_15 := xk_fx.put hfm_14 hn_16 hf_10 (Or.inl rfl)
  refine lv_aload_n hx hb dX5_init_19 rfl (lv_at hl 0 rfl) ?_
  refine lv_iload hx hb dX5_init_20 (lv_at hl 4 rfl) ?_
  refine xk_putF B hI_18 hname hf_17 rfl in_X5 tyX5 tyX5_ok nmX5 3 (by decide) q434 rfl rfl rfl rfl (Nat.le_of_ble_eq_true rfl) dX5_init_22 (fun X_22 H_26 L_27 hf_24 hn_23 hI_25 => ?_)
  have hf_24 : X_22 o = some (ow, .inr (3, [.int (nI n9), .int (nI p9), .int mo, .int fa, .int (nI 0), .int (nI 0), .int (nI 0), .int (nI 0)])) := hf_24
  have hfm_28 : xk_fx (fun o => o = ow) X X_22 := xk_fx.put hfm_21 hn_23 hf_17 (Or.inl rfl)
  refine lv_aload_n hx hb dX5_init_25 rfl (lv_at hl 0 rfl) ?_
  refine lv_iload hx hb dX5_init_26 (lv_at hl 5 rfl) ?_
  refine xk_putF B hI_25 hname hf_24 rfl in_X5 tyX5 tyX5_ok nmX5 4 (by decide) q437 rfl rfl rfl rfl (Nat.le_of_ble_eq_true rfl) dX5_init_28 (fun X_29 H_33 L_34 hf_31 hn_30 hI_32 => ?_)
  have hf_31 : X_29 o = some (ow, .inr (3, [.int (nI n9), .int (nI p9), .int mo, .int fa, .int (nI ye), .int (nI 0), .int (nI 0), .int (nI 0)])) := hf_31
  have hfm_35 : xk_fx (fun o => o = ow) X X_29 := xk_fx.put hfm_28 hn_30 hf_24 (Or.inl rfl)
  refine lv_aload_n hx hb dX5_init_31 rfl (lv_at hl 0 rfl) ?_
  refine lv_iload hx hb dX5_init_32 (lv_at hl 6 rfl) ?_
  refine xk_putF B hI_32 hname hf_31 rfl in_X5 tyX5 tyX5_ok nmX5 5 (by decide) q439 rfl rfl rfl rfl (Nat.le_of_ble_eq_true rfl) dX5_init_34 (fun X_36 H_40 L_41 hf_38 hn_37 hI_39 => ?_)
  have hf_38 : X_36 o = some (ow, .inr (3, [.int (nI n9), .int (nI p9), .int mo, .int fa, .int (nI ye), .int (nI ge), .int (nI 0), .int (nI 0)])) := hf_38
  have hfm_42 : xk_fx (fun o => o = ow) X X_36 := xk_fx.put hfm_35 hn_37 hf_31 (Or.inl rfl)
  refine lv_aload_n hx hb dX5_init_37 rfl (lv_at hl 0 rfl) ?_
  refine lv_iload hx hb dX5_init_38 (lv_at hl 7 rfl) ?_
  refine xk_putF B hI_39 hname hf_38 rfl in_X5 tyX5 tyX5_ok nmX5 6 (by decide) q442 rfl rfl (xk_nz2 (by omega)) (xk_fz2 (by omega)) (Nat.le_of_ble_eq_true rfl) dX5_init_40 (fun X_43 H_47 L_48 hf_45 hn_44 hI_46 => ?_)
  have hf_45 : X_43 o = some (ow, .inr (3, [.int (nI n9), .int (nI p9), .int mo, .int fa, .int (nI ye), .int (nI ge), .int (nI sp), .int (nI 0)])) := hf_45
  have hfm_49 : xk_fx (fun o => o = ow) X X_43 := xk_fx.put hfm_42 hn_44 hf_38 (Or.inl rfl)
  exact xk_retv B hI_46 hr dX5_init_43 (Nat.le_of_ble_eq_true rfl) (Nat.le_of_ble_eq_true rfl) (⟨rfl, hf_45, hfm_49⟩)
set_option maxHeartbeats 4000000 in
theorem cb_copy (g : xk_G) {X : xk_H} {o n9 p9 mo fa li ye ge sp : Nat} {ow : Nat × Nat} (hO : X o = some (ow, .inr (3, [.int (nI n9), .int (nI p9), .int (tm_it mo), .int (tm_it fa), .int (nI ye), .int (nI ge), .int (nI sp), .int (nI (1 - li))]))) {ow3 : Nat × Nat} (hw : ow ≠ ow3) (hsp : sp ≤ 1) : xk_C g yX5_copy (ws_ yX5_copy cX5_copy 2 (some (.object "TulipLines$Bulb"))) ({ frames := 2, cells := 1, slots := 8, locals := 39 } : Room) [.ref o] X (xk_Qr (fun q X1 => X1 q = some (ow3, .inr (3, [.int (nI n9), .int (nI p9), .int (tm_it mo), .int (tm_it fa), .int (nI ye), .int (nI ge), .int (nI sp), .int (nI (1 - li))])) ∧ xk_f1 ow3 X X1)) := by
  refine xk_ofW (by decide +kernel) (Nat.le_of_ble_eq_true rfl) (fun p e s m args below meth c B hr hname hargs hI ls hl => ?_)
  have B : xk_B g p s m args meth c RX5 cX5_copy 2 := B
  have hl : lv_has ls 2 [(0, .ref o)] := hl
  have hx := B.1
  have hb := B.2.1
  refine xk_newo B hI (fun q9 => ow3) (ci := 3) (C := RX5) (T := TX5) (N := 8) rfl in_X5 tyX5 tyX5_ok q541 q419 q85 (fs := [.int (nI 0), .int (nI 0), .int (nI 0), .int (nI 0), .int (nI 0), .int (nI 0), .int (nI 0), .int (nI 0)]) (fun j hj => by rcases (show j = 0 ∨ j = 1 ∨ j = 2 ∨ j = 3 ∨ j = 4 ∨ j = 5 ∨ j = 6 ∨ j = 7 by omega) with rfl | rfl | rfl | rfl | rfl | rfl | rfl | rfl <;> rfl) (Nat.le_of_ble_eq_true rfl) (Nat.le_of_ble_eq_true rfl) dX5_copy_0 (fun q_1 X_2 H_3 h0_4 hf_5 hn_6 hI_7 => ?_)
  have hle_8 := xk_le.fresh h0_4 hn_6
  have hfm_9 : xk_fx (fun o => o = ow3) X X_2 := xk_fx.le xk_fx.rf hle_8
  refine lv_dup hx hb dX5_copy_3 rfl ?_
  refine lv_aload_n hx hb dX5_copy_4 rfl (lv_at hl 0 rfl) ?_
  have hf_10 := hle_8 _ _ hO
  refine xk_get B hI_7 hf_10 rfl in_X5 0 (by decide) q424 rfl dX5_copy_5 ?_
  refine lv_aload_n hx hb dX5_copy_8 rfl (lv_at hl 0 rfl) ?_
  refine xk_get B hI_7 hf_10 rfl in_X5 1 (by decide) q427 rfl dX5_copy_9 ?_
  refine lv_aload_n hx hb dX5_copy_12 rfl (lv_at hl 0 rfl) ?_
  refine xk_get B hI_7 hf_10 rfl in_X5 2 (by decide) q431 rfl dX5_copy_13 ?_
  refine lv_aload_n hx hb dX5_copy_16 rfl (lv_at hl 0 rfl) ?_
  refine xk_get B hI_7 hf_10 rfl in_X5 3 (by decide) q434 rfl dX5_copy_17 ?_
  refine lv_aload_n hx hb dX5_copy_20 rfl (lv_at hl 0 rfl) ?_
  refine xk_get B hI_7 hf_10 rfl in_X5 4 (by decide) q437 rfl dX5_copy_21 ?_
  refine lv_aload_n hx hb dX5_copy_24 rfl (lv_at hl 0 rfl) ?_
  refine xk_get B hI_7 hf_10 rfl in_X5 5 (by decide) q439 rfl dX5_copy_25 ?_
  refine lv_aload_n hx hb dX5_copy_28 rfl (lv_at hl 0 rfl) ?_
  refine xk_get B hI_7 hf_10 rfl in_X5 6 (by decide) q442 rfl dX5_copy_29 ?_
  refine xk_rv (xk_cI B hI_7 hl [.int (nI n9), .int (nI p9), .int (tm_it mo), .int (tm_it fa), .int (nI ye), .int (nI ge), .int (nI sp)] [.ref q_1] 7 (cb_init g hf_5 (by omega)) q422 q85 q542 q421 rfl ⟨by decide +kernel, by decide +kernel, by decide +kernel⟩ ⟨Nat.le_of_ble_eq_true rfl, Nat.le_of_ble_eq_true rfl⟩ rfl rfl (Nat.le_of_ble_eq_true rfl) dX5_copy_32 (Nat.le_of_ble_eq_true rfl) (Nat.le_of_ble_eq_true rfl)) hI_7 (fun X_14 H_12 L_13 hq_15 hI_11 => ?_)
  obtain ⟨hf_16, hf1_17⟩ := hq_15
  have hfm_18 : xk_fx (fun o => o = ow3) X X_14 := xk_fx.tr hfm_9 hf1_17 (fun a o e q z => z)
  have hf_16 : X_14 q_1 = some (ow3, .inr (3, [.int (nI n9), .int (nI p9), .int (tm_it mo), .int (tm_it fa), .int (nI ye), .int (nI ge), .int (nI sp), .int (nI 0)])) := hf_16
  refine lv_astore_n (lv' := [(1, .ref q_1), (0, .ref o)]) hx hb dX5_copy_35 rfl hl (by decide) rfl (fun ls hl => ?_)
  refine lv_aload_n hx hb dX5_copy_36 rfl (lv_at hl 0 rfl) ?_
  refine lv_aload_n hx hb dX5_copy_37 rfl (lv_at hl 1 rfl) ?_
  have hf_19 := hf1_17 _ _ _ hf_10 hw
  refine xk_get B hI_11 hf_19 rfl in_X5 7 (by decide) q444 rfl dX5_copy_38 ?_
  refine xk_put B hI_11 hf_16 rfl in_X5 tyX5 tyX5_ok nmX5 7 (by decide) q444 rfl (xk_nz2 (by omega)) (xk_fz2 (by omega)) (Nat.le_of_ble_eq_true rfl) dX5_copy_41 (fun X_20 H_24 L_25 hf_22 hn_21 hI_23 => ?_)
  have hf_22 : X_20 q_1 = some (ow3, .inr (3, [.int (nI n9), .int (nI p9), .int (tm_it mo), .int (tm_it fa), .int (nI ye), .int (nI ge), .int (nI sp), .int (nI (1 - li))])) := hf_22
  have hfm_26 : xk_fx (fun o => o = ow3) X X_20 := xk_fx.put hfm_18 hn_21 hf_16 (Or.inl rfl)
  refine lv_aload_n hx hb dX5_copy_44 rfl (lv_at hl 0 rfl) ?_
  exact xk_retr B hI_23 hr (Or.inl ⟨_, rfl⟩) (Or.inr ⟨_, rfl⟩) dX5_copy_45 (Nat.le_of_ble_eq_true rfl) (Nat.le_of_ble_eq_true rfl) (⟨_, rfl, hf_22, hfm_26⟩)
set_option maxHeartbeats 4000000 in
theorem cc_init (g : xk_G) {X : xk_H} {o a9 b9 k9 : Nat} {ow : Nat × Nat} (hO : X o = some (ow, .inr (4, [.null, .null, .int (nI 0)]))) : xk_C g yX6_init (ws_ yX6_init cX6_init 4 none) ({ frames := 1, cells := 0, slots := 0, locals := 12 } : Room) [.ref o, .ref a9, .ref b9, .int (nI k9)] X (xk_Qv (fun X1 => X1 o = some (ow, .inr (4, [.ref a9, .ref b9, .int (nI k9)])) ∧ xk_f1 ow X X1)) := by
  refine xk_ofW (by decide +kernel) (Nat.le_of_ble_eq_true rfl) (fun p e s m args below meth c B hr hname hargs hI ls hl => ?_)
  have B : xk_B g p s m args meth c RX6 cX6_init 4 := B
  have hl : lv_has ls 4 [(0, .ref o), (1, .ref a9), (2, .ref b9), (3, .int (nI k9))] := hl
  have hx := B.1
  have hb := B.2.1
  refine lv_aload_n hx hb dX6_init_0 rfl (lv_at hl 0 rfl) ?_
  refine W.objInit hx hb B.ow (B.ts _ q635) (B.ts _ q108) (B.ts _ q109) rfl (by rw [B.2.2.1]; exact hl.1) rfl dX6_init_1 (Nat.le_of_ble_eq_true rfl) (Nat.le_of_ble_eq_true rfl) ?_
  refine W.eq (g2 := F0 m 4 ls []) rfl ?_
  refine lv_aload_n hx hb dX6_init_4 rfl (lv_at hl 0 rfl) ?_
  refine lv_aload_n hx hb dX6_init_5 rfl (lv_at hl 1 rfl) ?_
  refine xk_putF B hI hname hO rfl in_X6 tyX6 tyX6_ok nmX6 0 (by decide) q636 rfl rfl rfl rfl (Nat.le_of_ble_eq_true rfl) dX6_init_6 (fun X_1 H_5 L_6 hf_3 hn_2 hI_4 => ?_)
  have hf_3 : X_1 o = some (ow, .inr (4, [.ref a9, .null, .int (nI 0)])) := hf_3
  have hfm_7 : xk_fx (fun o => o = ow) X X_1 := xk_fx.put xk_fx.rf hn_2 hO (Or.inl rfl)
  refine lv_aload_n hx hb dX6_init_9 rfl (lv_at hl 0 rfl) ?_
  refine lv_aload_n hx hb dX6_init_10 rfl (lv_at hl 2 rfl) ?_
  refine xk_putF B hI_4 hname hf_3 rfl in_X6 tyX6 tyX6_ok nmX6 1 (by decide) q639 rfl rfl rfl rfl (Nat.le_of_ble_eq_true rfl) dX6_init_11 (fun X_8 H_12 L_13 hf_10 hn_9 hI_11 => ?_)
  have hf_10 : X_8 o = some (ow, .inr (4, [.ref a9, .ref b9, .int (nI 0)])) := hf_10
  have hfm_14 : xk_fx (fun o => o = ow) X X_8 := xk_fx.put hfm_7 hn_9 hf_3 (Or.inl rfl)
  refine lv_aload_n hx hb dX6_init_14 rfl (lv_at hl 0 rfl) ?_
  refine lv_iload_n hx hb dX6_init_15 rfl (lv_at hl 3 rfl) ?_
  refine xk_putF B hI_11 hname hf_10 rfl in_X6 tyX6 tyX6_ok nmX6 2 (by decide) q642 rfl rfl rfl rfl (Nat.le_of_ble_eq_true rfl) dX6_init_16 (fun X_15 H_19 L_20 hf_17 hn_16 hI_18 => ?_)
  have hf_17 : X_15 o = some (ow, .inr (4, [.ref a9, .ref b9, .int (nI k9)])) := hf_17
  have hfm_21 : xk_fx (fun o => o = ow) X X_15 := xk_fx.put hfm_14 hn_16 hf_10 (Or.inl rfl)
  exact xk_retv B hI_18 hr dX6_init_19 (Nat.le_of_ble_eq_true rfl) (Nat.le_of_ble_eq_true rfl) (⟨rfl, hf_17, hfm_21⟩)
set_option maxHeartbeats 4000000 in
theorem cc_pattern (g : xk_G) {X : xk_H} {o a9 b9 k9 p1 p2 : Nat} {ow oa ob : Nat × Nat} {x1 x2 x3 x4 x5 x6 x7 y1 y2 y3 y4 y5 y6 y7 : Int32} (hO : X o = some (ow, .inr (4, [.ref a9, .ref b9, .int (nI k9)]))) (hA : X a9 = some (oa, .inr (3, [.int x1, .int (nI p1), .int x2, .int x3, .int x4, .int x5, .int x6, .int x7]))) (hB : X b9 = some (ob, .inr (3, [.int y1, .int (nI p2), .int y2, .int y3, .int y4, .int y5, .int y6, .int y7]))) (hk9 : k9 ≤ 8) (h1 : p1 < 256) (h2 : p2 < 256) : xk_C g yX6_pattern (ws_ yX6_pattern cX6_pattern 2 (some .int)) ({ frames := 0, cells := 0, slots := 0, locals := 0 } : Room) [.ref o] X (xk_Qi (nI (tl_mix p1 p2 k9)) (fun X1 => X1 = X)) := by
  refine xk_ofW (by decide +kernel) (Nat.le_of_ble_eq_true rfl) (fun p e s m args below meth c B hr hname hargs hI ls hl => ?_)
  have B : xk_B g p s m args meth c RX6 cX6_pattern 2 := B
  have hl : lv_has ls 2 [(0, .ref o)] := hl
  have hx := B.1
  have hb := B.2.1
  have hp8 := tl_pow8' k9 hk9
  have hp9 : 0 < 2 ^ k9 := Nat.pow_pos (by decide)
  refine lv_iconst (v := nI 1) hx hb dX6_pattern_0 (by decide) ?_
  refine lv_aload_n hx hb dX6_pattern_1 rfl (lv_at hl 0 rfl) ?_
  refine xk_get B hI hO rfl in_X6 2 (by decide) q642 rfl dX6_pattern_2 ?_
  refine lv_ishl hx hb dX6_pattern_5 (xk_top (xk_shl1 (by omega)) ?_)
  refine lv_iconst (v := nI 1) hx hb dX6_pattern_6 (by decide) ?_
  refine lv_isub hx hb dX6_pattern_7 (xk_top (pk_sub (by omega)) ?_)
  refine lv_istore_n (lv' := [(1, .int (nI ((2 ^ k9) - 1))), (0, .ref o)]) hx hb dX6_pattern_8 rfl hl (by decide) rfl (fun ls hl => ?_)
  refine lv_aload_n hx hb dX6_pattern_9 rfl (lv_at hl 1 rfl) ?_
  refine xk_get B hI hO rfl in_X6 0 (by decide) q636 rfl dX6_pattern_10 ?_
  refine xk_get B hI hA rfl in_X5 1 (by decide) q428 rfl dX6_pattern_13 ?_
  refine lv_iload_n hx hb dX6_pattern_16 rfl (lv_at hl 0 rfl) ?_
  refine lv_iand hx hb dX6_pattern_17 (xk_top (xk_and _ _) ?_)
  refine lv_aload_n hx hb dX6_pattern_18 rfl (lv_at hl 1 rfl) ?_
  refine xk_get B hI hO rfl in_X6 1 (by decide) q639 rfl dX6_pattern_19 ?_
  refine xk_get B hI hB rfl in_X5 1 (by decide) q428 rfl dX6_pattern_22 ?_
  refine lv_iload_n hx hb dX6_pattern_25 rfl (lv_at hl 0 rfl) ?_
  refine lv_iconst (v := (-1)) hx hb dX6_pattern_26 (by decide) ?_
  refine lv_ixor hx hb dX6_pattern_27 ?_
  refine lv_iand hx hb dX6_pattern_28 ?_
  refine xk_top (tl_andn h2) ?_
  refine lv_ior hx hb dX6_pattern_29 (xk_top (xk_or _ _) ?_)
  exact xk_reti B hI hr rfl dX6_pattern_30 (Nat.le_of_ble_eq_true rfl) (Nat.le_of_ble_eq_true rfl) (⟨rfl, rfl⟩)
