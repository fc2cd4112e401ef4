/-! the model: walks, printed by tools/model.py -/
set_option maxRecDepth 100000
/-- a bulb's own fields: number, then the row's seven (pattern, mother + 1, father + 1, lives, year, generation, sport) -/
def tb_fs (n p mo fa li ye ge sp : Nat) : List Value := [.int (nI n), .int (nI p), .int (tm_it mo), .int (tm_it fa), .int (nI ye), .int (nI ge), .int (nI sp), .int (nI (1 - li))]
theorem tb_it4 {mo : Nat} (hm : mo ≤ 40) (h : tm_it mo = -4) : mo = 0 := by
  rcases mo with _ | k
  · rfl
  · have h : nI k = -4 := h
    exact absurd h (fun z => by have q := congrArg Int32.toInt z; rw [nI_toInt (by omega)] at q; have e : (-4 : Int32).toInt = -4 := by decide
                                rw [e] at q; omega)
set_option maxHeartbeats 4000000 in
theorem c5_isBred (g : xk_G) {X : xk_H} {o n p9 mo fa li ye ge sp : Nat} {ow : Nat × Nat} (hO : X o = some (ow, .inr (3, [.int (nI n), .int (nI p9), .int (tm_it mo), .int (tm_it fa), .int (nI ye), .int (nI ge), .int (nI sp), .int (nI (1 - li))]))) (hmo : mo ≤ 40) : xk_C g yX5_isBred (ws_ yX5_isBred cX5_isBred 1 (some .boolean)) ({ frames := 0, cells := 0, slots := 0, locals := 0 } : Room) [.ref o] X (xk_Qi (nI (if mo = 0 then 0 else 1)) (fun X1 => X1 = X)) := by
  refine xk_ofW (by decide +kernel) (Nat.le_of_ble_eq_true rfl) (fun p e s m args below meth c B hr hname hargs hI ls hl => ?_)
  have B : xk_B g p s m args meth c RX5 cX5_isBred 1 := B
  have hl : lv_has ls 1 [(0, .ref o)] := hl
  have hx := B.1
  have hb := B.2.1
  refine lv_aload_n hx hb dX5_isBred_0 rfl (lv_at hl 0 rfl) ?_
  refine xk_get B hI hO rfl in_X5 2 (by decide) q431 rfl dX5_isBred_1 ?_
  refine lv_bipush (v := (-4)) hx hb dX5_isBred_4 (by decide) ?_
  refine lv_icmp_eq (tgt := 13) hx hb dX5_isBred_6 (by decide) (fun hc_6 => ?_) (fun hc_6 => ?_)
  · refine lv_iconst (v := nI 0) hx hb dX5_isBred_13 (by decide) ?_
    exact xk_reti B hI hr (by decide) dX5_isBred_14 (Nat.le_of_ble_eq_true rfl) (Nat.le_of_ble_eq_true rfl) (⟨by rw [if_pos (tb_it4 hmo hc_6)], rfl⟩)
  · refine lv_iconst (v := nI 1) hx hb dX5_isBred_9 (by decide) ?_
    refine lv_goto (tgt := 14) hx hb dX5_isBred_10 (by decide) ?_
    exact xk_reti B hI hr (by decide) dX5_isBred_14 (Nat.le_of_ble_eq_true rfl) (Nat.le_of_ble_eq_true rfl) (⟨by rw [if_neg (fun z => hc_6 (by rw [z]; rfl))], rfl⟩)
set_option maxHeartbeats 4000000 in
theorem c5_init (g : xk_G) {X : xk_H} {o n p9 mo fa ye ge sp : Nat} {ow : Nat × Nat} (hO : X o = some (ow, .inr (3, [.int (nI 0), .int (nI 0), .int (nI 0), .int (nI 0), .int (nI 0), .int (nI 0), .int (nI 0), .int (nI 0)]))) (hsp : sp ≤ 1) : xk_C g yX5_init (ws_ yX5_init cX5_init 8 none) ({ frames := 1, cells := 0, slots := 0, locals := 12 } : Room) [.ref o, .int (nI n), .int (nI p9), .int (tm_it mo), .int (tm_it fa), .int (nI ye), .int (nI ge), .int (nI sp)] X (xk_Qv (fun X1 => X1 o = some (ow, .inr (3, tb_fs n p9 mo fa 1 ye ge sp)) ∧ ∀ b, b ≠ o → X1 b = X b)) := by
  refine xk_ofW (by decide +kernel) (Nat.le_of_ble_eq_true rfl) (fun p e s m args below meth c B hr hname hargs hI ls hl => ?_)
  have B : xk_B g p s m args meth c RX5 cX5_init 8 := B
  have hl : lv_has ls 8 [(0, .ref o), (1, .int (nI n)), (2, .int (nI p9)), (3, .int (tm_it mo)), (4, .int (tm_it fa)), (5, .int (nI ye)), (6, .int (nI ge)), (7, .int (nI sp))] := hl
  have hx := B.1
  have hb := B.2.1
  refine lv_aload_n hx hb dX5_init_0 rfl (lv_at hl 0 rfl) ?_
  refine W.objInit hx hb B.ow (B.ts _ q423) (B.ts _ q108) (B.ts _ q109) rfl (by rw [B.2.2.1]; exact hl.1) rfl dX5_init_1 (Nat.le_of_ble_eq_true rfl) (Nat.le_of_ble_eq_true rfl) ?_
  refine W.eq (g2 := F0 m 4 ls []) rfl ?_
  refine lv_aload_n hx hb dX5_init_4 rfl (lv_at hl 0 rfl) ?_
  refine lv_iload_n hx hb dX5_init_5 rfl (lv_at hl 1 rfl) ?_
  refine xk_putF B hI hname hO rfl in_X5 tyX5 tyX5_ok nmX5 0 (by decide) q424 rfl rfl rfl rfl (Nat.le_of_ble_eq_true rfl) dX5_init_6 (fun X_1 H_5 L_6 hf_3 hn_2 hI_4 => ?_)
  have hf_3 : X_1 o = some (ow, .inr (3, [.int (nI n), .int (nI 0), .int (nI 0), .int (nI 0), .int (nI 0), .int (nI 0), .int (nI 0), .int (nI 0)])) := hf_3
  have hne_7 : ∀ b, b ≠ o → X_1 b = X b := fun b z0 => (hn_2 b z0).trans ((fun _ _ => rfl) b z0)
  refine lv_aload_n hx hb dX5_init_9 rfl (lv_at hl 0 rfl) ?_
  refine lv_iload_n hx hb dX5_init_10 rfl (lv_at hl 2 rfl) ?_
  refine xk_putF B hI_4 hname hf_3 rfl in_X5 tyX5 tyX5_ok nmX5 1 (by decide) q427 rfl rfl rfl rfl (Nat.le_of_ble_eq_true rfl) dX5_init_11 (fun X_8 H_12 L_13 hf_10 hn_9 hI_11 => ?_)
  have hf_10 : X_8 o = some (ow, .inr (3, [.int (nI n), .int (nI p9), .int (nI 0), .int (nI 0), .int (nI 0), .int (nI 0), .int (nI 0), .int (nI 0)])) := hf_10
  have hne_14 : ∀ b, b ≠ o → X_8 b = X b := fun b z0 => (hn_9 b z0).trans (hne_7 b z0)
  refine lv_aload_n hx hb dX5_init_14 rfl (lv_at hl 0 rfl) ?_
  refine lv_iload_n hx hb dX5_init_15 rfl (lv_at hl 3 rfl) ?_
  refine xk_putF B hI_11 hname hf_10 rfl in_X5 tyX5 tyX5_ok nmX5 2 (by decide) q431 rfl rfl rfl rfl (Nat.le_of_ble_eq_true rfl) dX5_init_16 (fun X_15 H_19 L_20 hf_17 hn_16 hI_18 => ?_)
  have hf_17 : X_15 o = some (ow, .inr (3, [.int (nI n), .int (nI p9), .int (tm_it mo), .int (nI 0), .int (nI 0), .int (nI 0), .int (nI 0), .int (nI 0)])) := hf_17
  have hne_21 : ∀ b, b ≠ o → X_15 b = X b := fun b z0 => (hn_16 b z0).trans (hne_14 b z0)
  refine lv_aload_n hx hb dX5_init_19 rfl (lv_at hl 0 rfl) ?_
  refine lv_iload hx hb dX5_init_20 (lv_at hl 4 rfl) ?_
  refine xk_putF B hI_18 hname hf_17 rfl in_X5 tyX5 tyX5_ok nmX5 3 (by decide) q434 rfl rfl rfl rfl (Nat.le_of_ble_eq_true rfl) dX5_init_22 (fun X_22 H_26 L_27 hf_24 hn_23 hI_25 => ?_)
  have hf_24 : X_22 o = some (ow, .inr (3, [.int (nI n), .int (nI p9), .int (tm_it mo), .int (tm_it fa), .int (nI 0), .int (nI 0), .int (nI 0), .int (nI 0)])) := hf_24
  have hne_28 : ∀ b, b ≠ o → X_22 b = X b := fun b z0 => (hn_23 b z0).trans (hne_21 b z0)
  refine lv_aload_n hx hb dX5_init_25 rfl (lv_at hl 0 rfl) ?_
  refine lv_iload hx hb dX5_init_26 (lv_at hl 5 rfl) ?_
  refine xk_putF B hI_25 hname hf_24 rfl in_X5 tyX5 tyX5_ok nmX5 4 (by decide) q437 rfl rfl rfl rfl (Nat.le_of_ble_eq_true rfl) dX5_init_28 (fun X_29 H_33 L_34 hf_31 hn_30 hI_32 => ?_)
  have hf_31 : X_29 o = some (ow, .inr (3, [.int (nI n), .int (nI p9), .int (tm_it mo), .int (tm_it fa), .int (nI ye), .int (nI 0), .int (nI 0), .int (nI 0)])) := hf_31
  have hne_35 : ∀ b, b ≠ o → X_29 b = X b := fun b z0 => (hn_30 b z0).trans (hne_28 b z0)
  refine lv_aload_n hx hb dX5_init_31 rfl (lv_at hl 0 rfl) ?_
  refine lv_iload hx hb dX5_init_32 (lv_at hl 6 rfl) ?_
  refine xk_putF B hI_32 hname hf_31 rfl in_X5 tyX5 tyX5_ok nmX5 5 (by decide) q439 rfl rfl rfl rfl (Nat.le_of_ble_eq_true rfl) dX5_init_34 (fun X_36 H_40 L_41 hf_38 hn_37 hI_39 => ?_)
  have hf_38 : X_36 o = some (ow, .inr (3, [.int (nI n), .int (nI p9), .int (tm_it mo), .int (tm_it fa), .int (nI ye), .int (nI ge), .int (nI 0), .int (nI 0)])) := hf_38
  have hne_42 : ∀ b, b ≠ o → X_36 b = X b := fun b z0 => (hn_37 b z0).trans (hne_35 b z0)
  refine lv_aload_n hx hb dX5_init_37 rfl (lv_at hl 0 rfl) ?_
  refine lv_iload hx hb dX5_init_38 (lv_at hl 7 rfl) ?_
  refine xk_putF B hI_39 hname hf_38 rfl in_X5 tyX5 tyX5_ok nmX5 6 (by decide) q442 rfl rfl (xk_nz2 (by omega)) (xk_fz2 (by omega)) (Nat.le_of_ble_eq_true rfl) dX5_init_40 (fun X_43 H_47 L_48 hf_45 hn_44 hI_46 => ?_)
  have hf_45 : X_43 o = some (ow, .inr (3, [.int (nI n), .int (nI p9), .int (tm_it mo), .int (tm_it fa), .int (nI ye), .int (nI ge), .int (nI sp), .int (nI 0)])) := hf_45
  have hne_49 : ∀ b, b ≠ o → X_43 b = X b := fun b z0 => (hn_44 b z0).trans (hne_42 b z0)
  exact xk_retv B hI_46 hr dX5_init_43 (Nat.le_of_ble_eq_true rfl) (Nat.le_of_ble_eq_true rfl) (⟨rfl, hf_45, hne_49⟩)
