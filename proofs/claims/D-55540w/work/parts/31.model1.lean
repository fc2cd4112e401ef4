/-! the model: walks, printed by tools/model.py -/
set_option maxRecDepth 100000
set_option maxHeartbeats 4000000 in
theorem m2_of (g : xk_G) {X : xk_H} (b : Nat) : xk_C g yX2_of (ws_ yX2_of cX2_of 1 (some .int)) ({ frames := 0, cells := 0, slots := 0, locals := 0 } : Room) [.int (nI b)] X (xk_Qi (nI (14 + 7 * b)) (fun X1 => X1 = X)) := by
  refine xk_ofW (by decide +kernel) (Nat.le_of_ble_eq_true rfl) (fun p e s m args below meth c B hr hname hargs hI ls hl => ?_)
  have B : xk_B g p s m args meth c RX2 cX2_of 1 := B
  have hl : lv_has ls 1 [(0, .int (nI b))] := hl
  have hx := B.1
  have hb := B.2.1
  refine lv_bipush (v := nI 14) hx hb dX2_of_0 (by decide) ?_
  refine lv_bipush (v := nI 7) hx hb dX2_of_2 (by decide) ?_
  refine lv_iload_n hx hb dX2_of_4 rfl (lv_at hl 0 rfl) ?_
  refine lv_imul hx hb dX2_of_5 (xk_top (pk_mul _ _) ?_)
  refine lv_iadd hx hb dX2_of_6 (xk_top (nI_add _ _) ?_)
  exact xk_reti B hI hr rfl dX2_of_7 (Nat.le_of_ble_eq_true rfl) (Nat.le_of_ble_eq_true rfl) (⟨rfl, rfl⟩)
set_option maxHeartbeats 4000000 in
theorem m2_in (g : xk_G) {X : xk_H} {a b c9 : Int64} {x lo hi : Int} (ha : a.toInt = x) (hlo : b.toInt = lo) (hhi : c9.toInt = hi) : xk_C g yX2_in (ws_ yX2_in cX2_in 6 (some .boolean)) ({ frames := 0, cells := 0, slots := 0, locals := 0 } : Room) [.long a, .long b, .long c9] X (xk_Qi (xk_z (decide (lo ≤ x ∧ x ≤ hi))) (fun X1 => X1 = X)) := by
  refine xk_ofW (by decide +kernel) (Nat.le_of_ble_eq_true rfl) (fun p e s m args below meth c B hr hname hargs hI ls hl => ?_)
  have B : xk_B g p s m args meth c RX2 cX2_in 6 := B
  have hl : lv_has ls 6 [(0, .long a), (2, .long b), (4, .long c9)] := hl
  have hx := B.1
  have hb := B.2.1
  refine lv_lload_n hx hb dX2_in_0 rfl (lv_at hl 0 rfl) ?_
  refine lv_lload_n hx hb dX2_in_1 rfl (lv_at hl 1 rfl) ?_
  refine W.lcmp hx hb dX2_in_2 ?_
  refine lv_if_lt (tgt := 17) hx hb dX2_in_3 (by decide) (fun hc_3 => ?_) (fun hc_3 => ?_)
  · refine lv_iconst (v := nI 0) hx hb dX2_in_17 (by decide) ?_
    exact xk_reti B hI hr (by decide) dX2_in_18 (Nat.le_of_ble_eq_true rfl) (Nat.le_of_ble_eq_true rfl) (⟨congrArg (fun z => some (Value.int z)) (by have q1 := (tl_lc1 _ _).mp hc_3; rw [show decide (lo ≤ x ∧ x ≤ hi) = false from decide_eq_false (by omega)]; decide), rfl⟩)
  · refine lv_lload_n hx hb dX2_in_6 rfl (lv_at hl 0 rfl) ?_
    refine lv_lload hx hb dX2_in_7 (lv_at hl 2 rfl) ?_
    refine W.lcmp hx hb dX2_in_9 ?_
    refine lv_if_gt (tgt := 17) hx hb dX2_in_10 (by decide) (fun hc_10 => ?_) (fun hc_10 => ?_)
    · refine lv_iconst (v := nI 0) hx hb dX2_in_17 (by decide) ?_
      exact xk_reti B hI hr (by decide) dX2_in_18 (Nat.le_of_ble_eq_true rfl) (Nat.le_of_ble_eq_true rfl) (⟨congrArg (fun z => some (Value.int z)) (by have q1 := (tl_lc2 _ _).mp hc_10; rw [show decide (lo ≤ x ∧ x ≤ hi) = false from decide_eq_false (by omega)]; decide), rfl⟩)
    · refine lv_iconst (v := nI 1) hx hb dX2_in_13 (by decide) ?_
      refine lv_goto (tgt := 18) hx hb dX2_in_14 (by decide) ?_
      exact xk_reti B hI hr (by decide) dX2_in_18 (Nat.le_of_ble_eq_true rfl) (Nat.le_of_ble_eq_true rfl) (⟨congrArg (fun z => some (Value.int z)) (by have q1 : ¬ a.toInt < b.toInt := fun z => hc_3 ((tl_lc1 _ _).mpr z); have q2 : ¬ c9.toInt < a.toInt := fun z => hc_10 ((tl_lc2 _ _).mpr z); rw [show decide (lo ≤ x ∧ x ≤ hi) = true from decide_eq_true (by omega)]; decide), rfl⟩)
set_option maxHeartbeats 4000000 in
theorem m2_refuse (g : xk_G) {X : xk_H} {o : Nat} {ad : Nat → Nat} {A : Nat → Nat → Nat} {S : Nat → Nat} (hM : tm_Ok g X o ad A S) (r d : Nat) : xk_C g yX2_refuse (ws_ yX2_refuse cX2_refuse 3 (some .int)) ({ frames := 0, cells := 0, slots := 0, locals := 0 } : Room) [.ref o, .int (nI r), .int (nI d)] X (xk_Qi (-3) (fun X1 => tm_Ok g X1 o ad A (tl_ref S r d) ∧ xk_fr o X X1)) := by
  refine xk_ofW (by decide +kernel) (Nat.le_of_ble_eq_true rfl) (fun p e s m args below meth c B hr hname hargs hI ls hl => ?_)
  have B : xk_B g p s m args meth c RX2 cX2_refuse 3 := B
  have hl : lv_has ls 3 [(0, .ref o), (1, .int (nI r)), (2, .int (nI d))] := hl
  have hx := B.1
  have hb := B.2.1
  have hM0 := hM
  obtain ⟨hO, hA0, hA1, hA2, hA3, hA4, hA5, hA6, hA7, hA8, hA9⟩ := hM
  have hfr : xk_fr o X X := xk_fr.rf
  refine lv_aload_n hx hb dX2_refuse_0 rfl (lv_at hl 0 rfl) ?_
  refine lv_iload_n hx hb dX2_refuse_1 rfl (lv_at hl 1 rfl) ?_
  refine xk_put B hI hO rfl in_X2 tyX2 tyX2_ok nmX2 7 (by decide) q1439 rfl rfl rfl (Nat.le_of_ble_eq_true rfl) dX2_refuse_2 (fun X_1 H_5 L_6 hf_3 hn_2 hI_4 => ?_)
  have hf_3 : X_1 o = some ((o, 0), .inr (0, [.ref (ad 0), .ref (ad 1), .ref (ad 2), .ref (ad 3), .int (nI (S 0)), .ref (ad 4), .int (nI (S 1)), .int (nI r), .int (nI (S 3)), .int (tm_it (S 4)), .ref (ad 5), .int (nI (S 5)), .ref (ad 6), .ref (ad 7), .ref (ad 8), .int (nI (S 6)), .ref (ad 9), .int (nI (S 7)), .int (nI (S 8)), .int (nI (S 9)), .int (nI (S 10))])) := hf_3
  have hfr_7 := xk_fr.put hfr hO hn_2
  refine lv_aload_n hx hb dX2_refuse_5 rfl (lv_at hl 0 rfl) ?_
  refine lv_iload_n hx hb dX2_refuse_6 rfl (lv_at hl 2 rfl) ?_
  refine xk_put B hI_4 hf_3 rfl in_X2 tyX2 tyX2_ok nmX2 8 (by decide) q1440 rfl rfl rfl (Nat.le_of_ble_eq_true rfl) dX2_refuse_7 (fun X_8 H_12 L_13 hf_10 hn_9 hI_11 => ?_)
  have hf_10 : X_8 o = some ((o, 0), .inr (0, [.ref (ad 0), .ref (ad 1), .ref (ad 2), .ref (ad 3), .int (nI (S 0)), .ref (ad 4), .int (nI (S 1)), .int (nI r), .int (nI d), .int (tm_it (S 4)), .ref (ad 5), .int (nI (S 5)), .ref (ad 6), .ref (ad 7), .ref (ad 8), .int (nI (S 6)), .ref (ad 9), .int (nI (S 7)), .int (nI (S 8)), .int (nI (S 9)), .int (nI (S 10))])) := hf_10
  have hfr_14 := xk_fr.put hfr_7 hf_3 hn_9
  refine lv_aload_n hx hb dX2_refuse_10 rfl (lv_at hl 0 rfl) ?_
  refine lv_bipush (v := (-4)) hx hb dX2_refuse_11 (by decide) ?_
  refine xk_put B hI_11 hf_10 rfl in_X2 tyX2 tyX2_ok nmX2 9 (by decide) q1441 rfl rfl rfl (Nat.le_of_ble_eq_true rfl) dX2_refuse_13 (fun X_15 H_19 L_20 hf_17 hn_16 hI_18 => ?_)
  have hf_17 : X_15 o = some ((o, 0), .inr (0, [.ref (ad 0), .ref (ad 1), .ref (ad 2), .ref (ad 3), .int (nI (S 0)), .ref (ad 4), .int (nI (S 1)), .int (nI r), .int (nI d), .int (-4), .ref (ad 5), .int (nI (S 5)), .ref (ad 6), .ref (ad 7), .ref (ad 8), .int (nI (S 6)), .ref (ad 9), .int (nI (S 7)), .int (nI (S 8)), .int (nI (S 9)), .int (nI (S 10))])) := hf_17
  have hfr_21 := xk_fr.put hfr_14 hf_10 hn_16
  refine lv_bipush (v := (-3)) hx hb dX2_refuse_16 (by decide) ?_
  have hf_22 := xk_off hn_2 hA0 hO (xk_on1 (by decide))
  have hf_23 := xk_off hn_9 hf_22 hf_3 (xk_on1 (by decide))
  have hf_24 := xk_off hn_16 hf_23 hf_10 (xk_on1 (by decide))
  have hf_25 := xk_off hn_2 hA1 hO (xk_on1 (by decide))
  have hf_26 := xk_off hn_9 hf_25 hf_3 (xk_on1 (by decide))
  have hf_27 := xk_off hn_16 hf_26 hf_10 (xk_on1 (by decide))
  have hf_28 := xk_off hn_2 hA2 hO (xk_on1 (by decide))
  have hf_29 := xk_off hn_9 hf_28 hf_3 (xk_on1 (by decide))
  have hf_30 := xk_off hn_16 hf_29 hf_10 (xk_on1 (by decide))
  have hf_31 := xk_off hn_2 hA3 hO (xk_on1 (by decide))
  have hf_32 := xk_off hn_9 hf_31 hf_3 (xk_on1 (by decide))
  have hf_33 := xk_off hn_16 hf_32 hf_10 (xk_on1 (by decide))
  have hf_34 := xk_off hn_2 hA4 hO (xk_on1 (by decide))
  have hf_35 := xk_off hn_9 hf_34 hf_3 (xk_on1 (by decide))
  have hf_36 := xk_off hn_16 hf_35 hf_10 (xk_on1 (by decide))
  have hf_37 := xk_off hn_2 hA5 hO (xk_on1 (by decide))
  have hf_38 := xk_off hn_9 hf_37 hf_3 (xk_on1 (by decide))
  have hf_39 := xk_off hn_16 hf_38 hf_10 (xk_on1 (by decide))
  have hf_40 := xk_off hn_2 hA6 hO (xk_on1 (by decide))
  have hf_41 := xk_off hn_9 hf_40 hf_3 (xk_on1 (by decide))
  have hf_42 := xk_off hn_16 hf_41 hf_10 (xk_on1 (by decide))
  have hf_43 := xk_off hn_2 hA7 hO (xk_on1 (by decide))
  have hf_44 := xk_off hn_9 hf_43 hf_3 (xk_on1 (by decide))
  have hf_45 := xk_off hn_16 hf_44 hf_10 (xk_on1 (by decide))
  have hf_46 := xk_off hn_2 hA8 hO (xk_on1 (by decide))
  have hf_47 := xk_off hn_9 hf_46 hf_3 (xk_on1 (by decide))
  have hf_48 := xk_off hn_16 hf_47 hf_10 (xk_on1 (by decide))
  have hf_49 := xk_off hn_2 hA9 hO (xk_on1 (by decide))
  have hf_50 := xk_off hn_9 hf_49 hf_3 (xk_on1 (by decide))
  have hf_51 := xk_off hn_16 hf_50 hf_10 (xk_on1 (by decide))
  have hM_52 : tm_Ok g X_15 o ad A (va_up (va_up (va_up S 2 r) 3 d) 4 0) := ⟨hf_17, hf_24, hf_27, hf_30, hf_33, hf_36, hf_39, hf_42, hf_45, hf_48, hf_51⟩
  exact xk_reti B hI_18 hr rfl dX2_refuse_18 (Nat.le_of_ble_eq_true rfl) (Nat.le_of_ble_eq_true rfl) (⟨rfl, hM_52, hfr_21⟩)
set_option maxHeartbeats 4000000 in
theorem m2_begins (g : xk_G) {X : xk_H} {o : Nat} {ad : Nat → Nat} {A : Nat → Nat → Nat} {S : Nat → Nat} (hM : tm_Ok g X o ad A S)  : xk_C g yX2_begins (ws_ yX2_begins cX2_begins 2 none) ({ frames := 0, cells := 0, slots := 0, locals := 0 } : Room) [.ref o] X (xk_Qv (fun X1 => tm_Ok g X1 o ad (va_up A 1 (tl_cp (A 0) (A 1) 294)) S ∧ xk_fr o X X1)) := by
  refine xk_ofW (by decide +kernel) (Nat.le_of_ble_eq_true rfl) (fun p e s m args below meth c B hr hname hargs hI ls hl => ?_)
  have B : xk_B g p s m args meth c RX2 cX2_begins 2 := B
  have hl : lv_has ls 2 [(0, .ref o)] := hl
  have hx := B.1
  have hb := B.2.1
  have hM0 := hM
  obtain ⟨hO, hA0, hA1, hA2, hA3, hA4, hA5, hA6, hA7, hA8, hA9⟩ := hM
  have hfr : xk_fr o X X := xk_fr.rf
  refine lv_iconst (v := nI 0) hx hb dX2_begins_0 (by decide) ?_
  refine lv_istore_n (lv' := [(1, .int (nI 0)), (0, .ref o)]) hx hb dX2_begins_1 rfl hl (by decide) rfl (fun ls hl => ?_)
  have hloop_2 : ∀ (n_2 : Nat) (k : Nat) (f : Nat → Nat) (Xl_2 : xk_H) (H_1 : Heap) (L_2 : List Loc), (k ≤ 294) → (f = tl_cp (A 0) (A 1) k) → 294 - k < n_2 → Xl_2 (ad 1) = some ((o, 2), xk_iA g 0 294 f) → (∀ b, b ≠ (ad 1) → Xl_2 b = X b) → (xk_fr o X Xl_2) → xk_I g s H_1 Xl_2 L_2 → ∀ ls : Array Slot, lv_has ls 2 [(0, .ref o), (1, .int (nI k))] → W p (xk_l g) e (({ frames := 0, cells := 0, slots := 0, locals := 0 } : Room)) s m args below meth c H_1 L_2 0 0 (MQ below (xk_Q g (xk_Qv (fun X1 => tm_Ok g X1 o ad (va_up A 1 (tl_cp (A 0) (A 1) 294)) S ∧ xk_fr o X X1))) args s (0) (0) (xk_A g)) (F0 m 2 ls []) := by
    intro n_2
    induction n_2 with
    | zero => intros; omega
    | succ n_2 ih_2 =>
      intro k f Xl_2 H_1 L_2 hk1 hf1 hm_2 hfl0_2 hne_2 hfrl_2 hI_3 ls hl
      refine lv_iload_n hx hb dX2_begins_2 rfl (lv_at hl 1 rfl) ?_
      refine lv_sipush (v := nI 294) hx hb dX2_begins_3 (by decide) ?_
      refine xk_icmp_ge (tgt := 27) hx hb (by omega) (by omega) dX2_begins_6 (by decide) (fun hc_6 => ?_) (fun hc_6 => ?_)
      · have hk2 : k = 294 := by omega
        subst hk2
        subst hf1
        have hf_4 := (hne_2 _ (xk_ne hA1 hO (xk_on1 (by decide)))).trans hO
        have hf_5 := (hne_2 _ (xk_ne hA1 hA0 (xk_on1 (by decide)))).trans hA0
        have hf_6 := (hne_2 _ (xk_ne hA1 hA2 (xk_on1 (by decide)))).trans hA2
        have hf_7 := (hne_2 _ (xk_ne hA1 hA3 (xk_on1 (by decide)))).trans hA3
        have hf_8 := (hne_2 _ (xk_ne hA1 hA4 (xk_on1 (by decide)))).trans hA4
        have hf_9 := (hne_2 _ (xk_ne hA1 hA5 (xk_on1 (by decide)))).trans hA5
        have hf_10 := (hne_2 _ (xk_ne hA1 hA6 (xk_on1 (by decide)))).trans hA6
        have hf_11 := (hne_2 _ (xk_ne hA1 hA7 (xk_on1 (by decide)))).trans hA7
        have hf_12 := (hne_2 _ (xk_ne hA1 hA8 (xk_on1 (by decide)))).trans hA8
        have hf_13 := (hne_2 _ (xk_ne hA1 hA9 (xk_on1 (by decide)))).trans hA9
        have hM_14 : tm_Ok g Xl_2 o ad (va_up A 1 (tl_cp (A 0) (A 1) 294)) S := ⟨hf_4, hf_5, hfl0_2, hf_6, hf_7, hf_8, hf_9, hf_10, hf_11, hf_12, hf_13⟩
        exact xk_retv B hI_3 hr dX2_begins_27 (Nat.le_of_ble_eq_true rfl) (Nat.le_of_ble_eq_true rfl) (⟨rfl, hM_14, hfrl_2⟩)
      · refine lv_aload_n hx hb dX2_begins_9 rfl (lv_at hl 0 rfl) ?_
        have hf_15 := (hne_2 _ (xk_ne hA1 hO (xk_on1 (by decide)))).trans hO
        refine xk_get B hI_3 hf_15 rfl in_X2 1 (by decide) q1433 rfl dX2_begins_10 ?_
        refine lv_iload_n hx hb dX2_begins_13 rfl (lv_at hl 1 rfl) ?_
        refine lv_aload_n hx hb dX2_begins_14 rfl (lv_at hl 0 rfl) ?_
        refine xk_get B hI_3 hf_15 rfl in_X2 0 (by decide) q1432 rfl dX2_begins_15 ?_
        refine lv_iload_n hx hb dX2_begins_18 rfl (lv_at hl 1 rfl) ?_
        have hf_16 := (hne_2 _ (xk_ne hA1 hA0 (xk_on1 (by decide)))).trans hA0
        refine xk_iald B hI_3 hf_16 (by omega) (by decide) dX2_begins_19 ?_
        refine xk_iast B hI_3 hfl0_2 (by omega) (by decide) dX2_begins_20 (fun X_17 H_21 L_22 hf_19 hn_18 hI_20 => ?_)
        have hfr_23 := xk_fr.put hfrl_2 hfl0_2 hn_18
        refine lv_iinc (v := nI (k + 1)) (lv' := [(1, .int (nI (k + 1))), (0, .ref o)]) hx hb dX2_begins_21 hl (k := 1) rfl (xk_inc k) (by decide) rfl (fun ls hl => ?_)
        refine lv_goto (tgt := 2) hx hb dX2_begins_24 (by decide) ?_
        exact ih_2 (k + 1) (va_up f k (A 0 k)) X_17 _ _ (by omega) (by rw [hf1]; exact tl_cp_s _ _ _) (by omega) hf_19 (fun b z0 => ((hn_18 b z0).trans (hne_2 b z0))) hfr_23 hI_20 ls (lv_sub hl [1, 0] rfl)
  exact hloop_2 (294 - 0 + 1) 0 (A 1) X _ _ (by omega) (by exact (tl_cp_0 _ _).symm) (Nat.lt_succ_self _) hA1 (fun _ _ => rfl) hfr hI ls (lv_sub hl [1, 0] rfl)
theorem tl_i64 {a : Nat} (h : a ≤ 40) : ((nI a - nI 1).toInt64).toInt = (a : Int) - 1 := by
  rw [Int32.toInt_toInt64]
  exact pk_sub_toInt (by omega) (by decide)
set_option maxHeartbeats 4000000 in
theorem m2_isBulb (g : xk_G) {X : xk_H} {o : Nat} {ad : Nat → Nat} {A : Nat → Nat → Nat} {S : Nat → Nat} (hM : tm_Ok g X o ad A S) (hk : tl_inv (A 0)) (x : Int32) : xk_C g yX2_isBulb (ws_ yX2_isBulb cX2_isBulb 2 (some .boolean)) ({ frames := 1, cells := 0, slots := 0, locals := 25 } : Room) [.ref o, .int x] X (xk_Qi (xk_z (tl_isb (A 0) x)) (fun X1 => X1 = X)) := by
  refine xk_ofW (by decide +kernel) (Nat.le_of_ble_eq_true rfl) (fun p e s m args below meth c B hr hname hargs hI ls hl => ?_)
  have B : xk_B g p s m args meth c RX2 cX2_isBulb 2 := B
  have hl : lv_has ls 2 [(0, .ref o), (1, .int x)] := hl
  have hx := B.1
  have hb := B.2.1
  have hM0 := hM
  obtain ⟨hO, hA0, hA1, hA2, hA3, hA4, hA5, hA6, hA7, hA8, hA9⟩ := hM
  have hk0 := hk
  obtain ⟨k0, kb, kw, kl, ks, kr1, kr2, kwt, kL⟩ := hk
  have hfr : xk_fr o X X := xk_fr.rf
  refine lv_iload_n hx hb dX2_isBulb_0 rfl (lv_at hl 1 rfl) ?_
  refine lv_i2l hx hb dX2_isBulb_1 rfl ?_
  refine lv_lconst (v := 0) hx hb dX2_isBulb_2 (by decide) ?_
  refine lv_aload_n hx hb dX2_isBulb_3 rfl (lv_at hl 0 rfl) ?_
  refine xk_get B hI hO rfl in_X2 0 (by decide) q1432 rfl dX2_isBulb_4 ?_
  refine lv_iconst (v := nI 0) hx hb dX2_isBulb_7 (by decide) ?_
  refine xk_iald B hI hA0 (by omega) (by decide) dX2_isBulb_8 ?_
  refine lv_iconst (v := nI 1) hx hb dX2_isBulb_9 (by decide) ?_
  refine lv_isub hx hb dX2_isBulb_10 ?_
  refine lv_i2l hx hb dX2_isBulb_11 rfl ?_
  refine xk_ri0 (xk_cS B hI hl [.long ((x).toInt64), .long (0 : Int64), .long (((nI (A 0 0)) - (nI 1)).toInt64)] [] 3 (m2_in g (x := x.toInt) (lo := 0) (hi := ((A 0 0 : Int) - 1)) (Int32.toInt_toInt64 _) (by decide) (tl_i64 (by omega))) (lw_S q1509 q1510 q79 q1511) ⟨by decide +kernel, by decide +kernel, by decide +kernel⟩ ⟨Nat.le_of_ble_eq_true rfl, Nat.le_of_ble_eq_true rfl⟩ rfl rfl (Nat.le_of_ble_eq_true rfl) dX2_isBulb_12 (Nat.le_of_ble_eq_true rfl) (Nat.le_of_ble_eq_true rfl)) hI (fun H_2 L_3 hI_1 => ?_)
  refine xk_top (y := xk_z (tl_isb (A 0) x)) rfl ?_
  exact xk_reti B hI_1 hr (xk_nz1 _) dX2_isBulb_15 (Nat.le_of_ble_eq_true rfl) (Nat.le_of_ble_eq_true rfl) (⟨rfl, rfl⟩)
set_option maxHeartbeats 4000000 in
theorem m2_lives (g : xk_G) {X : xk_H} {o : Nat} {ad : Nat → Nat} {A : Nat → Nat → Nat} {S : Nat → Nat} (hM : tm_Ok g X o ad A S) {b : Nat} (hb9 : b < 40) (hv8 : A 0 (14 + 7 * b + 3) < 2147483648) : xk_C g yX2_lives (ws_ yX2_lives cX2_lives 2 (some .boolean)) ({ frames := 1, cells := 0, slots := 0, locals := 20 } : Room) [.ref o, .int (nI b)] X (xk_Qi (xk_z (tl_al (A 0) b)) (fun X1 => X1 = X)) := by
  refine xk_ofW (by decide +kernel) (Nat.le_of_ble_eq_true rfl) (fun p e s m args below meth c B hr hname hargs hI ls hl => ?_)
  have B : xk_B g p s m args meth c RX2 cX2_lives 2 := B
  have hl : lv_has ls 2 [(0, .ref o), (1, .int (nI b))] := hl
  have hx := B.1
  have hb := B.2.1
  have hM0 := hM
  obtain ⟨hO, hA0, hA1, hA2, hA3, hA4, hA5, hA6, hA7, hA8, hA9⟩ := hM
  have hfr : xk_fr o X X := xk_fr.rf
  have hv9 : A 0 (14 + 7 * b + 3) < 2147483648 := hv8
  refine lv_aload_n hx hb dX2_lives_0 rfl (lv_at hl 0 rfl) ?_
  refine xk_get B hI hO rfl in_X2 0 (by decide) q1432 rfl dX2_lives_1 ?_
  refine lv_iload_n hx hb dX2_lives_4 rfl (lv_at hl 1 rfl) ?_
  refine xk_ri0 (xk_cS B hI hl [.int (nI b)] [.ref (ad 0)] 1 (m2_of g b) (lw_S q1524 q1525 q79 q1526) ⟨by decide +kernel, by decide +kernel, by decide +kernel⟩ ⟨Nat.le_of_ble_eq_true rfl, Nat.le_of_ble_eq_true rfl⟩ rfl rfl (Nat.le_of_ble_eq_true rfl) dX2_lives_5 (Nat.le_of_ble_eq_true rfl) (Nat.le_of_ble_eq_true rfl)) hI (fun H_2 L_3 hI_1 => ?_)
  refine xk_top (y := nI (14 + 7 * b)) rfl ?_
  refine lv_iconst (v := nI 3) hx hb dX2_lives_8 (by decide) ?_
  refine lv_iadd hx hb dX2_lives_9 (xk_top (nI_add _ _) ?_)
  refine xk_iald B hI_1 hA0 (by omega) (by decide) dX2_lives_10 ?_
  refine lv_iconst (v := nI 1) hx hb dX2_lives_11 (by decide) ?_
  refine xk_icmp_ne (tgt := 19) hx hb (by omega) (by omega) dX2_lives_12 (by decide) (fun hc_12 => ?_) (fun hc_12 => ?_)
  · refine lv_iconst (v := nI 0) hx hb dX2_lives_19 (by decide) ?_
    exact xk_reti B hI_1 hr (by decide) dX2_lives_20 (Nat.le_of_ble_eq_true rfl) (Nat.le_of_ble_eq_true rfl) (⟨congrArg (fun z => some (Value.int z)) (by rw [show tl_al (A 0) b = false from decide_eq_false hc_12]; decide), rfl⟩)
  · refine lv_iconst (v := nI 1) hx hb dX2_lives_15 (by decide) ?_
    refine lv_goto (tgt := 20) hx hb dX2_lives_16 (by decide) ?_
    exact xk_reti B hI_1 hr (by decide) dX2_lives_20 (Nat.le_of_ble_eq_true rfl) (Nat.le_of_ble_eq_true rfl) (⟨congrArg (fun z => some (Value.int z)) (by rw [show tl_al (A 0) b = true from decide_eq_true hc_12]; decide), rfl⟩)
set_option maxHeartbeats 4000000 in
theorem m2_living (g : xk_G) {X : xk_H} {o : Nat} {ad : Nat → Nat} {A : Nat → Nat → Nat} {S : Nat → Nat} (hM : tm_Ok g X o ad A S) (hk : tl_inv (A 0))  : xk_C g yX2_living (ws_ yX2_living cX2_living 3 (some .int)) ({ frames := 1, cells := 0, slots := 0, locals := 20 } : Room) [.ref o] X (xk_Qi (nI (tl_liv (A 0) (A 0 0))) (fun X1 => X1 = X)) := by
  refine xk_ofW (by decide +kernel) (Nat.le_of_ble_eq_true rfl) (fun p e s m args below meth c B hr hname hargs hI ls hl => ?_)
  have B : xk_B g p s m args meth c RX2 cX2_living 3 := B
  have hl : lv_has ls 3 [(0, .ref o)] := hl
  have hx := B.1
  have hb := B.2.1
  have hM0 := hM
  obtain ⟨hO, hA0, hA1, hA2, hA3, hA4, hA5, hA6, hA7, hA8, hA9⟩ := hM
  have hk0 := hk
  obtain ⟨k0, kb, kw, kl, ks, kr1, kr2, kwt, kL⟩ := hk
  have hfr : xk_fr o X X := xk_fr.rf
  refine lv_iconst (v := nI 0) hx hb dX2_living_0 (by decide) ?_
  refine lv_istore_n (lv' := [(1, .int (nI 0)), (0, .ref o)]) hx hb dX2_living_1 rfl hl (by decide) rfl (fun ls hl => ?_)
  refine lv_iconst (v := nI 0) hx hb dX2_living_2 (by decide) ?_
  refine lv_istore_n (lv' := [(2, .int (nI 0)), (1, .int (nI 0)), (0, .ref o)]) hx hb dX2_living_3 rfl hl (by decide) rfl (fun ls hl => ?_)
  have hloop_4 : ∀ (n_4 : Nat) (k : Nat) (c9 : Nat) (H_1 : Heap) (L_2 : List Loc), (k ≤ A 0 0) → (c9 = tl_liv (A 0) k) → A 0 0 - k < n_4 → xk_I g s H_1 X L_2 → ∀ ls : Array Slot, lv_has ls 3 [(0, .ref o), (1, .int (nI c9)), (2, .int (nI k))] → W p (xk_l g) e (({ frames := 1, cells := 0, slots := 0, locals := 20 } : Room)) s m args below meth c H_1 L_2 0 0 (MQ below (xk_Q g (xk_Qi (nI (tl_liv (A 0) (A 0 0))) (fun X1 => X1 = X))) args s (0) (0) (xk_A g)) (F0 m 4 ls []) := by
    intro n_4
    induction n_4 with
    | zero => intros; omega
    | succ n_4 ih_4 =>
      intro k c9 H_1 L_2 hk1 hc1 hm_4  hI_3 ls hl
      refine lv_iload_n hx hb dX2_living_4 rfl (lv_at hl 2 rfl) ?_
      refine lv_aload_n hx hb dX2_living_5 rfl (lv_at hl 0 rfl) ?_
      refine xk_get B hI_3 hO rfl in_X2 0 (by decide) q1432 rfl dX2_living_6 ?_
      refine lv_iconst (v := nI 0) hx hb dX2_living_9 (by decide) ?_
      refine xk_iald B hI_3 hA0 (by omega) (by decide) dX2_living_10 ?_
      refine xk_icmp_ge (tgt := 34) hx hb (by omega) (by omega) dX2_living_11 (by decide) (fun hc_11 => ?_) (fun hc_11 => ?_)
      · have q1 : k = A 0 0 := by omega
        refine lv_iload_n hx hb dX2_living_34 rfl (lv_at hl 1 rfl) ?_
        exact xk_reti B hI_3 hr rfl dX2_living_35 (Nat.le_of_ble_eq_true rfl) (Nat.le_of_ble_eq_true rfl) (⟨by rw [hc1, q1], rfl⟩)
      · have q1 := kb k hc_11
        refine lv_iload_n hx hb dX2_living_14 rfl (lv_at hl 1 rfl) ?_
        refine lv_aload_n hx hb dX2_living_15 rfl (lv_at hl 0 rfl) ?_
        refine xk_get B hI_3 hO rfl in_X2 0 (by decide) q1432 rfl dX2_living_16 ?_
        refine lv_iload_n hx hb dX2_living_19 rfl (lv_at hl 2 rfl) ?_
        refine xk_ri0 (xk_cS B hI_3 hl [.int (nI k)] [.ref (ad 0), .int (nI c9)] 1 (m2_of g k) (lw_S q1524 q1525 q79 q1526) ⟨by decide +kernel, by decide +kernel, by decide +kernel⟩ ⟨Nat.le_of_ble_eq_true rfl, Nat.le_of_ble_eq_true rfl⟩ rfl rfl (Nat.le_of_ble_eq_true rfl) dX2_living_20 (Nat.le_of_ble_eq_true rfl) (Nat.le_of_ble_eq_true rfl)) hI_3 (fun H_5 L_6 hI_4 => ?_)
        refine xk_top (y := nI (14 + 7 * k)) rfl ?_
        refine lv_iconst (v := nI 3) hx hb dX2_living_23 (by decide) ?_
        refine lv_iadd hx hb dX2_living_24 (xk_top (nI_add _ _) ?_)
        refine xk_iald B hI_4 hA0 (by omega) (by decide) dX2_living_25 ?_
        refine lv_iadd hx hb dX2_living_26 (xk_top (nI_add _ _) ?_)
        refine lv_istore_n (lv' := [(1, .int (nI (c9 + (A 0 (14 + 7 * k + 3))))), (0, .ref o), (2, .int (nI k))]) hx hb dX2_living_27 rfl hl (by decide) rfl (fun ls hl => ?_)
        refine lv_iinc (v := nI (k + 1)) (lv' := [(2, .int (nI (k + 1))), (1, .int (nI (c9 + (A 0 (14 + 7 * k + 3))))), (0, .ref o)]) hx hb dX2_living_28 hl (k := 2) rfl (xk_inc k) (by decide) rfl (fun ls hl => ?_)
        refine lv_goto (tgt := 4) hx hb dX2_living_31 (by decide) ?_
        exact ih_4 (k + 1) (c9 + (A 0 (14 + 7 * k + 3))) _ _ (by omega) (by rw [hc1]; rfl) (by omega) hI_4 ls (lv_sub hl [2, 1, 0] rfl)
  exact hloop_4 (A 0 0 - 0 + 1) 0 0 _ _ (by omega) (by rfl) (Nat.lt_succ_self _) hI ls (lv_sub hl [2, 1, 0] rfl)
set_option maxHeartbeats 4000000 in
theorem m2_worth (g : xk_G) {X : xk_H} {o : Nat} {ad : Nat → Nat} {A : Nat → Nat → Nat} {S : Nat → Nat} (hM : tm_Ok g X o ad A S) (hk : tl_inv (A 0)) {pt : Nat} (hp : pt < 256) : xk_C g yX2_worth (ws_ yX2_worth cX2_worth 4 (some .int)) ({ frames := 0, cells := 0, slots := 0, locals := 0 } : Room) [.ref o, .int (nI pt)] X (xk_Qi (nI (tl_wor (A 0) pt 8)) (fun X1 => X1 = X)) := by
  refine xk_ofW (by decide +kernel) (Nat.le_of_ble_eq_true rfl) (fun p e s m args below meth c B hr hname hargs hI ls hl => ?_)
  have B : xk_B g p s m args meth c RX2 cX2_worth 4 := B
  have hl : lv_has ls 4 [(0, .ref o), (1, .int (nI pt))] := hl
  have hx := B.1
  have hb := B.2.1
  have hM0 := hM
  obtain ⟨hO, hA0, hA1, hA2, hA3, hA4, hA5, hA6, hA7, hA8, hA9⟩ := hM
  have hk0 := hk
  obtain ⟨k0, kb, kw, kl, ks, kr1, kr2, kwt, kL⟩ := hk
  have hfr : xk_fr o X X := xk_fr.rf
  refine lv_iconst (v := nI 0) hx hb dX2_worth_0 (by decide) ?_
  refine lv_istore_n (lv' := [(2, .int (nI 0)), (0, .ref o), (1, .int (nI pt))]) hx hb dX2_worth_1 rfl hl (by decide) rfl (fun ls hl => ?_)
  refine lv_iconst (v := nI 0) hx hb dX2_worth_2 (by decide) ?_
  refine lv_istore_n (lv' := [(3, .int (nI 0)), (2, .int (nI 0)), (0, .ref o), (1, .int (nI pt))]) hx hb dX2_worth_3 rfl hl (by decide) rfl (fun ls hl => ?_)
  have hloop_4 : ∀ (n_4 : Nat) (k : Nat) (c9 : Nat) (H_1 : Heap) (L_2 : List Loc), (k ≤ 8) → (c9 = tl_wor (A 0) pt k) → 8 - k < n_4 → xk_I g s H_1 X L_2 → ∀ ls : Array Slot, lv_has ls 4 [(0, .ref o), (1, .int (nI pt)), (2, .int (nI c9)), (3, .int (nI k))] → W p (xk_l g) e (({ frames := 0, cells := 0, slots := 0, locals := 0 } : Room)) s m args below meth c H_1 L_2 0 0 (MQ below (xk_Q g (xk_Qi (nI (tl_wor (A 0) pt 8)) (fun X1 => X1 = X))) args s (0) (0) (xk_A g)) (F0 m 4 ls []) := by
    intro n_4
    induction n_4 with
    | zero => intros; omega
    | succ n_4 ih_4 =>
      intro k c9 H_1 L_2 hk1 hc1 hm_4  hI_3 ls hl
      refine lv_iload_n hx hb dX2_worth_4 rfl (lv_at hl 3 rfl) ?_
      refine lv_bipush (v := nI 8) hx hb dX2_worth_5 (by decide) ?_
      refine xk_icmp_ge (tgt := 50) hx hb (by omega) (by omega) dX2_worth_7 (by decide) (fun hc_7 => ?_) (fun hc_7 => ?_)
      · have q1 : k = 8 := by omega
        refine lv_iload_n hx hb dX2_worth_50 rfl (lv_at hl 2 rfl) ?_
        exact xk_reti B hI_3 hr rfl dX2_worth_51 (Nat.le_of_ble_eq_true rfl) (Nat.le_of_ble_eq_true rfl) (⟨by rw [hc1, q1], rfl⟩)
      · have q0 := kwt k hc_7
        have q1 := tl_bit_le pt k
        have q2 := tl_bit_le (A 0 2) k
        have q3 := tl_wor_le (m := A 0) (p := pt) (n := k) (fun j hj => kwt j (by omega))
        refine lv_iload_n hx hb dX2_worth_10 rfl (lv_at hl 2 rfl) ?_
        refine lv_iload_n hx hb dX2_worth_11 rfl (lv_at hl 1 rfl) ?_
        refine lv_iload_n hx hb dX2_worth_12 rfl (lv_at hl 3 rfl) ?_
        refine lv_ishr hx hb dX2_worth_13 (xk_top (xk_shr (by omega) (by omega)) ?_)
        refine lv_iconst (v := nI 1) hx hb dX2_worth_14 (by decide) ?_
        refine lv_iand hx hb dX2_worth_15 (xk_top (xk_and _ _) ?_)
        refine xk_top (y := nI (tl_bit pt k)) rfl ?_
        refine lv_aload_n hx hb dX2_worth_16 rfl (lv_at hl 0 rfl) ?_
        refine xk_get B hI_3 hO rfl in_X2 0 (by decide) q1432 rfl dX2_worth_17 ?_
        refine lv_iconst (v := nI 2) hx hb dX2_worth_20 (by decide) ?_
        refine xk_iald B hI_3 hA0 (by omega) (by decide) dX2_worth_21 ?_
        refine lv_iload_n hx hb dX2_worth_22 rfl (lv_at hl 3 rfl) ?_
        refine lv_ishr hx hb dX2_worth_23 (xk_top (xk_shr (by omega) (by omega)) ?_)
        refine lv_iconst (v := nI 1) hx hb dX2_worth_24 (by decide) ?_
        refine lv_iand hx hb dX2_worth_25 (xk_top (xk_and _ _) ?_)
        refine xk_top (y := nI (tl_bit (A 0 2) k)) rfl ?_
        refine xk_icmp_ne (tgt := 41) hx hb (by omega) (by omega) dX2_worth_26 (by decide) (fun hc_26 => ?_) (fun hc_26 => ?_)
        · refine lv_iconst (v := nI 0) hx hb dX2_worth_41 (by decide) ?_
          refine lv_iadd hx hb dX2_worth_42 (xk_top (nI_add _ _) ?_)
          refine lv_istore_n (lv' := [(2, .int (nI (c9 + 0))), (0, .ref o), (1, .int (nI pt)), (3, .int (nI k))]) hx hb dX2_worth_43 rfl hl (by decide) rfl (fun ls hl => ?_)
          refine lv_iinc (v := nI (k + 1)) (lv' := [(3, .int (nI (k + 1))), (2, .int (nI (c9 + 0))), (0, .ref o), (1, .int (nI pt))]) hx hb dX2_worth_44 hl (k := 3) rfl (xk_inc k) (by decide) rfl (fun ls hl => ?_)
          refine lv_goto (tgt := 4) hx hb dX2_worth_47 (by decide) ?_
          exact ih_4 (k + 1) (c9 + 0) _ _ (by omega) (by rw [hc1]; show _ = tl_wor (A 0) pt k + _; first | rw [if_pos hc_26] | rw [if_neg hc_26]) (by omega) hI_3 ls (lv_sub hl [2, 3, 1, 0] rfl)
        · refine lv_aload_n hx hb dX2_worth_29 rfl (lv_at hl 0 rfl) ?_
          refine xk_get B hI_3 hO rfl in_X2 0 (by decide) q1432 rfl dX2_worth_30 ?_
          refine lv_bipush (v := nI 6) hx hb dX2_worth_33 (by decide) ?_
          refine lv_iload_n hx hb dX2_worth_35 rfl (lv_at hl 3 rfl) ?_
          refine lv_iadd hx hb dX2_worth_36 (xk_top (nI_add _ _) ?_)
          refine xk_iald B hI_3 hA0 (by omega) (by decide) dX2_worth_37 ?_
          refine lv_goto (tgt := 42) hx hb dX2_worth_38 (by decide) ?_
          refine lv_iadd hx hb dX2_worth_42 (xk_top (nI_add _ _) ?_)
          refine lv_istore_n (lv' := [(2, .int (nI (c9 + (A 0 (6 + k))))), (0, .ref o), (1, .int (nI pt)), (3, .int (nI k))]) hx hb dX2_worth_43 rfl hl (by decide) rfl (fun ls hl => ?_)
          refine lv_iinc (v := nI (k + 1)) (lv' := [(3, .int (nI (k + 1))), (2, .int (nI (c9 + (A 0 (6 + k))))), (0, .ref o), (1, .int (nI pt))]) hx hb dX2_worth_44 hl (k := 3) rfl (xk_inc k) (by decide) rfl (fun ls hl => ?_)
          refine lv_goto (tgt := 4) hx hb dX2_worth_47 (by decide) ?_
          exact ih_4 (k + 1) (c9 + (A 0 (6 + k))) _ _ (by omega) (by rw [hc1]; show _ = tl_wor (A 0) pt k + _; first | rw [if_pos hc_26] | rw [if_neg hc_26]) (by omega) hI_3 ls (lv_sub hl [2, 3, 1, 0] rfl)
  exact hloop_4 (8 - 0 + 1) 0 0 _ _ (by omega) (by rfl) (Nat.lt_succ_self _) hI ls (lv_sub hl [2, 3, 1, 0] rfl)
set_option maxHeartbeats 4000000 in
theorem m2_ones (g : xk_G) {X : xk_H} {pt : Nat} (hp : pt < 256) : xk_C g yX2_ones (ws_ yX2_ones cX2_ones 3 (some .int)) ({ frames := 0, cells := 0, slots := 0, locals := 0 } : Room) [.int (nI pt)] X (xk_Qi (nI (tl_ones pt 8)) (fun X1 => X1 = X)) := by
  refine xk_ofW (by decide +kernel) (Nat.le_of_ble_eq_true rfl) (fun p e s m args below meth c B hr hname hargs hI ls hl => ?_)
  have B : xk_B g p s m args meth c RX2 cX2_ones 3 := B
  have hl : lv_has ls 3 [(0, .int (nI pt))] := hl
  have hx := B.1
  have hb := B.2.1
  refine lv_iconst (v := nI 0) hx hb dX2_ones_0 (by decide) ?_
  refine lv_istore_n (lv' := [(1, .int (nI 0)), (0, .int (nI pt))]) hx hb dX2_ones_1 rfl hl (by decide) rfl (fun ls hl => ?_)
  refine lv_iconst (v := nI 0) hx hb dX2_ones_2 (by decide) ?_
  refine lv_istore_n (lv' := [(2, .int (nI 0)), (1, .int (nI 0)), (0, .int (nI pt))]) hx hb dX2_ones_3 rfl hl (by decide) rfl (fun ls hl => ?_)
  have hloop_4 : ∀ (n_4 : Nat) (k : Nat) (c9 : Nat) (H_1 : Heap) (L_2 : List Loc), (k ≤ 8) → (c9 = tl_ones pt k) → 8 - k < n_4 → xk_I g s H_1 X L_2 → ∀ ls : Array Slot, lv_has ls 3 [(0, .int (nI pt)), (1, .int (nI c9)), (2, .int (nI k))] → W p (xk_l g) e (({ frames := 0, cells := 0, slots := 0, locals := 0 } : Room)) s m args below meth c H_1 L_2 0 0 (MQ below (xk_Q g (xk_Qi (nI (tl_ones pt 8)) (fun X1 => X1 = X))) args s (0) (0) (xk_A g)) (F0 m 4 ls []) := by
    intro n_4
    induction n_4 with
    | zero => intros; omega
    | succ n_4 ih_4 =>
      intro k c9 H_1 L_2 hk1 hc1 hm_4  hI_3 ls hl
      refine lv_iload_n hx hb dX2_ones_4 rfl (lv_at hl 2 rfl) ?_
      refine lv_bipush (v := nI 8) hx hb dX2_ones_5 (by decide) ?_
      refine xk_icmp_ge (tgt := 24) hx hb (by omega) (by omega) dX2_ones_7 (by decide) (fun hc_7 => ?_) (fun hc_7 => ?_)
      · have q1 : k = 8 := by omega
        refine lv_iload_n hx hb dX2_ones_24 rfl (lv_at hl 1 rfl) ?_
        exact xk_reti B hI_3 hr rfl dX2_ones_25 (Nat.le_of_ble_eq_true rfl) (Nat.le_of_ble_eq_true rfl) (⟨by rw [hc1, q1], rfl⟩)
      · refine lv_iload_n hx hb dX2_ones_10 rfl (lv_at hl 1 rfl) ?_
        refine lv_iload_n hx hb dX2_ones_11 rfl (lv_at hl 0 rfl) ?_
        refine lv_iload_n hx hb dX2_ones_12 rfl (lv_at hl 2 rfl) ?_
        refine lv_ishr hx hb dX2_ones_13 (xk_top (xk_shr (by omega) (by omega)) ?_)
        refine lv_iconst (v := nI 1) hx hb dX2_ones_14 (by decide) ?_
        refine lv_iand hx hb dX2_ones_15 (xk_top (xk_and _ _) ?_)
        refine xk_top (y := nI (tl_bit pt k)) rfl ?_
        refine lv_iadd hx hb dX2_ones_16 (xk_top (nI_add _ _) ?_)
        refine lv_istore_n (lv' := [(1, .int (nI (c9 + (tl_bit pt k)))), (0, .int (nI pt)), (2, .int (nI k))]) hx hb dX2_ones_17 rfl hl (by decide) rfl (fun ls hl => ?_)
        refine lv_iinc (v := nI (k + 1)) (lv' := [(2, .int (nI (k + 1))), (1, .int (nI (c9 + (tl_bit pt k)))), (0, .int (nI pt))]) hx hb dX2_ones_18 hl (k := 2) rfl (xk_inc k) (by decide) rfl (fun ls hl => ?_)
        refine lv_goto (tgt := 4) hx hb dX2_ones_21 (by decide) ?_
        exact ih_4 (k + 1) (c9 + (tl_bit pt k)) _ _ (by omega) (by rw [hc1]; rfl) (by omega) hI_3 ls (lv_sub hl [2, 1, 0] rfl)
  exact hloop_4 (8 - 0 + 1) 0 0 _ _ (by omega) (by rfl) (Nat.lt_succ_self _) hI ls (lv_sub hl [2, 1, 0] rfl)
