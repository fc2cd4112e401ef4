/-! the model: walks, printed by tools/model.py -/
set_option maxRecDepth 100000
set_option maxHeartbeats 4000000 in
theorem m2_worthIn (g : xk_G) {X : xk_H} {o : Nat} {ad : Nat → Nat} {A : Nat → Nat → Nat} {S : Nat → Nat} (hM : tm_Ok g X o ad A S) (hk : tl_inv (A 0)) (x : Int32) : xk_C g yX2_worthIn (ws_ yX2_worthIn cX2_worthIn 5 (some .int)) ({ frames := 5, cells := 0, slots := 0, locals := 120 } : Room) [.ref o, .int x] X (xk_Qi (tl_wIn (A 0) x) (fun X1 => ∃ f2 : Nat → Nat, tm_Ok g X1 o ad (va_up A 2 f2) S ∧ xk_fr o X X1)) := by
  refine xk_ofW (by decide +kernel) (Nat.le_of_ble_eq_true rfl) (fun p e s m args below meth c B hr hname hargs hI ls hl => ?_)
  have B : xk_B g p s m args meth c RX2 cX2_worthIn 5 := B
  have hl : lv_has ls 5 [(0, .ref o), (1, .int x)] := hl
  have hx := B.1
  have hb := B.2.1
  have hM0 := hM
  obtain ⟨hO, hA0, hA1, hA2, hA3, hA4, hA5, hA6, hA7, hA8, hA9⟩ := hM
  have hk0 := hk
  obtain ⟨k0, kb, kw, kl, ks, kr1, kr2, kwt, kL⟩ := hk
  have hfr : xk_fr o X X := xk_fr.rf
  refine lv_iload_n hx hb dX2_worthIn_0 rfl (lv_at hl 1 rfl) ?_
  refine lv_i2l hx hb dX2_worthIn_1 rfl ?_
  refine lv_lconst (v := 0) hx hb dX2_worthIn_2 (by decide) ?_
  refine lv_ldc2 hx hb B.ow (B.ts _ q1623) dX2_worthIn_3 ?_
  refine xk_ri0 (xk_cS B hI hl [.long ((x).toInt64), .long (0 : Int64), .long (20 : Int64)] [] 3 (m2_in g (x := (x).toInt) (lo := 0) (hi := 20) (Int32.toInt_toInt64 _) (by decide) (by decide)) (lw_S q1509 q1510 q79 q1511) ⟨by decide +kernel, by decide +kernel, by decide +kernel⟩ ⟨Nat.le_of_ble_eq_true rfl, Nat.le_of_ble_eq_true rfl⟩ rfl rfl (Nat.le_of_ble_eq_true rfl) dX2_worthIn_6 (Nat.le_of_ble_eq_true rfl) (Nat.le_of_ble_eq_true rfl)) hI (fun H_2 L_3 hI_1 => ?_)
  refine xk_top (y := xk_z (tl_rng x 0 20)) rfl ?_
  refine xk_if_ne_z (tgt := 15) hx hb dX2_worthIn_9 (by decide) (fun hc_9 => ?_) (fun hc_9 => ?_)
  · obtain ⟨hx1, hx2, hx3, hx4⟩ := tl_rng_k hc_9 (by decide)
    refine lv_iconst (v := nI 0) hx hb dX2_worthIn_15 (by decide) ?_
    refine lv_istore_n (lv' := [(2, .int (nI 0)), (0, .ref o), (1, .int x)]) hx hb dX2_worthIn_16 rfl hl (by decide) rfl (fun ls hl => ?_)
    have hloop_17 : ∀ (n_17 : Nat) (k : Nat) (f : Nat → Nat) (Xl_17 : xk_H) (H_4 : Heap) (L_5 : List Loc), (k ≤ 294) → (f = tl_cp (A 0) (A 2) k) → 294 - k < n_17 → Xl_17 (ad 2) = some ((o, 3), xk_iA g 0 294 f) → (∀ b, b ≠ (ad 2) → Xl_17 b = X b) → (xk_fr o X Xl_17) → xk_I g s H_4 Xl_17 L_5 → ∀ ls : Array Slot, lv_has ls 5 [(0, .ref o), (1, .int x), (2, .int (nI k))] → W p (xk_l g) e (({ frames := 5, cells := 0, slots := 0, locals := 120 } : Room)) s m args below meth c H_4 L_5 0 0 (MQ below (xk_Q g (xk_Qi (tl_wIn (A 0) x) (fun X1 => ∃ f2 : Nat → Nat, tm_Ok g X1 o ad (va_up A 2 f2) S ∧ xk_fr o X X1))) args s (0) (0) (xk_A g)) (F0 m 17 ls []) := by
      intro n_17
      induction n_17 with
      | zero => intros; omega
      | succ n_17 ih_17 =>
        intro k f Xl_17 H_4 L_5 hk1 hf1 hm_17 hfl0_17 hne_17 hfrl_17 hI_6 ls hl
        refine lv_iload_n hx hb dX2_worthIn_17 rfl (lv_at hl 2 rfl) ?_
        refine lv_sipush (v := nI 294) hx hb dX2_worthIn_18 (by decide) ?_
        refine xk_icmp_ge (tgt := 42) hx hb (by omega) (by omega) dX2_worthIn_21 (by decide) (fun hc_21 => ?_) (fun hc_21 => ?_)
        · have hk2 : k = 294 := by omega
          subst hk2
          refine lv_aload_n hx hb dX2_worthIn_42 rfl (lv_at hl 0 rfl) ?_
          refine lv_iload_n hx hb dX2_worthIn_43 rfl (lv_at hl 1 rfl) ?_
          refine xk_top hx1 ?_
          have hf_7 := (hne_17 _ (xk_ne hA2 hO (xk_on1 (by decide)))).trans hO
          have hf_8 := (hne_17 _ (xk_ne hA2 hA0 (xk_on1 (by decide)))).trans hA0
          have hf_9 := (hne_17 _ (xk_ne hA2 hA1 (xk_on1 (by decide)))).trans hA1
          have hf_10 := (hne_17 _ (xk_ne hA2 hA3 (xk_on1 (by decide)))).trans hA3
          have hf_11 := (hne_17 _ (xk_ne hA2 hA4 (xk_on1 (by decide)))).trans hA4
          have hf_12 := (hne_17 _ (xk_ne hA2 hA5 (xk_on1 (by decide)))).trans hA5
          have hf_13 := (hne_17 _ (xk_ne hA2 hA6 (xk_on1 (by decide)))).trans hA6
          have hf_14 := (hne_17 _ (xk_ne hA2 hA7 (xk_on1 (by decide)))).trans hA7
          have hf_15 := (hne_17 _ (xk_ne hA2 hA8 (xk_on1 (by decide)))).trans hA8
          have hf_16 := (hne_17 _ (xk_ne hA2 hA9 (xk_on1 (by decide)))).trans hA9
          have hM_17 : tm_Ok g Xl_17 o ad (va_up A 2 f) S := ⟨hf_7, hf_8, hf_9, hfl0_17, hf_10, hf_11, hf_12, hf_13, hf_14, hf_15, hf_16⟩
          refine xk_ri (xk_cV B hI_6 hl [.int (nI (tl_n x))] [] 1 (m2_yearsGo g hM_17 hk0 (n9 := tl_n x) (by omega)) hf_7 rfl (lw_V q1624 q1626 qs49 q79 q1627) ⟨rfl, by decide +kernel, by decide +kernel, by decide +kernel⟩ ⟨Nat.le_of_ble_eq_true rfl, Nat.le_of_ble_eq_true rfl⟩ rfl rfl (Nat.le_of_ble_eq_true rfl) dX2_worthIn_44 (Nat.le_of_ble_eq_true rfl) (Nat.le_of_ble_eq_true rfl)) hI_6 (fun X_21 H_19 L_20 hq_22 hI_18 => ?_)
          refine xk_top (y := nI (tl_yrn (A 0) (tl_n x))) rfl ?_
          obtain ⟨hM_23, hfr_24⟩ := hq_22
          obtain ⟨hf_25, hf_26, hf_27, hf_28, hf_29, hf_30, hf_31, hf_32, hf_33, hf_34, hf_35⟩ := id hM_23
          have hfr_36 := xk_fr.tr hfrl_17 hfr_24
          have hf_26 : X_21 (ad 0) = some ((o, 1), xk_iA g 0 294 (tl_yrs (A 0) (tl_n x))) := hf_26
          have hf_27 : X_21 (ad 1) = some ((o, 2), xk_iA g 0 294 (A 1)) := hf_27
          have hf_28 : X_21 (ad 2) = some ((o, 3), xk_iA g 0 294 f) := hf_28
          have hf_29 : X_21 (ad 3) = some ((o, 4), xk_iA g 0 294 (A 3)) := hf_29
          have hf_30 : X_21 (ad 4) = some ((o, 5), xk_iA g 0 2352 (A 4)) := hf_30
          have hf_31 : X_21 (ad 5) = some ((o, 6), xk_iA g 0 70 (A 5)) := hf_31
          have hf_32 : X_21 (ad 6) = some ((o, 7), xk_iA g 2 40 (A 6)) := hf_32
          have hf_33 : X_21 (ad 7) = some ((o, 8), xk_iA g 2 40 (A 7)) := hf_33
          have hf_34 : X_21 (ad 8) = some ((o, 9), xk_iA g 0 60 (A 8)) := hf_34
          have hf_35 : X_21 (ad 9) = some ((o, 10), xk_iA g 0 284 (A 9)) := hf_35
          have hf_25 : X_21 o = some ((o, 0), .inr (0, [.ref (ad 0), .ref (ad 1), .ref (ad 2), .ref (ad 3), .int (nI (S 0)), .ref (ad 4), .int (nI (S 1)), .int (nI (S 2)), .int (nI (S 3)), .int (tm_it (S 4)), .ref (ad 5), .int (nI (S 5)), .ref (ad 6), .ref (ad 7), .ref (ad 8), .int (nI (S 6)), .ref (ad 9), .int (nI (S 7)), .int (nI (S 8)), .int (nI (S 9)), .int (nI (S 10))])) := hf_25
          refine lv_pop hx hb dX2_worthIn_47 rfl ?_
          have hyi : tl_inv (tl_yrs (A 0) (tl_n x)) := tl_yrs_inv hk0 (tl_n x)
          refine lv_aload_n hx hb dX2_worthIn_48 rfl (lv_at hl 0 rfl) ?_
          refine lv_iconst (v := nI 0) hx hb dX2_worthIn_49 (by decide) ?_
          have hM_37 : tm_Ok g X_21 o ad (va_up (va_up A 0 (tl_yrs (A 0) (tl_n x))) 2 f) S := ⟨hf_25, hf_26, hf_27, hf_28, hf_29, hf_30, hf_31, hf_32, hf_33, hf_34, hf_35⟩
          refine xk_ri0 (xk_cV B hI_18 hl [.int (nI 0)] [] 1 (m2_atN g hM_37 hyi (pl := 0) (by omega)) hf_25 rfl (lw_V q1632 q1634 qs51 q79 q1635) ⟨rfl, by decide +kernel, by decide +kernel, by decide +kernel⟩ ⟨Nat.le_of_ble_eq_true rfl, Nat.le_of_ble_eq_true rfl⟩ rfl rfl (Nat.le_of_ble_eq_true rfl) dX2_worthIn_50 (Nat.le_of_ble_eq_true rfl) (Nat.le_of_ble_eq_true rfl)) hI_18 (fun H_39 L_40 hI_38 => ?_)
          refine xk_top (y := tl_oI (tl_at (tl_yrs (A 0) (tl_n x)) 0)) rfl ?_
          cases hat : tl_at (tl_yrs (A 0) (tl_n x)) 0 with
          | none =>
            refine xk_top (y := (-1)) rfl ?_
            refine lv_istore_n (lv' := [(2, .int (-1)), (0, .ref o), (1, .int x)]) hx hb dX2_worthIn_53 rfl hl (by decide) rfl (fun ls hl => ?_)
            refine lv_iload_n hx hb dX2_worthIn_54 rfl (lv_at hl 0 rfl) ?_
            refine lv_iconst (v := (-1)) hx hb dX2_worthIn_55 (by decide) ?_
            refine xk_raw_icmp_ne_f (tgt := 64) hx hb dX2_worthIn_56 (by decide) (fun z => z rfl) ?_
            refine lv_bipush (v := (-4)) hx hb dX2_worthIn_59 (by decide) ?_
            refine lv_goto (tgt := 77) hx hb dX2_worthIn_61 (by decide) ?_
            refine lv_istore_n (lv' := [(3, .int (-4)), (2, .int (-1)), (0, .ref o), (1, .int x)]) hx hb dX2_worthIn_77 rfl hl (by decide) rfl (fun ls hl => ?_)
            refine lv_iconst (v := nI 0) hx hb dX2_worthIn_78 (by decide) ?_
            refine lv_istore (lv' := [(4, .int (nI 0)), (3, .int (-4)), (2, .int (-1)), (0, .ref o), (1, .int x)]) hx hb dX2_worthIn_79 hl (by decide) rfl (fun ls hl => ?_)
            have hloop_81 : ∀ (n_81 : Nat) (k2 : Nat) (f2 : Nat → Nat) (Xl_81 : xk_H) (H_41 : Heap) (L_42 : List Loc), (k2 ≤ 294) → (f2 = tl_cp f (tl_yrs (A 0) (tl_n x)) k2) → 294 - k2 < n_81 → Xl_81 (ad 0) = some ((o, 1), xk_iA g 0 294 f2) → (∀ b, b ≠ (ad 0) → Xl_81 b = X_21 b) → (xk_fr o X Xl_81) → xk_I g s H_41 Xl_81 L_42 → ∀ ls : Array Slot, lv_has ls 5 [(0, .ref o), (1, .int x), (3, .int (-4)), (4, .int (nI k2))] → W p (xk_l g) e (({ frames := 5, cells := 0, slots := 0, locals := 120 } : Room)) s m args below meth c H_41 L_42 0 0 (MQ below (xk_Q g (xk_Qi (tl_wIn (A 0) x) (fun X1 => ∃ f2 : Nat → Nat, tm_Ok g X1 o ad (va_up A 2 f2) S ∧ xk_fr o X X1))) args s (0) (0) (xk_A g)) (F0 m 81 ls []) := by
              intro n_81
              induction n_81 with
              | zero => intros; omega
              | succ n_81 ih_81 =>
                intro k2 f2 Xl_81 H_41 L_42 hk12 hf12 hm_81 hfl0_81 hne_81 hfrl_81 hI_43 ls hl
                refine lv_iload hx hb dX2_worthIn_81 (lv_at hl 3 rfl) ?_
                refine lv_sipush (v := nI 294) hx hb dX2_worthIn_83 (by decide) ?_
                refine xk_icmp_ge (tgt := 109) hx hb (by omega) (by omega) dX2_worthIn_86 (by decide) (fun hc_86 => ?_) (fun hc_86 => ?_)
                · obtain ⟨X_44, hf_45, hn_46, hI_47⟩ := xk_ghost (f2 := A 0) hI_43 hfl0_81 (fun j hj => by rw [hf12, show k2 = 294 by omega, hf1]; unfold tl_cp; rw [if_pos hj, if_pos hj])
                  have hfr_48 := xk_fr.put hfrl_81 hfl0_81 hn_46
                  refine lv_iload_n hx hb dX2_worthIn_109 rfl (lv_at hl 2 rfl) ?_
                  have hf_49 := (hne_81 _ (xk_ne hf_26 hf_25 (xk_on1 (by decide)))).trans hf_25
                  have hf_50 := xk_off hn_46 hf_49 hfl0_81 (xk_on1 (by decide))
                  have hf_51 := (hne_81 _ (xk_ne hf_26 hf_27 (xk_on1 (by decide)))).trans hf_27
                  have hf_52 := xk_off hn_46 hf_51 hfl0_81 (xk_on1 (by decide))
                  have hf_53 := (hne_81 _ (xk_ne hf_26 hf_28 (xk_on1 (by decide)))).trans hf_28
                  have hf_54 := xk_off hn_46 hf_53 hfl0_81 (xk_on1 (by decide))
                  have hf_55 := (hne_81 _ (xk_ne hf_26 hf_29 (xk_on1 (by decide)))).trans hf_29
                  have hf_56 := xk_off hn_46 hf_55 hfl0_81 (xk_on1 (by decide))
                  have hf_57 := (hne_81 _ (xk_ne hf_26 hf_30 (xk_on1 (by decide)))).trans hf_30
                  have hf_58 := xk_off hn_46 hf_57 hfl0_81 (xk_on1 (by decide))
                  have hf_59 := (hne_81 _ (xk_ne hf_26 hf_31 (xk_on1 (by decide)))).trans hf_31
                  have hf_60 := xk_off hn_46 hf_59 hfl0_81 (xk_on1 (by decide))
                  have hf_61 := (hne_81 _ (xk_ne hf_26 hf_32 (xk_on1 (by decide)))).trans hf_32
                  have hf_62 := xk_off hn_46 hf_61 hfl0_81 (xk_on1 (by decide))
                  have hf_63 := (hne_81 _ (xk_ne hf_26 hf_33 (xk_on1 (by decide)))).trans hf_33
                  have hf_64 := xk_off hn_46 hf_63 hfl0_81 (xk_on1 (by decide))
                  have hf_65 := (hne_81 _ (xk_ne hf_26 hf_34 (xk_on1 (by decide)))).trans hf_34
                  have hf_66 := xk_off hn_46 hf_65 hfl0_81 (xk_on1 (by decide))
                  have hf_67 := (hne_81 _ (xk_ne hf_26 hf_35 (xk_on1 (by decide)))).trans hf_35
                  have hf_68 := xk_off hn_46 hf_67 hfl0_81 (xk_on1 (by decide))
                  have hM_69 : tm_Ok g X_44 o ad (va_up A 2 f) S := ⟨hf_50, hf_45, hf_52, hf_54, hf_56, hf_58, hf_60, hf_62, hf_64, hf_66, hf_68⟩
                  exact xk_reti B hI_47 hr rfl dX2_worthIn_110 (Nat.le_of_ble_eq_true rfl) (Nat.le_of_ble_eq_true rfl) (⟨(by unfold tl_wIn; rw [if_pos hc_9, hat]), (f), hM_69, hfr_48⟩)
                · refine lv_aload_n hx hb dX2_worthIn_89 rfl (lv_at hl 0 rfl) ?_
                  have hf_70 := (hne_81 _ (xk_ne hf_26 hf_25 (xk_on1 (by decide)))).trans hf_25
                  refine xk_get B hI_43 hf_70 rfl in_X2 0 (by decide) q1432 rfl dX2_worthIn_90 ?_
                  refine lv_iload hx hb dX2_worthIn_93 (lv_at hl 3 rfl) ?_
                  refine lv_aload_n hx hb dX2_worthIn_95 rfl (lv_at hl 0 rfl) ?_
                  refine xk_get B hI_43 hf_70 rfl in_X2 2 (by decide) q1434 rfl dX2_worthIn_96 ?_
                  refine lv_iload hx hb dX2_worthIn_99 (lv_at hl 3 rfl) ?_
                  have hf_71 := (hne_81 _ (xk_ne hf_26 hf_28 (xk_on1 (by decide)))).trans hf_28
                  refine xk_iald B hI_43 hf_71 (by omega) (by decide) dX2_worthIn_101 ?_
                  refine xk_iast B hI_43 hfl0_81 (by omega) (by decide) dX2_worthIn_102 (fun X_72 H_76 L_77 hf_74 hn_73 hI_75 => ?_)
                  have hfr_78 := xk_fr.put hfrl_81 hfl0_81 hn_73
                  refine lv_iinc (v := nI (k2 + 1)) (lv' := [(4, .int (nI (k2 + 1))), (0, .ref o), (1, .int x), (3, .int (-4))]) hx hb dX2_worthIn_103 hl (k := 3) rfl (xk_inc k2) (by decide) rfl (fun ls hl => ?_)
                  refine lv_goto (tgt := 81) hx hb dX2_worthIn_106 (by decide) ?_
                  exact ih_81 (k2 + 1) (va_up f2 k2 (f k2)) X_72 _ _ (by omega) (by rw [hf12]; exact tl_cp_s _ _ _) (by omega) hf_74 (fun b z0 => ((hn_73 b z0).trans (hne_81 b z0))) hfr_78 hI_75 ls (lv_sub hl [1, 2, 3, 0] rfl)
            exact hloop_81 (294 - 0 + 1) 0 (tl_yrs (A 0) (tl_n x)) X_21 _ _ (by omega) (by exact (tl_cp_0 _ _).symm) (Nat.lt_succ_self _) hf_26 (fun _ _ => rfl) hfr_36 hI_38 ls (lv_sub hl [3, 4, 1, 0] rfl)
          | some b4 =>
            refine xk_top (y := nI b4) rfl ?_
            have hb4 := tl_at_lt hat
            have hb40 := hyi.1
            have qb := hyi.2.1 b4 hb4
            refine lv_istore_n (lv' := [(2, .int (nI b4)), (0, .ref o), (1, .int x)]) hx hb dX2_worthIn_53 rfl hl (by decide) rfl (fun ls hl => ?_)
            refine lv_iload_n hx hb dX2_worthIn_54 rfl (lv_at hl 0 rfl) ?_
            refine lv_iconst (v := (-1)) hx hb dX2_worthIn_55 (by decide) ?_
            refine xk_raw_icmp_ne_t (tgt := 64) hx hb dX2_worthIn_56 (by decide) (xk_m1lt (by omega)).2.2 ?_
            have qw := 0
            refine lv_aload_n hx hb dX2_worthIn_64 rfl (lv_at hl 1 rfl) ?_
            refine lv_aload_n hx hb dX2_worthIn_65 rfl (lv_at hl 1 rfl) ?_
            refine xk_get B hI_38 hf_25 rfl in_X2 0 (by decide) q1432 rfl dX2_worthIn_66 ?_
            refine lv_iload_n hx hb dX2_worthIn_69 rfl (lv_at hl 0 rfl) ?_
            refine xk_ri0 (xk_cS B hI_38 hl [.int (nI b4)] [.ref (ad 0), .ref o] 1 (m2_of g b4) (lw_S q1524 q1525 q79 q1526) ⟨by decide +kernel, by decide +kernel, by decide +kernel⟩ ⟨Nat.le_of_ble_eq_true rfl, Nat.le_of_ble_eq_true rfl⟩ rfl rfl (Nat.le_of_ble_eq_true rfl) dX2_worthIn_70 (Nat.le_of_ble_eq_true rfl) (Nat.le_of_ble_eq_true rfl)) hI_38 (fun H_80 L_81 hI_79 => ?_)
            refine xk_top (y := nI (14 + 7 * b4)) rfl ?_
            refine xk_iald B hI_79 hf_26 (by omega) (by decide) dX2_worthIn_73 ?_
            refine xk_ri0 (xk_cV B hI_79 hl [.int (nI ((tl_yrs (A 0) (tl_n x)) (14 + 7 * b4)))] [] 1 (m2_worth g hM_37 hyi (pt := (tl_yrs (A 0) (tl_n x)) (14 + 7 * b4)) (by omega)) hf_25 rfl (lw_V q1636 q1638 qs52 q79 q1639) ⟨rfl, by decide +kernel, by decide +kernel, by decide +kernel⟩ ⟨Nat.le_of_ble_eq_true rfl, Nat.le_of_ble_eq_true rfl⟩ rfl rfl (Nat.le_of_ble_eq_true rfl) dX2_worthIn_74 (Nat.le_of_ble_eq_true rfl) (Nat.le_of_ble_eq_true rfl)) hI_79 (fun H_83 L_84 hI_82 => ?_)
            refine xk_top (y := nI (tl_wor (tl_yrs (A 0) (tl_n x)) ((tl_yrs (A 0) (tl_n x)) (14 + 7 * b4)) 8)) rfl ?_
            refine lv_istore_n (lv' := [(3, .int (nI (tl_wor (tl_yrs (A 0) (tl_n x)) ((tl_yrs (A 0) (tl_n x)) (14 + 7 * b4)) 8))), (2, .int (nI b4)), (0, .ref o), (1, .int x)]) hx hb dX2_worthIn_77 rfl hl (by decide) rfl (fun ls hl => ?_)
            refine lv_iconst (v := nI 0) hx hb dX2_worthIn_78 (by decide) ?_
            refine lv_istore (lv' := [(4, .int (nI 0)), (3, .int (nI (tl_wor (tl_yrs (A 0) (tl_n x)) ((tl_yrs (A 0) (tl_n x)) (14 + 7 * b4)) 8))), (2, .int (nI b4)), (0, .ref o), (1, .int x)]) hx hb dX2_worthIn_79 hl (by decide) rfl (fun ls hl => ?_)
            have hloop_81 : ∀ (n_81 : Nat) (k2 : Nat) (f2 : Nat → Nat) (Xl_81 : xk_H) (H_85 : Heap) (L_86 : List Loc), (k2 ≤ 294) → (f2 = tl_cp f (tl_yrs (A 0) (tl_n x)) k2) → 294 - k2 < n_81 → Xl_81 (ad 0) = some ((o, 1), xk_iA g 0 294 f2) → (∀ b, b ≠ (ad 0) → Xl_81 b = X_21 b) → (xk_fr o X Xl_81) → xk_I g s H_85 Xl_81 L_86 → ∀ ls : Array Slot, lv_has ls 5 [(0, .ref o), (1, .int x), (3, .int (nI (tl_wor (tl_yrs (A 0) (tl_n x)) ((tl_yrs (A 0) (tl_n x)) (14 + 7 * b4)) 8))), (4, .int (nI k2))] → W p (xk_l g) e (({ frames := 5, cells := 0, slots := 0, locals := 120 } : Room)) s m args below meth c H_85 L_86 0 0 (MQ below (xk_Q g (xk_Qi (tl_wIn (A 0) x) (fun X1 => ∃ f2 : Nat → Nat, tm_Ok g X1 o ad (va_up A 2 f2) S ∧ xk_fr o X X1))) args s (0) (0) (xk_A g)) (F0 m 81 ls []) := by
              intro n_81
              induction n_81 with
              | zero => intros; omega
              | succ n_81 ih_81 =>
                intro k2 f2 Xl_81 H_85 L_86 hk12 hf12 hm_81 hfl0_81 hne_81 hfrl_81 hI_87 ls hl
                refine lv_iload hx hb dX2_worthIn_81 (lv_at hl 3 rfl) ?_
                refine lv_sipush (v := nI 294) hx hb dX2_worthIn_83 (by decide) ?_
                refine xk_icmp_ge (tgt := 109) hx hb (by omega) (by omega) dX2_worthIn_86 (by decide) (fun hc_86 => ?_) (fun hc_86 => ?_)
                · obtain ⟨X_88, hf_89, hn_90, hI_91⟩ := xk_ghost (f2 := A 0) hI_87 hfl0_81 (fun j hj => by rw [hf12, show k2 = 294 by omega, hf1]; unfold tl_cp; rw [if_pos hj, if_pos hj])
                  have hfr_92 := xk_fr.put hfrl_81 hfl0_81 hn_90
                  refine lv_iload_n hx hb dX2_worthIn_109 rfl (lv_at hl 2 rfl) ?_
                  have hf_93 := (hne_81 _ (xk_ne hf_26 hf_25 (xk_on1 (by decide)))).trans hf_25
                  have hf_94 := xk_off hn_90 hf_93 hfl0_81 (xk_on1 (by decide))
                  have hf_95 := (hne_81 _ (xk_ne hf_26 hf_27 (xk_on1 (by decide)))).trans hf_27
                  have hf_96 := xk_off hn_90 hf_95 hfl0_81 (xk_on1 (by decide))
                  have hf_97 := (hne_81 _ (xk_ne hf_26 hf_28 (xk_on1 (by decide)))).trans hf_28
                  have hf_98 := xk_off hn_90 hf_97 hfl0_81 (xk_on1 (by decide))
                  have hf_99 := (hne_81 _ (xk_ne hf_26 hf_29 (xk_on1 (by decide)))).trans hf_29
                  have hf_100 := xk_off hn_90 hf_99 hfl0_81 (xk_on1 (by decide))
                  have hf_101 := (hne_81 _ (xk_ne hf_26 hf_30 (xk_on1 (by decide)))).trans hf_30
                  have hf_102 := xk_off hn_90 hf_101 hfl0_81 (xk_on1 (by decide))
                  have hf_103 := (hne_81 _ (xk_ne hf_26 hf_31 (xk_on1 (by decide)))).trans hf_31
                  have hf_104 := xk_off hn_90 hf_103 hfl0_81 (xk_on1 (by decide))
                  have hf_105 := (hne_81 _ (xk_ne hf_26 hf_32 (xk_on1 (by decide)))).trans hf_32
                  have hf_106 := xk_off hn_90 hf_105 hfl0_81 (xk_on1 (by decide))
                  have hf_107 := (hne_81 _ (xk_ne hf_26 hf_33 (xk_on1 (by decide)))).trans hf_33
                  have hf_108 := xk_off hn_90 hf_107 hfl0_81 (xk_on1 (by decide))
                  have hf_109 := (hne_81 _ (xk_ne hf_26 hf_34 (xk_on1 (by decide)))).trans hf_34
                  have hf_110 := xk_off hn_90 hf_109 hfl0_81 (xk_on1 (by decide))
                  have hf_111 := (hne_81 _ (xk_ne hf_26 hf_35 (xk_on1 (by decide)))).trans hf_35
                  have hf_112 := xk_off hn_90 hf_111 hfl0_81 (xk_on1 (by decide))
                  have hM_113 : tm_Ok g X_88 o ad (va_up A 2 f) S := ⟨hf_94, hf_89, hf_96, hf_98, hf_100, hf_102, hf_104, hf_106, hf_108, hf_110, hf_112⟩
                  exact xk_reti B hI_91 hr rfl dX2_worthIn_110 (Nat.le_of_ble_eq_true rfl) (Nat.le_of_ble_eq_true rfl) (⟨(by unfold tl_wIn; rw [if_pos hc_9, hat]), (f), hM_113, hfr_92⟩)
                · refine lv_aload_n hx hb dX2_worthIn_89 rfl (lv_at hl 0 rfl) ?_
                  have hf_114 := (hne_81 _ (xk_ne hf_26 hf_25 (xk_on1 (by decide)))).trans hf_25
                  refine xk_get B hI_87 hf_114 rfl in_X2 0 (by decide) q1432 rfl dX2_worthIn_90 ?_
                  refine lv_iload hx hb dX2_worthIn_93 (lv_at hl 3 rfl) ?_
                  refine lv_aload_n hx hb dX2_worthIn_95 rfl (lv_at hl 0 rfl) ?_
                  refine xk_get B hI_87 hf_114 rfl in_X2 2 (by decide) q1434 rfl dX2_worthIn_96 ?_
                  refine lv_iload hx hb dX2_worthIn_99 (lv_at hl 3 rfl) ?_
                  have hf_115 := (hne_81 _ (xk_ne hf_26 hf_28 (xk_on1 (by decide)))).trans hf_28
                  refine xk_iald B hI_87 hf_115 (by omega) (by decide) dX2_worthIn_101 ?_
                  refine xk_iast B hI_87 hfl0_81 (by omega) (by decide) dX2_worthIn_102 (fun X_116 H_120 L_121 hf_118 hn_117 hI_119 => ?_)
                  have hfr_122 := xk_fr.put hfrl_81 hfl0_81 hn_117
                  refine lv_iinc (v := nI (k2 + 1)) (lv' := [(4, .int (nI (k2 + 1))), (0, .ref o), (1, .int x), (3, .int (nI (tl_wor (tl_yrs (A 0) (tl_n x)) ((tl_yrs (A 0) (tl_n x)) (14 + 7 * b4)) 8)))]) hx hb dX2_worthIn_103 hl (k := 3) rfl (xk_inc k2) (by decide) rfl (fun ls hl => ?_)
                  refine lv_goto (tgt := 81) hx hb dX2_worthIn_106 (by decide) ?_
                  exact ih_81 (k2 + 1) (va_up f2 k2 (f k2)) X_116 _ _ (by omega) (by rw [hf12]; exact tl_cp_s _ _ _) (by omega) hf_118 (fun b z0 => ((hn_117 b z0).trans (hne_81 b z0))) hfr_122 hI_119 ls (lv_sub hl [1, 2, 3, 0] rfl)
            exact hloop_81 (294 - 0 + 1) 0 (tl_yrs (A 0) (tl_n x)) X_21 _ _ (by omega) (by exact (tl_cp_0 _ _).symm) (Nat.lt_succ_self _) hf_26 (fun _ _ => rfl) hfr_36 hI_82 ls (lv_sub hl [3, 4, 1, 0] rfl)
        · refine lv_aload_n hx hb dX2_worthIn_24 rfl (lv_at hl 0 rfl) ?_
          have hf_123 := (hne_17 _ (xk_ne hA2 hO (xk_on1 (by decide)))).trans hO
          refine xk_get B hI_6 hf_123 rfl in_X2 2 (by decide) q1434 rfl dX2_worthIn_25 ?_
          refine lv_iload_n hx hb dX2_worthIn_28 rfl (lv_at hl 2 rfl) ?_
          refine lv_aload_n hx hb dX2_worthIn_29 rfl (lv_at hl 0 rfl) ?_
          refine xk_get B hI_6 hf_123 rfl in_X2 0 (by decide) q1432 rfl dX2_worthIn_30 ?_
          refine lv_iload_n hx hb dX2_worthIn_33 rfl (lv_at hl 2 rfl) ?_
          have hf_124 := (hne_17 _ (xk_ne hA2 hA0 (xk_on1 (by decide)))).trans hA0
          refine xk_iald B hI_6 hf_124 (by omega) (by decide) dX2_worthIn_34 ?_
          refine xk_iast B hI_6 hfl0_17 (by omega) (by decide) dX2_worthIn_35 (fun X_125 H_129 L_130 hf_127 hn_126 hI_128 => ?_)
          have hfr_131 := xk_fr.put hfrl_17 hfl0_17 hn_126
          refine lv_iinc (v := nI (k + 1)) (lv' := [(2, .int (nI (k + 1))), (0, .ref o), (1, .int x)]) hx hb dX2_worthIn_36 hl (k := 2) rfl (xk_inc k) (by decide) rfl (fun ls hl => ?_)
          refine lv_goto (tgt := 17) hx hb dX2_worthIn_39 (by decide) ?_
          exact ih_17 (k + 1) (va_up f k (A 0 k)) X_125 _ _ (by omega) (by rw [hf1]; exact tl_cp_s _ _ _) (by omega) hf_127 (fun b z0 => ((hn_126 b z0).trans (hne_17 b z0))) hfr_131 hI_128 ls (lv_sub hl [1, 2, 0] rfl)
    exact hloop_17 (294 - 0 + 1) 0 (A 2) X _ _ (by omega) (by exact (tl_cp_0 _ _).symm) (Nat.lt_succ_self _) hA2 (fun _ _ => rfl) hfr hI_1 ls (lv_sub hl [1, 2, 0] rfl)
  · refine lv_bipush (v := (-2)) hx hb dX2_worthIn_12 (by decide) ?_
    have hM_132 : tm_Ok g X o ad (va_up A 2 (A 2)) S := ⟨hO, hA0, hA1, hA2, hA3, hA4, hA5, hA6, hA7, hA8, hA9⟩
    exact xk_reti B hI_1 hr rfl dX2_worthIn_14 (Nat.le_of_ble_eq_true rfl) (Nat.le_of_ble_eq_true rfl) (⟨(by unfold tl_wIn; rw [if_neg (by rw [hc_9]; decide)]), (A 2), hM_132, hfr⟩)
set_option maxHeartbeats 4000000 in
theorem m2_sign0 (g : xk_G) {X : xk_H} {o : Nat} {ad : Nat → Nat} {A : Nat → Nat → Nat} {S : Nat → Nat} (hM : tm_Ok g X o ad A S) {L0 : Nat → Nat} {cs : List Nat} (c9 : Nat) (hA8x : A 8 = tl_puts L0 0 cs) (hS6x : S 6 = cs.length) (hn9 : cs.length < 60) : xk_C g yX2_sign0 (ws_ yX2_sign0 cX2_sign0 2 none) ({ frames := 0, cells := 0, slots := 0, locals := 0 } : Room) [.ref o, .int (nI c9)] X (xk_Qv (fun X1 => tm_Ok g X1 o ad (va_up A 8 (tl_puts L0 0 (cs ++ [c9]))) (va_up S 6 (cs ++ [c9]).length) ∧ xk_fr o X X1)) := by
  refine xk_ofW (by decide +kernel) (Nat.le_of_ble_eq_true rfl) (fun p e s m args below meth c B hr hname hargs hI ls hl => ?_)
  have B : xk_B g p s m args meth c RX2 cX2_sign0 2 := B
  have hl : lv_has ls 2 [(0, .ref o), (1, .int (nI c9))] := hl
  have hx := B.1
  have hb := B.2.1
  have hM0 := hM
  obtain ⟨hO, hA0, hA1, hA2, hA3, hA4, hA5, hA6, hA7, hA8, hA9⟩ := hM
  have hfr : xk_fr o X X := xk_fr.rf
  refine lv_aload_n hx hb dX2_sign0_0 rfl (lv_at hl 0 rfl) ?_
  refine xk_get B hI hO rfl in_X2 14 (by decide) q1446 rfl dX2_sign0_1 ?_
  refine lv_aload_n hx hb dX2_sign0_4 rfl (lv_at hl 0 rfl) ?_
  refine xk_get B hI hO rfl in_X2 15 (by decide) q1447 rfl dX2_sign0_5 ?_
  refine lv_iload_n hx hb dX2_sign0_8 rfl (lv_at hl 1 rfl) ?_
  refine xk_iast B hI hA8 (by omega) (by decide) dX2_sign0_9 (fun X_1 H_5 L_6 hf_3 hn_2 hI_4 => ?_)
  have hfr_7 := xk_fr.put hfr hA8 hn_2
  refine lv_aload_n hx hb dX2_sign0_10 rfl (lv_at hl 0 rfl) ?_
  refine lv_dup hx hb dX2_sign0_11 rfl ?_
  have hf_8 := xk_off hn_2 hO hA8 (xk_on1 (by decide))
  refine xk_get B hI_4 hf_8 rfl in_X2 15 (by decide) q1447 rfl dX2_sign0_12 ?_
  refine lv_iconst (v := nI 1) hx hb dX2_sign0_15 (by decide) ?_
  refine lv_iadd hx hb dX2_sign0_16 (xk_top (nI_add _ _) ?_)
  refine xk_put B hI_4 hf_8 rfl in_X2 tyX2 tyX2_ok nmX2 15 (by decide) q1447 rfl rfl rfl (Nat.le_of_ble_eq_true rfl) dX2_sign0_17 (fun X_9 H_13 L_14 hf_11 hn_10 hI_12 => ?_)
  have hf_11 : X_9 o = some ((o, 0), .inr (0, [.ref (ad 0), .ref (ad 1), .ref (ad 2), .ref (ad 3), .int (nI (S 0)), .ref (ad 4), .int (nI (S 1)), .int (nI (S 2)), .int (nI (S 3)), .int (tm_it (S 4)), .ref (ad 5), .int (nI (S 5)), .ref (ad 6), .ref (ad 7), .ref (ad 8), .int (nI (S 6 + 1)), .ref (ad 9), .int (nI (S 7)), .int (nI (S 8)), .int (nI (S 9)), .int (nI (S 10))])) := hf_11
  have hfr_15 := xk_fr.put hfr_7 hf_8 hn_10
  have hf_16 := xk_off hn_2 hA0 hA8 (xk_on1 (by decide))
  have hf_17 := xk_off hn_10 hf_16 hf_8 (xk_on1 (by decide))
  have hf_18 := xk_off hn_2 hA1 hA8 (xk_on1 (by decide))
  have hf_19 := xk_off hn_10 hf_18 hf_8 (xk_on1 (by decide))
  have hf_20 := xk_off hn_2 hA2 hA8 (xk_on1 (by decide))
  have hf_21 := xk_off hn_10 hf_20 hf_8 (xk_on1 (by decide))
  have hf_22 := xk_off hn_2 hA3 hA8 (xk_on1 (by decide))
  have hf_23 := xk_off hn_10 hf_22 hf_8 (xk_on1 (by decide))
  have hf_24 := xk_off hn_2 hA4 hA8 (xk_on1 (by decide))
  have hf_25 := xk_off hn_10 hf_24 hf_8 (xk_on1 (by decide))
  have hf_26 := xk_off hn_2 hA5 hA8 (xk_on1 (by decide))
  have hf_27 := xk_off hn_10 hf_26 hf_8 (xk_on1 (by decide))
  have hf_28 := xk_off hn_2 hA6 hA8 (xk_on1 (by decide))
  have hf_29 := xk_off hn_10 hf_28 hf_8 (xk_on1 (by decide))
  have hf_30 := xk_off hn_2 hA7 hA8 (xk_on1 (by decide))
  have hf_31 := xk_off hn_10 hf_30 hf_8 (xk_on1 (by decide))
  have hf_32 := xk_off hn_10 hf_3 hf_8 (xk_on1 (by decide))
  have hf_33 := xk_off hn_2 hA9 hA8 (xk_on1 (by decide))
  have hf_34 := xk_off hn_10 hf_33 hf_8 (xk_on1 (by decide))
  have hM_35 : tm_Ok g X_9 o ad (va_up A 8 (va_up (A 8) (S 6) c9)) (va_up S 6 (S 6 + 1)) := ⟨hf_11, hf_17, hf_19, hf_21, hf_23, hf_25, hf_27, hf_29, hf_31, hf_32, hf_34⟩
  exact xk_retv B hI_12 hr dX2_sign0_20 (Nat.le_of_ble_eq_true rfl) (Nat.le_of_ble_eq_true rfl) ((by rw [tl_puts_s, Nat.zero_add, ← hA8x, List.length_append, ← hS6x]; exact ⟨rfl, hM_35, hfr_15⟩))
set_option maxHeartbeats 4000000 in
theorem m2_writesNumber (g : xk_G) {X : xk_H} {o : Nat} {ad : Nat → Nat} {A : Nat → Nat → Nat} {S : Nat → Nat} (hM : tm_Ok g X o ad A S) {L0 : Nat → Nat} {cs : List Nat} (v9 : Nat) (hv9 : v9 < 100) (hA8x : A 8 = tl_puts L0 0 cs) (hS6x : S 6 = cs.length) (hn9 : cs.length + 2 ≤ 60) : xk_C g yX2_writesNumber (ws_ yX2_writesNumber cX2_writesNumber 4 none) ({ frames := 1, cells := 0, slots := 0, locals := 21 } : Room) [.ref o, .int (nI v9)] X (xk_Qv (fun X1 => tm_Ok g X1 o ad (va_up A 8 (tl_puts L0 0 (cs ++ tl_dig v9))) (va_up S 6 (cs ++ tl_dig v9).length) ∧ xk_fr o X X1)) := by
  refine xk_ofW (by decide +kernel) (Nat.le_of_ble_eq_true rfl) (fun p e s m args below meth c B hr hname hargs hI ls hl => ?_)
  have B : xk_B g p s m args meth c RX2 cX2_writesNumber 4 := B
  have hl : lv_has ls 4 [(0, .ref o), (1, .int (nI v9))] := hl
  have hx := B.1
  have hb := B.2.1
  have hM0 := hM
  obtain ⟨hO, hA0, hA1, hA2, hA3, hA4, hA5, hA6, hA7, hA8, hA9⟩ := hM
  have hfr : xk_fr o X X := xk_fr.rf
  refine lv_iconst (v := nI 1) hx hb dX2_writesNumber_0 (by decide) ?_
  refine lv_istore_n (lv' := [(2, .int (nI 1)), (0, .ref o), (1, .int (nI v9))]) hx hb dX2_writesNumber_1 rfl hl (by decide) rfl (fun ls hl => ?_)
  refine lv_iload_n hx hb dX2_writesNumber_2 rfl (lv_at hl 2 rfl) ?_
  refine lv_iload_n hx hb dX2_writesNumber_3 rfl (lv_at hl 0 rfl) ?_
  refine lv_idiv hx hb dX2_writesNumber_4 (by decide) (xk_top (xk_div1 (by omega)) ?_)
  refine lv_bipush (v := nI 9) hx hb dX2_writesNumber_5 (by decide) ?_
  refine xk_icmp_le (tgt := 18) hx hb (by omega) (by omega) dX2_writesNumber_7 (by decide) (fun hc_7 => ?_) (fun hc_7 => ?_)
  · refine lv_iload_n hx hb dX2_writesNumber_18 rfl (lv_at hl 0 rfl) ?_
    refine lv_istore_n (lv' := [(3, .int (nI 1)), (2, .int (nI 1)), (0, .ref o), (1, .int (nI v9))]) hx hb dX2_writesNumber_19 rfl hl (by decide) rfl (fun ls hl => ?_)
    refine lv_iload_n hx hb dX2_writesNumber_20 rfl (lv_at hl 0 rfl) ?_
    refine xk_if_le_f (tgt := 45) hx hb (by omega) dX2_writesNumber_21 (by decide) (by decide) ?_
    refine lv_aload_n hx hb dX2_writesNumber_24 rfl (lv_at hl 2 rfl) ?_
    refine lv_bipush (v := nI 48) hx hb dX2_writesNumber_25 (by decide) ?_
    refine lv_iload_n hx hb dX2_writesNumber_27 rfl (lv_at hl 3 rfl) ?_
    refine lv_iload_n hx hb dX2_writesNumber_28 rfl (lv_at hl 0 rfl) ?_
    refine lv_idiv hx hb dX2_writesNumber_29 (by decide) (xk_top (xk_div1 (by omega)) ?_)
    refine lv_bipush (v := nI 10) hx hb dX2_writesNumber_30 (by decide) ?_
    refine lv_irem hx hb dX2_writesNumber_32 (xk_ne0 (by omega) (by omega)) (xk_top (pk_rem (by omega) (by omega) (by omega)) ?_)
    refine lv_iadd hx hb dX2_writesNumber_33 (xk_top (nI_add _ _) ?_)
    refine xk_top (y := nI (48 + v9)) (congrArg nI (by omega)) ?_
    refine xk_rv (xk_cV B hI hl [.int (nI (48 + v9))] [] 1 (m2_sign0 g hM0 (L0 := L0) (cs := cs) (48 + v9) hA8x hS6x (by first | omega | (simp only [List.length_append, List.length_cons, List.length_nil, tl_nil_len]; omega))) hO rfl (lw_V q1717 q1719 qs58 q79 q1720) ⟨rfl, by decide +kernel, by decide +kernel, by decide +kernel⟩ ⟨Nat.le_of_ble_eq_true rfl, Nat.le_of_ble_eq_true rfl⟩ rfl rfl (Nat.le_of_ble_eq_true rfl) dX2_writesNumber_34 (Nat.le_of_ble_eq_true rfl) (Nat.le_of_ble_eq_true rfl)) hI (fun X_4 H_2 L_3 hq_5 hI_1 => ?_)
    obtain ⟨hM_6, hfr_7⟩ := hq_5
    obtain ⟨hf_8, hf_9, hf_10, hf_11, hf_12, hf_13, hf_14, hf_15, hf_16, hf_17, hf_18⟩ := id hM_6
    have hfr_19 := xk_fr.tr hfr hfr_7
    have hf_9 : X_4 (ad 0) = some ((o, 1), xk_iA g 0 294 (A 0)) := hf_9
    have hf_10 : X_4 (ad 1) = some ((o, 2), xk_iA g 0 294 (A 1)) := hf_10
    have hf_11 : X_4 (ad 2) = some ((o, 3), xk_iA g 0 294 (A 2)) := hf_11
    have hf_12 : X_4 (ad 3) = some ((o, 4), xk_iA g 0 294 (A 3)) := hf_12
    have hf_13 : X_4 (ad 4) = some ((o, 5), xk_iA g 0 2352 (A 4)) := hf_13
    have hf_14 : X_4 (ad 5) = some ((o, 6), xk_iA g 0 70 (A 5)) := hf_14
    have hf_15 : X_4 (ad 6) = some ((o, 7), xk_iA g 2 40 (A 6)) := hf_15
    have hf_16 : X_4 (ad 7) = some ((o, 8), xk_iA g 2 40 (A 7)) := hf_16
    have hf_17 : X_4 (ad 8) = some ((o, 9), xk_iA g 0 60 (tl_puts L0 0 (cs ++ [48 + v9]))) := hf_17
    have hf_18 : X_4 (ad 9) = some ((o, 10), xk_iA g 0 284 (A 9)) := hf_18
    have hf_8 : X_4 o = some ((o, 0), .inr (0, [.ref (ad 0), .ref (ad 1), .ref (ad 2), .ref (ad 3), .int (nI (S 0)), .ref (ad 4), .int (nI (S 1)), .int (nI (S 2)), .int (nI (S 3)), .int (tm_it (S 4)), .ref (ad 5), .int (nI (S 5)), .ref (ad 6), .ref (ad 7), .ref (ad 8), .int (nI ((cs ++ [48 + v9]).length)), .ref (ad 9), .int (nI (S 7)), .int (nI (S 8)), .int (nI (S 9)), .int (nI (S 10))])) := hf_8
    refine lv_iload_n hx hb dX2_writesNumber_37 rfl (lv_at hl 0 rfl) ?_
    refine lv_bipush (v := nI 10) hx hb dX2_writesNumber_38 (by decide) ?_
    refine lv_idiv hx hb dX2_writesNumber_40 (by decide) (xk_top (y := nI 0) (by decide) ?_)
    refine lv_istore_n (lv' := [(3, .int (nI 0)), (2, .int (nI 1)), (0, .ref o), (1, .int (nI v9))]) hx hb dX2_writesNumber_41 rfl hl (by decide) rfl (fun ls hl => ?_)
    refine lv_goto (tgt := 20) hx hb dX2_writesNumber_42 (by decide) ?_
    refine lv_iload_n hx hb dX2_writesNumber_20 rfl (lv_at hl 0 rfl) ?_
    refine xk_if_le_t (tgt := 45) hx hb (by omega) dX2_writesNumber_21 (by decide) (by decide) ?_
    have hM_20 : tm_Ok g X_4 o ad (va_up A 8 (tl_puts L0 0 (cs ++ [48 + v9]))) (va_up S 6 ((cs ++ [48 + v9]).length)) := ⟨hf_8, hf_9, hf_10, hf_11, hf_12, hf_13, hf_14, hf_15, hf_16, hf_17, hf_18⟩
    exact xk_retv B hI_1 hr dX2_writesNumber_45 (Nat.le_of_ble_eq_true rfl) (Nat.le_of_ble_eq_true rfl) ((by rw [show tl_dig v9 = [48 + v9] from if_pos (by omega)]; exact ⟨rfl, hM_20, hfr_19⟩))
  · refine lv_iload_n hx hb dX2_writesNumber_10 rfl (lv_at hl 0 rfl) ?_
    refine lv_bipush (v := nI 10) hx hb dX2_writesNumber_11 (by decide) ?_
    refine lv_imul hx hb dX2_writesNumber_13 (xk_top (y := nI 10) (by decide) ?_)
    refine lv_istore_n (lv' := [(2, .int (nI 10)), (0, .ref o), (1, .int (nI v9))]) hx hb dX2_writesNumber_14 rfl hl (by decide) rfl (fun ls hl => ?_)
    refine lv_goto (tgt := 2) hx hb dX2_writesNumber_15 (by decide) ?_
    refine lv_iload_n hx hb dX2_writesNumber_2 rfl (lv_at hl 2 rfl) ?_
    refine lv_iload_n hx hb dX2_writesNumber_3 rfl (lv_at hl 0 rfl) ?_
    refine lv_idiv hx hb dX2_writesNumber_4 (xk_ne0 (by omega) (by omega)) (xk_top (pk_div (by omega) (by omega) (by omega)) ?_)
    refine lv_bipush (v := nI 9) hx hb dX2_writesNumber_5 (by decide) ?_
    refine xk_icmp_le_t (tgt := 18) hx hb (by omega) (by omega) dX2_writesNumber_7 (by decide) (by omega) ?_
    refine lv_iload_n hx hb dX2_writesNumber_18 rfl (lv_at hl 0 rfl) ?_
    refine lv_istore_n (lv' := [(3, .int (nI 10)), (2, .int (nI 10)), (0, .ref o), (1, .int (nI v9))]) hx hb dX2_writesNumber_19 rfl hl (by decide) rfl (fun ls hl => ?_)
    refine lv_iload_n hx hb dX2_writesNumber_20 rfl (lv_at hl 0 rfl) ?_
    refine xk_if_le_f (tgt := 45) hx hb (by omega) dX2_writesNumber_21 (by decide) (by decide) ?_
    refine lv_aload_n hx hb dX2_writesNumber_24 rfl (lv_at hl 2 rfl) ?_
    refine lv_bipush (v := nI 48) hx hb dX2_writesNumber_25 (by decide) ?_
    refine lv_iload_n hx hb dX2_writesNumber_27 rfl (lv_at hl 3 rfl) ?_
    refine lv_iload_n hx hb dX2_writesNumber_28 rfl (lv_at hl 0 rfl) ?_
    refine lv_idiv hx hb dX2_writesNumber_29 (xk_ne0 (by omega) (by omega)) (xk_top (pk_div (by omega) (by omega) (by omega)) ?_)
    refine lv_bipush (v := nI 10) hx hb dX2_writesNumber_30 (by decide) ?_
    refine lv_irem hx hb dX2_writesNumber_32 (xk_ne0 (by omega) (by omega)) (xk_top (pk_rem (by omega) (by omega) (by omega)) ?_)
    refine lv_iadd hx hb dX2_writesNumber_33 (xk_top (nI_add _ _) ?_)
    refine xk_top (y := nI (48 + v9 / 10)) (congrArg nI (by omega)) ?_
    refine xk_rv (xk_cV B hI hl [.int (nI (48 + v9 / 10))] [] 1 (m2_sign0 g hM0 (L0 := L0) (cs := cs) (48 + v9 / 10) hA8x hS6x (by first | omega | (simp only [List.length_append, List.length_cons, List.length_nil, tl_nil_len]; omega))) hO rfl (lw_V q1717 q1719 qs58 q79 q1720) ⟨rfl, by decide +kernel, by decide +kernel, by decide +kernel⟩ ⟨Nat.le_of_ble_eq_true rfl, Nat.le_of_ble_eq_true rfl⟩ rfl rfl (Nat.le_of_ble_eq_true rfl) dX2_writesNumber_34 (Nat.le_of_ble_eq_true rfl) (Nat.le_of_ble_eq_true rfl)) hI (fun X_24 H_22 L_23 hq_25 hI_21 => ?_)
    obtain ⟨hM_26, hfr_27⟩ := hq_25
    obtain ⟨hf_28, hf_29, hf_30, hf_31, hf_32, hf_33, hf_34, hf_35, hf_36, hf_37, hf_38⟩ := id hM_26
    have hfr_39 := xk_fr.tr hfr hfr_27
    have hf_29 : X_24 (ad 0) = some ((o, 1), xk_iA g 0 294 (A 0)) := hf_29
    have hf_30 : X_24 (ad 1) = some ((o, 2), xk_iA g 0 294 (A 1)) := hf_30
    have hf_31 : X_24 (ad 2) = some ((o, 3), xk_iA g 0 294 (A 2)) := hf_31
    have hf_32 : X_24 (ad 3) = some ((o, 4), xk_iA g 0 294 (A 3)) := hf_32
    have hf_33 : X_24 (ad 4) = some ((o, 5), xk_iA g 0 2352 (A 4)) := hf_33
    have hf_34 : X_24 (ad 5) = some ((o, 6), xk_iA g 0 70 (A 5)) := hf_34
    have hf_35 : X_24 (ad 6) = some ((o, 7), xk_iA g 2 40 (A 6)) := hf_35
    have hf_36 : X_24 (ad 7) = some ((o, 8), xk_iA g 2 40 (A 7)) := hf_36
    have hf_37 : X_24 (ad 8) = some ((o, 9), xk_iA g 0 60 (tl_puts L0 0 (cs ++ [48 + v9 / 10]))) := hf_37
    have hf_38 : X_24 (ad 9) = some ((o, 10), xk_iA g 0 284 (A 9)) := hf_38
    have hf_28 : X_24 o = some ((o, 0), .inr (0, [.ref (ad 0), .ref (ad 1), .ref (ad 2), .ref (ad 3), .int (nI (S 0)), .ref (ad 4), .int (nI (S 1)), .int (nI (S 2)), .int (nI (S 3)), .int (tm_it (S 4)), .ref (ad 5), .int (nI (S 5)), .ref (ad 6), .ref (ad 7), .ref (ad 8), .int (nI ((cs ++ [48 + v9 / 10]).length)), .ref (ad 9), .int (nI (S 7)), .int (nI (S 8)), .int (nI (S 9)), .int (nI (S 10))])) := hf_28
    refine lv_iload_n hx hb dX2_writesNumber_37 rfl (lv_at hl 0 rfl) ?_
    refine lv_bipush (v := nI 10) hx hb dX2_writesNumber_38 (by decide) ?_
    refine lv_idiv hx hb dX2_writesNumber_40 (by decide) (xk_top (y := nI 1) (by decide) ?_)
    refine lv_istore_n (lv' := [(3, .int (nI 1)), (2, .int (nI 10)), (0, .ref o), (1, .int (nI v9))]) hx hb dX2_writesNumber_41 rfl hl (by decide) rfl (fun ls hl => ?_)
    refine lv_goto (tgt := 20) hx hb dX2_writesNumber_42 (by decide) ?_
    refine lv_iload_n hx hb dX2_writesNumber_20 rfl (lv_at hl 0 rfl) ?_
    refine xk_if_le_f (tgt := 45) hx hb (by omega) dX2_writesNumber_21 (by decide) (by decide) ?_
    refine lv_aload_n hx hb dX2_writesNumber_24 rfl (lv_at hl 2 rfl) ?_
    refine lv_bipush (v := nI 48) hx hb dX2_writesNumber_25 (by decide) ?_
    refine lv_iload_n hx hb dX2_writesNumber_27 rfl (lv_at hl 3 rfl) ?_
    refine lv_iload_n hx hb dX2_writesNumber_28 rfl (lv_at hl 0 rfl) ?_
    refine lv_idiv hx hb dX2_writesNumber_29 (by decide) (xk_top (xk_div1 (by omega)) ?_)
    refine lv_bipush (v := nI 10) hx hb dX2_writesNumber_30 (by decide) ?_
    refine lv_irem hx hb dX2_writesNumber_32 (xk_ne0 (by omega) (by omega)) (xk_top (pk_rem (by omega) (by omega) (by omega)) ?_)
    refine lv_iadd hx hb dX2_writesNumber_33 (xk_top (nI_add _ _) ?_)
    refine xk_top (y := nI (48 + v9 % 10)) (congrArg nI (by omega)) ?_
    have hM_40 : tm_Ok g X_24 o ad (va_up A 8 (tl_puts L0 0 (cs ++ [48 + v9 / 10]))) (va_up S 6 ((cs ++ [48 + v9 / 10]).length)) := ⟨hf_28, hf_29, hf_30, hf_31, hf_32, hf_33, hf_34, hf_35, hf_36, hf_37, hf_38⟩
    refine xk_rv (xk_cV B hI_21 hl [.int (nI (48 + v9 % 10))] [] 1 (m2_sign0 g hM_40 (L0 := L0) (cs := cs ++ [48 + v9 / 10]) (48 + v9 % 10) rfl rfl (by first | omega | (simp only [List.length_append, List.length_cons, List.length_nil, tl_nil_len]; omega))) hf_28 rfl (lw_V q1717 q1719 qs58 q79 q1720) ⟨rfl, by decide +kernel, by decide +kernel, by decide +kernel⟩ ⟨Nat.le_of_ble_eq_true rfl, Nat.le_of_ble_eq_true rfl⟩ rfl rfl (Nat.le_of_ble_eq_true rfl) dX2_writesNumber_34 (Nat.le_of_ble_eq_true rfl) (Nat.le_of_ble_eq_true rfl)) hI_21 (fun X_44 H_42 L_43 hq_45 hI_41 => ?_)
    obtain ⟨hM_46, hfr_47⟩ := hq_45
    obtain ⟨hf_48, hf_49, hf_50, hf_51, hf_52, hf_53, hf_54, hf_55, hf_56, hf_57, hf_58⟩ := id hM_46
    have hfr_59 := xk_fr.tr hfr_39 hfr_47
    have hf_49 : X_44 (ad 0) = some ((o, 1), xk_iA g 0 294 (A 0)) := hf_49
    have hf_50 : X_44 (ad 1) = some ((o, 2), xk_iA g 0 294 (A 1)) := hf_50
    have hf_51 : X_44 (ad 2) = some ((o, 3), xk_iA g 0 294 (A 2)) := hf_51
    have hf_52 : X_44 (ad 3) = some ((o, 4), xk_iA g 0 294 (A 3)) := hf_52
    have hf_53 : X_44 (ad 4) = some ((o, 5), xk_iA g 0 2352 (A 4)) := hf_53
    have hf_54 : X_44 (ad 5) = some ((o, 6), xk_iA g 0 70 (A 5)) := hf_54
    have hf_55 : X_44 (ad 6) = some ((o, 7), xk_iA g 2 40 (A 6)) := hf_55
    have hf_56 : X_44 (ad 7) = some ((o, 8), xk_iA g 2 40 (A 7)) := hf_56
    have hf_57 : X_44 (ad 8) = some ((o, 9), xk_iA g 0 60 (tl_puts L0 0 (cs ++ [48 + v9 / 10] ++ [48 + v9 % 10]))) := hf_57
    have hf_58 : X_44 (ad 9) = some ((o, 10), xk_iA g 0 284 (A 9)) := hf_58
    have hf_48 : X_44 o = some ((o, 0), .inr (0, [.ref (ad 0), .ref (ad 1), .ref (ad 2), .ref (ad 3), .int (nI (S 0)), .ref (ad 4), .int (nI (S 1)), .int (nI (S 2)), .int (nI (S 3)), .int (tm_it (S 4)), .ref (ad 5), .int (nI (S 5)), .ref (ad 6), .ref (ad 7), .ref (ad 8), .int (nI ((cs ++ [48 + v9 / 10] ++ [48 + v9 % 10]).length)), .ref (ad 9), .int (nI (S 7)), .int (nI (S 8)), .int (nI (S 9)), .int (nI (S 10))])) := hf_48
    refine lv_iload_n hx hb dX2_writesNumber_37 rfl (lv_at hl 0 rfl) ?_
    refine lv_bipush (v := nI 10) hx hb dX2_writesNumber_38 (by decide) ?_
    refine lv_idiv hx hb dX2_writesNumber_40 (by decide) (xk_top (y := nI 0) (by decide) ?_)
    refine lv_istore_n (lv' := [(3, .int (nI 0)), (2, .int (nI 10)), (0, .ref o), (1, .int (nI v9))]) hx hb dX2_writesNumber_41 rfl hl (by decide) rfl (fun ls hl => ?_)
    refine lv_goto (tgt := 20) hx hb dX2_writesNumber_42 (by decide) ?_
    refine lv_iload_n hx hb dX2_writesNumber_20 rfl (lv_at hl 0 rfl) ?_
    refine xk_if_le_t (tgt := 45) hx hb (by omega) dX2_writesNumber_21 (by decide) (by decide) ?_
    have hM_60 : tm_Ok g X_44 o ad (va_up A 8 (tl_puts L0 0 (cs ++ [48 + v9 / 10] ++ [48 + v9 % 10]))) (va_up S 6 ((cs ++ [48 + v9 / 10] ++ [48 + v9 % 10]).length)) := ⟨hf_48, hf_49, hf_50, hf_51, hf_52, hf_53, hf_54, hf_55, hf_56, hf_57, hf_58⟩
    exact xk_retv B hI_41 hr dX2_writesNumber_45 (Nat.le_of_ble_eq_true rfl) (Nat.le_of_ble_eq_true rfl) ((by rw [show tl_dig v9 = [48 + v9 / 10, 48 + v9 % 10] from if_neg (by omega), show cs ++ [48 + v9 / 10, 48 + v9 % 10] = cs ++ [48 + v9 / 10] ++ [48 + v9 % 10] by rw [List.append_assoc]; rfl]; exact ⟨rfl, hM_60, hfr_59⟩))
