/-! the component: printed by tools/comp4.py -/
set_option maxRecDepth 100000
set_option maxHeartbeats 4000000 in
theorem c2_plants (g : xk_G) {X : xk_H} {r b w l a : Nat} {mc : Int32} {pp mm : Nat → Nat} (hB : tb_B g X r b w l a mc pp mm) (hk : tl_inv mm) {x9 : Nat} (hx9 : x9 < 256) : xk_CX g yX1_plants (ws_ yX1_plants cX1_plants 2 (some .int)) ({ frames := 8, cells := 4 + tl_gc (mm 0), slots := 28 + tl_gs (mm 0), locals := 171 } : Room) [.ref b, .int (nI x9)] X (fun v X1 => v = some (.int (nI (mm 0))) ∧ tl_fullR mm = 0 ∧ ∃ (a1 : Nat) (mc1 : Int32) (pp1 : Nat → Nat), tb_B g X1 r b w l a1 mc1 pp1 (tl_come mm x9 0 0 0 0) ∧ xk_fx (fun o => o.1 = r) X X1) (fun E q X1 => tl_fullR mm ≠ 0 ∧ tb_re E q X1 (nI (tl_fullR mm)) (nI (tl_fullD mm)) ∧ xk_fx (fun o => o.1 = r) X X1) := by
  refine xk_ofWX (by decide +kernel) (Nat.le_of_ble_eq_true rfl) (fun p e s m args below meth c B hex hr hname hargs hI ls hl => ?_)
  have B : xk_B g p s m args meth c RX1 cX1_plants 2 := B
  have hl : lv_has ls 2 [(0, .ref b), (1, .int (nI x9))] := hl
  have hx := B.1
  have hb := B.2.1
  obtain ⟨hB1, hB2, hL, hF⟩ := id hB
  have hk0 := hk
  obtain ⟨k0, kb, kw, kl, ks, kr1, kr2, kwt, kL⟩ := hk
  refine lv_aload_n hx hb dX1_plants_0 rfl (lv_at hl 0 rfl) ?_
  have hB_1 : tb_B g X r b w l a mc pp mm := ⟨hB1, hB2, hL, hF⟩
  refine xk_runX (xk_cVX B hI hl [] [] 0 (c2_mayCome g hB_1 hk0) hB1 rfl (lw_V q334 q336 qs1 q70 q337) ⟨rfl, by decide +kernel, by decide +kernel, by decide +kernel⟩ ⟨Nat.le_of_ble_eq_true rfl, Nat.le_of_ble_eq_true rfl⟩ rfl rfl (Nat.le_of_ble_eq_true rfl) dX1_plants_1 (by (try dsimp only); omega) (by (try dsimp only); omega)) hI (fun E_5 q_6 ce_7 X_8 H_9 L_10 hq_11 hI_12 hce_13 hcv_14 hcl_15 => ?_) (fun v_16 X_17 H_3 L_4 hq_18 hI_2 => ?_)
  · obtain ⟨hb_19, hex_20, hle_21⟩ := hq_11
    have hfm_22 : xk_fx (fun o => o.1 = r) X X_8 := xk_fx.le xk_fx.rf hle_21
    exact xk_outX B hI_12 hex hce_13 hcv_14 hcl_15 (by (try dsimp only); omega) (by (try dsimp only); omega) (⟨hb_19, hex_20, hfm_22⟩)
  · obtain ⟨rfl, hz_1_23, hle_24⟩ := hq_18
    have hfm_25 : xk_fx (fun o => o.1 = r) X X_17 := xk_fx.le xk_fx.rf hle_24
    refine W.eq (g2 := F0 m 4 ls []) rfl ?_
    obtain ⟨h40, h12⟩ := tl_full40 hz_1_23 k0
    refine lv_aload_n hx hb dX1_plants_4 rfl (lv_at hl 0 rfl) ?_
    refine xk_newo B hI_2 (fun q9 => (r, 10 + mm 0)) (ci := 3) (C := RX5) (T := TX5) (N := 8) rfl in_X5 tyX5 tyX5_ok q418 q419 q85 (fs := [.int (nI 0), .int (nI 0), .int (nI 0), .int (nI 0), .int (nI 0), .int (nI 0), .int (nI 0), .int (nI 0)]) (fun j hj => by rcases (show j = 0 ∨ j = 1 ∨ j = 2 ∨ j = 3 ∨ j = 4 ∨ j = 5 ∨ j = 6 ∨ j = 7 by omega) with rfl | rfl | rfl | rfl | rfl | rfl | rfl | rfl <;> rfl) (by (try dsimp only); omega) (by (try dsimp only); omega) dX1_plants_5 (fun q_26 X_27 H_28 h0_29 hf_30 hn_31 hI_32 => ?_)
    have hle_33 := xk_le.fresh h0_29 hn_31
    have hfm_34 : xk_fx (fun o => o.1 = r) X X_27 := xk_fx.le hfm_25 hle_33
    refine lv_dup hx hb dX1_plants_8 rfl ?_
    refine lv_aload_n hx hb dX1_plants_9 rfl (lv_at hl 0 rfl) ?_
    have hf_35 := hle_24 _ _ hB1
    have hf_36 := hle_33 _ _ hf_35
    refine xk_get B hI_32 hf_36 rfl in_X1 0 (by decide) q145 rfl dX1_plants_10 ?_
    have hf_37 := tb_L.le hL hle_24
    have hf_38 := tb_L.le hf_37 hle_33
    refine xk_ri0 (xk_cV B hI_32 hl [] [.ref q_26, .ref q_26, .ref b] 0 (j2_size g hf_38) hf_38.1 rfl (lw_V q338 q339 q340 q73 q341) ⟨rfl, by decide +kernel, by decide +kernel, by decide +kernel⟩ ⟨Nat.le_of_ble_eq_true rfl, Nat.le_of_ble_eq_true rfl⟩ rfl rfl (Nat.le_of_ble_eq_true rfl) dX1_plants_13 (by (try dsimp only); omega) (by (try dsimp only); omega)) hI_32 (fun H_40 L_41 hI_39 => ?_)
    refine xk_top (y := nI (mm 0)) rfl ?_
    refine lv_iload_n hx hb dX1_plants_16 rfl (lv_at hl 1 rfl) ?_
    refine lv_bipush (v := (-4)) hx hb dX1_plants_17 (by decide) ?_
    refine lv_bipush (v := (-4)) hx hb dX1_plants_19 (by decide) ?_
    refine lv_aload_n hx hb dX1_plants_21 rfl (lv_at hl 0 rfl) ?_
    refine xk_get B hI_39 hf_36 rfl in_X1 6 (by decide) q157 rfl dX1_plants_22 ?_
    refine lv_iconst (v := nI 0) hx hb dX1_plants_25 (by decide) ?_
    refine lv_iconst (v := nI 0) hx hb dX1_plants_26 (by decide) ?_
    refine xk_rv (xk_cI B hI_39 hl [.int (nI (mm 0)), .int (nI x9), .int (-4), .int (-4), .int (nI (mm 1)), .int (nI 0), .int (nI 0)] [.ref q_26, .ref b] 7 (cb_init g hf_30 (by decide)) q422 q85 q420 q421 rfl ⟨by decide +kernel, by decide +kernel, by decide +kernel⟩ ⟨Nat.le_of_ble_eq_true rfl, Nat.le_of_ble_eq_true rfl⟩ rfl rfl (Nat.le_of_ble_eq_true rfl) dX1_plants_27 (by (try dsimp only); omega) (by (try dsimp only); omega)) hI_39 (fun X_45 H_43 L_44 hq_46 hI_42 => ?_)
    obtain ⟨hf_47, hf1_48⟩ := hq_46
    have hfm_49 : xk_fx (fun o => o.1 = r) X X_45 := xk_fx.tr hfm_34 hf1_48 (fun a o e q z => (by rw [z]))
    have hf_47 : X_45 q_26 = some ((r, 10 + mm 0), .inr (3, [.int (nI (mm 0)), .int (nI x9), .int (-4), .int (-4), .int (nI (mm 1)), .int (nI 0), .int (nI 0), .int (nI 0)])) := hf_47
    have hf_50 := hf1_48 _ _ _ hf_36 (xk_on1 (by omega))
    have hf_51 := tb_L.kp hf_38 (fun _ _ q => hf1_48 _ _ _ q (xk_on1 (by omega))) (fun _ _ q => hf1_48 _ _ _ q (xk_on1 (by omega)))
    have hf_52 := tb_F.le hF hle_24
    have hf_53 := tb_F.le hf_52 hle_33
    have hf_54 := tb_F.kp hf_53 (fun i hi9 => (fun _ _ q => hf1_48 _ _ _ q (xk_on1 (by omega))))
    refine xk_ri (xk_cV B hI_42 hl [.ref q_26] [] 1 (c2_comes g (m9 := mm) hf_50 hf_51 (by omega) hf_47 (xk_on1 (by omega)) (xk_on1 (by omega)) (fun i9 hi9 => ⟨_, _, hf_54 i9 hi9, xk_kd5, not_or.mpr ⟨xk_on1 (by omega), xk_on1 (by omega)⟩⟩)) hf_50 rfl (lw_V q464 q466 qs2 q70 q467) ⟨rfl, by decide +kernel, by decide +kernel, by decide +kernel⟩ ⟨Nat.le_of_ble_eq_true rfl, Nat.le_of_ble_eq_true rfl⟩ rfl rfl (Nat.le_of_ble_eq_true rfl) dX1_plants_30 (by (try dsimp only); omega) (by (try dsimp only); omega)) hI_42 (fun X_58 H_56 L_57 hq_59 hI_55 => ?_)
    refine xk_top (y := nI (mm 0)) rfl ?_
    obtain ⟨qa_60, hL_61, hf2_62⟩ := hq_59
    have hfm_63 : xk_fx (fun o => o.1 = r) X X_58 := xk_fx.tr hfm_49 hf2_62 (fun a o e q z => z.elim (fun z => (by rw [z])) (fun z => (by rw [z])))
    have hf_64 := hf2_62 _ _ _ hf_50 (not_or.mpr ⟨(xk_on1 (by decide)), (xk_on1 (by decide))⟩)
    have hf_65 := hle_24 _ _ hB2
    have hf_66 := hle_33 _ _ hf_65
    have hf_67 := hf1_48 _ _ _ hf_66 (xk_on1 (by omega))
    have hf_68 := hf2_62 _ _ _ hf_67 (not_or.mpr ⟨(xk_on1 (by decide)), (xk_on1 (by decide))⟩)
    have hf_69 := tb_F.kp hf_54 (fun i hi9 => (fun _ _ q => hf2_62 _ _ _ q (not_or.mpr ⟨(xk_on1 (by omega)), (xk_on1 (by omega))⟩)))
    have hf_70 := hf2_62 _ _ _ hf_47 (not_or.mpr ⟨(xk_on1 (by omega)), (xk_on1 (by omega))⟩)
    exact vx_ret (xk_reti B hI_55 hr rfl dX1_plants_33 (by (try dsimp only); omega) (by (try dsimp only); omega) (⟨rfl, hz_1_23, _, _, _, tb_come (mo := 0) (fa := 0) (ge := 0) (sp := 0) hf_64 hf_68 hL_61 hf_69 hf_70, hfm_63⟩))
set_option maxHeartbeats 4000000 in
theorem c2_crosses (g : xk_G) {X : xk_H} {r b w l a : Nat} {mc : Int32} {pp mm : Nat → Nat} (hB : tb_B g X r b w l a mc pp mm) (hk : tl_inv mm) {i j k c9 rc : Nat} (hC : X c9 = some ((rc, 0), .inr (4, [.ref (pp i), .ref (pp j), .int (nI k)]))) (hrc : rc ≠ r) (hi : i < mm 0) (hj : j < mm 0) (hk8 : k ≤ 8) : xk_CX g yX1_crosses (ws_ yX1_crosses cX1_crosses 2 (some .int)) ({ frames := 9, cells := 6 + tl_gc (mm 0), slots := 44 + tl_gs (mm 0), locals := 195 } : Room) [.ref b, .ref c9] X (fun v X1 => v = some (.int (nI (mm 0))) ∧ mm (14 + 7 * i + 3) = 1 ∧ mm (14 + 7 * j + 3) = 1 ∧ tl_fullR mm = 0 ∧ ∃ (a1 : Nat) (mc1 : Int32) (pp1 : Nat → Nat), tb_B g X1 r b w l a1 mc1 pp1 (tl_breed mm i j k) ∧ xk_fx (fun o => o.1 = r) X X1) (fun E q X1 => ((mm (14 + 7 * i + 3) = 0 ∧ tb_re E q X1 (nI 3) (nI i)) ∨ (mm (14 + 7 * i + 3) = 1 ∧ mm (14 + 7 * j + 3) = 0 ∧ tb_re E q X1 (nI 3) (nI j)) ∨ (mm (14 + 7 * i + 3) = 1 ∧ mm (14 + 7 * j + 3) = 1 ∧ tl_fullR mm ≠ 0 ∧ tb_re E q X1 (nI (tl_fullR mm)) (nI (tl_fullD mm)))) ∧ xk_fx (fun o => o.1 = r) X X1) := by
  refine xk_ofWX (by decide +kernel) (Nat.le_of_ble_eq_true rfl) (fun p e s m args below meth c B hex hr hname hargs hI ls hl => ?_)
  have B : xk_B g p s m args meth c RX1 cX1_crosses 2 := B
  have hl : lv_has ls 2 [(0, .ref b), (1, .ref c9)] := hl
  have hx := B.1
  have hb := B.2.1
  obtain ⟨hB1, hB2, hL, hF⟩ := id hB
  have hk0 := hk
  obtain ⟨k0, kb, kw, kl, ks, kr1, kr2, kwt, kL⟩ := hk
  refine lv_aload_n hx hb dX1_crosses_0 rfl (lv_at hl 1 rfl) ?_
  refine xk_get B hI hC rfl in_X6 0 (by decide) q637 rfl dX1_crosses_1 ?_
  have hb_1 : X (pp i) = some ((r, 10 + i), .inr (3, [.int (nI i), .int (nI (mm (14 + 7 * i))), .int (tm_it (mm (14 + 7 * i + 1))), .int (tm_it (mm (14 + 7 * i + 2))), .int (nI (mm (14 + 7 * i + 4))), .int (nI (mm (14 + 7 * i + 5))), .int (nI (mm (14 + 7 * i + 6))), .int (nI (1 - mm (14 + 7 * i + 3)))])) := hF i hi
  obtain ⟨kp_1, kp1_1, kp2_1, kp3_1, kp4_1, kp5_1, kp6_1⟩ := kb i hi
  refine xk_runX (xk_cSX B hI hl [.ref (pp i)] [] 1 (c2_mustLive g hb_1 (by omega)) (lw_S q655 q656 q70 q657) ⟨by decide +kernel, by decide +kernel, by decide +kernel⟩ ⟨Nat.le_of_ble_eq_true rfl, Nat.le_of_ble_eq_true rfl⟩ rfl rfl (Nat.le_of_ble_eq_true rfl) dX1_crosses_4 (by (try dsimp only); omega) (by (try dsimp only); omega)) hI (fun E_5 q_6 ce_7 X_8 H_9 L_10 hq_11 hI_12 hce_13 hcv_14 hcl_15 => ?_) (fun v_16 X_17 H_3 L_4 hq_18 hI_2 => ?_)
  · obtain ⟨hb_19, hex_20, hle_21⟩ := hq_11
    have hfm_22 : xk_fx (fun o => o.1 = r) X X_8 := xk_fx.le xk_fx.rf hle_21
    exact xk_outX B hI_12 hex hce_13 hcv_14 hcl_15 (by (try dsimp only); omega) (by (try dsimp only); omega) (⟨Or.inl ⟨hb_19, hex_20⟩, hfm_22⟩)
  · obtain ⟨rfl, hz_4_23, hx_24⟩ := hq_18
    obtain rfl : X = X_17 := hx_24.symm
    refine W.eq (g2 := F0 m 7 ls []) rfl ?_
    refine lv_aload_n hx hb dX1_crosses_7 rfl (lv_at hl 1 rfl) ?_
    refine xk_get B hI_2 hC rfl in_X6 1 (by decide) q640 rfl dX1_crosses_8 ?_
    have hb_25 : X (pp j) = some ((r, 10 + j), .inr (3, [.int (nI j), .int (nI (mm (14 + 7 * j))), .int (tm_it (mm (14 + 7 * j + 1))), .int (tm_it (mm (14 + 7 * j + 2))), .int (nI (mm (14 + 7 * j + 4))), .int (nI (mm (14 + 7 * j + 5))), .int (nI (mm (14 + 7 * j + 6))), .int (nI (1 - mm (14 + 7 * j + 3)))])) := hF j hj
    obtain ⟨kp_25, kp1_25, kp2_25, kp3_25, kp4_25, kp5_25, kp6_25⟩ := kb j hj
    refine xk_runX (xk_cSX B hI_2 hl [.ref (pp j)] [] 1 (c2_mustLive g hb_25 (by omega)) (lw_S q655 q656 q70 q657) ⟨by decide +kernel, by decide +kernel, by decide +kernel⟩ ⟨Nat.le_of_ble_eq_true rfl, Nat.le_of_ble_eq_true rfl⟩ rfl rfl (Nat.le_of_ble_eq_true rfl) dX1_crosses_11 (by (try dsimp only); omega) (by (try dsimp only); omega)) hI_2 (fun E_29 q_30 ce_31 X_32 H_33 L_34 hq_35 hI_36 hce_37 hcv_38 hcl_39 => ?_) (fun v_40 X_41 H_27 L_28 hq_42 hI_26 => ?_)
    · obtain ⟨hb_43, hex_44, hle_45⟩ := hq_35
      have hfm_46 : xk_fx (fun o => o.1 = r) X X_32 := xk_fx.le xk_fx.rf hle_45
      exact xk_outX B hI_36 hex hce_37 hcv_38 hcl_39 (by (try dsimp only); omega) (by (try dsimp only); omega) (⟨Or.inr (Or.inl ⟨hz_4_23, hb_43, hex_44⟩), hfm_46⟩)
    · obtain ⟨rfl, hz_11_47, hx_48⟩ := hq_42
      obtain rfl : X = X_41 := hx_48.symm
      refine W.eq (g2 := F0 m 14 ls []) rfl ?_
      refine lv_aload_n hx hb dX1_crosses_14 rfl (lv_at hl 0 rfl) ?_
      have hB_49 : tb_B g X r b w l a mc pp mm := ⟨hB1, hB2, hL, hF⟩
      refine xk_runX (xk_cVX B hI_26 hl [] [] 0 (c2_mayCome g hB_49 hk0) hB1 rfl (lw_V q334 q336 qs1 q70 q337) ⟨rfl, by decide +kernel, by decide +kernel, by decide +kernel⟩ ⟨Nat.le_of_ble_eq_true rfl, Nat.le_of_ble_eq_true rfl⟩ rfl rfl (Nat.le_of_ble_eq_true rfl) dX1_crosses_15 (by (try dsimp only); omega) (by (try dsimp only); omega)) hI_26 (fun E_53 q_54 ce_55 X_56 H_57 L_58 hq_59 hI_60 hce_61 hcv_62 hcl_63 => ?_) (fun v_64 X_65 H_51 L_52 hq_66 hI_50 => ?_)
      · obtain ⟨hb_67, hex_68, hle_69⟩ := hq_59
        have hfm_70 : xk_fx (fun o => o.1 = r) X X_56 := xk_fx.le xk_fx.rf hle_69
        exact xk_outX B hI_60 hex hce_61 hcv_62 hcl_63 (by (try dsimp only); omega) (by (try dsimp only); omega) (⟨Or.inr (Or.inr ⟨hz_4_23, hz_11_47, hb_67, hex_68⟩), hfm_70⟩)
      · obtain ⟨rfl, hz_15_71, hle_72⟩ := hq_66
        have hfm_73 : xk_fx (fun o => o.1 = r) X X_65 := xk_fx.le xk_fx.rf hle_72
        refine W.eq (g2 := F0 m 18 ls []) rfl ?_
        obtain ⟨h40, h12⟩ := tl_full40 hz_15_71 k0
        refine lv_aload_n hx hb dX1_crosses_18 rfl (lv_at hl 0 rfl) ?_
        refine lv_aload_n hx hb dX1_crosses_19 rfl (lv_at hl 1 rfl) ?_
        have hf_74 := hle_72 _ _ hB1
        have hf_75 := hle_72 _ _ hB2
        have hf_76 := tb_L.le hL hle_72
        have hf_77 := tb_F.le hF hle_72
        have hB_78 : tb_B g X_65 r b w l a mc pp mm := ⟨hf_74, hf_75, hf_76, hf_77⟩
        have hf_79 := hle_72 _ _ hC
        refine xk_ri (xk_cV B hI_50 hl [.ref c9] [] 1 (c2_breeds g hB_78 hk0 hf_79 hrc hi hj (by omega) h40) hf_74 rfl (lw_V q658 q660 qs11 q70 q661) ⟨rfl, by decide +kernel, by decide +kernel, by decide +kernel⟩ ⟨Nat.le_of_ble_eq_true rfl, Nat.le_of_ble_eq_true rfl⟩ rfl rfl (Nat.le_of_ble_eq_true rfl) dX1_crosses_20 (by (try dsimp only); omega) (by (try dsimp only); omega)) hI_50 (fun X_83 H_81 L_82 hq_84 hI_80 => ?_)
        refine xk_top (y := nI (mm 0)) rfl ?_
        obtain ⟨a_85, mc_86, pp_87, hB_88, hfr_89⟩ := hq_84
        have hfm_90 : xk_fx (fun o => o.1 = r) X X_83 := xk_fx.tr hfm_73 hfr_89 (fun _ _ _ _ z => z)
        obtain ⟨hB_91, hB_92, hB_93, hB_94⟩ : tb_B g X_83 r b w l a_85 mc_86 pp_87 (tl_breed mm i j k) := hB_88
        exact vx_ret (xk_reti B hI_80 hr rfl dX1_crosses_23 (by (try dsimp only); omega) (by (try dsimp only); omega) (⟨rfl, hz_4_23, hz_11_47, hz_15_71, _, _, _, ⟨hB_91, hB_92, hB_93, hB_94⟩, hfm_90⟩))
