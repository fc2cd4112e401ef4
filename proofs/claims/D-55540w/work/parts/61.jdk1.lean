/-! the JDK: printed by tools/jdk.py -/
set_option maxRecDepth 100000
set_option maxHeartbeats 4000000 in
theorem j15_checkIndex (g : xk_G) {X : xk_H} {i n : Nat} (hi : i < n) (hn : n < 2147483648) : xk_C g yJ15_checkIndex (ws_ yJ15_checkIndex cJ15_checkIndex 3 (some .int)) ({ frames := 0, cells := 0, slots := 0, locals := 0 } : Room) [.int (nI i), .int (nI n), .null] X (xk_Qi (nI i) (fun X1 => X1 = X)) := by
  refine xk_ofW (by decide +kernel) (Nat.le_of_ble_eq_true rfl) (fun p e s m args below meth c B hr hname hargs hI ls hl => ?_)
  have B : xk_B g p s m args meth c RJ15 cJ15_checkIndex 3 := B
  have hl : lv_has ls 3 [(0, .int (nI i)), (1, .int (nI n)), (2, .null)] := hl
  have hx := B.1
  have hb := B.2.1
  refine lv_iload_n hx hb dJ15_checkIndex_0 rfl (lv_at hl 0 rfl) ?_
  refine xk_if_lt_f (tgt := 9) hx hb (by omega) dJ15_checkIndex_1 (by decide) trivial ?_
  refine lv_iload_n hx hb dJ15_checkIndex_4 rfl (lv_at hl 0 rfl) ?_
  refine lv_iload_n hx hb dJ15_checkIndex_5 rfl (lv_at hl 1 rfl) ?_
  refine xk_icmp_lt_t (tgt := 16) hx hb (by omega) (by omega) dJ15_checkIndex_6 (by decide) hi ?_
  refine lv_iload_n hx hb dJ15_checkIndex_16 rfl (lv_at hl 0 rfl) ?_
  exact xk_reti B hI hr rfl dJ15_checkIndex_17 (Nat.le_of_ble_eq_true rfl) (Nat.le_of_ble_eq_true rfl) (⟨rfl, rfl⟩)
set_option maxHeartbeats 4000000 in
theorem j14_checkIndex (g : xk_G) {X : xk_H} {i n : Nat} (hi : i < n) (hn : n < 2147483648) : xk_C g yJ14_checkIndex (ws_ yJ14_checkIndex cJ14_checkIndex 2 (some .int)) ({ frames := 1, cells := 0, slots := 0, locals := 22 } : Room) [.int (nI i), .int (nI n)] X (xk_Qi (nI i) (fun X1 => X1 = X)) := by
  refine xk_ofW (by decide +kernel) (Nat.le_of_ble_eq_true rfl) (fun p e s m args below meth c B hr hname hargs hI ls hl => ?_)
  have B : xk_B g p s m args meth c RJ14 cJ14_checkIndex 2 := B
  have hl : lv_has ls 2 [(0, .int (nI i)), (1, .int (nI n))] := hl
  have hx := B.1
  have hb := B.2.1
  refine lv_iload_n hx hb dJ14_checkIndex_0 rfl (lv_at hl 0 rfl) ?_
  refine lv_iload_n hx hb dJ14_checkIndex_1 rfl (lv_at hl 1 rfl) ?_
  refine lv_null hx hb dJ14_checkIndex_2 ?_
  refine xk_ri0 (xk_cS B hI hl [.int (nI i), .int (nI n), .null] [] 3 (j15_checkIndex g hi (by omega)) (lw_S q623 q624 q91 q625) ⟨by decide +kernel, by decide +kernel, by decide +kernel⟩ ⟨Nat.le_of_ble_eq_true rfl, Nat.le_of_ble_eq_true rfl⟩ rfl rfl (Nat.le_of_ble_eq_true rfl) dJ14_checkIndex_3 (Nat.le_of_ble_eq_true rfl) (Nat.le_of_ble_eq_true rfl)) hI (fun H_2 L_3 hI_1 => ?_)
  refine xk_top (y := nI i) rfl ?_
  exact xk_reti B hI_1 hr rfl dJ14_checkIndex_6 (Nat.le_of_ble_eq_true rfl) (Nat.le_of_ble_eq_true rfl) (⟨rfl, rfl⟩)
set_option maxHeartbeats 4000000 in
theorem j2_size (g : xk_G) {X : xk_H} {l a : Nat} {ow ow2 : Nat × Nat} {mc : Int32} {n : Nat} {pp : Nat → Nat} (hL : tb_L g X l a ow ow2 mc n pp) : xk_C g yJ2_size (ws_ yJ2_size cJ2_size 1 (some .int)) ({ frames := 0, cells := 0, slots := 0, locals := 0 } : Room) [.ref l] X (xk_Qi (nI n) (fun X1 => X1 = X)) := by
  refine xk_ofW (by decide +kernel) (Nat.le_of_ble_eq_true rfl) (fun p e s m args below meth c B hr hname hargs hI ls hl => ?_)
  have B : xk_B g p s m args meth c RJ2 cJ2_size 1 := B
  have hl : lv_has ls 1 [(0, .ref l)] := hl
  have hx := B.1
  have hb := B.2.1
  obtain ⟨hO, hn49, hA⟩ := id hL
  refine lv_aload_n hx hb dJ2_size_0 rfl (lv_at hl 0 rfl) ?_
  refine xk_get B hI hO rfl in_J2 2 (by decide) q133 rfl dJ2_size_1 ?_
  exact xk_reti B hI hr rfl dJ2_size_4 (Nat.le_of_ble_eq_true rfl) (Nat.le_of_ble_eq_true rfl) (⟨rfl, rfl⟩)
set_option maxHeartbeats 4000000 in
theorem j2_isEmpty (g : xk_G) {X : xk_H} {l a : Nat} {ow ow2 : Nat × Nat} {mc : Int32} {n : Nat} {pp : Nat → Nat} (hL : tb_L g X l a ow ow2 mc n pp) : xk_C g yJ2_isEmpty (ws_ yJ2_isEmpty cJ2_isEmpty 1 (some .boolean)) ({ frames := 0, cells := 0, slots := 0, locals := 0 } : Room) [.ref l] X (xk_Qi (nI (if n = 0 then 1 else 0)) (fun X1 => X1 = X)) := by
  refine xk_ofW (by decide +kernel) (Nat.le_of_ble_eq_true rfl) (fun p e s m args below meth c B hr hname hargs hI ls hl => ?_)
  have B : xk_B g p s m args meth c RJ2 cJ2_isEmpty 1 := B
  have hl : lv_has ls 1 [(0, .ref l)] := hl
  have hx := B.1
  have hb := B.2.1
  obtain ⟨hO, hn49, hA⟩ := id hL
  refine lv_aload_n hx hb dJ2_isEmpty_0 rfl (lv_at hl 0 rfl) ?_
  refine xk_get B hI hO rfl in_J2 2 (by decide) q133 rfl dJ2_isEmpty_1 ?_
  refine xk_if_ne (tgt := 11) hx hb (by omega) dJ2_isEmpty_4 (by decide) (fun hc_4 => ?_) (fun hc_4 => ?_)
  · refine lv_iconst (v := nI 0) hx hb dJ2_isEmpty_11 (by decide) ?_
    exact xk_reti B hI hr (by decide) dJ2_isEmpty_12 (Nat.le_of_ble_eq_true rfl) (Nat.le_of_ble_eq_true rfl) (⟨by rw [if_neg (by omega)], rfl⟩)
  · refine lv_iconst (v := nI 1) hx hb dJ2_isEmpty_7 (by decide) ?_
    refine lv_goto (tgt := 12) hx hb dJ2_isEmpty_8 (by decide) ?_
    exact xk_reti B hI hr (by decide) dJ2_isEmpty_12 (Nat.le_of_ble_eq_true rfl) (Nat.le_of_ble_eq_true rfl) (⟨by rw [if_pos hc_4], rfl⟩)
set_option maxHeartbeats 4000000 in
theorem j2_elementData (g : xk_G) {X : xk_H} {l a : Nat} {ow ow2 : Nat × Nat} {mc : Int32} {n : Nat} {pp : Nat → Nat} (hL : tb_L g X l a ow ow2 mc n pp) {i : Nat} (hi : i < n) : xk_C g yJ2_elementData (ws_ yJ2_elementData cJ2_elementData 2 (some (.object "java/lang/Object"))) ({ frames := 0, cells := 0, slots := 0, locals := 0 } : Room) [.ref l, .int (nI i)] X (xk_Qq (some (pp i)) (fun X1 => X1 = X)) := by
  refine xk_ofW (by decide +kernel) (Nat.le_of_ble_eq_true rfl) (fun p e s m args below meth c B hr hname hargs hI ls hl => ?_)
  have B : xk_B g p s m args meth c RJ2 cJ2_elementData 2 := B
  have hl : lv_has ls 2 [(0, .ref l), (1, .int (nI i))] := hl
  have hx := B.1
  have hb := B.2.1
  obtain ⟨hO, hn49, hA⟩ := id hL
  obtain ⟨hh, hA1, h0n, hpp⟩ := hA.resolve_left (fun z => by omega)
  have hck := tl_cap_k hn49
  refine lv_aload_n hx hb dJ2_elementData_0 rfl (lv_at hl 0 rfl) ?_
  refine xk_get B hI hO rfl in_J2 1 (by decide) q130 rfl dJ2_elementData_1 ?_
  refine lv_iload_n hx hb dJ2_elementData_4 rfl (lv_at hl 1 rfl) ?_
  refine xk_aaldS B hI hA1 (by omega) (by omega) dJ2_elementData_5 (r := some (pp i)) (hpp i hi) ?_
  refine W.eq (g2 := F0 m 6 ls [.ref (pp i)]) rfl ?_
  exact xk_retr B hI hr (Or.inl ⟨_, rfl⟩) (Or.inr ⟨_, rfl⟩) dJ2_elementData_6 (Nat.le_of_ble_eq_true rfl) (Nat.le_of_ble_eq_true rfl) (⟨rfl, rfl⟩)
set_option maxHeartbeats 4000000 in
theorem j2_get (g : xk_G) {X : xk_H} {l a : Nat} {ow ow2 : Nat × Nat} {mc : Int32} {n : Nat} {pp : Nat → Nat} (hL : tb_L g X l a ow ow2 mc n pp) {i : Nat} (hi : i < n) : xk_C g yJ2_get (ws_ yJ2_get cJ2_get 2 (some (.object "java/lang/Object"))) ({ frames := 2, cells := 0, slots := 0, locals := 43 } : Room) [.ref l, .int (nI i)] X (xk_Qq (some (pp i)) (fun X1 => X1 = X)) := by
  refine xk_ofW (by decide +kernel) (Nat.le_of_ble_eq_true rfl) (fun p e s m args below meth c B hr hname hargs hI ls hl => ?_)
  have B : xk_B g p s m args meth c RJ2 cJ2_get 2 := B
  have hl : lv_has ls 2 [(0, .ref l), (1, .int (nI i))] := hl
  have hx := B.1
  have hb := B.2.1
  obtain ⟨hO, hn49, hA⟩ := id hL
  refine lv_iload_n hx hb dJ2_get_0 rfl (lv_at hl 1 rfl) ?_
  refine lv_aload_n hx hb dJ2_get_1 rfl (lv_at hl 0 rfl) ?_
  refine xk_get B hI hO rfl in_J2 2 (by decide) q133 rfl dJ2_get_2 ?_
  refine xk_ri0 (xk_cS B hI hl [.int (nI i), .int (nI n)] [] 2 (j14_checkIndex g hi (by omega)) (lw_S q620 q621 q90 q622) ⟨by decide +kernel, by decide +kernel, by decide +kernel⟩ ⟨Nat.le_of_ble_eq_true rfl, Nat.le_of_ble_eq_true rfl⟩ rfl rfl (Nat.le_of_ble_eq_true rfl) dJ2_get_5 (Nat.le_of_ble_eq_true rfl) (Nat.le_of_ble_eq_true rfl)) hI (fun H_2 L_3 hI_1 => ?_)
  refine xk_top (y := nI i) rfl ?_
  refine lv_pop hx hb dJ2_get_8 rfl ?_
  refine lv_aload_n hx hb dJ2_get_9 rfl (lv_at hl 0 rfl) ?_
  refine lv_iload_n hx hb dJ2_get_10 rfl (lv_at hl 1 rfl) ?_
  refine xk_rq0 (xk_cV B hI_1 hl [.int (nI i)] [] 1 (j2_elementData g hL (i := i) hi) hL.1 rfl (lw_V q626 q627 q628 q73 q629) ⟨rfl, by decide +kernel, by decide +kernel, by decide +kernel⟩ ⟨Nat.le_of_ble_eq_true rfl, Nat.le_of_ble_eq_true rfl⟩ rfl rfl (Nat.le_of_ble_eq_true rfl) dJ2_get_11 (Nat.le_of_ble_eq_true rfl) (Nat.le_of_ble_eq_true rfl)) hI_1 (fun H_5 L_6 hI_4 => ?_)
  refine W.eq (g2 := F0 m 14 ls [.ref (pp i)]) rfl ?_
  exact xk_retr B hI_4 hr (Or.inl ⟨_, rfl⟩) (Or.inr ⟨_, rfl⟩) dJ2_get_14 (Nat.le_of_ble_eq_true rfl) (Nat.le_of_ble_eq_true rfl) (⟨rfl, rfl⟩)
set_option maxHeartbeats 4000000 in
theorem j10_init (g : xk_G) {X : xk_H} {l a : Nat} {ow ow2 : Nat × Nat} {mc : Int32} {n : Nat} {pp : Nat → Nat} (hL : tb_L g X l a ow ow2 mc n pp) {it : Nat} {ow3 : Nat × Nat} (hT : X it = some (ow3, .inr (13, [.int (nI 0), .int (nI 0), .int (nI 0), .null]))) (hw : ow ≠ ow3) : xk_C g yJ10_init (ws_ yJ10_init cJ10_init 2 none) ({ frames := 1, cells := 0, slots := 0, locals := 12 } : Room) [.ref it, .ref l] X (xk_Qv (fun X1 => tb_It X1 it l ow3 mc 0 ∧ xk_f1 ow3 X X1)) := by
  refine xk_ofW (by decide +kernel) (Nat.le_of_ble_eq_true rfl) (fun p e s m args below meth c B hr hname hargs hI ls hl => ?_)
  have B : xk_B g p s m args meth c RJ10 cJ10_init 2 := B
  have hl : lv_has ls 2 [(0, .ref it), (1, .ref l)] := hl
  have hx := B.1
  have hb := B.2.1
  obtain ⟨hO, hn49, hA⟩ := id hL
  refine lv_aload_n hx hb dJ10_init_0 rfl (lv_at hl 0 rfl) ?_
  refine lv_aload_n hx hb dJ10_init_1 rfl (lv_at hl 1 rfl) ?_
  refine xk_putF B hI hname hT rfl in_J10 tyJ10 tyJ10_ok nmJ10 3 (by decide) q385 rfl rfl rfl rfl (Nat.le_of_ble_eq_true rfl) dJ10_init_2 (fun X_1 H_5 L_6 hf_3 hn_2 hI_4 => ?_)
  have hf_3 : X_1 it = some (ow3, .inr (13, [.int (nI 0), .int (nI 0), .int (nI 0), .ref l])) := hf_3
  have hfm_7 : xk_fx (fun o => o = ow3) X X_1 := xk_fx.put xk_fx.rf hn_2 hT (Or.inl rfl)
  refine lv_aload_n hx hb dJ10_init_5 rfl (lv_at hl 0 rfl) ?_
  refine W.objInit hx hb B.ow (B.ts _ q381) (B.ts _ q108) (B.ts _ q109) rfl (by rw [B.2.2.1]; exact hl.1) rfl dJ10_init_6 (Nat.le_of_ble_eq_true rfl) (Nat.le_of_ble_eq_true rfl) ?_
  refine W.eq (g2 := F0 m 9 ls []) rfl ?_
  refine lv_aload_n hx hb dJ10_init_9 rfl (lv_at hl 0 rfl) ?_
  refine lv_iconst (v := (-1)) hx hb dJ10_init_10 (by decide) ?_
  refine xk_put B hI_4 hf_3 rfl in_J10 tyJ10 tyJ10_ok nmJ10 1 (by decide) q383 rfl rfl rfl (Nat.le_of_ble_eq_true rfl) dJ10_init_11 (fun X_8 H_12 L_13 hf_10 hn_9 hI_11 => ?_)
  have hf_10 : X_8 it = some (ow3, .inr (13, [.int (nI 0), .int (-1), .int (nI 0), .ref l])) := hf_10
  have hfm_14 : xk_fx (fun o => o = ow3) X X_8 := xk_fx.put hfm_7 hn_9 hf_3 (Or.inl rfl)
  refine lv_aload_n hx hb dJ10_init_14 rfl (lv_at hl 0 rfl) ?_
  refine lv_aload_n hx hb dJ10_init_15 rfl (lv_at hl 0 rfl) ?_
  refine xk_get B hI_11 hf_10 rfl in_J10 3 (by decide) q385 rfl dJ10_init_16 ?_
  have hf_15 := xk_off hn_2 hO hT hw
  have hf_16 := xk_off hn_9 hf_15 hf_3 hw
  refine xk_getU B hI_11 hf_16 rfl in_J2 0 (by decide) q135 (u_same (B.ts _ q136)) rfl dJ10_init_19 ?_
  refine xk_put B hI_11 hf_10 rfl in_J10 tyJ10 tyJ10_ok nmJ10 2 (by decide) q384 rfl rfl rfl (Nat.le_of_ble_eq_true rfl) dJ10_init_22 (fun X_17 H_21 L_22 hf_19 hn_18 hI_20 => ?_)
  have hf_19 : X_17 it = some (ow3, .inr (13, [.int (nI 0), .int (-1), .int mc, .ref l])) := hf_19
  have hfm_23 : xk_fx (fun o => o = ow3) X X_17 := xk_fx.put hfm_14 hn_18 hf_10 (Or.inl rfl)
  exact xk_retv B hI_20 hr dJ10_init_25 (Nat.le_of_ble_eq_true rfl) (Nat.le_of_ble_eq_true rfl) (⟨rfl, ⟨_, hf_19⟩, hfm_23⟩)
set_option maxHeartbeats 4000000 in
theorem j2_iterator (g : xk_G) {X : xk_H} {l a : Nat} {ow ow2 : Nat × Nat} {mc : Int32} {n : Nat} {pp : Nat → Nat} (hL : tb_L g X l a ow ow2 mc n pp) {ow3 : Nat × Nat} (hw : ow ≠ ow3) : xk_C g yJ2_iterator (ws_ yJ2_iterator cJ2_iterator 1 (some (.object "java/util/Iterator"))) ({ frames := 2, cells := 1, slots := 4, locals := 33 } : Room) [.ref l] X (xk_Qr (fun q X1 => tb_It X1 q l ow3 mc 0 ∧ xk_f1 ow3 X X1)) := by
  refine xk_ofW (by decide +kernel) (Nat.le_of_ble_eq_true rfl) (fun p e s m args below meth c B hr hname hargs hI ls hl => ?_)
  have B : xk_B g p s m args meth c RJ2 cJ2_iterator 1 := B
  have hl : lv_has ls 1 [(0, .ref l)] := hl
  have hx := B.1
  have hb := B.2.1
  refine xk_newo B hI (fun q9 => ow3) (ci := 13) (C := RJ10) (T := TJ10) (N := 4) rfl in_J10 tyJ10 tyJ10_ok q376 q377 q84 (fs := [.int (nI 0), .int (nI 0), .int (nI 0), .null]) (fun j hj => by rcases (show j = 0 ∨ j = 1 ∨ j = 2 ∨ j = 3 by omega) with rfl | rfl | rfl | rfl <;> rfl) (Nat.le_of_ble_eq_true rfl) (Nat.le_of_ble_eq_true rfl) dJ2_iterator_0 (fun q_1 X_2 H_3 h0_4 hf_5 hn_6 hI_7 => ?_)
  have hle_8 := xk_le.fresh h0_4 hn_6
  have hfm_9 : xk_fx (fun o => o = ow3) X X_2 := xk_fx.le xk_fx.rf hle_8
  refine lv_dup hx hb dJ2_iterator_3 rfl ?_
  refine lv_aload_n hx hb dJ2_iterator_4 rfl (lv_at hl 0 rfl) ?_
  have hf_10 := tb_L.le hL hle_8
  refine xk_rv (xk_cI B hI_7 hl [.ref l] [.ref q_1] 1 (j10_init g hf_10 hf_5 hw) q380 q84 q378 q379 rfl ⟨by decide +kernel, by decide +kernel, by decide +kernel⟩ ⟨Nat.le_of_ble_eq_true rfl, Nat.le_of_ble_eq_true rfl⟩ rfl rfl (Nat.le_of_ble_eq_true rfl) dJ2_iterator_5 (Nat.le_of_ble_eq_true rfl) (Nat.le_of_ble_eq_true rfl)) hI_7 (fun X_14 H_12 L_13 hq_15 hI_11 => ?_)
  obtain ⟨hit_16, hf1_17⟩ := hq_15
  have hfm_18 : xk_fx (fun o => o = ow3) X X_14 := xk_fx.tr hfm_9 hf1_17 (fun a o e q z => z)
  exact xk_retr B hI_11 hr (Or.inl ⟨_, rfl⟩) (Or.inr ⟨_, rfl⟩) dJ2_iterator_8 (Nat.le_of_ble_eq_true rfl) (Nat.le_of_ble_eq_true rfl) (⟨_, rfl, hit_16, hfm_18⟩)
set_option maxHeartbeats 4000000 in
theorem j10_hasNext (g : xk_G) {X : xk_H} {l a : Nat} {ow ow2 : Nat × Nat} {mc : Int32} {n : Nat} {pp : Nat → Nat} (hL : tb_L g X l a ow ow2 mc n pp) {it k : Nat} {ow3 : Nat × Nat} (hT : tb_It X it l ow3 mc k) (hk : k ≤ n) : xk_C g yJ10_hasNext (ws_ yJ10_hasNext cJ10_hasNext 1 (some .boolean)) ({ frames := 0, cells := 0, slots := 0, locals := 0 } : Room) [.ref it] X (xk_Qi (xk_z (decide (k < n))) (fun X1 => X1 = X)) := by
  refine xk_ofW (by decide +kernel) (Nat.le_of_ble_eq_true rfl) (fun p e s m args below meth c B hr hname hargs hI ls hl => ?_)
  have B : xk_B g p s m args meth c RJ10 cJ10_hasNext 1 := B
  have hl : lv_has ls 1 [(0, .ref it)] := hl
  have hx := B.1
  have hb := B.2.1
  obtain ⟨hO, hn49, hA⟩ := id hL
  obtain ⟨lr, hT1⟩ := id hT
  refine lv_aload_n hx hb dJ10_hasNext_0 rfl (lv_at hl 0 rfl) ?_
  refine xk_get B hI hT1 rfl in_J10 0 (by decide) q382 rfl dJ10_hasNext_1 ?_
  refine lv_aload_n hx hb dJ10_hasNext_4 rfl (lv_at hl 0 rfl) ?_
  refine xk_get B hI hT1 rfl in_J10 3 (by decide) q385 rfl dJ10_hasNext_5 ?_
  refine xk_getN B hI hO rfl in_J2 2 (by decide) q132 rfl dJ10_hasNext_8 ?_
  refine xk_icmp_eq (tgt := 18) hx hb (by omega) (by omega) dJ10_hasNext_11 (by decide) (fun hc_11 => ?_) (fun hc_11 => ?_)
  · refine lv_iconst (v := nI 0) hx hb dJ10_hasNext_18 (by decide) ?_
    exact xk_reti B hI hr (by decide) dJ10_hasNext_19 (Nat.le_of_ble_eq_true rfl) (Nat.le_of_ble_eq_true rfl) (⟨by rw [show decide (k < n) = false from decide_eq_false (by omega), xk_z0], rfl⟩)
  · refine lv_iconst (v := nI 1) hx hb dJ10_hasNext_14 (by decide) ?_
    refine lv_goto (tgt := 19) hx hb dJ10_hasNext_15 (by decide) ?_
    exact xk_reti B hI hr (by decide) dJ10_hasNext_19 (Nat.le_of_ble_eq_true rfl) (Nat.le_of_ble_eq_true rfl) (⟨by rw [show decide (k < n) = true from decide_eq_true (by omega), xk_z1], rfl⟩)
set_option maxHeartbeats 4000000 in
theorem j10_chk (g : xk_G) {X : xk_H} {l a : Nat} {ow ow2 : Nat × Nat} {mc : Int32} {n : Nat} {pp : Nat → Nat} (hL : tb_L g X l a ow ow2 mc n pp) {it k : Nat} {ow3 : Nat × Nat} (hT : tb_It X it l ow3 mc k) : xk_C g yJ10_checkForComodification (ws_ yJ10_checkForComodification cJ10_checkForComodification 1 none) ({ frames := 0, cells := 0, slots := 0, locals := 0 } : Room) [.ref it] X (xk_Qv (fun X1 => X1 = X)) := by
  refine xk_ofW (by decide +kernel) (Nat.le_of_ble_eq_true rfl) (fun p e s m args below meth c B hr hname hargs hI ls hl => ?_)
  have B : xk_B g p s m args meth c RJ10 cJ10_checkForComodification 1 := B
  have hl : lv_has ls 1 [(0, .ref it)] := hl
  have hx := B.1
  have hb := B.2.1
  obtain ⟨hO, hn49, hA⟩ := id hL
  obtain ⟨lr, hT1⟩ := id hT
  refine lv_aload_n hx hb dJ10_checkForComodification_0 rfl (lv_at hl 0 rfl) ?_
  refine xk_get B hI hT1 rfl in_J10 3 (by decide) q385 rfl dJ10_checkForComodification_1 ?_
  refine xk_getU B hI hO rfl in_J2 0 (by decide) q135 (u_same (B.ts _ q136)) rfl dJ10_checkForComodification_4 ?_
  refine lv_aload_n hx hb dJ10_checkForComodification_7 rfl (lv_at hl 0 rfl) ?_
  refine xk_get B hI hT1 rfl in_J10 2 (by decide) q384 rfl dJ10_checkForComodification_8 ?_
  refine xk_raw_icmp_eq_t (tgt := 22) hx hb dJ10_checkForComodification_11 (by decide) rfl ?_
  exact xk_retv B hI hr dJ10_checkForComodification_22 (Nat.le_of_ble_eq_true rfl) (Nat.le_of_ble_eq_true rfl) (⟨rfl, rfl⟩)
set_option maxHeartbeats 4000000 in
theorem j10_next (g : xk_G) {X : xk_H} {l a : Nat} {ow ow2 : Nat × Nat} {mc : Int32} {n : Nat} {pp : Nat → Nat} (hL : tb_L g X l a ow ow2 mc n pp) {it k : Nat} {ow3 : Nat × Nat} (hT : tb_It X it l ow3 mc k) (hk : k < n) (hw : ow ≠ ow3) (hw2 : ow2 ≠ ow3) : xk_C g yJ10_next (ws_ yJ10_next cJ10_next 3 (some (.object "java/lang/Object"))) ({ frames := 1, cells := 0, slots := 0, locals := 20 } : Room) [.ref it] X (xk_Qq (some (pp k)) (fun X1 => tb_It X1 it l ow3 mc (k + 1) ∧ xk_f1 ow3 X X1)) := by
  refine xk_ofW (by decide +kernel) (Nat.le_of_ble_eq_true rfl) (fun p e s m args below meth c B hr hname hargs hI ls hl => ?_)
  have B : xk_B g p s m args meth c RJ10 cJ10_next 3 := B
  have hl : lv_has ls 3 [(0, .ref it)] := hl
  have hx := B.1
  have hb := B.2.1
  obtain ⟨hO, hn49, hA⟩ := id hL
  obtain ⟨hh, hA1, h0n, hpp⟩ := hA.resolve_left (fun z => by omega)
  have hck := tl_cap_k hn49
  obtain ⟨lr, hT1⟩ := id hT
  refine lv_aload_n hx hb dJ10_next_0 rfl (lv_at hl 0 rfl) ?_
  refine xk_rv0 (xk_cV B hI hl [] [] 0 (j10_chk g hL hT) hT1 rfl (lw_V q414 q415 q416 q84 q417) ⟨rfl, by decide +kernel, by decide +kernel, by decide +kernel⟩ ⟨Nat.le_of_ble_eq_true rfl, Nat.le_of_ble_eq_true rfl⟩ rfl rfl (Nat.le_of_ble_eq_true rfl) dJ10_next_1 (Nat.le_of_ble_eq_true rfl) (Nat.le_of_ble_eq_true rfl)) hI (fun H_2 L_3 hI_1 => ?_)
  refine lv_aload_n hx hb dJ10_next_4 rfl (lv_at hl 0 rfl) ?_
  refine xk_get B hI_1 hT1 rfl in_J10 0 (by decide) q382 rfl dJ10_next_5 ?_
  refine lv_istore_n (lv' := [(1, .int (nI k)), (0, .ref it)]) hx hb dJ10_next_8 rfl hl (by decide) rfl (fun ls hl => ?_)
  refine lv_iload_n hx hb dJ10_next_9 rfl (lv_at hl 0 rfl) ?_
  refine lv_aload_n hx hb dJ10_next_10 rfl (lv_at hl 1 rfl) ?_
  refine xk_get B hI_1 hT1 rfl in_J10 3 (by decide) q385 rfl dJ10_next_11 ?_
  refine xk_getN B hI_1 hO rfl in_J2 2 (by decide) q132 rfl dJ10_next_14 ?_
  refine xk_icmp_lt_t (tgt := 28) hx hb (by omega) (by omega) dJ10_next_17 (by decide) hk ?_
  refine lv_aload_n hx hb dJ10_next_28 rfl (lv_at hl 1 rfl) ?_
  refine xk_get B hI_1 hT1 rfl in_J10 3 (by decide) q385 rfl dJ10_next_29 ?_
  refine xk_get B hI_1 hO rfl in_J2 1 (by decide) q131 rfl dJ10_next_32 ?_
  refine lv_astore_n (lv' := [(2, .ref a), (1, .int (nI k)), (0, .ref it)]) hx hb dJ10_next_35 rfl hl (by decide) rfl (fun ls hl => ?_)
  refine lv_iload_n hx hb dJ10_next_36 rfl (lv_at hl 1 rfl) ?_
  refine lv_aload_n hx hb dJ10_next_37 rfl (lv_at hl 0 rfl) ?_
  refine xk_alen B hI_1 hA1 rfl dJ10_next_38 ?_
  refine xk_icmp_lt_t (tgt := 50) hx hb (by omega) (by omega) dJ10_next_39 (by decide) (by omega) ?_
  refine lv_aload_n hx hb dJ10_next_50 rfl (lv_at hl 2 rfl) ?_
  refine lv_iload_n hx hb dJ10_next_51 rfl (lv_at hl 1 rfl) ?_
  refine lv_iconst (v := nI 1) hx hb dJ10_next_52 (by decide) ?_
  refine lv_iadd hx hb dJ10_next_53 (xk_top (nI_add _ _) ?_)
  refine xk_put B hI_1 hT1 rfl in_J10 tyJ10 tyJ10_ok nmJ10 0 (by decide) q382 rfl rfl rfl (Nat.le_of_ble_eq_true rfl) dJ10_next_54 (fun X_4 H_8 L_9 hf_6 hn_5 hI_7 => ?_)
  have hf_6 : X_4 it = some (ow3, .inr (13, [.int (nI (k + 1)), .int lr, .int mc, .ref l])) := hf_6
  have hfm_10 : xk_fx (fun o => o = ow3) X X_4 := xk_fx.put xk_fx.rf hn_5 hT1 (Or.inl rfl)
  refine lv_aload_n hx hb dJ10_next_57 rfl (lv_at hl 0 rfl) ?_
  refine lv_aload_n hx hb dJ10_next_58 rfl (lv_at hl 2 rfl) ?_
  refine lv_iload_n hx hb dJ10_next_59 rfl (lv_at hl 1 rfl) ?_
  refine lv_dup_x1 hx hb dJ10_next_60 rfl rfl ?_
  refine xk_put B hI_7 hf_6 rfl in_J10 tyJ10 tyJ10_ok nmJ10 1 (by decide) q383 rfl rfl rfl (Nat.le_of_ble_eq_true rfl) dJ10_next_61 (fun X_11 H_15 L_16 hf_13 hn_12 hI_14 => ?_)
  have hf_13 : X_11 it = some (ow3, .inr (13, [.int (nI (k + 1)), .int (nI k), .int mc, .ref l])) := hf_13
  have hfm_17 : xk_fx (fun o => o = ow3) X X_11 := xk_fx.put hfm_10 hn_12 hf_6 (Or.inl rfl)
  have hf_18 := xk_off hn_5 hA1 hT1 hw2
  have hf_19 := xk_off hn_12 hf_18 hf_6 hw2
  refine xk_aaldS B hI_14 hf_19 (by omega) (by omega) dJ10_next_64 (r := some (pp k)) (hpp k hk) ?_
  refine W.eq (g2 := F0 m 65 ls [.ref (pp k)]) rfl ?_
  exact xk_retr B hI_14 hr (Or.inl ⟨_, rfl⟩) (Or.inr ⟨_, rfl⟩) dJ10_next_65 (Nat.le_of_ble_eq_true rfl) (Nat.le_of_ble_eq_true rfl) (⟨rfl, ⟨_, hf_13⟩, hfm_17⟩)
set_option maxHeartbeats 4000000 in
theorem j13_copyOf2 (g : xk_G) {X : xk_H} {a c9 k : Nat} {oa ow9 : Nat × Nat} {h : Nat → Option Nat} (hA : X a = some (oa, xk_qA g c9 h)) (hob : ∀ i, i < c9 → ∀ y, h i = some y → xk_isO g X y) (hck : c9 ≤ k) (hk : k ≤ 1000) : xk_C g yJ13_copyOf_2 (ws_ yJ13_copyOf_2 cJ13_copyOf_2 4 (some (.array (.object "java/lang/Object")))) ({ frames := 1, cells := 1, slots := k, locals := 18 } : Room) [.ref a, .int (nI k), .ref (xk_mi g)] X (xk_Qr (fun q X1 => X1 q = some (ow9, xk_qA g k (va_cpy h (fun _ => none) 0 0 c9)) ∧ xk_f1 ow9 X X1)) := by
  refine xk_ofW (by decide +kernel) (Nat.le_of_ble_eq_true rfl) (fun p e s m args below meth c B hr hname hargs hI ls hl => ?_)
  have B : xk_B g p s m args meth c RJ13 cJ13_copyOf_2 4 := B
  have hl : lv_has ls 4 [(0, .ref a), (1, .int (nI k)), (2, .ref (xk_mi g))] := hl
  have hx := B.1
  have hb := B.2.1
  refine lv_aload_n hx hb dJ13_copyOf_2_0 rfl (lv_at hl 2 rfl) ?_
  refine xk_ldcM B q520 dJ13_copyOf_2_1 ?_
  refine xk_acmp_ne (tgt := 13) hx hb dJ13_copyOf_2_3 (by decide) (fun z => absurd (rfl) z) (fun _ => ?_)
  refine lv_iload_n hx hb dJ13_copyOf_2_6 rfl (lv_at hl 1 rfl) ?_
  refine xk_newq B hI (fun q9 => ow9) q521 B.K.ao (n := k) (by omega) (by omega) (Nat.le_of_ble_eq_true rfl) (by (try dsimp only); omega) dJ13_copyOf_2_7 (fun q_1 X_2 H_3 h0_4 hf_5 hn_6 hI_7 => ?_)
  have hle_8 := xk_le.fresh h0_4 hn_6
  have hfm_9 : xk_fx (fun o => o = ow9) X X_2 := xk_fx.le xk_fx.rf hle_8
  refine lv_goto (tgt := 24) hx hb dJ13_copyOf_2_10 (by decide) ?_
  refine lv_astore_n (lv' := [(3, .ref q_1), (0, .ref a), (1, .int (nI k)), (2, .ref (xk_mi g))]) hx hb dJ13_copyOf_2_24 rfl hl (by decide) rfl (fun ls hl => ?_)
  refine lv_aload_n hx hb dJ13_copyOf_2_25 rfl (lv_at hl 1 rfl) ?_
  refine lv_iconst (v := nI 0) hx hb dJ13_copyOf_2_26 (by decide) ?_
  refine lv_aload_n hx hb dJ13_copyOf_2_27 rfl (lv_at hl 0 rfl) ?_
  refine lv_iconst (v := nI 0) hx hb dJ13_copyOf_2_28 (by decide) ?_
  refine lv_aload_n hx hb dJ13_copyOf_2_29 rfl (lv_at hl 1 rfl) ?_
  have hf_10 := hle_8 _ _ hA
  refine xk_alen B hI_7 hf_10 rfl dJ13_copyOf_2_30 ?_
  refine lv_iload_n hx hb dJ13_copyOf_2_31 rfl (lv_at hl 2 rfl) ?_
  refine xk_min B hl q522 q523 q87 q524 (Nat.le_of_ble_eq_true rfl) (Nat.le_of_ble_eq_true rfl) (Nat.le_of_ble_eq_true rfl) (by (try dsimp only); omega) (z := nI (c9)) (by rw [tl_min (by omega) (by omega), if_neg (by omega)]) dJ13_copyOf_2_32 ?_
  refine xk_copyq B hI_7 (B.2.2.1.trans hl.1.symm) q525 q527 q526 q89 hf_10 hf_5 (by omega) (by omega) (by omega) (by omega) (fun i hi y hy => ((hob i hi y (by rw [Nat.zero_add] at hy; exact hy)).le hle_8).ob B hI_7) (Nat.le_of_ble_eq_true rfl) (Nat.le_of_ble_eq_true rfl) dJ13_copyOf_2_35 (fun X_11 H_15 L_16 hf_13 hn_12 hI_14 => ?_)
  have hfm_17 : xk_fx (fun o => o = ow9) X X_11 := xk_fx.put hfm_9 hn_12 hf_5 (Or.inl rfl)
  refine lv_aload_n hx hb dJ13_copyOf_2_38 rfl (lv_at hl 0 rfl) ?_
  exact xk_retr B hI_14 hr (Or.inr ⟨_, rfl⟩) (Or.inr ⟨_, rfl⟩) dJ13_copyOf_2_39 (Nat.le_of_ble_eq_true rfl) (by (try dsimp only); omega) (⟨_, rfl, hf_13, hfm_17⟩)
set_option maxHeartbeats 4000000 in
theorem j13_copyOf (g : xk_G) {X : xk_H} {a c9 k : Nat} {oa ow9 : Nat × Nat} {h : Nat → Option Nat} (hA : X a = some (oa, xk_qA g c9 h)) (hob : ∀ i, i < c9 → ∀ y, h i = some y → xk_isO g X y) (hck : c9 ≤ k) (hk : k ≤ 1000) : xk_C g yJ13_copyOf (ws_ yJ13_copyOf cJ13_copyOf 2 (some (.array (.object "java/lang/Object")))) ({ frames := 2, cells := 1, slots := k, locals := 41 } : Room) [.ref a, .int (nI k)] X (xk_Qr (fun q X1 => X1 q = some (ow9, xk_qA g k (va_cpy h (fun _ => none) 0 0 c9)) ∧ xk_f1 ow9 X X1)) := by
  refine xk_ofW (by decide +kernel) (Nat.le_of_ble_eq_true rfl) (fun p e s m args below meth c B hr hname hargs hI ls hl => ?_)
  have B : xk_B g p s m args meth c RJ13 cJ13_copyOf 2 := B
  have hl : lv_has ls 2 [(0, .ref a), (1, .int (nI k))] := hl
  have hx := B.1
  have hb := B.2.1
  refine lv_aload_n hx hb dJ13_copyOf_0 rfl (lv_at hl 0 rfl) ?_
  refine lv_iload_n hx hb dJ13_copyOf_1 rfl (lv_at hl 1 rfl) ?_
  refine lv_aload_n hx hb dJ13_copyOf_2 rfl (lv_at hl 0 rfl) ?_
  refine xk_getC B hI (B.2.2.1.trans hl.1.symm) q497 hA (Nat.le_of_ble_eq_true rfl) (Nat.le_of_ble_eq_true rfl) dJ13_copyOf_3 ?_
  refine xk_rr (xk_cS B hI hl [.ref a, .int (nI k), .ref (xk_mi g)] [] 3 (j13_copyOf2 g (ow9 := ow9) hA hob (by omega) (by omega)) (lw_S q517 q518 q88 q519) ⟨by decide +kernel, by decide +kernel, by decide +kernel⟩ ⟨Nat.le_of_ble_eq_true rfl, Nat.le_of_ble_eq_true rfl⟩ rfl rfl (Nat.le_of_ble_eq_true rfl) dJ13_copyOf_6 (Nat.le_of_ble_eq_true rfl) (by (try dsimp only); omega)) hI (fun q_6 X_4 H_2 L_3 hq_5 hI_1 => ?_)
  obtain ⟨hf_7, hf1_8⟩ := hq_5
  have hfm_9 : xk_fx (fun o => o = ow9) X X_4 := xk_fx.tr xk_fx.rf hf1_8 (fun a o e q z => z)
  exact xk_retr B hI_1 hr (Or.inr ⟨_, rfl⟩) (Or.inr ⟨_, rfl⟩) dJ13_copyOf_9 (Nat.le_of_ble_eq_true rfl) (by (try dsimp only); omega) (⟨_, rfl, hf_7, hfm_9⟩)
set_option maxHeartbeats 4000000 in
theorem j11_newLength (g : xk_G) {X : xk_H} {o9 k9 p9 : Nat} (h1 : o9 ≤ 1000) (h2 : k9 ≤ p9) (h3 : p9 ≤ 1000) (h4 : 0 < o9) : xk_C g yJ11_newLength (ws_ yJ11_newLength cJ11_newLength 4 (some .int)) ({ frames := 1, cells := 0, slots := 0, locals := 14 } : Room) [.int (nI o9), .int (nI k9), .int (nI p9)] X (xk_Qi (nI (o9 + p9)) (fun X1 => X1 = X)) := by
  refine xk_ofW (by decide +kernel) (Nat.le_of_ble_eq_true rfl) (fun p e s m args below meth c B hr hname hargs hI ls hl => ?_)
  have B : xk_B g p s m args meth c RJ11 cJ11_newLength 4 := B
  have hl : lv_has ls 4 [(0, .int (nI o9)), (1, .int (nI k9)), (2, .int (nI p9))] := hl
  have hx := B.1
  have hb := B.2.1
  refine lv_iload_n hx hb dJ11_newLength_0 rfl (lv_at hl 0 rfl) ?_
  refine lv_iload_n hx hb dJ11_newLength_1 rfl (lv_at hl 1 rfl) ?_
  refine lv_iload_n hx hb dJ11_newLength_2 rfl (lv_at hl 2 rfl) ?_
  refine xk_max B hl q487 q488 q87 q489 (Nat.le_of_ble_eq_true rfl) (Nat.le_of_ble_eq_true rfl) (Nat.zero_le _) (Nat.zero_le _) (z := nI (if k9 < p9 then p9 else k9)) (tl_max (by omega) (by omega)) dJ11_newLength_3 ?_
  refine xk_top (congrArg nI (show (if k9 < p9 then p9 else k9) = p9 by split <;> omega)) ?_
  refine lv_iadd hx hb dJ11_newLength_6 (xk_top (nI_add _ _) ?_)
  refine lv_istore_n (lv' := [(3, .int (nI (o9 + p9))), (0, .int (nI o9)), (1, .int (nI k9)), (2, .int (nI p9))]) hx hb dJ11_newLength_7 rfl hl (by decide) rfl (fun ls hl => ?_)
  refine lv_iconst (v := nI 0) hx hb dJ11_newLength_8 (by decide) ?_
  refine lv_iload_n hx hb dJ11_newLength_9 rfl (lv_at hl 0 rfl) ?_
  refine xk_icmp_ge_f (tgt := 21) hx hb (by omega) (by omega) dJ11_newLength_10 (by decide) (by omega) ?_
  refine lv_iload_n hx hb dJ11_newLength_13 rfl (lv_at hl 0 rfl) ?_
  refine xk_ldc B q490 dJ11_newLength_14 (v := nI 2147483639) (by decide) ?_
  refine xk_icmp_gt_f (tgt := 21) hx hb (by omega) (by omega) dJ11_newLength_16 (by decide) (by omega) ?_
  refine lv_iload_n hx hb dJ11_newLength_19 rfl (lv_at hl 0 rfl) ?_
  exact xk_reti B hI hr rfl dJ11_newLength_20 (Nat.le_of_ble_eq_true rfl) (Nat.le_of_ble_eq_true rfl) (⟨rfl, rfl⟩)
set_option maxHeartbeats 4000000 in
theorem j2_growE2 (g : xk_G) {X : xk_H} {l : Nat} {ow ow2 : Nat × Nat} {mc : Int32} (hO : X l = some (ow, .inr (11, [.int mc, .ref (xk_Em g), .int (nI 0)]))) (hoo : ow ≠ ow2) : xk_C g yJ2_grow_2 (ws_ yJ2_grow_2 cJ2_grow_2 4 (some (.array (.object "java/lang/Object")))) ({ frames := 1, cells := 1, slots := 10, locals := 14 } : Room) [.ref l, .int (nI 1)] X (xk_Qr (fun q X1 => X1 q = some (ow2, xk_qA g 10 (fun _ => none)) ∧ X1 l = some (ow, .inr (11, [.int mc, .ref q, .int (nI 0)])) ∧ xk_f2 ow ow2 X X1)) := by
  refine xk_ofW (by decide +kernel) (Nat.le_of_ble_eq_true rfl) (fun p e s m args below meth c B hr hname hargs hI ls hl => ?_)
  have B : xk_B g p s m args meth c RJ2 cJ2_grow_2 4 := B
  have hl : lv_has ls 4 [(0, .ref l), (1, .int (nI 1))] := hl
  have hx := B.1
  have hb := B.2.1
  refine lv_aload_n hx hb dJ2_grow_2_0 rfl (lv_at hl 0 rfl) ?_
  refine xk_get B hI hO rfl in_J2 1 (by decide) q130 rfl dJ2_grow_2_1 ?_
  refine xk_alenO B hI (xk_stE B.K.2.2.2.2).2 dJ2_grow_2_4 ?_
  refine lv_istore_n (lv' := [(2, .int (nI 0)), (0, .ref l), (1, .int (nI 1))]) hx hb dJ2_grow_2_5 rfl hl (by decide) rfl (fun ls hl => ?_)
  refine lv_iload_n hx hb dJ2_grow_2_6 rfl (lv_at hl 0 rfl) ?_
  refine xk_if_gt_f (tgt := 20) hx hb (by omega) dJ2_grow_2_7 (by decide) (by decide) ?_
  refine lv_aload_n hx hb dJ2_grow_2_10 rfl (lv_at hl 1 rfl) ?_
  refine xk_get B hI hO rfl in_J2 1 (by decide) q130 rfl dJ2_grow_2_11 ?_
  refine xk_gets B hI (v := .ref (xk_Em g)) (xk_stE B.K.2.2.2.2).1 q128 dJ2_grow_2_14 ?_
  refine xk_acmp_eq (tgt := 45) hx hb dJ2_grow_2_17 (by decide) (fun _ => ?_) (fun z => absurd (rfl) z)
  refine lv_aload_n hx hb dJ2_grow_2_45 rfl (lv_at hl 1 rfl) ?_
  refine lv_bipush (v := nI 10) hx hb dJ2_grow_2_46 (by decide) ?_
  refine lv_iload_n hx hb dJ2_grow_2_48 rfl (lv_at hl 2 rfl) ?_
  refine xk_max B hl q528 q488 q87 q489 (Nat.le_of_ble_eq_true rfl) (Nat.le_of_ble_eq_true rfl) (Nat.zero_le _) (Nat.zero_le _) (z := nI (if 10 < 1 then 1 else 10)) (tl_max (by omega) (by omega)) dJ2_grow_2_49 ?_
  refine xk_top (congrArg nI (show (if 10 < 1 then 1 else 10) = 10 from rfl)) ?_
  refine xk_newq B hI (fun q9 => ow2) q529 B.K.ao (n := 10) (by decide) (Nat.le_of_ble_eq_true rfl) (Nat.le_of_ble_eq_true rfl) (Nat.le_of_ble_eq_true rfl) dJ2_grow_2_52 (fun q_1 X_2 H_3 h0_4 hf_5 hn_6 hI_7 => ?_)
  have hle_8 := xk_le.fresh h0_4 hn_6
  have hfm_9 : xk_fx (fun o => o = ow ∨ o = ow2) X X_2 := xk_fx.le xk_fx.rf hle_8
  refine lv_dup_x1 hx hb dJ2_grow_2_55 rfl rfl ?_
  have hf_10 := hle_8 _ _ hO
  refine xk_put B hI_7 hf_10 rfl in_J2 tyJ2 tyJ2_ok nmJ2 1 (by decide) q130 rfl rfl rfl (Nat.le_of_ble_eq_true rfl) dJ2_grow_2_56 (fun X_11 H_15 L_16 hf_13 hn_12 hI_14 => ?_)
  have hf_13 : X_11 l = some (ow, .inr (11, [.int mc, .ref q_1, .int (nI 0)])) := hf_13
  have hfm_17 : xk_fx (fun o => o = ow ∨ o = ow2) X X_11 := xk_fx.put hfm_9 hn_12 hf_10 (Or.inl (Or.inl rfl))
  have hf_18 := xk_off hn_12 hf_5 hf_10 (Ne.symm hoo)
  exact xk_retr B hI_14 hr (Or.inr ⟨_, rfl⟩) (Or.inr ⟨_, rfl⟩) dJ2_grow_2_59 (Nat.le_of_ble_eq_true rfl) (Nat.le_of_ble_eq_true rfl) (⟨_, rfl, hf_18, hf_13, hfm_17⟩)
set_option maxHeartbeats 4000000 in
theorem j2_growE (g : xk_G) {X : xk_H} {l : Nat} {ow ow2 : Nat × Nat} {mc : Int32} (hO : X l = some (ow, .inr (11, [.int mc, .ref (xk_Em g), .int (nI 0)]))) (hoo : ow ≠ ow2) : xk_C g yJ2_grow (ws_ yJ2_grow cJ2_grow 1 (some (.array (.object "java/lang/Object")))) ({ frames := 2, cells := 1, slots := 10, locals := 37 } : Room) [.ref l] X (xk_Qr (fun q X1 => X1 q = some (ow2, xk_qA g 10 (fun _ => none)) ∧ X1 l = some (ow, .inr (11, [.int mc, .ref q, .int (nI 0)])) ∧ xk_f2 ow ow2 X X1)) := by
  refine xk_ofW (by decide +kernel) (Nat.le_of_ble_eq_true rfl) (fun p e s m args below meth c B hr hname hargs hI ls hl => ?_)
  have B : xk_B g p s m args meth c RJ2 cJ2_grow 1 := B
  have hl : lv_has ls 1 [(0, .ref l)] := hl
  have hx := B.1
  have hb := B.2.1
  refine lv_aload_n hx hb dJ2_grow_0 rfl (lv_at hl 0 rfl) ?_
  refine lv_aload_n hx hb dJ2_grow_1 rfl (lv_at hl 0 rfl) ?_
  refine xk_get B hI hO rfl in_J2 2 (by decide) q133 rfl dJ2_grow_2 ?_
  refine lv_iconst (v := nI 1) hx hb dJ2_grow_5 (by decide) ?_
  refine lv_iadd hx hb dJ2_grow_6 (xk_top (y := nI 1) (by decide) ?_)
  refine xk_rr (xk_cV B hI hl [.int (nI 1)] [] 1 (j2_growE2 g hO hoo) hO rfl (lw_V q480 q482 qs5 q73 q483) ⟨rfl, by decide +kernel, by decide +kernel, by decide +kernel⟩ ⟨Nat.le_of_ble_eq_true rfl, Nat.le_of_ble_eq_true rfl⟩ rfl rfl (Nat.le_of_ble_eq_true rfl) dJ2_grow_7 (Nat.le_of_ble_eq_true rfl) (Nat.le_of_ble_eq_true rfl)) hI (fun q_6 X_4 H_2 L_3 hq_5 hI_1 => ?_)
  obtain ⟨hf_7, hf_8, hf2_9⟩ := hq_5
  have hfm_10 : xk_fx (fun o => o = ow ∨ o = ow2) X X_4 := xk_fx.tr xk_fx.rf hf2_9 (fun a o e q z => z.elim (fun z => (Or.inl z)) (fun z => (Or.inr z)))
  exact xk_retr B hI_1 hr (Or.inr ⟨_, rfl⟩) (Or.inr ⟨_, rfl⟩) dJ2_grow_10 (Nat.le_of_ble_eq_true rfl) (Nat.le_of_ble_eq_true rfl) (⟨_, rfl, hf_7, hf_8, hfm_10⟩)
set_option maxHeartbeats 4000000 in
theorem j2_growA2 (g : xk_G) {X : xk_H} {l a c9 : Nat} {ow ow2 : Nat × Nat} {mc : Int32} {h : Nat → Option Nat} (hO : X l = some (ow, .inr (11, [.int mc, .ref a, .int (nI c9)]))) (hA : X a = some (ow2, xk_qA g c9 h)) (hoo : ow ≠ ow2) (hob : ∀ i, i < c9 → ∀ y, h i = some y → xk_isO g X y) (hc1 : 10 ≤ c9) (hc2 : c9 ≤ 33) : xk_C g yJ2_grow_2 (ws_ yJ2_grow_2 cJ2_grow_2 4 (some (.array (.object "java/lang/Object")))) ({ frames := 3, cells := 1, slots := c9 + c9 / 2, locals := 62 } : Room) [.ref l, .int (nI (c9 + 1))] X (xk_Qr (fun q X1 => X1 q = some (ow2, xk_qA g (c9 + c9 / 2) (va_cpy h (fun _ => none) 0 0 c9)) ∧ X1 l = some (ow, .inr (11, [.int mc, .ref q, .int (nI c9)])) ∧ xk_f2 ow ow2 X X1)) := by
  refine xk_ofW (by decide +kernel) (Nat.le_of_ble_eq_true rfl) (fun p e s m args below meth c B hr hname hargs hI ls hl => ?_)
  have B : xk_B g p s m args meth c RJ2 cJ2_grow_2 4 := B
  have hl : lv_has ls 4 [(0, .ref l), (1, .int (nI (c9 + 1)))] := hl
  have hx := B.1
  have hb := B.2.1
  refine lv_aload_n hx hb dJ2_grow_2_0 rfl (lv_at hl 0 rfl) ?_
  refine xk_get B hI hO rfl in_J2 1 (by decide) q130 rfl dJ2_grow_2_1 ?_
  refine xk_alen B hI hA rfl dJ2_grow_2_4 ?_
  refine lv_istore_n (lv' := [(2, .int (nI c9)), (0, .ref l), (1, .int (nI (c9 + 1)))]) hx hb dJ2_grow_2_5 rfl hl (by decide) rfl (fun ls hl => ?_)
  refine lv_iload_n hx hb dJ2_grow_2_6 rfl (lv_at hl 0 rfl) ?_
  refine xk_if_gt_t (tgt := 20) hx hb (by omega) dJ2_grow_2_7 (by decide) (by omega) ?_
  refine lv_iload_n hx hb dJ2_grow_2_20 rfl (lv_at hl 0 rfl) ?_
  refine lv_iload_n hx hb dJ2_grow_2_21 rfl (lv_at hl 2 rfl) ?_
  refine lv_iload_n hx hb dJ2_grow_2_22 rfl (lv_at hl 0 rfl) ?_
  refine lv_isub hx hb dJ2_grow_2_23 (xk_top (pk_sub (by omega)) ?_)
  refine xk_top (congrArg nI (show c9 + 1 - c9 = 1 by omega)) ?_
  refine lv_iload_n hx hb dJ2_grow_2_24 rfl (lv_at hl 0 rfl) ?_
  refine lv_iconst (v := nI 1) hx hb dJ2_grow_2_25 (by decide) ?_
  refine lv_ishr hx hb dJ2_grow_2_26 (xk_top (xk_shr (by omega) (by omega)) ?_)
  refine xk_top (congrArg nI (show c9 / 2 ^ 1 = c9 / 2 by rw [Nat.pow_one])) ?_
  refine xk_ri0 (xk_cS B hI hl [.int (nI c9), .int (nI 1), .int (nI (c9 / 2))] [] 3 (j11_newLength g (o9 := c9) (k9 := 1) (p9 := c9 / 2) (by omega) (by omega) (by omega) (by omega)) (lw_S q484 q485 q86 q486) ⟨by decide +kernel, by decide +kernel, by decide +kernel⟩ ⟨Nat.le_of_ble_eq_true rfl, Nat.le_of_ble_eq_true rfl⟩ rfl rfl (Nat.le_of_ble_eq_true rfl) dJ2_grow_2_27 (Nat.le_of_ble_eq_true rfl) (by (try dsimp only); omega)) hI (fun H_2 L_3 hI_1 => ?_)
  refine xk_top (y := nI (c9 + (c9 / 2))) rfl ?_
  refine lv_istore_n (lv' := [(3, .int (nI (c9 + (c9 / 2)))), (2, .int (nI c9)), (0, .ref l), (1, .int (nI (c9 + 1)))]) hx hb dJ2_grow_2_30 rfl hl (by decide) rfl (fun ls hl => ?_)
  refine lv_aload_n hx hb dJ2_grow_2_31 rfl (lv_at hl 2 rfl) ?_
  refine lv_aload_n hx hb dJ2_grow_2_32 rfl (lv_at hl 2 rfl) ?_
  refine xk_get B hI_1 hO rfl in_J2 1 (by decide) q130 rfl dJ2_grow_2_33 ?_
  refine lv_iload_n hx hb dJ2_grow_2_36 rfl (lv_at hl 0 rfl) ?_
  refine xk_rr (xk_cS B hI_1 hl [.ref a, .int (nI (c9 + (c9 / 2)))] [.ref l] 2 (j13_copyOf g (ow9 := ow2) hA hob (by omega) (by omega)) (lw_S q494 q495 q88 q496) ⟨by decide +kernel, by decide +kernel, by decide +kernel⟩ ⟨Nat.le_of_ble_eq_true rfl, Nat.le_of_ble_eq_true rfl⟩ rfl rfl (Nat.le_of_ble_eq_true rfl) dJ2_grow_2_37 (Nat.le_of_ble_eq_true rfl) (by (try dsimp only); omega)) hI_1 (fun q_9 X_7 H_5 L_6 hq_8 hI_4 => ?_)
  obtain ⟨hf_10, hf1_11⟩ := hq_8
  have hfm_12 : xk_fx (fun o => o = ow ∨ o = ow2) X X_7 := xk_fx.tr xk_fx.rf hf1_11 (fun a o e q z => (Or.inr z))
  refine lv_dup_x1 hx hb dJ2_grow_2_40 rfl rfl ?_
  have hf_13 := hf1_11 _ _ _ hO hoo
  refine xk_put B hI_4 hf_13 rfl in_J2 tyJ2 tyJ2_ok nmJ2 1 (by decide) q130 rfl rfl rfl (Nat.le_of_ble_eq_true rfl) dJ2_grow_2_41 (fun X_14 H_18 L_19 hf_16 hn_15 hI_17 => ?_)
  have hf_16 : X_14 l = some (ow, .inr (11, [.int mc, .ref q_9, .int (nI c9)])) := hf_16
  have hfm_20 : xk_fx (fun o => o = ow ∨ o = ow2) X X_14 := xk_fx.put hfm_12 hn_15 hf_13 (Or.inl (Or.inl rfl))
  have hf_21 := xk_off hn_15 hf_10 hf_13 (Ne.symm hoo)
  exact xk_retr B hI_17 hr (Or.inr ⟨_, rfl⟩) (Or.inr ⟨_, rfl⟩) dJ2_grow_2_44 (Nat.le_of_ble_eq_true rfl) (by (try dsimp only); omega) (⟨_, rfl, hf_21, hf_16, hfm_20⟩)
set_option maxHeartbeats 4000000 in
theorem j2_growA (g : xk_G) {X : xk_H} {l a c9 : Nat} {ow ow2 : Nat × Nat} {mc : Int32} {h : Nat → Option Nat} (hO : X l = some (ow, .inr (11, [.int mc, .ref a, .int (nI c9)]))) (hA : X a = some (ow2, xk_qA g c9 h)) (hoo : ow ≠ ow2) (hob : ∀ i, i < c9 → ∀ y, h i = some y → xk_isO g X y) (hc1 : 10 ≤ c9) (hc2 : c9 ≤ 33) : xk_C g yJ2_grow (ws_ yJ2_grow cJ2_grow 1 (some (.array (.object "java/lang/Object")))) ({ frames := 4, cells := 1, slots := c9 + c9 / 2, locals := 85 } : Room) [.ref l] X (xk_Qr (fun q X1 => X1 q = some (ow2, xk_qA g (c9 + c9 / 2) (va_cpy h (fun _ => none) 0 0 c9)) ∧ X1 l = some (ow, .inr (11, [.int mc, .ref q, .int (nI c9)])) ∧ xk_f2 ow ow2 X X1)) := by
  refine xk_ofW (by decide +kernel) (Nat.le_of_ble_eq_true rfl) (fun p e s m args below meth c B hr hname hargs hI ls hl => ?_)
  have B : xk_B g p s m args meth c RJ2 cJ2_grow 1 := B
  have hl : lv_has ls 1 [(0, .ref l)] := hl
  have hx := B.1
  have hb := B.2.1
  refine lv_aload_n hx hb dJ2_grow_0 rfl (lv_at hl 0 rfl) ?_
  refine lv_aload_n hx hb dJ2_grow_1 rfl (lv_at hl 0 rfl) ?_
  refine xk_get B hI hO rfl in_J2 2 (by decide) q133 rfl dJ2_grow_2 ?_
  refine lv_iconst (v := nI 1) hx hb dJ2_grow_5 (by decide) ?_
  refine lv_iadd hx hb dJ2_grow_6 (xk_top (nI_add _ _) ?_)
  refine xk_rr (xk_cV B hI hl [.int (nI (c9 + 1))] [] 1 (j2_growA2 g hO hA hoo hob hc1 hc2) hO rfl (lw_V q480 q482 qs5 q73 q483) ⟨rfl, by decide +kernel, by decide +kernel, by decide +kernel⟩ ⟨Nat.le_of_ble_eq_true rfl, Nat.le_of_ble_eq_true rfl⟩ rfl rfl (Nat.le_of_ble_eq_true rfl) dJ2_grow_7 (Nat.le_of_ble_eq_true rfl) (by (try dsimp only); omega)) hI (fun q_6 X_4 H_2 L_3 hq_5 hI_1 => ?_)
  obtain ⟨hf_7, hf_8, hf2_9⟩ := hq_5
  have hfm_10 : xk_fx (fun o => o = ow ∨ o = ow2) X X_4 := xk_fx.tr xk_fx.rf hf2_9 (fun a o e q z => z.elim (fun z => (Or.inl z)) (fun z => (Or.inr z)))
  exact xk_retr B hI_1 hr (Or.inr ⟨_, rfl⟩) (Or.inr ⟨_, rfl⟩) dJ2_grow_10 (Nat.le_of_ble_eq_true rfl) (by (try dsimp only); omega) (⟨_, rfl, hf_7, hf_8, hfm_10⟩)
set_option maxHeartbeats 4000000 in
theorem j2_add2A (g : xk_G) {X : xk_H} {l a c9 v : Nat} {ow ow2 : Nat × Nat} {mc : Int32} {h : Nat → Option Nat} (hO : X l = some (ow, .inr (11, [.int mc, .ref a, .int (nI c9)]))) (hA : X a = some (ow2, xk_qA g c9 h)) (hoo : ow ≠ ow2) (hv : xk_is2 g X ow ow2 v) (hob : ∀ i, i < c9 → ∀ y, h i = some y → xk_is2 g X ow ow2 y) (hc1 : 10 ≤ c9) (hc2 : c9 ≤ 33) : xk_C g yJ2_add_2 (ws_ yJ2_add_2 cJ2_add_2 4 none) ({ frames := 5, cells := 1, slots := c9 + c9 / 2, locals := 105 } : Room) [.ref l, .ref v, .ref a, .int (nI c9)] X (xk_Qv (fun X1 => ∃ q, X1 l = some (ow, .inr (11, [.int mc, .ref q, .int (nI (c9 + 1))])) ∧ X1 q = some (ow2, xk_qA g (c9 + c9 / 2) (va_up (va_cpy h (fun _ => none) 0 0 c9) c9 (some v))) ∧ xk_f2 ow ow2 X X1)) := by
  refine xk_ofW (by decide +kernel) (Nat.le_of_ble_eq_true rfl) (fun p e s m args below meth c B hr hname hargs hI ls hl => ?_)
  have B : xk_B g p s m args meth c RJ2 cJ2_add_2 4 := B
  have hl : lv_has ls 4 [(0, .ref l), (1, .ref v), (2, .ref a), (3, .int (nI c9))] := hl
  have hx := B.1
  have hb := B.2.1
  refine lv_iload_n hx hb dJ2_add_2_0 rfl (lv_at hl 3 rfl) ?_
  refine lv_aload_n hx hb dJ2_add_2_1 rfl (lv_at hl 2 rfl) ?_
  refine xk_alen B hI hA rfl dJ2_add_2_2 ?_
  refine xk_icmp_ne_f (tgt := 11) hx hb (by omega) (by omega) dJ2_add_2_3 (by decide) rfl ?_
  refine lv_aload_n hx hb dJ2_add_2_6 rfl (lv_at hl 0 rfl) ?_
  refine xk_rr (xk_cV B hI hl [] [] 0 (j2_growA g hO hA hoo (fun i hi y hy => ((hob i hi y hy).fx xk_fx.rf).o) hc1 hc2) hO rfl (lw_V q476 q478 qs4 q73 q479) ⟨rfl, by decide +kernel, by decide +kernel, by decide +kernel⟩ ⟨Nat.le_of_ble_eq_true rfl, Nat.le_of_ble_eq_true rfl⟩ rfl rfl (Nat.le_of_ble_eq_true rfl) dJ2_add_2_7 (Nat.le_of_ble_eq_true rfl) (by (try dsimp only); omega)) hI (fun q_6 X_4 H_2 L_3 hq_5 hI_1 => ?_)
  obtain ⟨hf_7, hf_8, hf2_9⟩ := hq_5
  have hfm_10 : xk_fx (fun o => o = ow ∨ o = ow2) X X_4 := xk_fx.tr xk_fx.rf hf2_9 (fun a o e q z => z.elim (fun z => (Or.inl z)) (fun z => (Or.inr z)))
  refine lv_astore_n (lv' := [(2, .ref q_6), (0, .ref l), (1, .ref v), (3, .int (nI c9))]) hx hb dJ2_add_2_10 rfl hl (by decide) rfl (fun ls hl => ?_)
  refine lv_aload_n hx hb dJ2_add_2_11 rfl (lv_at hl 0 rfl) ?_
  refine lv_iload_n hx hb dJ2_add_2_12 rfl (lv_at hl 3 rfl) ?_
  refine lv_aload_n hx hb dJ2_add_2_13 rfl (lv_at hl 2 rfl) ?_
  refine xk_aastO B hI_1 hf_7 ((hv.fx hfm_10).o.ob B hI_1) (by omega) (by omega) dJ2_add_2_14 (fun X_11 H_15 L_16 hf_13 hn_12 hI_14 => ?_)
  have hfm_17 : xk_fx (fun o => o = ow ∨ o = ow2) X X_11 := xk_fx.put hfm_10 hn_12 hf_7 (Or.inl (Or.inr rfl))
  refine lv_aload_n hx hb dJ2_add_2_15 rfl (lv_at hl 1 rfl) ?_
  refine lv_iload_n hx hb dJ2_add_2_16 rfl (lv_at hl 3 rfl) ?_
  refine lv_iconst (v := nI 1) hx hb dJ2_add_2_17 (by decide) ?_
  refine lv_iadd hx hb dJ2_add_2_18 (xk_top (nI_add _ _) ?_)
  have hf_18 := xk_off hn_12 hf_8 hf_7 hoo
  refine xk_put B hI_14 hf_18 rfl in_J2 tyJ2 tyJ2_ok nmJ2 2 (by decide) q133 rfl rfl rfl (Nat.le_of_ble_eq_true rfl) dJ2_add_2_19 (fun X_19 H_23 L_24 hf_21 hn_20 hI_22 => ?_)
  have hf_21 : X_19 l = some (ow, .inr (11, [.int mc, .ref q_6, .int (nI (c9 + 1))])) := hf_21
  have hfm_25 : xk_fx (fun o => o = ow ∨ o = ow2) X X_19 := xk_fx.put hfm_17 hn_20 hf_18 (Or.inl (Or.inl rfl))
  have hf_26 := xk_off hn_20 hf_13 hf_18 (Ne.symm hoo)
  exact xk_retv B hI_22 hr dJ2_add_2_22 (Nat.le_of_ble_eq_true rfl) (by (try dsimp only); omega) (⟨rfl, _, hf_21, hf_26, hfm_25⟩)
set_option maxHeartbeats 4000000 in
theorem j2_add2E (g : xk_G) {X : xk_H} {l v : Nat} {ow ow2 : Nat × Nat} {mc : Int32} (hO : X l = some (ow, .inr (11, [.int mc, .ref (xk_Em g), .int (nI 0)]))) (hoo : ow ≠ ow2) (hv : xk_is2 g X ow ow2 v) : xk_C g yJ2_add_2 (ws_ yJ2_add_2 cJ2_add_2 4 none) ({ frames := 5, cells := 1, slots := 10, locals := 105 } : Room) [.ref l, .ref v, .ref (xk_Em g), .int (nI 0)] X (xk_Qv (fun X1 => ∃ q, X1 l = some (ow, .inr (11, [.int mc, .ref q, .int (nI (1))])) ∧ X1 q = some (ow2, xk_qA g (10) (va_up (fun _ => none) 0 (some v))) ∧ xk_f2 ow ow2 X X1)) := by
  refine xk_ofW (by decide +kernel) (Nat.le_of_ble_eq_true rfl) (fun p e s m args below meth c B hr hname hargs hI ls hl => ?_)
  have B : xk_B g p s m args meth c RJ2 cJ2_add_2 4 := B
  have hl : lv_has ls 4 [(0, .ref l), (1, .ref v), (2, .ref (xk_Em g)), (3, .int (nI 0))] := hl
  have hx := B.1
  have hb := B.2.1
  refine lv_iload_n hx hb dJ2_add_2_0 rfl (lv_at hl 3 rfl) ?_
  refine lv_aload_n hx hb dJ2_add_2_1 rfl (lv_at hl 2 rfl) ?_
  refine xk_alenO B hI (xk_stE B.K.2.2.2.2).2 dJ2_add_2_2 ?_
  refine xk_icmp_ne_f (tgt := 11) hx hb (by omega) (by omega) dJ2_add_2_3 (by decide) rfl ?_
  refine lv_aload_n hx hb dJ2_add_2_6 rfl (lv_at hl 0 rfl) ?_
  refine xk_rr (xk_cV B hI hl [] [] 0 (j2_growE g hO hoo) hO rfl (lw_V q476 q478 qs4 q73 q479) ⟨rfl, by decide +kernel, by decide +kernel, by decide +kernel⟩ ⟨Nat.le_of_ble_eq_true rfl, Nat.le_of_ble_eq_true rfl⟩ rfl rfl (Nat.le_of_ble_eq_true rfl) dJ2_add_2_7 (Nat.le_of_ble_eq_true rfl) (Nat.le_of_ble_eq_true rfl)) hI (fun q_6 X_4 H_2 L_3 hq_5 hI_1 => ?_)
  obtain ⟨hf_7, hf_8, hf2_9⟩ := hq_5
  have hfm_10 : xk_fx (fun o => o = ow ∨ o = ow2) X X_4 := xk_fx.tr xk_fx.rf hf2_9 (fun a o e q z => z.elim (fun z => (Or.inl z)) (fun z => (Or.inr z)))
  refine lv_astore_n (lv' := [(2, .ref q_6), (0, .ref l), (1, .ref v), (3, .int (nI 0))]) hx hb dJ2_add_2_10 rfl hl (by decide) rfl (fun ls hl => ?_)
  refine lv_aload_n hx hb dJ2_add_2_11 rfl (lv_at hl 0 rfl) ?_
  refine lv_iload_n hx hb dJ2_add_2_12 rfl (lv_at hl 3 rfl) ?_
  refine lv_aload_n hx hb dJ2_add_2_13 rfl (lv_at hl 2 rfl) ?_
  refine xk_aastO B hI_1 hf_7 ((hv.fx hfm_10).o.ob B hI_1) (by omega) (by decide) dJ2_add_2_14 (fun X_11 H_15 L_16 hf_13 hn_12 hI_14 => ?_)
  have hfm_17 : xk_fx (fun o => o = ow ∨ o = ow2) X X_11 := xk_fx.put hfm_10 hn_12 hf_7 (Or.inl (Or.inr rfl))
  refine lv_aload_n hx hb dJ2_add_2_15 rfl (lv_at hl 1 rfl) ?_
  refine lv_iload_n hx hb dJ2_add_2_16 rfl (lv_at hl 3 rfl) ?_
  refine lv_iconst (v := nI 1) hx hb dJ2_add_2_17 (by decide) ?_
  refine lv_iadd hx hb dJ2_add_2_18 (xk_top (y := nI 1) (by decide) ?_)
  have hf_18 := xk_off hn_12 hf_8 hf_7 hoo
  refine xk_put B hI_14 hf_18 rfl in_J2 tyJ2 tyJ2_ok nmJ2 2 (by decide) q133 rfl rfl rfl (Nat.le_of_ble_eq_true rfl) dJ2_add_2_19 (fun X_19 H_23 L_24 hf_21 hn_20 hI_22 => ?_)
  have hf_21 : X_19 l = some (ow, .inr (11, [.int mc, .ref q_6, .int (nI 1)])) := hf_21
  have hfm_25 : xk_fx (fun o => o = ow ∨ o = ow2) X X_19 := xk_fx.put hfm_17 hn_20 hf_18 (Or.inl (Or.inl rfl))
  have hf_26 := xk_off hn_20 hf_13 hf_18 (Ne.symm hoo)
  exact xk_retv B hI_22 hr dJ2_add_2_22 (Nat.le_of_ble_eq_true rfl) (Nat.le_of_ble_eq_true rfl) (⟨rfl, _, hf_21, hf_26, hfm_25⟩)
set_option maxHeartbeats 4000000 in
theorem j2_add2R (g : xk_G) {X : xk_H} {l a n c9 v : Nat} {ow ow2 : Nat × Nat} {mc : Int32} {h : Nat → Option Nat} (hO : X l = some (ow, .inr (11, [.int mc, .ref a, .int (nI n)]))) (hA : X a = some (ow2, xk_qA g c9 h)) (hoo : ow ≠ ow2) (hv : xk_is2 g X ow ow2 v) (hn : n < c9) (hc2 : c9 ≤ 49) : xk_C g yJ2_add_2 (ws_ yJ2_add_2 cJ2_add_2 4 none) ({ frames := 5, cells := 0, slots := 0, locals := 105 } : Room) [.ref l, .ref v, .ref a, .int (nI n)] X (xk_Qv (fun X1 => ∃ q, X1 l = some (ow, .inr (11, [.int mc, .ref q, .int (nI (n + 1))])) ∧ X1 q = some (ow2, xk_qA g (c9) (va_up (h) n (some v))) ∧ xk_f2 ow ow2 X X1)) := by
  refine xk_ofW (by decide +kernel) (Nat.le_of_ble_eq_true rfl) (fun p e s m args below meth c B hr hname hargs hI ls hl => ?_)
  have B : xk_B g p s m args meth c RJ2 cJ2_add_2 4 := B
  have hl : lv_has ls 4 [(0, .ref l), (1, .ref v), (2, .ref a), (3, .int (nI n))] := hl
  have hx := B.1
  have hb := B.2.1
  refine lv_iload_n hx hb dJ2_add_2_0 rfl (lv_at hl 3 rfl) ?_
  refine lv_aload_n hx hb dJ2_add_2_1 rfl (lv_at hl 2 rfl) ?_
  refine xk_alen B hI hA rfl dJ2_add_2_2 ?_
  refine xk_icmp_ne_t (tgt := 11) hx hb (by omega) (by omega) dJ2_add_2_3 (by decide) (by omega) ?_
  refine lv_aload_n hx hb dJ2_add_2_11 rfl (lv_at hl 2 rfl) ?_
  refine lv_iload_n hx hb dJ2_add_2_12 rfl (lv_at hl 3 rfl) ?_
  refine lv_aload_n hx hb dJ2_add_2_13 rfl (lv_at hl 1 rfl) ?_
  refine xk_aastO B hI hA ((hv.fx xk_fx.rf).o.ob B hI) (by omega) (by omega) dJ2_add_2_14 (fun X_1 H_5 L_6 hf_3 hn_2 hI_4 => ?_)
  have hfm_7 : xk_fx (fun o => o = ow ∨ o = ow2) X X_1 := xk_fx.put xk_fx.rf hn_2 hA (Or.inl (Or.inr rfl))
  refine lv_aload_n hx hb dJ2_add_2_15 rfl (lv_at hl 0 rfl) ?_
  refine lv_iload_n hx hb dJ2_add_2_16 rfl (lv_at hl 3 rfl) ?_
  refine lv_iconst (v := nI 1) hx hb dJ2_add_2_17 (by decide) ?_
  refine lv_iadd hx hb dJ2_add_2_18 (xk_top (nI_add _ _) ?_)
  have hf_8 := xk_off hn_2 hO hA hoo
  refine xk_put B hI_4 hf_8 rfl in_J2 tyJ2 tyJ2_ok nmJ2 2 (by decide) q133 rfl rfl rfl (Nat.le_of_ble_eq_true rfl) dJ2_add_2_19 (fun X_9 H_13 L_14 hf_11 hn_10 hI_12 => ?_)
  have hf_11 : X_9 l = some (ow, .inr (11, [.int mc, .ref a, .int (nI (n + 1))])) := hf_11
  have hfm_15 : xk_fx (fun o => o = ow ∨ o = ow2) X X_9 := xk_fx.put hfm_7 hn_10 hf_8 (Or.inl (Or.inl rfl))
  have hf_16 := xk_off hn_10 hf_3 hf_8 (Ne.symm hoo)
  exact xk_retv B hI_12 hr dJ2_add_2_22 (Nat.le_of_ble_eq_true rfl) (Nat.le_of_ble_eq_true rfl) (⟨rfl, _, hf_11, hf_16, hfm_15⟩)
set_option maxHeartbeats 4000000 in
theorem j2_addA (g : xk_G) {X : xk_H} {l a c9 v : Nat} {ow ow2 : Nat × Nat} {mc : Int32} {h : Nat → Option Nat} (hO : X l = some (ow, .inr (11, [.int mc, .ref a, .int (nI c9)]))) (hA : X a = some (ow2, xk_qA g c9 h)) (hoo : ow ≠ ow2) (hv : xk_is2 g X ow ow2 v) (hob : ∀ i, i < c9 → ∀ y, h i = some y → xk_is2 g X ow ow2 y) (hc1 : 10 ≤ c9) (hc2 : c9 ≤ 33) : xk_C g yJ2_add (ws_ yJ2_add cJ2_add 2 (some .boolean)) ({ frames := 6, cells := 1, slots := c9 + c9 / 2, locals := 128 } : Room) [.ref l, .ref v] X (xk_Qi (nI 1) (fun X1 => ∃ q, X1 l = some (ow, .inr (11, [.int (mc + nI 1), .ref q, .int (nI (c9 + 1))])) ∧ X1 q = some (ow2, xk_qA g (c9 + c9 / 2) (va_up (va_cpy h (fun _ => none) 0 0 c9) c9 (some v))) ∧ xk_f2 ow ow2 X X1)) := by
  refine xk_ofW (by decide +kernel) (Nat.le_of_ble_eq_true rfl) (fun p e s m args below meth c B hr hname hargs hI ls hl => ?_)
  have B : xk_B g p s m args meth c RJ2 cJ2_add 2 := B
  have hl : lv_has ls 2 [(0, .ref l), (1, .ref v)] := hl
  have hx := B.1
  have hb := B.2.1
  refine lv_aload_n hx hb dJ2_add_0 rfl (lv_at hl 0 rfl) ?_
  refine lv_dup hx hb dJ2_add_1 rfl ?_
  refine xk_getU B hI hO rfl in_J2 0 (by decide) q137 (u_same (B.ts _ q136)) rfl dJ2_add_2 ?_
  refine lv_iconst (v := nI 1) hx hb dJ2_add_5 (by decide) ?_
  refine lv_iadd hx hb dJ2_add_6 ?_
  refine xk_putU B hI hO rfl in_J2 tyJ2 tyJ2_ok nmJ2 0 (by decide) q137 (u_same (B.ts _ q136)) rfl rfl rfl (Nat.le_of_ble_eq_true rfl) dJ2_add_7 (fun X_1 H_5 L_6 hf_3 hn_2 hI_4 => ?_)
  have hf_3 : X_1 l = some (ow, .inr (11, [.int (mc + (nI 1)), .ref a, .int (nI c9)])) := hf_3
  have hfm_7 : xk_fx (fun o => o = ow ∨ o = ow2) X X_1 := xk_fx.put xk_fx.rf hn_2 hO (Or.inl (Or.inl rfl))
  refine lv_aload_n hx hb dJ2_add_10 rfl (lv_at hl 0 rfl) ?_
  refine lv_aload_n hx hb dJ2_add_11 rfl (lv_at hl 1 rfl) ?_
  refine lv_aload_n hx hb dJ2_add_12 rfl (lv_at hl 0 rfl) ?_
  refine xk_get B hI_4 hf_3 rfl in_J2 1 (by decide) q130 rfl dJ2_add_13 ?_
  refine lv_aload_n hx hb dJ2_add_16 rfl (lv_at hl 0 rfl) ?_
  refine xk_get B hI_4 hf_3 rfl in_J2 2 (by decide) q133 rfl dJ2_add_17 ?_
  have hf_8 := xk_off hn_2 hA hO (Ne.symm hoo)
  refine xk_rv (xk_cV B hI_4 hl [.ref v, .ref a, .int (nI c9)] [] 3 (j2_add2A g hf_3 hf_8 hoo (hv.fx hfm_7) (fun i hi y hy => (hob i hi y hy).fx hfm_7) hc1 hc2) hf_3 rfl (lw_V q472 q474 qs3 q73 q475) ⟨rfl, by decide +kernel, by decide +kernel, by decide +kernel⟩ ⟨Nat.le_of_ble_eq_true rfl, Nat.le_of_ble_eq_true rfl⟩ rfl rfl (Nat.le_of_ble_eq_true rfl) dJ2_add_20 (Nat.le_of_ble_eq_true rfl) (by (try dsimp only); omega)) hI_4 (fun X_12 H_10 L_11 hq_13 hI_9 => ?_)
  obtain ⟨q_14, hf_15, hf_16, hf2_17⟩ := hq_13
  have hfm_18 : xk_fx (fun o => o = ow ∨ o = ow2) X X_12 := xk_fx.tr hfm_7 hf2_17 (fun a o e q z => z.elim (fun z => (Or.inl z)) (fun z => (Or.inr z)))
  refine lv_iconst (v := nI 1) hx hb dJ2_add_23 (by decide) ?_
  exact xk_reti B hI_9 hr (by decide) dJ2_add_24 (Nat.le_of_ble_eq_true rfl) (by (try dsimp only); omega) (⟨rfl, _, hf_15, hf_16, hfm_18⟩)
set_option maxHeartbeats 4000000 in
theorem j2_addE (g : xk_G) {X : xk_H} {l v : Nat} {ow ow2 : Nat × Nat} {mc : Int32} (hO : X l = some (ow, .inr (11, [.int mc, .ref (xk_Em g), .int (nI 0)]))) (hoo : ow ≠ ow2) (hv : xk_is2 g X ow ow2 v) : xk_C g yJ2_add (ws_ yJ2_add cJ2_add 2 (some .boolean)) ({ frames := 6, cells := 1, slots := 10, locals := 128 } : Room) [.ref l, .ref v] X (xk_Qi (nI 1) (fun X1 => ∃ q, X1 l = some (ow, .inr (11, [.int (mc + nI 1), .ref q, .int (nI (1))])) ∧ X1 q = some (ow2, xk_qA g (10) (va_up (fun _ => none) 0 (some v))) ∧ xk_f2 ow ow2 X X1)) := by
  refine xk_ofW (by decide +kernel) (Nat.le_of_ble_eq_true rfl) (fun p e s m args below meth c B hr hname hargs hI ls hl => ?_)
  have B : xk_B g p s m args meth c RJ2 cJ2_add 2 := B
  have hl : lv_has ls 2 [(0, .ref l), (1, .ref v)] := hl
  have hx := B.1
  have hb := B.2.1
  refine lv_aload_n hx hb dJ2_add_0 rfl (lv_at hl 0 rfl) ?_
  refine lv_dup hx hb dJ2_add_1 rfl ?_
  refine xk_getU B hI hO rfl in_J2 0 (by decide) q137 (u_same (B.ts _ q136)) rfl dJ2_add_2 ?_
  refine lv_iconst (v := nI 1) hx hb dJ2_add_5 (by decide) ?_
  refine lv_iadd hx hb dJ2_add_6 ?_
  refine xk_putU B hI hO rfl in_J2 tyJ2 tyJ2_ok nmJ2 0 (by decide) q137 (u_same (B.ts _ q136)) rfl rfl rfl (Nat.le_of_ble_eq_true rfl) dJ2_add_7 (fun X_1 H_5 L_6 hf_3 hn_2 hI_4 => ?_)
  have hf_3 : X_1 l = some (ow, .inr (11, [.int (mc + (nI 1)), .ref (xk_Em g), .int (nI 0)])) := hf_3
  have hfm_7 : xk_fx (fun o => o = ow ∨ o = ow2) X X_1 := xk_fx.put xk_fx.rf hn_2 hO (Or.inl (Or.inl rfl))
  refine lv_aload_n hx hb dJ2_add_10 rfl (lv_at hl 0 rfl) ?_
  refine lv_aload_n hx hb dJ2_add_11 rfl (lv_at hl 1 rfl) ?_
  refine lv_aload_n hx hb dJ2_add_12 rfl (lv_at hl 0 rfl) ?_
  refine xk_get B hI_4 hf_3 rfl in_J2 1 (by decide) q130 rfl dJ2_add_13 ?_
  refine lv_aload_n hx hb dJ2_add_16 rfl (lv_at hl 0 rfl) ?_
  refine xk_get B hI_4 hf_3 rfl in_J2 2 (by decide) q133 rfl dJ2_add_17 ?_
  refine xk_rv (xk_cV B hI_4 hl [.ref v, .ref (xk_Em g), .int (nI 0)] [] 3 (j2_add2E g hf_3 hoo (hv.fx hfm_7)) hf_3 rfl (lw_V q472 q474 qs3 q73 q475) ⟨rfl, by decide +kernel, by decide +kernel, by decide +kernel⟩ ⟨Nat.le_of_ble_eq_true rfl, Nat.le_of_ble_eq_true rfl⟩ rfl rfl (Nat.le_of_ble_eq_true rfl) dJ2_add_20 (Nat.le_of_ble_eq_true rfl) (Nat.le_of_ble_eq_true rfl)) hI_4 (fun X_11 H_9 L_10 hq_12 hI_8 => ?_)
  obtain ⟨q_13, hf_14, hf_15, hf2_16⟩ := hq_12
  have hfm_17 : xk_fx (fun o => o = ow ∨ o = ow2) X X_11 := xk_fx.tr hfm_7 hf2_16 (fun a o e q z => z.elim (fun z => (Or.inl z)) (fun z => (Or.inr z)))
  refine lv_iconst (v := nI 1) hx hb dJ2_add_23 (by decide) ?_
  exact xk_reti B hI_8 hr (by decide) dJ2_add_24 (Nat.le_of_ble_eq_true rfl) (Nat.le_of_ble_eq_true rfl) (⟨rfl, _, hf_14, hf_15, hfm_17⟩)
set_option maxHeartbeats 4000000 in
theorem j2_addR (g : xk_G) {X : xk_H} {l a n c9 v : Nat} {ow ow2 : Nat × Nat} {mc : Int32} {h : Nat → Option Nat} (hO : X l = some (ow, .inr (11, [.int mc, .ref a, .int (nI n)]))) (hA : X a = some (ow2, xk_qA g c9 h)) (hoo : ow ≠ ow2) (hv : xk_is2 g X ow ow2 v) (hn : n < c9) (hc2 : c9 ≤ 49) : xk_C g yJ2_add (ws_ yJ2_add cJ2_add 2 (some .boolean)) ({ frames := 6, cells := 0, slots := 0, locals := 128 } : Room) [.ref l, .ref v] X (xk_Qi (nI 1) (fun X1 => ∃ q, X1 l = some (ow, .inr (11, [.int (mc + nI 1), .ref q, .int (nI (n + 1))])) ∧ X1 q = some (ow2, xk_qA g (c9) (va_up (h) n (some v))) ∧ xk_f2 ow ow2 X X1)) := by
  refine xk_ofW (by decide +kernel) (Nat.le_of_ble_eq_true rfl) (fun p e s m args below meth c B hr hname hargs hI ls hl => ?_)
  have B : xk_B g p s m args meth c RJ2 cJ2_add 2 := B
  have hl : lv_has ls 2 [(0, .ref l), (1, .ref v)] := hl
  have hx := B.1
  have hb := B.2.1
  refine lv_aload_n hx hb dJ2_add_0 rfl (lv_at hl 0 rfl) ?_
  refine lv_dup hx hb dJ2_add_1 rfl ?_
  refine xk_getU B hI hO rfl in_J2 0 (by decide) q137 (u_same (B.ts _ q136)) rfl dJ2_add_2 ?_
  refine lv_iconst (v := nI 1) hx hb dJ2_add_5 (by decide) ?_
  refine lv_iadd hx hb dJ2_add_6 ?_
  refine xk_putU B hI hO rfl in_J2 tyJ2 tyJ2_ok nmJ2 0 (by decide) q137 (u_same (B.ts _ q136)) rfl rfl rfl (Nat.le_of_ble_eq_true rfl) dJ2_add_7 (fun X_1 H_5 L_6 hf_3 hn_2 hI_4 => ?_)
  have hf_3 : X_1 l = some (ow, .inr (11, [.int (mc + (nI 1)), .ref a, .int (nI n)])) := hf_3
  have hfm_7 : xk_fx (fun o => o = ow ∨ o = ow2) X X_1 := xk_fx.put xk_fx.rf hn_2 hO (Or.inl (Or.inl rfl))
  refine lv_aload_n hx hb dJ2_add_10 rfl (lv_at hl 0 rfl) ?_
  refine lv_aload_n hx hb dJ2_add_11 rfl (lv_at hl 1 rfl) ?_
  refine lv_aload_n hx hb dJ2_add_12 rfl (lv_at hl 0 rfl) ?_
  refine xk_get B hI_4 hf_3 rfl in_J2 1 (by decide) q130 rfl dJ2_add_13 ?_
  refine lv_aload_n hx hb dJ2_add_16 rfl (lv_at hl 0 rfl) ?_
  refine xk_get B hI_4 hf_3 rfl in_J2 2 (by decide) q133 rfl dJ2_add_17 ?_
  have hf_8 := xk_off hn_2 hA hO (Ne.symm hoo)
  refine xk_rv (xk_cV B hI_4 hl [.ref v, .ref a, .int (nI n)] [] 3 (j2_add2R g hf_3 hf_8 hoo (hv.fx hfm_7) hn hc2) hf_3 rfl (lw_V q472 q474 qs3 q73 q475) ⟨rfl, by decide +kernel, by decide +kernel, by decide +kernel⟩ ⟨Nat.le_of_ble_eq_true rfl, Nat.le_of_ble_eq_true rfl⟩ rfl rfl (Nat.le_of_ble_eq_true rfl) dJ2_add_20 (Nat.le_of_ble_eq_true rfl) (Nat.le_of_ble_eq_true rfl)) hI_4 (fun X_12 H_10 L_11 hq_13 hI_9 => ?_)
  obtain ⟨q_14, hf_15, hf_16, hf2_17⟩ := hq_13
  have hfm_18 : xk_fx (fun o => o = ow ∨ o = ow2) X X_12 := xk_fx.tr hfm_7 hf2_17 (fun a o e q z => z.elim (fun z => (Or.inl z)) (fun z => (Or.inr z)))
  refine lv_iconst (v := nI 1) hx hb dJ2_add_23 (by decide) ?_
  exact xk_reti B hI_9 hr (by decide) dJ2_add_24 (Nat.le_of_ble_eq_true rfl) (Nat.le_of_ble_eq_true rfl) (⟨rfl, _, hf_15, hf_16, hfm_18⟩)
set_option maxHeartbeats 4000000 in
theorem j2_rcfa (g : xk_G) {X : xk_H} {l a : Nat} {ow ow2 : Nat × Nat} {mc : Int32} {n : Nat} {pp : Nat → Nat} (hL : tb_L g X l a ow ow2 mc n pp) {i : Nat} (hi : i ≤ n) : xk_C g yJ2_rangeCheckForAdd (ws_ yJ2_rangeCheckForAdd cJ2_rangeCheckForAdd 2 none) ({ frames := 0, cells := 0, slots := 0, locals := 0 } : Room) [.ref l, .int (nI i)] X (xk_Qv (fun X1 => X1 = X)) := by
  refine xk_ofW (by decide +kernel) (Nat.le_of_ble_eq_true rfl) (fun p e s m args below meth c B hr hname hargs hI ls hl => ?_)
  have B : xk_B g p s m args meth c RJ2 cJ2_rangeCheckForAdd 2 := B
  have hl : lv_has ls 2 [(0, .ref l), (1, .int (nI i))] := hl
  have hx := B.1
  have hb := B.2.1
  obtain ⟨hO, hn49, hA⟩ := id hL
  refine lv_iload_n hx hb dJ2_rangeCheckForAdd_0 rfl (lv_at hl 1 rfl) ?_
  refine lv_aload_n hx hb dJ2_rangeCheckForAdd_1 rfl (lv_at hl 0 rfl) ?_
  refine xk_get B hI hO rfl in_J2 2 (by decide) q133 rfl dJ2_rangeCheckForAdd_2 ?_
  refine xk_icmp_gt_f (tgt := 12) hx hb (by omega) (by omega) dJ2_rangeCheckForAdd_5 (by decide) (by omega) ?_
  refine lv_iload_n hx hb dJ2_rangeCheckForAdd_8 rfl (lv_at hl 1 rfl) ?_
  refine xk_if_ge_t (tgt := 25) hx hb (by omega) dJ2_rangeCheckForAdd_9 (by decide) trivial ?_
  exact xk_retv B hI hr dJ2_rangeCheckForAdd_25 (Nat.le_of_ble_eq_true rfl) (Nat.le_of_ble_eq_true rfl) (⟨rfl, rfl⟩)
set_option maxHeartbeats 4000000 in
theorem j2_rcfaC (g : xk_G) {X : xk_H} {l a n i : Nat} {ow : Nat × Nat} {mc : Int32} (hO : X l = some (ow, .inr (11, [.int mc, .ref a, .int (nI n)]))) (hi : i ≤ n) (hn : n ≤ 49) : xk_C g yJ2_rangeCheckForAdd (ws_ yJ2_rangeCheckForAdd cJ2_rangeCheckForAdd 2 none) ({ frames := 0, cells := 0, slots := 0, locals := 0 } : Room) [.ref l, .int (nI i)] X (xk_Qv (fun X1 => X1 = X)) := by
  refine xk_ofW (by decide +kernel) (Nat.le_of_ble_eq_true rfl) (fun p e s m args below meth c B hr hname hargs hI ls hl => ?_)
  have B : xk_B g p s m args meth c RJ2 cJ2_rangeCheckForAdd 2 := B
  have hl : lv_has ls 2 [(0, .ref l), (1, .int (nI i))] := hl
  have hx := B.1
  have hb := B.2.1
  refine lv_iload_n hx hb dJ2_rangeCheckForAdd_0 rfl (lv_at hl 1 rfl) ?_
  refine lv_aload_n hx hb dJ2_rangeCheckForAdd_1 rfl (lv_at hl 0 rfl) ?_
  refine xk_get B hI hO rfl in_J2 2 (by decide) q133 rfl dJ2_rangeCheckForAdd_2 ?_
  refine xk_icmp_gt_f (tgt := 12) hx hb (by omega) (by omega) dJ2_rangeCheckForAdd_5 (by decide) (by omega) ?_
  refine lv_iload_n hx hb dJ2_rangeCheckForAdd_8 rfl (lv_at hl 1 rfl) ?_
  refine xk_if_ge_t (tgt := 25) hx hb (by omega) dJ2_rangeCheckForAdd_9 (by decide) trivial ?_
  exact xk_retv B hI hr dJ2_rangeCheckForAdd_25 (Nat.le_of_ble_eq_true rfl) (Nat.le_of_ble_eq_true rfl) (⟨rfl, rfl⟩)
set_option maxHeartbeats 4000000 in
theorem j2_add3A (g : xk_G) {X : xk_H} {l a c9 v : Nat} {ow ow2 : Nat × Nat} {mc : Int32} {h : Nat → Option Nat} (hO : X l = some (ow, .inr (11, [.int mc, .ref a, .int (nI c9)]))) (hA : X a = some (ow2, xk_qA g c9 h)) (hoo : ow ≠ ow2) (hv : xk_is2 g X ow ow2 v) (hob : ∀ i, i < c9 → ∀ y, h i = some y → xk_is2 g X ow ow2 y) (hc1 : 10 ≤ c9) (hc2 : c9 ≤ 33) {i : Nat} (hi : i ≤ c9) : xk_C g yJ2_add_3 (ws_ yJ2_add_3 cJ2_add_3 5 none) ({ frames := 5, cells := 1, slots := c9 + c9 / 2, locals := 105 } : Room) [.ref l, .int (nI i), .ref v] X (xk_Qv (fun X1 => ∃ q, X1 l = some (ow, .inr (11, [.int (mc + nI 1), .ref q, .int (nI (c9 + 1))])) ∧ X1 q = some (ow2, xk_qA g (c9 + c9 / 2) (va_up (va_cpy (va_cpy h (fun _ => none) 0 0 c9) (va_cpy h (fun _ => none) 0 0 c9) i (i + 1) (c9 - i)) i (some v))) ∧ xk_f2 ow ow2 X X1)) := by
  refine xk_ofW (by decide +kernel) (Nat.le_of_ble_eq_true rfl) (fun p e s m args below meth c B hr hname hargs hI ls hl => ?_)
  have B : xk_B g p s m args meth c RJ2 cJ2_add_3 5 := B
  have hl : lv_has ls 5 [(0, .ref l), (1, .int (nI i)), (2, .ref v)] := hl
  have hx := B.1
  have hb := B.2.1
  refine lv_aload_n hx hb dJ2_add_3_0 rfl (lv_at hl 0 rfl) ?_
  refine lv_iload_n hx hb dJ2_add_3_1 rfl (lv_at hl 1 rfl) ?_
  refine xk_rv0 (xk_cV B hI hl [.int (nI i)] [] 1 (j2_rcfaC g hO hi (by omega)) hO rfl (lw_V q786 q788 qs15 q73 q789) ⟨rfl, by decide +kernel, by decide +kernel, by decide +kernel⟩ ⟨Nat.le_of_ble_eq_true rfl, Nat.le_of_ble_eq_true rfl⟩ rfl rfl (Nat.le_of_ble_eq_true rfl) dJ2_add_3_2 (Nat.le_of_ble_eq_true rfl) (by (try dsimp only); omega)) hI (fun H_2 L_3 hI_1 => ?_)
  refine lv_aload_n hx hb dJ2_add_3_5 rfl (lv_at hl 0 rfl) ?_
  refine lv_dup hx hb dJ2_add_3_6 rfl ?_
  refine xk_getU B hI_1 hO rfl in_J2 0 (by decide) q137 (u_same (B.ts _ q136)) rfl dJ2_add_3_7 ?_
  refine lv_iconst (v := nI 1) hx hb dJ2_add_3_10 (by decide) ?_
  refine lv_iadd hx hb dJ2_add_3_11 ?_
  refine xk_putU B hI_1 hO rfl in_J2 tyJ2 tyJ2_ok nmJ2 0 (by decide) q137 (u_same (B.ts _ q136)) rfl rfl rfl (Nat.le_of_ble_eq_true rfl) dJ2_add_3_12 (fun X_4 H_8 L_9 hf_6 hn_5 hI_7 => ?_)
  have hf_6 : X_4 l = some (ow, .inr (11, [.int (mc + (nI 1)), .ref a, .int (nI c9)])) := hf_6
  have hfm_10 : xk_fx (fun o => o = ow ∨ o = ow2) X X_4 := xk_fx.put xk_fx.rf hn_5 hO (Or.inl (Or.inl rfl))
  refine lv_aload_n hx hb dJ2_add_3_15 rfl (lv_at hl 0 rfl) ?_
  refine xk_get B hI_7 hf_6 rfl in_J2 2 (by decide) q133 rfl dJ2_add_3_16 ?_
  refine lv_dup hx hb dJ2_add_3_19 rfl ?_
  refine lv_istore_n (lv' := [(3, .int (nI c9)), (0, .ref l), (1, .int (nI i)), (2, .ref v)]) hx hb dJ2_add_3_20 rfl hl (by decide) rfl (fun ls hl => ?_)
  refine lv_aload_n hx hb dJ2_add_3_21 rfl (lv_at hl 1 rfl) ?_
  refine xk_get B hI_7 hf_6 rfl in_J2 1 (by decide) q130 rfl dJ2_add_3_22 ?_
  refine lv_dup hx hb dJ2_add_3_25 rfl ?_
  refine lv_astore (lv' := [(4, .ref a), (3, .int (nI c9)), (0, .ref l), (1, .int (nI i)), (2, .ref v)]) hx hb dJ2_add_3_26 hl (by decide) rfl (fun ls hl => ?_)
  have hf_11 := xk_off hn_5 hA hO (Ne.symm hoo)
  refine xk_alen B hI_7 hf_11 rfl dJ2_add_3_28 ?_
  refine xk_icmp_ne_f (tgt := 38) hx hb (by omega) (by omega) dJ2_add_3_29 (by decide) rfl ?_
  refine lv_aload_n hx hb dJ2_add_3_32 rfl (lv_at hl 2 rfl) ?_
  refine xk_rr (xk_cV B hI_7 hl [] [] 0 (j2_growA g hf_6 hf_11 hoo (fun i hi y hy => ((hob i hi y hy).fx hfm_10).o) hc1 hc2) hf_6 rfl (lw_V q476 q478 qs4 q73 q479) ⟨rfl, by decide +kernel, by decide +kernel, by decide +kernel⟩ ⟨Nat.le_of_ble_eq_true rfl, Nat.le_of_ble_eq_true rfl⟩ rfl rfl (Nat.le_of_ble_eq_true rfl) dJ2_add_3_33 (Nat.le_of_ble_eq_true rfl) (by (try dsimp only); omega)) hI_7 (fun q_17 X_15 H_13 L_14 hq_16 hI_12 => ?_)
  obtain ⟨hf_18, hf_19, hf2_20⟩ := hq_16
  have hfm_21 : xk_fx (fun o => o = ow ∨ o = ow2) X X_15 := xk_fx.tr hfm_10 hf2_20 (fun a o e q z => z.elim (fun z => (Or.inl z)) (fun z => (Or.inr z)))
  refine lv_astore (lv' := [(4, .ref q_17), (3, .int (nI c9)), (0, .ref l), (1, .int (nI i)), (2, .ref v)]) hx hb dJ2_add_3_36 hl (by decide) rfl (fun ls hl => ?_)
  refine lv_aload hx hb dJ2_add_3_38 (lv_at hl 0 rfl) ?_
  refine lv_iload_n hx hb dJ2_add_3_40 rfl (lv_at hl 3 rfl) ?_
  refine lv_aload hx hb dJ2_add_3_41 (lv_at hl 0 rfl) ?_
  refine lv_iload_n hx hb dJ2_add_3_43 rfl (lv_at hl 3 rfl) ?_
  refine lv_iconst (v := nI 1) hx hb dJ2_add_3_44 (by decide) ?_
  refine lv_iadd hx hb dJ2_add_3_45 (xk_top (nI_add _ _) ?_)
  refine lv_iload_n hx hb dJ2_add_3_46 rfl (lv_at hl 1 rfl) ?_
  refine lv_iload_n hx hb dJ2_add_3_47 rfl (lv_at hl 3 rfl) ?_
  refine lv_isub hx hb dJ2_add_3_48 (xk_top (pk_sub (by omega)) ?_)
  refine xk_copyq B hI_12 (B.2.2.1.trans hl.1.symm) q790 q527 q526 q89 hf_18 hf_18 (by omega) (by omega) (by omega) (by omega) (fun i9 hi9 y9 hy9 => ((hob (i + i9) (by omega) y9 (by rw [← hy9]; unfold va_cpy; rw [if_pos (by omega), show 0 + (i + i9 - 0) = i + i9 by omega])).fx hfm_21).o.ob B hI_12) (Nat.le_of_ble_eq_true rfl) (Nat.le_of_ble_eq_true rfl) dJ2_add_3_49 (fun X_22 H_26 L_27 hf_24 hn_23 hI_25 => ?_)
  have hfm_28 : xk_fx (fun o => o = ow ∨ o = ow2) X X_22 := xk_fx.put hfm_21 hn_23 hf_18 (Or.inl (Or.inr rfl))
  refine lv_aload hx hb dJ2_add_3_52 (lv_at hl 0 rfl) ?_
  refine lv_iload_n hx hb dJ2_add_3_54 rfl (lv_at hl 3 rfl) ?_
  refine lv_aload_n hx hb dJ2_add_3_55 rfl (lv_at hl 4 rfl) ?_
  refine xk_aastO B hI_25 hf_24 ((hv.fx hfm_28).o.ob B hI_25) (by omega) (by omega) dJ2_add_3_56 (fun X_29 H_33 L_34 hf_31 hn_30 hI_32 => ?_)
  have hfm_35 : xk_fx (fun o => o = ow ∨ o = ow2) X X_29 := xk_fx.put hfm_28 hn_30 hf_24 (Or.inl (Or.inr rfl))
  refine lv_aload_n hx hb dJ2_add_3_57 rfl (lv_at hl 2 rfl) ?_
  refine lv_iload_n hx hb dJ2_add_3_58 rfl (lv_at hl 1 rfl) ?_
  refine lv_iconst (v := nI 1) hx hb dJ2_add_3_59 (by decide) ?_
  refine lv_iadd hx hb dJ2_add_3_60 (xk_top (nI_add _ _) ?_)
  have hf_36 := xk_off hn_23 hf_19 hf_18 hoo
  have hf_37 := xk_off hn_30 hf_36 hf_24 hoo
  refine xk_put B hI_32 hf_37 rfl in_J2 tyJ2 tyJ2_ok nmJ2 2 (by decide) q133 rfl rfl rfl (Nat.le_of_ble_eq_true rfl) dJ2_add_3_61 (fun X_38 H_42 L_43 hf_40 hn_39 hI_41 => ?_)
  have hf_40 : X_38 l = some (ow, .inr (11, [.int (mc + (nI 1)), .ref q_17, .int (nI (c9 + 1))])) := hf_40
  have hfm_44 : xk_fx (fun o => o = ow ∨ o = ow2) X X_38 := xk_fx.put hfm_35 hn_39 hf_37 (Or.inl (Or.inl rfl))
  have hf_45 := xk_off hn_39 hf_31 hf_37 (Ne.symm hoo)
  exact xk_retv B hI_41 hr dJ2_add_3_64 (Nat.le_of_ble_eq_true rfl) (by (try dsimp only); omega) (⟨rfl, _, hf_40, hf_45, hfm_44⟩)
set_option maxHeartbeats 4000000 in
theorem j2_add3E (g : xk_G) {X : xk_H} {l v : Nat} {ow ow2 : Nat × Nat} {mc : Int32} (hO : X l = some (ow, .inr (11, [.int mc, .ref (xk_Em g), .int (nI 0)]))) (hoo : ow ≠ ow2) (hv : xk_is2 g X ow ow2 v) {i : Nat} (hi : i ≤ 0) : xk_C g yJ2_add_3 (ws_ yJ2_add_3 cJ2_add_3 5 none) ({ frames := 5, cells := 1, slots := 10, locals := 105 } : Room) [.ref l, .int (nI i), .ref v] X (xk_Qv (fun X1 => ∃ q, X1 l = some (ow, .inr (11, [.int (mc + nI 1), .ref q, .int (nI (1))])) ∧ X1 q = some (ow2, xk_qA g (10) (va_up (va_cpy (fun _ => none) (fun _ => none) i (i + 1) (0 - i)) i (some v))) ∧ xk_f2 ow ow2 X X1)) := by
  refine xk_ofW (by decide +kernel) (Nat.le_of_ble_eq_true rfl) (fun p e s m args below meth c B hr hname hargs hI ls hl => ?_)
  have B : xk_B g p s m args meth c RJ2 cJ2_add_3 5 := B
  have hl : lv_has ls 5 [(0, .ref l), (1, .int (nI i)), (2, .ref v)] := hl
  have hx := B.1
  have hb := B.2.1
  refine lv_aload_n hx hb dJ2_add_3_0 rfl (lv_at hl 0 rfl) ?_
  refine lv_iload_n hx hb dJ2_add_3_1 rfl (lv_at hl 1 rfl) ?_
  refine xk_rv0 (xk_cV B hI hl [.int (nI i)] [] 1 (j2_rcfaC g hO hi (by omega)) hO rfl (lw_V q786 q788 qs15 q73 q789) ⟨rfl, by decide +kernel, by decide +kernel, by decide +kernel⟩ ⟨Nat.le_of_ble_eq_true rfl, Nat.le_of_ble_eq_true rfl⟩ rfl rfl (Nat.le_of_ble_eq_true rfl) dJ2_add_3_2 (Nat.le_of_ble_eq_true rfl) (Nat.le_of_ble_eq_true rfl)) hI (fun H_2 L_3 hI_1 => ?_)
  refine lv_aload_n hx hb dJ2_add_3_5 rfl (lv_at hl 0 rfl) ?_
  refine lv_dup hx hb dJ2_add_3_6 rfl ?_
  refine xk_getU B hI_1 hO rfl in_J2 0 (by decide) q137 (u_same (B.ts _ q136)) rfl dJ2_add_3_7 ?_
  refine lv_iconst (v := nI 1) hx hb dJ2_add_3_10 (by decide) ?_
  refine lv_iadd hx hb dJ2_add_3_11 ?_
  refine xk_putU B hI_1 hO rfl in_J2 tyJ2 tyJ2_ok nmJ2 0 (by decide) q137 (u_same (B.ts _ q136)) rfl rfl rfl (Nat.le_of_ble_eq_true rfl) dJ2_add_3_12 (fun X_4 H_8 L_9 hf_6 hn_5 hI_7 => ?_)
  have hf_6 : X_4 l = some (ow, .inr (11, [.int (mc + (nI 1)), .ref (xk_Em g), .int (nI 0)])) := hf_6
  have hfm_10 : xk_fx (fun o => o = ow ∨ o = ow2) X X_4 := xk_fx.put xk_fx.rf hn_5 hO (Or.inl (Or.inl rfl))
  refine lv_aload_n hx hb dJ2_add_3_15 rfl (lv_at hl 0 rfl) ?_
  refine xk_get B hI_7 hf_6 rfl in_J2 2 (by decide) q133 rfl dJ2_add_3_16 ?_
  refine lv_dup hx hb dJ2_add_3_19 rfl ?_
  refine lv_istore_n (lv' := [(3, .int (nI 0)), (0, .ref l), (1, .int (nI i)), (2, .ref v)]) hx hb dJ2_add_3_20 rfl hl (by decide) rfl (fun ls hl => ?_)
  refine lv_aload_n hx hb dJ2_add_3_21 rfl (lv_at hl 1 rfl) ?_
  refine xk_get B hI_7 hf_6 rfl in_J2 1 (by decide) q130 rfl dJ2_add_3_22 ?_
  refine lv_dup hx hb dJ2_add_3_25 rfl ?_
  refine lv_astore (lv' := [(4, .ref (xk_Em g)), (3, .int (nI 0)), (0, .ref l), (1, .int (nI i)), (2, .ref v)]) hx hb dJ2_add_3_26 hl (by decide) rfl (fun ls hl => ?_)
  refine xk_alenO B hI_7 (xk_stE B.K.2.2.2.2).2 dJ2_add_3_28 ?_
  refine xk_icmp_ne_f (tgt := 38) hx hb (by omega) (by omega) dJ2_add_3_29 (by decide) rfl ?_
  refine lv_aload_n hx hb dJ2_add_3_32 rfl (lv_at hl 2 rfl) ?_
  refine xk_rr (xk_cV B hI_7 hl [] [] 0 (j2_growE g hf_6 hoo) hf_6 rfl (lw_V q476 q478 qs4 q73 q479) ⟨rfl, by decide +kernel, by decide +kernel, by decide +kernel⟩ ⟨Nat.le_of_ble_eq_true rfl, Nat.le_of_ble_eq_true rfl⟩ rfl rfl (Nat.le_of_ble_eq_true rfl) dJ2_add_3_33 (Nat.le_of_ble_eq_true rfl) (Nat.le_of_ble_eq_true rfl)) hI_7 (fun q_16 X_14 H_12 L_13 hq_15 hI_11 => ?_)
  obtain ⟨hf_17, hf_18, hf2_19⟩ := hq_15
  have hfm_20 : xk_fx (fun o => o = ow ∨ o = ow2) X X_14 := xk_fx.tr hfm_10 hf2_19 (fun a o e q z => z.elim (fun z => (Or.inl z)) (fun z => (Or.inr z)))
  refine lv_astore (lv' := [(4, .ref q_16), (3, .int (nI 0)), (0, .ref l), (1, .int (nI i)), (2, .ref v)]) hx hb dJ2_add_3_36 hl (by decide) rfl (fun ls hl => ?_)
  refine lv_aload hx hb dJ2_add_3_38 (lv_at hl 0 rfl) ?_
  refine lv_iload_n hx hb dJ2_add_3_40 rfl (lv_at hl 3 rfl) ?_
  refine lv_aload hx hb dJ2_add_3_41 (lv_at hl 0 rfl) ?_
  refine lv_iload_n hx hb dJ2_add_3_43 rfl (lv_at hl 3 rfl) ?_
  refine lv_iconst (v := nI 1) hx hb dJ2_add_3_44 (by decide) ?_
  refine lv_iadd hx hb dJ2_add_3_45 (xk_top (nI_add _ _) ?_)
  refine lv_iload_n hx hb dJ2_add_3_46 rfl (lv_at hl 1 rfl) ?_
  refine lv_iload_n hx hb dJ2_add_3_47 rfl (lv_at hl 3 rfl) ?_
  refine lv_isub hx hb dJ2_add_3_48 (xk_top (pk_sub (by omega)) ?_)
  refine xk_copyq B hI_11 (B.2.2.1.trans hl.1.symm) q790 q527 q526 q89 hf_17 hf_17 (by omega) (by omega) (by omega) (by omega) (fun i9 hi9 y9 hy9 => by omega) (Nat.le_of_ble_eq_true rfl) (Nat.le_of_ble_eq_true rfl) dJ2_add_3_49 (fun X_21 H_25 L_26 hf_23 hn_22 hI_24 => ?_)
  have hfm_27 : xk_fx (fun o => o = ow ∨ o = ow2) X X_21 := xk_fx.put hfm_20 hn_22 hf_17 (Or.inl (Or.inr rfl))
  refine lv_aload hx hb dJ2_add_3_52 (lv_at hl 0 rfl) ?_
  refine lv_iload_n hx hb dJ2_add_3_54 rfl (lv_at hl 3 rfl) ?_
  refine lv_aload_n hx hb dJ2_add_3_55 rfl (lv_at hl 4 rfl) ?_
  refine xk_aastO B hI_24 hf_23 ((hv.fx hfm_27).o.ob B hI_24) (by omega) (by decide) dJ2_add_3_56 (fun X_28 H_32 L_33 hf_30 hn_29 hI_31 => ?_)
  have hfm_34 : xk_fx (fun o => o = ow ∨ o = ow2) X X_28 := xk_fx.put hfm_27 hn_29 hf_23 (Or.inl (Or.inr rfl))
  refine lv_aload_n hx hb dJ2_add_3_57 rfl (lv_at hl 2 rfl) ?_
  refine lv_iload_n hx hb dJ2_add_3_58 rfl (lv_at hl 1 rfl) ?_
  refine lv_iconst (v := nI 1) hx hb dJ2_add_3_59 (by decide) ?_
  refine lv_iadd hx hb dJ2_add_3_60 (xk_top (y := nI 1) (by decide) ?_)
  have hf_35 := xk_off hn_22 hf_18 hf_17 hoo
  have hf_36 := xk_off hn_29 hf_35 hf_23 hoo
  refine xk_put B hI_31 hf_36 rfl in_J2 tyJ2 tyJ2_ok nmJ2 2 (by decide) q133 rfl rfl rfl (Nat.le_of_ble_eq_true rfl) dJ2_add_3_61 (fun X_37 H_41 L_42 hf_39 hn_38 hI_40 => ?_)
  have hf_39 : X_37 l = some (ow, .inr (11, [.int (mc + (nI 1)), .ref q_16, .int (nI 1)])) := hf_39
  have hfm_43 : xk_fx (fun o => o = ow ∨ o = ow2) X X_37 := xk_fx.put hfm_34 hn_38 hf_36 (Or.inl (Or.inl rfl))
  have hf_44 := xk_off hn_38 hf_30 hf_36 (Ne.symm hoo)
  exact xk_retv B hI_40 hr dJ2_add_3_64 (Nat.le_of_ble_eq_true rfl) (Nat.le_of_ble_eq_true rfl) (⟨rfl, _, hf_39, hf_44, hfm_43⟩)
set_option maxHeartbeats 4000000 in
theorem j2_add3R (g : xk_G) {X : xk_H} {l a n c9 v : Nat} {ow ow2 : Nat × Nat} {mc : Int32} {h : Nat → Option Nat} (hO : X l = some (ow, .inr (11, [.int mc, .ref a, .int (nI n)]))) (hA : X a = some (ow2, xk_qA g c9 h)) (hoo : ow ≠ ow2) (hv : xk_is2 g X ow ow2 v) (hn : n < c9) (hc2 : c9 ≤ 49) {i : Nat} (hi : i ≤ n) (hob : ∀ i, i < n → ∀ y, h i = some y → xk_is2 g X ow ow2 y) : xk_C g yJ2_add_3 (ws_ yJ2_add_3 cJ2_add_3 5 none) ({ frames := 5, cells := 0, slots := 0, locals := 105 } : Room) [.ref l, .int (nI i), .ref v] X (xk_Qv (fun X1 => ∃ q, X1 l = some (ow, .inr (11, [.int (mc + nI 1), .ref q, .int (nI (n + 1))])) ∧ X1 q = some (ow2, xk_qA g (c9) (va_up (va_cpy (h) (h) i (i + 1) (n - i)) i (some v))) ∧ xk_f2 ow ow2 X X1)) := by
  refine xk_ofW (by decide +kernel) (Nat.le_of_ble_eq_true rfl) (fun p e s m args below meth c B hr hname hargs hI ls hl => ?_)
  have B : xk_B g p s m args meth c RJ2 cJ2_add_3 5 := B
  have hl : lv_has ls 5 [(0, .ref l), (1, .int (nI i)), (2, .ref v)] := hl
  have hx := B.1
  have hb := B.2.1
  refine lv_aload_n hx hb dJ2_add_3_0 rfl (lv_at hl 0 rfl) ?_
  refine lv_iload_n hx hb dJ2_add_3_1 rfl (lv_at hl 1 rfl) ?_
  refine xk_rv0 (xk_cV B hI hl [.int (nI i)] [] 1 (j2_rcfaC g hO hi (by omega)) hO rfl (lw_V q786 q788 qs15 q73 q789) ⟨rfl, by decide +kernel, by decide +kernel, by decide +kernel⟩ ⟨Nat.le_of_ble_eq_true rfl, Nat.le_of_ble_eq_true rfl⟩ rfl rfl (Nat.le_of_ble_eq_true rfl) dJ2_add_3_2 (Nat.le_of_ble_eq_true rfl) (Nat.le_of_ble_eq_true rfl)) hI (fun H_2 L_3 hI_1 => ?_)
  refine lv_aload_n hx hb dJ2_add_3_5 rfl (lv_at hl 0 rfl) ?_
  refine lv_dup hx hb dJ2_add_3_6 rfl ?_
  refine xk_getU B hI_1 hO rfl in_J2 0 (by decide) q137 (u_same (B.ts _ q136)) rfl dJ2_add_3_7 ?_
  refine lv_iconst (v := nI 1) hx hb dJ2_add_3_10 (by decide) ?_
  refine lv_iadd hx hb dJ2_add_3_11 ?_
  refine xk_putU B hI_1 hO rfl in_J2 tyJ2 tyJ2_ok nmJ2 0 (by decide) q137 (u_same (B.ts _ q136)) rfl rfl rfl (Nat.le_of_ble_eq_true rfl) dJ2_add_3_12 (fun X_4 H_8 L_9 hf_6 hn_5 hI_7 => ?_)
  have hf_6 : X_4 l = some (ow, .inr (11, [.int (mc + (nI 1)), .ref a, .int (nI n)])) := hf_6
  have hfm_10 : xk_fx (fun o => o = ow ∨ o = ow2) X X_4 := xk_fx.put xk_fx.rf hn_5 hO (Or.inl (Or.inl rfl))
  refine lv_aload_n hx hb dJ2_add_3_15 rfl (lv_at hl 0 rfl) ?_
  refine xk_get B hI_7 hf_6 rfl in_J2 2 (by decide) q133 rfl dJ2_add_3_16 ?_
  refine lv_dup hx hb dJ2_add_3_19 rfl ?_
  refine lv_istore_n (lv' := [(3, .int (nI n)), (0, .ref l), (1, .int (nI i)), (2, .ref v)]) hx hb dJ2_add_3_20 rfl hl (by decide) rfl (fun ls hl => ?_)
  refine lv_aload_n hx hb dJ2_add_3_21 rfl (lv_at hl 1 rfl) ?_
  refine xk_get B hI_7 hf_6 rfl in_J2 1 (by decide) q130 rfl dJ2_add_3_22 ?_
  refine lv_dup hx hb dJ2_add_3_25 rfl ?_
  refine lv_astore (lv' := [(4, .ref a), (3, .int (nI n)), (0, .ref l), (1, .int (nI i)), (2, .ref v)]) hx hb dJ2_add_3_26 hl (by decide) rfl (fun ls hl => ?_)
  have hf_11 := xk_off hn_5 hA hO (Ne.symm hoo)
  refine xk_alen B hI_7 hf_11 rfl dJ2_add_3_28 ?_
  refine xk_icmp_ne_t (tgt := 38) hx hb (by omega) (by omega) dJ2_add_3_29 (by decide) (by omega) ?_
  refine lv_aload hx hb dJ2_add_3_38 (lv_at hl 0 rfl) ?_
  refine lv_iload_n hx hb dJ2_add_3_40 rfl (lv_at hl 3 rfl) ?_
  refine lv_aload hx hb dJ2_add_3_41 (lv_at hl 0 rfl) ?_
  refine lv_iload_n hx hb dJ2_add_3_43 rfl (lv_at hl 3 rfl) ?_
  refine lv_iconst (v := nI 1) hx hb dJ2_add_3_44 (by decide) ?_
  refine lv_iadd hx hb dJ2_add_3_45 (xk_top (nI_add _ _) ?_)
  refine lv_iload_n hx hb dJ2_add_3_46 rfl (lv_at hl 1 rfl) ?_
  refine lv_iload_n hx hb dJ2_add_3_47 rfl (lv_at hl 3 rfl) ?_
  refine lv_isub hx hb dJ2_add_3_48 (xk_top (pk_sub (by omega)) ?_)
  refine xk_copyq B hI_7 (B.2.2.1.trans hl.1.symm) q790 q527 q526 q89 hf_11 hf_11 (by omega) (by omega) (by omega) (by omega) (fun i9 hi9 y9 hy9 => ((hob (i + i9) (by omega) y9 hy9).fx hfm_10).o.ob B hI_7) (Nat.le_of_ble_eq_true rfl) (Nat.le_of_ble_eq_true rfl) dJ2_add_3_49 (fun X_12 H_16 L_17 hf_14 hn_13 hI_15 => ?_)
  have hfm_18 : xk_fx (fun o => o = ow ∨ o = ow2) X X_12 := xk_fx.put hfm_10 hn_13 hf_11 (Or.inl (Or.inr rfl))
  refine lv_aload hx hb dJ2_add_3_52 (lv_at hl 0 rfl) ?_
  refine lv_iload_n hx hb dJ2_add_3_54 rfl (lv_at hl 3 rfl) ?_
  refine lv_aload_n hx hb dJ2_add_3_55 rfl (lv_at hl 4 rfl) ?_
  refine xk_aastO B hI_15 hf_14 ((hv.fx hfm_18).o.ob B hI_15) (by omega) (by omega) dJ2_add_3_56 (fun X_19 H_23 L_24 hf_21 hn_20 hI_22 => ?_)
  have hfm_25 : xk_fx (fun o => o = ow ∨ o = ow2) X X_19 := xk_fx.put hfm_18 hn_20 hf_14 (Or.inl (Or.inr rfl))
  refine lv_aload_n hx hb dJ2_add_3_57 rfl (lv_at hl 2 rfl) ?_
  refine lv_iload_n hx hb dJ2_add_3_58 rfl (lv_at hl 1 rfl) ?_
  refine lv_iconst (v := nI 1) hx hb dJ2_add_3_59 (by decide) ?_
  refine lv_iadd hx hb dJ2_add_3_60 (xk_top (nI_add _ _) ?_)
  have hf_26 := xk_off hn_13 hf_6 hf_11 hoo
  have hf_27 := xk_off hn_20 hf_26 hf_14 hoo
  refine xk_put B hI_22 hf_27 rfl in_J2 tyJ2 tyJ2_ok nmJ2 2 (by decide) q133 rfl rfl rfl (Nat.le_of_ble_eq_true rfl) dJ2_add_3_61 (fun X_28 H_32 L_33 hf_30 hn_29 hI_31 => ?_)
  have hf_30 : X_28 l = some (ow, .inr (11, [.int (mc + (nI 1)), .ref a, .int (nI (n + 1))])) := hf_30
  have hfm_34 : xk_fx (fun o => o = ow ∨ o = ow2) X X_28 := xk_fx.put hfm_25 hn_29 hf_27 (Or.inl (Or.inl rfl))
  have hf_35 := xk_off hn_29 hf_21 hf_27 (Ne.symm hoo)
  exact xk_retv B hI_31 hr dJ2_add_3_64 (Nat.le_of_ble_eq_true rfl) (Nat.le_of_ble_eq_true rfl) (⟨rfl, _, hf_30, hf_35, hfm_34⟩)
set_option maxHeartbeats 4000000 in
theorem j0_init (g : xk_G) {X : xk_H} {l : Nat} : xk_C g yJ0_init (ws_ yJ0_init cJ0_init 1 none) ({ frames := 1, cells := 0, slots := 0, locals := 12 } : Room) [.ref l] X (xk_Qv (fun X1 => X1 = X)) := by
  refine xk_ofW (by decide +kernel) (Nat.le_of_ble_eq_true rfl) (fun p e s m args below meth c B hr hname hargs hI ls hl => ?_)
  have B : xk_B g p s m args meth c RJ0 cJ0_init 1 := B
  have hl : lv_has ls 1 [(0, .ref l)] := hl
  have hx := B.1
  have hb := B.2.1
  refine lv_aload_n hx hb dJ0_init_0 rfl (lv_at hl 0 rfl) ?_
  refine W.objInit hx hb B.ow (B.ts _ q127) (B.ts _ q108) (B.ts _ q109) rfl (by rw [B.2.2.1]; exact hl.1) rfl dJ0_init_1 (Nat.le_of_ble_eq_true rfl) (Nat.le_of_ble_eq_true rfl) ?_
  refine W.eq (g2 := F0 m 4 ls []) rfl ?_
  exact xk_retv B hI hr dJ0_init_4 (Nat.le_of_ble_eq_true rfl) (Nat.le_of_ble_eq_true rfl) (⟨rfl, rfl⟩)
set_option maxHeartbeats 4000000 in
theorem j1_init (g : xk_G) {X : xk_H} {l : Nat} {ow : Nat × Nat} (hO : X l = some (ow, .inr (11, [.int (nI 0), .null, .int (nI 0)]))) : xk_C g yJ1_init (ws_ yJ1_init cJ1_init 1 none) ({ frames := 2, cells := 0, slots := 0, locals := 32 } : Room) [.ref l] X (xk_Qv (fun X1 => X1 l = some (ow, .inr (11, [.int (nI 0), .null, .int (nI 0)])) ∧ xk_f1 ow X X1)) := by
  refine xk_ofW (by decide +kernel) (Nat.le_of_ble_eq_true rfl) (fun p e s m args below meth c B hr hname hargs hI ls hl => ?_)
  have B : xk_B g p s m args meth c RJ1 cJ1_init 1 := B
  have hl : lv_has ls 1 [(0, .ref l)] := hl
  have hx := B.1
  have hb := B.2.1
  refine lv_aload_n hx hb dJ1_init_0 rfl (lv_at hl 0 rfl) ?_
  refine xk_rv0 (xk_cI B hI hl [] [] 0 (j0_init g) q126 q71 q124 q125 rfl ⟨by decide +kernel, by decide +kernel, by decide +kernel⟩ ⟨Nat.le_of_ble_eq_true rfl, Nat.le_of_ble_eq_true rfl⟩ rfl rfl (Nat.le_of_ble_eq_true rfl) dJ1_init_1 (Nat.le_of_ble_eq_true rfl) (Nat.le_of_ble_eq_true rfl)) hI (fun H_2 L_3 hI_1 => ?_)
  refine lv_aload_n hx hb dJ1_init_4 rfl (lv_at hl 0 rfl) ?_
  refine lv_iconst (v := nI 0) hx hb dJ1_init_5 (by decide) ?_
  refine xk_put B hI_1 hO rfl in_J2 tyJ2 tyJ2_ok nmJ2 0 (by decide) q134 rfl rfl rfl (Nat.le_of_ble_eq_true rfl) dJ1_init_6 (fun X_4 H_8 L_9 hf_6 hn_5 hI_7 => ?_)
  have hf_6 : X_4 l = some (ow, .inr (11, [.int (nI 0), .null, .int (nI 0)])) := hf_6
  have hfm_10 : xk_fx (fun o => o = ow) X X_4 := xk_fx.put xk_fx.rf hn_5 hO (Or.inl rfl)
  exact xk_retv B hI_7 hr dJ1_init_9 (Nat.le_of_ble_eq_true rfl) (Nat.le_of_ble_eq_true rfl) (⟨rfl, hf_6, hfm_10⟩)
set_option maxHeartbeats 4000000 in
theorem j2_init (g : xk_G) {X : xk_H} {l : Nat} {ow : Nat × Nat} (hO : X l = some (ow, .inr (11, [.int (nI 0), .null, .int (nI 0)]))) {ow2 : Nat × Nat} {pp : Nat → Nat} : xk_C g yJ2_init (ws_ yJ2_init cJ2_init 1 none) ({ frames := 3, cells := 0, slots := 0, locals := 52 } : Room) [.ref l] X (xk_Qv (fun X1 => tb_L g X1 l (xk_Em g) ow ow2 (nI 0) 0 pp ∧ xk_f1 ow X X1)) := by
  refine xk_ofW (by decide +kernel) (Nat.le_of_ble_eq_true rfl) (fun p e s m args below meth c B hr hname hargs hI ls hl => ?_)
  have B : xk_B g p s m args meth c RJ2 cJ2_init 1 := B
  have hl : lv_has ls 1 [(0, .ref l)] := hl
  have hx := B.1
  have hb := B.2.1
  refine lv_aload_n hx hb dJ2_init_0 rfl (lv_at hl 0 rfl) ?_
  refine xk_rv (xk_cI B hI hl [] [] 0 (j1_init g hO) q123 q72 q121 q122 rfl ⟨by decide +kernel, by decide +kernel, by decide +kernel⟩ ⟨Nat.le_of_ble_eq_true rfl, Nat.le_of_ble_eq_true rfl⟩ rfl rfl (Nat.le_of_ble_eq_true rfl) dJ2_init_1 (Nat.le_of_ble_eq_true rfl) (Nat.le_of_ble_eq_true rfl)) hI (fun X_4 H_2 L_3 hq_5 hI_1 => ?_)
  obtain ⟨hf_6, hf1_7⟩ := hq_5
  have hfm_8 : xk_fx (fun o => o = ow) X X_4 := xk_fx.tr xk_fx.rf hf1_7 (fun a o e q z => z)
  refine lv_aload_n hx hb dJ2_init_4 rfl (lv_at hl 0 rfl) ?_
  refine xk_gets B hI_1 (v := .ref (xk_Em g)) (xk_stE B.K.2.2.2.2).1 q128 dJ2_init_5 ?_
  refine xk_put B hI_1 hf_6 rfl in_J2 tyJ2 tyJ2_ok nmJ2 1 (by decide) q130 rfl rfl rfl (Nat.le_of_ble_eq_true rfl) dJ2_init_8 (fun X_9 H_13 L_14 hf_11 hn_10 hI_12 => ?_)
  have hf_11 : X_9 l = some (ow, .inr (11, [.int (nI 0), .ref (xk_Em g), .int (nI 0)])) := hf_11
  have hfm_15 : xk_fx (fun o => o = ow) X X_9 := xk_fx.put hfm_8 hn_10 hf_6 (Or.inl rfl)
  exact xk_retv B hI_12 hr dJ2_init_11 (Nat.le_of_ble_eq_true rfl) (Nat.le_of_ble_eq_true rfl) (⟨rfl, ⟨hf_11, by decide, Or.inl ⟨rfl, rfl⟩⟩, hfm_15⟩)
