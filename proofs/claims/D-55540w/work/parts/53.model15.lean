/-! the model: walks, printed by tools/model.py -/
set_option maxRecDepth 100000
def tl_m00 : Nat → Nat := va_up (va_up (fun _ => 0) 4 1) 5 8
def tl_m01 : Nat → Nat → Nat
  | 0 => id
  | k + 1 => fun j => if j = 6 + k then 1 else tl_m01 k j
def tl_mini : Nat → (Nat → Nat)
  | 0 => tl_m00
  | k + 1 => va_up (tl_mini k) (6 + k) 1
set_option maxHeartbeats 4000000 in
theorem m2_init (g : xk_G) {X : xk_H} {o : Nat} (hO : X o = some ((o, 0), .inr (0, [.null, .null, .null, .null, .int (nI 0), .null, .int (nI 0), .int (nI 0), .int (nI 0), .int (nI 0), .null, .int (nI 0), .null, .null, .null, .int (nI 0), .null, .int (nI 0), .int (nI 0), .int (nI 0), .int (nI 0)]))) : xk_C g yX2_init (ws_ yX2_init cX2_init 2 none) ({ frames := 1, cells := 10, slots := 4022, locals := 12 } : Room) [.ref o] X (xk_Qv (fun X1 => ∃ (ad : Nat → Nat) (A : Nat → Nat → Nat) (S : Nat → Nat), tm_Ok g X1 o ad A S ∧ A 0 = tl_mini 8 ∧ (∀ i, i ≠ 0 → A i = fun _ => 0) ∧ (∀ i, S i = 0) ∧ xk_fr o X X1)) := by
  refine xk_ofW (by decide +kernel) (Nat.le_of_ble_eq_true rfl) (fun p e s m args below meth c B hr hname hargs hI ls hl => ?_)
  have B : xk_B g p s m args meth c RX2 cX2_init 2 := B
  have hl : lv_has ls 2 [(0, .ref o)] := hl
  have hx := B.1
  have hb := B.2.1
  have hfr : xk_fr o X X := xk_fr.rf
  refine lv_aload_n hx hb dX2_init_0 rfl (lv_at hl 0 rfl) ?_
  refine W.objInit hx hb B.ow (B.ts _ q1431) (B.ts _ q108) (B.ts _ q109) rfl (by rw [B.2.2.1]; exact hl.1) rfl dX2_init_1 (Nat.le_of_ble_eq_true rfl) (Nat.le_of_ble_eq_true rfl) ?_
  refine W.eq (g2 := F0 m 4 ls []) rfl ?_
  refine lv_aload_n hx hb dX2_init_4 rfl (lv_at hl 0 rfl) ?_
  refine lv_sipush (v := nI 294) hx hb dX2_init_5 (by decide) ?_
  refine xk_newi B hI (fun q9 => (o, 1)) 0 (atype := .int) (nm := "[I") q174 rfl rfl (fun _ h => h) (n := 294) (by decide) (fun _ => rfl) (Nat.le_of_ble_eq_true rfl) (Nat.le_of_ble_eq_true rfl) (Nat.le_of_ble_eq_true rfl) dX2_init_8 (fun q_1 X_2 H_3 h0_4 hf_5 hn_6 hI_7 => ?_)
  have hle_8 := xk_le.fresh h0_4 hn_6
  have hfr_9 := xk_fr.new hfr h0_4 hn_6
  have hf_10 := hle_8 _ _ hO
  refine xk_putF B hI_7 hname hf_10 rfl in_X2 tyX2 tyX2_ok nmX2 0 (by decide) q1432 rfl rfl rfl rfl (Nat.le_of_ble_eq_true rfl) dX2_init_10 (fun X_11 H_15 L_16 hf_13 hn_12 hI_14 => ?_)
  have hf_13 : X_11 o = some ((o, 0), .inr (0, [.ref q_1, .null, .null, .null, .int (nI 0), .null, .int (nI 0), .int (nI 0), .int (nI 0), .int (nI 0), .null, .int (nI 0), .null, .null, .null, .int (nI 0), .null, .int (nI 0), .int (nI 0), .int (nI 0), .int (nI 0)])) := hf_13
  have hfr_17 := xk_fr.put hfr_9 hf_10 hn_12
  refine lv_aload_n hx hb dX2_init_13 rfl (lv_at hl 0 rfl) ?_
  refine lv_sipush (v := nI 294) hx hb dX2_init_14 (by decide) ?_
  refine xk_newi B hI_14 (fun q9 => (o, 2)) 0 (atype := .int) (nm := "[I") q174 rfl rfl (fun _ h => h) (n := 294) (by decide) (fun _ => rfl) (Nat.le_of_ble_eq_true rfl) (Nat.le_of_ble_eq_true rfl) (Nat.le_of_ble_eq_true rfl) dX2_init_17 (fun q_18 X_19 H_20 h0_21 hf_22 hn_23 hI_24 => ?_)
  have hle_25 := xk_le.fresh h0_21 hn_23
  have hfr_26 := xk_fr.new hfr_17 h0_21 hn_23
  have hf_27 := hle_25 _ _ hf_13
  refine xk_putF B hI_24 hname hf_27 rfl in_X2 tyX2 tyX2_ok nmX2 1 (by decide) q1433 rfl rfl rfl rfl (Nat.le_of_ble_eq_true rfl) dX2_init_19 (fun X_28 H_32 L_33 hf_30 hn_29 hI_31 => ?_)
  have hf_30 : X_28 o = some ((o, 0), .inr (0, [.ref q_1, .ref q_18, .null, .null, .int (nI 0), .null, .int (nI 0), .int (nI 0), .int (nI 0), .int (nI 0), .null, .int (nI 0), .null, .null, .null, .int (nI 0), .null, .int (nI 0), .int (nI 0), .int (nI 0), .int (nI 0)])) := hf_30
  have hfr_34 := xk_fr.put hfr_26 hf_27 hn_29
  refine lv_aload_n hx hb dX2_init_22 rfl (lv_at hl 0 rfl) ?_
  refine lv_sipush (v := nI 294) hx hb dX2_init_23 (by decide) ?_
  refine xk_newi B hI_31 (fun q9 => (o, 3)) 0 (atype := .int) (nm := "[I") q174 rfl rfl (fun _ h => h) (n := 294) (by decide) (fun _ => rfl) (Nat.le_of_ble_eq_true rfl) (Nat.le_of_ble_eq_true rfl) (Nat.le_of_ble_eq_true rfl) dX2_init_26 (fun q_35 X_36 H_37 h0_38 hf_39 hn_40 hI_41 => ?_)
  have hle_42 := xk_le.fresh h0_38 hn_40
  have hfr_43 := xk_fr.new hfr_34 h0_38 hn_40
  have hf_44 := hle_42 _ _ hf_30
  refine xk_putF B hI_41 hname hf_44 rfl in_X2 tyX2 tyX2_ok nmX2 2 (by decide) q1434 rfl rfl rfl rfl (Nat.le_of_ble_eq_true rfl) dX2_init_28 (fun X_45 H_49 L_50 hf_47 hn_46 hI_48 => ?_)
  have hf_47 : X_45 o = some ((o, 0), .inr (0, [.ref q_1, .ref q_18, .ref q_35, .null, .int (nI 0), .null, .int (nI 0), .int (nI 0), .int (nI 0), .int (nI 0), .null, .int (nI 0), .null, .null, .null, .int (nI 0), .null, .int (nI 0), .int (nI 0), .int (nI 0), .int (nI 0)])) := hf_47
  have hfr_51 := xk_fr.put hfr_43 hf_44 hn_46
  refine lv_aload_n hx hb dX2_init_31 rfl (lv_at hl 0 rfl) ?_
  refine lv_sipush (v := nI 294) hx hb dX2_init_32 (by decide) ?_
  refine xk_newi B hI_48 (fun q9 => (o, 4)) 0 (atype := .int) (nm := "[I") q174 rfl rfl (fun _ h => h) (n := 294) (by decide) (fun _ => rfl) (Nat.le_of_ble_eq_true rfl) (Nat.le_of_ble_eq_true rfl) (Nat.le_of_ble_eq_true rfl) dX2_init_35 (fun q_52 X_53 H_54 h0_55 hf_56 hn_57 hI_58 => ?_)
  have hle_59 := xk_le.fresh h0_55 hn_57
  have hfr_60 := xk_fr.new hfr_51 h0_55 hn_57
  have hf_61 := hle_59 _ _ hf_47
  refine xk_putF B hI_58 hname hf_61 rfl in_X2 tyX2 tyX2_ok nmX2 3 (by decide) q1435 rfl rfl rfl rfl (Nat.le_of_ble_eq_true rfl) dX2_init_37 (fun X_62 H_66 L_67 hf_64 hn_63 hI_65 => ?_)
  have hf_64 : X_62 o = some ((o, 0), .inr (0, [.ref q_1, .ref q_18, .ref q_35, .ref q_52, .int (nI 0), .null, .int (nI 0), .int (nI 0), .int (nI 0), .int (nI 0), .null, .int (nI 0), .null, .null, .null, .int (nI 0), .null, .int (nI 0), .int (nI 0), .int (nI 0), .int (nI 0)])) := hf_64
  have hfr_68 := xk_fr.put hfr_60 hf_61 hn_63
  refine lv_aload_n hx hb dX2_init_40 rfl (lv_at hl 0 rfl) ?_
  refine lv_sipush (v := nI 2352) hx hb dX2_init_41 (by decide) ?_
  refine xk_newi B hI_65 (fun q9 => (o, 5)) 0 (atype := .int) (nm := "[I") q174 rfl rfl (fun _ h => h) (n := 2352) (by decide) (fun _ => rfl) (Nat.le_of_ble_eq_true rfl) (Nat.le_of_ble_eq_true rfl) (Nat.le_of_ble_eq_true rfl) dX2_init_44 (fun q_69 X_70 H_71 h0_72 hf_73 hn_74 hI_75 => ?_)
  have hle_76 := xk_le.fresh h0_72 hn_74
  have hfr_77 := xk_fr.new hfr_68 h0_72 hn_74
  have hf_78 := hle_76 _ _ hf_64
  refine xk_putF B hI_75 hname hf_78 rfl in_X2 tyX2 tyX2_ok nmX2 5 (by decide) q1437 rfl rfl rfl rfl (Nat.le_of_ble_eq_true rfl) dX2_init_46 (fun X_79 H_83 L_84 hf_81 hn_80 hI_82 => ?_)
  have hf_81 : X_79 o = some ((o, 0), .inr (0, [.ref q_1, .ref q_18, .ref q_35, .ref q_52, .int (nI 0), .ref q_69, .int (nI 0), .int (nI 0), .int (nI 0), .int (nI 0), .null, .int (nI 0), .null, .null, .null, .int (nI 0), .null, .int (nI 0), .int (nI 0), .int (nI 0), .int (nI 0)])) := hf_81
  have hfr_85 := xk_fr.put hfr_77 hf_78 hn_80
  refine lv_aload_n hx hb dX2_init_49 rfl (lv_at hl 0 rfl) ?_
  refine lv_bipush (v := (-4)) hx hb dX2_init_50 (by decide) ?_
  refine xk_put B hI_82 hf_81 rfl in_X2 tyX2 tyX2_ok nmX2 9 (by decide) q1441 rfl rfl rfl (Nat.le_of_ble_eq_true rfl) dX2_init_52 (fun X_86 H_90 L_91 hf_88 hn_87 hI_89 => ?_)
  have hf_88 : X_86 o = some ((o, 0), .inr (0, [.ref q_1, .ref q_18, .ref q_35, .ref q_52, .int (nI 0), .ref q_69, .int (nI 0), .int (nI 0), .int (nI 0), .int (-4), .null, .int (nI 0), .null, .null, .null, .int (nI 0), .null, .int (nI 0), .int (nI 0), .int (nI 0), .int (nI 0)])) := hf_88
  have hfr_92 := xk_fr.put hfr_85 hf_81 hn_87
  refine lv_aload_n hx hb dX2_init_55 rfl (lv_at hl 0 rfl) ?_
  refine lv_bipush (v := nI 70) hx hb dX2_init_56 (by decide) ?_
  refine xk_newi B hI_89 (fun q9 => (o, 6)) 0 (atype := .int) (nm := "[I") q174 rfl rfl (fun _ h => h) (n := 70) (by decide) (fun _ => rfl) (Nat.le_of_ble_eq_true rfl) (Nat.le_of_ble_eq_true rfl) (Nat.le_of_ble_eq_true rfl) dX2_init_58 (fun q_93 X_94 H_95 h0_96 hf_97 hn_98 hI_99 => ?_)
  have hle_100 := xk_le.fresh h0_96 hn_98
  have hfr_101 := xk_fr.new hfr_92 h0_96 hn_98
  have hf_102 := hle_100 _ _ hf_88
  refine xk_putF B hI_99 hname hf_102 rfl in_X2 tyX2 tyX2_ok nmX2 10 (by decide) q1442 rfl rfl rfl rfl (Nat.le_of_ble_eq_true rfl) dX2_init_60 (fun X_103 H_107 L_108 hf_105 hn_104 hI_106 => ?_)
  have hf_105 : X_103 o = some ((o, 0), .inr (0, [.ref q_1, .ref q_18, .ref q_35, .ref q_52, .int (nI 0), .ref q_69, .int (nI 0), .int (nI 0), .int (nI 0), .int (-4), .ref q_93, .int (nI 0), .null, .null, .null, .int (nI 0), .null, .int (nI 0), .int (nI 0), .int (nI 0), .int (nI 0)])) := hf_105
  have hfr_109 := xk_fr.put hfr_101 hf_102 hn_104
  refine lv_aload_n hx hb dX2_init_63 rfl (lv_at hl 0 rfl) ?_
  refine lv_bipush (v := nI 40) hx hb dX2_init_64 (by decide) ?_
  refine xk_newi B hI_106 (fun q9 => (o, 7)) 2 (atype := .boolean) (nm := "[Z") q906 rfl rfl (fun _ h => h) (n := 40) (by decide) (fun _ => rfl) (Nat.le_of_ble_eq_true rfl) (Nat.le_of_ble_eq_true rfl) (Nat.le_of_ble_eq_true rfl) dX2_init_66 (fun q_110 X_111 H_112 h0_113 hf_114 hn_115 hI_116 => ?_)
  have hle_117 := xk_le.fresh h0_113 hn_115
  have hfr_118 := xk_fr.new hfr_109 h0_113 hn_115
  have hf_119 := hle_117 _ _ hf_105
  refine xk_putF B hI_116 hname hf_119 rfl in_X2 tyX2 tyX2_ok nmX2 12 (by decide) q1444 rfl rfl rfl rfl (Nat.le_of_ble_eq_true rfl) dX2_init_68 (fun X_120 H_124 L_125 hf_122 hn_121 hI_123 => ?_)
  have hf_122 : X_120 o = some ((o, 0), .inr (0, [.ref q_1, .ref q_18, .ref q_35, .ref q_52, .int (nI 0), .ref q_69, .int (nI 0), .int (nI 0), .int (nI 0), .int (-4), .ref q_93, .int (nI 0), .ref q_110, .null, .null, .int (nI 0), .null, .int (nI 0), .int (nI 0), .int (nI 0), .int (nI 0)])) := hf_122
  have hfr_126 := xk_fr.put hfr_118 hf_119 hn_121
  refine lv_aload_n hx hb dX2_init_71 rfl (lv_at hl 0 rfl) ?_
  refine lv_bipush (v := nI 40) hx hb dX2_init_72 (by decide) ?_
  refine xk_newi B hI_123 (fun q9 => (o, 8)) 2 (atype := .boolean) (nm := "[Z") q906 rfl rfl (fun _ h => h) (n := 40) (by decide) (fun _ => rfl) (Nat.le_of_ble_eq_true rfl) (Nat.le_of_ble_eq_true rfl) (Nat.le_of_ble_eq_true rfl) dX2_init_74 (fun q_127 X_128 H_129 h0_130 hf_131 hn_132 hI_133 => ?_)
  have hle_134 := xk_le.fresh h0_130 hn_132
  have hfr_135 := xk_fr.new hfr_126 h0_130 hn_132
  have hf_136 := hle_134 _ _ hf_122
  refine xk_putF B hI_133 hname hf_136 rfl in_X2 tyX2 tyX2_ok nmX2 13 (by decide) q1445 rfl rfl rfl rfl (Nat.le_of_ble_eq_true rfl) dX2_init_76 (fun X_137 H_141 L_142 hf_139 hn_138 hI_140 => ?_)
  have hf_139 : X_137 o = some ((o, 0), .inr (0, [.ref q_1, .ref q_18, .ref q_35, .ref q_52, .int (nI 0), .ref q_69, .int (nI 0), .int (nI 0), .int (nI 0), .int (-4), .ref q_93, .int (nI 0), .ref q_110, .ref q_127, .null, .int (nI 0), .null, .int (nI 0), .int (nI 0), .int (nI 0), .int (nI 0)])) := hf_139
  have hfr_143 := xk_fr.put hfr_135 hf_136 hn_138
  refine lv_aload_n hx hb dX2_init_79 rfl (lv_at hl 0 rfl) ?_
  refine lv_bipush (v := nI 60) hx hb dX2_init_80 (by decide) ?_
  refine xk_newi B hI_140 (fun q9 => (o, 9)) 0 (atype := .int) (nm := "[I") q174 rfl rfl (fun _ h => h) (n := 60) (by decide) (fun _ => rfl) (Nat.le_of_ble_eq_true rfl) (Nat.le_of_ble_eq_true rfl) (Nat.le_of_ble_eq_true rfl) dX2_init_82 (fun q_144 X_145 H_146 h0_147 hf_148 hn_149 hI_150 => ?_)
  have hle_151 := xk_le.fresh h0_147 hn_149
  have hfr_152 := xk_fr.new hfr_143 h0_147 hn_149
  have hf_153 := hle_151 _ _ hf_139
  refine xk_putF B hI_150 hname hf_153 rfl in_X2 tyX2 tyX2_ok nmX2 14 (by decide) q1446 rfl rfl rfl rfl (Nat.le_of_ble_eq_true rfl) dX2_init_84 (fun X_154 H_158 L_159 hf_156 hn_155 hI_157 => ?_)
  have hf_156 : X_154 o = some ((o, 0), .inr (0, [.ref q_1, .ref q_18, .ref q_35, .ref q_52, .int (nI 0), .ref q_69, .int (nI 0), .int (nI 0), .int (nI 0), .int (-4), .ref q_93, .int (nI 0), .ref q_110, .ref q_127, .ref q_144, .int (nI 0), .null, .int (nI 0), .int (nI 0), .int (nI 0), .int (nI 0)])) := hf_156
  have hfr_160 := xk_fr.put hfr_152 hf_153 hn_155
  refine lv_aload_n hx hb dX2_init_87 rfl (lv_at hl 0 rfl) ?_
  refine lv_sipush (v := nI 284) hx hb dX2_init_88 (by decide) ?_
  refine xk_newi B hI_157 (fun q9 => (o, 10)) 0 (atype := .int) (nm := "[I") q174 rfl rfl (fun _ h => h) (n := 284) (by decide) (fun _ => rfl) (Nat.le_of_ble_eq_true rfl) (Nat.le_of_ble_eq_true rfl) (Nat.le_of_ble_eq_true rfl) dX2_init_91 (fun q_161 X_162 H_163 h0_164 hf_165 hn_166 hI_167 => ?_)
  have hle_168 := xk_le.fresh h0_164 hn_166
  have hfr_169 := xk_fr.new hfr_160 h0_164 hn_166
  have hf_170 := hle_168 _ _ hf_156
  refine xk_putF B hI_167 hname hf_170 rfl in_X2 tyX2 tyX2_ok nmX2 16 (by decide) q1448 rfl rfl rfl rfl (Nat.le_of_ble_eq_true rfl) dX2_init_93 (fun X_171 H_175 L_176 hf_173 hn_172 hI_174 => ?_)
  have hf_173 : X_171 o = some ((o, 0), .inr (0, [.ref q_1, .ref q_18, .ref q_35, .ref q_52, .int (nI 0), .ref q_69, .int (nI 0), .int (nI 0), .int (nI 0), .int (-4), .ref q_93, .int (nI 0), .ref q_110, .ref q_127, .ref q_144, .int (nI 0), .ref q_161, .int (nI 0), .int (nI 0), .int (nI 0), .int (nI 0)])) := hf_173
  have hfr_177 := xk_fr.put hfr_169 hf_170 hn_172
  refine lv_aload_n hx hb dX2_init_96 rfl (lv_at hl 0 rfl) ?_
  refine xk_get B hI_174 hf_173 rfl in_X2 0 (by decide) q1432 rfl dX2_init_97 ?_
  refine lv_iconst (v := nI 4) hx hb dX2_init_100 (by decide) ?_
  refine lv_iconst (v := nI 1) hx hb dX2_init_101 (by decide) ?_
  have hf_178 := xk_off hn_12 hf_5 hf_10 (xk_on1 (by decide))
  have hf_179 := hle_25 _ _ hf_178
  have hf_180 := xk_off hn_29 hf_179 hf_27 (xk_on1 (by decide))
  have hf_181 := hle_42 _ _ hf_180
  have hf_182 := xk_off hn_46 hf_181 hf_44 (xk_on1 (by decide))
  have hf_183 := hle_59 _ _ hf_182
  have hf_184 := xk_off hn_63 hf_183 hf_61 (xk_on1 (by decide))
  have hf_185 := hle_76 _ _ hf_184
  have hf_186 := xk_off hn_80 hf_185 hf_78 (xk_on1 (by decide))
  have hf_187 := xk_off hn_87 hf_186 hf_81 (xk_on1 (by decide))
  have hf_188 := hle_100 _ _ hf_187
  have hf_189 := xk_off hn_104 hf_188 hf_102 (xk_on1 (by decide))
  have hf_190 := hle_117 _ _ hf_189
  have hf_191 := xk_off hn_121 hf_190 hf_119 (xk_on1 (by decide))
  have hf_192 := hle_134 _ _ hf_191
  have hf_193 := xk_off hn_138 hf_192 hf_136 (xk_on1 (by decide))
  have hf_194 := hle_151 _ _ hf_193
  have hf_195 := xk_off hn_155 hf_194 hf_153 (xk_on1 (by decide))
  have hf_196 := hle_168 _ _ hf_195
  have hf_197 := xk_off hn_172 hf_196 hf_170 (xk_on1 (by decide))
  refine xk_iast B hI_174 hf_197 (by omega) (by decide) dX2_init_102 (fun X_198 H_202 L_203 hf_200 hn_199 hI_201 => ?_)
  have hfr_204 := xk_fr.put hfr_177 hf_197 hn_199
  refine lv_aload_n hx hb dX2_init_103 rfl (lv_at hl 0 rfl) ?_
  have hf_205 := xk_off hn_199 hf_173 hf_197 (xk_on1 (by decide))
  refine xk_get B hI_201 hf_205 rfl in_X2 0 (by decide) q1432 rfl dX2_init_104 ?_
  refine lv_iconst (v := nI 5) hx hb dX2_init_107 (by decide) ?_
  refine lv_bipush (v := nI 8) hx hb dX2_init_108 (by decide) ?_
  refine xk_iast B hI_201 hf_200 (by omega) (by decide) dX2_init_110 (fun X_206 H_210 L_211 hf_208 hn_207 hI_209 => ?_)
  have hfr_212 := xk_fr.put hfr_204 hf_200 hn_207
  refine lv_iconst (v := nI 0) hx hb dX2_init_111 (by decide) ?_
  refine lv_istore_n (lv' := [(1, .int (nI 0)), (0, .ref o)]) hx hb dX2_init_112 rfl hl (by decide) rfl (fun ls hl => ?_)
  have hloop_113 : ∀ (n_113 : Nat) (k : Nat) (f : Nat → Nat) (Xl_113 : xk_H) (H_213 : Heap) (L_214 : List Loc), (k ≤ 8) → (f = tl_mini k) → 8 - k < n_113 → Xl_113 q_1 = some ((o, 1), xk_iA g 0 294 f) → (∀ b, b ≠ q_1 → Xl_113 b = X_206 b) → (xk_fr o X Xl_113) → xk_I g s H_213 Xl_113 L_214 → ∀ ls : Array Slot, lv_has ls 2 [(0, .ref o), (1, .int (nI k))] → W p (xk_l g) e (({ frames := 1, cells := 10, slots := 4022, locals := 12 } : Room)) s m args below meth c H_213 L_214 10 4022 (MQ below (xk_Q g (xk_Qv (fun X1 => ∃ (ad : Nat → Nat) (A : Nat → Nat → Nat) (S : Nat → Nat), tm_Ok g X1 o ad A S ∧ A 0 = tl_mini 8 ∧ (∀ i, i ≠ 0 → A i = fun _ => 0) ∧ (∀ i, S i = 0) ∧ xk_fr o X X1))) args s (10) (4022) (xk_A g)) (F0 m 113 ls []) := by
    intro n_113
    induction n_113 with
    | zero => intros; omega
    | succ n_113 ih_113 =>
      intro k f Xl_113 H_213 L_214 hk1 hf1 hm_113 hfl_113 hne_113 hfrl_113 hI_215 ls hl
      refine lv_iload_n hx hb dX2_init_113 rfl (lv_at hl 1 rfl) ?_
      refine lv_bipush (v := nI 8) hx hb dX2_init_114 (by decide) ?_
      refine xk_icmp_ge (tgt := 135) hx hb (by omega) (by omega) dX2_init_116 (by decide) (fun hc_116 => ?_) (fun hc_116 => ?_)
      · have hf_217 := xk_off hn_207 hf_205 hf_200 (xk_on1 (by decide))
        have hf_218 := (hne_113 _ (xk_ne hf_208 hf_217 (xk_on1 (by decide)))).trans hf_217
        have hf_219 := xk_off hn_29 hf_22 hf_27 (xk_on1 (by decide))
        have hf_220 := hle_42 _ _ hf_219
        have hf_221 := xk_off hn_46 hf_220 hf_44 (xk_on1 (by decide))
        have hf_222 := hle_59 _ _ hf_221
        have hf_223 := xk_off hn_63 hf_222 hf_61 (xk_on1 (by decide))
        have hf_224 := hle_76 _ _ hf_223
        have hf_225 := xk_off hn_80 hf_224 hf_78 (xk_on1 (by decide))
        have hf_226 := xk_off hn_87 hf_225 hf_81 (xk_on1 (by decide))
        have hf_227 := hle_100 _ _ hf_226
        have hf_228 := xk_off hn_104 hf_227 hf_102 (xk_on1 (by decide))
        have hf_229 := hle_117 _ _ hf_228
        have hf_230 := xk_off hn_121 hf_229 hf_119 (xk_on1 (by decide))
        have hf_231 := hle_134 _ _ hf_230
        have hf_232 := xk_off hn_138 hf_231 hf_136 (xk_on1 (by decide))
        have hf_233 := hle_151 _ _ hf_232
        have hf_234 := xk_off hn_155 hf_233 hf_153 (xk_on1 (by decide))
        have hf_235 := hle_168 _ _ hf_234
        have hf_236 := xk_off hn_172 hf_235 hf_170 (xk_on1 (by decide))
        have hf_237 := xk_off hn_199 hf_236 hf_197 (xk_on1 (by decide))
        have hf_238 := xk_off hn_207 hf_237 hf_200 (xk_on1 (by decide))
        have hf_239 := (hne_113 _ (xk_ne hf_208 hf_238 (xk_on1 (by decide)))).trans hf_238
        have hf_240 := xk_off hn_46 hf_39 hf_44 (xk_on1 (by decide))
        have hf_241 := hle_59 _ _ hf_240
        have hf_242 := xk_off hn_63 hf_241 hf_61 (xk_on1 (by decide))
        have hf_243 := hle_76 _ _ hf_242
        have hf_244 := xk_off hn_80 hf_243 hf_78 (xk_on1 (by decide))
        have hf_245 := xk_off hn_87 hf_244 hf_81 (xk_on1 (by decide))
        have hf_246 := hle_100 _ _ hf_245
        have hf_247 := xk_off hn_104 hf_246 hf_102 (xk_on1 (by decide))
        have hf_248 := hle_117 _ _ hf_247
        have hf_249 := xk_off hn_121 hf_248 hf_119 (xk_on1 (by decide))
        have hf_250 := hle_134 _ _ hf_249
        have hf_251 := xk_off hn_138 hf_250 hf_136 (xk_on1 (by decide))
        have hf_252 := hle_151 _ _ hf_251
        have hf_253 := xk_off hn_155 hf_252 hf_153 (xk_on1 (by decide))
        have hf_254 := hle_168 _ _ hf_253
        have hf_255 := xk_off hn_172 hf_254 hf_170 (xk_on1 (by decide))
        have hf_256 := xk_off hn_199 hf_255 hf_197 (xk_on1 (by decide))
        have hf_257 := xk_off hn_207 hf_256 hf_200 (xk_on1 (by decide))
        have hf_258 := (hne_113 _ (xk_ne hf_208 hf_257 (xk_on1 (by decide)))).trans hf_257
        have hf_259 := xk_off hn_63 hf_56 hf_61 (xk_on1 (by decide))
        have hf_260 := hle_76 _ _ hf_259
        have hf_261 := xk_off hn_80 hf_260 hf_78 (xk_on1 (by decide))
        have hf_262 := xk_off hn_87 hf_261 hf_81 (xk_on1 (by decide))
        have hf_263 := hle_100 _ _ hf_262
        have hf_264 := xk_off hn_104 hf_263 hf_102 (xk_on1 (by decide))
        have hf_265 := hle_117 _ _ hf_264
        have hf_266 := xk_off hn_121 hf_265 hf_119 (xk_on1 (by decide))
        have hf_267 := hle_134 _ _ hf_266
        have hf_268 := xk_off hn_138 hf_267 hf_136 (xk_on1 (by decide))
        have hf_269 := hle_151 _ _ hf_268
        have hf_270 := xk_off hn_155 hf_269 hf_153 (xk_on1 (by decide))
        have hf_271 := hle_168 _ _ hf_270
        have hf_272 := xk_off hn_172 hf_271 hf_170 (xk_on1 (by decide))
        have hf_273 := xk_off hn_199 hf_272 hf_197 (xk_on1 (by decide))
        have hf_274 := xk_off hn_207 hf_273 hf_200 (xk_on1 (by decide))
        have hf_275 := (hne_113 _ (xk_ne hf_208 hf_274 (xk_on1 (by decide)))).trans hf_274
        have hf_276 := xk_off hn_80 hf_73 hf_78 (xk_on1 (by decide))
        have hf_277 := xk_off hn_87 hf_276 hf_81 (xk_on1 (by decide))
        have hf_278 := hle_100 _ _ hf_277
        have hf_279 := xk_off hn_104 hf_278 hf_102 (xk_on1 (by decide))
        have hf_280 := hle_117 _ _ hf_279
        have hf_281 := xk_off hn_121 hf_280 hf_119 (xk_on1 (by decide))
        have hf_282 := hle_134 _ _ hf_281
        have hf_283 := xk_off hn_138 hf_282 hf_136 (xk_on1 (by decide))
        have hf_284 := hle_151 _ _ hf_283
        have hf_285 := xk_off hn_155 hf_284 hf_153 (xk_on1 (by decide))
        have hf_286 := hle_168 _ _ hf_285
        have hf_287 := xk_off hn_172 hf_286 hf_170 (xk_on1 (by decide))
        have hf_288 := xk_off hn_199 hf_287 hf_197 (xk_on1 (by decide))
        have hf_289 := xk_off hn_207 hf_288 hf_200 (xk_on1 (by decide))
        have hf_290 := (hne_113 _ (xk_ne hf_208 hf_289 (xk_on1 (by decide)))).trans hf_289
        have hf_291 := xk_off hn_104 hf_97 hf_102 (xk_on1 (by decide))
        have hf_292 := hle_117 _ _ hf_291
        have hf_293 := xk_off hn_121 hf_292 hf_119 (xk_on1 (by decide))
        have hf_294 := hle_134 _ _ hf_293
        have hf_295 := xk_off hn_138 hf_294 hf_136 (xk_on1 (by decide))
        have hf_296 := hle_151 _ _ hf_295
        have hf_297 := xk_off hn_155 hf_296 hf_153 (xk_on1 (by decide))
        have hf_298 := hle_168 _ _ hf_297
        have hf_299 := xk_off hn_172 hf_298 hf_170 (xk_on1 (by decide))
        have hf_300 := xk_off hn_199 hf_299 hf_197 (xk_on1 (by decide))
        have hf_301 := xk_off hn_207 hf_300 hf_200 (xk_on1 (by decide))
        have hf_302 := (hne_113 _ (xk_ne hf_208 hf_301 (xk_on1 (by decide)))).trans hf_301
        have hf_303 := xk_off hn_121 hf_114 hf_119 (xk_on1 (by decide))
        have hf_304 := hle_134 _ _ hf_303
        have hf_305 := xk_off hn_138 hf_304 hf_136 (xk_on1 (by decide))
        have hf_306 := hle_151 _ _ hf_305
        have hf_307 := xk_off hn_155 hf_306 hf_153 (xk_on1 (by decide))
        have hf_308 := hle_168 _ _ hf_307
        have hf_309 := xk_off hn_172 hf_308 hf_170 (xk_on1 (by decide))
        have hf_310 := xk_off hn_199 hf_309 hf_197 (xk_on1 (by decide))
        have hf_311 := xk_off hn_207 hf_310 hf_200 (xk_on1 (by decide))
        have hf_312 := (hne_113 _ (xk_ne hf_208 hf_311 (xk_on1 (by decide)))).trans hf_311
        have hf_313 := xk_off hn_138 hf_131 hf_136 (xk_on1 (by decide))
        have hf_314 := hle_151 _ _ hf_313
        have hf_315 := xk_off hn_155 hf_314 hf_153 (xk_on1 (by decide))
        have hf_316 := hle_168 _ _ hf_315
        have hf_317 := xk_off hn_172 hf_316 hf_170 (xk_on1 (by decide))
        have hf_318 := xk_off hn_199 hf_317 hf_197 (xk_on1 (by decide))
        have hf_319 := xk_off hn_207 hf_318 hf_200 (xk_on1 (by decide))
        have hf_320 := (hne_113 _ (xk_ne hf_208 hf_319 (xk_on1 (by decide)))).trans hf_319
        have hf_321 := xk_off hn_155 hf_148 hf_153 (xk_on1 (by decide))
        have hf_322 := hle_168 _ _ hf_321
        have hf_323 := xk_off hn_172 hf_322 hf_170 (xk_on1 (by decide))
        have hf_324 := xk_off hn_199 hf_323 hf_197 (xk_on1 (by decide))
        have hf_325 := xk_off hn_207 hf_324 hf_200 (xk_on1 (by decide))
        have hf_326 := (hne_113 _ (xk_ne hf_208 hf_325 (xk_on1 (by decide)))).trans hf_325
        have hf_327 := xk_off hn_172 hf_165 hf_170 (xk_on1 (by decide))
        have hf_328 := xk_off hn_199 hf_327 hf_197 (xk_on1 (by decide))
        have hf_329 := xk_off hn_207 hf_328 hf_200 (xk_on1 (by decide))
        have hf_330 := (hne_113 _ (xk_ne hf_208 hf_329 (xk_on1 (by decide)))).trans hf_329
        exact xk_retv B hI_215 hr dX2_init_135 (Nat.le_of_ble_eq_true rfl) (Nat.le_of_ble_eq_true rfl) (⟨rfl, (fun i => if i = 0 then q_1 else if i = 1 then q_18 else if i = 2 then q_35 else if i = 3 then q_52 else if i = 4 then q_69 else if i = 5 then q_93 else if i = 6 then q_110 else if i = 7 then q_127 else if i = 8 then q_144 else q_161), (fun i => if i = 0 then f else fun _ => 0), (fun _ => 0), ⟨hf_218, hfl_113, hf_239, hf_258, hf_275, hf_290, hf_302, hf_312, hf_320, hf_326, hf_330⟩, (by rw [hf1, show k = 8 by omega]; rfl), fun i hi => if_neg hi, fun _ => rfl, hfrl_113⟩)
      · refine lv_aload_n hx hb dX2_init_119 rfl (lv_at hl 0 rfl) ?_
        have hf_331 := xk_off hn_207 hf_205 hf_200 (xk_on1 (by decide))
        have hf_332 := (hne_113 _ (xk_ne hf_208 hf_331 (xk_on1 (by decide)))).trans hf_331
        refine xk_get B hI_215 hf_332 rfl in_X2 0 (by decide) q1432 rfl dX2_init_120 ?_
        refine lv_bipush (v := nI 6) hx hb dX2_init_123 (by decide) ?_
        refine lv_iload_n hx hb dX2_init_125 rfl (lv_at hl 1 rfl) ?_
        refine lv_iadd hx hb dX2_init_126 (xk_top (nI_add _ _) ?_)
        refine lv_iconst (v := nI 1) hx hb dX2_init_127 (by decide) ?_
        refine xk_iast B hI_215 hfl_113 (by omega) (by decide) dX2_init_128 (fun X_333 H_337 L_338 hf_335 hn_334 hI_336 => ?_)
        have hfr_339 := xk_fr.put hfrl_113 hfl_113 hn_334
        refine lv_iinc (v := nI (k + 1)) (lv' := [(1, .int (nI (k + 1))), (0, .ref o)]) hx hb dX2_init_129 hl (k := 1) rfl (xk_inc k) (by decide) rfl (fun ls hl => ?_)
        refine lv_goto (tgt := 113) hx hb dX2_init_132 (by decide) ?_
        exact ih_113 (k + 1) (va_up f (6 + k) 1) X_333 _ _ (by omega) (by rw [hf1]; rfl) (by omega) hf_335 (fun b z0 => ((hn_334 b z0).trans (hne_113 b z0))) hfr_339 hI_336 ls (lv_sub hl [1, 0] rfl)
  exact hloop_113 (8 - 0 + 1) 0 (va_up (va_up (fun _ => 0) 4 1) 5 8) X_206 _ _ (by omega) (by rfl) (Nat.lt_succ_self _) hf_208 (fun _ _ => rfl) hfr_212 hI_209 ls (lv_sub hl [1, 0] rfl)
