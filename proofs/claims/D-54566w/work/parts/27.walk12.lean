/-! methods as functions over the memory (printed by gen/run.py) -/
set_option maxRecDepth 100000
/-! X5_count: BarnPicturesModel.count(I)I, kind P -/
abbrev rmX5_count : Room := ({ frames := 2, cells := 0, slots := 0, locals := 43 })
abbrev kX5_count : QK := (RX5, cX5_count, 2, (some .int), [], false, rmX5_count)
noncomputable def f_X5_count_110 (M : QM) (r0 : QR) (x1 : Int32) : Option (Int32) :=
  (gR M r0 [(4, 0)]).bind fun v111 => 
    (aI M v111 (((72 : Int32) + x1) - (5 : Int32))).bind fun v120 => 
    some v120
theorem s_X5_count_110 {l : Launch} (M : QM) : ∀ (r0 : QR) (x1 : Int32) , SB (eP M) l kX5_count M (f_X5_count_110 M r0 x1) (0, 0) 110 M [some (.inr r0), some (.inl x1)] [] := by
  intro r0 x1
  unfold f_X5_count_110
  refine r_aload_n (pc := 110) dX5_count_110 rfl ?_
  refine r_getR (pc := 111)  gf_X5_7 dX5_count_111 (fun v111 => ?_)
  refine r_bipush (v := (72 : Int32)) (pc := 114) dX5_count_114 (by decide) ?_
  refine r_iload_n (pc := 116) dX5_count_116 rfl ?_
  refine r_iadd (pc := 117) dX5_count_117 ?_
  refine r_iconst (v := (5 : Int32)) (pc := 118) dX5_count_118 (by decide) ?_
  refine r_isub (pc := 119) dX5_count_119 ?_
  refine r_iald (pc := 120) dX5_count_120 (fun v120 => ?_)
  exact r_iretP (pc := 121) dX5_count_121 rfl (by decide +kernel)
noncomputable def f_X5_count (r0 : QR) (x1 : Int32) (M : QM) : Option (Int32) :=
  if x1 = (0 : Int32) then ((gR M r0 [(4, 0)]).bind fun v77 => 
      (aI M v77 (55 : Int32)).bind fun v82 => 
      some v82)
    else if x1 = (1 : Int32) then ((gR M r0 [(4, 0)]).bind fun v85 => 
      (aI M v85 (54 : Int32)).bind fun v90 => 
      some v90)
    else if x1 = (2 : Int32) then ((qrc M r0 [4] (f_X5_inVan r0 M)).bind fun v93 => 
      some v93)
    else if x1 = (3 : Int32) then ((qrc M r0 [4] (f_X5_gone r0 M)).bind fun v98 => 
      some v98)
    else if x1 = (4 : Int32) then ((qrc M r0 [4] (f_X5_sum r0 (67 : Int32) (5 : Int32) M)).bind fun v106 => 
      some v106)
    else if x1 = (5 : Int32) then (f_X5_count_110 M r0 x1)
    else if x1 = (6 : Int32) then (f_X5_count_110 M r0 x1)
    else if x1 = (7 : Int32) then (f_X5_count_110 M r0 x1)
    else if x1 = (8 : Int32) then ((qrc M r0 [4] (f_X5_sum r0 (67 : Int32) (5 : Int32) M)).bind fun v126 => 
      (qrc M r0 [4] (f_X5_sum r0 (72 : Int32) (3 : Int32) M)).bind fun v133 => 
      some (v126 - v133))
    else if x1 = (9 : Int32) then ((qrc M r0 [4] (f_X5_sum r0 (62 : Int32) (5 : Int32) M)).bind fun v142 => 
      some v142)
    else if x1 = (10 : Int32) then ((gR M r0 [(4, 0)]).bind fun v147 => 
      (aI M v147 (75 : Int32)).bind fun v152 => 
      some v152)
    else if x1 = (11 : Int32) then ((gR M r0 [(4, 0)]).bind fun v155 => 
      (aI M v155 (56 : Int32)).bind fun v160 => 
      some v160)
    else if x1 = (12 : Int32) then ((gR M r0 [(4, 0)]).bind fun v163 => 
      (aI M v163 (76 : Int32)).bind fun v168 => 
      some v168)
    else if x1 = (13 : Int32) then ((gI M r0 [(4, 3)]).bind fun v171 => 
      some v171)
    else if x1 = (14 : Int32) then ((gI M r0 [(4, 7)]).bind fun v176 => 
      some v176)
    else some (-10000002 : Int32)
theorem s_X5_count {l : Launch} {r0 : QR} {x1 : Int32} {M : QM} : SB (eP M) l kX5_count M (f_X5_count r0 x1 M) (0, 0) 0 M [some (.inr r0), some (.inl x1)] [] := by
  unfold f_X5_count
  refine r_iload_n (pc := 0) dX5_count_0 rfl ?_
  refine r_iteE (fun _ => ?_) (fun e1_0 => ?_)
  · refine r_tableY (pc := 1) (off := 75) (tgt := 76) dX5_count_1 (by decide) (by decide) rfl (by decide) ?_
    refine r_aload_n (pc := 76) dX5_count_76 rfl ?_
    refine r_getR (pc := 77)  gf_X5_7 dX5_count_77 (fun v77 => ?_)
    refine r_bipush (v := (55 : Int32)) (pc := 80) dX5_count_80 (by decide) ?_
    refine r_iald (pc := 82) dX5_count_82 (fun v82 => ?_)
    exact r_iretP (pc := 83) dX5_count_83 rfl (by decide +kernel)
  refine r_iteE (fun _ => ?_) (fun e1_1 => ?_)
  · refine r_tableY (pc := 1) (off := 83) (tgt := 84) dX5_count_1 (by decide) (by decide) rfl (by decide) ?_
    refine r_aload_n (pc := 84) dX5_count_84 rfl ?_
    refine r_getR (pc := 85)  gf_X5_7 dX5_count_85 (fun v85 => ?_)
    refine r_bipush (v := (54 : Int32)) (pc := 88) dX5_count_88 (by decide) ?_
    refine r_iald (pc := 90) dX5_count_90 (fun v90 => ?_)
    exact r_iretP (pc := 91) dX5_count_91 rfl (by decide +kernel)
  refine r_iteE (fun _ => ?_) (fun e1_2 => ?_)
  · refine r_tableY (pc := 1) (off := 91) (tgt := 92) dX5_count_1 (by decide) (by decide) rfl (by decide) ?_
    refine r_aload_n (pc := 92) dX5_count_92 rfl ?_
    refine r_callV_P (st := []) (vs := []) (pc := 93)  ct_X5_inVan hc_4 cf_X5_45 rfl rfl (Nat.le_of_ble_eq_true rfl) (by decide +kernel) dX5_count_93 (fun v93 => ?_)
    refine r_widen (u' := (0, 0)) (by decide +kernel) ?_
    exact r_iretP (pc := 96) dX5_count_96 rfl (by decide +kernel)
  refine r_iteE (fun _ => ?_) (fun e1_3 => ?_)
  · refine r_tableY (pc := 1) (off := 96) (tgt := 97) dX5_count_1 (by decide) (by decide) rfl (by decide) ?_
    refine r_aload_n (pc := 97) dX5_count_97 rfl ?_
    refine r_callV_P (st := []) (vs := []) (pc := 98)  ct_X5_gone hc_4 cf_X5_176 rfl rfl (Nat.le_of_ble_eq_true rfl) (by decide +kernel) dX5_count_98 (fun v98 => ?_)
    refine r_widen (u' := (0, 0)) (by decide +kernel) ?_
    exact r_iretP (pc := 101) dX5_count_101 rfl (by decide +kernel)
  refine r_iteE (fun _ => ?_) (fun e1_4 => ?_)
  · refine r_tableY (pc := 1) (off := 101) (tgt := 102) dX5_count_1 (by decide) (by decide) rfl (by decide) ?_
    refine r_aload_n (pc := 102) dX5_count_102 rfl ?_
    refine r_bipush (v := (67 : Int32)) (pc := 103) dX5_count_103 (by decide) ?_
    refine r_iconst (v := (5 : Int32)) (pc := 105) dX5_count_105 (by decide) ?_
    refine r_callV_P (st := []) (vs := [.inl (67 : Int32), .inl (5 : Int32)]) (pc := 106)  ct_X5_sum hc_4 cf_X5_179 rfl rfl (Nat.le_of_ble_eq_true rfl) (by decide +kernel) dX5_count_106 (fun v106 => ?_)
    refine r_widen (u' := (0, 0)) (by decide +kernel) ?_
    exact r_iretP (pc := 109) dX5_count_109 rfl (by decide +kernel)
  refine r_iteE (fun _ => ?_) (fun e1_5 => ?_)
  · refine r_tableY (pc := 1) (off := 109) (tgt := 110) dX5_count_1 (by decide) (by decide) rfl (by decide) ?_
    exact s_X5_count_110 M _ _
  refine r_iteE (fun _ => ?_) (fun e1_6 => ?_)
  · refine r_tableY (pc := 1) (off := 109) (tgt := 110) dX5_count_1 (by decide) (by decide) rfl (by decide) ?_
    exact s_X5_count_110 M _ _
  refine r_iteE (fun _ => ?_) (fun e1_7 => ?_)
  · refine r_tableY (pc := 1) (off := 109) (tgt := 110) dX5_count_1 (by decide) (by decide) rfl (by decide) ?_
    exact s_X5_count_110 M _ _
  refine r_iteE (fun _ => ?_) (fun e1_8 => ?_)
  · refine r_tableY (pc := 1) (off := 121) (tgt := 122) dX5_count_1 (by decide) (by decide) rfl (by decide) ?_
    refine r_aload_n (pc := 122) dX5_count_122 rfl ?_
    refine r_bipush (v := (67 : Int32)) (pc := 123) dX5_count_123 (by decide) ?_
    refine r_iconst (v := (5 : Int32)) (pc := 125) dX5_count_125 (by decide) ?_
    refine r_callV_P (st := []) (vs := [.inl (67 : Int32), .inl (5 : Int32)]) (pc := 126)  ct_X5_sum hc_4 cf_X5_179 rfl rfl (Nat.le_of_ble_eq_true rfl) (by decide +kernel) dX5_count_126 (fun v126 => ?_)
    refine r_widen (u' := (0, 0)) (by decide +kernel) ?_
    refine r_aload_n (pc := 129) dX5_count_129 rfl ?_
    refine r_bipush (v := (72 : Int32)) (pc := 130) dX5_count_130 (by decide) ?_
    refine r_iconst (v := (3 : Int32)) (pc := 132) dX5_count_132 (by decide) ?_
    refine r_callV_P (st := [.inl v126]) (vs := [.inl (72 : Int32), .inl (3 : Int32)]) (pc := 133)  ct_X5_sum hc_4 cf_X5_179 rfl rfl (Nat.le_of_ble_eq_true rfl) (by decide +kernel) dX5_count_133 (fun v133 => ?_)
    refine r_widen (u' := (0, 0)) (by decide +kernel) ?_
    refine r_isub (pc := 136) dX5_count_136 ?_
    exact r_iretP (pc := 137) dX5_count_137 rfl (by decide +kernel)
  refine r_iteE (fun _ => ?_) (fun e1_9 => ?_)
  · refine r_tableY (pc := 1) (off := 137) (tgt := 138) dX5_count_1 (by decide) (by decide) rfl (by decide) ?_
    refine r_aload_n (pc := 138) dX5_count_138 rfl ?_
    refine r_bipush (v := (62 : Int32)) (pc := 139) dX5_count_139 (by decide) ?_
    refine r_iconst (v := (5 : Int32)) (pc := 141) dX5_count_141 (by decide) ?_
    refine r_callV_P (st := []) (vs := [.inl (62 : Int32), .inl (5 : Int32)]) (pc := 142)  ct_X5_sum hc_4 cf_X5_179 rfl rfl (Nat.le_of_ble_eq_true rfl) (by decide +kernel) dX5_count_142 (fun v142 => ?_)
    refine r_widen (u' := (0, 0)) (by decide +kernel) ?_
    exact r_iretP (pc := 145) dX5_count_145 rfl (by decide +kernel)
  refine r_iteE (fun _ => ?_) (fun e1_10 => ?_)
  · refine r_tableY (pc := 1) (off := 145) (tgt := 146) dX5_count_1 (by decide) (by decide) rfl (by decide) ?_
    refine r_aload_n (pc := 146) dX5_count_146 rfl ?_
    refine r_getR (pc := 147)  gf_X5_7 dX5_count_147 (fun v147 => ?_)
    refine r_bipush (v := (75 : Int32)) (pc := 150) dX5_count_150 (by decide) ?_
    refine r_iald (pc := 152) dX5_count_152 (fun v152 => ?_)
    exact r_iretP (pc := 153) dX5_count_153 rfl (by decide +kernel)
  refine r_iteE (fun _ => ?_) (fun e1_11 => ?_)
  · refine r_tableY (pc := 1) (off := 153) (tgt := 154) dX5_count_1 (by decide) (by decide) rfl (by decide) ?_
    refine r_aload_n (pc := 154) dX5_count_154 rfl ?_
    refine r_getR (pc := 155)  gf_X5_7 dX5_count_155 (fun v155 => ?_)
    refine r_bipush (v := (56 : Int32)) (pc := 158) dX5_count_158 (by decide) ?_
    refine r_iald (pc := 160) dX5_count_160 (fun v160 => ?_)
    exact r_iretP (pc := 161) dX5_count_161 rfl (by decide +kernel)
  refine r_iteE (fun _ => ?_) (fun e1_12 => ?_)
  · refine r_tableY (pc := 1) (off := 161) (tgt := 162) dX5_count_1 (by decide) (by decide) rfl (by decide) ?_
    refine r_aload_n (pc := 162) dX5_count_162 rfl ?_
    refine r_getR (pc := 163)  gf_X5_7 dX5_count_163 (fun v163 => ?_)
    refine r_bipush (v := (76 : Int32)) (pc := 166) dX5_count_166 (by decide) ?_
    refine r_iald (pc := 168) dX5_count_168 (fun v168 => ?_)
    exact r_iretP (pc := 169) dX5_count_169 rfl (by decide +kernel)
  refine r_iteE (fun _ => ?_) (fun e1_13 => ?_)
  · refine r_tableY (pc := 1) (off := 169) (tgt := 170) dX5_count_1 (by decide) (by decide) rfl (by decide) ?_
    refine r_aload_n (pc := 170) dX5_count_170 rfl ?_
    refine r_getI (pc := 171)  gf_X5_41 dX5_count_171 (fun v171 => ?_)
    exact r_iretP (pc := 174) dX5_count_174 rfl (by decide +kernel)
  refine r_iteE (fun _ => ?_) (fun e1_14 => ?_)
  · refine r_tableY (pc := 1) (off := 174) (tgt := 175) dX5_count_1 (by decide) (by decide) rfl (by decide) ?_
    refine r_aload_n (pc := 175) dX5_count_175 rfl ?_
    refine r_getI (pc := 176)  gf_X5_122 dX5_count_176 (fun v176 => ?_)
    exact r_iretP (pc := 179) dX5_count_179 rfl (by decide +kernel)
  have he1_0 : (x1).toInt ≠ 0 := ne_toInt e1_0
  have he1_1 : (x1).toInt ≠ 1 := ne_toInt e1_1
  have he1_2 : (x1).toInt ≠ 2 := ne_toInt e1_2
  have he1_3 : (x1).toInt ≠ 3 := ne_toInt e1_3
  have he1_4 : (x1).toInt ≠ 4 := ne_toInt e1_4
  have he1_5 : (x1).toInt ≠ 5 := ne_toInt e1_5
  have he1_6 : (x1).toInt ≠ 6 := ne_toInt e1_6
  have he1_7 : (x1).toInt ≠ 7 := ne_toInt e1_7
  have he1_8 : (x1).toInt ≠ 8 := ne_toInt e1_8
  have he1_9 : (x1).toInt ≠ 9 := ne_toInt e1_9
  have he1_10 : (x1).toInt ≠ 10 := ne_toInt e1_10
  have he1_11 : (x1).toInt ≠ 11 := ne_toInt e1_11
  have he1_12 : (x1).toInt ≠ 12 := ne_toInt e1_12
  have he1_13 : (x1).toInt ≠ 13 := ne_toInt e1_13
  have he1_14 : (x1).toInt ≠ 14 := ne_toInt e1_14
  refine r_tableN (pc := 1) (tgt := 180) dX5_count_1 (by omega) (by decide) ?_
  refine r_ldc (pc := 180) dX5_count_180 q1208 ?_
  exact r_iretP (pc := 182) dX5_count_182 rfl (by decide +kernel)
theorem ct_X5_count {l : Launch} {r0 : QR} {x1 : Int32} {M : QM} : ∀ b, f_X5_count r0 x1 M = some b → PM l yX5_count (ws_ yX5_count cX5_count 2 (some .int)) rmX5_count [.inr r0, .inl x1] M ((eP M) b).1 ((eP M) b).2 := fun b hb =>
  PM.of (own := RX5) rfl (by decide +kernel) (Nat.le_of_ble_eq_true rfl) false (fun h => nomatch h) (s_X5_count b hb)
