/-! methods as functions over the memory (printed by gen/run.py) -/
set_option maxRecDepth 100000
/-! X5_shows: BarnPicturesModel.shows(I)I, kind I -/
abbrev rmX5_shows : Room := ({ frames := 3, cells := 0, slots := 0, locals := 71 })
abbrev kX5_shows : QK := (RX5, cX5_shows, 6, (some .int), [], false, rmX5_shows)
noncomputable def f_X5_shows_49 : Nat → QR → Int32 → Int32 → Int32 → Int32 → Int32 → QM → Option (Int32 × QM)
  | 0, _, _, _, _, _, _, _ => none
  | n + 1, r0, x1, x2, x3, x4, x5, M =>
    if (10 : Int32) ≤ x5 then ((gR M r0 [(4, 0)]).bind fun v106 => 
      (sI M v106 ((57 : Int32) + x1) (1 : Int32)).bind fun m114 => 
      (gR m114 r0 [(4, 0)]).bind fun v116 => 
      (aI m114 v116 ((62 : Int32) + x1)).bind fun v124 => 
      (sI m114 v116 ((62 : Int32) + x1) (v124 + (1 : Int32))).bind fun m127 => 
      (gR m127 r0 [(4, 0)]).bind fun v129 => 
      (aI m127 v129 ((67 : Int32) + x1)).bind fun v137 => 
      (sI m127 v129 ((67 : Int32) + x1) (v137 + x4)).bind fun m141 => 
      (gR m141 r0 [(4, 0)]).bind fun v143 => 
      (aI m141 v143 (75 : Int32)).bind fun v149 => 
      (sI m141 v143 (75 : Int32) (v149 + x2)).bind fun m152 => 
      (qrc m152 r0 [4] (f_X5_log r0 x1 x2 x4 x3 m152)).bind fun m159 => 
      some (x4, m159))
    else (gR M r0 [(4, 0)]).bind fun v57 => 
    (f_X5_of x5 (0 : Int32) M).bind fun v63 => 
    (aI M v57 v63).bind fun v66 => 
    if v66 = x1 then ((gR M r0 [(4, 0)]).bind fun v72 => 
      (f_X5_of x5 (4 : Int32) M).bind fun v78 => 
      (aI M v72 v78).bind fun v82 => 
      (sI M v72 v78 (v82 ||| ((1 : Int32) <<< (x1 &&& 31)))).bind fun m87 => 
      (qrc m87 r0 [4] (f_X5_wear r0 x5 ((5 : Int32) + (x1 - x1 / (3 : Int32) * (3 : Int32))) m87)).bind fun m96 => 
      f_X5_shows_49 n r0 x1 x2 x3 x4 (x5 + (1 : Int32)) m96)
    else f_X5_shows_49 n r0 x1 x2 x3 x4 (x5 + (1 : Int32)) M
theorem s_X5_shows_49 {l : Launch} {M0 : QM} : ∀ (n : Nat) (r0 : QR) (x1 : Int32) (x2 : Int32) (x3 : Int32) (x4 : Int32) (x5 : Int32) (M : QM) , SB eI l kX5_shows M0 (f_X5_shows_49 n r0 x1 x2 x3 x4 x5 M) (0, 0) 49 M [some (.inr r0), some (.inl x1), some (.inl x2), some (.inl x3), some (.inl x4), some (.inl x5)] [] := by
  intro n
  induction n with
  | zero => intros; rw [f_X5_shows_49]; exact r_none
  | succ n ih =>
    intro r0 x1 x2 x3 x4 x5  M
    rw [f_X5_shows_49]
    refine r_iload (pc := 49) dX5_shows_49 rfl ?_
    refine r_bipush (v := (10 : Int32)) (pc := 51) dX5_shows_51 (by decide) ?_
    refine r_icmp_ge (pc := 53) (tgt := 105) dX5_shows_53 (by decide) ?_ ?_
    · refine r_aload_n (pc := 105) dX5_shows_105 rfl ?_
      refine r_getR (pc := 106)  gf_X5_7 dX5_shows_106 (fun v106 => ?_)
      refine r_bipush (v := (57 : Int32)) (pc := 109) dX5_shows_109 (by decide) ?_
      refine r_iload_n (pc := 111) dX5_shows_111 rfl ?_
      refine r_iadd (pc := 112) dX5_shows_112 ?_
      refine r_iconst (v := (1 : Int32)) (pc := 113) dX5_shows_113 (by decide) ?_
      refine r_iast (pc := 114) dX5_shows_114 (fun m114 => ?_)
      refine r_aload_n (pc := 115) dX5_shows_115 rfl ?_
      refine r_getR (pc := 116)  gf_X5_7 dX5_shows_116 (fun v116 => ?_)
      refine r_bipush (v := (62 : Int32)) (pc := 119) dX5_shows_119 (by decide) ?_
      refine r_iload_n (pc := 121) dX5_shows_121 rfl ?_
      refine r_iadd (pc := 122) dX5_shows_122 ?_
      refine r_dup2 (pc := 123) dX5_shows_123 ?_
      refine r_iald (pc := 124) dX5_shows_124 (fun v124 => ?_)
      refine r_iconst (v := (1 : Int32)) (pc := 125) dX5_shows_125 (by decide) ?_
      refine r_iadd (pc := 126) dX5_shows_126 ?_
      refine r_iast (pc := 127) dX5_shows_127 (fun m127 => ?_)
      refine r_aload_n (pc := 128) dX5_shows_128 rfl ?_
      refine r_getR (pc := 129)  gf_X5_7 dX5_shows_129 (fun v129 => ?_)
      refine r_bipush (v := (67 : Int32)) (pc := 132) dX5_shows_132 (by decide) ?_
      refine r_iload_n (pc := 134) dX5_shows_134 rfl ?_
      refine r_iadd (pc := 135) dX5_shows_135 ?_
      refine r_dup2 (pc := 136) dX5_shows_136 ?_
      refine r_iald (pc := 137) dX5_shows_137 (fun v137 => ?_)
      refine r_iload (pc := 138) dX5_shows_138 rfl ?_
      refine r_iadd (pc := 140) dX5_shows_140 ?_
      refine r_iast (pc := 141) dX5_shows_141 (fun m141 => ?_)
      refine r_aload_n (pc := 142) dX5_shows_142 rfl ?_
      refine r_getR (pc := 143)  gf_X5_7 dX5_shows_143 (fun v143 => ?_)
      refine r_bipush (v := (75 : Int32)) (pc := 146) dX5_shows_146 (by decide) ?_
      refine r_dup2 (pc := 148) dX5_shows_148 ?_
      refine r_iald (pc := 149) dX5_shows_149 (fun v149 => ?_)
      refine r_iload_n (pc := 150) dX5_shows_150 rfl ?_
      refine r_iadd (pc := 151) dX5_shows_151 ?_
      refine r_iast (pc := 152) dX5_shows_152 (fun m152 => ?_)
      refine r_aload_n (pc := 153) dX5_shows_153 rfl ?_
      refine r_iload_n (pc := 154) dX5_shows_154 rfl ?_
      refine r_iload_n (pc := 155) dX5_shows_155 rfl ?_
      refine r_iload (pc := 156) dX5_shows_156 rfl ?_
      refine r_iload_n (pc := 158) dX5_shows_158 rfl ?_
      refine r_callV_V (st := []) (vs := [.inl x1, .inl x2, .inl x4, .inl x3]) (pc := 159)  ct_X5_log hc_4 cf_X5_76 rfl rfl (Nat.le_of_ble_eq_true rfl) (by decide +kernel) dX5_shows_159 (fun m159 => ?_)
      refine r_widen (u' := (0, 0)) (by decide +kernel) ?_
      refine r_iload (pc := 162) dX5_shows_162 rfl ?_
      exact r_iretI (pc := 164) dX5_shows_164 rfl (by decide +kernel)
    refine r_aload_n (pc := 56) dX5_shows_56 rfl ?_
    refine r_getR (pc := 57)  gf_X5_7 dX5_shows_57 (fun v57 => ?_)
    refine r_iload (pc := 60) dX5_shows_60 rfl ?_
    refine r_iconst (v := (0 : Int32)) (pc := 62) dX5_shows_62 (by decide) ?_
    refine r_callS_P (st := [.inr v57]) (vs := [.inl x5, .inl (0 : Int32)]) (pc := 63)  ct_X5_of cf_X5_33 rfl rfl (Nat.le_of_ble_eq_true rfl) (by decide +kernel) dX5_shows_63 (fun v63 => ?_)
    refine r_widen (u' := (0, 0)) (by decide +kernel) ?_
    refine r_iald (pc := 66) dX5_shows_66 (fun v66 => ?_)
    refine r_iload_n (pc := 67) dX5_shows_67 rfl ?_
    refine r_icmp_ne (pc := 68) (tgt := 99) dX5_shows_68 (by decide) ?_ ?_
    · refine r_iinc (v := (x5 + (1 : Int32))) (pc := 99) dX5_shows_99 rfl rfl (by decide) rfl ?_
      refine r_goto (tgt := 49) (pc := 102) dX5_shows_102 (by decide) ?_
      exact ih _ _ _ _ _ _ _
    refine r_aload_n (pc := 71) dX5_shows_71 rfl ?_
    refine r_getR (pc := 72)  gf_X5_7 dX5_shows_72 (fun v72 => ?_)
    refine r_iload (pc := 75) dX5_shows_75 rfl ?_
    refine r_iconst (v := (4 : Int32)) (pc := 77) dX5_shows_77 (by decide) ?_
    refine r_callS_P (st := [.inr v72]) (vs := [.inl x5, .inl (4 : Int32)]) (pc := 78)  ct_X5_of cf_X5_33 rfl rfl (Nat.le_of_ble_eq_true rfl) (by decide +kernel) dX5_shows_78 (fun v78 => ?_)
    refine r_widen (u' := (0, 0)) (by decide +kernel) ?_
    refine r_dup2 (pc := 81) dX5_shows_81 ?_
    refine r_iald (pc := 82) dX5_shows_82 (fun v82 => ?_)
    refine r_iconst (v := (1 : Int32)) (pc := 83) dX5_shows_83 (by decide) ?_
    refine r_iload_n (pc := 84) dX5_shows_84 rfl ?_
    refine r_ishl (pc := 85) dX5_shows_85 ?_
    refine r_ior (pc := 86) dX5_shows_86 ?_
    refine r_iast (pc := 87) dX5_shows_87 (fun m87 => ?_)
    refine r_aload_n (pc := 88) dX5_shows_88 rfl ?_
    refine r_iload (pc := 89) dX5_shows_89 rfl ?_
    refine r_iconst (v := (5 : Int32)) (pc := 91) dX5_shows_91 (by decide) ?_
    refine r_iload_n (pc := 92) dX5_shows_92 rfl ?_
    refine r_iconst (v := (3 : Int32)) (pc := 93) dX5_shows_93 (by decide) ?_
    refine r_irem (pc := 94) dX5_shows_94 (by decide) ?_
    refine r_iadd (pc := 95) dX5_shows_95 ?_
    refine r_callV_V (st := []) (vs := [.inl x5, .inl ((5 : Int32) + (x1 - x1 / (3 : Int32) * (3 : Int32)))]) (pc := 96)  ct_X5_wear hc_4 cf_X5_72 rfl rfl (Nat.le_of_ble_eq_true rfl) (by decide +kernel) dX5_shows_96 (fun m96 => ?_)
    refine r_widen (u' := (0, 0)) (by decide +kernel) ?_
    refine r_iinc (v := (x5 + (1 : Int32))) (pc := 99) dX5_shows_99 rfl rfl (by decide) rfl ?_
    refine r_goto (tgt := 49) (pc := 102) dX5_shows_102 (by decide) ?_
    exact ih _ _ _ _ _ _ _
noncomputable def f_X5_shows (r0 : QR) (x1 : Int32) (M : QM) : Option (Int32 × QM) :=
  (qrc M r0 [4] (f_X5_peopleAt r0 x1 M)).bind fun v2 => 
    (qrc M r0 [4] (f_X5_reels r0 x1 (1 : Int32) M)).bind fun v9 => 
    (gR M r0 [(4, 0)]).bind fun v15 => 
    (aI M v15 (56 : Int32)).bind fun v20 => 
    (gR M r0 [(4, 0)]).bind fun v25 => 
    (qrc M r0 [4] (f_X5_generatorFor r0 x1 v9 M)).bind fun v34 => 
    (aI M v25 (((50 : Int32) + ((2 : Int32) * v34)) + (1 : Int32))).bind fun v42 => 
    (sI M v25 (((50 : Int32) + ((2 : Int32) * v34)) + (1 : Int32)) (v42 - v9)).bind fun m45 => 
    f_X5_shows_49 11 r0 x1 v2 v9 (v2 * v20) (0 : Int32) m45
theorem s_X5_shows {l : Launch} {M0 : QM} {r0 : QR} {x1 : Int32} {M : QM} : SB eI l kX5_shows M0 (f_X5_shows r0 x1 M) (0, 0) 0 M [some (.inr r0), some (.inl x1), none, none, none, none] [] := by
  unfold f_X5_shows
  refine r_aload_n (pc := 0) dX5_shows_0 rfl ?_
  refine r_iload_n (pc := 1) dX5_shows_1 rfl ?_
  refine r_callV_P (st := []) (vs := [.inl x1]) (pc := 2)  ct_X5_peopleAt hc_4 cf_X5_69 rfl rfl (Nat.le_of_ble_eq_true rfl) (by decide +kernel) dX5_shows_2 (fun v2 => ?_)
  refine r_widen (u' := (0, 0)) (by decide +kernel) ?_
  refine r_istore_n (pc := 5) dX5_shows_5 (by decide) rfl ?_
  refine r_aload_n (pc := 6) dX5_shows_6 rfl ?_
  refine r_iload_n (pc := 7) dX5_shows_7 rfl ?_
  refine r_iconst (v := (1 : Int32)) (pc := 8) dX5_shows_8 (by decide) ?_
  refine r_callV_P (st := []) (vs := [.inl x1, .inl (1 : Int32)]) (pc := 9)  ct_X5_reels hc_4 cf_X5_60 rfl rfl (Nat.le_of_ble_eq_true rfl) (by decide +kernel) dX5_shows_9 (fun v9 => ?_)
  refine r_widen (u' := (0, 0)) (by decide +kernel) ?_
  refine r_istore_n (pc := 12) dX5_shows_12 (by decide) rfl ?_
  refine r_iload_n (pc := 13) dX5_shows_13 rfl ?_
  refine r_aload_n (pc := 14) dX5_shows_14 rfl ?_
  refine r_getR (pc := 15)  gf_X5_7 dX5_shows_15 (fun v15 => ?_)
  refine r_bipush (v := (56 : Int32)) (pc := 18) dX5_shows_18 (by decide) ?_
  refine r_iald (pc := 20) dX5_shows_20 (fun v20 => ?_)
  refine r_imul (pc := 21) dX5_shows_21 ?_
  refine r_istore (pc := 22) dX5_shows_22 (by decide) rfl ?_
  refine r_aload_n (pc := 24) dX5_shows_24 rfl ?_
  refine r_getR (pc := 25)  gf_X5_7 dX5_shows_25 (fun v25 => ?_)
  refine r_bipush (v := (50 : Int32)) (pc := 28) dX5_shows_28 (by decide) ?_
  refine r_iconst (v := (2 : Int32)) (pc := 30) dX5_shows_30 (by decide) ?_
  refine r_aload_n (pc := 31) dX5_shows_31 rfl ?_
  refine r_iload_n (pc := 32) dX5_shows_32 rfl ?_
  refine r_iload_n (pc := 33) dX5_shows_33 rfl ?_
  refine r_callV_P (st := [.inl (2 : Int32), .inl (50 : Int32), .inr v25]) (vs := [.inl x1, .inl v9]) (pc := 34)  ct_X5_generatorFor hc_4 cf_X5_63 rfl rfl (Nat.le_of_ble_eq_true rfl) (by decide +kernel) dX5_shows_34 (fun v34 => ?_)
  refine r_widen (u' := (0, 0)) (by decide +kernel) ?_
  refine r_imul (pc := 37) dX5_shows_37 ?_
  refine r_iadd (pc := 38) dX5_shows_38 ?_
  refine r_iconst (v := (1 : Int32)) (pc := 39) dX5_shows_39 (by decide) ?_
  refine r_iadd (pc := 40) dX5_shows_40 ?_
  refine r_dup2 (pc := 41) dX5_shows_41 ?_
  refine r_iald (pc := 42) dX5_shows_42 (fun v42 => ?_)
  refine r_iload_n (pc := 43) dX5_shows_43 rfl ?_
  refine r_isub (pc := 44) dX5_shows_44 ?_
  refine r_iast (pc := 45) dX5_shows_45 (fun m45 => ?_)
  refine r_iconst (v := (0 : Int32)) (pc := 46) dX5_shows_46 (by decide) ?_
  refine r_istore (pc := 47) dX5_shows_47 (by decide) rfl ?_
  exact s_X5_shows_49  11 _ _ _ _ _ _ _
theorem ct_X5_shows {l : Launch} {r0 : QR} {x1 : Int32} {M : QM} : ∀ b, f_X5_shows r0 x1 M = some b → PM l yX5_shows (ws_ yX5_shows cX5_shows 6 (some .int)) rmX5_shows [.inr r0, .inl x1] M (eI b).1 (eI b).2 := fun b hb =>
  PM.of (own := RX5) rfl (by decide +kernel) (Nat.le_of_ble_eq_true rfl) false (fun h => nomatch h) (s_X5_shows b hb)
/-! X5_show: BarnPicturesModel.show(I)I, kind I -/
abbrev rmX5_show : Room := ({ frames := 4, cells := 0, slots := 0, locals := 96 })
abbrev kX5_show : QK := (RX5, cX5_show, 3, (some .int), [], false, rmX5_show)
noncomputable def f_X5_show (r0 : QR) (x1 : Int32) (M : QM) : Option (Int32 × QM) :=
  (f_X5_isBarn x1 M).bind fun v1 => 
    if v1 = 0 then (some ((-10000001 : Int32), M))
    else (qrc M r0 [4] (f_X5_why r0 x1 M)).bind fun v12 => 
    if v12 ≤ 0 then ((qrc M r0 [4] (f_X5_know r0 M)).bind fun m26 => 
      qbI (qrc m26 r0 [4] (f_X5_shows r0 x1 m26)) fun v31 m31 => 
      some (v31, m31))
    else some (((-10000010 : Int32) - v12), M)
theorem s_X5_show {l : Launch} {M0 : QM} {r0 : QR} {x1 : Int32} {M : QM} : SB eI l kX5_show M0 (f_X5_show r0 x1 M) (0, 0) 0 M [some (.inr r0), some (.inl x1), none] [] := by
  unfold f_X5_show
  refine r_iload_n (pc := 0) dX5_show_0 rfl ?_
  refine r_callS_P (st := []) (vs := [.inl x1]) (pc := 1)  ct_X5_isBarn cf_X5_80 rfl rfl (Nat.le_of_ble_eq_true rfl) (by decide +kernel) dX5_show_1 (fun v1 => ?_)
  refine r_widen (u' := (0, 0)) (by decide +kernel) ?_
  refine r_if_ne (pc := 4) (tgt := 10) dX5_show_4 (by decide) ?_ ?_
  · refine r_aload_n (pc := 10) dX5_show_10 rfl ?_
    refine r_iload_n (pc := 11) dX5_show_11 rfl ?_
    refine r_callV_P (st := []) (vs := [.inl x1]) (pc := 12)  ct_X5_why hc_4 cf_X5_112 rfl rfl (Nat.le_of_ble_eq_true rfl) (by decide +kernel) dX5_show_12 (fun v12 => ?_)
    refine r_widen (u' := (0, 0)) (by decide +kernel) ?_
    refine r_istore_n (pc := 15) dX5_show_15 (by decide) rfl ?_
    refine r_iload_n (pc := 16) dX5_show_16 rfl ?_
    refine r_if_le (pc := 17) (tgt := 25) dX5_show_17 (by decide) ?_ ?_
    · refine r_aload_n (pc := 25) dX5_show_25 rfl ?_
      refine r_callV_V (st := []) (vs := []) (pc := 26)  ct_X5_know hc_4 cf_X5_83 rfl rfl (Nat.le_of_ble_eq_true rfl) (by decide +kernel) dX5_show_26 (fun m26 => ?_)
      refine r_widen (u' := (0, 0)) (by decide +kernel) ?_
      refine r_aload_n (pc := 29) dX5_show_29 rfl ?_
      refine r_iload_n (pc := 30) dX5_show_30 rfl ?_
      refine r_callV_I (st := []) (vs := [.inl x1]) (pc := 31)  ct_X5_shows hc_4 cf_X5_116 rfl rfl (Nat.le_of_ble_eq_true rfl) (by decide +kernel) dX5_show_31 (fun v31 m31 => ?_)
      refine r_widen (u' := (0, 0)) (by decide +kernel) ?_
      exact r_iretI (pc := 34) dX5_show_34 rfl (by decide +kernel)
    refine r_ldc (pc := 20) dX5_show_20 q1241 ?_
    refine r_iload_n (pc := 22) dX5_show_22 rfl ?_
    refine r_isub (pc := 23) dX5_show_23 ?_
    exact r_iretI (pc := 24) dX5_show_24 rfl (by decide +kernel)
  refine r_ldc (pc := 7) dX5_show_7 q1155 ?_
  exact r_iretI (pc := 9) dX5_show_9 rfl (by decide +kernel)
theorem ct_X5_show {l : Launch} {r0 : QR} {x1 : Int32} {M : QM} : ∀ b, f_X5_show r0 x1 M = some b → PM l yX5_show (ws_ yX5_show cX5_show 3 (some .int)) rmX5_show [.inr r0, .inl x1] M (eI b).1 (eI b).2 := fun b hb =>
  PM.of (own := RX5) rfl (by decide +kernel) (Nat.le_of_ble_eq_true rfl) false (fun h => nomatch h) (s_X5_show b hb)
/-! X1_nextDay: BarnPictures$Tour.nextDay()I, kind XI -/
abbrev rmX1_nextDay : Room := ({ frames := 8, cells := 1, slots := 7, locals := 130 })
abbrev kX1_nextDay : QK := (RX1, cX1_nextDay, 1, (some .int), [], false, rmX1_nextDay)
noncomputable def f_X1_nextDay_15 (r0 : QR) (s0 : Int32) (M : QM) : Option ((Int32 ⊕ QN) × QM) :=
  qbXV (f_X0_check s0 (-10000003 : Int32) M) (fun q17 m17 => some (.inr q17, m17)) fun m17 => 
    (gI m17 r0 [(1, 7)]).bind fun v22 => 
    (pF m17 r0 [(1, 7)] (.inl (v22 + (1 : Int32)))).bind fun m27 => 
    (gI m27 r0 [(1, 7)]).bind fun v31 => 
    some (.inl v31, m27)
theorem s_X1_nextDay_15 {l : Launch} {M0 : QM} : ∀ (r0 : QR) (s0 : Int32) (M : QM) , SB eXI l kX1_nextDay M0 (f_X1_nextDay_15 r0 s0 M) (0, 0) 15 M [some (.inr r0)] [.inl s0] := by
  intro r0 s0  M
  unfold f_X1_nextDay_15
  refine r_ldc (pc := 15) dX1_nextDay_15 q548 ?_
  refine r_callSN_XV (st := []) (vs := [.inl s0, .inl (-10000003 : Int32)]) (pc := 17)  ct_X0_check cf_X1_127 rfl rfl (Nat.le_of_ble_eq_true rfl) (by decide +kernel) dX1_nextDay_17 (fun q17 m17 => ?_) (fun m17 => ?_)
  · refine x_widen (u' := (1, 7)) (by decide +kernel) ?_
    exact x_outI (by decide) (by decide +kernel)
  refine r_widen (u' := (1, 7)) (by decide +kernel) ?_
  refine r_aload_n (pc := 20) dX1_nextDay_20 rfl ?_
  refine r_dup (pc := 21) dX1_nextDay_21 ?_
  refine r_getI (pc := 22)  gf_X1_61 dX1_nextDay_22 (fun v22 => ?_)
  refine r_iconst (v := (1 : Int32)) (pc := 25) dX1_nextDay_25 (by decide) ?_
  refine r_iadd (pc := 26) dX1_nextDay_26 ?_
  refine r_put (pc := 27)  pf_X1_61 (fun h => nomatch h) (fit_int _) dX1_nextDay_27 (fun m27 => ?_)
  refine r_aload_n (pc := 30) dX1_nextDay_30 rfl ?_
  refine r_getI (pc := 31)  gf_X1_61 dX1_nextDay_31 (fun v31 => ?_)
  exact r_iretX (pc := 34) dX1_nextDay_34 rfl (by decide +kernel)
noncomputable def f_X1_nextDay (r0 : QR) (M : QM) : Option ((Int32 ⊕ QN) × QM) :=
  (gI M r0 [(1, 7)]).bind fun v1 => 
    f_X1_nextDay_15 r0 (if (9999 : Int32) ≤ v1 then (0 : Int32) else (1 : Int32)) M
theorem s_X1_nextDay {l : Launch} {M0 : QM} {r0 : QR} {M : QM} : SB eXI l kX1_nextDay M0 (f_X1_nextDay r0 M) (0, 0) 0 M [some (.inr r0)] [] := by
  unfold f_X1_nextDay
  refine r_aload_n (pc := 0) dX1_nextDay_0 rfl ?_
  refine r_getI (pc := 1)  gf_X1_61 dX1_nextDay_1 (fun v1 => ?_)
  refine r_sipush (v := (9999 : Int32)) (pc := 4) dX1_nextDay_4 (by decide) ?_
  refine r_icmp_geF (F := (fun (z9 : Int32) => f_X1_nextDay_15 r0 z9 M)) (zA := (0 : Int32)) (zB := (1 : Int32)) (pc := 7) (tgt := 14) dX1_nextDay_7 (by decide) ?_ ?_
  · refine r_iconst (v := (0 : Int32)) (pc := 14) dX1_nextDay_14 (by decide) ?_
    exact s_X1_nextDay_15  _ _ _
  refine r_iconst (v := (1 : Int32)) (pc := 10) dX1_nextDay_10 (by decide) ?_
  refine r_goto (tgt := 15) (pc := 11) dX1_nextDay_11 (by decide) ?_
  exact s_X1_nextDay_15  _ _ _
theorem ct_X1_nextDay {l : Launch} {r0 : QR} {M : QM} : ∀ b, f_X1_nextDay r0 M = some b → PM l yX1_nextDay (ws_ yX1_nextDay cX1_nextDay 1 (some .int)) rmX1_nextDay [.inr r0] M (eXI b).1 (eXI b).2 := fun b hb =>
  PM.of (own := RX1) rfl (by decide +kernel) (Nat.le_of_ble_eq_true rfl) false (fun h => nomatch h) (s_X1_nextDay b hb)
/-! X0_nextDay: BarnPictures.nextDay()I, kind I -/
abbrev rmX0_nextDay : Room := ({ frames := 9, cells := 23, slots := 214, locals := 193 })
abbrev kX0_nextDay : QK := (RX0, cX0_nextDay, 3, (some .int), [(12, 21, 22, 8)], false, rmX0_nextDay)
noncomputable def f_X0_nextDay (r0 : QR) (M : QM) : Option (Int32 × QM) :=
  (nO M (M.1, 0) (.inl (1, fs_1))).bind fun m0 => 
    (gR m0 r0 [(0, 0)]).bind fun v5 => 
    (qnn (some (M.1, 0)) (f_X1_init_2 M.1 (some (M.1, 0)) v5 m0)).bind fun m8 => 
    qbXI (qrc m8 (some (M.1, 0)) [1] (f_X1_nextDay (some (M.1, 0)) m8)) (fun q15 m15 => if qcls m15 q15 = some 14 then ((qrc m15 (some q15) [14] (f_X7_code (some q15) m15)).bind fun v24 => 
        some (v24, m15))
      else none) fun v15 m15 => 
    qbI (qrc m15 r0 [0] (f_X0_accept r0 (some (M.1, 0)) v15 m15)) fun v18 m18 => 
    some (v18, m18)
theorem s_X0_nextDay {l : Launch} {M0 : QM} {r0 : QR} {M : QM} : SB eI l kX0_nextDay M0 (f_X0_nextDay r0 M) (0, 0) 0 M [some (.inr r0), none, none] [] := by
  unfold f_X0_nextDay
  refine r_new (pc := 0)  nf_X0_19 (by decide +kernel) dX0_nextDay_0 (fun m0 => ?_)
  refine r_widen (u' := (1, 14)) (by decide +kernel) ?_
  refine r_dup (pc := 3) dX0_nextDay_3 ?_
  refine r_aload_n (pc := 4) dX0_nextDay_4 rfl ?_
  refine r_getR (pc := 5)  gf_X0_22 dX0_nextDay_5 (fun v5 => ?_)
  refine r_callI_V (st := [.inr (some (M.1, 0))]) (vs := [.inr v5]) (pc := 8)  ct_X1_init_2 cf_X0_59 rfl rfl (Nat.le_of_ble_eq_true rfl) (by decide +kernel) dX0_nextDay_8 (fun m8 => ?_)
  refine r_widen (u' := (21, 143)) (by decide +kernel) ?_
  refine r_astore_n (pc := 11) dX0_nextDay_11 (by decide) rfl ?_
  refine r_aload_n (pc := 12) dX0_nextDay_12 rfl ?_
  refine r_aload_n (pc := 13) dX0_nextDay_13 rfl ?_
  refine r_aload_n (pc := 14) dX0_nextDay_14 rfl ?_
  refine r_callV_XI (st := [.inr (some (M.1, 0)), .inr r0]) (vs := []) (pc := 15)  ct_X1_nextDay hc_1 cf_X0_99 rfl rfl (Nat.le_of_ble_eq_true rfl) (by decide +kernel) dX0_nextDay_15 (fun q15 m15 => ?_) (fun v15 m15 => ?_)
  · refine x_widen (u' := (22, 150)) (by decide +kernel) ?_
    refine x_catch (ci := 14) (pc := 15) [] ⟨12, 21, 22, 8⟩ [] rfl rfl (fun z hz => nomatch hz) (by decide) (by decide) q283 (qnw_in q314 rfl) ?_ ?_
    · refine r_astore_n (pc := 22) dX0_nextDay_22 (by decide) rfl ?_
      refine r_aload_n (pc := 23) dX0_nextDay_23 rfl ?_
      refine r_callV_P (st := []) (vs := []) (pc := 24)  ct_X7_code hc_14 cf_X0_70 rfl rfl (Nat.le_of_ble_eq_true rfl) (by decide +kernel) dX0_nextDay_24 (fun v24 => ?_)
      refine r_widen (u' := (22, 150)) (by decide +kernel) ?_
      exact r_iretI (pc := 27) dX0_nextDay_27 rfl (by decide +kernel)
    exact x_none
  refine r_widen (u' := (22, 150)) (by decide +kernel) ?_
  refine r_callV_I (st := []) (vs := [.inr (some (M.1, 0)), .inl v15]) (pc := 18)  ct_X0_accept hc_0 cf_X0_66 rfl rfl (Nat.le_of_ble_eq_true rfl) (by decide +kernel) dX0_nextDay_18 (fun v18 m18 => ?_)
  refine r_widen (u' := (23, 214)) (by decide +kernel) ?_
  exact r_iretI (pc := 21) dX0_nextDay_21 rfl (by decide +kernel)
theorem ct_X0_nextDay {l : Launch} {r0 : QR} {M : QM} : ∀ b, f_X0_nextDay r0 M = some b → PM l yX0_nextDay (wsW_ yX0_nextDay cX0_nextDay 3 (some .int) [(12, 21, 22, 8)]) rmX0_nextDay [.inr r0] M (eI b).1 (eI b).2 := fun b hb =>
  PM.ofH (own := RX0) rfl (by decide +kernel) (Nat.le_of_ble_eq_true rfl) (s_X0_nextDay b hb)
/-! X5_begins: BarnPicturesModel.begins()I, kind I -/
abbrev rmX5_begins : Room := ({ frames := 0, cells := 0, slots := 0, locals := 0 })
abbrev kX5_begins : QK := (RX5, cX5_begins, 2, (some .int), [], false, rmX5_begins)
noncomputable def f_X5_begins_13 : Nat → QR → Int32 → QM → Option (Int32 × QM)
  | 0, _, _, _ => none
  | n + 1, r0, x1, M =>
    if (5 : Int32) ≤ x1 then ((gR M r0 [(4, 0)]).bind fun v35 => 
      (aI M v35 (55 : Int32)).bind fun v40 => 
      some (v40, M))
    else (gR M r0 [(4, 0)]).bind fun v19 => 
    (sI M v19 ((57 : Int32) + x1) (0 : Int32)).bind fun m27 => 
    f_X5_begins_13 n r0 (x1 + (1 : Int32)) m27
theorem s_X5_begins_13 {l : Launch} {M0 : QM} : ∀ (n : Nat) (r0 : QR) (x1 : Int32) (M : QM) , SB eI l kX5_begins M0 (f_X5_begins_13 n r0 x1 M) (0, 0) 13 M [some (.inr r0), some (.inl x1)] [] := by
  intro n
  induction n with
  | zero => intros; rw [f_X5_begins_13]; exact r_none
  | succ n ih =>
    intro r0 x1  M
    rw [f_X5_begins_13]
    refine r_iload_n (pc := 13) dX5_begins_13 rfl ?_
    refine r_iconst (v := (5 : Int32)) (pc := 14) dX5_begins_14 (by decide) ?_
    refine r_icmp_ge (pc := 15) (tgt := 34) dX5_begins_15 (by decide) ?_ ?_
    · refine r_aload_n (pc := 34) dX5_begins_34 rfl ?_
      refine r_getR (pc := 35)  gf_X5_7 dX5_begins_35 (fun v35 => ?_)
      refine r_bipush (v := (55 : Int32)) (pc := 38) dX5_begins_38 (by decide) ?_
      refine r_iald (pc := 40) dX5_begins_40 (fun v40 => ?_)
      exact r_iretI (pc := 41) dX5_begins_41 rfl (by decide +kernel)
    refine r_aload_n (pc := 18) dX5_begins_18 rfl ?_
    refine r_getR (pc := 19)  gf_X5_7 dX5_begins_19 (fun v19 => ?_)
    refine r_bipush (v := (57 : Int32)) (pc := 22) dX5_begins_22 (by decide) ?_
    refine r_iload_n (pc := 24) dX5_begins_24 rfl ?_
    refine r_iadd (pc := 25) dX5_begins_25 ?_
    refine r_iconst (v := (0 : Int32)) (pc := 26) dX5_begins_26 (by decide) ?_
    refine r_iast (pc := 27) dX5_begins_27 (fun m27 => ?_)
    refine r_iinc (v := (x1 + (1 : Int32))) (pc := 28) dX5_begins_28 rfl rfl (by decide) rfl ?_
    refine r_goto (tgt := 13) (pc := 31) dX5_begins_31 (by decide) ?_
    exact ih _ _ _
noncomputable def f_X5_begins (r0 : QR) (M : QM) : Option (Int32 × QM) :=
  (gR M r0 [(4, 0)]).bind fun v1 => 
    (aI M v1 (55 : Int32)).bind fun v7 => 
    (sI M v1 (55 : Int32) (v7 + (1 : Int32))).bind fun m10 => 
    f_X5_begins_13 6 r0 (0 : Int32) m10
theorem s_X5_begins {l : Launch} {M0 : QM} {r0 : QR} {M : QM} : SB eI l kX5_begins M0 (f_X5_begins r0 M) (0, 0) 0 M [some (.inr r0), none] [] := by
  unfold f_X5_begins
  refine r_aload_n (pc := 0) dX5_begins_0 rfl ?_
  refine r_getR (pc := 1)  gf_X5_7 dX5_begins_1 (fun v1 => ?_)
  refine r_bipush (v := (55 : Int32)) (pc := 4) dX5_begins_4 (by decide) ?_
  refine r_dup2 (pc := 6) dX5_begins_6 ?_
  refine r_iald (pc := 7) dX5_begins_7 (fun v7 => ?_)
  refine r_iconst (v := (1 : Int32)) (pc := 8) dX5_begins_8 (by decide) ?_
  refine r_iadd (pc := 9) dX5_begins_9 ?_
  refine r_iast (pc := 10) dX5_begins_10 (fun m10 => ?_)
  refine r_iconst (v := (0 : Int32)) (pc := 11) dX5_begins_11 (by decide) ?_
  refine r_istore_n (pc := 12) dX5_begins_12 (by decide) rfl ?_
  exact s_X5_begins_13  6 _ _ _
theorem ct_X5_begins {l : Launch} {r0 : QR} {M : QM} : ∀ b, f_X5_begins r0 M = some b → PM l yX5_begins (ws_ yX5_begins cX5_begins 2 (some .int)) rmX5_begins [.inr r0] M (eI b).1 (eI b).2 := fun b hb =>
  PM.of (own := RX5) rfl (by decide +kernel) (Nat.le_of_ble_eq_true rfl) false (fun h => nomatch h) (s_X5_begins b hb)
/-! X5_nextDay: BarnPicturesModel.nextDay()I, kind I -/
abbrev rmX5_nextDay : Room := ({ frames := 1, cells := 0, slots := 0, locals := 21 })
abbrev kX5_nextDay : QK := (RX5, cX5_nextDay, 1, (some .int), [], false, rmX5_nextDay)
noncomputable def f_X5_nextDay (r0 : QR) (M : QM) : Option (Int32 × QM) :=
  (gR M r0 [(4, 0)]).bind fun v1 => 
    (aI M v1 (55 : Int32)).bind fun v6 => 
    if v6 = (9999 : Int32) then (some ((-10000003 : Int32), M))
    else (qrc M r0 [4] (f_X5_know r0 M)).bind fun m17 => 
    qbI (qrc m17 r0 [4] (f_X5_begins r0 m17)) fun v21 m21 => 
    some (v21, m21)
theorem s_X5_nextDay {l : Launch} {M0 : QM} {r0 : QR} {M : QM} : SB eI l kX5_nextDay M0 (f_X5_nextDay r0 M) (0, 0) 0 M [some (.inr r0)] [] := by
  unfold f_X5_nextDay
  refine r_aload_n (pc := 0) dX5_nextDay_0 rfl ?_
  refine r_getR (pc := 1)  gf_X5_7 dX5_nextDay_1 (fun v1 => ?_)
  refine r_bipush (v := (55 : Int32)) (pc := 4) dX5_nextDay_4 (by decide) ?_
  refine r_iald (pc := 6) dX5_nextDay_6 (fun v6 => ?_)
  refine r_sipush (v := (9999 : Int32)) (pc := 7) dX5_nextDay_7 (by decide) ?_
  refine r_icmp_ne (pc := 10) (tgt := 16) dX5_nextDay_10 (by decide) ?_ ?_
  · refine r_aload_n (pc := 16) dX5_nextDay_16 rfl ?_
    refine r_callV_V (st := []) (vs := []) (pc := 17)  ct_X5_know hc_4 cf_X5_83 rfl rfl (Nat.le_of_ble_eq_true rfl) (by decide +kernel) dX5_nextDay_17 (fun m17 => ?_)
    refine r_widen (u' := (0, 0)) (by decide +kernel) ?_
    refine r_aload_n (pc := 20) dX5_nextDay_20 rfl ?_
    refine r_callV_I (st := []) (vs := []) (pc := 21)  ct_X5_begins hc_4 cf_X5_119 rfl rfl (Nat.le_of_ble_eq_true rfl) (by decide +kernel) dX5_nextDay_21 (fun v21 m21 => ?_)
    refine r_widen (u' := (0, 0)) (by decide +kernel) ?_
    exact r_iretI (pc := 24) dX5_nextDay_24 rfl (by decide +kernel)
  refine r_ldc (pc := 13) dX5_nextDay_13 q1188 ?_
  exact r_iretI (pc := 15) dX5_nextDay_15 rfl (by decide +kernel)
theorem ct_X5_nextDay {l : Launch} {r0 : QR} {M : QM} : ∀ b, f_X5_nextDay r0 M = some b → PM l yX5_nextDay (ws_ yX5_nextDay cX5_nextDay 1 (some .int)) rmX5_nextDay [.inr r0] M (eI b).1 (eI b).2 := fun b hb =>
  PM.of (own := RX5) rfl (by decide +kernel) (Nat.le_of_ble_eq_true rfl) false (fun h => nomatch h) (s_X5_nextDay b hb)
/-! J3_length: java/lang/AbstractStringBuilder.length()I, kind P -/
abbrev rmJ3_length : Room := ({ frames := 0, cells := 0, slots := 0, locals := 0 })
abbrev kJ3_length : QK := (RJ3, cJ3_length, 1, (some .int), [], false, rmJ3_length)
noncomputable def f_J3_length (r0 : QR) (M : QM) : Option (Int32) :=
  (gI M r0 [(8, 3)]).bind fun v1 => 
    some v1
theorem s_J3_length {l : Launch} {r0 : QR} {M : QM} : SB (eP M) l kJ3_length M (f_J3_length r0 M) (0, 0) 0 M [some (.inr r0)] [] := by
  unfold f_J3_length
  refine r_aload_n (pc := 0) dJ3_length_0 rfl ?_
  refine r_getI (pc := 1)  gf_J3_79 dJ3_length_1 (fun v1 => ?_)
  exact r_iretP (pc := 4) dJ3_length_4 rfl (by decide +kernel)
theorem ct_J3_length {l : Launch} {r0 : QR} {M : QM} : ∀ b, f_J3_length r0 M = some b → PM l yJ3_length (ws_ yJ3_length cJ3_length 1 (some .int)) rmJ3_length [.inr r0] M ((eP M) b).1 ((eP M) b).2 := fun b hb =>
  PM.of (own := RJ3) rfl (by decide +kernel) (Nat.le_of_ble_eq_true rfl) false (fun h => nomatch h) (s_J3_length b hb)
/-! J4_length: java/lang/StringBuilder.length()I, kind P -/
abbrev rmJ4_length : Room := ({ frames := 1, cells := 0, slots := 0, locals := 20 })
abbrev kJ4_length : QK := (RJ4, cJ4_length, 1, (some .int), [], false, rmJ4_length)
noncomputable def f_J4_length (r0 : QR) (M : QM) : Option (Int32) :=
  (qrc M r0 [8] (f_J3_length r0 M)).bind fun v1 => 
    some v1
theorem s_J4_length {l : Launch} {r0 : QR} {M : QM} : SB (eP M) l kJ4_length M (f_J4_length r0 M) (0, 0) 0 M [some (.inr r0)] [] := by
  unfold f_J4_length
  refine r_aload_n (pc := 0) dJ4_length_0 rfl ?_
  refine r_callSU_P (st := []) (vs := []) (pc := 1)  ct_J3_length hc_8 cf_J4_343 rfl rfl (Nat.le_of_ble_eq_true rfl) (by decide +kernel) dJ4_length_1 (fun v1 => ?_)
  refine r_widen (u' := (0, 0)) (by decide +kernel) ?_
  exact r_iretP (pc := 4) dJ4_length_4 rfl (by decide +kernel)
theorem ct_J4_length {l : Launch} {r0 : QR} {M : QM} : ∀ b, f_J4_length r0 M = some b → PM l yJ4_length (ws_ yJ4_length cJ4_length 1 (some .int)) rmJ4_length [.inr r0] M ((eP M) b).1 ((eP M) b).2 := fun b hb =>
  PM.of (own := RJ4) rfl (by decide +kernel) (Nat.le_of_ble_eq_true rfl) false (fun h => nomatch h) (s_J4_length b hb)
/-! J3_newCapacity: java/lang/AbstractStringBuilder.newCapacity(I)I, kind P -/
abbrev rmJ3_newCapacity : Room := ({ frames := 2, cells := 0, slots := 0, locals := 45 })
abbrev kJ3_newCapacity : QK := (RJ3, cJ3_newCapacity, 6, (some .int), [], false, rmJ3_newCapacity)
noncomputable def f_J3_newCapacity (r0 : QR) (x1 : Int32) (M : QM) : Option (Int32) :=
  (gR M r0 [(8, 0)]).bind fun v1 => 
    (aL M v1).bind fun v4 => 
    (gI M r0 [(8, 1)]).bind fun v8 => 
    (gI M r0 [(8, 1)]).bind fun v24 => 
    (f_J12_newLength v4 ((x1 <<< (v8 &&& 31)) - v4) (v4 + ((2 : Int32) <<< (v24 &&& 31))) M).bind fun v29 => 
    if v29 = (2147483647 : Int32) then (none)
    else (gI M r0 [(8, 1)]).bind fun v54 => 
    some (v29 >>> (v54 &&& 31))
theorem s_J3_newCapacity {l : Launch} {r0 : QR} {x1 : Int32} {M : QM} : SB (eP M) l kJ3_newCapacity M (f_J3_newCapacity r0 x1 M) (0, 0) 0 M [some (.inr r0), some (.inl x1), none, none, none, none] [] := by
  unfold f_J3_newCapacity
  refine r_aload_n (pc := 0) dJ3_newCapacity_0 rfl ?_
  refine r_getR (pc := 1)  gf_J3_15 dJ3_newCapacity_1 (fun v1 => ?_)
  refine r_alen (pc := 4) dJ3_newCapacity_4 (fun v4 => ?_)
  refine r_istore_n (pc := 5) dJ3_newCapacity_5 (by decide) rfl ?_
  refine r_iload_n (pc := 6) dJ3_newCapacity_6 rfl ?_
  refine r_aload_n (pc := 7) dJ3_newCapacity_7 rfl ?_
  refine r_getI (pc := 8)  gf_J3_22 dJ3_newCapacity_8 (fun v8 => ?_)
  refine r_ishl (pc := 11) dJ3_newCapacity_11 ?_
  refine r_istore_n (pc := 12) dJ3_newCapacity_12 (by decide) rfl ?_
  refine r_iload_n (pc := 13) dJ3_newCapacity_13 rfl ?_
  refine r_iload_n (pc := 14) dJ3_newCapacity_14 rfl ?_
  refine r_isub (pc := 15) dJ3_newCapacity_15 ?_
  refine r_istore (pc := 16) dJ3_newCapacity_16 (by decide) rfl ?_
  refine r_iload_n (pc := 18) dJ3_newCapacity_18 rfl ?_
  refine r_iload (pc := 19) dJ3_newCapacity_19 rfl ?_
  refine r_iload_n (pc := 21) dJ3_newCapacity_21 rfl ?_
  refine r_iconst (v := (2 : Int32)) (pc := 22) dJ3_newCapacity_22 (by decide) ?_
  refine r_aload_n (pc := 23) dJ3_newCapacity_23 rfl ?_
  refine r_getI (pc := 24)  gf_J3_22 dJ3_newCapacity_24 (fun v24 => ?_)
  refine r_ishl (pc := 27) dJ3_newCapacity_27 ?_
  refine r_iadd (pc := 28) dJ3_newCapacity_28 ?_
  refine r_callS_P (st := []) (vs := [.inl v4, .inl ((x1 <<< (v8 &&& 31)) - v4), .inl (v4 + ((2 : Int32) <<< (v24 &&& 31)))]) (pc := 29)  ct_J12_newLength cf_J3_114 rfl rfl (Nat.le_of_ble_eq_true rfl) (by decide +kernel) dJ3_newCapacity_29 (fun v29 => ?_)
  refine r_widen (u' := (0, 0)) (by decide +kernel) ?_
  refine r_istore (pc := 32) dJ3_newCapacity_32 (by decide) rfl ?_
  refine r_iload (pc := 34) dJ3_newCapacity_34 rfl ?_
  refine r_ldc (pc := 36) dJ3_newCapacity_36 q680 ?_
  refine r_icmp_ne (pc := 38) (tgt := 51) dJ3_newCapacity_38 (by decide) ?_ ?_
  · refine r_iload (pc := 51) dJ3_newCapacity_51 rfl ?_
    refine r_aload_n (pc := 53) dJ3_newCapacity_53 rfl ?_
    refine r_getI (pc := 54)  gf_J3_22 dJ3_newCapacity_54 (fun v54 => ?_)
    refine r_ishr (pc := 57) dJ3_newCapacity_57 ?_
    exact r_iretP (pc := 58) dJ3_newCapacity_58 rfl (by decide +kernel)
  exact r_none
theorem ct_J3_newCapacity {l : Launch} {r0 : QR} {x1 : Int32} {M : QM} : ∀ b, f_J3_newCapacity r0 x1 M = some b → PM l yJ3_newCapacity (ws_ yJ3_newCapacity cJ3_newCapacity 6 (some .int)) rmJ3_newCapacity [.inr r0, .inl x1] M ((eP M) b).1 ((eP M) b).2 := fun b hb =>
  PM.of (own := RJ3) rfl (by decide +kernel) (Nat.le_of_ble_eq_true rfl) false (fun h => nomatch h) (s_J3_newCapacity b hb)
/-! J13_copyOf_3: java/util/Arrays.copyOf([BI)[B, kind R -/
abbrev rmJ13_copyOf_3 : Room := ({ frames := 1, cells := 1, slots := 512, locals := 40 })
abbrev kJ13_copyOf_3 : QK := (RJ13, cJ13_copyOf_3, 3, (some (.array .byte)), [], false, rmJ13_copyOf_3)
noncomputable def f_J13_copyOf_3 (r0 : QR) (x1 : Int32) (M : QM) : Option (QR × QM) :=
  (aL M r0).bind fun v2 => 
    if x1 = v2 then (none)
    else (nAi M (M.1, 0) 1 x1 512).bind fun m15 => 
    (aL m15 r0).bind fun v23 => 
    (cpB m15 r0 (0 : Int32) (some (M.1, 0)) (0 : Int32) (if x1 < v23 then x1 else v23)).bind fun m28 => 
    some ((some (M.1, 0)), m28)
theorem s_J13_copyOf_3 {l : Launch} {M0 : QM} {r0 : QR} {x1 : Int32} {M : QM} : SB eR l kJ13_copyOf_3 M0 (f_J13_copyOf_3 r0 x1 M) (0, 0) 0 M [some (.inr r0), some (.inl x1), none] [] := by
  unfold f_J13_copyOf_3
  refine r_iload_n (pc := 0) dJ13_copyOf_3_0 rfl ?_
  refine r_aload_n (pc := 1) dJ13_copyOf_3_1 rfl ?_
  refine r_alen (pc := 2) dJ13_copyOf_3_2 (fun v2 => ?_)
  refine r_icmp_ne (pc := 3) (tgt := 14) dJ13_copyOf_3_3 (by decide) ?_ ?_
  · refine r_iload_n (pc := 14) dJ13_copyOf_3_14 rfl ?_
    refine r_newB (pc := 15)  (B := 512) (by decide +kernel) dJ13_copyOf_3_15 (fun m15 => ?_)
    refine r_widen (u' := (1, 512)) (by decide +kernel) ?_
    refine r_astore_n (pc := 17) dJ13_copyOf_3_17 (by decide) rfl ?_
    refine r_aload_n (pc := 18) dJ13_copyOf_3_18 rfl ?_
    refine r_iconst (v := (0 : Int32)) (pc := 19) dJ13_copyOf_3_19 (by decide) ?_
    refine r_aload_n (pc := 20) dJ13_copyOf_3_20 rfl ?_
    refine r_iconst (v := (0 : Int32)) (pc := 21) dJ13_copyOf_3_21 (by decide) ?_
    refine r_aload_n (pc := 22) dJ13_copyOf_3_22 rfl ?_
    refine r_alen (pc := 23) dJ13_copyOf_3_23 (fun v23 => ?_)
    refine r_iload_n (pc := 24) dJ13_copyOf_3_24 rfl ?_
    refine r_mmin (pc := 25)  ⟨q480, q481, q64, q482⟩ ⟨⟨Nat.le_of_ble_eq_true rfl, Nat.le_of_ble_eq_true rfl⟩, (by decide +kernel)⟩ dJ13_copyOf_3_25 ?_
    refine r_cpB (pc := 28)  ⟨⟨q483, q301, q300, q59⟩, Nat.le_of_ble_eq_true rfl, Nat.le_of_ble_eq_true rfl⟩ dJ13_copyOf_3_28 (fun m28 => ?_)
    refine r_aload_n (pc := 31) dJ13_copyOf_3_31 rfl ?_
    exact r_aretR (pc := 32) dJ13_copyOf_3_32 rfl (Or.inr ⟨_, rfl⟩) (by decide +kernel)
  refine r_aload_n (pc := 6) dJ13_copyOf_3_6 rfl ?_
  exact r_none
theorem ct_J13_copyOf_3 {l : Launch} {r0 : QR} {x1 : Int32} {M : QM} : ∀ b, f_J13_copyOf_3 r0 x1 M = some b → PM l yJ13_copyOf_3 (ws_ yJ13_copyOf_3 cJ13_copyOf_3 3 (some (.array .byte))) rmJ13_copyOf_3 [.inr r0, .inl x1] M (eR b).1 (eR b).2 := fun b hb =>
  PM.of (own := RJ13) rfl (by decide +kernel) (Nat.le_of_ble_eq_true rfl) false (fun h => nomatch h) (s_J13_copyOf_3 b hb)
/-! J3_ensureCapacityInternal: java/lang/AbstractStringBuilder.ensureCapacityInternal(I)V, kind V -/
abbrev rmJ3_ensureCapacityInternal : Room := ({ frames := 3, cells := 1, slots := 512, locals := 70 })
abbrev kJ3_ensureCapacityInternal : QK := (RJ3, cJ3_ensureCapacityInternal, 3, none, [], false, rmJ3_ensureCapacityInternal)
noncomputable def f_J3_ensureCapacityInternal (r0 : QR) (x1 : Int32) (M : QM) : Option (QM) :=
  (gR M r0 [(8, 0)]).bind fun v1 => 
    (aL M v1).bind fun v4 => 
    (gI M r0 [(8, 1)]).bind fun v6 => 
    if (x1 - (v4 >>> (v6 &&& 31))) ≤ 0 then (some M)
    else (gR M r0 [(8, 0)]).bind fun v19 => 
    (qrc M r0 [8] (f_J3_newCapacity r0 x1 M)).bind fun v24 => 
    (gI M r0 [(8, 1)]).bind fun v28 => 
    qbR (f_J13_copyOf_3 v19 (v24 <<< (v28 &&& 31)) M) fun v32 m32 => 
    (pF m32 r0 [(8, 0)] (.inr v32)).bind fun m35 => 
    some m35
theorem s_J3_ensureCapacityInternal {l : Launch} {M0 : QM} {r0 : QR} {x1 : Int32} {M : QM} : SB eV l kJ3_ensureCapacityInternal M0 (f_J3_ensureCapacityInternal r0 x1 M) (0, 0) 0 M [some (.inr r0), some (.inl x1), none] [] := by
  unfold f_J3_ensureCapacityInternal
  refine r_aload_n (pc := 0) dJ3_ensureCapacityInternal_0 rfl ?_
  refine r_getR (pc := 1)  gf_J3_15 dJ3_ensureCapacityInternal_1 (fun v1 => ?_)
  refine r_alen (pc := 4) dJ3_ensureCapacityInternal_4 (fun v4 => ?_)
  refine r_aload_n (pc := 5) dJ3_ensureCapacityInternal_5 rfl ?_
  refine r_getI (pc := 6)  gf_J3_22 dJ3_ensureCapacityInternal_6 (fun v6 => ?_)
  refine r_ishr (pc := 9) dJ3_ensureCapacityInternal_9 ?_
  refine r_istore_n (pc := 10) dJ3_ensureCapacityInternal_10 (by decide) rfl ?_
  refine r_iload_n (pc := 11) dJ3_ensureCapacityInternal_11 rfl ?_
  refine r_iload_n (pc := 12) dJ3_ensureCapacityInternal_12 rfl ?_
  refine r_isub (pc := 13) dJ3_ensureCapacityInternal_13 ?_
  refine r_if_le (pc := 14) (tgt := 38) dJ3_ensureCapacityInternal_14 (by decide) ?_ ?_
  · exact r_vretV (pc := 38) dJ3_ensureCapacityInternal_38 rfl (by decide +kernel)
  refine r_aload_n (pc := 17) dJ3_ensureCapacityInternal_17 rfl ?_
  refine r_aload_n (pc := 18) dJ3_ensureCapacityInternal_18 rfl ?_
  refine r_getR (pc := 19)  gf_J3_15 dJ3_ensureCapacityInternal_19 (fun v19 => ?_)
  refine r_aload_n (pc := 22) dJ3_ensureCapacityInternal_22 rfl ?_
  refine r_iload_n (pc := 23) dJ3_ensureCapacityInternal_23 rfl ?_
  refine r_callUs_P (st := [.inr v19, .inr r0]) (vs := [.inl x1]) (pc := 24)  ct_J3_newCapacity cf_J3_104 rfl rfl (Nat.le_of_ble_eq_true rfl) (by decide +kernel) dJ3_ensureCapacityInternal_24 (fun v24 => ?_)
  refine r_widen (u' := (0, 0)) (by decide +kernel) ?_
  refine r_aload_n (pc := 27) dJ3_ensureCapacityInternal_27 rfl ?_
  refine r_getI (pc := 28)  gf_J3_22 dJ3_ensureCapacityInternal_28 (fun v28 => ?_)
  refine r_ishl (pc := 31) dJ3_ensureCapacityInternal_31 ?_
  refine r_callS_R (st := [.inr r0]) (vs := [.inr v19, .inl (v24 <<< (v28 &&& 31))]) (pc := 32)  ct_J13_copyOf_3 cf_J3_108 rfl rfl (Nat.le_of_ble_eq_true rfl) (by decide +kernel) dJ3_ensureCapacityInternal_32 (fun v32 m32 => ?_)
  refine r_widen (u' := (1, 512)) (by decide +kernel) ?_
  refine r_put (pc := 35)  pf_J3_15 (fun h => nomatch h) (fit_arr _ _) dJ3_ensureCapacityInternal_35 (fun m35 => ?_)
  exact r_vretV (pc := 38) dJ3_ensureCapacityInternal_38 rfl (by decide +kernel)
theorem ct_J3_ensureCapacityInternal {l : Launch} {r0 : QR} {x1 : Int32} {M : QM} : ∀ b, f_J3_ensureCapacityInternal r0 x1 M = some b → PM l yJ3_ensureCapacityInternal (ws_ yJ3_ensureCapacityInternal cJ3_ensureCapacityInternal 3 none) rmJ3_ensureCapacityInternal [.inr r0, .inl x1] M (eV b).1 (eV b).2 := fun b hb =>
  PM.of (own := RJ3) rfl (by decide +kernel) (Nat.le_of_ble_eq_true rfl) false (fun h => nomatch h) (s_J3_ensureCapacityInternal b hb)
/-! J3_isLatin1: java/lang/AbstractStringBuilder.isLatin1()Z, kind P -/
abbrev rmJ3_isLatin1 : Room := ({ frames := 0, cells := 0, slots := 0, locals := 0 })
abbrev kJ3_isLatin1 : QK := (RJ3, cJ3_isLatin1, 1, (some .boolean), [], false, rmJ3_isLatin1)
noncomputable def f_J3_isLatin1 (r0 : QR) (M : QM) : Option (Int32) :=
  if (1 : Int32) = 0 then (some (0 : Int32))
    else (gI M r0 [(8, 1)]).bind fun v7 => 
    if v7 = 0 then (some (1 : Int32))
    else some (0 : Int32)
theorem s_J3_isLatin1 {l : Launch} {r0 : QR} {M : QM} : SB (eP M) l kJ3_isLatin1 M (f_J3_isLatin1 r0 M) (0, 0) 0 M [some (.inr r0)] [] := by
  unfold f_J3_isLatin1
  refine r_gsCompact (pc := 0) q240 dJ3_isLatin1_0 ?_
  refine r_if_eq (pc := 3) (tgt := 17) dJ3_isLatin1_3 (by decide) ?_ ?_
  · refine r_iconst (v := (0 : Int32)) (pc := 17) dJ3_isLatin1_17 (by decide) ?_
    exact r_zretP (pc := 18) dJ3_isLatin1_18 rfl rfl (by decide +kernel)
  refine r_aload_n (pc := 6) dJ3_isLatin1_6 rfl ?_
  refine r_getI (pc := 7)  gf_J3_22 dJ3_isLatin1_7 (fun v7 => ?_)
  refine r_if_ne (pc := 10) (tgt := 17) dJ3_isLatin1_10 (by decide) ?_ ?_
  · refine r_iconst (v := (0 : Int32)) (pc := 17) dJ3_isLatin1_17 (by decide) ?_
    exact r_zretP (pc := 18) dJ3_isLatin1_18 rfl rfl (by decide +kernel)
  refine r_iconst (v := (1 : Int32)) (pc := 13) dJ3_isLatin1_13 (by decide) ?_
  refine r_goto (tgt := 18) (pc := 14) dJ3_isLatin1_14 (by decide) ?_
  exact r_zretP (pc := 18) dJ3_isLatin1_18 rfl rfl (by decide +kernel)
theorem ct_J3_isLatin1 {l : Launch} {r0 : QR} {M : QM} : ∀ b, f_J3_isLatin1 r0 M = some b → PM l yJ3_isLatin1 (ws_ yJ3_isLatin1 cJ3_isLatin1 1 (some .boolean)) rmJ3_isLatin1 [.inr r0] M ((eP M) b).1 ((eP M) b).2 := fun b hb =>
  PM.of (own := RJ3) rfl (by decide +kernel) (Nat.le_of_ble_eq_true rfl) false (fun h => nomatch h) (s_J3_isLatin1 b hb)
/-! J14_canEncode: java/lang/StringLatin1.canEncode(C)Z, kind P -/
abbrev rmJ14_canEncode : Room := ({ frames := 0, cells := 0, slots := 0, locals := 0 })
abbrev kJ14_canEncode : QK := (RJ14, cJ14_canEncode, 1, (some .boolean), [], false, rmJ14_canEncode)
noncomputable def f_J14_canEncode (x0 : Int32) (M : QM) : Option (Int32) :=
  if (255 : Int32) < x0 then (some (0 : Int32))
    else some (1 : Int32)
theorem s_J14_canEncode {l : Launch} {x0 : Int32} {M : QM} : SB (eP M) l kJ14_canEncode M (f_J14_canEncode x0 M) (0, 0) 0 M [some (.inl x0)] [] := by
  unfold f_J14_canEncode
  refine r_iload_n (pc := 0) dJ14_canEncode_0 rfl ?_
  refine r_sipush (v := (255 : Int32)) (pc := 1) dJ14_canEncode_1 (by decide) ?_
  refine r_icmp_gt (pc := 4) (tgt := 11) dJ14_canEncode_4 (by decide) ?_ ?_
  · refine r_iconst (v := (0 : Int32)) (pc := 11) dJ14_canEncode_11 (by decide) ?_
    exact r_zretP (pc := 12) dJ14_canEncode_12 rfl rfl (by decide +kernel)
  refine r_iconst (v := (1 : Int32)) (pc := 7) dJ14_canEncode_7 (by decide) ?_
  refine r_goto (tgt := 12) (pc := 8) dJ14_canEncode_8 (by decide) ?_
  exact r_zretP (pc := 12) dJ14_canEncode_12 rfl rfl (by decide +kernel)
theorem ct_J14_canEncode {l : Launch} {x0 : Int32} {M : QM} : ∀ b, f_J14_canEncode x0 M = some b → PM l yJ14_canEncode (ws_ yJ14_canEncode cJ14_canEncode 1 (some .boolean)) rmJ14_canEncode [.inl x0] M ((eP M) b).1 ((eP M) b).2 := fun b hb =>
  PM.of (own := RJ14) rfl (by decide +kernel) (Nat.le_of_ble_eq_true rfl) false (fun h => nomatch h) (s_J14_canEncode b hb)
/-! J6_length: java/lang/StringUTF16.length([B)I, kind P -/
abbrev rmJ6_length : Room := ({ frames := 0, cells := 0, slots := 0, locals := 0 })
abbrev kJ6_length : QK := (RJ6, cJ6_length, 1, (some .int), [], false, rmJ6_length)
noncomputable def f_J6_length (r0 : QR) (M : QM) : Option (Int32) :=
  (aL M r0).bind fun v1 => 
    some (v1 >>> ((1 : Int32) &&& 31))
theorem s_J6_length {l : Launch} {r0 : QR} {M : QM} : SB (eP M) l kJ6_length M (f_J6_length r0 M) (0, 0) 0 M [some (.inr r0)] [] := by
  unfold f_J6_length
  refine r_aload_n (pc := 0) dJ6_length_0 rfl ?_
  refine r_alen (pc := 1) dJ6_length_1 (fun v1 => ?_)
  refine r_iconst (v := (1 : Int32)) (pc := 2) dJ6_length_2 (by decide) ?_
  refine r_ishr (pc := 3) dJ6_length_3 ?_
  exact r_iretP (pc := 4) dJ6_length_4 rfl (by decide +kernel)
theorem ct_J6_length {l : Launch} {r0 : QR} {M : QM} : ∀ b, f_J6_length r0 M = some b → PM l yJ6_length (ws_ yJ6_length cJ6_length 1 (some .int)) rmJ6_length [.inr r0] M ((eP M) b).1 ((eP M) b).2 := fun b hb =>
  PM.of (own := RJ6) rfl (by decide +kernel) (Nat.le_of_ble_eq_true rfl) false (fun h => nomatch h) (s_J6_length b hb)
/-! J11_checkFromIndexSize: jdk/internal/util/Preconditions.checkFromIndexSize(IIILjava/util/function/BiFunction;)I, kind P -/
abbrev rmJ11_checkFromIndexSize : Room := ({ frames := 0, cells := 0, slots := 0, locals := 0 })
abbrev kJ11_checkFromIndexSize : QK := (RJ11, cJ11_checkFromIndexSize, 4, (some .int), [], false, rmJ11_checkFromIndexSize)
noncomputable def f_J11_checkFromIndexSize_15 (M : QM) (x0 : Int32) (x1 : Int32) (x2 : Int32) (r3 : QR) : Option (Int32) :=
  none
theorem s_J11_checkFromIndexSize_15 {l : Launch} (M : QM) : ∀ (x0 : Int32) (x1 : Int32) (x2 : Int32) (r3 : QR) , SB (eP M) l kJ11_checkFromIndexSize M (f_J11_checkFromIndexSize_15 M x0 x1 x2 r3) (0, 0) 15 M [some (.inl x0), some (.inl x1), some (.inl x2), some (.inr r3)] [] := by
  intro x0 x1 x2 r3
  unfold f_J11_checkFromIndexSize_15
  refine r_aload_n (pc := 15) dJ11_checkFromIndexSize_15 rfl ?_
  refine r_iload_n (pc := 16) dJ11_checkFromIndexSize_16 rfl ?_
  refine r_iload_n (pc := 17) dJ11_checkFromIndexSize_17 rfl ?_
  refine r_iload_n (pc := 18) dJ11_checkFromIndexSize_18 rfl ?_
  exact r_none
noncomputable def f_J11_checkFromIndexSize (x0 : Int32) (x1 : Int32) (x2 : Int32) (r3 : QR) (M : QM) : Option (Int32) :=
  if ((x2 ||| x0) ||| x1) < 0 then (f_J11_checkFromIndexSize_15 M x0 x1 x2 r3)
    else if x1 ≤ (x2 - x0) then (some x0)
    else f_J11_checkFromIndexSize_15 M x0 x1 x2 r3
theorem s_J11_checkFromIndexSize {l : Launch} {x0 : Int32} {x1 : Int32} {x2 : Int32} {r3 : QR} {M : QM} : SB (eP M) l kJ11_checkFromIndexSize M (f_J11_checkFromIndexSize x0 x1 x2 r3 M) (0, 0) 0 M [some (.inl x0), some (.inl x1), some (.inl x2), some (.inr r3)] [] := by
  unfold f_J11_checkFromIndexSize
  refine r_iload_n (pc := 0) dJ11_checkFromIndexSize_0 rfl ?_
  refine r_iload_n (pc := 1) dJ11_checkFromIndexSize_1 rfl ?_
  refine r_ior (pc := 2) dJ11_checkFromIndexSize_2 ?_
  refine r_iload_n (pc := 3) dJ11_checkFromIndexSize_3 rfl ?_
  refine r_ior (pc := 4) dJ11_checkFromIndexSize_4 ?_
  refine r_if_lt (pc := 5) (tgt := 15) dJ11_checkFromIndexSize_5 (by decide) ?_ ?_
  · exact s_J11_checkFromIndexSize_15 M _ _ _ _
  refine r_iload_n (pc := 8) dJ11_checkFromIndexSize_8 rfl ?_
  refine r_iload_n (pc := 9) dJ11_checkFromIndexSize_9 rfl ?_
  refine r_iload_n (pc := 10) dJ11_checkFromIndexSize_10 rfl ?_
  refine r_isub (pc := 11) dJ11_checkFromIndexSize_11 ?_
  refine r_icmp_le (pc := 12) (tgt := 23) dJ11_checkFromIndexSize_12 (by decide) ?_ ?_
  · refine r_iload_n (pc := 23) dJ11_checkFromIndexSize_23 rfl ?_
    exact r_iretP (pc := 24) dJ11_checkFromIndexSize_24 rfl (by decide +kernel)
  exact s_J11_checkFromIndexSize_15 M _ _ _ _
theorem ct_J11_checkFromIndexSize {l : Launch} {x0 : Int32} {x1 : Int32} {x2 : Int32} {r3 : QR} {M : QM} : ∀ b, f_J11_checkFromIndexSize x0 x1 x2 r3 M = some b → PM l yJ11_checkFromIndexSize (ws_ yJ11_checkFromIndexSize cJ11_checkFromIndexSize 4 (some .int)) rmJ11_checkFromIndexSize [.inl x0, .inl x1, .inl x2, .inr r3] M ((eP M) b).1 ((eP M) b).2 := fun b hb =>
  PM.of (own := RJ11) rfl (by decide +kernel) (Nat.le_of_ble_eq_true rfl) false (fun h => nomatch h) (s_J11_checkFromIndexSize b hb)
/-! J5_checkBoundsOffCount: java/lang/String.checkBoundsOffCount(III)I, kind P -/
abbrev rmJ5_checkBoundsOffCount : Room := ({ frames := 1, cells := 0, slots := 0, locals := 23 })
abbrev kJ5_checkBoundsOffCount : QK := (RJ5, cJ5_checkBoundsOffCount, 3, (some .int), [], false, rmJ5_checkBoundsOffCount)
noncomputable def f_J5_checkBoundsOffCount (x0 : Int32) (x1 : Int32) (x2 : Int32) (M : QM) : Option (Int32) :=
  (f_J11_checkFromIndexSize x0 x1 x2 (qsio M) M).bind fun v6 => 
    some v6
theorem s_J5_checkBoundsOffCount {l : Launch} {x0 : Int32} {x1 : Int32} {x2 : Int32} {M : QM} : SB (eP M) l kJ5_checkBoundsOffCount M (f_J5_checkBoundsOffCount x0 x1 x2 M) (0, 0) 0 M [some (.inl x0), some (.inl x1), some (.inl x2)] [] := by
  unfold f_J5_checkBoundsOffCount
  refine r_iload_n (pc := 0) dJ5_checkBoundsOffCount_0 rfl ?_
  refine r_iload_n (pc := 1) dJ5_checkBoundsOffCount_1 rfl ?_
  refine r_iload_n (pc := 2) dJ5_checkBoundsOffCount_2 rfl ?_
  refine r_gsSio (pc := 3) q718 dJ5_checkBoundsOffCount_3 ?_
  refine r_callS_P (st := []) (vs := [.inl x0, .inl x1, .inl x2, .inr (qsio M)]) (pc := 6)  ct_J11_checkFromIndexSize cf_J5_1065 rfl rfl (Nat.le_of_ble_eq_true rfl) (by decide +kernel) dJ5_checkBoundsOffCount_6 (fun v6 => ?_)
  refine r_widen (u' := (0, 0)) (by decide +kernel) ?_
  exact r_iretP (pc := 9) dJ5_checkBoundsOffCount_9 rfl (by decide +kernel)
theorem ct_J5_checkBoundsOffCount {l : Launch} {x0 : Int32} {x1 : Int32} {x2 : Int32} {M : QM} : ∀ b, f_J5_checkBoundsOffCount x0 x1 x2 M = some b → PM l yJ5_checkBoundsOffCount (ws_ yJ5_checkBoundsOffCount cJ5_checkBoundsOffCount 3 (some .int)) rmJ5_checkBoundsOffCount [.inl x0, .inl x1, .inl x2] M ((eP M) b).1 ((eP M) b).2 := fun b hb =>
  PM.of (own := RJ5) rfl (by decide +kernel) (Nat.le_of_ble_eq_true rfl) false (fun h => nomatch h) (s_J5_checkBoundsOffCount b hb)
/-! J6_checkBoundsOffCount: java/lang/StringUTF16.checkBoundsOffCount(II[B)V, kind U -/
abbrev rmJ6_checkBoundsOffCount : Room := ({ frames := 2, cells := 0, slots := 0, locals := 45 })
abbrev kJ6_checkBoundsOffCount : QK := (RJ6, cJ6_checkBoundsOffCount, 3, none, [], false, rmJ6_checkBoundsOffCount)
noncomputable def f_J6_checkBoundsOffCount (x0 : Int32) (x1 : Int32) (r2 : QR) (M : QM) : Option (Unit) :=
  (f_J6_length r2 M).bind fun v3 => 
    (f_J5_checkBoundsOffCount x0 x1 v3 M).bind fun v6 => 
    some ()
theorem s_J6_checkBoundsOffCount {l : Launch} {x0 : Int32} {x1 : Int32} {r2 : QR} {M : QM} : SB (eU M) l kJ6_checkBoundsOffCount M (f_J6_checkBoundsOffCount x0 x1 r2 M) (0, 0) 0 M [some (.inl x0), some (.inl x1), some (.inr r2)] [] := by
  unfold f_J6_checkBoundsOffCount
  refine r_iload_n (pc := 0) dJ6_checkBoundsOffCount_0 rfl ?_
  refine r_iload_n (pc := 1) dJ6_checkBoundsOffCount_1 rfl ?_
  refine r_aload_n (pc := 2) dJ6_checkBoundsOffCount_2 rfl ?_
  refine r_callS_P (st := [.inl x1, .inl x0]) (vs := [.inr r2]) (pc := 3)  ct_J6_length cf_J6_48 rfl rfl (Nat.le_of_ble_eq_true rfl) (by decide +kernel) dJ6_checkBoundsOffCount_3 (fun v3 => ?_)
  refine r_widen (u' := (0, 0)) (by decide +kernel) ?_
  refine r_callS_P (st := []) (vs := [.inl x0, .inl x1, .inl v3]) (pc := 6)  ct_J5_checkBoundsOffCount cf_J6_419 rfl rfl (Nat.le_of_ble_eq_true rfl) (by decide +kernel) dJ6_checkBoundsOffCount_6 (fun v6 => ?_)
  refine r_widen (u' := (0, 0)) (by decide +kernel) ?_
  refine r_pop (pc := 9) dJ6_checkBoundsOffCount_9 ?_
  exact r_vretU (pc := 10) dJ6_checkBoundsOffCount_10 rfl (by decide +kernel)
theorem ct_J6_checkBoundsOffCount {l : Launch} {x0 : Int32} {x1 : Int32} {r2 : QR} {M : QM} : ∀ b, f_J6_checkBoundsOffCount x0 x1 r2 M = some b → PM l yJ6_checkBoundsOffCount (ws_ yJ6_checkBoundsOffCount cJ6_checkBoundsOffCount 3 none) rmJ6_checkBoundsOffCount [.inl x0, .inl x1, .inr r2] M ((eU M) b).1 ((eU M) b).2 := fun b hb =>
  PM.of (own := RJ6) rfl (by decide +kernel) (Nat.le_of_ble_eq_true rfl) false (fun h => nomatch h) (s_J6_checkBoundsOffCount b hb)
/-! J6_putChar: java/lang/StringUTF16.putChar([BII)V, kind V -/
abbrev rmJ6_putChar : Room := ({ frames := 1, cells := 0, slots := 0, locals := 20 })
abbrev kJ6_putChar : QK := (RJ6, cJ6_putChar, 3, none, [], false, rmJ6_putChar)
noncomputable def f_J6_putChar_18 (M : QM) : Option (QM) :=
  none
theorem s_J6_putChar_18 {l : Launch} {M0 : QM} : ∀ (d0 : Option QV) (d1 : Option QV) (d2 : Option QV) (M : QM) , SB eV l kJ6_putChar M0 (f_J6_putChar_18 M) (0, 0) 18 M [d0, d1, d2] [] := by
  intro d0 d1 d2 M
  unfold f_J6_putChar_18
  exact r_none
noncomputable def f_J6_putChar_28 (r0 : QR) (x1 : Int32) (x2 : Int32) (M : QM) : Option (QM) :=
  (sB M r0 (x1 <<< ((1 : Int32) &&& 31)) ((x2 >>> ((0 : Int32) &&& 31)).toInt8.toInt32)).bind fun m43 => 
    (sB m43 r0 ((x1 <<< ((1 : Int32) &&& 31)) + (1 : Int32)) ((x2 >>> ((8 : Int32) &&& 31)).toInt8.toInt32)).bind fun m52 => 
    some m52
theorem s_J6_putChar_28 {l : Launch} {M0 : QM} : ∀ (r0 : QR) (x1 : Int32) (x2 : Int32) (M : QM) , SB eV l kJ6_putChar M0 (f_J6_putChar_28 r0 x1 x2 M) (0, 0) 28 M [some (.inr r0), some (.inl x1), some (.inl x2)] [] := by
  intro r0 x1 x2  M
  unfold f_J6_putChar_28
  refine r_iload_n (pc := 28) dJ6_putChar_28 rfl ?_
  refine r_iconst (v := (1 : Int32)) (pc := 29) dJ6_putChar_29 (by decide) ?_
  refine r_ishl (pc := 30) dJ6_putChar_30 ?_
  refine r_istore_n (pc := 31) dJ6_putChar_31 (by decide) rfl ?_
  refine r_aload_n (pc := 32) dJ6_putChar_32 rfl ?_
  refine r_iload_n (pc := 33) dJ6_putChar_33 rfl ?_
  refine r_iinc (v := ((x1 <<< ((1 : Int32) &&& 31)) + (1 : Int32))) (pc := 34) dJ6_putChar_34 rfl rfl (by decide) rfl ?_
  refine r_iload_n (pc := 37) dJ6_putChar_37 rfl ?_
  refine r_gsHi (pc := 38) q728 dJ6_putChar_38 ?_
  refine r_ishr (pc := 41) dJ6_putChar_41 ?_
  refine r_i2b (pc := 42) dJ6_putChar_42 ?_
  refine r_bast (pc := 43) dJ6_putChar_43 (fun m43 => ?_)
  refine r_aload_n (pc := 44) dJ6_putChar_44 rfl ?_
  refine r_iload_n (pc := 45) dJ6_putChar_45 rfl ?_
  refine r_iload_n (pc := 46) dJ6_putChar_46 rfl ?_
  refine r_gsLo (pc := 47) q730 dJ6_putChar_47 ?_
  refine r_ishr (pc := 50) dJ6_putChar_50 ?_
  refine r_i2b (pc := 51) dJ6_putChar_51 ?_
  refine r_bast (pc := 52) dJ6_putChar_52 (fun m52 => ?_)
  exact r_vretV (pc := 53) dJ6_putChar_53 rfl (by decide +kernel)
noncomputable def f_J6_putChar (r0 : QR) (x1 : Int32) (x2 : Int32) (M : QM) : Option (QM) :=
  if (1 : Int32) = 0 then (if x1 < 0 then (f_J6_putChar_18 M)
      else (f_J6_length r0 M).bind fun v12 => 
      if x1 < v12 then (f_J6_putChar_28 r0 x1 x2 M)
      else f_J6_putChar_18 M)
    else f_J6_putChar_28 r0 x1 x2 M
theorem s_J6_putChar {l : Launch} {M0 : QM} {r0 : QR} {x1 : Int32} {x2 : Int32} {M : QM} : SB eV l kJ6_putChar M0 (f_J6_putChar r0 x1 x2 M) (0, 0) 0 M [some (.inr r0), some (.inl x1), some (.inl x2)] [] := by
  unfold f_J6_putChar
  refine r_gsAssert (pc := 0) q726 dJ6_putChar_0 ?_
  refine r_if_ne (pc := 3) (tgt := 28) dJ6_putChar_3 (by decide) ?_ ?_
  · exact s_J6_putChar_28  _ _ _ _
  refine r_iload_n (pc := 6) dJ6_putChar_6 rfl ?_
  refine r_if_lt (pc := 7) (tgt := 18) dJ6_putChar_7 (by decide) ?_ ?_
  · exact s_J6_putChar_18  _ _ _ _
  refine r_iload_n (pc := 10) dJ6_putChar_10 rfl ?_
  refine r_aload_n (pc := 11) dJ6_putChar_11 rfl ?_
  refine r_callS_P (st := [.inl x1]) (vs := [.inr r0]) (pc := 12)  ct_J6_length cf_J6_48 rfl rfl (Nat.le_of_ble_eq_true rfl) (by decide +kernel) dJ6_putChar_12 (fun v12 => ?_)
  refine r_widen (u' := (0, 0)) (by decide +kernel) ?_
  refine r_icmp_lt (pc := 15) (tgt := 28) dJ6_putChar_15 (by decide) ?_ ?_
  · exact s_J6_putChar_28  _ _ _ _
  exact s_J6_putChar_18  _ _ _ _
theorem ct_J6_putChar {l : Launch} {r0 : QR} {x1 : Int32} {x2 : Int32} {M : QM} : ∀ b, f_J6_putChar r0 x1 x2 M = some b → PM l yJ6_putChar (ws_ yJ6_putChar cJ6_putChar 3 none) rmJ6_putChar [.inr r0, .inl x1, .inl x2] M (eV b).1 (eV b).2 := fun b hb =>
  PM.of (own := RJ6) rfl (by decide +kernel) (Nat.le_of_ble_eq_true rfl) false (fun h => nomatch h) (s_J6_putChar b hb)
/-! J6_inflate: java/lang/StringUTF16.inflate([BI[BII)V, kind V -/
abbrev rmJ6_inflate : Room := ({ frames := 3, cells := 0, slots := 0, locals := 67 })
abbrev kJ6_inflate : QK := (RJ6, cJ6_inflate, 6, none, [], false, rmJ6_inflate)
noncomputable def f_J6_inflate_10 : Nat → QR → Int32 → QR → Int32 → Int32 → Int32 → QM → Option (QM)
  | 0, _, _, _, _, _, _, _ => none
  | n + 1, r0, x1, r2, x3, x4, x5, M =>
    if x4 ≤ x5 then (some M)
    else (aB M r0 x1).bind fun v27 => 
    (f_J6_putChar r2 x3 (v27 &&& (255 : Int32)) M).bind fun m32 => 
    f_J6_inflate_10 n r0 (x1 + (1 : Int32)) r2 (x3 + (1 : Int32)) x4 (x5 + (1 : Int32)) m32
theorem s_J6_inflate_10 {l : Launch} {M0 : QM} : ∀ (n : Nat) (r0 : QR) (x1 : Int32) (r2 : QR) (x3 : Int32) (x4 : Int32) (x5 : Int32) (M : QM) , SB eV l kJ6_inflate M0 (f_J6_inflate_10 n r0 x1 r2 x3 x4 x5 M) (0, 0) 10 M [some (.inr r0), some (.inl x1), some (.inr r2), some (.inl x3), some (.inl x4), some (.inl x5)] [] := by
  intro n
  induction n with
  | zero => intros; rw [f_J6_inflate_10]; exact r_none
  | succ n ih =>
    intro r0 x1 r2 x3 x4 x5  M
    rw [f_J6_inflate_10]
    refine r_iload (pc := 10) dJ6_inflate_10 rfl ?_
    refine r_iload (pc := 12) dJ6_inflate_12 rfl ?_
    refine r_icmp_ge (pc := 14) (tgt := 41) dJ6_inflate_14 (by decide) ?_ ?_
    · exact r_vretV (pc := 41) dJ6_inflate_41 rfl (by decide +kernel)
    refine r_aload_n (pc := 17) dJ6_inflate_17 rfl ?_
    refine r_iload_n (pc := 18) dJ6_inflate_18 rfl ?_
    refine r_iinc (v := (x3 + (1 : Int32))) (pc := 19) dJ6_inflate_19 rfl rfl (by decide) rfl ?_
    refine r_aload_n (pc := 22) dJ6_inflate_22 rfl ?_
    refine r_iload_n (pc := 23) dJ6_inflate_23 rfl ?_
    refine r_iinc (v := (x1 + (1 : Int32))) (pc := 24) dJ6_inflate_24 rfl rfl (by decide) rfl ?_
    refine r_bald (pc := 27) dJ6_inflate_27 (fun v27 => ?_)
    refine r_sipush (v := (255 : Int32)) (pc := 28) dJ6_inflate_28 (by decide) ?_
    refine r_iand (pc := 31) dJ6_inflate_31 ?_
    refine r_callS_V (st := []) (vs := [.inr r2, .inl x3, .inl (v27 &&& (255 : Int32))]) (pc := 32)  ct_J6_putChar cf_J6_111 rfl rfl (Nat.le_of_ble_eq_true rfl) (by decide +kernel) dJ6_inflate_32 (fun m32 => ?_)
    refine r_widen (u' := (0, 0)) (by decide +kernel) ?_
    refine r_iinc (v := (x5 + (1 : Int32))) (pc := 35) dJ6_inflate_35 rfl rfl (by decide) rfl ?_
    refine r_goto (tgt := 10) (pc := 38) dJ6_inflate_38 (by decide) ?_
    exact ih _ _ _ _ _ _ _
noncomputable def f_J6_inflate (r0 : QR) (x1 : Int32) (r2 : QR) (x3 : Int32) (x4 : Int32) (M : QM) : Option (QM) :=
  (f_J6_checkBoundsOffCount x3 x4 r2 M).bind fun _ => 
    f_J6_inflate_10 600 r0 x1 r2 x3 x4 (0 : Int32) M
theorem s_J6_inflate {l : Launch} {M0 : QM} {r0 : QR} {x1 : Int32} {r2 : QR} {x3 : Int32} {x4 : Int32} {M : QM} : SB eV l kJ6_inflate M0 (f_J6_inflate r0 x1 r2 x3 x4 M) (0, 0) 0 M [some (.inr r0), some (.inl x1), some (.inr r2), some (.inl x3), some (.inl x4), none] [] := by
  unfold f_J6_inflate
  refine r_iload_n (pc := 0) dJ6_inflate_0 rfl ?_
  refine r_iload (pc := 1) dJ6_inflate_1 rfl ?_
  refine r_aload_n (pc := 3) dJ6_inflate_3 rfl ?_
  refine r_callS_U (st := []) (vs := [.inl x3, .inl x4, .inr r2]) (pc := 4)  ct_J6_checkBoundsOffCount cf_J6_173 rfl rfl (Nat.le_of_ble_eq_true rfl) (by decide +kernel) dJ6_inflate_4 ?_
  refine r_widen (u' := (0, 0)) (by decide +kernel) ?_
  refine r_iconst (v := (0 : Int32)) (pc := 7) dJ6_inflate_7 (by decide) ?_
  refine r_istore (pc := 8) dJ6_inflate_8 (by decide) rfl ?_
  exact s_J6_inflate_10  600 _ _ _ _ _ _ _
theorem ct_J6_inflate {l : Launch} {r0 : QR} {x1 : Int32} {r2 : QR} {x3 : Int32} {x4 : Int32} {M : QM} : ∀ b, f_J6_inflate r0 x1 r2 x3 x4 M = some b → PM l yJ6_inflate (ws_ yJ6_inflate cJ6_inflate 6 none) rmJ6_inflate [.inr r0, .inl x1, .inr r2, .inl x3, .inl x4] M (eV b).1 (eV b).2 := fun b hb =>
  PM.of (own := RJ6) rfl (by decide +kernel) (Nat.le_of_ble_eq_true rfl) false (fun h => nomatch h) (s_J6_inflate b hb)
/-! J14_inflate: java/lang/StringLatin1.inflate([BI[BII)V, kind V -/
abbrev rmJ14_inflate : Room := ({ frames := 4, cells := 0, slots := 0, locals := 92 })
abbrev kJ14_inflate : QK := (RJ14, cJ14_inflate, 5, none, [], false, rmJ14_inflate)
noncomputable def f_J14_inflate (r0 : QR) (x1 : Int32) (r2 : QR) (x3 : Int32) (x4 : Int32) (M : QM) : Option (QM) :=
  (f_J6_inflate r0 x1 r2 x3 x4 M).bind fun m6 => 
    some m6
theorem s_J14_inflate {l : Launch} {M0 : QM} {r0 : QR} {x1 : Int32} {r2 : QR} {x3 : Int32} {x4 : Int32} {M : QM} : SB eV l kJ14_inflate M0 (f_J14_inflate r0 x1 r2 x3 x4 M) (0, 0) 0 M [some (.inr r0), some (.inl x1), some (.inr r2), some (.inl x3), some (.inl x4)] [] := by
  unfold f_J14_inflate
  refine r_aload_n (pc := 0) dJ14_inflate_0 rfl ?_
  refine r_iload_n (pc := 1) dJ14_inflate_1 rfl ?_
  refine r_aload_n (pc := 2) dJ14_inflate_2 rfl ?_
  refine r_iload_n (pc := 3) dJ14_inflate_3 rfl ?_
  refine r_iload (pc := 4) dJ14_inflate_4 rfl ?_
  refine r_callS_V (st := []) (vs := [.inr r0, .inl x1, .inr r2, .inl x3, .inl x4]) (pc := 6)  ct_J6_inflate cf_J14_240 rfl rfl (Nat.le_of_ble_eq_true rfl) (by decide +kernel) dJ14_inflate_6 (fun m6 => ?_)
  refine r_widen (u' := (0, 0)) (by decide +kernel) ?_
  exact r_vretV (pc := 9) dJ14_inflate_9 rfl (by decide +kernel)
theorem ct_J14_inflate {l : Launch} {r0 : QR} {x1 : Int32} {r2 : QR} {x3 : Int32} {x4 : Int32} {M : QM} : ∀ b, f_J14_inflate r0 x1 r2 x3 x4 M = some b → PM l yJ14_inflate (ws_ yJ14_inflate cJ14_inflate 5 none) rmJ14_inflate [.inr r0, .inl x1, .inr r2, .inl x3, .inl x4] M (eV b).1 (eV b).2 := fun b hb =>
  PM.of (own := RJ14) rfl (by decide +kernel) (Nat.le_of_ble_eq_true rfl) false (fun h => nomatch h) (s_J14_inflate b hb)
/-! J3_inflate: java/lang/AbstractStringBuilder.inflate()V, kind V -/
abbrev rmJ3_inflate : Room := ({ frames := 5, cells := 1, slots := 512, locals := 116 })
abbrev kJ3_inflate : QK := (RJ3, cJ3_inflate, 2, none, [], false, rmJ3_inflate)
noncomputable def f_J3_inflate (r0 : QR) (M : QM) : Option (QM) :=
  (qrc M r0 [8] (f_J3_isLatin1 r0 M)).bind fun v1 => 
    if v1 = 0 then (some M)
    else (gR M r0 [(8, 0)]).bind fun v9 => 
    (aL M v9).bind fun v12 => 
    qbR (f_J6_newBytesFor v12 M) fun v13 m13 => 
    (gR m13 r0 [(8, 0)]).bind fun v18 => 
    (gI m13 r0 [(8, 3)]).bind fun v25 => 
    (f_J14_inflate v18 (0 : Int32) v13 (0 : Int32) v25 m13).bind fun m28 => 
    (pF m28 r0 [(8, 0)] (.inr v13)).bind fun m33 => 
    qnf .byte (1 : Int32) <| (pF m33 r0 [(8, 1)] (.inl (1 : Int32))).bind fun m38 => 
    some m38
theorem s_J3_inflate {l : Launch} {M0 : QM} {r0 : QR} {M : QM} : SB eV l kJ3_inflate M0 (f_J3_inflate r0 M) (0, 0) 0 M [some (.inr r0), none] [] := by
  unfold f_J3_inflate
  refine r_aload_n (pc := 0) dJ3_inflate_0 rfl ?_
  refine r_callUs_P (st := []) (vs := []) (pc := 1)  ct_J3_isLatin1 cf_J3_83 rfl rfl (Nat.le_of_ble_eq_true rfl) (by decide +kernel) dJ3_inflate_1 (fun v1 => ?_)
  refine r_widen (u' := (0, 0)) (by decide +kernel) ?_
  refine r_if_ne (pc := 4) (tgt := 8) dJ3_inflate_4 (by decide) ?_ ?_
  · refine r_aload_n (pc := 8) dJ3_inflate_8 rfl ?_
    refine r_getR (pc := 9)  gf_J3_15 dJ3_inflate_9 (fun v9 => ?_)
    refine r_alen (pc := 12) dJ3_inflate_12 (fun v12 => ?_)
    refine r_callS_R (st := []) (vs := [.inl v12]) (pc := 13)  ct_J6_newBytesFor cf_J3_26 rfl rfl (Nat.le_of_ble_eq_true rfl) (by decide +kernel) dJ3_inflate_13 (fun v13 m13 => ?_)
    refine r_widen (u' := (1, 512)) (by decide +kernel) ?_
    refine r_astore_n (pc := 16) dJ3_inflate_16 (by decide) rfl ?_
    refine r_aload_n (pc := 17) dJ3_inflate_17 rfl ?_
    refine r_getR (pc := 18)  gf_J3_15 dJ3_inflate_18 (fun v18 => ?_)
    refine r_iconst (v := (0 : Int32)) (pc := 21) dJ3_inflate_21 (by decide) ?_
    refine r_aload_n (pc := 22) dJ3_inflate_22 rfl ?_
    refine r_iconst (v := (0 : Int32)) (pc := 23) dJ3_inflate_23 (by decide) ?_
    refine r_aload_n (pc := 24) dJ3_inflate_24 rfl ?_
    refine r_getI (pc := 25)  gf_J3_79 dJ3_inflate_25 (fun v25 => ?_)
    refine r_callS_V (st := []) (vs := [.inr v18, .inl (0 : Int32), .inr v13, .inl (0 : Int32), .inl v25]) (pc := 28)  ct_J14_inflate cf_J3_125 rfl rfl (Nat.le_of_ble_eq_true rfl) (by decide +kernel) dJ3_inflate_28 (fun m28 => ?_)
    refine r_widen (u' := (1, 512)) (by decide +kernel) ?_
    refine r_aload_n (pc := 31) dJ3_inflate_31 rfl ?_
    refine r_aload_n (pc := 32) dJ3_inflate_32 rfl ?_
    refine r_put (pc := 33)  pf_J3_15 (fun h => nomatch h) (fit_arr _ _) dJ3_inflate_33 (fun m33 => ?_)
    refine r_aload_n (pc := 36) dJ3_inflate_36 rfl ?_
    refine r_iconst (v := (1 : Int32)) (pc := 37) dJ3_inflate_37 (by decide) ?_
    refine r_putN (pc := 38)  pf_J3_22 (fun h => nomatch h) (by decide) dJ3_inflate_38 (fun m38 => ?_)
    exact r_vretV (pc := 41) dJ3_inflate_41 rfl (by decide +kernel)
  exact r_vretV (pc := 7) dJ3_inflate_7 rfl (by decide +kernel)
theorem ct_J3_inflate {l : Launch} {r0 : QR} {M : QM} : ∀ b, f_J3_inflate r0 M = some b → PM l yJ3_inflate (ws_ yJ3_inflate cJ3_inflate 2 none) rmJ3_inflate [.inr r0] M (eV b).1 (eV b).2 := fun b hb =>
  PM.of (own := RJ3) rfl (by decide +kernel) (Nat.le_of_ble_eq_true rfl) false (fun h => nomatch h) (s_J3_inflate b hb)
/-! J5_checkIndex: java/lang/String.checkIndex(II)V, kind U -/
abbrev rmJ5_checkIndex : Room := ({ frames := 1, cells := 0, slots := 0, locals := 22 })
abbrev kJ5_checkIndex : QK := (RJ5, cJ5_checkIndex, 2, none, [], false, rmJ5_checkIndex)
noncomputable def f_J5_checkIndex (x0 : Int32) (x1 : Int32) (M : QM) : Option (Unit) :=
  (f_J11_checkIndex x0 x1 (qsio M) M).bind fun v5 => 
    some ()
theorem s_J5_checkIndex {l : Launch} {x0 : Int32} {x1 : Int32} {M : QM} : SB (eU M) l kJ5_checkIndex M (f_J5_checkIndex x0 x1 M) (0, 0) 0 M [some (.inl x0), some (.inl x1)] [] := by
  unfold f_J5_checkIndex
  refine r_iload_n (pc := 0) dJ5_checkIndex_0 rfl ?_
  refine r_iload_n (pc := 1) dJ5_checkIndex_1 rfl ?_
  refine r_gsSio (pc := 2) q718 dJ5_checkIndex_2 ?_
  refine r_callS_P (st := []) (vs := [.inl x0, .inl x1, .inr (qsio M)]) (pc := 5)  ct_J11_checkIndex cf_J5_1059 rfl rfl (Nat.le_of_ble_eq_true rfl) (by decide +kernel) dJ5_checkIndex_5 (fun v5 => ?_)
  refine r_widen (u' := (0, 0)) (by decide +kernel) ?_
  refine r_pop (pc := 8) dJ5_checkIndex_8 ?_
  exact r_vretU (pc := 9) dJ5_checkIndex_9 rfl (by decide +kernel)
theorem ct_J5_checkIndex {l : Launch} {x0 : Int32} {x1 : Int32} {M : QM} : ∀ b, f_J5_checkIndex x0 x1 M = some b → PM l yJ5_checkIndex (ws_ yJ5_checkIndex cJ5_checkIndex 2 none) rmJ5_checkIndex [.inl x0, .inl x1] M ((eU M) b).1 ((eU M) b).2 := fun b hb =>
  PM.of (own := RJ5) rfl (by decide +kernel) (Nat.le_of_ble_eq_true rfl) false (fun h => nomatch h) (s_J5_checkIndex b hb)
/-! J6_checkIndex: java/lang/StringUTF16.checkIndex(I[B)V, kind U -/
abbrev rmJ6_checkIndex : Room := ({ frames := 2, cells := 0, slots := 0, locals := 43 })
abbrev kJ6_checkIndex : QK := (RJ6, cJ6_checkIndex, 2, none, [], false, rmJ6_checkIndex)
noncomputable def f_J6_checkIndex (x0 : Int32) (r1 : QR) (M : QM) : Option (Unit) :=
  (f_J6_length r1 M).bind fun v2 => 
    (f_J5_checkIndex x0 v2 M).bind fun _ => 
    some ()
theorem s_J6_checkIndex {l : Launch} {x0 : Int32} {r1 : QR} {M : QM} : SB (eU M) l kJ6_checkIndex M (f_J6_checkIndex x0 r1 M) (0, 0) 0 M [some (.inl x0), some (.inr r1)] [] := by
  unfold f_J6_checkIndex
  refine r_iload_n (pc := 0) dJ6_checkIndex_0 rfl ?_
  refine r_aload_n (pc := 1) dJ6_checkIndex_1 rfl ?_
  refine r_callS_P (st := [.inl x0]) (vs := [.inr r1]) (pc := 2)  ct_J6_length cf_J6_48 rfl rfl (Nat.le_of_ble_eq_true rfl) (by decide +kernel) dJ6_checkIndex_2 (fun v2 => ?_)
  refine r_widen (u' := (0, 0)) (by decide +kernel) ?_
  refine r_callS_U (st := []) (vs := [.inl x0, .inl v2]) (pc := 5)  ct_J5_checkIndex cf_J6_414 rfl rfl (Nat.le_of_ble_eq_true rfl) (by decide +kernel) dJ6_checkIndex_5 ?_
  refine r_widen (u' := (0, 0)) (by decide +kernel) ?_
  exact r_vretU (pc := 8) dJ6_checkIndex_8 rfl (by decide +kernel)
theorem ct_J6_checkIndex {l : Launch} {x0 : Int32} {r1 : QR} {M : QM} : ∀ b, f_J6_checkIndex x0 r1 M = some b → PM l yJ6_checkIndex (ws_ yJ6_checkIndex cJ6_checkIndex 2 none) rmJ6_checkIndex [.inl x0, .inr r1] M ((eU M) b).1 ((eU M) b).2 := fun b hb =>
  PM.of (own := RJ6) rfl (by decide +kernel) (Nat.le_of_ble_eq_true rfl) false (fun h => nomatch h) (s_J6_checkIndex b hb)
/-! J6_putCharSB: java/lang/StringUTF16.putCharSB([BII)V, kind V -/
abbrev rmJ6_putCharSB : Room := ({ frames := 3, cells := 0, slots := 0, locals := 64 })
abbrev kJ6_putCharSB : QK := (RJ6, cJ6_putCharSB, 3, none, [], false, rmJ6_putCharSB)
noncomputable def f_J6_putCharSB (r0 : QR) (x1 : Int32) (x2 : Int32) (M : QM) : Option (QM) :=
  (f_J6_checkIndex x1 r0 M).bind fun _ => 
    (f_J6_putChar r0 x1 x2 M).bind fun m8 => 
    some m8
theorem s_J6_putCharSB {l : Launch} {M0 : QM} {r0 : QR} {x1 : Int32} {x2 : Int32} {M : QM} : SB eV l kJ6_putCharSB M0 (f_J6_putCharSB r0 x1 x2 M) (0, 0) 0 M [some (.inr r0), some (.inl x1), some (.inl x2)] [] := by
  unfold f_J6_putCharSB
  refine r_iload_n (pc := 0) dJ6_putCharSB_0 rfl ?_
  refine r_aload_n (pc := 1) dJ6_putCharSB_1 rfl ?_
  refine r_callS_U (st := []) (vs := [.inl x1, .inr r0]) (pc := 2)  ct_J6_checkIndex cf_J6_67 rfl rfl (Nat.le_of_ble_eq_true rfl) (by decide +kernel) dJ6_putCharSB_2 ?_
  refine r_widen (u' := (0, 0)) (by decide +kernel) ?_
  refine r_aload_n (pc := 5) dJ6_putCharSB_5 rfl ?_
  refine r_iload_n (pc := 6) dJ6_putCharSB_6 rfl ?_
  refine r_iload_n (pc := 7) dJ6_putCharSB_7 rfl ?_
  refine r_callS_V (st := []) (vs := [.inr r0, .inl x1, .inl x2]) (pc := 8)  ct_J6_putChar cf_J6_111 rfl rfl (Nat.le_of_ble_eq_true rfl) (by decide +kernel) dJ6_putCharSB_8 (fun m8 => ?_)
  refine r_widen (u' := (0, 0)) (by decide +kernel) ?_
  exact r_vretV (pc := 11) dJ6_putCharSB_11 rfl (by decide +kernel)
theorem ct_J6_putCharSB {l : Launch} {r0 : QR} {x1 : Int32} {x2 : Int32} {M : QM} : ∀ b, f_J6_putCharSB r0 x1 x2 M = some b → PM l yJ6_putCharSB (ws_ yJ6_putCharSB cJ6_putCharSB 3 none) rmJ6_putCharSB [.inr r0, .inl x1, .inl x2] M (eV b).1 (eV b).2 := fun b hb =>
  PM.of (own := RJ6) rfl (by decide +kernel) (Nat.le_of_ble_eq_true rfl) false (fun h => nomatch h) (s_J6_putCharSB b hb)
