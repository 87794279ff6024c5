/-! methods as functions over the memory (printed by gen/run.py) -/
set_option maxRecDepth 100000
/-! J3_append: java/lang/AbstractStringBuilder.append(C)Ljava/lang/AbstractStringBuilder;, kind R -/
abbrev rmJ3_append : Room := ({ frames := 6, cells := 2, slots := 1024, locals := 137 })
abbrev kJ3_append : QK := (RJ3, cJ3_append, 2, (some (.object "java/lang/AbstractStringBuilder")), [], false, rmJ3_append)
noncomputable def f_J3_append_56 (r0 : QR) (x1 : Int32) (M : QM) : Option (QR × QM) :=
  (gR M r0 [(8, 0)]).bind fun v57 => 
    (gI M r0 [(8, 3)]).bind fun v62 => 
    (pF M r0 [(8, 3)] (.inl (v62 + (1 : Int32)))).bind fun m68 => 
    (f_J6_putCharSB v57 v62 x1 m68).bind fun m72 => 
    some (r0, m72)
theorem s_J3_append_56 {l : Launch} {M0 : QM} : ∀ (r0 : QR) (x1 : Int32) (M : QM) , SB eR l kJ3_append M0 (f_J3_append_56 r0 x1 M) (2, 1024) 56 M [some (.inr r0), some (.inl x1)] [] := by
  intro r0 x1  M
  unfold f_J3_append_56
  refine r_aload_n (pc := 56) dJ3_append_56 rfl ?_
  refine r_getR (pc := 57)  gf_J3_15 dJ3_append_57 (fun v57 => ?_)
  refine r_aload_n (pc := 60) dJ3_append_60 rfl ?_
  refine r_dup (pc := 61) dJ3_append_61 ?_
  refine r_getI (pc := 62)  gf_J3_79 dJ3_append_62 (fun v62 => ?_)
  refine r_dup_x1 (pc := 65) dJ3_append_65 ?_
  refine r_iconst (v := (1 : Int32)) (pc := 66) dJ3_append_66 (by decide) ?_
  refine r_iadd (pc := 67) dJ3_append_67 ?_
  refine r_put (pc := 68)  pf_J3_79 (fun h => nomatch h) (fit_int _) dJ3_append_68 (fun m68 => ?_)
  refine r_iload_n (pc := 71) dJ3_append_71 rfl ?_
  refine r_callS_V (st := []) (vs := [.inr v57, .inl v62, .inl x1]) (pc := 72)  ct_J6_putCharSB cf_J3_197 rfl rfl (Nat.le_of_ble_eq_true rfl) (by decide +kernel) dJ3_append_72 (fun m72 => ?_)
  refine r_widen (u' := (2, 1024)) (by decide +kernel) ?_
  refine r_aload_n (pc := 75) dJ3_append_75 rfl ?_
  exact r_aretR (pc := 76) dJ3_append_76 rfl (Or.inl ⟨_, rfl⟩) (by decide +kernel)
noncomputable def f_J3_append_45 (r0 : QR) (x1 : Int32) (M : QM) : Option (QR × QM) :=
  (qrc M r0 [8] (f_J3_isLatin1 r0 M)).bind fun v46 => 
    if v46 = 0 then (f_J3_append_56 r0 x1 M)
    else (qrc M r0 [8] (f_J3_inflate r0 M)).bind fun m53 => 
    f_J3_append_56 r0 x1 m53
theorem s_J3_append_45 {l : Launch} {M0 : QM} : ∀ (r0 : QR) (x1 : Int32) (M : QM) , SB eR l kJ3_append M0 (f_J3_append_45 r0 x1 M) (1, 512) 45 M [some (.inr r0), some (.inl x1)] [] := by
  intro r0 x1  M
  unfold f_J3_append_45
  refine r_aload_n (pc := 45) dJ3_append_45 rfl ?_
  refine r_callUs_P (st := []) (vs := []) (pc := 46)  ct_J3_isLatin1 cf_J3_83 rfl rfl (Nat.le_of_ble_eq_true rfl) (by decide +kernel) dJ3_append_46 (fun v46 => ?_)
  refine r_widen (u' := (1, 512)) (by decide +kernel) ?_
  refine r_if_eq (pc := 49) (tgt := 56) dJ3_append_49 (by decide) ?_ ?_
  · refine r_widen (u' := (2, 1024)) (by decide +kernel) ?_
    exact s_J3_append_56  _ _ _
  refine r_aload_n (pc := 52) dJ3_append_52 rfl ?_
  refine r_callUs_V (st := []) (vs := []) (pc := 53)  ct_J3_inflate cf_J3_195 rfl rfl (Nat.le_of_ble_eq_true rfl) (by decide +kernel) dJ3_append_53 (fun m53 => ?_)
  refine r_widen (u' := (2, 1024)) (by decide +kernel) ?_
  exact s_J3_append_56  _ _ _
noncomputable def f_J3_append (r0 : QR) (x1 : Int32) (M : QM) : Option (QR × QM) :=
  (gI M r0 [(8, 3)]).bind fun v2 => 
    (qrc M r0 [8] (f_J3_ensureCapacityInternal r0 (v2 + (1 : Int32)) M)).bind fun m7 => 
    (qrc m7 r0 [8] (f_J3_isLatin1 r0 m7)).bind fun v11 => 
    if v11 = 0 then (f_J3_append_45 r0 x1 m7)
    else (f_J14_canEncode x1 m7).bind fun v18 => 
    if v18 = 0 then (f_J3_append_45 r0 x1 m7)
    else (gR m7 r0 [(8, 0)]).bind fun v25 => 
    (gI m7 r0 [(8, 3)]).bind fun v30 => 
    (pF m7 r0 [(8, 3)] (.inl (v30 + (1 : Int32)))).bind fun m36 => 
    (sB m36 v25 v30 (x1.toInt8.toInt32)).bind fun m41 => 
    some (r0, m41)
theorem s_J3_append {l : Launch} {M0 : QM} {r0 : QR} {x1 : Int32} {M : QM} : SB eR l kJ3_append M0 (f_J3_append r0 x1 M) (0, 0) 0 M [some (.inr r0), some (.inl x1)] [] := by
  unfold f_J3_append
  refine r_aload_n (pc := 0) dJ3_append_0 rfl ?_
  refine r_aload_n (pc := 1) dJ3_append_1 rfl ?_
  refine r_getI (pc := 2)  gf_J3_79 dJ3_append_2 (fun v2 => ?_)
  refine r_iconst (v := (1 : Int32)) (pc := 5) dJ3_append_5 (by decide) ?_
  refine r_iadd (pc := 6) dJ3_append_6 ?_
  refine r_callUs_V (st := []) (vs := [.inl (v2 + (1 : Int32))]) (pc := 7)  ct_J3_ensureCapacityInternal cf_J3_100 rfl rfl (Nat.le_of_ble_eq_true rfl) (by decide +kernel) dJ3_append_7 (fun m7 => ?_)
  refine r_widen (u' := (1, 512)) (by decide +kernel) ?_
  refine r_aload_n (pc := 10) dJ3_append_10 rfl ?_
  refine r_callUs_P (st := []) (vs := []) (pc := 11)  ct_J3_isLatin1 cf_J3_83 rfl rfl (Nat.le_of_ble_eq_true rfl) (by decide +kernel) dJ3_append_11 (fun v11 => ?_)
  refine r_widen (u' := (1, 512)) (by decide +kernel) ?_
  refine r_if_eq (pc := 14) (tgt := 45) dJ3_append_14 (by decide) ?_ ?_
  · exact s_J3_append_45  _ _ _
  refine r_iload_n (pc := 17) dJ3_append_17 rfl ?_
  refine r_callS_P (st := []) (vs := [.inl x1]) (pc := 18)  ct_J14_canEncode cf_J3_191 rfl rfl (Nat.le_of_ble_eq_true rfl) (by decide +kernel) dJ3_append_18 (fun v18 => ?_)
  refine r_widen (u' := (1, 512)) (by decide +kernel) ?_
  refine r_if_eq (pc := 21) (tgt := 45) dJ3_append_21 (by decide) ?_ ?_
  · exact s_J3_append_45  _ _ _
  refine r_aload_n (pc := 24) dJ3_append_24 rfl ?_
  refine r_getR (pc := 25)  gf_J3_15 dJ3_append_25 (fun v25 => ?_)
  refine r_aload_n (pc := 28) dJ3_append_28 rfl ?_
  refine r_dup (pc := 29) dJ3_append_29 ?_
  refine r_getI (pc := 30)  gf_J3_79 dJ3_append_30 (fun v30 => ?_)
  refine r_dup_x1 (pc := 33) dJ3_append_33 ?_
  refine r_iconst (v := (1 : Int32)) (pc := 34) dJ3_append_34 (by decide) ?_
  refine r_iadd (pc := 35) dJ3_append_35 ?_
  refine r_put (pc := 36)  pf_J3_79 (fun h => nomatch h) (fit_int _) dJ3_append_36 (fun m36 => ?_)
  refine r_iload_n (pc := 39) dJ3_append_39 rfl ?_
  refine r_i2b (pc := 40) dJ3_append_40 ?_
  refine r_bast (pc := 41) dJ3_append_41 (fun m41 => ?_)
  refine r_goto (tgt := 75) (pc := 42) dJ3_append_42 (by decide) ?_
  refine r_aload_n (pc := 75) dJ3_append_75 rfl ?_
  exact r_aretR (pc := 76) dJ3_append_76 rfl (Or.inl ⟨_, rfl⟩) (by decide +kernel)
theorem ct_J3_append {l : Launch} {r0 : QR} {x1 : Int32} {M : QM} : ∀ b, f_J3_append r0 x1 M = some b → PM l yJ3_append (ws_ yJ3_append cJ3_append 2 (some (.object "java/lang/AbstractStringBuilder"))) rmJ3_append [.inr r0, .inl x1] M (eR b).1 (eR b).2 := fun b hb =>
  PM.of (own := RJ3) rfl (by decide +kernel) (Nat.le_of_ble_eq_true rfl) false (fun h => nomatch h) (s_J3_append b hb)
/-! J4_append: java/lang/StringBuilder.append(C)Ljava/lang/StringBuilder;, kind R -/
abbrev rmJ4_append : Room := ({ frames := 7, cells := 2, slots := 1024, locals := 158 })
abbrev kJ4_append : QK := (RJ4, cJ4_append, 2, (some (.object "java/lang/StringBuilder")), [], false, rmJ4_append)
noncomputable def f_J4_append (r0 : QR) (x1 : Int32) (M : QM) : Option (QR × QM) :=
  qbR (qrc M r0 [8] (f_J3_append r0 x1 M)) fun v2 m2 => 
    some (r0, m2)
theorem s_J4_append {l : Launch} {M0 : QM} {r0 : QR} {x1 : Int32} {M : QM} : SB eR l kJ4_append M0 (f_J4_append r0 x1 M) (0, 0) 0 M [some (.inr r0), some (.inl x1)] [] := by
  unfold f_J4_append
  refine r_aload_n (pc := 0) dJ4_append_0 rfl ?_
  refine r_iload_n (pc := 1) dJ4_append_1 rfl ?_
  refine r_callSU_R (st := []) (vs := [.inl x1]) (pc := 2)  ct_J3_append hc_8 cf_J4_50 rfl rfl (Nat.le_of_ble_eq_true rfl) (by decide +kernel) dJ4_append_2 (fun v2 m2 => ?_)
  refine r_widen (u' := (2, 1024)) (by decide +kernel) ?_
  refine r_pop (pc := 5) dJ4_append_5 ?_
  refine r_aload_n (pc := 6) dJ4_append_6 rfl ?_
  exact r_aretR (pc := 7) dJ4_append_7 rfl (Or.inl ⟨_, rfl⟩) (by decide +kernel)
theorem ct_J4_append {l : Launch} {r0 : QR} {x1 : Int32} {M : QM} : ∀ b, f_J4_append r0 x1 M = some b → PM l yJ4_append (ws_ yJ4_append cJ4_append 2 (some (.object "java/lang/StringBuilder"))) rmJ4_append [.inr r0, .inl x1] M (eR b).1 (eR b).2 := fun b hb =>
  PM.of (own := RJ4) rfl (by decide +kernel) (Nat.le_of_ble_eq_true rfl) false (fun h => nomatch h) (s_J4_append b hb)
/-! X0_type: BarnPictures.type(C)I, kind I -/
abbrev rmX0_type : Room := ({ frames := 8, cells := 2, slots := 1024, locals := 179 })
abbrev kX0_type : QK := (RX0, cX0_type, 2, (some .int), [], false, rmX0_type)
noncomputable def f_X0_type (r0 : QR) (x1 : Int32) (M : QM) : Option (Int32 × QM) :=
  (gR M r0 [(0, 3)]).bind fun v1 => 
    (qrc M v1 [8] (f_J4_length v1 M)).bind fun v4 => 
    if v4 = (80 : Int32) then (some ((-10000003 : Int32), M))
    else (gR M r0 [(0, 3)]).bind fun v16 => 
    qbR (qrc M v16 [8] (f_J4_append v16 x1 M)) fun v20 m20 => 
    (gR m20 r0 [(0, 3)]).bind fun v25 => 
    (qrc m20 v25 [8] (f_J4_length v25 m20)).bind fun v28 => 
    some (v28, m20)
theorem s_X0_type {l : Launch} {M0 : QM} {r0 : QR} {x1 : Int32} {M : QM} : SB eI l kX0_type M0 (f_X0_type r0 x1 M) (0, 0) 0 M [some (.inr r0), some (.inl x1)] [] := by
  unfold f_X0_type
  refine r_aload_n (pc := 0) dX0_type_0 rfl ?_
  refine r_getR (pc := 1)  gf_X0_36 dX0_type_1 (fun v1 => ?_)
  refine r_callV_P (st := []) (vs := []) (pc := 4)  ct_J4_length hc_8 cf_X0_102 rfl rfl (Nat.le_of_ble_eq_true rfl) (by decide +kernel) dX0_type_4 (fun v4 => ?_)
  refine r_widen (u' := (0, 0)) (by decide +kernel) ?_
  refine r_bipush (v := (80 : Int32)) (pc := 7) dX0_type_7 (by decide) ?_
  refine r_icmp_ne (pc := 9) (tgt := 15) dX0_type_9 (by decide) ?_ ?_
  · refine r_aload_n (pc := 15) dX0_type_15 rfl ?_
    refine r_getR (pc := 16)  gf_X0_36 dX0_type_16 (fun v16 => ?_)
    refine r_iload_n (pc := 19) dX0_type_19 rfl ?_
    refine r_callV_R (st := []) (vs := [.inl x1]) (pc := 20)  ct_J4_append hc_8 cf_X0_106 rfl rfl (Nat.le_of_ble_eq_true rfl) (by decide +kernel) dX0_type_20 (fun v20 m20 => ?_)
    refine r_widen (u' := (2, 1024)) (by decide +kernel) ?_
    refine r_pop (pc := 23) dX0_type_23 ?_
    refine r_aload_n (pc := 24) dX0_type_24 rfl ?_
    refine r_getR (pc := 25)  gf_X0_36 dX0_type_25 (fun v25 => ?_)
    refine r_callV_P (st := []) (vs := []) (pc := 28)  ct_J4_length hc_8 cf_X0_102 rfl rfl (Nat.le_of_ble_eq_true rfl) (by decide +kernel) dX0_type_28 (fun v28 => ?_)
    refine r_widen (u' := (2, 1024)) (by decide +kernel) ?_
    exact r_iretI (pc := 31) dX0_type_31 rfl (by decide +kernel)
  refine r_ldc (pc := 12) dX0_type_12 q663 ?_
  exact r_iretI (pc := 14) dX0_type_14 rfl (by decide +kernel)
theorem ct_X0_type {l : Launch} {r0 : QR} {x1 : Int32} {M : QM} : ∀ b, f_X0_type r0 x1 M = some b → PM l yX0_type (ws_ yX0_type cX0_type 2 (some .int)) rmX0_type [.inr r0, .inl x1] M (eI b).1 (eI b).2 := fun b hb =>
  PM.of (own := RX0) rfl (by decide +kernel) (Nat.le_of_ble_eq_true rfl) false (fun h => nomatch h) (s_X0_type b hb)
/-! X5_type: BarnPicturesModel.type(C)I, kind I -/
abbrev rmX5_type : Room := ({ frames := 0, cells := 0, slots := 0, locals := 0 })
abbrev kX5_type : QK := (RX5, cX5_type, 2, (some .int), [], false, rmX5_type)
noncomputable def f_X5_type (r0 : QR) (x1 : Int32) (M : QM) : Option (Int32 × QM) :=
  (gI M r0 [(4, 7)]).bind fun v1 => 
    if v1 = (80 : Int32) then (some ((-10000003 : Int32), M))
    else (gR M r0 [(4, 6)]).bind fun v13 => 
    (gI M r0 [(4, 7)]).bind fun v17 => 
    (sI M v13 v17 x1).bind fun m21 => 
    (gI m21 r0 [(4, 7)]).bind fun v24 => 
    (pF m21 r0 [(4, 7)] (.inl (v24 + (1 : Int32)))).bind fun m29 => 
    (gI m29 r0 [(4, 7)]).bind fun v33 => 
    some (v33, m29)
theorem s_X5_type {l : Launch} {M0 : QM} {r0 : QR} {x1 : Int32} {M : QM} : SB eI l kX5_type M0 (f_X5_type r0 x1 M) (0, 0) 0 M [some (.inr r0), some (.inl x1)] [] := by
  unfold f_X5_type
  refine r_aload_n (pc := 0) dX5_type_0 rfl ?_
  refine r_getI (pc := 1)  gf_X5_122 dX5_type_1 (fun v1 => ?_)
  refine r_bipush (v := (80 : Int32)) (pc := 4) dX5_type_4 (by decide) ?_
  refine r_icmp_ne (pc := 6) (tgt := 12) dX5_type_6 (by decide) ?_ ?_
  · refine r_aload_n (pc := 12) dX5_type_12 rfl ?_
    refine r_getR (pc := 13)  gf_X5_22 dX5_type_13 (fun v13 => ?_)
    refine r_aload_n (pc := 16) dX5_type_16 rfl ?_
    refine r_getI (pc := 17)  gf_X5_122 dX5_type_17 (fun v17 => ?_)
    refine r_iload_n (pc := 20) dX5_type_20 rfl ?_
    refine r_iast (pc := 21) dX5_type_21 (fun m21 => ?_)
    refine r_aload_n (pc := 22) dX5_type_22 rfl ?_
    refine r_dup (pc := 23) dX5_type_23 ?_
    refine r_getI (pc := 24)  gf_X5_122 dX5_type_24 (fun v24 => ?_)
    refine r_iconst (v := (1 : Int32)) (pc := 27) dX5_type_27 (by decide) ?_
    refine r_iadd (pc := 28) dX5_type_28 ?_
    refine r_put (pc := 29)  pf_X5_122 (fun h => nomatch h) (fit_int _) dX5_type_29 (fun m29 => ?_)
    refine r_aload_n (pc := 32) dX5_type_32 rfl ?_
    refine r_getI (pc := 33)  gf_X5_122 dX5_type_33 (fun v33 => ?_)
    exact r_iretI (pc := 36) dX5_type_36 rfl (by decide +kernel)
  refine r_ldc (pc := 9) dX5_type_9 q1188 ?_
  exact r_iretI (pc := 11) dX5_type_11 rfl (by decide +kernel)
theorem ct_X5_type {l : Launch} {r0 : QR} {x1 : Int32} {M : QM} : ∀ b, f_X5_type r0 x1 M = some b → PM l yX5_type (ws_ yX5_type cX5_type 2 (some .int)) rmX5_type [.inr r0, .inl x1] M (eI b).1 (eI b).2 := fun b hb =>
  PM.of (own := RX5) rfl (by decide +kernel) (Nat.le_of_ble_eq_true rfl) false (fun h => nomatch h) (s_X5_type b hb)
/-! J13_rangeCheck: java/util/Arrays.rangeCheck(III)V, kind U -/
abbrev rmJ13_rangeCheck : Room := ({ frames := 0, cells := 0, slots := 0, locals := 0 })
abbrev kJ13_rangeCheck : QK := (RJ13, cJ13_rangeCheck, 3, none, [], false, rmJ13_rangeCheck)
noncomputable def f_J13_rangeCheck (x0 : Int32) (x1 : Int32) (x2 : Int32) (M : QM) : Option (Unit) :=
  if x1 ≤ x2 then (if 0 ≤ x1 then (if x2 ≤ x0 then (some ())
        else none)
      else none)
    else none
theorem s_J13_rangeCheck {l : Launch} {x0 : Int32} {x1 : Int32} {x2 : Int32} {M : QM} : SB (eU M) l kJ13_rangeCheck M (f_J13_rangeCheck x0 x1 x2 M) (0, 0) 0 M [some (.inl x0), some (.inl x1), some (.inl x2)] [] := by
  unfold f_J13_rangeCheck
  refine r_iload_n (pc := 0) dJ13_rangeCheck_0 rfl ?_
  refine r_iload_n (pc := 1) dJ13_rangeCheck_1 rfl ?_
  refine r_icmp_le (pc := 2) (tgt := 46) dJ13_rangeCheck_2 (by decide) ?_ ?_
  · refine r_iload_n (pc := 46) dJ13_rangeCheck_46 rfl ?_
    refine r_if_ge (pc := 47) (tgt := 59) dJ13_rangeCheck_47 (by decide) ?_ ?_
    · refine r_iload_n (pc := 59) dJ13_rangeCheck_59 rfl ?_
      refine r_iload_n (pc := 60) dJ13_rangeCheck_60 rfl ?_
      refine r_icmp_le (pc := 61) (tgt := 73) dJ13_rangeCheck_61 (by decide) ?_ ?_
      · exact r_vretU (pc := 73) dJ13_rangeCheck_73 rfl (by decide +kernel)
      exact r_none
    exact r_none
  exact r_none
theorem ct_J13_rangeCheck {l : Launch} {x0 : Int32} {x1 : Int32} {x2 : Int32} {M : QM} : ∀ b, f_J13_rangeCheck x0 x1 x2 M = some b → PM l yJ13_rangeCheck (ws_ yJ13_rangeCheck cJ13_rangeCheck 3 none) rmJ13_rangeCheck [.inl x0, .inl x1, .inl x2] M ((eU M) b).1 ((eU M) b).2 := fun b hb =>
  PM.of (own := RJ13) rfl (by decide +kernel) (Nat.le_of_ble_eq_true rfl) false (fun h => nomatch h) (s_J13_rangeCheck b hb)
/-! J13_fill: java/util/Arrays.fill([BIIB)V, kind V -/
abbrev rmJ13_fill : Room := ({ frames := 1, cells := 0, slots := 0, locals := 22 })
abbrev kJ13_fill : QK := (RJ13, cJ13_fill, 5, none, [], false, rmJ13_fill)
noncomputable def f_J13_fill_10 : Nat → QR → Int32 → Int32 → Int32 → QM → Option (QM)
  | 0, _, _, _, _, _ => none
  | n + 1, r0, x2, x3, x4, M =>
    if x2 ≤ x4 then (some M)
    else (sB M r0 x4 x3).bind fun m20 => 
    f_J13_fill_10 n r0 x2 x3 (x4 + (1 : Int32)) m20
theorem s_J13_fill_10 {l : Launch} {M0 : QM} : ∀ (n : Nat) (r0 : QR) (x2 : Int32) (x3 : Int32) (x4 : Int32) (d1 : Option QV) (M : QM) , SB eV l kJ13_fill M0 (f_J13_fill_10 n r0 x2 x3 x4 M) (0, 0) 10 M [some (.inr r0), d1, some (.inl x2), some (.inl x3), some (.inl x4)] [] := by
  intro n
  induction n with
  | zero => intros; rw [f_J13_fill_10]; exact r_none
  | succ n ih =>
    intro r0 x2 x3 x4 d1 M
    rw [f_J13_fill_10]
    refine r_iload (pc := 10) dJ13_fill_10 rfl ?_
    refine r_iload_n (pc := 12) dJ13_fill_12 rfl ?_
    refine r_icmp_ge (pc := 13) (tgt := 27) dJ13_fill_13 (by decide) ?_ ?_
    · exact r_vretV (pc := 27) dJ13_fill_27 rfl (by decide +kernel)
    refine r_aload_n (pc := 16) dJ13_fill_16 rfl ?_
    refine r_iload (pc := 17) dJ13_fill_17 rfl ?_
    refine r_iload_n (pc := 19) dJ13_fill_19 rfl ?_
    refine r_bast (pc := 20) dJ13_fill_20 (fun m20 => ?_)
    refine r_iinc (v := (x4 + (1 : Int32))) (pc := 21) dJ13_fill_21 rfl rfl (by decide) rfl ?_
    refine r_goto (tgt := 10) (pc := 24) dJ13_fill_24 (by decide) ?_
    exact ih _ _ _ _ _ _
noncomputable def f_J13_fill (r0 : QR) (x1 : Int32) (x2 : Int32) (x3 : Int32) (M : QM) : Option (QM) :=
  (aL M r0).bind fun v1 => 
    (f_J13_rangeCheck v1 x1 x2 M).bind fun _ => 
    f_J13_fill_10 600 r0 x2 x3 x1 M
theorem s_J13_fill {l : Launch} {M0 : QM} {r0 : QR} {x1 : Int32} {x2 : Int32} {x3 : Int32} {M : QM} : SB eV l kJ13_fill M0 (f_J13_fill r0 x1 x2 x3 M) (0, 0) 0 M [some (.inr r0), some (.inl x1), some (.inl x2), some (.inl x3), none] [] := by
  unfold f_J13_fill
  refine r_aload_n (pc := 0) dJ13_fill_0 rfl ?_
  refine r_alen (pc := 1) dJ13_fill_1 (fun v1 => ?_)
  refine r_iload_n (pc := 2) dJ13_fill_2 rfl ?_
  refine r_iload_n (pc := 3) dJ13_fill_3 rfl ?_
  refine r_callS_U (st := []) (vs := [.inl v1, .inl x1, .inl x2]) (pc := 4)  ct_J13_rangeCheck cf_J13_13 rfl rfl (Nat.le_of_ble_eq_true rfl) (by decide +kernel) dJ13_fill_4 ?_
  refine r_widen (u' := (0, 0)) (by decide +kernel) ?_
  refine r_iload_n (pc := 7) dJ13_fill_7 rfl ?_
  refine r_istore (pc := 8) dJ13_fill_8 (by decide) rfl ?_
  exact s_J13_fill_10  600 _ _ _ _ _ _
theorem ct_J13_fill {l : Launch} {r0 : QR} {x1 : Int32} {x2 : Int32} {x3 : Int32} {M : QM} : ∀ b, f_J13_fill r0 x1 x2 x3 M = some b → PM l yJ13_fill (ws_ yJ13_fill cJ13_fill 5 none) rmJ13_fill [.inr r0, .inl x1, .inl x2, .inl x3] M (eV b).1 (eV b).2 := fun b hb =>
  PM.of (own := RJ13) rfl (by decide +kernel) (Nat.le_of_ble_eq_true rfl) false (fun h => nomatch h) (s_J13_fill b hb)
/-! J14_fillNull: java/lang/StringLatin1.fillNull([BII)V, kind V -/
abbrev rmJ14_fillNull : Room := ({ frames := 2, cells := 0, slots := 0, locals := 46 })
abbrev kJ14_fillNull : QK := (RJ14, cJ14_fillNull, 3, none, [], false, rmJ14_fillNull)
noncomputable def f_J14_fillNull (r0 : QR) (x1 : Int32) (x2 : Int32) (M : QM) : Option (QM) :=
  (f_J13_fill r0 x1 x2 (0 : Int32) M).bind fun m4 => 
    some m4
theorem s_J14_fillNull {l : Launch} {M0 : QM} {r0 : QR} {x1 : Int32} {x2 : Int32} {M : QM} : SB eV l kJ14_fillNull M0 (f_J14_fillNull r0 x1 x2 M) (0, 0) 0 M [some (.inr r0), some (.inl x1), some (.inl x2)] [] := by
  unfold f_J14_fillNull
  refine r_aload_n (pc := 0) dJ14_fillNull_0 rfl ?_
  refine r_iload_n (pc := 1) dJ14_fillNull_1 rfl ?_
  refine r_iload_n (pc := 2) dJ14_fillNull_2 rfl ?_
  refine r_iconst (v := (0 : Int32)) (pc := 3) dJ14_fillNull_3 (by decide) ?_
  refine r_callS_V (st := []) (vs := [.inr r0, .inl x1, .inl x2, .inl (0 : Int32)]) (pc := 4)  ct_J13_fill cf_J14_236 rfl rfl (Nat.le_of_ble_eq_true rfl) (by decide +kernel) dJ14_fillNull_4 (fun m4 => ?_)
  refine r_widen (u' := (0, 0)) (by decide +kernel) ?_
  exact r_vretV (pc := 7) dJ14_fillNull_7 rfl (by decide +kernel)
theorem ct_J14_fillNull {l : Launch} {r0 : QR} {x1 : Int32} {x2 : Int32} {M : QM} : ∀ b, f_J14_fillNull r0 x1 x2 M = some b → PM l yJ14_fillNull (ws_ yJ14_fillNull cJ14_fillNull 3 none) rmJ14_fillNull [.inr r0, .inl x1, .inl x2] M (eV b).1 (eV b).2 := fun b hb =>
  PM.of (own := RJ14) rfl (by decide +kernel) (Nat.le_of_ble_eq_true rfl) false (fun h => nomatch h) (s_J14_fillNull b hb)
/-! J6_fillNull: java/lang/StringUTF16.fillNull([BII)V, kind V -/
abbrev rmJ6_fillNull : Room := ({ frames := 2, cells := 0, slots := 0, locals := 46 })
abbrev kJ6_fillNull : QK := (RJ6, cJ6_fillNull, 3, none, [], false, rmJ6_fillNull)
noncomputable def f_J6_fillNull (r0 : QR) (x1 : Int32) (x2 : Int32) (M : QM) : Option (QM) :=
  (f_J13_fill r0 (x1 <<< ((1 : Int32) &&& 31)) (x2 <<< ((1 : Int32) &&& 31)) (0 : Int32) M).bind fun m8 => 
    some m8
theorem s_J6_fillNull {l : Launch} {M0 : QM} {r0 : QR} {x1 : Int32} {x2 : Int32} {M : QM} : SB eV l kJ6_fillNull M0 (f_J6_fillNull r0 x1 x2 M) (0, 0) 0 M [some (.inr r0), some (.inl x1), some (.inl x2)] [] := by
  unfold f_J6_fillNull
  refine r_aload_n (pc := 0) dJ6_fillNull_0 rfl ?_
  refine r_iload_n (pc := 1) dJ6_fillNull_1 rfl ?_
  refine r_iconst (v := (1 : Int32)) (pc := 2) dJ6_fillNull_2 (by decide) ?_
  refine r_ishl (pc := 3) dJ6_fillNull_3 ?_
  refine r_iload_n (pc := 4) dJ6_fillNull_4 rfl ?_
  refine r_iconst (v := (1 : Int32)) (pc := 5) dJ6_fillNull_5 (by decide) ?_
  refine r_ishl (pc := 6) dJ6_fillNull_6 ?_
  refine r_iconst (v := (0 : Int32)) (pc := 7) dJ6_fillNull_7 (by decide) ?_
  refine r_callS_V (st := []) (vs := [.inr r0, .inl (x1 <<< ((1 : Int32) &&& 31)), .inl (x2 <<< ((1 : Int32) &&& 31)), .inl (0 : Int32)]) (pc := 8)  ct_J13_fill cf_J6_380 rfl rfl (Nat.le_of_ble_eq_true rfl) (by decide +kernel) dJ6_fillNull_8 (fun m8 => ?_)
  refine r_widen (u' := (0, 0)) (by decide +kernel) ?_
  exact r_vretV (pc := 11) dJ6_fillNull_11 rfl (by decide +kernel)
theorem ct_J6_fillNull {l : Launch} {r0 : QR} {x1 : Int32} {x2 : Int32} {M : QM} : ∀ b, f_J6_fillNull r0 x1 x2 M = some b → PM l yJ6_fillNull (ws_ yJ6_fillNull cJ6_fillNull 3 none) rmJ6_fillNull [.inr r0, .inl x1, .inl x2] M (eV b).1 (eV b).2 := fun b hb =>
  PM.of (own := RJ6) rfl (by decide +kernel) (Nat.le_of_ble_eq_true rfl) false (fun h => nomatch h) (s_J6_fillNull b hb)
/-! J3_setLength: java/lang/AbstractStringBuilder.setLength(I)V, kind V -/
abbrev rmJ3_setLength : Room := ({ frames := 4, cells := 1, slots := 512, locals := 92 })
abbrev kJ3_setLength : QK := (RJ3, cJ3_setLength, 2, none, [], false, rmJ3_setLength)
noncomputable def f_J3_setLength_76 (r0 : QR) (x1 : Int32) (M : QM) : Option (QM) :=
  (pF M r0 [(8, 3)] (.inl x1)).bind fun m78 => 
    some m78
theorem s_J3_setLength_76 {l : Launch} {M0 : QM} : ∀ (r0 : QR) (x1 : Int32) (M : QM) , SB eV l kJ3_setLength M0 (f_J3_setLength_76 r0 x1 M) (1, 512) 76 M [some (.inr r0), some (.inl x1)] [] := by
  intro r0 x1  M
  unfold f_J3_setLength_76
  refine r_aload_n (pc := 76) dJ3_setLength_76 rfl ?_
  refine r_iload_n (pc := 77) dJ3_setLength_77 rfl ?_
  refine r_put (pc := 78)  pf_J3_79 (fun h => nomatch h) (fit_int _) dJ3_setLength_78 (fun m78 => ?_)
  exact r_vretV (pc := 81) dJ3_setLength_81 rfl (by decide +kernel)
noncomputable def f_J3_setLength (r0 : QR) (x1 : Int32) (M : QM) : Option (QM) :=
  if 0 ≤ x1 then ((qrc M r0 [8] (f_J3_ensureCapacityInternal r0 x1 M)).bind fun m15 => 
      (gI m15 r0 [(8, 3)]).bind fun v19 => 
      if x1 ≤ v19 then ((gI m15 r0 [(8, 3)]).bind fun v64 => 
        if v64 ≤ x1 then (f_J3_setLength_76 r0 x1 m15)
        else qnf .boolean (1 : Int32) <| (pF m15 r0 [(8, 2)] (.inl (1 : Int32))).bind fun m73 => 
        f_J3_setLength_76 r0 x1 m73)
      else (qrc m15 r0 [8] (f_J3_isLatin1 r0 m15)).bind fun v27 => 
      if v27 = 0 then ((gR m15 r0 [(8, 0)]).bind fun v49 => 
        (gI m15 r0 [(8, 3)]).bind fun v53 => 
        (f_J6_fillNull v49 v53 x1 m15).bind fun m57 => 
        f_J3_setLength_76 r0 x1 m57)
      else (gR m15 r0 [(8, 0)]).bind fun v34 => 
      (gI m15 r0 [(8, 3)]).bind fun v38 => 
      (f_J14_fillNull v34 v38 x1 m15).bind fun m42 => 
      f_J3_setLength_76 r0 x1 m42)
    else none
theorem s_J3_setLength {l : Launch} {M0 : QM} {r0 : QR} {x1 : Int32} {M : QM} : SB eV l kJ3_setLength M0 (f_J3_setLength r0 x1 M) (0, 0) 0 M [some (.inr r0), some (.inl x1)] [] := by
  unfold f_J3_setLength
  refine r_iload_n (pc := 0) dJ3_setLength_0 rfl ?_
  refine r_if_ge (pc := 1) (tgt := 13) dJ3_setLength_1 (by decide) ?_ ?_
  · refine r_aload_n (pc := 13) dJ3_setLength_13 rfl ?_
    refine r_iload_n (pc := 14) dJ3_setLength_14 rfl ?_
    refine r_callUs_V (st := []) (vs := [.inl x1]) (pc := 15)  ct_J3_ensureCapacityInternal cf_J3_100 rfl rfl (Nat.le_of_ble_eq_true rfl) (by decide +kernel) dJ3_setLength_15 (fun m15 => ?_)
    refine r_widen (u' := (1, 512)) (by decide +kernel) ?_
    refine r_aload_n (pc := 18) dJ3_setLength_18 rfl ?_
    refine r_getI (pc := 19)  gf_J3_79 dJ3_setLength_19 (fun v19 => ?_)
    refine r_iload_n (pc := 22) dJ3_setLength_22 rfl ?_
    refine r_icmp_ge (pc := 23) (tgt := 63) dJ3_setLength_23 (by decide) ?_ ?_
    · refine r_aload_n (pc := 63) dJ3_setLength_63 rfl ?_
      refine r_getI (pc := 64)  gf_J3_79 dJ3_setLength_64 (fun v64 => ?_)
      refine r_iload_n (pc := 67) dJ3_setLength_67 rfl ?_
      refine r_icmp_le (pc := 68) (tgt := 76) dJ3_setLength_68 (by decide) ?_ ?_
      · exact s_J3_setLength_76  _ _ _
      refine r_aload_n (pc := 71) dJ3_setLength_71 rfl ?_
      refine r_iconst (v := (1 : Int32)) (pc := 72) dJ3_setLength_72 (by decide) ?_
      refine r_putN (pc := 73)  pf_J3_73 (fun h => nomatch h) (by decide) dJ3_setLength_73 (fun m73 => ?_)
      exact s_J3_setLength_76  _ _ _
    refine r_aload_n (pc := 26) dJ3_setLength_26 rfl ?_
    refine r_callUs_P (st := []) (vs := []) (pc := 27)  ct_J3_isLatin1 cf_J3_83 rfl rfl (Nat.le_of_ble_eq_true rfl) (by decide +kernel) dJ3_setLength_27 (fun v27 => ?_)
    refine r_widen (u' := (1, 512)) (by decide +kernel) ?_
    refine r_if_eq (pc := 30) (tgt := 48) dJ3_setLength_30 (by decide) ?_ ?_
    · refine r_aload_n (pc := 48) dJ3_setLength_48 rfl ?_
      refine r_getR (pc := 49)  gf_J3_15 dJ3_setLength_49 (fun v49 => ?_)
      refine r_aload_n (pc := 52) dJ3_setLength_52 rfl ?_
      refine r_getI (pc := 53)  gf_J3_79 dJ3_setLength_53 (fun v53 => ?_)
      refine r_iload_n (pc := 56) dJ3_setLength_56 rfl ?_
      refine r_callS_V (st := []) (vs := [.inr v49, .inl v53, .inl x1]) (pc := 57)  ct_J6_fillNull cf_J3_137 rfl rfl (Nat.le_of_ble_eq_true rfl) (by decide +kernel) dJ3_setLength_57 (fun m57 => ?_)
      refine r_widen (u' := (1, 512)) (by decide +kernel) ?_
      refine r_goto (tgt := 76) (pc := 60) dJ3_setLength_60 (by decide) ?_
      exact s_J3_setLength_76  _ _ _
    refine r_aload_n (pc := 33) dJ3_setLength_33 rfl ?_
    refine r_getR (pc := 34)  gf_J3_15 dJ3_setLength_34 (fun v34 => ?_)
    refine r_aload_n (pc := 37) dJ3_setLength_37 rfl ?_
    refine r_getI (pc := 38)  gf_J3_79 dJ3_setLength_38 (fun v38 => ?_)
    refine r_iload_n (pc := 41) dJ3_setLength_41 rfl ?_
    refine r_callS_V (st := []) (vs := [.inr v34, .inl v38, .inl x1]) (pc := 42)  ct_J14_fillNull cf_J3_133 rfl rfl (Nat.le_of_ble_eq_true rfl) (by decide +kernel) dJ3_setLength_42 (fun m42 => ?_)
    refine r_widen (u' := (1, 512)) (by decide +kernel) ?_
    refine r_goto (tgt := 76) (pc := 45) dJ3_setLength_45 (by decide) ?_
    exact s_J3_setLength_76  _ _ _
  exact r_none
theorem ct_J3_setLength {l : Launch} {r0 : QR} {x1 : Int32} {M : QM} : ∀ b, f_J3_setLength r0 x1 M = some b → PM l yJ3_setLength (ws_ yJ3_setLength cJ3_setLength 2 none) rmJ3_setLength [.inr r0, .inl x1] M (eV b).1 (eV b).2 := fun b hb =>
  PM.of (own := RJ3) rfl (by decide +kernel) (Nat.le_of_ble_eq_true rfl) false (fun h => nomatch h) (s_J3_setLength b hb)
/-! J4_setLength: java/lang/StringBuilder.setLength(I)V, kind V -/
abbrev rmJ4_setLength : Room := ({ frames := 5, cells := 1, slots := 512, locals := 113 })
abbrev kJ4_setLength : QK := (RJ4, cJ4_setLength, 2, none, [], false, rmJ4_setLength)
noncomputable def f_J4_setLength (r0 : QR) (x1 : Int32) (M : QM) : Option (QM) :=
  (qrc M r0 [8] (f_J3_setLength r0 x1 M)).bind fun m2 => 
    some m2
theorem s_J4_setLength {l : Launch} {M0 : QM} {r0 : QR} {x1 : Int32} {M : QM} : SB eV l kJ4_setLength M0 (f_J4_setLength r0 x1 M) (0, 0) 0 M [some (.inr r0), some (.inl x1)] [] := by
  unfold f_J4_setLength
  refine r_aload_n (pc := 0) dJ4_setLength_0 rfl ?_
  refine r_iload_n (pc := 1) dJ4_setLength_1 rfl ?_
  refine r_callSU_V (st := []) (vs := [.inl x1]) (pc := 2)  ct_J3_setLength hc_8 cf_J4_333 rfl rfl (Nat.le_of_ble_eq_true rfl) (by decide +kernel) dJ4_setLength_2 (fun m2 => ?_)
  refine r_widen (u' := (1, 512)) (by decide +kernel) ?_
  exact r_vretV (pc := 5) dJ4_setLength_5 rfl (by decide +kernel)
theorem ct_J4_setLength {l : Launch} {r0 : QR} {x1 : Int32} {M : QM} : ∀ b, f_J4_setLength r0 x1 M = some b → PM l yJ4_setLength (ws_ yJ4_setLength cJ4_setLength 2 none) rmJ4_setLength [.inr r0, .inl x1] M (eV b).1 (eV b).2 := fun b hb =>
  PM.of (own := RJ4) rfl (by decide +kernel) (Nat.le_of_ble_eq_true rfl) false (fun h => nomatch h) (s_J4_setLength b hb)
/-! X0_clearText: BarnPictures.clearText()I, kind I -/
abbrev rmX0_clearText : Room := ({ frames := 6, cells := 1, slots := 512, locals := 134 })
abbrev kX0_clearText : QK := (RX0, cX0_clearText, 2, (some .int), [], false, rmX0_clearText)
noncomputable def f_X0_clearText (r0 : QR) (M : QM) : Option (Int32 × QM) :=
  (gR M r0 [(0, 3)]).bind fun v1 => 
    (qrc M v1 [8] (f_J4_length v1 M)).bind fun v4 => 
    (gR M r0 [(0, 3)]).bind fun v9 => 
    (qrc M v9 [8] (f_J4_setLength v9 (0 : Int32) M)).bind fun m13 => 
    some (v4, m13)
theorem s_X0_clearText {l : Launch} {M0 : QM} {r0 : QR} {M : QM} : SB eI l kX0_clearText M0 (f_X0_clearText r0 M) (0, 0) 0 M [some (.inr r0), none] [] := by
  unfold f_X0_clearText
  refine r_aload_n (pc := 0) dX0_clearText_0 rfl ?_
  refine r_getR (pc := 1)  gf_X0_36 dX0_clearText_1 (fun v1 => ?_)
  refine r_callV_P (st := []) (vs := []) (pc := 4)  ct_J4_length hc_8 cf_X0_102 rfl rfl (Nat.le_of_ble_eq_true rfl) (by decide +kernel) dX0_clearText_4 (fun v4 => ?_)
  refine r_widen (u' := (0, 0)) (by decide +kernel) ?_
  refine r_istore_n (pc := 7) dX0_clearText_7 (by decide) rfl ?_
  refine r_aload_n (pc := 8) dX0_clearText_8 rfl ?_
  refine r_getR (pc := 9)  gf_X0_36 dX0_clearText_9 (fun v9 => ?_)
  refine r_iconst (v := (0 : Int32)) (pc := 12) dX0_clearText_12 (by decide) ?_
  refine r_callV_V (st := []) (vs := [.inl (0 : Int32)]) (pc := 13)  ct_J4_setLength hc_8 cf_X0_110 rfl rfl (Nat.le_of_ble_eq_true rfl) (by decide +kernel) dX0_clearText_13 (fun m13 => ?_)
  refine r_widen (u' := (1, 512)) (by decide +kernel) ?_
  refine r_iload_n (pc := 16) dX0_clearText_16 rfl ?_
  exact r_iretI (pc := 17) dX0_clearText_17 rfl (by decide +kernel)
theorem ct_X0_clearText {l : Launch} {r0 : QR} {M : QM} : ∀ b, f_X0_clearText r0 M = some b → PM l yX0_clearText (ws_ yX0_clearText cX0_clearText 2 (some .int)) rmX0_clearText [.inr r0] M (eI b).1 (eI b).2 := fun b hb =>
  PM.of (own := RX0) rfl (by decide +kernel) (Nat.le_of_ble_eq_true rfl) false (fun h => nomatch h) (s_X0_clearText b hb)
/-! X5_clearText: BarnPicturesModel.clearText()I, kind I -/
abbrev rmX5_clearText : Room := ({ frames := 0, cells := 0, slots := 0, locals := 0 })
abbrev kX5_clearText : QK := (RX5, cX5_clearText, 2, (some .int), [], false, rmX5_clearText)
noncomputable def f_X5_clearText (r0 : QR) (M : QM) : Option (Int32 × QM) :=
  (gI M r0 [(4, 7)]).bind fun v1 => 
    (pF M r0 [(4, 7)] (.inl (0 : Int32))).bind fun m7 => 
    some (v1, m7)
theorem s_X5_clearText {l : Launch} {M0 : QM} {r0 : QR} {M : QM} : SB eI l kX5_clearText M0 (f_X5_clearText r0 M) (0, 0) 0 M [some (.inr r0), none] [] := by
  unfold f_X5_clearText
  refine r_aload_n (pc := 0) dX5_clearText_0 rfl ?_
  refine r_getI (pc := 1)  gf_X5_122 dX5_clearText_1 (fun v1 => ?_)
  refine r_istore_n (pc := 4) dX5_clearText_4 (by decide) rfl ?_
  refine r_aload_n (pc := 5) dX5_clearText_5 rfl ?_
  refine r_iconst (v := (0 : Int32)) (pc := 6) dX5_clearText_6 (by decide) ?_
  refine r_put (pc := 7)  pf_X5_122 (fun h => nomatch h) (fit_int _) dX5_clearText_7 (fun m7 => ?_)
  refine r_iload_n (pc := 10) dX5_clearText_10 rfl ?_
  exact r_iretI (pc := 11) dX5_clearText_11 rfl (by decide +kernel)
theorem ct_X5_clearText {l : Launch} {r0 : QR} {M : QM} : ∀ b, f_X5_clearText r0 M = some b → PM l yX5_clearText (ws_ yX5_clearText cX5_clearText 2 (some .int)) rmX5_clearText [.inr r0] M (eI b).1 (eI b).2 := fun b hb =>
  PM.of (own := RX5) rfl (by decide +kernel) (Nat.le_of_ble_eq_true rfl) false (fun h => nomatch h) (s_X5_clearText b hb)
/-! X9_init: BarnPictures$Reader.<init>(Ljava/lang/CharSequence;)V, kind V -/
abbrev rmX9_init : Room := ({ frames := 4, cells := 1, slots := 3, locals := 72 })
abbrev kX9_init : QK := (RX9, cX9_init, 2, none, [], true, rmX9_init)
noncomputable def f_X9_init (bn : Nat) (r0 : QR) (r1 : QR) (M : QM) : Option (QM) :=
  qnn r0 (
    (nO M (bn, 1) (.inl (7, fs_7))).bind fun m5 => 
    (qnn (some (bn, 1)) (f_J2_init (some (bn, 1)) m5)).bind fun m9 => 
    (pF m9 r0 [(5, 1)] (.inr (some (bn, 1)))).bind fun m12 => 
    (pF m12 r0 [(5, 0)] (.inr r1)).bind fun m17 => 
    some m17)
theorem s_X9_init {l : Launch} {M0 : QM} {bn : Nat} {r0 : QR} {r1 : QR} {M : QM} : SB eV l kX9_init M0 (f_X9_init bn r0 r1 M) (0, 0) 0 M [some (.inr r0), some (.inr r1)] [] := by
  unfold f_X9_init
  refine r_aload_n (pc := 0) dX9_init_0 rfl ?_
  refine r_objInit (pc := 1)  q777 q82 q83 ⟨Nat.le_of_ble_eq_true rfl, Nat.le_of_ble_eq_true rfl⟩ dX9_init_1 ?_
  refine r_aload_n (pc := 4) dX9_init_4 rfl ?_
  refine r_new (pc := 5)  nf_X9_9 (by decide +kernel) dX9_init_5 (fun m5 => ?_)
  refine r_widen (u' := (1, 3)) (by decide +kernel) ?_
  refine r_dup (pc := 8) dX9_init_8 ?_
  refine r_callI_V (st := [.inr (some (bn, 1)), .inr r0]) (vs := []) (pc := 9)  ct_J2_init cf_X9_11 rfl rfl (Nat.le_of_ble_eq_true rfl) (by decide +kernel) dX9_init_9 (fun m9 => ?_)
  refine r_widen (u' := (1, 3)) (by decide +kernel) ?_
  refine r_put (pc := 12)  pf_X9_12 (fun _ => rfl) (fit_obj _ _) dX9_init_12 (fun m12 => ?_)
  refine r_aload_n (pc := 15) dX9_init_15 rfl ?_
  refine r_aload_n (pc := 16) dX9_init_16 rfl ?_
  refine r_put (pc := 17)  pf_X9_18 (fun _ => rfl) (fit_obj _ _) dX9_init_17 (fun m17 => ?_)
  exact r_vretV (pc := 20) dX9_init_20 rfl (by decide +kernel)
theorem ct_X9_init {l : Launch} {bn : Nat} {r0 : QR} {r1 : QR} {M : QM} : ∀ b, f_X9_init bn r0 r1 M = some b → PM l yX9_init (ws_ yX9_init cX9_init 2 none) rmX9_init [.inr r0, .inr r1] M (eV b).1 (eV b).2 := fun b hb =>
  PM.of (own := RX9) rfl (by decide +kernel) (Nat.le_of_ble_eq_true rfl) true (fun h => rfl) (s_X9_init b hb)
/-! J6_getChar: java/lang/StringUTF16.getChar([BI)C, kind P -/
abbrev rmJ6_getChar : Room := ({ frames := 1, cells := 0, slots := 0, locals := 20 })
abbrev kJ6_getChar : QK := (RJ6, cJ6_getChar, 2, (some .char), [], false, rmJ6_getChar)
noncomputable def f_J6_getChar_18 (M : QM) : Option (Int32) :=
  none
theorem s_J6_getChar_18 {l : Launch} (M : QM) : ∀ (d0 : Option QV) (d1 : Option QV) , SB (eP M) l kJ6_getChar M (f_J6_getChar_18 M) (0, 0) 18 M [d0, d1] [] := by
  intro d0 d1
  unfold f_J6_getChar_18
  exact r_none
noncomputable def f_J6_getChar_28 (M : QM) (r0 : QR) (x1 : Int32) : Option (Int32) :=
  (aB M r0 (x1 <<< ((1 : Int32) &&& 31))).bind fun v37 => 
    (aB M r0 ((x1 <<< ((1 : Int32) &&& 31)) + (1 : Int32))).bind fun v48 => 
    qnar .char (((((v37 &&& (255 : Int32)) <<< ((0 : Int32) &&& 31)) ||| ((v48 &&& (255 : Int32)) <<< ((8 : Int32) &&& 31))).toUInt32 % 65536).toInt32) (some (((((v37 &&& (255 : Int32)) <<< ((0 : Int32) &&& 31)) ||| ((v48 &&& (255 : Int32)) <<< ((8 : Int32) &&& 31))).toUInt32 % 65536).toInt32))
theorem s_J6_getChar_28 {l : Launch} (M : QM) : ∀ (r0 : QR) (x1 : Int32) , SB (eP M) l kJ6_getChar M (f_J6_getChar_28 M r0 x1) (0, 0) 28 M [some (.inr r0), some (.inl x1)] [] := by
  intro r0 x1
  unfold f_J6_getChar_28
  refine r_iload_n (pc := 28) dJ6_getChar_28 rfl ?_
  refine r_iconst (v := (1 : Int32)) (pc := 29) dJ6_getChar_29 (by decide) ?_
  refine r_ishl (pc := 30) dJ6_getChar_30 ?_
  refine r_istore_n (pc := 31) dJ6_getChar_31 (by decide) rfl ?_
  refine r_aload_n (pc := 32) dJ6_getChar_32 rfl ?_
  refine r_iload_n (pc := 33) dJ6_getChar_33 rfl ?_
  refine r_iinc (v := ((x1 <<< ((1 : Int32) &&& 31)) + (1 : Int32))) (pc := 34) dJ6_getChar_34 rfl rfl (by decide) rfl ?_
  refine r_bald (pc := 37) dJ6_getChar_37 (fun v37 => ?_)
  refine r_sipush (v := (255 : Int32)) (pc := 38) dJ6_getChar_38 (by decide) ?_
  refine r_iand (pc := 41) dJ6_getChar_41 ?_
  refine r_gsHi (pc := 42) q728 dJ6_getChar_42 ?_
  refine r_ishl (pc := 45) dJ6_getChar_45 ?_
  refine r_aload_n (pc := 46) dJ6_getChar_46 rfl ?_
  refine r_iload_n (pc := 47) dJ6_getChar_47 rfl ?_
  refine r_bald (pc := 48) dJ6_getChar_48 (fun v48 => ?_)
  refine r_sipush (v := (255 : Int32)) (pc := 49) dJ6_getChar_49 (by decide) ?_
  refine r_iand (pc := 52) dJ6_getChar_52 ?_
  refine r_gsLo (pc := 53) q730 dJ6_getChar_53 ?_
  refine r_ishl (pc := 56) dJ6_getChar_56 ?_
  refine r_ior (pc := 57) dJ6_getChar_57 ?_
  refine r_i2c (pc := 58) dJ6_getChar_58 ?_
  exact r_nretP (pc := 59) dJ6_getChar_59 rfl (by decide) (by decide +kernel)
noncomputable def f_J6_getChar (r0 : QR) (x1 : Int32) (M : QM) : Option (Int32) :=
  if (1 : Int32) = 0 then (if x1 < 0 then (f_J6_getChar_18 M)
      else (f_J6_length r0 M).bind fun v12 => 
      if x1 < v12 then (f_J6_getChar_28 M r0 x1)
      else f_J6_getChar_18 M)
    else f_J6_getChar_28 M r0 x1
theorem s_J6_getChar {l : Launch} {r0 : QR} {x1 : Int32} {M : QM} : SB (eP M) l kJ6_getChar M (f_J6_getChar r0 x1 M) (0, 0) 0 M [some (.inr r0), some (.inl x1)] [] := by
  unfold f_J6_getChar
  refine r_gsAssert (pc := 0) q726 dJ6_getChar_0 ?_
  refine r_if_ne (pc := 3) (tgt := 28) dJ6_getChar_3 (by decide) ?_ ?_
  · exact s_J6_getChar_28 M _ _
  refine r_iload_n (pc := 6) dJ6_getChar_6 rfl ?_
  refine r_if_lt (pc := 7) (tgt := 18) dJ6_getChar_7 (by decide) ?_ ?_
  · exact s_J6_getChar_18 M _ _
  refine r_iload_n (pc := 10) dJ6_getChar_10 rfl ?_
  refine r_aload_n (pc := 11) dJ6_getChar_11 rfl ?_
  refine r_callS_P (st := [.inl x1]) (vs := [.inr r0]) (pc := 12)  ct_J6_length cf_J6_48 rfl rfl (Nat.le_of_ble_eq_true rfl) (by decide +kernel) dJ6_getChar_12 (fun v12 => ?_)
  refine r_widen (u' := (0, 0)) (by decide +kernel) ?_
  refine r_icmp_lt (pc := 15) (tgt := 28) dJ6_getChar_15 (by decide) ?_ ?_
  · exact s_J6_getChar_28 M _ _
  exact s_J6_getChar_18 M _ _
theorem ct_J6_getChar {l : Launch} {r0 : QR} {x1 : Int32} {M : QM} : ∀ b, f_J6_getChar r0 x1 M = some b → PM l yJ6_getChar (ws_ yJ6_getChar cJ6_getChar 2 (some .char)) rmJ6_getChar [.inr r0, .inl x1] M ((eP M) b).1 ((eP M) b).2 := fun b hb =>
  PM.of (own := RJ6) rfl (by decide +kernel) (Nat.le_of_ble_eq_true rfl) false (fun h => nomatch h) (s_J6_getChar b hb)
/-! J3_charAt: java/lang/AbstractStringBuilder.charAt(I)C, kind P -/
abbrev rmJ3_charAt : Room := ({ frames := 2, cells := 0, slots := 0, locals := 43 })
abbrev kJ3_charAt : QK := (RJ3, cJ3_charAt, 5, (some .char), [], false, rmJ3_charAt)
noncomputable def f_J3_charAt (r0 : QR) (x1 : Int32) (M : QM) : Option (Int32) :=
  (gI M r0 [(8, 1)]).bind fun v1 => 
    (gR M r0 [(8, 0)]).bind fun v6 => 
    (gI M r0 [(8, 3)]).bind fun v11 => 
    (aL M v6).bind fun v15 => 
    (f_J5_checkIndex x1 (if (v15 >>> (v1 &&& 31)) < v11 then (v15 >>> (v1 &&& 31)) else v11) M).bind fun _ => 
    if v1 = 0 then ((aB M v6 x1).bind fun v35 => 
      qnar .char (((v35 &&& (255 : Int32)).toUInt32 % 65536).toInt32) (some (((v35 &&& (255 : Int32)).toUInt32 % 65536).toInt32)))
    else (f_J6_getChar v6 x1 M).bind fun v44 => 
    qnar .char v44 (some v44)
theorem s_J3_charAt {l : Launch} {r0 : QR} {x1 : Int32} {M : QM} : SB (eP M) l kJ3_charAt M (f_J3_charAt r0 x1 M) (0, 0) 0 M [some (.inr r0), some (.inl x1), none, none, none] [] := by
  unfold f_J3_charAt
  refine r_aload_n (pc := 0) dJ3_charAt_0 rfl ?_
  refine r_getI (pc := 1)  gf_J3_22 dJ3_charAt_1 (fun v1 => ?_)
  refine r_istore_n (pc := 4) dJ3_charAt_4 (by decide) rfl ?_
  refine r_aload_n (pc := 5) dJ3_charAt_5 rfl ?_
  refine r_getR (pc := 6)  gf_J3_15 dJ3_charAt_6 (fun v6 => ?_)
  refine r_astore_n (pc := 9) dJ3_charAt_9 (by decide) rfl ?_
  refine r_aload_n (pc := 10) dJ3_charAt_10 rfl ?_
  refine r_getI (pc := 11)  gf_J3_79 dJ3_charAt_11 (fun v11 => ?_)
  refine r_aload_n (pc := 14) dJ3_charAt_14 rfl ?_
  refine r_alen (pc := 15) dJ3_charAt_15 (fun v15 => ?_)
  refine r_iload_n (pc := 16) dJ3_charAt_16 rfl ?_
  refine r_ishr (pc := 17) dJ3_charAt_17 ?_
  refine r_mmin (pc := 18)  ⟨q819, q481, q64, q482⟩ ⟨⟨Nat.le_of_ble_eq_true rfl, Nat.le_of_ble_eq_true rfl⟩, (by decide +kernel)⟩ dJ3_charAt_18 ?_
  refine r_istore (pc := 21) dJ3_charAt_21 (by decide) rfl ?_
  refine r_iload_n (pc := 23) dJ3_charAt_23 rfl ?_
  refine r_iload (pc := 24) dJ3_charAt_24 rfl ?_
  refine r_callS_U (st := []) (vs := [.inl x1, .inl (if (v15 >>> (v1 &&& 31)) < v11 then (v15 >>> (v1 &&& 31)) else v11)]) (pc := 26)  ct_J5_checkIndex cf_J3_144 rfl rfl (Nat.le_of_ble_eq_true rfl) (by decide +kernel) dJ3_charAt_26 ?_
  refine r_widen (u' := (0, 0)) (by decide +kernel) ?_
  refine r_iload_n (pc := 29) dJ3_charAt_29 rfl ?_
  refine r_if_ne (pc := 30) (tgt := 42) dJ3_charAt_30 (by decide) ?_ ?_
  · refine r_aload_n (pc := 42) dJ3_charAt_42 rfl ?_
    refine r_iload_n (pc := 43) dJ3_charAt_43 rfl ?_
    refine r_callS_P (st := []) (vs := [.inr v6, .inl x1]) (pc := 44)  ct_J6_getChar cf_J3_148 rfl rfl (Nat.le_of_ble_eq_true rfl) (by decide +kernel) dJ3_charAt_44 (fun v44 => ?_)
    refine r_widen (u' := (0, 0)) (by decide +kernel) ?_
    exact r_nretP (pc := 47) dJ3_charAt_47 rfl (by decide) (by decide +kernel)
  refine r_aload_n (pc := 33) dJ3_charAt_33 rfl ?_
  refine r_iload_n (pc := 34) dJ3_charAt_34 rfl ?_
  refine r_bald (pc := 35) dJ3_charAt_35 (fun v35 => ?_)
  refine r_sipush (v := (255 : Int32)) (pc := 36) dJ3_charAt_36 (by decide) ?_
  refine r_iand (pc := 39) dJ3_charAt_39 ?_
  refine r_i2c (pc := 40) dJ3_charAt_40 ?_
  exact r_nretP (pc := 41) dJ3_charAt_41 rfl (by decide) (by decide +kernel)
theorem ct_J3_charAt {l : Launch} {r0 : QR} {x1 : Int32} {M : QM} : ∀ b, f_J3_charAt r0 x1 M = some b → PM l yJ3_charAt (ws_ yJ3_charAt cJ3_charAt 5 (some .char)) rmJ3_charAt [.inr r0, .inl x1] M ((eP M) b).1 ((eP M) b).2 := fun b hb =>
  PM.of (own := RJ3) rfl (by decide +kernel) (Nat.le_of_ble_eq_true rfl) false (fun h => nomatch h) (s_J3_charAt b hb)
/-! J4_charAt: java/lang/StringBuilder.charAt(I)C, kind P -/
abbrev rmJ4_charAt : Room := ({ frames := 3, cells := 0, slots := 0, locals := 67 })
abbrev kJ4_charAt : QK := (RJ4, cJ4_charAt, 2, (some .char), [], false, rmJ4_charAt)
noncomputable def f_J4_charAt (r0 : QR) (x1 : Int32) (M : QM) : Option (Int32) :=
  (qrc M r0 [8] (f_J3_charAt r0 x1 M)).bind fun v2 => 
    qnar .char v2 (some v2)
theorem s_J4_charAt {l : Launch} {r0 : QR} {x1 : Int32} {M : QM} : SB (eP M) l kJ4_charAt M (f_J4_charAt r0 x1 M) (0, 0) 0 M [some (.inr r0), some (.inl x1)] [] := by
  unfold f_J4_charAt
  refine r_aload_n (pc := 0) dJ4_charAt_0 rfl ?_
  refine r_iload_n (pc := 1) dJ4_charAt_1 rfl ?_
  refine r_callSU_P (st := []) (vs := [.inl x1]) (pc := 2)  ct_J3_charAt hc_8 cf_J4_329 rfl rfl (Nat.le_of_ble_eq_true rfl) (by decide +kernel) dJ4_charAt_2 (fun v2 => ?_)
  refine r_widen (u' := (0, 0)) (by decide +kernel) ?_
  exact r_nretP (pc := 5) dJ4_charAt_5 rfl (by decide) (by decide +kernel)
theorem ct_J4_charAt {l : Launch} {r0 : QR} {x1 : Int32} {M : QM} : ∀ b, f_J4_charAt r0 x1 M = some b → PM l yJ4_charAt (ws_ yJ4_charAt cJ4_charAt 2 (some .char)) rmJ4_charAt [.inr r0, .inl x1] M ((eP M) b).1 ((eP M) b).2 := fun b hb =>
  PM.of (own := RJ4) rfl (by decide +kernel) (Nat.le_of_ble_eq_true rfl) false (fun h => nomatch h) (s_J4_charAt b hb)
/-! J5_isLatin1: java/lang/String.isLatin1()Z, kind P -/
abbrev rmJ5_isLatin1 : Room := ({ frames := 0, cells := 0, slots := 0, locals := 0 })
abbrev kJ5_isLatin1 : QK := (RJ5, cJ5_isLatin1, 1, (some .boolean), [], false, rmJ5_isLatin1)
noncomputable def f_J5_isLatin1 (r0 : QR) (M : QM) : Option (Int32) :=
  if (1 : Int32) = 0 then (some (0 : Int32))
    else (gSc r0).bind fun v7 => 
    if v7 = 0 then (some (1 : Int32))
    else some (0 : Int32)
theorem s_J5_isLatin1 {l : Launch} {r0 : QR} {M : QM} : SB (eP M) l kJ5_isLatin1 M (f_J5_isLatin1 r0 M) (0, 0) 0 M [some (.inr r0)] [] := by
  unfold f_J5_isLatin1
  refine r_gsCompact (pc := 0) q837 dJ5_isLatin1_0 ?_
  refine r_if_eq (pc := 3) (tgt := 17) dJ5_isLatin1_3 (by decide) ?_ ?_
  · refine r_iconst (v := (0 : Int32)) (pc := 17) dJ5_isLatin1_17 (by decide) ?_
    exact r_zretP (pc := 18) dJ5_isLatin1_18 rfl rfl (by decide +kernel)
  refine r_aload_n (pc := 6) dJ5_isLatin1_6 rfl ?_
  refine r_gSc (pc := 7) q1405 dJ5_isLatin1_7 (fun v7 => ?_)
  refine r_if_ne (pc := 10) (tgt := 17) dJ5_isLatin1_10 (by decide) ?_ ?_
  · refine r_iconst (v := (0 : Int32)) (pc := 17) dJ5_isLatin1_17 (by decide) ?_
    exact r_zretP (pc := 18) dJ5_isLatin1_18 rfl rfl (by decide +kernel)
  refine r_iconst (v := (1 : Int32)) (pc := 13) dJ5_isLatin1_13 (by decide) ?_
  refine r_goto (tgt := 18) (pc := 14) dJ5_isLatin1_14 (by decide) ?_
  exact r_zretP (pc := 18) dJ5_isLatin1_18 rfl rfl (by decide +kernel)
theorem ct_J5_isLatin1 {l : Launch} {r0 : QR} {M : QM} : ∀ b, f_J5_isLatin1 r0 M = some b → PM l yJ5_isLatin1 (ws_ yJ5_isLatin1 cJ5_isLatin1 1 (some .boolean)) rmJ5_isLatin1 [.inr r0] M ((eP M) b).1 ((eP M) b).2 := fun b hb =>
  PM.of (own := RJ5) rfl (by decide +kernel) (Nat.le_of_ble_eq_true rfl) false (fun h => nomatch h) (s_J5_isLatin1 b hb)
/-! J5_coder: java/lang/String.coder()B, kind P -/
abbrev rmJ5_coder : Room := ({ frames := 0, cells := 0, slots := 0, locals := 0 })
abbrev kJ5_coder : QK := (RJ5, cJ5_coder, 1, (some .byte), [], false, rmJ5_coder)
noncomputable def f_J5_coder (r0 : QR) (M : QM) : Option (Int32) :=
  if (1 : Int32) = 0 then (qnar .byte (1 : Int32) (some (1 : Int32)))
    else (gSc r0).bind fun v7 => 
    qnar .byte v7 (some v7)
theorem s_J5_coder {l : Launch} {r0 : QR} {M : QM} : SB (eP M) l kJ5_coder M (f_J5_coder r0 M) (0, 0) 0 M [some (.inr r0)] [] := by
  unfold f_J5_coder
  refine r_gsCompact (pc := 0) q837 dJ5_coder_0 ?_
  refine r_if_eq (pc := 3) (tgt := 13) dJ5_coder_3 (by decide) ?_ ?_
  · refine r_iconst (v := (1 : Int32)) (pc := 13) dJ5_coder_13 (by decide) ?_
    exact r_nretP (pc := 14) dJ5_coder_14 rfl (by decide) (by decide +kernel)
  refine r_aload_n (pc := 6) dJ5_coder_6 rfl ?_
  refine r_gSc (pc := 7) q1405 dJ5_coder_7 (fun v7 => ?_)
  refine r_goto (tgt := 14) (pc := 10) dJ5_coder_10 (by decide) ?_
  exact r_nretP (pc := 14) dJ5_coder_14 rfl (by decide) (by decide +kernel)
theorem ct_J5_coder {l : Launch} {r0 : QR} {M : QM} : ∀ b, f_J5_coder r0 M = some b → PM l yJ5_coder (ws_ yJ5_coder cJ5_coder 1 (some .byte)) rmJ5_coder [.inr r0] M ((eP M) b).1 ((eP M) b).2 := fun b hb =>
  PM.of (own := RJ5) rfl (by decide +kernel) (Nat.le_of_ble_eq_true rfl) false (fun h => nomatch h) (s_J5_coder b hb)
/-! J5_length: java/lang/String.length()I, kind P -/
abbrev rmJ5_length : Room := ({ frames := 1, cells := 0, slots := 0, locals := 20 })
abbrev kJ5_length : QK := (RJ5, cJ5_length, 1, (some .int), [], false, rmJ5_length)
noncomputable def f_J5_length (r0 : QR) (M : QM) : Option (Int32) :=
  (gSv r0).bind fun v1 => 
    (aL M v1).bind fun v4 => 
    (qrs r0 (f_J5_coder r0 M)).bind fun v6 => 
    some (v4 >>> (v6 &&& 31))
theorem s_J5_length {l : Launch} {r0 : QR} {M : QM} : SB (eP M) l kJ5_length M (f_J5_length r0 M) (0, 0) 0 M [some (.inr r0)] [] := by
  unfold f_J5_length
  refine r_aload_n (pc := 0) dJ5_length_0 rfl ?_
  refine r_gSv (pc := 1) q1406 dJ5_length_1 (fun v1 => ?_)
  refine r_alen (pc := 4) dJ5_length_4 (fun v4 => ?_)
  refine r_aload_n (pc := 5) dJ5_length_5 rfl ?_
  refine r_callStr_P (st := [.inl v4]) (vs := []) (pc := 6)  ct_J5_coder cf_J5_335 rfl rfl (Nat.le_of_ble_eq_true rfl) (by decide +kernel) dJ5_length_6 (fun v6 => ?_)
  refine r_widen (u' := (0, 0)) (by decide +kernel) ?_
  refine r_ishr (pc := 9) dJ5_length_9 ?_
  exact r_iretP (pc := 10) dJ5_length_10 rfl (by decide +kernel)
theorem ct_J5_length {l : Launch} {r0 : QR} {M : QM} : ∀ b, f_J5_length r0 M = some b → PM l yJ5_length (ws_ yJ5_length cJ5_length 1 (some .int)) rmJ5_length [.inr r0] M ((eP M) b).1 ((eP M) b).2 := fun b hb =>
  PM.of (own := RJ5) rfl (by decide +kernel) (Nat.le_of_ble_eq_true rfl) false (fun h => nomatch h) (s_J5_length b hb)
/-! J14_canEncode_2: java/lang/StringLatin1.canEncode(I)Z, kind P -/
abbrev rmJ14_canEncode_2 : Room := ({ frames := 0, cells := 0, slots := 0, locals := 0 })
abbrev kJ14_canEncode_2 : QK := (RJ14, cJ14_canEncode_2, 1, (some .boolean), [], false, rmJ14_canEncode_2)
noncomputable def f_J14_canEncode_2 (x0 : Int32) (M : QM) : Option (Int32) :=
  if x0 < 0 then (some (0 : Int32))
    else if (255 : Int32) < x0 then (some (0 : Int32))
    else some (1 : Int32)
theorem s_J14_canEncode_2 {l : Launch} {x0 : Int32} {M : QM} : SB (eP M) l kJ14_canEncode_2 M (f_J14_canEncode_2 x0 M) (0, 0) 0 M [some (.inl x0)] [] := by
  unfold f_J14_canEncode_2
  refine r_iload_n (pc := 0) dJ14_canEncode_2_0 rfl ?_
  refine r_if_lt (pc := 1) (tgt := 15) dJ14_canEncode_2_1 (by decide) ?_ ?_
  · refine r_iconst (v := (0 : Int32)) (pc := 15) dJ14_canEncode_2_15 (by decide) ?_
    exact r_zretP (pc := 16) dJ14_canEncode_2_16 rfl rfl (by decide +kernel)
  refine r_iload_n (pc := 4) dJ14_canEncode_2_4 rfl ?_
  refine r_sipush (v := (255 : Int32)) (pc := 5) dJ14_canEncode_2_5 (by decide) ?_
  refine r_icmp_gt (pc := 8) (tgt := 15) dJ14_canEncode_2_8 (by decide) ?_ ?_
  · refine r_iconst (v := (0 : Int32)) (pc := 15) dJ14_canEncode_2_15 (by decide) ?_
    exact r_zretP (pc := 16) dJ14_canEncode_2_16 rfl rfl (by decide +kernel)
  refine r_iconst (v := (1 : Int32)) (pc := 11) dJ14_canEncode_2_11 (by decide) ?_
  refine r_goto (tgt := 16) (pc := 12) dJ14_canEncode_2_12 (by decide) ?_
  exact r_zretP (pc := 16) dJ14_canEncode_2_16 rfl rfl (by decide +kernel)
theorem ct_J14_canEncode_2 {l : Launch} {x0 : Int32} {M : QM} : ∀ b, f_J14_canEncode_2 x0 M = some b → PM l yJ14_canEncode_2 (ws_ yJ14_canEncode_2 cJ14_canEncode_2 1 (some .boolean)) rmJ14_canEncode_2 [.inl x0] M ((eP M) b).1 ((eP M) b).2 := fun b hb =>
  PM.of (own := RJ14) rfl (by decide +kernel) (Nat.le_of_ble_eq_true rfl) false (fun h => nomatch h) (s_J14_canEncode_2 b hb)
/-! J14_indexOfChar: java/lang/StringLatin1.indexOfChar([BIII)I, kind P -/
abbrev rmJ14_indexOfChar : Room := ({ frames := 0, cells := 0, slots := 0, locals := 0 })
abbrev kJ14_indexOfChar : QK := (RJ14, cJ14_indexOfChar, 6, (some .int), [], false, rmJ14_indexOfChar)
noncomputable def f_J14_indexOfChar_7 (M : QM) : Nat → QR → Int32 → Int32 → Int32 → Option (Int32)
  | 0, _, _, _, _ => none
  | n + 1, r0, x3, x4, x5 =>
    if x3 ≤ x5 then (some (-1 : Int32))
    else (aB M r0 x5).bind fun v16 => 
    if v16 = x4 then (some x5)
    else f_J14_indexOfChar_7 M n r0 x3 x4 (x5 + (1 : Int32))
theorem s_J14_indexOfChar_7 {l : Launch} (M : QM) : ∀ (n : Nat) (r0 : QR) (x3 : Int32) (x4 : Int32) (x5 : Int32) (d1 : Option QV) (d2 : Option QV) , SB (eP M) l kJ14_indexOfChar M (f_J14_indexOfChar_7 M n r0 x3 x4 x5) (0, 0) 7 M [some (.inr r0), d1, d2, some (.inl x3), some (.inl x4), some (.inl x5)] [] := by
  intro n
  induction n with
  | zero => intros; rw [f_J14_indexOfChar_7]; exact r_none
  | succ n ih =>
    intro r0 x3 x4 x5 d1 d2
    rw [f_J14_indexOfChar_7]
    refine r_iload (pc := 7) dJ14_indexOfChar_7 rfl ?_
    refine r_iload_n (pc := 9) dJ14_indexOfChar_9 rfl ?_
    refine r_icmp_ge (pc := 10) (tgt := 31) dJ14_indexOfChar_10 (by decide) ?_ ?_
    · refine r_iconst (v := (-1 : Int32)) (pc := 31) dJ14_indexOfChar_31 (by decide) ?_
      exact r_iretP (pc := 32) dJ14_indexOfChar_32 rfl (by decide +kernel)
    refine r_aload_n (pc := 13) dJ14_indexOfChar_13 rfl ?_
    refine r_iload (pc := 14) dJ14_indexOfChar_14 rfl ?_
    refine r_bald (pc := 16) dJ14_indexOfChar_16 (fun v16 => ?_)
    refine r_iload (pc := 17) dJ14_indexOfChar_17 rfl ?_
    refine r_icmp_ne (pc := 19) (tgt := 25) dJ14_indexOfChar_19 (by decide) ?_ ?_
    · refine r_iinc (v := (x5 + (1 : Int32))) (pc := 25) dJ14_indexOfChar_25 rfl rfl (by decide) rfl ?_
      refine r_goto (tgt := 7) (pc := 28) dJ14_indexOfChar_28 (by decide) ?_
      exact ih _ _ _ _ _ _
    refine r_iload (pc := 22) dJ14_indexOfChar_22 rfl ?_
    exact r_iretP (pc := 24) dJ14_indexOfChar_24 rfl (by decide +kernel)
noncomputable def f_J14_indexOfChar (r0 : QR) (x1 : Int32) (x2 : Int32) (x3 : Int32) (M : QM) : Option (Int32) :=
  f_J14_indexOfChar_7 M 8 r0 x3 (x1.toInt8.toInt32) x2
theorem s_J14_indexOfChar {l : Launch} {r0 : QR} {x1 : Int32} {x2 : Int32} {x3 : Int32} {M : QM} : SB (eP M) l kJ14_indexOfChar M (f_J14_indexOfChar r0 x1 x2 x3 M) (0, 0) 0 M [some (.inr r0), some (.inl x1), some (.inl x2), some (.inl x3), none, none] [] := by
  unfold f_J14_indexOfChar
  refine r_iload_n (pc := 0) dJ14_indexOfChar_0 rfl ?_
  refine r_i2b (pc := 1) dJ14_indexOfChar_1 ?_
  refine r_istore (pc := 2) dJ14_indexOfChar_2 (by decide) rfl ?_
  refine r_iload_n (pc := 4) dJ14_indexOfChar_4 rfl ?_
  refine r_istore (pc := 5) dJ14_indexOfChar_5 (by decide) rfl ?_
  exact s_J14_indexOfChar_7 M 8 _ _ _ _ _ _
theorem ct_J14_indexOfChar {l : Launch} {r0 : QR} {x1 : Int32} {x2 : Int32} {x3 : Int32} {M : QM} : ∀ b, f_J14_indexOfChar r0 x1 x2 x3 M = some b → PM l yJ14_indexOfChar (ws_ yJ14_indexOfChar cJ14_indexOfChar 6 (some .int)) rmJ14_indexOfChar [.inr r0, .inl x1, .inl x2, .inl x3] M ((eP M) b).1 ((eP M) b).2 := fun b hb =>
  PM.of (own := RJ14) rfl (by decide +kernel) (Nat.le_of_ble_eq_true rfl) false (fun h => nomatch h) (s_J14_indexOfChar b hb)
/-! J14_indexOf: java/lang/StringLatin1.indexOf([BIII)I, kind P -/
abbrev rmJ14_indexOf : Room := ({ frames := 1, cells := 0, slots := 0, locals := 25 })
abbrev kJ14_indexOf : QK := (RJ14, cJ14_indexOf, 4, (some .int), [], false, rmJ14_indexOf)
noncomputable def f_J14_indexOf (r0 : QR) (x1 : Int32) (x2 : Int32) (x3 : Int32) (M : QM) : Option (Int32) :=
  (f_J14_canEncode_2 x1 M).bind fun v1 => 
    if v1 = 0 then (some (-1 : Int32))
    else (aL M r0).bind fun v17 => 
    if (if x2 < (0 : Int32) then (0 : Int32) else x2) < (if v17 < x3 then v17 else x3) then ((f_J14_indexOfChar r0 x1 (if x2 < (0 : Int32) then (0 : Int32) else x2) (if v17 < x3 then v17 else x3) M).bind fun v33 => 
      some v33)
    else some (-1 : Int32)
theorem s_J14_indexOf {l : Launch} {r0 : QR} {x1 : Int32} {x2 : Int32} {x3 : Int32} {M : QM} : SB (eP M) l kJ14_indexOf M (f_J14_indexOf r0 x1 x2 x3 M) (0, 0) 0 M [some (.inr r0), some (.inl x1), some (.inl x2), some (.inl x3)] [] := by
  unfold f_J14_indexOf
  refine r_iload_n (pc := 0) dJ14_indexOf_0 rfl ?_
  refine r_callS_P (st := []) (vs := [.inl x1]) (pc := 1)  ct_J14_canEncode_2 cf_J14_88 rfl rfl (Nat.le_of_ble_eq_true rfl) (by decide +kernel) dJ14_indexOf_1 (fun v1 => ?_)
  refine r_widen (u' := (0, 0)) (by decide +kernel) ?_
  refine r_if_ne (pc := 4) (tgt := 9) dJ14_indexOf_4 (by decide) ?_ ?_
  · refine r_iload_n (pc := 9) dJ14_indexOf_9 rfl ?_
    refine r_iconst (v := (0 : Int32)) (pc := 10) dJ14_indexOf_10 (by decide) ?_
    refine r_mmax (pc := 11)  ⟨q852, q448, q64, q449⟩ ⟨⟨Nat.le_of_ble_eq_true rfl, Nat.le_of_ble_eq_true rfl⟩, (by decide +kernel)⟩ dJ14_indexOf_11 ?_
    refine r_istore_n (pc := 14) dJ14_indexOf_14 (by decide) rfl ?_
    refine r_iload_n (pc := 15) dJ14_indexOf_15 rfl ?_
    refine r_aload_n (pc := 16) dJ14_indexOf_16 rfl ?_
    refine r_alen (pc := 17) dJ14_indexOf_17 (fun v17 => ?_)
    refine r_mmin (pc := 18)  ⟨q853, q481, q64, q482⟩ ⟨⟨Nat.le_of_ble_eq_true rfl, Nat.le_of_ble_eq_true rfl⟩, (by decide +kernel)⟩ dJ14_indexOf_18 ?_
    refine r_istore_n (pc := 21) dJ14_indexOf_21 (by decide) rfl ?_
    refine r_iload_n (pc := 22) dJ14_indexOf_22 rfl ?_
    refine r_iload_n (pc := 23) dJ14_indexOf_23 rfl ?_
    refine r_icmp_lt (pc := 24) (tgt := 29) dJ14_indexOf_24 (by decide) ?_ ?_
    · refine r_aload_n (pc := 29) dJ14_indexOf_29 rfl ?_
      refine r_iload_n (pc := 30) dJ14_indexOf_30 rfl ?_
      refine r_iload_n (pc := 31) dJ14_indexOf_31 rfl ?_
      refine r_iload_n (pc := 32) dJ14_indexOf_32 rfl ?_
      refine r_callS_P (st := []) (vs := [.inr r0, .inl x1, .inl (if x2 < (0 : Int32) then (0 : Int32) else x2), .inl (if v17 < x3 then v17 else x3)]) (pc := 33)  ct_J14_indexOfChar cf_J14_95 rfl rfl (Nat.le_of_ble_eq_true rfl) (by decide +kernel) dJ14_indexOf_33 (fun v33 => ?_)
      refine r_widen (u' := (0, 0)) (by decide +kernel) ?_
      exact r_iretP (pc := 36) dJ14_indexOf_36 rfl (by decide +kernel)
    refine r_iconst (v := (-1 : Int32)) (pc := 27) dJ14_indexOf_27 (by decide) ?_
    exact r_iretP (pc := 28) dJ14_indexOf_28 rfl (by decide +kernel)
  refine r_iconst (v := (-1 : Int32)) (pc := 7) dJ14_indexOf_7 (by decide) ?_
  exact r_iretP (pc := 8) dJ14_indexOf_8 rfl (by decide +kernel)
theorem ct_J14_indexOf {l : Launch} {r0 : QR} {x1 : Int32} {x2 : Int32} {x3 : Int32} {M : QM} : ∀ b, f_J14_indexOf r0 x1 x2 x3 M = some b → PM l yJ14_indexOf (ws_ yJ14_indexOf cJ14_indexOf 4 (some .int)) rmJ14_indexOf [.inr r0, .inl x1, .inl x2, .inl x3] M ((eP M) b).1 ((eP M) b).2 := fun b hb =>
  PM.of (own := RJ14) rfl (by decide +kernel) (Nat.le_of_ble_eq_true rfl) false (fun h => nomatch h) (s_J14_indexOf b hb)
/-! J5_indexOf_2: java/lang/String.indexOf(II)I, kind P -/
abbrev rmJ5_indexOf_2 : Room := ({ frames := 2, cells := 0, slots := 0, locals := 48 })
abbrev kJ5_indexOf_2 : QK := (RJ5, cJ5_indexOf_2, 3, (some .int), [], false, rmJ5_indexOf_2)
noncomputable def f_J5_indexOf_2 (r0 : QR) (x1 : Int32) (x2 : Int32) (M : QM) : Option (Int32) :=
  (qrs r0 (f_J5_isLatin1 r0 M)).bind fun v1 => 
    if v1 = 0 then ((gSv r0).bind fun v24 => 
      (qrs r0 (f_J5_length r0 M)).bind fun v30 => 
      none)
    else (gSv r0).bind fun v8 => 
    (qrs r0 (f_J5_length r0 M)).bind fun v14 => 
    (f_J14_indexOf v8 x1 x2 v14 M).bind fun v17 => 
    some v17
theorem s_J5_indexOf_2 {l : Launch} {r0 : QR} {x1 : Int32} {x2 : Int32} {M : QM} : SB (eP M) l kJ5_indexOf_2 M (f_J5_indexOf_2 r0 x1 x2 M) (0, 0) 0 M [some (.inr r0), some (.inl x1), some (.inl x2)] [] := by
  unfold f_J5_indexOf_2
  refine r_aload_n (pc := 0) dJ5_indexOf_2_0 rfl ?_
  refine r_callStr_P (st := []) (vs := []) (pc := 1)  ct_J5_isLatin1 cf_J5_492 rfl rfl (Nat.le_of_ble_eq_true rfl) (by decide +kernel) dJ5_indexOf_2_1 (fun v1 => ?_)
  refine r_widen (u' := (0, 0)) (by decide +kernel) ?_
  refine r_if_eq (pc := 4) (tgt := 23) dJ5_indexOf_2_4 (by decide) ?_ ?_
  · refine r_aload_n (pc := 23) dJ5_indexOf_2_23 rfl ?_
    refine r_gSv (pc := 24) q1406 dJ5_indexOf_2_24 (fun v24 => ?_)
    refine r_iload_n (pc := 27) dJ5_indexOf_2_27 rfl ?_
    refine r_iload_n (pc := 28) dJ5_indexOf_2_28 rfl ?_
    refine r_aload_n (pc := 29) dJ5_indexOf_2_29 rfl ?_
    refine r_callStr_P (st := [.inl x2, .inl x1, .inr v24]) (vs := []) (pc := 30)  ct_J5_length cf_J5_505 rfl rfl (Nat.le_of_ble_eq_true rfl) (by decide +kernel) dJ5_indexOf_2_30 (fun v30 => ?_)
    refine r_widen (u' := (0, 0)) (by decide +kernel) ?_
    exact r_none
  refine r_aload_n (pc := 7) dJ5_indexOf_2_7 rfl ?_
  refine r_gSv (pc := 8) q1406 dJ5_indexOf_2_8 (fun v8 => ?_)
  refine r_iload_n (pc := 11) dJ5_indexOf_2_11 rfl ?_
  refine r_iload_n (pc := 12) dJ5_indexOf_2_12 rfl ?_
  refine r_aload_n (pc := 13) dJ5_indexOf_2_13 rfl ?_
  refine r_callStr_P (st := [.inl x2, .inl x1, .inr v8]) (vs := []) (pc := 14)  ct_J5_length cf_J5_505 rfl rfl (Nat.le_of_ble_eq_true rfl) (by decide +kernel) dJ5_indexOf_2_14 (fun v14 => ?_)
  refine r_widen (u' := (0, 0)) (by decide +kernel) ?_
  refine r_callS_P (st := []) (vs := [.inr v8, .inl x1, .inl x2, .inl v14]) (pc := 17)  ct_J14_indexOf cf_J5_637 rfl rfl (Nat.le_of_ble_eq_true rfl) (by decide +kernel) dJ5_indexOf_2_17 (fun v17 => ?_)
  refine r_widen (u' := (0, 0)) (by decide +kernel) ?_
  refine r_goto (tgt := 36) (pc := 20) dJ5_indexOf_2_20 (by decide) ?_
  exact r_iretP (pc := 36) dJ5_indexOf_2_36 rfl (by decide +kernel)
theorem ct_J5_indexOf_2 {l : Launch} {r0 : QR} {x1 : Int32} {x2 : Int32} {M : QM} : ∀ b, f_J5_indexOf_2 r0 x1 x2 M = some b → PM l yJ5_indexOf_2 (ws_ yJ5_indexOf_2 cJ5_indexOf_2 3 (some .int)) rmJ5_indexOf_2 [.inr r0, .inl x1, .inl x2] M ((eP M) b).1 ((eP M) b).2 := fun b hb =>
  PM.of (own := RJ5) rfl (by decide +kernel) (Nat.le_of_ble_eq_true rfl) false (fun h => nomatch h) (s_J5_indexOf_2 b hb)
/-! J5_indexOf: java/lang/String.indexOf(I)I, kind P -/
abbrev rmJ5_indexOf : Room := ({ frames := 3, cells := 0, slots := 0, locals := 70 })
abbrev kJ5_indexOf : QK := (RJ5, cJ5_indexOf, 2, (some .int), [], false, rmJ5_indexOf)
noncomputable def f_J5_indexOf (r0 : QR) (x1 : Int32) (M : QM) : Option (Int32) :=
  (qrs r0 (f_J5_indexOf_2 r0 x1 (0 : Int32) M)).bind fun v3 => 
    some v3
theorem s_J5_indexOf {l : Launch} {r0 : QR} {x1 : Int32} {M : QM} : SB (eP M) l kJ5_indexOf M (f_J5_indexOf r0 x1 M) (0, 0) 0 M [some (.inr r0), some (.inl x1)] [] := by
  unfold f_J5_indexOf
  refine r_aload_n (pc := 0) dJ5_indexOf_0 rfl ?_
  refine r_iload_n (pc := 1) dJ5_indexOf_1 rfl ?_
  refine r_iconst (v := (0 : Int32)) (pc := 2) dJ5_indexOf_2 (by decide) ?_
  refine r_callStr_P (st := []) (vs := [.inl x1, .inl (0 : Int32)]) (pc := 3)  ct_J5_indexOf_2 cf_J5_633 rfl rfl (Nat.le_of_ble_eq_true rfl) (by decide +kernel) dJ5_indexOf_3 (fun v3 => ?_)
  refine r_widen (u' := (0, 0)) (by decide +kernel) ?_
  exact r_iretP (pc := 6) dJ5_indexOf_6 rfl (by decide +kernel)
theorem ct_J5_indexOf {l : Launch} {r0 : QR} {x1 : Int32} {M : QM} : ∀ b, f_J5_indexOf r0 x1 M = some b → PM l yJ5_indexOf (ws_ yJ5_indexOf cJ5_indexOf 2 (some .int)) rmJ5_indexOf [.inr r0, .inl x1] M ((eP M) b).1 ((eP M) b).2 := fun b hb =>
  PM.of (own := RJ5) rfl (by decide +kernel) (Nat.le_of_ble_eq_true rfl) false (fun h => nomatch h) (s_J5_indexOf b hb)
/-! X10_init: BarnPictures$TextFault.<init>(I)V, kind V -/
abbrev rmX10_init : Room := ({ frames := 6, cells := 0, slots := 0, locals := 88 })
abbrev kX10_init : QK := (RX10, cX10_init, 2, none, [], true, rmX10_init)
noncomputable def f_X10_init (r0 : QR) (x1 : Int32) (M : QM) : Option (QM) :=
  (qexc M r0 12).bind fun m1 => 
    (pF m1 r0 [(16, 0)] (.inl x1)).bind fun m6 => 
    some m6
theorem s_X10_init {l : Launch} {M0 : QM} {r0 : QR} {x1 : Int32} {M : QM} : SB eV l kX10_init M0 (f_X10_init r0 x1 M) (0, 0) 0 M [some (.inr r0), some (.inl x1)] [] := by
  unfold f_X10_init
  refine r_aload_n (pc := 0) dX10_init_0 rfl ?_
  refine r_exc (ci := 12) (pc := 1) rfl exf_12 (by decide +kernel) dX10_init_1 (fun m1 => ?_)
  refine r_aload_n (pc := 4) dX10_init_4 rfl ?_
  refine r_iload_n (pc := 5) dX10_init_5 rfl ?_
  refine r_put (pc := 6)  pf_X10_7 (fun _ => rfl) (fit_int _) dX10_init_6 (fun m6 => ?_)
  exact r_vretV (pc := 9) dX10_init_9 rfl (by decide +kernel)
theorem ct_X10_init {l : Launch} {r0 : QR} {x1 : Int32} {M : QM} : ∀ b, f_X10_init r0 x1 M = some b → PM l yX10_init (ws_ yX10_init cX10_init 2 none) rmX10_init [.inr r0, .inl x1] M (eV b).1 (eV b).2 := fun b hb =>
  PM.of (own := RX10) rfl (by decide +kernel) (Nat.le_of_ble_eq_true rfl) true (fun h => rfl) (s_X10_init b hb)
/-! X9_isNext: BarnPictures$Reader.isNext(CC)Z, kind P -/
abbrev rmX9_isNext : Room := ({ frames := 4, cells := 0, slots := 0, locals := 88 })
abbrev kX9_isNext : QK := (RX9, cX9_isNext, 3, (some .boolean), [], false, rmX9_isNext)
noncomputable def f_X9_isNext (r0 : QR) (x1 : Int32) (x2 : Int32) (M : QM) : Option (Int32) :=
  (gI M r0 [(5, 2)]).bind fun v1 => 
    (gR M r0 [(5, 0)]).bind fun v5 => 
    (qrc M v5 [8] (f_J4_length v5 M)).bind fun v8 => 
    if v8 ≤ v1 then (some (0 : Int32))
    else (gR M r0 [(5, 0)]).bind fun v17 => 
    (gI M r0 [(5, 2)]).bind fun v21 => 
    (qrc M v17 [8] (f_J4_charAt v17 v21 M)).bind fun v24 => 
    (f_X0_inRange v24 x1 x2 M).bind fun v31 => 
    if v31 = 0 then (some (0 : Int32))
    else some (1 : Int32)
theorem s_X9_isNext {l : Launch} {r0 : QR} {x1 : Int32} {x2 : Int32} {M : QM} : SB (eP M) l kX9_isNext M (f_X9_isNext r0 x1 x2 M) (0, 0) 0 M [some (.inr r0), some (.inl x1), some (.inl x2)] [] := by
  unfold f_X9_isNext
  refine r_aload_n (pc := 0) dX9_isNext_0 rfl ?_
  refine r_getI (pc := 1)  gf_X9_22 dX9_isNext_1 (fun v1 => ?_)
  refine r_aload_n (pc := 4) dX9_isNext_4 rfl ?_
  refine r_getR (pc := 5)  gf_X9_18 dX9_isNext_5 (fun v5 => ?_)
  refine r_callF_P (st := [.inl v1]) (vs := []) (pc := 8)  ct_J4_length hc_8 cf_X9_26 rfl rfl (Nat.le_of_ble_eq_true rfl) (by decide +kernel) dX9_isNext_8 (fun v8 => ?_)
  refine r_widen (u' := (0, 0)) (by decide +kernel) ?_
  refine r_icmp_ge (pc := 13) (tgt := 41) dX9_isNext_13 (by decide) ?_ ?_
  · refine r_iconst (v := (0 : Int32)) (pc := 41) dX9_isNext_41 (by decide) ?_
    exact r_zretP (pc := 42) dX9_isNext_42 rfl rfl (by decide +kernel)
  refine r_aload_n (pc := 16) dX9_isNext_16 rfl ?_
  refine r_getR (pc := 17)  gf_X9_18 dX9_isNext_17 (fun v17 => ?_)
  refine r_aload_n (pc := 20) dX9_isNext_20 rfl ?_
  refine r_getI (pc := 21)  gf_X9_22 dX9_isNext_21 (fun v21 => ?_)
  refine r_callF_P (st := []) (vs := [.inl v21]) (pc := 24)  ct_J4_charAt hc_8 cf_X9_32 rfl rfl (Nat.le_of_ble_eq_true rfl) (by decide +kernel) dX9_isNext_24 (fun v24 => ?_)
  refine r_widen (u' := (0, 0)) (by decide +kernel) ?_
  refine r_iload_n (pc := 29) dX9_isNext_29 rfl ?_
  refine r_iload_n (pc := 30) dX9_isNext_30 rfl ?_
  refine r_callSN_P (st := []) (vs := [.inl v24, .inl x1, .inl x2]) (pc := 31)  ct_X0_inRange cf_X9_36 rfl rfl (Nat.le_of_ble_eq_true rfl) (by decide +kernel) dX9_isNext_31 (fun v31 => ?_)
  refine r_widen (u' := (0, 0)) (by decide +kernel) ?_
  refine r_if_eq (pc := 34) (tgt := 41) dX9_isNext_34 (by decide) ?_ ?_
  · refine r_iconst (v := (0 : Int32)) (pc := 41) dX9_isNext_41 (by decide) ?_
    exact r_zretP (pc := 42) dX9_isNext_42 rfl rfl (by decide +kernel)
  refine r_iconst (v := (1 : Int32)) (pc := 37) dX9_isNext_37 (by decide) ?_
  refine r_goto (tgt := 42) (pc := 38) dX9_isNext_38 (by decide) ?_
  exact r_zretP (pc := 42) dX9_isNext_42 rfl rfl (by decide +kernel)
theorem ct_X9_isNext {l : Launch} {r0 : QR} {x1 : Int32} {x2 : Int32} {M : QM} : ∀ b, f_X9_isNext r0 x1 x2 M = some b → PM l yX9_isNext (ws_ yX9_isNext cX9_isNext 3 (some .boolean)) rmX9_isNext [.inr r0, .inl x1, .inl x2] M ((eP M) b).1 ((eP M) b).2 := fun b hb =>
  PM.of (own := RX9) rfl (by decide +kernel) (Nat.le_of_ble_eq_true rfl) false (fun h => nomatch h) (s_X9_isNext b hb)
/-! X9_digit: BarnPictures$Reader.digit(I)I, kind XI -/
abbrev rmX9_digit : Room := ({ frames := 7, cells := 1, slots := 7, locals := 110 })
abbrev kX9_digit : QK := (RX9, cX9_digit, 2, (some .int), [], false, rmX9_digit)
noncomputable def f_X9_digit (r0 : QR) (x1 : Int32) (M : QM) : Option ((Int32 ⊕ QN) × QM) :=
  (qrc M r0 [5] (f_X9_isNext r0 (48 : Int32) ((((48 : Int32) + x1).toUInt32 % 65536).toInt32) M)).bind fun v8 => 
    if v8 = 0 then ((nO M (M.1, 0) (.inr (.inr (.inr (some (12, fs_12)))))).bind fun m14 => 
      (gI m14 r0 [(5, 2)]).bind fun v19 => 
      (qnn (some (M.1, 0)) (f_X10_init (some (M.1, 0)) v19 m14)).bind fun m22 => 
      qthr m22 (some (M.1, 0)) fun q25 => some (.inr q25, m22))
    else (gR M r0 [(5, 0)]).bind fun v27 => 
    (gI M r0 [(5, 2)]).bind fun v32 => 
    (pF M r0 [(5, 2)] (.inl (v32 + (1 : Int32)))).bind fun m38 => 
    (qrc m38 v27 [8] (f_J4_charAt v27 v32 m38)).bind fun v41 => 
    some (.inl (v41 - (48 : Int32)), m38)
theorem s_X9_digit {l : Launch} {M0 : QM} {r0 : QR} {x1 : Int32} {M : QM} : SB eXI l kX9_digit M0 (f_X9_digit r0 x1 M) (0, 0) 0 M [some (.inr r0), some (.inl x1)] [] := by
  unfold f_X9_digit
  refine r_aload_n (pc := 0) dX9_digit_0 rfl ?_
  refine r_bipush (v := (48 : Int32)) (pc := 1) dX9_digit_1 (by decide) ?_
  refine r_bipush (v := (48 : Int32)) (pc := 3) dX9_digit_3 (by decide) ?_
  refine r_iload_n (pc := 5) dX9_digit_5 rfl ?_
  refine r_iadd (pc := 6) dX9_digit_6 ?_
  refine r_i2c (pc := 7) dX9_digit_7 ?_
  refine r_callV_P (st := []) (vs := [.inl (48 : Int32), .inl ((((48 : Int32) + x1).toUInt32 % 65536).toInt32)]) (pc := 8)  ct_X9_isNext hc_5 cf_X9_40 rfl rfl (Nat.le_of_ble_eq_true rfl) (by decide +kernel) dX9_digit_8 (fun v8 => ?_)
  refine r_widen (u' := (0, 0)) (by decide +kernel) ?_
  refine r_if_ne (pc := 11) (tgt := 26) dX9_digit_11 (by decide) ?_ ?_
  · refine r_aload_n (pc := 26) dX9_digit_26 rfl ?_
    refine r_getR (pc := 27)  gf_X9_18 dX9_digit_27 (fun v27 => ?_)
    refine r_aload_n (pc := 30) dX9_digit_30 rfl ?_
    refine r_dup (pc := 31) dX9_digit_31 ?_
    refine r_getI (pc := 32)  gf_X9_22 dX9_digit_32 (fun v32 => ?_)
    refine r_dup_x1 (pc := 35) dX9_digit_35 ?_
    refine r_iconst (v := (1 : Int32)) (pc := 36) dX9_digit_36 (by decide) ?_
    refine r_iadd (pc := 37) dX9_digit_37 ?_
    refine r_put (pc := 38)  pf_X9_22 (fun h => nomatch h) (fit_int _) dX9_digit_38 (fun m38 => ?_)
    refine r_callF_P (st := []) (vs := [.inl v32]) (pc := 41)  ct_J4_charAt hc_8 cf_X9_32 rfl rfl (Nat.le_of_ble_eq_true rfl) (by decide +kernel) dX9_digit_41 (fun v41 => ?_)
    refine r_widen (u' := (0, 0)) (by decide +kernel) ?_
    refine r_bipush (v := (48 : Int32)) (pc := 46) dX9_digit_46 (by decide) ?_
    refine r_isub (pc := 48) dX9_digit_48 ?_
    exact r_iretX (pc := 49) dX9_digit_49 rfl (by decide +kernel)
  refine r_newF (pc := 14)  nf_X9_44 (by decide +kernel) dX9_digit_14 (fun m14 => ?_)
  refine r_widen (u' := (1, 7)) (by decide +kernel) ?_
  refine r_dup (pc := 17) dX9_digit_17 ?_
  refine r_aload_n (pc := 18) dX9_digit_18 rfl ?_
  refine r_getI (pc := 19)  gf_X9_22 dX9_digit_19 (fun v19 => ?_)
  refine r_callI_V (st := [.inr (some (M.1, 0))]) (vs := [.inl v19]) (pc := 22)  ct_X10_init cf_X9_46 rfl rfl (Nat.le_of_ble_eq_true rfl) (by decide +kernel) dX9_digit_22 (fun m22 => ?_)
  refine r_widen (u' := (1, 7)) (by decide +kernel) ?_
  refine r_athrow (pc := 25) dX9_digit_25 (fun q25 => ?_)
  exact x_outI (by decide) (by decide +kernel)
theorem ct_X9_digit {l : Launch} {r0 : QR} {x1 : Int32} {M : QM} : ∀ b, f_X9_digit r0 x1 M = some b → PM l yX9_digit (ws_ yX9_digit cX9_digit 2 (some .int)) rmX9_digit [.inr r0, .inl x1] M (eXI b).1 (eXI b).2 := fun b hb =>
  PM.of (own := RX9) rfl (by decide +kernel) (Nat.le_of_ble_eq_true rfl) false (fun h => nomatch h) (s_X9_digit b hb)
/-! X11_init: BarnPictures$Command.<init>(CII)V, kind V -/
abbrev rmX11_init : Room := ({ frames := 1, cells := 0, slots := 0, locals := 12 })
abbrev kX11_init : QK := (RX11, cX11_init, 4, none, [], true, rmX11_init)
noncomputable def f_X11_init (r0 : QR) (x1 : Int32) (x2 : Int32) (x3 : Int32) (M : QM) : Option (QM) :=
  qnn r0 (
    qnf .char x1 <| (pF M r0 [(6, 0)] (.inl x1)).bind fun m6 => 
    (pF m6 r0 [(6, 1)] (.inl x2)).bind fun m11 => 
    (pF m11 r0 [(6, 2)] (.inl x3)).bind fun m16 => 
    some m16)
theorem s_X11_init {l : Launch} {M0 : QM} {r0 : QR} {x1 : Int32} {x2 : Int32} {x3 : Int32} {M : QM} : SB eV l kX11_init M0 (f_X11_init r0 x1 x2 x3 M) (0, 0) 0 M [some (.inr r0), some (.inl x1), some (.inl x2), some (.inl x3)] [] := by
  unfold f_X11_init
  refine r_aload_n (pc := 0) dX11_init_0 rfl ?_
  refine r_objInit (pc := 1)  q926 q82 q83 ⟨Nat.le_of_ble_eq_true rfl, Nat.le_of_ble_eq_true rfl⟩ dX11_init_1 ?_
  refine r_aload_n (pc := 4) dX11_init_4 rfl ?_
  refine r_iload_n (pc := 5) dX11_init_5 rfl ?_
  refine r_putN (pc := 6)  pf_X11_7 (fun _ => rfl) (by decide) dX11_init_6 (fun m6 => ?_)
  refine r_aload_n (pc := 9) dX11_init_9 rfl ?_
  refine r_iload_n (pc := 10) dX11_init_10 rfl ?_
  refine r_put (pc := 11)  pf_X11_13 (fun _ => rfl) (fit_int _) dX11_init_11 (fun m11 => ?_)
  refine r_aload_n (pc := 14) dX11_init_14 rfl ?_
  refine r_iload_n (pc := 15) dX11_init_15 rfl ?_
  refine r_put (pc := 16)  pf_X11_17 (fun _ => rfl) (fit_int _) dX11_init_16 (fun m16 => ?_)
  exact r_vretV (pc := 19) dX11_init_19 rfl (by decide +kernel)
theorem ct_X11_init {l : Launch} {r0 : QR} {x1 : Int32} {x2 : Int32} {x3 : Int32} {M : QM} : ∀ b, f_X11_init r0 x1 x2 x3 M = some b → PM l yX11_init (ws_ yX11_init cX11_init 4 none) rmX11_init [.inr r0, .inl x1, .inl x2, .inl x3] M (eV b).1 (eV b).2 := fun b hb =>
  PM.of (own := RX11) rfl (by decide +kernel) (Nat.le_of_ble_eq_true rfl) true (fun h => rfl) (s_X11_init b hb)
/-! X9_take: BarnPictures$Reader.take(C)V, kind XV -/
abbrev rmX9_take : Room := ({ frames := 7, cells := 1, slots := 7, locals := 110 })
abbrev kX9_take : QK := (RX9, cX9_take, 2, none, [], false, rmX9_take)
noncomputable def f_X9_take (r0 : QR) (x1 : Int32) (M : QM) : Option ((Unit ⊕ QN) × QM) :=
  (qrc M r0 [5] (f_X9_isNext r0 x1 x1 M)).bind fun v3 => 
    if v3 = 0 then ((nO M (M.1, 0) (.inr (.inr (.inr (some (12, fs_12)))))).bind fun m9 => 
      (gI m9 r0 [(5, 2)]).bind fun v14 => 
      (qnn (some (M.1, 0)) (f_X10_init (some (M.1, 0)) v14 m9)).bind fun m17 => 
      qthr m17 (some (M.1, 0)) fun q20 => some (.inr q20, m17))
    else (gI M r0 [(5, 2)]).bind fun v23 => 
    (pF M r0 [(5, 2)] (.inl (v23 + (1 : Int32)))).bind fun m28 => 
    some (.inl (), m28)
theorem s_X9_take {l : Launch} {M0 : QM} {r0 : QR} {x1 : Int32} {M : QM} : SB eXV l kX9_take M0 (f_X9_take r0 x1 M) (0, 0) 0 M [some (.inr r0), some (.inl x1)] [] := by
  unfold f_X9_take
  refine r_aload_n (pc := 0) dX9_take_0 rfl ?_
  refine r_iload_n (pc := 1) dX9_take_1 rfl ?_
  refine r_iload_n (pc := 2) dX9_take_2 rfl ?_
  refine r_callV_P (st := []) (vs := [.inl x1, .inl x1]) (pc := 3)  ct_X9_isNext hc_5 cf_X9_40 rfl rfl (Nat.le_of_ble_eq_true rfl) (by decide +kernel) dX9_take_3 (fun v3 => ?_)
  refine r_widen (u' := (0, 0)) (by decide +kernel) ?_
  refine r_if_ne (pc := 6) (tgt := 21) dX9_take_6 (by decide) ?_ ?_
  · refine r_aload_n (pc := 21) dX9_take_21 rfl ?_
    refine r_dup (pc := 22) dX9_take_22 ?_
    refine r_getI (pc := 23)  gf_X9_22 dX9_take_23 (fun v23 => ?_)
    refine r_iconst (v := (1 : Int32)) (pc := 26) dX9_take_26 (by decide) ?_
    refine r_iadd (pc := 27) dX9_take_27 ?_
    refine r_put (pc := 28)  pf_X9_22 (fun h => nomatch h) (fit_int _) dX9_take_28 (fun m28 => ?_)
    exact r_vretX (pc := 31) dX9_take_31 rfl (by decide +kernel)
  refine r_newF (pc := 9)  nf_X9_44 (by decide +kernel) dX9_take_9 (fun m9 => ?_)
  refine r_widen (u' := (1, 7)) (by decide +kernel) ?_
  refine r_dup (pc := 12) dX9_take_12 ?_
  refine r_aload_n (pc := 13) dX9_take_13 rfl ?_
  refine r_getI (pc := 14)  gf_X9_22 dX9_take_14 (fun v14 => ?_)
  refine r_callI_V (st := [.inr (some (M.1, 0))]) (vs := [.inl v14]) (pc := 17)  ct_X10_init cf_X9_46 rfl rfl (Nat.le_of_ble_eq_true rfl) (by decide +kernel) dX9_take_17 (fun m17 => ?_)
  refine r_widen (u' := (1, 7)) (by decide +kernel) ?_
  refine r_athrow (pc := 20) dX9_take_20 (fun q20 => ?_)
  exact x_outV (by decide) (by decide +kernel)
theorem ct_X9_take {l : Launch} {r0 : QR} {x1 : Int32} {M : QM} : ∀ b, f_X9_take r0 x1 M = some b → PM l yX9_take (ws_ yX9_take cX9_take 2 none) rmX9_take [.inr r0, .inl x1] M (eXV b).1 (eXV b).2 := fun b hb =>
  PM.of (own := RX9) rfl (by decide +kernel) (Nat.le_of_ble_eq_true rfl) false (fun h => nomatch h) (s_X9_take b hb)
