/-! methods as functions over the memory (printed by gen/run.py) -/
set_option maxRecDepth 100000
/-! X5_drive: BarnPicturesModel.drive(I)I, kind I -/
abbrev rmX5_drive : Room := ({ frames := 2, cells := 0, slots := 0, locals := 42 })
abbrev kX5_drive : QK := (RX5, cX5_drive, 2, (some .int), [], false, rmX5_drive)
noncomputable def f_X5_drive (r0 : QR) (x1 : Int32) (M : QM) : Option (Int32 × QM) :=
  (f_X5_isBarn x1 M).bind fun v1 => 
    if v1 = 0 then (some ((-10000001 : Int32), M))
    else (gR M r0 [(4, 0)]).bind fun v11 => 
    (aI M v11 (54 : Int32)).bind fun v16 => 
    if v16 = x1 then (some ((-10000005 : Int32), M))
    else (qrc M r0 [4] (f_X5_know r0 M)).bind fun m25 => 
    qbI (qrc m25 r0 [4] (f_X5_drives r0 x1 m25)) fun v30 m30 => 
    some (v30, m30)
theorem s_X5_drive {l : Launch} {M0 : QM} {r0 : QR} {x1 : Int32} {M : QM} : SB eI l kX5_drive M0 (f_X5_drive r0 x1 M) (0, 0) 0 M [some (.inr r0), some (.inl x1)] [] := by
  unfold f_X5_drive
  refine r_iload_n (pc := 0) dX5_drive_0 rfl ?_
  refine r_callS_P (st := []) (vs := [.inl x1]) (pc := 1)  ct_X5_isBarn cf_X5_80 rfl rfl (Nat.le_of_ble_eq_true rfl) (by decide +kernel) dX5_drive_1 (fun v1 => ?_)
  refine r_widen (u' := (0, 0)) (by decide +kernel) ?_
  refine r_if_ne (pc := 4) (tgt := 10) dX5_drive_4 (by decide) ?_ ?_
  · refine r_aload_n (pc := 10) dX5_drive_10 rfl ?_
    refine r_getR (pc := 11)  gf_X5_7 dX5_drive_11 (fun v11 => ?_)
    refine r_bipush (v := (54 : Int32)) (pc := 14) dX5_drive_14 (by decide) ?_
    refine r_iald (pc := 16) dX5_drive_16 (fun v16 => ?_)
    refine r_iload_n (pc := 17) dX5_drive_17 rfl ?_
    refine r_icmp_ne (pc := 18) (tgt := 24) dX5_drive_18 (by decide) ?_ ?_
    · refine r_aload_n (pc := 24) dX5_drive_24 rfl ?_
      refine r_callV_V (st := []) (vs := []) (pc := 25)  ct_X5_know hc_4 cf_X5_83 rfl rfl (Nat.le_of_ble_eq_true rfl) (by decide +kernel) dX5_drive_25 (fun m25 => ?_)
      refine r_widen (u' := (0, 0)) (by decide +kernel) ?_
      refine r_aload_n (pc := 28) dX5_drive_28 rfl ?_
      refine r_iload_n (pc := 29) dX5_drive_29 rfl ?_
      refine r_callV_I (st := []) (vs := [.inl x1]) (pc := 30)  ct_X5_drives hc_4 cf_X5_86 rfl rfl (Nat.le_of_ble_eq_true rfl) (by decide +kernel) dX5_drive_30 (fun v30 m30 => ?_)
      refine r_widen (u' := (0, 0)) (by decide +kernel) ?_
      exact r_iretI (pc := 33) dX5_drive_33 rfl (by decide +kernel)
    refine r_ldc (pc := 21) dX5_drive_21 q1092 ?_
    exact r_iretI (pc := 23) dX5_drive_23 rfl (by decide +kernel)
  refine r_ldc (pc := 7) dX5_drive_7 q1155 ?_
  exact r_iretI (pc := 9) dX5_drive_9 rfl (by decide +kernel)
theorem ct_X5_drive {l : Launch} {r0 : QR} {x1 : Int32} {M : QM} : ∀ b, f_X5_drive r0 x1 M = some b → PM l yX5_drive (ws_ yX5_drive cX5_drive 2 (some .int)) rmX5_drive [.inr r0, .inl x1] M (eI b).1 (eI b).2 := fun b hb =>
  PM.of (own := RX5) rfl (by decide +kernel) (Nat.le_of_ble_eq_true rfl) false (fun h => nomatch h) (s_X5_drive b hb)
/-! X1_isReel: BarnPictures$Tour.isReel(I)Z, kind P -/
abbrev rmX1_isReel : Room := ({ frames := 1, cells := 0, slots := 0, locals := 22 })
abbrev kX1_isReel : QK := (RX1, cX1_isReel, 2, (some .boolean), [], false, rmX1_isReel)
noncomputable def f_X1_isReel (r0 : QR) (x1 : Int32) (M : QM) : Option (Int32) :=
  (f_X0_inRange x1 (0 : Int32) (9 : Int32) M).bind fun v4 => 
    if v4 = 0 then (some (0 : Int32))
    else (gR M r0 [(1, 0)]).bind fun v11 => 
    (aR M v11 x1).bind fun v15 => 
    if v15 = none then (some (0 : Int32))
    else some (1 : Int32)
theorem s_X1_isReel {l : Launch} {r0 : QR} {x1 : Int32} {M : QM} : SB (eP M) l kX1_isReel M (f_X1_isReel r0 x1 M) (0, 0) 0 M [some (.inr r0), some (.inl x1)] [] := by
  unfold f_X1_isReel
  refine r_iload_n (pc := 0) dX1_isReel_0 rfl ?_
  refine r_iconst (v := (0 : Int32)) (pc := 1) dX1_isReel_1 (by decide) ?_
  refine r_bipush (v := (9 : Int32)) (pc := 2) dX1_isReel_2 (by decide) ?_
  refine r_callSN_P (st := []) (vs := [.inl x1, .inl (0 : Int32), .inl (9 : Int32)]) (pc := 4)  ct_X0_inRange cf_X1_79 rfl rfl (Nat.le_of_ble_eq_true rfl) (by decide +kernel) dX1_isReel_4 (fun v4 => ?_)
  refine r_widen (u' := (0, 0)) (by decide +kernel) ?_
  refine r_if_eq (pc := 7) (tgt := 23) dX1_isReel_7 (by decide) ?_ ?_
  · refine r_iconst (v := (0 : Int32)) (pc := 23) dX1_isReel_23 (by decide) ?_
    exact r_zretP (pc := 24) dX1_isReel_24 rfl rfl (by decide +kernel)
  refine r_aload_n (pc := 10) dX1_isReel_10 rfl ?_
  refine r_getR (pc := 11)  gf_X1_11 dX1_isReel_11 (fun v11 => ?_)
  refine r_iload_n (pc := 14) dX1_isReel_14 rfl ?_
  refine r_aald (pc := 15) dX1_isReel_15 (fun v15 => ?_)
  refine r_ifnull (pc := 16) (tgt := 23) dX1_isReel_16 (by decide) ?_ ?_
  · refine r_iconst (v := (0 : Int32)) (pc := 23) dX1_isReel_23 (by decide) ?_
    exact r_zretP (pc := 24) dX1_isReel_24 rfl rfl (by decide +kernel)
  refine r_iconst (v := (1 : Int32)) (pc := 19) dX1_isReel_19 (by decide) ?_
  refine r_goto (tgt := 24) (pc := 20) dX1_isReel_20 (by decide) ?_
  exact r_zretP (pc := 24) dX1_isReel_24 rfl rfl (by decide +kernel)
theorem ct_X1_isReel {l : Launch} {r0 : QR} {x1 : Int32} {M : QM} : ∀ b, f_X1_isReel r0 x1 M = some b → PM l yX1_isReel (ws_ yX1_isReel cX1_isReel 2 (some .boolean)) rmX1_isReel [.inr r0, .inl x1] M ((eP M) b).1 ((eP M) b).2 := fun b hb =>
  PM.of (own := RX1) rfl (by decide +kernel) (Nat.le_of_ble_eq_true rfl) false (fun h => nomatch h) (s_X1_isReel b hb)
/-! X1_isIn: BarnPictures$Tour.isIn(II)Z, kind P -/
abbrev rmX1_isIn : Room := ({ frames := 0, cells := 0, slots := 0, locals := 0 })
abbrev kX1_isIn : QK := (RX1, cX1_isIn, 3, (some .boolean), [], false, rmX1_isIn)
noncomputable def f_X1_isIn (r0 : QR) (x1 : Int32) (x2 : Int32) (M : QM) : Option (Int32) :=
  (gR M r0 [(1, 0)]).bind fun v1 => 
    (aR M v1 x1).bind fun v5 => 
    if v5 = none then (some (0 : Int32))
    else (gR M r0 [(1, 0)]).bind fun v10 => 
    (aR M v10 x1).bind fun v14 => 
    (gI M v14 [(2, 0), (3, 0)]).bind fun v15 => 
    if v15 = x2 then (some (1 : Int32))
    else some (0 : Int32)
theorem s_X1_isIn {l : Launch} {r0 : QR} {x1 : Int32} {x2 : Int32} {M : QM} : SB (eP M) l kX1_isIn M (f_X1_isIn r0 x1 x2 M) (0, 0) 0 M [some (.inr r0), some (.inl x1), some (.inl x2)] [] := by
  unfold f_X1_isIn
  refine r_aload_n (pc := 0) dX1_isIn_0 rfl ?_
  refine r_getR (pc := 1)  gf_X1_11 dX1_isIn_1 (fun v1 => ?_)
  refine r_iload_n (pc := 4) dX1_isIn_4 rfl ?_
  refine r_aald (pc := 5) dX1_isIn_5 (fun v5 => ?_)
  refine r_ifnull (pc := 6) (tgt := 26) dX1_isIn_6 (by decide) ?_ ?_
  · refine r_iconst (v := (0 : Int32)) (pc := 26) dX1_isIn_26 (by decide) ?_
    exact r_zretP (pc := 27) dX1_isIn_27 rfl rfl (by decide +kernel)
  refine r_aload_n (pc := 9) dX1_isIn_9 rfl ?_
  refine r_getR (pc := 10)  gf_X1_11 dX1_isIn_10 (fun v10 => ?_)
  refine r_iload_n (pc := 13) dX1_isIn_13 rfl ?_
  refine r_aald (pc := 14) dX1_isIn_14 (fun v14 => ?_)
  refine r_getI (pc := 15)  gf_X1_83 dX1_isIn_15 (fun v15 => ?_)
  refine r_iload_n (pc := 18) dX1_isIn_18 rfl ?_
  refine r_icmp_ne (pc := 19) (tgt := 26) dX1_isIn_19 (by decide) ?_ ?_
  · refine r_iconst (v := (0 : Int32)) (pc := 26) dX1_isIn_26 (by decide) ?_
    exact r_zretP (pc := 27) dX1_isIn_27 rfl rfl (by decide +kernel)
  refine r_iconst (v := (1 : Int32)) (pc := 22) dX1_isIn_22 (by decide) ?_
  refine r_goto (tgt := 27) (pc := 23) dX1_isIn_23 (by decide) ?_
  exact r_zretP (pc := 27) dX1_isIn_27 rfl rfl (by decide +kernel)
theorem ct_X1_isIn {l : Launch} {r0 : QR} {x1 : Int32} {x2 : Int32} {M : QM} : ∀ b, f_X1_isIn r0 x1 x2 M = some b → PM l yX1_isIn (ws_ yX1_isIn cX1_isIn 3 (some .boolean)) rmX1_isIn [.inr r0, .inl x1, .inl x2] M ((eP M) b).1 ((eP M) b).2 := fun b hb =>
  PM.of (own := RX1) rfl (by decide +kernel) (Nat.le_of_ble_eq_true rfl) false (fun h => nomatch h) (s_X1_isIn b hb)
/-! X2_isInVan: BarnPictures$Thing.isInVan()Z, kind P -/
abbrev rmX2_isInVan : Room := ({ frames := 0, cells := 0, slots := 0, locals := 0 })
abbrev kX2_isInVan : QK := (RX2, cX2_isInVan, 1, (some .boolean), [], false, rmX2_isInVan)
noncomputable def f_X2_isInVan (r0 : QR) (M : QM) : Option (Int32) :=
  (gI M r0 [(2, 0), (3, 0)]).bind fun v1 => 
    if v1 = (-10000005 : Int32) then (some (1 : Int32))
    else some (0 : Int32)
theorem s_X2_isInVan {l : Launch} {r0 : QR} {M : QM} : SB (eP M) l kX2_isInVan M (f_X2_isInVan r0 M) (0, 0) 0 M [some (.inr r0)] [] := by
  unfold f_X2_isInVan
  refine r_aload_n (pc := 0) dX2_isInVan_0 rfl ?_
  refine r_getI (pc := 1)  gf_X2_10 dX2_isInVan_1 (fun v1 => ?_)
  refine r_ldc (pc := 4) dX2_isInVan_4 q102 ?_
  refine r_icmp_ne (pc := 6) (tgt := 13) dX2_isInVan_6 (by decide) ?_ ?_
  · refine r_iconst (v := (0 : Int32)) (pc := 13) dX2_isInVan_13 (by decide) ?_
    exact r_zretP (pc := 14) dX2_isInVan_14 rfl rfl (by decide +kernel)
  refine r_iconst (v := (1 : Int32)) (pc := 9) dX2_isInVan_9 (by decide) ?_
  refine r_goto (tgt := 14) (pc := 10) dX2_isInVan_10 (by decide) ?_
  exact r_zretP (pc := 14) dX2_isInVan_14 rfl rfl (by decide +kernel)
theorem ct_X2_isInVan {l : Launch} {r0 : QR} {M : QM} : ∀ b, f_X2_isInVan r0 M = some b → PM l yX2_isInVan (ws_ yX2_isInVan cX2_isInVan 1 (some .boolean)) rmX2_isInVan [.inr r0] M ((eP M) b).1 ((eP M) b).2 := fun b hb =>
  PM.of (own := RX2) rfl (by decide +kernel) (Nat.le_of_ble_eq_true rfl) false (fun h => nomatch h) (s_X2_isInVan b hb)
/-! X1_things: BarnPictures$Tour.things()I, kind P -/
abbrev rmX1_things : Room := ({ frames := 1, cells := 0, slots := 0, locals := 22 })
abbrev kX1_things : QK := (RX1, cX1_things, 3, (some .int), [], false, rmX1_things)
noncomputable def f_X1_things_26 (M : QM) (kL4 : QR → Int32 → Int32 → Option (Int32)) (r0 : QR) (x2 : Int32) (s0 : Int32) (s1 : Int32) : Option (Int32) :=
  kL4 r0 (s0 + s1) (x2 + (1 : Int32))
theorem s_X1_things_26 {l : Launch} (M : QM) (kL4 : QR → Int32 → Int32 → Option (Int32)) (hkL4 : ∀ (r0 : QR) (x1 : Int32) (x2 : Int32) , SB (eP M) l kX1_things M (kL4 r0 x1 x2) (0, 0) 4 M [some (.inr r0), some (.inl x1), some (.inl x2)] []) : ∀ (r0 : QR) (x2 : Int32) (s0 : Int32) (s1 : Int32) (d1 : Option QV) , SB (eP M) l kX1_things M (f_X1_things_26 M kL4 r0 x2 s0 s1) (0, 0) 26 M [some (.inr r0), d1, some (.inl x2)] [.inl s1, .inl s0] := by
  intro r0 x2 s0 s1 d1
  unfold f_X1_things_26
  refine r_iadd (pc := 26) dX1_things_26 ?_
  refine r_istore_n (pc := 27) dX1_things_27 (by decide) rfl ?_
  refine r_iinc (v := (x2 + (1 : Int32))) (pc := 28) dX1_things_28 rfl rfl (by decide) rfl ?_
  refine r_goto (tgt := 4) (pc := 31) dX1_things_31 (by decide) ?_
  exact hkL4 _ _ _
noncomputable def f_X1_things_59 (M : QM) (kL36 : QR → Int32 → Int32 → Option (Int32)) (r0 : QR) (x2 : Int32) (s0 : Int32) (s1 : Int32) : Option (Int32) :=
  kL36 r0 (s0 + s1) (x2 + (1 : Int32))
theorem s_X1_things_59 {l : Launch} (M : QM) (kL36 : QR → Int32 → Int32 → Option (Int32)) (hkL36 : ∀ (r0 : QR) (x1 : Int32) (x2 : Int32) , SB (eP M) l kX1_things M (kL36 r0 x1 x2) (0, 0) 36 M [some (.inr r0), some (.inl x1), some (.inl x2)] []) : ∀ (r0 : QR) (x2 : Int32) (s0 : Int32) (s1 : Int32) (d1 : Option QV) , SB (eP M) l kX1_things M (f_X1_things_59 M kL36 r0 x2 s0 s1) (0, 0) 59 M [some (.inr r0), d1, some (.inl x2)] [.inl s1, .inl s0] := by
  intro r0 x2 s0 s1 d1
  unfold f_X1_things_59
  refine r_iadd (pc := 59) dX1_things_59 ?_
  refine r_istore_n (pc := 60) dX1_things_60 (by decide) rfl ?_
  refine r_iinc (v := (x2 + (1 : Int32))) (pc := 61) dX1_things_61 rfl rfl (by decide) rfl ?_
  refine r_goto (tgt := 36) (pc := 64) dX1_things_64 (by decide) ?_
  exact hkL36 _ _ _
noncomputable def f_X1_things_36 (M : QM) : Nat → QR → Int32 → Int32 → Option (Int32)
  | 0, _, _, _ => none
  | n + 1, r0, x1, x2 =>
    if (2 : Int32) ≤ x2 then (some x1)
    else (gR M r0 [(1, 1)]).bind fun v43 => 
    (aR M v43 x2).bind fun v47 => 
    (qrc M v47 [3] (f_X2_isInVan v47 M)).bind fun v48 => 
    f_X1_things_59 M (f_X1_things_36 M n) r0 x2 x1 (if v48 = 0 then (0 : Int32) else (1 : Int32))
theorem s_X1_things_36 {l : Launch} (M : QM) : ∀ (n : Nat) (r0 : QR) (x1 : Int32) (x2 : Int32) , SB (eP M) l kX1_things M (f_X1_things_36 M n r0 x1 x2) (0, 0) 36 M [some (.inr r0), some (.inl x1), some (.inl x2)] [] := by
  intro n
  induction n with
  | zero => intros; rw [f_X1_things_36]; exact r_none
  | succ n ih =>
    intro r0 x1 x2
    rw [f_X1_things_36]
    refine r_iload_n (pc := 36) dX1_things_36 rfl ?_
    refine r_iconst (v := (2 : Int32)) (pc := 37) dX1_things_37 (by decide) ?_
    refine r_icmp_ge (pc := 38) (tgt := 67) dX1_things_38 (by decide) ?_ ?_
    · refine r_iload_n (pc := 67) dX1_things_67 rfl ?_
      exact r_iretP (pc := 68) dX1_things_68 rfl (by decide +kernel)
    refine r_iload_n (pc := 41) dX1_things_41 rfl ?_
    refine r_aload_n (pc := 42) dX1_things_42 rfl ?_
    refine r_getR (pc := 43)  gf_X1_19 dX1_things_43 (fun v43 => ?_)
    refine r_iload_n (pc := 46) dX1_things_46 rfl ?_
    refine r_aald (pc := 47) dX1_things_47 (fun v47 => ?_)
    refine r_callUs_P (st := [.inl x1]) (vs := []) (pc := 48)  ct_X2_isInVan cf_X1_92 rfl rfl (Nat.le_of_ble_eq_true rfl) (by decide +kernel) dX1_things_48 (fun v48 => ?_)
    refine r_widen (u' := (0, 0)) (by decide +kernel) ?_
    refine r_if_eqF (F := (fun (z9 : Int32) => f_X1_things_59 M (f_X1_things_36 M n) r0 x2 x1 z9)) (zA := (0 : Int32)) (zB := (1 : Int32)) (pc := 51) (tgt := 58) dX1_things_51 (by decide) ?_ ?_
    · refine r_iconst (v := (0 : Int32)) (pc := 58) dX1_things_58 (by decide) ?_
      exact s_X1_things_59 M (f_X1_things_36 M n) ih _ _ _ _ _
    refine r_iconst (v := (1 : Int32)) (pc := 54) dX1_things_54 (by decide) ?_
    refine r_goto (tgt := 59) (pc := 55) dX1_things_55 (by decide) ?_
    exact s_X1_things_59 M (f_X1_things_36 M n) ih _ _ _ _ _
noncomputable def f_X1_things_4 (M : QM) : Nat → QR → Int32 → Int32 → Option (Int32)
  | 0, _, _, _ => none
  | n + 1, r0, x1, x2 =>
    if (10 : Int32) ≤ x2 then (f_X1_things_36 M 3 r0 x1 (0 : Int32))
    else (qrc M r0 [1] (f_X1_isIn r0 x2 (-10000005 : Int32) M)).bind fun v15 => 
    f_X1_things_26 M (f_X1_things_4 M n) r0 x2 x1 (if v15 = 0 then (0 : Int32) else (1 : Int32))
theorem s_X1_things_4 {l : Launch} (M : QM) : ∀ (n : Nat) (r0 : QR) (x1 : Int32) (x2 : Int32) , SB (eP M) l kX1_things M (f_X1_things_4 M n r0 x1 x2) (0, 0) 4 M [some (.inr r0), some (.inl x1), some (.inl x2)] [] := by
  intro n
  induction n with
  | zero => intros; rw [f_X1_things_4]; exact r_none
  | succ n ih =>
    intro r0 x1 x2
    rw [f_X1_things_4]
    refine r_iload_n (pc := 4) dX1_things_4 rfl ?_
    refine r_bipush (v := (10 : Int32)) (pc := 5) dX1_things_5 (by decide) ?_
    refine r_icmp_ge (pc := 7) (tgt := 34) dX1_things_7 (by decide) ?_ ?_
    · refine r_iconst (v := (0 : Int32)) (pc := 34) dX1_things_34 (by decide) ?_
      refine r_istore_n (pc := 35) dX1_things_35 (by decide) rfl ?_
      exact s_X1_things_36 M 3 _ _ _
    refine r_iload_n (pc := 10) dX1_things_10 rfl ?_
    refine r_aload_n (pc := 11) dX1_things_11 rfl ?_
    refine r_iload_n (pc := 12) dX1_things_12 rfl ?_
    refine r_ldc (pc := 13) dX1_things_13 q146 ?_
    refine r_callV_P (st := [.inl x1]) (vs := [.inl x2, .inl (-10000005 : Int32)]) (pc := 15)  ct_X1_isIn hc_1 cf_X1_88 rfl rfl (Nat.le_of_ble_eq_true rfl) (by decide +kernel) dX1_things_15 (fun v15 => ?_)
    refine r_widen (u' := (0, 0)) (by decide +kernel) ?_
    refine r_if_eqF (F := (fun (z9 : Int32) => f_X1_things_26 M (f_X1_things_4 M n) r0 x2 x1 z9)) (zA := (0 : Int32)) (zB := (1 : Int32)) (pc := 18) (tgt := 25) dX1_things_18 (by decide) ?_ ?_
    · refine r_iconst (v := (0 : Int32)) (pc := 25) dX1_things_25 (by decide) ?_
      exact s_X1_things_26 M (f_X1_things_4 M n) ih _ _ _ _ _
    refine r_iconst (v := (1 : Int32)) (pc := 21) dX1_things_21 (by decide) ?_
    refine r_goto (tgt := 26) (pc := 22) dX1_things_22 (by decide) ?_
    exact s_X1_things_26 M (f_X1_things_4 M n) ih _ _ _ _ _
noncomputable def f_X1_things (r0 : QR) (M : QM) : Option (Int32) :=
  f_X1_things_4 M 11 r0 (0 : Int32) (0 : Int32)
theorem s_X1_things {l : Launch} {r0 : QR} {M : QM} : SB (eP M) l kX1_things M (f_X1_things r0 M) (0, 0) 0 M [some (.inr r0), none, none] [] := by
  unfold f_X1_things
  refine r_iconst (v := (0 : Int32)) (pc := 0) dX1_things_0 (by decide) ?_
  refine r_istore_n (pc := 1) dX1_things_1 (by decide) rfl ?_
  refine r_iconst (v := (0 : Int32)) (pc := 2) dX1_things_2 (by decide) ?_
  refine r_istore_n (pc := 3) dX1_things_3 (by decide) rfl ?_
  exact s_X1_things_4 M 11 _ _ _
theorem ct_X1_things {l : Launch} {r0 : QR} {M : QM} : ∀ b, f_X1_things r0 M = some b → PM l yX1_things (ws_ yX1_things cX1_things 3 (some .int)) rmX1_things [.inr r0] M ((eP M) b).1 ((eP M) b).2 := fun b hb =>
  PM.of (own := RX1) rfl (by decide +kernel) (Nat.le_of_ble_eq_true rfl) false (fun h => nomatch h) (s_X1_things b hb)
/-! X2_moves: BarnPictures$Thing.moves(ZII)Z, kind XI -/
abbrev rmX2_moves : Room := ({ frames := 8, cells := 2, slots := 14, locals := 130 })
abbrev kX2_moves : QK := (RX2, cX2_moves, 4, (some .boolean), [], false, rmX2_moves)
noncomputable def f_X2_moves_66 (s0 : QR) (s1 : Int32) (M : QM) : Option ((Int32 ⊕ QN) × QM) :=
  (pF M s0 [(2, 0), (3, 0)] (.inl s1)).bind fun m66 => 
    some (.inl (1 : Int32), m66)
theorem s_X2_moves_66 {l : Launch} {M0 : QM} : ∀ (s0 : QR) (s1 : Int32) (d0 : Option QV) (d1 : Option QV) (d2 : Option QV) (d3 : Option QV) (M : QM) , SB eXI l kX2_moves M0 (f_X2_moves_66 s0 s1 M) (2, 14) 66 M [d0, d1, d2, d3] [.inl s1, .inr s0] := by
  intro s0 s1 d0 d1 d2 d3 M
  unfold f_X2_moves_66
  refine r_put (pc := 66)  pf_X2_10 (fun h => nomatch h) (fit_int _) dX2_moves_66 (fun m66 => ?_)
  refine r_iconst (v := (1 : Int32)) (pc := 69) dX2_moves_69 (by decide) ?_
  exact r_zretX (pc := 70) dX2_moves_70 rfl rfl (by decide +kernel)
noncomputable def f_X2_moves_50 (r0 : QR) (x1 : Int32) (x2 : Int32) (s0 : Int32) (M : QM) : Option ((Int32 ⊕ QN) × QM) :=
  qbXV (f_X0_check s0 (-10000003 : Int32) M) (fun q52 m52 => some (.inr q52, m52)) fun m52 => 
    f_X2_moves_66 r0 (if x1 = 0 then x2 else (-10000005 : Int32)) m52
theorem s_X2_moves_50 {l : Launch} {M0 : QM} : ∀ (r0 : QR) (x1 : Int32) (x2 : Int32) (s0 : Int32) (d3 : Option QV) (M : QM) , SB eXI l kX2_moves M0 (f_X2_moves_50 r0 x1 x2 s0 M) (1, 7) 50 M [some (.inr r0), some (.inl x1), some (.inl x2), d3] [.inl s0] := by
  intro r0 x1 x2 s0 d3 M
  unfold f_X2_moves_50
  refine r_ldc (pc := 50) dX2_moves_50 q529 ?_
  refine r_callSN_XV (st := []) (vs := [.inl s0, .inl (-10000003 : Int32)]) (pc := 52)  ct_X0_check cf_X2_17 rfl rfl (Nat.le_of_ble_eq_true rfl) (by decide +kernel) dX2_moves_52 (fun q52 m52 => ?_) (fun m52 => ?_)
  · refine x_widen (u' := (2, 14)) (by decide +kernel) ?_
    exact x_outI (by decide) (by decide +kernel)
  refine r_widen (u' := (2, 14)) (by decide +kernel) ?_
  refine r_aload_n (pc := 55) dX2_moves_55 rfl ?_
  refine r_iload_n (pc := 56) dX2_moves_56 rfl ?_
  refine r_if_eqF (F := (fun (z9 : Int32) => f_X2_moves_66 r0 z9 m52)) (zA := x2) (zB := (-10000005 : Int32)) (pc := 57) (tgt := 65) dX2_moves_57 (by decide) ?_ ?_
  · refine r_iload_n (pc := 65) dX2_moves_65 rfl ?_
    exact s_X2_moves_66  _ _ _ _ _ _ _
  refine r_ldc (pc := 60) dX2_moves_60 q102 ?_
  refine r_goto (tgt := 66) (pc := 62) dX2_moves_62 (by decide) ?_
  exact s_X2_moves_66  _ _ _ _ _ _ _
noncomputable def f_X2_moves_22 (r0 : QR) (x1 : Int32) (x2 : Int32) (x3 : Int32) (s0 : Int32) (M : QM) : Option ((Int32 ⊕ QN) × QM) :=
  qbXV (f_X0_check s0 (-10000004 : Int32) M) (fun q24 m24 => some (.inr q24, m24)) fun m24 => 
    (qrc m24 r0 [2, 3] (f_X2_isInVan r0 m24)).bind fun v28 => 
    if v28 = x1 then (some (.inl (0 : Int32), m24))
    else f_X2_moves_50 r0 x1 x2 (if x1 = 0 then (1 : Int32) else (if x3 ≤ 0 then (0 : Int32) else (1 : Int32))) m24
theorem s_X2_moves_22 {l : Launch} {M0 : QM} : ∀ (r0 : QR) (x1 : Int32) (x2 : Int32) (x3 : Int32) (s0 : Int32) (M : QM) , SB eXI l kX2_moves M0 (f_X2_moves_22 r0 x1 x2 x3 s0 M) (0, 0) 22 M [some (.inr r0), some (.inl x1), some (.inl x2), some (.inl x3)] [.inl s0] := by
  intro r0 x1 x2 x3 s0  M
  unfold f_X2_moves_22
  refine r_ldc (pc := 22) dX2_moves_22 q526 ?_
  refine r_callSN_XV (st := []) (vs := [.inl s0, .inl (-10000004 : Int32)]) (pc := 24)  ct_X0_check cf_X2_17 rfl rfl (Nat.le_of_ble_eq_true rfl) (by decide +kernel) dX2_moves_24 (fun q24 m24 => ?_) (fun m24 => ?_)
  · refine x_widen (u' := (1, 7)) (by decide +kernel) ?_
    exact x_outI (by decide) (by decide +kernel)
  refine r_widen (u' := (1, 7)) (by decide +kernel) ?_
  refine r_aload_n (pc := 27) dX2_moves_27 rfl ?_
  refine r_callUs_P (st := []) (vs := []) (pc := 28)  ct_X2_isInVan cf_X2_21 rfl rfl (Nat.le_of_ble_eq_true rfl) (by decide +kernel) dX2_moves_28 (fun v28 => ?_)
  refine r_widen (u' := (1, 7)) (by decide +kernel) ?_
  refine r_iload_n (pc := 31) dX2_moves_31 rfl ?_
  refine r_icmp_ne (pc := 32) (tgt := 37) dX2_moves_32 (by decide) ?_ ?_
  · refine r_iload_n (pc := 37) dX2_moves_37 rfl ?_
    refine r_if_eqF (F := (fun (z9 : Int32) => f_X2_moves_50 r0 x1 x2 z9 m24)) (zA := (1 : Int32)) (zB := (if x3 ≤ 0 then (0 : Int32) else (1 : Int32))) (pc := 38) (tgt := 45) dX2_moves_38 (by decide) ?_ ?_
    · refine r_iconst (v := (1 : Int32)) (pc := 45) dX2_moves_45 (by decide) ?_
      refine r_goto (tgt := 50) (pc := 46) dX2_moves_46 (by decide) ?_
      exact s_X2_moves_50  _ _ _ _ _ _
    refine r_iload_n (pc := 41) dX2_moves_41 rfl ?_
    refine r_if_leF (F := (fun (z9 : Int32) => f_X2_moves_50 r0 x1 x2 z9 m24)) (zA := (0 : Int32)) (zB := (1 : Int32)) (pc := 42) (tgt := 49) dX2_moves_42 (by decide) ?_ ?_
    · refine r_iconst (v := (0 : Int32)) (pc := 49) dX2_moves_49 (by decide) ?_
      exact s_X2_moves_50  _ _ _ _ _ _
    refine r_iconst (v := (1 : Int32)) (pc := 45) dX2_moves_45 (by decide) ?_
    refine r_goto (tgt := 50) (pc := 46) dX2_moves_46 (by decide) ?_
    exact s_X2_moves_50  _ _ _ _ _ _
  refine r_iconst (v := (0 : Int32)) (pc := 35) dX2_moves_35 (by decide) ?_
  exact r_zretX (pc := 36) dX2_moves_36 rfl rfl (by decide +kernel)
noncomputable def f_X2_moves (r0 : QR) (x1 : Int32) (x2 : Int32) (x3 : Int32) (M : QM) : Option ((Int32 ⊕ QN) × QM) :=
  (gI M r0 [(2, 0), (3, 0)]).bind fun v1 => 
    if v1 = (-10000005 : Int32) then (f_X2_moves_22 r0 x1 x2 x3 (1 : Int32) M)
    else (gI M r0 [(2, 0), (3, 0)]).bind fun v10 => 
    f_X2_moves_22 r0 x1 x2 x3 (if v10 = x2 then (1 : Int32) else (0 : Int32)) M
theorem s_X2_moves {l : Launch} {M0 : QM} {r0 : QR} {x1 : Int32} {x2 : Int32} {x3 : Int32} {M : QM} : SB eXI l kX2_moves M0 (f_X2_moves r0 x1 x2 x3 M) (0, 0) 0 M [some (.inr r0), some (.inl x1), some (.inl x2), some (.inl x3)] [] := by
  unfold f_X2_moves
  refine r_aload_n (pc := 0) dX2_moves_0 rfl ?_
  refine r_getI (pc := 1)  gf_X2_10 dX2_moves_1 (fun v1 => ?_)
  refine r_ldc (pc := 4) dX2_moves_4 q102 ?_
  refine r_icmp_eq (pc := 6) (tgt := 17) dX2_moves_6 (by decide) ?_ ?_
  · refine r_iconst (v := (1 : Int32)) (pc := 17) dX2_moves_17 (by decide) ?_
    refine r_goto (tgt := 22) (pc := 18) dX2_moves_18 (by decide) ?_
    exact s_X2_moves_22  _ _ _ _ _ _
  refine r_aload_n (pc := 9) dX2_moves_9 rfl ?_
  refine r_getI (pc := 10)  gf_X2_10 dX2_moves_10 (fun v10 => ?_)
  refine r_iload_n (pc := 13) dX2_moves_13 rfl ?_
  refine r_icmp_neF (F := (fun (z9 : Int32) => f_X2_moves_22 r0 x1 x2 x3 z9 M)) (zA := (1 : Int32)) (zB := (0 : Int32)) (pc := 14) (tgt := 21) dX2_moves_14 (by decide) ?_ ?_
  · refine r_iconst (v := (0 : Int32)) (pc := 21) dX2_moves_21 (by decide) ?_
    exact s_X2_moves_22  _ _ _ _ _ _
  refine r_iconst (v := (1 : Int32)) (pc := 17) dX2_moves_17 (by decide) ?_
  refine r_goto (tgt := 22) (pc := 18) dX2_moves_18 (by decide) ?_
  exact s_X2_moves_22  _ _ _ _ _ _
theorem ct_X2_moves {l : Launch} {r0 : QR} {x1 : Int32} {x2 : Int32} {x3 : Int32} {M : QM} : ∀ b, f_X2_moves r0 x1 x2 x3 M = some b → PM l yX2_moves (ws_ yX2_moves cX2_moves 4 (some .boolean)) rmX2_moves [.inr r0, .inl x1, .inl x2, .inl x3] M (eXI b).1 (eXI b).2 := fun b hb =>
  PM.of (own := RX2) rfl (by decide +kernel) (Nat.le_of_ble_eq_true rfl) false (fun h => nomatch h) (s_X2_moves b hb)
/-! X1_move: BarnPictures$Tour.move(LBarnPictures$Thing;Z)I, kind XI -/
abbrev rmX1_move : Room := ({ frames := 9, cells := 2, slots := 14, locals := 153 })
abbrev kX1_move : QK := (RX1, cX1_move, 3, (some .int), [], false, rmX1_move)
noncomputable def f_X1_move (r0 : QR) (r1 : QR) (x2 : Int32) (M : QM) : Option ((Int32 ⊕ QN) × QM) :=
  (gI M r0 [(1, 6)]).bind fun v3 => 
    (qrc M r0 [1] (f_X1_things r0 M)).bind fun v9 => 
    qbXI (qrc M r1 [2, 3] (f_X2_moves r1 x2 v3 ((8 : Int32) - v9) M)) (fun q13 m13 => some (.inr q13, m13)) fun v13 m13 => 
    if v13 = 0 then (some (.inl (-10000005 : Int32), m13))
    else (qrc m13 r0 [1] (f_X1_things r0 m13)).bind fun v20 => 
    some (.inl v20, m13)
theorem s_X1_move {l : Launch} {M0 : QM} {r0 : QR} {r1 : QR} {x2 : Int32} {M : QM} : SB eXI l kX1_move M0 (f_X1_move r0 r1 x2 M) (0, 0) 0 M [some (.inr r0), some (.inr r1), some (.inl x2)] [] := by
  unfold f_X1_move
  refine r_aload_n (pc := 0) dX1_move_0 rfl ?_
  refine r_iload_n (pc := 1) dX1_move_1 rfl ?_
  refine r_aload_n (pc := 2) dX1_move_2 rfl ?_
  refine r_getI (pc := 3)  gf_X1_58 dX1_move_3 (fun v3 => ?_)
  refine r_bipush (v := (8 : Int32)) (pc := 6) dX1_move_6 (by decide) ?_
  refine r_aload_n (pc := 8) dX1_move_8 rfl ?_
  refine r_callV_P (st := [.inl (8 : Int32), .inl v3, .inl x2, .inr r1]) (vs := []) (pc := 9)  ct_X1_things hc_1 cf_X1_137 rfl rfl (Nat.le_of_ble_eq_true rfl) (by decide +kernel) dX1_move_9 (fun v9 => ?_)
  refine r_widen (u' := (0, 0)) (by decide +kernel) ?_
  refine r_isub (pc := 12) dX1_move_12 ?_
  refine r_callUs_XI (st := []) (vs := [.inl x2, .inl v3, .inl ((8 : Int32) - v9)]) (pc := 13)  ct_X2_moves cf_X1_141 rfl rfl (Nat.le_of_ble_eq_true rfl) (by decide +kernel) dX1_move_13 (fun q13 m13 => ?_) (fun v13 m13 => ?_)
  · refine x_widen (u' := (2, 14)) (by decide +kernel) ?_
    exact x_outI (by decide) (by decide +kernel)
  refine r_widen (u' := (2, 14)) (by decide +kernel) ?_
  refine r_if_eq (pc := 16) (tgt := 26) dX1_move_16 (by decide) ?_ ?_
  · refine r_ldc (pc := 26) dX1_move_26 q146 ?_
    exact r_iretX (pc := 28) dX1_move_28 rfl (by decide +kernel)
  refine r_aload_n (pc := 19) dX1_move_19 rfl ?_
  refine r_callV_P (st := []) (vs := []) (pc := 20)  ct_X1_things hc_1 cf_X1_137 rfl rfl (Nat.le_of_ble_eq_true rfl) (by decide +kernel) dX1_move_20 (fun v20 => ?_)
  refine r_widen (u' := (2, 14)) (by decide +kernel) ?_
  refine r_goto (tgt := 28) (pc := 23) dX1_move_23 (by decide) ?_
  exact r_iretX (pc := 28) dX1_move_28 rfl (by decide +kernel)
theorem ct_X1_move {l : Launch} {r0 : QR} {r1 : QR} {x2 : Int32} {M : QM} : ∀ b, f_X1_move r0 r1 x2 M = some b → PM l yX1_move (ws_ yX1_move cX1_move 3 (some .int)) rmX1_move [.inr r0, .inr r1, .inl x2] M (eXI b).1 (eXI b).2 := fun b hb =>
  PM.of (own := RX1) rfl (by decide +kernel) (Nat.le_of_ble_eq_true rfl) false (fun h => nomatch h) (s_X1_move b hb)
/-! X1_moveReel: BarnPictures$Tour.moveReel(IZ)I, kind XI -/
abbrev rmX1_moveReel : Room := ({ frames := 10, cells := 3, slots := 21, locals := 175 })
abbrev kX1_moveReel : QK := (RX1, cX1_moveReel, 3, (some .int), [], false, rmX1_moveReel)
noncomputable def f_X1_moveReel (r0 : QR) (x1 : Int32) (x2 : Int32) (M : QM) : Option ((Int32 ⊕ QN) × QM) :=
  (qrc M r0 [1] (f_X1_isReel r0 x1 M)).bind fun v2 => 
    qbXV (f_X0_check v2 (-10000001 : Int32) M) (fun q7 m7 => some (.inr q7, m7)) fun m7 => 
    (gR m7 r0 [(1, 0)]).bind fun v12 => 
    (aR m7 v12 x1).bind fun v16 => 
    qbXI (qrc m7 r0 [1] (f_X1_move r0 v16 x2 m7)) (fun q18 m18 => some (.inr q18, m18)) fun v18 m18 => 
    some (.inl v18, m18)
theorem s_X1_moveReel {l : Launch} {M0 : QM} {r0 : QR} {x1 : Int32} {x2 : Int32} {M : QM} : SB eXI l kX1_moveReel M0 (f_X1_moveReel r0 x1 x2 M) (0, 0) 0 M [some (.inr r0), some (.inl x1), some (.inl x2)] [] := by
  unfold f_X1_moveReel
  refine r_aload_n (pc := 0) dX1_moveReel_0 rfl ?_
  refine r_iload_n (pc := 1) dX1_moveReel_1 rfl ?_
  refine r_callV_P (st := []) (vs := [.inl x1]) (pc := 2)  ct_X1_isReel hc_1 cf_X1_145 rfl rfl (Nat.le_of_ble_eq_true rfl) (by decide +kernel) dX1_moveReel_2 (fun v2 => ?_)
  refine r_widen (u' := (0, 0)) (by decide +kernel) ?_
  refine r_ldc (pc := 5) dX1_moveReel_5 q309 ?_
  refine r_callSN_XV (st := []) (vs := [.inl v2, .inl (-10000001 : Int32)]) (pc := 7)  ct_X0_check cf_X1_127 rfl rfl (Nat.le_of_ble_eq_true rfl) (by decide +kernel) dX1_moveReel_7 (fun q7 m7 => ?_) (fun m7 => ?_)
  · refine x_widen (u' := (1, 7)) (by decide +kernel) ?_
    exact x_outI (by decide) (by decide +kernel)
  refine r_widen (u' := (1, 7)) (by decide +kernel) ?_
  refine r_aload_n (pc := 10) dX1_moveReel_10 rfl ?_
  refine r_aload_n (pc := 11) dX1_moveReel_11 rfl ?_
  refine r_getR (pc := 12)  gf_X1_11 dX1_moveReel_12 (fun v12 => ?_)
  refine r_iload_n (pc := 15) dX1_moveReel_15 rfl ?_
  refine r_aald (pc := 16) dX1_moveReel_16 (fun v16 => ?_)
  refine r_iload_n (pc := 17) dX1_moveReel_17 rfl ?_
  refine r_callV_XI (st := []) (vs := [.inr v16, .inl x2]) (pc := 18)  ct_X1_move hc_1 cf_X1_148 rfl rfl (Nat.le_of_ble_eq_true rfl) (by decide +kernel) dX1_moveReel_18 (fun q18 m18 => ?_) (fun v18 m18 => ?_)
  · refine x_widen (u' := (3, 21)) (by decide +kernel) ?_
    exact x_outI (by decide) (by decide +kernel)
  refine r_widen (u' := (3, 21)) (by decide +kernel) ?_
  exact r_iretX (pc := 21) dX1_moveReel_21 rfl (by decide +kernel)
theorem ct_X1_moveReel {l : Launch} {r0 : QR} {x1 : Int32} {x2 : Int32} {M : QM} : ∀ b, f_X1_moveReel r0 x1 x2 M = some b → PM l yX1_moveReel (ws_ yX1_moveReel cX1_moveReel 3 (some .int)) rmX1_moveReel [.inr r0, .inl x1, .inl x2] M (eXI b).1 (eXI b).2 := fun b hb =>
  PM.of (own := RX1) rfl (by decide +kernel) (Nat.le_of_ble_eq_true rfl) false (fun h => nomatch h) (s_X1_moveReel b hb)
/-! X0_moveReel: BarnPictures.moveReel(IZ)I, kind I -/
abbrev rmX0_moveReel : Room := ({ frames := 11, cells := 25, slots := 228, locals := 197 })
abbrev kX0_moveReel : QK := (RX0, cX0_moveReel, 5, (some .int), [(12, 23, 24, 8)], false, rmX0_moveReel)
noncomputable def f_X0_moveReel (r0 : QR) (x1 : Int32) (x2 : Int32) (M : QM) : Option (Int32 × QM) :=
  (nO M (M.1, 0) (.inl (1, fs_1))).bind fun m0 => 
    (gR m0 r0 [(0, 0)]).bind fun v5 => 
    (qnn (some (M.1, 0)) (f_X1_init_2 M.1 (some (M.1, 0)) v5 m0)).bind fun m8 => 
    qbXI (qrc m8 (some (M.1, 0)) [1] (f_X1_moveReel (some (M.1, 0)) x1 x2 m8)) (fun q17 m17 => if qcls m17 q17 = some 14 then ((qrc m17 (some q17) [14] (f_X7_code (some q17) m17)).bind fun v28 => 
        some (v28, m17))
      else none) fun v17 m17 => 
    qbI (qrc m17 r0 [0] (f_X0_accept r0 (some (M.1, 0)) v17 m17)) fun v20 m20 => 
    some (v20, m20)
theorem s_X0_moveReel {l : Launch} {M0 : QM} {r0 : QR} {x1 : Int32} {x2 : Int32} {M : QM} : SB eI l kX0_moveReel M0 (f_X0_moveReel r0 x1 x2 M) (0, 0) 0 M [some (.inr r0), some (.inl x1), some (.inl x2), none, none] [] := by
  unfold f_X0_moveReel
  refine r_new (pc := 0)  nf_X0_19 (by decide +kernel) dX0_moveReel_0 (fun m0 => ?_)
  refine r_widen (u' := (1, 14)) (by decide +kernel) ?_
  refine r_dup (pc := 3) dX0_moveReel_3 ?_
  refine r_aload_n (pc := 4) dX0_moveReel_4 rfl ?_
  refine r_getR (pc := 5)  gf_X0_22 dX0_moveReel_5 (fun v5 => ?_)
  refine r_callI_V (st := [.inr (some (M.1, 0))]) (vs := [.inr v5]) (pc := 8)  ct_X1_init_2 cf_X0_59 rfl rfl (Nat.le_of_ble_eq_true rfl) (by decide +kernel) dX0_moveReel_8 (fun m8 => ?_)
  refine r_widen (u' := (21, 143)) (by decide +kernel) ?_
  refine r_astore_n (pc := 11) dX0_moveReel_11 (by decide) rfl ?_
  refine r_aload_n (pc := 12) dX0_moveReel_12 rfl ?_
  refine r_aload_n (pc := 13) dX0_moveReel_13 rfl ?_
  refine r_aload_n (pc := 14) dX0_moveReel_14 rfl ?_
  refine r_iload_n (pc := 15) dX0_moveReel_15 rfl ?_
  refine r_iload_n (pc := 16) dX0_moveReel_16 rfl ?_
  refine r_callV_XI (st := [.inr (some (M.1, 0)), .inr r0]) (vs := [.inl x1, .inl x2]) (pc := 17)  ct_X1_moveReel hc_1 cf_X0_73 rfl rfl (Nat.le_of_ble_eq_true rfl) (by decide +kernel) dX0_moveReel_17 (fun q17 m17 => ?_) (fun v17 m17 => ?_)
  · refine x_widen (u' := (24, 164)) (by decide +kernel) ?_
    refine x_catch (ci := 14) (pc := 17) [] ⟨12, 23, 24, 8⟩ [] rfl rfl (fun z hz => nomatch hz) (by decide) (by decide) q283 (qnw_in q314 rfl) ?_ ?_
    · refine r_astore (pc := 24) dX0_moveReel_24 (by decide) rfl ?_
      refine r_aload (pc := 26) dX0_moveReel_26 rfl ?_
      refine r_callV_P (st := []) (vs := []) (pc := 28)  ct_X7_code hc_14 cf_X0_70 rfl rfl (Nat.le_of_ble_eq_true rfl) (by decide +kernel) dX0_moveReel_28 (fun v28 => ?_)
      refine r_widen (u' := (24, 164)) (by decide +kernel) ?_
      exact r_iretI (pc := 31) dX0_moveReel_31 rfl (by decide +kernel)
    exact x_none
  refine r_widen (u' := (24, 164)) (by decide +kernel) ?_
  refine r_callV_I (st := []) (vs := [.inr (some (M.1, 0)), .inl v17]) (pc := 20)  ct_X0_accept hc_0 cf_X0_66 rfl rfl (Nat.le_of_ble_eq_true rfl) (by decide +kernel) dX0_moveReel_20 (fun v20 m20 => ?_)
  refine r_widen (u' := (25, 228)) (by decide +kernel) ?_
  exact r_iretI (pc := 23) dX0_moveReel_23 rfl (by decide +kernel)
theorem ct_X0_moveReel {l : Launch} {r0 : QR} {x1 : Int32} {x2 : Int32} {M : QM} : ∀ b, f_X0_moveReel r0 x1 x2 M = some b → PM l yX0_moveReel (wsW_ yX0_moveReel cX0_moveReel 5 (some .int) [(12, 23, 24, 8)]) rmX0_moveReel [.inr r0, .inl x1, .inl x2] M (eI b).1 (eI b).2 := fun b hb =>
  PM.ofH (own := RX0) rfl (by decide +kernel) (Nat.le_of_ble_eq_true rfl) (s_X0_moveReel b hb)
/-! X5_isReel: BarnPicturesModel.isReel(I)Z, kind P -/
abbrev rmX5_isReel : Room := ({ frames := 1, cells := 0, slots := 0, locals := 22 })
abbrev kX5_isReel : QK := (RX5, cX5_isReel, 2, (some .boolean), [], false, rmX5_isReel)
noncomputable def f_X5_isReel (r0 : QR) (x1 : Int32) (M : QM) : Option (Int32) :=
  (f_X5_in x1 (0 : Int32) (9 : Int32) M).bind fun v4 => 
    if v4 = 0 then (some (0 : Int32))
    else (gR M r0 [(4, 0)]).bind fun v11 => 
    (f_X5_of x1 (0 : Int32) M).bind fun v16 => 
    (aI M v11 v16).bind fun v19 => 
    if v19 = (-2 : Int32) then (some (0 : Int32))
    else some (1 : Int32)
theorem s_X5_isReel {l : Launch} {r0 : QR} {x1 : Int32} {M : QM} : SB (eP M) l kX5_isReel M (f_X5_isReel r0 x1 M) (0, 0) 0 M [some (.inr r0), some (.inl x1)] [] := by
  unfold f_X5_isReel
  refine r_iload_n (pc := 0) dX5_isReel_0 rfl ?_
  refine r_iconst (v := (0 : Int32)) (pc := 1) dX5_isReel_1 (by decide) ?_
  refine r_bipush (v := (9 : Int32)) (pc := 2) dX5_isReel_2 (by decide) ?_
  refine r_callS_P (st := []) (vs := [.inl x1, .inl (0 : Int32), .inl (9 : Int32)]) (pc := 4)  ct_X5_in cf_X5_37 rfl rfl (Nat.le_of_ble_eq_true rfl) (by decide +kernel) dX5_isReel_4 (fun v4 => ?_)
  refine r_widen (u' := (0, 0)) (by decide +kernel) ?_
  refine r_if_eq (pc := 7) (tgt := 29) dX5_isReel_7 (by decide) ?_ ?_
  · refine r_iconst (v := (0 : Int32)) (pc := 29) dX5_isReel_29 (by decide) ?_
    exact r_zretP (pc := 30) dX5_isReel_30 rfl rfl (by decide +kernel)
  refine r_aload_n (pc := 10) dX5_isReel_10 rfl ?_
  refine r_getR (pc := 11)  gf_X5_7 dX5_isReel_11 (fun v11 => ?_)
  refine r_iload_n (pc := 14) dX5_isReel_14 rfl ?_
  refine r_iconst (v := (0 : Int32)) (pc := 15) dX5_isReel_15 (by decide) ?_
  refine r_callS_P (st := [.inr v11]) (vs := [.inl x1, .inl (0 : Int32)]) (pc := 16)  ct_X5_of cf_X5_33 rfl rfl (Nat.le_of_ble_eq_true rfl) (by decide +kernel) dX5_isReel_16 (fun v16 => ?_)
  refine r_widen (u' := (0, 0)) (by decide +kernel) ?_
  refine r_iald (pc := 19) dX5_isReel_19 (fun v19 => ?_)
  refine r_bipush (v := (-2 : Int32)) (pc := 20) dX5_isReel_20 (by decide) ?_
  refine r_icmp_eq (pc := 22) (tgt := 29) dX5_isReel_22 (by decide) ?_ ?_
  · refine r_iconst (v := (0 : Int32)) (pc := 29) dX5_isReel_29 (by decide) ?_
    exact r_zretP (pc := 30) dX5_isReel_30 rfl rfl (by decide +kernel)
  refine r_iconst (v := (1 : Int32)) (pc := 25) dX5_isReel_25 (by decide) ?_
  refine r_goto (tgt := 30) (pc := 26) dX5_isReel_26 (by decide) ?_
  exact r_zretP (pc := 30) dX5_isReel_30 rfl rfl (by decide +kernel)
theorem ct_X5_isReel {l : Launch} {r0 : QR} {x1 : Int32} {M : QM} : ∀ b, f_X5_isReel r0 x1 M = some b → PM l yX5_isReel (ws_ yX5_isReel cX5_isReel 2 (some .boolean)) rmX5_isReel [.inr r0, .inl x1] M ((eP M) b).1 ((eP M) b).2 := fun b hb =>
  PM.of (own := RX5) rfl (by decide +kernel) (Nat.le_of_ble_eq_true rfl) false (fun h => nomatch h) (s_X5_isReel b hb)
/-! X5_inVan: BarnPicturesModel.inVan()I, kind P -/
abbrev rmX5_inVan : Room := ({ frames := 1, cells := 0, slots := 0, locals := 21 })
abbrev kX5_inVan : QK := (RX5, cX5_inVan, 3, (some .int), [], false, rmX5_inVan)
noncomputable def f_X5_inVan_31 (M : QM) (kL4 : QR → Int32 → Int32 → Option (Int32)) (r0 : QR) (x2 : Int32) (s0 : Int32) (s1 : Int32) : Option (Int32) :=
  kL4 r0 (s0 + s1) (x2 + (1 : Int32))
theorem s_X5_inVan_31 {l : Launch} (M : QM) (kL4 : QR → Int32 → Int32 → Option (Int32)) (hkL4 : ∀ (r0 : QR) (x1 : Int32) (x2 : Int32) , SB (eP M) l kX5_inVan M (kL4 r0 x1 x2) (0, 0) 4 M [some (.inr r0), some (.inl x1), some (.inl x2)] []) : ∀ (r0 : QR) (x2 : Int32) (s0 : Int32) (s1 : Int32) (d1 : Option QV) , SB (eP M) l kX5_inVan M (f_X5_inVan_31 M kL4 r0 x2 s0 s1) (0, 0) 31 M [some (.inr r0), d1, some (.inl x2)] [.inl s1, .inl s0] := by
  intro r0 x2 s0 s1 d1
  unfold f_X5_inVan_31
  refine r_iadd (pc := 31) dX5_inVan_31 ?_
  refine r_istore_n (pc := 32) dX5_inVan_32 (by decide) rfl ?_
  refine r_iinc (v := (x2 + (1 : Int32))) (pc := 33) dX5_inVan_33 rfl rfl (by decide) rfl ?_
  refine r_goto (tgt := 4) (pc := 36) dX5_inVan_36 (by decide) ?_
  exact hkL4 _ _ _
noncomputable def f_X5_inVan_75 (M : QM) (s0 : Int32) (s1 : Int32) : Option (Int32) :=
  some (s0 + s1)
theorem s_X5_inVan_75 {l : Launch} (M : QM) : ∀ (s0 : Int32) (s1 : Int32) (d0 : Option QV) (d1 : Option QV) (d2 : Option QV) , SB (eP M) l kX5_inVan M (f_X5_inVan_75 M s0 s1) (0, 0) 75 M [d0, d1, d2] [.inl s1, .inl s0] := by
  intro s0 s1 d0 d1 d2
  unfold f_X5_inVan_75
  refine r_iadd (pc := 75) dX5_inVan_75 ?_
  exact r_iretP (pc := 76) dX5_inVan_76 rfl (by decide +kernel)
noncomputable def f_X5_inVan_57 (M : QM) (r0 : QR) (s0 : Int32) (s1 : Int32) : Option (Int32) :=
  (gR M r0 [(4, 0)]).bind fun v59 => 
    (aI M v59 (52 : Int32)).bind fun v64 => 
    f_X5_inVan_75 M (s0 + s1) (if v64 = (-10000005 : Int32) then (1 : Int32) else (0 : Int32))
theorem s_X5_inVan_57 {l : Launch} (M : QM) : ∀ (r0 : QR) (s0 : Int32) (s1 : Int32) (d1 : Option QV) (d2 : Option QV) , SB (eP M) l kX5_inVan M (f_X5_inVan_57 M r0 s0 s1) (0, 0) 57 M [some (.inr r0), d1, d2] [.inl s1, .inl s0] := by
  intro r0 s0 s1 d1 d2
  unfold f_X5_inVan_57
  refine r_iadd (pc := 57) dX5_inVan_57 ?_
  refine r_aload_n (pc := 58) dX5_inVan_58 rfl ?_
  refine r_getR (pc := 59)  gf_X5_7 dX5_inVan_59 (fun v59 => ?_)
  refine r_bipush (v := (52 : Int32)) (pc := 62) dX5_inVan_62 (by decide) ?_
  refine r_iald (pc := 64) dX5_inVan_64 (fun v64 => ?_)
  refine r_ldc (pc := 65) dX5_inVan_65 q1092 ?_
  refine r_icmp_neF (F := (fun (z9 : Int32) => f_X5_inVan_75 M (s0 + s1) z9)) (zA := (1 : Int32)) (zB := (0 : Int32)) (pc := 67) (tgt := 74) dX5_inVan_67 (by decide) ?_ ?_
  · refine r_iconst (v := (0 : Int32)) (pc := 74) dX5_inVan_74 (by decide) ?_
    exact s_X5_inVan_75 M _ _ _ _ _
  refine r_iconst (v := (1 : Int32)) (pc := 70) dX5_inVan_70 (by decide) ?_
  refine r_goto (tgt := 75) (pc := 71) dX5_inVan_71 (by decide) ?_
  exact s_X5_inVan_75 M _ _ _ _ _
noncomputable def f_X5_inVan_4 (M : QM) : Nat → QR → Int32 → Int32 → Option (Int32)
  | 0, _, _, _ => none
  | n + 1, r0, x1, x2 =>
    if (10 : Int32) ≤ x2 then ((gR M r0 [(4, 0)]).bind fun v41 => 
      (aI M v41 (50 : Int32)).bind fun v46 => 
      f_X5_inVan_57 M r0 x1 (if v46 = (-10000005 : Int32) then (1 : Int32) else (0 : Int32)))
    else (gR M r0 [(4, 0)]).bind fun v12 => 
    (f_X5_of x2 (0 : Int32) M).bind fun v17 => 
    (aI M v12 v17).bind fun v20 => 
    f_X5_inVan_31 M (f_X5_inVan_4 M n) r0 x2 x1 (if v20 = (-10000005 : Int32) then (1 : Int32) else (0 : Int32))
theorem s_X5_inVan_4 {l : Launch} (M : QM) : ∀ (n : Nat) (r0 : QR) (x1 : Int32) (x2 : Int32) , SB (eP M) l kX5_inVan M (f_X5_inVan_4 M n r0 x1 x2) (0, 0) 4 M [some (.inr r0), some (.inl x1), some (.inl x2)] [] := by
  intro n
  induction n with
  | zero => intros; rw [f_X5_inVan_4]; exact r_none
  | succ n ih =>
    intro r0 x1 x2
    rw [f_X5_inVan_4]
    refine r_iload_n (pc := 4) dX5_inVan_4 rfl ?_
    refine r_bipush (v := (10 : Int32)) (pc := 5) dX5_inVan_5 (by decide) ?_
    refine r_icmp_ge (pc := 7) (tgt := 39) dX5_inVan_7 (by decide) ?_ ?_
    · refine r_iload_n (pc := 39) dX5_inVan_39 rfl ?_
      refine r_aload_n (pc := 40) dX5_inVan_40 rfl ?_
      refine r_getR (pc := 41)  gf_X5_7 dX5_inVan_41 (fun v41 => ?_)
      refine r_bipush (v := (50 : Int32)) (pc := 44) dX5_inVan_44 (by decide) ?_
      refine r_iald (pc := 46) dX5_inVan_46 (fun v46 => ?_)
      refine r_ldc (pc := 47) dX5_inVan_47 q1092 ?_
      refine r_icmp_neF (F := (fun (z9 : Int32) => f_X5_inVan_57 M r0 x1 z9)) (zA := (1 : Int32)) (zB := (0 : Int32)) (pc := 49) (tgt := 56) dX5_inVan_49 (by decide) ?_ ?_
      · refine r_iconst (v := (0 : Int32)) (pc := 56) dX5_inVan_56 (by decide) ?_
        exact s_X5_inVan_57 M _ _ _ _ _
      refine r_iconst (v := (1 : Int32)) (pc := 52) dX5_inVan_52 (by decide) ?_
      refine r_goto (tgt := 57) (pc := 53) dX5_inVan_53 (by decide) ?_
      exact s_X5_inVan_57 M _ _ _ _ _
    refine r_iload_n (pc := 10) dX5_inVan_10 rfl ?_
    refine r_aload_n (pc := 11) dX5_inVan_11 rfl ?_
    refine r_getR (pc := 12)  gf_X5_7 dX5_inVan_12 (fun v12 => ?_)
    refine r_iload_n (pc := 15) dX5_inVan_15 rfl ?_
    refine r_iconst (v := (0 : Int32)) (pc := 16) dX5_inVan_16 (by decide) ?_
    refine r_callS_P (st := [.inr v12, .inl x1]) (vs := [.inl x2, .inl (0 : Int32)]) (pc := 17)  ct_X5_of cf_X5_33 rfl rfl (Nat.le_of_ble_eq_true rfl) (by decide +kernel) dX5_inVan_17 (fun v17 => ?_)
    refine r_widen (u' := (0, 0)) (by decide +kernel) ?_
    refine r_iald (pc := 20) dX5_inVan_20 (fun v20 => ?_)
    refine r_ldc (pc := 21) dX5_inVan_21 q1092 ?_
    refine r_icmp_neF (F := (fun (z9 : Int32) => f_X5_inVan_31 M (f_X5_inVan_4 M n) r0 x2 x1 z9)) (zA := (1 : Int32)) (zB := (0 : Int32)) (pc := 23) (tgt := 30) dX5_inVan_23 (by decide) ?_ ?_
    · refine r_iconst (v := (0 : Int32)) (pc := 30) dX5_inVan_30 (by decide) ?_
      exact s_X5_inVan_31 M (f_X5_inVan_4 M n) ih _ _ _ _ _
    refine r_iconst (v := (1 : Int32)) (pc := 26) dX5_inVan_26 (by decide) ?_
    refine r_goto (tgt := 31) (pc := 27) dX5_inVan_27 (by decide) ?_
    exact s_X5_inVan_31 M (f_X5_inVan_4 M n) ih _ _ _ _ _
noncomputable def f_X5_inVan (r0 : QR) (M : QM) : Option (Int32) :=
  f_X5_inVan_4 M 11 r0 (0 : Int32) (0 : Int32)
theorem s_X5_inVan {l : Launch} {r0 : QR} {M : QM} : SB (eP M) l kX5_inVan M (f_X5_inVan r0 M) (0, 0) 0 M [some (.inr r0), none, none] [] := by
  unfold f_X5_inVan
  refine r_iconst (v := (0 : Int32)) (pc := 0) dX5_inVan_0 (by decide) ?_
  refine r_istore_n (pc := 1) dX5_inVan_1 (by decide) rfl ?_
  refine r_iconst (v := (0 : Int32)) (pc := 2) dX5_inVan_2 (by decide) ?_
  refine r_istore_n (pc := 3) dX5_inVan_3 (by decide) rfl ?_
  exact s_X5_inVan_4 M 11 _ _ _
theorem ct_X5_inVan {l : Launch} {r0 : QR} {M : QM} : ∀ b, f_X5_inVan r0 M = some b → PM l yX5_inVan (ws_ yX5_inVan cX5_inVan 3 (some .int)) rmX5_inVan [.inr r0] M ((eP M) b).1 ((eP M) b).2 := fun b hb =>
  PM.of (own := RX5) rfl (by decide +kernel) (Nat.le_of_ble_eq_true rfl) false (fun h => nomatch h) (s_X5_inVan b hb)
/-! X5_moveFault: BarnPicturesModel.moveFault(IZ)I, kind P -/
abbrev rmX5_moveFault : Room := ({ frames := 2, cells := 0, slots := 0, locals := 43 })
abbrev kX5_moveFault : QK := (RX5, cX5_moveFault, 3, (some .int), [], false, rmX5_moveFault)
noncomputable def f_X5_moveFault_46 (M : QM) (r0 : QR) (x2 : Int32) (s0 : Int32) : Option (Int32) :=
  if s0 = x2 then (some (-10000005 : Int32))
    else if x2 = 0 then (some (0 : Int32))
    else (qrc M r0 [4] (f_X5_inVan r0 M)).bind fun v60 => 
    if v60 < (8 : Int32) then (some (0 : Int32))
    else some (-10000003 : Int32)
theorem s_X5_moveFault_46 {l : Launch} (M : QM) : ∀ (r0 : QR) (x2 : Int32) (s0 : Int32) (d1 : Option QV) , SB (eP M) l kX5_moveFault M (f_X5_moveFault_46 M r0 x2 s0) (0, 0) 46 M [some (.inr r0), d1, some (.inl x2)] [.inl s0] := by
  intro r0 x2 s0 d1
  unfold f_X5_moveFault_46
  refine r_iload_n (pc := 46) dX5_moveFault_46 rfl ?_
  refine r_icmp_ne (pc := 47) (tgt := 55) dX5_moveFault_47 (by decide) ?_ ?_
  · refine r_iload_n (pc := 55) dX5_moveFault_55 rfl ?_
    refine r_if_eq (pc := 56) (tgt := 73) dX5_moveFault_56 (by decide) ?_ ?_
    · refine r_iconst (v := (0 : Int32)) (pc := 73) dX5_moveFault_73 (by decide) ?_
      exact r_iretP (pc := 74) dX5_moveFault_74 rfl (by decide +kernel)
    refine r_aload_n (pc := 59) dX5_moveFault_59 rfl ?_
    refine r_callV_P (st := []) (vs := []) (pc := 60)  ct_X5_inVan hc_4 cf_X5_45 rfl rfl (Nat.le_of_ble_eq_true rfl) (by decide +kernel) dX5_moveFault_60 (fun v60 => ?_)
    refine r_widen (u' := (0, 0)) (by decide +kernel) ?_
    refine r_bipush (v := (8 : Int32)) (pc := 63) dX5_moveFault_63 (by decide) ?_
    refine r_icmp_lt (pc := 65) (tgt := 73) dX5_moveFault_65 (by decide) ?_ ?_
    · refine r_iconst (v := (0 : Int32)) (pc := 73) dX5_moveFault_73 (by decide) ?_
      exact r_iretP (pc := 74) dX5_moveFault_74 rfl (by decide +kernel)
    refine r_ldc (pc := 68) dX5_moveFault_68 q1188 ?_
    refine r_goto (tgt := 74) (pc := 70) dX5_moveFault_70 (by decide) ?_
    exact r_iretP (pc := 74) dX5_moveFault_74 rfl (by decide +kernel)
  refine r_ldc (pc := 50) dX5_moveFault_50 q1092 ?_
  refine r_goto (tgt := 74) (pc := 52) dX5_moveFault_52 (by decide) ?_
  exact r_iretP (pc := 74) dX5_moveFault_74 rfl (by decide +kernel)
noncomputable def f_X5_moveFault_30 (M : QM) (r0 : QR) (x1 : Int32) (x2 : Int32) : Option (Int32) :=
  (gR M r0 [(4, 0)]).bind fun v31 => 
    (aI M v31 x1).bind fun v35 => 
    f_X5_moveFault_46 M r0 x2 (if v35 = (-10000005 : Int32) then (1 : Int32) else (0 : Int32))
theorem s_X5_moveFault_30 {l : Launch} (M : QM) : ∀ (r0 : QR) (x1 : Int32) (x2 : Int32) , SB (eP M) l kX5_moveFault M (f_X5_moveFault_30 M r0 x1 x2) (0, 0) 30 M [some (.inr r0), some (.inl x1), some (.inl x2)] [] := by
  intro r0 x1 x2
  unfold f_X5_moveFault_30
  refine r_aload_n (pc := 30) dX5_moveFault_30 rfl ?_
  refine r_getR (pc := 31)  gf_X5_7 dX5_moveFault_31 (fun v31 => ?_)
  refine r_iload_n (pc := 34) dX5_moveFault_34 rfl ?_
  refine r_iald (pc := 35) dX5_moveFault_35 (fun v35 => ?_)
  refine r_ldc (pc := 36) dX5_moveFault_36 q1092 ?_
  refine r_icmp_neF (F := (fun (z9 : Int32) => f_X5_moveFault_46 M r0 x2 z9)) (zA := (1 : Int32)) (zB := (0 : Int32)) (pc := 38) (tgt := 45) dX5_moveFault_38 (by decide) ?_ ?_
  · refine r_iconst (v := (0 : Int32)) (pc := 45) dX5_moveFault_45 (by decide) ?_
    exact s_X5_moveFault_46 M _ _ _ _
  refine r_iconst (v := (1 : Int32)) (pc := 41) dX5_moveFault_41 (by decide) ?_
  refine r_goto (tgt := 46) (pc := 42) dX5_moveFault_42 (by decide) ?_
  exact s_X5_moveFault_46 M _ _ _ _
noncomputable def f_X5_moveFault (r0 : QR) (x1 : Int32) (x2 : Int32) (M : QM) : Option (Int32) :=
  (gR M r0 [(4, 0)]).bind fun v1 => 
    (aI M v1 x1).bind fun v5 => 
    if v5 = (-10000005 : Int32) then (f_X5_moveFault_30 M r0 x1 x2)
    else (gR M r0 [(4, 0)]).bind fun v12 => 
    (aI M v12 x1).bind fun v16 => 
    (gR M r0 [(4, 0)]).bind fun v18 => 
    (aI M v18 (54 : Int32)).bind fun v23 => 
    if v16 = v23 then (f_X5_moveFault_30 M r0 x1 x2)
    else some (-10000004 : Int32)
theorem s_X5_moveFault {l : Launch} {r0 : QR} {x1 : Int32} {x2 : Int32} {M : QM} : SB (eP M) l kX5_moveFault M (f_X5_moveFault r0 x1 x2 M) (0, 0) 0 M [some (.inr r0), some (.inl x1), some (.inl x2)] [] := by
  unfold f_X5_moveFault
  refine r_aload_n (pc := 0) dX5_moveFault_0 rfl ?_
  refine r_getR (pc := 1)  gf_X5_7 dX5_moveFault_1 (fun v1 => ?_)
  refine r_iload_n (pc := 4) dX5_moveFault_4 rfl ?_
  refine r_iald (pc := 5) dX5_moveFault_5 (fun v5 => ?_)
  refine r_ldc (pc := 6) dX5_moveFault_6 q1092 ?_
  refine r_icmp_eq (pc := 8) (tgt := 30) dX5_moveFault_8 (by decide) ?_ ?_
  · exact s_X5_moveFault_30 M _ _ _
  refine r_aload_n (pc := 11) dX5_moveFault_11 rfl ?_
  refine r_getR (pc := 12)  gf_X5_7 dX5_moveFault_12 (fun v12 => ?_)
  refine r_iload_n (pc := 15) dX5_moveFault_15 rfl ?_
  refine r_iald (pc := 16) dX5_moveFault_16 (fun v16 => ?_)
  refine r_aload_n (pc := 17) dX5_moveFault_17 rfl ?_
  refine r_getR (pc := 18)  gf_X5_7 dX5_moveFault_18 (fun v18 => ?_)
  refine r_bipush (v := (54 : Int32)) (pc := 21) dX5_moveFault_21 (by decide) ?_
  refine r_iald (pc := 23) dX5_moveFault_23 (fun v23 => ?_)
  refine r_icmp_eq (pc := 24) (tgt := 30) dX5_moveFault_24 (by decide) ?_ ?_
  · exact s_X5_moveFault_30 M _ _ _
  refine r_ldc (pc := 27) dX5_moveFault_27 q1183 ?_
  exact r_iretP (pc := 29) dX5_moveFault_29 rfl (by decide +kernel)
theorem ct_X5_moveFault {l : Launch} {r0 : QR} {x1 : Int32} {x2 : Int32} {M : QM} : ∀ b, f_X5_moveFault r0 x1 x2 M = some b → PM l yX5_moveFault (ws_ yX5_moveFault cX5_moveFault 3 (some .int)) rmX5_moveFault [.inr r0, .inl x1, .inl x2] M ((eP M) b).1 ((eP M) b).2 := fun b hb =>
  PM.of (own := RX5) rfl (by decide +kernel) (Nat.le_of_ble_eq_true rfl) false (fun h => nomatch h) (s_X5_moveFault b hb)
/-! X5_moves: BarnPicturesModel.moves(IZ)I, kind I -/
abbrev rmX5_moves : Room := ({ frames := 2, cells := 0, slots := 0, locals := 43 })
abbrev kX5_moves : QK := (RX5, cX5_moves, 3, (some .int), [], false, rmX5_moves)
noncomputable def f_X5_moves_21 (r0 : QR) (s0 : QR) (s1 : Int32) (s2 : Int32) (M : QM) : Option (Int32 × QM) :=
  (sI M s0 s1 s2).bind fun m21 => 
    (qrc m21 r0 [4] (f_X5_inVan r0 m21)).bind fun v23 => 
    some (v23, m21)
theorem s_X5_moves_21 {l : Launch} {M0 : QM} : ∀ (r0 : QR) (s0 : QR) (s1 : Int32) (s2 : Int32) (d1 : Option QV) (d2 : Option QV) (M : QM) , SB eI l kX5_moves M0 (f_X5_moves_21 r0 s0 s1 s2 M) (0, 0) 21 M [some (.inr r0), d1, d2] [.inl s2, .inl s1, .inr s0] := by
  intro r0 s0 s1 s2 d1 d2 M
  unfold f_X5_moves_21
  refine r_iast (pc := 21) dX5_moves_21 (fun m21 => ?_)
  refine r_aload_n (pc := 22) dX5_moves_22 rfl ?_
  refine r_callV_P (st := []) (vs := []) (pc := 23)  ct_X5_inVan hc_4 cf_X5_45 rfl rfl (Nat.le_of_ble_eq_true rfl) (by decide +kernel) dX5_moves_23 (fun v23 => ?_)
  refine r_widen (u' := (0, 0)) (by decide +kernel) ?_
  exact r_iretI (pc := 26) dX5_moves_26 rfl (by decide +kernel)
noncomputable def f_X5_moves (r0 : QR) (x1 : Int32) (x2 : Int32) (M : QM) : Option (Int32 × QM) :=
  (gR M r0 [(4, 0)]).bind fun v1 => 
    if x2 = 0 then ((gR M r0 [(4, 0)]).bind fun v15 => 
      (aI M v15 (54 : Int32)).bind fun v20 => 
      f_X5_moves_21 r0 v1 x1 v20 M)
    else f_X5_moves_21 r0 v1 x1 (-10000005 : Int32) M
theorem s_X5_moves {l : Launch} {M0 : QM} {r0 : QR} {x1 : Int32} {x2 : Int32} {M : QM} : SB eI l kX5_moves M0 (f_X5_moves r0 x1 x2 M) (0, 0) 0 M [some (.inr r0), some (.inl x1), some (.inl x2)] [] := by
  unfold f_X5_moves
  refine r_aload_n (pc := 0) dX5_moves_0 rfl ?_
  refine r_getR (pc := 1)  gf_X5_7 dX5_moves_1 (fun v1 => ?_)
  refine r_iload_n (pc := 4) dX5_moves_4 rfl ?_
  refine r_iload_n (pc := 5) dX5_moves_5 rfl ?_
  refine r_if_eq (pc := 6) (tgt := 14) dX5_moves_6 (by decide) ?_ ?_
  · refine r_aload_n (pc := 14) dX5_moves_14 rfl ?_
    refine r_getR (pc := 15)  gf_X5_7 dX5_moves_15 (fun v15 => ?_)
    refine r_bipush (v := (54 : Int32)) (pc := 18) dX5_moves_18 (by decide) ?_
    refine r_iald (pc := 20) dX5_moves_20 (fun v20 => ?_)
    exact s_X5_moves_21  _ _ _ _ _ _ _
  refine r_ldc (pc := 9) dX5_moves_9 q1092 ?_
  refine r_goto (tgt := 21) (pc := 11) dX5_moves_11 (by decide) ?_
  exact s_X5_moves_21  _ _ _ _ _ _ _
theorem ct_X5_moves {l : Launch} {r0 : QR} {x1 : Int32} {x2 : Int32} {M : QM} : ∀ b, f_X5_moves r0 x1 x2 M = some b → PM l yX5_moves (ws_ yX5_moves cX5_moves 3 (some .int)) rmX5_moves [.inr r0, .inl x1, .inl x2] M (eI b).1 (eI b).2 := fun b hb =>
  PM.of (own := RX5) rfl (by decide +kernel) (Nat.le_of_ble_eq_true rfl) false (fun h => nomatch h) (s_X5_moves b hb)
/-! X5_movesIf: BarnPicturesModel.movesIf(ZIZ)I, kind I -/
abbrev rmX5_movesIf : Room := ({ frames := 3, cells := 0, slots := 0, locals := 65 })
abbrev kX5_movesIf : QK := (RX5, cX5_movesIf, 5, (some .int), [], false, rmX5_movesIf)
noncomputable def f_X5_movesIf_15 (r0 : QR) (x2 : Int32) (x3 : Int32) (s0 : Int32) (M : QM) : Option (Int32 × QM) :=
  if 0 ≤ s0 then ((qrc M r0 [4] (f_X5_know r0 M)).bind fun m26 => 
      qbI (qrc m26 r0 [4] (f_X5_moves r0 x2 x3 m26)) fun v32 m32 => 
      some (v32, m32))
    else some (s0, M)
theorem s_X5_movesIf_15 {l : Launch} {M0 : QM} : ∀ (r0 : QR) (x2 : Int32) (x3 : Int32) (s0 : Int32) (d1 : Option QV) (d4 : Option QV) (M : QM) , SB eI l kX5_movesIf M0 (f_X5_movesIf_15 r0 x2 x3 s0 M) (0, 0) 15 M [some (.inr r0), d1, some (.inl x2), some (.inl x3), d4] [.inl s0] := by
  intro r0 x2 x3 s0 d1 d4 M
  unfold f_X5_movesIf_15
  refine r_istore (pc := 15) dX5_movesIf_15 (by decide) rfl ?_
  refine r_iload (pc := 17) dX5_movesIf_17 rfl ?_
  refine r_if_ge (pc := 19) (tgt := 25) dX5_movesIf_19 (by decide) ?_ ?_
  · refine r_aload_n (pc := 25) dX5_movesIf_25 rfl ?_
    refine r_callV_V (st := []) (vs := []) (pc := 26)  ct_X5_know hc_4 cf_X5_83 rfl rfl (Nat.le_of_ble_eq_true rfl) (by decide +kernel) dX5_movesIf_26 (fun m26 => ?_)
    refine r_widen (u' := (0, 0)) (by decide +kernel) ?_
    refine r_aload_n (pc := 29) dX5_movesIf_29 rfl ?_
    refine r_iload_n (pc := 30) dX5_movesIf_30 rfl ?_
    refine r_iload_n (pc := 31) dX5_movesIf_31 rfl ?_
    refine r_callV_I (st := []) (vs := [.inl x2, .inl x3]) (pc := 32)  ct_X5_moves hc_4 cf_X5_93 rfl rfl (Nat.le_of_ble_eq_true rfl) (by decide +kernel) dX5_movesIf_32 (fun v32 m32 => ?_)
    refine r_widen (u' := (0, 0)) (by decide +kernel) ?_
    exact r_iretI (pc := 35) dX5_movesIf_35 rfl (by decide +kernel)
  refine r_iload (pc := 22) dX5_movesIf_22 rfl ?_
  exact r_iretI (pc := 24) dX5_movesIf_24 rfl (by decide +kernel)
noncomputable def f_X5_movesIf (r0 : QR) (x1 : Int32) (x2 : Int32) (x3 : Int32) (M : QM) : Option (Int32 × QM) :=
  if x1 = 0 then (f_X5_movesIf_15 r0 x2 x3 (-10000001 : Int32) M)
    else (qrc M r0 [4] (f_X5_moveFault r0 x2 x3 M)).bind fun v7 => 
    f_X5_movesIf_15 r0 x2 x3 v7 M
theorem s_X5_movesIf {l : Launch} {M0 : QM} {r0 : QR} {x1 : Int32} {x2 : Int32} {x3 : Int32} {M : QM} : SB eI l kX5_movesIf M0 (f_X5_movesIf r0 x1 x2 x3 M) (0, 0) 0 M [some (.inr r0), some (.inl x1), some (.inl x2), some (.inl x3), none] [] := by
  unfold f_X5_movesIf
  refine r_iload_n (pc := 0) dX5_movesIf_0 rfl ?_
  refine r_if_eq (pc := 1) (tgt := 13) dX5_movesIf_1 (by decide) ?_ ?_
  · refine r_ldc (pc := 13) dX5_movesIf_13 q1155 ?_
    exact s_X5_movesIf_15  _ _ _ _ _ _ _
  refine r_aload_n (pc := 4) dX5_movesIf_4 rfl ?_
  refine r_iload_n (pc := 5) dX5_movesIf_5 rfl ?_
  refine r_iload_n (pc := 6) dX5_movesIf_6 rfl ?_
  refine r_callV_P (st := []) (vs := [.inl x2, .inl x3]) (pc := 7)  ct_X5_moveFault hc_4 cf_X5_89 rfl rfl (Nat.le_of_ble_eq_true rfl) (by decide +kernel) dX5_movesIf_7 (fun v7 => ?_)
  refine r_widen (u' := (0, 0)) (by decide +kernel) ?_
  refine r_goto (tgt := 15) (pc := 10) dX5_movesIf_10 (by decide) ?_
  exact s_X5_movesIf_15  _ _ _ _ _ _ _
theorem ct_X5_movesIf {l : Launch} {r0 : QR} {x1 : Int32} {x2 : Int32} {x3 : Int32} {M : QM} : ∀ b, f_X5_movesIf r0 x1 x2 x3 M = some b → PM l yX5_movesIf (ws_ yX5_movesIf cX5_movesIf 5 (some .int)) rmX5_movesIf [.inr r0, .inl x1, .inl x2, .inl x3] M (eI b).1 (eI b).2 := fun b hb =>
  PM.of (own := RX5) rfl (by decide +kernel) (Nat.le_of_ble_eq_true rfl) false (fun h => nomatch h) (s_X5_movesIf b hb)
/-! X5_moveReel: BarnPicturesModel.moveReel(IZ)I, kind I -/
abbrev rmX5_moveReel : Room := ({ frames := 4, cells := 0, slots := 0, locals := 89 })
abbrev kX5_moveReel : QK := (RX5, cX5_moveReel, 4, (some .int), [], false, rmX5_moveReel)
noncomputable def f_X5_moveReel_21 (x2 : Int32) (s0 : QR) (s1 : Int32) (s2 : Int32) (M : QM) : Option (Int32 × QM) :=
  qbI (qrc M s0 [4] (f_X5_movesIf s0 s1 s2 x2 M)) fun v22 m22 => 
    some (v22, m22)
theorem s_X5_moveReel_21 {l : Launch} {M0 : QM} : ∀ (x2 : Int32) (s0 : QR) (s1 : Int32) (s2 : Int32) (d0 : Option QV) (d1 : Option QV) (d3 : Option QV) (M : QM) , SB eI l kX5_moveReel M0 (f_X5_moveReel_21 x2 s0 s1 s2 M) (0, 0) 21 M [d0, d1, some (.inl x2), d3] [.inl s2, .inl s1, .inr s0] := by
  intro x2 s0 s1 s2 d0 d1 d3 M
  unfold f_X5_moveReel_21
  refine r_iload_n (pc := 21) dX5_moveReel_21 rfl ?_
  refine r_callV_I (st := []) (vs := [.inl s1, .inl s2, .inl x2]) (pc := 22)  ct_X5_movesIf hc_4 cf_X5_99 rfl rfl (Nat.le_of_ble_eq_true rfl) (by decide +kernel) dX5_moveReel_22 (fun v22 m22 => ?_)
  refine r_widen (u' := (0, 0)) (by decide +kernel) ?_
  exact r_iretI (pc := 25) dX5_moveReel_25 rfl (by decide +kernel)
noncomputable def f_X5_moveReel (r0 : QR) (x1 : Int32) (x2 : Int32) (M : QM) : Option (Int32 × QM) :=
  (qrc M r0 [4] (f_X5_isReel r0 x1 M)).bind fun v2 => 
    if v2 = 0 then (f_X5_moveReel_21 x2 r0 v2 (0 : Int32) M)
    else (f_X5_of x1 (0 : Int32) M).bind fun v14 => 
    f_X5_moveReel_21 x2 r0 v2 v14 M
theorem s_X5_moveReel {l : Launch} {M0 : QM} {r0 : QR} {x1 : Int32} {x2 : Int32} {M : QM} : SB eI l kX5_moveReel M0 (f_X5_moveReel r0 x1 x2 M) (0, 0) 0 M [some (.inr r0), some (.inl x1), some (.inl x2), none] [] := by
  unfold f_X5_moveReel
  refine r_aload_n (pc := 0) dX5_moveReel_0 rfl ?_
  refine r_iload_n (pc := 1) dX5_moveReel_1 rfl ?_
  refine r_callV_P (st := []) (vs := [.inl x1]) (pc := 2)  ct_X5_isReel hc_4 cf_X5_96 rfl rfl (Nat.le_of_ble_eq_true rfl) (by decide +kernel) dX5_moveReel_2 (fun v2 => ?_)
  refine r_widen (u' := (0, 0)) (by decide +kernel) ?_
  refine r_istore_n (pc := 5) dX5_moveReel_5 (by decide) rfl ?_
  refine r_aload_n (pc := 6) dX5_moveReel_6 rfl ?_
  refine r_iload_n (pc := 7) dX5_moveReel_7 rfl ?_
  refine r_iload_n (pc := 8) dX5_moveReel_8 rfl ?_
  refine r_if_eq (pc := 9) (tgt := 20) dX5_moveReel_9 (by decide) ?_ ?_
  · refine r_iconst (v := (0 : Int32)) (pc := 20) dX5_moveReel_20 (by decide) ?_
    exact s_X5_moveReel_21  _ _ _ _ _ _ _ _
  refine r_iload_n (pc := 12) dX5_moveReel_12 rfl ?_
  refine r_iconst (v := (0 : Int32)) (pc := 13) dX5_moveReel_13 (by decide) ?_
  refine r_callS_P (st := [.inl v2, .inr r0]) (vs := [.inl x1, .inl (0 : Int32)]) (pc := 14)  ct_X5_of cf_X5_33 rfl rfl (Nat.le_of_ble_eq_true rfl) (by decide +kernel) dX5_moveReel_14 (fun v14 => ?_)
  refine r_widen (u' := (0, 0)) (by decide +kernel) ?_
  refine r_goto (tgt := 21) (pc := 17) dX5_moveReel_17 (by decide) ?_
  exact s_X5_moveReel_21  _ _ _ _ _ _ _ _
theorem ct_X5_moveReel {l : Launch} {r0 : QR} {x1 : Int32} {x2 : Int32} {M : QM} : ∀ b, f_X5_moveReel r0 x1 x2 M = some b → PM l yX5_moveReel (ws_ yX5_moveReel cX5_moveReel 4 (some .int)) rmX5_moveReel [.inr r0, .inl x1, .inl x2] M (eI b).1 (eI b).2 := fun b hb =>
  PM.of (own := RX5) rfl (by decide +kernel) (Nat.le_of_ble_eq_true rfl) false (fun h => nomatch h) (s_X5_moveReel b hb)
/-! X1_moveGenerator: BarnPictures$Tour.moveGenerator(IZ)I, kind XI -/
abbrev rmX1_moveGenerator : Room := ({ frames := 10, cells := 3, slots := 21, locals := 175 })
abbrev kX1_moveGenerator : QK := (RX1, cX1_moveGenerator, 3, (some .int), [], false, rmX1_moveGenerator)
noncomputable def f_X1_moveGenerator (r0 : QR) (x1 : Int32) (x2 : Int32) (M : QM) : Option ((Int32 ⊕ QN) × QM) :=
  (f_X0_inRange x1 (0 : Int32) (1 : Int32) M).bind fun v3 => 
    qbXV (f_X0_check v3 (-10000001 : Int32) M) (fun q8 m8 => some (.inr q8, m8)) fun m8 => 
    (gR m8 r0 [(1, 1)]).bind fun v13 => 
    (aR m8 v13 x1).bind fun v17 => 
    qbXI (qrc m8 r0 [1] (f_X1_move r0 v17 x2 m8)) (fun q19 m19 => some (.inr q19, m19)) fun v19 m19 => 
    some (.inl v19, m19)
theorem s_X1_moveGenerator {l : Launch} {M0 : QM} {r0 : QR} {x1 : Int32} {x2 : Int32} {M : QM} : SB eXI l kX1_moveGenerator M0 (f_X1_moveGenerator r0 x1 x2 M) (0, 0) 0 M [some (.inr r0), some (.inl x1), some (.inl x2)] [] := by
  unfold f_X1_moveGenerator
  refine r_iload_n (pc := 0) dX1_moveGenerator_0 rfl ?_
  refine r_iconst (v := (0 : Int32)) (pc := 1) dX1_moveGenerator_1 (by decide) ?_
  refine r_iconst (v := (1 : Int32)) (pc := 2) dX1_moveGenerator_2 (by decide) ?_
  refine r_callSN_P (st := []) (vs := [.inl x1, .inl (0 : Int32), .inl (1 : Int32)]) (pc := 3)  ct_X0_inRange cf_X1_79 rfl rfl (Nat.le_of_ble_eq_true rfl) (by decide +kernel) dX1_moveGenerator_3 (fun v3 => ?_)
  refine r_widen (u' := (0, 0)) (by decide +kernel) ?_
  refine r_ldc (pc := 6) dX1_moveGenerator_6 q309 ?_
  refine r_callSN_XV (st := []) (vs := [.inl v3, .inl (-10000001 : Int32)]) (pc := 8)  ct_X0_check cf_X1_127 rfl rfl (Nat.le_of_ble_eq_true rfl) (by decide +kernel) dX1_moveGenerator_8 (fun q8 m8 => ?_) (fun m8 => ?_)
  · refine x_widen (u' := (1, 7)) (by decide +kernel) ?_
    exact x_outI (by decide) (by decide +kernel)
  refine r_widen (u' := (1, 7)) (by decide +kernel) ?_
  refine r_aload_n (pc := 11) dX1_moveGenerator_11 rfl ?_
  refine r_aload_n (pc := 12) dX1_moveGenerator_12 rfl ?_
  refine r_getR (pc := 13)  gf_X1_19 dX1_moveGenerator_13 (fun v13 => ?_)
  refine r_iload_n (pc := 16) dX1_moveGenerator_16 rfl ?_
  refine r_aald (pc := 17) dX1_moveGenerator_17 (fun v17 => ?_)
  refine r_iload_n (pc := 18) dX1_moveGenerator_18 rfl ?_
  refine r_callV_XI (st := []) (vs := [.inr v17, .inl x2]) (pc := 19)  ct_X1_move hc_1 cf_X1_148 rfl rfl (Nat.le_of_ble_eq_true rfl) (by decide +kernel) dX1_moveGenerator_19 (fun q19 m19 => ?_) (fun v19 m19 => ?_)
  · refine x_widen (u' := (3, 21)) (by decide +kernel) ?_
    exact x_outI (by decide) (by decide +kernel)
  refine r_widen (u' := (3, 21)) (by decide +kernel) ?_
  exact r_iretX (pc := 22) dX1_moveGenerator_22 rfl (by decide +kernel)
theorem ct_X1_moveGenerator {l : Launch} {r0 : QR} {x1 : Int32} {x2 : Int32} {M : QM} : ∀ b, f_X1_moveGenerator r0 x1 x2 M = some b → PM l yX1_moveGenerator (ws_ yX1_moveGenerator cX1_moveGenerator 3 (some .int)) rmX1_moveGenerator [.inr r0, .inl x1, .inl x2] M (eXI b).1 (eXI b).2 := fun b hb =>
  PM.of (own := RX1) rfl (by decide +kernel) (Nat.le_of_ble_eq_true rfl) false (fun h => nomatch h) (s_X1_moveGenerator b hb)
/-! X0_moveGenerator: BarnPictures.moveGenerator(IZ)I, kind I -/
abbrev rmX0_moveGenerator : Room := ({ frames := 11, cells := 25, slots := 228, locals := 197 })
abbrev kX0_moveGenerator : QK := (RX0, cX0_moveGenerator, 5, (some .int), [(12, 23, 24, 8)], false, rmX0_moveGenerator)
noncomputable def f_X0_moveGenerator (r0 : QR) (x1 : Int32) (x2 : Int32) (M : QM) : Option (Int32 × QM) :=
  (nO M (M.1, 0) (.inl (1, fs_1))).bind fun m0 => 
    (gR m0 r0 [(0, 0)]).bind fun v5 => 
    (qnn (some (M.1, 0)) (f_X1_init_2 M.1 (some (M.1, 0)) v5 m0)).bind fun m8 => 
    qbXI (qrc m8 (some (M.1, 0)) [1] (f_X1_moveGenerator (some (M.1, 0)) x1 x2 m8)) (fun q17 m17 => if qcls m17 q17 = some 14 then ((qrc m17 (some q17) [14] (f_X7_code (some q17) m17)).bind fun v28 => 
        some (v28, m17))
      else none) fun v17 m17 => 
    qbI (qrc m17 r0 [0] (f_X0_accept r0 (some (M.1, 0)) v17 m17)) fun v20 m20 => 
    some (v20, m20)
theorem s_X0_moveGenerator {l : Launch} {M0 : QM} {r0 : QR} {x1 : Int32} {x2 : Int32} {M : QM} : SB eI l kX0_moveGenerator M0 (f_X0_moveGenerator r0 x1 x2 M) (0, 0) 0 M [some (.inr r0), some (.inl x1), some (.inl x2), none, none] [] := by
  unfold f_X0_moveGenerator
  refine r_new (pc := 0)  nf_X0_19 (by decide +kernel) dX0_moveGenerator_0 (fun m0 => ?_)
  refine r_widen (u' := (1, 14)) (by decide +kernel) ?_
  refine r_dup (pc := 3) dX0_moveGenerator_3 ?_
  refine r_aload_n (pc := 4) dX0_moveGenerator_4 rfl ?_
  refine r_getR (pc := 5)  gf_X0_22 dX0_moveGenerator_5 (fun v5 => ?_)
  refine r_callI_V (st := [.inr (some (M.1, 0))]) (vs := [.inr v5]) (pc := 8)  ct_X1_init_2 cf_X0_59 rfl rfl (Nat.le_of_ble_eq_true rfl) (by decide +kernel) dX0_moveGenerator_8 (fun m8 => ?_)
  refine r_widen (u' := (21, 143)) (by decide +kernel) ?_
  refine r_astore_n (pc := 11) dX0_moveGenerator_11 (by decide) rfl ?_
  refine r_aload_n (pc := 12) dX0_moveGenerator_12 rfl ?_
  refine r_aload_n (pc := 13) dX0_moveGenerator_13 rfl ?_
  refine r_aload_n (pc := 14) dX0_moveGenerator_14 rfl ?_
  refine r_iload_n (pc := 15) dX0_moveGenerator_15 rfl ?_
  refine r_iload_n (pc := 16) dX0_moveGenerator_16 rfl ?_
  refine r_callV_XI (st := [.inr (some (M.1, 0)), .inr r0]) (vs := [.inl x1, .inl x2]) (pc := 17)  ct_X1_moveGenerator hc_1 cf_X0_77 rfl rfl (Nat.le_of_ble_eq_true rfl) (by decide +kernel) dX0_moveGenerator_17 (fun q17 m17 => ?_) (fun v17 m17 => ?_)
  · refine x_widen (u' := (24, 164)) (by decide +kernel) ?_
    refine x_catch (ci := 14) (pc := 17) [] ⟨12, 23, 24, 8⟩ [] rfl rfl (fun z hz => nomatch hz) (by decide) (by decide) q283 (qnw_in q314 rfl) ?_ ?_
    · refine r_astore (pc := 24) dX0_moveGenerator_24 (by decide) rfl ?_
      refine r_aload (pc := 26) dX0_moveGenerator_26 rfl ?_
      refine r_callV_P (st := []) (vs := []) (pc := 28)  ct_X7_code hc_14 cf_X0_70 rfl rfl (Nat.le_of_ble_eq_true rfl) (by decide +kernel) dX0_moveGenerator_28 (fun v28 => ?_)
      refine r_widen (u' := (24, 164)) (by decide +kernel) ?_
      exact r_iretI (pc := 31) dX0_moveGenerator_31 rfl (by decide +kernel)
    exact x_none
  refine r_widen (u' := (24, 164)) (by decide +kernel) ?_
  refine r_callV_I (st := []) (vs := [.inr (some (M.1, 0)), .inl v17]) (pc := 20)  ct_X0_accept hc_0 cf_X0_66 rfl rfl (Nat.le_of_ble_eq_true rfl) (by decide +kernel) dX0_moveGenerator_20 (fun v20 m20 => ?_)
  refine r_widen (u' := (25, 228)) (by decide +kernel) ?_
  exact r_iretI (pc := 23) dX0_moveGenerator_23 rfl (by decide +kernel)
theorem ct_X0_moveGenerator {l : Launch} {r0 : QR} {x1 : Int32} {x2 : Int32} {M : QM} : ∀ b, f_X0_moveGenerator r0 x1 x2 M = some b → PM l yX0_moveGenerator (wsW_ yX0_moveGenerator cX0_moveGenerator 5 (some .int) [(12, 23, 24, 8)]) rmX0_moveGenerator [.inr r0, .inl x1, .inl x2] M (eI b).1 (eI b).2 := fun b hb =>
  PM.ofH (own := RX0) rfl (by decide +kernel) (Nat.le_of_ble_eq_true rfl) (s_X0_moveGenerator b hb)
/-! X5_isGenerator: BarnPicturesModel.isGenerator(I)Z, kind P -/
abbrev rmX5_isGenerator : Room := ({ frames := 1, cells := 0, slots := 0, locals := 22 })
abbrev kX5_isGenerator : QK := (RX5, cX5_isGenerator, 1, (some .boolean), [], false, rmX5_isGenerator)
noncomputable def f_X5_isGenerator (x0 : Int32) (M : QM) : Option (Int32) :=
  (f_X5_in x0 (0 : Int32) (1 : Int32) M).bind fun v3 => 
    qnar .boolean v3 (some v3)
theorem s_X5_isGenerator {l : Launch} {x0 : Int32} {M : QM} : SB (eP M) l kX5_isGenerator M (f_X5_isGenerator x0 M) (0, 0) 0 M [some (.inl x0)] [] := by
  unfold f_X5_isGenerator
  refine r_iload_n (pc := 0) dX5_isGenerator_0 rfl ?_
  refine r_iconst (v := (0 : Int32)) (pc := 1) dX5_isGenerator_1 (by decide) ?_
  refine r_iconst (v := (1 : Int32)) (pc := 2) dX5_isGenerator_2 (by decide) ?_
  refine r_callS_P (st := []) (vs := [.inl x0, .inl (0 : Int32), .inl (1 : Int32)]) (pc := 3)  ct_X5_in cf_X5_37 rfl rfl (Nat.le_of_ble_eq_true rfl) (by decide +kernel) dX5_isGenerator_3 (fun v3 => ?_)
  refine r_widen (u' := (0, 0)) (by decide +kernel) ?_
  exact r_nretP (pc := 6) dX5_isGenerator_6 rfl (by decide) (by decide +kernel)
theorem ct_X5_isGenerator {l : Launch} {x0 : Int32} {M : QM} : ∀ b, f_X5_isGenerator x0 M = some b → PM l yX5_isGenerator (ws_ yX5_isGenerator cX5_isGenerator 1 (some .boolean)) rmX5_isGenerator [.inl x0] M ((eP M) b).1 ((eP M) b).2 := fun b hb =>
  PM.of (own := RX5) rfl (by decide +kernel) (Nat.le_of_ble_eq_true rfl) false (fun h => nomatch h) (s_X5_isGenerator b hb)
/-! X5_moveGenerator: BarnPicturesModel.moveGenerator(IZ)I, kind I -/
abbrev rmX5_moveGenerator : Room := ({ frames := 4, cells := 0, slots := 0, locals := 89 })
abbrev kX5_moveGenerator : QK := (RX5, cX5_moveGenerator, 4, (some .int), [], false, rmX5_moveGenerator)
noncomputable def f_X5_moveGenerator_21 (x2 : Int32) (s0 : QR) (s1 : Int32) (s2 : Int32) (M : QM) : Option (Int32 × QM) :=
  qbI (qrc M s0 [4] (f_X5_movesIf s0 s1 s2 x2 M)) fun v22 m22 => 
    some (v22, m22)
theorem s_X5_moveGenerator_21 {l : Launch} {M0 : QM} : ∀ (x2 : Int32) (s0 : QR) (s1 : Int32) (s2 : Int32) (d0 : Option QV) (d1 : Option QV) (d3 : Option QV) (M : QM) , SB eI l kX5_moveGenerator M0 (f_X5_moveGenerator_21 x2 s0 s1 s2 M) (0, 0) 21 M [d0, d1, some (.inl x2), d3] [.inl s2, .inl s1, .inr s0] := by
  intro x2 s0 s1 s2 d0 d1 d3 M
  unfold f_X5_moveGenerator_21
  refine r_iload_n (pc := 21) dX5_moveGenerator_21 rfl ?_
  refine r_callV_I (st := []) (vs := [.inl s1, .inl s2, .inl x2]) (pc := 22)  ct_X5_movesIf hc_4 cf_X5_99 rfl rfl (Nat.le_of_ble_eq_true rfl) (by decide +kernel) dX5_moveGenerator_22 (fun v22 m22 => ?_)
  refine r_widen (u' := (0, 0)) (by decide +kernel) ?_
  exact r_iretI (pc := 25) dX5_moveGenerator_25 rfl (by decide +kernel)
noncomputable def f_X5_moveGenerator (r0 : QR) (x1 : Int32) (x2 : Int32) (M : QM) : Option (Int32 × QM) :=
  (f_X5_isGenerator x1 M).bind fun v1 => 
    f_X5_moveGenerator_21 x2 r0 v1 (if v1 = 0 then (0 : Int32) else ((50 : Int32) + ((2 : Int32) * x1))) M
theorem s_X5_moveGenerator {l : Launch} {M0 : QM} {r0 : QR} {x1 : Int32} {x2 : Int32} {M : QM} : SB eI l kX5_moveGenerator M0 (f_X5_moveGenerator r0 x1 x2 M) (0, 0) 0 M [some (.inr r0), some (.inl x1), some (.inl x2), none] [] := by
  unfold f_X5_moveGenerator
  refine r_iload_n (pc := 0) dX5_moveGenerator_0 rfl ?_
  refine r_callS_P (st := []) (vs := [.inl x1]) (pc := 1)  ct_X5_isGenerator cf_X5_54 rfl rfl (Nat.le_of_ble_eq_true rfl) (by decide +kernel) dX5_moveGenerator_1 (fun v1 => ?_)
  refine r_widen (u' := (0, 0)) (by decide +kernel) ?_
  refine r_istore_n (pc := 4) dX5_moveGenerator_4 (by decide) rfl ?_
  refine r_aload_n (pc := 5) dX5_moveGenerator_5 rfl ?_
  refine r_iload_n (pc := 6) dX5_moveGenerator_6 rfl ?_
  refine r_iload_n (pc := 7) dX5_moveGenerator_7 rfl ?_
  refine r_if_eqF (F := (fun (z9 : Int32) => f_X5_moveGenerator_21 x2 r0 v1 z9 M)) (zA := (0 : Int32)) (zB := ((50 : Int32) + ((2 : Int32) * x1))) (pc := 8) (tgt := 20) dX5_moveGenerator_8 (by decide) ?_ ?_
  · refine r_iconst (v := (0 : Int32)) (pc := 20) dX5_moveGenerator_20 (by decide) ?_
    exact s_X5_moveGenerator_21  _ _ _ _ _ _ _ _
  refine r_bipush (v := (50 : Int32)) (pc := 11) dX5_moveGenerator_11 (by decide) ?_
  refine r_iconst (v := (2 : Int32)) (pc := 13) dX5_moveGenerator_13 (by decide) ?_
  refine r_iload_n (pc := 14) dX5_moveGenerator_14 rfl ?_
  refine r_imul (pc := 15) dX5_moveGenerator_15 ?_
  refine r_iadd (pc := 16) dX5_moveGenerator_16 ?_
  refine r_goto (tgt := 21) (pc := 17) dX5_moveGenerator_17 (by decide) ?_
  exact s_X5_moveGenerator_21  _ _ _ _ _ _ _ _
theorem ct_X5_moveGenerator {l : Launch} {r0 : QR} {x1 : Int32} {x2 : Int32} {M : QM} : ∀ b, f_X5_moveGenerator r0 x1 x2 M = some b → PM l yX5_moveGenerator (ws_ yX5_moveGenerator cX5_moveGenerator 4 (some .int)) rmX5_moveGenerator [.inr r0, .inl x1, .inl x2] M (eI b).1 (eI b).2 := fun b hb =>
  PM.of (own := RX5) rfl (by decide +kernel) (Nat.le_of_ble_eq_true rfl) false (fun h => nomatch h) (s_X5_moveGenerator b hb)
