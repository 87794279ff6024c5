/-! methods as functions over the memory (printed by gen/run.py) -/
set_option maxRecDepth 100000
/-! X7_init: BarnPictures$Wrong.<init>(I)V, kind V -/
abbrev rmX7_init : Room := ({ frames := 6, cells := 0, slots := 0, locals := 88 })
abbrev kX7_init : QK := (RX7, cX7_init, 2, none, [], true, rmX7_init)
noncomputable def f_X7_init (r0 : QR) (x1 : Int32) (M : QM) : Option (QM) :=
  (qexc M r0 10).bind fun m1 => 
    (pF m1 r0 [(14, 0)] (.inl x1)).bind fun m6 => 
    some m6
theorem s_X7_init {l : Launch} {M0 : QM} {r0 : QR} {x1 : Int32} {M : QM} : SB eV l kX7_init M0 (f_X7_init r0 x1 M) (0, 0) 0 M [some (.inr r0), some (.inl x1)] [] := by
  unfold f_X7_init
  refine r_aload_n (pc := 0) dX7_init_0 rfl ?_
  refine r_exc (ci := 10) (pc := 1) rfl exf_10 (by decide +kernel) dX7_init_1 (fun m1 => ?_)
  refine r_aload_n (pc := 4) dX7_init_4 rfl ?_
  refine r_iload_n (pc := 5) dX7_init_5 rfl ?_
  refine r_put (pc := 6)  pf_X7_7 (fun _ => rfl) (fit_int _) dX7_init_6 (fun m6 => ?_)
  exact r_vretV (pc := 9) dX7_init_9 rfl (by decide +kernel)
theorem ct_X7_init {l : Launch} {r0 : QR} {x1 : Int32} {M : QM} : ∀ b, f_X7_init r0 x1 M = some b → PM l yX7_init (ws_ yX7_init cX7_init 2 none) rmX7_init [.inr r0, .inl x1] M (eV b).1 (eV b).2 := fun b hb =>
  PM.of (own := RX7) rfl (by decide +kernel) (Nat.le_of_ble_eq_true rfl) true (fun h => rfl) (s_X7_init b hb)
/-! X0_check: BarnPictures.check(ZI)V, kind XV -/
abbrev rmX0_check : Room := ({ frames := 7, cells := 1, slots := 7, locals := 109 })
abbrev kX0_check : QK := (RX0, cX0_check, 2, none, [], false, rmX0_check)
noncomputable def f_X0_check (x0 : Int32) (x1 : Int32) (M : QM) : Option ((Unit ⊕ QN) × QM) :=
  if x0 = 0 then ((nO M (M.1, 0) (.inr (.inr (.inr (some (10, fs_10)))))).bind fun m4 => 
      (qnn (some (M.1, 0)) (f_X7_init (some (M.1, 0)) x1 m4)).bind fun m9 => 
      qthr m9 (some (M.1, 0)) fun q12 => some (.inr q12, m9))
    else some (.inl (), M)
theorem s_X0_check {l : Launch} {M0 : QM} {x0 : Int32} {x1 : Int32} {M : QM} : SB eXV l kX0_check M0 (f_X0_check x0 x1 M) (0, 0) 0 M [some (.inl x0), some (.inl x1)] [] := by
  unfold f_X0_check
  refine r_iload_n (pc := 0) dX0_check_0 rfl ?_
  refine r_if_ne (pc := 1) (tgt := 13) dX0_check_1 (by decide) ?_ ?_
  · exact r_vretX (pc := 13) dX0_check_13 rfl (by decide +kernel)
  refine r_newF (pc := 4)  nf_X0_8 (by decide +kernel) dX0_check_4 (fun m4 => ?_)
  refine r_widen (u' := (1, 7)) (by decide +kernel) ?_
  refine r_dup (pc := 7) dX0_check_7 ?_
  refine r_iload_n (pc := 8) dX0_check_8 rfl ?_
  refine r_callI_V (st := [.inr (some (M.1, 0))]) (vs := [.inl x1]) (pc := 9)  ct_X7_init cf_X0_10 rfl rfl (Nat.le_of_ble_eq_true rfl) (by decide +kernel) dX0_check_9 (fun m9 => ?_)
  refine r_widen (u' := (1, 7)) (by decide +kernel) ?_
  refine r_athrow (pc := 12) dX0_check_12 (fun q12 => ?_)
  exact x_outV (by decide) (by decide +kernel)
theorem ct_X0_check {l : Launch} {x0 : Int32} {x1 : Int32} {M : QM} : ∀ b, f_X0_check x0 x1 M = some b → PM l yX0_check (ws_ yX0_check cX0_check 2 none) rmX0_check [.inl x0, .inl x1] M (eXV b).1 (eXV b).2 := fun b hb =>
  PM.of (own := RX0) rfl (by decide +kernel) (Nat.le_of_ble_eq_true rfl) false (fun h => nomatch h) (s_X0_check b hb)
/-! X0_pick: BarnPictures.pick(I[I)I, kind P -/
abbrev rmX0_pick : Room := ({ frames := 0, cells := 0, slots := 0, locals := 0 })
abbrev kX0_pick : QK := (RX0, cX0_pick, 2, (some .int), [], false, rmX0_pick)
noncomputable def f_X0_pick (x0 : Int32) (r1 : QR) (M : QM) : Option (Int32) :=
  if x0 < 0 then (some (-10000002 : Int32))
    else (aL M r1).bind fun v6 => 
    if v6 ≤ x0 then (some (-10000002 : Int32))
    else (aI M r1 x0).bind fun v12 => 
    some v12
theorem s_X0_pick {l : Launch} {x0 : Int32} {r1 : QR} {M : QM} : SB (eP M) l kX0_pick M (f_X0_pick x0 r1 M) (0, 0) 0 M [some (.inl x0), some (.inr r1)] [] := by
  unfold f_X0_pick
  refine r_iload_n (pc := 0) dX0_pick_0 rfl ?_
  refine r_if_lt (pc := 1) (tgt := 16) dX0_pick_1 (by decide) ?_ ?_
  · refine r_ldc (pc := 16) dX0_pick_16 q384 ?_
    exact r_iretP (pc := 18) dX0_pick_18 rfl (by decide +kernel)
  refine r_iload_n (pc := 4) dX0_pick_4 rfl ?_
  refine r_aload_n (pc := 5) dX0_pick_5 rfl ?_
  refine r_alen (pc := 6) dX0_pick_6 (fun v6 => ?_)
  refine r_icmp_ge (pc := 7) (tgt := 16) dX0_pick_7 (by decide) ?_ ?_
  · refine r_ldc (pc := 16) dX0_pick_16 q384 ?_
    exact r_iretP (pc := 18) dX0_pick_18 rfl (by decide +kernel)
  refine r_aload_n (pc := 10) dX0_pick_10 rfl ?_
  refine r_iload_n (pc := 11) dX0_pick_11 rfl ?_
  refine r_iald (pc := 12) dX0_pick_12 (fun v12 => ?_)
  refine r_goto (tgt := 18) (pc := 13) dX0_pick_13 (by decide) ?_
  exact r_iretP (pc := 18) dX0_pick_18 rfl (by decide +kernel)
theorem ct_X0_pick {l : Launch} {x0 : Int32} {r1 : QR} {M : QM} : ∀ b, f_X0_pick x0 r1 M = some b → PM l yX0_pick (ws_ yX0_pick cX0_pick 2 (some .int)) rmX0_pick [.inl x0, .inr r1] M ((eP M) b).1 ((eP M) b).2 := fun b hb =>
  PM.of (own := RX0) rfl (by decide +kernel) (Nat.le_of_ble_eq_true rfl) false (fun h => nomatch h) (s_X0_pick b hb)
/-! X0_mileOf: BarnPictures.mileOf(I)I, kind PP -/
abbrev rmX0_mileOf : Room := ({ frames := 1, cells := 1, slots := 5, locals := 21 })
abbrev kX0_mileOf : QK := (RX0, cX0_mileOf, 1, (some .int), [], false, rmX0_mileOf)
noncomputable def f_X0_mileOf (x0 : Int32) (M : QM) : Option (Int32) :=
  (nAi M (M.1, 0) 0 (5 : Int32) 5).bind fun m2 => 
    (sI m2 (some (M.1, 0)) (0 : Int32) (0 : Int32)).bind fun m7 => 
    (sI m7 (some (M.1, 0)) (1 : Int32) (8 : Int32)).bind fun m12 => 
    (sI m12 (some (M.1, 0)) (2 : Int32) (20 : Int32)).bind fun m17 => 
    (sI m17 (some (M.1, 0)) (3 : Int32) (26 : Int32)).bind fun m22 => 
    (sI m22 (some (M.1, 0)) (4 : Int32) (45 : Int32)).bind fun m27 => 
    (f_X0_pick x0 (some (M.1, 0)) m27).bind fun v28 => 
    qpure M m27 v28
theorem s_X0_mileOf {l : Launch} {x0 : Int32} {M : QM} : SB (eP M) l kX0_mileOf M (f_X0_mileOf x0 M) (0, 0) 0 M [some (.inl x0)] [] := by
  unfold f_X0_mileOf
  refine r_iload_n (pc := 0) dX0_mileOf_0 rfl ?_
  refine r_iconst (v := (5 : Int32)) (pc := 1) dX0_mileOf_1 (by decide) ?_
  refine r_newI (pc := 2)  (B := 5) (by decide +kernel) dX0_mileOf_2 (fun m2 => ?_)
  refine r_widen (u' := (1, 5)) (by decide +kernel) ?_
  refine r_dup (pc := 4) dX0_mileOf_4 ?_
  refine r_iconst (v := (0 : Int32)) (pc := 5) dX0_mileOf_5 (by decide) ?_
  refine r_iconst (v := (0 : Int32)) (pc := 6) dX0_mileOf_6 (by decide) ?_
  refine r_iast (pc := 7) dX0_mileOf_7 (fun m7 => ?_)
  refine r_dup (pc := 8) dX0_mileOf_8 ?_
  refine r_iconst (v := (1 : Int32)) (pc := 9) dX0_mileOf_9 (by decide) ?_
  refine r_bipush (v := (8 : Int32)) (pc := 10) dX0_mileOf_10 (by decide) ?_
  refine r_iast (pc := 12) dX0_mileOf_12 (fun m12 => ?_)
  refine r_dup (pc := 13) dX0_mileOf_13 ?_
  refine r_iconst (v := (2 : Int32)) (pc := 14) dX0_mileOf_14 (by decide) ?_
  refine r_bipush (v := (20 : Int32)) (pc := 15) dX0_mileOf_15 (by decide) ?_
  refine r_iast (pc := 17) dX0_mileOf_17 (fun m17 => ?_)
  refine r_dup (pc := 18) dX0_mileOf_18 ?_
  refine r_iconst (v := (3 : Int32)) (pc := 19) dX0_mileOf_19 (by decide) ?_
  refine r_bipush (v := (26 : Int32)) (pc := 20) dX0_mileOf_20 (by decide) ?_
  refine r_iast (pc := 22) dX0_mileOf_22 (fun m22 => ?_)
  refine r_dup (pc := 23) dX0_mileOf_23 ?_
  refine r_iconst (v := (4 : Int32)) (pc := 24) dX0_mileOf_24 (by decide) ?_
  refine r_bipush (v := (45 : Int32)) (pc := 25) dX0_mileOf_25 (by decide) ?_
  refine r_iast (pc := 27) dX0_mileOf_27 (fun m27 => ?_)
  refine r_callS_P (st := []) (vs := [.inl x0, .inr (some (M.1, 0))]) (pc := 28)  ct_X0_pick cf_X0_4 rfl rfl (Nat.le_of_ble_eq_true rfl) (by decide +kernel) dX0_mileOf_28 (fun v28 => ?_)
  refine r_widen (u' := (1, 5)) (by decide +kernel) ?_
  exact r_iretPP (pc := 31) dX0_mileOf_31 rfl (by decide +kernel)
theorem ct_X0_mileOf {l : Launch} {x0 : Int32} {M : QM} : ∀ b, f_X0_mileOf x0 M = some b → PM l yX0_mileOf (ws_ yX0_mileOf cX0_mileOf 1 (some .int)) rmX0_mileOf [.inl x0] M ((eP M) b).1 ((eP M) b).2 := fun b hb =>
  PM.of (own := RX0) rfl (by decide +kernel) (Nat.le_of_ble_eq_true rfl) false (fun h => nomatch h) (s_X0_mileOf b hb)
/-! X1_drive: BarnPictures$Tour.drive(I)I, kind XI -/
abbrev rmX1_drive : Room := ({ frames := 8, cells := 3, slots := 17, locals := 130 })
abbrev kX1_drive : QK := (RX1, cX1_drive, 3, (some .int), [], false, rmX1_drive)
noncomputable def f_X1_drive (r0 : QR) (x1 : Int32) (M : QM) : Option ((Int32 ⊕ QN) × QM) :=
  (f_X0_inRange x1 (0 : Int32) (4 : Int32) M).bind fun v3 => 
    qbXV (f_X0_check v3 (-10000001 : Int32) M) (fun q8 m8 => some (.inr q8, m8)) fun m8 => 
    (f_X0_mileOf x1 m8).bind fun v12 => 
    (gI m8 r0 [(1, 6)]).bind fun v16 => 
    (f_X0_mileOf v16 m8).bind fun v19 => 
    (gI m8 r0 [(1, 6)]).bind fun v29 => 
    if x1 = v29 then (some (.inl (-10000005 : Int32), m8))
    else (pF m8 r0 [(1, 6)] (.inl x1)).bind fun m40 => 
    (gI m40 r0 [(1, 9)]).bind fun v45 => 
    (pF m40 r0 [(1, 9)] (.inl (v45 + (if 0 ≤ (v12 - v19) then (v12 - v19) else 0 - (v12 - v19))))).bind fun m50 => 
    some (.inl (if 0 ≤ (v12 - v19) then (v12 - v19) else 0 - (v12 - v19)), m50)
theorem s_X1_drive {l : Launch} {M0 : QM} {r0 : QR} {x1 : Int32} {M : QM} : SB eXI l kX1_drive M0 (f_X1_drive r0 x1 M) (0, 0) 0 M [some (.inr r0), some (.inl x1), none] [] := by
  unfold f_X1_drive
  refine r_iload_n (pc := 0) dX1_drive_0 rfl ?_
  refine r_iconst (v := (0 : Int32)) (pc := 1) dX1_drive_1 (by decide) ?_
  refine r_iconst (v := (4 : Int32)) (pc := 2) dX1_drive_2 (by decide) ?_
  refine r_callSN_P (st := []) (vs := [.inl x1, .inl (0 : Int32), .inl (4 : Int32)]) (pc := 3)  ct_X0_inRange cf_X1_79 rfl rfl (Nat.le_of_ble_eq_true rfl) (by decide +kernel) dX1_drive_3 (fun v3 => ?_)
  refine r_widen (u' := (0, 0)) (by decide +kernel) ?_
  refine r_ldc (pc := 6) dX1_drive_6 q309 ?_
  refine r_callSN_XV (st := []) (vs := [.inl v3, .inl (-10000001 : Int32)]) (pc := 8)  ct_X0_check cf_X1_127 rfl rfl (Nat.le_of_ble_eq_true rfl) (by decide +kernel) dX1_drive_8 (fun q8 m8 => ?_) (fun m8 => ?_)
  · refine x_widen (u' := (1, 7)) (by decide +kernel) ?_
    exact x_outI (by decide) (by decide +kernel)
  refine r_widen (u' := (1, 7)) (by decide +kernel) ?_
  refine r_iload_n (pc := 11) dX1_drive_11 rfl ?_
  refine r_callSN_P (st := []) (vs := [.inl x1]) (pc := 12)  ct_X0_mileOf cf_X1_131 rfl rfl (Nat.le_of_ble_eq_true rfl) (by decide +kernel) dX1_drive_12 (fun v12 => ?_)
  refine r_widen (u' := (2, 12)) (by decide +kernel) ?_
  refine r_aload_n (pc := 15) dX1_drive_15 rfl ?_
  refine r_getI (pc := 16)  gf_X1_58 dX1_drive_16 (fun v16 => ?_)
  refine r_callSN_P (st := [.inl v12]) (vs := [.inl v16]) (pc := 19)  ct_X0_mileOf cf_X1_131 rfl rfl (Nat.le_of_ble_eq_true rfl) (by decide +kernel) dX1_drive_19 (fun v19 => ?_)
  refine r_widen (u' := (3, 17)) (by decide +kernel) ?_
  refine r_isub (pc := 22) dX1_drive_22 ?_
  refine r_mabs (pc := 23)  ⟨q385, q386, q64, q387⟩ ⟨⟨Nat.le_of_ble_eq_true rfl, Nat.le_of_ble_eq_true rfl⟩, (by decide +kernel)⟩ dX1_drive_23 ?_
  refine r_istore_n (pc := 26) dX1_drive_26 (by decide) rfl ?_
  refine r_iload_n (pc := 27) dX1_drive_27 rfl ?_
  refine r_aload_n (pc := 28) dX1_drive_28 rfl ?_
  refine r_getI (pc := 29)  gf_X1_58 dX1_drive_29 (fun v29 => ?_)
  refine r_icmp_ne (pc := 32) (tgt := 38) dX1_drive_32 (by decide) ?_ ?_
  · refine r_aload_n (pc := 38) dX1_drive_38 rfl ?_
    refine r_iload_n (pc := 39) dX1_drive_39 rfl ?_
    refine r_put (pc := 40)  pf_X1_58 (fun h => nomatch h) (fit_int _) dX1_drive_40 (fun m40 => ?_)
    refine r_aload_n (pc := 43) dX1_drive_43 rfl ?_
    refine r_dup (pc := 44) dX1_drive_44 ?_
    refine r_getI (pc := 45)  gf_X1_64 dX1_drive_45 (fun v45 => ?_)
    refine r_iload_n (pc := 48) dX1_drive_48 rfl ?_
    refine r_iadd (pc := 49) dX1_drive_49 ?_
    refine r_put (pc := 50)  pf_X1_64 (fun h => nomatch h) (fit_int _) dX1_drive_50 (fun m50 => ?_)
    refine r_iload_n (pc := 53) dX1_drive_53 rfl ?_
    exact r_iretX (pc := 54) dX1_drive_54 rfl (by decide +kernel)
  refine r_ldc (pc := 35) dX1_drive_35 q146 ?_
  exact r_iretX (pc := 37) dX1_drive_37 rfl (by decide +kernel)
theorem ct_X1_drive {l : Launch} {r0 : QR} {x1 : Int32} {M : QM} : ∀ b, f_X1_drive r0 x1 M = some b → PM l yX1_drive (ws_ yX1_drive cX1_drive 3 (some .int)) rmX1_drive [.inr r0, .inl x1] M (eXI b).1 (eXI b).2 := fun b hb =>
  PM.of (own := RX1) rfl (by decide +kernel) (Nat.le_of_ble_eq_true rfl) false (fun h => nomatch h) (s_X1_drive b hb)
/-! J2_size: java/util/ArrayList.size()I, kind P -/
abbrev rmJ2_size : Room := ({ frames := 0, cells := 0, slots := 0, locals := 0 })
abbrev kJ2_size : QK := (RJ2, cJ2_size, 1, (some .int), [], false, rmJ2_size)
noncomputable def f_J2_size (r0 : QR) (M : QM) : Option (Int32) :=
  (gI M r0 [(7, 2)]).bind fun v1 => 
    some v1
theorem s_J2_size {l : Launch} {r0 : QR} {M : QM} : SB (eP M) l kJ2_size M (f_J2_size r0 M) (0, 0) 0 M [some (.inr r0)] [] := by
  unfold f_J2_size
  refine r_aload_n (pc := 0) dJ2_size_0 rfl ?_
  refine r_getI (pc := 1)  gf_J2_48 dJ2_size_1 (fun v1 => ?_)
  exact r_iretP (pc := 4) dJ2_size_4 rfl (by decide +kernel)
theorem ct_J2_size {l : Launch} {r0 : QR} {M : QM} : ∀ b, f_J2_size r0 M = some b → PM l yJ2_size (ws_ yJ2_size cJ2_size 1 (some .int)) rmJ2_size [.inr r0] M ((eP M) b).1 ((eP M) b).2 := fun b hb =>
  PM.of (own := RJ2) rfl (by decide +kernel) (Nat.le_of_ble_eq_true rfl) false (fun h => nomatch h) (s_J2_size b hb)
/-! J11_checkIndex: jdk/internal/util/Preconditions.checkIndex(IILjava/util/function/BiFunction;)I, kind P -/
abbrev rmJ11_checkIndex : Room := ({ frames := 0, cells := 0, slots := 0, locals := 0 })
abbrev kJ11_checkIndex : QK := (RJ11, cJ11_checkIndex, 3, (some .int), [], false, rmJ11_checkIndex)
noncomputable def f_J11_checkIndex_9 (M : QM) (x0 : Int32) (x1 : Int32) (r2 : QR) : Option (Int32) :=
  none
theorem s_J11_checkIndex_9 {l : Launch} (M : QM) : ∀ (x0 : Int32) (x1 : Int32) (r2 : QR) , SB (eP M) l kJ11_checkIndex M (f_J11_checkIndex_9 M x0 x1 r2) (0, 0) 9 M [some (.inl x0), some (.inl x1), some (.inr r2)] [] := by
  intro x0 x1 r2
  unfold f_J11_checkIndex_9
  refine r_aload_n (pc := 9) dJ11_checkIndex_9 rfl ?_
  refine r_iload_n (pc := 10) dJ11_checkIndex_10 rfl ?_
  refine r_iload_n (pc := 11) dJ11_checkIndex_11 rfl ?_
  exact r_none
noncomputable def f_J11_checkIndex (x0 : Int32) (x1 : Int32) (r2 : QR) (M : QM) : Option (Int32) :=
  if x0 < 0 then (f_J11_checkIndex_9 M x0 x1 r2)
    else if x0 < x1 then (some x0)
    else f_J11_checkIndex_9 M x0 x1 r2
theorem s_J11_checkIndex {l : Launch} {x0 : Int32} {x1 : Int32} {r2 : QR} {M : QM} : SB (eP M) l kJ11_checkIndex M (f_J11_checkIndex x0 x1 r2 M) (0, 0) 0 M [some (.inl x0), some (.inl x1), some (.inr r2)] [] := by
  unfold f_J11_checkIndex
  refine r_iload_n (pc := 0) dJ11_checkIndex_0 rfl ?_
  refine r_if_lt (pc := 1) (tgt := 9) dJ11_checkIndex_1 (by decide) ?_ ?_
  · exact s_J11_checkIndex_9 M _ _ _
  refine r_iload_n (pc := 4) dJ11_checkIndex_4 rfl ?_
  refine r_iload_n (pc := 5) dJ11_checkIndex_5 rfl ?_
  refine r_icmp_lt (pc := 6) (tgt := 16) dJ11_checkIndex_6 (by decide) ?_ ?_
  · refine r_iload_n (pc := 16) dJ11_checkIndex_16 rfl ?_
    exact r_iretP (pc := 17) dJ11_checkIndex_17 rfl (by decide +kernel)
  exact s_J11_checkIndex_9 M _ _ _
theorem ct_J11_checkIndex {l : Launch} {x0 : Int32} {x1 : Int32} {r2 : QR} {M : QM} : ∀ b, f_J11_checkIndex x0 x1 r2 M = some b → PM l yJ11_checkIndex (ws_ yJ11_checkIndex cJ11_checkIndex 3 (some .int)) rmJ11_checkIndex [.inl x0, .inl x1, .inr r2] M ((eP M) b).1 ((eP M) b).2 := fun b hb =>
  PM.of (own := RJ11) rfl (by decide +kernel) (Nat.le_of_ble_eq_true rfl) false (fun h => nomatch h) (s_J11_checkIndex b hb)
/-! J10_checkIndex: java/util/Objects.checkIndex(II)I, kind P -/
abbrev rmJ10_checkIndex : Room := ({ frames := 1, cells := 0, slots := 0, locals := 22 })
abbrev kJ10_checkIndex : QK := (RJ10, cJ10_checkIndex, 2, (some .int), [], false, rmJ10_checkIndex)
noncomputable def f_J10_checkIndex (x0 : Int32) (x1 : Int32) (M : QM) : Option (Int32) :=
  (f_J11_checkIndex x0 x1 none M).bind fun v3 => 
    some v3
theorem s_J10_checkIndex {l : Launch} {x0 : Int32} {x1 : Int32} {M : QM} : SB (eP M) l kJ10_checkIndex M (f_J10_checkIndex x0 x1 M) (0, 0) 0 M [some (.inl x0), some (.inl x1)] [] := by
  unfold f_J10_checkIndex
  refine r_iload_n (pc := 0) dJ10_checkIndex_0 rfl ?_
  refine r_iload_n (pc := 1) dJ10_checkIndex_1 rfl ?_
  refine r_null (pc := 2) dJ10_checkIndex_2 ?_
  refine r_callS_P (st := []) (vs := [.inl x0, .inl x1, .inr none]) (pc := 3)  ct_J11_checkIndex cf_J10_105 rfl rfl (Nat.le_of_ble_eq_true rfl) (by decide +kernel) dJ10_checkIndex_3 (fun v3 => ?_)
  refine r_widen (u' := (0, 0)) (by decide +kernel) ?_
  exact r_iretP (pc := 6) dJ10_checkIndex_6 rfl (by decide +kernel)
theorem ct_J10_checkIndex {l : Launch} {x0 : Int32} {x1 : Int32} {M : QM} : ∀ b, f_J10_checkIndex x0 x1 M = some b → PM l yJ10_checkIndex (ws_ yJ10_checkIndex cJ10_checkIndex 2 (some .int)) rmJ10_checkIndex [.inl x0, .inl x1] M ((eP M) b).1 ((eP M) b).2 := fun b hb =>
  PM.of (own := RJ10) rfl (by decide +kernel) (Nat.le_of_ble_eq_true rfl) false (fun h => nomatch h) (s_J10_checkIndex b hb)
/-! J2_fastRemove: java/util/ArrayList.fastRemove([Ljava/lang/Object;I)V, kind V -/
abbrev rmJ2_fastRemove : Room := ({ frames := 1, cells := 0, slots := 0, locals := 40 })
abbrev kJ2_fastRemove : QK := (RJ2, cJ2_fastRemove, 4, none, [], false, rmJ2_fastRemove)
noncomputable def f_J2_fastRemove_34 (r0 : QR) (r1 : QR) (x3 : Int32) (M : QM) : Option (QM) :=
  (pF M r0 [(7, 2)] (.inl x3)).bind fun m38 => 
    (sR m38 r1 x3 none).bind fun m42 => 
    some m42
theorem s_J2_fastRemove_34 {l : Launch} {M0 : QM} : ∀ (r0 : QR) (r1 : QR) (x3 : Int32) (d2 : Option QV) (M : QM) , SB eV l kJ2_fastRemove M0 (f_J2_fastRemove_34 r0 r1 x3 M) (0, 0) 34 M [some (.inr r0), some (.inr r1), d2, some (.inl x3)] [] := by
  intro r0 r1 x3 d2 M
  unfold f_J2_fastRemove_34
  refine r_aload_n (pc := 34) dJ2_fastRemove_34 rfl ?_
  refine r_aload_n (pc := 35) dJ2_fastRemove_35 rfl ?_
  refine r_iload_n (pc := 36) dJ2_fastRemove_36 rfl ?_
  refine r_dup_x1 (pc := 37) dJ2_fastRemove_37 ?_
  refine r_put (pc := 38)  pf_J2_48 (fun h => nomatch h) (fit_int _) dJ2_fastRemove_38 (fun m38 => ?_)
  refine r_null (pc := 41) dJ2_fastRemove_41 ?_
  refine r_aast (pc := 42) dJ2_fastRemove_42 (fun m42 => ?_)
  exact r_vretV (pc := 43) dJ2_fastRemove_43 rfl (by decide +kernel)
noncomputable def f_J2_fastRemove (r0 : QR) (r1 : QR) (x2 : Int32) (M : QM) : Option (QM) :=
  (gI M r0 [(7, 0)]).bind fun v2 => 
    (pF M r0 [(7, 0)] (.inl (v2 + (1 : Int32)))).bind fun m7 => 
    (gI m7 r0 [(7, 2)]).bind fun v11 => 
    if (v11 - (1 : Int32)) ≤ x2 then (f_J2_fastRemove_34 r0 r1 (v11 - (1 : Int32)) m7)
    else (cpR m7 r1 (x2 + (1 : Int32)) r1 x2 ((v11 - (1 : Int32)) - x2)).bind fun m31 => 
    f_J2_fastRemove_34 r0 r1 (v11 - (1 : Int32)) m31
theorem s_J2_fastRemove {l : Launch} {M0 : QM} {r0 : QR} {r1 : QR} {x2 : Int32} {M : QM} : SB eV l kJ2_fastRemove M0 (f_J2_fastRemove r0 r1 x2 M) (0, 0) 0 M [some (.inr r0), some (.inr r1), some (.inl x2), none] [] := by
  unfold f_J2_fastRemove
  refine r_aload_n (pc := 0) dJ2_fastRemove_0 rfl ?_
  refine r_dup (pc := 1) dJ2_fastRemove_1 ?_
  refine r_getI (pc := 2)  gf_J2_63 dJ2_fastRemove_2 (fun v2 => ?_)
  refine r_iconst (v := (1 : Int32)) (pc := 5) dJ2_fastRemove_5 (by decide) ?_
  refine r_iadd (pc := 6) dJ2_fastRemove_6 ?_
  refine r_put (pc := 7)  pf_J2_63 (fun h => nomatch h) (fit_int _) dJ2_fastRemove_7 (fun m7 => ?_)
  refine r_aload_n (pc := 10) dJ2_fastRemove_10 rfl ?_
  refine r_getI (pc := 11)  gf_J2_48 dJ2_fastRemove_11 (fun v11 => ?_)
  refine r_iconst (v := (1 : Int32)) (pc := 14) dJ2_fastRemove_14 (by decide) ?_
  refine r_isub (pc := 15) dJ2_fastRemove_15 ?_
  refine r_dup (pc := 16) dJ2_fastRemove_16 ?_
  refine r_istore_n (pc := 17) dJ2_fastRemove_17 (by decide) rfl ?_
  refine r_iload_n (pc := 18) dJ2_fastRemove_18 rfl ?_
  refine r_icmp_le (pc := 19) (tgt := 34) dJ2_fastRemove_19 (by decide) ?_ ?_
  · exact s_J2_fastRemove_34  _ _ _ _ _
  refine r_aload_n (pc := 22) dJ2_fastRemove_22 rfl ?_
  refine r_iload_n (pc := 23) dJ2_fastRemove_23 rfl ?_
  refine r_iconst (v := (1 : Int32)) (pc := 24) dJ2_fastRemove_24 (by decide) ?_
  refine r_iadd (pc := 25) dJ2_fastRemove_25 ?_
  refine r_aload_n (pc := 26) dJ2_fastRemove_26 rfl ?_
  refine r_iload_n (pc := 27) dJ2_fastRemove_27 rfl ?_
  refine r_iload_n (pc := 28) dJ2_fastRemove_28 rfl ?_
  refine r_iload_n (pc := 29) dJ2_fastRemove_29 rfl ?_
  refine r_isub (pc := 30) dJ2_fastRemove_30 ?_
  refine r_cpR (pc := 31)  ⟨⟨q422, q301, q300, q59⟩, Nat.le_of_ble_eq_true rfl, Nat.le_of_ble_eq_true rfl⟩ dJ2_fastRemove_31 (fun m31 => ?_)
  exact s_J2_fastRemove_34  _ _ _ _ _
theorem ct_J2_fastRemove {l : Launch} {r0 : QR} {r1 : QR} {x2 : Int32} {M : QM} : ∀ b, f_J2_fastRemove r0 r1 x2 M = some b → PM l yJ2_fastRemove (ws_ yJ2_fastRemove cJ2_fastRemove 4 none) rmJ2_fastRemove [.inr r0, .inr r1, .inl x2] M (eV b).1 (eV b).2 := fun b hb =>
  PM.of (own := RJ2) rfl (by decide +kernel) (Nat.le_of_ble_eq_true rfl) false (fun h => nomatch h) (s_J2_fastRemove b hb)
/-! J2_remove: java/util/ArrayList.remove(I)Ljava/lang/Object;, kind R -/
abbrev rmJ2_remove : Room := ({ frames := 2, cells := 0, slots := 0, locals := 63 })
abbrev kJ2_remove : QK := (RJ2, cJ2_remove, 4, (some (.object "java/lang/Object")), [], false, rmJ2_remove)
noncomputable def f_J2_remove (r0 : QR) (x1 : Int32) (M : QM) : Option (QR × QM) :=
  (gI M r0 [(7, 2)]).bind fun v2 => 
    (f_J10_checkIndex x1 v2 M).bind fun v5 => 
    (gR M r0 [(7, 1)]).bind fun v10 => 
    (aR M v10 x1).bind fun v16 => 
    (qrc M r0 [7] (f_J2_fastRemove r0 v10 x1 M)).bind fun m21 => 
    some (v16, m21)
theorem s_J2_remove {l : Launch} {M0 : QM} {r0 : QR} {x1 : Int32} {M : QM} : SB eR l kJ2_remove M0 (f_J2_remove r0 x1 M) (0, 0) 0 M [some (.inr r0), some (.inl x1), none, none] [] := by
  unfold f_J2_remove
  refine r_iload_n (pc := 0) dJ2_remove_0 rfl ?_
  refine r_aload_n (pc := 1) dJ2_remove_1 rfl ?_
  refine r_getI (pc := 2)  gf_J2_48 dJ2_remove_2 (fun v2 => ?_)
  refine r_callS_P (st := []) (vs := [.inl x1, .inl v2]) (pc := 5)  ct_J10_checkIndex cf_J2_118 rfl rfl (Nat.le_of_ble_eq_true rfl) (by decide +kernel) dJ2_remove_5 (fun v5 => ?_)
  refine r_widen (u' := (0, 0)) (by decide +kernel) ?_
  refine r_pop (pc := 8) dJ2_remove_8 ?_
  refine r_aload_n (pc := 9) dJ2_remove_9 rfl ?_
  refine r_getR (pc := 10)  gf_J2_9 dJ2_remove_10 (fun v10 => ?_)
  refine r_astore_n (pc := 13) dJ2_remove_13 (by decide) rfl ?_
  refine r_aload_n (pc := 14) dJ2_remove_14 rfl ?_
  refine r_iload_n (pc := 15) dJ2_remove_15 rfl ?_
  refine r_aald (pc := 16) dJ2_remove_16 (fun v16 => ?_)
  refine r_astore_n (pc := 17) dJ2_remove_17 (by decide) rfl ?_
  refine r_aload_n (pc := 18) dJ2_remove_18 rfl ?_
  refine r_aload_n (pc := 19) dJ2_remove_19 rfl ?_
  refine r_iload_n (pc := 20) dJ2_remove_20 rfl ?_
  refine r_callV_V (st := []) (vs := [.inr v10, .inl x1]) (pc := 21)  ct_J2_fastRemove hc_7 cf_J2_144 rfl rfl (Nat.le_of_ble_eq_true rfl) (by decide +kernel) dJ2_remove_21 (fun m21 => ?_)
  refine r_widen (u' := (0, 0)) (by decide +kernel) ?_
  refine r_aload_n (pc := 24) dJ2_remove_24 rfl ?_
  exact r_aretR (pc := 25) dJ2_remove_25 rfl (Or.inl ⟨_, rfl⟩) (by decide +kernel)
theorem ct_J2_remove {l : Launch} {r0 : QR} {x1 : Int32} {M : QM} : ∀ b, f_J2_remove r0 x1 M = some b → PM l yJ2_remove (ws_ yJ2_remove cJ2_remove 4 (some (.object "java/lang/Object"))) rmJ2_remove [.inr r0, .inl x1] M (eR b).1 (eR b).2 := fun b hb =>
  PM.of (own := RJ2) rfl (by decide +kernel) (Nat.le_of_ble_eq_true rfl) false (fun h => nomatch h) (s_J2_remove b hb)
/-! J12_hugeLength: jdk/internal/util/ArraysSupport.hugeLength(II)I, kind P -/
abbrev rmJ12_hugeLength : Room := ({ frames := 0, cells := 0, slots := 0, locals := 0 })
abbrev kJ12_hugeLength : QK := (RJ12, cJ12_hugeLength, 3, (some .int), [], false, rmJ12_hugeLength)
noncomputable def f_J12_hugeLength (x0 : Int32) (x1 : Int32) (M : QM) : Option (Int32) :=
  if 0 ≤ (x0 + x1) then (if (2147483639 : Int32) < (x0 + x1) then (some (x0 + x1))
      else some (2147483639 : Int32))
    else none
theorem s_J12_hugeLength {l : Launch} {x0 : Int32} {x1 : Int32} {M : QM} : SB (eP M) l kJ12_hugeLength M (f_J12_hugeLength x0 x1 M) (0, 0) 0 M [some (.inl x0), some (.inl x1), none] [] := by
  unfold f_J12_hugeLength
  refine r_iload_n (pc := 0) dJ12_hugeLength_0 rfl ?_
  refine r_iload_n (pc := 1) dJ12_hugeLength_1 rfl ?_
  refine r_iadd (pc := 2) dJ12_hugeLength_2 ?_
  refine r_istore_n (pc := 3) dJ12_hugeLength_3 (by decide) rfl ?_
  refine r_iload_n (pc := 4) dJ12_hugeLength_4 rfl ?_
  refine r_if_ge (pc := 5) (tgt := 49) dJ12_hugeLength_5 (by decide) ?_ ?_
  · refine r_iload_n (pc := 49) dJ12_hugeLength_49 rfl ?_
    refine r_ldc (pc := 50) dJ12_hugeLength_50 q450 ?_
    refine r_icmp_gt (pc := 52) (tgt := 58) dJ12_hugeLength_52 (by decide) ?_ ?_
    · refine r_iload_n (pc := 58) dJ12_hugeLength_58 rfl ?_
      exact r_iretP (pc := 59) dJ12_hugeLength_59 rfl (by decide +kernel)
    refine r_ldc (pc := 55) dJ12_hugeLength_55 q450 ?_
    exact r_iretP (pc := 57) dJ12_hugeLength_57 rfl (by decide +kernel)
  exact r_none
theorem ct_J12_hugeLength {l : Launch} {x0 : Int32} {x1 : Int32} {M : QM} : ∀ b, f_J12_hugeLength x0 x1 M = some b → PM l yJ12_hugeLength (ws_ yJ12_hugeLength cJ12_hugeLength 3 (some .int)) rmJ12_hugeLength [.inl x0, .inl x1] M ((eP M) b).1 ((eP M) b).2 := fun b hb =>
  PM.of (own := RJ12) rfl (by decide +kernel) (Nat.le_of_ble_eq_true rfl) false (fun h => nomatch h) (s_J12_hugeLength b hb)
/-! J12_newLength: jdk/internal/util/ArraysSupport.newLength(III)I, kind P -/
abbrev rmJ12_newLength : Room := ({ frames := 1, cells := 0, slots := 0, locals := 22 })
abbrev kJ12_newLength : QK := (RJ12, cJ12_newLength, 4, (some .int), [], false, rmJ12_newLength)
noncomputable def f_J12_newLength_21 (M : QM) (x0 : Int32) (x1 : Int32) : Option (Int32) :=
  (f_J12_hugeLength x0 x1 M).bind fun v23 => 
    some v23
theorem s_J12_newLength_21 {l : Launch} (M : QM) : ∀ (x0 : Int32) (x1 : Int32) (d2 : Option QV) (d3 : Option QV) , SB (eP M) l kJ12_newLength M (f_J12_newLength_21 M x0 x1) (0, 0) 21 M [some (.inl x0), some (.inl x1), d2, d3] [] := by
  intro x0 x1 d2 d3
  unfold f_J12_newLength_21
  refine r_iload_n (pc := 21) dJ12_newLength_21 rfl ?_
  refine r_iload_n (pc := 22) dJ12_newLength_22 rfl ?_
  refine r_callS_P (st := []) (vs := [.inl x0, .inl x1]) (pc := 23)  ct_J12_hugeLength cf_J12_201 rfl rfl (Nat.le_of_ble_eq_true rfl) (by decide +kernel) dJ12_newLength_23 (fun v23 => ?_)
  refine r_widen (u' := (0, 0)) (by decide +kernel) ?_
  exact r_iretP (pc := 26) dJ12_newLength_26 rfl (by decide +kernel)
noncomputable def f_J12_newLength (x0 : Int32) (x1 : Int32) (x2 : Int32) (M : QM) : Option (Int32) :=
  if (x0 + (if x1 < x2 then x2 else x1)) ≤ (0 : Int32) then (f_J12_newLength_21 M x0 x1)
    else if (2147483639 : Int32) < (x0 + (if x1 < x2 then x2 else x1)) then (f_J12_newLength_21 M x0 x1)
    else some (x0 + (if x1 < x2 then x2 else x1))
theorem s_J12_newLength {l : Launch} {x0 : Int32} {x1 : Int32} {x2 : Int32} {M : QM} : SB (eP M) l kJ12_newLength M (f_J12_newLength x0 x1 x2 M) (0, 0) 0 M [some (.inl x0), some (.inl x1), some (.inl x2), none] [] := by
  unfold f_J12_newLength
  refine r_iload_n (pc := 0) dJ12_newLength_0 rfl ?_
  refine r_iload_n (pc := 1) dJ12_newLength_1 rfl ?_
  refine r_iload_n (pc := 2) dJ12_newLength_2 rfl ?_
  refine r_mmax (pc := 3)  ⟨q447, q448, q64, q449⟩ ⟨⟨Nat.le_of_ble_eq_true rfl, Nat.le_of_ble_eq_true rfl⟩, (by decide +kernel)⟩ dJ12_newLength_3 ?_
  refine r_iadd (pc := 6) dJ12_newLength_6 ?_
  refine r_istore_n (pc := 7) dJ12_newLength_7 (by decide) rfl ?_
  refine r_iconst (v := (0 : Int32)) (pc := 8) dJ12_newLength_8 (by decide) ?_
  refine r_iload_n (pc := 9) dJ12_newLength_9 rfl ?_
  refine r_icmp_ge (pc := 10) (tgt := 21) dJ12_newLength_10 (by decide) ?_ ?_
  · exact s_J12_newLength_21 M _ _ _ _
  refine r_iload_n (pc := 13) dJ12_newLength_13 rfl ?_
  refine r_ldc (pc := 14) dJ12_newLength_14 q450 ?_
  refine r_icmp_gt (pc := 16) (tgt := 21) dJ12_newLength_16 (by decide) ?_ ?_
  · exact s_J12_newLength_21 M _ _ _ _
  refine r_iload_n (pc := 19) dJ12_newLength_19 rfl ?_
  exact r_iretP (pc := 20) dJ12_newLength_20 rfl (by decide +kernel)
theorem ct_J12_newLength {l : Launch} {x0 : Int32} {x1 : Int32} {x2 : Int32} {M : QM} : ∀ b, f_J12_newLength x0 x1 x2 M = some b → PM l yJ12_newLength (ws_ yJ12_newLength cJ12_newLength 4 (some .int)) rmJ12_newLength [.inl x0, .inl x1, .inl x2] M ((eP M) b).1 ((eP M) b).2 := fun b hb =>
  PM.of (own := RJ12) rfl (by decide +kernel) (Nat.le_of_ble_eq_true rfl) false (fun h => nomatch h) (s_J12_newLength b hb)
/-! J13_copyOf_2: java/util/Arrays.copyOf([Ljava/lang/Object;ILjava/lang/Class;)[Ljava/lang/Object;, kind R -/
abbrev rmJ13_copyOf_2 : Room := ({ frames := 1, cells := 1, slots := 64, locals := 40 })
abbrev kJ13_copyOf_2 : QK := (RJ13, cJ13_copyOf_2, 4, (some (.array (.object "java/lang/Object"))), [], false, rmJ13_copyOf_2)
noncomputable def f_J13_copyOf_2 (r0 : QR) (x1 : Int32) (r2 : QR) (M : QM) : Option (QR × QM) :=
  (qeq M r2 (some (0, 4))).bind fun b => if b = true then ((nAr M (M.1, 0) 2 x1 64).bind fun m7 => 
      (aL m7 r0).bind fun v30 => 
      (cpR m7 r0 (0 : Int32) (some (M.1, 0)) (0 : Int32) (if x1 < v30 then x1 else v30)).bind fun m35 => 
      some ((some (M.1, 0)), m35))
    else none
theorem s_J13_copyOf_2 {l : Launch} {M0 : QM} {r0 : QR} {x1 : Int32} {r2 : QR} {M : QM} : SB eR l kJ13_copyOf_2 M0 (f_J13_copyOf_2 r0 x1 r2 M) (0, 0) 0 M [some (.inr r0), some (.inl x1), some (.inr r2), none] [] := by
  unfold f_J13_copyOf_2
  refine r_aload_n (pc := 0) dJ13_copyOf_2_0 rfl ?_
  refine r_ldcM (pc := 1) q477 dJ13_copyOf_2_1 ?_
  refine r_acmp_ne (tgt := 13) (pc := 3) dJ13_copyOf_2_3 (by decide) ?_ ?_
  · refine r_aload_n (pc := 13) dJ13_copyOf_2_13 rfl ?_
    exact r_none
  refine r_iload_n (pc := 6) dJ13_copyOf_2_6 rfl ?_
  refine r_newR (pc := 7)  (B := 64) (kd := 2) (by decide) rfl q479 (by decide +kernel) dJ13_copyOf_2_7 (fun m7 => ?_)
  refine r_widen (u' := (1, 64)) (by decide +kernel) ?_
  refine r_goto (tgt := 24) (pc := 10) dJ13_copyOf_2_10 (by decide) ?_
  refine r_astore_n (pc := 24) dJ13_copyOf_2_24 (by decide) rfl ?_
  refine r_aload_n (pc := 25) dJ13_copyOf_2_25 rfl ?_
  refine r_iconst (v := (0 : Int32)) (pc := 26) dJ13_copyOf_2_26 (by decide) ?_
  refine r_aload_n (pc := 27) dJ13_copyOf_2_27 rfl ?_
  refine r_iconst (v := (0 : Int32)) (pc := 28) dJ13_copyOf_2_28 (by decide) ?_
  refine r_aload_n (pc := 29) dJ13_copyOf_2_29 rfl ?_
  refine r_alen (pc := 30) dJ13_copyOf_2_30 (fun v30 => ?_)
  refine r_iload_n (pc := 31) dJ13_copyOf_2_31 rfl ?_
  refine r_mmin (pc := 32)  ⟨q480, q481, q64, q482⟩ ⟨⟨Nat.le_of_ble_eq_true rfl, Nat.le_of_ble_eq_true rfl⟩, (by decide +kernel)⟩ dJ13_copyOf_2_32 ?_
  refine r_cpR (pc := 35)  ⟨⟨q483, q301, q300, q59⟩, Nat.le_of_ble_eq_true rfl, Nat.le_of_ble_eq_true rfl⟩ dJ13_copyOf_2_35 (fun m35 => ?_)
  refine r_aload_n (pc := 38) dJ13_copyOf_2_38 rfl ?_
  exact r_aretR (pc := 39) dJ13_copyOf_2_39 rfl (Or.inr ⟨_, rfl⟩) (by decide +kernel)
theorem ct_J13_copyOf_2 {l : Launch} {r0 : QR} {x1 : Int32} {r2 : QR} {M : QM} : ∀ b, f_J13_copyOf_2 r0 x1 r2 M = some b → PM l yJ13_copyOf_2 (ws_ yJ13_copyOf_2 cJ13_copyOf_2 4 (some (.array (.object "java/lang/Object")))) rmJ13_copyOf_2 [.inr r0, .inl x1, .inr r2] M (eR b).1 (eR b).2 := fun b hb =>
  PM.of (own := RJ13) rfl (by decide +kernel) (Nat.le_of_ble_eq_true rfl) false (fun h => nomatch h) (s_J13_copyOf_2 b hb)
/-! J13_copyOf: java/util/Arrays.copyOf([Ljava/lang/Object;I)[Ljava/lang/Object;, kind R -/
abbrev rmJ13_copyOf : Room := ({ frames := 2, cells := 1, slots := 64, locals := 63 })
abbrev kJ13_copyOf : QK := (RJ13, cJ13_copyOf, 2, (some (.array (.object "java/lang/Object"))), [], false, rmJ13_copyOf)
noncomputable def f_J13_copyOf (r0 : QR) (x1 : Int32) (M : QM) : Option (QR × QM) :=
  (qgc M r0).bind fun v3 => 
    qbR (f_J13_copyOf_2 r0 x1 v3 M) fun v6 m6 => 
    some (v6, m6)
theorem s_J13_copyOf {l : Launch} {M0 : QM} {r0 : QR} {x1 : Int32} {M : QM} : SB eR l kJ13_copyOf M0 (f_J13_copyOf r0 x1 M) (0, 0) 0 M [some (.inr r0), some (.inl x1)] [] := by
  unfold f_J13_copyOf
  refine r_aload_n (pc := 0) dJ13_copyOf_0 rfl ?_
  refine r_iload_n (pc := 1) dJ13_copyOf_1 rfl ?_
  refine r_aload_n (pc := 2) dJ13_copyOf_2 rfl ?_
  refine r_getClass (pc := 3) q457 ⟨Nat.le_of_ble_eq_true rfl, Nat.le_of_ble_eq_true rfl⟩ dJ13_copyOf_3 (fun v3 => ?_)
  refine r_callS_R (st := []) (vs := [.inr r0, .inl x1, .inr v3]) (pc := 6)  ct_J13_copyOf_2 cf_J13_300 rfl rfl (Nat.le_of_ble_eq_true rfl) (by decide +kernel) dJ13_copyOf_6 (fun v6 m6 => ?_)
  refine r_widen (u' := (1, 64)) (by decide +kernel) ?_
  exact r_aretR (pc := 9) dJ13_copyOf_9 rfl (Or.inr ⟨_, rfl⟩) (by decide +kernel)
theorem ct_J13_copyOf {l : Launch} {r0 : QR} {x1 : Int32} {M : QM} : ∀ b, f_J13_copyOf r0 x1 M = some b → PM l yJ13_copyOf (ws_ yJ13_copyOf cJ13_copyOf 2 (some (.array (.object "java/lang/Object")))) rmJ13_copyOf [.inr r0, .inl x1] M (eR b).1 (eR b).2 := fun b hb =>
  PM.of (own := RJ13) rfl (by decide +kernel) (Nat.le_of_ble_eq_true rfl) false (fun h => nomatch h) (s_J13_copyOf b hb)
/-! J2_grow_2: java/util/ArrayList.grow(I)[Ljava/lang/Object;, kind R -/
abbrev rmJ2_grow_2 : Room := ({ frames := 3, cells := 1, slots := 64, locals := 84 })
abbrev kJ2_grow_2 : QK := (RJ2, cJ2_grow_2, 4, (some (.array (.object "java/lang/Object"))), [], false, rmJ2_grow_2)
noncomputable def f_J2_grow_2_20 (r0 : QR) (x1 : Int32) (x2 : Int32) (M : QM) : Option (QR × QM) :=
  (f_J12_newLength x2 (x1 - x2) (x2 >>> ((1 : Int32) &&& 31)) M).bind fun v27 => 
    (gR M r0 [(7, 1)]).bind fun v33 => 
    qbR (f_J13_copyOf v33 v27 M) fun v37 m37 => 
    (pF m37 r0 [(7, 1)] (.inr v37)).bind fun m41 => 
    some (v37, m41)
theorem s_J2_grow_2_20 {l : Launch} {M0 : QM} : ∀ (r0 : QR) (x1 : Int32) (x2 : Int32) (d3 : Option QV) (M : QM) , SB eR l kJ2_grow_2 M0 (f_J2_grow_2_20 r0 x1 x2 M) (0, 0) 20 M [some (.inr r0), some (.inl x1), some (.inl x2), d3] [] := by
  intro r0 x1 x2 d3 M
  unfold f_J2_grow_2_20
  refine r_iload_n (pc := 20) dJ2_grow_2_20 rfl ?_
  refine r_iload_n (pc := 21) dJ2_grow_2_21 rfl ?_
  refine r_iload_n (pc := 22) dJ2_grow_2_22 rfl ?_
  refine r_isub (pc := 23) dJ2_grow_2_23 ?_
  refine r_iload_n (pc := 24) dJ2_grow_2_24 rfl ?_
  refine r_iconst (v := (1 : Int32)) (pc := 25) dJ2_grow_2_25 (by decide) ?_
  refine r_ishr (pc := 26) dJ2_grow_2_26 ?_
  refine r_callS_P (st := []) (vs := [.inl x2, .inl (x1 - x2), .inl (x2 >>> ((1 : Int32) &&& 31))]) (pc := 27)  ct_J12_newLength cf_J2_73 rfl rfl (Nat.le_of_ble_eq_true rfl) (by decide +kernel) dJ2_grow_2_27 (fun v27 => ?_)
  refine r_widen (u' := (0, 0)) (by decide +kernel) ?_
  refine r_istore_n (pc := 30) dJ2_grow_2_30 (by decide) rfl ?_
  refine r_aload_n (pc := 31) dJ2_grow_2_31 rfl ?_
  refine r_aload_n (pc := 32) dJ2_grow_2_32 rfl ?_
  refine r_getR (pc := 33)  gf_J2_9 dJ2_grow_2_33 (fun v33 => ?_)
  refine r_iload_n (pc := 36) dJ2_grow_2_36 rfl ?_
  refine r_callS_R (st := [.inr r0]) (vs := [.inr v33, .inl v27]) (pc := 37)  ct_J13_copyOf cf_J2_66 rfl rfl (Nat.le_of_ble_eq_true rfl) (by decide +kernel) dJ2_grow_2_37 (fun v37 m37 => ?_)
  refine r_widen (u' := (1, 64)) (by decide +kernel) ?_
  refine r_dup_x1 (pc := 40) dJ2_grow_2_40 ?_
  refine r_put (pc := 41)  pf_J2_9 (fun h => nomatch h) (fit_arr _ _) dJ2_grow_2_41 (fun m41 => ?_)
  exact r_aretR (pc := 44) dJ2_grow_2_44 rfl (Or.inr ⟨_, rfl⟩) (by decide +kernel)
noncomputable def f_J2_grow_2 (r0 : QR) (x1 : Int32) (M : QM) : Option (QR × QM) :=
  (gR M r0 [(7, 1)]).bind fun v1 => 
    (aL M v1).bind fun v4 => 
    if 0 < v4 then (f_J2_grow_2_20 r0 x1 v4 M)
    else (gR M r0 [(7, 1)]).bind fun v11 => 
    (qeq M v11 (some (0, 1))).bind fun b => if b = true then ((nAr M (M.1, 0) 2 (if (10 : Int32) < x1 then x1 else (10 : Int32)) 64).bind fun m52 => 
      (pF m52 r0 [(7, 1)] (.inr (some (M.1, 0)))).bind fun m56 => 
      some ((some (M.1, 0)), m56))
    else f_J2_grow_2_20 r0 x1 v4 M
theorem s_J2_grow_2 {l : Launch} {M0 : QM} {r0 : QR} {x1 : Int32} {M : QM} : SB eR l kJ2_grow_2 M0 (f_J2_grow_2 r0 x1 M) (0, 0) 0 M [some (.inr r0), some (.inl x1), none, none] [] := by
  unfold f_J2_grow_2
  refine r_aload_n (pc := 0) dJ2_grow_2_0 rfl ?_
  refine r_getR (pc := 1)  gf_J2_9 dJ2_grow_2_1 (fun v1 => ?_)
  refine r_alen (pc := 4) dJ2_grow_2_4 (fun v4 => ?_)
  refine r_istore_n (pc := 5) dJ2_grow_2_5 (by decide) rfl ?_
  refine r_iload_n (pc := 6) dJ2_grow_2_6 rfl ?_
  refine r_if_gt (pc := 7) (tgt := 20) dJ2_grow_2_7 (by decide) ?_ ?_
  · exact s_J2_grow_2_20  _ _ _ _ _
  refine r_aload_n (pc := 10) dJ2_grow_2_10 rfl ?_
  refine r_getR (pc := 11)  gf_J2_9 dJ2_grow_2_11 (fun v11 => ?_)
  refine r_gsEmpty (pc := 14) q217 dJ2_grow_2_14 ?_
  refine r_acmp_eq (tgt := 45) (pc := 17) dJ2_grow_2_17 (by decide) ?_ ?_
  · refine r_aload_n (pc := 45) dJ2_grow_2_45 rfl ?_
    refine r_bipush (v := (10 : Int32)) (pc := 46) dJ2_grow_2_46 (by decide) ?_
    refine r_iload_n (pc := 48) dJ2_grow_2_48 rfl ?_
    refine r_mmax (pc := 49)  ⟨q484, q448, q64, q449⟩ ⟨⟨Nat.le_of_ble_eq_true rfl, Nat.le_of_ble_eq_true rfl⟩, (by decide +kernel)⟩ dJ2_grow_2_49 ?_
    refine r_newR (pc := 52)  (B := 64) (kd := 2) (by decide) rfl q485 (by decide +kernel) dJ2_grow_2_52 (fun m52 => ?_)
    refine r_widen (u' := (1, 64)) (by decide +kernel) ?_
    refine r_dup_x1 (pc := 55) dJ2_grow_2_55 ?_
    refine r_put (pc := 56)  pf_J2_9 (fun h => nomatch h) (fit_arr _ _) dJ2_grow_2_56 (fun m56 => ?_)
    exact r_aretR (pc := 59) dJ2_grow_2_59 rfl (Or.inr ⟨_, rfl⟩) (by decide +kernel)
  exact s_J2_grow_2_20  _ _ _ _ _
theorem ct_J2_grow_2 {l : Launch} {r0 : QR} {x1 : Int32} {M : QM} : ∀ b, f_J2_grow_2 r0 x1 M = some b → PM l yJ2_grow_2 (ws_ yJ2_grow_2 cJ2_grow_2 4 (some (.array (.object "java/lang/Object")))) rmJ2_grow_2 [.inr r0, .inl x1] M (eR b).1 (eR b).2 := fun b hb =>
  PM.of (own := RJ2) rfl (by decide +kernel) (Nat.le_of_ble_eq_true rfl) false (fun h => nomatch h) (s_J2_grow_2 b hb)
/-! J2_grow: java/util/ArrayList.grow()[Ljava/lang/Object;, kind R -/
abbrev rmJ2_grow : Room := ({ frames := 4, cells := 1, slots := 64, locals := 107 })
abbrev kJ2_grow : QK := (RJ2, cJ2_grow, 1, (some (.array (.object "java/lang/Object"))), [], false, rmJ2_grow)
noncomputable def f_J2_grow (r0 : QR) (M : QM) : Option (QR × QM) :=
  (gI M r0 [(7, 2)]).bind fun v2 => 
    qbR (qrc M r0 [7] (f_J2_grow_2 r0 (v2 + (1 : Int32)) M)) fun v7 m7 => 
    some (v7, m7)
theorem s_J2_grow {l : Launch} {M0 : QM} {r0 : QR} {M : QM} : SB eR l kJ2_grow M0 (f_J2_grow r0 M) (0, 0) 0 M [some (.inr r0)] [] := by
  unfold f_J2_grow
  refine r_aload_n (pc := 0) dJ2_grow_0 rfl ?_
  refine r_aload_n (pc := 1) dJ2_grow_1 rfl ?_
  refine r_getI (pc := 2)  gf_J2_48 dJ2_grow_2 (fun v2 => ?_)
  refine r_iconst (v := (1 : Int32)) (pc := 5) dJ2_grow_5 (by decide) ?_
  refine r_iadd (pc := 6) dJ2_grow_6 ?_
  refine r_callV_R (st := []) (vs := [.inl (v2 + (1 : Int32))]) (pc := 7)  ct_J2_grow_2 hc_7 cf_J2_69 rfl rfl (Nat.le_of_ble_eq_true rfl) (by decide +kernel) dJ2_grow_7 (fun v7 m7 => ?_)
  refine r_widen (u' := (1, 64)) (by decide +kernel) ?_
  exact r_aretR (pc := 10) dJ2_grow_10 rfl (Or.inr ⟨_, rfl⟩) (by decide +kernel)
theorem ct_J2_grow {l : Launch} {r0 : QR} {M : QM} : ∀ b, f_J2_grow r0 M = some b → PM l yJ2_grow (ws_ yJ2_grow cJ2_grow 1 (some (.array (.object "java/lang/Object")))) rmJ2_grow [.inr r0] M (eR b).1 (eR b).2 := fun b hb =>
  PM.of (own := RJ2) rfl (by decide +kernel) (Nat.le_of_ble_eq_true rfl) false (fun h => nomatch h) (s_J2_grow b hb)
/-! J2_add_2: java/util/ArrayList.add(Ljava/lang/Object;[Ljava/lang/Object;I)V, kind V -/
abbrev rmJ2_add_2 : Room := ({ frames := 5, cells := 1, slots := 64, locals := 127 })
abbrev kJ2_add_2 : QK := (RJ2, cJ2_add_2, 4, none, [], false, rmJ2_add_2)
noncomputable def f_J2_add_2_11 (r0 : QR) (r1 : QR) (r2 : QR) (x3 : Int32) (M : QM) : Option (QM) :=
  (sR M r2 x3 r1).bind fun m14 => 
    (pF m14 r0 [(7, 2)] (.inl (x3 + (1 : Int32)))).bind fun m19 => 
    some m19
theorem s_J2_add_2_11 {l : Launch} {M0 : QM} : ∀ (r0 : QR) (r1 : QR) (r2 : QR) (x3 : Int32) (M : QM) , SB eV l kJ2_add_2 M0 (f_J2_add_2_11 r0 r1 r2 x3 M) (1, 64) 11 M [some (.inr r0), some (.inr r1), some (.inr r2), some (.inl x3)] [] := by
  intro r0 r1 r2 x3  M
  unfold f_J2_add_2_11
  refine r_aload_n (pc := 11) dJ2_add_2_11 rfl ?_
  refine r_iload_n (pc := 12) dJ2_add_2_12 rfl ?_
  refine r_aload_n (pc := 13) dJ2_add_2_13 rfl ?_
  refine r_aast (pc := 14) dJ2_add_2_14 (fun m14 => ?_)
  refine r_aload_n (pc := 15) dJ2_add_2_15 rfl ?_
  refine r_iload_n (pc := 16) dJ2_add_2_16 rfl ?_
  refine r_iconst (v := (1 : Int32)) (pc := 17) dJ2_add_2_17 (by decide) ?_
  refine r_iadd (pc := 18) dJ2_add_2_18 ?_
  refine r_put (pc := 19)  pf_J2_48 (fun h => nomatch h) (fit_int _) dJ2_add_2_19 (fun m19 => ?_)
  exact r_vretV (pc := 22) dJ2_add_2_22 rfl (by decide +kernel)
noncomputable def f_J2_add_2 (r0 : QR) (r1 : QR) (r2 : QR) (x3 : Int32) (M : QM) : Option (QM) :=
  (aL M r2).bind fun v2 => 
    if x3 = v2 then (qbR (qrc M r0 [7] (f_J2_grow r0 M)) fun v7 m7 => 
      f_J2_add_2_11 r0 r1 v7 x3 m7)
    else f_J2_add_2_11 r0 r1 r2 x3 M
theorem s_J2_add_2 {l : Launch} {M0 : QM} {r0 : QR} {r1 : QR} {r2 : QR} {x3 : Int32} {M : QM} : SB eV l kJ2_add_2 M0 (f_J2_add_2 r0 r1 r2 x3 M) (0, 0) 0 M [some (.inr r0), some (.inr r1), some (.inr r2), some (.inl x3)] [] := by
  unfold f_J2_add_2
  refine r_iload_n (pc := 0) dJ2_add_2_0 rfl ?_
  refine r_aload_n (pc := 1) dJ2_add_2_1 rfl ?_
  refine r_alen (pc := 2) dJ2_add_2_2 (fun v2 => ?_)
  refine r_icmp_ne (pc := 3) (tgt := 11) dJ2_add_2_3 (by decide) ?_ ?_
  · refine r_widen (u' := (1, 64)) (by decide +kernel) ?_
    exact s_J2_add_2_11  _ _ _ _ _
  refine r_aload_n (pc := 6) dJ2_add_2_6 rfl ?_
  refine r_callV_R (st := []) (vs := []) (pc := 7)  ct_J2_grow hc_7 cf_J2_129 rfl rfl (Nat.le_of_ble_eq_true rfl) (by decide +kernel) dJ2_add_2_7 (fun v7 m7 => ?_)
  refine r_widen (u' := (1, 64)) (by decide +kernel) ?_
  refine r_astore_n (pc := 10) dJ2_add_2_10 (by decide) rfl ?_
  exact s_J2_add_2_11  _ _ _ _ _
theorem ct_J2_add_2 {l : Launch} {r0 : QR} {r1 : QR} {r2 : QR} {x3 : Int32} {M : QM} : ∀ b, f_J2_add_2 r0 r1 r2 x3 M = some b → PM l yJ2_add_2 (ws_ yJ2_add_2 cJ2_add_2 4 none) rmJ2_add_2 [.inr r0, .inr r1, .inr r2, .inl x3] M (eV b).1 (eV b).2 := fun b hb =>
  PM.of (own := RJ2) rfl (by decide +kernel) (Nat.le_of_ble_eq_true rfl) false (fun h => nomatch h) (s_J2_add_2 b hb)
/-! J2_add: java/util/ArrayList.add(Ljava/lang/Object;)Z, kind I -/
abbrev rmJ2_add : Room := ({ frames := 6, cells := 1, slots := 64, locals := 150 })
abbrev kJ2_add : QK := (RJ2, cJ2_add, 2, (some .boolean), [], false, rmJ2_add)
noncomputable def f_J2_add (r0 : QR) (r1 : QR) (M : QM) : Option (Int32 × QM) :=
  (gI M r0 [(7, 0)]).bind fun v2 => 
    (pF M r0 [(7, 0)] (.inl (v2 + (1 : Int32)))).bind fun m7 => 
    (gR m7 r0 [(7, 1)]).bind fun v13 => 
    (gI m7 r0 [(7, 2)]).bind fun v17 => 
    (qrc m7 r0 [7] (f_J2_add_2 r0 r1 v13 v17 m7)).bind fun m20 => 
    some ((1 : Int32), m20)
theorem s_J2_add {l : Launch} {M0 : QM} {r0 : QR} {r1 : QR} {M : QM} : SB eI l kJ2_add M0 (f_J2_add r0 r1 M) (0, 0) 0 M [some (.inr r0), some (.inr r1)] [] := by
  unfold f_J2_add
  refine r_aload_n (pc := 0) dJ2_add_0 rfl ?_
  refine r_dup (pc := 1) dJ2_add_1 ?_
  refine r_getI (pc := 2)  gf_J2_63 dJ2_add_2 (fun v2 => ?_)
  refine r_iconst (v := (1 : Int32)) (pc := 5) dJ2_add_5 (by decide) ?_
  refine r_iadd (pc := 6) dJ2_add_6 ?_
  refine r_put (pc := 7)  pf_J2_63 (fun h => nomatch h) (fit_int _) dJ2_add_7 (fun m7 => ?_)
  refine r_aload_n (pc := 10) dJ2_add_10 rfl ?_
  refine r_aload_n (pc := 11) dJ2_add_11 rfl ?_
  refine r_aload_n (pc := 12) dJ2_add_12 rfl ?_
  refine r_getR (pc := 13)  gf_J2_9 dJ2_add_13 (fun v13 => ?_)
  refine r_aload_n (pc := 16) dJ2_add_16 rfl ?_
  refine r_getI (pc := 17)  gf_J2_48 dJ2_add_17 (fun v17 => ?_)
  refine r_callV_V (st := []) (vs := [.inr r1, .inr v13, .inl v17]) (pc := 20)  ct_J2_add_2 hc_7 cf_J2_131 rfl rfl (Nat.le_of_ble_eq_true rfl) (by decide +kernel) dJ2_add_20 (fun m20 => ?_)
  refine r_widen (u' := (1, 64)) (by decide +kernel) ?_
  refine r_iconst (v := (1 : Int32)) (pc := 23) dJ2_add_23 (by decide) ?_
  exact r_zretI (pc := 24) dJ2_add_24 rfl rfl (by decide +kernel)
theorem ct_J2_add {l : Launch} {r0 : QR} {r1 : QR} {M : QM} : ∀ b, f_J2_add r0 r1 M = some b → PM l yJ2_add (ws_ yJ2_add cJ2_add 2 (some .boolean)) rmJ2_add [.inr r0, .inr r1] M (eI b).1 (eI b).2 := fun b hb =>
  PM.of (own := RJ2) rfl (by decide +kernel) (Nat.le_of_ble_eq_true rfl) false (fun h => nomatch h) (s_J2_add b hb)
/-! X0_accept: BarnPictures.accept(LBarnPictures$Tour;I)I, kind I -/
abbrev rmX0_accept : Room := ({ frames := 7, cells := 1, slots := 64, locals := 171 })
abbrev kX0_accept : QK := (RX0, cX0_accept, 3, (some .int), [], false, rmX0_accept)
noncomputable def f_X0_accept_33 (r0 : QR) (r1 : QR) (x2 : Int32) (M : QM) : Option (Int32 × QM) :=
  (gR M r0 [(0, 2)]).bind fun v34 => 
    (gR M r0 [(0, 0)]).bind fun v38 => 
    qbI (qrc M v34 [7] (f_J2_add v34 v38 M)) fun v41 m41 => 
    (pF m41 r0 [(0, 0)] (.inr r1)).bind fun m49 => 
    some (x2, m49)
theorem s_X0_accept_33 {l : Launch} {M0 : QM} : ∀ (r0 : QR) (r1 : QR) (x2 : Int32) (M : QM) , SB eI l kX0_accept M0 (f_X0_accept_33 r0 r1 x2 M) (0, 0) 33 M [some (.inr r0), some (.inr r1), some (.inl x2)] [] := by
  intro r0 r1 x2  M
  unfold f_X0_accept_33
  refine r_aload_n (pc := 33) dX0_accept_33 rfl ?_
  refine r_getR (pc := 34)  gf_X0_29 dX0_accept_34 (fun v34 => ?_)
  refine r_aload_n (pc := 37) dX0_accept_37 rfl ?_
  refine r_getR (pc := 38)  gf_X0_22 dX0_accept_38 (fun v38 => ?_)
  refine r_callF_I (st := []) (vs := [.inr v38]) (pc := 41)  ct_J2_add hc_7 cf_X0_51 rfl rfl (Nat.le_of_ble_eq_true rfl) (by decide +kernel) dX0_accept_41 (fun v41 m41 => ?_)
  refine r_widen (u' := (1, 64)) (by decide +kernel) ?_
  refine r_pop (pc := 46) dX0_accept_46 ?_
  refine r_aload_n (pc := 47) dX0_accept_47 rfl ?_
  refine r_aload_n (pc := 48) dX0_accept_48 rfl ?_
  refine r_put (pc := 49)  pf_X0_22 (fun h => nomatch h) (fit_obj _ _) dX0_accept_49 (fun m49 => ?_)
  refine r_iload_n (pc := 52) dX0_accept_52 rfl ?_
  exact r_iretI (pc := 53) dX0_accept_53 rfl (by decide +kernel)
noncomputable def f_X0_accept (r0 : QR) (r1 : QR) (x2 : Int32) (M : QM) : Option (Int32 × QM) :=
  if x2 = (-10000005 : Int32) then (some ((-10000005 : Int32), M))
    else (gR M r0 [(0, 2)]).bind fun v10 => 
    (qrc M v10 [7] (f_J2_size v10 M)).bind fun v13 => 
    if v13 = (4 : Int32) then ((gR M r0 [(0, 2)]).bind fun v23 => 
      qbR (qrc M v23 [7] (f_J2_remove v23 (0 : Int32) M)) fun v27 m27 => 
      f_X0_accept_33 r0 r1 x2 m27)
    else f_X0_accept_33 r0 r1 x2 M
theorem s_X0_accept {l : Launch} {M0 : QM} {r0 : QR} {r1 : QR} {x2 : Int32} {M : QM} : SB eI l kX0_accept M0 (f_X0_accept r0 r1 x2 M) (0, 0) 0 M [some (.inr r0), some (.inr r1), some (.inl x2)] [] := by
  unfold f_X0_accept
  refine r_iload_n (pc := 0) dX0_accept_0 rfl ?_
  refine r_ldc (pc := 1) dX0_accept_1 q392 ?_
  refine r_icmp_ne (pc := 3) (tgt := 9) dX0_accept_3 (by decide) ?_ ?_
  · refine r_aload_n (pc := 9) dX0_accept_9 rfl ?_
    refine r_getR (pc := 10)  gf_X0_29 dX0_accept_10 (fun v10 => ?_)
    refine r_callF_P (st := []) (vs := []) (pc := 13)  ct_J2_size hc_7 cf_X0_41 rfl rfl (Nat.le_of_ble_eq_true rfl) (by decide +kernel) dX0_accept_13 (fun v13 => ?_)
    refine r_widen (u' := (0, 0)) (by decide +kernel) ?_
    refine r_iconst (v := (4 : Int32)) (pc := 18) dX0_accept_18 (by decide) ?_
    refine r_icmp_ne (pc := 19) (tgt := 33) dX0_accept_19 (by decide) ?_ ?_
    · exact s_X0_accept_33  _ _ _ _
    refine r_aload_n (pc := 22) dX0_accept_22 rfl ?_
    refine r_getR (pc := 23)  gf_X0_29 dX0_accept_23 (fun v23 => ?_)
    refine r_iconst (v := (0 : Int32)) (pc := 26) dX0_accept_26 (by decide) ?_
    refine r_callF_R (st := []) (vs := [.inl (0 : Int32)]) (pc := 27)  ct_J2_remove hc_7 cf_X0_47 rfl rfl (Nat.le_of_ble_eq_true rfl) (by decide +kernel) dX0_accept_27 (fun v27 m27 => ?_)
    refine r_widen (u' := (0, 0)) (by decide +kernel) ?_
    refine r_pop (pc := 32) dX0_accept_32 ?_
    exact s_X0_accept_33  _ _ _ _
  refine r_ldc (pc := 6) dX0_accept_6 q392 ?_
  exact r_iretI (pc := 8) dX0_accept_8 rfl (by decide +kernel)
theorem ct_X0_accept {l : Launch} {r0 : QR} {r1 : QR} {x2 : Int32} {M : QM} : ∀ b, f_X0_accept r0 r1 x2 M = some b → PM l yX0_accept (ws_ yX0_accept cX0_accept 3 (some .int)) rmX0_accept [.inr r0, .inr r1, .inl x2] M (eI b).1 (eI b).2 := fun b hb =>
  PM.of (own := RX0) rfl (by decide +kernel) (Nat.le_of_ble_eq_true rfl) false (fun h => nomatch h) (s_X0_accept b hb)
/-! X7_code: BarnPictures$Wrong.code()I, kind P -/
abbrev rmX7_code : Room := ({ frames := 0, cells := 0, slots := 0, locals := 0 })
abbrev kX7_code : QK := (RX7, cX7_code, 1, (some .int), [], false, rmX7_code)
noncomputable def f_X7_code (r0 : QR) (M : QM) : Option (Int32) :=
  (gI M r0 [(14, 0)]).bind fun v1 => 
    some v1
theorem s_X7_code {l : Launch} {r0 : QR} {M : QM} : SB (eP M) l kX7_code M (f_X7_code r0 M) (0, 0) 0 M [some (.inr r0)] [] := by
  unfold f_X7_code
  refine r_aload_n (pc := 0) dX7_code_0 rfl ?_
  refine r_getI (pc := 1)  gf_X7_7 dX7_code_1 (fun v1 => ?_)
  exact r_iretP (pc := 4) dX7_code_4 rfl (by decide +kernel)
theorem ct_X7_code {l : Launch} {r0 : QR} {M : QM} : ∀ b, f_X7_code r0 M = some b → PM l yX7_code (ws_ yX7_code cX7_code 1 (some .int)) rmX7_code [.inr r0] M ((eP M) b).1 ((eP M) b).2 := fun b hb =>
  PM.of (own := RX7) rfl (by decide +kernel) (Nat.le_of_ble_eq_true rfl) false (fun h => nomatch h) (s_X7_code b hb)
/-! X0_drive: BarnPictures.drive(I)I, kind I -/
abbrev rmX0_drive : Room := ({ frames := 9, cells := 25, slots := 224, locals := 193 })
abbrev kX0_drive : QK := (RX0, cX0_drive, 4, (some .int), [(12, 22, 23, 8)], false, rmX0_drive)
noncomputable def f_X0_drive (r0 : QR) (x1 : Int32) (M : QM) : Option (Int32 × QM) :=
  (nO M (M.1, 0) (.inl (1, fs_1))).bind fun m0 => 
    (gR m0 r0 [(0, 0)]).bind fun v5 => 
    (qnn (some (M.1, 0)) (f_X1_init_2 M.1 (some (M.1, 0)) v5 m0)).bind fun m8 => 
    qbXI (qrc m8 (some (M.1, 0)) [1] (f_X1_drive (some (M.1, 0)) x1 m8)) (fun q16 m16 => if qcls m16 q16 = some 14 then ((qrc m16 (some q16) [14] (f_X7_code (some q16) m16)).bind fun v25 => 
        some (v25, m16))
      else none) fun v16 m16 => 
    qbI (qrc m16 r0 [0] (f_X0_accept r0 (some (M.1, 0)) v16 m16)) fun v19 m19 => 
    some (v19, m19)
theorem s_X0_drive {l : Launch} {M0 : QM} {r0 : QR} {x1 : Int32} {M : QM} : SB eI l kX0_drive M0 (f_X0_drive r0 x1 M) (0, 0) 0 M [some (.inr r0), some (.inl x1), none, none] [] := by
  unfold f_X0_drive
  refine r_new (pc := 0)  nf_X0_19 (by decide +kernel) dX0_drive_0 (fun m0 => ?_)
  refine r_widen (u' := (1, 14)) (by decide +kernel) ?_
  refine r_dup (pc := 3) dX0_drive_3 ?_
  refine r_aload_n (pc := 4) dX0_drive_4 rfl ?_
  refine r_getR (pc := 5)  gf_X0_22 dX0_drive_5 (fun v5 => ?_)
  refine r_callI_V (st := [.inr (some (M.1, 0))]) (vs := [.inr v5]) (pc := 8)  ct_X1_init_2 cf_X0_59 rfl rfl (Nat.le_of_ble_eq_true rfl) (by decide +kernel) dX0_drive_8 (fun m8 => ?_)
  refine r_widen (u' := (21, 143)) (by decide +kernel) ?_
  refine r_astore_n (pc := 11) dX0_drive_11 (by decide) rfl ?_
  refine r_aload_n (pc := 12) dX0_drive_12 rfl ?_
  refine r_aload_n (pc := 13) dX0_drive_13 rfl ?_
  refine r_aload_n (pc := 14) dX0_drive_14 rfl ?_
  refine r_iload_n (pc := 15) dX0_drive_15 rfl ?_
  refine r_callV_XI (st := [.inr (some (M.1, 0)), .inr r0]) (vs := [.inl x1]) (pc := 16)  ct_X1_drive hc_1 cf_X0_62 rfl rfl (Nat.le_of_ble_eq_true rfl) (by decide +kernel) dX0_drive_16 (fun q16 m16 => ?_) (fun v16 m16 => ?_)
  · refine x_widen (u' := (24, 160)) (by decide +kernel) ?_
    refine x_catch (ci := 14) (pc := 16) [] ⟨12, 22, 23, 8⟩ [] rfl rfl (fun z hz => nomatch hz) (by decide) (by decide) q283 (qnw_in q314 rfl) ?_ ?_
    · refine r_astore_n (pc := 23) dX0_drive_23 (by decide) rfl ?_
      refine r_aload_n (pc := 24) dX0_drive_24 rfl ?_
      refine r_callV_P (st := []) (vs := []) (pc := 25)  ct_X7_code hc_14 cf_X0_70 rfl rfl (Nat.le_of_ble_eq_true rfl) (by decide +kernel) dX0_drive_25 (fun v25 => ?_)
      refine r_widen (u' := (24, 160)) (by decide +kernel) ?_
      exact r_iretI (pc := 28) dX0_drive_28 rfl (by decide +kernel)
    exact x_none
  refine r_widen (u' := (24, 160)) (by decide +kernel) ?_
  refine r_callV_I (st := []) (vs := [.inr (some (M.1, 0)), .inl v16]) (pc := 19)  ct_X0_accept hc_0 cf_X0_66 rfl rfl (Nat.le_of_ble_eq_true rfl) (by decide +kernel) dX0_drive_19 (fun v19 m19 => ?_)
  refine r_widen (u' := (25, 224)) (by decide +kernel) ?_
  exact r_iretI (pc := 22) dX0_drive_22 rfl (by decide +kernel)
theorem ct_X0_drive {l : Launch} {r0 : QR} {x1 : Int32} {M : QM} : ∀ b, f_X0_drive r0 x1 M = some b → PM l yX0_drive (wsW_ yX0_drive cX0_drive 4 (some .int) [(12, 22, 23, 8)]) rmX0_drive [.inr r0, .inl x1] M (eI b).1 (eI b).2 := fun b hb =>
  PM.ofH (own := RX0) rfl (by decide +kernel) (Nat.le_of_ble_eq_true rfl) (s_X0_drive b hb)
/-! X5_in: BarnPicturesModel.in(III)Z, kind P -/
abbrev rmX5_in : Room := ({ frames := 0, cells := 0, slots := 0, locals := 0 })
abbrev kX5_in : QK := (RX5, cX5_in, 3, (some .boolean), [], false, rmX5_in)
noncomputable def f_X5_in (x0 : Int32) (x1 : Int32) (x2 : Int32) (M : QM) : Option (Int32) :=
  if x0 < x1 then (some (0 : Int32))
    else if x2 < x0 then (some (0 : Int32))
    else some (1 : Int32)
theorem s_X5_in {l : Launch} {x0 : Int32} {x1 : Int32} {x2 : Int32} {M : QM} : SB (eP M) l kX5_in M (f_X5_in x0 x1 x2 M) (0, 0) 0 M [some (.inl x0), some (.inl x1), some (.inl x2)] [] := by
  unfold f_X5_in
  refine r_iload_n (pc := 0) dX5_in_0 rfl ?_
  refine r_iload_n (pc := 1) dX5_in_1 rfl ?_
  refine r_icmp_lt (pc := 2) (tgt := 14) dX5_in_2 (by decide) ?_ ?_
  · refine r_iconst (v := (0 : Int32)) (pc := 14) dX5_in_14 (by decide) ?_
    exact r_zretP (pc := 15) dX5_in_15 rfl rfl (by decide +kernel)
  refine r_iload_n (pc := 5) dX5_in_5 rfl ?_
  refine r_iload_n (pc := 6) dX5_in_6 rfl ?_
  refine r_icmp_gt (pc := 7) (tgt := 14) dX5_in_7 (by decide) ?_ ?_
  · refine r_iconst (v := (0 : Int32)) (pc := 14) dX5_in_14 (by decide) ?_
    exact r_zretP (pc := 15) dX5_in_15 rfl rfl (by decide +kernel)
  refine r_iconst (v := (1 : Int32)) (pc := 10) dX5_in_10 (by decide) ?_
  refine r_goto (tgt := 15) (pc := 11) dX5_in_11 (by decide) ?_
  exact r_zretP (pc := 15) dX5_in_15 rfl rfl (by decide +kernel)
theorem ct_X5_in {l : Launch} {x0 : Int32} {x1 : Int32} {x2 : Int32} {M : QM} : ∀ b, f_X5_in x0 x1 x2 M = some b → PM l yX5_in (ws_ yX5_in cX5_in 3 (some .boolean)) rmX5_in [.inl x0, .inl x1, .inl x2] M ((eP M) b).1 ((eP M) b).2 := fun b hb =>
  PM.of (own := RX5) rfl (by decide +kernel) (Nat.le_of_ble_eq_true rfl) false (fun h => nomatch h) (s_X5_in b hb)
/-! X5_isBarn: BarnPicturesModel.isBarn(I)Z, kind P -/
abbrev rmX5_isBarn : Room := ({ frames := 1, cells := 0, slots := 0, locals := 22 })
abbrev kX5_isBarn : QK := (RX5, cX5_isBarn, 1, (some .boolean), [], false, rmX5_isBarn)
noncomputable def f_X5_isBarn (x0 : Int32) (M : QM) : Option (Int32) :=
  (f_X5_in x0 (0 : Int32) (4 : Int32) M).bind fun v3 => 
    qnar .boolean v3 (some v3)
theorem s_X5_isBarn {l : Launch} {x0 : Int32} {M : QM} : SB (eP M) l kX5_isBarn M (f_X5_isBarn x0 M) (0, 0) 0 M [some (.inl x0)] [] := by
  unfold f_X5_isBarn
  refine r_iload_n (pc := 0) dX5_isBarn_0 rfl ?_
  refine r_iconst (v := (0 : Int32)) (pc := 1) dX5_isBarn_1 (by decide) ?_
  refine r_iconst (v := (4 : Int32)) (pc := 2) dX5_isBarn_2 (by decide) ?_
  refine r_callS_P (st := []) (vs := [.inl x0, .inl (0 : Int32), .inl (4 : Int32)]) (pc := 3)  ct_X5_in cf_X5_37 rfl rfl (Nat.le_of_ble_eq_true rfl) (by decide +kernel) dX5_isBarn_3 (fun v3 => ?_)
  refine r_widen (u' := (0, 0)) (by decide +kernel) ?_
  exact r_nretP (pc := 6) dX5_isBarn_6 rfl (by decide) (by decide +kernel)
theorem ct_X5_isBarn {l : Launch} {x0 : Int32} {M : QM} : ∀ b, f_X5_isBarn x0 M = some b → PM l yX5_isBarn (ws_ yX5_isBarn cX5_isBarn 1 (some .boolean)) rmX5_isBarn [.inl x0] M ((eP M) b).1 ((eP M) b).2 := fun b hb =>
  PM.of (own := RX5) rfl (by decide +kernel) (Nat.le_of_ble_eq_true rfl) false (fun h => nomatch h) (s_X5_isBarn b hb)
/-! X5_know: BarnPicturesModel.know()V, kind V -/
abbrev rmX5_know : Room := ({ frames := 0, cells := 0, slots := 0, locals := 0 })
abbrev kX5_know : QK := (RX5, cX5_know, 2, none, [], false, rmX5_know)
noncomputable def f_X5_know_50 : Nat → QR → Int32 → QM → Option (QM)
  | 0, _, _, _ => none
  | n + 1, r0, x1, M =>
    if (108 : Int32) ≤ x1 then ((gI M r0 [(4, 3)]).bind fun v84 => 
      (pF M r0 [(4, 3)] (.inl (v84 + (1 : Int32)))).bind fun m89 => 
      some m89)
    else (gR M r0 [(4, 2)]).bind fun v57 => 
    (gI M r0 [(4, 3)]).bind fun v63 => 
    (gR M r0 [(4, 0)]).bind fun v70 => 
    (aI M v70 x1).bind fun v74 => 
    (sI M v57 (((108 : Int32) * v63) + x1) v74).bind fun m75 => 
    f_X5_know_50 n r0 (x1 + (1 : Int32)) m75
theorem s_X5_know_50 {l : Launch} {M0 : QM} : ∀ (n : Nat) (r0 : QR) (x1 : Int32) (M : QM) , SB eV l kX5_know M0 (f_X5_know_50 n r0 x1 M) (0, 0) 50 M [some (.inr r0), some (.inl x1)] [] := by
  intro n
  induction n with
  | zero => intros; rw [f_X5_know_50]; exact r_none
  | succ n ih =>
    intro r0 x1  M
    rw [f_X5_know_50]
    refine r_iload_n (pc := 50) dX5_know_50 rfl ?_
    refine r_bipush (v := (108 : Int32)) (pc := 51) dX5_know_51 (by decide) ?_
    refine r_icmp_ge (pc := 53) (tgt := 82) dX5_know_53 (by decide) ?_ ?_
    · refine r_aload_n (pc := 82) dX5_know_82 rfl ?_
      refine r_dup (pc := 83) dX5_know_83 ?_
      refine r_getI (pc := 84)  gf_X5_41 dX5_know_84 (fun v84 => ?_)
      refine r_iconst (v := (1 : Int32)) (pc := 87) dX5_know_87 (by decide) ?_
      refine r_iadd (pc := 88) dX5_know_88 ?_
      refine r_put (pc := 89)  pf_X5_41 (fun h => nomatch h) (fit_int _) dX5_know_89 (fun m89 => ?_)
      exact r_vretV (pc := 92) dX5_know_92 rfl (by decide +kernel)
    refine r_aload_n (pc := 56) dX5_know_56 rfl ?_
    refine r_getR (pc := 57)  gf_X5_16 dX5_know_57 (fun v57 => ?_)
    refine r_bipush (v := (108 : Int32)) (pc := 60) dX5_know_60 (by decide) ?_
    refine r_aload_n (pc := 62) dX5_know_62 rfl ?_
    refine r_getI (pc := 63)  gf_X5_41 dX5_know_63 (fun v63 => ?_)
    refine r_imul (pc := 66) dX5_know_66 ?_
    refine r_iload_n (pc := 67) dX5_know_67 rfl ?_
    refine r_iadd (pc := 68) dX5_know_68 ?_
    refine r_aload_n (pc := 69) dX5_know_69 rfl ?_
    refine r_getR (pc := 70)  gf_X5_7 dX5_know_70 (fun v70 => ?_)
    refine r_iload_n (pc := 73) dX5_know_73 rfl ?_
    refine r_iald (pc := 74) dX5_know_74 (fun v74 => ?_)
    refine r_iast (pc := 75) dX5_know_75 (fun m75 => ?_)
    refine r_iinc (v := (x1 + (1 : Int32))) (pc := 76) dX5_know_76 rfl rfl (by decide) rfl ?_
    refine r_goto (tgt := 50) (pc := 79) dX5_know_79 (by decide) ?_
    exact ih _ _ _
noncomputable def f_X5_know_48 (r0 : QR) (M : QM) : Option (QM) :=
  f_X5_know_50 109 r0 (0 : Int32) M
theorem s_X5_know_48 {l : Launch} {M0 : QM} : ∀ (r0 : QR) (d1 : Option QV) (M : QM) , SB eV l kX5_know M0 (f_X5_know_48 r0 M) (0, 0) 48 M [some (.inr r0), d1] [] := by
  intro r0 d1 M
  unfold f_X5_know_48
  refine r_iconst (v := (0 : Int32)) (pc := 48) dX5_know_48 (by decide) ?_
  refine r_istore_n (pc := 49) dX5_know_49 (by decide) rfl ?_
  exact s_X5_know_50  109 _ _ _
noncomputable def f_X5_know_10 : Nat → QR → Int32 → QM → Option (QM)
  | 0, _, _, _ => none
  | n + 1, r0, x1, M =>
    if (324 : Int32) ≤ x1 then ((gI M r0 [(4, 3)]).bind fun v40 => 
      (pF M r0 [(4, 3)] (.inl (v40 - (1 : Int32)))).bind fun m45 => 
      f_X5_know_48 r0 m45)
    else (gR M r0 [(4, 2)]).bind fun v18 => 
    (gR M r0 [(4, 2)]).bind fun v23 => 
    (aI M v23 ((108 : Int32) + x1)).bind fun v30 => 
    (sI M v18 x1 v30).bind fun m31 => 
    f_X5_know_10 n r0 (x1 + (1 : Int32)) m31
theorem s_X5_know_10 {l : Launch} {M0 : QM} : ∀ (n : Nat) (r0 : QR) (x1 : Int32) (M : QM) , SB eV l kX5_know M0 (f_X5_know_10 n r0 x1 M) (0, 0) 10 M [some (.inr r0), some (.inl x1)] [] := by
  intro n
  induction n with
  | zero => intros; rw [f_X5_know_10]; exact r_none
  | succ n ih =>
    intro r0 x1  M
    rw [f_X5_know_10]
    refine r_iload_n (pc := 10) dX5_know_10 rfl ?_
    refine r_sipush (v := (324 : Int32)) (pc := 11) dX5_know_11 (by decide) ?_
    refine r_icmp_ge (pc := 14) (tgt := 38) dX5_know_14 (by decide) ?_ ?_
    · refine r_aload_n (pc := 38) dX5_know_38 rfl ?_
      refine r_dup (pc := 39) dX5_know_39 ?_
      refine r_getI (pc := 40)  gf_X5_41 dX5_know_40 (fun v40 => ?_)
      refine r_iconst (v := (1 : Int32)) (pc := 43) dX5_know_43 (by decide) ?_
      refine r_isub (pc := 44) dX5_know_44 ?_
      refine r_put (pc := 45)  pf_X5_41 (fun h => nomatch h) (fit_int _) dX5_know_45 (fun m45 => ?_)
      exact s_X5_know_48  _ _ _
    refine r_aload_n (pc := 17) dX5_know_17 rfl ?_
    refine r_getR (pc := 18)  gf_X5_16 dX5_know_18 (fun v18 => ?_)
    refine r_iload_n (pc := 21) dX5_know_21 rfl ?_
    refine r_aload_n (pc := 22) dX5_know_22 rfl ?_
    refine r_getR (pc := 23)  gf_X5_16 dX5_know_23 (fun v23 => ?_)
    refine r_bipush (v := (108 : Int32)) (pc := 26) dX5_know_26 (by decide) ?_
    refine r_iload_n (pc := 28) dX5_know_28 rfl ?_
    refine r_iadd (pc := 29) dX5_know_29 ?_
    refine r_iald (pc := 30) dX5_know_30 (fun v30 => ?_)
    refine r_iast (pc := 31) dX5_know_31 (fun m31 => ?_)
    refine r_iinc (v := (x1 + (1 : Int32))) (pc := 32) dX5_know_32 rfl rfl (by decide) rfl ?_
    refine r_goto (tgt := 10) (pc := 35) dX5_know_35 (by decide) ?_
    exact ih _ _ _
noncomputable def f_X5_know (r0 : QR) (M : QM) : Option (QM) :=
  (gI M r0 [(4, 3)]).bind fun v1 => 
    if v1 = (4 : Int32) then (f_X5_know_10 325 r0 (0 : Int32) M)
    else f_X5_know_48 r0 M
theorem s_X5_know {l : Launch} {M0 : QM} {r0 : QR} {M : QM} : SB eV l kX5_know M0 (f_X5_know r0 M) (0, 0) 0 M [some (.inr r0), none] [] := by
  unfold f_X5_know
  refine r_aload_n (pc := 0) dX5_know_0 rfl ?_
  refine r_getI (pc := 1)  gf_X5_41 dX5_know_1 (fun v1 => ?_)
  refine r_iconst (v := (4 : Int32)) (pc := 4) dX5_know_4 (by decide) ?_
  refine r_icmp_ne (pc := 5) (tgt := 48) dX5_know_5 (by decide) ?_ ?_
  · exact s_X5_know_48  _ _ _
  refine r_iconst (v := (0 : Int32)) (pc := 8) dX5_know_8 (by decide) ?_
  refine r_istore_n (pc := 9) dX5_know_9 (by decide) rfl ?_
  exact s_X5_know_10  325 _ _ _
theorem ct_X5_know {l : Launch} {r0 : QR} {M : QM} : ∀ b, f_X5_know r0 M = some b → PM l yX5_know (ws_ yX5_know cX5_know 2 none) rmX5_know [.inr r0] M (eV b).1 (eV b).2 := fun b hb =>
  PM.of (own := RX5) rfl (by decide +kernel) (Nat.le_of_ble_eq_true rfl) false (fun h => nomatch h) (s_X5_know b hb)
/-! X5_mile: BarnPicturesModel.mile(I)I, kind P -/
abbrev rmX5_mile : Room := ({ frames := 0, cells := 0, slots := 0, locals := 0 })
abbrev kX5_mile : QK := (RX5, cX5_mile, 1, (some .int), [], false, rmX5_mile)
noncomputable def f_X5_mile (x0 : Int32) (M : QM) : Option (Int32) :=
  if x0 = 0 then (some (0 : Int32))
    else if x0 = (1 : Int32) then (some (8 : Int32))
    else if x0 = (2 : Int32) then (some (20 : Int32))
    else if x0 = (3 : Int32) then (some (26 : Int32))
    else some (45 : Int32)
theorem s_X5_mile {l : Launch} {x0 : Int32} {M : QM} : SB (eP M) l kX5_mile M (f_X5_mile x0 M) (0, 0) 0 M [some (.inl x0)] [] := by
  unfold f_X5_mile
  refine r_iload_n (pc := 0) dX5_mile_0 rfl ?_
  refine r_if_ne (pc := 1) (tgt := 8) dX5_mile_1 (by decide) ?_ ?_
  · refine r_iload_n (pc := 8) dX5_mile_8 rfl ?_
    refine r_iconst (v := (1 : Int32)) (pc := 9) dX5_mile_9 (by decide) ?_
    refine r_icmp_ne (pc := 10) (tgt := 18) dX5_mile_10 (by decide) ?_ ?_
    · refine r_iload_n (pc := 18) dX5_mile_18 rfl ?_
      refine r_iconst (v := (2 : Int32)) (pc := 19) dX5_mile_19 (by decide) ?_
      refine r_icmp_ne (pc := 20) (tgt := 28) dX5_mile_20 (by decide) ?_ ?_
      · refine r_iload_n (pc := 28) dX5_mile_28 rfl ?_
        refine r_iconst (v := (3 : Int32)) (pc := 29) dX5_mile_29 (by decide) ?_
        refine r_icmp_ne (pc := 30) (tgt := 38) dX5_mile_30 (by decide) ?_ ?_
        · refine r_bipush (v := (45 : Int32)) (pc := 38) dX5_mile_38 (by decide) ?_
          exact r_iretP (pc := 40) dX5_mile_40 rfl (by decide +kernel)
        refine r_bipush (v := (26 : Int32)) (pc := 33) dX5_mile_33 (by decide) ?_
        refine r_goto (tgt := 40) (pc := 35) dX5_mile_35 (by decide) ?_
        exact r_iretP (pc := 40) dX5_mile_40 rfl (by decide +kernel)
      refine r_bipush (v := (20 : Int32)) (pc := 23) dX5_mile_23 (by decide) ?_
      refine r_goto (tgt := 40) (pc := 25) dX5_mile_25 (by decide) ?_
      exact r_iretP (pc := 40) dX5_mile_40 rfl (by decide +kernel)
    refine r_bipush (v := (8 : Int32)) (pc := 13) dX5_mile_13 (by decide) ?_
    refine r_goto (tgt := 40) (pc := 15) dX5_mile_15 (by decide) ?_
    exact r_iretP (pc := 40) dX5_mile_40 rfl (by decide +kernel)
  refine r_iconst (v := (0 : Int32)) (pc := 4) dX5_mile_4 (by decide) ?_
  refine r_goto (tgt := 40) (pc := 5) dX5_mile_5 (by decide) ?_
  exact r_iretP (pc := 40) dX5_mile_40 rfl (by decide +kernel)
theorem ct_X5_mile {l : Launch} {x0 : Int32} {M : QM} : ∀ b, f_X5_mile x0 M = some b → PM l yX5_mile (ws_ yX5_mile cX5_mile 1 (some .int)) rmX5_mile [.inl x0] M ((eP M) b).1 ((eP M) b).2 := fun b hb =>
  PM.of (own := RX5) rfl (by decide +kernel) (Nat.le_of_ble_eq_true rfl) false (fun h => nomatch h) (s_X5_mile b hb)
/-! X5_drives: BarnPicturesModel.drives(I)I, kind I -/
abbrev rmX5_drives : Room := ({ frames := 1, cells := 0, slots := 0, locals := 20 })
abbrev kX5_drives : QK := (RX5, cX5_drives, 3, (some .int), [], false, rmX5_drives)
noncomputable def f_X5_drives_26 (r0 : QR) (x1 : Int32) (s0 : Int32) (M : QM) : Option (Int32 × QM) :=
  (gR M r0 [(4, 0)]).bind fun v28 => 
    (aI M v28 (72 : Int32)).bind fun v34 => 
    (sI M v28 (72 : Int32) (v34 + s0)).bind fun m37 => 
    (gR m37 r0 [(4, 0)]).bind fun v39 => 
    (sI m37 v39 (54 : Int32) x1).bind fun m45 => 
    some (s0, m45)
theorem s_X5_drives_26 {l : Launch} {M0 : QM} : ∀ (r0 : QR) (x1 : Int32) (s0 : Int32) (d2 : Option QV) (M : QM) , SB eI l kX5_drives M0 (f_X5_drives_26 r0 x1 s0 M) (0, 0) 26 M [some (.inr r0), some (.inl x1), d2] [.inl s0] := by
  intro r0 x1 s0 d2 M
  unfold f_X5_drives_26
  refine r_istore_n (pc := 26) dX5_drives_26 (by decide) rfl ?_
  refine r_aload_n (pc := 27) dX5_drives_27 rfl ?_
  refine r_getR (pc := 28)  gf_X5_7 dX5_drives_28 (fun v28 => ?_)
  refine r_bipush (v := (72 : Int32)) (pc := 31) dX5_drives_31 (by decide) ?_
  refine r_dup2 (pc := 33) dX5_drives_33 ?_
  refine r_iald (pc := 34) dX5_drives_34 (fun v34 => ?_)
  refine r_iload_n (pc := 35) dX5_drives_35 rfl ?_
  refine r_iadd (pc := 36) dX5_drives_36 ?_
  refine r_iast (pc := 37) dX5_drives_37 (fun m37 => ?_)
  refine r_aload_n (pc := 38) dX5_drives_38 rfl ?_
  refine r_getR (pc := 39)  gf_X5_7 dX5_drives_39 (fun v39 => ?_)
  refine r_bipush (v := (54 : Int32)) (pc := 42) dX5_drives_42 (by decide) ?_
  refine r_iload_n (pc := 44) dX5_drives_44 rfl ?_
  refine r_iast (pc := 45) dX5_drives_45 (fun m45 => ?_)
  refine r_iload_n (pc := 46) dX5_drives_46 rfl ?_
  exact r_iretI (pc := 47) dX5_drives_47 rfl (by decide +kernel)
noncomputable def f_X5_drives (r0 : QR) (x1 : Int32) (M : QM) : Option (Int32 × QM) :=
  (f_X5_mile x1 M).bind fun v1 => 
    (gR M r0 [(4, 0)]).bind fun v5 => 
    (aI M v5 (54 : Int32)).bind fun v10 => 
    (f_X5_mile v10 M).bind fun v11 => 
    f_X5_drives_26 r0 x1 (if 0 ≤ (v1 - v11) then (v1 - v11) else (-(v1 - v11))) M
theorem s_X5_drives {l : Launch} {M0 : QM} {r0 : QR} {x1 : Int32} {M : QM} : SB eI l kX5_drives M0 (f_X5_drives r0 x1 M) (0, 0) 0 M [some (.inr r0), some (.inl x1), none] [] := by
  unfold f_X5_drives
  refine r_iload_n (pc := 0) dX5_drives_0 rfl ?_
  refine r_callS_P (st := []) (vs := [.inl x1]) (pc := 1)  ct_X5_mile cf_X5_50 rfl rfl (Nat.le_of_ble_eq_true rfl) (by decide +kernel) dX5_drives_1 (fun v1 => ?_)
  refine r_widen (u' := (0, 0)) (by decide +kernel) ?_
  refine r_aload_n (pc := 4) dX5_drives_4 rfl ?_
  refine r_getR (pc := 5)  gf_X5_7 dX5_drives_5 (fun v5 => ?_)
  refine r_bipush (v := (54 : Int32)) (pc := 8) dX5_drives_8 (by decide) ?_
  refine r_iald (pc := 10) dX5_drives_10 (fun v10 => ?_)
  refine r_callS_P (st := [.inl v1]) (vs := [.inl v10]) (pc := 11)  ct_X5_mile cf_X5_50 rfl rfl (Nat.le_of_ble_eq_true rfl) (by decide +kernel) dX5_drives_11 (fun v11 => ?_)
  refine r_widen (u' := (0, 0)) (by decide +kernel) ?_
  refine r_isub (pc := 14) dX5_drives_14 ?_
  refine r_istore_n (pc := 15) dX5_drives_15 (by decide) rfl ?_
  refine r_iload_n (pc := 16) dX5_drives_16 rfl ?_
  refine r_if_geF (F := (fun (z9 : Int32) => f_X5_drives_26 r0 x1 z9 M)) (zA := (v1 - v11)) (zB := (-(v1 - v11))) (pc := 17) (tgt := 25) dX5_drives_17 (by decide) ?_ ?_
  · refine r_iload_n (pc := 25) dX5_drives_25 rfl ?_
    exact s_X5_drives_26  _ _ _ _ _
  refine r_iload_n (pc := 20) dX5_drives_20 rfl ?_
  refine r_ineg (pc := 21) dX5_drives_21 ?_
  refine r_goto (tgt := 26) (pc := 22) dX5_drives_22 (by decide) ?_
  exact s_X5_drives_26  _ _ _ _ _
theorem ct_X5_drives {l : Launch} {r0 : QR} {x1 : Int32} {M : QM} : ∀ b, f_X5_drives r0 x1 M = some b → PM l yX5_drives (ws_ yX5_drives cX5_drives 3 (some .int)) rmX5_drives [.inr r0, .inl x1] M (eI b).1 (eI b).2 := fun b hb =>
  PM.of (own := RX5) rfl (by decide +kernel) (Nat.le_of_ble_eq_true rfl) false (fun h => nomatch h) (s_X5_drives b hb)
