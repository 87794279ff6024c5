/-! methods as functions over the memory (printed by gen/run.py) -/
set_option maxRecDepth 100000
/-! X0_stopped: BarnPictures.stopped(I)I, kind P -/
abbrev rmX0_stopped : Room := ({ frames := 2, cells := 0, slots := 0, locals := 41 })
abbrev kX0_stopped : QK := (RX0, cX0_stopped, 2, (some .int), [], false, rmX0_stopped)
noncomputable def f_X0_stopped (r0 : QR) (x1 : Int32) (M : QM) : Option (Int32) :=
  (f_X0_inRange x1 (0 : Int32) (1 : Int32) M).bind fun v3 => 
    if v3 = 0 then (some (-10000002 : Int32))
    else (gR M r0 [(0, 4)]).bind fun v13 => 
    if v13 = none then (some (-10000005 : Int32))
    else (gR M r0 [(0, 4)]).bind fun v25 => 
    (qrc M v25 [17] (f_X12_told v25 x1 M)).bind fun v29 => 
    some v29
theorem s_X0_stopped {l : Launch} {r0 : QR} {x1 : Int32} {M : QM} : SB (eP M) l kX0_stopped M (f_X0_stopped r0 x1 M) (0, 0) 0 M [some (.inr r0), some (.inl x1)] [] := by
  unfold f_X0_stopped
  refine r_iload_n (pc := 0) dX0_stopped_0 rfl ?_
  refine r_iconst (v := (0 : Int32)) (pc := 1) dX0_stopped_1 (by decide) ?_
  refine r_iconst (v := (1 : Int32)) (pc := 2) dX0_stopped_2 (by decide) ?_
  refine r_callS_P (st := []) (vs := [.inl x1, .inl (0 : Int32), .inl (1 : Int32)]) (pc := 3)  ct_X0_inRange cf_X0_55 rfl rfl (Nat.le_of_ble_eq_true rfl) (by decide +kernel) dX0_stopped_3 (fun v3 => ?_)
  refine r_widen (u' := (0, 0)) (by decide +kernel) ?_
  refine r_if_ne (pc := 6) (tgt := 12) dX0_stopped_6 (by decide) ?_ ?_
  · refine r_aload_n (pc := 12) dX0_stopped_12 rfl ?_
    refine r_getR (pc := 13)  gf_X0_141 dX0_stopped_13 (fun v13 => ?_)
    refine r_ifnonnull (pc := 16) (tgt := 24) dX0_stopped_16 (by decide) ?_ ?_
    · refine r_aload_n (pc := 24) dX0_stopped_24 rfl ?_
      refine r_getR (pc := 25)  gf_X0_141 dX0_stopped_25 (fun v25 => ?_)
      refine r_iload_n (pc := 28) dX0_stopped_28 rfl ?_
      refine r_callV_P (st := []) (vs := [.inl x1]) (pc := 29)  ct_X12_told hc_17 cf_X0_146 rfl rfl (Nat.le_of_ble_eq_true rfl) (by decide +kernel) dX0_stopped_29 (fun v29 => ?_)
      refine r_widen (u' := (0, 0)) (by decide +kernel) ?_
      exact r_iretP (pc := 32) dX0_stopped_32 rfl (by decide +kernel)
    refine r_ldc (pc := 19) dX0_stopped_19 q392 ?_
    refine r_goto (tgt := 32) (pc := 21) dX0_stopped_21 (by decide) ?_
    exact r_iretP (pc := 32) dX0_stopped_32 rfl (by decide +kernel)
  refine r_ldc (pc := 9) dX0_stopped_9 q384 ?_
  exact r_iretP (pc := 11) dX0_stopped_11 rfl (by decide +kernel)
theorem ct_X0_stopped {l : Launch} {r0 : QR} {x1 : Int32} {M : QM} : ∀ b, f_X0_stopped r0 x1 M = some b → PM l yX0_stopped (ws_ yX0_stopped cX0_stopped 2 (some .int)) rmX0_stopped [.inr r0, .inl x1] M ((eP M) b).1 ((eP M) b).2 := fun b hb =>
  PM.of (own := RX0) rfl (by decide +kernel) (Nat.le_of_ble_eq_true rfl) false (fun h => nomatch h) (s_X0_stopped b hb)
/-! X5_stopped: BarnPicturesModel.stopped(I)I, kind P -/
abbrev rmX5_stopped : Room := ({ frames := 1, cells := 0, slots := 0, locals := 22 })
abbrev kX5_stopped : QK := (RX5, cX5_stopped, 2, (some .int), [], false, rmX5_stopped)
noncomputable def f_X5_stopped (r0 : QR) (x1 : Int32) (M : QM) : Option (Int32) :=
  (f_X5_in x1 (0 : Int32) (1 : Int32) M).bind fun v3 => 
    if v3 = 0 then (some (-10000002 : Int32))
    else if x1 = 0 then ((gI M r0 [(4, 8)]).bind fun v19 => 
      some v19)
    else (gI M r0 [(4, 9)]).bind fun v26 => 
    some v26
theorem s_X5_stopped {l : Launch} {r0 : QR} {x1 : Int32} {M : QM} : SB (eP M) l kX5_stopped M (f_X5_stopped r0 x1 M) (0, 0) 0 M [some (.inr r0), some (.inl x1)] [] := by
  unfold f_X5_stopped
  refine r_iload_n (pc := 0) dX5_stopped_0 rfl ?_
  refine r_iconst (v := (0 : Int32)) (pc := 1) dX5_stopped_1 (by decide) ?_
  refine r_iconst (v := (1 : Int32)) (pc := 2) dX5_stopped_2 (by decide) ?_
  refine r_callS_P (st := []) (vs := [.inl x1, .inl (0 : Int32), .inl (1 : Int32)]) (pc := 3)  ct_X5_in cf_X5_37 rfl rfl (Nat.le_of_ble_eq_true rfl) (by decide +kernel) dX5_stopped_3 (fun v3 => ?_)
  refine r_widen (u' := (0, 0)) (by decide +kernel) ?_
  refine r_if_ne (pc := 6) (tgt := 14) dX5_stopped_6 (by decide) ?_ ?_
  · refine r_iload_n (pc := 14) dX5_stopped_14 rfl ?_
    refine r_if_ne (pc := 15) (tgt := 25) dX5_stopped_15 (by decide) ?_ ?_
    · refine r_aload_n (pc := 25) dX5_stopped_25 rfl ?_
      refine r_getI (pc := 26)  gf_X5_30 dX5_stopped_26 (fun v26 => ?_)
      exact r_iretP (pc := 29) dX5_stopped_29 rfl (by decide +kernel)
    refine r_aload_n (pc := 18) dX5_stopped_18 rfl ?_
    refine r_getI (pc := 19)  gf_X5_26 dX5_stopped_19 (fun v19 => ?_)
    refine r_goto (tgt := 29) (pc := 22) dX5_stopped_22 (by decide) ?_
    exact r_iretP (pc := 29) dX5_stopped_29 rfl (by decide +kernel)
  refine r_ldc (pc := 9) dX5_stopped_9 q1208 ?_
  refine r_goto (tgt := 29) (pc := 11) dX5_stopped_11 (by decide) ?_
  exact r_iretP (pc := 29) dX5_stopped_29 rfl (by decide +kernel)
theorem ct_X5_stopped {l : Launch} {r0 : QR} {x1 : Int32} {M : QM} : ∀ b, f_X5_stopped r0 x1 M = some b → PM l yX5_stopped (ws_ yX5_stopped cX5_stopped 2 (some .int)) rmX5_stopped [.inr r0, .inl x1] M ((eP M) b).1 ((eP M) b).2 := fun b hb =>
  PM.of (own := RX5) rfl (by decide +kernel) (Nat.le_of_ble_eq_true rfl) false (fun h => nomatch h) (s_X5_stopped b hb)
/-! J2_isEmpty: java/util/ArrayList.isEmpty()Z, kind P -/
abbrev rmJ2_isEmpty : Room := ({ frames := 0, cells := 0, slots := 0, locals := 0 })
abbrev kJ2_isEmpty : QK := (RJ2, cJ2_isEmpty, 1, (some .boolean), [], false, rmJ2_isEmpty)
noncomputable def f_J2_isEmpty (r0 : QR) (M : QM) : Option (Int32) :=
  (gI M r0 [(7, 2)]).bind fun v1 => 
    if v1 = 0 then (some (1 : Int32))
    else some (0 : Int32)
theorem s_J2_isEmpty {l : Launch} {r0 : QR} {M : QM} : SB (eP M) l kJ2_isEmpty M (f_J2_isEmpty r0 M) (0, 0) 0 M [some (.inr r0)] [] := by
  unfold f_J2_isEmpty
  refine r_aload_n (pc := 0) dJ2_isEmpty_0 rfl ?_
  refine r_getI (pc := 1)  gf_J2_48 dJ2_isEmpty_1 (fun v1 => ?_)
  refine r_if_ne (pc := 4) (tgt := 11) dJ2_isEmpty_4 (by decide) ?_ ?_
  · refine r_iconst (v := (0 : Int32)) (pc := 11) dJ2_isEmpty_11 (by decide) ?_
    exact r_zretP (pc := 12) dJ2_isEmpty_12 rfl rfl (by decide +kernel)
  refine r_iconst (v := (1 : Int32)) (pc := 7) dJ2_isEmpty_7 (by decide) ?_
  refine r_goto (tgt := 12) (pc := 8) dJ2_isEmpty_8 (by decide) ?_
  exact r_zretP (pc := 12) dJ2_isEmpty_12 rfl rfl (by decide +kernel)
theorem ct_J2_isEmpty {l : Launch} {r0 : QR} {M : QM} : ∀ b, f_J2_isEmpty r0 M = some b → PM l yJ2_isEmpty (ws_ yJ2_isEmpty cJ2_isEmpty 1 (some .boolean)) rmJ2_isEmpty [.inr r0] M ((eP M) b).1 ((eP M) b).2 := fun b hb =>
  PM.of (own := RJ2) rfl (by decide +kernel) (Nat.le_of_ble_eq_true rfl) false (fun h => nomatch h) (s_J2_isEmpty b hb)
/-! X0_undo: BarnPictures.undo()I, kind I -/
abbrev rmX0_undo : Room := ({ frames := 3, cells := 0, slots := 0, locals := 86 })
abbrev kX0_undo : QK := (RX0, cX0_undo, 1, (some .int), [], false, rmX0_undo)
noncomputable def f_X0_undo (r0 : QR) (M : QM) : Option (Int32 × QM) :=
  (gR M r0 [(0, 2)]).bind fun v1 => 
    (qrc M v1 [7] (f_J2_isEmpty v1 M)).bind fun v4 => 
    if v4 = 0 then ((gR M r0 [(0, 2)]).bind fun v17 => 
      (gR M r0 [(0, 2)]).bind fun v21 => 
      (qrc M v21 [7] (f_J2_size v21 M)).bind fun v24 => 
      qbR (qrc M v17 [7] (f_J2_remove v17 (v24 - (1 : Int32)) M)) fun v31 m31 => 
      (qcast m31 v31 1).bind fun _ => 
      (pF m31 r0 [(0, 0)] (.inr v31)).bind fun m39 => 
      (gR m39 r0 [(0, 2)]).bind fun v43 => 
      (qrc m39 v43 [7] (f_J2_size v43 m39)).bind fun v46 => 
      some (v46, m39))
    else some ((-10000005 : Int32), M)
theorem s_X0_undo {l : Launch} {M0 : QM} {r0 : QR} {M : QM} : SB eI l kX0_undo M0 (f_X0_undo r0 M) (0, 0) 0 M [some (.inr r0)] [] := by
  unfold f_X0_undo
  refine r_aload_n (pc := 0) dX0_undo_0 rfl ?_
  refine r_getR (pc := 1)  gf_X0_29 dX0_undo_1 (fun v1 => ?_)
  refine r_callF_P (st := []) (vs := []) (pc := 4)  ct_J2_isEmpty hc_7 cf_X0_149 rfl rfl (Nat.le_of_ble_eq_true rfl) (by decide +kernel) dX0_undo_4 (fun v4 => ?_)
  refine r_widen (u' := (0, 0)) (by decide +kernel) ?_
  refine r_if_eq (pc := 9) (tgt := 15) dX0_undo_9 (by decide) ?_ ?_
  · refine r_aload_n (pc := 15) dX0_undo_15 rfl ?_
    refine r_aload_n (pc := 16) dX0_undo_16 rfl ?_
    refine r_getR (pc := 17)  gf_X0_29 dX0_undo_17 (fun v17 => ?_)
    refine r_aload_n (pc := 20) dX0_undo_20 rfl ?_
    refine r_getR (pc := 21)  gf_X0_29 dX0_undo_21 (fun v21 => ?_)
    refine r_callF_P (st := [.inr v17, .inr r0]) (vs := []) (pc := 24)  ct_J2_size hc_7 cf_X0_41 rfl rfl (Nat.le_of_ble_eq_true rfl) (by decide +kernel) dX0_undo_24 (fun v24 => ?_)
    refine r_widen (u' := (0, 0)) (by decide +kernel) ?_
    refine r_iconst (v := (1 : Int32)) (pc := 29) dX0_undo_29 (by decide) ?_
    refine r_isub (pc := 30) dX0_undo_30 ?_
    refine r_callF_R (st := [.inr r0]) (vs := [.inl (v24 - (1 : Int32))]) (pc := 31)  ct_J2_remove hc_7 cf_X0_47 rfl rfl (Nat.le_of_ble_eq_true rfl) (by decide +kernel) dX0_undo_31 (fun v31 m31 => ?_)
    refine r_widen (u' := (0, 0)) (by decide +kernel) ?_
    refine r_cast (pc := 36)  rfl q84 dX0_undo_36 ?_
    refine r_put (pc := 39)  pf_X0_22 (fun h => nomatch h) (fit_obj _ _) dX0_undo_39 (fun m39 => ?_)
    refine r_aload_n (pc := 42) dX0_undo_42 rfl ?_
    refine r_getR (pc := 43)  gf_X0_29 dX0_undo_43 (fun v43 => ?_)
    refine r_callF_P (st := []) (vs := []) (pc := 46)  ct_J2_size hc_7 cf_X0_41 rfl rfl (Nat.le_of_ble_eq_true rfl) (by decide +kernel) dX0_undo_46 (fun v46 => ?_)
    refine r_widen (u' := (0, 0)) (by decide +kernel) ?_
    exact r_iretI (pc := 51) dX0_undo_51 rfl (by decide +kernel)
  refine r_ldc (pc := 12) dX0_undo_12 q392 ?_
  exact r_iretI (pc := 14) dX0_undo_14 rfl (by decide +kernel)
theorem ct_X0_undo {l : Launch} {r0 : QR} {M : QM} : ∀ b, f_X0_undo r0 M = some b → PM l yX0_undo (ws_ yX0_undo cX0_undo 1 (some .int)) rmX0_undo [.inr r0] M (eI b).1 (eI b).2 := fun b hb =>
  PM.of (own := RX0) rfl (by decide +kernel) (Nat.le_of_ble_eq_true rfl) false (fun h => nomatch h) (s_X0_undo b hb)
/-! X5_undo: BarnPicturesModel.undo()I, kind I -/
abbrev rmX5_undo : Room := ({ frames := 0, cells := 0, slots := 0, locals := 0 })
abbrev kX5_undo : QK := (RX5, cX5_undo, 2, (some .int), [], false, rmX5_undo)
noncomputable def f_X5_undo_22 : Nat → QR → Int32 → QM → Option (Int32 × QM)
  | 0, _, _, _ => none
  | n + 1, r0, x1, M =>
    if (108 : Int32) ≤ x1 then ((gI M r0 [(4, 3)]).bind fun v55 => 
      some (v55, M))
    else (gR M r0 [(4, 0)]).bind fun v29 => 
    (gR M r0 [(4, 2)]).bind fun v34 => 
    (gI M r0 [(4, 3)]).bind fun v40 => 
    (aI M v34 (((108 : Int32) * v40) + x1)).bind fun v46 => 
    (sI M v29 x1 v46).bind fun m47 => 
    f_X5_undo_22 n r0 (x1 + (1 : Int32)) m47
theorem s_X5_undo_22 {l : Launch} {M0 : QM} : ∀ (n : Nat) (r0 : QR) (x1 : Int32) (M : QM) , SB eI l kX5_undo M0 (f_X5_undo_22 n r0 x1 M) (0, 0) 22 M [some (.inr r0), some (.inl x1)] [] := by
  intro n
  induction n with
  | zero => intros; rw [f_X5_undo_22]; exact r_none
  | succ n ih =>
    intro r0 x1  M
    rw [f_X5_undo_22]
    refine r_iload_n (pc := 22) dX5_undo_22 rfl ?_
    refine r_bipush (v := (108 : Int32)) (pc := 23) dX5_undo_23 (by decide) ?_
    refine r_icmp_ge (pc := 25) (tgt := 54) dX5_undo_25 (by decide) ?_ ?_
    · refine r_aload_n (pc := 54) dX5_undo_54 rfl ?_
      refine r_getI (pc := 55)  gf_X5_41 dX5_undo_55 (fun v55 => ?_)
      exact r_iretI (pc := 58) dX5_undo_58 rfl (by decide +kernel)
    refine r_aload_n (pc := 28) dX5_undo_28 rfl ?_
    refine r_getR (pc := 29)  gf_X5_7 dX5_undo_29 (fun v29 => ?_)
    refine r_iload_n (pc := 32) dX5_undo_32 rfl ?_
    refine r_aload_n (pc := 33) dX5_undo_33 rfl ?_
    refine r_getR (pc := 34)  gf_X5_16 dX5_undo_34 (fun v34 => ?_)
    refine r_bipush (v := (108 : Int32)) (pc := 37) dX5_undo_37 (by decide) ?_
    refine r_aload_n (pc := 39) dX5_undo_39 rfl ?_
    refine r_getI (pc := 40)  gf_X5_41 dX5_undo_40 (fun v40 => ?_)
    refine r_imul (pc := 43) dX5_undo_43 ?_
    refine r_iload_n (pc := 44) dX5_undo_44 rfl ?_
    refine r_iadd (pc := 45) dX5_undo_45 ?_
    refine r_iald (pc := 46) dX5_undo_46 (fun v46 => ?_)
    refine r_iast (pc := 47) dX5_undo_47 (fun m47 => ?_)
    refine r_iinc (v := (x1 + (1 : Int32))) (pc := 48) dX5_undo_48 rfl rfl (by decide) rfl ?_
    refine r_goto (tgt := 22) (pc := 51) dX5_undo_51 (by decide) ?_
    exact ih _ _ _
noncomputable def f_X5_undo (r0 : QR) (M : QM) : Option (Int32 × QM) :=
  (gI M r0 [(4, 3)]).bind fun v1 => 
    if v1 = 0 then (some ((-10000005 : Int32), M))
    else (gI M r0 [(4, 3)]).bind fun v12 => 
    (pF M r0 [(4, 3)] (.inl (v12 - (1 : Int32)))).bind fun m17 => 
    f_X5_undo_22 109 r0 (0 : Int32) m17
theorem s_X5_undo {l : Launch} {M0 : QM} {r0 : QR} {M : QM} : SB eI l kX5_undo M0 (f_X5_undo r0 M) (0, 0) 0 M [some (.inr r0), none] [] := by
  unfold f_X5_undo
  refine r_aload_n (pc := 0) dX5_undo_0 rfl ?_
  refine r_getI (pc := 1)  gf_X5_41 dX5_undo_1 (fun v1 => ?_)
  refine r_if_ne (pc := 4) (tgt := 10) dX5_undo_4 (by decide) ?_ ?_
  · refine r_aload_n (pc := 10) dX5_undo_10 rfl ?_
    refine r_dup (pc := 11) dX5_undo_11 ?_
    refine r_getI (pc := 12)  gf_X5_41 dX5_undo_12 (fun v12 => ?_)
    refine r_iconst (v := (1 : Int32)) (pc := 15) dX5_undo_15 (by decide) ?_
    refine r_isub (pc := 16) dX5_undo_16 ?_
    refine r_put (pc := 17)  pf_X5_41 (fun h => nomatch h) (fit_int _) dX5_undo_17 (fun m17 => ?_)
    refine r_iconst (v := (0 : Int32)) (pc := 20) dX5_undo_20 (by decide) ?_
    refine r_istore_n (pc := 21) dX5_undo_21 (by decide) rfl ?_
    exact s_X5_undo_22  109 _ _ _
  refine r_ldc (pc := 7) dX5_undo_7 q1092 ?_
  exact r_iretI (pc := 9) dX5_undo_9 rfl (by decide +kernel)
theorem ct_X5_undo {l : Launch} {r0 : QR} {M : QM} : ∀ b, f_X5_undo r0 M = some b → PM l yX5_undo (ws_ yX5_undo cX5_undo 2 (some .int)) rmX5_undo [.inr r0] M (eI b).1 (eI b).2 := fun b hb =>
  PM.of (own := RX5) rfl (by decide +kernel) (Nat.le_of_ble_eq_true rfl) false (fun h => nomatch h) (s_X5_undo b hb)
/-! X0_keep: BarnPictures.keep()I, kind I -/
abbrev rmX0_keep : Room := ({ frames := 5, cells := 21, slots := 143, locals := 96 })
abbrev kX0_keep : QK := (RX0, cX0_keep, 1, (some .int), [], false, rmX0_keep)
noncomputable def f_X0_keep (r0 : QR) (M : QM) : Option (Int32 × QM) :=
  (nO M (M.1, 0) (.inl (1, fs_1))).bind fun m1 => 
    (gR m1 r0 [(0, 0)]).bind fun v6 => 
    (qnn (some (M.1, 0)) (f_X1_init_2 M.1 (some (M.1, 0)) v6 m1)).bind fun m9 => 
    (pF m9 r0 [(0, 1)] (.inr (some (M.1, 0)))).bind fun m12 => 
    (gR m12 r0 [(0, 0)]).bind fun v16 => 
    (gI m12 v16 [(1, 7)]).bind fun v19 => 
    some (v19, m12)
theorem s_X0_keep {l : Launch} {M0 : QM} {r0 : QR} {M : QM} : SB eI l kX0_keep M0 (f_X0_keep r0 M) (0, 0) 0 M [some (.inr r0)] [] := by
  unfold f_X0_keep
  refine r_aload_n (pc := 0) dX0_keep_0 rfl ?_
  refine r_new (pc := 1)  nf_X0_19 (by decide +kernel) dX0_keep_1 (fun m1 => ?_)
  refine r_widen (u' := (1, 14)) (by decide +kernel) ?_
  refine r_dup (pc := 4) dX0_keep_4 ?_
  refine r_aload_n (pc := 5) dX0_keep_5 rfl ?_
  refine r_getR (pc := 6)  gf_X0_22 dX0_keep_6 (fun v6 => ?_)
  refine r_callI_V (st := [.inr (some (M.1, 0)), .inr r0]) (vs := [.inr v6]) (pc := 9)  ct_X1_init_2 cf_X0_59 rfl rfl (Nat.le_of_ble_eq_true rfl) (by decide +kernel) dX0_keep_9 (fun m9 => ?_)
  refine r_widen (u' := (21, 143)) (by decide +kernel) ?_
  refine r_put (pc := 12)  pf_X0_153 (fun h => nomatch h) (fit_obj _ _) dX0_keep_12 (fun m12 => ?_)
  refine r_aload_n (pc := 15) dX0_keep_15 rfl ?_
  refine r_getR (pc := 16)  gf_X0_22 dX0_keep_16 (fun v16 => ?_)
  refine r_getI (pc := 19)  gf_X0_156 dX0_keep_19 (fun v19 => ?_)
  exact r_iretI (pc := 22) dX0_keep_22 rfl (by decide +kernel)
theorem ct_X0_keep {l : Launch} {r0 : QR} {M : QM} : ∀ b, f_X0_keep r0 M = some b → PM l yX0_keep (ws_ yX0_keep cX0_keep 1 (some .int)) rmX0_keep [.inr r0] M (eI b).1 (eI b).2 := fun b hb =>
  PM.of (own := RX0) rfl (by decide +kernel) (Nat.le_of_ble_eq_true rfl) false (fun h => nomatch h) (s_X0_keep b hb)
/-! X5_keep: BarnPicturesModel.keep()I, kind I -/
abbrev rmX5_keep : Room := ({ frames := 0, cells := 0, slots := 0, locals := 0 })
abbrev kX5_keep : QK := (RX5, cX5_keep, 2, (some .int), [], false, rmX5_keep)
noncomputable def f_X5_keep_2 : Nat → QR → Int32 → QM → Option (Int32 × QM)
  | 0, _, _, _ => none
  | n + 1, r0, x1, M =>
    if (108 : Int32) ≤ x1 then (qnf .boolean (1 : Int32) <| (pF M r0 [(4, 5)] (.inl (1 : Int32))).bind fun m28 => 
      (gR m28 r0 [(4, 0)]).bind fun v32 => 
      (aI m28 v32 (55 : Int32)).bind fun v37 => 
      some (v37, m28))
    else (gR M r0 [(4, 4)]).bind fun v9 => 
    (gR M r0 [(4, 0)]).bind fun v14 => 
    (aI M v14 x1).bind fun v18 => 
    (sI M v9 x1 v18).bind fun m19 => 
    f_X5_keep_2 n r0 (x1 + (1 : Int32)) m19
theorem s_X5_keep_2 {l : Launch} {M0 : QM} : ∀ (n : Nat) (r0 : QR) (x1 : Int32) (M : QM) , SB eI l kX5_keep M0 (f_X5_keep_2 n r0 x1 M) (0, 0) 2 M [some (.inr r0), some (.inl x1)] [] := by
  intro n
  induction n with
  | zero => intros; rw [f_X5_keep_2]; exact r_none
  | succ n ih =>
    intro r0 x1  M
    rw [f_X5_keep_2]
    refine r_iload_n (pc := 2) dX5_keep_2 rfl ?_
    refine r_bipush (v := (108 : Int32)) (pc := 3) dX5_keep_3 (by decide) ?_
    refine r_icmp_ge (pc := 5) (tgt := 26) dX5_keep_5 (by decide) ?_ ?_
    · refine r_aload_n (pc := 26) dX5_keep_26 rfl ?_
      refine r_iconst (v := (1 : Int32)) (pc := 27) dX5_keep_27 (by decide) ?_
      refine r_putN (pc := 28)  pf_X5_170 (fun h => nomatch h) (by decide) dX5_keep_28 (fun m28 => ?_)
      refine r_aload_n (pc := 31) dX5_keep_31 rfl ?_
      refine r_getR (pc := 32)  gf_X5_7 dX5_keep_32 (fun v32 => ?_)
      refine r_bipush (v := (55 : Int32)) (pc := 35) dX5_keep_35 (by decide) ?_
      refine r_iald (pc := 37) dX5_keep_37 (fun v37 => ?_)
      exact r_iretI (pc := 38) dX5_keep_38 rfl (by decide +kernel)
    refine r_aload_n (pc := 8) dX5_keep_8 rfl ?_
    refine r_getR (pc := 9)  gf_X5_19 dX5_keep_9 (fun v9 => ?_)
    refine r_iload_n (pc := 12) dX5_keep_12 rfl ?_
    refine r_aload_n (pc := 13) dX5_keep_13 rfl ?_
    refine r_getR (pc := 14)  gf_X5_7 dX5_keep_14 (fun v14 => ?_)
    refine r_iload_n (pc := 17) dX5_keep_17 rfl ?_
    refine r_iald (pc := 18) dX5_keep_18 (fun v18 => ?_)
    refine r_iast (pc := 19) dX5_keep_19 (fun m19 => ?_)
    refine r_iinc (v := (x1 + (1 : Int32))) (pc := 20) dX5_keep_20 rfl rfl (by decide) rfl ?_
    refine r_goto (tgt := 2) (pc := 23) dX5_keep_23 (by decide) ?_
    exact ih _ _ _
noncomputable def f_X5_keep (r0 : QR) (M : QM) : Option (Int32 × QM) :=
  f_X5_keep_2 109 r0 (0 : Int32) M
theorem s_X5_keep {l : Launch} {M0 : QM} {r0 : QR} {M : QM} : SB eI l kX5_keep M0 (f_X5_keep r0 M) (0, 0) 0 M [some (.inr r0), none] [] := by
  unfold f_X5_keep
  refine r_iconst (v := (0 : Int32)) (pc := 0) dX5_keep_0 (by decide) ?_
  refine r_istore_n (pc := 1) dX5_keep_1 (by decide) rfl ?_
  exact s_X5_keep_2  109 _ _ _
theorem ct_X5_keep {l : Launch} {r0 : QR} {M : QM} : ∀ b, f_X5_keep r0 M = some b → PM l yX5_keep (ws_ yX5_keep cX5_keep 2 (some .int)) rmX5_keep [.inr r0] M (eI b).1 (eI b).2 := fun b hb =>
  PM.of (own := RX5) rfl (by decide +kernel) (Nat.le_of_ble_eq_true rfl) false (fun h => nomatch h) (s_X5_keep b hb)
/-! X0_restore: BarnPictures.restore()I, kind I -/
abbrev rmX0_restore : Room := ({ frames := 8, cells := 22, slots := 207, locals := 193 })
abbrev kX0_restore : QK := (RX0, cX0_restore, 1, (some .int), [], false, rmX0_restore)
noncomputable def f_X0_restore (r0 : QR) (M : QM) : Option (Int32 × QM) :=
  (gR M r0 [(0, 1)]).bind fun v1 => 
    if v1 = none then (some ((-10000005 : Int32), M))
    else (nO M (M.1, 0) (.inl (1, fs_1))).bind fun m13 => 
    (gR m13 r0 [(0, 1)]).bind fun v18 => 
    (qnn (some (M.1, 0)) (f_X1_init_2 M.1 (some (M.1, 0)) v18 m13)).bind fun m21 => 
    (gR m21 r0 [(0, 1)]).bind fun v25 => 
    (gI m21 v25 [(1, 7)]).bind fun v28 => 
    qbI (qrc m21 r0 [0] (f_X0_accept r0 (some (M.1, 0)) v28 m21)) fun v31 m31 => 
    some (v31, m31)
theorem s_X0_restore {l : Launch} {M0 : QM} {r0 : QR} {M : QM} : SB eI l kX0_restore M0 (f_X0_restore r0 M) (0, 0) 0 M [some (.inr r0)] [] := by
  unfold f_X0_restore
  refine r_aload_n (pc := 0) dX0_restore_0 rfl ?_
  refine r_getR (pc := 1)  gf_X0_153 dX0_restore_1 (fun v1 => ?_)
  refine r_ifnonnull (pc := 4) (tgt := 12) dX0_restore_4 (by decide) ?_ ?_
  · refine r_aload_n (pc := 12) dX0_restore_12 rfl ?_
    refine r_new (pc := 13)  nf_X0_19 (by decide +kernel) dX0_restore_13 (fun m13 => ?_)
    refine r_widen (u' := (1, 14)) (by decide +kernel) ?_
    refine r_dup (pc := 16) dX0_restore_16 ?_
    refine r_aload_n (pc := 17) dX0_restore_17 rfl ?_
    refine r_getR (pc := 18)  gf_X0_153 dX0_restore_18 (fun v18 => ?_)
    refine r_callI_V (st := [.inr (some (M.1, 0)), .inr r0]) (vs := [.inr v18]) (pc := 21)  ct_X1_init_2 cf_X0_59 rfl rfl (Nat.le_of_ble_eq_true rfl) (by decide +kernel) dX0_restore_21 (fun m21 => ?_)
    refine r_widen (u' := (21, 143)) (by decide +kernel) ?_
    refine r_aload_n (pc := 24) dX0_restore_24 rfl ?_
    refine r_getR (pc := 25)  gf_X0_153 dX0_restore_25 (fun v25 => ?_)
    refine r_getI (pc := 28)  gf_X0_156 dX0_restore_28 (fun v28 => ?_)
    refine r_callV_I (st := []) (vs := [.inr (some (M.1, 0)), .inl v28]) (pc := 31)  ct_X0_accept hc_0 cf_X0_66 rfl rfl (Nat.le_of_ble_eq_true rfl) (by decide +kernel) dX0_restore_31 (fun v31 m31 => ?_)
    refine r_widen (u' := (22, 207)) (by decide +kernel) ?_
    exact r_iretI (pc := 34) dX0_restore_34 rfl (by decide +kernel)
  refine r_ldc (pc := 7) dX0_restore_7 q392 ?_
  refine r_goto (tgt := 34) (pc := 9) dX0_restore_9 (by decide) ?_
  exact r_iretI (pc := 34) dX0_restore_34 rfl (by decide +kernel)
theorem ct_X0_restore {l : Launch} {r0 : QR} {M : QM} : ∀ b, f_X0_restore r0 M = some b → PM l yX0_restore (ws_ yX0_restore cX0_restore 1 (some .int)) rmX0_restore [.inr r0] M (eI b).1 (eI b).2 := fun b hb =>
  PM.of (own := RX0) rfl (by decide +kernel) (Nat.le_of_ble_eq_true rfl) false (fun h => nomatch h) (s_X0_restore b hb)
/-! X5_restore: BarnPicturesModel.restore()I, kind I -/
abbrev rmX5_restore : Room := ({ frames := 1, cells := 0, slots := 0, locals := 21 })
abbrev kX5_restore : QK := (RX5, cX5_restore, 2, (some .int), [], false, rmX5_restore)
noncomputable def f_X5_restore_16 : Nat → QR → Int32 → QM → Option (Int32 × QM)
  | 0, _, _, _ => none
  | n + 1, r0, x1, M =>
    if (108 : Int32) ≤ x1 then ((gR M r0 [(4, 0)]).bind fun v41 => 
      (aI M v41 (55 : Int32)).bind fun v46 => 
      some (v46, M))
    else (gR M r0 [(4, 0)]).bind fun v23 => 
    (gR M r0 [(4, 4)]).bind fun v28 => 
    (aI M v28 x1).bind fun v32 => 
    (sI M v23 x1 v32).bind fun m33 => 
    f_X5_restore_16 n r0 (x1 + (1 : Int32)) m33
theorem s_X5_restore_16 {l : Launch} {M0 : QM} : ∀ (n : Nat) (r0 : QR) (x1 : Int32) (M : QM) , SB eI l kX5_restore M0 (f_X5_restore_16 n r0 x1 M) (0, 0) 16 M [some (.inr r0), some (.inl x1)] [] := by
  intro n
  induction n with
  | zero => intros; rw [f_X5_restore_16]; exact r_none
  | succ n ih =>
    intro r0 x1  M
    rw [f_X5_restore_16]
    refine r_iload_n (pc := 16) dX5_restore_16 rfl ?_
    refine r_bipush (v := (108 : Int32)) (pc := 17) dX5_restore_17 (by decide) ?_
    refine r_icmp_ge (pc := 19) (tgt := 40) dX5_restore_19 (by decide) ?_ ?_
    · refine r_aload_n (pc := 40) dX5_restore_40 rfl ?_
      refine r_getR (pc := 41)  gf_X5_7 dX5_restore_41 (fun v41 => ?_)
      refine r_bipush (v := (55 : Int32)) (pc := 44) dX5_restore_44 (by decide) ?_
      refine r_iald (pc := 46) dX5_restore_46 (fun v46 => ?_)
      exact r_iretI (pc := 47) dX5_restore_47 rfl (by decide +kernel)
    refine r_aload_n (pc := 22) dX5_restore_22 rfl ?_
    refine r_getR (pc := 23)  gf_X5_7 dX5_restore_23 (fun v23 => ?_)
    refine r_iload_n (pc := 26) dX5_restore_26 rfl ?_
    refine r_aload_n (pc := 27) dX5_restore_27 rfl ?_
    refine r_getR (pc := 28)  gf_X5_19 dX5_restore_28 (fun v28 => ?_)
    refine r_iload_n (pc := 31) dX5_restore_31 rfl ?_
    refine r_iald (pc := 32) dX5_restore_32 (fun v32 => ?_)
    refine r_iast (pc := 33) dX5_restore_33 (fun m33 => ?_)
    refine r_iinc (v := (x1 + (1 : Int32))) (pc := 34) dX5_restore_34 rfl rfl (by decide) rfl ?_
    refine r_goto (tgt := 16) (pc := 37) dX5_restore_37 (by decide) ?_
    exact ih _ _ _
noncomputable def f_X5_restore (r0 : QR) (M : QM) : Option (Int32 × QM) :=
  (gI M r0 [(4, 5)]).bind fun v1 => 
    if v1 = 0 then (some ((-10000005 : Int32), M))
    else (qrc M r0 [4] (f_X5_know r0 M)).bind fun m11 => 
    f_X5_restore_16 109 r0 (0 : Int32) m11
theorem s_X5_restore {l : Launch} {M0 : QM} {r0 : QR} {M : QM} : SB eI l kX5_restore M0 (f_X5_restore r0 M) (0, 0) 0 M [some (.inr r0), none] [] := by
  unfold f_X5_restore
  refine r_aload_n (pc := 0) dX5_restore_0 rfl ?_
  refine r_getI (pc := 1)  gf_X5_170 dX5_restore_1 (fun v1 => ?_)
  refine r_if_ne (pc := 4) (tgt := 10) dX5_restore_4 (by decide) ?_ ?_
  · refine r_aload_n (pc := 10) dX5_restore_10 rfl ?_
    refine r_callV_V (st := []) (vs := []) (pc := 11)  ct_X5_know hc_4 cf_X5_83 rfl rfl (Nat.le_of_ble_eq_true rfl) (by decide +kernel) dX5_restore_11 (fun m11 => ?_)
    refine r_widen (u' := (0, 0)) (by decide +kernel) ?_
    refine r_iconst (v := (0 : Int32)) (pc := 14) dX5_restore_14 (by decide) ?_
    refine r_istore_n (pc := 15) dX5_restore_15 (by decide) rfl ?_
    exact s_X5_restore_16  109 _ _ _
  refine r_ldc (pc := 7) dX5_restore_7 q1092 ?_
  exact r_iretI (pc := 9) dX5_restore_9 rfl (by decide +kernel)
theorem ct_X5_restore {l : Launch} {r0 : QR} {M : QM} : ∀ b, f_X5_restore r0 M = some b → PM l yX5_restore (ws_ yX5_restore cX5_restore 2 (some .int)) rmX5_restore [.inr r0] M (eI b).1 (eI b).2 := fun b hb =>
  PM.of (own := RX5) rfl (by decide +kernel) (Nat.le_of_ble_eq_true rfl) false (fun h => nomatch h) (s_X5_restore b hb)
/-! X3_bears: BarnPictures$Reel.bears()I, kind PP -/
abbrev rmX3_bears : Room := ({ frames := 4, cells := 1, slots := 6, locals := 74 })
abbrev kX3_bears : QK := (RX3, cX3_bears, 3, (some .int), [], false, rmX3_bears)
noncomputable def f_X3_bears_7 (Mo : QM) : Nat → QR → Int32 → QM → Option (Int32)
  | 0, _, _, _ => none
  | n + 1, r1, x2, M =>
    (qrc M r1 [2] (f_X3_isGone r1 M)).bind fun v8 => 
    if v8 = 0 then (qbI (qrc M r1 [2] (f_X3_wears r1 (0 : Int32) M)) fun v16 m16 => 
      f_X3_bears_7 Mo n r1 (x2 + (1 : Int32)) m16)
    else qpure Mo M x2
theorem s_X3_bears_7 {l : Launch} (Mo : QM) : ∀ (n : Nat) (r1 : QR) (x2 : Int32) (d0 : Option QV) (M : QM) , SB (eP Mo) l kX3_bears Mo (f_X3_bears_7 Mo n r1 x2 M) (1, 6) 7 M [d0, some (.inr r1), some (.inl x2)] [] := by
  intro n
  induction n with
  | zero => intros; rw [f_X3_bears_7]; exact r_none
  | succ n ih =>
    intro r1 x2 d0 M
    rw [f_X3_bears_7]
    refine r_aload_n (pc := 7) dX3_bears_7 rfl ?_
    refine r_callV_P (st := []) (vs := []) (pc := 8)  ct_X3_isGone hc_2 cf_X3_37 rfl rfl (Nat.le_of_ble_eq_true rfl) (by decide +kernel) dX3_bears_8 (fun v8 => ?_)
    refine r_widen (u' := (1, 6)) (by decide +kernel) ?_
    refine r_if_ne (pc := 11) (tgt := 26) dX3_bears_11 (by decide) ?_ ?_
    · refine r_iload_n (pc := 26) dX3_bears_26 rfl ?_
      exact r_iretPP (pc := 27) dX3_bears_27 rfl (by decide +kernel)
    refine r_aload_n (pc := 14) dX3_bears_14 rfl ?_
    refine r_iconst (v := (0 : Int32)) (pc := 15) dX3_bears_15 (by decide) ?_
    refine r_callV_I (st := []) (vs := [.inl (0 : Int32)]) (pc := 16)  ct_X3_wears hc_2 cf_X3_41 rfl rfl (Nat.le_of_ble_eq_true rfl) (by decide +kernel) dX3_bears_16 (fun v16 m16 => ?_)
    refine r_widen (u' := (1, 6)) (by decide +kernel) ?_
    refine r_pop (pc := 19) dX3_bears_19 ?_
    refine r_iinc (v := (x2 + (1 : Int32))) (pc := 20) dX3_bears_20 rfl rfl (by decide) rfl ?_
    refine r_goto (tgt := 7) (pc := 23) dX3_bears_23 (by decide) ?_
    exact ih _ _ _ _
noncomputable def f_X3_bears (r0 : QR) (M : QM) : Option (Int32) :=
  qbR (qrc M r0 [2] (f_X3_copy (M.1, 0) r0 M)) fun v1 m1 => 
    f_X3_bears_7 M 100 v1 (0 : Int32) m1
theorem s_X3_bears {l : Launch} {r0 : QR} {M : QM} : SB (eP M) l kX3_bears M (f_X3_bears r0 M) (0, 0) 0 M [some (.inr r0), none, none] [] := by
  unfold f_X3_bears
  refine r_aload_n (pc := 0) dX3_bears_0 rfl ?_
  refine r_callV_R (st := []) (vs := []) (pc := 1)  ct_X3_copy hc_2 cf_X3_33 rfl rfl (Nat.le_of_ble_eq_true rfl) (by decide +kernel) dX3_bears_1 (fun v1 m1 => ?_)
  refine r_widen (u' := (1, 6)) (by decide +kernel) ?_
  refine r_astore_n (pc := 4) dX3_bears_4 (by decide) rfl ?_
  refine r_iconst (v := (0 : Int32)) (pc := 5) dX3_bears_5 (by decide) ?_
  refine r_istore_n (pc := 6) dX3_bears_6 (by decide) rfl ?_
  exact s_X3_bears_7 M 100 _ _ _ _
theorem ct_X3_bears {l : Launch} {r0 : QR} {M : QM} : ∀ b, f_X3_bears r0 M = some b → PM l yX3_bears (ws_ yX3_bears cX3_bears 3 (some .int)) rmX3_bears [.inr r0] M ((eP M) b).1 ((eP M) b).2 := fun b hb =>
  PM.of (own := RX3) rfl (by decide +kernel) (Nat.le_of_ble_eq_true rfl) false (fun h => nomatch h) (s_X3_bears b hb)
/-! X0_reel: BarnPictures.reel(II)I, kind PP -/
abbrev rmX0_reel : Room := ({ frames := 5, cells := 2, slots := 12, locals := 96 })
abbrev kX0_reel : QK := (RX0, cX0_reel, 4, (some .int), [], false, rmX0_reel)
noncomputable def f_X0_reel (r0 : QR) (x1 : Int32) (x2 : Int32) (M : QM) : Option (Int32) :=
  (gR M r0 [(0, 0)]).bind fun v1 => 
    (qrc M v1 [1] (f_X1_isReel v1 x1 M)).bind fun v5 => 
    if v5 = 0 then (qpure M M (-10000001 : Int32))
    else (gR M r0 [(0, 0)]).bind fun v15 => 
    (gR M v15 [(1, 0)]).bind fun v18 => 
    (aR M v18 x1).bind fun v22 => 
    (nAi M (M.1, 0) 0 (6 : Int32) 6).bind fun m27 => 
    (gI m27 v22 [(2, 0), (3, 0)]).bind fun v32 => 
    (sI m27 (some (M.1, 0)) (0 : Int32) v32).bind fun m35 => 
    (gI m35 v22 [(2, 2)]).bind fun v39 => 
    (sI m35 (some (M.1, 0)) (1 : Int32) v39).bind fun m42 => 
    (gI m42 v22 [(2, 3)]).bind fun v46 => 
    (sI m42 (some (M.1, 0)) (2 : Int32) v46).bind fun m49 => 
    (gI m49 v22 [(2, 4)]).bind fun v53 => 
    (sI m49 (some (M.1, 0)) (3 : Int32) v53).bind fun m56 => 
    (gI m56 v22 [(2, 5)]).bind fun v60 => 
    (sI m56 (some (M.1, 0)) (4 : Int32) v60).bind fun m63 => 
    (qrc m63 v22 [2] (f_X3_bears v22 m63)).bind fun v67 => 
    (sI m63 (some (M.1, 0)) (5 : Int32) v67).bind fun m70 => 
    (f_X0_pick x2 (some (M.1, 0)) m70).bind fun v71 => 
    qpure M m70 v71
theorem s_X0_reel {l : Launch} {r0 : QR} {x1 : Int32} {x2 : Int32} {M : QM} : SB (eP M) l kX0_reel M (f_X0_reel r0 x1 x2 M) (0, 0) 0 M [some (.inr r0), some (.inl x1), some (.inl x2), none] [] := by
  unfold f_X0_reel
  refine r_aload_n (pc := 0) dX0_reel_0 rfl ?_
  refine r_getR (pc := 1)  gf_X0_22 dX0_reel_1 (fun v1 => ?_)
  refine r_iload_n (pc := 4) dX0_reel_4 rfl ?_
  refine r_callV_P (st := []) (vs := [.inl x1]) (pc := 5)  ct_X1_isReel hc_1 cf_X0_159 rfl rfl (Nat.le_of_ble_eq_true rfl) (by decide +kernel) dX0_reel_5 (fun v5 => ?_)
  refine r_widen (u' := (0, 0)) (by decide +kernel) ?_
  refine r_if_ne (pc := 8) (tgt := 14) dX0_reel_8 (by decide) ?_ ?_
  · refine r_aload_n (pc := 14) dX0_reel_14 rfl ?_
    refine r_getR (pc := 15)  gf_X0_22 dX0_reel_15 (fun v15 => ?_)
    refine r_getR (pc := 18)  gf_X0_164 dX0_reel_18 (fun v18 => ?_)
    refine r_iload_n (pc := 21) dX0_reel_21 rfl ?_
    refine r_aald (pc := 22) dX0_reel_22 (fun v22 => ?_)
    refine r_astore_n (pc := 23) dX0_reel_23 (by decide) rfl ?_
    refine r_iload_n (pc := 24) dX0_reel_24 rfl ?_
    refine r_bipush (v := (6 : Int32)) (pc := 25) dX0_reel_25 (by decide) ?_
    refine r_newI (pc := 27)  (B := 6) (by decide +kernel) dX0_reel_27 (fun m27 => ?_)
    refine r_widen (u' := (1, 6)) (by decide +kernel) ?_
    refine r_dup (pc := 29) dX0_reel_29 ?_
    refine r_iconst (v := (0 : Int32)) (pc := 30) dX0_reel_30 (by decide) ?_
    refine r_aload_n (pc := 31) dX0_reel_31 rfl ?_
    refine r_getI (pc := 32)  gf_X0_168 dX0_reel_32 (fun v32 => ?_)
    refine r_iast (pc := 35) dX0_reel_35 (fun m35 => ?_)
    refine r_dup (pc := 36) dX0_reel_36 ?_
    refine r_iconst (v := (1 : Int32)) (pc := 37) dX0_reel_37 (by decide) ?_
    refine r_aload_n (pc := 38) dX0_reel_38 rfl ?_
    refine r_getI (pc := 39)  gf_X0_173 dX0_reel_39 (fun v39 => ?_)
    refine r_iast (pc := 42) dX0_reel_42 (fun m42 => ?_)
    refine r_dup (pc := 43) dX0_reel_43 ?_
    refine r_iconst (v := (2 : Int32)) (pc := 44) dX0_reel_44 (by decide) ?_
    refine r_aload_n (pc := 45) dX0_reel_45 rfl ?_
    refine r_getI (pc := 46)  gf_X0_178 dX0_reel_46 (fun v46 => ?_)
    refine r_iast (pc := 49) dX0_reel_49 (fun m49 => ?_)
    refine r_dup (pc := 50) dX0_reel_50 ?_
    refine r_iconst (v := (3 : Int32)) (pc := 51) dX0_reel_51 (by decide) ?_
    refine r_aload_n (pc := 52) dX0_reel_52 rfl ?_
    refine r_getI (pc := 53)  gf_X0_181 dX0_reel_53 (fun v53 => ?_)
    refine r_iast (pc := 56) dX0_reel_56 (fun m56 => ?_)
    refine r_dup (pc := 57) dX0_reel_57 ?_
    refine r_iconst (v := (4 : Int32)) (pc := 58) dX0_reel_58 (by decide) ?_
    refine r_aload_n (pc := 59) dX0_reel_59 rfl ?_
    refine r_getI (pc := 60)  gf_X0_184 dX0_reel_60 (fun v60 => ?_)
    refine r_iast (pc := 63) dX0_reel_63 (fun m63 => ?_)
    refine r_dup (pc := 64) dX0_reel_64 ?_
    refine r_iconst (v := (5 : Int32)) (pc := 65) dX0_reel_65 (by decide) ?_
    refine r_aload_n (pc := 66) dX0_reel_66 rfl ?_
    refine r_callV_P (st := [.inl (5 : Int32), .inr (some (M.1, 0)), .inr (some (M.1, 0)), .inl x2]) (vs := []) (pc := 67)  ct_X3_bears hc_2 cf_X0_187 rfl rfl (Nat.le_of_ble_eq_true rfl) (by decide +kernel) dX0_reel_67 (fun v67 => ?_)
    refine r_widen (u' := (2, 12)) (by decide +kernel) ?_
    refine r_iast (pc := 70) dX0_reel_70 (fun m70 => ?_)
    refine r_callS_P (st := []) (vs := [.inl x2, .inr (some (M.1, 0))]) (pc := 71)  ct_X0_pick cf_X0_4 rfl rfl (Nat.le_of_ble_eq_true rfl) (by decide +kernel) dX0_reel_71 (fun v71 => ?_)
    refine r_widen (u' := (2, 12)) (by decide +kernel) ?_
    exact r_iretPP (pc := 74) dX0_reel_74 rfl (by decide +kernel)
  refine r_ldc (pc := 11) dX0_reel_11 q1036 ?_
  exact r_iretPP (pc := 13) dX0_reel_13 rfl (by decide +kernel)
theorem ct_X0_reel {l : Launch} {r0 : QR} {x1 : Int32} {x2 : Int32} {M : QM} : ∀ b, f_X0_reel r0 x1 x2 M = some b → PM l yX0_reel (ws_ yX0_reel cX0_reel 4 (some .int)) rmX0_reel [.inr r0, .inl x1, .inl x2] M ((eP M) b).1 ((eP M) b).2 := fun b hb =>
  PM.of (own := RX0) rfl (by decide +kernel) (Nat.le_of_ble_eq_true rfl) false (fun h => nomatch h) (s_X0_reel b hb)
/-! X5_bears: BarnPicturesModel.bears(I)I, kind P -/
abbrev rmX5_bears : Room := ({ frames := 1, cells := 0, slots := 0, locals := 21 })
abbrev kX5_bears : QK := (RX5, cX5_bears, 5, (some .int), [], false, rmX5_bears)
noncomputable def f_X5_bears_36 (M : QM) (kL25 : Int32 → Int32 → Int32 → Option (Int32)) : Nat → Int32 → Int32 → Int32 → Option (Int32)
  | 0, _, _, _ => none
  | n + 1, x2, x3, x4 =>
    if x2 < (40 : Int32) then (kL25 x2 x3 x4)
    else f_X5_bears_36 M kL25 n (x2 + (-20 : Int32)) (x3 + (-1 : Int32)) x4
theorem s_X5_bears_36 {l : Launch} (M : QM) (kL25 : Int32 → Int32 → Int32 → Option (Int32)) (hkL25 : ∀ (x2 : Int32) (x3 : Int32) (x4 : Int32) (d0 : Option QV) (d1 : Option QV) , SB (eP M) l kX5_bears M (kL25 x2 x3 x4) (0, 0) 25 M [d0, d1, some (.inl x2), some (.inl x3), some (.inl x4)] []) : ∀ (n : Nat) (x2 : Int32) (x3 : Int32) (x4 : Int32) (d0 : Option QV) (d1 : Option QV) , SB (eP M) l kX5_bears M (f_X5_bears_36 M kL25 n x2 x3 x4) (0, 0) 36 M [d0, d1, some (.inl x2), some (.inl x3), some (.inl x4)] [] := by
  intro n
  induction n with
  | zero => intros; rw [f_X5_bears_36]; exact r_none
  | succ n ih =>
    intro x2 x3 x4 d0 d1
    rw [f_X5_bears_36]
    refine r_iload_n (pc := 36) dX5_bears_36 rfl ?_
    refine r_bipush (v := (40 : Int32)) (pc := 37) dX5_bears_37 (by decide) ?_
    refine r_icmp_lt (pc := 39) (tgt := 25) dX5_bears_39 (by decide) ?_ ?_
    · exact hkL25 _ _ _ _ _
    refine r_iinc (v := (x2 + (-20 : Int32))) (pc := 42) dX5_bears_42 rfl rfl (by decide) rfl ?_
    refine r_iinc (v := (x3 + (-1 : Int32))) (pc := 45) dX5_bears_45 rfl rfl (by decide) rfl ?_
    refine r_goto (tgt := 36) (pc := 48) dX5_bears_48 (by decide) ?_
    exact ih _ _ _ _ _
noncomputable def f_X5_bears_25 (M : QM) : Nat → Int32 → Int32 → Int32 → Option (Int32)
  | 0, _, _, _ => none
  | n + 1, x2, x3, x4 =>
    if x3 < (3 : Int32) then (some x4)
    else f_X5_bears_36 M (f_X5_bears_25 M n) 6 (x2 + (5 : Int32)) x3 (x4 + (1 : Int32))
theorem s_X5_bears_25 {l : Launch} (M : QM) : ∀ (n : Nat) (x2 : Int32) (x3 : Int32) (x4 : Int32) (d0 : Option QV) (d1 : Option QV) , SB (eP M) l kX5_bears M (f_X5_bears_25 M n x2 x3 x4) (0, 0) 25 M [d0, d1, some (.inl x2), some (.inl x3), some (.inl x4)] [] := by
  intro n
  induction n with
  | zero => intros; rw [f_X5_bears_25]; exact r_none
  | succ n ih =>
    intro x2 x3 x4 d0 d1
    rw [f_X5_bears_25]
    refine r_iload_n (pc := 25) dX5_bears_25 rfl ?_
    refine r_iconst (v := (3 : Int32)) (pc := 26) dX5_bears_26 (by decide) ?_
    refine r_icmp_lt (pc := 27) (tgt := 51) dX5_bears_27 (by decide) ?_ ?_
    · refine r_iload (pc := 51) dX5_bears_51 rfl ?_
      exact r_iretP (pc := 53) dX5_bears_53 rfl (by decide +kernel)
    refine r_iinc (v := (x4 + (1 : Int32))) (pc := 30) dX5_bears_30 rfl rfl (by decide) rfl ?_
    refine r_iinc (v := (x2 + (5 : Int32))) (pc := 33) dX5_bears_33 rfl rfl (by decide) rfl ?_
    exact s_X5_bears_36 M (f_X5_bears_25 M n) ih 6 _ _ _ _ _
noncomputable def f_X5_bears (r0 : QR) (x1 : Int32) (M : QM) : Option (Int32) :=
  (gR M r0 [(4, 0)]).bind fun v1 => 
    (f_X5_of x1 (2 : Int32) M).bind fun v6 => 
    (aI M v1 v6).bind fun v9 => 
    (gR M r0 [(4, 0)]).bind fun v12 => 
    (f_X5_of x1 (1 : Int32) M).bind fun v17 => 
    (aI M v12 v17).bind fun v20 => 
    f_X5_bears_25 M 100 v9 v20 (0 : Int32)
theorem s_X5_bears {l : Launch} {r0 : QR} {x1 : Int32} {M : QM} : SB (eP M) l kX5_bears M (f_X5_bears r0 x1 M) (0, 0) 0 M [some (.inr r0), some (.inl x1), none, none, none] [] := by
  unfold f_X5_bears
  refine r_aload_n (pc := 0) dX5_bears_0 rfl ?_
  refine r_getR (pc := 1)  gf_X5_7 dX5_bears_1 (fun v1 => ?_)
  refine r_iload_n (pc := 4) dX5_bears_4 rfl ?_
  refine r_iconst (v := (2 : Int32)) (pc := 5) dX5_bears_5 (by decide) ?_
  refine r_callS_P (st := [.inr v1]) (vs := [.inl x1, .inl (2 : Int32)]) (pc := 6)  ct_X5_of cf_X5_33 rfl rfl (Nat.le_of_ble_eq_true rfl) (by decide +kernel) dX5_bears_6 (fun v6 => ?_)
  refine r_widen (u' := (0, 0)) (by decide +kernel) ?_
  refine r_iald (pc := 9) dX5_bears_9 (fun v9 => ?_)
  refine r_istore_n (pc := 10) dX5_bears_10 (by decide) rfl ?_
  refine r_aload_n (pc := 11) dX5_bears_11 rfl ?_
  refine r_getR (pc := 12)  gf_X5_7 dX5_bears_12 (fun v12 => ?_)
  refine r_iload_n (pc := 15) dX5_bears_15 rfl ?_
  refine r_iconst (v := (1 : Int32)) (pc := 16) dX5_bears_16 (by decide) ?_
  refine r_callS_P (st := [.inr v12]) (vs := [.inl x1, .inl (1 : Int32)]) (pc := 17)  ct_X5_of cf_X5_33 rfl rfl (Nat.le_of_ble_eq_true rfl) (by decide +kernel) dX5_bears_17 (fun v17 => ?_)
  refine r_widen (u' := (0, 0)) (by decide +kernel) ?_
  refine r_iald (pc := 20) dX5_bears_20 (fun v20 => ?_)
  refine r_istore_n (pc := 21) dX5_bears_21 (by decide) rfl ?_
  refine r_iconst (v := (0 : Int32)) (pc := 22) dX5_bears_22 (by decide) ?_
  refine r_istore (pc := 23) dX5_bears_23 (by decide) rfl ?_
  exact s_X5_bears_25 M 100 _ _ _ _ _
theorem ct_X5_bears {l : Launch} {r0 : QR} {x1 : Int32} {M : QM} : ∀ b, f_X5_bears r0 x1 M = some b → PM l yX5_bears (ws_ yX5_bears cX5_bears 5 (some .int)) rmX5_bears [.inr r0, .inl x1] M ((eP M) b).1 ((eP M) b).2 := fun b hb =>
  PM.of (own := RX5) rfl (by decide +kernel) (Nat.le_of_ble_eq_true rfl) false (fun h => nomatch h) (s_X5_bears b hb)
/-! X5_reel: BarnPicturesModel.reel(II)I, kind P -/
abbrev rmX5_reel : Room := ({ frames := 2, cells := 0, slots := 0, locals := 45 })
abbrev kX5_reel : QK := (RX5, cX5_reel, 3, (some .int), [], false, rmX5_reel)
noncomputable def f_X5_reel (r0 : QR) (x1 : Int32) (x2 : Int32) (M : QM) : Option (Int32) :=
  (qrc M r0 [4] (f_X5_isReel r0 x1 M)).bind fun v2 => 
    if v2 = 0 then (some (-10000001 : Int32))
    else (f_X5_in x2 (0 : Int32) (4 : Int32) M).bind fun v14 => 
    if v14 = 0 then (if x2 = (5 : Int32) then ((qrc M r0 [4] (f_X5_bears r0 x1 M)).bind fun v40 => 
        some v40)
      else some (-10000002 : Int32))
    else (gR M r0 [(4, 0)]).bind fun v21 => 
    (f_X5_of x1 x2 M).bind fun v26 => 
    (aI M v21 v26).bind fun v29 => 
    some v29
theorem s_X5_reel {l : Launch} {r0 : QR} {x1 : Int32} {x2 : Int32} {M : QM} : SB (eP M) l kX5_reel M (f_X5_reel r0 x1 x2 M) (0, 0) 0 M [some (.inr r0), some (.inl x1), some (.inl x2)] [] := by
  unfold f_X5_reel
  refine r_aload_n (pc := 0) dX5_reel_0 rfl ?_
  refine r_iload_n (pc := 1) dX5_reel_1 rfl ?_
  refine r_callV_P (st := []) (vs := [.inl x1]) (pc := 2)  ct_X5_isReel hc_4 cf_X5_96 rfl rfl (Nat.le_of_ble_eq_true rfl) (by decide +kernel) dX5_reel_2 (fun v2 => ?_)
  refine r_widen (u' := (0, 0)) (by decide +kernel) ?_
  refine r_if_ne (pc := 5) (tgt := 11) dX5_reel_5 (by decide) ?_ ?_
  · refine r_iload_n (pc := 11) dX5_reel_11 rfl ?_
    refine r_iconst (v := (0 : Int32)) (pc := 12) dX5_reel_12 (by decide) ?_
    refine r_iconst (v := (4 : Int32)) (pc := 13) dX5_reel_13 (by decide) ?_
    refine r_callS_P (st := []) (vs := [.inl x2, .inl (0 : Int32), .inl (4 : Int32)]) (pc := 14)  ct_X5_in cf_X5_37 rfl rfl (Nat.le_of_ble_eq_true rfl) (by decide +kernel) dX5_reel_14 (fun v14 => ?_)
    refine r_widen (u' := (0, 0)) (by decide +kernel) ?_
    refine r_if_eq (pc := 17) (tgt := 33) dX5_reel_17 (by decide) ?_ ?_
    · refine r_iload_n (pc := 33) dX5_reel_33 rfl ?_
      refine r_iconst (v := (5 : Int32)) (pc := 34) dX5_reel_34 (by decide) ?_
      refine r_icmp_ne (pc := 35) (tgt := 46) dX5_reel_35 (by decide) ?_ ?_
      · refine r_ldc (pc := 46) dX5_reel_46 q1208 ?_
        exact r_iretP (pc := 48) dX5_reel_48 rfl (by decide +kernel)
      refine r_aload_n (pc := 38) dX5_reel_38 rfl ?_
      refine r_iload_n (pc := 39) dX5_reel_39 rfl ?_
      refine r_callV_P (st := []) (vs := [.inl x1]) (pc := 40)  ct_X5_bears hc_4 cf_X5_173 rfl rfl (Nat.le_of_ble_eq_true rfl) (by decide +kernel) dX5_reel_40 (fun v40 => ?_)
      refine r_widen (u' := (0, 0)) (by decide +kernel) ?_
      refine r_goto (tgt := 48) (pc := 43) dX5_reel_43 (by decide) ?_
      exact r_iretP (pc := 48) dX5_reel_48 rfl (by decide +kernel)
    refine r_aload_n (pc := 20) dX5_reel_20 rfl ?_
    refine r_getR (pc := 21)  gf_X5_7 dX5_reel_21 (fun v21 => ?_)
    refine r_iload_n (pc := 24) dX5_reel_24 rfl ?_
    refine r_iload_n (pc := 25) dX5_reel_25 rfl ?_
    refine r_callS_P (st := [.inr v21]) (vs := [.inl x1, .inl x2]) (pc := 26)  ct_X5_of cf_X5_33 rfl rfl (Nat.le_of_ble_eq_true rfl) (by decide +kernel) dX5_reel_26 (fun v26 => ?_)
    refine r_widen (u' := (0, 0)) (by decide +kernel) ?_
    refine r_iald (pc := 29) dX5_reel_29 (fun v29 => ?_)
    refine r_goto (tgt := 48) (pc := 30) dX5_reel_30 (by decide) ?_
    exact r_iretP (pc := 48) dX5_reel_48 rfl (by decide +kernel)
  refine r_ldc (pc := 8) dX5_reel_8 q1155 ?_
  exact r_iretP (pc := 10) dX5_reel_10 rfl (by decide +kernel)
theorem ct_X5_reel {l : Launch} {r0 : QR} {x1 : Int32} {x2 : Int32} {M : QM} : ∀ b, f_X5_reel r0 x1 x2 M = some b → PM l yX5_reel (ws_ yX5_reel cX5_reel 3 (some .int)) rmX5_reel [.inr r0, .inl x1, .inl x2] M ((eP M) b).1 ((eP M) b).2 := fun b hb =>
  PM.of (own := RX5) rfl (by decide +kernel) (Nat.le_of_ble_eq_true rfl) false (fun h => nomatch h) (s_X5_reel b hb)
/-! X0_generator: BarnPictures.generator(II)I, kind PP -/
abbrev rmX0_generator : Room := ({ frames := 1, cells := 1, slots := 2, locals := 22 })
abbrev kX0_generator : QK := (RX0, cX0_generator, 3, (some .int), [], false, rmX0_generator)
noncomputable def f_X0_generator (r0 : QR) (x1 : Int32) (x2 : Int32) (M : QM) : Option (Int32) :=
  (f_X0_inRange x1 (0 : Int32) (1 : Int32) M).bind fun v3 => 
    if v3 = 0 then (qpure M M (-10000001 : Int32))
    else (nAi M (M.1, 0) 0 (2 : Int32) 2).bind fun m14 => 
    (gR m14 r0 [(0, 0)]).bind fun v19 => 
    (gR m14 v19 [(1, 1)]).bind fun v22 => 
    (aR m14 v22 x1).bind fun v26 => 
    (gI m14 v26 [(2, 0), (3, 0)]).bind fun v27 => 
    (sI m14 (some (M.1, 0)) (0 : Int32) v27).bind fun m30 => 
    (gR m30 r0 [(0, 0)]).bind fun v34 => 
    (gR m30 v34 [(1, 1)]).bind fun v37 => 
    (aR m30 v37 x1).bind fun v41 => 
    (gI m30 v41 [(3, 1)]).bind fun v42 => 
    (sI m30 (some (M.1, 0)) (1 : Int32) v42).bind fun m45 => 
    (f_X0_pick x2 (some (M.1, 0)) m45).bind fun v46 => 
    qpure M m45 v46
theorem s_X0_generator {l : Launch} {r0 : QR} {x1 : Int32} {x2 : Int32} {M : QM} : SB (eP M) l kX0_generator M (f_X0_generator r0 x1 x2 M) (0, 0) 0 M [some (.inr r0), some (.inl x1), some (.inl x2)] [] := by
  unfold f_X0_generator
  refine r_iload_n (pc := 0) dX0_generator_0 rfl ?_
  refine r_iconst (v := (0 : Int32)) (pc := 1) dX0_generator_1 (by decide) ?_
  refine r_iconst (v := (1 : Int32)) (pc := 2) dX0_generator_2 (by decide) ?_
  refine r_callS_P (st := []) (vs := [.inl x1, .inl (0 : Int32), .inl (1 : Int32)]) (pc := 3)  ct_X0_inRange cf_X0_55 rfl rfl (Nat.le_of_ble_eq_true rfl) (by decide +kernel) dX0_generator_3 (fun v3 => ?_)
  refine r_widen (u' := (0, 0)) (by decide +kernel) ?_
  refine r_if_ne (pc := 6) (tgt := 12) dX0_generator_6 (by decide) ?_ ?_
  · refine r_iload_n (pc := 12) dX0_generator_12 rfl ?_
    refine r_iconst (v := (2 : Int32)) (pc := 13) dX0_generator_13 (by decide) ?_
    refine r_newI (pc := 14)  (B := 2) (by decide +kernel) dX0_generator_14 (fun m14 => ?_)
    refine r_widen (u' := (1, 2)) (by decide +kernel) ?_
    refine r_dup (pc := 16) dX0_generator_16 ?_
    refine r_iconst (v := (0 : Int32)) (pc := 17) dX0_generator_17 (by decide) ?_
    refine r_aload_n (pc := 18) dX0_generator_18 rfl ?_
    refine r_getR (pc := 19)  gf_X0_22 dX0_generator_19 (fun v19 => ?_)
    refine r_getR (pc := 22)  gf_X0_190 dX0_generator_22 (fun v22 => ?_)
    refine r_iload_n (pc := 25) dX0_generator_25 rfl ?_
    refine r_aald (pc := 26) dX0_generator_26 (fun v26 => ?_)
    refine r_getI (pc := 27)  gf_X0_168 dX0_generator_27 (fun v27 => ?_)
    refine r_iast (pc := 30) dX0_generator_30 (fun m30 => ?_)
    refine r_dup (pc := 31) dX0_generator_31 ?_
    refine r_iconst (v := (1 : Int32)) (pc := 32) dX0_generator_32 (by decide) ?_
    refine r_aload_n (pc := 33) dX0_generator_33 rfl ?_
    refine r_getR (pc := 34)  gf_X0_22 dX0_generator_34 (fun v34 => ?_)
    refine r_getR (pc := 37)  gf_X0_190 dX0_generator_37 (fun v37 => ?_)
    refine r_iload_n (pc := 40) dX0_generator_40 rfl ?_
    refine r_aald (pc := 41) dX0_generator_41 (fun v41 => ?_)
    refine r_getI (pc := 42)  gf_X0_194 dX0_generator_42 (fun v42 => ?_)
    refine r_iast (pc := 45) dX0_generator_45 (fun m45 => ?_)
    refine r_callS_P (st := []) (vs := [.inl x2, .inr (some (M.1, 0))]) (pc := 46)  ct_X0_pick cf_X0_4 rfl rfl (Nat.le_of_ble_eq_true rfl) (by decide +kernel) dX0_generator_46 (fun v46 => ?_)
    refine r_widen (u' := (1, 2)) (by decide +kernel) ?_
    exact r_iretPP (pc := 49) dX0_generator_49 rfl (by decide +kernel)
  refine r_ldc (pc := 9) dX0_generator_9 q1036 ?_
  exact r_iretPP (pc := 11) dX0_generator_11 rfl (by decide +kernel)
theorem ct_X0_generator {l : Launch} {r0 : QR} {x1 : Int32} {x2 : Int32} {M : QM} : ∀ b, f_X0_generator r0 x1 x2 M = some b → PM l yX0_generator (ws_ yX0_generator cX0_generator 3 (some .int)) rmX0_generator [.inr r0, .inl x1, .inl x2] M ((eP M) b).1 ((eP M) b).2 := fun b hb =>
  PM.of (own := RX0) rfl (by decide +kernel) (Nat.le_of_ble_eq_true rfl) false (fun h => nomatch h) (s_X0_generator b hb)
/-! X5_generator: BarnPicturesModel.generator(II)I, kind P -/
abbrev rmX5_generator : Room := ({ frames := 2, cells := 0, slots := 0, locals := 42 })
abbrev kX5_generator : QK := (RX5, cX5_generator, 3, (some .int), [], false, rmX5_generator)
noncomputable def f_X5_generator (r0 : QR) (x1 : Int32) (x2 : Int32) (M : QM) : Option (Int32) :=
  (f_X5_isGenerator x1 M).bind fun v1 => 
    if v1 = 0 then (some (-10000001 : Int32))
    else (f_X5_in x2 (0 : Int32) (1 : Int32) M).bind fun v15 => 
    if v15 = 0 then (some (-10000002 : Int32))
    else (gR M r0 [(4, 0)]).bind fun v22 => 
    (aI M v22 (((50 : Int32) + ((2 : Int32) * x1)) + x2)).bind fun v33 => 
    some v33
theorem s_X5_generator {l : Launch} {r0 : QR} {x1 : Int32} {x2 : Int32} {M : QM} : SB (eP M) l kX5_generator M (f_X5_generator r0 x1 x2 M) (0, 0) 0 M [some (.inr r0), some (.inl x1), some (.inl x2)] [] := by
  unfold f_X5_generator
  refine r_iload_n (pc := 0) dX5_generator_0 rfl ?_
  refine r_callS_P (st := []) (vs := [.inl x1]) (pc := 1)  ct_X5_isGenerator cf_X5_54 rfl rfl (Nat.le_of_ble_eq_true rfl) (by decide +kernel) dX5_generator_1 (fun v1 => ?_)
  refine r_widen (u' := (0, 0)) (by decide +kernel) ?_
  refine r_if_ne (pc := 4) (tgt := 12) dX5_generator_4 (by decide) ?_ ?_
  · refine r_iload_n (pc := 12) dX5_generator_12 rfl ?_
    refine r_iconst (v := (0 : Int32)) (pc := 13) dX5_generator_13 (by decide) ?_
    refine r_iconst (v := (1 : Int32)) (pc := 14) dX5_generator_14 (by decide) ?_
    refine r_callS_P (st := []) (vs := [.inl x2, .inl (0 : Int32), .inl (1 : Int32)]) (pc := 15)  ct_X5_in cf_X5_37 rfl rfl (Nat.le_of_ble_eq_true rfl) (by decide +kernel) dX5_generator_15 (fun v15 => ?_)
    refine r_widen (u' := (0, 0)) (by decide +kernel) ?_
    refine r_if_eq (pc := 18) (tgt := 37) dX5_generator_18 (by decide) ?_ ?_
    · refine r_ldc (pc := 37) dX5_generator_37 q1208 ?_
      exact r_iretP (pc := 39) dX5_generator_39 rfl (by decide +kernel)
    refine r_aload_n (pc := 21) dX5_generator_21 rfl ?_
    refine r_getR (pc := 22)  gf_X5_7 dX5_generator_22 (fun v22 => ?_)
    refine r_bipush (v := (50 : Int32)) (pc := 25) dX5_generator_25 (by decide) ?_
    refine r_iconst (v := (2 : Int32)) (pc := 27) dX5_generator_27 (by decide) ?_
    refine r_iload_n (pc := 28) dX5_generator_28 rfl ?_
    refine r_imul (pc := 29) dX5_generator_29 ?_
    refine r_iadd (pc := 30) dX5_generator_30 ?_
    refine r_iload_n (pc := 31) dX5_generator_31 rfl ?_
    refine r_iadd (pc := 32) dX5_generator_32 ?_
    refine r_iald (pc := 33) dX5_generator_33 (fun v33 => ?_)
    refine r_goto (tgt := 39) (pc := 34) dX5_generator_34 (by decide) ?_
    exact r_iretP (pc := 39) dX5_generator_39 rfl (by decide +kernel)
  refine r_ldc (pc := 7) dX5_generator_7 q1155 ?_
  refine r_goto (tgt := 39) (pc := 9) dX5_generator_9 (by decide) ?_
  exact r_iretP (pc := 39) dX5_generator_39 rfl (by decide +kernel)
theorem ct_X5_generator {l : Launch} {r0 : QR} {x1 : Int32} {x2 : Int32} {M : QM} : ∀ b, f_X5_generator r0 x1 x2 M = some b → PM l yX5_generator (ws_ yX5_generator cX5_generator 3 (some .int)) rmX5_generator [.inr r0, .inl x1, .inl x2] M ((eP M) b).1 ((eP M) b).2 := fun b hb =>
  PM.of (own := RX5) rfl (by decide +kernel) (Nat.le_of_ble_eq_true rfl) false (fun h => nomatch h) (s_X5_generator b hb)
/-! X0_isBarn: BarnPictures.isBarn(I)Z, kind P -/
abbrev rmX0_isBarn : Room := ({ frames := 1, cells := 0, slots := 0, locals := 22 })
abbrev kX0_isBarn : QK := (RX0, cX0_isBarn, 1, (some .boolean), [], false, rmX0_isBarn)
noncomputable def f_X0_isBarn (x0 : Int32) (M : QM) : Option (Int32) :=
  (f_X0_inRange x0 (0 : Int32) (4 : Int32) M).bind fun v3 => 
    qnar .boolean v3 (some v3)
theorem s_X0_isBarn {l : Launch} {x0 : Int32} {M : QM} : SB (eP M) l kX0_isBarn M (f_X0_isBarn x0 M) (0, 0) 0 M [some (.inl x0)] [] := by
  unfold f_X0_isBarn
  refine r_iload_n (pc := 0) dX0_isBarn_0 rfl ?_
  refine r_iconst (v := (0 : Int32)) (pc := 1) dX0_isBarn_1 (by decide) ?_
  refine r_iconst (v := (4 : Int32)) (pc := 2) dX0_isBarn_2 (by decide) ?_
  refine r_callS_P (st := []) (vs := [.inl x0, .inl (0 : Int32), .inl (4 : Int32)]) (pc := 3)  ct_X0_inRange cf_X0_55 rfl rfl (Nat.le_of_ble_eq_true rfl) (by decide +kernel) dX0_isBarn_3 (fun v3 => ?_)
  refine r_widen (u' := (0, 0)) (by decide +kernel) ?_
  exact r_nretP (pc := 6) dX0_isBarn_6 rfl (by decide) (by decide +kernel)
theorem ct_X0_isBarn {l : Launch} {x0 : Int32} {M : QM} : ∀ b, f_X0_isBarn x0 M = some b → PM l yX0_isBarn (ws_ yX0_isBarn cX0_isBarn 1 (some .boolean)) rmX0_isBarn [.inl x0] M ((eP M) b).1 ((eP M) b).2 := fun b hb =>
  PM.of (own := RX0) rfl (by decide +kernel) (Nat.le_of_ble_eq_true rfl) false (fun h => nomatch h) (s_X0_isBarn b hb)
/-! X0_barn: BarnPictures.barn(II)I, kind PP -/
abbrev rmX0_barn : Room := ({ frames := 3, cells := 14, slots := 74, locals := 69 })
abbrev kX0_barn : QK := (RX0, cX0_barn, 3, (some .int), [], false, rmX0_barn)
noncomputable def f_X0_barn (r0 : QR) (x1 : Int32) (x2 : Int32) (M : QM) : Option (Int32) :=
  (f_X0_isBarn x1 M).bind fun v1 => 
    if v1 = 0 then (qpure M M (-10000001 : Int32))
    else (nAi M (M.1, 0) 0 (9 : Int32) 9).bind fun m13 => 
    (f_X0_mileOf x1 m13).bind fun v18 => 
    (sI m13 (some (M.1, 0)) (0 : Int32) v18).bind fun m21 => 
    (f_X0_seatsOf x1 m21).bind fun v25 => 
    (sI m21 (some (M.1, 0)) (1 : Int32) v25).bind fun m28 => 
    (sI m28 (some (M.1, 0)) (2 : Int32) (x1 - x1 / (3 : Int32) * (3 : Int32))).bind fun m34 => 
    (gR m34 r0 [(0, 0)]).bind fun v38 => 
    (qrc m34 v38 [1] (f_X1_reelsIn v38 x1 m34)).bind fun v42 => 
    (sI m34 (some (M.1, 0)) (3 : Int32) v42).bind fun m45 => 
    (gR m45 r0 [(0, 0)]).bind fun v49 => 
    (qrc m45 v49 [1] (f_X1_minutesIn v49 x1 m45)).bind fun v53 => 
    (sI m45 (some (M.1, 0)) (4 : Int32) v53).bind fun m56 => 
    (gR m56 r0 [(0, 0)]).bind fun v60 => 
    (qrc m56 v60 [1] (f_X1_peopleFor v60 x1 m56)).bind fun v64 => 
    (sI m56 (some (M.1, 0)) (5 : Int32) v64).bind fun m67 => 
    (gR m67 r0 [(0, 0)]).bind fun v72 => 
    (qrc m67 v72 [1] (f_X1_reason v72 x1 m67)).bind fun v76 => 
    (sI m67 (some (M.1, 0)) (6 : Int32) v76).bind fun m79 => 
    (gR m79 r0 [(0, 0)]).bind fun v84 => 
    (gR m79 v84 [(1, 3)]).bind fun v87 => 
    (aI m79 v87 x1).bind fun v91 => 
    (sI m79 (some (M.1, 0)) (7 : Int32) v91).bind fun m92 => 
    (gR m92 r0 [(0, 0)]).bind fun v97 => 
    (gR m92 v97 [(1, 4)]).bind fun v100 => 
    (aI m92 v100 x1).bind fun v104 => 
    (sI m92 (some (M.1, 0)) (8 : Int32) v104).bind fun m105 => 
    (f_X0_pick x2 (some (M.1, 0)) m105).bind fun v106 => 
    qpure M m105 v106
theorem s_X0_barn {l : Launch} {r0 : QR} {x1 : Int32} {x2 : Int32} {M : QM} : SB (eP M) l kX0_barn M (f_X0_barn r0 x1 x2 M) (0, 0) 0 M [some (.inr r0), some (.inl x1), some (.inl x2)] [] := by
  unfold f_X0_barn
  refine r_iload_n (pc := 0) dX0_barn_0 rfl ?_
  refine r_callS_P (st := []) (vs := [.inl x1]) (pc := 1)  ct_X0_isBarn cf_X0_197 rfl rfl (Nat.le_of_ble_eq_true rfl) (by decide +kernel) dX0_barn_1 (fun v1 => ?_)
  refine r_widen (u' := (0, 0)) (by decide +kernel) ?_
  refine r_if_ne (pc := 4) (tgt := 10) dX0_barn_4 (by decide) ?_ ?_
  · refine r_iload_n (pc := 10) dX0_barn_10 rfl ?_
    refine r_bipush (v := (9 : Int32)) (pc := 11) dX0_barn_11 (by decide) ?_
    refine r_newI (pc := 13)  (B := 9) (by decide +kernel) dX0_barn_13 (fun m13 => ?_)
    refine r_widen (u' := (1, 9)) (by decide +kernel) ?_
    refine r_dup (pc := 15) dX0_barn_15 ?_
    refine r_iconst (v := (0 : Int32)) (pc := 16) dX0_barn_16 (by decide) ?_
    refine r_iload_n (pc := 17) dX0_barn_17 rfl ?_
    refine r_callS_P (st := [.inl (0 : Int32), .inr (some (M.1, 0)), .inr (some (M.1, 0)), .inl x2]) (vs := [.inl x1]) (pc := 18)  ct_X0_mileOf cf_X0_200 rfl rfl (Nat.le_of_ble_eq_true rfl) (by decide +kernel) dX0_barn_18 (fun v18 => ?_)
    refine r_widen (u' := (2, 14)) (by decide +kernel) ?_
    refine r_iast (pc := 21) dX0_barn_21 (fun m21 => ?_)
    refine r_dup (pc := 22) dX0_barn_22 ?_
    refine r_iconst (v := (1 : Int32)) (pc := 23) dX0_barn_23 (by decide) ?_
    refine r_iload_n (pc := 24) dX0_barn_24 rfl ?_
    refine r_callS_P (st := [.inl (1 : Int32), .inr (some (M.1, 0)), .inr (some (M.1, 0)), .inl x2]) (vs := [.inl x1]) (pc := 25)  ct_X0_seatsOf cf_X0_203 rfl rfl (Nat.le_of_ble_eq_true rfl) (by decide +kernel) dX0_barn_25 (fun v25 => ?_)
    refine r_widen (u' := (3, 19)) (by decide +kernel) ?_
    refine r_iast (pc := 28) dX0_barn_28 (fun m28 => ?_)
    refine r_dup (pc := 29) dX0_barn_29 ?_
    refine r_iconst (v := (2 : Int32)) (pc := 30) dX0_barn_30 (by decide) ?_
    refine r_iload_n (pc := 31) dX0_barn_31 rfl ?_
    refine r_iconst (v := (3 : Int32)) (pc := 32) dX0_barn_32 (by decide) ?_
    refine r_irem (pc := 33) dX0_barn_33 (by decide) ?_
    refine r_iast (pc := 34) dX0_barn_34 (fun m34 => ?_)
    refine r_dup (pc := 35) dX0_barn_35 ?_
    refine r_iconst (v := (3 : Int32)) (pc := 36) dX0_barn_36 (by decide) ?_
    refine r_aload_n (pc := 37) dX0_barn_37 rfl ?_
    refine r_getR (pc := 38)  gf_X0_22 dX0_barn_38 (fun v38 => ?_)
    refine r_iload_n (pc := 41) dX0_barn_41 rfl ?_
    refine r_callV_P (st := [.inl (3 : Int32), .inr (some (M.1, 0)), .inr (some (M.1, 0)), .inl x2]) (vs := [.inl x1]) (pc := 42)  ct_X1_reelsIn hc_1 cf_X0_206 rfl rfl (Nat.le_of_ble_eq_true rfl) (by decide +kernel) dX0_barn_42 (fun v42 => ?_)
    refine r_widen (u' := (3, 19)) (by decide +kernel) ?_
    refine r_iast (pc := 45) dX0_barn_45 (fun m45 => ?_)
    refine r_dup (pc := 46) dX0_barn_46 ?_
    refine r_iconst (v := (4 : Int32)) (pc := 47) dX0_barn_47 (by decide) ?_
    refine r_aload_n (pc := 48) dX0_barn_48 rfl ?_
    refine r_getR (pc := 49)  gf_X0_22 dX0_barn_49 (fun v49 => ?_)
    refine r_iload_n (pc := 52) dX0_barn_52 rfl ?_
    refine r_callV_P (st := [.inl (4 : Int32), .inr (some (M.1, 0)), .inr (some (M.1, 0)), .inl x2]) (vs := [.inl x1]) (pc := 53)  ct_X1_minutesIn hc_1 cf_X0_209 rfl rfl (Nat.le_of_ble_eq_true rfl) (by decide +kernel) dX0_barn_53 (fun v53 => ?_)
    refine r_widen (u' := (3, 19)) (by decide +kernel) ?_
    refine r_iast (pc := 56) dX0_barn_56 (fun m56 => ?_)
    refine r_dup (pc := 57) dX0_barn_57 ?_
    refine r_iconst (v := (5 : Int32)) (pc := 58) dX0_barn_58 (by decide) ?_
    refine r_aload_n (pc := 59) dX0_barn_59 rfl ?_
    refine r_getR (pc := 60)  gf_X0_22 dX0_barn_60 (fun v60 => ?_)
    refine r_iload_n (pc := 63) dX0_barn_63 rfl ?_
    refine r_callV_P (st := [.inl (5 : Int32), .inr (some (M.1, 0)), .inr (some (M.1, 0)), .inl x2]) (vs := [.inl x1]) (pc := 64)  ct_X1_peopleFor hc_1 cf_X0_212 rfl rfl (Nat.le_of_ble_eq_true rfl) (by decide +kernel) dX0_barn_64 (fun v64 => ?_)
    refine r_widen (u' := (14, 74)) (by decide +kernel) ?_
    refine r_iast (pc := 67) dX0_barn_67 (fun m67 => ?_)
    refine r_dup (pc := 68) dX0_barn_68 ?_
    refine r_bipush (v := (6 : Int32)) (pc := 69) dX0_barn_69 (by decide) ?_
    refine r_aload_n (pc := 71) dX0_barn_71 rfl ?_
    refine r_getR (pc := 72)  gf_X0_22 dX0_barn_72 (fun v72 => ?_)
    refine r_iload_n (pc := 75) dX0_barn_75 rfl ?_
    refine r_callV_P (st := [.inl (6 : Int32), .inr (some (M.1, 0)), .inr (some (M.1, 0)), .inl x2]) (vs := [.inl x1]) (pc := 76)  ct_X1_reason hc_1 cf_X0_215 rfl rfl (Nat.le_of_ble_eq_true rfl) (by decide +kernel) dX0_barn_76 (fun v76 => ?_)
    refine r_widen (u' := (14, 74)) (by decide +kernel) ?_
    refine r_iast (pc := 79) dX0_barn_79 (fun m79 => ?_)
    refine r_dup (pc := 80) dX0_barn_80 ?_
    refine r_bipush (v := (7 : Int32)) (pc := 81) dX0_barn_81 (by decide) ?_
    refine r_aload_n (pc := 83) dX0_barn_83 rfl ?_
    refine r_getR (pc := 84)  gf_X0_22 dX0_barn_84 (fun v84 => ?_)
    refine r_getR (pc := 87)  gf_X0_218 dX0_barn_87 (fun v87 => ?_)
    refine r_iload_n (pc := 90) dX0_barn_90 rfl ?_
    refine r_iald (pc := 91) dX0_barn_91 (fun v91 => ?_)
    refine r_iast (pc := 92) dX0_barn_92 (fun m92 => ?_)
    refine r_dup (pc := 93) dX0_barn_93 ?_
    refine r_bipush (v := (8 : Int32)) (pc := 94) dX0_barn_94 (by decide) ?_
    refine r_aload_n (pc := 96) dX0_barn_96 rfl ?_
    refine r_getR (pc := 97)  gf_X0_22 dX0_barn_97 (fun v97 => ?_)
    refine r_getR (pc := 100)  gf_X0_222 dX0_barn_100 (fun v100 => ?_)
    refine r_iload_n (pc := 103) dX0_barn_103 rfl ?_
    refine r_iald (pc := 104) dX0_barn_104 (fun v104 => ?_)
    refine r_iast (pc := 105) dX0_barn_105 (fun m105 => ?_)
    refine r_callS_P (st := []) (vs := [.inl x2, .inr (some (M.1, 0))]) (pc := 106)  ct_X0_pick cf_X0_4 rfl rfl (Nat.le_of_ble_eq_true rfl) (by decide +kernel) dX0_barn_106 (fun v106 => ?_)
    refine r_widen (u' := (14, 74)) (by decide +kernel) ?_
    exact r_iretPP (pc := 109) dX0_barn_109 rfl (by decide +kernel)
  refine r_ldc (pc := 7) dX0_barn_7 q1036 ?_
  exact r_iretPP (pc := 9) dX0_barn_9 rfl (by decide +kernel)
theorem ct_X0_barn {l : Launch} {r0 : QR} {x1 : Int32} {x2 : Int32} {M : QM} : ∀ b, f_X0_barn r0 x1 x2 M = some b → PM l yX0_barn (ws_ yX0_barn cX0_barn 3 (some .int)) rmX0_barn [.inr r0, .inl x1, .inl x2] M ((eP M) b).1 ((eP M) b).2 := fun b hb =>
  PM.of (own := RX0) rfl (by decide +kernel) (Nat.le_of_ble_eq_true rfl) false (fun h => nomatch h) (s_X0_barn b hb)
