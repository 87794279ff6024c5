/-! methods as functions over the memory (printed by gen/run.py) -/
set_option maxRecDepth 100000
/-! X1_fuel: BarnPictures$Tour.fuel(II)I, kind XI -/
abbrev rmX1_fuel : Room := ({ frames := 8, cells := 4, slots := 28, locals := 130 })
abbrev kX1_fuel : QK := (RX1, cX1_fuel, 3, (some .int), [], false, rmX1_fuel)
noncomputable def f_X1_fuel_74 (r0 : QR) (x1 : Int32) (x2 : Int32) (s0 : Int32) (M : QM) : Option ((Int32 ⊕ QN) × QM) :=
  qbXV (f_X0_check s0 (-10000003 : Int32) M) (fun q76 m76 => some (.inr q76, m76)) fun m76 => 
    (gR m76 r0 [(1, 1)]).bind fun v80 => 
    (aR m76 v80 x1).bind fun v84 => 
    (gI m76 v84 [(3, 1)]).bind fun v86 => 
    (pF m76 v84 [(3, 1)] (.inl (v86 + x2))).bind fun m91 => 
    (gI m91 r0 [(1, 10)]).bind fun v96 => 
    (pF m91 r0 [(1, 10)] (.inl (v96 + (x2 / (5 : Int32))))).bind fun m103 => 
    (gR m103 r0 [(1, 1)]).bind fun v107 => 
    (aR m103 v107 x1).bind fun v111 => 
    (gI m103 v111 [(3, 1)]).bind fun v112 => 
    some (.inl v112, m103)
theorem s_X1_fuel_74 {l : Launch} {M0 : QM} : ∀ (r0 : QR) (x1 : Int32) (x2 : Int32) (s0 : Int32) (M : QM) , SB eXI l kX1_fuel M0 (f_X1_fuel_74 r0 x1 x2 s0 M) (3, 21) 74 M [some (.inr r0), some (.inl x1), some (.inl x2)] [.inl s0] := by
  intro r0 x1 x2 s0  M
  unfold f_X1_fuel_74
  refine r_ldc (pc := 74) dX1_fuel_74 q548 ?_
  refine r_callSN_XV (st := []) (vs := [.inl s0, .inl (-10000003 : Int32)]) (pc := 76)  ct_X0_check cf_X1_127 rfl rfl (Nat.le_of_ble_eq_true rfl) (by decide +kernel) dX1_fuel_76 (fun q76 m76 => ?_) (fun m76 => ?_)
  · refine x_widen (u' := (4, 28)) (by decide +kernel) ?_
    exact x_outI (by decide) (by decide +kernel)
  refine r_widen (u' := (4, 28)) (by decide +kernel) ?_
  refine r_aload_n (pc := 79) dX1_fuel_79 rfl ?_
  refine r_getR (pc := 80)  gf_X1_19 dX1_fuel_80 (fun v80 => ?_)
  refine r_iload_n (pc := 83) dX1_fuel_83 rfl ?_
  refine r_aald (pc := 84) dX1_fuel_84 (fun v84 => ?_)
  refine r_dup (pc := 85) dX1_fuel_85 ?_
  refine r_getI (pc := 86)  gf_X1_119 dX1_fuel_86 (fun v86 => ?_)
  refine r_iload_n (pc := 89) dX1_fuel_89 rfl ?_
  refine r_iadd (pc := 90) dX1_fuel_90 ?_
  refine r_put (pc := 91)  pf_X1_119 (fun h => nomatch h) (fit_int _) dX1_fuel_91 (fun m91 => ?_)
  refine r_aload_n (pc := 94) dX1_fuel_94 rfl ?_
  refine r_dup (pc := 95) dX1_fuel_95 ?_
  refine r_getI (pc := 96)  gf_X1_67 dX1_fuel_96 (fun v96 => ?_)
  refine r_iload_n (pc := 99) dX1_fuel_99 rfl ?_
  refine r_iconst (v := (5 : Int32)) (pc := 100) dX1_fuel_100 (by decide) ?_
  refine r_idiv (pc := 101) dX1_fuel_101 (by decide) ?_
  refine r_iadd (pc := 102) dX1_fuel_102 ?_
  refine r_put (pc := 103)  pf_X1_67 (fun h => nomatch h) (fit_int _) dX1_fuel_103 (fun m103 => ?_)
  refine r_aload_n (pc := 106) dX1_fuel_106 rfl ?_
  refine r_getR (pc := 107)  gf_X1_19 dX1_fuel_107 (fun v107 => ?_)
  refine r_iload_n (pc := 110) dX1_fuel_110 rfl ?_
  refine r_aald (pc := 111) dX1_fuel_111 (fun v111 => ?_)
  refine r_getI (pc := 112)  gf_X1_119 dX1_fuel_112 (fun v112 => ?_)
  exact r_iretX (pc := 115) dX1_fuel_115 rfl (by decide +kernel)
noncomputable def f_X1_fuel_33 (r0 : QR) (x1 : Int32) (x2 : Int32) (s0 : Int32) (M : QM) : Option ((Int32 ⊕ QN) × QM) :=
  qbXV (f_X0_check s0 (-10000002 : Int32) M) (fun q35 m35 => some (.inr q35, m35)) fun m35 => 
    (gR m35 r0 [(1, 1)]).bind fun v39 => 
    (aR m35 v39 x1).bind fun v43 => 
    (qrc m35 v43 [3] (f_X2_isInVan v43 m35)).bind fun v44 => 
    qbXV (f_X0_check v44 (-10000004 : Int32) m35) (fun q49 m49 => some (.inr q49, m49)) fun m49 => 
    (gR m49 r0 [(1, 1)]).bind fun v53 => 
    (aR m49 v53 x1).bind fun v57 => 
    (gI m49 v57 [(3, 1)]).bind fun v58 => 
    f_X1_fuel_74 r0 x1 x2 (if (500 : Int32) < (v58 + x2) then (0 : Int32) else (1 : Int32)) m49
theorem s_X1_fuel_33 {l : Launch} {M0 : QM} : ∀ (r0 : QR) (x1 : Int32) (x2 : Int32) (s0 : Int32) (M : QM) , SB eXI l kX1_fuel M0 (f_X1_fuel_33 r0 x1 x2 s0 M) (1, 7) 33 M [some (.inr r0), some (.inl x1), some (.inl x2)] [.inl s0] := by
  intro r0 x1 x2 s0  M
  unfold f_X1_fuel_33
  refine r_ldc (pc := 33) dX1_fuel_33 q546 ?_
  refine r_callSN_XV (st := []) (vs := [.inl s0, .inl (-10000002 : Int32)]) (pc := 35)  ct_X0_check cf_X1_127 rfl rfl (Nat.le_of_ble_eq_true rfl) (by decide +kernel) dX1_fuel_35 (fun q35 m35 => ?_) (fun m35 => ?_)
  · refine x_widen (u' := (2, 14)) (by decide +kernel) ?_
    exact x_outI (by decide) (by decide +kernel)
  refine r_widen (u' := (2, 14)) (by decide +kernel) ?_
  refine r_aload_n (pc := 38) dX1_fuel_38 rfl ?_
  refine r_getR (pc := 39)  gf_X1_19 dX1_fuel_39 (fun v39 => ?_)
  refine r_iload_n (pc := 42) dX1_fuel_42 rfl ?_
  refine r_aald (pc := 43) dX1_fuel_43 (fun v43 => ?_)
  refine r_callUs_P (st := []) (vs := []) (pc := 44)  ct_X2_isInVan cf_X1_92 rfl rfl (Nat.le_of_ble_eq_true rfl) (by decide +kernel) dX1_fuel_44 (fun v44 => ?_)
  refine r_widen (u' := (2, 14)) (by decide +kernel) ?_
  refine r_ldc (pc := 47) dX1_fuel_47 q547 ?_
  refine r_callSN_XV (st := []) (vs := [.inl v44, .inl (-10000004 : Int32)]) (pc := 49)  ct_X0_check cf_X1_127 rfl rfl (Nat.le_of_ble_eq_true rfl) (by decide +kernel) dX1_fuel_49 (fun q49 m49 => ?_) (fun m49 => ?_)
  · refine x_widen (u' := (3, 21)) (by decide +kernel) ?_
    exact x_outI (by decide) (by decide +kernel)
  refine r_widen (u' := (3, 21)) (by decide +kernel) ?_
  refine r_aload_n (pc := 52) dX1_fuel_52 rfl ?_
  refine r_getR (pc := 53)  gf_X1_19 dX1_fuel_53 (fun v53 => ?_)
  refine r_iload_n (pc := 56) dX1_fuel_56 rfl ?_
  refine r_aald (pc := 57) dX1_fuel_57 (fun v57 => ?_)
  refine r_getI (pc := 58)  gf_X1_119 dX1_fuel_58 (fun v58 => ?_)
  refine r_iload_n (pc := 61) dX1_fuel_61 rfl ?_
  refine r_iadd (pc := 62) dX1_fuel_62 ?_
  refine r_sipush (v := (500 : Int32)) (pc := 63) dX1_fuel_63 (by decide) ?_
  refine r_icmp_gtF (F := (fun (z9 : Int32) => f_X1_fuel_74 r0 x1 x2 z9 m49)) (zA := (0 : Int32)) (zB := (1 : Int32)) (pc := 66) (tgt := 73) dX1_fuel_66 (by decide) ?_ ?_
  · refine r_iconst (v := (0 : Int32)) (pc := 73) dX1_fuel_73 (by decide) ?_
    exact s_X1_fuel_74  _ _ _ _ _
  refine r_iconst (v := (1 : Int32)) (pc := 69) dX1_fuel_69 (by decide) ?_
  refine r_goto (tgt := 74) (pc := 70) dX1_fuel_70 (by decide) ?_
  exact s_X1_fuel_74  _ _ _ _ _
noncomputable def f_X1_fuel (r0 : QR) (x1 : Int32) (x2 : Int32) (M : QM) : Option ((Int32 ⊕ QN) × QM) :=
  (f_X0_inRange x1 (0 : Int32) (1 : Int32) M).bind fun v3 => 
    qbXV (f_X0_check v3 (-10000001 : Int32) M) (fun q8 m8 => some (.inr q8, m8)) fun m8 => 
    (f_X0_inRange x2 (5 : Int32) (500 : Int32) m8).bind fun v16 => 
    f_X1_fuel_33 r0 x1 x2 (if v16 = 0 then (0 : Int32) else (if (x2 - x2 / (5 : Int32) * (5 : Int32)) = 0 then (1 : Int32) else (0 : Int32))) m8
theorem s_X1_fuel {l : Launch} {M0 : QM} {r0 : QR} {x1 : Int32} {x2 : Int32} {M : QM} : SB eXI l kX1_fuel M0 (f_X1_fuel r0 x1 x2 M) (0, 0) 0 M [some (.inr r0), some (.inl x1), some (.inl x2)] [] := by
  unfold f_X1_fuel
  refine r_iload_n (pc := 0) dX1_fuel_0 rfl ?_
  refine r_iconst (v := (0 : Int32)) (pc := 1) dX1_fuel_1 (by decide) ?_
  refine r_iconst (v := (1 : Int32)) (pc := 2) dX1_fuel_2 (by decide) ?_
  refine r_callSN_P (st := []) (vs := [.inl x1, .inl (0 : Int32), .inl (1 : Int32)]) (pc := 3)  ct_X0_inRange cf_X1_79 rfl rfl (Nat.le_of_ble_eq_true rfl) (by decide +kernel) dX1_fuel_3 (fun v3 => ?_)
  refine r_widen (u' := (0, 0)) (by decide +kernel) ?_
  refine r_ldc (pc := 6) dX1_fuel_6 q309 ?_
  refine r_callSN_XV (st := []) (vs := [.inl v3, .inl (-10000001 : Int32)]) (pc := 8)  ct_X0_check cf_X1_127 rfl rfl (Nat.le_of_ble_eq_true rfl) (by decide +kernel) dX1_fuel_8 (fun q8 m8 => ?_) (fun m8 => ?_)
  · refine x_widen (u' := (1, 7)) (by decide +kernel) ?_
    exact x_outI (by decide) (by decide +kernel)
  refine r_widen (u' := (1, 7)) (by decide +kernel) ?_
  refine r_iload_n (pc := 11) dX1_fuel_11 rfl ?_
  refine r_iconst (v := (5 : Int32)) (pc := 12) dX1_fuel_12 (by decide) ?_
  refine r_sipush (v := (500 : Int32)) (pc := 13) dX1_fuel_13 (by decide) ?_
  refine r_callSN_P (st := []) (vs := [.inl x2, .inl (5 : Int32), .inl (500 : Int32)]) (pc := 16)  ct_X0_inRange cf_X1_79 rfl rfl (Nat.le_of_ble_eq_true rfl) (by decide +kernel) dX1_fuel_16 (fun v16 => ?_)
  refine r_widen (u' := (1, 7)) (by decide +kernel) ?_
  refine r_if_eqF (F := (fun (z9 : Int32) => f_X1_fuel_33 r0 x1 x2 z9 m8)) (zA := (0 : Int32)) (zB := (if (x2 - x2 / (5 : Int32) * (5 : Int32)) = 0 then (1 : Int32) else (0 : Int32))) (pc := 19) (tgt := 32) dX1_fuel_19 (by decide) ?_ ?_
  · refine r_iconst (v := (0 : Int32)) (pc := 32) dX1_fuel_32 (by decide) ?_
    exact s_X1_fuel_33  _ _ _ _ _
  refine r_iload_n (pc := 22) dX1_fuel_22 rfl ?_
  refine r_iconst (v := (5 : Int32)) (pc := 23) dX1_fuel_23 (by decide) ?_
  refine r_irem (pc := 24) dX1_fuel_24 (by decide) ?_
  refine r_if_neF (F := (fun (z9 : Int32) => f_X1_fuel_33 r0 x1 x2 z9 m8)) (zA := (1 : Int32)) (zB := (0 : Int32)) (pc := 25) (tgt := 32) dX1_fuel_25 (by decide) ?_ ?_
  · refine r_iconst (v := (0 : Int32)) (pc := 32) dX1_fuel_32 (by decide) ?_
    exact s_X1_fuel_33  _ _ _ _ _
  refine r_iconst (v := (1 : Int32)) (pc := 28) dX1_fuel_28 (by decide) ?_
  refine r_goto (tgt := 33) (pc := 29) dX1_fuel_29 (by decide) ?_
  exact s_X1_fuel_33  _ _ _ _ _
theorem ct_X1_fuel {l : Launch} {r0 : QR} {x1 : Int32} {x2 : Int32} {M : QM} : ∀ b, f_X1_fuel r0 x1 x2 M = some b → PM l yX1_fuel (ws_ yX1_fuel cX1_fuel 3 (some .int)) rmX1_fuel [.inr r0, .inl x1, .inl x2] M (eXI b).1 (eXI b).2 := fun b hb =>
  PM.of (own := RX1) rfl (by decide +kernel) (Nat.le_of_ble_eq_true rfl) false (fun h => nomatch h) (s_X1_fuel b hb)
/-! X0_fuel: BarnPictures.fuel(II)I, kind I -/
abbrev rmX0_fuel : Room := ({ frames := 9, cells := 26, slots := 235, locals := 193 })
abbrev kX0_fuel : QK := (RX0, cX0_fuel, 5, (some .int), [(12, 23, 24, 8)], false, rmX0_fuel)
noncomputable def f_X0_fuel (r0 : QR) (x1 : Int32) (x2 : Int32) (M : QM) : Option (Int32 × QM) :=
  (nO M (M.1, 0) (.inl (1, fs_1))).bind fun m0 => 
    (gR m0 r0 [(0, 0)]).bind fun v5 => 
    (qnn (some (M.1, 0)) (f_X1_init_2 M.1 (some (M.1, 0)) v5 m0)).bind fun m8 => 
    qbXI (qrc m8 (some (M.1, 0)) [1] (f_X1_fuel (some (M.1, 0)) x1 x2 m8)) (fun q17 m17 => if qcls m17 q17 = some 14 then ((qrc m17 (some q17) [14] (f_X7_code (some q17) m17)).bind fun v28 => 
        some (v28, m17))
      else none) fun v17 m17 => 
    qbI (qrc m17 r0 [0] (f_X0_accept r0 (some (M.1, 0)) v17 m17)) fun v20 m20 => 
    some (v20, m20)
theorem s_X0_fuel {l : Launch} {M0 : QM} {r0 : QR} {x1 : Int32} {x2 : Int32} {M : QM} : SB eI l kX0_fuel M0 (f_X0_fuel r0 x1 x2 M) (0, 0) 0 M [some (.inr r0), some (.inl x1), some (.inl x2), none, none] [] := by
  unfold f_X0_fuel
  refine r_new (pc := 0)  nf_X0_19 (by decide +kernel) dX0_fuel_0 (fun m0 => ?_)
  refine r_widen (u' := (1, 14)) (by decide +kernel) ?_
  refine r_dup (pc := 3) dX0_fuel_3 ?_
  refine r_aload_n (pc := 4) dX0_fuel_4 rfl ?_
  refine r_getR (pc := 5)  gf_X0_22 dX0_fuel_5 (fun v5 => ?_)
  refine r_callI_V (st := [.inr (some (M.1, 0))]) (vs := [.inr v5]) (pc := 8)  ct_X1_init_2 cf_X0_59 rfl rfl (Nat.le_of_ble_eq_true rfl) (by decide +kernel) dX0_fuel_8 (fun m8 => ?_)
  refine r_widen (u' := (21, 143)) (by decide +kernel) ?_
  refine r_astore_n (pc := 11) dX0_fuel_11 (by decide) rfl ?_
  refine r_aload_n (pc := 12) dX0_fuel_12 rfl ?_
  refine r_aload_n (pc := 13) dX0_fuel_13 rfl ?_
  refine r_aload_n (pc := 14) dX0_fuel_14 rfl ?_
  refine r_iload_n (pc := 15) dX0_fuel_15 rfl ?_
  refine r_iload_n (pc := 16) dX0_fuel_16 rfl ?_
  refine r_callV_XI (st := [.inr (some (M.1, 0)), .inr r0]) (vs := [.inl x1, .inl x2]) (pc := 17)  ct_X1_fuel hc_1 cf_X0_80 rfl rfl (Nat.le_of_ble_eq_true rfl) (by decide +kernel) dX0_fuel_17 (fun q17 m17 => ?_) (fun v17 m17 => ?_)
  · refine x_widen (u' := (25, 171)) (by decide +kernel) ?_
    refine x_catch (ci := 14) (pc := 17) [] ⟨12, 23, 24, 8⟩ [] rfl rfl (fun z hz => nomatch hz) (by decide) (by decide) q283 (qnw_in q314 rfl) ?_ ?_
    · refine r_astore (pc := 24) dX0_fuel_24 (by decide) rfl ?_
      refine r_aload (pc := 26) dX0_fuel_26 rfl ?_
      refine r_callV_P (st := []) (vs := []) (pc := 28)  ct_X7_code hc_14 cf_X0_70 rfl rfl (Nat.le_of_ble_eq_true rfl) (by decide +kernel) dX0_fuel_28 (fun v28 => ?_)
      refine r_widen (u' := (25, 171)) (by decide +kernel) ?_
      exact r_iretI (pc := 31) dX0_fuel_31 rfl (by decide +kernel)
    exact x_none
  refine r_widen (u' := (25, 171)) (by decide +kernel) ?_
  refine r_callV_I (st := []) (vs := [.inr (some (M.1, 0)), .inl v17]) (pc := 20)  ct_X0_accept hc_0 cf_X0_66 rfl rfl (Nat.le_of_ble_eq_true rfl) (by decide +kernel) dX0_fuel_20 (fun v20 m20 => ?_)
  refine r_widen (u' := (26, 235)) (by decide +kernel) ?_
  exact r_iretI (pc := 23) dX0_fuel_23 rfl (by decide +kernel)
theorem ct_X0_fuel {l : Launch} {r0 : QR} {x1 : Int32} {x2 : Int32} {M : QM} : ∀ b, f_X0_fuel r0 x1 x2 M = some b → PM l yX0_fuel (wsW_ yX0_fuel cX0_fuel 5 (some .int) [(12, 23, 24, 8)]) rmX0_fuel [.inr r0, .inl x1, .inl x2] M (eI b).1 (eI b).2 := fun b hb =>
  PM.ofH (own := RX0) rfl (by decide +kernel) (Nat.le_of_ble_eq_true rfl) (s_X0_fuel b hb)
/-! X5_fuelFault: BarnPicturesModel.fuelFault(II)I, kind P -/
abbrev rmX5_fuelFault : Room := ({ frames := 2, cells := 0, slots := 0, locals := 42 })
abbrev kX5_fuelFault : QK := (RX5, cX5_fuelFault, 3, (some .int), [], false, rmX5_fuelFault)
noncomputable def f_X5_fuelFault (r0 : QR) (x1 : Int32) (x2 : Int32) (M : QM) : Option (Int32) :=
  (f_X5_isGenerator x1 M).bind fun v1 => 
    if v1 = 0 then (some (-10000001 : Int32))
    else (f_X5_in x2 (5 : Int32) (500 : Int32) M).bind fun v15 => 
    if v15 = 0 then (some (-10000002 : Int32))
    else if (x2 - x2 / (5 : Int32) * (5 : Int32)) = 0 then ((gR M r0 [(4, 0)]).bind fun v31 => 
      (aI M v31 ((50 : Int32) + ((2 : Int32) * x1))).bind fun v40 => 
      if v40 = (-10000005 : Int32) then ((gR M r0 [(4, 0)]).bind fun v52 => 
        (aI M v52 (((50 : Int32) + ((2 : Int32) * x1)) + (1 : Int32))).bind fun v63 => 
        if (v63 + x2) ≤ (500 : Int32) then (some (0 : Int32))
        else some (-10000003 : Int32))
      else some (-10000004 : Int32))
    else some (-10000002 : Int32)
theorem s_X5_fuelFault {l : Launch} {r0 : QR} {x1 : Int32} {x2 : Int32} {M : QM} : SB (eP M) l kX5_fuelFault M (f_X5_fuelFault r0 x1 x2 M) (0, 0) 0 M [some (.inr r0), some (.inl x1), some (.inl x2)] [] := by
  unfold f_X5_fuelFault
  refine r_iload_n (pc := 0) dX5_fuelFault_0 rfl ?_
  refine r_callS_P (st := []) (vs := [.inl x1]) (pc := 1)  ct_X5_isGenerator cf_X5_54 rfl rfl (Nat.le_of_ble_eq_true rfl) (by decide +kernel) dX5_fuelFault_1 (fun v1 => ?_)
  refine r_widen (u' := (0, 0)) (by decide +kernel) ?_
  refine r_if_ne (pc := 4) (tgt := 10) dX5_fuelFault_4 (by decide) ?_ ?_
  · refine r_iload_n (pc := 10) dX5_fuelFault_10 rfl ?_
    refine r_iconst (v := (5 : Int32)) (pc := 11) dX5_fuelFault_11 (by decide) ?_
    refine r_sipush (v := (500 : Int32)) (pc := 12) dX5_fuelFault_12 (by decide) ?_
    refine r_callS_P (st := []) (vs := [.inl x2, .inl (5 : Int32), .inl (500 : Int32)]) (pc := 15)  ct_X5_in cf_X5_37 rfl rfl (Nat.le_of_ble_eq_true rfl) (by decide +kernel) dX5_fuelFault_15 (fun v15 => ?_)
    refine r_widen (u' := (0, 0)) (by decide +kernel) ?_
    refine r_if_eq (pc := 18) (tgt := 27) dX5_fuelFault_18 (by decide) ?_ ?_
    · refine r_ldc (pc := 27) dX5_fuelFault_27 q1208 ?_
      exact r_iretP (pc := 29) dX5_fuelFault_29 rfl (by decide +kernel)
    refine r_iload_n (pc := 21) dX5_fuelFault_21 rfl ?_
    refine r_iconst (v := (5 : Int32)) (pc := 22) dX5_fuelFault_22 (by decide) ?_
    refine r_irem (pc := 23) dX5_fuelFault_23 (by decide) ?_
    refine r_if_eq (pc := 24) (tgt := 30) dX5_fuelFault_24 (by decide) ?_ ?_
    · refine r_aload_n (pc := 30) dX5_fuelFault_30 rfl ?_
      refine r_getR (pc := 31)  gf_X5_7 dX5_fuelFault_31 (fun v31 => ?_)
      refine r_bipush (v := (50 : Int32)) (pc := 34) dX5_fuelFault_34 (by decide) ?_
      refine r_iconst (v := (2 : Int32)) (pc := 36) dX5_fuelFault_36 (by decide) ?_
      refine r_iload_n (pc := 37) dX5_fuelFault_37 rfl ?_
      refine r_imul (pc := 38) dX5_fuelFault_38 ?_
      refine r_iadd (pc := 39) dX5_fuelFault_39 ?_
      refine r_iald (pc := 40) dX5_fuelFault_40 (fun v40 => ?_)
      refine r_ldc (pc := 41) dX5_fuelFault_41 q1092 ?_
      refine r_icmp_eq (pc := 43) (tgt := 51) dX5_fuelFault_43 (by decide) ?_ ?_
      · refine r_aload_n (pc := 51) dX5_fuelFault_51 rfl ?_
        refine r_getR (pc := 52)  gf_X5_7 dX5_fuelFault_52 (fun v52 => ?_)
        refine r_bipush (v := (50 : Int32)) (pc := 55) dX5_fuelFault_55 (by decide) ?_
        refine r_iconst (v := (2 : Int32)) (pc := 57) dX5_fuelFault_57 (by decide) ?_
        refine r_iload_n (pc := 58) dX5_fuelFault_58 rfl ?_
        refine r_imul (pc := 59) dX5_fuelFault_59 ?_
        refine r_iadd (pc := 60) dX5_fuelFault_60 ?_
        refine r_iconst (v := (1 : Int32)) (pc := 61) dX5_fuelFault_61 (by decide) ?_
        refine r_iadd (pc := 62) dX5_fuelFault_62 ?_
        refine r_iald (pc := 63) dX5_fuelFault_63 (fun v63 => ?_)
        refine r_iload_n (pc := 64) dX5_fuelFault_64 rfl ?_
        refine r_iadd (pc := 65) dX5_fuelFault_65 ?_
        refine r_sipush (v := (500 : Int32)) (pc := 66) dX5_fuelFault_66 (by decide) ?_
        refine r_icmp_le (pc := 69) (tgt := 77) dX5_fuelFault_69 (by decide) ?_ ?_
        · refine r_iconst (v := (0 : Int32)) (pc := 77) dX5_fuelFault_77 (by decide) ?_
          exact r_iretP (pc := 78) dX5_fuelFault_78 rfl (by decide +kernel)
        refine r_ldc (pc := 72) dX5_fuelFault_72 q1188 ?_
        refine r_goto (tgt := 78) (pc := 74) dX5_fuelFault_74 (by decide) ?_
        exact r_iretP (pc := 78) dX5_fuelFault_78 rfl (by decide +kernel)
      refine r_ldc (pc := 46) dX5_fuelFault_46 q1183 ?_
      refine r_goto (tgt := 78) (pc := 48) dX5_fuelFault_48 (by decide) ?_
      exact r_iretP (pc := 78) dX5_fuelFault_78 rfl (by decide +kernel)
    refine r_ldc (pc := 27) dX5_fuelFault_27 q1208 ?_
    exact r_iretP (pc := 29) dX5_fuelFault_29 rfl (by decide +kernel)
  refine r_ldc (pc := 7) dX5_fuelFault_7 q1155 ?_
  exact r_iretP (pc := 9) dX5_fuelFault_9 rfl (by decide +kernel)
theorem ct_X5_fuelFault {l : Launch} {r0 : QR} {x1 : Int32} {x2 : Int32} {M : QM} : ∀ b, f_X5_fuelFault r0 x1 x2 M = some b → PM l yX5_fuelFault (ws_ yX5_fuelFault cX5_fuelFault 3 (some .int)) rmX5_fuelFault [.inr r0, .inl x1, .inl x2] M ((eP M) b).1 ((eP M) b).2 := fun b hb =>
  PM.of (own := RX5) rfl (by decide +kernel) (Nat.le_of_ble_eq_true rfl) false (fun h => nomatch h) (s_X5_fuelFault b hb)
/-! X5_fuels: BarnPicturesModel.fuels(II)I, kind I -/
abbrev rmX5_fuels : Room := ({ frames := 0, cells := 0, slots := 0, locals := 0 })
abbrev kX5_fuels : QK := (RX5, cX5_fuels, 3, (some .int), [], false, rmX5_fuels)
noncomputable def f_X5_fuels (r0 : QR) (x1 : Int32) (x2 : Int32) (M : QM) : Option (Int32 × QM) :=
  (gR M r0 [(4, 0)]).bind fun v1 => 
    (aI M v1 (73 : Int32)).bind fun v7 => 
    (sI M v1 (73 : Int32) (v7 + (x2 / (5 : Int32)))).bind fun m12 => 
    (gR m12 r0 [(4, 0)]).bind fun v14 => 
    (aI m12 v14 (((50 : Int32) + ((2 : Int32) * x1)) + (1 : Int32))).bind fun v26 => 
    (sI m12 v14 (((50 : Int32) + ((2 : Int32) * x1)) + (1 : Int32)) (v26 + x2)).bind fun m29 => 
    (gR m29 r0 [(4, 0)]).bind fun v31 => 
    (aI m29 v31 (((50 : Int32) + ((2 : Int32) * x1)) + (1 : Int32))).bind fun v42 => 
    some (v42, m29)
theorem s_X5_fuels {l : Launch} {M0 : QM} {r0 : QR} {x1 : Int32} {x2 : Int32} {M : QM} : SB eI l kX5_fuels M0 (f_X5_fuels r0 x1 x2 M) (0, 0) 0 M [some (.inr r0), some (.inl x1), some (.inl x2)] [] := by
  unfold f_X5_fuels
  refine r_aload_n (pc := 0) dX5_fuels_0 rfl ?_
  refine r_getR (pc := 1)  gf_X5_7 dX5_fuels_1 (fun v1 => ?_)
  refine r_bipush (v := (73 : Int32)) (pc := 4) dX5_fuels_4 (by decide) ?_
  refine r_dup2 (pc := 6) dX5_fuels_6 ?_
  refine r_iald (pc := 7) dX5_fuels_7 (fun v7 => ?_)
  refine r_iload_n (pc := 8) dX5_fuels_8 rfl ?_
  refine r_iconst (v := (5 : Int32)) (pc := 9) dX5_fuels_9 (by decide) ?_
  refine r_idiv (pc := 10) dX5_fuels_10 (by decide) ?_
  refine r_iadd (pc := 11) dX5_fuels_11 ?_
  refine r_iast (pc := 12) dX5_fuels_12 (fun m12 => ?_)
  refine r_aload_n (pc := 13) dX5_fuels_13 rfl ?_
  refine r_getR (pc := 14)  gf_X5_7 dX5_fuels_14 (fun v14 => ?_)
  refine r_bipush (v := (50 : Int32)) (pc := 17) dX5_fuels_17 (by decide) ?_
  refine r_iconst (v := (2 : Int32)) (pc := 19) dX5_fuels_19 (by decide) ?_
  refine r_iload_n (pc := 20) dX5_fuels_20 rfl ?_
  refine r_imul (pc := 21) dX5_fuels_21 ?_
  refine r_iadd (pc := 22) dX5_fuels_22 ?_
  refine r_iconst (v := (1 : Int32)) (pc := 23) dX5_fuels_23 (by decide) ?_
  refine r_iadd (pc := 24) dX5_fuels_24 ?_
  refine r_dup2 (pc := 25) dX5_fuels_25 ?_
  refine r_iald (pc := 26) dX5_fuels_26 (fun v26 => ?_)
  refine r_iload_n (pc := 27) dX5_fuels_27 rfl ?_
  refine r_iadd (pc := 28) dX5_fuels_28 ?_
  refine r_iast (pc := 29) dX5_fuels_29 (fun m29 => ?_)
  refine r_aload_n (pc := 30) dX5_fuels_30 rfl ?_
  refine r_getR (pc := 31)  gf_X5_7 dX5_fuels_31 (fun v31 => ?_)
  refine r_bipush (v := (50 : Int32)) (pc := 34) dX5_fuels_34 (by decide) ?_
  refine r_iconst (v := (2 : Int32)) (pc := 36) dX5_fuels_36 (by decide) ?_
  refine r_iload_n (pc := 37) dX5_fuels_37 rfl ?_
  refine r_imul (pc := 38) dX5_fuels_38 ?_
  refine r_iadd (pc := 39) dX5_fuels_39 ?_
  refine r_iconst (v := (1 : Int32)) (pc := 40) dX5_fuels_40 (by decide) ?_
  refine r_iadd (pc := 41) dX5_fuels_41 ?_
  refine r_iald (pc := 42) dX5_fuels_42 (fun v42 => ?_)
  exact r_iretI (pc := 43) dX5_fuels_43 rfl (by decide +kernel)
theorem ct_X5_fuels {l : Launch} {r0 : QR} {x1 : Int32} {x2 : Int32} {M : QM} : ∀ b, f_X5_fuels r0 x1 x2 M = some b → PM l yX5_fuels (ws_ yX5_fuels cX5_fuels 3 (some .int)) rmX5_fuels [.inr r0, .inl x1, .inl x2] M (eI b).1 (eI b).2 := fun b hb =>
  PM.of (own := RX5) rfl (by decide +kernel) (Nat.le_of_ble_eq_true rfl) false (fun h => nomatch h) (s_X5_fuels b hb)
/-! X5_fuel: BarnPicturesModel.fuel(II)I, kind I -/
abbrev rmX5_fuel : Room := ({ frames := 3, cells := 0, slots := 0, locals := 64 })
abbrev kX5_fuel : QK := (RX5, cX5_fuel, 4, (some .int), [], false, rmX5_fuel)
noncomputable def f_X5_fuel (r0 : QR) (x1 : Int32) (x2 : Int32) (M : QM) : Option (Int32 × QM) :=
  (qrc M r0 [4] (f_X5_fuelFault r0 x1 x2 M)).bind fun v3 => 
    if 0 ≤ v3 then ((qrc M r0 [4] (f_X5_know r0 M)).bind fun m14 => 
      qbI (qrc m14 r0 [4] (f_X5_fuels r0 x1 x2 m14)) fun v20 m20 => 
      some (v20, m20))
    else some (v3, M)
theorem s_X5_fuel {l : Launch} {M0 : QM} {r0 : QR} {x1 : Int32} {x2 : Int32} {M : QM} : SB eI l kX5_fuel M0 (f_X5_fuel r0 x1 x2 M) (0, 0) 0 M [some (.inr r0), some (.inl x1), some (.inl x2), none] [] := by
  unfold f_X5_fuel
  refine r_aload_n (pc := 0) dX5_fuel_0 rfl ?_
  refine r_iload_n (pc := 1) dX5_fuel_1 rfl ?_
  refine r_iload_n (pc := 2) dX5_fuel_2 rfl ?_
  refine r_callV_P (st := []) (vs := [.inl x1, .inl x2]) (pc := 3)  ct_X5_fuelFault hc_4 cf_X5_103 rfl rfl (Nat.le_of_ble_eq_true rfl) (by decide +kernel) dX5_fuel_3 (fun v3 => ?_)
  refine r_widen (u' := (0, 0)) (by decide +kernel) ?_
  refine r_istore_n (pc := 6) dX5_fuel_6 (by decide) rfl ?_
  refine r_iload_n (pc := 7) dX5_fuel_7 rfl ?_
  refine r_if_ge (pc := 8) (tgt := 13) dX5_fuel_8 (by decide) ?_ ?_
  · refine r_aload_n (pc := 13) dX5_fuel_13 rfl ?_
    refine r_callV_V (st := []) (vs := []) (pc := 14)  ct_X5_know hc_4 cf_X5_83 rfl rfl (Nat.le_of_ble_eq_true rfl) (by decide +kernel) dX5_fuel_14 (fun m14 => ?_)
    refine r_widen (u' := (0, 0)) (by decide +kernel) ?_
    refine r_aload_n (pc := 17) dX5_fuel_17 rfl ?_
    refine r_iload_n (pc := 18) dX5_fuel_18 rfl ?_
    refine r_iload_n (pc := 19) dX5_fuel_19 rfl ?_
    refine r_callV_I (st := []) (vs := [.inl x1, .inl x2]) (pc := 20)  ct_X5_fuels hc_4 cf_X5_106 rfl rfl (Nat.le_of_ble_eq_true rfl) (by decide +kernel) dX5_fuel_20 (fun v20 m20 => ?_)
    refine r_widen (u' := (0, 0)) (by decide +kernel) ?_
    exact r_iretI (pc := 23) dX5_fuel_23 rfl (by decide +kernel)
  refine r_iload_n (pc := 11) dX5_fuel_11 rfl ?_
  exact r_iretI (pc := 12) dX5_fuel_12 rfl (by decide +kernel)
theorem ct_X5_fuel {l : Launch} {r0 : QR} {x1 : Int32} {x2 : Int32} {M : QM} : ∀ b, f_X5_fuel r0 x1 x2 M = some b → PM l yX5_fuel (ws_ yX5_fuel cX5_fuel 4 (some .int)) rmX5_fuel [.inr r0, .inl x1, .inl x2] M (eI b).1 (eI b).2 := fun b hb =>
  PM.of (own := RX5) rfl (by decide +kernel) (Nat.le_of_ble_eq_true rfl) false (fun h => nomatch h) (s_X5_fuel b hb)
/-! X3_renew: BarnPictures$Reel.renew()V, kind V -/
abbrev rmX3_renew : Room := ({ frames := 0, cells := 0, slots := 0, locals := 0 })
abbrev kX3_renew : QK := (RX3, cX3_renew, 1, none, [], false, rmX3_renew)
noncomputable def f_X3_renew (r0 : QR) (M : QM) : Option (QM) :=
  (gI M r0 [(2, 1)]).bind fun v4 => 
    (pF M r0 [(2, 2)] (.inl ((8 : Int32) + v4))).bind fun m8 => 
    (pF m8 r0 [(2, 3)] (.inl (0 : Int32))).bind fun m13 => 
    (pF m13 r0 [(2, 4)] (.inl (0 : Int32))).bind fun m18 => 
    (pF m18 r0 [(2, 5)] (.inl (0 : Int32))).bind fun m23 => 
    some m23
theorem s_X3_renew {l : Launch} {M0 : QM} {r0 : QR} {M : QM} : SB eV l kX3_renew M0 (f_X3_renew r0 M) (0, 0) 0 M [some (.inr r0)] [] := by
  unfold f_X3_renew
  refine r_aload_n (pc := 0) dX3_renew_0 rfl ?_
  refine r_bipush (v := (8 : Int32)) (pc := 1) dX3_renew_1 (by decide) ?_
  refine r_aload_n (pc := 3) dX3_renew_3 rfl ?_
  refine r_getI (pc := 4)  gf_X3_9 dX3_renew_4 (fun v4 => ?_)
  refine r_iadd (pc := 7) dX3_renew_7 ?_
  refine r_put (pc := 8)  pf_X3_15 (fun h => nomatch h) (fit_int _) dX3_renew_8 (fun m8 => ?_)
  refine r_aload_n (pc := 11) dX3_renew_11 rfl ?_
  refine r_iconst (v := (0 : Int32)) (pc := 12) dX3_renew_12 (by decide) ?_
  refine r_put (pc := 13)  pf_X3_24 (fun h => nomatch h) (fit_int _) dX3_renew_13 (fun m13 => ?_)
  refine r_aload_n (pc := 16) dX3_renew_16 rfl ?_
  refine r_iconst (v := (0 : Int32)) (pc := 17) dX3_renew_17 (by decide) ?_
  refine r_put (pc := 18)  pf_X3_27 (fun h => nomatch h) (fit_int _) dX3_renew_18 (fun m18 => ?_)
  refine r_aload_n (pc := 21) dX3_renew_21 rfl ?_
  refine r_iconst (v := (0 : Int32)) (pc := 22) dX3_renew_22 (by decide) ?_
  refine r_put (pc := 23)  pf_X3_30 (fun h => nomatch h) (fit_int _) dX3_renew_23 (fun m23 => ?_)
  exact r_vretV (pc := 26) dX3_renew_26 rfl (by decide +kernel)
theorem ct_X3_renew {l : Launch} {r0 : QR} {M : QM} : ∀ b, f_X3_renew r0 M = some b → PM l yX3_renew (ws_ yX3_renew cX3_renew 1 none) rmX3_renew [.inr r0] M (eV b).1 (eV b).2 := fun b hb =>
  PM.of (own := RX3) rfl (by decide +kernel) (Nat.le_of_ble_eq_true rfl) false (fun h => nomatch h) (s_X3_renew b hb)
/-! X1_renew: BarnPictures$Tour.renew(I)I, kind XI -/
abbrev rmX1_renew : Room := ({ frames := 8, cells := 2, slots := 14, locals := 130 })
abbrev kX1_renew : QK := (RX1, cX1_renew, 2, (some .int), [], false, rmX1_renew)
noncomputable def f_X1_renew (r0 : QR) (x1 : Int32) (M : QM) : Option ((Int32 ⊕ QN) × QM) :=
  (qrc M r0 [1] (f_X1_isReel r0 x1 M)).bind fun v2 => 
    qbXV (f_X0_check v2 (-10000001 : Int32) M) (fun q7 m7 => some (.inr q7, m7)) fun m7 => 
    (gR m7 r0 [(1, 0)]).bind fun v11 => 
    (aR m7 v11 x1).bind fun v15 => 
    (qrc m7 v15 [2] (f_X2_isInVan v15 m7)).bind fun v16 => 
    qbXV (f_X0_check v16 (-10000004 : Int32) m7) (fun q21 m21 => some (.inr q21, m21)) fun m21 => 
    (gR m21 r0 [(1, 0)]).bind fun v25 => 
    (aR m21 v25 x1).bind fun v29 => 
    (qrc m21 v29 [2] (f_X3_renew v29 m21)).bind fun m30 => 
    (gI m30 r0 [(1, 11)]).bind fun v35 => 
    (pF m30 r0 [(1, 11)] (.inl (v35 + (30 : Int32)))).bind fun m41 => 
    (gR m41 r0 [(1, 0)]).bind fun v45 => 
    (aR m41 v45 x1).bind fun v49 => 
    (gI m41 v49 [(2, 2)]).bind fun v50 => 
    some (.inl v50, m41)
theorem s_X1_renew {l : Launch} {M0 : QM} {r0 : QR} {x1 : Int32} {M : QM} : SB eXI l kX1_renew M0 (f_X1_renew r0 x1 M) (0, 0) 0 M [some (.inr r0), some (.inl x1)] [] := by
  unfold f_X1_renew
  refine r_aload_n (pc := 0) dX1_renew_0 rfl ?_
  refine r_iload_n (pc := 1) dX1_renew_1 rfl ?_
  refine r_callV_P (st := []) (vs := [.inl x1]) (pc := 2)  ct_X1_isReel hc_1 cf_X1_145 rfl rfl (Nat.le_of_ble_eq_true rfl) (by decide +kernel) dX1_renew_2 (fun v2 => ?_)
  refine r_widen (u' := (0, 0)) (by decide +kernel) ?_
  refine r_ldc (pc := 5) dX1_renew_5 q309 ?_
  refine r_callSN_XV (st := []) (vs := [.inl v2, .inl (-10000001 : Int32)]) (pc := 7)  ct_X0_check cf_X1_127 rfl rfl (Nat.le_of_ble_eq_true rfl) (by decide +kernel) dX1_renew_7 (fun q7 m7 => ?_) (fun m7 => ?_)
  · refine x_widen (u' := (1, 7)) (by decide +kernel) ?_
    exact x_outI (by decide) (by decide +kernel)
  refine r_widen (u' := (1, 7)) (by decide +kernel) ?_
  refine r_aload_n (pc := 10) dX1_renew_10 rfl ?_
  refine r_getR (pc := 11)  gf_X1_11 dX1_renew_11 (fun v11 => ?_)
  refine r_iload_n (pc := 14) dX1_renew_14 rfl ?_
  refine r_aald (pc := 15) dX1_renew_15 (fun v15 => ?_)
  refine r_callUs_P (st := []) (vs := []) (pc := 16)  ct_X2_isInVan cf_X1_155 rfl rfl (Nat.le_of_ble_eq_true rfl) (by decide +kernel) dX1_renew_16 (fun v16 => ?_)
  refine r_widen (u' := (1, 7)) (by decide +kernel) ?_
  refine r_ldc (pc := 19) dX1_renew_19 q547 ?_
  refine r_callSN_XV (st := []) (vs := [.inl v16, .inl (-10000004 : Int32)]) (pc := 21)  ct_X0_check cf_X1_127 rfl rfl (Nat.le_of_ble_eq_true rfl) (by decide +kernel) dX1_renew_21 (fun q21 m21 => ?_) (fun m21 => ?_)
  · refine x_widen (u' := (2, 14)) (by decide +kernel) ?_
    exact x_outI (by decide) (by decide +kernel)
  refine r_widen (u' := (2, 14)) (by decide +kernel) ?_
  refine r_aload_n (pc := 24) dX1_renew_24 rfl ?_
  refine r_getR (pc := 25)  gf_X1_11 dX1_renew_25 (fun v25 => ?_)
  refine r_iload_n (pc := 28) dX1_renew_28 rfl ?_
  refine r_aald (pc := 29) dX1_renew_29 (fun v29 => ?_)
  refine r_callV_V (st := []) (vs := []) (pc := 30)  ct_X3_renew hc_2 cf_X1_156 rfl rfl (Nat.le_of_ble_eq_true rfl) (by decide +kernel) dX1_renew_30 (fun m30 => ?_)
  refine r_widen (u' := (2, 14)) (by decide +kernel) ?_
  refine r_aload_n (pc := 33) dX1_renew_33 rfl ?_
  refine r_dup (pc := 34) dX1_renew_34 ?_
  refine r_getI (pc := 35)  gf_X1_70 dX1_renew_35 (fun v35 => ?_)
  refine r_bipush (v := (30 : Int32)) (pc := 38) dX1_renew_38 (by decide) ?_
  refine r_iadd (pc := 40) dX1_renew_40 ?_
  refine r_put (pc := 41)  pf_X1_70 (fun h => nomatch h) (fit_int _) dX1_renew_41 (fun m41 => ?_)
  refine r_aload_n (pc := 44) dX1_renew_44 rfl ?_
  refine r_getR (pc := 45)  gf_X1_11 dX1_renew_45 (fun v45 => ?_)
  refine r_iload_n (pc := 48) dX1_renew_48 rfl ?_
  refine r_aald (pc := 49) dX1_renew_49 (fun v49 => ?_)
  refine r_getI (pc := 50)  gf_X1_96 dX1_renew_50 (fun v50 => ?_)
  exact r_iretX (pc := 53) dX1_renew_53 rfl (by decide +kernel)
theorem ct_X1_renew {l : Launch} {r0 : QR} {x1 : Int32} {M : QM} : ∀ b, f_X1_renew r0 x1 M = some b → PM l yX1_renew (ws_ yX1_renew cX1_renew 2 (some .int)) rmX1_renew [.inr r0, .inl x1] M (eXI b).1 (eXI b).2 := fun b hb =>
  PM.of (own := RX1) rfl (by decide +kernel) (Nat.le_of_ble_eq_true rfl) false (fun h => nomatch h) (s_X1_renew b hb)
/-! X0_renew: BarnPictures.renew(I)I, kind I -/
abbrev rmX0_renew : Room := ({ frames := 9, cells := 24, slots := 221, locals := 193 })
abbrev kX0_renew : QK := (RX0, cX0_renew, 4, (some .int), [(12, 22, 23, 8)], false, rmX0_renew)
noncomputable def f_X0_renew (r0 : QR) (x1 : Int32) (M : QM) : Option (Int32 × QM) :=
  (nO M (M.1, 0) (.inl (1, fs_1))).bind fun m0 => 
    (gR m0 r0 [(0, 0)]).bind fun v5 => 
    (qnn (some (M.1, 0)) (f_X1_init_2 M.1 (some (M.1, 0)) v5 m0)).bind fun m8 => 
    qbXI (qrc m8 (some (M.1, 0)) [1] (f_X1_renew (some (M.1, 0)) x1 m8)) (fun q16 m16 => if qcls m16 q16 = some 14 then ((qrc m16 (some q16) [14] (f_X7_code (some q16) m16)).bind fun v25 => 
        some (v25, m16))
      else none) fun v16 m16 => 
    qbI (qrc m16 r0 [0] (f_X0_accept r0 (some (M.1, 0)) v16 m16)) fun v19 m19 => 
    some (v19, m19)
theorem s_X0_renew {l : Launch} {M0 : QM} {r0 : QR} {x1 : Int32} {M : QM} : SB eI l kX0_renew M0 (f_X0_renew r0 x1 M) (0, 0) 0 M [some (.inr r0), some (.inl x1), none, none] [] := by
  unfold f_X0_renew
  refine r_new (pc := 0)  nf_X0_19 (by decide +kernel) dX0_renew_0 (fun m0 => ?_)
  refine r_widen (u' := (1, 14)) (by decide +kernel) ?_
  refine r_dup (pc := 3) dX0_renew_3 ?_
  refine r_aload_n (pc := 4) dX0_renew_4 rfl ?_
  refine r_getR (pc := 5)  gf_X0_22 dX0_renew_5 (fun v5 => ?_)
  refine r_callI_V (st := [.inr (some (M.1, 0))]) (vs := [.inr v5]) (pc := 8)  ct_X1_init_2 cf_X0_59 rfl rfl (Nat.le_of_ble_eq_true rfl) (by decide +kernel) dX0_renew_8 (fun m8 => ?_)
  refine r_widen (u' := (21, 143)) (by decide +kernel) ?_
  refine r_astore_n (pc := 11) dX0_renew_11 (by decide) rfl ?_
  refine r_aload_n (pc := 12) dX0_renew_12 rfl ?_
  refine r_aload_n (pc := 13) dX0_renew_13 rfl ?_
  refine r_aload_n (pc := 14) dX0_renew_14 rfl ?_
  refine r_iload_n (pc := 15) dX0_renew_15 rfl ?_
  refine r_callV_XI (st := [.inr (some (M.1, 0)), .inr r0]) (vs := [.inl x1]) (pc := 16)  ct_X1_renew hc_1 cf_X0_84 rfl rfl (Nat.le_of_ble_eq_true rfl) (by decide +kernel) dX0_renew_16 (fun q16 m16 => ?_) (fun v16 m16 => ?_)
  · refine x_widen (u' := (23, 157)) (by decide +kernel) ?_
    refine x_catch (ci := 14) (pc := 16) [] ⟨12, 22, 23, 8⟩ [] rfl rfl (fun z hz => nomatch hz) (by decide) (by decide) q283 (qnw_in q314 rfl) ?_ ?_
    · refine r_astore_n (pc := 23) dX0_renew_23 (by decide) rfl ?_
      refine r_aload_n (pc := 24) dX0_renew_24 rfl ?_
      refine r_callV_P (st := []) (vs := []) (pc := 25)  ct_X7_code hc_14 cf_X0_70 rfl rfl (Nat.le_of_ble_eq_true rfl) (by decide +kernel) dX0_renew_25 (fun v25 => ?_)
      refine r_widen (u' := (23, 157)) (by decide +kernel) ?_
      exact r_iretI (pc := 28) dX0_renew_28 rfl (by decide +kernel)
    exact x_none
  refine r_widen (u' := (23, 157)) (by decide +kernel) ?_
  refine r_callV_I (st := []) (vs := [.inr (some (M.1, 0)), .inl v16]) (pc := 19)  ct_X0_accept hc_0 cf_X0_66 rfl rfl (Nat.le_of_ble_eq_true rfl) (by decide +kernel) dX0_renew_19 (fun v19 m19 => ?_)
  refine r_widen (u' := (24, 221)) (by decide +kernel) ?_
  exact r_iretI (pc := 22) dX0_renew_22 rfl (by decide +kernel)
theorem ct_X0_renew {l : Launch} {r0 : QR} {x1 : Int32} {M : QM} : ∀ b, f_X0_renew r0 x1 M = some b → PM l yX0_renew (wsW_ yX0_renew cX0_renew 4 (some .int) [(12, 22, 23, 8)]) rmX0_renew [.inr r0, .inl x1] M (eI b).1 (eI b).2 := fun b hb =>
  PM.ofH (own := RX0) rfl (by decide +kernel) (Nat.le_of_ble_eq_true rfl) (s_X0_renew b hb)
/-! X5_renew: BarnPicturesModel.renew(I)I, kind I -/
abbrev rmX5_renew : Room := ({ frames := 2, cells := 0, slots := 0, locals := 43 })
abbrev kX5_renew : QK := (RX5, cX5_renew, 2, (some .int), [], false, rmX5_renew)
noncomputable def f_X5_renew (r0 : QR) (x1 : Int32) (M : QM) : Option (Int32 × QM) :=
  (qrc M r0 [4] (f_X5_isReel r0 x1 M)).bind fun v2 => 
    if v2 = 0 then (some ((-10000001 : Int32), M))
    else (gR M r0 [(4, 0)]).bind fun v12 => 
    (f_X5_of x1 (0 : Int32) M).bind fun v17 => 
    (aI M v12 v17).bind fun v20 => 
    if v20 = (-10000005 : Int32) then ((qrc M r0 [4] (f_X5_know r0 M)).bind fun m30 => 
      (gR m30 r0 [(4, 0)]).bind fun v34 => 
      (aI m30 v34 (74 : Int32)).bind fun v40 => 
      (sI m30 v34 (74 : Int32) (v40 + (30 : Int32))).bind fun m44 => 
      (gR m44 r0 [(4, 0)]).bind fun v46 => 
      (f_X5_of x1 (1 : Int32) m44).bind fun v51 => 
      (sI m44 v46 v51 ((8 : Int32) + x1)).bind fun m58 => 
      (gR m58 r0 [(4, 0)]).bind fun v60 => 
      (f_X5_of x1 (2 : Int32) m58).bind fun v65 => 
      (sI m58 v60 v65 (0 : Int32)).bind fun m69 => 
      (gR m69 r0 [(4, 0)]).bind fun v71 => 
      (f_X5_of x1 (3 : Int32) m69).bind fun v76 => 
      (sI m69 v71 v76 (0 : Int32)).bind fun m80 => 
      (gR m80 r0 [(4, 0)]).bind fun v82 => 
      (f_X5_of x1 (4 : Int32) m80).bind fun v87 => 
      (sI m80 v82 v87 (0 : Int32)).bind fun m91 => 
      some (((8 : Int32) + x1), m91))
    else some ((-10000004 : Int32), M)
theorem s_X5_renew {l : Launch} {M0 : QM} {r0 : QR} {x1 : Int32} {M : QM} : SB eI l kX5_renew M0 (f_X5_renew r0 x1 M) (0, 0) 0 M [some (.inr r0), some (.inl x1)] [] := by
  unfold f_X5_renew
  refine r_aload_n (pc := 0) dX5_renew_0 rfl ?_
  refine r_iload_n (pc := 1) dX5_renew_1 rfl ?_
  refine r_callV_P (st := []) (vs := [.inl x1]) (pc := 2)  ct_X5_isReel hc_4 cf_X5_96 rfl rfl (Nat.le_of_ble_eq_true rfl) (by decide +kernel) dX5_renew_2 (fun v2 => ?_)
  refine r_widen (u' := (0, 0)) (by decide +kernel) ?_
  refine r_if_ne (pc := 5) (tgt := 11) dX5_renew_5 (by decide) ?_ ?_
  · refine r_aload_n (pc := 11) dX5_renew_11 rfl ?_
    refine r_getR (pc := 12)  gf_X5_7 dX5_renew_12 (fun v12 => ?_)
    refine r_iload_n (pc := 15) dX5_renew_15 rfl ?_
    refine r_iconst (v := (0 : Int32)) (pc := 16) dX5_renew_16 (by decide) ?_
    refine r_callS_P (st := [.inr v12]) (vs := [.inl x1, .inl (0 : Int32)]) (pc := 17)  ct_X5_of cf_X5_33 rfl rfl (Nat.le_of_ble_eq_true rfl) (by decide +kernel) dX5_renew_17 (fun v17 => ?_)
    refine r_widen (u' := (0, 0)) (by decide +kernel) ?_
    refine r_iald (pc := 20) dX5_renew_20 (fun v20 => ?_)
    refine r_ldc (pc := 21) dX5_renew_21 q1092 ?_
    refine r_icmp_eq (pc := 23) (tgt := 29) dX5_renew_23 (by decide) ?_ ?_
    · refine r_aload_n (pc := 29) dX5_renew_29 rfl ?_
      refine r_callV_V (st := []) (vs := []) (pc := 30)  ct_X5_know hc_4 cf_X5_83 rfl rfl (Nat.le_of_ble_eq_true rfl) (by decide +kernel) dX5_renew_30 (fun m30 => ?_)
      refine r_widen (u' := (0, 0)) (by decide +kernel) ?_
      refine r_aload_n (pc := 33) dX5_renew_33 rfl ?_
      refine r_getR (pc := 34)  gf_X5_7 dX5_renew_34 (fun v34 => ?_)
      refine r_bipush (v := (74 : Int32)) (pc := 37) dX5_renew_37 (by decide) ?_
      refine r_dup2 (pc := 39) dX5_renew_39 ?_
      refine r_iald (pc := 40) dX5_renew_40 (fun v40 => ?_)
      refine r_bipush (v := (30 : Int32)) (pc := 41) dX5_renew_41 (by decide) ?_
      refine r_iadd (pc := 43) dX5_renew_43 ?_
      refine r_iast (pc := 44) dX5_renew_44 (fun m44 => ?_)
      refine r_aload_n (pc := 45) dX5_renew_45 rfl ?_
      refine r_getR (pc := 46)  gf_X5_7 dX5_renew_46 (fun v46 => ?_)
      refine r_iload_n (pc := 49) dX5_renew_49 rfl ?_
      refine r_iconst (v := (1 : Int32)) (pc := 50) dX5_renew_50 (by decide) ?_
      refine r_callS_P (st := [.inr v46]) (vs := [.inl x1, .inl (1 : Int32)]) (pc := 51)  ct_X5_of cf_X5_33 rfl rfl (Nat.le_of_ble_eq_true rfl) (by decide +kernel) dX5_renew_51 (fun v51 => ?_)
      refine r_widen (u' := (0, 0)) (by decide +kernel) ?_
      refine r_bipush (v := (8 : Int32)) (pc := 54) dX5_renew_54 (by decide) ?_
      refine r_iload_n (pc := 56) dX5_renew_56 rfl ?_
      refine r_iadd (pc := 57) dX5_renew_57 ?_
      refine r_iast (pc := 58) dX5_renew_58 (fun m58 => ?_)
      refine r_aload_n (pc := 59) dX5_renew_59 rfl ?_
      refine r_getR (pc := 60)  gf_X5_7 dX5_renew_60 (fun v60 => ?_)
      refine r_iload_n (pc := 63) dX5_renew_63 rfl ?_
      refine r_iconst (v := (2 : Int32)) (pc := 64) dX5_renew_64 (by decide) ?_
      refine r_callS_P (st := [.inr v60]) (vs := [.inl x1, .inl (2 : Int32)]) (pc := 65)  ct_X5_of cf_X5_33 rfl rfl (Nat.le_of_ble_eq_true rfl) (by decide +kernel) dX5_renew_65 (fun v65 => ?_)
      refine r_widen (u' := (0, 0)) (by decide +kernel) ?_
      refine r_iconst (v := (0 : Int32)) (pc := 68) dX5_renew_68 (by decide) ?_
      refine r_iast (pc := 69) dX5_renew_69 (fun m69 => ?_)
      refine r_aload_n (pc := 70) dX5_renew_70 rfl ?_
      refine r_getR (pc := 71)  gf_X5_7 dX5_renew_71 (fun v71 => ?_)
      refine r_iload_n (pc := 74) dX5_renew_74 rfl ?_
      refine r_iconst (v := (3 : Int32)) (pc := 75) dX5_renew_75 (by decide) ?_
      refine r_callS_P (st := [.inr v71]) (vs := [.inl x1, .inl (3 : Int32)]) (pc := 76)  ct_X5_of cf_X5_33 rfl rfl (Nat.le_of_ble_eq_true rfl) (by decide +kernel) dX5_renew_76 (fun v76 => ?_)
      refine r_widen (u' := (0, 0)) (by decide +kernel) ?_
      refine r_iconst (v := (0 : Int32)) (pc := 79) dX5_renew_79 (by decide) ?_
      refine r_iast (pc := 80) dX5_renew_80 (fun m80 => ?_)
      refine r_aload_n (pc := 81) dX5_renew_81 rfl ?_
      refine r_getR (pc := 82)  gf_X5_7 dX5_renew_82 (fun v82 => ?_)
      refine r_iload_n (pc := 85) dX5_renew_85 rfl ?_
      refine r_iconst (v := (4 : Int32)) (pc := 86) dX5_renew_86 (by decide) ?_
      refine r_callS_P (st := [.inr v82]) (vs := [.inl x1, .inl (4 : Int32)]) (pc := 87)  ct_X5_of cf_X5_33 rfl rfl (Nat.le_of_ble_eq_true rfl) (by decide +kernel) dX5_renew_87 (fun v87 => ?_)
      refine r_widen (u' := (0, 0)) (by decide +kernel) ?_
      refine r_iconst (v := (0 : Int32)) (pc := 90) dX5_renew_90 (by decide) ?_
      refine r_iast (pc := 91) dX5_renew_91 (fun m91 => ?_)
      refine r_bipush (v := (8 : Int32)) (pc := 92) dX5_renew_92 (by decide) ?_
      refine r_iload_n (pc := 94) dX5_renew_94 rfl ?_
      refine r_iadd (pc := 95) dX5_renew_95 ?_
      exact r_iretI (pc := 96) dX5_renew_96 rfl (by decide +kernel)
    refine r_ldc (pc := 26) dX5_renew_26 q1183 ?_
    exact r_iretI (pc := 28) dX5_renew_28 rfl (by decide +kernel)
  refine r_ldc (pc := 8) dX5_renew_8 q1155 ?_
  exact r_iretI (pc := 10) dX5_renew_10 rfl (by decide +kernel)
theorem ct_X5_renew {l : Launch} {r0 : QR} {x1 : Int32} {M : QM} : ∀ b, f_X5_renew r0 x1 M = some b → PM l yX5_renew (ws_ yX5_renew cX5_renew 2 (some .int)) rmX5_renew [.inr r0, .inl x1] M (eI b).1 (eI b).2 := fun b hb =>
  PM.of (own := RX5) rfl (by decide +kernel) (Nat.le_of_ble_eq_true rfl) false (fun h => nomatch h) (s_X5_renew b hb)
/-! X0_setPrice: BarnPictures.setPrice(I)I, kind I -/
abbrev rmX0_setPrice : Room := ({ frames := 8, cells := 22, slots := 207, locals := 193 })
abbrev kX0_setPrice : QK := (RX0, cX0_setPrice, 4, (some .int), [], false, rmX0_setPrice)
noncomputable def f_X0_setPrice (r0 : QR) (x1 : Int32) (M : QM) : Option (Int32 × QM) :=
  (f_X0_inRange x1 (1 : Int32) (99 : Int32) M).bind fun v4 => 
    if v4 = 0 then (some ((-10000002 : Int32), M))
    else (gR M r0 [(0, 0)]).bind fun v14 => 
    (gI M v14 [(1, 8)]).bind fun v17 => 
    if v17 = x1 then (some ((-10000005 : Int32), M))
    else (nO M (M.1, 0) (.inl (1, fs_1))).bind fun m29 => 
    (gR m29 r0 [(0, 0)]).bind fun v34 => 
    (qnn (some (M.1, 0)) (f_X1_init_2 M.1 (some (M.1, 0)) v34 m29)).bind fun m37 => 
    (pF m37 (some (M.1, 0)) [(1, 8)] (.inl x1)).bind fun m43 => 
    qbI (qrc m43 r0 [0] (f_X0_accept r0 (some (M.1, 0)) v17 m43)) fun v49 m49 => 
    some (v49, m49)
theorem s_X0_setPrice {l : Launch} {M0 : QM} {r0 : QR} {x1 : Int32} {M : QM} : SB eI l kX0_setPrice M0 (f_X0_setPrice r0 x1 M) (0, 0) 0 M [some (.inr r0), some (.inl x1), none, none] [] := by
  unfold f_X0_setPrice
  refine r_iload_n (pc := 0) dX0_setPrice_0 rfl ?_
  refine r_iconst (v := (1 : Int32)) (pc := 1) dX0_setPrice_1 (by decide) ?_
  refine r_bipush (v := (99 : Int32)) (pc := 2) dX0_setPrice_2 (by decide) ?_
  refine r_callS_P (st := []) (vs := [.inl x1, .inl (1 : Int32), .inl (99 : Int32)]) (pc := 4)  ct_X0_inRange cf_X0_55 rfl rfl (Nat.le_of_ble_eq_true rfl) (by decide +kernel) dX0_setPrice_4 (fun v4 => ?_)
  refine r_widen (u' := (0, 0)) (by decide +kernel) ?_
  refine r_if_ne (pc := 7) (tgt := 13) dX0_setPrice_7 (by decide) ?_ ?_
  · refine r_aload_n (pc := 13) dX0_setPrice_13 rfl ?_
    refine r_getR (pc := 14)  gf_X0_22 dX0_setPrice_14 (fun v14 => ?_)
    refine r_getI (pc := 17)  gf_X0_87 dX0_setPrice_17 (fun v17 => ?_)
    refine r_istore_n (pc := 20) dX0_setPrice_20 (by decide) rfl ?_
    refine r_iload_n (pc := 21) dX0_setPrice_21 rfl ?_
    refine r_iload_n (pc := 22) dX0_setPrice_22 rfl ?_
    refine r_icmp_ne (pc := 23) (tgt := 29) dX0_setPrice_23 (by decide) ?_ ?_
    · refine r_new (pc := 29)  nf_X0_19 (by decide +kernel) dX0_setPrice_29 (fun m29 => ?_)
      refine r_widen (u' := (1, 14)) (by decide +kernel) ?_
      refine r_dup (pc := 32) dX0_setPrice_32 ?_
      refine r_aload_n (pc := 33) dX0_setPrice_33 rfl ?_
      refine r_getR (pc := 34)  gf_X0_22 dX0_setPrice_34 (fun v34 => ?_)
      refine r_callI_V (st := [.inr (some (M.1, 0))]) (vs := [.inr v34]) (pc := 37)  ct_X1_init_2 cf_X0_59 rfl rfl (Nat.le_of_ble_eq_true rfl) (by decide +kernel) dX0_setPrice_37 (fun m37 => ?_)
      refine r_widen (u' := (21, 143)) (by decide +kernel) ?_
      refine r_astore_n (pc := 40) dX0_setPrice_40 (by decide) rfl ?_
      refine r_aload_n (pc := 41) dX0_setPrice_41 rfl ?_
      refine r_iload_n (pc := 42) dX0_setPrice_42 rfl ?_
      refine r_put (pc := 43)  pf_X0_87 (fun h => nomatch h) (fit_int _) dX0_setPrice_43 (fun m43 => ?_)
      refine r_aload_n (pc := 46) dX0_setPrice_46 rfl ?_
      refine r_aload_n (pc := 47) dX0_setPrice_47 rfl ?_
      refine r_iload_n (pc := 48) dX0_setPrice_48 rfl ?_
      refine r_callV_I (st := []) (vs := [.inr (some (M.1, 0)), .inl v17]) (pc := 49)  ct_X0_accept hc_0 cf_X0_66 rfl rfl (Nat.le_of_ble_eq_true rfl) (by decide +kernel) dX0_setPrice_49 (fun v49 m49 => ?_)
      refine r_widen (u' := (22, 207)) (by decide +kernel) ?_
      exact r_iretI (pc := 52) dX0_setPrice_52 rfl (by decide +kernel)
    refine r_ldc (pc := 26) dX0_setPrice_26 q392 ?_
    exact r_iretI (pc := 28) dX0_setPrice_28 rfl (by decide +kernel)
  refine r_ldc (pc := 10) dX0_setPrice_10 q384 ?_
  exact r_iretI (pc := 12) dX0_setPrice_12 rfl (by decide +kernel)
theorem ct_X0_setPrice {l : Launch} {r0 : QR} {x1 : Int32} {M : QM} : ∀ b, f_X0_setPrice r0 x1 M = some b → PM l yX0_setPrice (ws_ yX0_setPrice cX0_setPrice 4 (some .int)) rmX0_setPrice [.inr r0, .inl x1] M (eI b).1 (eI b).2 := fun b hb =>
  PM.of (own := RX0) rfl (by decide +kernel) (Nat.le_of_ble_eq_true rfl) false (fun h => nomatch h) (s_X0_setPrice b hb)
/-! X5_puts: BarnPicturesModel.puts(II)I, kind I -/
abbrev rmX5_puts : Room := ({ frames := 0, cells := 0, slots := 0, locals := 0 })
abbrev kX5_puts : QK := (RX5, cX5_puts, 4, (some .int), [], false, rmX5_puts)
noncomputable def f_X5_puts (r0 : QR) (x1 : Int32) (x2 : Int32) (M : QM) : Option (Int32 × QM) :=
  (gR M r0 [(4, 0)]).bind fun v1 => 
    (aI M v1 x1).bind fun v5 => 
    (gR M r0 [(4, 0)]).bind fun v8 => 
    (sI M v8 x1 x2).bind fun m13 => 
    some (v5, m13)
theorem s_X5_puts {l : Launch} {M0 : QM} {r0 : QR} {x1 : Int32} {x2 : Int32} {M : QM} : SB eI l kX5_puts M0 (f_X5_puts r0 x1 x2 M) (0, 0) 0 M [some (.inr r0), some (.inl x1), some (.inl x2), none] [] := by
  unfold f_X5_puts
  refine r_aload_n (pc := 0) dX5_puts_0 rfl ?_
  refine r_getR (pc := 1)  gf_X5_7 dX5_puts_1 (fun v1 => ?_)
  refine r_iload_n (pc := 4) dX5_puts_4 rfl ?_
  refine r_iald (pc := 5) dX5_puts_5 (fun v5 => ?_)
  refine r_istore_n (pc := 6) dX5_puts_6 (by decide) rfl ?_
  refine r_aload_n (pc := 7) dX5_puts_7 rfl ?_
  refine r_getR (pc := 8)  gf_X5_7 dX5_puts_8 (fun v8 => ?_)
  refine r_iload_n (pc := 11) dX5_puts_11 rfl ?_
  refine r_iload_n (pc := 12) dX5_puts_12 rfl ?_
  refine r_iast (pc := 13) dX5_puts_13 (fun m13 => ?_)
  refine r_iload_n (pc := 14) dX5_puts_14 rfl ?_
  exact r_iretI (pc := 15) dX5_puts_15 rfl (by decide +kernel)
theorem ct_X5_puts {l : Launch} {r0 : QR} {x1 : Int32} {x2 : Int32} {M : QM} : ∀ b, f_X5_puts r0 x1 x2 M = some b → PM l yX5_puts (ws_ yX5_puts cX5_puts 4 (some .int)) rmX5_puts [.inr r0, .inl x1, .inl x2] M (eI b).1 (eI b).2 := fun b hb =>
  PM.of (own := RX5) rfl (by decide +kernel) (Nat.le_of_ble_eq_true rfl) false (fun h => nomatch h) (s_X5_puts b hb)
/-! X5_setPrice: BarnPicturesModel.setPrice(I)I, kind I -/
abbrev rmX5_setPrice : Room := ({ frames := 1, cells := 0, slots := 0, locals := 23 })
abbrev kX5_setPrice : QK := (RX5, cX5_setPrice, 2, (some .int), [], false, rmX5_setPrice)
noncomputable def f_X5_setPrice (r0 : QR) (x1 : Int32) (M : QM) : Option (Int32 × QM) :=
  (f_X5_in x1 (1 : Int32) (99 : Int32) M).bind fun v4 => 
    if v4 = 0 then (some ((-10000002 : Int32), M))
    else (gR M r0 [(4, 0)]).bind fun v14 => 
    (aI M v14 (56 : Int32)).bind fun v19 => 
    if v19 = x1 then (some ((-10000005 : Int32), M))
    else (qrc M r0 [4] (f_X5_know r0 M)).bind fun m28 => 
    qbI (qrc m28 r0 [4] (f_X5_puts r0 (56 : Int32) x1 m28)) fun v35 m35 => 
    some (v35, m35)
theorem s_X5_setPrice {l : Launch} {M0 : QM} {r0 : QR} {x1 : Int32} {M : QM} : SB eI l kX5_setPrice M0 (f_X5_setPrice r0 x1 M) (0, 0) 0 M [some (.inr r0), some (.inl x1)] [] := by
  unfold f_X5_setPrice
  refine r_iload_n (pc := 0) dX5_setPrice_0 rfl ?_
  refine r_iconst (v := (1 : Int32)) (pc := 1) dX5_setPrice_1 (by decide) ?_
  refine r_bipush (v := (99 : Int32)) (pc := 2) dX5_setPrice_2 (by decide) ?_
  refine r_callS_P (st := []) (vs := [.inl x1, .inl (1 : Int32), .inl (99 : Int32)]) (pc := 4)  ct_X5_in cf_X5_37 rfl rfl (Nat.le_of_ble_eq_true rfl) (by decide +kernel) dX5_setPrice_4 (fun v4 => ?_)
  refine r_widen (u' := (0, 0)) (by decide +kernel) ?_
  refine r_if_ne (pc := 7) (tgt := 13) dX5_setPrice_7 (by decide) ?_ ?_
  · refine r_aload_n (pc := 13) dX5_setPrice_13 rfl ?_
    refine r_getR (pc := 14)  gf_X5_7 dX5_setPrice_14 (fun v14 => ?_)
    refine r_bipush (v := (56 : Int32)) (pc := 17) dX5_setPrice_17 (by decide) ?_
    refine r_iald (pc := 19) dX5_setPrice_19 (fun v19 => ?_)
    refine r_iload_n (pc := 20) dX5_setPrice_20 rfl ?_
    refine r_icmp_ne (pc := 21) (tgt := 27) dX5_setPrice_21 (by decide) ?_ ?_
    · refine r_aload_n (pc := 27) dX5_setPrice_27 rfl ?_
      refine r_callV_V (st := []) (vs := []) (pc := 28)  ct_X5_know hc_4 cf_X5_83 rfl rfl (Nat.le_of_ble_eq_true rfl) (by decide +kernel) dX5_setPrice_28 (fun m28 => ?_)
      refine r_widen (u' := (0, 0)) (by decide +kernel) ?_
      refine r_aload_n (pc := 31) dX5_setPrice_31 rfl ?_
      refine r_bipush (v := (56 : Int32)) (pc := 32) dX5_setPrice_32 (by decide) ?_
      refine r_iload_n (pc := 34) dX5_setPrice_34 rfl ?_
      refine r_callV_I (st := []) (vs := [.inl (56 : Int32), .inl x1]) (pc := 35)  ct_X5_puts hc_4 cf_X5_109 rfl rfl (Nat.le_of_ble_eq_true rfl) (by decide +kernel) dX5_setPrice_35 (fun v35 m35 => ?_)
      refine r_widen (u' := (0, 0)) (by decide +kernel) ?_
      exact r_iretI (pc := 38) dX5_setPrice_38 rfl (by decide +kernel)
    refine r_ldc (pc := 24) dX5_setPrice_24 q1092 ?_
    exact r_iretI (pc := 26) dX5_setPrice_26 rfl (by decide +kernel)
  refine r_ldc (pc := 10) dX5_setPrice_10 q1208 ?_
  exact r_iretI (pc := 12) dX5_setPrice_12 rfl (by decide +kernel)
theorem ct_X5_setPrice {l : Launch} {r0 : QR} {x1 : Int32} {M : QM} : ∀ b, f_X5_setPrice r0 x1 M = some b → PM l yX5_setPrice (ws_ yX5_setPrice cX5_setPrice 2 (some .int)) rmX5_setPrice [.inr r0, .inl x1] M (eI b).1 (eI b).2 := fun b hb =>
  PM.of (own := RX5) rfl (by decide +kernel) (Nat.le_of_ble_eq_true rfl) false (fun h => nomatch h) (s_X5_setPrice b hb)
/-! X1_reelsIn: BarnPictures$Tour.reelsIn(I)I, kind P -/
abbrev rmX1_reelsIn : Room := ({ frames := 1, cells := 0, slots := 0, locals := 22 })
abbrev kX1_reelsIn : QK := (RX1, cX1_reelsIn, 4, (some .int), [], false, rmX1_reelsIn)
noncomputable def f_X1_reelsIn_25 (M : QM) (kL4 : QR → Int32 → Int32 → Int32 → Option (Int32)) (r0 : QR) (x1 : Int32) (x3 : Int32) (s0 : Int32) (s1 : Int32) : Option (Int32) :=
  kL4 r0 x1 (s0 + s1) (x3 + (1 : Int32))
theorem s_X1_reelsIn_25 {l : Launch} (M : QM) (kL4 : QR → Int32 → Int32 → Int32 → Option (Int32)) (hkL4 : ∀ (r0 : QR) (x1 : Int32) (x2 : Int32) (x3 : Int32) , SB (eP M) l kX1_reelsIn M (kL4 r0 x1 x2 x3) (0, 0) 4 M [some (.inr r0), some (.inl x1), some (.inl x2), some (.inl x3)] []) : ∀ (r0 : QR) (x1 : Int32) (x3 : Int32) (s0 : Int32) (s1 : Int32) (d2 : Option QV) , SB (eP M) l kX1_reelsIn M (f_X1_reelsIn_25 M kL4 r0 x1 x3 s0 s1) (0, 0) 25 M [some (.inr r0), some (.inl x1), d2, some (.inl x3)] [.inl s1, .inl s0] := by
  intro r0 x1 x3 s0 s1 d2
  unfold f_X1_reelsIn_25
  refine r_iadd (pc := 25) dX1_reelsIn_25 ?_
  refine r_istore_n (pc := 26) dX1_reelsIn_26 (by decide) rfl ?_
  refine r_iinc (v := (x3 + (1 : Int32))) (pc := 27) dX1_reelsIn_27 rfl rfl (by decide) rfl ?_
  refine r_goto (tgt := 4) (pc := 30) dX1_reelsIn_30 (by decide) ?_
  exact hkL4 _ _ _ _
noncomputable def f_X1_reelsIn_4 (M : QM) : Nat → QR → Int32 → Int32 → Int32 → Option (Int32)
  | 0, _, _, _, _ => none
  | n + 1, r0, x1, x2, x3 =>
    if (10 : Int32) ≤ x3 then (some x2)
    else (qrc M r0 [1] (f_X1_isIn r0 x3 x1 M)).bind fun v14 => 
    f_X1_reelsIn_25 M (f_X1_reelsIn_4 M n) r0 x1 x3 x2 (if v14 = 0 then (0 : Int32) else (1 : Int32))
theorem s_X1_reelsIn_4 {l : Launch} (M : QM) : ∀ (n : Nat) (r0 : QR) (x1 : Int32) (x2 : Int32) (x3 : Int32) , SB (eP M) l kX1_reelsIn M (f_X1_reelsIn_4 M n r0 x1 x2 x3) (0, 0) 4 M [some (.inr r0), some (.inl x1), some (.inl x2), some (.inl x3)] [] := by
  intro n
  induction n with
  | zero => intros; rw [f_X1_reelsIn_4]; exact r_none
  | succ n ih =>
    intro r0 x1 x2 x3
    rw [f_X1_reelsIn_4]
    refine r_iload_n (pc := 4) dX1_reelsIn_4 rfl ?_
    refine r_bipush (v := (10 : Int32)) (pc := 5) dX1_reelsIn_5 (by decide) ?_
    refine r_icmp_ge (pc := 7) (tgt := 33) dX1_reelsIn_7 (by decide) ?_ ?_
    · refine r_iload_n (pc := 33) dX1_reelsIn_33 rfl ?_
      exact r_iretP (pc := 34) dX1_reelsIn_34 rfl (by decide +kernel)
    refine r_iload_n (pc := 10) dX1_reelsIn_10 rfl ?_
    refine r_aload_n (pc := 11) dX1_reelsIn_11 rfl ?_
    refine r_iload_n (pc := 12) dX1_reelsIn_12 rfl ?_
    refine r_iload_n (pc := 13) dX1_reelsIn_13 rfl ?_
    refine r_callV_P (st := [.inl x2]) (vs := [.inl x3, .inl x1]) (pc := 14)  ct_X1_isIn hc_1 cf_X1_88 rfl rfl (Nat.le_of_ble_eq_true rfl) (by decide +kernel) dX1_reelsIn_14 (fun v14 => ?_)
    refine r_widen (u' := (0, 0)) (by decide +kernel) ?_
    refine r_if_eqF (F := (fun (z9 : Int32) => f_X1_reelsIn_25 M (f_X1_reelsIn_4 M n) r0 x1 x3 x2 z9)) (zA := (0 : Int32)) (zB := (1 : Int32)) (pc := 17) (tgt := 24) dX1_reelsIn_17 (by decide) ?_ ?_
    · refine r_iconst (v := (0 : Int32)) (pc := 24) dX1_reelsIn_24 (by decide) ?_
      exact s_X1_reelsIn_25 M (f_X1_reelsIn_4 M n) ih _ _ _ _ _ _
    refine r_iconst (v := (1 : Int32)) (pc := 20) dX1_reelsIn_20 (by decide) ?_
    refine r_goto (tgt := 25) (pc := 21) dX1_reelsIn_21 (by decide) ?_
    exact s_X1_reelsIn_25 M (f_X1_reelsIn_4 M n) ih _ _ _ _ _ _
noncomputable def f_X1_reelsIn (r0 : QR) (x1 : Int32) (M : QM) : Option (Int32) :=
  f_X1_reelsIn_4 M 11 r0 x1 (0 : Int32) (0 : Int32)
theorem s_X1_reelsIn {l : Launch} {r0 : QR} {x1 : Int32} {M : QM} : SB (eP M) l kX1_reelsIn M (f_X1_reelsIn r0 x1 M) (0, 0) 0 M [some (.inr r0), some (.inl x1), none, none] [] := by
  unfold f_X1_reelsIn
  refine r_iconst (v := (0 : Int32)) (pc := 0) dX1_reelsIn_0 (by decide) ?_
  refine r_istore_n (pc := 1) dX1_reelsIn_1 (by decide) rfl ?_
  refine r_iconst (v := (0 : Int32)) (pc := 2) dX1_reelsIn_2 (by decide) ?_
  refine r_istore_n (pc := 3) dX1_reelsIn_3 (by decide) rfl ?_
  exact s_X1_reelsIn_4 M 11 _ _ _ _
theorem ct_X1_reelsIn {l : Launch} {r0 : QR} {x1 : Int32} {M : QM} : ∀ b, f_X1_reelsIn r0 x1 M = some b → PM l yX1_reelsIn (ws_ yX1_reelsIn cX1_reelsIn 4 (some .int)) rmX1_reelsIn [.inr r0, .inl x1] M ((eP M) b).1 ((eP M) b).2 := fun b hb =>
  PM.of (own := RX1) rfl (by decide +kernel) (Nat.le_of_ble_eq_true rfl) false (fun h => nomatch h) (s_X1_reelsIn b hb)
/-! X1_generatorFor: BarnPictures$Tour.generatorFor(II)I, kind P -/
abbrev rmX1_generatorFor : Room := ({ frames := 0, cells := 0, slots := 0, locals := 0 })
abbrev kX1_generatorFor : QK := (RX1, cX1_generatorFor, 4, (some .int), [], false, rmX1_generatorFor)
noncomputable def f_X1_generatorFor_2 (M : QM) : Nat → QR → Int32 → Int32 → Int32 → Option (Int32)
  | 0, _, _, _, _ => none
  | n + 1, r0, x1, x2, x3 =>
    if (2 : Int32) ≤ x3 then (some (-10000005 : Int32))
    else (gR M r0 [(1, 1)]).bind fun v8 => 
    (aR M v8 x3).bind fun v12 => 
    (gI M v12 [(2, 0), (3, 0)]).bind fun v13 => 
    if v13 = x1 then ((gR M r0 [(1, 1)]).bind fun v21 => 
      (aR M v21 x3).bind fun v25 => 
      (gI M v25 [(3, 1)]).bind fun v26 => 
      if v26 < x2 then (f_X1_generatorFor_2 M n r0 x1 x2 (x3 + (1 : Int32)))
      else some x3)
    else f_X1_generatorFor_2 M n r0 x1 x2 (x3 + (1 : Int32))
theorem s_X1_generatorFor_2 {l : Launch} (M : QM) : ∀ (n : Nat) (r0 : QR) (x1 : Int32) (x2 : Int32) (x3 : Int32) , SB (eP M) l kX1_generatorFor M (f_X1_generatorFor_2 M n r0 x1 x2 x3) (0, 0) 2 M [some (.inr r0), some (.inl x1), some (.inl x2), some (.inl x3)] [] := by
  intro n
  induction n with
  | zero => intros; rw [f_X1_generatorFor_2]; exact r_none
  | succ n ih =>
    intro r0 x1 x2 x3
    rw [f_X1_generatorFor_2]
    refine r_iload_n (pc := 2) dX1_generatorFor_2 rfl ?_
    refine r_iconst (v := (2 : Int32)) (pc := 3) dX1_generatorFor_3 (by decide) ?_
    refine r_icmp_ge (pc := 4) (tgt := 41) dX1_generatorFor_4 (by decide) ?_ ?_
    · refine r_ldc (pc := 41) dX1_generatorFor_41 q146 ?_
      exact r_iretP (pc := 43) dX1_generatorFor_43 rfl (by decide +kernel)
    refine r_aload_n (pc := 7) dX1_generatorFor_7 rfl ?_
    refine r_getR (pc := 8)  gf_X1_19 dX1_generatorFor_8 (fun v8 => ?_)
    refine r_iload_n (pc := 11) dX1_generatorFor_11 rfl ?_
    refine r_aald (pc := 12) dX1_generatorFor_12 (fun v12 => ?_)
    refine r_getI (pc := 13)  gf_X1_83 dX1_generatorFor_13 (fun v13 => ?_)
    refine r_iload_n (pc := 16) dX1_generatorFor_16 rfl ?_
    refine r_icmp_ne (pc := 17) (tgt := 35) dX1_generatorFor_17 (by decide) ?_ ?_
    · refine r_iinc (v := (x3 + (1 : Int32))) (pc := 35) dX1_generatorFor_35 rfl rfl (by decide) rfl ?_
      refine r_goto (tgt := 2) (pc := 38) dX1_generatorFor_38 (by decide) ?_
      exact ih _ _ _ _
    refine r_aload_n (pc := 20) dX1_generatorFor_20 rfl ?_
    refine r_getR (pc := 21)  gf_X1_19 dX1_generatorFor_21 (fun v21 => ?_)
    refine r_iload_n (pc := 24) dX1_generatorFor_24 rfl ?_
    refine r_aald (pc := 25) dX1_generatorFor_25 (fun v25 => ?_)
    refine r_getI (pc := 26)  gf_X1_119 dX1_generatorFor_26 (fun v26 => ?_)
    refine r_iload_n (pc := 29) dX1_generatorFor_29 rfl ?_
    refine r_icmp_lt (pc := 30) (tgt := 35) dX1_generatorFor_30 (by decide) ?_ ?_
    · refine r_iinc (v := (x3 + (1 : Int32))) (pc := 35) dX1_generatorFor_35 rfl rfl (by decide) rfl ?_
      refine r_goto (tgt := 2) (pc := 38) dX1_generatorFor_38 (by decide) ?_
      exact ih _ _ _ _
    refine r_iload_n (pc := 33) dX1_generatorFor_33 rfl ?_
    exact r_iretP (pc := 34) dX1_generatorFor_34 rfl (by decide +kernel)
noncomputable def f_X1_generatorFor (r0 : QR) (x1 : Int32) (x2 : Int32) (M : QM) : Option (Int32) :=
  f_X1_generatorFor_2 M 3 r0 x1 x2 (0 : Int32)
theorem s_X1_generatorFor {l : Launch} {r0 : QR} {x1 : Int32} {x2 : Int32} {M : QM} : SB (eP M) l kX1_generatorFor M (f_X1_generatorFor r0 x1 x2 M) (0, 0) 0 M [some (.inr r0), some (.inl x1), some (.inl x2), none] [] := by
  unfold f_X1_generatorFor
  refine r_iconst (v := (0 : Int32)) (pc := 0) dX1_generatorFor_0 (by decide) ?_
  refine r_istore_n (pc := 1) dX1_generatorFor_1 (by decide) rfl ?_
  exact s_X1_generatorFor_2 M 3 _ _ _ _
theorem ct_X1_generatorFor {l : Launch} {r0 : QR} {x1 : Int32} {x2 : Int32} {M : QM} : ∀ b, f_X1_generatorFor r0 x1 x2 M = some b → PM l yX1_generatorFor (ws_ yX1_generatorFor cX1_generatorFor 4 (some .int)) rmX1_generatorFor [.inr r0, .inl x1, .inl x2] M ((eP M) b).1 ((eP M) b).2 := fun b hb =>
  PM.of (own := RX1) rfl (by decide +kernel) (Nat.le_of_ble_eq_true rfl) false (fun h => nomatch h) (s_X1_generatorFor b hb)
/-! X1_minutesIn: BarnPictures$Tour.minutesIn(I)I, kind P -/
abbrev rmX1_minutesIn : Room := ({ frames := 1, cells := 0, slots := 0, locals := 22 })
abbrev kX1_minutesIn : QK := (RX1, cX1_minutesIn, 4, (some .int), [], false, rmX1_minutesIn)
noncomputable def f_X1_minutesIn_33 (M : QM) (kL4 : QR → Int32 → Int32 → Int32 → Option (Int32)) (r0 : QR) (x1 : Int32) (x3 : Int32) (s0 : Int32) (s1 : Int32) : Option (Int32) :=
  kL4 r0 x1 (s0 + s1) (x3 + (1 : Int32))
theorem s_X1_minutesIn_33 {l : Launch} (M : QM) (kL4 : QR → Int32 → Int32 → Int32 → Option (Int32)) (hkL4 : ∀ (r0 : QR) (x1 : Int32) (x2 : Int32) (x3 : Int32) , SB (eP M) l kX1_minutesIn M (kL4 r0 x1 x2 x3) (0, 0) 4 M [some (.inr r0), some (.inl x1), some (.inl x2), some (.inl x3)] []) : ∀ (r0 : QR) (x1 : Int32) (x3 : Int32) (s0 : Int32) (s1 : Int32) (d2 : Option QV) , SB (eP M) l kX1_minutesIn M (f_X1_minutesIn_33 M kL4 r0 x1 x3 s0 s1) (0, 0) 33 M [some (.inr r0), some (.inl x1), d2, some (.inl x3)] [.inl s1, .inl s0] := by
  intro r0 x1 x3 s0 s1 d2
  unfold f_X1_minutesIn_33
  refine r_iadd (pc := 33) dX1_minutesIn_33 ?_
  refine r_istore_n (pc := 34) dX1_minutesIn_34 (by decide) rfl ?_
  refine r_iinc (v := (x3 + (1 : Int32))) (pc := 35) dX1_minutesIn_35 rfl rfl (by decide) rfl ?_
  refine r_goto (tgt := 4) (pc := 38) dX1_minutesIn_38 (by decide) ?_
  exact hkL4 _ _ _ _
noncomputable def f_X1_minutesIn_4 (M : QM) : Nat → QR → Int32 → Int32 → Int32 → Option (Int32)
  | 0, _, _, _, _ => none
  | n + 1, r0, x1, x2, x3 =>
    if (10 : Int32) ≤ x3 then (some x2)
    else (qrc M r0 [1] (f_X1_isIn r0 x3 x1 M)).bind fun v14 => 
    if v14 = 0 then (f_X1_minutesIn_33 M (f_X1_minutesIn_4 M n) r0 x1 x3 x2 (0 : Int32))
    else (gR M r0 [(1, 0)]).bind fun v21 => 
    (aR M v21 x3).bind fun v25 => 
    (gI M v25 [(2, 2)]).bind fun v26 => 
    f_X1_minutesIn_33 M (f_X1_minutesIn_4 M n) r0 x1 x3 x2 v26
theorem s_X1_minutesIn_4 {l : Launch} (M : QM) : ∀ (n : Nat) (r0 : QR) (x1 : Int32) (x2 : Int32) (x3 : Int32) , SB (eP M) l kX1_minutesIn M (f_X1_minutesIn_4 M n r0 x1 x2 x3) (0, 0) 4 M [some (.inr r0), some (.inl x1), some (.inl x2), some (.inl x3)] [] := by
  intro n
  induction n with
  | zero => intros; rw [f_X1_minutesIn_4]; exact r_none
  | succ n ih =>
    intro r0 x1 x2 x3
    rw [f_X1_minutesIn_4]
    refine r_iload_n (pc := 4) dX1_minutesIn_4 rfl ?_
    refine r_bipush (v := (10 : Int32)) (pc := 5) dX1_minutesIn_5 (by decide) ?_
    refine r_icmp_ge (pc := 7) (tgt := 41) dX1_minutesIn_7 (by decide) ?_ ?_
    · refine r_iload_n (pc := 41) dX1_minutesIn_41 rfl ?_
      exact r_iretP (pc := 42) dX1_minutesIn_42 rfl (by decide +kernel)
    refine r_iload_n (pc := 10) dX1_minutesIn_10 rfl ?_
    refine r_aload_n (pc := 11) dX1_minutesIn_11 rfl ?_
    refine r_iload_n (pc := 12) dX1_minutesIn_12 rfl ?_
    refine r_iload_n (pc := 13) dX1_minutesIn_13 rfl ?_
    refine r_callV_P (st := [.inl x2]) (vs := [.inl x3, .inl x1]) (pc := 14)  ct_X1_isIn hc_1 cf_X1_88 rfl rfl (Nat.le_of_ble_eq_true rfl) (by decide +kernel) dX1_minutesIn_14 (fun v14 => ?_)
    refine r_widen (u' := (0, 0)) (by decide +kernel) ?_
    refine r_if_eq (pc := 17) (tgt := 32) dX1_minutesIn_17 (by decide) ?_ ?_
    · refine r_iconst (v := (0 : Int32)) (pc := 32) dX1_minutesIn_32 (by decide) ?_
      exact s_X1_minutesIn_33 M (f_X1_minutesIn_4 M n) ih _ _ _ _ _ _
    refine r_aload_n (pc := 20) dX1_minutesIn_20 rfl ?_
    refine r_getR (pc := 21)  gf_X1_11 dX1_minutesIn_21 (fun v21 => ?_)
    refine r_iload_n (pc := 24) dX1_minutesIn_24 rfl ?_
    refine r_aald (pc := 25) dX1_minutesIn_25 (fun v25 => ?_)
    refine r_getI (pc := 26)  gf_X1_96 dX1_minutesIn_26 (fun v26 => ?_)
    refine r_goto (tgt := 33) (pc := 29) dX1_minutesIn_29 (by decide) ?_
    exact s_X1_minutesIn_33 M (f_X1_minutesIn_4 M n) ih _ _ _ _ _ _
noncomputable def f_X1_minutesIn (r0 : QR) (x1 : Int32) (M : QM) : Option (Int32) :=
  f_X1_minutesIn_4 M 11 r0 x1 (0 : Int32) (0 : Int32)
theorem s_X1_minutesIn {l : Launch} {r0 : QR} {x1 : Int32} {M : QM} : SB (eP M) l kX1_minutesIn M (f_X1_minutesIn r0 x1 M) (0, 0) 0 M [some (.inr r0), some (.inl x1), none, none] [] := by
  unfold f_X1_minutesIn
  refine r_iconst (v := (0 : Int32)) (pc := 0) dX1_minutesIn_0 (by decide) ?_
  refine r_istore_n (pc := 1) dX1_minutesIn_1 (by decide) rfl ?_
  refine r_iconst (v := (0 : Int32)) (pc := 2) dX1_minutesIn_2 (by decide) ?_
  refine r_istore_n (pc := 3) dX1_minutesIn_3 (by decide) rfl ?_
  exact s_X1_minutesIn_4 M 11 _ _ _ _
theorem ct_X1_minutesIn {l : Launch} {r0 : QR} {x1 : Int32} {M : QM} : ∀ b, f_X1_minutesIn r0 x1 M = some b → PM l yX1_minutesIn (ws_ yX1_minutesIn cX1_minutesIn 4 (some .int)) rmX1_minutesIn [.inr r0, .inl x1] M ((eP M) b).1 ((eP M) b).2 := fun b hb =>
  PM.of (own := RX1) rfl (by decide +kernel) (Nat.le_of_ble_eq_true rfl) false (fun h => nomatch h) (s_X1_minutesIn b hb)
