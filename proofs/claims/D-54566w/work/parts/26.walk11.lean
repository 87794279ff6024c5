/-! methods as functions over the memory (printed by gen/run.py) -/
set_option maxRecDepth 100000
/-! X5_barn: BarnPicturesModel.barn(II)I, kind P -/
abbrev rmX5_barn : Room := ({ frames := 3, cells := 0, slots := 0, locals := 71 })
abbrev kX5_barn : QK := (RX5, cX5_barn, 3, (some .int), [], false, rmX5_barn)
noncomputable def f_X5_barn_74 (M : QM) (r0 : QR) (x1 : Int32) (x2 : Int32) : Option (Int32) :=
  (qrc M r0 [4] (f_X5_reels r0 x1 (x2 - (3 : Int32)) M)).bind fun v79 => 
    some v79
theorem s_X5_barn_74 {l : Launch} (M : QM) : ∀ (r0 : QR) (x1 : Int32) (x2 : Int32) , SB (eP M) l kX5_barn M (f_X5_barn_74 M r0 x1 x2) (0, 0) 74 M [some (.inr r0), some (.inl x1), some (.inl x2)] [] := by
  intro r0 x1 x2
  unfold f_X5_barn_74
  refine r_aload_n (pc := 74) dX5_barn_74 rfl ?_
  refine r_iload_n (pc := 75) dX5_barn_75 rfl ?_
  refine r_iload_n (pc := 76) dX5_barn_76 rfl ?_
  refine r_iconst (v := (3 : Int32)) (pc := 77) dX5_barn_77 (by decide) ?_
  refine r_isub (pc := 78) dX5_barn_78 ?_
  refine r_callV_P (st := []) (vs := [.inl x1, .inl (x2 - (3 : Int32))]) (pc := 79)  ct_X5_reels hc_4 cf_X5_60 rfl rfl (Nat.le_of_ble_eq_true rfl) (by decide +kernel) dX5_barn_79 (fun v79 => ?_)
  refine r_widen (u' := (0, 0)) (by decide +kernel) ?_
  exact r_iretP (pc := 82) dX5_barn_82 rfl (by decide +kernel)
noncomputable def f_X5_barn (r0 : QR) (x1 : Int32) (x2 : Int32) (M : QM) : Option (Int32) :=
  (f_X5_isBarn x1 M).bind fun v1 => 
    if v1 = 0 then (some (-10000001 : Int32))
    else if x2 = (0 : Int32) then ((f_X5_mile x1 M).bind fun v61 => 
      some v61)
    else if x2 = (1 : Int32) then ((f_X5_seats x1 M).bind fun v66 => 
      some v66)
    else if x2 = (2 : Int32) then (some (x1 - x1 / (3 : Int32) * (3 : Int32)))
    else if x2 = (3 : Int32) then (f_X5_barn_74 M r0 x1 x2)
    else if x2 = (4 : Int32) then (f_X5_barn_74 M r0 x1 x2)
    else if x2 = (5 : Int32) then ((qrc M r0 [4] (f_X5_peopleAt r0 x1 M)).bind fun v85 => 
      some v85)
    else if x2 = (6 : Int32) then ((qrc M r0 [4] (f_X5_why r0 x1 M)).bind fun v91 => 
      some v91)
    else if x2 = (7 : Int32) then ((gR M r0 [(4, 0)]).bind fun v96 => 
      (aI M v96 ((62 : Int32) + x1)).bind fun v103 => 
      some v103)
    else if x2 = (8 : Int32) then ((gR M r0 [(4, 0)]).bind fun v106 => 
      (aI M v106 ((67 : Int32) + x1)).bind fun v113 => 
      some v113)
    else some (-10000002 : Int32)
theorem s_X5_barn {l : Launch} {r0 : QR} {x1 : Int32} {x2 : Int32} {M : QM} : SB (eP M) l kX5_barn M (f_X5_barn r0 x1 x2 M) (0, 0) 0 M [some (.inr r0), some (.inl x1), some (.inl x2)] [] := by
  unfold f_X5_barn
  refine r_iload_n (pc := 0) dX5_barn_0 rfl ?_
  refine r_callS_P (st := []) (vs := [.inl x1]) (pc := 1)  ct_X5_isBarn cf_X5_80 rfl rfl (Nat.le_of_ble_eq_true rfl) (by decide +kernel) dX5_barn_1 (fun v1 => ?_)
  refine r_widen (u' := (0, 0)) (by decide +kernel) ?_
  refine r_if_ne (pc := 4) (tgt := 10) dX5_barn_4 (by decide) ?_ ?_
  · refine r_iload_n (pc := 10) dX5_barn_10 rfl ?_
    refine r_iteE (fun _ => ?_) (fun e11_0 => ?_)
    · refine r_tableY (pc := 11) (off := 49) (tgt := 60) dX5_barn_11 (by decide) (by decide) rfl (by decide) ?_
      refine r_iload_n (pc := 60) dX5_barn_60 rfl ?_
      refine r_callS_P (st := []) (vs := [.inl x1]) (pc := 61)  ct_X5_mile cf_X5_50 rfl rfl (Nat.le_of_ble_eq_true rfl) (by decide +kernel) dX5_barn_61 (fun v61 => ?_)
      refine r_widen (u' := (0, 0)) (by decide +kernel) ?_
      exact r_iretP (pc := 64) dX5_barn_64 rfl (by decide +kernel)
    refine r_iteE (fun _ => ?_) (fun e11_1 => ?_)
    · refine r_tableY (pc := 11) (off := 54) (tgt := 65) dX5_barn_11 (by decide) (by decide) rfl (by decide) ?_
      refine r_iload_n (pc := 65) dX5_barn_65 rfl ?_
      refine r_callS_P (st := []) (vs := [.inl x1]) (pc := 66)  ct_X5_seats cf_X5_66 rfl rfl (Nat.le_of_ble_eq_true rfl) (by decide +kernel) dX5_barn_66 (fun v66 => ?_)
      refine r_widen (u' := (0, 0)) (by decide +kernel) ?_
      exact r_iretP (pc := 69) dX5_barn_69 rfl (by decide +kernel)
    refine r_iteE (fun _ => ?_) (fun e11_2 => ?_)
    · refine r_tableY (pc := 11) (off := 59) (tgt := 70) dX5_barn_11 (by decide) (by decide) rfl (by decide) ?_
      refine r_iload_n (pc := 70) dX5_barn_70 rfl ?_
      refine r_iconst (v := (3 : Int32)) (pc := 71) dX5_barn_71 (by decide) ?_
      refine r_irem (pc := 72) dX5_barn_72 (by decide) ?_
      exact r_iretP (pc := 73) dX5_barn_73 rfl (by decide +kernel)
    refine r_iteE (fun _ => ?_) (fun e11_3 => ?_)
    · refine r_tableY (pc := 11) (off := 63) (tgt := 74) dX5_barn_11 (by decide) (by decide) rfl (by decide) ?_
      exact s_X5_barn_74 M _ _ _
    refine r_iteE (fun _ => ?_) (fun e11_4 => ?_)
    · refine r_tableY (pc := 11) (off := 63) (tgt := 74) dX5_barn_11 (by decide) (by decide) rfl (by decide) ?_
      exact s_X5_barn_74 M _ _ _
    refine r_iteE (fun _ => ?_) (fun e11_5 => ?_)
    · refine r_tableY (pc := 11) (off := 72) (tgt := 83) dX5_barn_11 (by decide) (by decide) rfl (by decide) ?_
      refine r_aload_n (pc := 83) dX5_barn_83 rfl ?_
      refine r_iload_n (pc := 84) dX5_barn_84 rfl ?_
      refine r_callV_P (st := []) (vs := [.inl x1]) (pc := 85)  ct_X5_peopleAt hc_4 cf_X5_69 rfl rfl (Nat.le_of_ble_eq_true rfl) (by decide +kernel) dX5_barn_85 (fun v85 => ?_)
      refine r_widen (u' := (0, 0)) (by decide +kernel) ?_
      exact r_iretP (pc := 88) dX5_barn_88 rfl (by decide +kernel)
    refine r_iteE (fun _ => ?_) (fun e11_6 => ?_)
    · refine r_tableY (pc := 11) (off := 78) (tgt := 89) dX5_barn_11 (by decide) (by decide) rfl (by decide) ?_
      refine r_aload_n (pc := 89) dX5_barn_89 rfl ?_
      refine r_iload_n (pc := 90) dX5_barn_90 rfl ?_
      refine r_callV_P (st := []) (vs := [.inl x1]) (pc := 91)  ct_X5_why hc_4 cf_X5_112 rfl rfl (Nat.le_of_ble_eq_true rfl) (by decide +kernel) dX5_barn_91 (fun v91 => ?_)
      refine r_widen (u' := (0, 0)) (by decide +kernel) ?_
      exact r_iretP (pc := 94) dX5_barn_94 rfl (by decide +kernel)
    refine r_iteE (fun _ => ?_) (fun e11_7 => ?_)
    · refine r_tableY (pc := 11) (off := 84) (tgt := 95) dX5_barn_11 (by decide) (by decide) rfl (by decide) ?_
      refine r_aload_n (pc := 95) dX5_barn_95 rfl ?_
      refine r_getR (pc := 96)  gf_X5_7 dX5_barn_96 (fun v96 => ?_)
      refine r_bipush (v := (62 : Int32)) (pc := 99) dX5_barn_99 (by decide) ?_
      refine r_iload_n (pc := 101) dX5_barn_101 rfl ?_
      refine r_iadd (pc := 102) dX5_barn_102 ?_
      refine r_iald (pc := 103) dX5_barn_103 (fun v103 => ?_)
      exact r_iretP (pc := 104) dX5_barn_104 rfl (by decide +kernel)
    refine r_iteE (fun _ => ?_) (fun e11_8 => ?_)
    · refine r_tableY (pc := 11) (off := 94) (tgt := 105) dX5_barn_11 (by decide) (by decide) rfl (by decide) ?_
      refine r_aload_n (pc := 105) dX5_barn_105 rfl ?_
      refine r_getR (pc := 106)  gf_X5_7 dX5_barn_106 (fun v106 => ?_)
      refine r_bipush (v := (67 : Int32)) (pc := 109) dX5_barn_109 (by decide) ?_
      refine r_iload_n (pc := 111) dX5_barn_111 rfl ?_
      refine r_iadd (pc := 112) dX5_barn_112 ?_
      refine r_iald (pc := 113) dX5_barn_113 (fun v113 => ?_)
      exact r_iretP (pc := 114) dX5_barn_114 rfl (by decide +kernel)
    have he11_0 : (x2).toInt ≠ 0 := ne_toInt e11_0
    have he11_1 : (x2).toInt ≠ 1 := ne_toInt e11_1
    have he11_2 : (x2).toInt ≠ 2 := ne_toInt e11_2
    have he11_3 : (x2).toInt ≠ 3 := ne_toInt e11_3
    have he11_4 : (x2).toInt ≠ 4 := ne_toInt e11_4
    have he11_5 : (x2).toInt ≠ 5 := ne_toInt e11_5
    have he11_6 : (x2).toInt ≠ 6 := ne_toInt e11_6
    have he11_7 : (x2).toInt ≠ 7 := ne_toInt e11_7
    have he11_8 : (x2).toInt ≠ 8 := ne_toInt e11_8
    refine r_tableN (pc := 11) (tgt := 115) dX5_barn_11 (by omega) (by decide) ?_
    refine r_ldc (pc := 115) dX5_barn_115 q1208 ?_
    exact r_iretP (pc := 117) dX5_barn_117 rfl (by decide +kernel)
  refine r_ldc (pc := 7) dX5_barn_7 q1155 ?_
  exact r_iretP (pc := 9) dX5_barn_9 rfl (by decide +kernel)
theorem ct_X5_barn {l : Launch} {r0 : QR} {x1 : Int32} {x2 : Int32} {M : QM} : ∀ b, f_X5_barn r0 x1 x2 M = some b → PM l yX5_barn (ws_ yX5_barn cX5_barn 3 (some .int)) rmX5_barn [.inr r0, .inl x1, .inl x2] M ((eP M) b).1 ((eP M) b).2 := fun b hb =>
  PM.of (own := RX5) rfl (by decide +kernel) (Nat.le_of_ble_eq_true rfl) false (fun h => nomatch h) (s_X5_barn b hb)
/-! X0_bestBarn: BarnPictures.bestBarn()I, kind P -/
abbrev rmX0_bestBarn : Room := ({ frames := 3, cells := 132, slots := 660, locals := 69 })
abbrev kX0_bestBarn : QK := (RX0, cX0_bestBarn, 3, (some .int), [], false, rmX0_bestBarn)
noncomputable def f_X0_bestBarn_49 (M : QM) (kL5 : QR → Int32 → Int32 → Option (Int32)) (r0 : QR) (x2 : Int32) : Option (Int32) :=
  kL5 r0 x2 (x2 + (1 : Int32))
theorem s_X0_bestBarn_49 {l : Launch} (M : QM) (c s : Nat) (kL5 : QR → Int32 → Int32 → Option (Int32)) (hkL5 : ∀ (r0 : QR) (x1 : Int32) (x2 : Int32) , SB (eP M) l kX0_bestBarn M (kL5 r0 x1 x2) (c + 22, s + 110) 5 M [some (.inr r0), some (.inl x1), some (.inl x2)] []) (hc1 : c + 22 ≤ 132) (hs1 : s + 110 ≤ 660) : ∀ (r0 : QR) (x2 : Int32) (d1 : Option QV) , SB (eP M) l kX0_bestBarn M (f_X0_bestBarn_49 M kL5 r0 x2) (c + 22, s + 110) 49 M [some (.inr r0), d1, some (.inl x2)] [] := by
  intro r0 x2 d1
  unfold f_X0_bestBarn_49
  refine r_iload_n (pc := 49) dX0_bestBarn_49 rfl ?_
  refine r_istore_n (pc := 50) dX0_bestBarn_50 (by decide) rfl ?_
  refine r_iinc (v := (x2 + (1 : Int32))) (pc := 51) dX0_bestBarn_51 rfl rfl (by decide) rfl ?_
  refine r_goto (tgt := 5) (pc := 54) dX0_bestBarn_54 (by decide) ?_
  refine r_widen (u' := (c + 22, s + 110)) ⟨(show c + 22 ≤ c + 22 by omega), (show s + 110 ≤ s + 110 by omega)⟩ ?_
  exact hkL5 _ _ _
noncomputable def f_X0_bestBarn_5 (M : QM) : Nat → QR → Int32 → Int32 → Option (Int32)
  | 0, _, _, _ => none
  | n + 1, r0, x1, x2 =>
    if (5 : Int32) ≤ x2 then (some x1)
    else (gR M r0 [(0, 0)]).bind fun v11 => 
    (qrc M v11 [1] (f_X1_reason v11 x2 M)).bind fun v15 => 
    if v15 ≤ 0 then (if x1 = (-10000005 : Int32) then (f_X0_bestBarn_49 M (f_X0_bestBarn_5 M n) r0 x2)
      else (gR M r0 [(0, 0)]).bind fun v31 => 
      (qrc M v31 [1] (f_X1_peopleFor v31 x2 M)).bind fun v35 => 
      (gR M r0 [(0, 0)]).bind fun v39 => 
      (qrc M v39 [1] (f_X1_peopleFor v39 x1 M)).bind fun v43 => 
      if v35 ≤ v43 then (f_X0_bestBarn_5 M n r0 x1 (x2 + (1 : Int32)))
      else f_X0_bestBarn_49 M (f_X0_bestBarn_5 M n) r0 x2)
    else f_X0_bestBarn_5 M n r0 x1 (x2 + (1 : Int32))
theorem s_X0_bestBarn_5 {l : Launch} (M : QM) : ∀ (n c s : Nat), c + 22 * n ≤ 132 → s + 110 * n ≤ 660 → ∀ (r0 : QR) (x1 : Int32) (x2 : Int32) , SB (eP M) l kX0_bestBarn M (f_X0_bestBarn_5 M n r0 x1 x2) (c, s) 5 M [some (.inr r0), some (.inl x1), some (.inl x2)] [] := by
  intro n
  induction n with
  | zero => intros; rw [f_X0_bestBarn_5]; exact r_none
  | succ n ih =>
    intro c s hc hs r0 x1 x2
    have hc1 : c + 22 ≤ 132 := by omega
    have hs1 : s + 110 ≤ 660 := by omega
    rw [f_X0_bestBarn_5]
    refine r_widen (u' := (c + 0, s + 0)) ⟨(show c ≤ c + 0 by omega), (show s ≤ s + 0 by omega)⟩ ?_
    refine r_iload_n (pc := 5) dX0_bestBarn_5 rfl ?_
    refine r_iconst (v := (5 : Int32)) (pc := 6) dX0_bestBarn_6 (by decide) ?_
    refine r_icmp_ge (pc := 7) (tgt := 57) dX0_bestBarn_7 (by decide) ?_ ?_
    · refine r_iload_n (pc := 57) dX0_bestBarn_57 rfl ?_
      exact r_iretP (pc := 58) dX0_bestBarn_58 rfl ⟨(show c + 0 ≤ 132 by omega), (show s + 0 ≤ 660 by omega)⟩
    refine r_aload_n (pc := 10) dX0_bestBarn_10 rfl ?_
    refine r_getR (pc := 11)  gf_X0_22 dX0_bestBarn_11 (fun v11 => ?_)
    refine r_iload_n (pc := 14) dX0_bestBarn_14 rfl ?_
    refine r_callV_P (st := []) (vs := [.inl x2]) (pc := 15)  ct_X1_reason hc_1 cf_X0_215 rfl rfl (Nat.le_of_ble_eq_true rfl) ⟨by decide +kernel, (show c + 0 + 0 ≤ 132 by omega), (show s + 0 + 0 ≤ 660 by omega)⟩ dX0_bestBarn_15 (fun v15 => ?_)
    refine r_widen (u' := (c + 0, s + 0)) ⟨(show c + 0 + 0 ≤ c + 0 by omega), (show s + 0 + 0 ≤ s + 0 by omega)⟩ ?_
    refine r_if_le (pc := 18) (tgt := 24) dX0_bestBarn_18 (by decide) ?_ ?_
    · refine r_iload_n (pc := 24) dX0_bestBarn_24 rfl ?_
      refine r_ldc (pc := 25) dX0_bestBarn_25 q392 ?_
      refine r_icmp_eq (pc := 27) (tgt := 49) dX0_bestBarn_27 (by decide) ?_ ?_
      · refine r_widen (u' := (c + 22, s + 110)) ⟨(show c + 0 ≤ c + 22 by omega), (show s + 0 ≤ s + 110 by omega)⟩ ?_
        exact s_X0_bestBarn_49 M c s (f_X0_bestBarn_5 M n) (ih (c + 22) (s + 110) (by omega) (by omega)) hc1 hs1 _ _ _
      refine r_aload_n (pc := 30) dX0_bestBarn_30 rfl ?_
      refine r_getR (pc := 31)  gf_X0_22 dX0_bestBarn_31 (fun v31 => ?_)
      refine r_iload_n (pc := 34) dX0_bestBarn_34 rfl ?_
      refine r_callV_P (st := []) (vs := [.inl x2]) (pc := 35)  ct_X1_peopleFor hc_1 cf_X0_212 rfl rfl (Nat.le_of_ble_eq_true rfl) ⟨by decide +kernel, (show c + 0 + 11 ≤ 132 by omega), (show s + 0 + 55 ≤ 660 by omega)⟩ dX0_bestBarn_35 (fun v35 => ?_)
      refine r_widen (u' := (c + 11, s + 55)) ⟨(show c + 0 + 11 ≤ c + 11 by omega), (show s + 0 + 55 ≤ s + 55 by omega)⟩ ?_
      refine r_aload_n (pc := 38) dX0_bestBarn_38 rfl ?_
      refine r_getR (pc := 39)  gf_X0_22 dX0_bestBarn_39 (fun v39 => ?_)
      refine r_iload_n (pc := 42) dX0_bestBarn_42 rfl ?_
      refine r_callV_P (st := [.inl v35]) (vs := [.inl x1]) (pc := 43)  ct_X1_peopleFor hc_1 cf_X0_212 rfl rfl (Nat.le_of_ble_eq_true rfl) ⟨by decide +kernel, (show c + 11 + 11 ≤ 132 by omega), (show s + 55 + 55 ≤ 660 by omega)⟩ dX0_bestBarn_43 (fun v43 => ?_)
      refine r_widen (u' := (c + 22, s + 110)) ⟨(show c + 11 + 11 ≤ c + 22 by omega), (show s + 55 + 55 ≤ s + 110 by omega)⟩ ?_
      refine r_icmp_le (pc := 46) (tgt := 51) dX0_bestBarn_46 (by decide) ?_ ?_
      · refine r_iinc (v := (x2 + (1 : Int32))) (pc := 51) dX0_bestBarn_51 rfl rfl (by decide) rfl ?_
        refine r_goto (tgt := 5) (pc := 54) dX0_bestBarn_54 (by decide) ?_
        refine r_widen (u' := (c + 22, s + 110)) ⟨(show c + 22 ≤ c + 22 by omega), (show s + 110 ≤ s + 110 by omega)⟩ ?_
        exact ih (c + 22) (s + 110) (by omega) (by omega) _ _ _
      exact s_X0_bestBarn_49 M c s (f_X0_bestBarn_5 M n) (ih (c + 22) (s + 110) (by omega) (by omega)) hc1 hs1 _ _ _
    refine r_goto (tgt := 51) (pc := 21) dX0_bestBarn_21 (by decide) ?_
    refine r_iinc (v := (x2 + (1 : Int32))) (pc := 51) dX0_bestBarn_51 rfl rfl (by decide) rfl ?_
    refine r_goto (tgt := 5) (pc := 54) dX0_bestBarn_54 (by decide) ?_
    refine r_widen (u' := (c + 22, s + 110)) ⟨(show c + 0 ≤ c + 22 by omega), (show s + 0 ≤ s + 110 by omega)⟩ ?_
    exact ih (c + 22) (s + 110) (by omega) (by omega) _ _ _
noncomputable def f_X0_bestBarn (r0 : QR) (M : QM) : Option (Int32) :=
  f_X0_bestBarn_5 M 6 r0 (-10000005 : Int32) (0 : Int32)
theorem s_X0_bestBarn {l : Launch} {r0 : QR} {M : QM} : SB (eP M) l kX0_bestBarn M (f_X0_bestBarn r0 M) (0, 0) 0 M [some (.inr r0), none, none] [] := by
  unfold f_X0_bestBarn
  refine r_ldc (pc := 0) dX0_bestBarn_0 q392 ?_
  refine r_istore_n (pc := 2) dX0_bestBarn_2 (by decide) rfl ?_
  refine r_iconst (v := (0 : Int32)) (pc := 3) dX0_bestBarn_3 (by decide) ?_
  refine r_istore_n (pc := 4) dX0_bestBarn_4 (by decide) rfl ?_
  refine r_widen (u' := (0, 0)) (by decide +kernel) ?_
  exact s_X0_bestBarn_5 M 6 0 0 (by decide +kernel) (by decide +kernel) _ _ _
theorem ct_X0_bestBarn {l : Launch} {r0 : QR} {M : QM} : ∀ b, f_X0_bestBarn r0 M = some b → PM l yX0_bestBarn (ws_ yX0_bestBarn cX0_bestBarn 3 (some .int)) rmX0_bestBarn [.inr r0] M ((eP M) b).1 ((eP M) b).2 := fun b hb =>
  PM.of (own := RX0) rfl (by decide +kernel) (Nat.le_of_ble_eq_true rfl) false (fun h => nomatch h) (s_X0_bestBarn b hb)
/-! X5_bestBarn: BarnPicturesModel.bestBarn()I, kind P -/
abbrev rmX5_bestBarn : Room := ({ frames := 3, cells := 0, slots := 0, locals := 71 })
abbrev kX5_bestBarn : QK := (RX5, cX5_bestBarn, 4, (some .int), [], false, rmX5_bestBarn)
noncomputable def f_X5_bestBarn_52 (M : QM) (kL5 : QR → Int32 → Int32 → Option (Int32)) (r0 : QR) (x2 : Int32) (s0 : Int32) : Option (Int32) :=
  kL5 r0 s0 (x2 + (1 : Int32))
theorem s_X5_bestBarn_52 {l : Launch} (M : QM) (kL5 : QR → Int32 → Int32 → Option (Int32)) (hkL5 : ∀ (r0 : QR) (x1 : Int32) (x2 : Int32) (d3 : Option QV) , SB (eP M) l kX5_bestBarn M (kL5 r0 x1 x2) (0, 0) 5 M [some (.inr r0), some (.inl x1), some (.inl x2), d3] []) : ∀ (r0 : QR) (x2 : Int32) (s0 : Int32) (d1 : Option QV) (d3 : Option QV) , SB (eP M) l kX5_bestBarn M (f_X5_bestBarn_52 M kL5 r0 x2 s0) (0, 0) 52 M [some (.inr r0), d1, some (.inl x2), d3] [.inl s0] := by
  intro r0 x2 s0 d1 d3
  unfold f_X5_bestBarn_52
  refine r_istore_n (pc := 52) dX5_bestBarn_52 (by decide) rfl ?_
  refine r_iinc (v := (x2 + (1 : Int32))) (pc := 53) dX5_bestBarn_53 rfl rfl (by decide) rfl ?_
  refine r_goto (tgt := 5) (pc := 56) dX5_bestBarn_56 (by decide) ?_
  exact hkL5 _ _ _ _
noncomputable def f_X5_bestBarn_42 (M : QM) (kL5 : QR → Int32 → Int32 → Option (Int32)) (r0 : QR) (x1 : Int32) (x2 : Int32) (s0 : Int32) : Option (Int32) :=
  f_X5_bestBarn_52 M kL5 r0 x2 (if s0 = 0 then x1 else x2)
theorem s_X5_bestBarn_42 {l : Launch} (M : QM) (kL5 : QR → Int32 → Int32 → Option (Int32)) (hkL5 : ∀ (r0 : QR) (x1 : Int32) (x2 : Int32) (d3 : Option QV) , SB (eP M) l kX5_bestBarn M (kL5 r0 x1 x2) (0, 0) 5 M [some (.inr r0), some (.inl x1), some (.inl x2), d3] []) : ∀ (r0 : QR) (x1 : Int32) (x2 : Int32) (s0 : Int32) (d3 : Option QV) , SB (eP M) l kX5_bestBarn M (f_X5_bestBarn_42 M kL5 r0 x1 x2 s0) (0, 0) 42 M [some (.inr r0), some (.inl x1), some (.inl x2), d3] [.inl s0] := by
  intro r0 x1 x2 s0 d3
  unfold f_X5_bestBarn_42
  refine r_istore_n (pc := 42) dX5_bestBarn_42 (by decide) rfl ?_
  refine r_iload_n (pc := 43) dX5_bestBarn_43 rfl ?_
  refine r_if_eqF (F := (fun (z9 : Int32) => f_X5_bestBarn_52 M kL5 r0 x2 z9)) (zA := x1) (zB := x2) (pc := 44) (tgt := 51) dX5_bestBarn_44 (by decide) ?_ ?_
  · refine r_iload_n (pc := 51) dX5_bestBarn_51 rfl ?_
    exact s_X5_bestBarn_52 M kL5 hkL5 _ _ _ _ _
  refine r_iload_n (pc := 47) dX5_bestBarn_47 rfl ?_
  refine r_goto (tgt := 52) (pc := 48) dX5_bestBarn_48 (by decide) ?_
  exact s_X5_bestBarn_52 M kL5 hkL5 _ _ _ _ _
noncomputable def f_X5_bestBarn_5 (M : QM) : Nat → QR → Int32 → Int32 → Option (Int32)
  | 0, _, _, _ => none
  | n + 1, r0, x1, x2 =>
    if (5 : Int32) ≤ x2 then (some x1)
    else (qrc M r0 [4] (f_X5_why r0 x2 M)).bind fun v12 => 
    if v12 = 0 then (if x1 = (-10000005 : Int32) then (f_X5_bestBarn_42 M (f_X5_bestBarn_5 M n) r0 x1 x2 (1 : Int32))
      else (qrc M r0 [4] (f_X5_peopleAt r0 x2 M)).bind fun v26 => 
      (qrc M r0 [4] (f_X5_peopleAt r0 x1 M)).bind fun v31 => 
      f_X5_bestBarn_42 M (f_X5_bestBarn_5 M n) r0 x1 x2 (if v26 ≤ v31 then (0 : Int32) else (1 : Int32)))
    else f_X5_bestBarn_42 M (f_X5_bestBarn_5 M n) r0 x1 x2 (0 : Int32)
theorem s_X5_bestBarn_5 {l : Launch} (M : QM) : ∀ (n : Nat) (r0 : QR) (x1 : Int32) (x2 : Int32) (d3 : Option QV) , SB (eP M) l kX5_bestBarn M (f_X5_bestBarn_5 M n r0 x1 x2) (0, 0) 5 M [some (.inr r0), some (.inl x1), some (.inl x2), d3] [] := by
  intro n
  induction n with
  | zero => intros; rw [f_X5_bestBarn_5]; exact r_none
  | succ n ih =>
    intro r0 x1 x2 d3
    rw [f_X5_bestBarn_5]
    refine r_iload_n (pc := 5) dX5_bestBarn_5 rfl ?_
    refine r_iconst (v := (5 : Int32)) (pc := 6) dX5_bestBarn_6 (by decide) ?_
    refine r_icmp_ge (pc := 7) (tgt := 59) dX5_bestBarn_7 (by decide) ?_ ?_
    · refine r_iload_n (pc := 59) dX5_bestBarn_59 rfl ?_
      exact r_iretP (pc := 60) dX5_bestBarn_60 rfl (by decide +kernel)
    refine r_aload_n (pc := 10) dX5_bestBarn_10 rfl ?_
    refine r_iload_n (pc := 11) dX5_bestBarn_11 rfl ?_
    refine r_callV_P (st := []) (vs := [.inl x2]) (pc := 12)  ct_X5_why hc_4 cf_X5_112 rfl rfl (Nat.le_of_ble_eq_true rfl) (by decide +kernel) dX5_bestBarn_12 (fun v12 => ?_)
    refine r_widen (u' := (0, 0)) (by decide +kernel) ?_
    refine r_if_ne (pc := 15) (tgt := 41) dX5_bestBarn_15 (by decide) ?_ ?_
    · refine r_iconst (v := (0 : Int32)) (pc := 41) dX5_bestBarn_41 (by decide) ?_
      exact s_X5_bestBarn_42 M (f_X5_bestBarn_5 M n) ih _ _ _ _ _
    refine r_iload_n (pc := 18) dX5_bestBarn_18 rfl ?_
    refine r_ldc (pc := 19) dX5_bestBarn_19 q1092 ?_
    refine r_icmp_eq (pc := 21) (tgt := 37) dX5_bestBarn_21 (by decide) ?_ ?_
    · refine r_iconst (v := (1 : Int32)) (pc := 37) dX5_bestBarn_37 (by decide) ?_
      refine r_goto (tgt := 42) (pc := 38) dX5_bestBarn_38 (by decide) ?_
      exact s_X5_bestBarn_42 M (f_X5_bestBarn_5 M n) ih _ _ _ _ _
    refine r_aload_n (pc := 24) dX5_bestBarn_24 rfl ?_
    refine r_iload_n (pc := 25) dX5_bestBarn_25 rfl ?_
    refine r_callV_P (st := []) (vs := [.inl x2]) (pc := 26)  ct_X5_peopleAt hc_4 cf_X5_69 rfl rfl (Nat.le_of_ble_eq_true rfl) (by decide +kernel) dX5_bestBarn_26 (fun v26 => ?_)
    refine r_widen (u' := (0, 0)) (by decide +kernel) ?_
    refine r_aload_n (pc := 29) dX5_bestBarn_29 rfl ?_
    refine r_iload_n (pc := 30) dX5_bestBarn_30 rfl ?_
    refine r_callV_P (st := [.inl v26]) (vs := [.inl x1]) (pc := 31)  ct_X5_peopleAt hc_4 cf_X5_69 rfl rfl (Nat.le_of_ble_eq_true rfl) (by decide +kernel) dX5_bestBarn_31 (fun v31 => ?_)
    refine r_widen (u' := (0, 0)) (by decide +kernel) ?_
    refine r_icmp_leF (F := (fun (z9 : Int32) => f_X5_bestBarn_42 M (f_X5_bestBarn_5 M n) r0 x1 x2 z9)) (zA := (0 : Int32)) (zB := (1 : Int32)) (pc := 34) (tgt := 41) dX5_bestBarn_34 (by decide) ?_ ?_
    · refine r_iconst (v := (0 : Int32)) (pc := 41) dX5_bestBarn_41 (by decide) ?_
      exact s_X5_bestBarn_42 M (f_X5_bestBarn_5 M n) ih _ _ _ _ _
    refine r_iconst (v := (1 : Int32)) (pc := 37) dX5_bestBarn_37 (by decide) ?_
    refine r_goto (tgt := 42) (pc := 38) dX5_bestBarn_38 (by decide) ?_
    exact s_X5_bestBarn_42 M (f_X5_bestBarn_5 M n) ih _ _ _ _ _
noncomputable def f_X5_bestBarn (r0 : QR) (M : QM) : Option (Int32) :=
  f_X5_bestBarn_5 M 6 r0 (-10000005 : Int32) (0 : Int32)
theorem s_X5_bestBarn {l : Launch} {r0 : QR} {M : QM} : SB (eP M) l kX5_bestBarn M (f_X5_bestBarn r0 M) (0, 0) 0 M [some (.inr r0), none, none, none] [] := by
  unfold f_X5_bestBarn
  refine r_ldc (pc := 0) dX5_bestBarn_0 q1092 ?_
  refine r_istore_n (pc := 2) dX5_bestBarn_2 (by decide) rfl ?_
  refine r_iconst (v := (0 : Int32)) (pc := 3) dX5_bestBarn_3 (by decide) ?_
  refine r_istore_n (pc := 4) dX5_bestBarn_4 (by decide) rfl ?_
  exact s_X5_bestBarn_5 M 6 _ _ _ _
theorem ct_X5_bestBarn {l : Launch} {r0 : QR} {M : QM} : ∀ b, f_X5_bestBarn r0 M = some b → PM l yX5_bestBarn (ws_ yX5_bestBarn cX5_bestBarn 4 (some .int)) rmX5_bestBarn [.inr r0] M ((eP M) b).1 ((eP M) b).2 := fun b hb =>
  PM.of (own := RX5) rfl (by decide +kernel) (Nat.le_of_ble_eq_true rfl) false (fun h => nomatch h) (s_X5_bestBarn b hb)
/-! X0_ifPrice: BarnPictures.ifPrice(II)I, kind P -/
abbrev rmX0_ifPrice : Room := ({ frames := 3, cells := 11, slots := 55, locals := 69 })
abbrev kX0_ifPrice : QK := (RX0, cX0_ifPrice, 3, (some .int), [], false, rmX0_ifPrice)
noncomputable def f_X0_ifPrice (r0 : QR) (x1 : Int32) (x2 : Int32) (M : QM) : Option (Int32) :=
  (f_X0_isBarn x1 M).bind fun v1 => 
    if v1 = 0 then (some (-10000001 : Int32))
    else (f_X0_inRange x2 (1 : Int32) (99 : Int32) M).bind fun v14 => 
    if v14 = 0 then (some (-10000002 : Int32))
    else (gR M r0 [(0, 0)]).bind fun v21 => 
    (qrc M v21 [1] (f_X1_peopleFor v21 x1 M)).bind fun v25 => 
    some (v25 * x2)
theorem s_X0_ifPrice {l : Launch} {r0 : QR} {x1 : Int32} {x2 : Int32} {M : QM} : SB (eP M) l kX0_ifPrice M (f_X0_ifPrice r0 x1 x2 M) (0, 0) 0 M [some (.inr r0), some (.inl x1), some (.inl x2)] [] := by
  unfold f_X0_ifPrice
  refine r_iload_n (pc := 0) dX0_ifPrice_0 rfl ?_
  refine r_callS_P (st := []) (vs := [.inl x1]) (pc := 1)  ct_X0_isBarn cf_X0_197 rfl rfl (Nat.le_of_ble_eq_true rfl) (by decide +kernel) dX0_ifPrice_1 (fun v1 => ?_)
  refine r_widen (u' := (0, 0)) (by decide +kernel) ?_
  refine r_if_ne (pc := 4) (tgt := 10) dX0_ifPrice_4 (by decide) ?_ ?_
  · refine r_iload_n (pc := 10) dX0_ifPrice_10 rfl ?_
    refine r_iconst (v := (1 : Int32)) (pc := 11) dX0_ifPrice_11 (by decide) ?_
    refine r_bipush (v := (99 : Int32)) (pc := 12) dX0_ifPrice_12 (by decide) ?_
    refine r_callS_P (st := []) (vs := [.inl x2, .inl (1 : Int32), .inl (99 : Int32)]) (pc := 14)  ct_X0_inRange cf_X0_55 rfl rfl (Nat.le_of_ble_eq_true rfl) (by decide +kernel) dX0_ifPrice_14 (fun v14 => ?_)
    refine r_widen (u' := (0, 0)) (by decide +kernel) ?_
    refine r_if_eq (pc := 17) (tgt := 33) dX0_ifPrice_17 (by decide) ?_ ?_
    · refine r_ldc (pc := 33) dX0_ifPrice_33 q384 ?_
      exact r_iretP (pc := 35) dX0_ifPrice_35 rfl (by decide +kernel)
    refine r_aload_n (pc := 20) dX0_ifPrice_20 rfl ?_
    refine r_getR (pc := 21)  gf_X0_22 dX0_ifPrice_21 (fun v21 => ?_)
    refine r_iload_n (pc := 24) dX0_ifPrice_24 rfl ?_
    refine r_callV_P (st := []) (vs := [.inl x1]) (pc := 25)  ct_X1_peopleFor hc_1 cf_X0_212 rfl rfl (Nat.le_of_ble_eq_true rfl) (by decide +kernel) dX0_ifPrice_25 (fun v25 => ?_)
    refine r_widen (u' := (11, 55)) (by decide +kernel) ?_
    refine r_iload_n (pc := 28) dX0_ifPrice_28 rfl ?_
    refine r_imul (pc := 29) dX0_ifPrice_29 ?_
    refine r_goto (tgt := 35) (pc := 30) dX0_ifPrice_30 (by decide) ?_
    exact r_iretP (pc := 35) dX0_ifPrice_35 rfl (by decide +kernel)
  refine r_ldc (pc := 7) dX0_ifPrice_7 q1036 ?_
  exact r_iretP (pc := 9) dX0_ifPrice_9 rfl (by decide +kernel)
theorem ct_X0_ifPrice {l : Launch} {r0 : QR} {x1 : Int32} {x2 : Int32} {M : QM} : ∀ b, f_X0_ifPrice r0 x1 x2 M = some b → PM l yX0_ifPrice (ws_ yX0_ifPrice cX0_ifPrice 3 (some .int)) rmX0_ifPrice [.inr r0, .inl x1, .inl x2] M ((eP M) b).1 ((eP M) b).2 := fun b hb =>
  PM.of (own := RX0) rfl (by decide +kernel) (Nat.le_of_ble_eq_true rfl) false (fun h => nomatch h) (s_X0_ifPrice b hb)
/-! X5_ifPrice: BarnPicturesModel.ifPrice(II)I, kind P -/
abbrev rmX5_ifPrice : Room := ({ frames := 3, cells := 0, slots := 0, locals := 71 })
abbrev kX5_ifPrice : QK := (RX5, cX5_ifPrice, 3, (some .int), [], false, rmX5_ifPrice)
noncomputable def f_X5_ifPrice (r0 : QR) (x1 : Int32) (x2 : Int32) (M : QM) : Option (Int32) :=
  (f_X5_isBarn x1 M).bind fun v1 => 
    if v1 = 0 then (some (-10000001 : Int32))
    else (f_X5_in x2 (1 : Int32) (99 : Int32) M).bind fun v16 => 
    if v16 = 0 then (some (-10000002 : Int32))
    else (qrc M r0 [4] (f_X5_peopleAt r0 x1 M)).bind fun v24 => 
    some (v24 * x2)
theorem s_X5_ifPrice {l : Launch} {r0 : QR} {x1 : Int32} {x2 : Int32} {M : QM} : SB (eP M) l kX5_ifPrice M (f_X5_ifPrice r0 x1 x2 M) (0, 0) 0 M [some (.inr r0), some (.inl x1), some (.inl x2)] [] := by
  unfold f_X5_ifPrice
  refine r_iload_n (pc := 0) dX5_ifPrice_0 rfl ?_
  refine r_callS_P (st := []) (vs := [.inl x1]) (pc := 1)  ct_X5_isBarn cf_X5_80 rfl rfl (Nat.le_of_ble_eq_true rfl) (by decide +kernel) dX5_ifPrice_1 (fun v1 => ?_)
  refine r_widen (u' := (0, 0)) (by decide +kernel) ?_
  refine r_if_ne (pc := 4) (tgt := 12) dX5_ifPrice_4 (by decide) ?_ ?_
  · refine r_iload_n (pc := 12) dX5_ifPrice_12 rfl ?_
    refine r_iconst (v := (1 : Int32)) (pc := 13) dX5_ifPrice_13 (by decide) ?_
    refine r_bipush (v := (99 : Int32)) (pc := 14) dX5_ifPrice_14 (by decide) ?_
    refine r_callS_P (st := []) (vs := [.inl x2, .inl (1 : Int32), .inl (99 : Int32)]) (pc := 16)  ct_X5_in cf_X5_37 rfl rfl (Nat.le_of_ble_eq_true rfl) (by decide +kernel) dX5_ifPrice_16 (fun v16 => ?_)
    refine r_widen (u' := (0, 0)) (by decide +kernel) ?_
    refine r_if_eq (pc := 19) (tgt := 32) dX5_ifPrice_19 (by decide) ?_ ?_
    · refine r_ldc (pc := 32) dX5_ifPrice_32 q1208 ?_
      exact r_iretP (pc := 34) dX5_ifPrice_34 rfl (by decide +kernel)
    refine r_aload_n (pc := 22) dX5_ifPrice_22 rfl ?_
    refine r_iload_n (pc := 23) dX5_ifPrice_23 rfl ?_
    refine r_callV_P (st := []) (vs := [.inl x1]) (pc := 24)  ct_X5_peopleAt hc_4 cf_X5_69 rfl rfl (Nat.le_of_ble_eq_true rfl) (by decide +kernel) dX5_ifPrice_24 (fun v24 => ?_)
    refine r_widen (u' := (0, 0)) (by decide +kernel) ?_
    refine r_iload_n (pc := 27) dX5_ifPrice_27 rfl ?_
    refine r_imul (pc := 28) dX5_ifPrice_28 ?_
    refine r_goto (tgt := 34) (pc := 29) dX5_ifPrice_29 (by decide) ?_
    exact r_iretP (pc := 34) dX5_ifPrice_34 rfl (by decide +kernel)
  refine r_ldc (pc := 7) dX5_ifPrice_7 q1155 ?_
  refine r_goto (tgt := 34) (pc := 9) dX5_ifPrice_9 (by decide) ?_
  exact r_iretP (pc := 34) dX5_ifPrice_34 rfl (by decide +kernel)
theorem ct_X5_ifPrice {l : Launch} {r0 : QR} {x1 : Int32} {x2 : Int32} {M : QM} : ∀ b, f_X5_ifPrice r0 x1 x2 M = some b → PM l yX5_ifPrice (ws_ yX5_ifPrice cX5_ifPrice 3 (some .int)) rmX5_ifPrice [.inr r0, .inl x1, .inl x2] M ((eP M) b).1 ((eP M) b).2 := fun b hb =>
  PM.of (own := RX5) rfl (by decide +kernel) (Nat.le_of_ble_eq_true rfl) false (fun h => nomatch h) (s_X5_ifPrice b hb)
/-! X1_sum: BarnPictures$Tour.sum([I)I, kind P -/
abbrev rmX1_sum : Room := ({ frames := 0, cells := 0, slots := 0, locals := 0 })
abbrev kX1_sum : QK := (RX1, cX1_sum, 3, (some .int), [], false, rmX1_sum)
noncomputable def f_X1_sum_4 (M : QM) : Nat → QR → Int32 → Int32 → Option (Int32)
  | 0, _, _, _ => none
  | n + 1, r0, x1, x2 =>
    (aL M r0).bind fun v6 => 
    if v6 ≤ x2 then (some x1)
    else (aI M r0 x2).bind fun v13 => 
    f_X1_sum_4 M n r0 (x1 + v13) (x2 + (1 : Int32))
theorem s_X1_sum_4 {l : Launch} (M : QM) : ∀ (n : Nat) (r0 : QR) (x1 : Int32) (x2 : Int32) , SB (eP M) l kX1_sum M (f_X1_sum_4 M n r0 x1 x2) (0, 0) 4 M [some (.inr r0), some (.inl x1), some (.inl x2)] [] := by
  intro n
  induction n with
  | zero => intros; rw [f_X1_sum_4]; exact r_none
  | succ n ih =>
    intro r0 x1 x2
    rw [f_X1_sum_4]
    refine r_iload_n (pc := 4) dX1_sum_4 rfl ?_
    refine r_aload_n (pc := 5) dX1_sum_5 rfl ?_
    refine r_alen (pc := 6) dX1_sum_6 (fun v6 => ?_)
    refine r_icmp_ge (pc := 7) (tgt := 22) dX1_sum_7 (by decide) ?_ ?_
    · refine r_iload_n (pc := 22) dX1_sum_22 rfl ?_
      exact r_iretP (pc := 23) dX1_sum_23 rfl (by decide +kernel)
    refine r_iload_n (pc := 10) dX1_sum_10 rfl ?_
    refine r_aload_n (pc := 11) dX1_sum_11 rfl ?_
    refine r_iload_n (pc := 12) dX1_sum_12 rfl ?_
    refine r_iald (pc := 13) dX1_sum_13 (fun v13 => ?_)
    refine r_iadd (pc := 14) dX1_sum_14 ?_
    refine r_istore_n (pc := 15) dX1_sum_15 (by decide) rfl ?_
    refine r_iinc (v := (x2 + (1 : Int32))) (pc := 16) dX1_sum_16 rfl rfl (by decide) rfl ?_
    refine r_goto (tgt := 4) (pc := 19) dX1_sum_19 (by decide) ?_
    exact ih _ _ _
noncomputable def f_X1_sum (r0 : QR) (M : QM) : Option (Int32) :=
  f_X1_sum_4 M 8 r0 (0 : Int32) (0 : Int32)
theorem s_X1_sum {l : Launch} {r0 : QR} {M : QM} : SB (eP M) l kX1_sum M (f_X1_sum r0 M) (0, 0) 0 M [some (.inr r0), none, none] [] := by
  unfold f_X1_sum
  refine r_iconst (v := (0 : Int32)) (pc := 0) dX1_sum_0 (by decide) ?_
  refine r_istore_n (pc := 1) dX1_sum_1 (by decide) rfl ?_
  refine r_iconst (v := (0 : Int32)) (pc := 2) dX1_sum_2 (by decide) ?_
  refine r_istore_n (pc := 3) dX1_sum_3 (by decide) rfl ?_
  exact s_X1_sum_4 M 8 _ _ _
theorem ct_X1_sum {l : Launch} {r0 : QR} {M : QM} : ∀ b, f_X1_sum r0 M = some b → PM l yX1_sum (ws_ yX1_sum cX1_sum 3 (some .int)) rmX1_sum [.inr r0] M ((eP M) b).1 ((eP M) b).2 := fun b hb =>
  PM.of (own := RX1) rfl (by decide +kernel) (Nat.le_of_ble_eq_true rfl) false (fun h => nomatch h) (s_X1_sum b hb)
/-! X0_showOf: BarnPictures.showOf(II)I, kind P -/
abbrev rmX0_showOf : Room := ({ frames := 1, cells := 0, slots := 0, locals := 22 })
abbrev kX0_showOf : QK := (RX0, cX0_showOf, 3, (some .int), [], false, rmX0_showOf)
noncomputable def f_X0_showOf (r0 : QR) (x1 : Int32) (x2 : Int32) (M : QM) : Option (Int32) :=
  if x1 < 0 then (some (-10000002 : Int32))
    else (f_X0_inRange x2 (0 : Int32) (4 : Int32) M).bind fun v7 => 
    if v7 = 0 then (some (-10000002 : Int32))
    else (gR M r0 [(0, 0)]).bind fun v20 => 
    (gR M v20 [(1, 3)]).bind fun v23 => 
    (f_X1_sum v23 M).bind fun v26 => 
    if (if v26 < (6 : Int32) then v26 else (6 : Int32)) ≤ x1 then (some (-10000005 : Int32))
    else (gR M r0 [(0, 0)]).bind fun v36 => 
    (gR M v36 [(1, 5)]).bind fun v39 => 
    (aI M v39 (((5 : Int32) * x1) + x2)).bind fun v47 => 
    some v47
theorem s_X0_showOf {l : Launch} {r0 : QR} {x1 : Int32} {x2 : Int32} {M : QM} : SB (eP M) l kX0_showOf M (f_X0_showOf r0 x1 x2 M) (0, 0) 0 M [some (.inr r0), some (.inl x1), some (.inl x2)] [] := by
  unfold f_X0_showOf
  refine r_iload_n (pc := 0) dX0_showOf_0 rfl ?_
  refine r_if_lt (pc := 1) (tgt := 13) dX0_showOf_1 (by decide) ?_ ?_
  · refine r_ldc (pc := 13) dX0_showOf_13 q384 ?_
    exact r_iretP (pc := 15) dX0_showOf_15 rfl (by decide +kernel)
  refine r_iload_n (pc := 4) dX0_showOf_4 rfl ?_
  refine r_iconst (v := (0 : Int32)) (pc := 5) dX0_showOf_5 (by decide) ?_
  refine r_iconst (v := (4 : Int32)) (pc := 6) dX0_showOf_6 (by decide) ?_
  refine r_callS_P (st := []) (vs := [.inl x2, .inl (0 : Int32), .inl (4 : Int32)]) (pc := 7)  ct_X0_inRange cf_X0_55 rfl rfl (Nat.le_of_ble_eq_true rfl) (by decide +kernel) dX0_showOf_7 (fun v7 => ?_)
  refine r_widen (u' := (0, 0)) (by decide +kernel) ?_
  refine r_if_ne (pc := 10) (tgt := 16) dX0_showOf_10 (by decide) ?_ ?_
  · refine r_iload_n (pc := 16) dX0_showOf_16 rfl ?_
    refine r_bipush (v := (6 : Int32)) (pc := 17) dX0_showOf_17 (by decide) ?_
    refine r_aload_n (pc := 19) dX0_showOf_19 rfl ?_
    refine r_getR (pc := 20)  gf_X0_22 dX0_showOf_20 (fun v20 => ?_)
    refine r_getR (pc := 23)  gf_X0_218 dX0_showOf_23 (fun v23 => ?_)
    refine r_callS_P (st := [.inl (6 : Int32), .inl x1]) (vs := [.inr v23]) (pc := 26)  ct_X1_sum cf_X0_225 rfl rfl (Nat.le_of_ble_eq_true rfl) (by decide +kernel) dX0_showOf_26 (fun v26 => ?_)
    refine r_widen (u' := (0, 0)) (by decide +kernel) ?_
    refine r_mmin (pc := 29)  ⟨q1076, q481, q64, q482⟩ ⟨⟨Nat.le_of_ble_eq_true rfl, Nat.le_of_ble_eq_true rfl⟩, (by decide +kernel)⟩ dX0_showOf_29 ?_
    refine r_icmp_ge (pc := 32) (tgt := 51) dX0_showOf_32 (by decide) ?_ ?_
    · refine r_ldc (pc := 51) dX0_showOf_51 q392 ?_
      exact r_iretP (pc := 53) dX0_showOf_53 rfl (by decide +kernel)
    refine r_aload_n (pc := 35) dX0_showOf_35 rfl ?_
    refine r_getR (pc := 36)  gf_X0_22 dX0_showOf_36 (fun v36 => ?_)
    refine r_getR (pc := 39)  gf_X0_234 dX0_showOf_39 (fun v39 => ?_)
    refine r_iconst (v := (5 : Int32)) (pc := 42) dX0_showOf_42 (by decide) ?_
    refine r_iload_n (pc := 43) dX0_showOf_43 rfl ?_
    refine r_imul (pc := 44) dX0_showOf_44 ?_
    refine r_iload_n (pc := 45) dX0_showOf_45 rfl ?_
    refine r_iadd (pc := 46) dX0_showOf_46 ?_
    refine r_iald (pc := 47) dX0_showOf_47 (fun v47 => ?_)
    refine r_goto (tgt := 53) (pc := 48) dX0_showOf_48 (by decide) ?_
    exact r_iretP (pc := 53) dX0_showOf_53 rfl (by decide +kernel)
  refine r_ldc (pc := 13) dX0_showOf_13 q384 ?_
  exact r_iretP (pc := 15) dX0_showOf_15 rfl (by decide +kernel)
theorem ct_X0_showOf {l : Launch} {r0 : QR} {x1 : Int32} {x2 : Int32} {M : QM} : ∀ b, f_X0_showOf r0 x1 x2 M = some b → PM l yX0_showOf (ws_ yX0_showOf cX0_showOf 3 (some .int)) rmX0_showOf [.inr r0, .inl x1, .inl x2] M ((eP M) b).1 ((eP M) b).2 := fun b hb =>
  PM.of (own := RX0) rfl (by decide +kernel) (Nat.le_of_ble_eq_true rfl) false (fun h => nomatch h) (s_X0_showOf b hb)
/-! X5_showOf: BarnPicturesModel.showOf(II)I, kind P -/
abbrev rmX5_showOf : Room := ({ frames := 1, cells := 0, slots := 0, locals := 22 })
abbrev kX5_showOf : QK := (RX5, cX5_showOf, 3, (some .int), [], false, rmX5_showOf)
noncomputable def f_X5_showOf (r0 : QR) (x1 : Int32) (x2 : Int32) (M : QM) : Option (Int32) :=
  if x1 < 0 then (some (-10000002 : Int32))
    else (f_X5_in x2 (0 : Int32) (4 : Int32) M).bind fun v7 => 
    if v7 = 0 then (some (-10000002 : Int32))
    else (gR M r0 [(4, 0)]).bind fun v20 => 
    (aI M v20 (77 : Int32)).bind fun v25 => 
    if v25 ≤ x1 then (some (-10000005 : Int32))
    else (gR M r0 [(4, 0)]).bind fun v30 => 
    (aI M v30 (((78 : Int32) + ((5 : Int32) * x1)) + x2)).bind fun v41 => 
    some v41
theorem s_X5_showOf {l : Launch} {r0 : QR} {x1 : Int32} {x2 : Int32} {M : QM} : SB (eP M) l kX5_showOf M (f_X5_showOf r0 x1 x2 M) (0, 0) 0 M [some (.inr r0), some (.inl x1), some (.inl x2)] [] := by
  unfold f_X5_showOf
  refine r_iload_n (pc := 0) dX5_showOf_0 rfl ?_
  refine r_if_lt (pc := 1) (tgt := 13) dX5_showOf_1 (by decide) ?_ ?_
  · refine r_ldc (pc := 13) dX5_showOf_13 q1208 ?_
    refine r_goto (tgt := 47) (pc := 15) dX5_showOf_15 (by decide) ?_
    exact r_iretP (pc := 47) dX5_showOf_47 rfl (by decide +kernel)
  refine r_iload_n (pc := 4) dX5_showOf_4 rfl ?_
  refine r_iconst (v := (0 : Int32)) (pc := 5) dX5_showOf_5 (by decide) ?_
  refine r_iconst (v := (4 : Int32)) (pc := 6) dX5_showOf_6 (by decide) ?_
  refine r_callS_P (st := []) (vs := [.inl x2, .inl (0 : Int32), .inl (4 : Int32)]) (pc := 7)  ct_X5_in cf_X5_37 rfl rfl (Nat.le_of_ble_eq_true rfl) (by decide +kernel) dX5_showOf_7 (fun v7 => ?_)
  refine r_widen (u' := (0, 0)) (by decide +kernel) ?_
  refine r_if_ne (pc := 10) (tgt := 18) dX5_showOf_10 (by decide) ?_ ?_
  · refine r_iload_n (pc := 18) dX5_showOf_18 rfl ?_
    refine r_aload_n (pc := 19) dX5_showOf_19 rfl ?_
    refine r_getR (pc := 20)  gf_X5_7 dX5_showOf_20 (fun v20 => ?_)
    refine r_bipush (v := (77 : Int32)) (pc := 23) dX5_showOf_23 (by decide) ?_
    refine r_iald (pc := 25) dX5_showOf_25 (fun v25 => ?_)
    refine r_icmp_ge (pc := 26) (tgt := 45) dX5_showOf_26 (by decide) ?_ ?_
    · refine r_ldc (pc := 45) dX5_showOf_45 q1092 ?_
      exact r_iretP (pc := 47) dX5_showOf_47 rfl (by decide +kernel)
    refine r_aload_n (pc := 29) dX5_showOf_29 rfl ?_
    refine r_getR (pc := 30)  gf_X5_7 dX5_showOf_30 (fun v30 => ?_)
    refine r_bipush (v := (78 : Int32)) (pc := 33) dX5_showOf_33 (by decide) ?_
    refine r_iconst (v := (5 : Int32)) (pc := 35) dX5_showOf_35 (by decide) ?_
    refine r_iload_n (pc := 36) dX5_showOf_36 rfl ?_
    refine r_imul (pc := 37) dX5_showOf_37 ?_
    refine r_iadd (pc := 38) dX5_showOf_38 ?_
    refine r_iload_n (pc := 39) dX5_showOf_39 rfl ?_
    refine r_iadd (pc := 40) dX5_showOf_40 ?_
    refine r_iald (pc := 41) dX5_showOf_41 (fun v41 => ?_)
    refine r_goto (tgt := 47) (pc := 42) dX5_showOf_42 (by decide) ?_
    exact r_iretP (pc := 47) dX5_showOf_47 rfl (by decide +kernel)
  refine r_ldc (pc := 13) dX5_showOf_13 q1208 ?_
  refine r_goto (tgt := 47) (pc := 15) dX5_showOf_15 (by decide) ?_
  exact r_iretP (pc := 47) dX5_showOf_47 rfl (by decide +kernel)
theorem ct_X5_showOf {l : Launch} {r0 : QR} {x1 : Int32} {x2 : Int32} {M : QM} : ∀ b, f_X5_showOf r0 x1 x2 M = some b → PM l yX5_showOf (ws_ yX5_showOf cX5_showOf 3 (some .int)) rmX5_showOf [.inr r0, .inl x1, .inl x2] M ((eP M) b).1 ((eP M) b).2 := fun b hb =>
  PM.of (own := RX5) rfl (by decide +kernel) (Nat.le_of_ble_eq_true rfl) false (fun h => nomatch h) (s_X5_showOf b hb)
/-! X1_gone: BarnPictures$Tour.gone()I, kind P -/
abbrev rmX1_gone : Room := ({ frames := 0, cells := 0, slots := 0, locals := 0 })
abbrev kX1_gone : QK := (RX1, cX1_gone, 3, (some .int), [], false, rmX1_gone)
noncomputable def f_X1_gone_25 (M : QM) (kL4 : QR → Int32 → Int32 → Option (Int32)) (r0 : QR) (x2 : Int32) (s0 : Int32) (s1 : Int32) : Option (Int32) :=
  kL4 r0 (s0 + s1) (x2 + (1 : Int32))
theorem s_X1_gone_25 {l : Launch} (M : QM) (kL4 : QR → Int32 → Int32 → Option (Int32)) (hkL4 : ∀ (r0 : QR) (x1 : Int32) (x2 : Int32) , SB (eP M) l kX1_gone M (kL4 r0 x1 x2) (0, 0) 4 M [some (.inr r0), some (.inl x1), some (.inl x2)] []) : ∀ (r0 : QR) (x2 : Int32) (s0 : Int32) (s1 : Int32) (d1 : Option QV) , SB (eP M) l kX1_gone M (f_X1_gone_25 M kL4 r0 x2 s0 s1) (0, 0) 25 M [some (.inr r0), d1, some (.inl x2)] [.inl s1, .inl s0] := by
  intro r0 x2 s0 s1 d1
  unfold f_X1_gone_25
  refine r_iadd (pc := 25) dX1_gone_25 ?_
  refine r_istore_n (pc := 26) dX1_gone_26 (by decide) rfl ?_
  refine r_iinc (v := (x2 + (1 : Int32))) (pc := 27) dX1_gone_27 rfl rfl (by decide) rfl ?_
  refine r_goto (tgt := 4) (pc := 30) dX1_gone_30 (by decide) ?_
  exact hkL4 _ _ _
noncomputable def f_X1_gone_4 (M : QM) : Nat → QR → Int32 → Int32 → Option (Int32)
  | 0, _, _, _ => none
  | n + 1, r0, x1, x2 =>
    if (10 : Int32) ≤ x2 then (some x1)
    else (gR M r0 [(1, 0)]).bind fun v12 => 
    (aR M v12 x2).bind fun v16 => 
    f_X1_gone_25 M (f_X1_gone_4 M n) r0 x2 x1 (if v16 = none then (1 : Int32) else (0 : Int32))
theorem s_X1_gone_4 {l : Launch} (M : QM) : ∀ (n : Nat) (r0 : QR) (x1 : Int32) (x2 : Int32) , SB (eP M) l kX1_gone M (f_X1_gone_4 M n r0 x1 x2) (0, 0) 4 M [some (.inr r0), some (.inl x1), some (.inl x2)] [] := by
  intro n
  induction n with
  | zero => intros; rw [f_X1_gone_4]; exact r_none
  | succ n ih =>
    intro r0 x1 x2
    rw [f_X1_gone_4]
    refine r_iload_n (pc := 4) dX1_gone_4 rfl ?_
    refine r_bipush (v := (10 : Int32)) (pc := 5) dX1_gone_5 (by decide) ?_
    refine r_icmp_ge (pc := 7) (tgt := 33) dX1_gone_7 (by decide) ?_ ?_
    · refine r_iload_n (pc := 33) dX1_gone_33 rfl ?_
      exact r_iretP (pc := 34) dX1_gone_34 rfl (by decide +kernel)
    refine r_iload_n (pc := 10) dX1_gone_10 rfl ?_
    refine r_aload_n (pc := 11) dX1_gone_11 rfl ?_
    refine r_getR (pc := 12)  gf_X1_11 dX1_gone_12 (fun v12 => ?_)
    refine r_iload_n (pc := 15) dX1_gone_15 rfl ?_
    refine r_aald (pc := 16) dX1_gone_16 (fun v16 => ?_)
    refine r_ifnonnullF (F := (fun (z9 : Int32) => f_X1_gone_25 M (f_X1_gone_4 M n) r0 x2 x1 z9)) (zA := (1 : Int32)) (zB := (0 : Int32)) (pc := 17) (tgt := 24) dX1_gone_17 (by decide) ?_ ?_
    · refine r_iconst (v := (0 : Int32)) (pc := 24) dX1_gone_24 (by decide) ?_
      exact s_X1_gone_25 M (f_X1_gone_4 M n) ih _ _ _ _ _
    refine r_iconst (v := (1 : Int32)) (pc := 20) dX1_gone_20 (by decide) ?_
    refine r_goto (tgt := 25) (pc := 21) dX1_gone_21 (by decide) ?_
    exact s_X1_gone_25 M (f_X1_gone_4 M n) ih _ _ _ _ _
noncomputable def f_X1_gone (r0 : QR) (M : QM) : Option (Int32) :=
  f_X1_gone_4 M 11 r0 (0 : Int32) (0 : Int32)
theorem s_X1_gone {l : Launch} {r0 : QR} {M : QM} : SB (eP M) l kX1_gone M (f_X1_gone r0 M) (0, 0) 0 M [some (.inr r0), none, none] [] := by
  unfold f_X1_gone
  refine r_iconst (v := (0 : Int32)) (pc := 0) dX1_gone_0 (by decide) ?_
  refine r_istore_n (pc := 1) dX1_gone_1 (by decide) rfl ?_
  refine r_iconst (v := (0 : Int32)) (pc := 2) dX1_gone_2 (by decide) ?_
  refine r_istore_n (pc := 3) dX1_gone_3 (by decide) rfl ?_
  exact s_X1_gone_4 M 11 _ _ _
theorem ct_X1_gone {l : Launch} {r0 : QR} {M : QM} : ∀ b, f_X1_gone r0 M = some b → PM l yX1_gone (ws_ yX1_gone cX1_gone 3 (some .int)) rmX1_gone [.inr r0] M ((eP M) b).1 ((eP M) b).2 := fun b hb =>
  PM.of (own := RX1) rfl (by decide +kernel) (Nat.le_of_ble_eq_true rfl) false (fun h => nomatch h) (s_X1_gone b hb)
/-! X0_count: BarnPictures.count(I)I, kind PP -/
abbrev rmX0_count : Room := ({ frames := 2, cells := 1, slots := 15, locals := 44 })
abbrev kX0_count : QK := (RX0, cX0_count, 3, (some .int), [], false, rmX0_count)
noncomputable def f_X0_count (r0 : QR) (x1 : Int32) (M : QM) : Option (Int32) :=
  (gR M r0 [(0, 0)]).bind fun v1 => 
    (gR M v1 [(1, 4)]).bind fun v4 => 
    (f_X1_sum v4 M).bind fun v7 => 
    (nAi M (M.1, 0) 0 (15 : Int32) 15).bind fun m14 => 
    (gR m14 r0 [(0, 0)]).bind fun v19 => 
    (gI m14 v19 [(1, 7)]).bind fun v22 => 
    (sI m14 (some (M.1, 0)) (0 : Int32) v22).bind fun m25 => 
    (gR m25 r0 [(0, 0)]).bind fun v29 => 
    (gI m25 v29 [(1, 6)]).bind fun v32 => 
    (sI m25 (some (M.1, 0)) (1 : Int32) v32).bind fun m35 => 
    (gR m35 r0 [(0, 0)]).bind fun v39 => 
    (qrc m35 v39 [1] (f_X1_things v39 m35)).bind fun v42 => 
    (sI m35 (some (M.1, 0)) (2 : Int32) v42).bind fun m45 => 
    (gR m45 r0 [(0, 0)]).bind fun v49 => 
    (qrc m45 v49 [1] (f_X1_gone v49 m45)).bind fun v52 => 
    (sI m45 (some (M.1, 0)) (3 : Int32) v52).bind fun m55 => 
    (sI m55 (some (M.1, 0)) (4 : Int32) v7).bind fun m59 => 
    (gR m59 r0 [(0, 0)]).bind fun v63 => 
    (gI m59 v63 [(1, 9)]).bind fun v66 => 
    (sI m59 (some (M.1, 0)) (5 : Int32) v66).bind fun m69 => 
    (gR m69 r0 [(0, 0)]).bind fun v74 => 
    (gI m69 v74 [(1, 10)]).bind fun v77 => 
    (sI m69 (some (M.1, 0)) (6 : Int32) v77).bind fun m80 => 
    (gR m80 r0 [(0, 0)]).bind fun v85 => 
    (gI m80 v85 [(1, 11)]).bind fun v88 => 
    (sI m80 (some (M.1, 0)) (7 : Int32) v88).bind fun m91 => 
    (gR m91 r0 [(0, 0)]).bind fun v97 => 
    (gI m91 v97 [(1, 9)]).bind fun v100 => 
    (gR m91 r0 [(0, 0)]).bind fun v105 => 
    (gI m91 v105 [(1, 10)]).bind fun v108 => 
    (gR m91 r0 [(0, 0)]).bind fun v113 => 
    (gI m91 v113 [(1, 11)]).bind fun v116 => 
    (sI m91 (some (M.1, 0)) (8 : Int32) (((v7 - v100) - v108) - v116)).bind fun m120 => 
    (gR m120 r0 [(0, 0)]).bind fun v125 => 
    (gR m120 v125 [(1, 3)]).bind fun v128 => 
    (f_X1_sum v128 m120).bind fun v131 => 
    (sI m120 (some (M.1, 0)) (9 : Int32) v131).bind fun m134 => 
    (gR m134 r0 [(0, 0)]).bind fun v139 => 
    (gI m134 v139 [(1, 12)]).bind fun v142 => 
    (sI m134 (some (M.1, 0)) (10 : Int32) v142).bind fun m145 => 
    (gR m145 r0 [(0, 0)]).bind fun v150 => 
    (gI m145 v150 [(1, 8)]).bind fun v153 => 
    (sI m145 (some (M.1, 0)) (11 : Int32) v153).bind fun m156 => 
    (gR m156 r0 [(0, 0)]).bind fun v161 => 
    (gI m156 v161 [(1, 13)]).bind fun v164 => 
    (sI m156 (some (M.1, 0)) (12 : Int32) v164).bind fun m167 => 
    (gR m167 r0 [(0, 2)]).bind fun v172 => 
    (qrc m167 v172 [7] (f_J2_size v172 m167)).bind fun v175 => 
    (sI m167 (some (M.1, 0)) (13 : Int32) v175).bind fun m180 => 
    (gR m180 r0 [(0, 3)]).bind fun v185 => 
    (qrc m180 v185 [8] (f_J4_length v185 m180)).bind fun v188 => 
    (sI m180 (some (M.1, 0)) (14 : Int32) v188).bind fun m191 => 
    (f_X0_pick x1 (some (M.1, 0)) m191).bind fun v192 => 
    qpure M m191 v192
theorem s_X0_count {l : Launch} {r0 : QR} {x1 : Int32} {M : QM} : SB (eP M) l kX0_count M (f_X0_count r0 x1 M) (0, 0) 0 M [some (.inr r0), some (.inl x1), none] [] := by
  unfold f_X0_count
  refine r_aload_n (pc := 0) dX0_count_0 rfl ?_
  refine r_getR (pc := 1)  gf_X0_22 dX0_count_1 (fun v1 => ?_)
  refine r_getR (pc := 4)  gf_X0_222 dX0_count_4 (fun v4 => ?_)
  refine r_callS_P (st := []) (vs := [.inr v4]) (pc := 7)  ct_X1_sum cf_X0_225 rfl rfl (Nat.le_of_ble_eq_true rfl) (by decide +kernel) dX0_count_7 (fun v7 => ?_)
  refine r_widen (u' := (0, 0)) (by decide +kernel) ?_
  refine r_istore_n (pc := 10) dX0_count_10 (by decide) rfl ?_
  refine r_iload_n (pc := 11) dX0_count_11 rfl ?_
  refine r_bipush (v := (15 : Int32)) (pc := 12) dX0_count_12 (by decide) ?_
  refine r_newI (pc := 14)  (B := 15) (by decide +kernel) dX0_count_14 (fun m14 => ?_)
  refine r_widen (u' := (1, 15)) (by decide +kernel) ?_
  refine r_dup (pc := 16) dX0_count_16 ?_
  refine r_iconst (v := (0 : Int32)) (pc := 17) dX0_count_17 (by decide) ?_
  refine r_aload_n (pc := 18) dX0_count_18 rfl ?_
  refine r_getR (pc := 19)  gf_X0_22 dX0_count_19 (fun v19 => ?_)
  refine r_getI (pc := 22)  gf_X0_156 dX0_count_22 (fun v22 => ?_)
  refine r_iast (pc := 25) dX0_count_25 (fun m25 => ?_)
  refine r_dup (pc := 26) dX0_count_26 ?_
  refine r_iconst (v := (1 : Int32)) (pc := 27) dX0_count_27 (by decide) ?_
  refine r_aload_n (pc := 28) dX0_count_28 rfl ?_
  refine r_getR (pc := 29)  gf_X0_22 dX0_count_29 (fun v29 => ?_)
  refine r_getI (pc := 32)  gf_X0_237 dX0_count_32 (fun v32 => ?_)
  refine r_iast (pc := 35) dX0_count_35 (fun m35 => ?_)
  refine r_dup (pc := 36) dX0_count_36 ?_
  refine r_iconst (v := (2 : Int32)) (pc := 37) dX0_count_37 (by decide) ?_
  refine r_aload_n (pc := 38) dX0_count_38 rfl ?_
  refine r_getR (pc := 39)  gf_X0_22 dX0_count_39 (fun v39 => ?_)
  refine r_callV_P (st := [.inl (2 : Int32), .inr (some (M.1, 0)), .inr (some (M.1, 0)), .inl x1]) (vs := []) (pc := 42)  ct_X1_things hc_1 cf_X0_240 rfl rfl (Nat.le_of_ble_eq_true rfl) (by decide +kernel) dX0_count_42 (fun v42 => ?_)
  refine r_widen (u' := (1, 15)) (by decide +kernel) ?_
  refine r_iast (pc := 45) dX0_count_45 (fun m45 => ?_)
  refine r_dup (pc := 46) dX0_count_46 ?_
  refine r_iconst (v := (3 : Int32)) (pc := 47) dX0_count_47 (by decide) ?_
  refine r_aload_n (pc := 48) dX0_count_48 rfl ?_
  refine r_getR (pc := 49)  gf_X0_22 dX0_count_49 (fun v49 => ?_)
  refine r_callV_P (st := [.inl (3 : Int32), .inr (some (M.1, 0)), .inr (some (M.1, 0)), .inl x1]) (vs := []) (pc := 52)  ct_X1_gone hc_1 cf_X0_243 rfl rfl (Nat.le_of_ble_eq_true rfl) (by decide +kernel) dX0_count_52 (fun v52 => ?_)
  refine r_widen (u' := (1, 15)) (by decide +kernel) ?_
  refine r_iast (pc := 55) dX0_count_55 (fun m55 => ?_)
  refine r_dup (pc := 56) dX0_count_56 ?_
  refine r_iconst (v := (4 : Int32)) (pc := 57) dX0_count_57 (by decide) ?_
  refine r_iload_n (pc := 58) dX0_count_58 rfl ?_
  refine r_iast (pc := 59) dX0_count_59 (fun m59 => ?_)
  refine r_dup (pc := 60) dX0_count_60 ?_
  refine r_iconst (v := (5 : Int32)) (pc := 61) dX0_count_61 (by decide) ?_
  refine r_aload_n (pc := 62) dX0_count_62 rfl ?_
  refine r_getR (pc := 63)  gf_X0_22 dX0_count_63 (fun v63 => ?_)
  refine r_getI (pc := 66)  gf_X0_246 dX0_count_66 (fun v66 => ?_)
  refine r_iast (pc := 69) dX0_count_69 (fun m69 => ?_)
  refine r_dup (pc := 70) dX0_count_70 ?_
  refine r_bipush (v := (6 : Int32)) (pc := 71) dX0_count_71 (by decide) ?_
  refine r_aload_n (pc := 73) dX0_count_73 rfl ?_
  refine r_getR (pc := 74)  gf_X0_22 dX0_count_74 (fun v74 => ?_)
  refine r_getI (pc := 77)  gf_X0_249 dX0_count_77 (fun v77 => ?_)
  refine r_iast (pc := 80) dX0_count_80 (fun m80 => ?_)
  refine r_dup (pc := 81) dX0_count_81 ?_
  refine r_bipush (v := (7 : Int32)) (pc := 82) dX0_count_82 (by decide) ?_
  refine r_aload_n (pc := 84) dX0_count_84 rfl ?_
  refine r_getR (pc := 85)  gf_X0_22 dX0_count_85 (fun v85 => ?_)
  refine r_getI (pc := 88)  gf_X0_251 dX0_count_88 (fun v88 => ?_)
  refine r_iast (pc := 91) dX0_count_91 (fun m91 => ?_)
  refine r_dup (pc := 92) dX0_count_92 ?_
  refine r_bipush (v := (8 : Int32)) (pc := 93) dX0_count_93 (by decide) ?_
  refine r_iload_n (pc := 95) dX0_count_95 rfl ?_
  refine r_aload_n (pc := 96) dX0_count_96 rfl ?_
  refine r_getR (pc := 97)  gf_X0_22 dX0_count_97 (fun v97 => ?_)
  refine r_getI (pc := 100)  gf_X0_246 dX0_count_100 (fun v100 => ?_)
  refine r_isub (pc := 103) dX0_count_103 ?_
  refine r_aload_n (pc := 104) dX0_count_104 rfl ?_
  refine r_getR (pc := 105)  gf_X0_22 dX0_count_105 (fun v105 => ?_)
  refine r_getI (pc := 108)  gf_X0_249 dX0_count_108 (fun v108 => ?_)
  refine r_isub (pc := 111) dX0_count_111 ?_
  refine r_aload_n (pc := 112) dX0_count_112 rfl ?_
  refine r_getR (pc := 113)  gf_X0_22 dX0_count_113 (fun v113 => ?_)
  refine r_getI (pc := 116)  gf_X0_251 dX0_count_116 (fun v116 => ?_)
  refine r_isub (pc := 119) dX0_count_119 ?_
  refine r_iast (pc := 120) dX0_count_120 (fun m120 => ?_)
  refine r_dup (pc := 121) dX0_count_121 ?_
  refine r_bipush (v := (9 : Int32)) (pc := 122) dX0_count_122 (by decide) ?_
  refine r_aload_n (pc := 124) dX0_count_124 rfl ?_
  refine r_getR (pc := 125)  gf_X0_22 dX0_count_125 (fun v125 => ?_)
  refine r_getR (pc := 128)  gf_X0_218 dX0_count_128 (fun v128 => ?_)
  refine r_callS_P (st := [.inl (9 : Int32), .inr (some (M.1, 0)), .inr (some (M.1, 0)), .inl x1]) (vs := [.inr v128]) (pc := 131)  ct_X1_sum cf_X0_225 rfl rfl (Nat.le_of_ble_eq_true rfl) (by decide +kernel) dX0_count_131 (fun v131 => ?_)
  refine r_widen (u' := (1, 15)) (by decide +kernel) ?_
  refine r_iast (pc := 134) dX0_count_134 (fun m134 => ?_)
  refine r_dup (pc := 135) dX0_count_135 ?_
  refine r_bipush (v := (10 : Int32)) (pc := 136) dX0_count_136 (by decide) ?_
  refine r_aload_n (pc := 138) dX0_count_138 rfl ?_
  refine r_getR (pc := 139)  gf_X0_22 dX0_count_139 (fun v139 => ?_)
  refine r_getI (pc := 142)  gf_X0_254 dX0_count_142 (fun v142 => ?_)
  refine r_iast (pc := 145) dX0_count_145 (fun m145 => ?_)
  refine r_dup (pc := 146) dX0_count_146 ?_
  refine r_bipush (v := (11 : Int32)) (pc := 147) dX0_count_147 (by decide) ?_
  refine r_aload_n (pc := 149) dX0_count_149 rfl ?_
  refine r_getR (pc := 150)  gf_X0_22 dX0_count_150 (fun v150 => ?_)
  refine r_getI (pc := 153)  gf_X0_87 dX0_count_153 (fun v153 => ?_)
  refine r_iast (pc := 156) dX0_count_156 (fun m156 => ?_)
  refine r_dup (pc := 157) dX0_count_157 ?_
  refine r_bipush (v := (12 : Int32)) (pc := 158) dX0_count_158 (by decide) ?_
  refine r_aload_n (pc := 160) dX0_count_160 rfl ?_
  refine r_getR (pc := 161)  gf_X0_22 dX0_count_161 (fun v161 => ?_)
  refine r_getI (pc := 164)  gf_X0_257 dX0_count_164 (fun v164 => ?_)
  refine r_iast (pc := 167) dX0_count_167 (fun m167 => ?_)
  refine r_dup (pc := 168) dX0_count_168 ?_
  refine r_bipush (v := (13 : Int32)) (pc := 169) dX0_count_169 (by decide) ?_
  refine r_aload_n (pc := 171) dX0_count_171 rfl ?_
  refine r_getR (pc := 172)  gf_X0_29 dX0_count_172 (fun v172 => ?_)
  refine r_callF_P (st := [.inl (13 : Int32), .inr (some (M.1, 0)), .inr (some (M.1, 0)), .inl x1]) (vs := []) (pc := 175)  ct_J2_size hc_7 cf_X0_41 rfl rfl (Nat.le_of_ble_eq_true rfl) (by decide +kernel) dX0_count_175 (fun v175 => ?_)
  refine r_widen (u' := (1, 15)) (by decide +kernel) ?_
  refine r_iast (pc := 180) dX0_count_180 (fun m180 => ?_)
  refine r_dup (pc := 181) dX0_count_181 ?_
  refine r_bipush (v := (14 : Int32)) (pc := 182) dX0_count_182 (by decide) ?_
  refine r_aload_n (pc := 184) dX0_count_184 rfl ?_
  refine r_getR (pc := 185)  gf_X0_36 dX0_count_185 (fun v185 => ?_)
  refine r_callV_P (st := [.inl (14 : Int32), .inr (some (M.1, 0)), .inr (some (M.1, 0)), .inl x1]) (vs := []) (pc := 188)  ct_J4_length hc_8 cf_X0_102 rfl rfl (Nat.le_of_ble_eq_true rfl) (by decide +kernel) dX0_count_188 (fun v188 => ?_)
  refine r_widen (u' := (1, 15)) (by decide +kernel) ?_
  refine r_iast (pc := 191) dX0_count_191 (fun m191 => ?_)
  refine r_callS_P (st := []) (vs := [.inl x1, .inr (some (M.1, 0))]) (pc := 192)  ct_X0_pick cf_X0_4 rfl rfl (Nat.le_of_ble_eq_true rfl) (by decide +kernel) dX0_count_192 (fun v192 => ?_)
  refine r_widen (u' := (1, 15)) (by decide +kernel) ?_
  exact r_iretPP (pc := 195) dX0_count_195 rfl (by decide +kernel)
theorem ct_X0_count {l : Launch} {r0 : QR} {x1 : Int32} {M : QM} : ∀ b, f_X0_count r0 x1 M = some b → PM l yX0_count (ws_ yX0_count cX0_count 3 (some .int)) rmX0_count [.inr r0, .inl x1] M ((eP M) b).1 ((eP M) b).2 := fun b hb =>
  PM.of (own := RX0) rfl (by decide +kernel) (Nat.le_of_ble_eq_true rfl) false (fun h => nomatch h) (s_X0_count b hb)
/-! X5_gone: BarnPicturesModel.gone()I, kind P -/
abbrev rmX5_gone : Room := ({ frames := 1, cells := 0, slots := 0, locals := 21 })
abbrev kX5_gone : QK := (RX5, cX5_gone, 3, (some .int), [], false, rmX5_gone)
noncomputable def f_X5_gone_31 (M : QM) (kL4 : QR → Int32 → Int32 → Option (Int32)) (r0 : QR) (x2 : Int32) (s0 : Int32) (s1 : Int32) : Option (Int32) :=
  kL4 r0 (s0 + s1) (x2 + (1 : Int32))
theorem s_X5_gone_31 {l : Launch} (M : QM) (kL4 : QR → Int32 → Int32 → Option (Int32)) (hkL4 : ∀ (r0 : QR) (x1 : Int32) (x2 : Int32) , SB (eP M) l kX5_gone M (kL4 r0 x1 x2) (0, 0) 4 M [some (.inr r0), some (.inl x1), some (.inl x2)] []) : ∀ (r0 : QR) (x2 : Int32) (s0 : Int32) (s1 : Int32) (d1 : Option QV) , SB (eP M) l kX5_gone M (f_X5_gone_31 M kL4 r0 x2 s0 s1) (0, 0) 31 M [some (.inr r0), d1, some (.inl x2)] [.inl s1, .inl s0] := by
  intro r0 x2 s0 s1 d1
  unfold f_X5_gone_31
  refine r_iadd (pc := 31) dX5_gone_31 ?_
  refine r_istore_n (pc := 32) dX5_gone_32 (by decide) rfl ?_
  refine r_iinc (v := (x2 + (1 : Int32))) (pc := 33) dX5_gone_33 rfl rfl (by decide) rfl ?_
  refine r_goto (tgt := 4) (pc := 36) dX5_gone_36 (by decide) ?_
  exact hkL4 _ _ _
noncomputable def f_X5_gone_4 (M : QM) : Nat → QR → Int32 → Int32 → Option (Int32)
  | 0, _, _, _ => none
  | n + 1, r0, x1, x2 =>
    if (10 : Int32) ≤ x2 then (some x1)
    else (gR M r0 [(4, 0)]).bind fun v12 => 
    (f_X5_of x2 (0 : Int32) M).bind fun v17 => 
    (aI M v12 v17).bind fun v20 => 
    f_X5_gone_31 M (f_X5_gone_4 M n) r0 x2 x1 (if v20 = (-2 : Int32) then (1 : Int32) else (0 : Int32))
theorem s_X5_gone_4 {l : Launch} (M : QM) : ∀ (n : Nat) (r0 : QR) (x1 : Int32) (x2 : Int32) , SB (eP M) l kX5_gone M (f_X5_gone_4 M n r0 x1 x2) (0, 0) 4 M [some (.inr r0), some (.inl x1), some (.inl x2)] [] := by
  intro n
  induction n with
  | zero => intros; rw [f_X5_gone_4]; exact r_none
  | succ n ih =>
    intro r0 x1 x2
    rw [f_X5_gone_4]
    refine r_iload_n (pc := 4) dX5_gone_4 rfl ?_
    refine r_bipush (v := (10 : Int32)) (pc := 5) dX5_gone_5 (by decide) ?_
    refine r_icmp_ge (pc := 7) (tgt := 39) dX5_gone_7 (by decide) ?_ ?_
    · refine r_iload_n (pc := 39) dX5_gone_39 rfl ?_
      exact r_iretP (pc := 40) dX5_gone_40 rfl (by decide +kernel)
    refine r_iload_n (pc := 10) dX5_gone_10 rfl ?_
    refine r_aload_n (pc := 11) dX5_gone_11 rfl ?_
    refine r_getR (pc := 12)  gf_X5_7 dX5_gone_12 (fun v12 => ?_)
    refine r_iload_n (pc := 15) dX5_gone_15 rfl ?_
    refine r_iconst (v := (0 : Int32)) (pc := 16) dX5_gone_16 (by decide) ?_
    refine r_callS_P (st := [.inr v12, .inl x1]) (vs := [.inl x2, .inl (0 : Int32)]) (pc := 17)  ct_X5_of cf_X5_33 rfl rfl (Nat.le_of_ble_eq_true rfl) (by decide +kernel) dX5_gone_17 (fun v17 => ?_)
    refine r_widen (u' := (0, 0)) (by decide +kernel) ?_
    refine r_iald (pc := 20) dX5_gone_20 (fun v20 => ?_)
    refine r_bipush (v := (-2 : Int32)) (pc := 21) dX5_gone_21 (by decide) ?_
    refine r_icmp_neF (F := (fun (z9 : Int32) => f_X5_gone_31 M (f_X5_gone_4 M n) r0 x2 x1 z9)) (zA := (1 : Int32)) (zB := (0 : Int32)) (pc := 23) (tgt := 30) dX5_gone_23 (by decide) ?_ ?_
    · refine r_iconst (v := (0 : Int32)) (pc := 30) dX5_gone_30 (by decide) ?_
      exact s_X5_gone_31 M (f_X5_gone_4 M n) ih _ _ _ _ _
    refine r_iconst (v := (1 : Int32)) (pc := 26) dX5_gone_26 (by decide) ?_
    refine r_goto (tgt := 31) (pc := 27) dX5_gone_27 (by decide) ?_
    exact s_X5_gone_31 M (f_X5_gone_4 M n) ih _ _ _ _ _
noncomputable def f_X5_gone (r0 : QR) (M : QM) : Option (Int32) :=
  f_X5_gone_4 M 11 r0 (0 : Int32) (0 : Int32)
theorem s_X5_gone {l : Launch} {r0 : QR} {M : QM} : SB (eP M) l kX5_gone M (f_X5_gone r0 M) (0, 0) 0 M [some (.inr r0), none, none] [] := by
  unfold f_X5_gone
  refine r_iconst (v := (0 : Int32)) (pc := 0) dX5_gone_0 (by decide) ?_
  refine r_istore_n (pc := 1) dX5_gone_1 (by decide) rfl ?_
  refine r_iconst (v := (0 : Int32)) (pc := 2) dX5_gone_2 (by decide) ?_
  refine r_istore_n (pc := 3) dX5_gone_3 (by decide) rfl ?_
  exact s_X5_gone_4 M 11 _ _ _
theorem ct_X5_gone {l : Launch} {r0 : QR} {M : QM} : ∀ b, f_X5_gone r0 M = some b → PM l yX5_gone (ws_ yX5_gone cX5_gone 3 (some .int)) rmX5_gone [.inr r0] M ((eP M) b).1 ((eP M) b).2 := fun b hb =>
  PM.of (own := RX5) rfl (by decide +kernel) (Nat.le_of_ble_eq_true rfl) false (fun h => nomatch h) (s_X5_gone b hb)
/-! X5_sum: BarnPicturesModel.sum(II)I, kind P -/
abbrev rmX5_sum : Room := ({ frames := 0, cells := 0, slots := 0, locals := 0 })
abbrev kX5_sum : QK := (RX5, cX5_sum, 5, (some .int), [], false, rmX5_sum)
noncomputable def f_X5_sum_5 (M : QM) : Nat → QR → Int32 → Int32 → Int32 → Int32 → Option (Int32)
  | 0, _, _, _, _, _ => none
  | n + 1, r0, x1, x2, x3, x4 =>
    if x2 ≤ x4 then (some x3)
    else (gR M r0 [(4, 0)]).bind fun v13 => 
    (aI M v13 (x1 + x4)).bind fun v20 => 
    f_X5_sum_5 M n r0 x1 x2 (x3 + v20) (x4 + (1 : Int32))
theorem s_X5_sum_5 {l : Launch} (M : QM) : ∀ (n : Nat) (r0 : QR) (x1 : Int32) (x2 : Int32) (x3 : Int32) (x4 : Int32) , SB (eP M) l kX5_sum M (f_X5_sum_5 M n r0 x1 x2 x3 x4) (0, 0) 5 M [some (.inr r0), some (.inl x1), some (.inl x2), some (.inl x3), some (.inl x4)] [] := by
  intro n
  induction n with
  | zero => intros; rw [f_X5_sum_5]; exact r_none
  | succ n ih =>
    intro r0 x1 x2 x3 x4
    rw [f_X5_sum_5]
    refine r_iload (pc := 5) dX5_sum_5 rfl ?_
    refine r_iload_n (pc := 7) dX5_sum_7 rfl ?_
    refine r_icmp_ge (pc := 8) (tgt := 29) dX5_sum_8 (by decide) ?_ ?_
    · refine r_iload_n (pc := 29) dX5_sum_29 rfl ?_
      exact r_iretP (pc := 30) dX5_sum_30 rfl (by decide +kernel)
    refine r_iload_n (pc := 11) dX5_sum_11 rfl ?_
    refine r_aload_n (pc := 12) dX5_sum_12 rfl ?_
    refine r_getR (pc := 13)  gf_X5_7 dX5_sum_13 (fun v13 => ?_)
    refine r_iload_n (pc := 16) dX5_sum_16 rfl ?_
    refine r_iload (pc := 17) dX5_sum_17 rfl ?_
    refine r_iadd (pc := 19) dX5_sum_19 ?_
    refine r_iald (pc := 20) dX5_sum_20 (fun v20 => ?_)
    refine r_iadd (pc := 21) dX5_sum_21 ?_
    refine r_istore_n (pc := 22) dX5_sum_22 (by decide) rfl ?_
    refine r_iinc (v := (x4 + (1 : Int32))) (pc := 23) dX5_sum_23 rfl rfl (by decide) rfl ?_
    refine r_goto (tgt := 5) (pc := 26) dX5_sum_26 (by decide) ?_
    exact ih _ _ _ _ _
noncomputable def f_X5_sum (r0 : QR) (x1 : Int32) (x2 : Int32) (M : QM) : Option (Int32) :=
  f_X5_sum_5 M 12 r0 x1 x2 (0 : Int32) (0 : Int32)
theorem s_X5_sum {l : Launch} {r0 : QR} {x1 : Int32} {x2 : Int32} {M : QM} : SB (eP M) l kX5_sum M (f_X5_sum r0 x1 x2 M) (0, 0) 0 M [some (.inr r0), some (.inl x1), some (.inl x2), none, none] [] := by
  unfold f_X5_sum
  refine r_iconst (v := (0 : Int32)) (pc := 0) dX5_sum_0 (by decide) ?_
  refine r_istore_n (pc := 1) dX5_sum_1 (by decide) rfl ?_
  refine r_iconst (v := (0 : Int32)) (pc := 2) dX5_sum_2 (by decide) ?_
  refine r_istore (pc := 3) dX5_sum_3 (by decide) rfl ?_
  exact s_X5_sum_5 M 12 _ _ _ _ _
theorem ct_X5_sum {l : Launch} {r0 : QR} {x1 : Int32} {x2 : Int32} {M : QM} : ∀ b, f_X5_sum r0 x1 x2 M = some b → PM l yX5_sum (ws_ yX5_sum cX5_sum 5 (some .int)) rmX5_sum [.inr r0, .inl x1, .inl x2] M ((eP M) b).1 ((eP M) b).2 := fun b hb =>
  PM.of (own := RX5) rfl (by decide +kernel) (Nat.le_of_ble_eq_true rfl) false (fun h => nomatch h) (s_X5_sum b hb)
