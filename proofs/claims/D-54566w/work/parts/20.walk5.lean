/-! methods as functions over the memory (printed by gen/run.py) -/
set_option maxRecDepth 100000
/-! X5_reels: BarnPicturesModel.reels(II)I, kind P -/
abbrev rmX5_reels : Room := ({ frames := 1, cells := 0, slots := 0, locals := 21 })
abbrev kX5_reels : QK := (RX5, cX5_reels, 8, (some .int), [], false, rmX5_reels)
noncomputable def f_X5_reels_144 (M : QM) (kL5 : QR → Int32 → Int32 → Int32 → Int32 → Option (Int32)) (r0 : QR) (x1 : Int32) (x2 : Int32) (x4 : Int32) (s0 : Int32) : Option (Int32) :=
  kL5 r0 x1 x2 s0 (x4 + (1 : Int32))
theorem s_X5_reels_144 {l : Launch} (M : QM) (kL5 : QR → Int32 → Int32 → Int32 → Int32 → Option (Int32)) (hkL5 : ∀ (r0 : QR) (x1 : Int32) (x2 : Int32) (x3 : Int32) (x4 : Int32) (d5 : Option QV) (d6 : Option QV) (d7 : Option QV) , SB (eP M) l kX5_reels M (kL5 r0 x1 x2 x3 x4) (0, 0) 5 M [some (.inr r0), some (.inl x1), some (.inl x2), some (.inl x3), some (.inl x4), d5, d6, d7] []) : ∀ (r0 : QR) (x1 : Int32) (x2 : Int32) (x4 : Int32) (s0 : Int32) (d3 : Option QV) (d5 : Option QV) (d6 : Option QV) (d7 : Option QV) , SB (eP M) l kX5_reels M (f_X5_reels_144 M kL5 r0 x1 x2 x4 s0) (0, 0) 144 M [some (.inr r0), some (.inl x1), some (.inl x2), d3, some (.inl x4), d5, d6, d7] [.inl s0] := by
  intro r0 x1 x2 x4 s0 d3 d5 d6 d7
  unfold f_X5_reels_144
  refine r_istore_n (pc := 144) dX5_reels_144 (by decide) rfl ?_
  refine r_iinc (v := (x4 + (1 : Int32))) (pc := 145) dX5_reels_145 rfl rfl (by decide) rfl ?_
  refine r_goto (tgt := 5) (pc := 148) dX5_reels_148 (by decide) ?_
  exact hkL5 _ _ _ _ _ _ _ _
noncomputable def f_X5_reels_70 (M : QM) (kL5 : QR → Int32 → Int32 → Int32 → Int32 → Option (Int32)) (r0 : QR) (x1 : Int32) (x2 : Int32) (x3 : Int32) (x4 : Int32) (x5 : Int32) (x6 : Int32) (s0 : Int32) : Option (Int32) :=
  if x5 = 0 then (f_X5_reels_144 M kL5 r0 x1 x2 x4 x3)
    else if x2 = 0 then (f_X5_reels_144 M kL5 r0 x1 x2 x4 (x3 + (1 : Int32)))
    else if x2 = (1 : Int32) then ((gR M r0 [(4, 0)]).bind fun v98 => 
      (f_X5_of x4 (1 : Int32) M).bind fun v104 => 
      (aI M v98 v104).bind fun v107 => 
      f_X5_reels_144 M kL5 r0 x1 x2 x4 (x3 + v107))
    else f_X5_reels_144 M kL5 r0 x1 x2 x4 (if x2 = (2 : Int32) then (if x6 ≤ x3 then x3 else x6) else (if s0 = 0 then x3 else (x3 + (1 : Int32))))
theorem s_X5_reels_70 {l : Launch} (M : QM) (kL5 : QR → Int32 → Int32 → Int32 → Int32 → Option (Int32)) (hkL5 : ∀ (r0 : QR) (x1 : Int32) (x2 : Int32) (x3 : Int32) (x4 : Int32) (d5 : Option QV) (d6 : Option QV) (d7 : Option QV) , SB (eP M) l kX5_reels M (kL5 r0 x1 x2 x3 x4) (0, 0) 5 M [some (.inr r0), some (.inl x1), some (.inl x2), some (.inl x3), some (.inl x4), d5, d6, d7] []) : ∀ (r0 : QR) (x1 : Int32) (x2 : Int32) (x3 : Int32) (x4 : Int32) (x5 : Int32) (x6 : Int32) (s0 : Int32) (d7 : Option QV) , SB (eP M) l kX5_reels M (f_X5_reels_70 M kL5 r0 x1 x2 x3 x4 x5 x6 s0) (0, 0) 70 M [some (.inr r0), some (.inl x1), some (.inl x2), some (.inl x3), some (.inl x4), some (.inl x5), some (.inl x6), d7] [.inl s0] := by
  intro r0 x1 x2 x3 x4 x5 x6 s0 d7
  unfold f_X5_reels_70
  refine r_istore (pc := 70) dX5_reels_70 (by decide) rfl ?_
  refine r_iload (pc := 72) dX5_reels_72 rfl ?_
  refine r_if_ne (pc := 74) (tgt := 81) dX5_reels_74 (by decide) ?_ ?_
  · refine r_iload_n (pc := 81) dX5_reels_81 rfl ?_
    refine r_if_ne (pc := 82) (tgt := 91) dX5_reels_82 (by decide) ?_ ?_
    · refine r_iload_n (pc := 91) dX5_reels_91 rfl ?_
      refine r_iconst (v := (1 : Int32)) (pc := 92) dX5_reels_92 (by decide) ?_
      refine r_icmp_ne (pc := 93) (tgt := 112) dX5_reels_93 (by decide) ?_ ?_
      · refine r_iload_n (pc := 112) dX5_reels_112 rfl ?_
        refine r_iconst (v := (2 : Int32)) (pc := 113) dX5_reels_113 (by decide) ?_
        refine r_icmp_neF (F := (fun (z9 : Int32) => f_X5_reels_144 M kL5 r0 x1 x2 x4 z9)) (zA := (if x6 ≤ x3 then x3 else x6)) (zB := (if s0 = 0 then x3 else (x3 + (1 : Int32)))) (pc := 114) (tgt := 132) dX5_reels_114 (by decide) ?_ ?_
        · refine r_iload (pc := 132) dX5_reels_132 rfl ?_
          refine r_if_eqF (F := (fun (z9 : Int32) => f_X5_reels_144 M kL5 r0 x1 x2 x4 z9)) (zA := x3) (zB := (x3 + (1 : Int32))) (pc := 134) (tgt := 143) dX5_reels_134 (by decide) ?_ ?_
          · refine r_iload_n (pc := 143) dX5_reels_143 rfl ?_
            exact s_X5_reels_144 M kL5 hkL5 _ _ _ _ _ _ _ _ _
          refine r_iload_n (pc := 137) dX5_reels_137 rfl ?_
          refine r_iconst (v := (1 : Int32)) (pc := 138) dX5_reels_138 (by decide) ?_
          refine r_iadd (pc := 139) dX5_reels_139 ?_
          refine r_goto (tgt := 144) (pc := 140) dX5_reels_140 (by decide) ?_
          exact s_X5_reels_144 M kL5 hkL5 _ _ _ _ _ _ _ _ _
        refine r_iload (pc := 117) dX5_reels_117 rfl ?_
        refine r_iload_n (pc := 119) dX5_reels_119 rfl ?_
        refine r_icmp_leF (F := (fun (z9 : Int32) => f_X5_reels_144 M kL5 r0 x1 x2 x4 z9)) (zA := x3) (zB := x6) (pc := 120) (tgt := 128) dX5_reels_120 (by decide) ?_ ?_
        · refine r_iload_n (pc := 128) dX5_reels_128 rfl ?_
          refine r_goto (tgt := 144) (pc := 129) dX5_reels_129 (by decide) ?_
          exact s_X5_reels_144 M kL5 hkL5 _ _ _ _ _ _ _ _ _
        refine r_iload (pc := 123) dX5_reels_123 rfl ?_
        refine r_goto (tgt := 144) (pc := 125) dX5_reels_125 (by decide) ?_
        exact s_X5_reels_144 M kL5 hkL5 _ _ _ _ _ _ _ _ _
      refine r_iload_n (pc := 96) dX5_reels_96 rfl ?_
      refine r_aload_n (pc := 97) dX5_reels_97 rfl ?_
      refine r_getR (pc := 98)  gf_X5_7 dX5_reels_98 (fun v98 => ?_)
      refine r_iload (pc := 101) dX5_reels_101 rfl ?_
      refine r_iconst (v := (1 : Int32)) (pc := 103) dX5_reels_103 (by decide) ?_
      refine r_callS_P (st := [.inr v98, .inl x3]) (vs := [.inl x4, .inl (1 : Int32)]) (pc := 104)  ct_X5_of cf_X5_33 rfl rfl (Nat.le_of_ble_eq_true rfl) (by decide +kernel) dX5_reels_104 (fun v104 => ?_)
      refine r_widen (u' := (0, 0)) (by decide +kernel) ?_
      refine r_iald (pc := 107) dX5_reels_107 (fun v107 => ?_)
      refine r_iadd (pc := 108) dX5_reels_108 ?_
      refine r_goto (tgt := 144) (pc := 109) dX5_reels_109 (by decide) ?_
      exact s_X5_reels_144 M kL5 hkL5 _ _ _ _ _ _ _ _ _
    refine r_iload_n (pc := 85) dX5_reels_85 rfl ?_
    refine r_iconst (v := (1 : Int32)) (pc := 86) dX5_reels_86 (by decide) ?_
    refine r_iadd (pc := 87) dX5_reels_87 ?_
    refine r_goto (tgt := 144) (pc := 88) dX5_reels_88 (by decide) ?_
    exact s_X5_reels_144 M kL5 hkL5 _ _ _ _ _ _ _ _ _
  refine r_iload_n (pc := 77) dX5_reels_77 rfl ?_
  refine r_goto (tgt := 144) (pc := 78) dX5_reels_78 (by decide) ?_
  exact s_X5_reels_144 M kL5 hkL5 _ _ _ _ _ _ _ _ _
noncomputable def f_X5_reels_32 (M : QM) (kL5 : QR → Int32 → Int32 → Int32 → Int32 → Option (Int32)) (r0 : QR) (x1 : Int32) (x2 : Int32) (x3 : Int32) (x4 : Int32) (s0 : Int32) : Option (Int32) :=
  (gR M r0 [(4, 0)]).bind fun v35 => 
    (f_X5_of x4 (2 : Int32) M).bind fun v41 => 
    (aI M v35 v41).bind fun v44 => 
    (gR M r0 [(4, 0)]).bind fun v48 => 
    (f_X5_of x4 (4 : Int32) M).bind fun v54 => 
    (aI M v48 v54).bind fun v57 => 
    f_X5_reels_70 M kL5 r0 x1 x2 x3 x4 s0 v44 (if ((v57 >>> (x1 &&& 31)) &&& (1 : Int32)) = 0 then (1 : Int32) else (0 : Int32))
theorem s_X5_reels_32 {l : Launch} (M : QM) (kL5 : QR → Int32 → Int32 → Int32 → Int32 → Option (Int32)) (hkL5 : ∀ (r0 : QR) (x1 : Int32) (x2 : Int32) (x3 : Int32) (x4 : Int32) (d5 : Option QV) (d6 : Option QV) (d7 : Option QV) , SB (eP M) l kX5_reels M (kL5 r0 x1 x2 x3 x4) (0, 0) 5 M [some (.inr r0), some (.inl x1), some (.inl x2), some (.inl x3), some (.inl x4), d5, d6, d7] []) : ∀ (r0 : QR) (x1 : Int32) (x2 : Int32) (x3 : Int32) (x4 : Int32) (s0 : Int32) (d5 : Option QV) (d6 : Option QV) (d7 : Option QV) , SB (eP M) l kX5_reels M (f_X5_reels_32 M kL5 r0 x1 x2 x3 x4 s0) (0, 0) 32 M [some (.inr r0), some (.inl x1), some (.inl x2), some (.inl x3), some (.inl x4), d5, d6, d7] [.inl s0] := by
  intro r0 x1 x2 x3 x4 s0 d5 d6 d7
  unfold f_X5_reels_32
  refine r_istore (pc := 32) dX5_reels_32 (by decide) rfl ?_
  refine r_aload_n (pc := 34) dX5_reels_34 rfl ?_
  refine r_getR (pc := 35)  gf_X5_7 dX5_reels_35 (fun v35 => ?_)
  refine r_iload (pc := 38) dX5_reels_38 rfl ?_
  refine r_iconst (v := (2 : Int32)) (pc := 40) dX5_reels_40 (by decide) ?_
  refine r_callS_P (st := [.inr v35]) (vs := [.inl x4, .inl (2 : Int32)]) (pc := 41)  ct_X5_of cf_X5_33 rfl rfl (Nat.le_of_ble_eq_true rfl) (by decide +kernel) dX5_reels_41 (fun v41 => ?_)
  refine r_widen (u' := (0, 0)) (by decide +kernel) ?_
  refine r_iald (pc := 44) dX5_reels_44 (fun v44 => ?_)
  refine r_istore (pc := 45) dX5_reels_45 (by decide) rfl ?_
  refine r_aload_n (pc := 47) dX5_reels_47 rfl ?_
  refine r_getR (pc := 48)  gf_X5_7 dX5_reels_48 (fun v48 => ?_)
  refine r_iload (pc := 51) dX5_reels_51 rfl ?_
  refine r_iconst (v := (4 : Int32)) (pc := 53) dX5_reels_53 (by decide) ?_
  refine r_callS_P (st := [.inr v48]) (vs := [.inl x4, .inl (4 : Int32)]) (pc := 54)  ct_X5_of cf_X5_33 rfl rfl (Nat.le_of_ble_eq_true rfl) (by decide +kernel) dX5_reels_54 (fun v54 => ?_)
  refine r_widen (u' := (0, 0)) (by decide +kernel) ?_
  refine r_iald (pc := 57) dX5_reels_57 (fun v57 => ?_)
  refine r_iload_n (pc := 58) dX5_reels_58 rfl ?_
  refine r_ishr (pc := 59) dX5_reels_59 ?_
  refine r_iconst (v := (1 : Int32)) (pc := 60) dX5_reels_60 (by decide) ?_
  refine r_iand (pc := 61) dX5_reels_61 ?_
  refine r_if_neF (F := (fun (z9 : Int32) => f_X5_reels_70 M kL5 r0 x1 x2 x3 x4 s0 v44 z9)) (zA := (1 : Int32)) (zB := (0 : Int32)) (pc := 62) (tgt := 69) dX5_reels_62 (by decide) ?_ ?_
  · refine r_iconst (v := (0 : Int32)) (pc := 69) dX5_reels_69 (by decide) ?_
    exact s_X5_reels_70 M kL5 hkL5 _ _ _ _ _ _ _ _ _
  refine r_iconst (v := (1 : Int32)) (pc := 65) dX5_reels_65 (by decide) ?_
  refine r_goto (tgt := 70) (pc := 66) dX5_reels_66 (by decide) ?_
  exact s_X5_reels_70 M kL5 hkL5 _ _ _ _ _ _ _ _ _
noncomputable def f_X5_reels_5 (M : QM) : Nat → QR → Int32 → Int32 → Int32 → Int32 → Option (Int32)
  | 0, _, _, _, _, _ => none
  | n + 1, r0, x1, x2, x3, x4 =>
    if (10 : Int32) ≤ x4 then (some x3)
    else (gR M r0 [(4, 0)]).bind fun v13 => 
    (f_X5_of x4 (0 : Int32) M).bind fun v19 => 
    (aI M v13 v19).bind fun v22 => 
    f_X5_reels_32 M (f_X5_reels_5 M n) r0 x1 x2 x3 x4 (if v22 = x1 then (1 : Int32) else (0 : Int32))
theorem s_X5_reels_5 {l : Launch} (M : QM) : ∀ (n : Nat) (r0 : QR) (x1 : Int32) (x2 : Int32) (x3 : Int32) (x4 : Int32) (d5 : Option QV) (d6 : Option QV) (d7 : Option QV) , SB (eP M) l kX5_reels M (f_X5_reels_5 M n r0 x1 x2 x3 x4) (0, 0) 5 M [some (.inr r0), some (.inl x1), some (.inl x2), some (.inl x3), some (.inl x4), d5, d6, d7] [] := by
  intro n
  induction n with
  | zero => intros; rw [f_X5_reels_5]; exact r_none
  | succ n ih =>
    intro r0 x1 x2 x3 x4 d5 d6 d7
    rw [f_X5_reels_5]
    refine r_iload (pc := 5) dX5_reels_5 rfl ?_
    refine r_bipush (v := (10 : Int32)) (pc := 7) dX5_reels_7 (by decide) ?_
    refine r_icmp_ge (pc := 9) (tgt := 151) dX5_reels_9 (by decide) ?_ ?_
    · refine r_iload_n (pc := 151) dX5_reels_151 rfl ?_
      exact r_iretP (pc := 152) dX5_reels_152 rfl (by decide +kernel)
    refine r_aload_n (pc := 12) dX5_reels_12 rfl ?_
    refine r_getR (pc := 13)  gf_X5_7 dX5_reels_13 (fun v13 => ?_)
    refine r_iload (pc := 16) dX5_reels_16 rfl ?_
    refine r_iconst (v := (0 : Int32)) (pc := 18) dX5_reels_18 (by decide) ?_
    refine r_callS_P (st := [.inr v13]) (vs := [.inl x4, .inl (0 : Int32)]) (pc := 19)  ct_X5_of cf_X5_33 rfl rfl (Nat.le_of_ble_eq_true rfl) (by decide +kernel) dX5_reels_19 (fun v19 => ?_)
    refine r_widen (u' := (0, 0)) (by decide +kernel) ?_
    refine r_iald (pc := 22) dX5_reels_22 (fun v22 => ?_)
    refine r_iload_n (pc := 23) dX5_reels_23 rfl ?_
    refine r_icmp_neF (F := (fun (z9 : Int32) => f_X5_reels_32 M (f_X5_reels_5 M n) r0 x1 x2 x3 x4 z9)) (zA := (1 : Int32)) (zB := (0 : Int32)) (pc := 24) (tgt := 31) dX5_reels_24 (by decide) ?_ ?_
    · refine r_iconst (v := (0 : Int32)) (pc := 31) dX5_reels_31 (by decide) ?_
      exact s_X5_reels_32 M (f_X5_reels_5 M n) ih _ _ _ _ _ _ _ _ _
    refine r_iconst (v := (1 : Int32)) (pc := 27) dX5_reels_27 (by decide) ?_
    refine r_goto (tgt := 32) (pc := 28) dX5_reels_28 (by decide) ?_
    exact s_X5_reels_32 M (f_X5_reels_5 M n) ih _ _ _ _ _ _ _ _ _
noncomputable def f_X5_reels (r0 : QR) (x1 : Int32) (x2 : Int32) (M : QM) : Option (Int32) :=
  f_X5_reels_5 M 11 r0 x1 x2 (0 : Int32) (0 : Int32)
theorem s_X5_reels {l : Launch} {r0 : QR} {x1 : Int32} {x2 : Int32} {M : QM} : SB (eP M) l kX5_reels M (f_X5_reels r0 x1 x2 M) (0, 0) 0 M [some (.inr r0), some (.inl x1), some (.inl x2), none, none, none, none, none] [] := by
  unfold f_X5_reels
  refine r_iconst (v := (0 : Int32)) (pc := 0) dX5_reels_0 (by decide) ?_
  refine r_istore_n (pc := 1) dX5_reels_1 (by decide) rfl ?_
  refine r_iconst (v := (0 : Int32)) (pc := 2) dX5_reels_2 (by decide) ?_
  refine r_istore (pc := 3) dX5_reels_3 (by decide) rfl ?_
  exact s_X5_reels_5 M 11 _ _ _ _ _ _ _ _
theorem ct_X5_reels {l : Launch} {r0 : QR} {x1 : Int32} {x2 : Int32} {M : QM} : ∀ b, f_X5_reels r0 x1 x2 M = some b → PM l yX5_reels (ws_ yX5_reels cX5_reels 8 (some .int)) rmX5_reels [.inr r0, .inl x1, .inl x2] M ((eP M) b).1 ((eP M) b).2 := fun b hb =>
  PM.of (own := RX5) rfl (by decide +kernel) (Nat.le_of_ble_eq_true rfl) false (fun h => nomatch h) (s_X5_reels b hb)
/-! X5_generatorFor: BarnPicturesModel.generatorFor(II)I, kind P -/
abbrev rmX5_generatorFor : Room := ({ frames := 0, cells := 0, slots := 0, locals := 0 })
abbrev kX5_generatorFor : QK := (RX5, cX5_generatorFor, 4, (some .int), [], false, rmX5_generatorFor)
noncomputable def f_X5_generatorFor_2 (M : QM) : Nat → QR → Int32 → Int32 → Int32 → Option (Int32)
  | 0, _, _, _, _ => none
  | n + 1, r0, x1, x2, x3 =>
    if (2 : Int32) ≤ x3 then (some (-10000005 : Int32))
    else (gR M r0 [(4, 0)]).bind fun v8 => 
    (aI M v8 ((50 : Int32) + ((2 : Int32) * x3))).bind fun v17 => 
    if v17 = x1 then ((gR M r0 [(4, 0)]).bind fun v23 => 
      (aI M v23 (((50 : Int32) + ((2 : Int32) * x3)) + (1 : Int32))).bind fun v34 => 
      if v34 < x2 then (f_X5_generatorFor_2 M n r0 x1 x2 (x3 + (1 : Int32)))
      else some x3)
    else f_X5_generatorFor_2 M n r0 x1 x2 (x3 + (1 : Int32))
theorem s_X5_generatorFor_2 {l : Launch} (M : QM) : ∀ (n : Nat) (r0 : QR) (x1 : Int32) (x2 : Int32) (x3 : Int32) , SB (eP M) l kX5_generatorFor M (f_X5_generatorFor_2 M n r0 x1 x2 x3) (0, 0) 2 M [some (.inr r0), some (.inl x1), some (.inl x2), some (.inl x3)] [] := by
  intro n
  induction n with
  | zero => intros; rw [f_X5_generatorFor_2]; exact r_none
  | succ n ih =>
    intro r0 x1 x2 x3
    rw [f_X5_generatorFor_2]
    refine r_iload_n (pc := 2) dX5_generatorFor_2 rfl ?_
    refine r_iconst (v := (2 : Int32)) (pc := 3) dX5_generatorFor_3 (by decide) ?_
    refine r_icmp_ge (pc := 4) (tgt := 47) dX5_generatorFor_4 (by decide) ?_ ?_
    · refine r_ldc (pc := 47) dX5_generatorFor_47 q1092 ?_
      exact r_iretP (pc := 49) dX5_generatorFor_49 rfl (by decide +kernel)
    refine r_aload_n (pc := 7) dX5_generatorFor_7 rfl ?_
    refine r_getR (pc := 8)  gf_X5_7 dX5_generatorFor_8 (fun v8 => ?_)
    refine r_bipush (v := (50 : Int32)) (pc := 11) dX5_generatorFor_11 (by decide) ?_
    refine r_iconst (v := (2 : Int32)) (pc := 13) dX5_generatorFor_13 (by decide) ?_
    refine r_iload_n (pc := 14) dX5_generatorFor_14 rfl ?_
    refine r_imul (pc := 15) dX5_generatorFor_15 ?_
    refine r_iadd (pc := 16) dX5_generatorFor_16 ?_
    refine r_iald (pc := 17) dX5_generatorFor_17 (fun v17 => ?_)
    refine r_iload_n (pc := 18) dX5_generatorFor_18 rfl ?_
    refine r_icmp_ne (pc := 19) (tgt := 41) dX5_generatorFor_19 (by decide) ?_ ?_
    · refine r_iinc (v := (x3 + (1 : Int32))) (pc := 41) dX5_generatorFor_41 rfl rfl (by decide) rfl ?_
      refine r_goto (tgt := 2) (pc := 44) dX5_generatorFor_44 (by decide) ?_
      exact ih _ _ _ _
    refine r_aload_n (pc := 22) dX5_generatorFor_22 rfl ?_
    refine r_getR (pc := 23)  gf_X5_7 dX5_generatorFor_23 (fun v23 => ?_)
    refine r_bipush (v := (50 : Int32)) (pc := 26) dX5_generatorFor_26 (by decide) ?_
    refine r_iconst (v := (2 : Int32)) (pc := 28) dX5_generatorFor_28 (by decide) ?_
    refine r_iload_n (pc := 29) dX5_generatorFor_29 rfl ?_
    refine r_imul (pc := 30) dX5_generatorFor_30 ?_
    refine r_iadd (pc := 31) dX5_generatorFor_31 ?_
    refine r_iconst (v := (1 : Int32)) (pc := 32) dX5_generatorFor_32 (by decide) ?_
    refine r_iadd (pc := 33) dX5_generatorFor_33 ?_
    refine r_iald (pc := 34) dX5_generatorFor_34 (fun v34 => ?_)
    refine r_iload_n (pc := 35) dX5_generatorFor_35 rfl ?_
    refine r_icmp_lt (pc := 36) (tgt := 41) dX5_generatorFor_36 (by decide) ?_ ?_
    · refine r_iinc (v := (x3 + (1 : Int32))) (pc := 41) dX5_generatorFor_41 rfl rfl (by decide) rfl ?_
      refine r_goto (tgt := 2) (pc := 44) dX5_generatorFor_44 (by decide) ?_
      exact ih _ _ _ _
    refine r_iload_n (pc := 39) dX5_generatorFor_39 rfl ?_
    exact r_iretP (pc := 40) dX5_generatorFor_40 rfl (by decide +kernel)
noncomputable def f_X5_generatorFor (r0 : QR) (x1 : Int32) (x2 : Int32) (M : QM) : Option (Int32) :=
  f_X5_generatorFor_2 M 3 r0 x1 x2 (0 : Int32)
theorem s_X5_generatorFor {l : Launch} {r0 : QR} {x1 : Int32} {x2 : Int32} {M : QM} : SB (eP M) l kX5_generatorFor M (f_X5_generatorFor r0 x1 x2 M) (0, 0) 0 M [some (.inr r0), some (.inl x1), some (.inl x2), none] [] := by
  unfold f_X5_generatorFor
  refine r_iconst (v := (0 : Int32)) (pc := 0) dX5_generatorFor_0 (by decide) ?_
  refine r_istore_n (pc := 1) dX5_generatorFor_1 (by decide) rfl ?_
  exact s_X5_generatorFor_2 M 3 _ _ _ _
theorem ct_X5_generatorFor {l : Launch} {r0 : QR} {x1 : Int32} {x2 : Int32} {M : QM} : ∀ b, f_X5_generatorFor r0 x1 x2 M = some b → PM l yX5_generatorFor (ws_ yX5_generatorFor cX5_generatorFor 4 (some .int)) rmX5_generatorFor [.inr r0, .inl x1, .inl x2] M ((eP M) b).1 ((eP M) b).2 := fun b hb =>
  PM.of (own := RX5) rfl (by decide +kernel) (Nat.le_of_ble_eq_true rfl) false (fun h => nomatch h) (s_X5_generatorFor b hb)
/-! X5_why: BarnPicturesModel.why(I)I, kind P -/
abbrev rmX5_why : Room := ({ frames := 2, cells := 0, slots := 0, locals := 48 })
abbrev kX5_why : QK := (RX5, cX5_why, 2, (some .int), [], false, rmX5_why)
noncomputable def f_X5_why (r0 : QR) (x1 : Int32) (M : QM) : Option (Int32) :=
  (gR M r0 [(4, 0)]).bind fun v1 => 
    (aI M v1 ((57 : Int32) + x1)).bind fun v8 => 
    if v8 = (1 : Int32) then (some (1 : Int32))
    else (qrc M r0 [4] (f_X5_reels r0 x1 (0 : Int32) M)).bind fun v18 => 
    if v18 = 0 then (some (2 : Int32))
    else (qrc M r0 [4] (f_X5_generatorFor r0 x1 (0 : Int32) M)).bind fun v29 => 
    if v29 = (-10000005 : Int32) then (some (3 : Int32))
    else (qrc M r0 [4] (f_X5_reels r0 x1 (1 : Int32) M)).bind fun v46 => 
    (qrc M r0 [4] (f_X5_generatorFor r0 x1 v46 M)).bind fun v49 => 
    if v49 = (-10000005 : Int32) then (some (4 : Int32))
    else some (0 : Int32)
theorem s_X5_why {l : Launch} {r0 : QR} {x1 : Int32} {M : QM} : SB (eP M) l kX5_why M (f_X5_why r0 x1 M) (0, 0) 0 M [some (.inr r0), some (.inl x1)] [] := by
  unfold f_X5_why
  refine r_aload_n (pc := 0) dX5_why_0 rfl ?_
  refine r_getR (pc := 1)  gf_X5_7 dX5_why_1 (fun v1 => ?_)
  refine r_bipush (v := (57 : Int32)) (pc := 4) dX5_why_4 (by decide) ?_
  refine r_iload_n (pc := 6) dX5_why_6 rfl ?_
  refine r_iadd (pc := 7) dX5_why_7 ?_
  refine r_iald (pc := 8) dX5_why_8 (fun v8 => ?_)
  refine r_iconst (v := (1 : Int32)) (pc := 9) dX5_why_9 (by decide) ?_
  refine r_icmp_ne (pc := 10) (tgt := 15) dX5_why_10 (by decide) ?_ ?_
  · refine r_aload_n (pc := 15) dX5_why_15 rfl ?_
    refine r_iload_n (pc := 16) dX5_why_16 rfl ?_
    refine r_iconst (v := (0 : Int32)) (pc := 17) dX5_why_17 (by decide) ?_
    refine r_callV_P (st := []) (vs := [.inl x1, .inl (0 : Int32)]) (pc := 18)  ct_X5_reels hc_4 cf_X5_60 rfl rfl (Nat.le_of_ble_eq_true rfl) (by decide +kernel) dX5_why_18 (fun v18 => ?_)
    refine r_widen (u' := (0, 0)) (by decide +kernel) ?_
    refine r_if_ne (pc := 21) (tgt := 26) dX5_why_21 (by decide) ?_ ?_
    · refine r_aload_n (pc := 26) dX5_why_26 rfl ?_
      refine r_iload_n (pc := 27) dX5_why_27 rfl ?_
      refine r_iconst (v := (0 : Int32)) (pc := 28) dX5_why_28 (by decide) ?_
      refine r_callV_P (st := []) (vs := [.inl x1, .inl (0 : Int32)]) (pc := 29)  ct_X5_generatorFor hc_4 cf_X5_63 rfl rfl (Nat.le_of_ble_eq_true rfl) (by decide +kernel) dX5_why_29 (fun v29 => ?_)
      refine r_widen (u' := (0, 0)) (by decide +kernel) ?_
      refine r_ldc (pc := 32) dX5_why_32 q1092 ?_
      refine r_icmp_ne (pc := 34) (tgt := 41) dX5_why_34 (by decide) ?_ ?_
      · refine r_aload_n (pc := 41) dX5_why_41 rfl ?_
        refine r_iload_n (pc := 42) dX5_why_42 rfl ?_
        refine r_aload_n (pc := 43) dX5_why_43 rfl ?_
        refine r_iload_n (pc := 44) dX5_why_44 rfl ?_
        refine r_iconst (v := (1 : Int32)) (pc := 45) dX5_why_45 (by decide) ?_
        refine r_callV_P (st := [.inl x1, .inr r0]) (vs := [.inl x1, .inl (1 : Int32)]) (pc := 46)  ct_X5_reels hc_4 cf_X5_60 rfl rfl (Nat.le_of_ble_eq_true rfl) (by decide +kernel) dX5_why_46 (fun v46 => ?_)
        refine r_widen (u' := (0, 0)) (by decide +kernel) ?_
        refine r_callV_P (st := []) (vs := [.inl x1, .inl v46]) (pc := 49)  ct_X5_generatorFor hc_4 cf_X5_63 rfl rfl (Nat.le_of_ble_eq_true rfl) (by decide +kernel) dX5_why_49 (fun v49 => ?_)
        refine r_widen (u' := (0, 0)) (by decide +kernel) ?_
        refine r_ldc (pc := 52) dX5_why_52 q1092 ?_
        refine r_icmp_ne (pc := 54) (tgt := 61) dX5_why_54 (by decide) ?_ ?_
        · refine r_iconst (v := (0 : Int32)) (pc := 61) dX5_why_61 (by decide) ?_
          exact r_iretP (pc := 62) dX5_why_62 rfl (by decide +kernel)
        refine r_iconst (v := (4 : Int32)) (pc := 57) dX5_why_57 (by decide) ?_
        refine r_goto (tgt := 62) (pc := 58) dX5_why_58 (by decide) ?_
        exact r_iretP (pc := 62) dX5_why_62 rfl (by decide +kernel)
      refine r_iconst (v := (3 : Int32)) (pc := 37) dX5_why_37 (by decide) ?_
      refine r_goto (tgt := 62) (pc := 38) dX5_why_38 (by decide) ?_
      exact r_iretP (pc := 62) dX5_why_62 rfl (by decide +kernel)
    refine r_iconst (v := (2 : Int32)) (pc := 24) dX5_why_24 (by decide) ?_
    exact r_iretP (pc := 25) dX5_why_25 rfl (by decide +kernel)
  refine r_iconst (v := (1 : Int32)) (pc := 13) dX5_why_13 (by decide) ?_
  exact r_iretP (pc := 14) dX5_why_14 rfl (by decide +kernel)
theorem ct_X5_why {l : Launch} {r0 : QR} {x1 : Int32} {M : QM} : ∀ b, f_X5_why r0 x1 M = some b → PM l yX5_why (ws_ yX5_why cX5_why 2 (some .int)) rmX5_why [.inr r0, .inl x1] M ((eP M) b).1 ((eP M) b).2 := fun b hb =>
  PM.of (own := RX5) rfl (by decide +kernel) (Nat.le_of_ble_eq_true rfl) false (fun h => nomatch h) (s_X5_why b hb)
/-! X5_seats: BarnPicturesModel.seats(I)I, kind P -/
abbrev rmX5_seats : Room := ({ frames := 0, cells := 0, slots := 0, locals := 0 })
abbrev kX5_seats : QK := (RX5, cX5_seats, 1, (some .int), [], false, rmX5_seats)
noncomputable def f_X5_seats (x0 : Int32) (M : QM) : Option (Int32) :=
  if x0 = 0 then (some (40 : Int32))
    else if x0 = (1 : Int32) then (some (60 : Int32))
    else if x0 = (2 : Int32) then (some (80 : Int32))
    else if x0 = (3 : Int32) then (some (50 : Int32))
    else some (30 : Int32)
theorem s_X5_seats {l : Launch} {x0 : Int32} {M : QM} : SB (eP M) l kX5_seats M (f_X5_seats x0 M) (0, 0) 0 M [some (.inl x0)] [] := by
  unfold f_X5_seats
  refine r_iload_n (pc := 0) dX5_seats_0 rfl ?_
  refine r_if_ne (pc := 1) (tgt := 9) dX5_seats_1 (by decide) ?_ ?_
  · refine r_iload_n (pc := 9) dX5_seats_9 rfl ?_
    refine r_iconst (v := (1 : Int32)) (pc := 10) dX5_seats_10 (by decide) ?_
    refine r_icmp_ne (pc := 11) (tgt := 19) dX5_seats_11 (by decide) ?_ ?_
    · refine r_iload_n (pc := 19) dX5_seats_19 rfl ?_
      refine r_iconst (v := (2 : Int32)) (pc := 20) dX5_seats_20 (by decide) ?_
      refine r_icmp_ne (pc := 21) (tgt := 29) dX5_seats_21 (by decide) ?_ ?_
      · refine r_iload_n (pc := 29) dX5_seats_29 rfl ?_
        refine r_iconst (v := (3 : Int32)) (pc := 30) dX5_seats_30 (by decide) ?_
        refine r_icmp_ne (pc := 31) (tgt := 39) dX5_seats_31 (by decide) ?_ ?_
        · refine r_bipush (v := (30 : Int32)) (pc := 39) dX5_seats_39 (by decide) ?_
          exact r_iretP (pc := 41) dX5_seats_41 rfl (by decide +kernel)
        refine r_bipush (v := (50 : Int32)) (pc := 34) dX5_seats_34 (by decide) ?_
        refine r_goto (tgt := 41) (pc := 36) dX5_seats_36 (by decide) ?_
        exact r_iretP (pc := 41) dX5_seats_41 rfl (by decide +kernel)
      refine r_bipush (v := (80 : Int32)) (pc := 24) dX5_seats_24 (by decide) ?_
      refine r_goto (tgt := 41) (pc := 26) dX5_seats_26 (by decide) ?_
      exact r_iretP (pc := 41) dX5_seats_41 rfl (by decide +kernel)
    refine r_bipush (v := (60 : Int32)) (pc := 14) dX5_seats_14 (by decide) ?_
    refine r_goto (tgt := 41) (pc := 16) dX5_seats_16 (by decide) ?_
    exact r_iretP (pc := 41) dX5_seats_41 rfl (by decide +kernel)
  refine r_bipush (v := (40 : Int32)) (pc := 4) dX5_seats_4 (by decide) ?_
  refine r_goto (tgt := 41) (pc := 6) dX5_seats_6 (by decide) ?_
  exact r_iretP (pc := 41) dX5_seats_41 rfl (by decide +kernel)
theorem ct_X5_seats {l : Launch} {x0 : Int32} {M : QM} : ∀ b, f_X5_seats x0 M = some b → PM l yX5_seats (ws_ yX5_seats cX5_seats 1 (some .int)) rmX5_seats [.inl x0] M ((eP M) b).1 ((eP M) b).2 := fun b hb =>
  PM.of (own := RX5) rfl (by decide +kernel) (Nat.le_of_ble_eq_true rfl) false (fun h => nomatch h) (s_X5_seats b hb)
/-! X5_peopleAt: BarnPicturesModel.peopleAt(I)I, kind P -/
abbrev rmX5_peopleAt : Room := ({ frames := 2, cells := 0, slots := 0, locals := 48 })
abbrev kX5_peopleAt : QK := (RX5, cX5_peopleAt, 4, (some .int), [], false, rmX5_peopleAt)
noncomputable def f_X5_peopleAt_38 (M : QM) (s0 : Int32) : Option (Int32) :=
  if 0 ≤ s0 then (some s0)
    else some (0 : Int32)
theorem s_X5_peopleAt_38 {l : Launch} (M : QM) : ∀ (s0 : Int32) (d0 : Option QV) (d1 : Option QV) (d2 : Option QV) (d3 : Option QV) , SB (eP M) l kX5_peopleAt M (f_X5_peopleAt_38 M s0) (0, 0) 38 M [d0, d1, d2, d3] [.inl s0] := by
  intro s0 d0 d1 d2 d3
  unfold f_X5_peopleAt_38
  refine r_istore_n (pc := 38) dX5_peopleAt_38 (by decide) rfl ?_
  refine r_iload_n (pc := 39) dX5_peopleAt_39 rfl ?_
  refine r_if_ge (pc := 40) (tgt := 47) dX5_peopleAt_40 (by decide) ?_ ?_
  · refine r_iload_n (pc := 47) dX5_peopleAt_47 rfl ?_
    exact r_iretP (pc := 48) dX5_peopleAt_48 rfl (by decide +kernel)
  refine r_iconst (v := (0 : Int32)) (pc := 43) dX5_peopleAt_43 (by decide) ?_
  refine r_goto (tgt := 48) (pc := 44) dX5_peopleAt_44 (by decide) ?_
  exact r_iretP (pc := 48) dX5_peopleAt_48 rfl (by decide +kernel)
noncomputable def f_X5_peopleAt (r0 : QR) (x1 : Int32) (M : QM) : Option (Int32) :=
  (qrc M r0 [4] (f_X5_reels r0 x1 (0 : Int32) M)).bind fun v3 => 
    if v3 = 0 then (f_X5_peopleAt_38 M (0 : Int32))
    else (f_X5_seats x1 M).bind fun v16 => 
    (qrc M r0 [4] (f_X5_reels r0 x1 (3 : Int32) M)).bind fun v22 => 
    qnz v3 (
    (qrc M r0 [4] (f_X5_reels r0 x1 (2 : Int32) M)).bind fun v31 => 
    f_X5_peopleAt_38 M (((v16 * v22) / v3) - (v31 / (10 : Int32))))
theorem s_X5_peopleAt {l : Launch} {r0 : QR} {x1 : Int32} {M : QM} : SB (eP M) l kX5_peopleAt M (f_X5_peopleAt r0 x1 M) (0, 0) 0 M [some (.inr r0), some (.inl x1), none, none] [] := by
  unfold f_X5_peopleAt
  refine r_aload_n (pc := 0) dX5_peopleAt_0 rfl ?_
  refine r_iload_n (pc := 1) dX5_peopleAt_1 rfl ?_
  refine r_iconst (v := (0 : Int32)) (pc := 2) dX5_peopleAt_2 (by decide) ?_
  refine r_callV_P (st := []) (vs := [.inl x1, .inl (0 : Int32)]) (pc := 3)  ct_X5_reels hc_4 cf_X5_60 rfl rfl (Nat.le_of_ble_eq_true rfl) (by decide +kernel) dX5_peopleAt_3 (fun v3 => ?_)
  refine r_widen (u' := (0, 0)) (by decide +kernel) ?_
  refine r_istore_n (pc := 6) dX5_peopleAt_6 (by decide) rfl ?_
  refine r_iload_n (pc := 7) dX5_peopleAt_7 rfl ?_
  refine r_if_ne (pc := 8) (tgt := 15) dX5_peopleAt_8 (by decide) ?_ ?_
  · refine r_iload_n (pc := 15) dX5_peopleAt_15 rfl ?_
    refine r_callS_P (st := []) (vs := [.inl x1]) (pc := 16)  ct_X5_seats cf_X5_66 rfl rfl (Nat.le_of_ble_eq_true rfl) (by decide +kernel) dX5_peopleAt_16 (fun v16 => ?_)
    refine r_widen (u' := (0, 0)) (by decide +kernel) ?_
    refine r_aload_n (pc := 19) dX5_peopleAt_19 rfl ?_
    refine r_iload_n (pc := 20) dX5_peopleAt_20 rfl ?_
    refine r_iconst (v := (3 : Int32)) (pc := 21) dX5_peopleAt_21 (by decide) ?_
    refine r_callV_P (st := [.inl v16]) (vs := [.inl x1, .inl (3 : Int32)]) (pc := 22)  ct_X5_reels hc_4 cf_X5_60 rfl rfl (Nat.le_of_ble_eq_true rfl) (by decide +kernel) dX5_peopleAt_22 (fun v22 => ?_)
    refine r_widen (u' := (0, 0)) (by decide +kernel) ?_
    refine r_imul (pc := 25) dX5_peopleAt_25 ?_
    refine r_iload_n (pc := 26) dX5_peopleAt_26 rfl ?_
    refine r_idivG (pc := 27) dX5_peopleAt_27 ?_
    refine r_aload_n (pc := 28) dX5_peopleAt_28 rfl ?_
    refine r_iload_n (pc := 29) dX5_peopleAt_29 rfl ?_
    refine r_iconst (v := (2 : Int32)) (pc := 30) dX5_peopleAt_30 (by decide) ?_
    refine r_callV_P (st := [.inl ((v16 * v22) / v3)]) (vs := [.inl x1, .inl (2 : Int32)]) (pc := 31)  ct_X5_reels hc_4 cf_X5_60 rfl rfl (Nat.le_of_ble_eq_true rfl) (by decide +kernel) dX5_peopleAt_31 (fun v31 => ?_)
    refine r_widen (u' := (0, 0)) (by decide +kernel) ?_
    refine r_bipush (v := (10 : Int32)) (pc := 34) dX5_peopleAt_34 (by decide) ?_
    refine r_idiv (pc := 36) dX5_peopleAt_36 (by decide) ?_
    refine r_isub (pc := 37) dX5_peopleAt_37 ?_
    exact s_X5_peopleAt_38 M _ _ _ _ _
  refine r_iconst (v := (0 : Int32)) (pc := 11) dX5_peopleAt_11 (by decide) ?_
  refine r_goto (tgt := 38) (pc := 12) dX5_peopleAt_12 (by decide) ?_
  exact s_X5_peopleAt_38 M _ _ _ _ _
theorem ct_X5_peopleAt {l : Launch} {r0 : QR} {x1 : Int32} {M : QM} : ∀ b, f_X5_peopleAt r0 x1 M = some b → PM l yX5_peopleAt (ws_ yX5_peopleAt cX5_peopleAt 4 (some .int)) rmX5_peopleAt [.inr r0, .inl x1] M ((eP M) b).1 ((eP M) b).2 := fun b hb =>
  PM.of (own := RX5) rfl (by decide +kernel) (Nat.le_of_ble_eq_true rfl) false (fun h => nomatch h) (s_X5_peopleAt b hb)
/-! X5_wear: BarnPicturesModel.wear(II)V, kind V -/
abbrev rmX5_wear : Room := ({ frames := 1, cells := 0, slots := 0, locals := 21 })
abbrev kX5_wear : QK := (RX5, cX5_wear, 3, none, [], false, rmX5_wear)
noncomputable def f_X5_wear_124 (s0 : QR) (s1 : Int32) (s2 : Int32) (M : QM) : Option (QM) :=
  (sI M s0 s1 s2).bind fun m124 => 
    some m124
theorem s_X5_wear_124 {l : Launch} {M0 : QM} : ∀ (s0 : QR) (s1 : Int32) (s2 : Int32) (d0 : Option QV) (d1 : Option QV) (d2 : Option QV) (M : QM) , SB eV l kX5_wear M0 (f_X5_wear_124 s0 s1 s2 M) (0, 0) 124 M [d0, d1, d2] [.inl s2, .inl s1, .inr s0] := by
  intro s0 s1 s2 d0 d1 d2 M
  unfold f_X5_wear_124
  refine r_iast (pc := 124) dX5_wear_124 (fun m124 => ?_)
  exact r_vretV (pc := 125) dX5_wear_125 rfl (by decide +kernel)
noncomputable def f_X5_wear_14 : Nat → QR → Int32 → QM → Option (QM)
  | 0, _, _, _ => none
  | n + 1, r0, x1, M =>
    (gR M r0 [(4, 0)]).bind fun v15 => 
    (f_X5_of x1 (2 : Int32) M).bind fun v20 => 
    (aI M v15 v20).bind fun v23 => 
    if v23 < (40 : Int32) then ((gR M r0 [(4, 0)]).bind fun v87 => 
      (f_X5_of x1 (0 : Int32) M).bind fun v92 => 
      (gR M r0 [(4, 0)]).bind fun v96 => 
      (f_X5_of x1 (1 : Int32) M).bind fun v101 => 
      (aI M v96 v101).bind fun v104 => 
      if (3 : Int32) ≤ v104 then ((gR M r0 [(4, 0)]).bind fun v115 => 
        (f_X5_of x1 (0 : Int32) M).bind fun v120 => 
        (aI M v115 v120).bind fun v123 => 
        f_X5_wear_124 v87 v92 v123 M)
      else f_X5_wear_124 v87 v92 (-2 : Int32) M)
    else (gR M r0 [(4, 0)]).bind fun v30 => 
    (f_X5_of x1 (2 : Int32) M).bind fun v35 => 
    (aI M v30 v35).bind fun v39 => 
    (sI M v30 v35 (v39 - (20 : Int32))).bind fun m43 => 
    (gR m43 r0 [(4, 0)]).bind fun v45 => 
    (f_X5_of x1 (1 : Int32) m43).bind fun v50 => 
    (aI m43 v45 v50).bind fun v54 => 
    (sI m43 v45 v50 (v54 - (1 : Int32))).bind fun m57 => 
    (gR m57 r0 [(4, 0)]).bind fun v59 => 
    (f_X5_of x1 (3 : Int32) m57).bind fun v64 => 
    (aI m57 v59 v64).bind fun v68 => 
    (sI m57 v59 v64 (v68 + (1 : Int32))).bind fun m71 => 
    (gR m71 r0 [(4, 0)]).bind fun v73 => 
    (aI m71 v73 (76 : Int32)).bind fun v79 => 
    (sI m71 v73 (76 : Int32) (v79 + (1 : Int32))).bind fun m82 => 
    f_X5_wear_14 n r0 x1 m82
theorem s_X5_wear_14 {l : Launch} {M0 : QM} : ∀ (n : Nat) (r0 : QR) (x1 : Int32) (d2 : Option QV) (M : QM) , SB eV l kX5_wear M0 (f_X5_wear_14 n r0 x1 M) (0, 0) 14 M [some (.inr r0), some (.inl x1), d2] [] := by
  intro n
  induction n with
  | zero => intros; rw [f_X5_wear_14]; exact r_none
  | succ n ih =>
    intro r0 x1 d2 M
    rw [f_X5_wear_14]
    refine r_aload_n (pc := 14) dX5_wear_14 rfl ?_
    refine r_getR (pc := 15)  gf_X5_7 dX5_wear_15 (fun v15 => ?_)
    refine r_iload_n (pc := 18) dX5_wear_18 rfl ?_
    refine r_iconst (v := (2 : Int32)) (pc := 19) dX5_wear_19 (by decide) ?_
    refine r_callS_P (st := [.inr v15]) (vs := [.inl x1, .inl (2 : Int32)]) (pc := 20)  ct_X5_of cf_X5_33 rfl rfl (Nat.le_of_ble_eq_true rfl) (by decide +kernel) dX5_wear_20 (fun v20 => ?_)
    refine r_widen (u' := (0, 0)) (by decide +kernel) ?_
    refine r_iald (pc := 23) dX5_wear_23 (fun v23 => ?_)
    refine r_bipush (v := (40 : Int32)) (pc := 24) dX5_wear_24 (by decide) ?_
    refine r_icmp_lt (pc := 26) (tgt := 86) dX5_wear_26 (by decide) ?_ ?_
    · refine r_aload_n (pc := 86) dX5_wear_86 rfl ?_
      refine r_getR (pc := 87)  gf_X5_7 dX5_wear_87 (fun v87 => ?_)
      refine r_iload_n (pc := 90) dX5_wear_90 rfl ?_
      refine r_iconst (v := (0 : Int32)) (pc := 91) dX5_wear_91 (by decide) ?_
      refine r_callS_P (st := [.inr v87]) (vs := [.inl x1, .inl (0 : Int32)]) (pc := 92)  ct_X5_of cf_X5_33 rfl rfl (Nat.le_of_ble_eq_true rfl) (by decide +kernel) dX5_wear_92 (fun v92 => ?_)
      refine r_widen (u' := (0, 0)) (by decide +kernel) ?_
      refine r_aload_n (pc := 95) dX5_wear_95 rfl ?_
      refine r_getR (pc := 96)  gf_X5_7 dX5_wear_96 (fun v96 => ?_)
      refine r_iload_n (pc := 99) dX5_wear_99 rfl ?_
      refine r_iconst (v := (1 : Int32)) (pc := 100) dX5_wear_100 (by decide) ?_
      refine r_callS_P (st := [.inr v96, .inl v92, .inr v87]) (vs := [.inl x1, .inl (1 : Int32)]) (pc := 101)  ct_X5_of cf_X5_33 rfl rfl (Nat.le_of_ble_eq_true rfl) (by decide +kernel) dX5_wear_101 (fun v101 => ?_)
      refine r_widen (u' := (0, 0)) (by decide +kernel) ?_
      refine r_iald (pc := 104) dX5_wear_104 (fun v104 => ?_)
      refine r_iconst (v := (3 : Int32)) (pc := 105) dX5_wear_105 (by decide) ?_
      refine r_icmp_ge (pc := 106) (tgt := 114) dX5_wear_106 (by decide) ?_ ?_
      · refine r_aload_n (pc := 114) dX5_wear_114 rfl ?_
        refine r_getR (pc := 115)  gf_X5_7 dX5_wear_115 (fun v115 => ?_)
        refine r_iload_n (pc := 118) dX5_wear_118 rfl ?_
        refine r_iconst (v := (0 : Int32)) (pc := 119) dX5_wear_119 (by decide) ?_
        refine r_callS_P (st := [.inr v115, .inl v92, .inr v87]) (vs := [.inl x1, .inl (0 : Int32)]) (pc := 120)  ct_X5_of cf_X5_33 rfl rfl (Nat.le_of_ble_eq_true rfl) (by decide +kernel) dX5_wear_120 (fun v120 => ?_)
        refine r_widen (u' := (0, 0)) (by decide +kernel) ?_
        refine r_iald (pc := 123) dX5_wear_123 (fun v123 => ?_)
        exact s_X5_wear_124  _ _ _ _ _ _ _
      refine r_bipush (v := (-2 : Int32)) (pc := 109) dX5_wear_109 (by decide) ?_
      refine r_goto (tgt := 124) (pc := 111) dX5_wear_111 (by decide) ?_
      exact s_X5_wear_124  _ _ _ _ _ _ _
    refine r_aload_n (pc := 29) dX5_wear_29 rfl ?_
    refine r_getR (pc := 30)  gf_X5_7 dX5_wear_30 (fun v30 => ?_)
    refine r_iload_n (pc := 33) dX5_wear_33 rfl ?_
    refine r_iconst (v := (2 : Int32)) (pc := 34) dX5_wear_34 (by decide) ?_
    refine r_callS_P (st := [.inr v30]) (vs := [.inl x1, .inl (2 : Int32)]) (pc := 35)  ct_X5_of cf_X5_33 rfl rfl (Nat.le_of_ble_eq_true rfl) (by decide +kernel) dX5_wear_35 (fun v35 => ?_)
    refine r_widen (u' := (0, 0)) (by decide +kernel) ?_
    refine r_dup2 (pc := 38) dX5_wear_38 ?_
    refine r_iald (pc := 39) dX5_wear_39 (fun v39 => ?_)
    refine r_bipush (v := (20 : Int32)) (pc := 40) dX5_wear_40 (by decide) ?_
    refine r_isub (pc := 42) dX5_wear_42 ?_
    refine r_iast (pc := 43) dX5_wear_43 (fun m43 => ?_)
    refine r_aload_n (pc := 44) dX5_wear_44 rfl ?_
    refine r_getR (pc := 45)  gf_X5_7 dX5_wear_45 (fun v45 => ?_)
    refine r_iload_n (pc := 48) dX5_wear_48 rfl ?_
    refine r_iconst (v := (1 : Int32)) (pc := 49) dX5_wear_49 (by decide) ?_
    refine r_callS_P (st := [.inr v45]) (vs := [.inl x1, .inl (1 : Int32)]) (pc := 50)  ct_X5_of cf_X5_33 rfl rfl (Nat.le_of_ble_eq_true rfl) (by decide +kernel) dX5_wear_50 (fun v50 => ?_)
    refine r_widen (u' := (0, 0)) (by decide +kernel) ?_
    refine r_dup2 (pc := 53) dX5_wear_53 ?_
    refine r_iald (pc := 54) dX5_wear_54 (fun v54 => ?_)
    refine r_iconst (v := (1 : Int32)) (pc := 55) dX5_wear_55 (by decide) ?_
    refine r_isub (pc := 56) dX5_wear_56 ?_
    refine r_iast (pc := 57) dX5_wear_57 (fun m57 => ?_)
    refine r_aload_n (pc := 58) dX5_wear_58 rfl ?_
    refine r_getR (pc := 59)  gf_X5_7 dX5_wear_59 (fun v59 => ?_)
    refine r_iload_n (pc := 62) dX5_wear_62 rfl ?_
    refine r_iconst (v := (3 : Int32)) (pc := 63) dX5_wear_63 (by decide) ?_
    refine r_callS_P (st := [.inr v59]) (vs := [.inl x1, .inl (3 : Int32)]) (pc := 64)  ct_X5_of cf_X5_33 rfl rfl (Nat.le_of_ble_eq_true rfl) (by decide +kernel) dX5_wear_64 (fun v64 => ?_)
    refine r_widen (u' := (0, 0)) (by decide +kernel) ?_
    refine r_dup2 (pc := 67) dX5_wear_67 ?_
    refine r_iald (pc := 68) dX5_wear_68 (fun v68 => ?_)
    refine r_iconst (v := (1 : Int32)) (pc := 69) dX5_wear_69 (by decide) ?_
    refine r_iadd (pc := 70) dX5_wear_70 ?_
    refine r_iast (pc := 71) dX5_wear_71 (fun m71 => ?_)
    refine r_aload_n (pc := 72) dX5_wear_72 rfl ?_
    refine r_getR (pc := 73)  gf_X5_7 dX5_wear_73 (fun v73 => ?_)
    refine r_bipush (v := (76 : Int32)) (pc := 76) dX5_wear_76 (by decide) ?_
    refine r_dup2 (pc := 78) dX5_wear_78 ?_
    refine r_iald (pc := 79) dX5_wear_79 (fun v79 => ?_)
    refine r_iconst (v := (1 : Int32)) (pc := 80) dX5_wear_80 (by decide) ?_
    refine r_iadd (pc := 81) dX5_wear_81 ?_
    refine r_iast (pc := 82) dX5_wear_82 (fun m82 => ?_)
    refine r_goto (tgt := 14) (pc := 83) dX5_wear_83 (by decide) ?_
    exact ih _ _ _ _
noncomputable def f_X5_wear (r0 : QR) (x1 : Int32) (x2 : Int32) (M : QM) : Option (QM) :=
  (gR M r0 [(4, 0)]).bind fun v1 => 
    (f_X5_of x1 (2 : Int32) M).bind fun v6 => 
    (aI M v1 v6).bind fun v10 => 
    (sI M v1 v6 (v10 + x2)).bind fun m13 => 
    f_X5_wear_14 6 r0 x1 m13
theorem s_X5_wear {l : Launch} {M0 : QM} {r0 : QR} {x1 : Int32} {x2 : Int32} {M : QM} : SB eV l kX5_wear M0 (f_X5_wear r0 x1 x2 M) (0, 0) 0 M [some (.inr r0), some (.inl x1), some (.inl x2)] [] := by
  unfold f_X5_wear
  refine r_aload_n (pc := 0) dX5_wear_0 rfl ?_
  refine r_getR (pc := 1)  gf_X5_7 dX5_wear_1 (fun v1 => ?_)
  refine r_iload_n (pc := 4) dX5_wear_4 rfl ?_
  refine r_iconst (v := (2 : Int32)) (pc := 5) dX5_wear_5 (by decide) ?_
  refine r_callS_P (st := [.inr v1]) (vs := [.inl x1, .inl (2 : Int32)]) (pc := 6)  ct_X5_of cf_X5_33 rfl rfl (Nat.le_of_ble_eq_true rfl) (by decide +kernel) dX5_wear_6 (fun v6 => ?_)
  refine r_widen (u' := (0, 0)) (by decide +kernel) ?_
  refine r_dup2 (pc := 9) dX5_wear_9 ?_
  refine r_iald (pc := 10) dX5_wear_10 (fun v10 => ?_)
  refine r_iload_n (pc := 11) dX5_wear_11 rfl ?_
  refine r_iadd (pc := 12) dX5_wear_12 ?_
  refine r_iast (pc := 13) dX5_wear_13 (fun m13 => ?_)
  exact s_X5_wear_14  6 _ _ _ _
theorem ct_X5_wear {l : Launch} {r0 : QR} {x1 : Int32} {x2 : Int32} {M : QM} : ∀ b, f_X5_wear r0 x1 x2 M = some b → PM l yX5_wear (ws_ yX5_wear cX5_wear 3 none) rmX5_wear [.inr r0, .inl x1, .inl x2] M (eV b).1 (eV b).2 := fun b hb =>
  PM.of (own := RX5) rfl (by decide +kernel) (Nat.le_of_ble_eq_true rfl) false (fun h => nomatch h) (s_X5_wear b hb)
/-! X5_log: BarnPicturesModel.log(IIII)V, kind V -/
abbrev rmX5_log : Room := ({ frames := 0, cells := 0, slots := 0, locals := 0 })
abbrev kX5_log : QK := (RX5, cX5_log, 6, none, [], false, rmX5_log)
noncomputable def f_X5_log_110 (s0 : QR) (s1 : Int32) (s2 : Int32) (s3 : Int32) (M : QM) : Option (QM) :=
  (sI M s0 s1 (s2 + s3)).bind fun m111 => 
    some m111
theorem s_X5_log_110 {l : Launch} {M0 : QM} : ∀ (s0 : QR) (s1 : Int32) (s2 : Int32) (s3 : Int32) (d0 : Option QV) (d1 : Option QV) (d2 : Option QV) (d3 : Option QV) (d4 : Option QV) (d5 : Option QV) (M : QM) , SB eV l kX5_log M0 (f_X5_log_110 s0 s1 s2 s3 M) (0, 0) 110 M [d0, d1, d2, d3, d4, d5] [.inl s3, .inl s2, .inl s1, .inr s0] := by
  intro s0 s1 s2 s3 d0 d1 d2 d3 d4 d5 M
  unfold f_X5_log_110
  refine r_iadd (pc := 110) dX5_log_110 ?_
  refine r_iast (pc := 111) dX5_log_111 (fun m111 => ?_)
  exact r_vretV (pc := 112) dX5_log_112 rfl (by decide +kernel)
noncomputable def f_X5_log_4 : Nat → QR → Int32 → Int32 → Int32 → Int32 → Int32 → QM → Option (QM)
  | 0, _, _, _, _, _, _, _ => none
  | n + 1, r0, x1, x2, x3, x4, x5, M =>
    if x5 < (5 : Int32) then ((gR M r0 [(4, 0)]).bind fun v39 => 
      (gR M r0 [(4, 0)]).bind fun v45 => 
      (aI M v45 (55 : Int32)).bind fun v50 => 
      (sI M v39 (78 : Int32) v50).bind fun m51 => 
      (gR m51 r0 [(4, 0)]).bind fun v53 => 
      (sI m51 v53 (79 : Int32) x1).bind fun m59 => 
      (gR m59 r0 [(4, 0)]).bind fun v61 => 
      (sI m59 v61 (80 : Int32) x2).bind fun m67 => 
      (gR m67 r0 [(4, 0)]).bind fun v69 => 
      (sI m67 v69 (81 : Int32) x3).bind fun m75 => 
      (gR m75 r0 [(4, 0)]).bind fun v77 => 
      (sI m75 v77 (82 : Int32) x4).bind fun m84 => 
      (gR m84 r0 [(4, 0)]).bind fun v86 => 
      (aI m84 v86 (77 : Int32)).bind fun v92 => 
      (gR m84 r0 [(4, 0)]).bind fun v94 => 
      (aI m84 v94 (77 : Int32)).bind fun v99 => 
      f_X5_log_110 v86 (77 : Int32) v92 (if (6 : Int32) ≤ v99 then (0 : Int32) else (1 : Int32)) m84)
    else (gR M r0 [(4, 0)]).bind fun v11 => 
    (gR M r0 [(4, 0)]).bind fun v20 => 
    (aI M v20 (((78 : Int32) + x5) - (5 : Int32))).bind fun v30 => 
    (sI M v11 ((78 : Int32) + x5) v30).bind fun m31 => 
    f_X5_log_4 n r0 x1 x2 x3 x4 (x5 + (-1 : Int32)) m31
theorem s_X5_log_4 {l : Launch} {M0 : QM} : ∀ (n : Nat) (r0 : QR) (x1 : Int32) (x2 : Int32) (x3 : Int32) (x4 : Int32) (x5 : Int32) (M : QM) , SB eV l kX5_log M0 (f_X5_log_4 n r0 x1 x2 x3 x4 x5 M) (0, 0) 4 M [some (.inr r0), some (.inl x1), some (.inl x2), some (.inl x3), some (.inl x4), some (.inl x5)] [] := by
  intro n
  induction n with
  | zero => intros; rw [f_X5_log_4]; exact r_none
  | succ n ih =>
    intro r0 x1 x2 x3 x4 x5  M
    rw [f_X5_log_4]
    refine r_iload (pc := 4) dX5_log_4 rfl ?_
    refine r_iconst (v := (5 : Int32)) (pc := 6) dX5_log_6 (by decide) ?_
    refine r_icmp_lt (pc := 7) (tgt := 38) dX5_log_7 (by decide) ?_ ?_
    · refine r_aload_n (pc := 38) dX5_log_38 rfl ?_
      refine r_getR (pc := 39)  gf_X5_7 dX5_log_39 (fun v39 => ?_)
      refine r_bipush (v := (78 : Int32)) (pc := 42) dX5_log_42 (by decide) ?_
      refine r_aload_n (pc := 44) dX5_log_44 rfl ?_
      refine r_getR (pc := 45)  gf_X5_7 dX5_log_45 (fun v45 => ?_)
      refine r_bipush (v := (55 : Int32)) (pc := 48) dX5_log_48 (by decide) ?_
      refine r_iald (pc := 50) dX5_log_50 (fun v50 => ?_)
      refine r_iast (pc := 51) dX5_log_51 (fun m51 => ?_)
      refine r_aload_n (pc := 52) dX5_log_52 rfl ?_
      refine r_getR (pc := 53)  gf_X5_7 dX5_log_53 (fun v53 => ?_)
      refine r_bipush (v := (79 : Int32)) (pc := 56) dX5_log_56 (by decide) ?_
      refine r_iload_n (pc := 58) dX5_log_58 rfl ?_
      refine r_iast (pc := 59) dX5_log_59 (fun m59 => ?_)
      refine r_aload_n (pc := 60) dX5_log_60 rfl ?_
      refine r_getR (pc := 61)  gf_X5_7 dX5_log_61 (fun v61 => ?_)
      refine r_bipush (v := (80 : Int32)) (pc := 64) dX5_log_64 (by decide) ?_
      refine r_iload_n (pc := 66) dX5_log_66 rfl ?_
      refine r_iast (pc := 67) dX5_log_67 (fun m67 => ?_)
      refine r_aload_n (pc := 68) dX5_log_68 rfl ?_
      refine r_getR (pc := 69)  gf_X5_7 dX5_log_69 (fun v69 => ?_)
      refine r_bipush (v := (81 : Int32)) (pc := 72) dX5_log_72 (by decide) ?_
      refine r_iload_n (pc := 74) dX5_log_74 rfl ?_
      refine r_iast (pc := 75) dX5_log_75 (fun m75 => ?_)
      refine r_aload_n (pc := 76) dX5_log_76 rfl ?_
      refine r_getR (pc := 77)  gf_X5_7 dX5_log_77 (fun v77 => ?_)
      refine r_bipush (v := (82 : Int32)) (pc := 80) dX5_log_80 (by decide) ?_
      refine r_iload (pc := 82) dX5_log_82 rfl ?_
      refine r_iast (pc := 84) dX5_log_84 (fun m84 => ?_)
      refine r_aload_n (pc := 85) dX5_log_85 rfl ?_
      refine r_getR (pc := 86)  gf_X5_7 dX5_log_86 (fun v86 => ?_)
      refine r_bipush (v := (77 : Int32)) (pc := 89) dX5_log_89 (by decide) ?_
      refine r_dup2 (pc := 91) dX5_log_91 ?_
      refine r_iald (pc := 92) dX5_log_92 (fun v92 => ?_)
      refine r_aload_n (pc := 93) dX5_log_93 rfl ?_
      refine r_getR (pc := 94)  gf_X5_7 dX5_log_94 (fun v94 => ?_)
      refine r_bipush (v := (77 : Int32)) (pc := 97) dX5_log_97 (by decide) ?_
      refine r_iald (pc := 99) dX5_log_99 (fun v99 => ?_)
      refine r_bipush (v := (6 : Int32)) (pc := 100) dX5_log_100 (by decide) ?_
      refine r_icmp_geF (F := (fun (z9 : Int32) => f_X5_log_110 v86 (77 : Int32) v92 z9 m84)) (zA := (0 : Int32)) (zB := (1 : Int32)) (pc := 102) (tgt := 109) dX5_log_102 (by decide) ?_ ?_
      · refine r_iconst (v := (0 : Int32)) (pc := 109) dX5_log_109 (by decide) ?_
        exact s_X5_log_110  _ _ _ _ _ _ _ _ _ _ _
      refine r_iconst (v := (1 : Int32)) (pc := 105) dX5_log_105 (by decide) ?_
      refine r_goto (tgt := 110) (pc := 106) dX5_log_106 (by decide) ?_
      exact s_X5_log_110  _ _ _ _ _ _ _ _ _ _ _
    refine r_aload_n (pc := 10) dX5_log_10 rfl ?_
    refine r_getR (pc := 11)  gf_X5_7 dX5_log_11 (fun v11 => ?_)
    refine r_bipush (v := (78 : Int32)) (pc := 14) dX5_log_14 (by decide) ?_
    refine r_iload (pc := 16) dX5_log_16 rfl ?_
    refine r_iadd (pc := 18) dX5_log_18 ?_
    refine r_aload_n (pc := 19) dX5_log_19 rfl ?_
    refine r_getR (pc := 20)  gf_X5_7 dX5_log_20 (fun v20 => ?_)
    refine r_bipush (v := (78 : Int32)) (pc := 23) dX5_log_23 (by decide) ?_
    refine r_iload (pc := 25) dX5_log_25 rfl ?_
    refine r_iadd (pc := 27) dX5_log_27 ?_
    refine r_iconst (v := (5 : Int32)) (pc := 28) dX5_log_28 (by decide) ?_
    refine r_isub (pc := 29) dX5_log_29 ?_
    refine r_iald (pc := 30) dX5_log_30 (fun v30 => ?_)
    refine r_iast (pc := 31) dX5_log_31 (fun m31 => ?_)
    refine r_iinc (v := (x5 + (-1 : Int32))) (pc := 32) dX5_log_32 rfl rfl (by decide) rfl ?_
    refine r_goto (tgt := 4) (pc := 35) dX5_log_35 (by decide) ?_
    exact ih _ _ _ _ _ _ _
noncomputable def f_X5_log (r0 : QR) (x1 : Int32) (x2 : Int32) (x3 : Int32) (x4 : Int32) (M : QM) : Option (QM) :=
  f_X5_log_4 26 r0 x1 x2 x3 x4 (29 : Int32) M
theorem s_X5_log {l : Launch} {M0 : QM} {r0 : QR} {x1 : Int32} {x2 : Int32} {x3 : Int32} {x4 : Int32} {M : QM} : SB eV l kX5_log M0 (f_X5_log r0 x1 x2 x3 x4 M) (0, 0) 0 M [some (.inr r0), some (.inl x1), some (.inl x2), some (.inl x3), some (.inl x4), none] [] := by
  unfold f_X5_log
  refine r_bipush (v := (29 : Int32)) (pc := 0) dX5_log_0 (by decide) ?_
  refine r_istore (pc := 2) dX5_log_2 (by decide) rfl ?_
  exact s_X5_log_4  26 _ _ _ _ _ _ _
theorem ct_X5_log {l : Launch} {r0 : QR} {x1 : Int32} {x2 : Int32} {x3 : Int32} {x4 : Int32} {M : QM} : ∀ b, f_X5_log r0 x1 x2 x3 x4 M = some b → PM l yX5_log (ws_ yX5_log cX5_log 6 none) rmX5_log [.inr r0, .inl x1, .inl x2, .inl x3, .inl x4] M (eV b).1 (eV b).2 := fun b hb =>
  PM.of (own := RX5) rfl (by decide +kernel) (Nat.le_of_ble_eq_true rfl) false (fun h => nomatch h) (s_X5_log b hb)
