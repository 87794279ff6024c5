/-! methods as functions over the memory (printed by gen/run.py) -/
set_option maxRecDepth 100000
/-! X9_minutes: BarnPictures$Reader.minutes()I, kind XI -/
abbrev rmX9_minutes : Room := ({ frames := 8, cells := 8, slots := 56, locals := 131 })
abbrev kX9_minutes : QK := (RX9, cX9_minutes, 2, (some .int), [], false, rmX9_minutes)
noncomputable def f_X9_minutes_83 (r0 : QR) (x1 : Int32) (M : QM) : Option ((Int32 ⊕ QN) × QM) :=
  if (x1 - x1 / (5 : Int32) * (5 : Int32)) ≤ 0 then (some (.inl x1, M))
    else (nO M (M.1, 0) (.inr (.inr (.inr (some (12, fs_12)))))).bind fun m89 => 
    (gI m89 r0 [(5, 2)]).bind fun v94 => 
    (qnn (some (M.1, 0)) (f_X10_init (some (M.1, 0)) v94 m89)).bind fun m97 => 
    qthr m97 (some (M.1, 0)) fun q100 => some (.inr q100, m97)
theorem s_X9_minutes_83 {l : Launch} {M0 : QM} : ∀ (r0 : QR) (x1 : Int32) (M : QM) , SB eXI l kX9_minutes M0 (f_X9_minutes_83 r0 x1 M) (7, 49) 83 M [some (.inr r0), some (.inl x1)] [] := by
  intro r0 x1  M
  unfold f_X9_minutes_83
  refine r_iload_n (pc := 83) dX9_minutes_83 rfl ?_
  refine r_iconst (v := (5 : Int32)) (pc := 84) dX9_minutes_84 (by decide) ?_
  refine r_irem (pc := 85) dX9_minutes_85 (by decide) ?_
  refine r_if_le (pc := 86) (tgt := 101) dX9_minutes_86 (by decide) ?_ ?_
  · refine r_iload_n (pc := 101) dX9_minutes_101 rfl ?_
    exact r_iretX (pc := 102) dX9_minutes_102 rfl (by decide +kernel)
  refine r_newF (pc := 89)  nf_X9_44 (by decide +kernel) dX9_minutes_89 (fun m89 => ?_)
  refine r_widen (u' := (8, 56)) (by decide +kernel) ?_
  refine r_dup (pc := 92) dX9_minutes_92 ?_
  refine r_aload_n (pc := 93) dX9_minutes_93 rfl ?_
  refine r_getI (pc := 94)  gf_X9_22 dX9_minutes_94 (fun v94 => ?_)
  refine r_callI_V (st := [.inr (some (M.1, 0))]) (vs := [.inl v94]) (pc := 97)  ct_X10_init cf_X9_46 rfl rfl (Nat.le_of_ble_eq_true rfl) (by decide +kernel) dX9_minutes_97 (fun m97 => ?_)
  refine r_widen (u' := (8, 56)) (by decide +kernel) ?_
  refine r_athrow (pc := 100) dX9_minutes_100 (fun q100 => ?_)
  exact x_outI (by decide) (by decide +kernel)
noncomputable def f_X9_minutes_30 : Nat → QR → Int32 → QM → Option ((Int32 ⊕ QN) × QM)
  | 0, _, _, _ => none
  | n + 1, r0, x1, M =>
    (qrc M r0 [5] (f_X9_isNext r0 (48 : Int32) (57 : Int32) M)).bind fun v35 => 
    if v35 = 0 then (f_X9_minutes_83 r0 x1 M)
    else (gR M r0 [(5, 0)]).bind fun v46 => 
    (gI M r0 [(5, 2)]).bind fun v50 => 
    (qrc M v46 [8] (f_J4_charAt v46 v50 M)).bind fun v53 => 
    if (500 : Int32) < ((((10 : Int32) * x1) + v53) - (48 : Int32)) then (f_X9_minutes_83 r0 x1 M)
    else qbXI (qrc M r0 [5] (f_X9_digit r0 (9 : Int32) M)) (fun q75 m75 => some (.inr q75, m75)) fun v75 m75 => 
    f_X9_minutes_30 n r0 (((10 : Int32) * x1) + v75) m75
theorem s_X9_minutes_30 {l : Launch} {M0 : QM} : ∀ (n c s : Nat), c + 1 * n ≤ 7 → s + 7 * n ≤ 49 → ∀ (r0 : QR) (x1 : Int32) (M : QM) , SB eXI l kX9_minutes M0 (f_X9_minutes_30 n r0 x1 M) (c, s) 30 M [some (.inr r0), some (.inl x1)] [] := by
  intro n
  induction n with
  | zero => intros; rw [f_X9_minutes_30]; exact r_none
  | succ n ih =>
    intro c s hc hs r0 x1  M
    have hc1 : c + 1 ≤ 7 := by omega
    have hs1 : s + 7 ≤ 49 := by omega
    rw [f_X9_minutes_30]
    refine r_widen (u' := (c + 0, s + 0)) ⟨(show c ≤ c + 0 by omega), (show s ≤ s + 0 by omega)⟩ ?_
    refine r_aload_n (pc := 30) dX9_minutes_30 rfl ?_
    refine r_bipush (v := (48 : Int32)) (pc := 31) dX9_minutes_31 (by decide) ?_
    refine r_bipush (v := (57 : Int32)) (pc := 33) dX9_minutes_33 (by decide) ?_
    refine r_callV_P (st := []) (vs := [.inl (48 : Int32), .inl (57 : Int32)]) (pc := 35)  ct_X9_isNext hc_5 cf_X9_40 rfl rfl (Nat.le_of_ble_eq_true rfl) ⟨by decide +kernel, (show c + 0 + 0 ≤ 8 by omega), (show s + 0 + 0 ≤ 56 by omega)⟩ dX9_minutes_35 (fun v35 => ?_)
    refine r_widen (u' := (c + 0, s + 0)) ⟨(show c + 0 + 0 ≤ c + 0 by omega), (show s + 0 + 0 ≤ s + 0 by omega)⟩ ?_
    refine r_if_eq (pc := 38) (tgt := 83) dX9_minutes_38 (by decide) ?_ ?_
    · refine r_widen (u' := (7, 49)) ⟨(show c + 0 ≤ 7 by omega), (show s + 0 ≤ 49 by omega)⟩ ?_
      exact s_X9_minutes_83  _ _ _
    refine r_bipush (v := (10 : Int32)) (pc := 41) dX9_minutes_41 (by decide) ?_
    refine r_iload_n (pc := 43) dX9_minutes_43 rfl ?_
    refine r_imul (pc := 44) dX9_minutes_44 ?_
    refine r_aload_n (pc := 45) dX9_minutes_45 rfl ?_
    refine r_getR (pc := 46)  gf_X9_18 dX9_minutes_46 (fun v46 => ?_)
    refine r_aload_n (pc := 49) dX9_minutes_49 rfl ?_
    refine r_getI (pc := 50)  gf_X9_22 dX9_minutes_50 (fun v50 => ?_)
    refine r_callF_P (st := [.inl ((10 : Int32) * x1)]) (vs := [.inl v50]) (pc := 53)  ct_J4_charAt hc_8 cf_X9_32 rfl rfl (Nat.le_of_ble_eq_true rfl) ⟨by decide +kernel, (show c + 0 + 0 ≤ 8 by omega), (show s + 0 + 0 ≤ 56 by omega)⟩ dX9_minutes_53 (fun v53 => ?_)
    refine r_widen (u' := (c + 0, s + 0)) ⟨(show c + 0 + 0 ≤ c + 0 by omega), (show s + 0 + 0 ≤ s + 0 by omega)⟩ ?_
    refine r_iadd (pc := 58) dX9_minutes_58 ?_
    refine r_bipush (v := (48 : Int32)) (pc := 59) dX9_minutes_59 (by decide) ?_
    refine r_isub (pc := 61) dX9_minutes_61 ?_
    refine r_sipush (v := (500 : Int32)) (pc := 62) dX9_minutes_62 (by decide) ?_
    refine r_icmp_gt (pc := 65) (tgt := 83) dX9_minutes_65 (by decide) ?_ ?_
    · refine r_widen (u' := (7, 49)) ⟨(show c + 0 ≤ 7 by omega), (show s + 0 ≤ 49 by omega)⟩ ?_
      exact s_X9_minutes_83  _ _ _
    refine r_bipush (v := (10 : Int32)) (pc := 68) dX9_minutes_68 (by decide) ?_
    refine r_iload_n (pc := 70) dX9_minutes_70 rfl ?_
    refine r_imul (pc := 71) dX9_minutes_71 ?_
    refine r_aload_n (pc := 72) dX9_minutes_72 rfl ?_
    refine r_bipush (v := (9 : Int32)) (pc := 73) dX9_minutes_73 (by decide) ?_
    refine r_callV_XI (st := [.inl ((10 : Int32) * x1)]) (vs := [.inl (9 : Int32)]) (pc := 75)  ct_X9_digit hc_5 cf_X9_49 rfl rfl (Nat.le_of_ble_eq_true rfl) ⟨by decide +kernel, (show c + 0 + 1 ≤ 8 by omega), (show s + 0 + 7 ≤ 56 by omega)⟩ dX9_minutes_75 (fun q75 m75 => ?_) (fun v75 m75 => ?_)
    · refine x_widen (u' := (c + 1, s + 7)) ⟨(show c + 0 + 1 ≤ c + 1 by omega), (show s + 0 + 7 ≤ s + 7 by omega)⟩ ?_
      exact x_outI (by decide) ⟨(show c + 1 ≤ 8 by omega), (show s + 7 ≤ 56 by omega)⟩
    refine r_widen (u' := (c + 1, s + 7)) ⟨(show c + 0 + 1 ≤ c + 1 by omega), (show s + 0 + 7 ≤ s + 7 by omega)⟩ ?_
    refine r_iadd (pc := 78) dX9_minutes_78 ?_
    refine r_istore_n (pc := 79) dX9_minutes_79 (by decide) rfl ?_
    refine r_goto (tgt := 30) (pc := 80) dX9_minutes_80 (by decide) ?_
    refine r_widen (u' := (c + 1, s + 7)) ⟨(show c + 1 ≤ c + 1 by omega), (show s + 7 ≤ s + 7 by omega)⟩ ?_
    exact ih (c + 1) (s + 7) (by omega) (by omega) _ _ _
noncomputable def f_X9_minutes (r0 : QR) (M : QM) : Option ((Int32 ⊕ QN) × QM) :=
  (qrc M r0 [5] (f_X9_isNext r0 (49 : Int32) (57 : Int32) M)).bind fun v5 => 
    if v5 = 0 then ((nO M (M.1, 0) (.inr (.inr (.inr (some (12, fs_12)))))).bind fun m11 => 
      (gI m11 r0 [(5, 2)]).bind fun v16 => 
      (qnn (some (M.1, 0)) (f_X10_init (some (M.1, 0)) v16 m11)).bind fun m19 => 
      qthr m19 (some (M.1, 0)) fun q22 => some (.inr q22, m19))
    else qbXI (qrc M r0 [5] (f_X9_digit r0 (9 : Int32) M)) (fun q26 m26 => some (.inr q26, m26)) fun v26 m26 => 
    f_X9_minutes_30 6 r0 v26 m26
theorem s_X9_minutes {l : Launch} {M0 : QM} {r0 : QR} {M : QM} : SB eXI l kX9_minutes M0 (f_X9_minutes r0 M) (0, 0) 0 M [some (.inr r0), none] [] := by
  unfold f_X9_minutes
  refine r_aload_n (pc := 0) dX9_minutes_0 rfl ?_
  refine r_bipush (v := (49 : Int32)) (pc := 1) dX9_minutes_1 (by decide) ?_
  refine r_bipush (v := (57 : Int32)) (pc := 3) dX9_minutes_3 (by decide) ?_
  refine r_callV_P (st := []) (vs := [.inl (49 : Int32), .inl (57 : Int32)]) (pc := 5)  ct_X9_isNext hc_5 cf_X9_40 rfl rfl (Nat.le_of_ble_eq_true rfl) (by decide +kernel) dX9_minutes_5 (fun v5 => ?_)
  refine r_widen (u' := (0, 0)) (by decide +kernel) ?_
  refine r_if_ne (pc := 8) (tgt := 23) dX9_minutes_8 (by decide) ?_ ?_
  · refine r_aload_n (pc := 23) dX9_minutes_23 rfl ?_
    refine r_bipush (v := (9 : Int32)) (pc := 24) dX9_minutes_24 (by decide) ?_
    refine r_callV_XI (st := []) (vs := [.inl (9 : Int32)]) (pc := 26)  ct_X9_digit hc_5 cf_X9_49 rfl rfl (Nat.le_of_ble_eq_true rfl) (by decide +kernel) dX9_minutes_26 (fun q26 m26 => ?_) (fun v26 m26 => ?_)
    · refine x_widen (u' := (1, 7)) (by decide +kernel) ?_
      exact x_outI (by decide) (by decide +kernel)
    refine r_widen (u' := (1, 7)) (by decide +kernel) ?_
    refine r_istore_n (pc := 29) dX9_minutes_29 (by decide) rfl ?_
    refine r_widen (u' := (1, 7)) (by decide +kernel) ?_
    exact s_X9_minutes_30  6 1 7 (by decide +kernel) (by decide +kernel) _ _ _
  refine r_newF (pc := 11)  nf_X9_44 (by decide +kernel) dX9_minutes_11 (fun m11 => ?_)
  refine r_widen (u' := (1, 7)) (by decide +kernel) ?_
  refine r_dup (pc := 14) dX9_minutes_14 ?_
  refine r_aload_n (pc := 15) dX9_minutes_15 rfl ?_
  refine r_getI (pc := 16)  gf_X9_22 dX9_minutes_16 (fun v16 => ?_)
  refine r_callI_V (st := [.inr (some (M.1, 0))]) (vs := [.inl v16]) (pc := 19)  ct_X10_init cf_X9_46 rfl rfl (Nat.le_of_ble_eq_true rfl) (by decide +kernel) dX9_minutes_19 (fun m19 => ?_)
  refine r_widen (u' := (1, 7)) (by decide +kernel) ?_
  refine r_athrow (pc := 22) dX9_minutes_22 (fun q22 => ?_)
  exact x_outI (by decide) (by decide +kernel)
theorem ct_X9_minutes {l : Launch} {r0 : QR} {M : QM} : ∀ b, f_X9_minutes r0 M = some b → PM l yX9_minutes (ws_ yX9_minutes cX9_minutes 2 (some .int)) rmX9_minutes [.inr r0] M (eXI b).1 (eXI b).2 := fun b hb =>
  PM.of (own := RX9) rfl (by decide +kernel) (Nat.le_of_ble_eq_true rfl) false (fun h => nomatch h) (s_X9_minutes b hb)
/-! X9_command: BarnPictures$Reader.command()LBarnPictures$Command;, kind XR -/
abbrev rmX9_command : Room := ({ frames := 9, cells := 11, slots := 73, locals := 152 })
abbrev kX9_command : QK := (RX9, cX9_command, 3, (some (.object "BarnPictures$Command")), [], false, rmX9_command)
noncomputable def f_X9_command_114 (r0 : QR) (x1 : Int32) (s0 : Int32) (M : QM) : Option ((QR ⊕ QN) × QM) :=
  if x1 = (102 : Int32) then (qbXV (qrc M r0 [5] (f_X9_take r0 (58 : Int32) M)) (fun q135 m135 => some (.inr q135, m135)) fun m135 => 
      (nO m135 (m135.1, 0) (.inl (6, fs_6))).bind fun m138 => 
      qbXI (qrc m138 r0 [5] (f_X9_minutes r0 m138)) (fun q145 m145 => some (.inr q145, m145)) fun v145 m145 => 
      (qnn (some (m135.1, 0)) (f_X11_init (some (m135.1, 0)) x1 s0 v145 m145)).bind fun m148 => 
      some (.inl (some (m135.1, 0)), m148))
    else (nO M (M.1, 0) (.inl (6, fs_6))).bind fun m121 => 
    (qnn (some (M.1, 0)) (f_X11_init (some (M.1, 0)) x1 s0 (0 : Int32) m121)).bind fun m128 => 
    some (.inl (some (M.1, 0)), m128)
theorem s_X9_command_114 {l : Launch} {M0 : QM} : ∀ (r0 : QR) (x1 : Int32) (s0 : Int32) (d2 : Option QV) (M : QM) , SB eXR l kX9_command M0 (f_X9_command_114 r0 x1 s0 M) (1, 7) 114 M [some (.inr r0), some (.inl x1), d2] [.inl s0] := by
  intro r0 x1 s0 d2 M
  unfold f_X9_command_114
  refine r_istore_n (pc := 114) dX9_command_114 (by decide) rfl ?_
  refine r_iload_n (pc := 115) dX9_command_115 rfl ?_
  refine r_bipush (v := (102 : Int32)) (pc := 116) dX9_command_116 (by decide) ?_
  refine r_icmp_eq (pc := 118) (tgt := 132) dX9_command_118 (by decide) ?_ ?_
  · refine r_aload_n (pc := 132) dX9_command_132 rfl ?_
    refine r_bipush (v := (58 : Int32)) (pc := 133) dX9_command_133 (by decide) ?_
    refine r_callV_XV (st := []) (vs := [.inl (58 : Int32)]) (pc := 135)  ct_X9_take hc_5 cf_X9_65 rfl rfl (Nat.le_of_ble_eq_true rfl) (by decide +kernel) dX9_command_135 (fun q135 m135 => ?_) (fun m135 => ?_)
    · refine x_widen (u' := (2, 14)) (by decide +kernel) ?_
      exact x_outR (by decide) (by decide +kernel)
    refine r_widen (u' := (2, 14)) (by decide +kernel) ?_
    refine r_new (pc := 138)  nf_X9_60 (by decide +kernel) dX9_command_138 (fun m138 => ?_)
    refine r_widen (u' := (3, 17)) (by decide +kernel) ?_
    refine r_dup (pc := 141) dX9_command_141 ?_
    refine r_iload_n (pc := 142) dX9_command_142 rfl ?_
    refine r_iload_n (pc := 143) dX9_command_143 rfl ?_
    refine r_aload_n (pc := 144) dX9_command_144 rfl ?_
    refine r_callV_XI (st := [.inl s0, .inl x1, .inr (some (m135.1, 0)), .inr (some (m135.1, 0))]) (vs := []) (pc := 145)  ct_X9_minutes hc_5 cf_X9_69 rfl rfl (Nat.le_of_ble_eq_true rfl) (by decide +kernel) dX9_command_145 (fun q145 m145 => ?_) (fun v145 m145 => ?_)
    · refine x_widen (u' := (11, 73)) (by decide +kernel) ?_
      exact x_outR (by decide) (by decide +kernel)
    refine r_widen (u' := (11, 73)) (by decide +kernel) ?_
    refine r_callI_V (st := [.inr (some (m135.1, 0))]) (vs := [.inl x1, .inl s0, .inl v145]) (pc := 148)  ct_X11_init cf_X9_62 rfl rfl (Nat.le_of_ble_eq_true rfl) (by decide +kernel) dX9_command_148 (fun m148 => ?_)
    refine r_widen (u' := (11, 73)) (by decide +kernel) ?_
    exact r_aretX (pc := 151) dX9_command_151 rfl (Or.inl ⟨_, rfl⟩) (by decide +kernel)
  refine r_new (pc := 121)  nf_X9_60 (by decide +kernel) dX9_command_121 (fun m121 => ?_)
  refine r_widen (u' := (2, 10)) (by decide +kernel) ?_
  refine r_dup (pc := 124) dX9_command_124 ?_
  refine r_iload_n (pc := 125) dX9_command_125 rfl ?_
  refine r_iload_n (pc := 126) dX9_command_126 rfl ?_
  refine r_iconst (v := (0 : Int32)) (pc := 127) dX9_command_127 (by decide) ?_
  refine r_callI_V (st := [.inr (some (M.1, 0))]) (vs := [.inl x1, .inl s0, .inl (0 : Int32)]) (pc := 128)  ct_X11_init cf_X9_62 rfl rfl (Nat.le_of_ble_eq_true rfl) (by decide +kernel) dX9_command_128 (fun m128 => ?_)
  refine r_widen (u' := (2, 10)) (by decide +kernel) ?_
  exact r_aretX (pc := 131) dX9_command_131 rfl (Or.inl ⟨_, rfl⟩) (by decide +kernel)
noncomputable def f_X9_command_111 (r0 : QR) (x1 : Int32) (s0 : QR) (s1 : Int32) (M : QM) : Option ((QR ⊕ QN) × QM) :=
  qbXI (qrc M s0 [5] (f_X9_digit s0 s1 M)) (fun q111 m111 => some (.inr q111, m111)) fun v111 m111 => 
    f_X9_command_114 r0 x1 v111 m111
theorem s_X9_command_111 {l : Launch} {M0 : QM} : ∀ (r0 : QR) (x1 : Int32) (s0 : QR) (s1 : Int32) (d2 : Option QV) (M : QM) , SB eXR l kX9_command M0 (f_X9_command_111 r0 x1 s0 s1 M) (0, 0) 111 M [some (.inr r0), some (.inl x1), d2] [.inl s1, .inr s0] := by
  intro r0 x1 s0 s1 d2 M
  unfold f_X9_command_111
  refine r_callV_XI (st := []) (vs := [.inl s1]) (pc := 111)  ct_X9_digit hc_5 cf_X9_49 rfl rfl (Nat.le_of_ble_eq_true rfl) (by decide +kernel) dX9_command_111 (fun q111 m111 => ?_) (fun v111 m111 => ?_)
  · refine x_widen (u' := (1, 7)) (by decide +kernel) ?_
    exact x_outR (by decide) (by decide +kernel)
  refine r_widen (u' := (1, 7)) (by decide +kernel) ?_
  exact s_X9_command_114  _ _ _ _ _
noncomputable def f_X9_command_34 (r0 : QR) (s0 : Int32) (M : QM) : Option ((QR ⊕ QN) × QM) :=
  (qrs (some (0, 2)) (f_J5_indexOf (some (0, 2)) s0 M)).bind fun v38 => 
    if 0 ≤ v38 then ((gI M r0 [(5, 2)]).bind fun v58 => 
      (pF M r0 [(5, 2)] (.inl (v58 + (1 : Int32)))).bind fun m63 => 
      if s0 = (115 : Int32) then (f_X9_command_114 r0 s0 (0 : Int32) m63)
      else if s0 = (100 : Int32) then (f_X9_command_114 r0 s0 (0 : Int32) m63)
      else f_X9_command_111 r0 s0 r0 (if s0 = (118 : Int32) then (4 : Int32) else (if s0 = (103 : Int32) then (1 : Int32) else (if s0 = (102 : Int32) then (1 : Int32) else (9 : Int32)))) m63)
    else (nO M (M.1, 0) (.inr (.inr (.inr (some (12, fs_12)))))).bind fun m44 => 
    (gI m44 r0 [(5, 2)]).bind fun v49 => 
    (qnn (some (M.1, 0)) (f_X10_init (some (M.1, 0)) v49 m44)).bind fun m52 => 
    qthr m52 (some (M.1, 0)) fun q55 => some (.inr q55, m52)
theorem s_X9_command_34 {l : Launch} {M0 : QM} : ∀ (r0 : QR) (s0 : Int32) (d1 : Option QV) (d2 : Option QV) (M : QM) , SB eXR l kX9_command M0 (f_X9_command_34 r0 s0 M) (0, 0) 34 M [some (.inr r0), d1, d2] [.inl s0] := by
  intro r0 s0 d1 d2 M
  unfold f_X9_command_34
  refine r_istore_n (pc := 34) dX9_command_34 (by decide) rfl ?_
  refine r_ldcS (pc := 35) rfl rfl dX9_command_35 ?_
  refine r_iload_n (pc := 37) dX9_command_37 rfl ?_
  refine r_callStr_P (st := []) (vs := [.inl s0]) (pc := 38)  ct_J5_indexOf cf_X9_55 rfl rfl (Nat.le_of_ble_eq_true rfl) (by decide +kernel) dX9_command_38 (fun v38 => ?_)
  refine r_widen (u' := (0, 0)) (by decide +kernel) ?_
  refine r_if_ge (pc := 41) (tgt := 56) dX9_command_41 (by decide) ?_ ?_
  · refine r_aload_n (pc := 56) dX9_command_56 rfl ?_
    refine r_dup (pc := 57) dX9_command_57 ?_
    refine r_getI (pc := 58)  gf_X9_22 dX9_command_58 (fun v58 => ?_)
    refine r_iconst (v := (1 : Int32)) (pc := 61) dX9_command_61 (by decide) ?_
    refine r_iadd (pc := 62) dX9_command_62 ?_
    refine r_put (pc := 63)  pf_X9_22 (fun h => nomatch h) (fit_int _) dX9_command_63 (fun m63 => ?_)
    refine r_iload_n (pc := 66) dX9_command_66 rfl ?_
    refine r_bipush (v := (115 : Int32)) (pc := 67) dX9_command_67 (by decide) ?_
    refine r_icmp_eq (pc := 69) (tgt := 78) dX9_command_69 (by decide) ?_ ?_
    · refine r_iconst (v := (0 : Int32)) (pc := 78) dX9_command_78 (by decide) ?_
      refine r_goto (tgt := 114) (pc := 79) dX9_command_79 (by decide) ?_
      refine r_widen (u' := (1, 7)) (by decide +kernel) ?_
      exact s_X9_command_114  _ _ _ _ _
    refine r_iload_n (pc := 72) dX9_command_72 rfl ?_
    refine r_bipush (v := (100 : Int32)) (pc := 73) dX9_command_73 (by decide) ?_
    refine r_icmp_ne (pc := 75) (tgt := 82) dX9_command_75 (by decide) ?_ ?_
    · refine r_aload_n (pc := 82) dX9_command_82 rfl ?_
      refine r_iload_n (pc := 83) dX9_command_83 rfl ?_
      refine r_bipush (v := (118 : Int32)) (pc := 84) dX9_command_84 (by decide) ?_
      refine r_icmp_neF (F := (fun (z9 : Int32) => f_X9_command_111 r0 s0 r0 z9 m63)) (zA := (4 : Int32)) (zB := (if s0 = (103 : Int32) then (1 : Int32) else (if s0 = (102 : Int32) then (1 : Int32) else (9 : Int32)))) (pc := 86) (tgt := 93) dX9_command_86 (by decide) ?_ ?_
      · refine r_iload_n (pc := 93) dX9_command_93 rfl ?_
        refine r_bipush (v := (103 : Int32)) (pc := 94) dX9_command_94 (by decide) ?_
        refine r_icmp_eqF (F := (fun (z9 : Int32) => f_X9_command_111 r0 s0 r0 z9 m63)) (zA := (1 : Int32)) (zB := (if s0 = (102 : Int32) then (1 : Int32) else (9 : Int32))) (pc := 96) (tgt := 105) dX9_command_96 (by decide) ?_ ?_
        · refine r_iconst (v := (1 : Int32)) (pc := 105) dX9_command_105 (by decide) ?_
          refine r_goto (tgt := 111) (pc := 106) dX9_command_106 (by decide) ?_
          exact s_X9_command_111  _ _ _ _ _ _
        refine r_iload_n (pc := 99) dX9_command_99 rfl ?_
        refine r_bipush (v := (102 : Int32)) (pc := 100) dX9_command_100 (by decide) ?_
        refine r_icmp_neF (F := (fun (z9 : Int32) => f_X9_command_111 r0 s0 r0 z9 m63)) (zA := (1 : Int32)) (zB := (9 : Int32)) (pc := 102) (tgt := 109) dX9_command_102 (by decide) ?_ ?_
        · refine r_bipush (v := (9 : Int32)) (pc := 109) dX9_command_109 (by decide) ?_
          exact s_X9_command_111  _ _ _ _ _ _
        refine r_iconst (v := (1 : Int32)) (pc := 105) dX9_command_105 (by decide) ?_
        refine r_goto (tgt := 111) (pc := 106) dX9_command_106 (by decide) ?_
        exact s_X9_command_111  _ _ _ _ _ _
      refine r_iconst (v := (4 : Int32)) (pc := 89) dX9_command_89 (by decide) ?_
      refine r_goto (tgt := 111) (pc := 90) dX9_command_90 (by decide) ?_
      exact s_X9_command_111  _ _ _ _ _ _
    refine r_iconst (v := (0 : Int32)) (pc := 78) dX9_command_78 (by decide) ?_
    refine r_goto (tgt := 114) (pc := 79) dX9_command_79 (by decide) ?_
    refine r_widen (u' := (1, 7)) (by decide +kernel) ?_
    exact s_X9_command_114  _ _ _ _ _
  refine r_newF (pc := 44)  nf_X9_44 (by decide +kernel) dX9_command_44 (fun m44 => ?_)
  refine r_widen (u' := (1, 7)) (by decide +kernel) ?_
  refine r_dup (pc := 47) dX9_command_47 ?_
  refine r_aload_n (pc := 48) dX9_command_48 rfl ?_
  refine r_getI (pc := 49)  gf_X9_22 dX9_command_49 (fun v49 => ?_)
  refine r_callI_V (st := [.inr (some (M.1, 0))]) (vs := [.inl v49]) (pc := 52)  ct_X10_init cf_X9_46 rfl rfl (Nat.le_of_ble_eq_true rfl) (by decide +kernel) dX9_command_52 (fun m52 => ?_)
  refine r_widen (u' := (1, 7)) (by decide +kernel) ?_
  refine r_athrow (pc := 55) dX9_command_55 (fun q55 => ?_)
  exact x_outR (by decide) (by decide +kernel)
noncomputable def f_X9_command (r0 : QR) (M : QM) : Option ((QR ⊕ QN) × QM) :=
  (gI M r0 [(5, 2)]).bind fun v1 => 
    (gR M r0 [(5, 0)]).bind fun v5 => 
    (qrc M v5 [8] (f_J4_length v5 M)).bind fun v8 => 
    if v8 ≤ v1 then (f_X9_command_34 r0 (32 : Int32) M)
    else (gR M r0 [(5, 0)]).bind fun v17 => 
    (gI M r0 [(5, 2)]).bind fun v21 => 
    (qrc M v17 [8] (f_J4_charAt v17 v21 M)).bind fun v24 => 
    f_X9_command_34 r0 v24 M
theorem s_X9_command {l : Launch} {M0 : QM} {r0 : QR} {M : QM} : SB eXR l kX9_command M0 (f_X9_command r0 M) (0, 0) 0 M [some (.inr r0), none, none] [] := by
  unfold f_X9_command
  refine r_aload_n (pc := 0) dX9_command_0 rfl ?_
  refine r_getI (pc := 1)  gf_X9_22 dX9_command_1 (fun v1 => ?_)
  refine r_aload_n (pc := 4) dX9_command_4 rfl ?_
  refine r_getR (pc := 5)  gf_X9_18 dX9_command_5 (fun v5 => ?_)
  refine r_callF_P (st := [.inl v1]) (vs := []) (pc := 8)  ct_J4_length hc_8 cf_X9_26 rfl rfl (Nat.le_of_ble_eq_true rfl) (by decide +kernel) dX9_command_8 (fun v8 => ?_)
  refine r_widen (u' := (0, 0)) (by decide +kernel) ?_
  refine r_icmp_ge (pc := 13) (tgt := 32) dX9_command_13 (by decide) ?_ ?_
  · refine r_bipush (v := (32 : Int32)) (pc := 32) dX9_command_32 (by decide) ?_
    exact s_X9_command_34  _ _ _ _ _
  refine r_aload_n (pc := 16) dX9_command_16 rfl ?_
  refine r_getR (pc := 17)  gf_X9_18 dX9_command_17 (fun v17 => ?_)
  refine r_aload_n (pc := 20) dX9_command_20 rfl ?_
  refine r_getI (pc := 21)  gf_X9_22 dX9_command_21 (fun v21 => ?_)
  refine r_callF_P (st := []) (vs := [.inl v21]) (pc := 24)  ct_J4_charAt hc_8 cf_X9_32 rfl rfl (Nat.le_of_ble_eq_true rfl) (by decide +kernel) dX9_command_24 (fun v24 => ?_)
  refine r_widen (u' := (0, 0)) (by decide +kernel) ?_
  refine r_goto (tgt := 34) (pc := 29) dX9_command_29 (by decide) ?_
  exact s_X9_command_34  _ _ _ _ _
theorem ct_X9_command {l : Launch} {r0 : QR} {M : QM} : ∀ b, f_X9_command r0 M = some b → PM l yX9_command (ws_ yX9_command cX9_command 3 (some (.object "BarnPictures$Command"))) rmX9_command [.inr r0] M (eXR b).1 (eXR b).2 := fun b hb =>
  PM.of (own := RX9) rfl (by decide +kernel) (Nat.le_of_ble_eq_true rfl) false (fun h => nomatch h) (s_X9_command b hb)
/-! X9_read: BarnPictures$Reader.read()V, kind XV -/
abbrev rmX9_read : Room := ({ frames := 10, cells := 558, slots := 6185, locals := 174 })
abbrev kX9_read : QK := (RX9, cX9_read, 1, none, [], false, rmX9_read)
noncomputable def f_X9_read_14 : Nat → QR → QM → Option ((Unit ⊕ QN) × QM)
  | 0, _, _ => none
  | n + 1, r0, M =>
    (gI M r0 [(5, 2)]).bind fun v15 => 
    (gR M r0 [(5, 0)]).bind fun v19 => 
    (qrc M v19 [8] (f_J4_length v19 M)).bind fun v22 => 
    if v22 ≤ v15 then (some (.inl (), M))
    else qbXV (qrc M r0 [5] (f_X9_take r0 (44 : Int32) M)) (fun q33 m33 => some (.inr q33, m33)) fun m33 => 
    (gR m33 r0 [(5, 1)]).bind fun v37 => 
    qbXR (qrc m33 r0 [5] (f_X9_command r0 m33)) (fun q41 m41 => some (.inr q41, m41)) fun v41 m41 => 
    qbI (qrc m41 v37 [7] (f_J2_add v37 v41 m41)) fun v44 m44 => 
    f_X9_read_14 n r0 m44
theorem s_X9_read_14 {l : Launch} {M0 : QM} : ∀ (n c s : Nat), c + 13 * n ≤ 558 → s + 144 * n ≤ 6185 → ∀ (r0 : QR) (M : QM) , SB eXV l kX9_read M0 (f_X9_read_14 n r0 M) (c, s) 14 M [some (.inr r0)] [] := by
  intro n
  induction n with
  | zero => intros; rw [f_X9_read_14]; exact r_none
  | succ n ih =>
    intro c s hc hs r0  M
    have hc1 : c + 13 ≤ 558 := by omega
    have hs1 : s + 144 ≤ 6185 := by omega
    rw [f_X9_read_14]
    refine r_widen (u' := (c + 0, s + 0)) ⟨(show c ≤ c + 0 by omega), (show s ≤ s + 0 by omega)⟩ ?_
    refine r_aload_n (pc := 14) dX9_read_14 rfl ?_
    refine r_getI (pc := 15)  gf_X9_22 dX9_read_15 (fun v15 => ?_)
    refine r_aload_n (pc := 18) dX9_read_18 rfl ?_
    refine r_getR (pc := 19)  gf_X9_18 dX9_read_19 (fun v19 => ?_)
    refine r_callF_P (st := [.inl v15]) (vs := []) (pc := 22)  ct_J4_length hc_8 cf_X9_26 rfl rfl (Nat.le_of_ble_eq_true rfl) ⟨by decide +kernel, (show c + 0 + 0 ≤ 558 by omega), (show s + 0 + 0 ≤ 6185 by omega)⟩ dX9_read_22 (fun v22 => ?_)
    refine r_widen (u' := (c + 0, s + 0)) ⟨(show c + 0 + 0 ≤ c + 0 by omega), (show s + 0 + 0 ≤ s + 0 by omega)⟩ ?_
    refine r_icmp_ge (pc := 27) (tgt := 53) dX9_read_27 (by decide) ?_ ?_
    · exact r_vretX (pc := 53) dX9_read_53 rfl ⟨(show c + 0 ≤ 558 by omega), (show s + 0 ≤ 6185 by omega)⟩
    refine r_aload_n (pc := 30) dX9_read_30 rfl ?_
    refine r_bipush (v := (44 : Int32)) (pc := 31) dX9_read_31 (by decide) ?_
    refine r_callV_XV (st := []) (vs := [.inl (44 : Int32)]) (pc := 33)  ct_X9_take hc_5 cf_X9_65 rfl rfl (Nat.le_of_ble_eq_true rfl) ⟨by decide +kernel, (show c + 0 + 1 ≤ 558 by omega), (show s + 0 + 7 ≤ 6185 by omega)⟩ dX9_read_33 (fun q33 m33 => ?_) (fun m33 => ?_)
    · refine x_widen (u' := (c + 1, s + 7)) ⟨(show c + 0 + 1 ≤ c + 1 by omega), (show s + 0 + 7 ≤ s + 7 by omega)⟩ ?_
      exact x_outV (by decide) ⟨(show c + 1 ≤ 558 by omega), (show s + 7 ≤ 6185 by omega)⟩
    refine r_widen (u' := (c + 1, s + 7)) ⟨(show c + 0 + 1 ≤ c + 1 by omega), (show s + 0 + 7 ≤ s + 7 by omega)⟩ ?_
    refine r_aload_n (pc := 36) dX9_read_36 rfl ?_
    refine r_getR (pc := 37)  gf_X9_12 dX9_read_37 (fun v37 => ?_)
    refine r_aload_n (pc := 40) dX9_read_40 rfl ?_
    refine r_callV_XR (st := [.inr v37]) (vs := []) (pc := 41)  ct_X9_command hc_5 cf_X9_72 rfl rfl (Nat.le_of_ble_eq_true rfl) ⟨by decide +kernel, (show c + 1 + 11 ≤ 558 by omega), (show s + 7 + 73 ≤ 6185 by omega)⟩ dX9_read_41 (fun q41 m41 => ?_) (fun v41 m41 => ?_)
    · refine x_widen (u' := (c + 12, s + 80)) ⟨(show c + 1 + 11 ≤ c + 12 by omega), (show s + 7 + 73 ≤ s + 80 by omega)⟩ ?_
      exact x_outV (by decide) ⟨(show c + 12 ≤ 558 by omega), (show s + 80 ≤ 6185 by omega)⟩
    refine r_widen (u' := (c + 12, s + 80)) ⟨(show c + 1 + 11 ≤ c + 12 by omega), (show s + 7 + 73 ≤ s + 80 by omega)⟩ ?_
    refine r_callF_I (st := []) (vs := [.inr v41]) (pc := 44)  ct_J2_add hc_7 cf_X9_76 rfl rfl (Nat.le_of_ble_eq_true rfl) ⟨by decide +kernel, (show c + 12 + 1 ≤ 558 by omega), (show s + 80 + 64 ≤ 6185 by omega)⟩ dX9_read_44 (fun v44 m44 => ?_)
    refine r_widen (u' := (c + 13, s + 144)) ⟨(show c + 12 + 1 ≤ c + 13 by omega), (show s + 80 + 64 ≤ s + 144 by omega)⟩ ?_
    refine r_pop (pc := 49) dX9_read_49 ?_
    refine r_goto (tgt := 14) (pc := 50) dX9_read_50 (by decide) ?_
    refine r_widen (u' := (c + 13, s + 144)) ⟨(show c + 13 ≤ c + 13 by omega), (show s + 144 ≤ s + 144 by omega)⟩ ?_
    exact ih (c + 13) (s + 144) (by omega) (by omega) _ _
noncomputable def f_X9_read (r0 : QR) (M : QM) : Option ((Unit ⊕ QN) × QM) :=
  (gR M r0 [(5, 1)]).bind fun v1 => 
    qbXR (qrc M r0 [5] (f_X9_command r0 M)) (fun q5 m5 => some (.inr q5, m5)) fun v5 m5 => 
    qbI (qrc m5 v1 [7] (f_J2_add v1 v5 m5)) fun v8 m8 => 
    f_X9_read_14 42 r0 m8
theorem s_X9_read {l : Launch} {M0 : QM} {r0 : QR} {M : QM} : SB eXV l kX9_read M0 (f_X9_read r0 M) (0, 0) 0 M [some (.inr r0)] [] := by
  unfold f_X9_read
  refine r_aload_n (pc := 0) dX9_read_0 rfl ?_
  refine r_getR (pc := 1)  gf_X9_12 dX9_read_1 (fun v1 => ?_)
  refine r_aload_n (pc := 4) dX9_read_4 rfl ?_
  refine r_callV_XR (st := [.inr v1]) (vs := []) (pc := 5)  ct_X9_command hc_5 cf_X9_72 rfl rfl (Nat.le_of_ble_eq_true rfl) (by decide +kernel) dX9_read_5 (fun q5 m5 => ?_) (fun v5 m5 => ?_)
  · refine x_widen (u' := (11, 73)) (by decide +kernel) ?_
    exact x_outV (by decide) (by decide +kernel)
  refine r_widen (u' := (11, 73)) (by decide +kernel) ?_
  refine r_callF_I (st := []) (vs := [.inr v5]) (pc := 8)  ct_J2_add hc_7 cf_X9_76 rfl rfl (Nat.le_of_ble_eq_true rfl) (by decide +kernel) dX9_read_8 (fun v8 m8 => ?_)
  refine r_widen (u' := (12, 137)) (by decide +kernel) ?_
  refine r_pop (pc := 13) dX9_read_13 ?_
  refine r_widen (u' := (12, 137)) (by decide +kernel) ?_
  exact s_X9_read_14  42 12 137 (by decide +kernel) (by decide +kernel) _ _
theorem ct_X9_read {l : Launch} {r0 : QR} {M : QM} : ∀ b, f_X9_read r0 M = some b → PM l yX9_read (ws_ yX9_read cX9_read 1 none) rmX9_read [.inr r0] M (eXV b).1 (eXV b).2 := fun b hb =>
  PM.of (own := RX9) rfl (by decide +kernel) (Nat.le_of_ble_eq_true rfl) false (fun h => nomatch h) (s_X9_read b hb)
/-! J2_elementData: java/util/ArrayList.elementData(I)Ljava/lang/Object;, kind O -/
abbrev rmJ2_elementData : Room := ({ frames := 0, cells := 0, slots := 0, locals := 0 })
abbrev kJ2_elementData : QK := (RJ2, cJ2_elementData, 2, (some (.object "java/lang/Object")), [], false, rmJ2_elementData)
noncomputable def f_J2_elementData (r0 : QR) (x1 : Int32) (M : QM) : Option (QR) :=
  (gR M r0 [(7, 1)]).bind fun v1 => 
    (aR M v1 x1).bind fun v5 => 
    some v5
theorem s_J2_elementData {l : Launch} {r0 : QR} {x1 : Int32} {M : QM} : SB (eO M) l kJ2_elementData M (f_J2_elementData r0 x1 M) (0, 0) 0 M [some (.inr r0), some (.inl x1)] [] := by
  unfold f_J2_elementData
  refine r_aload_n (pc := 0) dJ2_elementData_0 rfl ?_
  refine r_getR (pc := 1)  gf_J2_9 dJ2_elementData_1 (fun v1 => ?_)
  refine r_iload_n (pc := 4) dJ2_elementData_4 rfl ?_
  refine r_aald (pc := 5) dJ2_elementData_5 (fun v5 => ?_)
  exact r_aretO (pc := 6) dJ2_elementData_6 rfl (Or.inl ⟨_, rfl⟩) (by decide +kernel)
theorem ct_J2_elementData {l : Launch} {r0 : QR} {x1 : Int32} {M : QM} : ∀ b, f_J2_elementData r0 x1 M = some b → PM l yJ2_elementData (ws_ yJ2_elementData cJ2_elementData 2 (some (.object "java/lang/Object"))) rmJ2_elementData [.inr r0, .inl x1] M ((eO M) b).1 ((eO M) b).2 := fun b hb =>
  PM.of (own := RJ2) rfl (by decide +kernel) (Nat.le_of_ble_eq_true rfl) false (fun h => nomatch h) (s_J2_elementData b hb)
/-! J2_get: java/util/ArrayList.get(I)Ljava/lang/Object;, kind O -/
abbrev rmJ2_get : Room := ({ frames := 2, cells := 0, slots := 0, locals := 43 })
abbrev kJ2_get : QK := (RJ2, cJ2_get, 2, (some (.object "java/lang/Object")), [], false, rmJ2_get)
noncomputable def f_J2_get (r0 : QR) (x1 : Int32) (M : QM) : Option (QR) :=
  (gI M r0 [(7, 2)]).bind fun v2 => 
    (f_J10_checkIndex x1 v2 M).bind fun v5 => 
    (qrc M r0 [7] (f_J2_elementData r0 x1 M)).bind fun v11 => 
    some v11
theorem s_J2_get {l : Launch} {r0 : QR} {x1 : Int32} {M : QM} : SB (eO M) l kJ2_get M (f_J2_get r0 x1 M) (0, 0) 0 M [some (.inr r0), some (.inl x1)] [] := by
  unfold f_J2_get
  refine r_iload_n (pc := 0) dJ2_get_0 rfl ?_
  refine r_aload_n (pc := 1) dJ2_get_1 rfl ?_
  refine r_getI (pc := 2)  gf_J2_48 dJ2_get_2 (fun v2 => ?_)
  refine r_callS_P (st := []) (vs := [.inl x1, .inl v2]) (pc := 5)  ct_J10_checkIndex cf_J2_118 rfl rfl (Nat.le_of_ble_eq_true rfl) (by decide +kernel) dJ2_get_5 (fun v5 => ?_)
  refine r_widen (u' := (0, 0)) (by decide +kernel) ?_
  refine r_pop (pc := 8) dJ2_get_8 ?_
  refine r_aload_n (pc := 9) dJ2_get_9 rfl ?_
  refine r_iload_n (pc := 10) dJ2_get_10 rfl ?_
  refine r_callV_O (st := []) (vs := [.inl x1]) (pc := 11)  ct_J2_elementData hc_7 cf_J2_123 rfl rfl (Nat.le_of_ble_eq_true rfl) (by decide +kernel) dJ2_get_11 (fun v11 => ?_)
  refine r_widen (u' := (0, 0)) (by decide +kernel) ?_
  exact r_aretO (pc := 14) dJ2_get_14 rfl (Or.inl ⟨_, rfl⟩) (by decide +kernel)
theorem ct_J2_get {l : Launch} {r0 : QR} {x1 : Int32} {M : QM} : ∀ b, f_J2_get r0 x1 M = some b → PM l yJ2_get (ws_ yJ2_get cJ2_get 2 (some (.object "java/lang/Object"))) rmJ2_get [.inr r0, .inl x1] M ((eO M) b).1 ((eO M) b).2 := fun b hb =>
  PM.of (own := RJ2) rfl (by decide +kernel) (Nat.le_of_ble_eq_true rfl) false (fun h => nomatch h) (s_J2_get b hb)
/-! X11_act_2: BarnPictures$Command.act(LBarnPictures$Tour;)V, kind XV -/
abbrev rmX11_act_2 : Room := ({ frames := 11, cells := 12, slots := 62, locals := 197 })
abbrev kX11_act_2 : QK := (RX11, cX11_act_2, 2, none, [], false, rmX11_act_2)
noncomputable def f_X11_act_2_95 (s0 : QR) (s1 : Int32) (s2 : Int32) (M : QM) : Option ((Unit ⊕ QN) × QM) :=
  qbXI (qrc M s0 [1] (f_X1_moveReel s0 s1 s2 M)) (fun q95 m95 => some (.inr q95, m95)) fun v95 m95 => 
    some (.inl (), m95)
theorem s_X11_act_2_95 {l : Launch} {M0 : QM} : ∀ (s0 : QR) (s1 : Int32) (s2 : Int32) (d0 : Option QV) (d1 : Option QV) (M : QM) , SB eXV l kX11_act_2 M0 (f_X11_act_2_95 s0 s1 s2 M) (0, 0) 95 M [d0, d1] [.inl s2, .inl s1, .inr s0] := by
  intro s0 s1 s2 d0 d1 M
  unfold f_X11_act_2_95
  refine r_callV_XI (st := []) (vs := [.inl s1, .inl s2]) (pc := 95)  ct_X1_moveReel hc_1 cf_X11_26 rfl rfl (Nat.le_of_ble_eq_true rfl) (by decide +kernel) dX11_act_2_95 (fun q95 m95 => ?_) (fun v95 m95 => ?_)
  · refine x_widen (u' := (3, 21)) (by decide +kernel) ?_
    exact x_outV (by decide) (by decide +kernel)
  refine r_widen (u' := (3, 21)) (by decide +kernel) ?_
  refine r_pop (pc := 98) dX11_act_2_98 ?_
  refine r_goto (tgt := 167) (pc := 99) dX11_act_2_99 (by decide) ?_
  exact r_vretX (pc := 167) dX11_act_2_167 rfl (by decide +kernel)
noncomputable def f_X11_act_2_76 (r0 : QR) (r1 : QR) (M : QM) : Option ((Unit ⊕ QN) × QM) :=
  (gI M r0 [(6, 1)]).bind fun v78 => 
    (gI M r0 [(6, 0)]).bind fun v82 => 
    f_X11_act_2_95 r1 v78 (if v82 = (43 : Int32) then (1 : Int32) else (0 : Int32)) M
theorem s_X11_act_2_76 {l : Launch} {M0 : QM} : ∀ (r0 : QR) (r1 : QR) (M : QM) , SB eXV l kX11_act_2 M0 (f_X11_act_2_76 r0 r1 M) (0, 0) 76 M [some (.inr r0), some (.inr r1)] [] := by
  intro r0 r1  M
  unfold f_X11_act_2_76
  refine r_aload_n (pc := 76) dX11_act_2_76 rfl ?_
  refine r_aload_n (pc := 77) dX11_act_2_77 rfl ?_
  refine r_getI (pc := 78)  gf_X11_13 dX11_act_2_78 (fun v78 => ?_)
  refine r_aload_n (pc := 81) dX11_act_2_81 rfl ?_
  refine r_getI (pc := 82)  gf_X11_7 dX11_act_2_82 (fun v82 => ?_)
  refine r_bipush (v := (43 : Int32)) (pc := 85) dX11_act_2_85 (by decide) ?_
  refine r_icmp_neF (F := (fun (z9 : Int32) => f_X11_act_2_95 r1 v78 z9 M)) (zA := (1 : Int32)) (zB := (0 : Int32)) (pc := 87) (tgt := 94) dX11_act_2_87 (by decide) ?_ ?_
  · refine r_iconst (v := (0 : Int32)) (pc := 94) dX11_act_2_94 (by decide) ?_
    exact s_X11_act_2_95  _ _ _ _ _ _
  refine r_iconst (v := (1 : Int32)) (pc := 90) dX11_act_2_90 (by decide) ?_
  refine r_goto (tgt := 95) (pc := 91) dX11_act_2_91 (by decide) ?_
  exact s_X11_act_2_95  _ _ _ _ _ _
noncomputable def f_X11_act_2_127 (s0 : QR) (s1 : Int32) (s2 : Int32) (M : QM) : Option ((Unit ⊕ QN) × QM) :=
  qbXI (qrc M s0 [1] (f_X1_moveGenerator s0 s1 s2 M)) (fun q127 m127 => some (.inr q127, m127)) fun v127 m127 => 
    some (.inl (), m127)
theorem s_X11_act_2_127 {l : Launch} {M0 : QM} : ∀ (s0 : QR) (s1 : Int32) (s2 : Int32) (d0 : Option QV) (d1 : Option QV) (M : QM) , SB eXV l kX11_act_2 M0 (f_X11_act_2_127 s0 s1 s2 M) (0, 0) 127 M [d0, d1] [.inl s2, .inl s1, .inr s0] := by
  intro s0 s1 s2 d0 d1 M
  unfold f_X11_act_2_127
  refine r_callV_XI (st := []) (vs := [.inl s1, .inl s2]) (pc := 127)  ct_X1_moveGenerator hc_1 cf_X11_40 rfl rfl (Nat.le_of_ble_eq_true rfl) (by decide +kernel) dX11_act_2_127 (fun q127 m127 => ?_) (fun v127 m127 => ?_)
  · refine x_widen (u' := (3, 21)) (by decide +kernel) ?_
    exact x_outV (by decide) (by decide +kernel)
  refine r_widen (u' := (3, 21)) (by decide +kernel) ?_
  refine r_pop (pc := 130) dX11_act_2_130 ?_
  refine r_goto (tgt := 167) (pc := 131) dX11_act_2_131 (by decide) ?_
  exact r_vretX (pc := 167) dX11_act_2_167 rfl (by decide +kernel)
noncomputable def f_X11_act_2 (r0 : QR) (r1 : QR) (M : QM) : Option ((Unit ⊕ QN) × QM) :=
  (gI M r0 [(6, 0)]).bind fun v1 => 
    if v1 = (43 : Int32) then (f_X11_act_2_76 r0 r1 M)
    else if v1 = (45 : Int32) then (f_X11_act_2_76 r0 r1 M)
    else if v1 = (102 : Int32) then ((gI M r0 [(6, 1)]).bind fun v136 => 
      (gI M r0 [(6, 2)]).bind fun v140 => 
      qbXI (qrc M r1 [1] (f_X1_fuel r1 v136 v140 M)) (fun q143 m143 => some (.inr q143, m143)) fun v143 m143 => 
      some (.inl (), m143))
    else if v1 = (103 : Int32) then ((gI M r0 [(6, 1)]).bind fun v104 => 
      (gR M r1 [(1, 1)]).bind fun v108 => 
      (gI M r0 [(6, 1)]).bind fun v112 => 
      (aR M v108 v112).bind fun v115 => 
      (qrc M v115 [3] (f_X2_isInVan v115 M)).bind fun v116 => 
      f_X11_act_2_127 r1 v104 (if v116 = 0 then (1 : Int32) else (0 : Int32)) M)
    else if v1 = (115 : Int32) then ((gI M r1 [(1, 6)]).bind fun v152 => 
      qbXI (qrc M r1 [1] (f_X1_show r1 v152 M)) (fun q155 m155 => some (.inr q155, m155)) fun v155 m155 => 
      some (.inl (), m155))
    else if v1 = (118 : Int32) then ((gI M r0 [(6, 1)]).bind fun v66 => 
      qbXI (qrc M r1 [1] (f_X1_drive r1 v66 M)) (fun q69 m69 => some (.inr q69, m69)) fun v69 m69 => 
      some (.inl (), m69))
    else qbXI (qrc M r1 [1] (f_X1_nextDay r1 M)) (fun q163 m163 => some (.inr q163, m163)) fun v163 m163 => 
    some (.inl (), m163)
theorem s_X11_act_2 {l : Launch} {M0 : QM} {r0 : QR} {r1 : QR} {M : QM} : SB eXV l kX11_act_2 M0 (f_X11_act_2 r0 r1 M) (0, 0) 0 M [some (.inr r0), some (.inr r1)] [] := by
  unfold f_X11_act_2
  refine r_aload_n (pc := 0) dX11_act_2_0 rfl ?_
  refine r_getI (pc := 1)  gf_X11_7 dX11_act_2_1 (fun v1 => ?_)
  refine r_iteE (fun _ => ?_) (fun e4_0 => ?_)
  · refine r_lookup (pc := 4) (off := 72) (tgt := 76) dX11_act_2_4 (by decide) (by decide) (by decide) ?_
    exact s_X11_act_2_76  _ _ _
  refine r_iteE (fun _ => ?_) (fun e4_1 => ?_)
  · refine r_lookup (pc := 4) (off := 72) (tgt := 76) dX11_act_2_4 (by decide) (by decide) (by decide) ?_
    exact s_X11_act_2_76  _ _ _
  refine r_iteE (fun _ => ?_) (fun e4_2 => ?_)
  · refine r_lookup (pc := 4) (off := 130) (tgt := 134) dX11_act_2_4 (by decide) (by decide) (by decide) ?_
    refine r_aload_n (pc := 134) dX11_act_2_134 rfl ?_
    refine r_aload_n (pc := 135) dX11_act_2_135 rfl ?_
    refine r_getI (pc := 136)  gf_X11_13 dX11_act_2_136 (fun v136 => ?_)
    refine r_aload_n (pc := 139) dX11_act_2_139 rfl ?_
    refine r_getI (pc := 140)  gf_X11_17 dX11_act_2_140 (fun v140 => ?_)
    refine r_callV_XI (st := []) (vs := [.inl v136, .inl v140]) (pc := 143)  ct_X1_fuel hc_1 cf_X11_43 rfl rfl (Nat.le_of_ble_eq_true rfl) (by decide +kernel) dX11_act_2_143 (fun q143 m143 => ?_) (fun v143 m143 => ?_)
    · refine x_widen (u' := (4, 28)) (by decide +kernel) ?_
      exact x_outV (by decide) (by decide +kernel)
    refine r_widen (u' := (4, 28)) (by decide +kernel) ?_
    refine r_pop (pc := 146) dX11_act_2_146 ?_
    refine r_goto (tgt := 167) (pc := 147) dX11_act_2_147 (by decide) ?_
    exact r_vretX (pc := 167) dX11_act_2_167 rfl (by decide +kernel)
  refine r_iteE (fun _ => ?_) (fun e4_3 => ?_)
  · refine r_lookup (pc := 4) (off := 98) (tgt := 102) dX11_act_2_4 (by decide) (by decide) (by decide) ?_
    refine r_aload_n (pc := 102) dX11_act_2_102 rfl ?_
    refine r_aload_n (pc := 103) dX11_act_2_103 rfl ?_
    refine r_getI (pc := 104)  gf_X11_13 dX11_act_2_104 (fun v104 => ?_)
    refine r_aload_n (pc := 107) dX11_act_2_107 rfl ?_
    refine r_getR (pc := 108)  gf_X11_30 dX11_act_2_108 (fun v108 => ?_)
    refine r_aload_n (pc := 111) dX11_act_2_111 rfl ?_
    refine r_getI (pc := 112)  gf_X11_13 dX11_act_2_112 (fun v112 => ?_)
    refine r_aald (pc := 115) dX11_act_2_115 (fun v115 => ?_)
    refine r_callUs_P (st := [.inl v104, .inr r1]) (vs := []) (pc := 116)  ct_X2_isInVan cf_X11_34 rfl rfl (Nat.le_of_ble_eq_true rfl) (by decide +kernel) dX11_act_2_116 (fun v116 => ?_)
    refine r_widen (u' := (0, 0)) (by decide +kernel) ?_
    refine r_if_neF (F := (fun (z9 : Int32) => f_X11_act_2_127 r1 v104 z9 M)) (zA := (1 : Int32)) (zB := (0 : Int32)) (pc := 119) (tgt := 126) dX11_act_2_119 (by decide) ?_ ?_
    · refine r_iconst (v := (0 : Int32)) (pc := 126) dX11_act_2_126 (by decide) ?_
      exact s_X11_act_2_127  _ _ _ _ _ _
    refine r_iconst (v := (1 : Int32)) (pc := 122) dX11_act_2_122 (by decide) ?_
    refine r_goto (tgt := 127) (pc := 123) dX11_act_2_123 (by decide) ?_
    exact s_X11_act_2_127  _ _ _ _ _ _
  refine r_iteE (fun _ => ?_) (fun e4_4 => ?_)
  · refine r_lookup (pc := 4) (off := 146) (tgt := 150) dX11_act_2_4 (by decide) (by decide) (by decide) ?_
    refine r_aload_n (pc := 150) dX11_act_2_150 rfl ?_
    refine r_aload_n (pc := 151) dX11_act_2_151 rfl ?_
    refine r_getI (pc := 152)  gf_X11_47 dX11_act_2_152 (fun v152 => ?_)
    refine r_callV_XI (st := []) (vs := [.inl v152]) (pc := 155)  ct_X1_show hc_1 cf_X11_50 rfl rfl (Nat.le_of_ble_eq_true rfl) (by decide +kernel) dX11_act_2_155 (fun q155 m155 => ?_) (fun v155 m155 => ?_)
    · refine x_widen (u' := (12, 62)) (by decide +kernel) ?_
      exact x_outV (by decide) (by decide +kernel)
    refine r_widen (u' := (12, 62)) (by decide +kernel) ?_
    refine r_pop (pc := 158) dX11_act_2_158 ?_
    refine r_goto (tgt := 167) (pc := 159) dX11_act_2_159 (by decide) ?_
    exact r_vretX (pc := 167) dX11_act_2_167 rfl (by decide +kernel)
  refine r_iteE (fun _ => ?_) (fun e4_5 => ?_)
  · refine r_lookup (pc := 4) (off := 60) (tgt := 64) dX11_act_2_4 (by decide) (by decide) (by decide) ?_
    refine r_aload_n (pc := 64) dX11_act_2_64 rfl ?_
    refine r_aload_n (pc := 65) dX11_act_2_65 rfl ?_
    refine r_getI (pc := 66)  gf_X11_13 dX11_act_2_66 (fun v66 => ?_)
    refine r_callV_XI (st := []) (vs := [.inl v66]) (pc := 69)  ct_X1_drive hc_1 cf_X11_20 rfl rfl (Nat.le_of_ble_eq_true rfl) (by decide +kernel) dX11_act_2_69 (fun q69 m69 => ?_) (fun v69 m69 => ?_)
    · refine x_widen (u' := (3, 17)) (by decide +kernel) ?_
      exact x_outV (by decide) (by decide +kernel)
    refine r_widen (u' := (3, 17)) (by decide +kernel) ?_
    refine r_pop (pc := 72) dX11_act_2_72 ?_
    refine r_goto (tgt := 167) (pc := 73) dX11_act_2_73 (by decide) ?_
    exact r_vretX (pc := 167) dX11_act_2_167 rfl (by decide +kernel)
  have he4_0 : (v1).toInt ≠ 43 := ne_toInt e4_0
  have he4_1 : (v1).toInt ≠ 45 := ne_toInt e4_1
  have he4_2 : (v1).toInt ≠ 102 := ne_toInt e4_2
  have he4_3 : (v1).toInt ≠ 103 := ne_toInt e4_3
  have he4_4 : (v1).toInt ≠ 115 := ne_toInt e4_4
  have he4_5 : (v1).toInt ≠ 118 := ne_toInt e4_5
  refine r_lookup (pc := 4) (off := 158) (tgt := 162) dX11_act_2_4 (by decide) (by simp [Op.lookupswitch.offset, (Ne.symm he4_0), (Ne.symm he4_1), (Ne.symm he4_2), (Ne.symm he4_3), (Ne.symm he4_4), (Ne.symm he4_5)]) (by decide) ?_
  refine r_aload_n (pc := 162) dX11_act_2_162 rfl ?_
  refine r_callV_XI (st := []) (vs := []) (pc := 163)  ct_X1_nextDay hc_1 cf_X11_53 rfl rfl (Nat.le_of_ble_eq_true rfl) (by decide +kernel) dX11_act_2_163 (fun q163 m163 => ?_) (fun v163 m163 => ?_)
  · refine x_widen (u' := (1, 7)) (by decide +kernel) ?_
    exact x_outV (by decide) (by decide +kernel)
  refine r_widen (u' := (1, 7)) (by decide +kernel) ?_
  refine r_pop (pc := 166) dX11_act_2_166 ?_
  exact r_vretX (pc := 167) dX11_act_2_167 rfl (by decide +kernel)
theorem ct_X11_act_2 {l : Launch} {r0 : QR} {r1 : QR} {M : QM} : ∀ b, f_X11_act_2 r0 r1 M = some b → PM l yX11_act_2 (ws_ yX11_act_2 cX11_act_2 2 none) rmX11_act_2 [.inr r0, .inr r1] M (eXV b).1 (eXV b).2 := fun b hb =>
  PM.of (own := RX11) rfl (by decide +kernel) (Nat.le_of_ble_eq_true rfl) false (fun h => nomatch h) (s_X11_act_2 b hb)
/-! X12_init: BarnPictures$Stop.<init>(ILBarnPictures$Refusal;)V, kind V -/
abbrev rmX12_init : Room := ({ frames := 6, cells := 0, slots := 0, locals := 88 })
abbrev kX12_init : QK := (RX12, cX12_init, 3, none, [], true, rmX12_init)
noncomputable def f_X12_init (r0 : QR) (x1 : Int32) (r2 : QR) (M : QM) : Option (QM) :=
  (qexc M r0 13).bind fun m1 => 
    (pF m1 r0 [(17, 0)] (.inl x1)).bind fun m6 => 
    (pF m6 r0 [(17, 1)] (.inr r2)).bind fun m11 => 
    some m11
theorem s_X12_init {l : Launch} {M0 : QM} {r0 : QR} {x1 : Int32} {r2 : QR} {M : QM} : SB eV l kX12_init M0 (f_X12_init r0 x1 r2 M) (0, 0) 0 M [some (.inr r0), some (.inl x1), some (.inr r2)] [] := by
  unfold f_X12_init
  refine r_aload_n (pc := 0) dX12_init_0 rfl ?_
  refine r_exc (ci := 13) (pc := 1) rfl exf_13 (by decide +kernel) dX12_init_1 (fun m1 => ?_)
  refine r_aload_n (pc := 4) dX12_init_4 rfl ?_
  refine r_iload_n (pc := 5) dX12_init_5 rfl ?_
  refine r_put (pc := 6)  pf_X12_7 (fun _ => rfl) (fit_int _) dX12_init_6 (fun m6 => ?_)
  refine r_aload_n (pc := 9) dX12_init_9 rfl ?_
  refine r_aload_n (pc := 10) dX12_init_10 rfl ?_
  refine r_put (pc := 11)  pf_X12_13 (fun _ => rfl) (fit_obj _ _) dX12_init_11 (fun m11 => ?_)
  exact r_vretV (pc := 14) dX12_init_14 rfl (by decide +kernel)
theorem ct_X12_init {l : Launch} {r0 : QR} {x1 : Int32} {r2 : QR} {M : QM} : ∀ b, f_X12_init r0 x1 r2 M = some b → PM l yX12_init (ws_ yX12_init cX12_init 3 none) rmX12_init [.inr r0, .inl x1, .inr r2] M (eV b).1 (eV b).2 := fun b hb =>
  PM.of (own := RX12) rfl (by decide +kernel) (Nat.le_of_ble_eq_true rfl) true (fun h => rfl) (s_X12_init b hb)
/-! X11_act: BarnPictures$Command.act(LBarnPictures$Tour;I)V, kind XV -/
abbrev rmX11_act : Room := ({ frames := 12, cells := 13, slots := 70, locals := 218 })
abbrev kX11_act : QK := (RX11, cX11_act, 4, none, [(0, 5, 8, 61), (0, 5, 8, 63)], false, rmX11_act)
noncomputable def f_X11_act (r0 : QR) (r1 : QR) (x2 : Int32) (M : QM) : Option ((Unit ⊕ QN) × QM) :=
  qbXV (qrc M r0 [6] (f_X11_act_2 r0 r1 M)) (fun q2 m2 => if qcls m2 q2 = some 14 then ((nO m2 (m2.1, 0) (.inr (.inr (.inr (some (13, fs_13)))))).bind fun m9 => 
        (qnn (some (m2.1, 0)) (f_X12_init (some (m2.1, 0)) x2 (some q2) m9)).bind fun m15 => 
        qthr m15 (some (m2.1, 0)) fun q18 => some (.inr q18, m15))
      else if qcls m2 q2 = some 15 then ((nO m2 (m2.1, 0) (.inr (.inr (.inr (some (13, fs_13)))))).bind fun m9 => 
        (qnn (some (m2.1, 0)) (f_X12_init (some (m2.1, 0)) x2 (some q2) m9)).bind fun m15 => 
        qthr m15 (some (m2.1, 0)) fun q18 => some (.inr q18, m15))
      else none) fun m2 => 
    some (.inl (), m2)
theorem s_X11_act {l : Launch} {M0 : QM} {r0 : QR} {r1 : QR} {x2 : Int32} {M : QM} : SB eXV l kX11_act M0 (f_X11_act r0 r1 x2 M) (0, 0) 0 M [some (.inr r0), some (.inr r1), some (.inl x2), none] [] := by
  unfold f_X11_act
  refine r_aload_n (pc := 0) dX11_act_0 rfl ?_
  refine r_aload_n (pc := 1) dX11_act_1 rfl ?_
  refine r_callV_XV (st := []) (vs := [.inr r1]) (pc := 2)  ct_X11_act_2 hc_6 cf_X11_57 rfl rfl (Nat.le_of_ble_eq_true rfl) (by decide +kernel) dX11_act_2 (fun q2 m2 => ?_) (fun m2 => ?_)
  · refine x_widen (u' := (12, 62)) (by decide +kernel) ?_
    refine x_catch (ci := 14) (pc := 2) [] ⟨0, 5, 8, 61⟩ [⟨0, 5, 8, 63⟩] rfl rfl (fun z hz => nomatch hz) (by decide) (by decide) q965 (qnw_in q314 rfl) ?_ ?_
    · refine r_astore_n (pc := 8) dX11_act_8 (by decide) rfl ?_
      refine r_newF (pc := 9)  nf_X11_65 (by decide +kernel) dX11_act_9 (fun m9 => ?_)
      refine r_widen (u' := (13, 70)) (by decide +kernel) ?_
      refine r_dup (pc := 12) dX11_act_12 ?_
      refine r_iload_n (pc := 13) dX11_act_13 rfl ?_
      refine r_aload_n (pc := 14) dX11_act_14 rfl ?_
      refine r_callI_V (st := [.inr (some (m2.1, 0))]) (vs := [.inl x2, .inr (some q2)]) (pc := 15)  ct_X12_init cf_X11_67 rfl rfl (Nat.le_of_ble_eq_true rfl) (by decide +kernel) dX11_act_15 (fun m15 => ?_)
      refine r_widen (u' := (13, 70)) (by decide +kernel) ?_
      refine r_athrow (pc := 18) dX11_act_18 (fun q18 => ?_)
      exact x_outV (by decide) (by decide +kernel)
    refine x_catch (ci := 15) (pc := 2) [⟨0, 5, 8, 61⟩] ⟨0, 5, 8, 63⟩ [] rfl rfl (List.forall_mem_cons.mpr ⟨Or.inr ⟨by decide, _, q965, Or.inl ⟨rfl, rfl⟩⟩, (fun z hz => nomatch hz)⟩) (by decide) (by decide) q966 (qnw_in q596 rfl) ?_ ?_
    · refine r_astore_n (pc := 8) dX11_act_8 (by decide) rfl ?_
      refine r_newF (pc := 9)  nf_X11_65 (by decide +kernel) dX11_act_9 (fun m9 => ?_)
      refine r_widen (u' := (13, 70)) (by decide +kernel) ?_
      refine r_dup (pc := 12) dX11_act_12 ?_
      refine r_iload_n (pc := 13) dX11_act_13 rfl ?_
      refine r_aload_n (pc := 14) dX11_act_14 rfl ?_
      refine r_callI_V (st := [.inr (some (m2.1, 0))]) (vs := [.inl x2, .inr (some q2)]) (pc := 15)  ct_X12_init cf_X11_67 rfl rfl (Nat.le_of_ble_eq_true rfl) (by decide +kernel) dX11_act_15 (fun m15 => ?_)
      refine r_widen (u' := (13, 70)) (by decide +kernel) ?_
      refine r_athrow (pc := 18) dX11_act_18 (fun q18 => ?_)
      exact x_outV (by decide) (by decide +kernel)
    exact x_none
  refine r_widen (u' := (12, 62)) (by decide +kernel) ?_
  refine r_goto (tgt := 19) (pc := 5) dX11_act_5 (by decide) ?_
  exact r_vretX (pc := 19) dX11_act_19 rfl (by decide +kernel)
theorem ct_X11_act {l : Launch} {r0 : QR} {r1 : QR} {x2 : Int32} {M : QM} : ∀ b, f_X11_act r0 r1 x2 M = some b → PM l yX11_act (wsW_ yX11_act cX11_act 4 none [(0, 5, 8, 61), (0, 5, 8, 63)]) rmX11_act [.inr r0, .inr r1, .inl x2] M (eXV b).1 (eXV b).2 := fun b hb =>
  PM.ofH (own := RX11) rfl (by decide +kernel) (Nat.le_of_ble_eq_true rfl) (s_X11_act b hb)
/-! X0_perform: BarnPictures.perform()I, kind I -/
abbrev rmX0_perform : Room := ({ frames := 13, cells := 1127, slots := 9274, locals := 241 })
abbrev kX0_perform : QK := (RX0, cX0_perform, 4, (some .int), [(24, 81, 82, 133), (24, 81, 91, 139)], false, rmX0_perform)
noncomputable def f_X0_perform_30 : Nat → QR → QR → QR → Int32 → QM → Option (Int32 × QM)
  | 0, _, _, _, _, _ => none
  | n + 1, r0, r1, r2, x3, M =>
    (gR M r1 [(5, 1)]).bind fun v32 => 
    (qrc M v32 [7] (f_J2_size v32 M)).bind fun v35 => 
    if v35 ≤ x3 then ((gR M r1 [(5, 1)]).bind fun v70 => 
      (qrc M v70 [7] (f_J2_size v70 M)).bind fun v73 => 
      qbI (qrc M r0 [0] (f_X0_accept r0 r2 v73 M)) fun v78 m78 => 
      some (v78, m78))
    else (gR M r1 [(5, 1)]).bind fun v44 => 
    (qrc M v44 [7] (f_J2_get v44 x3 M)).bind fun v48 => 
    (qcast M v48 6).bind fun _ => 
    qbXV (qrc M v48 [6] (f_X11_act v48 r2 x3 M)) (fun q58 m58 => if qcls m58 q58 = some 16 then ((gI m58 (some q58) [(16, 0)]).bind fun v86 => 
        some (((-10000200 : Int32) - v86), m58))
      else if qcls m58 q58 = some 17 then ((pF m58 r0 [(0, 4)] (.inr (some q58))).bind fun m94 => 
        some ((-10000004 : Int32), m94))
      else none) fun m58 => 
    f_X0_perform_30 n r0 r1 r2 (x3 + (1 : Int32)) m58
theorem s_X0_perform_30 {l : Launch} {M0 : QM} : ∀ (n c s : Nat), c + 13 * n ≤ 1127 → s + 70 * n ≤ 9274 → ∀ (r0 : QR) (r1 : QR) (r2 : QR) (x3 : Int32) (M : QM) , SB eI l kX0_perform M0 (f_X0_perform_30 n r0 r1 r2 x3 M) (c, s) 30 M [some (.inr r0), some (.inr r1), some (.inr r2), some (.inl x3)] [] := by
  intro n
  induction n with
  | zero => intros; rw [f_X0_perform_30]; exact r_none
  | succ n ih =>
    intro c s hc hs r0 r1 r2 x3  M
    have hc1 : c + 13 ≤ 1127 := by omega
    have hs1 : s + 70 ≤ 9274 := by omega
    rw [f_X0_perform_30]
    refine r_widen (u' := (c + 0, s + 0)) ⟨(show c ≤ c + 0 by omega), (show s ≤ s + 0 by omega)⟩ ?_
    refine r_iload_n (pc := 30) dX0_perform_30 rfl ?_
    refine r_aload_n (pc := 31) dX0_perform_31 rfl ?_
    refine r_getR (pc := 32)  gf_X0_121 dX0_perform_32 (fun v32 => ?_)
    refine r_callF_P (st := [.inl x3]) (vs := []) (pc := 35)  ct_J2_size hc_7 cf_X0_41 rfl rfl (Nat.le_of_ble_eq_true rfl) ⟨by decide +kernel, (show c + 0 + 0 ≤ 1127 by omega), (show s + 0 + 0 ≤ 9274 by omega)⟩ dX0_perform_35 (fun v35 => ?_)
    refine r_widen (u' := (c + 0, s + 0)) ⟨(show c + 0 + 0 ≤ c + 0 by omega), (show s + 0 + 0 ≤ s + 0 by omega)⟩ ?_
    refine r_icmp_ge (pc := 40) (tgt := 67) dX0_perform_40 (by decide) ?_ ?_
    · refine r_aload_n (pc := 67) dX0_perform_67 rfl ?_
      refine r_aload_n (pc := 68) dX0_perform_68 rfl ?_
      refine r_aload_n (pc := 69) dX0_perform_69 rfl ?_
      refine r_getR (pc := 70)  gf_X0_121 dX0_perform_70 (fun v70 => ?_)
      refine r_callF_P (st := [.inr r2, .inr r0]) (vs := []) (pc := 73)  ct_J2_size hc_7 cf_X0_41 rfl rfl (Nat.le_of_ble_eq_true rfl) ⟨by decide +kernel, (show c + 0 + 0 ≤ 1127 by omega), (show s + 0 + 0 ≤ 9274 by omega)⟩ dX0_perform_73 (fun v73 => ?_)
      refine r_widen (u' := (c + 0, s + 0)) ⟨(show c + 0 + 0 ≤ c + 0 by omega), (show s + 0 + 0 ≤ s + 0 by omega)⟩ ?_
      refine r_callV_I (st := []) (vs := [.inr r2, .inl v73]) (pc := 78)  ct_X0_accept hc_0 cf_X0_66 rfl rfl (Nat.le_of_ble_eq_true rfl) ⟨by decide +kernel, (show c + 0 + 1 ≤ 1127 by omega), (show s + 0 + 64 ≤ 9274 by omega)⟩ dX0_perform_78 (fun v78 m78 => ?_)
      refine r_widen (u' := (c + 1, s + 64)) ⟨(show c + 0 + 1 ≤ c + 1 by omega), (show s + 0 + 64 ≤ s + 64 by omega)⟩ ?_
      exact r_iretI (pc := 81) dX0_perform_81 rfl ⟨(show c + 1 ≤ 1127 by omega), (show s + 64 ≤ 9274 by omega)⟩
    refine r_aload_n (pc := 43) dX0_perform_43 rfl ?_
    refine r_getR (pc := 44)  gf_X0_121 dX0_perform_44 (fun v44 => ?_)
    refine r_iload_n (pc := 47) dX0_perform_47 rfl ?_
    refine r_callF_O (st := []) (vs := [.inl x3]) (pc := 48)  ct_J2_get hc_7 cf_X0_124 rfl rfl (Nat.le_of_ble_eq_true rfl) ⟨by decide +kernel, (show c + 0 + 0 ≤ 1127 by omega), (show s + 0 + 0 ≤ 9274 by omega)⟩ dX0_perform_48 (fun v48 => ?_)
    refine r_widen (u' := (c + 0, s + 0)) ⟨(show c + 0 + 0 ≤ c + 0 by omega), (show s + 0 + 0 ≤ s + 0 by omega)⟩ ?_
    refine r_cast (pc := 53)  rfl q960 dX0_perform_53 ?_
    refine r_aload_n (pc := 56) dX0_perform_56 rfl ?_
    refine r_iload_n (pc := 57) dX0_perform_57 rfl ?_
    refine r_callVX_XV (st := []) (vs := [.inr r2, .inl x3]) (pc := 58)  ct_X11_act hc_6 cf_X0_129 rfl rfl (Nat.le_of_ble_eq_true rfl) ⟨by decide +kernel, (show c + 0 + 13 ≤ 1127 by omega), (show s + 0 + 70 ≤ 9274 by omega)⟩ dX0_perform_58 (fun q58 m58 => ?_) (fun m58 => ?_)
    · refine x_widen (u' := (c + 13, s + 70)) ⟨(show c + 0 + 13 ≤ c + 13 by omega), (show s + 0 + 70 ≤ s + 70 by omega)⟩ ?_
      refine x_catch (ci := 16) (pc := 58) [] ⟨24, 81, 82, 133⟩ [⟨24, 81, 91, 139⟩] rfl rfl (fun z hz => nomatch hz) (by decide) (by decide) q770 (qnw_in q895 rfl) ?_ ?_
      · refine r_astore_n (pc := 82) dX0_perform_82 (by decide) rfl ?_
        refine r_ldc (pc := 83) dX0_perform_83 q999 ?_
        refine r_aload_n (pc := 85) dX0_perform_85 rfl ?_
        refine r_getI (pc := 86)  gf_X0_136 dX0_perform_86 (fun v86 => ?_)
        refine r_isub (pc := 89) dX0_perform_89 ?_
        exact r_iretI (pc := 90) dX0_perform_90 rfl ⟨(show c + 13 ≤ 1127 by omega), (show s + 70 ≤ 9274 by omega)⟩
      refine x_catch (ci := 17) (pc := 58) [⟨24, 81, 82, 133⟩] ⟨24, 81, 91, 139⟩ [] rfl rfl (List.forall_mem_cons.mpr ⟨Or.inr ⟨by decide, _, q770, Or.inr ⟨rfl, rfl⟩⟩, (fun z hz => nomatch hz)⟩) (by decide) (by decide) q771 (qnw_in q980 rfl) ?_ ?_
      · refine r_astore_n (pc := 91) dX0_perform_91 (by decide) rfl ?_
        refine r_aload_n (pc := 92) dX0_perform_92 rfl ?_
        refine r_aload_n (pc := 93) dX0_perform_93 rfl ?_
        refine r_put (pc := 94)  pf_X0_141 (fun h => nomatch h) (fit_obj _ _) dX0_perform_94 (fun m94 => ?_)
        refine r_ldc (pc := 97) dX0_perform_97 q1000 ?_
        exact r_iretI (pc := 99) dX0_perform_99 rfl ⟨(show c + 13 ≤ 1127 by omega), (show s + 70 ≤ 9274 by omega)⟩
      exact x_none
    refine r_widen (u' := (c + 13, s + 70)) ⟨(show c + 0 + 13 ≤ c + 13 by omega), (show s + 0 + 70 ≤ s + 70 by omega)⟩ ?_
    refine r_iinc (v := (x3 + (1 : Int32))) (pc := 61) dX0_perform_61 rfl rfl (by decide) rfl ?_
    refine r_goto (tgt := 30) (pc := 64) dX0_perform_64 (by decide) ?_
    refine r_widen (u' := (c + 13, s + 70)) ⟨(show c + 13 ≤ c + 13 by omega), (show s + 70 ≤ s + 70 by omega)⟩ ?_
    exact ih (c + 13) (s + 70) (by omega) (by omega) _ _ _ _ _
noncomputable def f_X0_perform (r0 : QR) (M : QM) : Option (Int32 × QM) :=
  (nO M (M.1, 0) (.inl (5, fs_5))).bind fun m0 => 
    (gR m0 r0 [(0, 3)]).bind fun v5 => 
    (qnn (some (M.1, 0)) (f_X9_init M.1 (some (M.1, 0)) v5 m0)).bind fun m8 => 
    (nO m8 (m8.1, 0) (.inl (1, fs_1))).bind fun m12 => 
    (gR m12 r0 [(0, 0)]).bind fun v17 => 
    (qnn (some (m8.1, 0)) (f_X1_init_2 m8.1 (some (m8.1, 0)) v17 m12)).bind fun m20 => 
    qbXV (qrc m20 (some (M.1, 0)) [5] (f_X9_read (some (M.1, 0)) m20)) (fun q25 m25 => if qcls m25 q25 = some 16 then ((gI m25 (some q25) [(16, 0)]).bind fun v86 => 
        some (((-10000200 : Int32) - v86), m25))
      else if qcls m25 q25 = some 17 then ((pF m25 r0 [(0, 4)] (.inr (some q25))).bind fun m94 => 
        some ((-10000004 : Int32), m94))
      else none) fun m25 => 
    f_X0_perform_30 42 r0 (some (M.1, 0)) (some (m8.1, 0)) (0 : Int32) m25
theorem s_X0_perform {l : Launch} {M0 : QM} {r0 : QR} {M : QM} : SB eI l kX0_perform M0 (f_X0_perform r0 M) (0, 0) 0 M [some (.inr r0), none, none, none] [] := by
  unfold f_X0_perform
  refine r_new (pc := 0)  nf_X0_113 (by decide +kernel) dX0_perform_0 (fun m0 => ?_)
  refine r_widen (u' := (1, 3)) (by decide +kernel) ?_
  refine r_dup (pc := 3) dX0_perform_3 ?_
  refine r_aload_n (pc := 4) dX0_perform_4 rfl ?_
  refine r_getR (pc := 5)  gf_X0_36 dX0_perform_5 (fun v5 => ?_)
  refine r_callI_V (st := [.inr (some (M.1, 0))]) (vs := [.inr v5]) (pc := 8)  ct_X9_init cf_X0_115 rfl rfl (Nat.le_of_ble_eq_true rfl) (by decide +kernel) dX0_perform_8 (fun m8 => ?_)
  refine r_widen (u' := (2, 6)) (by decide +kernel) ?_
  refine r_astore_n (pc := 11) dX0_perform_11 (by decide) rfl ?_
  refine r_new (pc := 12)  nf_X0_19 (by decide +kernel) dX0_perform_12 (fun m12 => ?_)
  refine r_widen (u' := (3, 20)) (by decide +kernel) ?_
  refine r_dup (pc := 15) dX0_perform_15 ?_
  refine r_aload_n (pc := 16) dX0_perform_16 rfl ?_
  refine r_getR (pc := 17)  gf_X0_22 dX0_perform_17 (fun v17 => ?_)
  refine r_callI_V (st := [.inr (some (m8.1, 0))]) (vs := [.inr v17]) (pc := 20)  ct_X1_init_2 cf_X0_59 rfl rfl (Nat.le_of_ble_eq_true rfl) (by decide +kernel) dX0_perform_20 (fun m20 => ?_)
  refine r_widen (u' := (23, 149)) (by decide +kernel) ?_
  refine r_astore_n (pc := 23) dX0_perform_23 (by decide) rfl ?_
  refine r_aload_n (pc := 24) dX0_perform_24 rfl ?_
  refine r_callV_XV (st := []) (vs := []) (pc := 25)  ct_X9_read hc_5 cf_X0_118 rfl rfl (Nat.le_of_ble_eq_true rfl) (by decide +kernel) dX0_perform_25 (fun q25 m25 => ?_) (fun m25 => ?_)
  · refine x_widen (u' := (581, 6334)) (by decide +kernel) ?_
    refine x_catch (ci := 16) (pc := 25) [] ⟨24, 81, 82, 133⟩ [⟨24, 81, 91, 139⟩] rfl rfl (fun z hz => nomatch hz) (by decide) (by decide) q770 (qnw_in q895 rfl) ?_ ?_
    · refine r_astore_n (pc := 82) dX0_perform_82 (by decide) rfl ?_
      refine r_ldc (pc := 83) dX0_perform_83 q999 ?_
      refine r_aload_n (pc := 85) dX0_perform_85 rfl ?_
      refine r_getI (pc := 86)  gf_X0_136 dX0_perform_86 (fun v86 => ?_)
      refine r_isub (pc := 89) dX0_perform_89 ?_
      exact r_iretI (pc := 90) dX0_perform_90 rfl (by decide +kernel)
    refine x_catch (ci := 17) (pc := 25) [⟨24, 81, 82, 133⟩] ⟨24, 81, 91, 139⟩ [] rfl rfl (List.forall_mem_cons.mpr ⟨Or.inr ⟨by decide, _, q770, Or.inr ⟨rfl, rfl⟩⟩, (fun z hz => nomatch hz)⟩) (by decide) (by decide) q771 (qnw_in q980 rfl) ?_ ?_
    · refine r_astore_n (pc := 91) dX0_perform_91 (by decide) rfl ?_
      refine r_aload_n (pc := 92) dX0_perform_92 rfl ?_
      refine r_aload_n (pc := 93) dX0_perform_93 rfl ?_
      refine r_put (pc := 94)  pf_X0_141 (fun h => nomatch h) (fit_obj _ _) dX0_perform_94 (fun m94 => ?_)
      refine r_ldc (pc := 97) dX0_perform_97 q1000 ?_
      exact r_iretI (pc := 99) dX0_perform_99 rfl (by decide +kernel)
    exact x_none
  refine r_widen (u' := (581, 6334)) (by decide +kernel) ?_
  refine r_iconst (v := (0 : Int32)) (pc := 28) dX0_perform_28 (by decide) ?_
  refine r_istore_n (pc := 29) dX0_perform_29 (by decide) rfl ?_
  refine r_widen (u' := (581, 6334)) (by decide +kernel) ?_
  exact s_X0_perform_30  42 581 6334 (by decide +kernel) (by decide +kernel) _ _ _ _ _
theorem ct_X0_perform {l : Launch} {r0 : QR} {M : QM} : ∀ b, f_X0_perform r0 M = some b → PM l yX0_perform (wsW_ yX0_perform cX0_perform 4 (some .int) [(24, 81, 82, 133), (24, 81, 91, 139)]) rmX0_perform [.inr r0] M (eI b).1 (eI b).2 := fun b hb =>
  PM.ofH (own := RX0) rfl (by decide +kernel) (Nat.le_of_ble_eq_true rfl) (s_X0_perform b hb)
/-! X5_sign: BarnPicturesModel.sign(II)I, kind I -/
abbrev rmX5_sign : Room := ({ frames := 1, cells := 0, slots := 0, locals := 22 })
abbrev kX5_sign : QK := (RX5, cX5_sign, 4, (some .int), [], false, rmX5_sign)
noncomputable def f_X5_sign_67 (x3 : Int32) (s0 : QR) (s1 : Int32) (s2 : Int32) (M : QM) : Option (Int32 × QM) :=
  (pF M s0 [(4, 10)] (.inl (s1 + s2))).bind fun m68 => 
    some (x3, m68)
theorem s_X5_sign_67 {l : Launch} {M0 : QM} : ∀ (x3 : Int32) (s0 : QR) (s1 : Int32) (s2 : Int32) (d0 : Option QV) (d1 : Option QV) (d2 : Option QV) (M : QM) , SB eI l kX5_sign M0 (f_X5_sign_67 x3 s0 s1 s2 M) (0, 0) 67 M [d0, d1, d2, some (.inl x3)] [.inl s2, .inl s1, .inr s0] := by
  intro x3 s0 s1 s2 d0 d1 d2 M
  unfold f_X5_sign_67
  refine r_iadd (pc := 67) dX5_sign_67 ?_
  refine r_put (pc := 68)  pf_X5_125 (fun h => nomatch h) (fit_int _) dX5_sign_68 (fun m68 => ?_)
  refine r_iload_n (pc := 71) dX5_sign_71 rfl ?_
  exact r_iretI (pc := 72) dX5_sign_72 rfl (by decide +kernel)
noncomputable def f_X5_sign_47 (r0 : QR) (x3 : Int32) (s0 : QR) (s1 : Int32) (M : QM) : Option (Int32 × QM) :=
  qnf .boolean s1 <| (pF M s0 [(4, 11)] (.inl s1)).bind fun m47 => 
    (gI m47 r0 [(4, 10)]).bind fun v52 => 
    (gI m47 r0 [(4, 11)]).bind fun v56 => 
    f_X5_sign_67 x3 r0 v52 (if v56 = 0 then (1 : Int32) else (0 : Int32)) m47
theorem s_X5_sign_47 {l : Launch} {M0 : QM} : ∀ (r0 : QR) (x3 : Int32) (s0 : QR) (s1 : Int32) (d1 : Option QV) (d2 : Option QV) (M : QM) , SB eI l kX5_sign M0 (f_X5_sign_47 r0 x3 s0 s1 M) (0, 0) 47 M [some (.inr r0), d1, d2, some (.inl x3)] [.inl s1, .inr s0] := by
  intro r0 x3 s0 s1 d1 d2 M
  unfold f_X5_sign_47
  refine r_putN (pc := 47)  pf_X5_128 (fun h => nomatch h) (by decide) dX5_sign_47 (fun m47 => ?_)
  refine r_aload_n (pc := 50) dX5_sign_50 rfl ?_
  refine r_dup (pc := 51) dX5_sign_51 ?_
  refine r_getI (pc := 52)  gf_X5_125 dX5_sign_52 (fun v52 => ?_)
  refine r_aload_n (pc := 55) dX5_sign_55 rfl ?_
  refine r_getI (pc := 56)  gf_X5_128 dX5_sign_56 (fun v56 => ?_)
  refine r_if_eqF (F := (fun (z9 : Int32) => f_X5_sign_67 x3 r0 v52 z9 m47)) (zA := (1 : Int32)) (zB := (0 : Int32)) (pc := 59) (tgt := 66) dX5_sign_59 (by decide) ?_ ?_
  · refine r_iconst (v := (1 : Int32)) (pc := 66) dX5_sign_66 (by decide) ?_
    exact s_X5_sign_67  _ _ _ _ _ _ _ _
  refine r_iconst (v := (0 : Int32)) (pc := 62) dX5_sign_62 (by decide) ?_
  refine r_goto (tgt := 67) (pc := 63) dX5_sign_63 (by decide) ?_
  exact s_X5_sign_67  _ _ _ _ _ _ _ _
noncomputable def f_X5_sign_24 (r0 : QR) (x1 : Int32) (x2 : Int32) (s0 : Int32) (M : QM) : Option (Int32 × QM) :=
  (gI M r0 [(4, 11)]).bind fun v27 => 
    if v27 = 0 then ((f_X5_in s0 x1 x2 M).bind fun v36 => 
      f_X5_sign_47 r0 s0 r0 (if v36 = 0 then (1 : Int32) else (0 : Int32)) M)
    else f_X5_sign_47 r0 s0 r0 (1 : Int32) M
theorem s_X5_sign_24 {l : Launch} {M0 : QM} : ∀ (r0 : QR) (x1 : Int32) (x2 : Int32) (s0 : Int32) (d3 : Option QV) (M : QM) , SB eI l kX5_sign M0 (f_X5_sign_24 r0 x1 x2 s0 M) (0, 0) 24 M [some (.inr r0), some (.inl x1), some (.inl x2), d3] [.inl s0] := by
  intro r0 x1 x2 s0 d3 M
  unfold f_X5_sign_24
  refine r_istore_n (pc := 24) dX5_sign_24 (by decide) rfl ?_
  refine r_aload_n (pc := 25) dX5_sign_25 rfl ?_
  refine r_aload_n (pc := 26) dX5_sign_26 rfl ?_
  refine r_getI (pc := 27)  gf_X5_128 dX5_sign_27 (fun v27 => ?_)
  refine r_if_ne (pc := 30) (tgt := 42) dX5_sign_30 (by decide) ?_ ?_
  · refine r_iconst (v := (1 : Int32)) (pc := 42) dX5_sign_42 (by decide) ?_
    refine r_goto (tgt := 47) (pc := 43) dX5_sign_43 (by decide) ?_
    exact s_X5_sign_47  _ _ _ _ _ _ _
  refine r_iload_n (pc := 33) dX5_sign_33 rfl ?_
  refine r_iload_n (pc := 34) dX5_sign_34 rfl ?_
  refine r_iload_n (pc := 35) dX5_sign_35 rfl ?_
  refine r_callS_P (st := [.inr r0]) (vs := [.inl s0, .inl x1, .inl x2]) (pc := 36)  ct_X5_in cf_X5_37 rfl rfl (Nat.le_of_ble_eq_true rfl) (by decide +kernel) dX5_sign_36 (fun v36 => ?_)
  refine r_widen (u' := (0, 0)) (by decide +kernel) ?_
  refine r_if_neF (F := (fun (z9 : Int32) => f_X5_sign_47 r0 s0 r0 z9 M)) (zA := (1 : Int32)) (zB := (0 : Int32)) (pc := 39) (tgt := 46) dX5_sign_39 (by decide) ?_ ?_
  · refine r_iconst (v := (0 : Int32)) (pc := 46) dX5_sign_46 (by decide) ?_
    exact s_X5_sign_47  _ _ _ _ _ _ _
  refine r_iconst (v := (1 : Int32)) (pc := 42) dX5_sign_42 (by decide) ?_
  refine r_goto (tgt := 47) (pc := 43) dX5_sign_43 (by decide) ?_
  exact s_X5_sign_47  _ _ _ _ _ _ _
noncomputable def f_X5_sign (r0 : QR) (x1 : Int32) (x2 : Int32) (M : QM) : Option (Int32 × QM) :=
  (gI M r0 [(4, 10)]).bind fun v1 => 
    (gI M r0 [(4, 7)]).bind fun v5 => 
    if v5 ≤ v1 then (f_X5_sign_24 r0 x1 x2 (0 : Int32) M)
    else (gR M r0 [(4, 6)]).bind fun v12 => 
    (gI M r0 [(4, 10)]).bind fun v16 => 
    (aI M v12 v16).bind fun v19 => 
    f_X5_sign_24 r0 x1 x2 v19 M
theorem s_X5_sign {l : Launch} {M0 : QM} {r0 : QR} {x1 : Int32} {x2 : Int32} {M : QM} : SB eI l kX5_sign M0 (f_X5_sign r0 x1 x2 M) (0, 0) 0 M [some (.inr r0), some (.inl x1), some (.inl x2), none] [] := by
  unfold f_X5_sign
  refine r_aload_n (pc := 0) dX5_sign_0 rfl ?_
  refine r_getI (pc := 1)  gf_X5_125 dX5_sign_1 (fun v1 => ?_)
  refine r_aload_n (pc := 4) dX5_sign_4 rfl ?_
  refine r_getI (pc := 5)  gf_X5_122 dX5_sign_5 (fun v5 => ?_)
  refine r_icmp_ge (pc := 8) (tgt := 23) dX5_sign_8 (by decide) ?_ ?_
  · refine r_iconst (v := (0 : Int32)) (pc := 23) dX5_sign_23 (by decide) ?_
    exact s_X5_sign_24  _ _ _ _ _ _
  refine r_aload_n (pc := 11) dX5_sign_11 rfl ?_
  refine r_getR (pc := 12)  gf_X5_22 dX5_sign_12 (fun v12 => ?_)
  refine r_aload_n (pc := 15) dX5_sign_15 rfl ?_
  refine r_getI (pc := 16)  gf_X5_125 dX5_sign_16 (fun v16 => ?_)
  refine r_iald (pc := 19) dX5_sign_19 (fun v19 => ?_)
  refine r_goto (tgt := 24) (pc := 20) dX5_sign_20 (by decide) ?_
  exact s_X5_sign_24  _ _ _ _ _ _
theorem ct_X5_sign {l : Launch} {r0 : QR} {x1 : Int32} {x2 : Int32} {M : QM} : ∀ b, f_X5_sign r0 x1 x2 M = some b → PM l yX5_sign (ws_ yX5_sign cX5_sign 4 (some .int)) rmX5_sign [.inr r0, .inl x1, .inl x2] M (eI b).1 (eI b).2 := fun b hb =>
  PM.of (own := RX5) rfl (by decide +kernel) (Nat.le_of_ble_eq_true rfl) false (fun h => nomatch h) (s_X5_sign b hb)
/-! X5_minutes: BarnPicturesModel.minutes()I, kind I -/
abbrev rmX5_minutes : Room := ({ frames := 2, cells := 0, slots := 0, locals := 45 })
abbrev kX5_minutes : QK := (RX5, cX5_minutes, 2, (some .int), [], false, rmX5_minutes)
noncomputable def f_X5_minutes_111 (x1 : Int32) (s0 : QR) (s1 : Int32) (M : QM) : Option (Int32 × QM) :=
  qnf .boolean s1 <| (pF M s0 [(4, 11)] (.inl s1)).bind fun m111 => 
    some (x1, m111)
theorem s_X5_minutes_111 {l : Launch} {M0 : QM} : ∀ (x1 : Int32) (s0 : QR) (s1 : Int32) (d0 : Option QV) (M : QM) , SB eI l kX5_minutes M0 (f_X5_minutes_111 x1 s0 s1 M) (0, 0) 111 M [d0, some (.inl x1)] [.inl s1, .inr s0] := by
  intro x1 s0 s1 d0 M
  unfold f_X5_minutes_111
  refine r_putN (pc := 111)  pf_X5_128 (fun h => nomatch h) (by decide) dX5_minutes_111 (fun m111 => ?_)
  refine r_iload_n (pc := 114) dX5_minutes_114 rfl ?_
  exact r_iretI (pc := 115) dX5_minutes_115 rfl (by decide +kernel)
noncomputable def f_X5_minutes_92 (r0 : QR) (x1 : Int32) (M : QM) : Option (Int32 × QM) :=
  (gI M r0 [(4, 11)]).bind fun v94 => 
    f_X5_minutes_111 x1 r0 (if v94 = 0 then (if (x1 - x1 / (5 : Int32) * (5 : Int32)) = 0 then (0 : Int32) else (1 : Int32)) else (1 : Int32)) M
theorem s_X5_minutes_92 {l : Launch} {M0 : QM} : ∀ (r0 : QR) (x1 : Int32) (M : QM) , SB eI l kX5_minutes M0 (f_X5_minutes_92 r0 x1 M) (0, 0) 92 M [some (.inr r0), some (.inl x1)] [] := by
  intro r0 x1  M
  unfold f_X5_minutes_92
  refine r_aload_n (pc := 92) dX5_minutes_92 rfl ?_
  refine r_aload_n (pc := 93) dX5_minutes_93 rfl ?_
  refine r_getI (pc := 94)  gf_X5_128 dX5_minutes_94 (fun v94 => ?_)
  refine r_if_neF (F := (fun (z9 : Int32) => f_X5_minutes_111 x1 r0 z9 M)) (zA := (if (x1 - x1 / (5 : Int32) * (5 : Int32)) = 0 then (0 : Int32) else (1 : Int32))) (zB := (1 : Int32)) (pc := 97) (tgt := 106) dX5_minutes_97 (by decide) ?_ ?_
  · refine r_iconst (v := (1 : Int32)) (pc := 106) dX5_minutes_106 (by decide) ?_
    refine r_goto (tgt := 111) (pc := 107) dX5_minutes_107 (by decide) ?_
    exact s_X5_minutes_111  _ _ _ _ _
  refine r_iload_n (pc := 100) dX5_minutes_100 rfl ?_
  refine r_iconst (v := (5 : Int32)) (pc := 101) dX5_minutes_101 (by decide) ?_
  refine r_irem (pc := 102) dX5_minutes_102 (by decide) ?_
  refine r_if_eqF (F := (fun (z9 : Int32) => f_X5_minutes_111 x1 r0 z9 M)) (zA := (0 : Int32)) (zB := (1 : Int32)) (pc := 103) (tgt := 110) dX5_minutes_103 (by decide) ?_ ?_
  · refine r_iconst (v := (0 : Int32)) (pc := 110) dX5_minutes_110 (by decide) ?_
    exact s_X5_minutes_111  _ _ _ _ _
  refine r_iconst (v := (1 : Int32)) (pc := 106) dX5_minutes_106 (by decide) ?_
  refine r_goto (tgt := 111) (pc := 107) dX5_minutes_107 (by decide) ?_
  exact s_X5_minutes_111  _ _ _ _ _
noncomputable def f_X5_minutes_12 : Nat → QR → Int32 → QM → Option (Int32 × QM)
  | 0, _, _, _ => none
  | n + 1, r0, x1, M =>
    (gI M r0 [(4, 11)]).bind fun v13 => 
    if v13 = 0 then ((gI M r0 [(4, 10)]).bind fun v20 => 
      (gI M r0 [(4, 7)]).bind fun v24 => 
      if v24 ≤ v20 then (f_X5_minutes_92 r0 x1 M)
      else (gR M r0 [(4, 6)]).bind fun v31 => 
      (gI M r0 [(4, 10)]).bind fun v35 => 
      (aI M v31 v35).bind fun v38 => 
      (f_X5_in v38 (48 : Int32) (57 : Int32) M).bind fun v43 => 
      if v43 = 0 then (f_X5_minutes_92 r0 x1 M)
      else (gR M r0 [(4, 6)]).bind fun v54 => 
      (gI M r0 [(4, 10)]).bind fun v58 => 
      (aI M v54 v58).bind fun v61 => 
      if (500 : Int32) < ((((10 : Int32) * x1) + v61) - (48 : Int32)) then (f_X5_minutes_92 r0 x1 M)
      else qbI (qrc M r0 [4] (f_X5_sign r0 (48 : Int32) (57 : Int32) M)) fun v81 m81 => 
      f_X5_minutes_12 n r0 ((((10 : Int32) * x1) + v81) - (48 : Int32)) m81)
    else f_X5_minutes_92 r0 x1 M
theorem s_X5_minutes_12 {l : Launch} {M0 : QM} : ∀ (n : Nat) (r0 : QR) (x1 : Int32) (M : QM) , SB eI l kX5_minutes M0 (f_X5_minutes_12 n r0 x1 M) (0, 0) 12 M [some (.inr r0), some (.inl x1)] [] := by
  intro n
  induction n with
  | zero => intros; rw [f_X5_minutes_12]; exact r_none
  | succ n ih =>
    intro r0 x1  M
    rw [f_X5_minutes_12]
    refine r_aload_n (pc := 12) dX5_minutes_12 rfl ?_
    refine r_getI (pc := 13)  gf_X5_128 dX5_minutes_13 (fun v13 => ?_)
    refine r_if_ne (pc := 16) (tgt := 92) dX5_minutes_16 (by decide) ?_ ?_
    · exact s_X5_minutes_92  _ _ _
    refine r_aload_n (pc := 19) dX5_minutes_19 rfl ?_
    refine r_getI (pc := 20)  gf_X5_125 dX5_minutes_20 (fun v20 => ?_)
    refine r_aload_n (pc := 23) dX5_minutes_23 rfl ?_
    refine r_getI (pc := 24)  gf_X5_122 dX5_minutes_24 (fun v24 => ?_)
    refine r_icmp_ge (pc := 27) (tgt := 92) dX5_minutes_27 (by decide) ?_ ?_
    · exact s_X5_minutes_92  _ _ _
    refine r_aload_n (pc := 30) dX5_minutes_30 rfl ?_
    refine r_getR (pc := 31)  gf_X5_22 dX5_minutes_31 (fun v31 => ?_)
    refine r_aload_n (pc := 34) dX5_minutes_34 rfl ?_
    refine r_getI (pc := 35)  gf_X5_125 dX5_minutes_35 (fun v35 => ?_)
    refine r_iald (pc := 38) dX5_minutes_38 (fun v38 => ?_)
    refine r_bipush (v := (48 : Int32)) (pc := 39) dX5_minutes_39 (by decide) ?_
    refine r_bipush (v := (57 : Int32)) (pc := 41) dX5_minutes_41 (by decide) ?_
    refine r_callS_P (st := []) (vs := [.inl v38, .inl (48 : Int32), .inl (57 : Int32)]) (pc := 43)  ct_X5_in cf_X5_37 rfl rfl (Nat.le_of_ble_eq_true rfl) (by decide +kernel) dX5_minutes_43 (fun v43 => ?_)
    refine r_widen (u' := (0, 0)) (by decide +kernel) ?_
    refine r_if_eq (pc := 46) (tgt := 92) dX5_minutes_46 (by decide) ?_ ?_
    · exact s_X5_minutes_92  _ _ _
    refine r_bipush (v := (10 : Int32)) (pc := 49) dX5_minutes_49 (by decide) ?_
    refine r_iload_n (pc := 51) dX5_minutes_51 rfl ?_
    refine r_imul (pc := 52) dX5_minutes_52 ?_
    refine r_aload_n (pc := 53) dX5_minutes_53 rfl ?_
    refine r_getR (pc := 54)  gf_X5_22 dX5_minutes_54 (fun v54 => ?_)
    refine r_aload_n (pc := 57) dX5_minutes_57 rfl ?_
    refine r_getI (pc := 58)  gf_X5_125 dX5_minutes_58 (fun v58 => ?_)
    refine r_iald (pc := 61) dX5_minutes_61 (fun v61 => ?_)
    refine r_iadd (pc := 62) dX5_minutes_62 ?_
    refine r_bipush (v := (48 : Int32)) (pc := 63) dX5_minutes_63 (by decide) ?_
    refine r_isub (pc := 65) dX5_minutes_65 ?_
    refine r_sipush (v := (500 : Int32)) (pc := 66) dX5_minutes_66 (by decide) ?_
    refine r_icmp_gt (pc := 69) (tgt := 92) dX5_minutes_69 (by decide) ?_ ?_
    · exact s_X5_minutes_92  _ _ _
    refine r_bipush (v := (10 : Int32)) (pc := 72) dX5_minutes_72 (by decide) ?_
    refine r_iload_n (pc := 74) dX5_minutes_74 rfl ?_
    refine r_imul (pc := 75) dX5_minutes_75 ?_
    refine r_aload_n (pc := 76) dX5_minutes_76 rfl ?_
    refine r_bipush (v := (48 : Int32)) (pc := 77) dX5_minutes_77 (by decide) ?_
    refine r_bipush (v := (57 : Int32)) (pc := 79) dX5_minutes_79 (by decide) ?_
    refine r_callV_I (st := [.inl ((10 : Int32) * x1)]) (vs := [.inl (48 : Int32), .inl (57 : Int32)]) (pc := 81)  ct_X5_sign hc_4 cf_X5_132 rfl rfl (Nat.le_of_ble_eq_true rfl) (by decide +kernel) dX5_minutes_81 (fun v81 m81 => ?_)
    refine r_widen (u' := (0, 0)) (by decide +kernel) ?_
    refine r_iadd (pc := 84) dX5_minutes_84 ?_
    refine r_bipush (v := (48 : Int32)) (pc := 85) dX5_minutes_85 (by decide) ?_
    refine r_isub (pc := 87) dX5_minutes_87 ?_
    refine r_istore_n (pc := 88) dX5_minutes_88 (by decide) rfl ?_
    refine r_goto (tgt := 12) (pc := 89) dX5_minutes_89 (by decide) ?_
    exact ih _ _ _
noncomputable def f_X5_minutes (r0 : QR) (M : QM) : Option (Int32 × QM) :=
  qbI (qrc M r0 [4] (f_X5_sign r0 (49 : Int32) (57 : Int32) M)) fun v5 m5 => 
    f_X5_minutes_12 6 r0 (v5 - (48 : Int32)) m5
theorem s_X5_minutes {l : Launch} {M0 : QM} {r0 : QR} {M : QM} : SB eI l kX5_minutes M0 (f_X5_minutes r0 M) (0, 0) 0 M [some (.inr r0), none] [] := by
  unfold f_X5_minutes
  refine r_aload_n (pc := 0) dX5_minutes_0 rfl ?_
  refine r_bipush (v := (49 : Int32)) (pc := 1) dX5_minutes_1 (by decide) ?_
  refine r_bipush (v := (57 : Int32)) (pc := 3) dX5_minutes_3 (by decide) ?_
  refine r_callV_I (st := []) (vs := [.inl (49 : Int32), .inl (57 : Int32)]) (pc := 5)  ct_X5_sign hc_4 cf_X5_132 rfl rfl (Nat.le_of_ble_eq_true rfl) (by decide +kernel) dX5_minutes_5 (fun v5 m5 => ?_)
  refine r_widen (u' := (0, 0)) (by decide +kernel) ?_
  refine r_bipush (v := (48 : Int32)) (pc := 8) dX5_minutes_8 (by decide) ?_
  refine r_isub (pc := 10) dX5_minutes_10 ?_
  refine r_istore_n (pc := 11) dX5_minutes_11 (by decide) rfl ?_
  exact s_X5_minutes_12  6 _ _ _
theorem ct_X5_minutes {l : Launch} {r0 : QR} {M : QM} : ∀ b, f_X5_minutes r0 M = some b → PM l yX5_minutes (ws_ yX5_minutes cX5_minutes 2 (some .int)) rmX5_minutes [.inr r0] M (eI b).1 (eI b).2 := fun b hb =>
  PM.of (own := RX5) rfl (by decide +kernel) (Nat.le_of_ble_eq_true rfl) false (fun h => nomatch h) (s_X5_minutes b hb)
