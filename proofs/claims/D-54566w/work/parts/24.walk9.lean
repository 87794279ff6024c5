/-! methods as functions over the memory (printed by gen/run.py) -/
set_option maxRecDepth 100000
/-! X5_read: BarnPicturesModel.read()V, kind V -/
abbrev rmX5_read : Room := ({ frames := 3, cells := 0, slots := 0, locals := 66 })
abbrev kX5_read : QK := (RX5, cX5_read, 3, none, [], false, rmX5_read)
noncomputable def f_X5_read_202 (s0 : QR) (s1 : Int32) (M : QM) : Option (QM) :=
  (pF M s0 [(4, 14)] (.inl s1)).bind fun m202 => 
    some m202
theorem s_X5_read_202 {l : Launch} {M0 : QM} : ∀ (s0 : QR) (s1 : Int32) (d0 : Option QV) (d1 : Option QV) (d2 : Option QV) (M : QM) , SB eV l kX5_read M0 (f_X5_read_202 s0 s1 M) (0, 0) 202 M [d0, d1, d2] [.inl s1, .inr s0] := by
  intro s0 s1 d0 d1 d2 M
  unfold f_X5_read_202
  refine r_put (pc := 202)  pf_X5_144 (fun h => nomatch h) (fit_int _) dX5_read_202 (fun m202 => ?_)
  exact r_vretV (pc := 205) dX5_read_205 rfl (by decide +kernel)
noncomputable def f_X5_read_186 (r0 : QR) (x1 : Int32) (s0 : Int32) (M : QM) : Option (QM) :=
  if x1 = (102 : Int32) then (qbI (qrc M r0 [4] (f_X5_minutes r0 M)) fun v195 m195 => 
      f_X5_read_202 r0 v195 m195)
    else f_X5_read_202 r0 (0 : Int32) M
theorem s_X5_read_186 {l : Launch} {M0 : QM} : ∀ (r0 : QR) (x1 : Int32) (s0 : Int32) (d2 : Option QV) (M : QM) , SB eV l kX5_read M0 (f_X5_read_186 r0 x1 s0 M) (0, 0) 186 M [some (.inr r0), some (.inl x1), d2] [.inl s0] := by
  intro r0 x1 s0 d2 M
  unfold f_X5_read_186
  refine r_istore_n (pc := 186) dX5_read_186 (by decide) rfl ?_
  refine r_aload_n (pc := 187) dX5_read_187 rfl ?_
  refine r_iload_n (pc := 188) dX5_read_188 rfl ?_
  refine r_bipush (v := (102 : Int32)) (pc := 189) dX5_read_189 (by decide) ?_
  refine r_icmp_ne (pc := 191) (tgt := 201) dX5_read_191 (by decide) ?_ ?_
  · refine r_iconst (v := (0 : Int32)) (pc := 201) dX5_read_201 (by decide) ?_
    exact s_X5_read_202  _ _ _ _ _ _
  refine r_aload_n (pc := 194) dX5_read_194 rfl ?_
  refine r_callV_I (st := [.inr r0]) (vs := []) (pc := 195)  ct_X5_minutes hc_4 cf_X5_141 rfl rfl (Nat.le_of_ble_eq_true rfl) (by decide +kernel) dX5_read_195 (fun v195 m195 => ?_)
  refine r_widen (u' := (0, 0)) (by decide +kernel) ?_
  refine r_goto (tgt := 202) (pc := 198) dX5_read_198 (by decide) ?_
  exact s_X5_read_202  _ _ _ _ _ _
noncomputable def f_X5_read_165 (r0 : QR) (x1 : Int32) (s0 : QR) (s1 : Int32) (M : QM) : Option (QM) :=
  (pF M s0 [(4, 13)] (.inl s1)).bind fun m165 => 
    if x1 = (102 : Int32) then (qbI (qrc m165 r0 [4] (f_X5_sign r0 (58 : Int32) (58 : Int32) m165)) fun v179 m179 => 
      f_X5_read_186 r0 x1 v179 m179)
    else f_X5_read_186 r0 x1 (0 : Int32) m165
theorem s_X5_read_165 {l : Launch} {M0 : QM} : ∀ (r0 : QR) (x1 : Int32) (s0 : QR) (s1 : Int32) (d2 : Option QV) (M : QM) , SB eV l kX5_read M0 (f_X5_read_165 r0 x1 s0 s1 M) (0, 0) 165 M [some (.inr r0), some (.inl x1), d2] [.inl s1, .inr s0] := by
  intro r0 x1 s0 s1 d2 M
  unfold f_X5_read_165
  refine r_put (pc := 165)  pf_X5_138 (fun h => nomatch h) (fit_int _) dX5_read_165 (fun m165 => ?_)
  refine r_iload_n (pc := 168) dX5_read_168 rfl ?_
  refine r_bipush (v := (102 : Int32)) (pc := 169) dX5_read_169 (by decide) ?_
  refine r_icmp_ne (pc := 171) (tgt := 185) dX5_read_171 (by decide) ?_ ?_
  · refine r_iconst (v := (0 : Int32)) (pc := 185) dX5_read_185 (by decide) ?_
    exact s_X5_read_186  _ _ _ _ _
  refine r_aload_n (pc := 174) dX5_read_174 rfl ?_
  refine r_bipush (v := (58 : Int32)) (pc := 175) dX5_read_175 (by decide) ?_
  refine r_bipush (v := (58 : Int32)) (pc := 177) dX5_read_177 (by decide) ?_
  refine r_callV_I (st := []) (vs := [.inl (58 : Int32), .inl (58 : Int32)]) (pc := 179)  ct_X5_sign hc_4 cf_X5_132 rfl rfl (Nat.le_of_ble_eq_true rfl) (by decide +kernel) dX5_read_179 (fun v179 m179 => ?_)
  refine r_widen (u' := (0, 0)) (by decide +kernel) ?_
  refine r_goto (tgt := 186) (pc := 182) dX5_read_182 (by decide) ?_
  exact s_X5_read_186  _ _ _ _ _
noncomputable def f_X5_read_159 (r0 : QR) (x1 : Int32) (s0 : QR) (s1 : QR) (s2 : Int32) (s3 : Int32) (M : QM) : Option (QM) :=
  qbI (qrc M s1 [4] (f_X5_sign s1 s2 s3 M)) fun v159 m159 => 
    f_X5_read_165 r0 x1 s0 (v159 - (48 : Int32)) m159
theorem s_X5_read_159 {l : Launch} {M0 : QM} : ∀ (r0 : QR) (x1 : Int32) (s0 : QR) (s1 : QR) (s2 : Int32) (s3 : Int32) (d2 : Option QV) (M : QM) , SB eV l kX5_read M0 (f_X5_read_159 r0 x1 s0 s1 s2 s3 M) (0, 0) 159 M [some (.inr r0), some (.inl x1), d2] [.inl s3, .inl s2, .inr s1, .inr s0] := by
  intro r0 x1 s0 s1 s2 s3 d2 M
  unfold f_X5_read_159
  refine r_callV_I (st := [.inr s0]) (vs := [.inl s2, .inl s3]) (pc := 159)  ct_X5_sign hc_4 cf_X5_132 rfl rfl (Nat.le_of_ble_eq_true rfl) (by decide +kernel) dX5_read_159 (fun v159 m159 => ?_)
  refine r_widen (u' := (0, 0)) (by decide +kernel) ?_
  refine r_bipush (v := (48 : Int32)) (pc := 162) dX5_read_162 (by decide) ?_
  refine r_isub (pc := 164) dX5_read_164 ?_
  exact s_X5_read_165  _ _ _ _ _ _
noncomputable def f_X5_read_100 (r0 : QR) (x1 : Int32) (s0 : QR) (s1 : Int32) (s2 : Int32) (M : QM) : Option (QM) :=
  (pF M s0 [(4, 10)] (.inl (s1 + s2))).bind fun m101 => 
    (pF m101 r0 [(4, 12)] (.inl x1)).bind fun m106 => 
    if x1 = (115 : Int32) then (f_X5_read_165 r0 x1 r0 (0 : Int32) m106)
    else if x1 = (100 : Int32) then (f_X5_read_165 r0 x1 r0 (0 : Int32) m106)
    else f_X5_read_159 r0 x1 r0 r0 (48 : Int32) (if x1 = (118 : Int32) then (52 : Int32) else (if x1 = (43 : Int32) then (57 : Int32) else (if x1 = (45 : Int32) then (57 : Int32) else (49 : Int32)))) m106
theorem s_X5_read_100 {l : Launch} {M0 : QM} : ∀ (r0 : QR) (x1 : Int32) (s0 : QR) (s1 : Int32) (s2 : Int32) (d2 : Option QV) (M : QM) , SB eV l kX5_read M0 (f_X5_read_100 r0 x1 s0 s1 s2 M) (0, 0) 100 M [some (.inr r0), some (.inl x1), d2] [.inl s2, .inl s1, .inr s0] := by
  intro r0 x1 s0 s1 s2 d2 M
  unfold f_X5_read_100
  refine r_iadd (pc := 100) dX5_read_100 ?_
  refine r_put (pc := 101)  pf_X5_125 (fun h => nomatch h) (fit_int _) dX5_read_101 (fun m101 => ?_)
  refine r_aload_n (pc := 104) dX5_read_104 rfl ?_
  refine r_iload_n (pc := 105) dX5_read_105 rfl ?_
  refine r_put (pc := 106)  pf_X5_135 (fun h => nomatch h) (fit_int _) dX5_read_106 (fun m106 => ?_)
  refine r_aload_n (pc := 109) dX5_read_109 rfl ?_
  refine r_iload_n (pc := 110) dX5_read_110 rfl ?_
  refine r_bipush (v := (115 : Int32)) (pc := 111) dX5_read_111 (by decide) ?_
  refine r_icmp_eq (pc := 113) (tgt := 122) dX5_read_113 (by decide) ?_ ?_
  · refine r_iconst (v := (0 : Int32)) (pc := 122) dX5_read_122 (by decide) ?_
    refine r_goto (tgt := 165) (pc := 123) dX5_read_123 (by decide) ?_
    exact s_X5_read_165  _ _ _ _ _ _
  refine r_iload_n (pc := 116) dX5_read_116 rfl ?_
  refine r_bipush (v := (100 : Int32)) (pc := 117) dX5_read_117 (by decide) ?_
  refine r_icmp_ne (pc := 119) (tgt := 126) dX5_read_119 (by decide) ?_ ?_
  · refine r_aload_n (pc := 126) dX5_read_126 rfl ?_
    refine r_bipush (v := (48 : Int32)) (pc := 127) dX5_read_127 (by decide) ?_
    refine r_iload_n (pc := 129) dX5_read_129 rfl ?_
    refine r_bipush (v := (118 : Int32)) (pc := 130) dX5_read_130 (by decide) ?_
    refine r_icmp_neF (F := (fun (z9 : Int32) => f_X5_read_159 r0 x1 r0 r0 (48 : Int32) z9 m106)) (zA := (52 : Int32)) (zB := (if x1 = (43 : Int32) then (57 : Int32) else (if x1 = (45 : Int32) then (57 : Int32) else (49 : Int32)))) (pc := 132) (tgt := 140) dX5_read_132 (by decide) ?_ ?_
    · refine r_iload_n (pc := 140) dX5_read_140 rfl ?_
      refine r_bipush (v := (43 : Int32)) (pc := 141) dX5_read_141 (by decide) ?_
      refine r_icmp_eqF (F := (fun (z9 : Int32) => f_X5_read_159 r0 x1 r0 r0 (48 : Int32) z9 m106)) (zA := (57 : Int32)) (zB := (if x1 = (45 : Int32) then (57 : Int32) else (49 : Int32))) (pc := 143) (tgt := 152) dX5_read_143 (by decide) ?_ ?_
      · refine r_bipush (v := (57 : Int32)) (pc := 152) dX5_read_152 (by decide) ?_
        refine r_goto (tgt := 159) (pc := 154) dX5_read_154 (by decide) ?_
        exact s_X5_read_159  _ _ _ _ _ _ _ _
      refine r_iload_n (pc := 146) dX5_read_146 rfl ?_
      refine r_bipush (v := (45 : Int32)) (pc := 147) dX5_read_147 (by decide) ?_
      refine r_icmp_neF (F := (fun (z9 : Int32) => f_X5_read_159 r0 x1 r0 r0 (48 : Int32) z9 m106)) (zA := (57 : Int32)) (zB := (49 : Int32)) (pc := 149) (tgt := 157) dX5_read_149 (by decide) ?_ ?_
      · refine r_bipush (v := (49 : Int32)) (pc := 157) dX5_read_157 (by decide) ?_
        exact s_X5_read_159  _ _ _ _ _ _ _ _
      refine r_bipush (v := (57 : Int32)) (pc := 152) dX5_read_152 (by decide) ?_
      refine r_goto (tgt := 159) (pc := 154) dX5_read_154 (by decide) ?_
      exact s_X5_read_159  _ _ _ _ _ _ _ _
    refine r_bipush (v := (52 : Int32)) (pc := 135) dX5_read_135 (by decide) ?_
    refine r_goto (tgt := 159) (pc := 137) dX5_read_137 (by decide) ?_
    exact s_X5_read_159  _ _ _ _ _ _ _ _
  refine r_iconst (v := (0 : Int32)) (pc := 122) dX5_read_122 (by decide) ?_
  refine r_goto (tgt := 165) (pc := 123) dX5_read_123 (by decide) ?_
  exact s_X5_read_165  _ _ _ _ _ _
noncomputable def f_X5_read_80 (r0 : QR) (x1 : Int32) (s0 : QR) (s1 : Int32) (M : QM) : Option (QM) :=
  qnf .boolean s1 <| (pF M s0 [(4, 11)] (.inl s1)).bind fun m80 => 
    (gI m80 r0 [(4, 10)]).bind fun v85 => 
    (gI m80 r0 [(4, 11)]).bind fun v89 => 
    f_X5_read_100 r0 x1 r0 v85 (if v89 = 0 then (1 : Int32) else (0 : Int32)) m80
theorem s_X5_read_80 {l : Launch} {M0 : QM} : ∀ (r0 : QR) (x1 : Int32) (s0 : QR) (s1 : Int32) (d2 : Option QV) (M : QM) , SB eV l kX5_read M0 (f_X5_read_80 r0 x1 s0 s1 M) (0, 0) 80 M [some (.inr r0), some (.inl x1), d2] [.inl s1, .inr s0] := by
  intro r0 x1 s0 s1 d2 M
  unfold f_X5_read_80
  refine r_putN (pc := 80)  pf_X5_128 (fun h => nomatch h) (by decide) dX5_read_80 (fun m80 => ?_)
  refine r_aload_n (pc := 83) dX5_read_83 rfl ?_
  refine r_dup (pc := 84) dX5_read_84 ?_
  refine r_getI (pc := 85)  gf_X5_125 dX5_read_85 (fun v85 => ?_)
  refine r_aload_n (pc := 88) dX5_read_88 rfl ?_
  refine r_getI (pc := 89)  gf_X5_128 dX5_read_89 (fun v89 => ?_)
  refine r_if_eqF (F := (fun (z9 : Int32) => f_X5_read_100 r0 x1 r0 v85 z9 m80)) (zA := (1 : Int32)) (zB := (0 : Int32)) (pc := 92) (tgt := 99) dX5_read_92 (by decide) ?_ ?_
  · refine r_iconst (v := (1 : Int32)) (pc := 99) dX5_read_99 (by decide) ?_
    exact s_X5_read_100  _ _ _ _ _ _ _
  refine r_iconst (v := (0 : Int32)) (pc := 95) dX5_read_95 (by decide) ?_
  refine r_goto (tgt := 100) (pc := 96) dX5_read_96 (by decide) ?_
  exact s_X5_read_100  _ _ _ _ _ _ _
noncomputable def f_X5_read_24 (r0 : QR) (s0 : Int32) (M : QM) : Option (QM) :=
  (gI M r0 [(4, 11)]).bind fun v27 => 
    f_X5_read_80 r0 s0 r0 (if v27 = 0 then (if s0 = (118 : Int32) then (0 : Int32) else (if s0 = (43 : Int32) then (0 : Int32) else (if s0 = (45 : Int32) then (0 : Int32) else (if s0 = (103 : Int32) then (0 : Int32) else (if s0 = (102 : Int32) then (0 : Int32) else (if s0 = (115 : Int32) then (0 : Int32) else (if s0 = (100 : Int32) then (0 : Int32) else (1 : Int32)))))))) else (1 : Int32)) M
theorem s_X5_read_24 {l : Launch} {M0 : QM} : ∀ (r0 : QR) (s0 : Int32) (d1 : Option QV) (d2 : Option QV) (M : QM) , SB eV l kX5_read M0 (f_X5_read_24 r0 s0 M) (0, 0) 24 M [some (.inr r0), d1, d2] [.inl s0] := by
  intro r0 s0 d1 d2 M
  unfold f_X5_read_24
  refine r_istore_n (pc := 24) dX5_read_24 (by decide) rfl ?_
  refine r_aload_n (pc := 25) dX5_read_25 rfl ?_
  refine r_aload_n (pc := 26) dX5_read_26 rfl ?_
  refine r_getI (pc := 27)  gf_X5_128 dX5_read_27 (fun v27 => ?_)
  refine r_if_neF (F := (fun (z9 : Int32) => f_X5_read_80 r0 s0 r0 z9 M)) (zA := (if s0 = (118 : Int32) then (0 : Int32) else (if s0 = (43 : Int32) then (0 : Int32) else (if s0 = (45 : Int32) then (0 : Int32) else (if s0 = (103 : Int32) then (0 : Int32) else (if s0 = (102 : Int32) then (0 : Int32) else (if s0 = (115 : Int32) then (0 : Int32) else (if s0 = (100 : Int32) then (0 : Int32) else (1 : Int32))))))))) (zB := (1 : Int32)) (pc := 30) (tgt := 75) dX5_read_30 (by decide) ?_ ?_
  · refine r_iconst (v := (1 : Int32)) (pc := 75) dX5_read_75 (by decide) ?_
    refine r_goto (tgt := 80) (pc := 76) dX5_read_76 (by decide) ?_
    exact s_X5_read_80  _ _ _ _ _ _
  refine r_iload_n (pc := 33) dX5_read_33 rfl ?_
  refine r_bipush (v := (118 : Int32)) (pc := 34) dX5_read_34 (by decide) ?_
  refine r_icmp_eqF (F := (fun (z9 : Int32) => f_X5_read_80 r0 s0 r0 z9 M)) (zA := (0 : Int32)) (zB := (if s0 = (43 : Int32) then (0 : Int32) else (if s0 = (45 : Int32) then (0 : Int32) else (if s0 = (103 : Int32) then (0 : Int32) else (if s0 = (102 : Int32) then (0 : Int32) else (if s0 = (115 : Int32) then (0 : Int32) else (if s0 = (100 : Int32) then (0 : Int32) else (1 : Int32)))))))) (pc := 36) (tgt := 79) dX5_read_36 (by decide) ?_ ?_
  · refine r_iconst (v := (0 : Int32)) (pc := 79) dX5_read_79 (by decide) ?_
    exact s_X5_read_80  _ _ _ _ _ _
  refine r_iload_n (pc := 39) dX5_read_39 rfl ?_
  refine r_bipush (v := (43 : Int32)) (pc := 40) dX5_read_40 (by decide) ?_
  refine r_icmp_eqF (F := (fun (z9 : Int32) => f_X5_read_80 r0 s0 r0 z9 M)) (zA := (0 : Int32)) (zB := (if s0 = (45 : Int32) then (0 : Int32) else (if s0 = (103 : Int32) then (0 : Int32) else (if s0 = (102 : Int32) then (0 : Int32) else (if s0 = (115 : Int32) then (0 : Int32) else (if s0 = (100 : Int32) then (0 : Int32) else (1 : Int32))))))) (pc := 42) (tgt := 79) dX5_read_42 (by decide) ?_ ?_
  · refine r_iconst (v := (0 : Int32)) (pc := 79) dX5_read_79 (by decide) ?_
    exact s_X5_read_80  _ _ _ _ _ _
  refine r_iload_n (pc := 45) dX5_read_45 rfl ?_
  refine r_bipush (v := (45 : Int32)) (pc := 46) dX5_read_46 (by decide) ?_
  refine r_icmp_eqF (F := (fun (z9 : Int32) => f_X5_read_80 r0 s0 r0 z9 M)) (zA := (0 : Int32)) (zB := (if s0 = (103 : Int32) then (0 : Int32) else (if s0 = (102 : Int32) then (0 : Int32) else (if s0 = (115 : Int32) then (0 : Int32) else (if s0 = (100 : Int32) then (0 : Int32) else (1 : Int32)))))) (pc := 48) (tgt := 79) dX5_read_48 (by decide) ?_ ?_
  · refine r_iconst (v := (0 : Int32)) (pc := 79) dX5_read_79 (by decide) ?_
    exact s_X5_read_80  _ _ _ _ _ _
  refine r_iload_n (pc := 51) dX5_read_51 rfl ?_
  refine r_bipush (v := (103 : Int32)) (pc := 52) dX5_read_52 (by decide) ?_
  refine r_icmp_eqF (F := (fun (z9 : Int32) => f_X5_read_80 r0 s0 r0 z9 M)) (zA := (0 : Int32)) (zB := (if s0 = (102 : Int32) then (0 : Int32) else (if s0 = (115 : Int32) then (0 : Int32) else (if s0 = (100 : Int32) then (0 : Int32) else (1 : Int32))))) (pc := 54) (tgt := 79) dX5_read_54 (by decide) ?_ ?_
  · refine r_iconst (v := (0 : Int32)) (pc := 79) dX5_read_79 (by decide) ?_
    exact s_X5_read_80  _ _ _ _ _ _
  refine r_iload_n (pc := 57) dX5_read_57 rfl ?_
  refine r_bipush (v := (102 : Int32)) (pc := 58) dX5_read_58 (by decide) ?_
  refine r_icmp_eqF (F := (fun (z9 : Int32) => f_X5_read_80 r0 s0 r0 z9 M)) (zA := (0 : Int32)) (zB := (if s0 = (115 : Int32) then (0 : Int32) else (if s0 = (100 : Int32) then (0 : Int32) else (1 : Int32)))) (pc := 60) (tgt := 79) dX5_read_60 (by decide) ?_ ?_
  · refine r_iconst (v := (0 : Int32)) (pc := 79) dX5_read_79 (by decide) ?_
    exact s_X5_read_80  _ _ _ _ _ _
  refine r_iload_n (pc := 63) dX5_read_63 rfl ?_
  refine r_bipush (v := (115 : Int32)) (pc := 64) dX5_read_64 (by decide) ?_
  refine r_icmp_eqF (F := (fun (z9 : Int32) => f_X5_read_80 r0 s0 r0 z9 M)) (zA := (0 : Int32)) (zB := (if s0 = (100 : Int32) then (0 : Int32) else (1 : Int32))) (pc := 66) (tgt := 79) dX5_read_66 (by decide) ?_ ?_
  · refine r_iconst (v := (0 : Int32)) (pc := 79) dX5_read_79 (by decide) ?_
    exact s_X5_read_80  _ _ _ _ _ _
  refine r_iload_n (pc := 69) dX5_read_69 rfl ?_
  refine r_bipush (v := (100 : Int32)) (pc := 70) dX5_read_70 (by decide) ?_
  refine r_icmp_eqF (F := (fun (z9 : Int32) => f_X5_read_80 r0 s0 r0 z9 M)) (zA := (0 : Int32)) (zB := (1 : Int32)) (pc := 72) (tgt := 79) dX5_read_72 (by decide) ?_ ?_
  · refine r_iconst (v := (0 : Int32)) (pc := 79) dX5_read_79 (by decide) ?_
    exact s_X5_read_80  _ _ _ _ _ _
  refine r_iconst (v := (1 : Int32)) (pc := 75) dX5_read_75 (by decide) ?_
  refine r_goto (tgt := 80) (pc := 76) dX5_read_76 (by decide) ?_
  exact s_X5_read_80  _ _ _ _ _ _
noncomputable def f_X5_read (r0 : QR) (M : QM) : Option (QM) :=
  (gI M r0 [(4, 10)]).bind fun v1 => 
    (gI M r0 [(4, 7)]).bind fun v5 => 
    if v5 ≤ v1 then (f_X5_read_24 r0 (0 : Int32) M)
    else (gR M r0 [(4, 6)]).bind fun v12 => 
    (gI M r0 [(4, 10)]).bind fun v16 => 
    (aI M v12 v16).bind fun v19 => 
    f_X5_read_24 r0 v19 M
theorem s_X5_read {l : Launch} {M0 : QM} {r0 : QR} {M : QM} : SB eV l kX5_read M0 (f_X5_read r0 M) (0, 0) 0 M [some (.inr r0), none, none] [] := by
  unfold f_X5_read
  refine r_aload_n (pc := 0) dX5_read_0 rfl ?_
  refine r_getI (pc := 1)  gf_X5_125 dX5_read_1 (fun v1 => ?_)
  refine r_aload_n (pc := 4) dX5_read_4 rfl ?_
  refine r_getI (pc := 5)  gf_X5_122 dX5_read_5 (fun v5 => ?_)
  refine r_icmp_ge (pc := 8) (tgt := 23) dX5_read_8 (by decide) ?_ ?_
  · refine r_iconst (v := (0 : Int32)) (pc := 23) dX5_read_23 (by decide) ?_
    exact s_X5_read_24  _ _ _ _ _
  refine r_aload_n (pc := 11) dX5_read_11 rfl ?_
  refine r_getR (pc := 12)  gf_X5_22 dX5_read_12 (fun v12 => ?_)
  refine r_aload_n (pc := 15) dX5_read_15 rfl ?_
  refine r_getI (pc := 16)  gf_X5_125 dX5_read_16 (fun v16 => ?_)
  refine r_iald (pc := 19) dX5_read_19 (fun v19 => ?_)
  refine r_goto (tgt := 24) (pc := 20) dX5_read_20 (by decide) ?_
  exact s_X5_read_24  _ _ _ _ _
theorem ct_X5_read {l : Launch} {r0 : QR} {M : QM} : ∀ b, f_X5_read r0 M = some b → PM l yX5_read (ws_ yX5_read cX5_read 3 none) rmX5_read [.inr r0] M (eV b).1 (eV b).2 := fun b hb =>
  PM.of (own := RX5) rfl (by decide +kernel) (Nat.le_of_ble_eq_true rfl) false (fun h => nomatch h) (s_X5_read b hb)
/-! X5_wrong: BarnPicturesModel.wrong()I, kind P -/
abbrev rmX5_wrong : Room := ({ frames := 3, cells := 0, slots := 0, locals := 69 })
abbrev kX5_wrong : QK := (RX5, cX5_wrong, 1, (some .int), [], false, rmX5_wrong)
noncomputable def f_X5_wrong_119 (M : QM) (s0 : QR) (s1 : Int32) (s2 : Int32) : Option (Int32) :=
  (qrc M s0 [4] (f_X5_moveFault s0 s1 s2 M)).bind fun v119 => 
    some v119
theorem s_X5_wrong_119 {l : Launch} (M : QM) : ∀ (s0 : QR) (s1 : Int32) (s2 : Int32) (d0 : Option QV) , SB (eP M) l kX5_wrong M (f_X5_wrong_119 M s0 s1 s2) (0, 0) 119 M [d0] [.inl s2, .inl s1, .inr s0] := by
  intro s0 s1 s2 d0
  unfold f_X5_wrong_119
  refine r_callV_P (st := []) (vs := [.inl s1, .inl s2]) (pc := 119)  ct_X5_moveFault hc_4 cf_X5_89 rfl rfl (Nat.le_of_ble_eq_true rfl) (by decide +kernel) dX5_wrong_119 (fun v119 => ?_)
  refine r_widen (u' := (0, 0)) (by decide +kernel) ?_
  refine r_goto (tgt := 127) (pc := 122) dX5_wrong_122 (by decide) ?_
  exact r_iretP (pc := 127) dX5_wrong_127 rfl (by decide +kernel)
noncomputable def f_X5_wrong_85 (M : QM) (r0 : QR) : Option (Int32) :=
  (gI M r0 [(4, 13)]).bind fun v87 => 
    (qrc M r0 [4] (f_X5_isReel r0 v87 M)).bind fun v90 => 
    if v90 = 0 then (some (-10000001 : Int32))
    else (gI M r0 [(4, 13)]).bind fun v98 => 
    (f_X5_of v98 (0 : Int32) M).bind fun v102 => 
    (gI M r0 [(4, 12)]).bind fun v106 => 
    f_X5_wrong_119 M r0 v102 (if v106 = (43 : Int32) then (1 : Int32) else (0 : Int32))
theorem s_X5_wrong_85 {l : Launch} (M : QM) : ∀ (r0 : QR) , SB (eP M) l kX5_wrong M (f_X5_wrong_85 M r0) (0, 0) 85 M [some (.inr r0)] [] := by
  intro r0
  unfold f_X5_wrong_85
  refine r_aload_n (pc := 85) dX5_wrong_85 rfl ?_
  refine r_aload_n (pc := 86) dX5_wrong_86 rfl ?_
  refine r_getI (pc := 87)  gf_X5_138 dX5_wrong_87 (fun v87 => ?_)
  refine r_callV_P (st := []) (vs := [.inl v87]) (pc := 90)  ct_X5_isReel hc_4 cf_X5_96 rfl rfl (Nat.le_of_ble_eq_true rfl) (by decide +kernel) dX5_wrong_90 (fun v90 => ?_)
  refine r_widen (u' := (0, 0)) (by decide +kernel) ?_
  refine r_if_eq (pc := 93) (tgt := 125) dX5_wrong_93 (by decide) ?_ ?_
  · refine r_ldc (pc := 125) dX5_wrong_125 q1155 ?_
    exact r_iretP (pc := 127) dX5_wrong_127 rfl (by decide +kernel)
  refine r_aload_n (pc := 96) dX5_wrong_96 rfl ?_
  refine r_aload_n (pc := 97) dX5_wrong_97 rfl ?_
  refine r_getI (pc := 98)  gf_X5_138 dX5_wrong_98 (fun v98 => ?_)
  refine r_iconst (v := (0 : Int32)) (pc := 101) dX5_wrong_101 (by decide) ?_
  refine r_callS_P (st := [.inr r0]) (vs := [.inl v98, .inl (0 : Int32)]) (pc := 102)  ct_X5_of cf_X5_33 rfl rfl (Nat.le_of_ble_eq_true rfl) (by decide +kernel) dX5_wrong_102 (fun v102 => ?_)
  refine r_widen (u' := (0, 0)) (by decide +kernel) ?_
  refine r_aload_n (pc := 105) dX5_wrong_105 rfl ?_
  refine r_getI (pc := 106)  gf_X5_135 dX5_wrong_106 (fun v106 => ?_)
  refine r_bipush (v := (43 : Int32)) (pc := 109) dX5_wrong_109 (by decide) ?_
  refine r_icmp_neF (F := (fun (z9 : Int32) => f_X5_wrong_119 M r0 v102 z9)) (zA := (1 : Int32)) (zB := (0 : Int32)) (pc := 111) (tgt := 118) dX5_wrong_111 (by decide) ?_ ?_
  · refine r_iconst (v := (0 : Int32)) (pc := 118) dX5_wrong_118 (by decide) ?_
    exact s_X5_wrong_119 M _ _ _ _
  refine r_iconst (v := (1 : Int32)) (pc := 114) dX5_wrong_114 (by decide) ?_
  refine r_goto (tgt := 119) (pc := 115) dX5_wrong_115 (by decide) ?_
  exact s_X5_wrong_119 M _ _ _ _
noncomputable def f_X5_wrong_162 (M : QM) (s0 : QR) (s1 : Int32) (s2 : Int32) : Option (Int32) :=
  (qrc M s0 [4] (f_X5_moveFault s0 s1 s2 M)).bind fun v162 => 
    some v162
theorem s_X5_wrong_162 {l : Launch} (M : QM) : ∀ (s0 : QR) (s1 : Int32) (s2 : Int32) (d0 : Option QV) , SB (eP M) l kX5_wrong M (f_X5_wrong_162 M s0 s1 s2) (0, 0) 162 M [d0] [.inl s2, .inl s1, .inr s0] := by
  intro s0 s1 s2 d0
  unfold f_X5_wrong_162
  refine r_callV_P (st := []) (vs := [.inl s1, .inl s2]) (pc := 162)  ct_X5_moveFault hc_4 cf_X5_89 rfl rfl (Nat.le_of_ble_eq_true rfl) (by decide +kernel) dX5_wrong_162 (fun v162 => ?_)
  refine r_widen (u' := (0, 0)) (by decide +kernel) ?_
  exact r_iretP (pc := 165) dX5_wrong_165 rfl (by decide +kernel)
noncomputable def f_X5_wrong (r0 : QR) (M : QM) : Option (Int32) :=
  (gI M r0 [(4, 12)]).bind fun v1 => 
    if v1 = (43 : Int32) then (f_X5_wrong_85 M r0)
    else if v1 = (45 : Int32) then (f_X5_wrong_85 M r0)
    else if v1 = (102 : Int32) then ((gI M r0 [(4, 13)]).bind fun v168 => 
      (gI M r0 [(4, 14)]).bind fun v172 => 
      (qrc M r0 [4] (f_X5_fuelFault r0 v168 v172 M)).bind fun v175 => 
      some v175)
    else if v1 = (103 : Int32) then ((gI M r0 [(4, 13)]).bind fun v133 => 
      (gR M r0 [(4, 0)]).bind fun v139 => 
      (gI M r0 [(4, 13)]).bind fun v146 => 
      (aI M v139 ((50 : Int32) + ((2 : Int32) * v146))).bind fun v151 => 
      f_X5_wrong_162 M r0 ((50 : Int32) + ((2 : Int32) * v133)) (if v151 = (-10000005 : Int32) then (0 : Int32) else (1 : Int32)))
    else if v1 = (115 : Int32) then ((gR M r0 [(4, 0)]).bind fun v181 => 
      (aI M v181 (54 : Int32)).bind fun v186 => 
      (qrc M r0 [4] (f_X5_why r0 v186 M)).bind fun v187 => 
      if v187 = 0 then (some (0 : Int32))
      else (gR M r0 [(4, 0)]).bind fun v201 => 
      (aI M v201 (54 : Int32)).bind fun v206 => 
      (qrc M r0 [4] (f_X5_why r0 v206 M)).bind fun v207 => 
      some ((-10000010 : Int32) - v207))
    else if v1 = (118 : Int32) then ((gR M r0 [(4, 0)]).bind fun v65 => 
      (aI M v65 (54 : Int32)).bind fun v70 => 
      (gI M r0 [(4, 13)]).bind fun v72 => 
      if v70 = v72 then (some (-10000005 : Int32))
      else some (0 : Int32))
    else (gR M r0 [(4, 0)]).bind fun v213 => 
    (aI M v213 (55 : Int32)).bind fun v218 => 
    if v218 = (9999 : Int32) then (some (-10000003 : Int32))
    else some (0 : Int32)
theorem s_X5_wrong {l : Launch} {r0 : QR} {M : QM} : SB (eP M) l kX5_wrong M (f_X5_wrong r0 M) (0, 0) 0 M [some (.inr r0)] [] := by
  unfold f_X5_wrong
  refine r_aload_n (pc := 0) dX5_wrong_0 rfl ?_
  refine r_getI (pc := 1)  gf_X5_135 dX5_wrong_1 (fun v1 => ?_)
  refine r_iteE (fun _ => ?_) (fun e4_0 => ?_)
  · refine r_lookup (pc := 4) (off := 81) (tgt := 85) dX5_wrong_4 (by decide) (by decide) (by decide) ?_
    exact s_X5_wrong_85 M _
  refine r_iteE (fun _ => ?_) (fun e4_1 => ?_)
  · refine r_lookup (pc := 4) (off := 81) (tgt := 85) dX5_wrong_4 (by decide) (by decide) (by decide) ?_
    exact s_X5_wrong_85 M _
  refine r_iteE (fun _ => ?_) (fun e4_2 => ?_)
  · refine r_lookup (pc := 4) (off := 162) (tgt := 166) dX5_wrong_4 (by decide) (by decide) (by decide) ?_
    refine r_aload_n (pc := 166) dX5_wrong_166 rfl ?_
    refine r_aload_n (pc := 167) dX5_wrong_167 rfl ?_
    refine r_getI (pc := 168)  gf_X5_138 dX5_wrong_168 (fun v168 => ?_)
    refine r_aload_n (pc := 171) dX5_wrong_171 rfl ?_
    refine r_getI (pc := 172)  gf_X5_144 dX5_wrong_172 (fun v172 => ?_)
    refine r_callV_P (st := []) (vs := [.inl v168, .inl v172]) (pc := 175)  ct_X5_fuelFault hc_4 cf_X5_103 rfl rfl (Nat.le_of_ble_eq_true rfl) (by decide +kernel) dX5_wrong_175 (fun v175 => ?_)
    refine r_widen (u' := (0, 0)) (by decide +kernel) ?_
    exact r_iretP (pc := 178) dX5_wrong_178 rfl (by decide +kernel)
  refine r_iteE (fun _ => ?_) (fun e4_3 => ?_)
  · refine r_lookup (pc := 4) (off := 124) (tgt := 128) dX5_wrong_4 (by decide) (by decide) (by decide) ?_
    refine r_aload_n (pc := 128) dX5_wrong_128 rfl ?_
    refine r_bipush (v := (50 : Int32)) (pc := 129) dX5_wrong_129 (by decide) ?_
    refine r_iconst (v := (2 : Int32)) (pc := 131) dX5_wrong_131 (by decide) ?_
    refine r_aload_n (pc := 132) dX5_wrong_132 rfl ?_
    refine r_getI (pc := 133)  gf_X5_138 dX5_wrong_133 (fun v133 => ?_)
    refine r_imul (pc := 136) dX5_wrong_136 ?_
    refine r_iadd (pc := 137) dX5_wrong_137 ?_
    refine r_aload_n (pc := 138) dX5_wrong_138 rfl ?_
    refine r_getR (pc := 139)  gf_X5_7 dX5_wrong_139 (fun v139 => ?_)
    refine r_bipush (v := (50 : Int32)) (pc := 142) dX5_wrong_142 (by decide) ?_
    refine r_iconst (v := (2 : Int32)) (pc := 144) dX5_wrong_144 (by decide) ?_
    refine r_aload_n (pc := 145) dX5_wrong_145 rfl ?_
    refine r_getI (pc := 146)  gf_X5_138 dX5_wrong_146 (fun v146 => ?_)
    refine r_imul (pc := 149) dX5_wrong_149 ?_
    refine r_iadd (pc := 150) dX5_wrong_150 ?_
    refine r_iald (pc := 151) dX5_wrong_151 (fun v151 => ?_)
    refine r_ldc (pc := 152) dX5_wrong_152 q1092 ?_
    refine r_icmp_eqF (F := (fun (z9 : Int32) => f_X5_wrong_162 M r0 ((50 : Int32) + ((2 : Int32) * v133)) z9)) (zA := (0 : Int32)) (zB := (1 : Int32)) (pc := 154) (tgt := 161) dX5_wrong_154 (by decide) ?_ ?_
    · refine r_iconst (v := (0 : Int32)) (pc := 161) dX5_wrong_161 (by decide) ?_
      exact s_X5_wrong_162 M _ _ _ _
    refine r_iconst (v := (1 : Int32)) (pc := 157) dX5_wrong_157 (by decide) ?_
    refine r_goto (tgt := 162) (pc := 158) dX5_wrong_158 (by decide) ?_
    exact s_X5_wrong_162 M _ _ _ _
  refine r_iteE (fun _ => ?_) (fun e4_4 => ?_)
  · refine r_lookup (pc := 4) (off := 175) (tgt := 179) dX5_wrong_4 (by decide) (by decide) (by decide) ?_
    refine r_aload_n (pc := 179) dX5_wrong_179 rfl ?_
    refine r_aload_n (pc := 180) dX5_wrong_180 rfl ?_
    refine r_getR (pc := 181)  gf_X5_7 dX5_wrong_181 (fun v181 => ?_)
    refine r_bipush (v := (54 : Int32)) (pc := 184) dX5_wrong_184 (by decide) ?_
    refine r_iald (pc := 186) dX5_wrong_186 (fun v186 => ?_)
    refine r_callV_P (st := []) (vs := [.inl v186]) (pc := 187)  ct_X5_why hc_4 cf_X5_112 rfl rfl (Nat.le_of_ble_eq_true rfl) (by decide +kernel) dX5_wrong_187 (fun v187 => ?_)
    refine r_widen (u' := (0, 0)) (by decide +kernel) ?_
    refine r_if_ne (pc := 190) (tgt := 197) dX5_wrong_190 (by decide) ?_ ?_
    · refine r_ldc (pc := 197) dX5_wrong_197 q1241 ?_
      refine r_aload_n (pc := 199) dX5_wrong_199 rfl ?_
      refine r_aload_n (pc := 200) dX5_wrong_200 rfl ?_
      refine r_getR (pc := 201)  gf_X5_7 dX5_wrong_201 (fun v201 => ?_)
      refine r_bipush (v := (54 : Int32)) (pc := 204) dX5_wrong_204 (by decide) ?_
      refine r_iald (pc := 206) dX5_wrong_206 (fun v206 => ?_)
      refine r_callV_P (st := [.inl (-10000010 : Int32)]) (vs := [.inl v206]) (pc := 207)  ct_X5_why hc_4 cf_X5_112 rfl rfl (Nat.le_of_ble_eq_true rfl) (by decide +kernel) dX5_wrong_207 (fun v207 => ?_)
      refine r_widen (u' := (0, 0)) (by decide +kernel) ?_
      refine r_isub (pc := 210) dX5_wrong_210 ?_
      exact r_iretP (pc := 211) dX5_wrong_211 rfl (by decide +kernel)
    refine r_iconst (v := (0 : Int32)) (pc := 193) dX5_wrong_193 (by decide) ?_
    refine r_goto (tgt := 211) (pc := 194) dX5_wrong_194 (by decide) ?_
    exact r_iretP (pc := 211) dX5_wrong_211 rfl (by decide +kernel)
  refine r_iteE (fun _ => ?_) (fun e4_5 => ?_)
  · refine r_lookup (pc := 4) (off := 60) (tgt := 64) dX5_wrong_4 (by decide) (by decide) (by decide) ?_
    refine r_aload_n (pc := 64) dX5_wrong_64 rfl ?_
    refine r_getR (pc := 65)  gf_X5_7 dX5_wrong_65 (fun v65 => ?_)
    refine r_bipush (v := (54 : Int32)) (pc := 68) dX5_wrong_68 (by decide) ?_
    refine r_iald (pc := 70) dX5_wrong_70 (fun v70 => ?_)
    refine r_aload_n (pc := 71) dX5_wrong_71 rfl ?_
    refine r_getI (pc := 72)  gf_X5_138 dX5_wrong_72 (fun v72 => ?_)
    refine r_icmp_ne (pc := 75) (tgt := 83) dX5_wrong_75 (by decide) ?_ ?_
    · refine r_iconst (v := (0 : Int32)) (pc := 83) dX5_wrong_83 (by decide) ?_
      exact r_iretP (pc := 84) dX5_wrong_84 rfl (by decide +kernel)
    refine r_ldc (pc := 78) dX5_wrong_78 q1092 ?_
    refine r_goto (tgt := 84) (pc := 80) dX5_wrong_80 (by decide) ?_
    exact r_iretP (pc := 84) dX5_wrong_84 rfl (by decide +kernel)
  have he4_0 : (v1).toInt ≠ 43 := ne_toInt e4_0
  have he4_1 : (v1).toInt ≠ 45 := ne_toInt e4_1
  have he4_2 : (v1).toInt ≠ 102 := ne_toInt e4_2
  have he4_3 : (v1).toInt ≠ 103 := ne_toInt e4_3
  have he4_4 : (v1).toInt ≠ 115 := ne_toInt e4_4
  have he4_5 : (v1).toInt ≠ 118 := ne_toInt e4_5
  refine r_lookup (pc := 4) (off := 208) (tgt := 212) dX5_wrong_4 (by decide) (by simp [Op.lookupswitch.offset, (Ne.symm he4_0), (Ne.symm he4_1), (Ne.symm he4_2), (Ne.symm he4_3), (Ne.symm he4_4), (Ne.symm he4_5)]) (by decide) ?_
  refine r_aload_n (pc := 212) dX5_wrong_212 rfl ?_
  refine r_getR (pc := 213)  gf_X5_7 dX5_wrong_213 (fun v213 => ?_)
  refine r_bipush (v := (55 : Int32)) (pc := 216) dX5_wrong_216 (by decide) ?_
  refine r_iald (pc := 218) dX5_wrong_218 (fun v218 => ?_)
  refine r_sipush (v := (9999 : Int32)) (pc := 219) dX5_wrong_219 (by decide) ?_
  refine r_icmp_ne (pc := 222) (tgt := 230) dX5_wrong_222 (by decide) ?_ ?_
  · refine r_iconst (v := (0 : Int32)) (pc := 230) dX5_wrong_230 (by decide) ?_
    exact r_iretP (pc := 231) dX5_wrong_231 rfl (by decide +kernel)
  refine r_ldc (pc := 225) dX5_wrong_225 q1188 ?_
  refine r_goto (tgt := 231) (pc := 227) dX5_wrong_227 (by decide) ?_
  exact r_iretP (pc := 231) dX5_wrong_231 rfl (by decide +kernel)
theorem ct_X5_wrong {l : Launch} {r0 : QR} {M : QM} : ∀ b, f_X5_wrong r0 M = some b → PM l yX5_wrong (ws_ yX5_wrong cX5_wrong 1 (some .int)) rmX5_wrong [.inr r0] M ((eP M) b).1 ((eP M) b).2 := fun b hb =>
  PM.of (own := RX5) rfl (by decide +kernel) (Nat.le_of_ble_eq_true rfl) false (fun h => nomatch h) (s_X5_wrong b hb)
/-! X5_does: BarnPicturesModel.does()I, kind I -/
abbrev rmX5_does : Room := ({ frames := 4, cells := 0, slots := 0, locals := 96 })
abbrev kX5_does : QK := (RX5, cX5_does, 4, (some .int), [], false, rmX5_does)
noncomputable def f_X5_does_172 (s0 : Int32) (M : QM) : Option (Int32 × QM) :=
  some ((0 : Int32), M)
theorem s_X5_does_172 {l : Launch} {M0 : QM} : ∀ (s0 : Int32) (d0 : Option QV) (d1 : Option QV) (d2 : Option QV) (d3 : Option QV) (M : QM) , SB eI l kX5_does M0 (f_X5_does_172 s0 M) (0, 0) 172 M [d0, d1, d2, d3] [.inl s0] := by
  intro s0 d0 d1 d2 d3 M
  unfold f_X5_does_172
  refine r_istore_n (pc := 172) dX5_does_172 (by decide) rfl ?_
  refine r_iconst (v := (0 : Int32)) (pc := 173) dX5_does_173 (by decide) ?_
  exact r_iretI (pc := 174) dX5_does_174 rfl (by decide +kernel)
noncomputable def f_X5_does_75 (s0 : QR) (s1 : Int32) (s2 : Int32) (M : QM) : Option (Int32 × QM) :=
  qbI (qrc M s0 [4] (f_X5_moves s0 s1 s2 M)) fun v75 m75 => 
    f_X5_does_172 v75 m75
theorem s_X5_does_75 {l : Launch} {M0 : QM} : ∀ (s0 : QR) (s1 : Int32) (s2 : Int32) (d0 : Option QV) (d1 : Option QV) (d2 : Option QV) (d3 : Option QV) (M : QM) , SB eI l kX5_does M0 (f_X5_does_75 s0 s1 s2 M) (0, 0) 75 M [d0, d1, d2, d3] [.inl s2, .inl s1, .inr s0] := by
  intro s0 s1 s2 d0 d1 d2 d3 M
  unfold f_X5_does_75
  refine r_callV_I (st := []) (vs := [.inl s1, .inl s2]) (pc := 75)  ct_X5_moves hc_4 cf_X5_93 rfl rfl (Nat.le_of_ble_eq_true rfl) (by decide +kernel) dX5_does_75 (fun v75 m75 => ?_)
  refine r_widen (u' := (0, 0)) (by decide +kernel) ?_
  refine r_goto (tgt := 172) (pc := 78) dX5_does_78 (by decide) ?_
  exact s_X5_does_172  _ _ _ _ _ _
noncomputable def f_X5_does_55 (r0 : QR) (x1 : Int32) (M : QM) : Option (Int32 × QM) :=
  (gI M r0 [(4, 13)]).bind fun v57 => 
    (f_X5_of v57 (0 : Int32) M).bind fun v61 => 
    f_X5_does_75 r0 v61 (if x1 = (43 : Int32) then (1 : Int32) else (0 : Int32)) M
theorem s_X5_does_55 {l : Launch} {M0 : QM} : ∀ (r0 : QR) (x1 : Int32) (d2 : Option QV) (d3 : Option QV) (M : QM) , SB eI l kX5_does M0 (f_X5_does_55 r0 x1 M) (0, 0) 55 M [some (.inr r0), some (.inl x1), d2, d3] [] := by
  intro r0 x1 d2 d3 M
  unfold f_X5_does_55
  refine r_aload_n (pc := 55) dX5_does_55 rfl ?_
  refine r_aload_n (pc := 56) dX5_does_56 rfl ?_
  refine r_getI (pc := 57)  gf_X5_138 dX5_does_57 (fun v57 => ?_)
  refine r_iconst (v := (0 : Int32)) (pc := 60) dX5_does_60 (by decide) ?_
  refine r_callS_P (st := [.inr r0]) (vs := [.inl v57, .inl (0 : Int32)]) (pc := 61)  ct_X5_of cf_X5_33 rfl rfl (Nat.le_of_ble_eq_true rfl) (by decide +kernel) dX5_does_61 (fun v61 => ?_)
  refine r_widen (u' := (0, 0)) (by decide +kernel) ?_
  refine r_iload_n (pc := 64) dX5_does_64 rfl ?_
  refine r_bipush (v := (43 : Int32)) (pc := 65) dX5_does_65 (by decide) ?_
  refine r_icmp_neF (F := (fun (z9 : Int32) => f_X5_does_75 r0 v61 z9 M)) (zA := (1 : Int32)) (zB := (0 : Int32)) (pc := 67) (tgt := 74) dX5_does_67 (by decide) ?_ ?_
  · refine r_iconst (v := (0 : Int32)) (pc := 74) dX5_does_74 (by decide) ?_
    exact s_X5_does_75  _ _ _ _ _ _ _ _
  refine r_iconst (v := (1 : Int32)) (pc := 70) dX5_does_70 (by decide) ?_
  refine r_goto (tgt := 75) (pc := 71) dX5_does_71 (by decide) ?_
  exact s_X5_does_75  _ _ _ _ _ _ _ _
noncomputable def f_X5_does_121 (s0 : QR) (s1 : Int32) (s2 : Int32) (M : QM) : Option (Int32 × QM) :=
  qbI (qrc M s0 [4] (f_X5_moves s0 s1 s2 M)) fun v121 m121 => 
    f_X5_does_172 v121 m121
theorem s_X5_does_121 {l : Launch} {M0 : QM} : ∀ (s0 : QR) (s1 : Int32) (s2 : Int32) (d0 : Option QV) (d1 : Option QV) (d2 : Option QV) (d3 : Option QV) (M : QM) , SB eI l kX5_does M0 (f_X5_does_121 s0 s1 s2 M) (0, 0) 121 M [d0, d1, d2, d3] [.inl s2, .inl s1, .inr s0] := by
  intro s0 s1 s2 d0 d1 d2 d3 M
  unfold f_X5_does_121
  refine r_callV_I (st := []) (vs := [.inl s1, .inl s2]) (pc := 121)  ct_X5_moves hc_4 cf_X5_93 rfl rfl (Nat.le_of_ble_eq_true rfl) (by decide +kernel) dX5_does_121 (fun v121 m121 => ?_)
  refine r_widen (u' := (0, 0)) (by decide +kernel) ?_
  refine r_goto (tgt := 172) (pc := 124) dX5_does_124 (by decide) ?_
  exact s_X5_does_172  _ _ _ _ _ _
noncomputable def f_X5_does (r0 : QR) (M : QM) : Option (Int32 × QM) :=
  (gI M r0 [(4, 12)]).bind fun v1 => 
    (qrc M r0 [4] (f_X5_wrong r0 M)).bind fun v6 => 
    if 0 ≤ v6 then (if v1 = (118 : Int32) then ((gI M r0 [(4, 13)]).bind fun v34 => 
        qbI (qrc M r0 [4] (f_X5_drives r0 v34 M)) fun v37 m37 => 
        f_X5_does_172 v37 m37)
      else if v1 = (43 : Int32) then (f_X5_does_55 r0 v1 M)
      else if v1 = (45 : Int32) then (f_X5_does_55 r0 v1 M)
      else if v1 = (103 : Int32) then ((gI M r0 [(4, 13)]).bind fun v92 => 
        (gR M r0 [(4, 0)]).bind fun v98 => 
        (gI M r0 [(4, 13)]).bind fun v105 => 
        (aI M v98 ((50 : Int32) + ((2 : Int32) * v105))).bind fun v110 => 
        f_X5_does_121 r0 ((50 : Int32) + ((2 : Int32) * v92)) (if v110 = (-10000005 : Int32) then (0 : Int32) else (1 : Int32)) M)
      else if v1 = (102 : Int32) then ((gI M r0 [(4, 13)]).bind fun v135 => 
        (gI M r0 [(4, 14)]).bind fun v139 => 
        qbI (qrc M r0 [4] (f_X5_fuels r0 v135 v139 M)) fun v142 m142 => 
        f_X5_does_172 v142 m142)
      else if v1 = (115 : Int32) then ((gR M r0 [(4, 0)]).bind fun v156 => 
        (aI M v156 (54 : Int32)).bind fun v161 => 
        qbI (qrc M r0 [4] (f_X5_shows r0 v161 M)) fun v162 m162 => 
        f_X5_does_172 v162 m162)
      else qbI (qrc M r0 [4] (f_X5_begins r0 M)) fun v169 m169 => 
      f_X5_does_172 v169 m169)
    else if v6 = (-10000005 : Int32) then (some ((0 : Int32), M))
    else some (v6, M)
theorem s_X5_does {l : Launch} {M0 : QM} {r0 : QR} {M : QM} : SB eI l kX5_does M0 (f_X5_does r0 M) (0, 0) 0 M [some (.inr r0), none, none, none] [] := by
  unfold f_X5_does
  refine r_aload_n (pc := 0) dX5_does_0 rfl ?_
  refine r_getI (pc := 1)  gf_X5_135 dX5_does_1 (fun v1 => ?_)
  refine r_istore_n (pc := 4) dX5_does_4 (by decide) rfl ?_
  refine r_aload_n (pc := 5) dX5_does_5 rfl ?_
  refine r_callV_P (st := []) (vs := []) (pc := 6)  ct_X5_wrong hc_4 cf_X5_147 rfl rfl (Nat.le_of_ble_eq_true rfl) (by decide +kernel) dX5_does_6 (fun v6 => ?_)
  refine r_widen (u' := (0, 0)) (by decide +kernel) ?_
  refine r_istore_n (pc := 9) dX5_does_9 (by decide) rfl ?_
  refine r_iload_n (pc := 10) dX5_does_10 rfl ?_
  refine r_if_ge (pc := 11) (tgt := 26) dX5_does_11 (by decide) ?_ ?_
  · refine r_iload_n (pc := 26) dX5_does_26 rfl ?_
    refine r_bipush (v := (118 : Int32)) (pc := 27) dX5_does_27 (by decide) ?_
    refine r_icmp_ne (pc := 29) (tgt := 43) dX5_does_29 (by decide) ?_ ?_
    · refine r_iload_n (pc := 43) dX5_does_43 rfl ?_
      refine r_bipush (v := (43 : Int32)) (pc := 44) dX5_does_44 (by decide) ?_
      refine r_icmp_eq (pc := 46) (tgt := 55) dX5_does_46 (by decide) ?_ ?_
      · exact s_X5_does_55  _ _ _ _ _
      refine r_iload_n (pc := 49) dX5_does_49 rfl ?_
      refine r_bipush (v := (45 : Int32)) (pc := 50) dX5_does_50 (by decide) ?_
      refine r_icmp_ne (pc := 52) (tgt := 81) dX5_does_52 (by decide) ?_ ?_
      · refine r_iload_n (pc := 81) dX5_does_81 rfl ?_
        refine r_bipush (v := (103 : Int32)) (pc := 82) dX5_does_82 (by decide) ?_
        refine r_icmp_ne (pc := 84) (tgt := 127) dX5_does_84 (by decide) ?_ ?_
        · refine r_iload_n (pc := 127) dX5_does_127 rfl ?_
          refine r_bipush (v := (102 : Int32)) (pc := 128) dX5_does_128 (by decide) ?_
          refine r_icmp_ne (pc := 130) (tgt := 148) dX5_does_130 (by decide) ?_ ?_
          · refine r_iload_n (pc := 148) dX5_does_148 rfl ?_
            refine r_bipush (v := (115 : Int32)) (pc := 149) dX5_does_149 (by decide) ?_
            refine r_icmp_ne (pc := 151) (tgt := 168) dX5_does_151 (by decide) ?_ ?_
            · refine r_aload_n (pc := 168) dX5_does_168 rfl ?_
              refine r_callV_I (st := []) (vs := []) (pc := 169)  ct_X5_begins hc_4 cf_X5_119 rfl rfl (Nat.le_of_ble_eq_true rfl) (by decide +kernel) dX5_does_169 (fun v169 m169 => ?_)
              refine r_widen (u' := (0, 0)) (by decide +kernel) ?_
              exact s_X5_does_172  _ _ _ _ _ _
            refine r_aload_n (pc := 154) dX5_does_154 rfl ?_
            refine r_aload_n (pc := 155) dX5_does_155 rfl ?_
            refine r_getR (pc := 156)  gf_X5_7 dX5_does_156 (fun v156 => ?_)
            refine r_bipush (v := (54 : Int32)) (pc := 159) dX5_does_159 (by decide) ?_
            refine r_iald (pc := 161) dX5_does_161 (fun v161 => ?_)
            refine r_callV_I (st := []) (vs := [.inl v161]) (pc := 162)  ct_X5_shows hc_4 cf_X5_116 rfl rfl (Nat.le_of_ble_eq_true rfl) (by decide +kernel) dX5_does_162 (fun v162 m162 => ?_)
            refine r_widen (u' := (0, 0)) (by decide +kernel) ?_
            refine r_goto (tgt := 172) (pc := 165) dX5_does_165 (by decide) ?_
            exact s_X5_does_172  _ _ _ _ _ _
          refine r_aload_n (pc := 133) dX5_does_133 rfl ?_
          refine r_aload_n (pc := 134) dX5_does_134 rfl ?_
          refine r_getI (pc := 135)  gf_X5_138 dX5_does_135 (fun v135 => ?_)
          refine r_aload_n (pc := 138) dX5_does_138 rfl ?_
          refine r_getI (pc := 139)  gf_X5_144 dX5_does_139 (fun v139 => ?_)
          refine r_callV_I (st := []) (vs := [.inl v135, .inl v139]) (pc := 142)  ct_X5_fuels hc_4 cf_X5_106 rfl rfl (Nat.le_of_ble_eq_true rfl) (by decide +kernel) dX5_does_142 (fun v142 m142 => ?_)
          refine r_widen (u' := (0, 0)) (by decide +kernel) ?_
          refine r_goto (tgt := 172) (pc := 145) dX5_does_145 (by decide) ?_
          exact s_X5_does_172  _ _ _ _ _ _
        refine r_aload_n (pc := 87) dX5_does_87 rfl ?_
        refine r_bipush (v := (50 : Int32)) (pc := 88) dX5_does_88 (by decide) ?_
        refine r_iconst (v := (2 : Int32)) (pc := 90) dX5_does_90 (by decide) ?_
        refine r_aload_n (pc := 91) dX5_does_91 rfl ?_
        refine r_getI (pc := 92)  gf_X5_138 dX5_does_92 (fun v92 => ?_)
        refine r_imul (pc := 95) dX5_does_95 ?_
        refine r_iadd (pc := 96) dX5_does_96 ?_
        refine r_aload_n (pc := 97) dX5_does_97 rfl ?_
        refine r_getR (pc := 98)  gf_X5_7 dX5_does_98 (fun v98 => ?_)
        refine r_bipush (v := (50 : Int32)) (pc := 101) dX5_does_101 (by decide) ?_
        refine r_iconst (v := (2 : Int32)) (pc := 103) dX5_does_103 (by decide) ?_
        refine r_aload_n (pc := 104) dX5_does_104 rfl ?_
        refine r_getI (pc := 105)  gf_X5_138 dX5_does_105 (fun v105 => ?_)
        refine r_imul (pc := 108) dX5_does_108 ?_
        refine r_iadd (pc := 109) dX5_does_109 ?_
        refine r_iald (pc := 110) dX5_does_110 (fun v110 => ?_)
        refine r_ldc (pc := 111) dX5_does_111 q1092 ?_
        refine r_icmp_eqF (F := (fun (z9 : Int32) => f_X5_does_121 r0 ((50 : Int32) + ((2 : Int32) * v92)) z9 M)) (zA := (0 : Int32)) (zB := (1 : Int32)) (pc := 113) (tgt := 120) dX5_does_113 (by decide) ?_ ?_
        · refine r_iconst (v := (0 : Int32)) (pc := 120) dX5_does_120 (by decide) ?_
          exact s_X5_does_121  _ _ _ _ _ _ _ _
        refine r_iconst (v := (1 : Int32)) (pc := 116) dX5_does_116 (by decide) ?_
        refine r_goto (tgt := 121) (pc := 117) dX5_does_117 (by decide) ?_
        exact s_X5_does_121  _ _ _ _ _ _ _ _
      exact s_X5_does_55  _ _ _ _ _
    refine r_aload_n (pc := 32) dX5_does_32 rfl ?_
    refine r_aload_n (pc := 33) dX5_does_33 rfl ?_
    refine r_getI (pc := 34)  gf_X5_138 dX5_does_34 (fun v34 => ?_)
    refine r_callV_I (st := []) (vs := [.inl v34]) (pc := 37)  ct_X5_drives hc_4 cf_X5_86 rfl rfl (Nat.le_of_ble_eq_true rfl) (by decide +kernel) dX5_does_37 (fun v37 m37 => ?_)
    refine r_widen (u' := (0, 0)) (by decide +kernel) ?_
    refine r_goto (tgt := 172) (pc := 40) dX5_does_40 (by decide) ?_
    exact s_X5_does_172  _ _ _ _ _ _
  refine r_iload_n (pc := 14) dX5_does_14 rfl ?_
  refine r_ldc (pc := 15) dX5_does_15 q1092 ?_
  refine r_icmp_ne (pc := 17) (tgt := 24) dX5_does_17 (by decide) ?_ ?_
  · refine r_iload_n (pc := 24) dX5_does_24 rfl ?_
    exact r_iretI (pc := 25) dX5_does_25 rfl (by decide +kernel)
  refine r_iconst (v := (0 : Int32)) (pc := 20) dX5_does_20 (by decide) ?_
  refine r_goto (tgt := 25) (pc := 21) dX5_does_21 (by decide) ?_
  exact r_iretI (pc := 25) dX5_does_25 rfl (by decide +kernel)
theorem ct_X5_does {l : Launch} {r0 : QR} {M : QM} : ∀ b, f_X5_does r0 M = some b → PM l yX5_does (ws_ yX5_does cX5_does 4 (some .int)) rmX5_does [.inr r0] M (eI b).1 (eI b).2 := fun b hb =>
  PM.of (own := RX5) rfl (by decide +kernel) (Nat.le_of_ble_eq_true rfl) false (fun h => nomatch h) (s_X5_does b hb)
/-! X5_go: BarnPicturesModel.go(Z)I, kind I -/
abbrev rmX5_go : Room := ({ frames := 5, cells := 0, slots := 0, locals := 119 })
abbrev kX5_go : QK := (RX5, cX5_go, 5, (some .int), [], false, rmX5_go)
noncomputable def f_X5_go_115 (kL19 : QR → Int32 → Int32 → Int32 → QM → Option (Int32 × QM)) (r0 : QR) (x1 : Int32) (x2 : Int32) (s0 : Int32) (M : QM) : Option (Int32 × QM) :=
  kL19 r0 x1 x2 s0 M
theorem s_X5_go_115 {l : Launch} {M0 : QM} (kL19 : QR → Int32 → Int32 → Int32 → QM → Option (Int32 × QM)) (hkL19 : ∀ (r0 : QR) (x1 : Int32) (x2 : Int32) (x3 : Int32) (d4 : Option QV) (M : QM) , SB eI l kX5_go M0 (kL19 r0 x1 x2 x3 M) (0, 0) 19 M [some (.inr r0), some (.inl x1), some (.inl x2), some (.inl x3), d4] []) : ∀ (r0 : QR) (x1 : Int32) (x2 : Int32) (s0 : Int32) (d3 : Option QV) (d4 : Option QV) (M : QM) , SB eI l kX5_go M0 (f_X5_go_115 kL19 r0 x1 x2 s0 M) (0, 0) 115 M [some (.inr r0), some (.inl x1), some (.inl x2), d3, d4] [.inl s0] := by
  intro r0 x1 x2 s0 d3 d4 M
  unfold f_X5_go_115
  refine r_istore_n (pc := 115) dX5_go_115 (by decide) rfl ?_
  refine r_goto (tgt := 19) (pc := 116) dX5_go_116 (by decide) ?_
  exact hkL19 _ _ _ _ _ _
noncomputable def f_X5_go_88 (kL19 : QR → Int32 → Int32 → Int32 → QM → Option (Int32 × QM)) (r0 : QR) (x1 : Int32) (x2 : Int32) (s0 : Int32) (M : QM) : Option (Int32 × QM) :=
  if s0 = 0 then (kL19 r0 x1 x2 s0 M)
    else qbI (qrc M r0 [4] (f_X5_sign r0 (44 : Int32) (44 : Int32) M)) fun v98 m98 => 
    (gI m98 r0 [(4, 11)]).bind fun v104 => 
    f_X5_go_115 kL19 r0 x1 x2 (if v104 = 0 then (1 : Int32) else (0 : Int32)) m98
theorem s_X5_go_88 {l : Launch} {M0 : QM} (kL19 : QR → Int32 → Int32 → Int32 → QM → Option (Int32 × QM)) (hkL19 : ∀ (r0 : QR) (x1 : Int32) (x2 : Int32) (x3 : Int32) (d4 : Option QV) (M : QM) , SB eI l kX5_go M0 (kL19 r0 x1 x2 x3 M) (0, 0) 19 M [some (.inr r0), some (.inl x1), some (.inl x2), some (.inl x3), d4] []) : ∀ (r0 : QR) (x1 : Int32) (x2 : Int32) (s0 : Int32) (d3 : Option QV) (d4 : Option QV) (M : QM) , SB eI l kX5_go M0 (f_X5_go_88 kL19 r0 x1 x2 s0 M) (0, 0) 88 M [some (.inr r0), some (.inl x1), some (.inl x2), d3, d4] [.inl s0] := by
  intro r0 x1 x2 s0 d3 d4 M
  unfold f_X5_go_88
  refine r_istore_n (pc := 88) dX5_go_88 (by decide) rfl ?_
  refine r_iload_n (pc := 89) dX5_go_89 rfl ?_
  refine r_if_eq (pc := 90) (tgt := 19) dX5_go_90 (by decide) ?_ ?_
  · exact hkL19 _ _ _ _ _ _
  refine r_aload_n (pc := 93) dX5_go_93 rfl ?_
  refine r_bipush (v := (44 : Int32)) (pc := 94) dX5_go_94 (by decide) ?_
  refine r_bipush (v := (44 : Int32)) (pc := 96) dX5_go_96 (by decide) ?_
  refine r_callV_I (st := []) (vs := [.inl (44 : Int32), .inl (44 : Int32)]) (pc := 98)  ct_X5_sign hc_4 cf_X5_132 rfl rfl (Nat.le_of_ble_eq_true rfl) (by decide +kernel) dX5_go_98 (fun v98 m98 => ?_)
  refine r_widen (u' := (0, 0)) (by decide +kernel) ?_
  refine r_istore (pc := 101) dX5_go_101 (by decide) rfl ?_
  refine r_aload_n (pc := 103) dX5_go_103 rfl ?_
  refine r_getI (pc := 104)  gf_X5_128 dX5_go_104 (fun v104 => ?_)
  refine r_if_neF (F := (fun (z9 : Int32) => f_X5_go_115 kL19 r0 x1 x2 z9 m98)) (zA := (1 : Int32)) (zB := (0 : Int32)) (pc := 107) (tgt := 114) dX5_go_107 (by decide) ?_ ?_
  · refine r_iconst (v := (0 : Int32)) (pc := 114) dX5_go_114 (by decide) ?_
    exact s_X5_go_115 kL19 hkL19 _ _ _ _ _ _ _
  refine r_iconst (v := (1 : Int32)) (pc := 110) dX5_go_110 (by decide) ?_
  refine r_goto (tgt := 115) (pc := 111) dX5_go_111 (by decide) ?_
  exact s_X5_go_115 kL19 hkL19 _ _ _ _ _ _ _
noncomputable def f_X5_go_56 (kL19 : QR → Int32 → Int32 → Int32 → QM → Option (Int32 × QM)) (r0 : QR) (x1 : Int32) (s0 : Int32) (s1 : Int32) (M : QM) : Option (Int32 × QM) :=
  (gI M r0 [(4, 11)]).bind fun v59 => 
    if v59 = 0 then ((gI M r0 [(4, 15)]).bind fun v66 => 
      if v66 = 0 then ((gI M r0 [(4, 10)]).bind fun v73 => 
        (gI M r0 [(4, 7)]).bind fun v77 => 
        f_X5_go_88 kL19 r0 x1 (s0 + s1) (if v77 ≤ v73 then (0 : Int32) else (1 : Int32)) M)
      else f_X5_go_88 kL19 r0 x1 (s0 + s1) (0 : Int32) M)
    else f_X5_go_88 kL19 r0 x1 (s0 + s1) (0 : Int32) M
theorem s_X5_go_56 {l : Launch} {M0 : QM} (kL19 : QR → Int32 → Int32 → Int32 → QM → Option (Int32 × QM)) (hkL19 : ∀ (r0 : QR) (x1 : Int32) (x2 : Int32) (x3 : Int32) (d4 : Option QV) (M : QM) , SB eI l kX5_go M0 (kL19 r0 x1 x2 x3 M) (0, 0) 19 M [some (.inr r0), some (.inl x1), some (.inl x2), some (.inl x3), d4] []) : ∀ (r0 : QR) (x1 : Int32) (s0 : Int32) (s1 : Int32) (d2 : Option QV) (d3 : Option QV) (d4 : Option QV) (M : QM) , SB eI l kX5_go M0 (f_X5_go_56 kL19 r0 x1 s0 s1 M) (0, 0) 56 M [some (.inr r0), some (.inl x1), d2, d3, d4] [.inl s1, .inl s0] := by
  intro r0 x1 s0 s1 d2 d3 d4 M
  unfold f_X5_go_56
  refine r_iadd (pc := 56) dX5_go_56 ?_
  refine r_istore_n (pc := 57) dX5_go_57 (by decide) rfl ?_
  refine r_aload_n (pc := 58) dX5_go_58 rfl ?_
  refine r_getI (pc := 59)  gf_X5_128 dX5_go_59 (fun v59 => ?_)
  refine r_if_ne (pc := 62) (tgt := 87) dX5_go_62 (by decide) ?_ ?_
  · refine r_iconst (v := (0 : Int32)) (pc := 87) dX5_go_87 (by decide) ?_
    exact s_X5_go_88 kL19 hkL19 _ _ _ _ _ _ _
  refine r_aload_n (pc := 65) dX5_go_65 rfl ?_
  refine r_getI (pc := 66)  gf_X5_150 dX5_go_66 (fun v66 => ?_)
  refine r_if_ne (pc := 69) (tgt := 87) dX5_go_69 (by decide) ?_ ?_
  · refine r_iconst (v := (0 : Int32)) (pc := 87) dX5_go_87 (by decide) ?_
    exact s_X5_go_88 kL19 hkL19 _ _ _ _ _ _ _
  refine r_aload_n (pc := 72) dX5_go_72 rfl ?_
  refine r_getI (pc := 73)  gf_X5_125 dX5_go_73 (fun v73 => ?_)
  refine r_aload_n (pc := 76) dX5_go_76 rfl ?_
  refine r_getI (pc := 77)  gf_X5_122 dX5_go_77 (fun v77 => ?_)
  refine r_icmp_geF (F := (fun (z9 : Int32) => f_X5_go_88 kL19 r0 x1 (s0 + s1) z9 M)) (zA := (0 : Int32)) (zB := (1 : Int32)) (pc := 80) (tgt := 87) dX5_go_80 (by decide) ?_ ?_
  · refine r_iconst (v := (0 : Int32)) (pc := 87) dX5_go_87 (by decide) ?_
    exact s_X5_go_88 kL19 hkL19 _ _ _ _ _ _ _
  refine r_iconst (v := (1 : Int32)) (pc := 83) dX5_go_83 (by decide) ?_
  refine r_goto (tgt := 88) (pc := 84) dX5_go_84 (by decide) ?_
  exact s_X5_go_88 kL19 hkL19 _ _ _ _ _ _ _
noncomputable def f_X5_go_40 (kL19 : QR → Int32 → Int32 → Int32 → QM → Option (Int32 × QM)) (r0 : QR) (x1 : Int32) (x2 : Int32) (s0 : QR) (s1 : Int32) (M : QM) : Option (Int32 × QM) :=
  (pF M s0 [(4, 15)] (.inl s1)).bind fun m40 => 
    (gI m40 r0 [(4, 15)]).bind fun v45 => 
    f_X5_go_56 kL19 r0 x1 x2 (if v45 = 0 then (1 : Int32) else (0 : Int32)) m40
theorem s_X5_go_40 {l : Launch} {M0 : QM} (kL19 : QR → Int32 → Int32 → Int32 → QM → Option (Int32 × QM)) (hkL19 : ∀ (r0 : QR) (x1 : Int32) (x2 : Int32) (x3 : Int32) (d4 : Option QV) (M : QM) , SB eI l kX5_go M0 (kL19 r0 x1 x2 x3 M) (0, 0) 19 M [some (.inr r0), some (.inl x1), some (.inl x2), some (.inl x3), d4] []) : ∀ (r0 : QR) (x1 : Int32) (x2 : Int32) (s0 : QR) (s1 : Int32) (d3 : Option QV) (d4 : Option QV) (M : QM) , SB eI l kX5_go M0 (f_X5_go_40 kL19 r0 x1 x2 s0 s1 M) (0, 0) 40 M [some (.inr r0), some (.inl x1), some (.inl x2), d3, d4] [.inl s1, .inr s0] := by
  intro r0 x1 x2 s0 s1 d3 d4 M
  unfold f_X5_go_40
  refine r_put (pc := 40)  pf_X5_150 (fun h => nomatch h) (fit_int _) dX5_go_40 (fun m40 => ?_)
  refine r_iload_n (pc := 43) dX5_go_43 rfl ?_
  refine r_aload_n (pc := 44) dX5_go_44 rfl ?_
  refine r_getI (pc := 45)  gf_X5_150 dX5_go_45 (fun v45 => ?_)
  refine r_if_neF (F := (fun (z9 : Int32) => f_X5_go_56 kL19 r0 x1 x2 z9 m40)) (zA := (1 : Int32)) (zB := (0 : Int32)) (pc := 48) (tgt := 55) dX5_go_48 (by decide) ?_ ?_
  · refine r_iconst (v := (0 : Int32)) (pc := 55) dX5_go_55 (by decide) ?_
    exact s_X5_go_56 kL19 hkL19 _ _ _ _ _ _ _ _
  refine r_iconst (v := (1 : Int32)) (pc := 51) dX5_go_51 (by decide) ?_
  refine r_goto (tgt := 56) (pc := 52) dX5_go_52 (by decide) ?_
  exact s_X5_go_56 kL19 hkL19 _ _ _ _ _ _ _ _
noncomputable def f_X5_go_19 : Nat → QR → Int32 → Int32 → Int32 → QM → Option (Int32 × QM)
  | 0, _, _, _, _, _ => none
  | n + 1, r0, x1, x2, x3, M =>
    if x3 = 0 then (some (x2, M))
    else (qrc M r0 [4] (f_X5_read r0 M)).bind fun m24 => 
    if x1 = 0 then (f_X5_go_40 (f_X5_go_19 n) r0 x1 x2 r0 (0 : Int32) m24)
    else qbI (qrc m24 r0 [4] (f_X5_does r0 m24)) fun v33 m33 => 
    f_X5_go_40 (f_X5_go_19 n) r0 x1 x2 r0 v33 m33
theorem s_X5_go_19 {l : Launch} {M0 : QM} : ∀ (n : Nat) (r0 : QR) (x1 : Int32) (x2 : Int32) (x3 : Int32) (d4 : Option QV) (M : QM) , SB eI l kX5_go M0 (f_X5_go_19 n r0 x1 x2 x3 M) (0, 0) 19 M [some (.inr r0), some (.inl x1), some (.inl x2), some (.inl x3), d4] [] := by
  intro n
  induction n with
  | zero => intros; rw [f_X5_go_19]; exact r_none
  | succ n ih =>
    intro r0 x1 x2 x3 d4 M
    rw [f_X5_go_19]
    refine r_iload_n (pc := 19) dX5_go_19 rfl ?_
    refine r_if_eq (pc := 20) (tgt := 119) dX5_go_20 (by decide) ?_ ?_
    · refine r_iload_n (pc := 119) dX5_go_119 rfl ?_
      exact r_iretI (pc := 120) dX5_go_120 rfl (by decide +kernel)
    refine r_aload_n (pc := 23) dX5_go_23 rfl ?_
    refine r_callV_V (st := []) (vs := []) (pc := 24)  ct_X5_read hc_4 cf_X5_153 rfl rfl (Nat.le_of_ble_eq_true rfl) (by decide +kernel) dX5_go_24 (fun m24 => ?_)
    refine r_widen (u' := (0, 0)) (by decide +kernel) ?_
    refine r_aload_n (pc := 27) dX5_go_27 rfl ?_
    refine r_iload_n (pc := 28) dX5_go_28 rfl ?_
    refine r_if_eq (pc := 29) (tgt := 39) dX5_go_29 (by decide) ?_ ?_
    · refine r_iconst (v := (0 : Int32)) (pc := 39) dX5_go_39 (by decide) ?_
      exact s_X5_go_40 (f_X5_go_19 n) ih _ _ _ _ _ _ _ _
    refine r_aload_n (pc := 32) dX5_go_32 rfl ?_
    refine r_callV_I (st := [.inr r0]) (vs := []) (pc := 33)  ct_X5_does hc_4 cf_X5_156 rfl rfl (Nat.le_of_ble_eq_true rfl) (by decide +kernel) dX5_go_33 (fun v33 m33 => ?_)
    refine r_widen (u' := (0, 0)) (by decide +kernel) ?_
    refine r_goto (tgt := 40) (pc := 36) dX5_go_36 (by decide) ?_
    exact s_X5_go_40 (f_X5_go_19 n) ih _ _ _ _ _ _ _ _
noncomputable def f_X5_go (r0 : QR) (x1 : Int32) (M : QM) : Option (Int32 × QM) :=
  (pF M r0 [(4, 10)] (.inl (0 : Int32))).bind fun m2 => 
    qnf .boolean (0 : Int32) <| (pF m2 r0 [(4, 11)] (.inl (0 : Int32))).bind fun m7 => 
    (pF m7 r0 [(4, 15)] (.inl (0 : Int32))).bind fun m12 => 
    f_X5_go_19 82 r0 x1 (0 : Int32) (1 : Int32) m12
theorem s_X5_go {l : Launch} {M0 : QM} {r0 : QR} {x1 : Int32} {M : QM} : SB eI l kX5_go M0 (f_X5_go r0 x1 M) (0, 0) 0 M [some (.inr r0), some (.inl x1), none, none, none] [] := by
  unfold f_X5_go
  refine r_aload_n (pc := 0) dX5_go_0 rfl ?_
  refine r_iconst (v := (0 : Int32)) (pc := 1) dX5_go_1 (by decide) ?_
  refine r_put (pc := 2)  pf_X5_125 (fun h => nomatch h) (fit_int _) dX5_go_2 (fun m2 => ?_)
  refine r_aload_n (pc := 5) dX5_go_5 rfl ?_
  refine r_iconst (v := (0 : Int32)) (pc := 6) dX5_go_6 (by decide) ?_
  refine r_putN (pc := 7)  pf_X5_128 (fun h => nomatch h) (by decide) dX5_go_7 (fun m7 => ?_)
  refine r_aload_n (pc := 10) dX5_go_10 rfl ?_
  refine r_iconst (v := (0 : Int32)) (pc := 11) dX5_go_11 (by decide) ?_
  refine r_put (pc := 12)  pf_X5_150 (fun h => nomatch h) (fit_int _) dX5_go_12 (fun m12 => ?_)
  refine r_iconst (v := (0 : Int32)) (pc := 15) dX5_go_15 (by decide) ?_
  refine r_istore_n (pc := 16) dX5_go_16 (by decide) rfl ?_
  refine r_iconst (v := (1 : Int32)) (pc := 17) dX5_go_17 (by decide) ?_
  refine r_istore_n (pc := 18) dX5_go_18 (by decide) rfl ?_
  exact s_X5_go_19  82 _ _ _ _ _ _
theorem ct_X5_go {l : Launch} {r0 : QR} {x1 : Int32} {M : QM} : ∀ b, f_X5_go r0 x1 M = some b → PM l yX5_go (ws_ yX5_go cX5_go 5 (some .int)) rmX5_go [.inr r0, .inl x1] M (eI b).1 (eI b).2 := fun b hb =>
  PM.of (own := RX5) rfl (by decide +kernel) (Nat.le_of_ble_eq_true rfl) false (fun h => nomatch h) (s_X5_go b hb)
/-! X5_putAside: BarnPicturesModel.putAside()V, kind V -/
abbrev rmX5_putAside : Room := ({ frames := 0, cells := 0, slots := 0, locals := 0 })
abbrev kX5_putAside : QK := (RX5, cX5_putAside, 2, none, [], false, rmX5_putAside)
noncomputable def f_X5_putAside_2 : Nat → QR → Int32 → QM → Option (QM)
  | 0, _, _, _ => none
  | n + 1, r0, x1, M =>
    if (108 : Int32) ≤ x1 then (some M)
    else (gR M r0 [(4, 1)]).bind fun v9 => 
    (gR M r0 [(4, 0)]).bind fun v14 => 
    (aI M v14 x1).bind fun v18 => 
    (sI M v9 x1 v18).bind fun m19 => 
    f_X5_putAside_2 n r0 (x1 + (1 : Int32)) m19
theorem s_X5_putAside_2 {l : Launch} {M0 : QM} : ∀ (n : Nat) (r0 : QR) (x1 : Int32) (M : QM) , SB eV l kX5_putAside M0 (f_X5_putAside_2 n r0 x1 M) (0, 0) 2 M [some (.inr r0), some (.inl x1)] [] := by
  intro n
  induction n with
  | zero => intros; rw [f_X5_putAside_2]; exact r_none
  | succ n ih =>
    intro r0 x1  M
    rw [f_X5_putAside_2]
    refine r_iload_n (pc := 2) dX5_putAside_2 rfl ?_
    refine r_bipush (v := (108 : Int32)) (pc := 3) dX5_putAside_3 (by decide) ?_
    refine r_icmp_ge (pc := 5) (tgt := 26) dX5_putAside_5 (by decide) ?_ ?_
    · exact r_vretV (pc := 26) dX5_putAside_26 rfl (by decide +kernel)
    refine r_aload_n (pc := 8) dX5_putAside_8 rfl ?_
    refine r_getR (pc := 9)  gf_X5_13 dX5_putAside_9 (fun v9 => ?_)
    refine r_iload_n (pc := 12) dX5_putAside_12 rfl ?_
    refine r_aload_n (pc := 13) dX5_putAside_13 rfl ?_
    refine r_getR (pc := 14)  gf_X5_7 dX5_putAside_14 (fun v14 => ?_)
    refine r_iload_n (pc := 17) dX5_putAside_17 rfl ?_
    refine r_iald (pc := 18) dX5_putAside_18 (fun v18 => ?_)
    refine r_iast (pc := 19) dX5_putAside_19 (fun m19 => ?_)
    refine r_iinc (v := (x1 + (1 : Int32))) (pc := 20) dX5_putAside_20 rfl rfl (by decide) rfl ?_
    refine r_goto (tgt := 2) (pc := 23) dX5_putAside_23 (by decide) ?_
    exact ih _ _ _
noncomputable def f_X5_putAside (r0 : QR) (M : QM) : Option (QM) :=
  f_X5_putAside_2 109 r0 (0 : Int32) M
theorem s_X5_putAside {l : Launch} {M0 : QM} {r0 : QR} {M : QM} : SB eV l kX5_putAside M0 (f_X5_putAside r0 M) (0, 0) 0 M [some (.inr r0), none] [] := by
  unfold f_X5_putAside
  refine r_iconst (v := (0 : Int32)) (pc := 0) dX5_putAside_0 (by decide) ?_
  refine r_istore_n (pc := 1) dX5_putAside_1 (by decide) rfl ?_
  exact s_X5_putAside_2  109 _ _ _
theorem ct_X5_putAside {l : Launch} {r0 : QR} {M : QM} : ∀ b, f_X5_putAside r0 M = some b → PM l yX5_putAside (ws_ yX5_putAside cX5_putAside 2 none) rmX5_putAside [.inr r0] M (eV b).1 (eV b).2 := fun b hb =>
  PM.of (own := RX5) rfl (by decide +kernel) (Nat.le_of_ble_eq_true rfl) false (fun h => nomatch h) (s_X5_putAside b hb)
/-! X5_putBack: BarnPicturesModel.putBack()V, kind V -/
abbrev rmX5_putBack : Room := ({ frames := 0, cells := 0, slots := 0, locals := 0 })
abbrev kX5_putBack : QK := (RX5, cX5_putBack, 2, none, [], false, rmX5_putBack)
noncomputable def f_X5_putBack_2 : Nat → QR → Int32 → QM → Option (QM)
  | 0, _, _, _ => none
  | n + 1, r0, x1, M =>
    if (108 : Int32) ≤ x1 then (some M)
    else (gR M r0 [(4, 0)]).bind fun v9 => 
    (gR M r0 [(4, 1)]).bind fun v14 => 
    (aI M v14 x1).bind fun v18 => 
    (sI M v9 x1 v18).bind fun m19 => 
    f_X5_putBack_2 n r0 (x1 + (1 : Int32)) m19
theorem s_X5_putBack_2 {l : Launch} {M0 : QM} : ∀ (n : Nat) (r0 : QR) (x1 : Int32) (M : QM) , SB eV l kX5_putBack M0 (f_X5_putBack_2 n r0 x1 M) (0, 0) 2 M [some (.inr r0), some (.inl x1)] [] := by
  intro n
  induction n with
  | zero => intros; rw [f_X5_putBack_2]; exact r_none
  | succ n ih =>
    intro r0 x1  M
    rw [f_X5_putBack_2]
    refine r_iload_n (pc := 2) dX5_putBack_2 rfl ?_
    refine r_bipush (v := (108 : Int32)) (pc := 3) dX5_putBack_3 (by decide) ?_
    refine r_icmp_ge (pc := 5) (tgt := 26) dX5_putBack_5 (by decide) ?_ ?_
    · exact r_vretV (pc := 26) dX5_putBack_26 rfl (by decide +kernel)
    refine r_aload_n (pc := 8) dX5_putBack_8 rfl ?_
    refine r_getR (pc := 9)  gf_X5_7 dX5_putBack_9 (fun v9 => ?_)
    refine r_iload_n (pc := 12) dX5_putBack_12 rfl ?_
    refine r_aload_n (pc := 13) dX5_putBack_13 rfl ?_
    refine r_getR (pc := 14)  gf_X5_13 dX5_putBack_14 (fun v14 => ?_)
    refine r_iload_n (pc := 17) dX5_putBack_17 rfl ?_
    refine r_iald (pc := 18) dX5_putBack_18 (fun v18 => ?_)
    refine r_iast (pc := 19) dX5_putBack_19 (fun m19 => ?_)
    refine r_iinc (v := (x1 + (1 : Int32))) (pc := 20) dX5_putBack_20 rfl rfl (by decide) rfl ?_
    refine r_goto (tgt := 2) (pc := 23) dX5_putBack_23 (by decide) ?_
    exact ih _ _ _
noncomputable def f_X5_putBack (r0 : QR) (M : QM) : Option (QM) :=
  f_X5_putBack_2 109 r0 (0 : Int32) M
theorem s_X5_putBack {l : Launch} {M0 : QM} {r0 : QR} {M : QM} : SB eV l kX5_putBack M0 (f_X5_putBack r0 M) (0, 0) 0 M [some (.inr r0), none] [] := by
  unfold f_X5_putBack
  refine r_iconst (v := (0 : Int32)) (pc := 0) dX5_putBack_0 (by decide) ?_
  refine r_istore_n (pc := 1) dX5_putBack_1 (by decide) rfl ?_
  exact s_X5_putBack_2  109 _ _ _
theorem ct_X5_putBack {l : Launch} {r0 : QR} {M : QM} : ∀ b, f_X5_putBack r0 M = some b → PM l yX5_putBack (ws_ yX5_putBack cX5_putBack 2 none) rmX5_putBack [.inr r0] M (eV b).1 (eV b).2 := fun b hb =>
  PM.of (own := RX5) rfl (by decide +kernel) (Nat.le_of_ble_eq_true rfl) false (fun h => nomatch h) (s_X5_putBack b hb)
/-! X5_perform: BarnPicturesModel.perform()I, kind I -/
abbrev rmX5_perform : Room := ({ frames := 6, cells := 0, slots := 0, locals := 143 })
abbrev kX5_perform : QK := (RX5, cX5_perform, 2, (some .int), [], false, rmX5_perform)
noncomputable def f_X5_perform (r0 : QR) (M : QM) : Option (Int32 × QM) :=
  qbI (qrc M r0 [4] (f_X5_go r0 (0 : Int32) M)) fun v2 m2 => 
    (gI m2 r0 [(4, 11)]).bind fun v7 => 
    if v7 = 0 then ((qrc m2 r0 [4] (f_X5_putAside r0 m2)).bind fun m22 => 
      qbI (qrc m22 r0 [4] (f_X5_go r0 (1 : Int32) m22)) fun v27 m27 => 
      (qrc m27 r0 [4] (f_X5_putBack r0 m27)).bind fun m32 => 
      (gI m32 r0 [(4, 15)]).bind fun v36 => 
      if 0 ≤ v36 then ((qrc m32 r0 [4] (f_X5_know r0 m32)).bind fun m59 => 
        qbI (qrc m59 r0 [4] (f_X5_go r0 (1 : Int32) m59)) fun v64 m64 => 
        some (v64, m64))
      else (pF m32 r0 [(4, 8)] (.inl v27)).bind fun m44 => 
      (gI m44 r0 [(4, 15)]).bind fun v49 => 
      (pF m44 r0 [(4, 9)] (.inl v49)).bind fun m52 => 
      some ((-10000004 : Int32), m52))
    else (gI m2 r0 [(4, 10)]).bind fun v16 => 
    some (((-10000200 : Int32) - v16), m2)
theorem s_X5_perform {l : Launch} {M0 : QM} {r0 : QR} {M : QM} : SB eI l kX5_perform M0 (f_X5_perform r0 M) (0, 0) 0 M [some (.inr r0), none] [] := by
  unfold f_X5_perform
  refine r_aload_n (pc := 0) dX5_perform_0 rfl ?_
  refine r_iconst (v := (0 : Int32)) (pc := 1) dX5_perform_1 (by decide) ?_
  refine r_callV_I (st := []) (vs := [.inl (0 : Int32)]) (pc := 2)  ct_X5_go hc_4 cf_X5_159 rfl rfl (Nat.le_of_ble_eq_true rfl) (by decide +kernel) dX5_perform_2 (fun v2 m2 => ?_)
  refine r_widen (u' := (0, 0)) (by decide +kernel) ?_
  refine r_istore_n (pc := 5) dX5_perform_5 (by decide) rfl ?_
  refine r_aload_n (pc := 6) dX5_perform_6 rfl ?_
  refine r_getI (pc := 7)  gf_X5_128 dX5_perform_7 (fun v7 => ?_)
  refine r_if_eq (pc := 10) (tgt := 21) dX5_perform_10 (by decide) ?_ ?_
  · refine r_aload_n (pc := 21) dX5_perform_21 rfl ?_
    refine r_callV_V (st := []) (vs := []) (pc := 22)  ct_X5_putAside hc_4 cf_X5_164 rfl rfl (Nat.le_of_ble_eq_true rfl) (by decide +kernel) dX5_perform_22 (fun m22 => ?_)
    refine r_widen (u' := (0, 0)) (by decide +kernel) ?_
    refine r_aload_n (pc := 25) dX5_perform_25 rfl ?_
    refine r_iconst (v := (1 : Int32)) (pc := 26) dX5_perform_26 (by decide) ?_
    refine r_callV_I (st := []) (vs := [.inl (1 : Int32)]) (pc := 27)  ct_X5_go hc_4 cf_X5_159 rfl rfl (Nat.le_of_ble_eq_true rfl) (by decide +kernel) dX5_perform_27 (fun v27 m27 => ?_)
    refine r_widen (u' := (0, 0)) (by decide +kernel) ?_
    refine r_istore_n (pc := 30) dX5_perform_30 (by decide) rfl ?_
    refine r_aload_n (pc := 31) dX5_perform_31 rfl ?_
    refine r_callV_V (st := []) (vs := []) (pc := 32)  ct_X5_putBack hc_4 cf_X5_167 rfl rfl (Nat.le_of_ble_eq_true rfl) (by decide +kernel) dX5_perform_32 (fun m32 => ?_)
    refine r_widen (u' := (0, 0)) (by decide +kernel) ?_
    refine r_aload_n (pc := 35) dX5_perform_35 rfl ?_
    refine r_getI (pc := 36)  gf_X5_150 dX5_perform_36 (fun v36 => ?_)
    refine r_if_ge (pc := 39) (tgt := 58) dX5_perform_39 (by decide) ?_ ?_
    · refine r_aload_n (pc := 58) dX5_perform_58 rfl ?_
      refine r_callV_V (st := []) (vs := []) (pc := 59)  ct_X5_know hc_4 cf_X5_83 rfl rfl (Nat.le_of_ble_eq_true rfl) (by decide +kernel) dX5_perform_59 (fun m59 => ?_)
      refine r_widen (u' := (0, 0)) (by decide +kernel) ?_
      refine r_aload_n (pc := 62) dX5_perform_62 rfl ?_
      refine r_iconst (v := (1 : Int32)) (pc := 63) dX5_perform_63 (by decide) ?_
      refine r_callV_I (st := []) (vs := [.inl (1 : Int32)]) (pc := 64)  ct_X5_go hc_4 cf_X5_159 rfl rfl (Nat.le_of_ble_eq_true rfl) (by decide +kernel) dX5_perform_64 (fun v64 m64 => ?_)
      refine r_widen (u' := (0, 0)) (by decide +kernel) ?_
      exact r_iretI (pc := 67) dX5_perform_67 rfl (by decide +kernel)
    refine r_aload_n (pc := 42) dX5_perform_42 rfl ?_
    refine r_iload_n (pc := 43) dX5_perform_43 rfl ?_
    refine r_put (pc := 44)  pf_X5_26 (fun h => nomatch h) (fit_int _) dX5_perform_44 (fun m44 => ?_)
    refine r_aload_n (pc := 47) dX5_perform_47 rfl ?_
    refine r_aload_n (pc := 48) dX5_perform_48 rfl ?_
    refine r_getI (pc := 49)  gf_X5_150 dX5_perform_49 (fun v49 => ?_)
    refine r_put (pc := 52)  pf_X5_30 (fun h => nomatch h) (fit_int _) dX5_perform_52 (fun m52 => ?_)
    refine r_ldc (pc := 55) dX5_perform_55 q1183 ?_
    exact r_iretI (pc := 57) dX5_perform_57 rfl (by decide +kernel)
  refine r_ldc (pc := 13) dX5_perform_13 q1305 ?_
  refine r_aload_n (pc := 15) dX5_perform_15 rfl ?_
  refine r_getI (pc := 16)  gf_X5_125 dX5_perform_16 (fun v16 => ?_)
  refine r_isub (pc := 19) dX5_perform_19 ?_
  exact r_iretI (pc := 20) dX5_perform_20 rfl (by decide +kernel)
theorem ct_X5_perform {l : Launch} {r0 : QR} {M : QM} : ∀ b, f_X5_perform r0 M = some b → PM l yX5_perform (ws_ yX5_perform cX5_perform 2 (some .int)) rmX5_perform [.inr r0] M (eI b).1 (eI b).2 := fun b hb =>
  PM.of (own := RX5) rfl (by decide +kernel) (Nat.le_of_ble_eq_true rfl) false (fun h => nomatch h) (s_X5_perform b hb)
/-! X12_told: BarnPictures$Stop.told(I)I, kind P -/
abbrev rmX12_told : Room := ({ frames := 1, cells := 0, slots := 0, locals := 20 })
abbrev kX12_told : QK := (RX12, cX12_told, 2, (some .int), [], false, rmX12_told)
noncomputable def f_X12_told (r0 : QR) (x1 : Int32) (M : QM) : Option (Int32) :=
  if x1 = 0 then ((gI M r0 [(17, 0)]).bind fun v5 => 
      some v5)
    else (gR M r0 [(17, 1)]).bind fun v12 => 
    (qd2 M v12 14 (f_X7_code v12 M) 15 (f_X8_code v12 M)).bind fun v15 => 
    some v15
theorem s_X12_told {l : Launch} {r0 : QR} {x1 : Int32} {M : QM} : SB (eP M) l kX12_told M (f_X12_told r0 x1 M) (0, 0) 0 M [some (.inr r0), some (.inl x1)] [] := by
  unfold f_X12_told
  refine r_iload_n (pc := 0) dX12_told_0 rfl ?_
  refine r_if_ne (pc := 1) (tgt := 11) dX12_told_1 (by decide) ?_ ?_
  · refine r_aload_n (pc := 11) dX12_told_11 rfl ?_
    refine r_getR (pc := 12)  gf_X12_13 dX12_told_12 (fun v12 => ?_)
    refine r_callU2_P (st := []) (vs := []) (pc := 15)  ct_X7_code ct_X8_code rfl rfl cf_X12_17.1 cf_X12_17.2 rfl rfl (Nat.le_of_ble_eq_true rfl) (by decide +kernel) (by decide +kernel) dX12_told_15 (fun v15 => ?_)
    refine r_widen (u' := (0, 0)) (by decide +kernel) ?_
    exact r_iretP (pc := 18) dX12_told_18 rfl (by decide +kernel)
  refine r_aload_n (pc := 4) dX12_told_4 rfl ?_
  refine r_getI (pc := 5)  gf_X12_7 dX12_told_5 (fun v5 => ?_)
  refine r_goto (tgt := 18) (pc := 8) dX12_told_8 (by decide) ?_
  exact r_iretP (pc := 18) dX12_told_18 rfl (by decide +kernel)
theorem ct_X12_told {l : Launch} {r0 : QR} {x1 : Int32} {M : QM} : ∀ b, f_X12_told r0 x1 M = some b → PM l yX12_told (ws_ yX12_told cX12_told 2 (some .int)) rmX12_told [.inr r0, .inl x1] M ((eP M) b).1 ((eP M) b).2 := fun b hb =>
  PM.of (own := RX12) rfl (by decide +kernel) (Nat.le_of_ble_eq_true rfl) false (fun h => nomatch h) (s_X12_told b hb)
