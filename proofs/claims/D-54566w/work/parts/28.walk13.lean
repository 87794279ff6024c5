/-! methods as functions over the memory (printed by gen/run.py) -/
set_option maxRecDepth 100000
/-! L_law: BarnPicturesLaw.law([I)Z, kind I -/
abbrev rmL_law : Room := ({ frames := 14, cells := 74413, slots := 613603, locals := 264 })
abbrev kL_law : QK := ("BarnPicturesLaw", cL_law, 4, (some .boolean), [], false, rmL_law)
noncomputable def f_L_law_200 (kL18 : QR → QR → QR → Int32 → QM → Option (Int32 × QM)) (r0 : QR) (r1 : QR) (r2 : QR) (x3 : Int32) (s0 : Int32) (s1 : QR) (s2 : Int32) (s3 : Int32) (M : QM) : Option (Int32 × QM) :=
  qbI (qrc M s1 [4] (f_X5_moveReel s1 s2 s3 M)) fun v200 m200 => 
    if s0 = v200 then (kL18 r0 r1 r2 (x3 + (3 : Int32)) m200)
    else some ((0 : Int32), m200)
theorem s_L_law_200 {l : Launch} {M0 : QM} (c s : Nat) (kL18 : QR → QR → QR → Int32 → QM → Option (Int32 × QM)) (hkL18 : ∀ (r0 : QR) (r1 : QR) (r2 : QR) (x3 : Int32) (M : QM) , SB eI l kL_law M0 (kL18 r0 r1 r2 x3 M) (c + 1127, s + 9274) 18 M [some (.inr r0), some (.inr r1), some (.inr r2), some (.inl x3)] []) (hc1 : c + 1127 ≤ 74413) (hs1 : s + 9274 ≤ 613603) : ∀ (r0 : QR) (r1 : QR) (r2 : QR) (x3 : Int32) (s0 : Int32) (s1 : QR) (s2 : Int32) (s3 : Int32) (M : QM) , SB eI l kL_law M0 (f_L_law_200 kL18 r0 r1 r2 x3 s0 s1 s2 s3 M) (c + 25, s + 228) 200 M [some (.inr r0), some (.inr r1), some (.inr r2), some (.inl x3)] [.inl s3, .inl s2, .inr s1, .inl s0] := by
  intro r0 r1 r2 x3 s0 s1 s2 s3  M
  unfold f_L_law_200
  refine r_callV_I (st := [.inl s0]) (vs := [.inl s2, .inl s3]) (pc := 200)  ct_X5_moveReel hc_4 cf_L_22 rfl rfl (Nat.le_of_ble_eq_true rfl) ⟨by decide +kernel, (show c + 25 + 0 ≤ 74413 by omega), (show s + 228 + 0 ≤ 613603 by omega)⟩ dL_law_200 (fun v200 m200 => ?_)
  refine r_widen (u' := (c + 25, s + 228)) ⟨(show c + 25 + 0 ≤ c + 25 by omega), (show s + 228 + 0 ≤ s + 228 by omega)⟩ ?_
  refine r_icmp_eq (pc := 203) (tgt := 686) dL_law_203 (by decide) ?_ ?_
  · refine r_iinc (v := (x3 + (3 : Int32))) (pc := 686) dL_law_686 rfl rfl (by decide) rfl ?_
    refine r_goto (tgt := 18) (pc := 689) dL_law_689 (by decide) ?_
    refine r_widen (u' := (c + 1127, s + 9274)) ⟨(show c + 25 ≤ c + 1127 by omega), (show s + 228 ≤ s + 9274 by omega)⟩ ?_
    exact hkL18 _ _ _ _ _
  refine r_iconst (v := (0 : Int32)) (pc := 206) dL_law_206 (by decide) ?_
  exact r_zretI (pc := 207) dL_law_207 rfl rfl ⟨(show c + 25 ≤ 74413 by omega), (show s + 228 ≤ 613603 by omega)⟩
noncomputable def f_L_law_178 (kL18 : QR → QR → QR → Int32 → QM → Option (Int32 × QM)) (r0 : QR) (r1 : QR) (r2 : QR) (x3 : Int32) (s0 : QR) (s1 : Int32) (s2 : Int32) (M : QM) : Option (Int32 × QM) :=
  qbI (qrc M s0 [0] (f_X0_moveReel s0 s1 s2 M)) fun v178 m178 => 
    (aI m178 r0 (x3 + (1 : Int32))).bind fun v186 => 
    (aI m178 r0 (x3 + (2 : Int32))).bind fun v191 => 
    f_L_law_200 kL18 r0 r1 r2 x3 v178 r2 v186 (if v191 = 0 then (0 : Int32) else (1 : Int32)) m178
theorem s_L_law_178 {l : Launch} {M0 : QM} (c s : Nat) (kL18 : QR → QR → QR → Int32 → QM → Option (Int32 × QM)) (hkL18 : ∀ (r0 : QR) (r1 : QR) (r2 : QR) (x3 : Int32) (M : QM) , SB eI l kL_law M0 (kL18 r0 r1 r2 x3 M) (c + 1127, s + 9274) 18 M [some (.inr r0), some (.inr r1), some (.inr r2), some (.inl x3)] []) (hc1 : c + 1127 ≤ 74413) (hs1 : s + 9274 ≤ 613603) : ∀ (r0 : QR) (r1 : QR) (r2 : QR) (x3 : Int32) (s0 : QR) (s1 : Int32) (s2 : Int32) (M : QM) , SB eI l kL_law M0 (f_L_law_178 kL18 r0 r1 r2 x3 s0 s1 s2 M) (c + 0, s + 0) 178 M [some (.inr r0), some (.inr r1), some (.inr r2), some (.inl x3)] [.inl s2, .inl s1, .inr s0] := by
  intro r0 r1 r2 x3 s0 s1 s2  M
  unfold f_L_law_178
  refine r_callVX_I (st := []) (vs := [.inl s1, .inl s2]) (pc := 178)  ct_X0_moveReel hc_0 cf_L_18 rfl rfl (Nat.le_of_ble_eq_true rfl) ⟨by decide +kernel, (show c + 0 + 25 ≤ 74413 by omega), (show s + 0 + 228 ≤ 613603 by omega)⟩ dL_law_178 (fun v178 m178 => ?_)
  refine r_widen (u' := (c + 25, s + 228)) ⟨(show c + 0 + 25 ≤ c + 25 by omega), (show s + 0 + 228 ≤ s + 228 by omega)⟩ ?_
  refine r_aload_n (pc := 181) dL_law_181 rfl ?_
  refine r_aload_n (pc := 182) dL_law_182 rfl ?_
  refine r_iload_n (pc := 183) dL_law_183 rfl ?_
  refine r_iconst (v := (1 : Int32)) (pc := 184) dL_law_184 (by decide) ?_
  refine r_iadd (pc := 185) dL_law_185 ?_
  refine r_iald (pc := 186) dL_law_186 (fun v186 => ?_)
  refine r_aload_n (pc := 187) dL_law_187 rfl ?_
  refine r_iload_n (pc := 188) dL_law_188 rfl ?_
  refine r_iconst (v := (2 : Int32)) (pc := 189) dL_law_189 (by decide) ?_
  refine r_iadd (pc := 190) dL_law_190 ?_
  refine r_iald (pc := 191) dL_law_191 (fun v191 => ?_)
  refine r_if_eqF (F := (fun (z9 : Int32) => f_L_law_200 kL18 r0 r1 r2 x3 v178 r2 v186 z9 m178)) (zA := (0 : Int32)) (zB := (1 : Int32)) (pc := 192) (tgt := 199) dL_law_192 (by decide) ?_ ?_
  · refine r_iconst (v := (0 : Int32)) (pc := 199) dL_law_199 (by decide) ?_
    exact s_L_law_200 c s kL18 hkL18 hc1 hs1 _ _ _ _ _ _ _ _ _
  refine r_iconst (v := (1 : Int32)) (pc := 195) dL_law_195 (by decide) ?_
  refine r_goto (tgt := 200) (pc := 196) dL_law_196 (by decide) ?_
  exact s_L_law_200 c s kL18 hkL18 hc1 hs1 _ _ _ _ _ _ _ _ _
noncomputable def f_L_law_249 (kL18 : QR → QR → QR → Int32 → QM → Option (Int32 × QM)) (r0 : QR) (r1 : QR) (r2 : QR) (x3 : Int32) (s0 : Int32) (s1 : QR) (s2 : Int32) (s3 : Int32) (M : QM) : Option (Int32 × QM) :=
  qbI (qrc M s1 [4] (f_X5_moveGenerator s1 s2 s3 M)) fun v249 m249 => 
    if s0 = v249 then (kL18 r0 r1 r2 (x3 + (3 : Int32)) m249)
    else some ((0 : Int32), m249)
theorem s_L_law_249 {l : Launch} {M0 : QM} (c s : Nat) (kL18 : QR → QR → QR → Int32 → QM → Option (Int32 × QM)) (hkL18 : ∀ (r0 : QR) (r1 : QR) (r2 : QR) (x3 : Int32) (M : QM) , SB eI l kL_law M0 (kL18 r0 r1 r2 x3 M) (c + 1127, s + 9274) 18 M [some (.inr r0), some (.inr r1), some (.inr r2), some (.inl x3)] []) (hc1 : c + 1127 ≤ 74413) (hs1 : s + 9274 ≤ 613603) : ∀ (r0 : QR) (r1 : QR) (r2 : QR) (x3 : Int32) (s0 : Int32) (s1 : QR) (s2 : Int32) (s3 : Int32) (M : QM) , SB eI l kL_law M0 (f_L_law_249 kL18 r0 r1 r2 x3 s0 s1 s2 s3 M) (c + 25, s + 228) 249 M [some (.inr r0), some (.inr r1), some (.inr r2), some (.inl x3)] [.inl s3, .inl s2, .inr s1, .inl s0] := by
  intro r0 r1 r2 x3 s0 s1 s2 s3  M
  unfold f_L_law_249
  refine r_callV_I (st := [.inl s0]) (vs := [.inl s2, .inl s3]) (pc := 249)  ct_X5_moveGenerator hc_4 cf_L_26 rfl rfl (Nat.le_of_ble_eq_true rfl) ⟨by decide +kernel, (show c + 25 + 0 ≤ 74413 by omega), (show s + 228 + 0 ≤ 613603 by omega)⟩ dL_law_249 (fun v249 m249 => ?_)
  refine r_widen (u' := (c + 25, s + 228)) ⟨(show c + 25 + 0 ≤ c + 25 by omega), (show s + 228 + 0 ≤ s + 228 by omega)⟩ ?_
  refine r_icmp_eq (pc := 252) (tgt := 686) dL_law_252 (by decide) ?_ ?_
  · refine r_iinc (v := (x3 + (3 : Int32))) (pc := 686) dL_law_686 rfl rfl (by decide) rfl ?_
    refine r_goto (tgt := 18) (pc := 689) dL_law_689 (by decide) ?_
    refine r_widen (u' := (c + 1127, s + 9274)) ⟨(show c + 25 ≤ c + 1127 by omega), (show s + 228 ≤ s + 9274 by omega)⟩ ?_
    exact hkL18 _ _ _ _ _
  refine r_iconst (v := (0 : Int32)) (pc := 255) dL_law_255 (by decide) ?_
  exact r_zretI (pc := 256) dL_law_256 rfl rfl ⟨(show c + 25 ≤ 74413 by omega), (show s + 228 ≤ 613603 by omega)⟩
noncomputable def f_L_law_227 (kL18 : QR → QR → QR → Int32 → QM → Option (Int32 × QM)) (r0 : QR) (r1 : QR) (r2 : QR) (x3 : Int32) (s0 : QR) (s1 : Int32) (s2 : Int32) (M : QM) : Option (Int32 × QM) :=
  qbI (qrc M s0 [0] (f_X0_moveGenerator s0 s1 s2 M)) fun v227 m227 => 
    (aI m227 r0 (x3 + (1 : Int32))).bind fun v235 => 
    (aI m227 r0 (x3 + (2 : Int32))).bind fun v240 => 
    f_L_law_249 kL18 r0 r1 r2 x3 v227 r2 v235 (if v240 = 0 then (0 : Int32) else (1 : Int32)) m227
theorem s_L_law_227 {l : Launch} {M0 : QM} (c s : Nat) (kL18 : QR → QR → QR → Int32 → QM → Option (Int32 × QM)) (hkL18 : ∀ (r0 : QR) (r1 : QR) (r2 : QR) (x3 : Int32) (M : QM) , SB eI l kL_law M0 (kL18 r0 r1 r2 x3 M) (c + 1127, s + 9274) 18 M [some (.inr r0), some (.inr r1), some (.inr r2), some (.inl x3)] []) (hc1 : c + 1127 ≤ 74413) (hs1 : s + 9274 ≤ 613603) : ∀ (r0 : QR) (r1 : QR) (r2 : QR) (x3 : Int32) (s0 : QR) (s1 : Int32) (s2 : Int32) (M : QM) , SB eI l kL_law M0 (f_L_law_227 kL18 r0 r1 r2 x3 s0 s1 s2 M) (c + 0, s + 0) 227 M [some (.inr r0), some (.inr r1), some (.inr r2), some (.inl x3)] [.inl s2, .inl s1, .inr s0] := by
  intro r0 r1 r2 x3 s0 s1 s2  M
  unfold f_L_law_227
  refine r_callVX_I (st := []) (vs := [.inl s1, .inl s2]) (pc := 227)  ct_X0_moveGenerator hc_0 cf_L_23 rfl rfl (Nat.le_of_ble_eq_true rfl) ⟨by decide +kernel, (show c + 0 + 25 ≤ 74413 by omega), (show s + 0 + 228 ≤ 613603 by omega)⟩ dL_law_227 (fun v227 m227 => ?_)
  refine r_widen (u' := (c + 25, s + 228)) ⟨(show c + 0 + 25 ≤ c + 25 by omega), (show s + 0 + 228 ≤ s + 228 by omega)⟩ ?_
  refine r_aload_n (pc := 230) dL_law_230 rfl ?_
  refine r_aload_n (pc := 231) dL_law_231 rfl ?_
  refine r_iload_n (pc := 232) dL_law_232 rfl ?_
  refine r_iconst (v := (1 : Int32)) (pc := 233) dL_law_233 (by decide) ?_
  refine r_iadd (pc := 234) dL_law_234 ?_
  refine r_iald (pc := 235) dL_law_235 (fun v235 => ?_)
  refine r_aload_n (pc := 236) dL_law_236 rfl ?_
  refine r_iload_n (pc := 237) dL_law_237 rfl ?_
  refine r_iconst (v := (2 : Int32)) (pc := 238) dL_law_238 (by decide) ?_
  refine r_iadd (pc := 239) dL_law_239 ?_
  refine r_iald (pc := 240) dL_law_240 (fun v240 => ?_)
  refine r_if_eqF (F := (fun (z9 : Int32) => f_L_law_249 kL18 r0 r1 r2 x3 v227 r2 v235 z9 m227)) (zA := (0 : Int32)) (zB := (1 : Int32)) (pc := 241) (tgt := 248) dL_law_241 (by decide) ?_ ?_
  · refine r_iconst (v := (0 : Int32)) (pc := 248) dL_law_248 (by decide) ?_
    exact s_L_law_249 c s kL18 hkL18 hc1 hs1 _ _ _ _ _ _ _ _ _
  refine r_iconst (v := (1 : Int32)) (pc := 244) dL_law_244 (by decide) ?_
  refine r_goto (tgt := 249) (pc := 245) dL_law_245 (by decide) ?_
  exact s_L_law_249 c s kL18 hkL18 hc1 hs1 _ _ _ _ _ _ _ _ _
noncomputable def f_L_law_18 : Nat → QR → QR → QR → Int32 → QM → Option (Int32 × QM)
  | 0, _, _, _, _, _ => none
  | n + 1, r0, r1, r2, x3, M =>
    (aL M r0).bind fun v20 => 
    if (v20 - (3 : Int32)) < x3 then (some ((1 : Int32), M))
    else (aI M r0 x3).bind fun v28 => 
    if (v28 &&& (31 : Int32)) = (0 : Int32) then ((aI M r0 (x3 + (1 : Int32))).bind fun v141 => 
      qbI (qrc M r1 [0] (f_X0_drive r1 v141 M)) fun v142 m142 => 
      (aI m142 r0 (x3 + (1 : Int32))).bind fun v150 => 
      qbI (qrc m142 r2 [4] (f_X5_drive r2 v150 m142)) fun v151 m151 => 
      if v142 = v151 then (f_L_law_18 n r0 r1 r2 (x3 + (3 : Int32)) m151)
      else some ((0 : Int32), m151))
    else if (v28 &&& (31 : Int32)) = (1 : Int32) then ((aI M r0 (x3 + (1 : Int32))).bind fun v164 => 
      (aI M r0 (x3 + (2 : Int32))).bind fun v169 => 
      f_L_law_178 (f_L_law_18 n) r0 r1 r2 x3 r1 v164 (if v169 = 0 then (0 : Int32) else (1 : Int32)) M)
    else if (v28 &&& (31 : Int32)) = (2 : Int32) then ((aI M r0 (x3 + (1 : Int32))).bind fun v213 => 
      (aI M r0 (x3 + (2 : Int32))).bind fun v218 => 
      f_L_law_227 (f_L_law_18 n) r0 r1 r2 x3 r1 v213 (if v218 = 0 then (0 : Int32) else (1 : Int32)) M)
    else if (v28 &&& (31 : Int32)) = (3 : Int32) then ((aI M r0 (x3 + (1 : Int32))).bind fun v262 => 
      (aI M r0 (x3 + (2 : Int32))).bind fun v267 => 
      qbI (qrc M r1 [0] (f_X0_fuel r1 v262 v267 M)) fun v268 m268 => 
      (aI m268 r0 (x3 + (1 : Int32))).bind fun v276 => 
      (aI m268 r0 (x3 + (2 : Int32))).bind fun v281 => 
      qbI (qrc m268 r2 [4] (f_X5_fuel r2 v276 v281 m268)) fun v282 m282 => 
      if v268 = v282 then (f_L_law_18 n r0 r1 r2 (x3 + (3 : Int32)) m282)
      else some ((0 : Int32), m282))
    else if (v28 &&& (31 : Int32)) = (4 : Int32) then ((aI M r0 (x3 + (1 : Int32))).bind fun v295 => 
      qbI (qrc M r1 [0] (f_X0_renew r1 v295 M)) fun v296 m296 => 
      (aI m296 r0 (x3 + (1 : Int32))).bind fun v304 => 
      qbI (qrc m296 r2 [4] (f_X5_renew r2 v304 m296)) fun v305 m305 => 
      if v296 = v305 then (f_L_law_18 n r0 r1 r2 (x3 + (3 : Int32)) m305)
      else some ((0 : Int32), m305))
    else if (v28 &&& (31 : Int32)) = (5 : Int32) then ((aI M r0 (x3 + (1 : Int32))).bind fun v318 => 
      qbI (qrc M r1 [0] (f_X0_setPrice r1 v318 M)) fun v319 m319 => 
      (aI m319 r0 (x3 + (1 : Int32))).bind fun v327 => 
      qbI (qrc m319 r2 [4] (f_X5_setPrice r2 v327 m319)) fun v328 m328 => 
      if v319 = v328 then (f_L_law_18 n r0 r1 r2 (x3 + (3 : Int32)) m328)
      else some ((0 : Int32), m328))
    else if (v28 &&& (31 : Int32)) = (6 : Int32) then ((aI M r0 (x3 + (1 : Int32))).bind fun v341 => 
      qbI (qrc M r1 [0] (f_X0_show r1 v341 M)) fun v342 m342 => 
      (aI m342 r0 (x3 + (1 : Int32))).bind fun v350 => 
      qbI (qrc m342 r2 [4] (f_X5_show r2 v350 m342)) fun v351 m351 => 
      if v342 = v351 then (f_L_law_18 n r0 r1 r2 (x3 + (3 : Int32)) m351)
      else some ((0 : Int32), m351))
    else if (v28 &&& (31 : Int32)) = (7 : Int32) then (qbI (qrc M r1 [0] (f_X0_nextDay r1 M)) fun v360 m360 => 
      qbI (qrc m360 r2 [4] (f_X5_nextDay r2 m360)) fun v364 m364 => 
      if v360 = v364 then (f_L_law_18 n r0 r1 r2 (x3 + (3 : Int32)) m364)
      else some ((0 : Int32), m364))
    else if (v28 &&& (31 : Int32)) = (8 : Int32) then ((aI M r0 (x3 + (1 : Int32))).bind fun v377 => 
      qbI (qrc M r1 [0] (f_X0_type r1 ((v377.toUInt32 % 65536).toInt32) M)) fun v379 m379 => 
      (aI m379 r0 (x3 + (1 : Int32))).bind fun v387 => 
      qbI (qrc m379 r2 [4] (f_X5_type r2 ((v387.toUInt32 % 65536).toInt32) m379)) fun v389 m389 => 
      if v379 = v389 then (f_L_law_18 n r0 r1 r2 (x3 + (3 : Int32)) m389)
      else some ((0 : Int32), m389))
    else if (v28 &&& (31 : Int32)) = (9 : Int32) then (qbI (qrc M r1 [0] (f_X0_clearText r1 M)) fun v398 m398 => 
      qbI (qrc m398 r2 [4] (f_X5_clearText r2 m398)) fun v402 m402 => 
      if v398 = v402 then (f_L_law_18 n r0 r1 r2 (x3 + (3 : Int32)) m402)
      else some ((0 : Int32), m402))
    else if (v28 &&& (31 : Int32)) = (10 : Int32) then (qbI (qrc M r1 [0] (f_X0_perform r1 M)) fun v411 m411 => 
      qbI (qrc m411 r2 [4] (f_X5_perform r2 m411)) fun v415 m415 => 
      if v411 = v415 then (f_L_law_18 n r0 r1 r2 (x3 + (3 : Int32)) m415)
      else some ((0 : Int32), m415))
    else if (v28 &&& (31 : Int32)) = (11 : Int32) then ((aI M r0 (x3 + (1 : Int32))).bind fun v428 => 
      (qrc M r1 [0] (f_X0_stopped r1 v428 M)).bind fun v429 => 
      (aI M r0 (x3 + (1 : Int32))).bind fun v437 => 
      (qrc M r2 [4] (f_X5_stopped r2 v437 M)).bind fun v438 => 
      if v429 = v438 then (f_L_law_18 n r0 r1 r2 (x3 + (3 : Int32)) M)
      else some ((0 : Int32), M))
    else if (v28 &&& (31 : Int32)) = (12 : Int32) then (qbI (qrc M r1 [0] (f_X0_undo r1 M)) fun v447 m447 => 
      qbI (qrc m447 r2 [4] (f_X5_undo r2 m447)) fun v451 m451 => 
      if v447 = v451 then (f_L_law_18 n r0 r1 r2 (x3 + (3 : Int32)) m451)
      else some ((0 : Int32), m451))
    else if (v28 &&& (31 : Int32)) = (13 : Int32) then (qbI (qrc M r1 [0] (f_X0_keep r1 M)) fun v460 m460 => 
      qbI (qrc m460 r2 [4] (f_X5_keep r2 m460)) fun v464 m464 => 
      if v460 = v464 then (f_L_law_18 n r0 r1 r2 (x3 + (3 : Int32)) m464)
      else some ((0 : Int32), m464))
    else if (v28 &&& (31 : Int32)) = (14 : Int32) then (qbI (qrc M r1 [0] (f_X0_restore r1 M)) fun v473 m473 => 
      qbI (qrc m473 r2 [4] (f_X5_restore r2 m473)) fun v477 m477 => 
      if v473 = v477 then (f_L_law_18 n r0 r1 r2 (x3 + (3 : Int32)) m477)
      else some ((0 : Int32), m477))
    else if (v28 &&& (31 : Int32)) = (15 : Int32) then ((aI M r0 (x3 + (1 : Int32))).bind fun v490 => 
      (aI M r0 (x3 + (2 : Int32))).bind fun v495 => 
      (qrc M r1 [0] (f_X0_reel r1 v490 v495 M)).bind fun v496 => 
      (aI M r0 (x3 + (1 : Int32))).bind fun v504 => 
      (aI M r0 (x3 + (2 : Int32))).bind fun v509 => 
      (qrc M r2 [4] (f_X5_reel r2 v504 v509 M)).bind fun v510 => 
      if v496 = v510 then (f_L_law_18 n r0 r1 r2 (x3 + (3 : Int32)) M)
      else some ((0 : Int32), M))
    else if (v28 &&& (31 : Int32)) = (16 : Int32) then ((aI M r0 (x3 + (1 : Int32))).bind fun v523 => 
      (aI M r0 (x3 + (2 : Int32))).bind fun v528 => 
      (qrc M r1 [0] (f_X0_generator r1 v523 v528 M)).bind fun v529 => 
      (aI M r0 (x3 + (1 : Int32))).bind fun v537 => 
      (aI M r0 (x3 + (2 : Int32))).bind fun v542 => 
      (qrc M r2 [4] (f_X5_generator r2 v537 v542 M)).bind fun v543 => 
      if v529 = v543 then (f_L_law_18 n r0 r1 r2 (x3 + (3 : Int32)) M)
      else some ((0 : Int32), M))
    else if (v28 &&& (31 : Int32)) = (17 : Int32) then ((aI M r0 (x3 + (1 : Int32))).bind fun v556 => 
      (aI M r0 (x3 + (2 : Int32))).bind fun v561 => 
      (qrc M r1 [0] (f_X0_barn r1 v556 v561 M)).bind fun v562 => 
      (aI M r0 (x3 + (1 : Int32))).bind fun v570 => 
      (aI M r0 (x3 + (2 : Int32))).bind fun v575 => 
      (qrc M r2 [4] (f_X5_barn r2 v570 v575 M)).bind fun v576 => 
      if v562 = v576 then (f_L_law_18 n r0 r1 r2 (x3 + (3 : Int32)) M)
      else some ((0 : Int32), M))
    else if (v28 &&& (31 : Int32)) = (18 : Int32) then ((qrc M r1 [0] (f_X0_bestBarn r1 M)).bind fun v585 => 
      (qrc M r2 [4] (f_X5_bestBarn r2 M)).bind fun v589 => 
      if v585 = v589 then (f_L_law_18 n r0 r1 r2 (x3 + (3 : Int32)) M)
      else some ((0 : Int32), M))
    else if (v28 &&& (31 : Int32)) = (19 : Int32) then ((aI M r0 (x3 + (1 : Int32))).bind fun v602 => 
      (aI M r0 (x3 + (2 : Int32))).bind fun v607 => 
      (qrc M r1 [0] (f_X0_ifPrice r1 v602 v607 M)).bind fun v608 => 
      (aI M r0 (x3 + (1 : Int32))).bind fun v616 => 
      (aI M r0 (x3 + (2 : Int32))).bind fun v621 => 
      (qrc M r2 [4] (f_X5_ifPrice r2 v616 v621 M)).bind fun v622 => 
      if v608 = v622 then (f_L_law_18 n r0 r1 r2 (x3 + (3 : Int32)) M)
      else some ((0 : Int32), M))
    else if (v28 &&& (31 : Int32)) = (20 : Int32) then ((aI M r0 (x3 + (1 : Int32))).bind fun v635 => 
      (aI M r0 (x3 + (2 : Int32))).bind fun v640 => 
      (qrc M r1 [0] (f_X0_showOf r1 v635 v640 M)).bind fun v641 => 
      (aI M r0 (x3 + (1 : Int32))).bind fun v649 => 
      (aI M r0 (x3 + (2 : Int32))).bind fun v654 => 
      (qrc M r2 [4] (f_X5_showOf r2 v649 v654 M)).bind fun v655 => 
      if v641 = v655 then (f_L_law_18 n r0 r1 r2 (x3 + (3 : Int32)) M)
      else some ((0 : Int32), M))
    else if (v28 &&& (31 : Int32)) = (21 : Int32) then ((aI M r0 (x3 + (1 : Int32))).bind fun v668 => 
      (qrc M r1 [0] (f_X0_count r1 v668 M)).bind fun v669 => 
      (aI M r0 (x3 + (1 : Int32))).bind fun v677 => 
      (qrc M r2 [4] (f_X5_count r2 v677 M)).bind fun v678 => 
      if v669 = v678 then (f_L_law_18 n r0 r1 r2 (x3 + (3 : Int32)) M)
      else some ((0 : Int32), M))
    else f_L_law_18 n r0 r1 r2 (x3 + (3 : Int32)) M
theorem s_L_law_18 {l : Launch} {M0 : QM} : ∀ (n c s : Nat), c + 1127 * n ≤ 74413 → s + 9274 * n ≤ 613603 → ∀ (r0 : QR) (r1 : QR) (r2 : QR) (x3 : Int32) (M : QM) , SB eI l kL_law M0 (f_L_law_18 n r0 r1 r2 x3 M) (c, s) 18 M [some (.inr r0), some (.inr r1), some (.inr r2), some (.inl x3)] [] := by
  intro n
  induction n with
  | zero => intros; rw [f_L_law_18]; exact r_none
  | succ n ih =>
    intro c s hc hs r0 r1 r2 x3  M
    have hc1 : c + 1127 ≤ 74413 := by omega
    have hs1 : s + 9274 ≤ 613603 := by omega
    rw [f_L_law_18]
    refine r_widen (u' := (c + 0, s + 0)) ⟨(show c ≤ c + 0 by omega), (show s ≤ s + 0 by omega)⟩ ?_
    refine r_iload_n (pc := 18) dL_law_18 rfl ?_
    refine r_aload_n (pc := 19) dL_law_19 rfl ?_
    refine r_alen (pc := 20) dL_law_20 (fun v20 => ?_)
    refine r_iconst (v := (3 : Int32)) (pc := 21) dL_law_21 (by decide) ?_
    refine r_isub (pc := 22) dL_law_22 ?_
    refine r_icmp_gt (pc := 23) (tgt := 692) dL_law_23 (by decide) ?_ ?_
    · refine r_iconst (v := (1 : Int32)) (pc := 692) dL_law_692 (by decide) ?_
      exact r_zretI (pc := 693) dL_law_693 rfl rfl ⟨(show c + 0 ≤ 74413 by omega), (show s + 0 ≤ 613603 by omega)⟩
    refine r_aload_n (pc := 26) dL_law_26 rfl ?_
    refine r_iload_n (pc := 27) dL_law_27 rfl ?_
    refine r_iald (pc := 28) dL_law_28 (fun v28 => ?_)
    refine r_bipush (v := (31 : Int32)) (pc := 29) dL_law_29 (by decide) ?_
    refine r_iand (pc := 31) dL_law_31 ?_
    refine r_iteE (fun _ => ?_) (fun e32_0 => ?_)
    · refine r_tableY (pc := 32) (off := 104) (tgt := 136) dL_law_32 (by decide) (by decide) rfl (by decide) ?_
      refine r_aload_n (pc := 136) dL_law_136 rfl ?_
      refine r_aload_n (pc := 137) dL_law_137 rfl ?_
      refine r_iload_n (pc := 138) dL_law_138 rfl ?_
      refine r_iconst (v := (1 : Int32)) (pc := 139) dL_law_139 (by decide) ?_
      refine r_iadd (pc := 140) dL_law_140 ?_
      refine r_iald (pc := 141) dL_law_141 (fun v141 => ?_)
      refine r_callVX_I (st := []) (vs := [.inl v141]) (pc := 142)  ct_X0_drive hc_0 cf_L_13 rfl rfl (Nat.le_of_ble_eq_true rfl) ⟨by decide +kernel, (show c + 0 + 25 ≤ 74413 by omega), (show s + 0 + 224 ≤ 613603 by omega)⟩ dL_law_142 (fun v142 m142 => ?_)
      refine r_widen (u' := (c + 25, s + 224)) ⟨(show c + 0 + 25 ≤ c + 25 by omega), (show s + 0 + 224 ≤ s + 224 by omega)⟩ ?_
      refine r_aload_n (pc := 145) dL_law_145 rfl ?_
      refine r_aload_n (pc := 146) dL_law_146 rfl ?_
      refine r_iload_n (pc := 147) dL_law_147 rfl ?_
      refine r_iconst (v := (1 : Int32)) (pc := 148) dL_law_148 (by decide) ?_
      refine r_iadd (pc := 149) dL_law_149 ?_
      refine r_iald (pc := 150) dL_law_150 (fun v150 => ?_)
      refine r_callV_I (st := [.inl v142]) (vs := [.inl v150]) (pc := 151)  ct_X5_drive hc_4 cf_L_17 rfl rfl (Nat.le_of_ble_eq_true rfl) ⟨by decide +kernel, (show c + 25 + 0 ≤ 74413 by omega), (show s + 224 + 0 ≤ 613603 by omega)⟩ dL_law_151 (fun v151 m151 => ?_)
      refine r_widen (u' := (c + 25, s + 224)) ⟨(show c + 25 + 0 ≤ c + 25 by omega), (show s + 224 + 0 ≤ s + 224 by omega)⟩ ?_
      refine r_icmp_eq (pc := 154) (tgt := 686) dL_law_154 (by decide) ?_ ?_
      · refine r_iinc (v := (x3 + (3 : Int32))) (pc := 686) dL_law_686 rfl rfl (by decide) rfl ?_
        refine r_goto (tgt := 18) (pc := 689) dL_law_689 (by decide) ?_
        refine r_widen (u' := (c + 1127, s + 9274)) ⟨(show c + 25 ≤ c + 1127 by omega), (show s + 224 ≤ s + 9274 by omega)⟩ ?_
        exact ih (c + 1127) (s + 9274) (by omega) (by omega) _ _ _ _ _
      refine r_iconst (v := (0 : Int32)) (pc := 157) dL_law_157 (by decide) ?_
      exact r_zretI (pc := 158) dL_law_158 rfl rfl ⟨(show c + 25 ≤ 74413 by omega), (show s + 224 ≤ 613603 by omega)⟩
    refine r_iteE (fun _ => ?_) (fun e32_1 => ?_)
    · refine r_tableY (pc := 32) (off := 127) (tgt := 159) dL_law_32 (by decide) (by decide) rfl (by decide) ?_
      refine r_aload_n (pc := 159) dL_law_159 rfl ?_
      refine r_aload_n (pc := 160) dL_law_160 rfl ?_
      refine r_iload_n (pc := 161) dL_law_161 rfl ?_
      refine r_iconst (v := (1 : Int32)) (pc := 162) dL_law_162 (by decide) ?_
      refine r_iadd (pc := 163) dL_law_163 ?_
      refine r_iald (pc := 164) dL_law_164 (fun v164 => ?_)
      refine r_aload_n (pc := 165) dL_law_165 rfl ?_
      refine r_iload_n (pc := 166) dL_law_166 rfl ?_
      refine r_iconst (v := (2 : Int32)) (pc := 167) dL_law_167 (by decide) ?_
      refine r_iadd (pc := 168) dL_law_168 ?_
      refine r_iald (pc := 169) dL_law_169 (fun v169 => ?_)
      refine r_if_eqF (F := (fun (z9 : Int32) => f_L_law_178 (f_L_law_18 n) r0 r1 r2 x3 r1 v164 z9 M)) (zA := (0 : Int32)) (zB := (1 : Int32)) (pc := 170) (tgt := 177) dL_law_170 (by decide) ?_ ?_
      · refine r_iconst (v := (0 : Int32)) (pc := 177) dL_law_177 (by decide) ?_
        exact s_L_law_178 c s (f_L_law_18 n) (ih (c + 1127) (s + 9274) (by omega) (by omega)) hc1 hs1 _ _ _ _ _ _ _ _
      refine r_iconst (v := (1 : Int32)) (pc := 173) dL_law_173 (by decide) ?_
      refine r_goto (tgt := 178) (pc := 174) dL_law_174 (by decide) ?_
      exact s_L_law_178 c s (f_L_law_18 n) (ih (c + 1127) (s + 9274) (by omega) (by omega)) hc1 hs1 _ _ _ _ _ _ _ _
    refine r_iteE (fun _ => ?_) (fun e32_2 => ?_)
    · refine r_tableY (pc := 32) (off := 176) (tgt := 208) dL_law_32 (by decide) (by decide) rfl (by decide) ?_
      refine r_aload_n (pc := 208) dL_law_208 rfl ?_
      refine r_aload_n (pc := 209) dL_law_209 rfl ?_
      refine r_iload_n (pc := 210) dL_law_210 rfl ?_
      refine r_iconst (v := (1 : Int32)) (pc := 211) dL_law_211 (by decide) ?_
      refine r_iadd (pc := 212) dL_law_212 ?_
      refine r_iald (pc := 213) dL_law_213 (fun v213 => ?_)
      refine r_aload_n (pc := 214) dL_law_214 rfl ?_
      refine r_iload_n (pc := 215) dL_law_215 rfl ?_
      refine r_iconst (v := (2 : Int32)) (pc := 216) dL_law_216 (by decide) ?_
      refine r_iadd (pc := 217) dL_law_217 ?_
      refine r_iald (pc := 218) dL_law_218 (fun v218 => ?_)
      refine r_if_eqF (F := (fun (z9 : Int32) => f_L_law_227 (f_L_law_18 n) r0 r1 r2 x3 r1 v213 z9 M)) (zA := (0 : Int32)) (zB := (1 : Int32)) (pc := 219) (tgt := 226) dL_law_219 (by decide) ?_ ?_
      · refine r_iconst (v := (0 : Int32)) (pc := 226) dL_law_226 (by decide) ?_
        exact s_L_law_227 c s (f_L_law_18 n) (ih (c + 1127) (s + 9274) (by omega) (by omega)) hc1 hs1 _ _ _ _ _ _ _ _
      refine r_iconst (v := (1 : Int32)) (pc := 222) dL_law_222 (by decide) ?_
      refine r_goto (tgt := 227) (pc := 223) dL_law_223 (by decide) ?_
      exact s_L_law_227 c s (f_L_law_18 n) (ih (c + 1127) (s + 9274) (by omega) (by omega)) hc1 hs1 _ _ _ _ _ _ _ _
    refine r_iteE (fun _ => ?_) (fun e32_3 => ?_)
    · refine r_tableY (pc := 32) (off := 225) (tgt := 257) dL_law_32 (by decide) (by decide) rfl (by decide) ?_
      refine r_aload_n (pc := 257) dL_law_257 rfl ?_
      refine r_aload_n (pc := 258) dL_law_258 rfl ?_
      refine r_iload_n (pc := 259) dL_law_259 rfl ?_
      refine r_iconst (v := (1 : Int32)) (pc := 260) dL_law_260 (by decide) ?_
      refine r_iadd (pc := 261) dL_law_261 ?_
      refine r_iald (pc := 262) dL_law_262 (fun v262 => ?_)
      refine r_aload_n (pc := 263) dL_law_263 rfl ?_
      refine r_iload_n (pc := 264) dL_law_264 rfl ?_
      refine r_iconst (v := (2 : Int32)) (pc := 265) dL_law_265 (by decide) ?_
      refine r_iadd (pc := 266) dL_law_266 ?_
      refine r_iald (pc := 267) dL_law_267 (fun v267 => ?_)
      refine r_callVX_I (st := []) (vs := [.inl v262, .inl v267]) (pc := 268)  ct_X0_fuel hc_0 cf_L_27 rfl rfl (Nat.le_of_ble_eq_true rfl) ⟨by decide +kernel, (show c + 0 + 26 ≤ 74413 by omega), (show s + 0 + 235 ≤ 613603 by omega)⟩ dL_law_268 (fun v268 m268 => ?_)
      refine r_widen (u' := (c + 26, s + 235)) ⟨(show c + 0 + 26 ≤ c + 26 by omega), (show s + 0 + 235 ≤ s + 235 by omega)⟩ ?_
      refine r_aload_n (pc := 271) dL_law_271 rfl ?_
      refine r_aload_n (pc := 272) dL_law_272 rfl ?_
      refine r_iload_n (pc := 273) dL_law_273 rfl ?_
      refine r_iconst (v := (1 : Int32)) (pc := 274) dL_law_274 (by decide) ?_
      refine r_iadd (pc := 275) dL_law_275 ?_
      refine r_iald (pc := 276) dL_law_276 (fun v276 => ?_)
      refine r_aload_n (pc := 277) dL_law_277 rfl ?_
      refine r_iload_n (pc := 278) dL_law_278 rfl ?_
      refine r_iconst (v := (2 : Int32)) (pc := 279) dL_law_279 (by decide) ?_
      refine r_iadd (pc := 280) dL_law_280 ?_
      refine r_iald (pc := 281) dL_law_281 (fun v281 => ?_)
      refine r_callV_I (st := [.inl v268]) (vs := [.inl v276, .inl v281]) (pc := 282)  ct_X5_fuel hc_4 cf_L_31 rfl rfl (Nat.le_of_ble_eq_true rfl) ⟨by decide +kernel, (show c + 26 + 0 ≤ 74413 by omega), (show s + 235 + 0 ≤ 613603 by omega)⟩ dL_law_282 (fun v282 m282 => ?_)
      refine r_widen (u' := (c + 26, s + 235)) ⟨(show c + 26 + 0 ≤ c + 26 by omega), (show s + 235 + 0 ≤ s + 235 by omega)⟩ ?_
      refine r_icmp_eq (pc := 285) (tgt := 686) dL_law_285 (by decide) ?_ ?_
      · refine r_iinc (v := (x3 + (3 : Int32))) (pc := 686) dL_law_686 rfl rfl (by decide) rfl ?_
        refine r_goto (tgt := 18) (pc := 689) dL_law_689 (by decide) ?_
        refine r_widen (u' := (c + 1127, s + 9274)) ⟨(show c + 26 ≤ c + 1127 by omega), (show s + 235 ≤ s + 9274 by omega)⟩ ?_
        exact ih (c + 1127) (s + 9274) (by omega) (by omega) _ _ _ _ _
      refine r_iconst (v := (0 : Int32)) (pc := 288) dL_law_288 (by decide) ?_
      exact r_zretI (pc := 289) dL_law_289 rfl rfl ⟨(show c + 26 ≤ 74413 by omega), (show s + 235 ≤ 613603 by omega)⟩
    refine r_iteE (fun _ => ?_) (fun e32_4 => ?_)
    · refine r_tableY (pc := 32) (off := 258) (tgt := 290) dL_law_32 (by decide) (by decide) rfl (by decide) ?_
      refine r_aload_n (pc := 290) dL_law_290 rfl ?_
      refine r_aload_n (pc := 291) dL_law_291 rfl ?_
      refine r_iload_n (pc := 292) dL_law_292 rfl ?_
      refine r_iconst (v := (1 : Int32)) (pc := 293) dL_law_293 (by decide) ?_
      refine r_iadd (pc := 294) dL_law_294 ?_
      refine r_iald (pc := 295) dL_law_295 (fun v295 => ?_)
      refine r_callVX_I (st := []) (vs := [.inl v295]) (pc := 296)  ct_X0_renew hc_0 cf_L_32 rfl rfl (Nat.le_of_ble_eq_true rfl) ⟨by decide +kernel, (show c + 0 + 24 ≤ 74413 by omega), (show s + 0 + 221 ≤ 613603 by omega)⟩ dL_law_296 (fun v296 m296 => ?_)
      refine r_widen (u' := (c + 24, s + 221)) ⟨(show c + 0 + 24 ≤ c + 24 by omega), (show s + 0 + 221 ≤ s + 221 by omega)⟩ ?_
      refine r_aload_n (pc := 299) dL_law_299 rfl ?_
      refine r_aload_n (pc := 300) dL_law_300 rfl ?_
      refine r_iload_n (pc := 301) dL_law_301 rfl ?_
      refine r_iconst (v := (1 : Int32)) (pc := 302) dL_law_302 (by decide) ?_
      refine r_iadd (pc := 303) dL_law_303 ?_
      refine r_iald (pc := 304) dL_law_304 (fun v304 => ?_)
      refine r_callV_I (st := [.inl v296]) (vs := [.inl v304]) (pc := 305)  ct_X5_renew hc_4 cf_L_35 rfl rfl (Nat.le_of_ble_eq_true rfl) ⟨by decide +kernel, (show c + 24 + 0 ≤ 74413 by omega), (show s + 221 + 0 ≤ 613603 by omega)⟩ dL_law_305 (fun v305 m305 => ?_)
      refine r_widen (u' := (c + 24, s + 221)) ⟨(show c + 24 + 0 ≤ c + 24 by omega), (show s + 221 + 0 ≤ s + 221 by omega)⟩ ?_
      refine r_icmp_eq (pc := 308) (tgt := 686) dL_law_308 (by decide) ?_ ?_
      · refine r_iinc (v := (x3 + (3 : Int32))) (pc := 686) dL_law_686 rfl rfl (by decide) rfl ?_
        refine r_goto (tgt := 18) (pc := 689) dL_law_689 (by decide) ?_
        refine r_widen (u' := (c + 1127, s + 9274)) ⟨(show c + 24 ≤ c + 1127 by omega), (show s + 221 ≤ s + 9274 by omega)⟩ ?_
        exact ih (c + 1127) (s + 9274) (by omega) (by omega) _ _ _ _ _
      refine r_iconst (v := (0 : Int32)) (pc := 311) dL_law_311 (by decide) ?_
      exact r_zretI (pc := 312) dL_law_312 rfl rfl ⟨(show c + 24 ≤ 74413 by omega), (show s + 221 ≤ 613603 by omega)⟩
    refine r_iteE (fun _ => ?_) (fun e32_5 => ?_)
    · refine r_tableY (pc := 32) (off := 281) (tgt := 313) dL_law_32 (by decide) (by decide) rfl (by decide) ?_
      refine r_aload_n (pc := 313) dL_law_313 rfl ?_
      refine r_aload_n (pc := 314) dL_law_314 rfl ?_
      refine r_iload_n (pc := 315) dL_law_315 rfl ?_
      refine r_iconst (v := (1 : Int32)) (pc := 316) dL_law_316 (by decide) ?_
      refine r_iadd (pc := 317) dL_law_317 ?_
      refine r_iald (pc := 318) dL_law_318 (fun v318 => ?_)
      refine r_callV_I (st := []) (vs := [.inl v318]) (pc := 319)  ct_X0_setPrice hc_0 cf_L_36 rfl rfl (Nat.le_of_ble_eq_true rfl) ⟨by decide +kernel, (show c + 0 + 22 ≤ 74413 by omega), (show s + 0 + 207 ≤ 613603 by omega)⟩ dL_law_319 (fun v319 m319 => ?_)
      refine r_widen (u' := (c + 22, s + 207)) ⟨(show c + 0 + 22 ≤ c + 22 by omega), (show s + 0 + 207 ≤ s + 207 by omega)⟩ ?_
      refine r_aload_n (pc := 322) dL_law_322 rfl ?_
      refine r_aload_n (pc := 323) dL_law_323 rfl ?_
      refine r_iload_n (pc := 324) dL_law_324 rfl ?_
      refine r_iconst (v := (1 : Int32)) (pc := 325) dL_law_325 (by decide) ?_
      refine r_iadd (pc := 326) dL_law_326 ?_
      refine r_iald (pc := 327) dL_law_327 (fun v327 => ?_)
      refine r_callV_I (st := [.inl v319]) (vs := [.inl v327]) (pc := 328)  ct_X5_setPrice hc_4 cf_L_39 rfl rfl (Nat.le_of_ble_eq_true rfl) ⟨by decide +kernel, (show c + 22 + 0 ≤ 74413 by omega), (show s + 207 + 0 ≤ 613603 by omega)⟩ dL_law_328 (fun v328 m328 => ?_)
      refine r_widen (u' := (c + 22, s + 207)) ⟨(show c + 22 + 0 ≤ c + 22 by omega), (show s + 207 + 0 ≤ s + 207 by omega)⟩ ?_
      refine r_icmp_eq (pc := 331) (tgt := 686) dL_law_331 (by decide) ?_ ?_
      · refine r_iinc (v := (x3 + (3 : Int32))) (pc := 686) dL_law_686 rfl rfl (by decide) rfl ?_
        refine r_goto (tgt := 18) (pc := 689) dL_law_689 (by decide) ?_
        refine r_widen (u' := (c + 1127, s + 9274)) ⟨(show c + 22 ≤ c + 1127 by omega), (show s + 207 ≤ s + 9274 by omega)⟩ ?_
        exact ih (c + 1127) (s + 9274) (by omega) (by omega) _ _ _ _ _
      refine r_iconst (v := (0 : Int32)) (pc := 334) dL_law_334 (by decide) ?_
      exact r_zretI (pc := 335) dL_law_335 rfl rfl ⟨(show c + 22 ≤ 74413 by omega), (show s + 207 ≤ 613603 by omega)⟩
    refine r_iteE (fun _ => ?_) (fun e32_6 => ?_)
    · refine r_tableY (pc := 32) (off := 304) (tgt := 336) dL_law_32 (by decide) (by decide) rfl (by decide) ?_
      refine r_aload_n (pc := 336) dL_law_336 rfl ?_
      refine r_aload_n (pc := 337) dL_law_337 rfl ?_
      refine r_iload_n (pc := 338) dL_law_338 rfl ?_
      refine r_iconst (v := (1 : Int32)) (pc := 339) dL_law_339 (by decide) ?_
      refine r_iadd (pc := 340) dL_law_340 ?_
      refine r_iald (pc := 341) dL_law_341 (fun v341 => ?_)
      refine r_callVX_I (st := []) (vs := [.inl v341]) (pc := 342)  ct_X0_show hc_0 cf_L_40 rfl rfl (Nat.le_of_ble_eq_true rfl) ⟨by decide +kernel, (show c + 0 + 34 ≤ 74413 by omega), (show s + 0 + 269 ≤ 613603 by omega)⟩ dL_law_342 (fun v342 m342 => ?_)
      refine r_widen (u' := (c + 34, s + 269)) ⟨(show c + 0 + 34 ≤ c + 34 by omega), (show s + 0 + 269 ≤ s + 269 by omega)⟩ ?_
      refine r_aload_n (pc := 345) dL_law_345 rfl ?_
      refine r_aload_n (pc := 346) dL_law_346 rfl ?_
      refine r_iload_n (pc := 347) dL_law_347 rfl ?_
      refine r_iconst (v := (1 : Int32)) (pc := 348) dL_law_348 (by decide) ?_
      refine r_iadd (pc := 349) dL_law_349 ?_
      refine r_iald (pc := 350) dL_law_350 (fun v350 => ?_)
      refine r_callV_I (st := [.inl v342]) (vs := [.inl v350]) (pc := 351)  ct_X5_show hc_4 cf_L_43 rfl rfl (Nat.le_of_ble_eq_true rfl) ⟨by decide +kernel, (show c + 34 + 0 ≤ 74413 by omega), (show s + 269 + 0 ≤ 613603 by omega)⟩ dL_law_351 (fun v351 m351 => ?_)
      refine r_widen (u' := (c + 34, s + 269)) ⟨(show c + 34 + 0 ≤ c + 34 by omega), (show s + 269 + 0 ≤ s + 269 by omega)⟩ ?_
      refine r_icmp_eq (pc := 354) (tgt := 686) dL_law_354 (by decide) ?_ ?_
      · refine r_iinc (v := (x3 + (3 : Int32))) (pc := 686) dL_law_686 rfl rfl (by decide) rfl ?_
        refine r_goto (tgt := 18) (pc := 689) dL_law_689 (by decide) ?_
        refine r_widen (u' := (c + 1127, s + 9274)) ⟨(show c + 34 ≤ c + 1127 by omega), (show s + 269 ≤ s + 9274 by omega)⟩ ?_
        exact ih (c + 1127) (s + 9274) (by omega) (by omega) _ _ _ _ _
      refine r_iconst (v := (0 : Int32)) (pc := 357) dL_law_357 (by decide) ?_
      exact r_zretI (pc := 358) dL_law_358 rfl rfl ⟨(show c + 34 ≤ 74413 by omega), (show s + 269 ≤ 613603 by omega)⟩
    refine r_iteE (fun _ => ?_) (fun e32_7 => ?_)
    · refine r_tableY (pc := 32) (off := 327) (tgt := 359) dL_law_32 (by decide) (by decide) rfl (by decide) ?_
      refine r_aload_n (pc := 359) dL_law_359 rfl ?_
      refine r_callVX_I (st := []) (vs := []) (pc := 360)  ct_X0_nextDay hc_0 cf_L_44 rfl rfl (Nat.le_of_ble_eq_true rfl) ⟨by decide +kernel, (show c + 0 + 23 ≤ 74413 by omega), (show s + 0 + 214 ≤ 613603 by omega)⟩ dL_law_360 (fun v360 m360 => ?_)
      refine r_widen (u' := (c + 23, s + 214)) ⟨(show c + 0 + 23 ≤ c + 23 by omega), (show s + 0 + 214 ≤ s + 214 by omega)⟩ ?_
      refine r_aload_n (pc := 363) dL_law_363 rfl ?_
      refine r_callV_I (st := [.inl v360]) (vs := []) (pc := 364)  ct_X5_nextDay hc_4 cf_L_48 rfl rfl (Nat.le_of_ble_eq_true rfl) ⟨by decide +kernel, (show c + 23 + 0 ≤ 74413 by omega), (show s + 214 + 0 ≤ 613603 by omega)⟩ dL_law_364 (fun v364 m364 => ?_)
      refine r_widen (u' := (c + 23, s + 214)) ⟨(show c + 23 + 0 ≤ c + 23 by omega), (show s + 214 + 0 ≤ s + 214 by omega)⟩ ?_
      refine r_icmp_eq (pc := 367) (tgt := 686) dL_law_367 (by decide) ?_ ?_
      · refine r_iinc (v := (x3 + (3 : Int32))) (pc := 686) dL_law_686 rfl rfl (by decide) rfl ?_
        refine r_goto (tgt := 18) (pc := 689) dL_law_689 (by decide) ?_
        refine r_widen (u' := (c + 1127, s + 9274)) ⟨(show c + 23 ≤ c + 1127 by omega), (show s + 214 ≤ s + 9274 by omega)⟩ ?_
        exact ih (c + 1127) (s + 9274) (by omega) (by omega) _ _ _ _ _
      refine r_iconst (v := (0 : Int32)) (pc := 370) dL_law_370 (by decide) ?_
      exact r_zretI (pc := 371) dL_law_371 rfl rfl ⟨(show c + 23 ≤ 74413 by omega), (show s + 214 ≤ 613603 by omega)⟩
    refine r_iteE (fun _ => ?_) (fun e32_8 => ?_)
    · refine r_tableY (pc := 32) (off := 340) (tgt := 372) dL_law_32 (by decide) (by decide) rfl (by decide) ?_
      refine r_aload_n (pc := 372) dL_law_372 rfl ?_
      refine r_aload_n (pc := 373) dL_law_373 rfl ?_
      refine r_iload_n (pc := 374) dL_law_374 rfl ?_
      refine r_iconst (v := (1 : Int32)) (pc := 375) dL_law_375 (by decide) ?_
      refine r_iadd (pc := 376) dL_law_376 ?_
      refine r_iald (pc := 377) dL_law_377 (fun v377 => ?_)
      refine r_i2c (pc := 378) dL_law_378 ?_
      refine r_callV_I (st := []) (vs := [.inl ((v377.toUInt32 % 65536).toInt32)]) (pc := 379)  ct_X0_type hc_0 cf_L_49 rfl rfl (Nat.le_of_ble_eq_true rfl) ⟨by decide +kernel, (show c + 0 + 2 ≤ 74413 by omega), (show s + 0 + 1024 ≤ 613603 by omega)⟩ dL_law_379 (fun v379 m379 => ?_)
      refine r_widen (u' := (c + 2, s + 1024)) ⟨(show c + 0 + 2 ≤ c + 2 by omega), (show s + 0 + 1024 ≤ s + 1024 by omega)⟩ ?_
      refine r_aload_n (pc := 382) dL_law_382 rfl ?_
      refine r_aload_n (pc := 383) dL_law_383 rfl ?_
      refine r_iload_n (pc := 384) dL_law_384 rfl ?_
      refine r_iconst (v := (1 : Int32)) (pc := 385) dL_law_385 (by decide) ?_
      refine r_iadd (pc := 386) dL_law_386 ?_
      refine r_iald (pc := 387) dL_law_387 (fun v387 => ?_)
      refine r_i2c (pc := 388) dL_law_388 ?_
      refine r_callV_I (st := [.inl v379]) (vs := [.inl ((v387.toUInt32 % 65536).toInt32)]) (pc := 389)  ct_X5_type hc_4 cf_L_53 rfl rfl (Nat.le_of_ble_eq_true rfl) ⟨by decide +kernel, (show c + 2 + 0 ≤ 74413 by omega), (show s + 1024 + 0 ≤ 613603 by omega)⟩ dL_law_389 (fun v389 m389 => ?_)
      refine r_widen (u' := (c + 2, s + 1024)) ⟨(show c + 2 + 0 ≤ c + 2 by omega), (show s + 1024 + 0 ≤ s + 1024 by omega)⟩ ?_
      refine r_icmp_eq (pc := 392) (tgt := 686) dL_law_392 (by decide) ?_ ?_
      · refine r_iinc (v := (x3 + (3 : Int32))) (pc := 686) dL_law_686 rfl rfl (by decide) rfl ?_
        refine r_goto (tgt := 18) (pc := 689) dL_law_689 (by decide) ?_
        refine r_widen (u' := (c + 1127, s + 9274)) ⟨(show c + 2 ≤ c + 1127 by omega), (show s + 1024 ≤ s + 9274 by omega)⟩ ?_
        exact ih (c + 1127) (s + 9274) (by omega) (by omega) _ _ _ _ _
      refine r_iconst (v := (0 : Int32)) (pc := 395) dL_law_395 (by decide) ?_
      exact r_zretI (pc := 396) dL_law_396 rfl rfl ⟨(show c + 2 ≤ 74413 by omega), (show s + 1024 ≤ 613603 by omega)⟩
    refine r_iteE (fun _ => ?_) (fun e32_9 => ?_)
    · refine r_tableY (pc := 32) (off := 365) (tgt := 397) dL_law_32 (by decide) (by decide) rfl (by decide) ?_
      refine r_aload_n (pc := 397) dL_law_397 rfl ?_
      refine r_callV_I (st := []) (vs := []) (pc := 398)  ct_X0_clearText hc_0 cf_L_54 rfl rfl (Nat.le_of_ble_eq_true rfl) ⟨by decide +kernel, (show c + 0 + 1 ≤ 74413 by omega), (show s + 0 + 512 ≤ 613603 by omega)⟩ dL_law_398 (fun v398 m398 => ?_)
      refine r_widen (u' := (c + 1, s + 512)) ⟨(show c + 0 + 1 ≤ c + 1 by omega), (show s + 0 + 512 ≤ s + 512 by omega)⟩ ?_
      refine r_aload_n (pc := 401) dL_law_401 rfl ?_
      refine r_callV_I (st := [.inl v398]) (vs := []) (pc := 402)  ct_X5_clearText hc_4 cf_L_57 rfl rfl (Nat.le_of_ble_eq_true rfl) ⟨by decide +kernel, (show c + 1 + 0 ≤ 74413 by omega), (show s + 512 + 0 ≤ 613603 by omega)⟩ dL_law_402 (fun v402 m402 => ?_)
      refine r_widen (u' := (c + 1, s + 512)) ⟨(show c + 1 + 0 ≤ c + 1 by omega), (show s + 512 + 0 ≤ s + 512 by omega)⟩ ?_
      refine r_icmp_eq (pc := 405) (tgt := 686) dL_law_405 (by decide) ?_ ?_
      · refine r_iinc (v := (x3 + (3 : Int32))) (pc := 686) dL_law_686 rfl rfl (by decide) rfl ?_
        refine r_goto (tgt := 18) (pc := 689) dL_law_689 (by decide) ?_
        refine r_widen (u' := (c + 1127, s + 9274)) ⟨(show c + 1 ≤ c + 1127 by omega), (show s + 512 ≤ s + 9274 by omega)⟩ ?_
        exact ih (c + 1127) (s + 9274) (by omega) (by omega) _ _ _ _ _
      refine r_iconst (v := (0 : Int32)) (pc := 408) dL_law_408 (by decide) ?_
      exact r_zretI (pc := 409) dL_law_409 rfl rfl ⟨(show c + 1 ≤ 74413 by omega), (show s + 512 ≤ 613603 by omega)⟩
    refine r_iteE (fun _ => ?_) (fun e32_10 => ?_)
    · refine r_tableY (pc := 32) (off := 378) (tgt := 410) dL_law_32 (by decide) (by decide) rfl (by decide) ?_
      refine r_aload_n (pc := 410) dL_law_410 rfl ?_
      refine r_callVX_I (st := []) (vs := []) (pc := 411)  ct_X0_perform hc_0 cf_L_58 rfl rfl (Nat.le_of_ble_eq_true rfl) ⟨by decide +kernel, (show c + 0 + 1127 ≤ 74413 by omega), (show s + 0 + 9274 ≤ 613603 by omega)⟩ dL_law_411 (fun v411 m411 => ?_)
      refine r_widen (u' := (c + 1127, s + 9274)) ⟨(show c + 0 + 1127 ≤ c + 1127 by omega), (show s + 0 + 9274 ≤ s + 9274 by omega)⟩ ?_
      refine r_aload_n (pc := 414) dL_law_414 rfl ?_
      refine r_callV_I (st := [.inl v411]) (vs := []) (pc := 415)  ct_X5_perform hc_4 cf_L_61 rfl rfl (Nat.le_of_ble_eq_true rfl) ⟨by decide +kernel, (show c + 1127 + 0 ≤ 74413 by omega), (show s + 9274 + 0 ≤ 613603 by omega)⟩ dL_law_415 (fun v415 m415 => ?_)
      refine r_widen (u' := (c + 1127, s + 9274)) ⟨(show c + 1127 + 0 ≤ c + 1127 by omega), (show s + 9274 + 0 ≤ s + 9274 by omega)⟩ ?_
      refine r_icmp_eq (pc := 418) (tgt := 686) dL_law_418 (by decide) ?_ ?_
      · refine r_iinc (v := (x3 + (3 : Int32))) (pc := 686) dL_law_686 rfl rfl (by decide) rfl ?_
        refine r_goto (tgt := 18) (pc := 689) dL_law_689 (by decide) ?_
        refine r_widen (u' := (c + 1127, s + 9274)) ⟨(show c + 1127 ≤ c + 1127 by omega), (show s + 9274 ≤ s + 9274 by omega)⟩ ?_
        exact ih (c + 1127) (s + 9274) (by omega) (by omega) _ _ _ _ _
      refine r_iconst (v := (0 : Int32)) (pc := 421) dL_law_421 (by decide) ?_
      exact r_zretI (pc := 422) dL_law_422 rfl rfl ⟨(show c + 1127 ≤ 74413 by omega), (show s + 9274 ≤ 613603 by omega)⟩
    refine r_iteE (fun _ => ?_) (fun e32_11 => ?_)
    · refine r_tableY (pc := 32) (off := 391) (tgt := 423) dL_law_32 (by decide) (by decide) rfl (by decide) ?_
      refine r_aload_n (pc := 423) dL_law_423 rfl ?_
      refine r_aload_n (pc := 424) dL_law_424 rfl ?_
      refine r_iload_n (pc := 425) dL_law_425 rfl ?_
      refine r_iconst (v := (1 : Int32)) (pc := 426) dL_law_426 (by decide) ?_
      refine r_iadd (pc := 427) dL_law_427 ?_
      refine r_iald (pc := 428) dL_law_428 (fun v428 => ?_)
      refine r_callV_P (st := []) (vs := [.inl v428]) (pc := 429)  ct_X0_stopped hc_0 cf_L_62 rfl rfl (Nat.le_of_ble_eq_true rfl) ⟨by decide +kernel, (show c + 0 + 0 ≤ 74413 by omega), (show s + 0 + 0 ≤ 613603 by omega)⟩ dL_law_429 (fun v429 => ?_)
      refine r_widen (u' := (c + 0, s + 0)) ⟨(show c + 0 + 0 ≤ c + 0 by omega), (show s + 0 + 0 ≤ s + 0 by omega)⟩ ?_
      refine r_aload_n (pc := 432) dL_law_432 rfl ?_
      refine r_aload_n (pc := 433) dL_law_433 rfl ?_
      refine r_iload_n (pc := 434) dL_law_434 rfl ?_
      refine r_iconst (v := (1 : Int32)) (pc := 435) dL_law_435 (by decide) ?_
      refine r_iadd (pc := 436) dL_law_436 ?_
      refine r_iald (pc := 437) dL_law_437 (fun v437 => ?_)
      refine r_callV_P (st := [.inl v429]) (vs := [.inl v437]) (pc := 438)  ct_X5_stopped hc_4 cf_L_65 rfl rfl (Nat.le_of_ble_eq_true rfl) ⟨by decide +kernel, (show c + 0 + 0 ≤ 74413 by omega), (show s + 0 + 0 ≤ 613603 by omega)⟩ dL_law_438 (fun v438 => ?_)
      refine r_widen (u' := (c + 0, s + 0)) ⟨(show c + 0 + 0 ≤ c + 0 by omega), (show s + 0 + 0 ≤ s + 0 by omega)⟩ ?_
      refine r_icmp_eq (pc := 441) (tgt := 686) dL_law_441 (by decide) ?_ ?_
      · refine r_iinc (v := (x3 + (3 : Int32))) (pc := 686) dL_law_686 rfl rfl (by decide) rfl ?_
        refine r_goto (tgt := 18) (pc := 689) dL_law_689 (by decide) ?_
        refine r_widen (u' := (c + 1127, s + 9274)) ⟨(show c + 0 ≤ c + 1127 by omega), (show s + 0 ≤ s + 9274 by omega)⟩ ?_
        exact ih (c + 1127) (s + 9274) (by omega) (by omega) _ _ _ _ _
      refine r_iconst (v := (0 : Int32)) (pc := 444) dL_law_444 (by decide) ?_
      exact r_zretI (pc := 445) dL_law_445 rfl rfl ⟨(show c + 0 ≤ 74413 by omega), (show s + 0 ≤ 613603 by omega)⟩
    refine r_iteE (fun _ => ?_) (fun e32_12 => ?_)
    · refine r_tableY (pc := 32) (off := 414) (tgt := 446) dL_law_32 (by decide) (by decide) rfl (by decide) ?_
      refine r_aload_n (pc := 446) dL_law_446 rfl ?_
      refine r_callV_I (st := []) (vs := []) (pc := 447)  ct_X0_undo hc_0 cf_L_66 rfl rfl (Nat.le_of_ble_eq_true rfl) ⟨by decide +kernel, (show c + 0 + 0 ≤ 74413 by omega), (show s + 0 + 0 ≤ 613603 by omega)⟩ dL_law_447 (fun v447 m447 => ?_)
      refine r_widen (u' := (c + 0, s + 0)) ⟨(show c + 0 + 0 ≤ c + 0 by omega), (show s + 0 + 0 ≤ s + 0 by omega)⟩ ?_
      refine r_aload_n (pc := 450) dL_law_450 rfl ?_
      refine r_callV_I (st := [.inl v447]) (vs := []) (pc := 451)  ct_X5_undo hc_4 cf_L_69 rfl rfl (Nat.le_of_ble_eq_true rfl) ⟨by decide +kernel, (show c + 0 + 0 ≤ 74413 by omega), (show s + 0 + 0 ≤ 613603 by omega)⟩ dL_law_451 (fun v451 m451 => ?_)
      refine r_widen (u' := (c + 0, s + 0)) ⟨(show c + 0 + 0 ≤ c + 0 by omega), (show s + 0 + 0 ≤ s + 0 by omega)⟩ ?_
      refine r_icmp_eq (pc := 454) (tgt := 686) dL_law_454 (by decide) ?_ ?_
      · refine r_iinc (v := (x3 + (3 : Int32))) (pc := 686) dL_law_686 rfl rfl (by decide) rfl ?_
        refine r_goto (tgt := 18) (pc := 689) dL_law_689 (by decide) ?_
        refine r_widen (u' := (c + 1127, s + 9274)) ⟨(show c + 0 ≤ c + 1127 by omega), (show s + 0 ≤ s + 9274 by omega)⟩ ?_
        exact ih (c + 1127) (s + 9274) (by omega) (by omega) _ _ _ _ _
      refine r_iconst (v := (0 : Int32)) (pc := 457) dL_law_457 (by decide) ?_
      exact r_zretI (pc := 458) dL_law_458 rfl rfl ⟨(show c + 0 ≤ 74413 by omega), (show s + 0 ≤ 613603 by omega)⟩
    refine r_iteE (fun _ => ?_) (fun e32_13 => ?_)
    · refine r_tableY (pc := 32) (off := 427) (tgt := 459) dL_law_32 (by decide) (by decide) rfl (by decide) ?_
      refine r_aload_n (pc := 459) dL_law_459 rfl ?_
      refine r_callV_I (st := []) (vs := []) (pc := 460)  ct_X0_keep hc_0 cf_L_70 rfl rfl (Nat.le_of_ble_eq_true rfl) ⟨by decide +kernel, (show c + 0 + 21 ≤ 74413 by omega), (show s + 0 + 143 ≤ 613603 by omega)⟩ dL_law_460 (fun v460 m460 => ?_)
      refine r_widen (u' := (c + 21, s + 143)) ⟨(show c + 0 + 21 ≤ c + 21 by omega), (show s + 0 + 143 ≤ s + 143 by omega)⟩ ?_
      refine r_aload_n (pc := 463) dL_law_463 rfl ?_
      refine r_callV_I (st := [.inl v460]) (vs := []) (pc := 464)  ct_X5_keep hc_4 cf_L_73 rfl rfl (Nat.le_of_ble_eq_true rfl) ⟨by decide +kernel, (show c + 21 + 0 ≤ 74413 by omega), (show s + 143 + 0 ≤ 613603 by omega)⟩ dL_law_464 (fun v464 m464 => ?_)
      refine r_widen (u' := (c + 21, s + 143)) ⟨(show c + 21 + 0 ≤ c + 21 by omega), (show s + 143 + 0 ≤ s + 143 by omega)⟩ ?_
      refine r_icmp_eq (pc := 467) (tgt := 686) dL_law_467 (by decide) ?_ ?_
      · refine r_iinc (v := (x3 + (3 : Int32))) (pc := 686) dL_law_686 rfl rfl (by decide) rfl ?_
        refine r_goto (tgt := 18) (pc := 689) dL_law_689 (by decide) ?_
        refine r_widen (u' := (c + 1127, s + 9274)) ⟨(show c + 21 ≤ c + 1127 by omega), (show s + 143 ≤ s + 9274 by omega)⟩ ?_
        exact ih (c + 1127) (s + 9274) (by omega) (by omega) _ _ _ _ _
      refine r_iconst (v := (0 : Int32)) (pc := 470) dL_law_470 (by decide) ?_
      exact r_zretI (pc := 471) dL_law_471 rfl rfl ⟨(show c + 21 ≤ 74413 by omega), (show s + 143 ≤ 613603 by omega)⟩
    refine r_iteE (fun _ => ?_) (fun e32_14 => ?_)
    · refine r_tableY (pc := 32) (off := 440) (tgt := 472) dL_law_32 (by decide) (by decide) rfl (by decide) ?_
      refine r_aload_n (pc := 472) dL_law_472 rfl ?_
      refine r_callV_I (st := []) (vs := []) (pc := 473)  ct_X0_restore hc_0 cf_L_74 rfl rfl (Nat.le_of_ble_eq_true rfl) ⟨by decide +kernel, (show c + 0 + 22 ≤ 74413 by omega), (show s + 0 + 207 ≤ 613603 by omega)⟩ dL_law_473 (fun v473 m473 => ?_)
      refine r_widen (u' := (c + 22, s + 207)) ⟨(show c + 0 + 22 ≤ c + 22 by omega), (show s + 0 + 207 ≤ s + 207 by omega)⟩ ?_
      refine r_aload_n (pc := 476) dL_law_476 rfl ?_
      refine r_callV_I (st := [.inl v473]) (vs := []) (pc := 477)  ct_X5_restore hc_4 cf_L_77 rfl rfl (Nat.le_of_ble_eq_true rfl) ⟨by decide +kernel, (show c + 22 + 0 ≤ 74413 by omega), (show s + 207 + 0 ≤ 613603 by omega)⟩ dL_law_477 (fun v477 m477 => ?_)
      refine r_widen (u' := (c + 22, s + 207)) ⟨(show c + 22 + 0 ≤ c + 22 by omega), (show s + 207 + 0 ≤ s + 207 by omega)⟩ ?_
      refine r_icmp_eq (pc := 480) (tgt := 686) dL_law_480 (by decide) ?_ ?_
      · refine r_iinc (v := (x3 + (3 : Int32))) (pc := 686) dL_law_686 rfl rfl (by decide) rfl ?_
        refine r_goto (tgt := 18) (pc := 689) dL_law_689 (by decide) ?_
        refine r_widen (u' := (c + 1127, s + 9274)) ⟨(show c + 22 ≤ c + 1127 by omega), (show s + 207 ≤ s + 9274 by omega)⟩ ?_
        exact ih (c + 1127) (s + 9274) (by omega) (by omega) _ _ _ _ _
      refine r_iconst (v := (0 : Int32)) (pc := 483) dL_law_483 (by decide) ?_
      exact r_zretI (pc := 484) dL_law_484 rfl rfl ⟨(show c + 22 ≤ 74413 by omega), (show s + 207 ≤ 613603 by omega)⟩
    refine r_iteE (fun _ => ?_) (fun e32_15 => ?_)
    · refine r_tableY (pc := 32) (off := 453) (tgt := 485) dL_law_32 (by decide) (by decide) rfl (by decide) ?_
      refine r_aload_n (pc := 485) dL_law_485 rfl ?_
      refine r_aload_n (pc := 486) dL_law_486 rfl ?_
      refine r_iload_n (pc := 487) dL_law_487 rfl ?_
      refine r_iconst (v := (1 : Int32)) (pc := 488) dL_law_488 (by decide) ?_
      refine r_iadd (pc := 489) dL_law_489 ?_
      refine r_iald (pc := 490) dL_law_490 (fun v490 => ?_)
      refine r_aload_n (pc := 491) dL_law_491 rfl ?_
      refine r_iload_n (pc := 492) dL_law_492 rfl ?_
      refine r_iconst (v := (2 : Int32)) (pc := 493) dL_law_493 (by decide) ?_
      refine r_iadd (pc := 494) dL_law_494 ?_
      refine r_iald (pc := 495) dL_law_495 (fun v495 => ?_)
      refine r_callV_P (st := []) (vs := [.inl v490, .inl v495]) (pc := 496)  ct_X0_reel hc_0 cf_L_78 rfl rfl (Nat.le_of_ble_eq_true rfl) ⟨by decide +kernel, (show c + 0 + 2 ≤ 74413 by omega), (show s + 0 + 12 ≤ 613603 by omega)⟩ dL_law_496 (fun v496 => ?_)
      refine r_widen (u' := (c + 2, s + 12)) ⟨(show c + 0 + 2 ≤ c + 2 by omega), (show s + 0 + 12 ≤ s + 12 by omega)⟩ ?_
      refine r_aload_n (pc := 499) dL_law_499 rfl ?_
      refine r_aload_n (pc := 500) dL_law_500 rfl ?_
      refine r_iload_n (pc := 501) dL_law_501 rfl ?_
      refine r_iconst (v := (1 : Int32)) (pc := 502) dL_law_502 (by decide) ?_
      refine r_iadd (pc := 503) dL_law_503 ?_
      refine r_iald (pc := 504) dL_law_504 (fun v504 => ?_)
      refine r_aload_n (pc := 505) dL_law_505 rfl ?_
      refine r_iload_n (pc := 506) dL_law_506 rfl ?_
      refine r_iconst (v := (2 : Int32)) (pc := 507) dL_law_507 (by decide) ?_
      refine r_iadd (pc := 508) dL_law_508 ?_
      refine r_iald (pc := 509) dL_law_509 (fun v509 => ?_)
      refine r_callV_P (st := [.inl v496]) (vs := [.inl v504, .inl v509]) (pc := 510)  ct_X5_reel hc_4 cf_L_81 rfl rfl (Nat.le_of_ble_eq_true rfl) ⟨by decide +kernel, (show c + 2 + 0 ≤ 74413 by omega), (show s + 12 + 0 ≤ 613603 by omega)⟩ dL_law_510 (fun v510 => ?_)
      refine r_widen (u' := (c + 2, s + 12)) ⟨(show c + 2 + 0 ≤ c + 2 by omega), (show s + 12 + 0 ≤ s + 12 by omega)⟩ ?_
      refine r_icmp_eq (pc := 513) (tgt := 686) dL_law_513 (by decide) ?_ ?_
      · refine r_iinc (v := (x3 + (3 : Int32))) (pc := 686) dL_law_686 rfl rfl (by decide) rfl ?_
        refine r_goto (tgt := 18) (pc := 689) dL_law_689 (by decide) ?_
        refine r_widen (u' := (c + 1127, s + 9274)) ⟨(show c + 2 ≤ c + 1127 by omega), (show s + 12 ≤ s + 9274 by omega)⟩ ?_
        exact ih (c + 1127) (s + 9274) (by omega) (by omega) _ _ _ _ _
      refine r_iconst (v := (0 : Int32)) (pc := 516) dL_law_516 (by decide) ?_
      exact r_zretI (pc := 517) dL_law_517 rfl rfl ⟨(show c + 2 ≤ 74413 by omega), (show s + 12 ≤ 613603 by omega)⟩
    refine r_iteE (fun _ => ?_) (fun e32_16 => ?_)
    · refine r_tableY (pc := 32) (off := 486) (tgt := 518) dL_law_32 (by decide) (by decide) rfl (by decide) ?_
      refine r_aload_n (pc := 518) dL_law_518 rfl ?_
      refine r_aload_n (pc := 519) dL_law_519 rfl ?_
      refine r_iload_n (pc := 520) dL_law_520 rfl ?_
      refine r_iconst (v := (1 : Int32)) (pc := 521) dL_law_521 (by decide) ?_
      refine r_iadd (pc := 522) dL_law_522 ?_
      refine r_iald (pc := 523) dL_law_523 (fun v523 => ?_)
      refine r_aload_n (pc := 524) dL_law_524 rfl ?_
      refine r_iload_n (pc := 525) dL_law_525 rfl ?_
      refine r_iconst (v := (2 : Int32)) (pc := 526) dL_law_526 (by decide) ?_
      refine r_iadd (pc := 527) dL_law_527 ?_
      refine r_iald (pc := 528) dL_law_528 (fun v528 => ?_)
      refine r_callV_P (st := []) (vs := [.inl v523, .inl v528]) (pc := 529)  ct_X0_generator hc_0 cf_L_82 rfl rfl (Nat.le_of_ble_eq_true rfl) ⟨by decide +kernel, (show c + 0 + 1 ≤ 74413 by omega), (show s + 0 + 2 ≤ 613603 by omega)⟩ dL_law_529 (fun v529 => ?_)
      refine r_widen (u' := (c + 1, s + 2)) ⟨(show c + 0 + 1 ≤ c + 1 by omega), (show s + 0 + 2 ≤ s + 2 by omega)⟩ ?_
      refine r_aload_n (pc := 532) dL_law_532 rfl ?_
      refine r_aload_n (pc := 533) dL_law_533 rfl ?_
      refine r_iload_n (pc := 534) dL_law_534 rfl ?_
      refine r_iconst (v := (1 : Int32)) (pc := 535) dL_law_535 (by decide) ?_
      refine r_iadd (pc := 536) dL_law_536 ?_
      refine r_iald (pc := 537) dL_law_537 (fun v537 => ?_)
      refine r_aload_n (pc := 538) dL_law_538 rfl ?_
      refine r_iload_n (pc := 539) dL_law_539 rfl ?_
      refine r_iconst (v := (2 : Int32)) (pc := 540) dL_law_540 (by decide) ?_
      refine r_iadd (pc := 541) dL_law_541 ?_
      refine r_iald (pc := 542) dL_law_542 (fun v542 => ?_)
      refine r_callV_P (st := [.inl v529]) (vs := [.inl v537, .inl v542]) (pc := 543)  ct_X5_generator hc_4 cf_L_85 rfl rfl (Nat.le_of_ble_eq_true rfl) ⟨by decide +kernel, (show c + 1 + 0 ≤ 74413 by omega), (show s + 2 + 0 ≤ 613603 by omega)⟩ dL_law_543 (fun v543 => ?_)
      refine r_widen (u' := (c + 1, s + 2)) ⟨(show c + 1 + 0 ≤ c + 1 by omega), (show s + 2 + 0 ≤ s + 2 by omega)⟩ ?_
      refine r_icmp_eq (pc := 546) (tgt := 686) dL_law_546 (by decide) ?_ ?_
      · refine r_iinc (v := (x3 + (3 : Int32))) (pc := 686) dL_law_686 rfl rfl (by decide) rfl ?_
        refine r_goto (tgt := 18) (pc := 689) dL_law_689 (by decide) ?_
        refine r_widen (u' := (c + 1127, s + 9274)) ⟨(show c + 1 ≤ c + 1127 by omega), (show s + 2 ≤ s + 9274 by omega)⟩ ?_
        exact ih (c + 1127) (s + 9274) (by omega) (by omega) _ _ _ _ _
      refine r_iconst (v := (0 : Int32)) (pc := 549) dL_law_549 (by decide) ?_
      exact r_zretI (pc := 550) dL_law_550 rfl rfl ⟨(show c + 1 ≤ 74413 by omega), (show s + 2 ≤ 613603 by omega)⟩
    refine r_iteE (fun _ => ?_) (fun e32_17 => ?_)
    · refine r_tableY (pc := 32) (off := 519) (tgt := 551) dL_law_32 (by decide) (by decide) rfl (by decide) ?_
      refine r_aload_n (pc := 551) dL_law_551 rfl ?_
      refine r_aload_n (pc := 552) dL_law_552 rfl ?_
      refine r_iload_n (pc := 553) dL_law_553 rfl ?_
      refine r_iconst (v := (1 : Int32)) (pc := 554) dL_law_554 (by decide) ?_
      refine r_iadd (pc := 555) dL_law_555 ?_
      refine r_iald (pc := 556) dL_law_556 (fun v556 => ?_)
      refine r_aload_n (pc := 557) dL_law_557 rfl ?_
      refine r_iload_n (pc := 558) dL_law_558 rfl ?_
      refine r_iconst (v := (2 : Int32)) (pc := 559) dL_law_559 (by decide) ?_
      refine r_iadd (pc := 560) dL_law_560 ?_
      refine r_iald (pc := 561) dL_law_561 (fun v561 => ?_)
      refine r_callV_P (st := []) (vs := [.inl v556, .inl v561]) (pc := 562)  ct_X0_barn hc_0 cf_L_86 rfl rfl (Nat.le_of_ble_eq_true rfl) ⟨by decide +kernel, (show c + 0 + 14 ≤ 74413 by omega), (show s + 0 + 74 ≤ 613603 by omega)⟩ dL_law_562 (fun v562 => ?_)
      refine r_widen (u' := (c + 14, s + 74)) ⟨(show c + 0 + 14 ≤ c + 14 by omega), (show s + 0 + 74 ≤ s + 74 by omega)⟩ ?_
      refine r_aload_n (pc := 565) dL_law_565 rfl ?_
      refine r_aload_n (pc := 566) dL_law_566 rfl ?_
      refine r_iload_n (pc := 567) dL_law_567 rfl ?_
      refine r_iconst (v := (1 : Int32)) (pc := 568) dL_law_568 (by decide) ?_
      refine r_iadd (pc := 569) dL_law_569 ?_
      refine r_iald (pc := 570) dL_law_570 (fun v570 => ?_)
      refine r_aload_n (pc := 571) dL_law_571 rfl ?_
      refine r_iload_n (pc := 572) dL_law_572 rfl ?_
      refine r_iconst (v := (2 : Int32)) (pc := 573) dL_law_573 (by decide) ?_
      refine r_iadd (pc := 574) dL_law_574 ?_
      refine r_iald (pc := 575) dL_law_575 (fun v575 => ?_)
      refine r_callV_P (st := [.inl v562]) (vs := [.inl v570, .inl v575]) (pc := 576)  ct_X5_barn hc_4 cf_L_89 rfl rfl (Nat.le_of_ble_eq_true rfl) ⟨by decide +kernel, (show c + 14 + 0 ≤ 74413 by omega), (show s + 74 + 0 ≤ 613603 by omega)⟩ dL_law_576 (fun v576 => ?_)
      refine r_widen (u' := (c + 14, s + 74)) ⟨(show c + 14 + 0 ≤ c + 14 by omega), (show s + 74 + 0 ≤ s + 74 by omega)⟩ ?_
      refine r_icmp_eq (pc := 579) (tgt := 686) dL_law_579 (by decide) ?_ ?_
      · refine r_iinc (v := (x3 + (3 : Int32))) (pc := 686) dL_law_686 rfl rfl (by decide) rfl ?_
        refine r_goto (tgt := 18) (pc := 689) dL_law_689 (by decide) ?_
        refine r_widen (u' := (c + 1127, s + 9274)) ⟨(show c + 14 ≤ c + 1127 by omega), (show s + 74 ≤ s + 9274 by omega)⟩ ?_
        exact ih (c + 1127) (s + 9274) (by omega) (by omega) _ _ _ _ _
      refine r_iconst (v := (0 : Int32)) (pc := 582) dL_law_582 (by decide) ?_
      exact r_zretI (pc := 583) dL_law_583 rfl rfl ⟨(show c + 14 ≤ 74413 by omega), (show s + 74 ≤ 613603 by omega)⟩
    refine r_iteE (fun _ => ?_) (fun e32_18 => ?_)
    · refine r_tableY (pc := 32) (off := 552) (tgt := 584) dL_law_32 (by decide) (by decide) rfl (by decide) ?_
      refine r_aload_n (pc := 584) dL_law_584 rfl ?_
      refine r_callV_P (st := []) (vs := []) (pc := 585)  ct_X0_bestBarn hc_0 cf_L_90 rfl rfl (Nat.le_of_ble_eq_true rfl) ⟨by decide +kernel, (show c + 0 + 132 ≤ 74413 by omega), (show s + 0 + 660 ≤ 613603 by omega)⟩ dL_law_585 (fun v585 => ?_)
      refine r_widen (u' := (c + 132, s + 660)) ⟨(show c + 0 + 132 ≤ c + 132 by omega), (show s + 0 + 660 ≤ s + 660 by omega)⟩ ?_
      refine r_aload_n (pc := 588) dL_law_588 rfl ?_
      refine r_callV_P (st := [.inl v585]) (vs := []) (pc := 589)  ct_X5_bestBarn hc_4 cf_L_93 rfl rfl (Nat.le_of_ble_eq_true rfl) ⟨by decide +kernel, (show c + 132 + 0 ≤ 74413 by omega), (show s + 660 + 0 ≤ 613603 by omega)⟩ dL_law_589 (fun v589 => ?_)
      refine r_widen (u' := (c + 132, s + 660)) ⟨(show c + 132 + 0 ≤ c + 132 by omega), (show s + 660 + 0 ≤ s + 660 by omega)⟩ ?_
      refine r_icmp_eq (pc := 592) (tgt := 686) dL_law_592 (by decide) ?_ ?_
      · refine r_iinc (v := (x3 + (3 : Int32))) (pc := 686) dL_law_686 rfl rfl (by decide) rfl ?_
        refine r_goto (tgt := 18) (pc := 689) dL_law_689 (by decide) ?_
        refine r_widen (u' := (c + 1127, s + 9274)) ⟨(show c + 132 ≤ c + 1127 by omega), (show s + 660 ≤ s + 9274 by omega)⟩ ?_
        exact ih (c + 1127) (s + 9274) (by omega) (by omega) _ _ _ _ _
      refine r_iconst (v := (0 : Int32)) (pc := 595) dL_law_595 (by decide) ?_
      exact r_zretI (pc := 596) dL_law_596 rfl rfl ⟨(show c + 132 ≤ 74413 by omega), (show s + 660 ≤ 613603 by omega)⟩
    refine r_iteE (fun _ => ?_) (fun e32_19 => ?_)
    · refine r_tableY (pc := 32) (off := 565) (tgt := 597) dL_law_32 (by decide) (by decide) rfl (by decide) ?_
      refine r_aload_n (pc := 597) dL_law_597 rfl ?_
      refine r_aload_n (pc := 598) dL_law_598 rfl ?_
      refine r_iload_n (pc := 599) dL_law_599 rfl ?_
      refine r_iconst (v := (1 : Int32)) (pc := 600) dL_law_600 (by decide) ?_
      refine r_iadd (pc := 601) dL_law_601 ?_
      refine r_iald (pc := 602) dL_law_602 (fun v602 => ?_)
      refine r_aload_n (pc := 603) dL_law_603 rfl ?_
      refine r_iload_n (pc := 604) dL_law_604 rfl ?_
      refine r_iconst (v := (2 : Int32)) (pc := 605) dL_law_605 (by decide) ?_
      refine r_iadd (pc := 606) dL_law_606 ?_
      refine r_iald (pc := 607) dL_law_607 (fun v607 => ?_)
      refine r_callV_P (st := []) (vs := [.inl v602, .inl v607]) (pc := 608)  ct_X0_ifPrice hc_0 cf_L_94 rfl rfl (Nat.le_of_ble_eq_true rfl) ⟨by decide +kernel, (show c + 0 + 11 ≤ 74413 by omega), (show s + 0 + 55 ≤ 613603 by omega)⟩ dL_law_608 (fun v608 => ?_)
      refine r_widen (u' := (c + 11, s + 55)) ⟨(show c + 0 + 11 ≤ c + 11 by omega), (show s + 0 + 55 ≤ s + 55 by omega)⟩ ?_
      refine r_aload_n (pc := 611) dL_law_611 rfl ?_
      refine r_aload_n (pc := 612) dL_law_612 rfl ?_
      refine r_iload_n (pc := 613) dL_law_613 rfl ?_
      refine r_iconst (v := (1 : Int32)) (pc := 614) dL_law_614 (by decide) ?_
      refine r_iadd (pc := 615) dL_law_615 ?_
      refine r_iald (pc := 616) dL_law_616 (fun v616 => ?_)
      refine r_aload_n (pc := 617) dL_law_617 rfl ?_
      refine r_iload_n (pc := 618) dL_law_618 rfl ?_
      refine r_iconst (v := (2 : Int32)) (pc := 619) dL_law_619 (by decide) ?_
      refine r_iadd (pc := 620) dL_law_620 ?_
      refine r_iald (pc := 621) dL_law_621 (fun v621 => ?_)
      refine r_callV_P (st := [.inl v608]) (vs := [.inl v616, .inl v621]) (pc := 622)  ct_X5_ifPrice hc_4 cf_L_97 rfl rfl (Nat.le_of_ble_eq_true rfl) ⟨by decide +kernel, (show c + 11 + 0 ≤ 74413 by omega), (show s + 55 + 0 ≤ 613603 by omega)⟩ dL_law_622 (fun v622 => ?_)
      refine r_widen (u' := (c + 11, s + 55)) ⟨(show c + 11 + 0 ≤ c + 11 by omega), (show s + 55 + 0 ≤ s + 55 by omega)⟩ ?_
      refine r_icmp_eq (pc := 625) (tgt := 686) dL_law_625 (by decide) ?_ ?_
      · refine r_iinc (v := (x3 + (3 : Int32))) (pc := 686) dL_law_686 rfl rfl (by decide) rfl ?_
        refine r_goto (tgt := 18) (pc := 689) dL_law_689 (by decide) ?_
        refine r_widen (u' := (c + 1127, s + 9274)) ⟨(show c + 11 ≤ c + 1127 by omega), (show s + 55 ≤ s + 9274 by omega)⟩ ?_
        exact ih (c + 1127) (s + 9274) (by omega) (by omega) _ _ _ _ _
      refine r_iconst (v := (0 : Int32)) (pc := 628) dL_law_628 (by decide) ?_
      exact r_zretI (pc := 629) dL_law_629 rfl rfl ⟨(show c + 11 ≤ 74413 by omega), (show s + 55 ≤ 613603 by omega)⟩
    refine r_iteE (fun _ => ?_) (fun e32_20 => ?_)
    · refine r_tableY (pc := 32) (off := 598) (tgt := 630) dL_law_32 (by decide) (by decide) rfl (by decide) ?_
      refine r_aload_n (pc := 630) dL_law_630 rfl ?_
      refine r_aload_n (pc := 631) dL_law_631 rfl ?_
      refine r_iload_n (pc := 632) dL_law_632 rfl ?_
      refine r_iconst (v := (1 : Int32)) (pc := 633) dL_law_633 (by decide) ?_
      refine r_iadd (pc := 634) dL_law_634 ?_
      refine r_iald (pc := 635) dL_law_635 (fun v635 => ?_)
      refine r_aload_n (pc := 636) dL_law_636 rfl ?_
      refine r_iload_n (pc := 637) dL_law_637 rfl ?_
      refine r_iconst (v := (2 : Int32)) (pc := 638) dL_law_638 (by decide) ?_
      refine r_iadd (pc := 639) dL_law_639 ?_
      refine r_iald (pc := 640) dL_law_640 (fun v640 => ?_)
      refine r_callV_P (st := []) (vs := [.inl v635, .inl v640]) (pc := 641)  ct_X0_showOf hc_0 cf_L_98 rfl rfl (Nat.le_of_ble_eq_true rfl) ⟨by decide +kernel, (show c + 0 + 0 ≤ 74413 by omega), (show s + 0 + 0 ≤ 613603 by omega)⟩ dL_law_641 (fun v641 => ?_)
      refine r_widen (u' := (c + 0, s + 0)) ⟨(show c + 0 + 0 ≤ c + 0 by omega), (show s + 0 + 0 ≤ s + 0 by omega)⟩ ?_
      refine r_aload_n (pc := 644) dL_law_644 rfl ?_
      refine r_aload_n (pc := 645) dL_law_645 rfl ?_
      refine r_iload_n (pc := 646) dL_law_646 rfl ?_
      refine r_iconst (v := (1 : Int32)) (pc := 647) dL_law_647 (by decide) ?_
      refine r_iadd (pc := 648) dL_law_648 ?_
      refine r_iald (pc := 649) dL_law_649 (fun v649 => ?_)
      refine r_aload_n (pc := 650) dL_law_650 rfl ?_
      refine r_iload_n (pc := 651) dL_law_651 rfl ?_
      refine r_iconst (v := (2 : Int32)) (pc := 652) dL_law_652 (by decide) ?_
      refine r_iadd (pc := 653) dL_law_653 ?_
      refine r_iald (pc := 654) dL_law_654 (fun v654 => ?_)
      refine r_callV_P (st := [.inl v641]) (vs := [.inl v649, .inl v654]) (pc := 655)  ct_X5_showOf hc_4 cf_L_101 rfl rfl (Nat.le_of_ble_eq_true rfl) ⟨by decide +kernel, (show c + 0 + 0 ≤ 74413 by omega), (show s + 0 + 0 ≤ 613603 by omega)⟩ dL_law_655 (fun v655 => ?_)
      refine r_widen (u' := (c + 0, s + 0)) ⟨(show c + 0 + 0 ≤ c + 0 by omega), (show s + 0 + 0 ≤ s + 0 by omega)⟩ ?_
      refine r_icmp_eq (pc := 658) (tgt := 686) dL_law_658 (by decide) ?_ ?_
      · refine r_iinc (v := (x3 + (3 : Int32))) (pc := 686) dL_law_686 rfl rfl (by decide) rfl ?_
        refine r_goto (tgt := 18) (pc := 689) dL_law_689 (by decide) ?_
        refine r_widen (u' := (c + 1127, s + 9274)) ⟨(show c + 0 ≤ c + 1127 by omega), (show s + 0 ≤ s + 9274 by omega)⟩ ?_
        exact ih (c + 1127) (s + 9274) (by omega) (by omega) _ _ _ _ _
      refine r_iconst (v := (0 : Int32)) (pc := 661) dL_law_661 (by decide) ?_
      exact r_zretI (pc := 662) dL_law_662 rfl rfl ⟨(show c + 0 ≤ 74413 by omega), (show s + 0 ≤ 613603 by omega)⟩
    refine r_iteE (fun _ => ?_) (fun e32_21 => ?_)
    · refine r_tableY (pc := 32) (off := 631) (tgt := 663) dL_law_32 (by decide) (by decide) rfl (by decide) ?_
      refine r_aload_n (pc := 663) dL_law_663 rfl ?_
      refine r_aload_n (pc := 664) dL_law_664 rfl ?_
      refine r_iload_n (pc := 665) dL_law_665 rfl ?_
      refine r_iconst (v := (1 : Int32)) (pc := 666) dL_law_666 (by decide) ?_
      refine r_iadd (pc := 667) dL_law_667 ?_
      refine r_iald (pc := 668) dL_law_668 (fun v668 => ?_)
      refine r_callV_P (st := []) (vs := [.inl v668]) (pc := 669)  ct_X0_count hc_0 cf_L_102 rfl rfl (Nat.le_of_ble_eq_true rfl) ⟨by decide +kernel, (show c + 0 + 1 ≤ 74413 by omega), (show s + 0 + 15 ≤ 613603 by omega)⟩ dL_law_669 (fun v669 => ?_)
      refine r_widen (u' := (c + 1, s + 15)) ⟨(show c + 0 + 1 ≤ c + 1 by omega), (show s + 0 + 15 ≤ s + 15 by omega)⟩ ?_
      refine r_aload_n (pc := 672) dL_law_672 rfl ?_
      refine r_aload_n (pc := 673) dL_law_673 rfl ?_
      refine r_iload_n (pc := 674) dL_law_674 rfl ?_
      refine r_iconst (v := (1 : Int32)) (pc := 675) dL_law_675 (by decide) ?_
      refine r_iadd (pc := 676) dL_law_676 ?_
      refine r_iald (pc := 677) dL_law_677 (fun v677 => ?_)
      refine r_callV_P (st := [.inl v669]) (vs := [.inl v677]) (pc := 678)  ct_X5_count hc_4 cf_L_105 rfl rfl (Nat.le_of_ble_eq_true rfl) ⟨by decide +kernel, (show c + 1 + 0 ≤ 74413 by omega), (show s + 15 + 0 ≤ 613603 by omega)⟩ dL_law_678 (fun v678 => ?_)
      refine r_widen (u' := (c + 1, s + 15)) ⟨(show c + 1 + 0 ≤ c + 1 by omega), (show s + 15 + 0 ≤ s + 15 by omega)⟩ ?_
      refine r_icmp_eq (pc := 681) (tgt := 686) dL_law_681 (by decide) ?_ ?_
      · refine r_iinc (v := (x3 + (3 : Int32))) (pc := 686) dL_law_686 rfl rfl (by decide) rfl ?_
        refine r_goto (tgt := 18) (pc := 689) dL_law_689 (by decide) ?_
        refine r_widen (u' := (c + 1127, s + 9274)) ⟨(show c + 1 ≤ c + 1127 by omega), (show s + 15 ≤ s + 9274 by omega)⟩ ?_
        exact ih (c + 1127) (s + 9274) (by omega) (by omega) _ _ _ _ _
      refine r_iconst (v := (0 : Int32)) (pc := 684) dL_law_684 (by decide) ?_
      exact r_zretI (pc := 685) dL_law_685 rfl rfl ⟨(show c + 1 ≤ 74413 by omega), (show s + 15 ≤ 613603 by omega)⟩
    have he32_0 : ((v28 &&& (31 : Int32))).toInt ≠ 0 := ne_toInt e32_0
    have he32_1 : ((v28 &&& (31 : Int32))).toInt ≠ 1 := ne_toInt e32_1
    have he32_2 : ((v28 &&& (31 : Int32))).toInt ≠ 2 := ne_toInt e32_2
    have he32_3 : ((v28 &&& (31 : Int32))).toInt ≠ 3 := ne_toInt e32_3
    have he32_4 : ((v28 &&& (31 : Int32))).toInt ≠ 4 := ne_toInt e32_4
    have he32_5 : ((v28 &&& (31 : Int32))).toInt ≠ 5 := ne_toInt e32_5
    have he32_6 : ((v28 &&& (31 : Int32))).toInt ≠ 6 := ne_toInt e32_6
    have he32_7 : ((v28 &&& (31 : Int32))).toInt ≠ 7 := ne_toInt e32_7
    have he32_8 : ((v28 &&& (31 : Int32))).toInt ≠ 8 := ne_toInt e32_8
    have he32_9 : ((v28 &&& (31 : Int32))).toInt ≠ 9 := ne_toInt e32_9
    have he32_10 : ((v28 &&& (31 : Int32))).toInt ≠ 10 := ne_toInt e32_10
    have he32_11 : ((v28 &&& (31 : Int32))).toInt ≠ 11 := ne_toInt e32_11
    have he32_12 : ((v28 &&& (31 : Int32))).toInt ≠ 12 := ne_toInt e32_12
    have he32_13 : ((v28 &&& (31 : Int32))).toInt ≠ 13 := ne_toInt e32_13
    have he32_14 : ((v28 &&& (31 : Int32))).toInt ≠ 14 := ne_toInt e32_14
    have he32_15 : ((v28 &&& (31 : Int32))).toInt ≠ 15 := ne_toInt e32_15
    have he32_16 : ((v28 &&& (31 : Int32))).toInt ≠ 16 := ne_toInt e32_16
    have he32_17 : ((v28 &&& (31 : Int32))).toInt ≠ 17 := ne_toInt e32_17
    have he32_18 : ((v28 &&& (31 : Int32))).toInt ≠ 18 := ne_toInt e32_18
    have he32_19 : ((v28 &&& (31 : Int32))).toInt ≠ 19 := ne_toInt e32_19
    have he32_20 : ((v28 &&& (31 : Int32))).toInt ≠ 20 := ne_toInt e32_20
    have he32_21 : ((v28 &&& (31 : Int32))).toInt ≠ 21 := ne_toInt e32_21
    refine r_tableN (pc := 32) (tgt := 686) dL_law_32 (by omega) (by decide) ?_
    refine r_iinc (v := (x3 + (3 : Int32))) (pc := 686) dL_law_686 rfl rfl (by decide) rfl ?_
    refine r_goto (tgt := 18) (pc := 689) dL_law_689 (by decide) ?_
    refine r_widen (u' := (c + 1127, s + 9274)) ⟨(show c + 0 ≤ c + 1127 by omega), (show s + 0 ≤ s + 9274 by omega)⟩ ?_
    exact ih (c + 1127) (s + 9274) (by omega) (by omega) _ _ _ _ _
noncomputable def f_L_law (r0 : QR) (M : QM) : Option (Int32 × QM) :=
  (nO M (M.1, 0) (.inl (0, fs_0))).bind fun m0 => 
    (qnn (some (M.1, 0)) (f_X0_init M.1 (some (M.1, 0)) m0)).bind fun m4 => 
    (nO m4 (m4.1, 0) (.inl (4, fs_4))).bind fun m8 => 
    (qnn (some (m4.1, 0)) (f_X5_init m4.1 (some (m4.1, 0)) m8)).bind fun m12 => 
    f_L_law_18 66 r0 (some (M.1, 0)) (some (m4.1, 0)) (0 : Int32) m12
theorem s_L_law {l : Launch} {M0 : QM} {r0 : QR} {M : QM} : SB eI l kL_law M0 (f_L_law r0 M) (0, 0) 0 M [some (.inr r0), none, none, none] [] := by
  unfold f_L_law
  refine r_new (pc := 0)  nf_L_7 (by decide +kernel) dL_law_0 (fun m0 => ?_)
  refine r_widen (u' := (1, 5)) (by decide +kernel) ?_
  refine r_dup (pc := 3) dL_law_3 ?_
  refine r_callI_V (st := [.inr (some (M.1, 0))]) (vs := []) (pc := 4)  ct_X0_init cf_L_9 rfl rfl (Nat.le_of_ble_eq_true rfl) (by decide +kernel) dL_law_4 (fun m4 => ?_)
  refine r_widen (u' := (25, 667)) (by decide +kernel) ?_
  refine r_astore_n (pc := 7) dL_law_7 (by decide) rfl ?_
  refine r_new (pc := 8)  nf_L_10 (by decide +kernel) dL_law_8 (fun m8 => ?_)
  refine r_widen (u' := (26, 683)) (by decide +kernel) ?_
  refine r_dup (pc := 11) dL_law_11 ?_
  refine r_callI_V (st := [.inr (some (m4.1, 0))]) (vs := []) (pc := 12)  ct_X5_init cf_L_12 rfl rfl (Nat.le_of_ble_eq_true rfl) (by decide +kernel) dL_law_12 (fun m12 => ?_)
  refine r_widen (u' := (31, 1519)) (by decide +kernel) ?_
  refine r_astore_n (pc := 15) dL_law_15 (by decide) rfl ?_
  refine r_iconst (v := (0 : Int32)) (pc := 16) dL_law_16 (by decide) ?_
  refine r_istore_n (pc := 17) dL_law_17 (by decide) rfl ?_
  refine r_widen (u' := (31, 1519)) (by decide +kernel) ?_
  exact s_L_law_18  66 31 1519 (by decide +kernel) (by decide +kernel) _ _ _ _ _
theorem ct_L_law {l : Launch} {r0 : QR} {M : QM} : ∀ b, f_L_law r0 M = some b → PM l x (ws_ x cL_law 4 (some .boolean)) rmL_law [.inr r0] M (eI b).1 (eI b).2 := fun b hb =>
  PM.of (own := "BarnPicturesLaw") rfl (by decide +kernel) (Nat.le_of_ble_eq_true rfl) false (fun h => nomatch h) (s_L_law b hb)
