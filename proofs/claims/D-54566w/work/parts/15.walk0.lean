/-! methods as functions over the memory (printed by gen/run.py) -/
set_option maxRecDepth 100000
/-! X2_init: BarnPictures$Thing.<init>()V, kind V -/
abbrev rmX2_init : Room := ({ frames := 1, cells := 0, slots := 0, locals := 12 })
abbrev kX2_init : QK := (RX2, cX2_init, 1, none, [], true, rmX2_init)
noncomputable def f_X2_init (r0 : QR) (M : QM) : Option (QM) :=
  qnn r0 (
    (pF M r0 [(2, 0), (3, 0)] (.inl (-10000005 : Int32))).bind fun m7 => 
    some m7)
theorem s_X2_init {l : Launch} {M0 : QM} {r0 : QR} {M : QM} : SB eV l kX2_init M0 (f_X2_init r0 M) (0, 0) 0 M [some (.inr r0)] [] := by
  unfold f_X2_init
  refine r_aload_n (pc := 0) dX2_init_0 rfl ?_
  refine r_objInit (pc := 1)  q101 q82 q83 ⟨Nat.le_of_ble_eq_true rfl, Nat.le_of_ble_eq_true rfl⟩ dX2_init_1 ?_
  refine r_aload_n (pc := 4) dX2_init_4 rfl ?_
  refine r_ldc (pc := 5) dX2_init_5 q102 ?_
  refine r_put (pc := 7)  pf_X2_10 (fun h => nomatch h) (fit_int _) dX2_init_7 (fun m7 => ?_)
  exact r_vretV (pc := 10) dX2_init_10 rfl (by decide +kernel)
theorem ct_X2_init {l : Launch} {r0 : QR} {M : QM} : ∀ b, f_X2_init r0 M = some b → PM l yX2_init (ws_ yX2_init cX2_init 1 none) rmX2_init [.inr r0] M (eV b).1 (eV b).2 := fun b hb =>
  PM.of (own := RX2) rfl (by decide +kernel) (Nat.le_of_ble_eq_true rfl) true (fun h => rfl) (s_X2_init b hb)
/-! X3_init: BarnPictures$Reel.<init>(I)V, kind V -/
abbrev rmX3_init : Room := ({ frames := 2, cells := 0, slots := 0, locals := 32 })
abbrev kX3_init : QK := (RX3, cX3_init, 2, none, [], true, rmX3_init)
noncomputable def f_X3_init (r0 : QR) (x1 : Int32) (M : QM) : Option (QM) :=
  (qnn r0 (f_X2_init r0 M)).bind fun m1 => 
    (pF m1 r0 [(2, 1)] (.inl x1)).bind fun m6 => 
    (pF m6 r0 [(2, 2)] (.inl ((8 : Int32) + x1))).bind fun m14 => 
    some m14
theorem s_X3_init {l : Launch} {M0 : QM} {r0 : QR} {x1 : Int32} {M : QM} : SB eV l kX3_init M0 (f_X3_init r0 x1 M) (0, 0) 0 M [some (.inr r0), some (.inl x1)] [] := by
  unfold f_X3_init
  refine r_aload_n (pc := 0) dX3_init_0 rfl ?_
  refine r_callIN_V (st := []) (vs := []) (pc := 1)  ct_X2_init cf_X3_3 rfl rfl (Nat.le_of_ble_eq_true rfl) (by decide +kernel) dX3_init_1 (fun m1 => ?_)
  refine r_widen (u' := (0, 0)) (by decide +kernel) ?_
  refine r_aload_n (pc := 4) dX3_init_4 rfl ?_
  refine r_iload_n (pc := 5) dX3_init_5 rfl ?_
  refine r_put (pc := 6)  pf_X3_9 (fun _ => rfl) (fit_int _) dX3_init_6 (fun m6 => ?_)
  refine r_aload_n (pc := 9) dX3_init_9 rfl ?_
  refine r_bipush (v := (8 : Int32)) (pc := 10) dX3_init_10 (by decide) ?_
  refine r_iload_n (pc := 12) dX3_init_12 rfl ?_
  refine r_iadd (pc := 13) dX3_init_13 ?_
  refine r_put (pc := 14)  pf_X3_15 (fun h => nomatch h) (fit_int _) dX3_init_14 (fun m14 => ?_)
  exact r_vretV (pc := 17) dX3_init_17 rfl (by decide +kernel)
theorem ct_X3_init {l : Launch} {r0 : QR} {x1 : Int32} {M : QM} : ∀ b, f_X3_init r0 x1 M = some b → PM l yX3_init (ws_ yX3_init cX3_init 2 none) rmX3_init [.inr r0, .inl x1] M (eV b).1 (eV b).2 := fun b hb =>
  PM.of (own := RX3) rfl (by decide +kernel) (Nat.le_of_ble_eq_true rfl) true (fun h => rfl) (s_X3_init b hb)
/-! X4_init: BarnPictures$Generator.<init>()V, kind V -/
abbrev rmX4_init : Room := ({ frames := 2, cells := 0, slots := 0, locals := 32 })
abbrev kX4_init : QK := (RX4, cX4_init, 1, none, [], true, rmX4_init)
noncomputable def f_X4_init (r0 : QR) (M : QM) : Option (QM) :=
  (qnn r0 (f_X2_init r0 M)).bind fun m1 => 
    (pF m1 r0 [(3, 1)] (.inl (60 : Int32))).bind fun m7 => 
    some m7
theorem s_X4_init {l : Launch} {M0 : QM} {r0 : QR} {M : QM} : SB eV l kX4_init M0 (f_X4_init r0 M) (0, 0) 0 M [some (.inr r0)] [] := by
  unfold f_X4_init
  refine r_aload_n (pc := 0) dX4_init_0 rfl ?_
  refine r_callIN_V (st := []) (vs := []) (pc := 1)  ct_X2_init cf_X4_3 rfl rfl (Nat.le_of_ble_eq_true rfl) (by decide +kernel) dX4_init_1 (fun m1 => ?_)
  refine r_widen (u' := (0, 0)) (by decide +kernel) ?_
  refine r_aload_n (pc := 4) dX4_init_4 rfl ?_
  refine r_bipush (v := (60 : Int32)) (pc := 5) dX4_init_5 (by decide) ?_
  refine r_put (pc := 7)  pf_X4_9 (fun h => nomatch h) (fit_int _) dX4_init_7 (fun m7 => ?_)
  exact r_vretV (pc := 10) dX4_init_10 rfl (by decide +kernel)
theorem ct_X4_init {l : Launch} {r0 : QR} {M : QM} : ∀ b, f_X4_init r0 M = some b → PM l yX4_init (ws_ yX4_init cX4_init 1 none) rmX4_init [.inr r0] M (eV b).1 (eV b).2 := fun b hb =>
  PM.of (own := RX4) rfl (by decide +kernel) (Nat.le_of_ble_eq_true rfl) true (fun h => rfl) (s_X4_init b hb)
/-! X1_init: BarnPictures$Tour.<init>()V, kind V -/
abbrev rmX1_init : Room := ({ frames := 3, cells := 20, slots := 129, locals := 53 })
abbrev kX1_init : QK := (RX1, cX1_init, 2, none, [], true, rmX1_init)
noncomputable def f_X1_init_111 (tn : Nat) : Nat → QR → Int32 → QM → Option (QM)
  | 0, _, _, _ => none
  | n + 1, r0, x1, M =>
    if (5 : Int32) ≤ x1 then (some M)
    else (gR M r0 [(1, 2)]).bind fun v117 => 
    (sI M v117 x1 (-10000005 : Int32)).bind fun m123 => 
    f_X1_init_111 tn n r0 (x1 + (1 : Int32)) m123
theorem s_X1_init_111 {l : Launch} {M0 : QM} (tn : Nat) : ∀ (n : Nat) (r0 : QR) (x1 : Int32) (M : QM) , SB eV l kX1_init M0 (f_X1_init_111 tn n r0 x1 M) (20, 129) 111 M [some (.inr r0), some (.inl x1)] [] := by
  intro n
  induction n with
  | zero => intros; rw [f_X1_init_111]; exact r_none
  | succ n ih =>
    intro r0 x1  M
    rw [f_X1_init_111]
    refine r_iload_n (pc := 111) dX1_init_111 rfl ?_
    refine r_iconst (v := (5 : Int32)) (pc := 112) dX1_init_112 (by decide) ?_
    refine r_icmp_ge (pc := 113) (tgt := 130) dX1_init_113 (by decide) ?_ ?_
    · exact r_vretV (pc := 130) dX1_init_130 rfl (by decide +kernel)
    refine r_aload_n (pc := 116) dX1_init_116 rfl ?_
    refine r_getR (pc := 117)  gf_X1_23 dX1_init_117 (fun v117 => ?_)
    refine r_iload_n (pc := 120) dX1_init_120 rfl ?_
    refine r_ldc (pc := 121) dX1_init_121 q146 ?_
    refine r_iast (pc := 123) dX1_init_123 (fun m123 => ?_)
    refine r_iinc (v := (x1 + (1 : Int32))) (pc := 124) dX1_init_124 rfl rfl (by decide) rfl ?_
    refine r_goto (tgt := 111) (pc := 127) dX1_init_127 (by decide) ?_
    exact ih _ _ _
noncomputable def f_X1_init_85 (tn : Nat) : Nat → QR → Int32 → QM → Option (QM)
  | 0, _, _, _ => none
  | n + 1, r0, x1, M =>
    if (2 : Int32) ≤ x1 then (f_X1_init_111 tn 6 r0 (0 : Int32) M)
    else (gR M r0 [(1, 1)]).bind fun v91 => 
    (nO M (tn, 20 + x1.toNatClampNeg) (.inl (3, fs_3))).bind fun m95 => 
    (qnn (some (tn, 20 + x1.toNatClampNeg)) (f_X4_init (some (tn, 20 + x1.toNatClampNeg)) m95)).bind fun m99 => 
    (sR m99 v91 x1 (some (tn, 20 + x1.toNatClampNeg))).bind fun m102 => 
    f_X1_init_85 tn n r0 (x1 + (1 : Int32)) m102
theorem s_X1_init_85 {l : Launch} {M0 : QM} (tn : Nat) : ∀ (n c s : Nat), c + 1 * n ≤ 20 → s + 2 * n ≤ 129 → ∀ (r0 : QR) (x1 : Int32) (M : QM) , SB eV l kX1_init M0 (f_X1_init_85 tn n r0 x1 M) (c, s) 85 M [some (.inr r0), some (.inl x1)] [] := by
  intro n
  induction n with
  | zero => intros; rw [f_X1_init_85]; exact r_none
  | succ n ih =>
    intro c s hc hs r0 x1  M
    have hc1 : c + 1 ≤ 20 := by omega
    have hs1 : s + 2 ≤ 129 := by omega
    rw [f_X1_init_85]
    refine r_widen (u' := (c + 0, s + 0)) ⟨(show c ≤ c + 0 by omega), (show s ≤ s + 0 by omega)⟩ ?_
    refine r_iload_n (pc := 85) dX1_init_85 rfl ?_
    refine r_iconst (v := (2 : Int32)) (pc := 86) dX1_init_86 (by decide) ?_
    refine r_icmp_ge (pc := 87) (tgt := 109) dX1_init_87 (by decide) ?_ ?_
    · refine r_iconst (v := (0 : Int32)) (pc := 109) dX1_init_109 (by decide) ?_
      refine r_istore_n (pc := 110) dX1_init_110 (by decide) rfl ?_
      refine r_widen (u' := (20, 129)) ⟨(show c + 0 ≤ 20 by omega), (show s + 0 ≤ 129 by omega)⟩ ?_
      exact s_X1_init_111 tn 6 _ _ _
    refine r_aload_n (pc := 90) dX1_init_90 rfl ?_
    refine r_getR (pc := 91)  gf_X1_19 dX1_init_91 (fun v91 => ?_)
    refine r_iload_n (pc := 94) dX1_init_94 rfl ?_
    refine r_new (pc := 95)  nf_X1_17 ⟨(show c + 0 + 1 ≤ 20 by omega), (show s + 0 + 2 ≤ 129 by omega)⟩ dX1_init_95 (fun m95 => ?_)
    refine r_widen (u' := (c + 1, s + 2)) ⟨(show c + 0 + 1 ≤ c + 1 by omega), (show s + 0 + 2 ≤ s + 2 by omega)⟩ ?_
    refine r_dup (pc := 98) dX1_init_98 ?_
    refine r_callIN_V (st := [.inr (some (tn, 20 + x1.toNatClampNeg)), .inl x1, .inr v91]) (vs := []) (pc := 99)  ct_X4_init cf_X1_43 rfl rfl (Nat.le_of_ble_eq_true rfl) ⟨by decide +kernel, (show c + 1 + 0 ≤ 20 by omega), (show s + 2 + 0 ≤ 129 by omega)⟩ dX1_init_99 (fun m99 => ?_)
    refine r_widen (u' := (c + 1, s + 2)) ⟨(show c + 1 + 0 ≤ c + 1 by omega), (show s + 2 + 0 ≤ s + 2 by omega)⟩ ?_
    refine r_aast (pc := 102) dX1_init_102 (fun m102 => ?_)
    refine r_iinc (v := (x1 + (1 : Int32))) (pc := 103) dX1_init_103 rfl rfl (by decide) rfl ?_
    refine r_goto (tgt := 85) (pc := 106) dX1_init_106 (by decide) ?_
    refine r_widen (u' := (c + 1, s + 2)) ⟨(show c + 1 ≤ c + 1 by omega), (show s + 2 ≤ s + 2 by omega)⟩ ?_
    exact ih (c + 1) (s + 2) (by omega) (by omega) _ _ _
noncomputable def f_X1_init_57 (tn : Nat) : Nat → QR → Int32 → QM → Option (QM)
  | 0, _, _, _ => none
  | n + 1, r0, x1, M =>
    if (10 : Int32) ≤ x1 then (f_X1_init_85 tn 3 r0 (0 : Int32) M)
    else (gR M r0 [(1, 0)]).bind fun v64 => 
    (nO M (tn, 10 + x1.toNatClampNeg) (.inl (2, fs_2))).bind fun m68 => 
    (qnn (some (tn, 10 + x1.toNatClampNeg)) (f_X3_init (some (tn, 10 + x1.toNatClampNeg)) x1 m68)).bind fun m73 => 
    (sR m73 v64 x1 (some (tn, 10 + x1.toNatClampNeg))).bind fun m76 => 
    f_X1_init_57 tn n r0 (x1 + (1 : Int32)) m76
theorem s_X1_init_57 {l : Launch} {M0 : QM} (tn : Nat) : ∀ (n c s : Nat), c + 1 * n ≤ 17 → s + 6 * n ≤ 123 → ∀ (r0 : QR) (x1 : Int32) (M : QM) , SB eV l kX1_init M0 (f_X1_init_57 tn n r0 x1 M) (c, s) 57 M [some (.inr r0), some (.inl x1)] [] := by
  intro n
  induction n with
  | zero => intros; rw [f_X1_init_57]; exact r_none
  | succ n ih =>
    intro c s hc hs r0 x1  M
    have hc1 : c + 1 ≤ 17 := by omega
    have hs1 : s + 6 ≤ 123 := by omega
    rw [f_X1_init_57]
    refine r_widen (u' := (c + 0, s + 0)) ⟨(show c ≤ c + 0 by omega), (show s ≤ s + 0 by omega)⟩ ?_
    refine r_iload_n (pc := 57) dX1_init_57 rfl ?_
    refine r_bipush (v := (10 : Int32)) (pc := 58) dX1_init_58 (by decide) ?_
    refine r_icmp_ge (pc := 60) (tgt := 83) dX1_init_60 (by decide) ?_ ?_
    · refine r_iconst (v := (0 : Int32)) (pc := 83) dX1_init_83 (by decide) ?_
      refine r_istore_n (pc := 84) dX1_init_84 (by decide) rfl ?_
      refine r_widen (u' := (17, 123)) ⟨(show c + 0 ≤ 17 by omega), (show s + 0 ≤ 123 by omega)⟩ ?_
      exact s_X1_init_85 tn 3 17 123 (by decide +kernel) (by decide +kernel) _ _ _
    refine r_aload_n (pc := 63) dX1_init_63 rfl ?_
    refine r_getR (pc := 64)  gf_X1_11 dX1_init_64 (fun v64 => ?_)
    refine r_iload_n (pc := 67) dX1_init_67 rfl ?_
    refine r_new (pc := 68)  nf_X1_9 ⟨(show c + 0 + 1 ≤ 20 by omega), (show s + 0 + 6 ≤ 129 by omega)⟩ dX1_init_68 (fun m68 => ?_)
    refine r_widen (u' := (c + 1, s + 6)) ⟨(show c + 0 + 1 ≤ c + 1 by omega), (show s + 0 + 6 ≤ s + 6 by omega)⟩ ?_
    refine r_dup (pc := 71) dX1_init_71 ?_
    refine r_iload_n (pc := 72) dX1_init_72 rfl ?_
    refine r_callI_V (st := [.inr (some (tn, 10 + x1.toNatClampNeg)), .inl x1, .inr v64]) (vs := [.inl x1]) (pc := 73)  ct_X3_init cf_X1_40 rfl rfl (Nat.le_of_ble_eq_true rfl) ⟨by decide +kernel, (show c + 1 + 0 ≤ 20 by omega), (show s + 6 + 0 ≤ 129 by omega)⟩ dX1_init_73 (fun m73 => ?_)
    refine r_widen (u' := (c + 1, s + 6)) ⟨(show c + 1 + 0 ≤ c + 1 by omega), (show s + 6 + 0 ≤ s + 6 by omega)⟩ ?_
    refine r_aast (pc := 76) dX1_init_76 (fun m76 => ?_)
    refine r_iinc (v := (x1 + (1 : Int32))) (pc := 77) dX1_init_77 rfl rfl (by decide) rfl ?_
    refine r_goto (tgt := 57) (pc := 80) dX1_init_80 (by decide) ?_
    refine r_widen (u' := (c + 1, s + 6)) ⟨(show c + 1 ≤ c + 1 by omega), (show s + 6 ≤ s + 6 by omega)⟩ ?_
    exact ih (c + 1) (s + 6) (by omega) (by omega) _ _ _
noncomputable def f_X1_init (tn : Nat) (r0 : QR) (M : QM) : Option (QM) :=
  qnn r0 (
    (nAr M (tn, 1) 3 (10 : Int32) 10).bind fun m7 => 
    (pF m7 r0 [(1, 0)] (.inr (some (tn, 1)))).bind fun m10 => 
    (nAr m10 (tn, 2) 4 (2 : Int32) 2).bind fun m15 => 
    (pF m15 r0 [(1, 1)] (.inr (some (tn, 2)))).bind fun m18 => 
    (nAi m18 (tn, 3) 0 (5 : Int32) 5).bind fun m23 => 
    (pF m23 r0 [(1, 2)] (.inr (some (tn, 3)))).bind fun m25 => 
    (nAi m25 (tn, 4) 0 (5 : Int32) 5).bind fun m30 => 
    (pF m30 r0 [(1, 3)] (.inr (some (tn, 4)))).bind fun m32 => 
    (nAi m32 (tn, 5) 0 (5 : Int32) 5).bind fun m37 => 
    (pF m37 r0 [(1, 4)] (.inr (some (tn, 5)))).bind fun m39 => 
    (nAi m39 (tn, 6) 0 (30 : Int32) 30).bind fun m45 => 
    (pF m45 r0 [(1, 5)] (.inr (some (tn, 6)))).bind fun m47 => 
    (pF m47 r0 [(1, 8)] (.inl (4 : Int32))).bind fun m52 => 
    f_X1_init_57 tn 11 r0 (0 : Int32) m52)
theorem s_X1_init {l : Launch} {M0 : QM} {tn : Nat} {r0 : QR} {M : QM} : SB eV l kX1_init M0 (f_X1_init tn r0 M) (0, 0) 0 M [some (.inr r0), none] [] := by
  unfold f_X1_init
  refine r_aload_n (pc := 0) dX1_init_0 rfl ?_
  refine r_objInit (pc := 1)  q89 q82 q83 ⟨Nat.le_of_ble_eq_true rfl, Nat.le_of_ble_eq_true rfl⟩ dX1_init_1 ?_
  refine r_aload_n (pc := 4) dX1_init_4 rfl ?_
  refine r_bipush (v := (10 : Int32)) (pc := 5) dX1_init_5 (by decide) ?_
  refine r_newR (pc := 7)  (B := 10) (kd := 3) (by decide) rfl q90 (by decide +kernel) dX1_init_7 (fun m7 => ?_)
  refine r_widen (u' := (1, 10)) (by decide +kernel) ?_
  refine r_put (pc := 10)  pf_X1_11 (fun _ => rfl) (fit_arr _ _) dX1_init_10 (fun m10 => ?_)
  refine r_aload_n (pc := 13) dX1_init_13 rfl ?_
  refine r_iconst (v := (2 : Int32)) (pc := 14) dX1_init_14 (by decide) ?_
  refine r_newR (pc := 15)  (B := 2) (kd := 4) (by decide) rfl q92 (by decide +kernel) dX1_init_15 (fun m15 => ?_)
  refine r_widen (u' := (2, 12)) (by decide +kernel) ?_
  refine r_put (pc := 18)  pf_X1_19 (fun _ => rfl) (fit_arr _ _) dX1_init_18 (fun m18 => ?_)
  refine r_aload_n (pc := 21) dX1_init_21 rfl ?_
  refine r_iconst (v := (5 : Int32)) (pc := 22) dX1_init_22 (by decide) ?_
  refine r_newI (pc := 23)  (B := 5) (by decide +kernel) dX1_init_23 (fun m23 => ?_)
  refine r_widen (u' := (3, 17)) (by decide +kernel) ?_
  refine r_put (pc := 25)  pf_X1_23 (fun _ => rfl) (fit_arr _ _) dX1_init_25 (fun m25 => ?_)
  refine r_aload_n (pc := 28) dX1_init_28 rfl ?_
  refine r_iconst (v := (5 : Int32)) (pc := 29) dX1_init_29 (by decide) ?_
  refine r_newI (pc := 30)  (B := 5) (by decide +kernel) dX1_init_30 (fun m30 => ?_)
  refine r_widen (u' := (4, 22)) (by decide +kernel) ?_
  refine r_put (pc := 32)  pf_X1_27 (fun _ => rfl) (fit_arr _ _) dX1_init_32 (fun m32 => ?_)
  refine r_aload_n (pc := 35) dX1_init_35 rfl ?_
  refine r_iconst (v := (5 : Int32)) (pc := 36) dX1_init_36 (by decide) ?_
  refine r_newI (pc := 37)  (B := 5) (by decide +kernel) dX1_init_37 (fun m37 => ?_)
  refine r_widen (u' := (5, 27)) (by decide +kernel) ?_
  refine r_put (pc := 39)  pf_X1_30 (fun _ => rfl) (fit_arr _ _) dX1_init_39 (fun m39 => ?_)
  refine r_aload_n (pc := 42) dX1_init_42 rfl ?_
  refine r_bipush (v := (30 : Int32)) (pc := 43) dX1_init_43 (by decide) ?_
  refine r_newI (pc := 45)  (B := 30) (by decide +kernel) dX1_init_45 (fun m45 => ?_)
  refine r_widen (u' := (6, 57)) (by decide +kernel) ?_
  refine r_put (pc := 47)  pf_X1_33 (fun _ => rfl) (fit_arr _ _) dX1_init_47 (fun m47 => ?_)
  refine r_aload_n (pc := 50) dX1_init_50 rfl ?_
  refine r_iconst (v := (4 : Int32)) (pc := 51) dX1_init_51 (by decide) ?_
  refine r_put (pc := 52)  pf_X1_36 (fun h => nomatch h) (fit_int _) dX1_init_52 (fun m52 => ?_)
  refine r_iconst (v := (0 : Int32)) (pc := 55) dX1_init_55 (by decide) ?_
  refine r_istore_n (pc := 56) dX1_init_56 (by decide) rfl ?_
  refine r_widen (u' := (6, 57)) (by decide +kernel) ?_
  exact s_X1_init_57 tn 11 6 57 (by decide +kernel) (by decide +kernel) _ _ _
theorem ct_X1_init {l : Launch} {tn : Nat} {r0 : QR} {M : QM} : ∀ b, f_X1_init tn r0 M = some b → PM l yX1_init (ws_ yX1_init cX1_init 2 none) rmX1_init [.inr r0] M (eV b).1 (eV b).2 := fun b hb =>
  PM.of (own := RX1) rfl (by decide +kernel) (Nat.le_of_ble_eq_true rfl) true (fun h => rfl) (s_X1_init b hb)
/-! J0_init: java/util/AbstractCollection.<init>()V, kind U -/
abbrev rmJ0_init : Room := ({ frames := 1, cells := 0, slots := 0, locals := 12 })
abbrev kJ0_init : QK := (RJ0, cJ0_init, 1, none, [], true, rmJ0_init)
noncomputable def f_J0_init (r0 : QR) (M : QM) : Option (Unit) :=
  qnn r0 (
    some ())
theorem s_J0_init {l : Launch} {r0 : QR} {M : QM} : SB (eU M) l kJ0_init M (f_J0_init r0 M) (0, 0) 0 M [some (.inr r0)] [] := by
  unfold f_J0_init
  refine r_aload_n (pc := 0) dJ0_init_0 rfl ?_
  refine r_objInit (pc := 1)  q216 q82 q83 ⟨Nat.le_of_ble_eq_true rfl, Nat.le_of_ble_eq_true rfl⟩ dJ0_init_1 ?_
  exact r_vretU (pc := 4) dJ0_init_4 rfl (by decide +kernel)
theorem ct_J0_init {l : Launch} {r0 : QR} {M : QM} : ∀ b, f_J0_init r0 M = some b → PM l yJ0_init (ws_ yJ0_init cJ0_init 1 none) rmJ0_init [.inr r0] M ((eU M) b).1 ((eU M) b).2 := fun b hb =>
  PM.of (own := RJ0) rfl (by decide +kernel) (Nat.le_of_ble_eq_true rfl) true (fun h => rfl) (s_J0_init b hb)
/-! J1_init: java/util/AbstractList.<init>()V, kind V -/
abbrev rmJ1_init : Room := ({ frames := 2, cells := 0, slots := 0, locals := 32 })
abbrev kJ1_init : QK := (RJ1, cJ1_init, 1, none, [], true, rmJ1_init)
noncomputable def f_J1_init (r0 : QR) (M : QM) : Option (QM) :=
  (qnn r0 (f_J0_init r0 M)).bind fun _ => 
    (pF M r0 [(7, 0)] (.inl (0 : Int32))).bind fun m6 => 
    some m6
theorem s_J1_init {l : Launch} {M0 : QM} {r0 : QR} {M : QM} : SB eV l kJ1_init M0 (f_J1_init r0 M) (0, 0) 0 M [some (.inr r0)] [] := by
  unfold f_J1_init
  refine r_aload_n (pc := 0) dJ1_init_0 rfl ?_
  refine r_callI_U (st := []) (vs := []) (pc := 1)  ct_J0_init cf_J1_1 rfl rfl (Nat.le_of_ble_eq_true rfl) (by decide +kernel) dJ1_init_1 ?_
  refine r_widen (u' := (0, 0)) (by decide +kernel) ?_
  refine r_aload_n (pc := 4) dJ1_init_4 rfl ?_
  refine r_iconst (v := (0 : Int32)) (pc := 5) dJ1_init_5 (by decide) ?_
  refine r_put (pc := 6)  pf_J1_7 (fun h => nomatch h) (fit_int _) dJ1_init_6 (fun m6 => ?_)
  exact r_vretV (pc := 9) dJ1_init_9 rfl (by decide +kernel)
theorem ct_J1_init {l : Launch} {r0 : QR} {M : QM} : ∀ b, f_J1_init r0 M = some b → PM l yJ1_init (ws_ yJ1_init cJ1_init 1 none) rmJ1_init [.inr r0] M (eV b).1 (eV b).2 := fun b hb =>
  PM.of (own := RJ1) rfl (by decide +kernel) (Nat.le_of_ble_eq_true rfl) true (fun h => rfl) (s_J1_init b hb)
/-! J2_init: java/util/ArrayList.<init>()V, kind V -/
abbrev rmJ2_init : Room := ({ frames := 3, cells := 0, slots := 0, locals := 52 })
abbrev kJ2_init : QK := (RJ2, cJ2_init, 1, none, [], true, rmJ2_init)
noncomputable def f_J2_init (r0 : QR) (M : QM) : Option (QM) :=
  (qnn r0 (f_J1_init r0 M)).bind fun m1 => 
    (pF m1 r0 [(7, 1)] (.inr (some (0, 1)))).bind fun m8 => 
    some m8
theorem s_J2_init {l : Launch} {M0 : QM} {r0 : QR} {M : QM} : SB eV l kJ2_init M0 (f_J2_init r0 M) (0, 0) 0 M [some (.inr r0)] [] := by
  unfold f_J2_init
  refine r_aload_n (pc := 0) dJ2_init_0 rfl ?_
  refine r_callI_V (st := []) (vs := []) (pc := 1)  ct_J1_init cf_J2_1 rfl rfl (Nat.le_of_ble_eq_true rfl) (by decide +kernel) dJ2_init_1 (fun m1 => ?_)
  refine r_widen (u' := (0, 0)) (by decide +kernel) ?_
  refine r_aload_n (pc := 4) dJ2_init_4 rfl ?_
  refine r_gsEmpty (pc := 5) q217 dJ2_init_5 ?_
  refine r_put (pc := 8)  pf_J2_9 (fun h => nomatch h) (fit_arr _ _) dJ2_init_8 (fun m8 => ?_)
  exact r_vretV (pc := 11) dJ2_init_11 rfl (by decide +kernel)
theorem ct_J2_init {l : Launch} {r0 : QR} {M : QM} : ∀ b, f_J2_init r0 M = some b → PM l yJ2_init (ws_ yJ2_init cJ2_init 1 none) rmJ2_init [.inr r0] M (eV b).1 (eV b).2 := fun b hb =>
  PM.of (own := RJ2) rfl (by decide +kernel) (Nat.le_of_ble_eq_true rfl) true (fun h => rfl) (s_J2_init b hb)
/-! J6_newBytesLength: java/lang/StringUTF16.newBytesLength(I)I, kind P -/
abbrev rmJ6_newBytesLength : Room := ({ frames := 0, cells := 0, slots := 0, locals := 0 })
abbrev kJ6_newBytesLength : QK := (RJ6, cJ6_newBytesLength, 1, (some .int), [], false, rmJ6_newBytesLength)
noncomputable def f_J6_newBytesLength (x0 : Int32) (M : QM) : Option (Int32) :=
  if 0 ≤ x0 then (if x0 < (1073741823 : Int32) then (some (x0 <<< ((1 : Int32) &&& 31)))
      else none)
    else none
theorem s_J6_newBytesLength {l : Launch} {x0 : Int32} {M : QM} : SB (eP M) l kJ6_newBytesLength M (f_J6_newBytesLength x0 M) (0, 0) 0 M [some (.inl x0)] [] := by
  unfold f_J6_newBytesLength
  refine r_iload_n (pc := 0) dJ6_newBytesLength_0 rfl ?_
  refine r_if_ge (pc := 1) (tgt := 12) dJ6_newBytesLength_1 (by decide) ?_ ?_
  · refine r_iload_n (pc := 12) dJ6_newBytesLength_12 rfl ?_
    refine r_ldc (pc := 13) dJ6_newBytesLength_13 q248 ?_
    refine r_icmp_lt (pc := 15) (tgt := 55) dJ6_newBytesLength_15 (by decide) ?_ ?_
    · refine r_iload_n (pc := 55) dJ6_newBytesLength_55 rfl ?_
      refine r_iconst (v := (1 : Int32)) (pc := 56) dJ6_newBytesLength_56 (by decide) ?_
      refine r_ishl (pc := 57) dJ6_newBytesLength_57 ?_
      exact r_iretP (pc := 58) dJ6_newBytesLength_58 rfl (by decide +kernel)
    exact r_none
  exact r_none
theorem ct_J6_newBytesLength {l : Launch} {x0 : Int32} {M : QM} : ∀ b, f_J6_newBytesLength x0 M = some b → PM l yJ6_newBytesLength (ws_ yJ6_newBytesLength cJ6_newBytesLength 1 (some .int)) rmJ6_newBytesLength [.inl x0] M ((eP M) b).1 ((eP M) b).2 := fun b hb =>
  PM.of (own := RJ6) rfl (by decide +kernel) (Nat.le_of_ble_eq_true rfl) false (fun h => nomatch h) (s_J6_newBytesLength b hb)
/-! J6_newBytesFor: java/lang/StringUTF16.newBytesFor(I)[B, kind R -/
abbrev rmJ6_newBytesFor : Room := ({ frames := 1, cells := 1, slots := 512, locals := 20 })
abbrev kJ6_newBytesFor : QK := (RJ6, cJ6_newBytesFor, 1, (some (.array .byte)), [], false, rmJ6_newBytesFor)
noncomputable def f_J6_newBytesFor (x0 : Int32) (M : QM) : Option (QR × QM) :=
  (f_J6_newBytesLength x0 M).bind fun v1 => 
    (nAi M (M.1, 0) 1 v1 512).bind fun m4 => 
    some ((some (M.1, 0)), m4)
theorem s_J6_newBytesFor {l : Launch} {M0 : QM} {x0 : Int32} {M : QM} : SB eR l kJ6_newBytesFor M0 (f_J6_newBytesFor x0 M) (0, 0) 0 M [some (.inl x0)] [] := by
  unfold f_J6_newBytesFor
  refine r_iload_n (pc := 0) dJ6_newBytesFor_0 rfl ?_
  refine r_callS_P (st := []) (vs := [.inl x0]) (pc := 1)  ct_J6_newBytesLength cf_J6_11 rfl rfl (Nat.le_of_ble_eq_true rfl) (by decide +kernel) dJ6_newBytesFor_1 (fun v1 => ?_)
  refine r_widen (u' := (0, 0)) (by decide +kernel) ?_
  refine r_newB (pc := 4)  (B := 512) (by decide +kernel) dJ6_newBytesFor_4 (fun m4 => ?_)
  refine r_widen (u' := (1, 512)) (by decide +kernel) ?_
  exact r_aretR (pc := 6) dJ6_newBytesFor_6 rfl (Or.inr ⟨_, rfl⟩) (by decide +kernel)
theorem ct_J6_newBytesFor {l : Launch} {x0 : Int32} {M : QM} : ∀ b, f_J6_newBytesFor x0 M = some b → PM l yJ6_newBytesFor (ws_ yJ6_newBytesFor cJ6_newBytesFor 1 (some (.array .byte))) rmJ6_newBytesFor [.inl x0] M (eR b).1 (eR b).2 := fun b hb =>
  PM.of (own := RJ6) rfl (by decide +kernel) (Nat.le_of_ble_eq_true rfl) false (fun h => nomatch h) (s_J6_newBytesFor b hb)
/-! J3_init: java/lang/AbstractStringBuilder.<init>(I)V, kind V -/
abbrev rmJ3_init : Room := ({ frames := 2, cells := 1, slots := 512, locals := 40 })
abbrev kJ3_init : QK := (RJ3, cJ3_init, 2, none, [], true, rmJ3_init)
noncomputable def f_J3_init (r0 : QR) (x1 : Int32) (M : QM) : Option (QM) :=
  qnn r0 (
    if (1 : Int32) = 0 then (qbR (f_J6_newBytesFor x1 M) fun v27 m27 => 
      (pF m27 r0 [(8, 0)] (.inr v27)).bind fun m30 => 
      qnf .byte (1 : Int32) <| (pF m30 r0 [(8, 1)] (.inl (1 : Int32))).bind fun m35 => 
      some m35)
    else (nAi M (M.1, 0) 1 x1 64).bind fun m12 => 
    (pF m12 r0 [(8, 0)] (.inr (some (M.1, 0)))).bind fun m14 => 
    qnf .byte (0 : Int32) <| (pF m14 r0 [(8, 1)] (.inl (0 : Int32))).bind fun m19 => 
    some m19)
theorem s_J3_init {l : Launch} {M0 : QM} {r0 : QR} {x1 : Int32} {M : QM} : SB eV l kJ3_init M0 (f_J3_init r0 x1 M) (0, 0) 0 M [some (.inr r0), some (.inl x1)] [] := by
  unfold f_J3_init
  refine r_aload_n (pc := 0) dJ3_init_0 rfl ?_
  refine r_objInit (pc := 1)  q239 q82 q83 ⟨Nat.le_of_ble_eq_true rfl, Nat.le_of_ble_eq_true rfl⟩ dJ3_init_1 ?_
  refine r_gsCompact (pc := 4) q240 dJ3_init_4 ?_
  refine r_if_eq (pc := 7) (tgt := 25) dJ3_init_7 (by decide) ?_ ?_
  · refine r_aload_n (pc := 25) dJ3_init_25 rfl ?_
    refine r_iload_n (pc := 26) dJ3_init_26 rfl ?_
    refine r_callS_R (st := [.inr r0]) (vs := [.inl x1]) (pc := 27)  ct_J6_newBytesFor cf_J3_26 rfl rfl (Nat.le_of_ble_eq_true rfl) (by decide +kernel) dJ3_init_27 (fun v27 m27 => ?_)
    refine r_widen (u' := (1, 512)) (by decide +kernel) ?_
    refine r_put (pc := 30)  pf_J3_15 (fun h => nomatch h) (fit_arr _ _) dJ3_init_30 (fun m30 => ?_)
    refine r_aload_n (pc := 33) dJ3_init_33 rfl ?_
    refine r_iconst (v := (1 : Int32)) (pc := 34) dJ3_init_34 (by decide) ?_
    refine r_putN (pc := 35)  pf_J3_22 (fun h => nomatch h) (by decide) dJ3_init_35 (fun m35 => ?_)
    exact r_vretV (pc := 38) dJ3_init_38 rfl (by decide +kernel)
  refine r_aload_n (pc := 10) dJ3_init_10 rfl ?_
  refine r_iload_n (pc := 11) dJ3_init_11 rfl ?_
  refine r_newB (pc := 12)  (B := 64) (by decide +kernel) dJ3_init_12 (fun m12 => ?_)
  refine r_widen (u' := (1, 64)) (by decide +kernel) ?_
  refine r_put (pc := 14)  pf_J3_15 (fun h => nomatch h) (fit_arr _ _) dJ3_init_14 (fun m14 => ?_)
  refine r_aload_n (pc := 17) dJ3_init_17 rfl ?_
  refine r_iconst (v := (0 : Int32)) (pc := 18) dJ3_init_18 (by decide) ?_
  refine r_putN (pc := 19)  pf_J3_22 (fun h => nomatch h) (by decide) dJ3_init_19 (fun m19 => ?_)
  refine r_goto (tgt := 38) (pc := 22) dJ3_init_22 (by decide) ?_
  exact r_vretV (pc := 38) dJ3_init_38 rfl (by decide +kernel)
theorem ct_J3_init {l : Launch} {r0 : QR} {x1 : Int32} {M : QM} : ∀ b, f_J3_init r0 x1 M = some b → PM l yJ3_init (ws_ yJ3_init cJ3_init 2 none) rmJ3_init [.inr r0, .inl x1] M (eV b).1 (eV b).2 := fun b hb =>
  PM.of (own := RJ3) rfl (by decide +kernel) (Nat.le_of_ble_eq_true rfl) true (fun h => rfl) (s_J3_init b hb)
/-! J4_init: java/lang/StringBuilder.<init>()V, kind V -/
abbrev rmJ4_init : Room := ({ frames := 3, cells := 1, slots := 512, locals := 61 })
abbrev kJ4_init : QK := (RJ4, cJ4_init, 1, none, [], true, rmJ4_init)
noncomputable def f_J4_init (r0 : QR) (M : QM) : Option (QM) :=
  (qnn r0 (f_J3_init r0 (16 : Int32) M)).bind fun m3 => 
    some m3
theorem s_J4_init {l : Launch} {M0 : QM} {r0 : QR} {M : QM} : SB eV l kJ4_init M0 (f_J4_init r0 M) (0, 0) 0 M [some (.inr r0)] [] := by
  unfold f_J4_init
  refine r_aload_n (pc := 0) dJ4_init_0 rfl ?_
  refine r_bipush (v := (16 : Int32)) (pc := 1) dJ4_init_1 (by decide) ?_
  refine r_callI_V (st := []) (vs := [.inl (16 : Int32)]) (pc := 3)  ct_J3_init cf_J4_1 rfl rfl (Nat.le_of_ble_eq_true rfl) (by decide +kernel) dJ4_init_3 (fun m3 => ?_)
  refine r_widen (u' := (1, 512)) (by decide +kernel) ?_
  exact r_vretV (pc := 6) dJ4_init_6 rfl (by decide +kernel)
theorem ct_J4_init {l : Launch} {r0 : QR} {M : QM} : ∀ b, f_J4_init r0 M = some b → PM l yJ4_init (ws_ yJ4_init cJ4_init 1 none) rmJ4_init [.inr r0] M (eV b).1 (eV b).2 := fun b hb =>
  PM.of (own := RJ4) rfl (by decide +kernel) (Nat.le_of_ble_eq_true rfl) true (fun h => rfl) (s_J4_init b hb)
/-! X0_init: BarnPictures.<init>()V, kind V -/
abbrev rmX0_init : Room := ({ frames := 4, cells := 24, slots := 662, locals := 81 })
abbrev kX0_init : QK := (RX0, cX0_init, 1, none, [], true, rmX0_init)
noncomputable def f_X0_init (bn : Nat) (r0 : QR) (M : QM) : Option (QM) :=
  qnn r0 (
    (nO M (M.1, 0) (.inl (1, fs_1))).bind fun m5 => 
    (qnn (some (M.1, 0)) (f_X1_init M.1 (some (M.1, 0)) m5)).bind fun m9 => 
    (pF m9 r0 [(0, 0)] (.inr (some (M.1, 0)))).bind fun m12 => 
    (nO m12 (bn, 1) (.inl (7, fs_7))).bind fun m16 => 
    (qnn (some (bn, 1)) (f_J2_init (some (bn, 1)) m16)).bind fun m20 => 
    (pF m20 r0 [(0, 2)] (.inr (some (bn, 1)))).bind fun m23 => 
    (nO m23 (bn, 2) (.inl (8, fs_8))).bind fun m27 => 
    (qnn (some (bn, 2)) (f_J4_init (some (bn, 2)) m27)).bind fun m31 => 
    (pF m31 r0 [(0, 3)] (.inr (some (bn, 2)))).bind fun m34 => 
    some m34)
theorem s_X0_init {l : Launch} {M0 : QM} {bn : Nat} {r0 : QR} {M : QM} : SB eV l kX0_init M0 (f_X0_init bn r0 M) (0, 0) 0 M [some (.inr r0)] [] := by
  unfold f_X0_init
  refine r_aload_n (pc := 0) dX0_init_0 rfl ?_
  refine r_objInit (pc := 1)  q81 q82 q83 ⟨Nat.le_of_ble_eq_true rfl, Nat.le_of_ble_eq_true rfl⟩ dX0_init_1 ?_
  refine r_aload_n (pc := 4) dX0_init_4 rfl ?_
  refine r_new (pc := 5)  nf_X0_19 (by decide +kernel) dX0_init_5 (fun m5 => ?_)
  refine r_widen (u' := (1, 14)) (by decide +kernel) ?_
  refine r_dup (pc := 8) dX0_init_8 ?_
  refine r_callI_V (st := [.inr (some (M.1, 0)), .inr r0]) (vs := []) (pc := 9)  ct_X1_init cf_X0_21 rfl rfl (Nat.le_of_ble_eq_true rfl) (by decide +kernel) dX0_init_9 (fun m9 => ?_)
  refine r_widen (u' := (21, 143)) (by decide +kernel) ?_
  refine r_put (pc := 12)  pf_X0_22 (fun h => nomatch h) (fit_obj _ _) dX0_init_12 (fun m12 => ?_)
  refine r_aload_n (pc := 15) dX0_init_15 rfl ?_
  refine r_new (pc := 16)  nf_X0_26 (by decide +kernel) dX0_init_16 (fun m16 => ?_)
  refine r_widen (u' := (22, 146)) (by decide +kernel) ?_
  refine r_dup (pc := 19) dX0_init_19 ?_
  refine r_callI_V (st := [.inr (some (bn, 1)), .inr r0]) (vs := []) (pc := 20)  ct_J2_init cf_X0_28 rfl rfl (Nat.le_of_ble_eq_true rfl) (by decide +kernel) dX0_init_20 (fun m20 => ?_)
  refine r_widen (u' := (22, 146)) (by decide +kernel) ?_
  refine r_put (pc := 23)  pf_X0_29 (fun _ => rfl) (fit_obj _ _) dX0_init_23 (fun m23 => ?_)
  refine r_aload_n (pc := 26) dX0_init_26 rfl ?_
  refine r_new (pc := 27)  nf_X0_33 (by decide +kernel) dX0_init_27 (fun m27 => ?_)
  refine r_widen (u' := (23, 150)) (by decide +kernel) ?_
  refine r_dup (pc := 30) dX0_init_30 ?_
  refine r_callI_V (st := [.inr (some (bn, 2)), .inr r0]) (vs := []) (pc := 31)  ct_J4_init cf_X0_35 rfl rfl (Nat.le_of_ble_eq_true rfl) (by decide +kernel) dX0_init_31 (fun m31 => ?_)
  refine r_widen (u' := (24, 662)) (by decide +kernel) ?_
  refine r_put (pc := 34)  pf_X0_36 (fun _ => rfl) (fit_obj _ _) dX0_init_34 (fun m34 => ?_)
  exact r_vretV (pc := 37) dX0_init_37 rfl (by decide +kernel)
theorem ct_X0_init {l : Launch} {bn : Nat} {r0 : QR} {M : QM} : ∀ b, f_X0_init bn r0 M = some b → PM l yX0_init (ws_ yX0_init cX0_init 1 none) rmX0_init [.inr r0] M (eV b).1 (eV b).2 := fun b hb =>
  PM.of (own := RX0) rfl (by decide +kernel) (Nat.le_of_ble_eq_true rfl) true (fun h => rfl) (s_X0_init b hb)
/-! X5_of: BarnPicturesModel.of(II)I, kind P -/
abbrev rmX5_of : Room := ({ frames := 0, cells := 0, slots := 0, locals := 0 })
abbrev kX5_of : QK := (RX5, cX5_of, 2, (some .int), [], false, rmX5_of)
noncomputable def f_X5_of (x0 : Int32) (x1 : Int32) (M : QM) : Option (Int32) :=
  some (((0 : Int32) + ((5 : Int32) * x0)) + x1)
theorem s_X5_of {l : Launch} {x0 : Int32} {x1 : Int32} {M : QM} : SB (eP M) l kX5_of M (f_X5_of x0 x1 M) (0, 0) 0 M [some (.inl x0), some (.inl x1)] [] := by
  unfold f_X5_of
  refine r_iconst (v := (0 : Int32)) (pc := 0) dX5_of_0 (by decide) ?_
  refine r_iconst (v := (5 : Int32)) (pc := 1) dX5_of_1 (by decide) ?_
  refine r_iload_n (pc := 2) dX5_of_2 rfl ?_
  refine r_imul (pc := 3) dX5_of_3 ?_
  refine r_iadd (pc := 4) dX5_of_4 ?_
  refine r_iload_n (pc := 5) dX5_of_5 rfl ?_
  refine r_iadd (pc := 6) dX5_of_6 ?_
  exact r_iretP (pc := 7) dX5_of_7 rfl (by decide +kernel)
theorem ct_X5_of {l : Launch} {x0 : Int32} {x1 : Int32} {M : QM} : ∀ b, f_X5_of x0 x1 M = some b → PM l yX5_of (ws_ yX5_of cX5_of 2 (some .int)) rmX5_of [.inl x0, .inl x1] M ((eP M) b).1 ((eP M) b).2 := fun b hb =>
  PM.of (own := RX5) rfl (by decide +kernel) (Nat.le_of_ble_eq_true rfl) false (fun h => nomatch h) (s_X5_of b hb)
/-! X5_init: BarnPicturesModel.<init>()V, kind V -/
abbrev rmX5_init : Room := ({ frames := 1, cells := 5, slots := 836, locals := 21 })
abbrev kX5_init : QK := (RX5, cX5_init, 2, none, [], true, rmX5_init)
noncomputable def f_X5_init_99 (bn : Nat) : Nat → QR → Int32 → QM → Option (QM)
  | 0, _, _, _ => none
  | n + 1, r0, x1, M =>
    if (2 : Int32) ≤ x1 then ((gR M r0 [(4, 0)]).bind fun v139 => 
      (sI M v139 (56 : Int32) (4 : Int32)).bind fun m145 => 
      some m145)
    else (gR M r0 [(4, 0)]).bind fun v105 => 
    (sI M v105 ((50 : Int32) + ((2 : Int32) * x1)) (-10000005 : Int32)).bind fun m116 => 
    (gR m116 r0 [(4, 0)]).bind fun v118 => 
    (sI m116 v118 (((50 : Int32) + ((2 : Int32) * x1)) + (1 : Int32)) (60 : Int32)).bind fun m131 => 
    f_X5_init_99 bn n r0 (x1 + (1 : Int32)) m131
theorem s_X5_init_99 {l : Launch} {M0 : QM} (bn : Nat) : ∀ (n : Nat) (r0 : QR) (x1 : Int32) (M : QM) , SB eV l kX5_init M0 (f_X5_init_99 bn n r0 x1 M) (5, 836) 99 M [some (.inr r0), some (.inl x1)] [] := by
  intro n
  induction n with
  | zero => intros; rw [f_X5_init_99]; exact r_none
  | succ n ih =>
    intro r0 x1  M
    rw [f_X5_init_99]
    refine r_iload_n (pc := 99) dX5_init_99 rfl ?_
    refine r_iconst (v := (2 : Int32)) (pc := 100) dX5_init_100 (by decide) ?_
    refine r_icmp_ge (pc := 101) (tgt := 138) dX5_init_101 (by decide) ?_ ?_
    · refine r_aload_n (pc := 138) dX5_init_138 rfl ?_
      refine r_getR (pc := 139)  gf_X5_7 dX5_init_139 (fun v139 => ?_)
      refine r_bipush (v := (56 : Int32)) (pc := 142) dX5_init_142 (by decide) ?_
      refine r_iconst (v := (4 : Int32)) (pc := 144) dX5_init_144 (by decide) ?_
      refine r_iast (pc := 145) dX5_init_145 (fun m145 => ?_)
      exact r_vretV (pc := 146) dX5_init_146 rfl (by decide +kernel)
    refine r_aload_n (pc := 104) dX5_init_104 rfl ?_
    refine r_getR (pc := 105)  gf_X5_7 dX5_init_105 (fun v105 => ?_)
    refine r_bipush (v := (50 : Int32)) (pc := 108) dX5_init_108 (by decide) ?_
    refine r_iconst (v := (2 : Int32)) (pc := 110) dX5_init_110 (by decide) ?_
    refine r_iload_n (pc := 111) dX5_init_111 rfl ?_
    refine r_imul (pc := 112) dX5_init_112 ?_
    refine r_iadd (pc := 113) dX5_init_113 ?_
    refine r_ldc (pc := 114) dX5_init_114 q1092 ?_
    refine r_iast (pc := 116) dX5_init_116 (fun m116 => ?_)
    refine r_aload_n (pc := 117) dX5_init_117 rfl ?_
    refine r_getR (pc := 118)  gf_X5_7 dX5_init_118 (fun v118 => ?_)
    refine r_bipush (v := (50 : Int32)) (pc := 121) dX5_init_121 (by decide) ?_
    refine r_iconst (v := (2 : Int32)) (pc := 123) dX5_init_123 (by decide) ?_
    refine r_iload_n (pc := 124) dX5_init_124 rfl ?_
    refine r_imul (pc := 125) dX5_init_125 ?_
    refine r_iadd (pc := 126) dX5_init_126 ?_
    refine r_iconst (v := (1 : Int32)) (pc := 127) dX5_init_127 (by decide) ?_
    refine r_iadd (pc := 128) dX5_init_128 ?_
    refine r_bipush (v := (60 : Int32)) (pc := 129) dX5_init_129 (by decide) ?_
    refine r_iast (pc := 131) dX5_init_131 (fun m131 => ?_)
    refine r_iinc (v := (x1 + (1 : Int32))) (pc := 132) dX5_init_132 rfl rfl (by decide) rfl ?_
    refine r_goto (tgt := 99) (pc := 135) dX5_init_135 (by decide) ?_
    exact ih _ _ _
noncomputable def f_X5_init_59 (bn : Nat) : Nat → QR → Int32 → QM → Option (QM)
  | 0, _, _, _ => none
  | n + 1, r0, x1, M =>
    if (10 : Int32) ≤ x1 then (f_X5_init_99 bn 3 r0 (0 : Int32) M)
    else (gR M r0 [(4, 0)]).bind fun v66 => 
    (f_X5_of x1 (0 : Int32) M).bind fun v71 => 
    (sI M v66 v71 (-10000005 : Int32)).bind fun m76 => 
    (gR m76 r0 [(4, 0)]).bind fun v78 => 
    (f_X5_of x1 (1 : Int32) m76).bind fun v83 => 
    (sI m76 v78 v83 ((8 : Int32) + x1)).bind fun m90 => 
    f_X5_init_59 bn n r0 (x1 + (1 : Int32)) m90
theorem s_X5_init_59 {l : Launch} {M0 : QM} (bn : Nat) : ∀ (n : Nat) (r0 : QR) (x1 : Int32) (M : QM) , SB eV l kX5_init M0 (f_X5_init_59 bn n r0 x1 M) (5, 836) 59 M [some (.inr r0), some (.inl x1)] [] := by
  intro n
  induction n with
  | zero => intros; rw [f_X5_init_59]; exact r_none
  | succ n ih =>
    intro r0 x1  M
    rw [f_X5_init_59]
    refine r_iload_n (pc := 59) dX5_init_59 rfl ?_
    refine r_bipush (v := (10 : Int32)) (pc := 60) dX5_init_60 (by decide) ?_
    refine r_icmp_ge (pc := 62) (tgt := 97) dX5_init_62 (by decide) ?_ ?_
    · refine r_iconst (v := (0 : Int32)) (pc := 97) dX5_init_97 (by decide) ?_
      refine r_istore_n (pc := 98) dX5_init_98 (by decide) rfl ?_
      exact s_X5_init_99 bn 3 _ _ _
    refine r_aload_n (pc := 65) dX5_init_65 rfl ?_
    refine r_getR (pc := 66)  gf_X5_7 dX5_init_66 (fun v66 => ?_)
    refine r_iload_n (pc := 69) dX5_init_69 rfl ?_
    refine r_iconst (v := (0 : Int32)) (pc := 70) dX5_init_70 (by decide) ?_
    refine r_callS_P (st := [.inr v66]) (vs := [.inl x1, .inl (0 : Int32)]) (pc := 71)  ct_X5_of cf_X5_33 rfl rfl (Nat.le_of_ble_eq_true rfl) (by decide +kernel) dX5_init_71 (fun v71 => ?_)
    refine r_widen (u' := (5, 836)) (by decide +kernel) ?_
    refine r_ldc (pc := 74) dX5_init_74 q1092 ?_
    refine r_iast (pc := 76) dX5_init_76 (fun m76 => ?_)
    refine r_aload_n (pc := 77) dX5_init_77 rfl ?_
    refine r_getR (pc := 78)  gf_X5_7 dX5_init_78 (fun v78 => ?_)
    refine r_iload_n (pc := 81) dX5_init_81 rfl ?_
    refine r_iconst (v := (1 : Int32)) (pc := 82) dX5_init_82 (by decide) ?_
    refine r_callS_P (st := [.inr v78]) (vs := [.inl x1, .inl (1 : Int32)]) (pc := 83)  ct_X5_of cf_X5_33 rfl rfl (Nat.le_of_ble_eq_true rfl) (by decide +kernel) dX5_init_83 (fun v83 => ?_)
    refine r_widen (u' := (5, 836)) (by decide +kernel) ?_
    refine r_bipush (v := (8 : Int32)) (pc := 86) dX5_init_86 (by decide) ?_
    refine r_iload_n (pc := 88) dX5_init_88 rfl ?_
    refine r_iadd (pc := 89) dX5_init_89 ?_
    refine r_iast (pc := 90) dX5_init_90 (fun m90 => ?_)
    refine r_iinc (v := (x1 + (1 : Int32))) (pc := 91) dX5_init_91 rfl rfl (by decide) rfl ?_
    refine r_goto (tgt := 59) (pc := 94) dX5_init_94 (by decide) ?_
    exact ih _ _ _
noncomputable def f_X5_init (bn : Nat) (r0 : QR) (M : QM) : Option (QM) :=
  qnn r0 (
    (nAi M (bn, 1) 0 (108 : Int32) 108).bind fun m7 => 
    (pF m7 r0 [(4, 0)] (.inr (some (bn, 1)))).bind fun m9 => 
    (nAi m9 (bn, 2) 0 (108 : Int32) 108).bind fun m15 => 
    (pF m15 r0 [(4, 1)] (.inr (some (bn, 2)))).bind fun m17 => 
    (nAi m17 (bn, 3) 0 (432 : Int32) 432).bind fun m24 => 
    (pF m24 r0 [(4, 2)] (.inr (some (bn, 3)))).bind fun m26 => 
    (nAi m26 (bn, 4) 0 (108 : Int32) 108).bind fun m32 => 
    (pF m32 r0 [(4, 4)] (.inr (some (bn, 4)))).bind fun m34 => 
    (nAi m34 (bn, 5) 0 (80 : Int32) 80).bind fun m40 => 
    (pF m40 r0 [(4, 6)] (.inr (some (bn, 5)))).bind fun m42 => 
    (pF m42 r0 [(4, 8)] (.inl (-10000005 : Int32))).bind fun m48 => 
    (pF m48 r0 [(4, 9)] (.inl (-10000005 : Int32))).bind fun m54 => 
    f_X5_init_59 bn 11 r0 (0 : Int32) m54)
theorem s_X5_init {l : Launch} {M0 : QM} {bn : Nat} {r0 : QR} {M : QM} : SB eV l kX5_init M0 (f_X5_init bn r0 M) (0, 0) 0 M [some (.inr r0), none] [] := by
  unfold f_X5_init
  refine r_aload_n (pc := 0) dX5_init_0 rfl ?_
  refine r_objInit (pc := 1)  q1091 q82 q83 ⟨Nat.le_of_ble_eq_true rfl, Nat.le_of_ble_eq_true rfl⟩ dX5_init_1 ?_
  refine r_aload_n (pc := 4) dX5_init_4 rfl ?_
  refine r_bipush (v := (108 : Int32)) (pc := 5) dX5_init_5 (by decide) ?_
  refine r_newI (pc := 7)  (B := 108) (by decide +kernel) dX5_init_7 (fun m7 => ?_)
  refine r_widen (u' := (1, 108)) (by decide +kernel) ?_
  refine r_put (pc := 9)  pf_X5_7 (fun _ => rfl) (fit_arr _ _) dX5_init_9 (fun m9 => ?_)
  refine r_aload_n (pc := 12) dX5_init_12 rfl ?_
  refine r_bipush (v := (108 : Int32)) (pc := 13) dX5_init_13 (by decide) ?_
  refine r_newI (pc := 15)  (B := 108) (by decide +kernel) dX5_init_15 (fun m15 => ?_)
  refine r_widen (u' := (2, 216)) (by decide +kernel) ?_
  refine r_put (pc := 17)  pf_X5_13 (fun _ => rfl) (fit_arr _ _) dX5_init_17 (fun m17 => ?_)
  refine r_aload_n (pc := 20) dX5_init_20 rfl ?_
  refine r_sipush (v := (432 : Int32)) (pc := 21) dX5_init_21 (by decide) ?_
  refine r_newI (pc := 24)  (B := 432) (by decide +kernel) dX5_init_24 (fun m24 => ?_)
  refine r_widen (u' := (3, 648)) (by decide +kernel) ?_
  refine r_put (pc := 26)  pf_X5_16 (fun _ => rfl) (fit_arr _ _) dX5_init_26 (fun m26 => ?_)
  refine r_aload_n (pc := 29) dX5_init_29 rfl ?_
  refine r_bipush (v := (108 : Int32)) (pc := 30) dX5_init_30 (by decide) ?_
  refine r_newI (pc := 32)  (B := 108) (by decide +kernel) dX5_init_32 (fun m32 => ?_)
  refine r_widen (u' := (4, 756)) (by decide +kernel) ?_
  refine r_put (pc := 34)  pf_X5_19 (fun _ => rfl) (fit_arr _ _) dX5_init_34 (fun m34 => ?_)
  refine r_aload_n (pc := 37) dX5_init_37 rfl ?_
  refine r_bipush (v := (80 : Int32)) (pc := 38) dX5_init_38 (by decide) ?_
  refine r_newI (pc := 40)  (B := 80) (by decide +kernel) dX5_init_40 (fun m40 => ?_)
  refine r_widen (u' := (5, 836)) (by decide +kernel) ?_
  refine r_put (pc := 42)  pf_X5_22 (fun _ => rfl) (fit_arr _ _) dX5_init_42 (fun m42 => ?_)
  refine r_aload_n (pc := 45) dX5_init_45 rfl ?_
  refine r_ldc (pc := 46) dX5_init_46 q1092 ?_
  refine r_put (pc := 48)  pf_X5_26 (fun h => nomatch h) (fit_int _) dX5_init_48 (fun m48 => ?_)
  refine r_aload_n (pc := 51) dX5_init_51 rfl ?_
  refine r_ldc (pc := 52) dX5_init_52 q1092 ?_
  refine r_put (pc := 54)  pf_X5_30 (fun h => nomatch h) (fit_int _) dX5_init_54 (fun m54 => ?_)
  refine r_iconst (v := (0 : Int32)) (pc := 57) dX5_init_57 (by decide) ?_
  refine r_istore_n (pc := 58) dX5_init_58 (by decide) rfl ?_
  exact s_X5_init_59 bn 11 _ _ _
theorem ct_X5_init {l : Launch} {bn : Nat} {r0 : QR} {M : QM} : ∀ b, f_X5_init bn r0 M = some b → PM l yX5_init (ws_ yX5_init cX5_init 2 none) rmX5_init [.inr r0] M (eV b).1 (eV b).2 := fun b hb =>
  PM.of (own := RX5) rfl (by decide +kernel) (Nat.le_of_ble_eq_true rfl) true (fun h => rfl) (s_X5_init b hb)
/-! X3_copy: BarnPictures$Reel.copy()LBarnPictures$Reel;, kind R -/
abbrev rmX3_copy : Room := ({ frames := 3, cells := 1, slots := 6, locals := 53 })
abbrev kX3_copy : QK := (RX3, cX3_copy, 2, (some (.object "BarnPictures$Reel")), [], false, rmX3_copy)
noncomputable def f_X3_copy (nq : QN) (r0 : QR) (M : QM) : Option (QR × QM) :=
  (nO M nq (.inl (2, fs_2))).bind fun m0 => 
    (gI m0 r0 [(2, 1)]).bind fun v5 => 
    (qnn (some nq) (f_X3_init (some nq) v5 m0)).bind fun m8 => 
    (gI m8 r0 [(2, 0), (3, 0)]).bind fun v14 => 
    (pF m8 (some nq) [(2, 0), (3, 0)] (.inl v14)).bind fun m17 => 
    (gI m17 r0 [(2, 2)]).bind fun v22 => 
    (pF m17 (some nq) [(2, 2)] (.inl v22)).bind fun m25 => 
    (gI m25 r0 [(2, 3)]).bind fun v30 => 
    (pF m25 (some nq) [(2, 3)] (.inl v30)).bind fun m33 => 
    (gI m33 r0 [(2, 4)]).bind fun v38 => 
    (pF m33 (some nq) [(2, 4)] (.inl v38)).bind fun m41 => 
    (gI m41 r0 [(2, 5)]).bind fun v46 => 
    (pF m41 (some nq) [(2, 5)] (.inl v46)).bind fun m49 => 
    some ((some nq), m49)
theorem s_X3_copy {l : Launch} {M0 : QM} {nq : QN} {r0 : QR} {M : QM} : SB eR l kX3_copy M0 (f_X3_copy nq r0 M) (0, 0) 0 M [some (.inr r0), none] [] := by
  unfold f_X3_copy
  refine r_new (pc := 0)  nf_X3_10 (by decide +kernel) dX3_copy_0 (fun m0 => ?_)
  refine r_widen (u' := (1, 6)) (by decide +kernel) ?_
  refine r_dup (pc := 3) dX3_copy_3 ?_
  refine r_aload_n (pc := 4) dX3_copy_4 rfl ?_
  refine r_getI (pc := 5)  gf_X3_9 dX3_copy_5 (fun v5 => ?_)
  refine r_callI_V (st := [.inr (some nq)]) (vs := [.inl v5]) (pc := 8)  ct_X3_init cf_X3_18 rfl rfl (Nat.le_of_ble_eq_true rfl) (by decide +kernel) dX3_copy_8 (fun m8 => ?_)
  refine r_widen (u' := (1, 6)) (by decide +kernel) ?_
  refine r_astore_n (pc := 11) dX3_copy_11 (by decide) rfl ?_
  refine r_aload_n (pc := 12) dX3_copy_12 rfl ?_
  refine r_aload_n (pc := 13) dX3_copy_13 rfl ?_
  refine r_getI (pc := 14)  gf_X3_21 dX3_copy_14 (fun v14 => ?_)
  refine r_put (pc := 17)  pf_X3_21 (fun h => nomatch h) (fit_int _) dX3_copy_17 (fun m17 => ?_)
  refine r_aload_n (pc := 20) dX3_copy_20 rfl ?_
  refine r_aload_n (pc := 21) dX3_copy_21 rfl ?_
  refine r_getI (pc := 22)  gf_X3_15 dX3_copy_22 (fun v22 => ?_)
  refine r_put (pc := 25)  pf_X3_15 (fun h => nomatch h) (fit_int _) dX3_copy_25 (fun m25 => ?_)
  refine r_aload_n (pc := 28) dX3_copy_28 rfl ?_
  refine r_aload_n (pc := 29) dX3_copy_29 rfl ?_
  refine r_getI (pc := 30)  gf_X3_24 dX3_copy_30 (fun v30 => ?_)
  refine r_put (pc := 33)  pf_X3_24 (fun h => nomatch h) (fit_int _) dX3_copy_33 (fun m33 => ?_)
  refine r_aload_n (pc := 36) dX3_copy_36 rfl ?_
  refine r_aload_n (pc := 37) dX3_copy_37 rfl ?_
  refine r_getI (pc := 38)  gf_X3_27 dX3_copy_38 (fun v38 => ?_)
  refine r_put (pc := 41)  pf_X3_27 (fun h => nomatch h) (fit_int _) dX3_copy_41 (fun m41 => ?_)
  refine r_aload_n (pc := 44) dX3_copy_44 rfl ?_
  refine r_aload_n (pc := 45) dX3_copy_45 rfl ?_
  refine r_getI (pc := 46)  gf_X3_30 dX3_copy_46 (fun v46 => ?_)
  refine r_put (pc := 49)  pf_X3_30 (fun h => nomatch h) (fit_int _) dX3_copy_49 (fun m49 => ?_)
  refine r_aload_n (pc := 52) dX3_copy_52 rfl ?_
  exact r_aretR (pc := 53) dX3_copy_53 rfl (Or.inl ⟨_, rfl⟩) (by decide +kernel)
theorem ct_X3_copy {l : Launch} {nq : QN} {r0 : QR} {M : QM} : ∀ b, f_X3_copy nq r0 M = some b → PM l yX3_copy (ws_ yX3_copy cX3_copy 2 (some (.object "BarnPictures$Reel"))) rmX3_copy [.inr r0] M (eR b).1 (eR b).2 := fun b hb =>
  PM.of (own := RX3) rfl (by decide +kernel) (Nat.le_of_ble_eq_true rfl) false (fun h => nomatch h) (s_X3_copy b hb)
/-! X4_copy: BarnPictures$Generator.copy()LBarnPictures$Generator;, kind R -/
abbrev rmX4_copy : Room := ({ frames := 3, cells := 1, slots := 2, locals := 52 })
abbrev kX4_copy : QK := (RX4, cX4_copy, 2, (some (.object "BarnPictures$Generator")), [], false, rmX4_copy)
noncomputable def f_X4_copy (nq : QN) (r0 : QR) (M : QM) : Option (QR × QM) :=
  (nO M nq (.inl (3, fs_3))).bind fun m0 => 
    (qnn (some nq) (f_X4_init (some nq) m0)).bind fun m4 => 
    (gI m4 r0 [(2, 0), (3, 0)]).bind fun v10 => 
    (pF m4 (some nq) [(2, 0), (3, 0)] (.inl v10)).bind fun m13 => 
    (gI m13 r0 [(3, 1)]).bind fun v18 => 
    (pF m13 (some nq) [(3, 1)] (.inl v18)).bind fun m21 => 
    some ((some nq), m21)
theorem s_X4_copy {l : Launch} {M0 : QM} {nq : QN} {r0 : QR} {M : QM} : SB eR l kX4_copy M0 (f_X4_copy nq r0 M) (0, 0) 0 M [some (.inr r0), none] [] := by
  unfold f_X4_copy
  refine r_new (pc := 0)  nf_X4_10 (by decide +kernel) dX4_copy_0 (fun m0 => ?_)
  refine r_widen (u' := (1, 2)) (by decide +kernel) ?_
  refine r_dup (pc := 3) dX4_copy_3 ?_
  refine r_callI_V (st := [.inr (some nq)]) (vs := []) (pc := 4)  ct_X4_init cf_X4_15 rfl rfl (Nat.le_of_ble_eq_true rfl) (by decide +kernel) dX4_copy_4 (fun m4 => ?_)
  refine r_widen (u' := (1, 2)) (by decide +kernel) ?_
  refine r_astore_n (pc := 7) dX4_copy_7 (by decide) rfl ?_
  refine r_aload_n (pc := 8) dX4_copy_8 rfl ?_
  refine r_aload_n (pc := 9) dX4_copy_9 rfl ?_
  refine r_getI (pc := 10)  gf_X4_16 dX4_copy_10 (fun v10 => ?_)
  refine r_put (pc := 13)  pf_X4_16 (fun h => nomatch h) (fit_int _) dX4_copy_13 (fun m13 => ?_)
  refine r_aload_n (pc := 16) dX4_copy_16 rfl ?_
  refine r_aload_n (pc := 17) dX4_copy_17 rfl ?_
  refine r_getI (pc := 18)  gf_X4_9 dX4_copy_18 (fun v18 => ?_)
  refine r_put (pc := 21)  pf_X4_9 (fun h => nomatch h) (fit_int _) dX4_copy_21 (fun m21 => ?_)
  refine r_aload_n (pc := 24) dX4_copy_24 rfl ?_
  exact r_aretR (pc := 25) dX4_copy_25 rfl (Or.inl ⟨_, rfl⟩) (by decide +kernel)
theorem ct_X4_copy {l : Launch} {nq : QN} {r0 : QR} {M : QM} : ∀ b, f_X4_copy nq r0 M = some b → PM l yX4_copy (ws_ yX4_copy cX4_copy 2 (some (.object "BarnPictures$Generator"))) rmX4_copy [.inr r0] M (eR b).1 (eR b).2 := fun b hb =>
  PM.of (own := RX4) rfl (by decide +kernel) (Nat.le_of_ble_eq_true rfl) false (fun h => nomatch h) (s_X4_copy b hb)
/-! X1_init_2: BarnPictures$Tour.<init>(LBarnPictures$Tour;)V, kind V -/
abbrev rmX1_init_2 : Room := ({ frames := 4, cells := 20, slots := 129, locals := 74 })
abbrev kX1_init_2 : QK := (RX1, cX1_init_2, 3, none, [], true, rmX1_init_2)
noncomputable def f_X1_init_2_90 (tn : Nat) (kL57 : QR → QR → Int32 → QM → Option (QM)) (r0 : QR) (r1 : QR) (x2 : Int32) (s0 : QR) (s1 : Int32) (s2 : QR) (M : QM) : Option (QM) :=
  (sR M s0 s1 s2).bind fun m90 => 
    kL57 r0 r1 (x2 + (1 : Int32)) m90
theorem s_X1_init_2_90 {l : Launch} {M0 : QM} (tn : Nat) (c s : Nat) (kL57 : QR → QR → Int32 → QM → Option (QM)) (hkL57 : ∀ (r0 : QR) (r1 : QR) (x2 : Int32) (M : QM) , SB eV l kX1_init_2 M0 (kL57 r0 r1 x2 M) (c + 1, s + 6) 57 M [some (.inr r0), some (.inr r1), some (.inl x2)] []) (hc1 : c + 1 ≤ 17) (hs1 : s + 6 ≤ 123) : ∀ (r0 : QR) (r1 : QR) (x2 : Int32) (s0 : QR) (s1 : Int32) (s2 : QR) (M : QM) , SB eV l kX1_init_2 M0 (f_X1_init_2_90 tn kL57 r0 r1 x2 s0 s1 s2 M) (c + 1, s + 6) 90 M [some (.inr r0), some (.inr r1), some (.inl x2)] [.inr s2, .inl s1, .inr s0] := by
  intro r0 r1 x2 s0 s1 s2  M
  unfold f_X1_init_2_90
  refine r_aast (pc := 90) dX1_init_2_90 (fun m90 => ?_)
  refine r_iinc (v := (x2 + (1 : Int32))) (pc := 91) dX1_init_2_91 rfl rfl (by decide) rfl ?_
  refine r_goto (tgt := 57) (pc := 94) dX1_init_2_94 (by decide) ?_
  refine r_widen (u' := (c + 1, s + 6)) ⟨(show c + 1 ≤ c + 1 by omega), (show s + 6 ≤ s + 6 by omega)⟩ ?_
  exact hkL57 _ _ _ _
noncomputable def f_X1_init_2_99 (tn : Nat) : Nat → QR → QR → Int32 → QM → Option (QM)
  | 0, _, _, _, _ => none
  | n + 1, r0, r1, x2, M =>
    if (2 : Int32) ≤ x2 then ((gR M r1 [(1, 2)]).bind fun v126 => 
      (gR M r0 [(1, 2)]).bind fun v131 => 
      (cpI M v126 (0 : Int32) v131 (0 : Int32) (5 : Int32)).bind fun m136 => 
      (gR m136 r1 [(1, 3)]).bind fun v140 => 
      (gR m136 r0 [(1, 3)]).bind fun v145 => 
      (cpI m136 v140 (0 : Int32) v145 (0 : Int32) (5 : Int32)).bind fun m150 => 
      (gR m150 r1 [(1, 4)]).bind fun v154 => 
      (gR m150 r0 [(1, 4)]).bind fun v159 => 
      (cpI m150 v154 (0 : Int32) v159 (0 : Int32) (5 : Int32)).bind fun m164 => 
      (gR m164 r1 [(1, 5)]).bind fun v168 => 
      (gR m164 r0 [(1, 5)]).bind fun v173 => 
      (gR m164 r0 [(1, 5)]).bind fun v178 => 
      (aL m164 v178).bind fun v181 => 
      (cpI m164 v168 (0 : Int32) v173 (0 : Int32) v181).bind fun m182 => 
      (gI m182 r1 [(1, 6)]).bind fun v187 => 
      (pF m182 r0 [(1, 6)] (.inl v187)).bind fun m190 => 
      (gI m190 r1 [(1, 7)]).bind fun v195 => 
      (pF m190 r0 [(1, 7)] (.inl v195)).bind fun m198 => 
      (gI m198 r1 [(1, 8)]).bind fun v203 => 
      (pF m198 r0 [(1, 8)] (.inl v203)).bind fun m206 => 
      (gI m206 r1 [(1, 9)]).bind fun v211 => 
      (pF m206 r0 [(1, 9)] (.inl v211)).bind fun m214 => 
      (gI m214 r1 [(1, 10)]).bind fun v219 => 
      (pF m214 r0 [(1, 10)] (.inl v219)).bind fun m222 => 
      (gI m222 r1 [(1, 11)]).bind fun v227 => 
      (pF m222 r0 [(1, 11)] (.inl v227)).bind fun m230 => 
      (gI m230 r1 [(1, 12)]).bind fun v235 => 
      (pF m230 r0 [(1, 12)] (.inl v235)).bind fun m238 => 
      (gI m238 r1 [(1, 13)]).bind fun v243 => 
      (pF m238 r0 [(1, 13)] (.inl v243)).bind fun m246 => 
      some m246)
    else (gR M r0 [(1, 1)]).bind fun v105 => 
    (gR M r1 [(1, 1)]).bind fun v110 => 
    (aR M v110 x2).bind fun v114 => 
    qbR (qrc M v114 [3] (f_X4_copy (tn, 20 + x2.toNatClampNeg) v114 M)) fun v115 m115 => 
    (sR m115 v105 x2 v115).bind fun m118 => 
    f_X1_init_2_99 tn n r0 r1 (x2 + (1 : Int32)) m118
theorem s_X1_init_2_99 {l : Launch} {M0 : QM} (tn : Nat) : ∀ (n c s : Nat), c + 1 * n ≤ 20 → s + 2 * n ≤ 129 → ∀ (r0 : QR) (r1 : QR) (x2 : Int32) (M : QM) , SB eV l kX1_init_2 M0 (f_X1_init_2_99 tn n r0 r1 x2 M) (c, s) 99 M [some (.inr r0), some (.inr r1), some (.inl x2)] [] := by
  intro n
  induction n with
  | zero => intros; rw [f_X1_init_2_99]; exact r_none
  | succ n ih =>
    intro c s hc hs r0 r1 x2  M
    have hc1 : c + 1 ≤ 20 := by omega
    have hs1 : s + 2 ≤ 129 := by omega
    rw [f_X1_init_2_99]
    refine r_widen (u' := (c + 0, s + 0)) ⟨(show c ≤ c + 0 by omega), (show s ≤ s + 0 by omega)⟩ ?_
    refine r_iload_n (pc := 99) dX1_init_2_99 rfl ?_
    refine r_iconst (v := (2 : Int32)) (pc := 100) dX1_init_2_100 (by decide) ?_
    refine r_icmp_ge (pc := 101) (tgt := 125) dX1_init_2_101 (by decide) ?_ ?_
    · refine r_aload_n (pc := 125) dX1_init_2_125 rfl ?_
      refine r_getR (pc := 126)  gf_X1_23 dX1_init_2_126 (fun v126 => ?_)
      refine r_iconst (v := (0 : Int32)) (pc := 129) dX1_init_2_129 (by decide) ?_
      refine r_aload_n (pc := 130) dX1_init_2_130 rfl ?_
      refine r_getR (pc := 131)  gf_X1_23 dX1_init_2_131 (fun v131 => ?_)
      refine r_iconst (v := (0 : Int32)) (pc := 134) dX1_init_2_134 (by decide) ?_
      refine r_iconst (v := (5 : Int32)) (pc := 135) dX1_init_2_135 (by decide) ?_
      refine r_cpI (pc := 136)  ⟨⟨q299, q301, q300, q59⟩, Nat.le_of_ble_eq_true rfl, Nat.le_of_ble_eq_true rfl⟩ dX1_init_2_136 (fun m136 => ?_)
      refine r_aload_n (pc := 139) dX1_init_2_139 rfl ?_
      refine r_getR (pc := 140)  gf_X1_27 dX1_init_2_140 (fun v140 => ?_)
      refine r_iconst (v := (0 : Int32)) (pc := 143) dX1_init_2_143 (by decide) ?_
      refine r_aload_n (pc := 144) dX1_init_2_144 rfl ?_
      refine r_getR (pc := 145)  gf_X1_27 dX1_init_2_145 (fun v145 => ?_)
      refine r_iconst (v := (0 : Int32)) (pc := 148) dX1_init_2_148 (by decide) ?_
      refine r_iconst (v := (5 : Int32)) (pc := 149) dX1_init_2_149 (by decide) ?_
      refine r_cpI (pc := 150)  ⟨⟨q299, q301, q300, q59⟩, Nat.le_of_ble_eq_true rfl, Nat.le_of_ble_eq_true rfl⟩ dX1_init_2_150 (fun m150 => ?_)
      refine r_aload_n (pc := 153) dX1_init_2_153 rfl ?_
      refine r_getR (pc := 154)  gf_X1_30 dX1_init_2_154 (fun v154 => ?_)
      refine r_iconst (v := (0 : Int32)) (pc := 157) dX1_init_2_157 (by decide) ?_
      refine r_aload_n (pc := 158) dX1_init_2_158 rfl ?_
      refine r_getR (pc := 159)  gf_X1_30 dX1_init_2_159 (fun v159 => ?_)
      refine r_iconst (v := (0 : Int32)) (pc := 162) dX1_init_2_162 (by decide) ?_
      refine r_iconst (v := (5 : Int32)) (pc := 163) dX1_init_2_163 (by decide) ?_
      refine r_cpI (pc := 164)  ⟨⟨q299, q301, q300, q59⟩, Nat.le_of_ble_eq_true rfl, Nat.le_of_ble_eq_true rfl⟩ dX1_init_2_164 (fun m164 => ?_)
      refine r_aload_n (pc := 167) dX1_init_2_167 rfl ?_
      refine r_getR (pc := 168)  gf_X1_33 dX1_init_2_168 (fun v168 => ?_)
      refine r_iconst (v := (0 : Int32)) (pc := 171) dX1_init_2_171 (by decide) ?_
      refine r_aload_n (pc := 172) dX1_init_2_172 rfl ?_
      refine r_getR (pc := 173)  gf_X1_33 dX1_init_2_173 (fun v173 => ?_)
      refine r_iconst (v := (0 : Int32)) (pc := 176) dX1_init_2_176 (by decide) ?_
      refine r_aload_n (pc := 177) dX1_init_2_177 rfl ?_
      refine r_getR (pc := 178)  gf_X1_33 dX1_init_2_178 (fun v178 => ?_)
      refine r_alen (pc := 181) dX1_init_2_181 (fun v181 => ?_)
      refine r_cpI (pc := 182)  ⟨⟨q299, q301, q300, q59⟩, Nat.le_of_ble_eq_true rfl, Nat.le_of_ble_eq_true rfl⟩ dX1_init_2_182 (fun m182 => ?_)
      refine r_aload_n (pc := 185) dX1_init_2_185 rfl ?_
      refine r_aload_n (pc := 186) dX1_init_2_186 rfl ?_
      refine r_getI (pc := 187)  gf_X1_58 dX1_init_2_187 (fun v187 => ?_)
      refine r_put (pc := 190)  pf_X1_58 (fun h => nomatch h) (fit_int _) dX1_init_2_190 (fun m190 => ?_)
      refine r_aload_n (pc := 193) dX1_init_2_193 rfl ?_
      refine r_aload_n (pc := 194) dX1_init_2_194 rfl ?_
      refine r_getI (pc := 195)  gf_X1_61 dX1_init_2_195 (fun v195 => ?_)
      refine r_put (pc := 198)  pf_X1_61 (fun h => nomatch h) (fit_int _) dX1_init_2_198 (fun m198 => ?_)
      refine r_aload_n (pc := 201) dX1_init_2_201 rfl ?_
      refine r_aload_n (pc := 202) dX1_init_2_202 rfl ?_
      refine r_getI (pc := 203)  gf_X1_36 dX1_init_2_203 (fun v203 => ?_)
      refine r_put (pc := 206)  pf_X1_36 (fun h => nomatch h) (fit_int _) dX1_init_2_206 (fun m206 => ?_)
      refine r_aload_n (pc := 209) dX1_init_2_209 rfl ?_
      refine r_aload_n (pc := 210) dX1_init_2_210 rfl ?_
      refine r_getI (pc := 211)  gf_X1_64 dX1_init_2_211 (fun v211 => ?_)
      refine r_put (pc := 214)  pf_X1_64 (fun h => nomatch h) (fit_int _) dX1_init_2_214 (fun m214 => ?_)
      refine r_aload_n (pc := 217) dX1_init_2_217 rfl ?_
      refine r_aload_n (pc := 218) dX1_init_2_218 rfl ?_
      refine r_getI (pc := 219)  gf_X1_67 dX1_init_2_219 (fun v219 => ?_)
      refine r_put (pc := 222)  pf_X1_67 (fun h => nomatch h) (fit_int _) dX1_init_2_222 (fun m222 => ?_)
      refine r_aload_n (pc := 225) dX1_init_2_225 rfl ?_
      refine r_aload_n (pc := 226) dX1_init_2_226 rfl ?_
      refine r_getI (pc := 227)  gf_X1_70 dX1_init_2_227 (fun v227 => ?_)
      refine r_put (pc := 230)  pf_X1_70 (fun h => nomatch h) (fit_int _) dX1_init_2_230 (fun m230 => ?_)
      refine r_aload_n (pc := 233) dX1_init_2_233 rfl ?_
      refine r_aload_n (pc := 234) dX1_init_2_234 rfl ?_
      refine r_getI (pc := 235)  gf_X1_73 dX1_init_2_235 (fun v235 => ?_)
      refine r_put (pc := 238)  pf_X1_73 (fun h => nomatch h) (fit_int _) dX1_init_2_238 (fun m238 => ?_)
      refine r_aload_n (pc := 241) dX1_init_2_241 rfl ?_
      refine r_aload_n (pc := 242) dX1_init_2_242 rfl ?_
      refine r_getI (pc := 243)  gf_X1_76 dX1_init_2_243 (fun v243 => ?_)
      refine r_put (pc := 246)  pf_X1_76 (fun h => nomatch h) (fit_int _) dX1_init_2_246 (fun m246 => ?_)
      exact r_vretV (pc := 249) dX1_init_2_249 rfl ⟨(show c + 0 ≤ 20 by omega), (show s + 0 ≤ 129 by omega)⟩
    refine r_aload_n (pc := 104) dX1_init_2_104 rfl ?_
    refine r_getR (pc := 105)  gf_X1_19 dX1_init_2_105 (fun v105 => ?_)
    refine r_iload_n (pc := 108) dX1_init_2_108 rfl ?_
    refine r_aload_n (pc := 109) dX1_init_2_109 rfl ?_
    refine r_getR (pc := 110)  gf_X1_19 dX1_init_2_110 (fun v110 => ?_)
    refine r_iload_n (pc := 113) dX1_init_2_113 rfl ?_
    refine r_aald (pc := 114) dX1_init_2_114 (fun v114 => ?_)
    refine r_callV_R (st := [.inl x2, .inr v105]) (vs := []) (pc := 115)  ct_X4_copy hc_3 cf_X1_49 rfl rfl (Nat.le_of_ble_eq_true rfl) ⟨by decide +kernel, (show c + 0 + 1 ≤ 20 by omega), (show s + 0 + 2 ≤ 129 by omega)⟩ dX1_init_2_115 (fun v115 m115 => ?_)
    refine r_widen (u' := (c + 1, s + 2)) ⟨(show c + 0 + 1 ≤ c + 1 by omega), (show s + 0 + 2 ≤ s + 2 by omega)⟩ ?_
    refine r_aast (pc := 118) dX1_init_2_118 (fun m118 => ?_)
    refine r_iinc (v := (x2 + (1 : Int32))) (pc := 119) dX1_init_2_119 rfl rfl (by decide) rfl ?_
    refine r_goto (tgt := 99) (pc := 122) dX1_init_2_122 (by decide) ?_
    refine r_widen (u' := (c + 1, s + 2)) ⟨(show c + 1 ≤ c + 1 by omega), (show s + 2 ≤ s + 2 by omega)⟩ ?_
    exact ih (c + 1) (s + 2) (by omega) (by omega) _ _ _ _
noncomputable def f_X1_init_2_57 (tn : Nat) : Nat → QR → QR → Int32 → QM → Option (QM)
  | 0, _, _, _, _ => none
  | n + 1, r0, r1, x2, M =>
    if (10 : Int32) ≤ x2 then (f_X1_init_2_99 tn 3 r0 r1 (0 : Int32) M)
    else (gR M r0 [(1, 0)]).bind fun v64 => 
    (gR M r1 [(1, 0)]).bind fun v69 => 
    (aR M v69 x2).bind fun v73 => 
    if v73 = none then (f_X1_init_2_90 tn (f_X1_init_2_57 tn n) r0 r1 x2 v64 x2 none M)
    else (gR M r1 [(1, 0)]).bind fun v82 => 
    (aR M v82 x2).bind fun v86 => 
    qbR (qrc M v86 [2] (f_X3_copy (tn, 10 + x2.toNatClampNeg) v86 M)) fun v87 m87 => 
    f_X1_init_2_90 tn (f_X1_init_2_57 tn n) r0 r1 x2 v64 x2 v87 m87
theorem s_X1_init_2_57 {l : Launch} {M0 : QM} (tn : Nat) : ∀ (n c s : Nat), c + 1 * n ≤ 17 → s + 6 * n ≤ 123 → ∀ (r0 : QR) (r1 : QR) (x2 : Int32) (M : QM) , SB eV l kX1_init_2 M0 (f_X1_init_2_57 tn n r0 r1 x2 M) (c, s) 57 M [some (.inr r0), some (.inr r1), some (.inl x2)] [] := by
  intro n
  induction n with
  | zero => intros; rw [f_X1_init_2_57]; exact r_none
  | succ n ih =>
    intro c s hc hs r0 r1 x2  M
    have hc1 : c + 1 ≤ 17 := by omega
    have hs1 : s + 6 ≤ 123 := by omega
    rw [f_X1_init_2_57]
    refine r_widen (u' := (c + 0, s + 0)) ⟨(show c ≤ c + 0 by omega), (show s ≤ s + 0 by omega)⟩ ?_
    refine r_iload_n (pc := 57) dX1_init_2_57 rfl ?_
    refine r_bipush (v := (10 : Int32)) (pc := 58) dX1_init_2_58 (by decide) ?_
    refine r_icmp_ge (pc := 60) (tgt := 97) dX1_init_2_60 (by decide) ?_ ?_
    · refine r_iconst (v := (0 : Int32)) (pc := 97) dX1_init_2_97 (by decide) ?_
      refine r_istore_n (pc := 98) dX1_init_2_98 (by decide) rfl ?_
      refine r_widen (u' := (17, 123)) ⟨(show c + 0 ≤ 17 by omega), (show s + 0 ≤ 123 by omega)⟩ ?_
      exact s_X1_init_2_99 tn 3 17 123 (by decide +kernel) (by decide +kernel) _ _ _ _
    refine r_aload_n (pc := 63) dX1_init_2_63 rfl ?_
    refine r_getR (pc := 64)  gf_X1_11 dX1_init_2_64 (fun v64 => ?_)
    refine r_iload_n (pc := 67) dX1_init_2_67 rfl ?_
    refine r_aload_n (pc := 68) dX1_init_2_68 rfl ?_
    refine r_getR (pc := 69)  gf_X1_11 dX1_init_2_69 (fun v69 => ?_)
    refine r_iload_n (pc := 72) dX1_init_2_72 rfl ?_
    refine r_aald (pc := 73) dX1_init_2_73 (fun v73 => ?_)
    refine r_ifnonnull (pc := 74) (tgt := 81) dX1_init_2_74 (by decide) ?_ ?_
    · refine r_aload_n (pc := 81) dX1_init_2_81 rfl ?_
      refine r_getR (pc := 82)  gf_X1_11 dX1_init_2_82 (fun v82 => ?_)
      refine r_iload_n (pc := 85) dX1_init_2_85 rfl ?_
      refine r_aald (pc := 86) dX1_init_2_86 (fun v86 => ?_)
      refine r_callV_R (st := [.inl x2, .inr v64]) (vs := []) (pc := 87)  ct_X3_copy hc_2 cf_X1_45 rfl rfl (Nat.le_of_ble_eq_true rfl) ⟨by decide +kernel, (show c + 0 + 1 ≤ 20 by omega), (show s + 0 + 6 ≤ 129 by omega)⟩ dX1_init_2_87 (fun v87 m87 => ?_)
      refine r_widen (u' := (c + 1, s + 6)) ⟨(show c + 0 + 1 ≤ c + 1 by omega), (show s + 0 + 6 ≤ s + 6 by omega)⟩ ?_
      exact s_X1_init_2_90 tn c s (f_X1_init_2_57 tn n) (ih (c + 1) (s + 6) (by omega) (by omega)) hc1 hs1 _ _ _ _ _ _ _
    refine r_null (pc := 77) dX1_init_2_77 ?_
    refine r_goto (tgt := 90) (pc := 78) dX1_init_2_78 (by decide) ?_
    refine r_widen (u' := (c + 1, s + 6)) ⟨(show c + 0 ≤ c + 1 by omega), (show s + 0 ≤ s + 6 by omega)⟩ ?_
    exact s_X1_init_2_90 tn c s (f_X1_init_2_57 tn n) (ih (c + 1) (s + 6) (by omega) (by omega)) hc1 hs1 _ _ _ _ _ _ _
noncomputable def f_X1_init_2 (tn : Nat) (r0 : QR) (r1 : QR) (M : QM) : Option (QM) :=
  qnn r0 (
    (nAr M (tn, 1) 3 (10 : Int32) 10).bind fun m7 => 
    (pF m7 r0 [(1, 0)] (.inr (some (tn, 1)))).bind fun m10 => 
    (nAr m10 (tn, 2) 4 (2 : Int32) 2).bind fun m15 => 
    (pF m15 r0 [(1, 1)] (.inr (some (tn, 2)))).bind fun m18 => 
    (nAi m18 (tn, 3) 0 (5 : Int32) 5).bind fun m23 => 
    (pF m23 r0 [(1, 2)] (.inr (some (tn, 3)))).bind fun m25 => 
    (nAi m25 (tn, 4) 0 (5 : Int32) 5).bind fun m30 => 
    (pF m30 r0 [(1, 3)] (.inr (some (tn, 4)))).bind fun m32 => 
    (nAi m32 (tn, 5) 0 (5 : Int32) 5).bind fun m37 => 
    (pF m37 r0 [(1, 4)] (.inr (some (tn, 5)))).bind fun m39 => 
    (nAi m39 (tn, 6) 0 (30 : Int32) 30).bind fun m45 => 
    (pF m45 r0 [(1, 5)] (.inr (some (tn, 6)))).bind fun m47 => 
    (pF m47 r0 [(1, 8)] (.inl (4 : Int32))).bind fun m52 => 
    f_X1_init_2_57 tn 11 r0 r1 (0 : Int32) m52)
theorem s_X1_init_2 {l : Launch} {M0 : QM} {tn : Nat} {r0 : QR} {r1 : QR} {M : QM} : SB eV l kX1_init_2 M0 (f_X1_init_2 tn r0 r1 M) (0, 0) 0 M [some (.inr r0), some (.inr r1), none] [] := by
  unfold f_X1_init_2
  refine r_aload_n (pc := 0) dX1_init_2_0 rfl ?_
  refine r_objInit (pc := 1)  q89 q82 q83 ⟨Nat.le_of_ble_eq_true rfl, Nat.le_of_ble_eq_true rfl⟩ dX1_init_2_1 ?_
  refine r_aload_n (pc := 4) dX1_init_2_4 rfl ?_
  refine r_bipush (v := (10 : Int32)) (pc := 5) dX1_init_2_5 (by decide) ?_
  refine r_newR (pc := 7)  (B := 10) (kd := 3) (by decide) rfl q90 (by decide +kernel) dX1_init_2_7 (fun m7 => ?_)
  refine r_widen (u' := (1, 10)) (by decide +kernel) ?_
  refine r_put (pc := 10)  pf_X1_11 (fun _ => rfl) (fit_arr _ _) dX1_init_2_10 (fun m10 => ?_)
  refine r_aload_n (pc := 13) dX1_init_2_13 rfl ?_
  refine r_iconst (v := (2 : Int32)) (pc := 14) dX1_init_2_14 (by decide) ?_
  refine r_newR (pc := 15)  (B := 2) (kd := 4) (by decide) rfl q92 (by decide +kernel) dX1_init_2_15 (fun m15 => ?_)
  refine r_widen (u' := (2, 12)) (by decide +kernel) ?_
  refine r_put (pc := 18)  pf_X1_19 (fun _ => rfl) (fit_arr _ _) dX1_init_2_18 (fun m18 => ?_)
  refine r_aload_n (pc := 21) dX1_init_2_21 rfl ?_
  refine r_iconst (v := (5 : Int32)) (pc := 22) dX1_init_2_22 (by decide) ?_
  refine r_newI (pc := 23)  (B := 5) (by decide +kernel) dX1_init_2_23 (fun m23 => ?_)
  refine r_widen (u' := (3, 17)) (by decide +kernel) ?_
  refine r_put (pc := 25)  pf_X1_23 (fun _ => rfl) (fit_arr _ _) dX1_init_2_25 (fun m25 => ?_)
  refine r_aload_n (pc := 28) dX1_init_2_28 rfl ?_
  refine r_iconst (v := (5 : Int32)) (pc := 29) dX1_init_2_29 (by decide) ?_
  refine r_newI (pc := 30)  (B := 5) (by decide +kernel) dX1_init_2_30 (fun m30 => ?_)
  refine r_widen (u' := (4, 22)) (by decide +kernel) ?_
  refine r_put (pc := 32)  pf_X1_27 (fun _ => rfl) (fit_arr _ _) dX1_init_2_32 (fun m32 => ?_)
  refine r_aload_n (pc := 35) dX1_init_2_35 rfl ?_
  refine r_iconst (v := (5 : Int32)) (pc := 36) dX1_init_2_36 (by decide) ?_
  refine r_newI (pc := 37)  (B := 5) (by decide +kernel) dX1_init_2_37 (fun m37 => ?_)
  refine r_widen (u' := (5, 27)) (by decide +kernel) ?_
  refine r_put (pc := 39)  pf_X1_30 (fun _ => rfl) (fit_arr _ _) dX1_init_2_39 (fun m39 => ?_)
  refine r_aload_n (pc := 42) dX1_init_2_42 rfl ?_
  refine r_bipush (v := (30 : Int32)) (pc := 43) dX1_init_2_43 (by decide) ?_
  refine r_newI (pc := 45)  (B := 30) (by decide +kernel) dX1_init_2_45 (fun m45 => ?_)
  refine r_widen (u' := (6, 57)) (by decide +kernel) ?_
  refine r_put (pc := 47)  pf_X1_33 (fun _ => rfl) (fit_arr _ _) dX1_init_2_47 (fun m47 => ?_)
  refine r_aload_n (pc := 50) dX1_init_2_50 rfl ?_
  refine r_iconst (v := (4 : Int32)) (pc := 51) dX1_init_2_51 (by decide) ?_
  refine r_put (pc := 52)  pf_X1_36 (fun h => nomatch h) (fit_int _) dX1_init_2_52 (fun m52 => ?_)
  refine r_iconst (v := (0 : Int32)) (pc := 55) dX1_init_2_55 (by decide) ?_
  refine r_istore_n (pc := 56) dX1_init_2_56 (by decide) rfl ?_
  refine r_widen (u' := (6, 57)) (by decide +kernel) ?_
  exact s_X1_init_2_57 tn 11 6 57 (by decide +kernel) (by decide +kernel) _ _ _ _
theorem ct_X1_init_2 {l : Launch} {tn : Nat} {r0 : QR} {r1 : QR} {M : QM} : ∀ b, f_X1_init_2 tn r0 r1 M = some b → PM l yX1_init_2 (ws_ yX1_init_2 cX1_init_2 3 none) rmX1_init_2 [.inr r0, .inr r1] M (eV b).1 (eV b).2 := fun b hb =>
  PM.of (own := RX1) rfl (by decide +kernel) (Nat.le_of_ble_eq_true rfl) true (fun h => rfl) (s_X1_init_2 b hb)
/-! X0_inRange: BarnPictures.inRange(III)Z, kind P -/
abbrev rmX0_inRange : Room := ({ frames := 0, cells := 0, slots := 0, locals := 0 })
abbrev kX0_inRange : QK := (RX0, cX0_inRange, 3, (some .boolean), [], false, rmX0_inRange)
noncomputable def f_X0_inRange (x0 : Int32) (x1 : Int32) (x2 : Int32) (M : QM) : Option (Int32) :=
  if x0 < x1 then (some (0 : Int32))
    else if x2 < x0 then (some (0 : Int32))
    else some (1 : Int32)
theorem s_X0_inRange {l : Launch} {x0 : Int32} {x1 : Int32} {x2 : Int32} {M : QM} : SB (eP M) l kX0_inRange M (f_X0_inRange x0 x1 x2 M) (0, 0) 0 M [some (.inl x0), some (.inl x1), some (.inl x2)] [] := by
  unfold f_X0_inRange
  refine r_iload_n (pc := 0) dX0_inRange_0 rfl ?_
  refine r_iload_n (pc := 1) dX0_inRange_1 rfl ?_
  refine r_icmp_lt (pc := 2) (tgt := 14) dX0_inRange_2 (by decide) ?_ ?_
  · refine r_iconst (v := (0 : Int32)) (pc := 14) dX0_inRange_14 (by decide) ?_
    exact r_zretP (pc := 15) dX0_inRange_15 rfl rfl (by decide +kernel)
  refine r_iload_n (pc := 5) dX0_inRange_5 rfl ?_
  refine r_iload_n (pc := 6) dX0_inRange_6 rfl ?_
  refine r_icmp_gt (pc := 7) (tgt := 14) dX0_inRange_7 (by decide) ?_ ?_
  · refine r_iconst (v := (0 : Int32)) (pc := 14) dX0_inRange_14 (by decide) ?_
    exact r_zretP (pc := 15) dX0_inRange_15 rfl rfl (by decide +kernel)
  refine r_iconst (v := (1 : Int32)) (pc := 10) dX0_inRange_10 (by decide) ?_
  refine r_goto (tgt := 15) (pc := 11) dX0_inRange_11 (by decide) ?_
  exact r_zretP (pc := 15) dX0_inRange_15 rfl rfl (by decide +kernel)
theorem ct_X0_inRange {l : Launch} {x0 : Int32} {x1 : Int32} {x2 : Int32} {M : QM} : ∀ b, f_X0_inRange x0 x1 x2 M = some b → PM l yX0_inRange (ws_ yX0_inRange cX0_inRange 3 (some .boolean)) rmX0_inRange [.inl x0, .inl x1, .inl x2] M ((eP M) b).1 ((eP M) b).2 := fun b hb =>
  PM.of (own := RX0) rfl (by decide +kernel) (Nat.le_of_ble_eq_true rfl) false (fun h => nomatch h) (s_X0_inRange b hb)
