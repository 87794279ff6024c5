/-! methods as functions over the memory (printed by gen/run.py) -/
set_option maxRecDepth 100000
/-! X1_reason: BarnPictures$Tour.reason(I)I, kind P -/
abbrev rmX1_reason : Room := ({ frames := 2, cells := 0, slots := 0, locals := 45 })
abbrev kX1_reason : QK := (RX1, cX1_reason, 2, (some .int), [], false, rmX1_reason)
noncomputable def f_X1_reason (r0 : QR) (x1 : Int32) (M : QM) : Option (Int32) :=
  (gR M r0 [(1, 2)]).bind fun v1 => 
    (aI M v1 x1).bind fun v5 => 
    (gI M r0 [(1, 7)]).bind fun v7 => 
    if v5 = v7 then (some (1 : Int32))
    else (qrc M r0 [1] (f_X1_reelsIn r0 x1 M)).bind fun v17 => 
    if v17 = 0 then (some (2 : Int32))
    else (qrc M r0 [1] (f_X1_generatorFor r0 x1 (0 : Int32) M)).bind fun v28 => 
    if v28 = (-10000005 : Int32) then (some (3 : Int32))
    else (qrc M r0 [1] (f_X1_minutesIn r0 x1 M)).bind fun v42 => 
    (qrc M r0 [1] (f_X1_generatorFor r0 x1 v42 M)).bind fun v45 => 
    if v45 = (-10000005 : Int32) then (some (4 : Int32))
    else some (0 : Int32)
theorem s_X1_reason {l : Launch} {r0 : QR} {x1 : Int32} {M : QM} : SB (eP M) l kX1_reason M (f_X1_reason r0 x1 M) (0, 0) 0 M [some (.inr r0), some (.inl x1)] [] := by
  unfold f_X1_reason
  refine r_aload_n (pc := 0) dX1_reason_0 rfl ?_
  refine r_getR (pc := 1)  gf_X1_23 dX1_reason_1 (fun v1 => ?_)
  refine r_iload_n (pc := 4) dX1_reason_4 rfl ?_
  refine r_iald (pc := 5) dX1_reason_5 (fun v5 => ?_)
  refine r_aload_n (pc := 6) dX1_reason_6 rfl ?_
  refine r_getI (pc := 7)  gf_X1_61 dX1_reason_7 (fun v7 => ?_)
  refine r_icmp_ne (pc := 10) (tgt := 15) dX1_reason_10 (by decide) ?_ ?_
  · refine r_aload_n (pc := 15) dX1_reason_15 rfl ?_
    refine r_iload_n (pc := 16) dX1_reason_16 rfl ?_
    refine r_callV_P (st := []) (vs := [.inl x1]) (pc := 17)  ct_X1_reelsIn hc_1 cf_X1_116 rfl rfl (Nat.le_of_ble_eq_true rfl) (by decide +kernel) dX1_reason_17 (fun v17 => ?_)
    refine r_widen (u' := (0, 0)) (by decide +kernel) ?_
    refine r_if_ne (pc := 20) (tgt := 25) dX1_reason_20 (by decide) ?_ ?_
    · refine r_aload_n (pc := 25) dX1_reason_25 rfl ?_
      refine r_iload_n (pc := 26) dX1_reason_26 rfl ?_
      refine r_iconst (v := (0 : Int32)) (pc := 27) dX1_reason_27 (by decide) ?_
      refine r_callV_P (st := []) (vs := [.inl x1, .inl (0 : Int32)]) (pc := 28)  ct_X1_generatorFor hc_1 cf_X1_120 rfl rfl (Nat.le_of_ble_eq_true rfl) (by decide +kernel) dX1_reason_28 (fun v28 => ?_)
      refine r_widen (u' := (0, 0)) (by decide +kernel) ?_
      refine r_ldc (pc := 31) dX1_reason_31 q146 ?_
      refine r_icmp_ne (pc := 33) (tgt := 38) dX1_reason_33 (by decide) ?_ ?_
      · refine r_aload_n (pc := 38) dX1_reason_38 rfl ?_
        refine r_iload_n (pc := 39) dX1_reason_39 rfl ?_
        refine r_aload_n (pc := 40) dX1_reason_40 rfl ?_
        refine r_iload_n (pc := 41) dX1_reason_41 rfl ?_
        refine r_callV_P (st := [.inl x1, .inr r0]) (vs := [.inl x1]) (pc := 42)  ct_X1_minutesIn hc_1 cf_X1_123 rfl rfl (Nat.le_of_ble_eq_true rfl) (by decide +kernel) dX1_reason_42 (fun v42 => ?_)
        refine r_widen (u' := (0, 0)) (by decide +kernel) ?_
        refine r_callV_P (st := []) (vs := [.inl x1, .inl v42]) (pc := 45)  ct_X1_generatorFor hc_1 cf_X1_120 rfl rfl (Nat.le_of_ble_eq_true rfl) (by decide +kernel) dX1_reason_45 (fun v45 => ?_)
        refine r_widen (u' := (0, 0)) (by decide +kernel) ?_
        refine r_ldc (pc := 48) dX1_reason_48 q146 ?_
        refine r_icmp_ne (pc := 50) (tgt := 57) dX1_reason_50 (by decide) ?_ ?_
        · refine r_iconst (v := (0 : Int32)) (pc := 57) dX1_reason_57 (by decide) ?_
          exact r_iretP (pc := 58) dX1_reason_58 rfl (by decide +kernel)
        refine r_iconst (v := (4 : Int32)) (pc := 53) dX1_reason_53 (by decide) ?_
        refine r_goto (tgt := 58) (pc := 54) dX1_reason_54 (by decide) ?_
        exact r_iretP (pc := 58) dX1_reason_58 rfl (by decide +kernel)
      refine r_iconst (v := (3 : Int32)) (pc := 36) dX1_reason_36 (by decide) ?_
      exact r_iretP (pc := 37) dX1_reason_37 rfl (by decide +kernel)
    refine r_iconst (v := (2 : Int32)) (pc := 23) dX1_reason_23 (by decide) ?_
    exact r_iretP (pc := 24) dX1_reason_24 rfl (by decide +kernel)
  refine r_iconst (v := (1 : Int32)) (pc := 13) dX1_reason_13 (by decide) ?_
  exact r_iretP (pc := 14) dX1_reason_14 rfl (by decide +kernel)
theorem ct_X1_reason {l : Launch} {r0 : QR} {x1 : Int32} {M : QM} : ∀ b, f_X1_reason r0 x1 M = some b → PM l yX1_reason (ws_ yX1_reason cX1_reason 2 (some .int)) rmX1_reason [.inr r0, .inl x1] M ((eP M) b).1 ((eP M) b).2 := fun b hb =>
  PM.of (own := RX1) rfl (by decide +kernel) (Nat.le_of_ble_eq_true rfl) false (fun h => nomatch h) (s_X1_reason b hb)
/-! X8_init: BarnPictures$NoShow.<init>(I)V, kind V -/
abbrev rmX8_init : Room := ({ frames := 6, cells := 0, slots := 0, locals := 88 })
abbrev kX8_init : QK := (RX8, cX8_init, 2, none, [], true, rmX8_init)
noncomputable def f_X8_init (r0 : QR) (x1 : Int32) (M : QM) : Option (QM) :=
  (qexc M r0 11).bind fun m1 => 
    (pF m1 r0 [(15, 0)] (.inl x1)).bind fun m6 => 
    some m6
theorem s_X8_init {l : Launch} {M0 : QM} {r0 : QR} {x1 : Int32} {M : QM} : SB eV l kX8_init M0 (f_X8_init r0 x1 M) (0, 0) 0 M [some (.inr r0), some (.inl x1)] [] := by
  unfold f_X8_init
  refine r_aload_n (pc := 0) dX8_init_0 rfl ?_
  refine r_exc (ci := 11) (pc := 1) rfl exf_11 (by decide +kernel) dX8_init_1 (fun m1 => ?_)
  refine r_aload_n (pc := 4) dX8_init_4 rfl ?_
  refine r_iload_n (pc := 5) dX8_init_5 rfl ?_
  refine r_put (pc := 6)  pf_X8_9 (fun _ => rfl) (fit_int _) dX8_init_6 (fun m6 => ?_)
  exact r_vretV (pc := 9) dX8_init_9 rfl (by decide +kernel)
theorem ct_X8_init {l : Launch} {r0 : QR} {x1 : Int32} {M : QM} : ∀ b, f_X8_init r0 x1 M = some b → PM l yX8_init (ws_ yX8_init cX8_init 2 none) rmX8_init [.inr r0, .inl x1] M (eV b).1 (eV b).2 := fun b hb =>
  PM.of (own := RX8) rfl (by decide +kernel) (Nat.le_of_ble_eq_true rfl) true (fun h => rfl) (s_X8_init b hb)
/-! X3_isFresh: BarnPictures$Reel.isFresh(I)Z, kind P -/
abbrev rmX3_isFresh : Room := ({ frames := 0, cells := 0, slots := 0, locals := 0 })
abbrev kX3_isFresh : QK := (RX3, cX3_isFresh, 2, (some .boolean), [], false, rmX3_isFresh)
noncomputable def f_X3_isFresh (r0 : QR) (x1 : Int32) (M : QM) : Option (Int32) :=
  (gI M r0 [(2, 5)]).bind fun v1 => 
    if ((v1 >>> (x1 &&& 31)) &&& (1 : Int32)) = 0 then (some (1 : Int32))
    else some (0 : Int32)
theorem s_X3_isFresh {l : Launch} {r0 : QR} {x1 : Int32} {M : QM} : SB (eP M) l kX3_isFresh M (f_X3_isFresh r0 x1 M) (0, 0) 0 M [some (.inr r0), some (.inl x1)] [] := by
  unfold f_X3_isFresh
  refine r_aload_n (pc := 0) dX3_isFresh_0 rfl ?_
  refine r_getI (pc := 1)  gf_X3_30 dX3_isFresh_1 (fun v1 => ?_)
  refine r_iload_n (pc := 4) dX3_isFresh_4 rfl ?_
  refine r_ishr (pc := 5) dX3_isFresh_5 ?_
  refine r_iconst (v := (1 : Int32)) (pc := 6) dX3_isFresh_6 (by decide) ?_
  refine r_iand (pc := 7) dX3_isFresh_7 ?_
  refine r_if_ne (pc := 8) (tgt := 15) dX3_isFresh_8 (by decide) ?_ ?_
  · refine r_iconst (v := (0 : Int32)) (pc := 15) dX3_isFresh_15 (by decide) ?_
    exact r_zretP (pc := 16) dX3_isFresh_16 rfl rfl (by decide +kernel)
  refine r_iconst (v := (1 : Int32)) (pc := 11) dX3_isFresh_11 (by decide) ?_
  refine r_goto (tgt := 16) (pc := 12) dX3_isFresh_12 (by decide) ?_
  exact r_zretP (pc := 16) dX3_isFresh_16 rfl rfl (by decide +kernel)
theorem ct_X3_isFresh {l : Launch} {r0 : QR} {x1 : Int32} {M : QM} : ∀ b, f_X3_isFresh r0 x1 M = some b → PM l yX3_isFresh (ws_ yX3_isFresh cX3_isFresh 2 (some .boolean)) rmX3_isFresh [.inr r0, .inl x1] M ((eP M) b).1 ((eP M) b).2 := fun b hb =>
  PM.of (own := RX3) rfl (by decide +kernel) (Nat.le_of_ble_eq_true rfl) false (fun h => nomatch h) (s_X3_isFresh b hb)
/-! X0_seatsOf: BarnPictures.seatsOf(I)I, kind PP -/
abbrev rmX0_seatsOf : Room := ({ frames := 1, cells := 1, slots := 5, locals := 21 })
abbrev kX0_seatsOf : QK := (RX0, cX0_seatsOf, 1, (some .int), [], false, rmX0_seatsOf)
noncomputable def f_X0_seatsOf (x0 : Int32) (M : QM) : Option (Int32) :=
  (nAi M (M.1, 0) 0 (5 : Int32) 5).bind fun m2 => 
    (sI m2 (some (M.1, 0)) (0 : Int32) (40 : Int32)).bind fun m8 => 
    (sI m8 (some (M.1, 0)) (1 : Int32) (60 : Int32)).bind fun m13 => 
    (sI m13 (some (M.1, 0)) (2 : Int32) (80 : Int32)).bind fun m18 => 
    (sI m18 (some (M.1, 0)) (3 : Int32) (50 : Int32)).bind fun m23 => 
    (sI m23 (some (M.1, 0)) (4 : Int32) (30 : Int32)).bind fun m28 => 
    (f_X0_pick x0 (some (M.1, 0)) m28).bind fun v29 => 
    qpure M m28 v29
theorem s_X0_seatsOf {l : Launch} {x0 : Int32} {M : QM} : SB (eP M) l kX0_seatsOf M (f_X0_seatsOf x0 M) (0, 0) 0 M [some (.inl x0)] [] := by
  unfold f_X0_seatsOf
  refine r_iload_n (pc := 0) dX0_seatsOf_0 rfl ?_
  refine r_iconst (v := (5 : Int32)) (pc := 1) dX0_seatsOf_1 (by decide) ?_
  refine r_newI (pc := 2)  (B := 5) (by decide +kernel) dX0_seatsOf_2 (fun m2 => ?_)
  refine r_widen (u' := (1, 5)) (by decide +kernel) ?_
  refine r_dup (pc := 4) dX0_seatsOf_4 ?_
  refine r_iconst (v := (0 : Int32)) (pc := 5) dX0_seatsOf_5 (by decide) ?_
  refine r_bipush (v := (40 : Int32)) (pc := 6) dX0_seatsOf_6 (by decide) ?_
  refine r_iast (pc := 8) dX0_seatsOf_8 (fun m8 => ?_)
  refine r_dup (pc := 9) dX0_seatsOf_9 ?_
  refine r_iconst (v := (1 : Int32)) (pc := 10) dX0_seatsOf_10 (by decide) ?_
  refine r_bipush (v := (60 : Int32)) (pc := 11) dX0_seatsOf_11 (by decide) ?_
  refine r_iast (pc := 13) dX0_seatsOf_13 (fun m13 => ?_)
  refine r_dup (pc := 14) dX0_seatsOf_14 ?_
  refine r_iconst (v := (2 : Int32)) (pc := 15) dX0_seatsOf_15 (by decide) ?_
  refine r_bipush (v := (80 : Int32)) (pc := 16) dX0_seatsOf_16 (by decide) ?_
  refine r_iast (pc := 18) dX0_seatsOf_18 (fun m18 => ?_)
  refine r_dup (pc := 19) dX0_seatsOf_19 ?_
  refine r_iconst (v := (3 : Int32)) (pc := 20) dX0_seatsOf_20 (by decide) ?_
  refine r_bipush (v := (50 : Int32)) (pc := 21) dX0_seatsOf_21 (by decide) ?_
  refine r_iast (pc := 23) dX0_seatsOf_23 (fun m23 => ?_)
  refine r_dup (pc := 24) dX0_seatsOf_24 ?_
  refine r_iconst (v := (4 : Int32)) (pc := 25) dX0_seatsOf_25 (by decide) ?_
  refine r_bipush (v := (30 : Int32)) (pc := 26) dX0_seatsOf_26 (by decide) ?_
  refine r_iast (pc := 28) dX0_seatsOf_28 (fun m28 => ?_)
  refine r_callS_P (st := []) (vs := [.inl x0, .inr (some (M.1, 0))]) (pc := 29)  ct_X0_pick cf_X0_4 rfl rfl (Nat.le_of_ble_eq_true rfl) (by decide +kernel) dX0_seatsOf_29 (fun v29 => ?_)
  refine r_widen (u' := (1, 5)) (by decide +kernel) ?_
  exact r_iretPP (pc := 32) dX0_seatsOf_32 rfl (by decide +kernel)
theorem ct_X0_seatsOf {l : Launch} {x0 : Int32} {M : QM} : ∀ b, f_X0_seatsOf x0 M = some b → PM l yX0_seatsOf (ws_ yX0_seatsOf cX0_seatsOf 1 (some .int)) rmX0_seatsOf [.inl x0] M ((eP M) b).1 ((eP M) b).2 := fun b hb =>
  PM.of (own := RX0) rfl (by decide +kernel) (Nat.le_of_ble_eq_true rfl) false (fun h => nomatch h) (s_X0_seatsOf b hb)
/-! X1_peopleFor: BarnPictures$Tour.peopleFor(I)I, kind P -/
abbrev rmX1_peopleFor : Room := ({ frames := 2, cells := 11, slots := 55, locals := 45 })
abbrev kX1_peopleFor : QK := (RX1, cX1_peopleFor, 5, (some .int), [], false, rmX1_peopleFor)
noncomputable def f_X1_peopleFor_47 (M : QM) (kL7 : QR → Int32 → Int32 → Int32 → Int32 → Option (Int32)) (r0 : QR) (x1 : Int32) (x3 : Int32) (x4 : Int32) (s0 : Int32) (s1 : Int32) : Option (Int32) :=
  (gR M r0 [(1, 0)]).bind fun v51 => 
    (aR M v51 x4).bind fun v56 => 
    (gI M v56 [(2, 3)]).bind fun v57 => 
    kL7 r0 x1 (s0 + s1) (if x3 < v57 then v57 else x3) (x4 + (1 : Int32))
theorem s_X1_peopleFor_47 {l : Launch} (M : QM) (c s : Nat) (kL7 : QR → Int32 → Int32 → Int32 → Int32 → Option (Int32)) (hkL7 : ∀ (r0 : QR) (x1 : Int32) (x2 : Int32) (x3 : Int32) (x4 : Int32) , SB (eP M) l kX1_peopleFor M (kL7 r0 x1 x2 x3 x4) (c + 1, s + 5) 7 M [some (.inr r0), some (.inl x1), some (.inl x2), some (.inl x3), some (.inl x4)] []) (hc1 : c + 1 ≤ 11) (hs1 : s + 5 ≤ 55) : ∀ (r0 : QR) (x1 : Int32) (x3 : Int32) (x4 : Int32) (s0 : Int32) (s1 : Int32) (d2 : Option QV) , SB (eP M) l kX1_peopleFor M (f_X1_peopleFor_47 M kL7 r0 x1 x3 x4 s0 s1) (c + 0, s + 0) 47 M [some (.inr r0), some (.inl x1), d2, some (.inl x3), some (.inl x4)] [.inl s1, .inl s0] := by
  intro r0 x1 x3 x4 s0 s1 d2
  unfold f_X1_peopleFor_47
  refine r_iadd (pc := 47) dX1_peopleFor_47 ?_
  refine r_istore_n (pc := 48) dX1_peopleFor_48 (by decide) rfl ?_
  refine r_iload_n (pc := 49) dX1_peopleFor_49 rfl ?_
  refine r_aload_n (pc := 50) dX1_peopleFor_50 rfl ?_
  refine r_getR (pc := 51)  gf_X1_11 dX1_peopleFor_51 (fun v51 => ?_)
  refine r_iload (pc := 54) dX1_peopleFor_54 rfl ?_
  refine r_aald (pc := 56) dX1_peopleFor_56 (fun v56 => ?_)
  refine r_getI (pc := 57)  gf_X1_103 dX1_peopleFor_57 (fun v57 => ?_)
  refine r_mmax (pc := 60)  ⟨q620, q448, q64, q449⟩ ⟨⟨Nat.le_of_ble_eq_true rfl, Nat.le_of_ble_eq_true rfl⟩, ⟨(show c + 0 ≤ 11 by omega), (show s + 0 ≤ 55 by omega)⟩⟩ dX1_peopleFor_60 ?_
  refine r_istore_n (pc := 63) dX1_peopleFor_63 (by decide) rfl ?_
  refine r_iinc (v := (x4 + (1 : Int32))) (pc := 64) dX1_peopleFor_64 rfl rfl (by decide) rfl ?_
  refine r_goto (tgt := 7) (pc := 67) dX1_peopleFor_67 (by decide) ?_
  refine r_widen (u' := (c + 1, s + 5)) ⟨(show c + 0 ≤ c + 1 by omega), (show s + 0 ≤ s + 5 by omega)⟩ ?_
  exact hkL7 _ _ _ _ _
noncomputable def f_X1_peopleFor_7 (M : QM) : Nat → QR → Int32 → Int32 → Int32 → Int32 → Option (Int32)
  | 0, _, _, _, _, _ => none
  | n + 1, r0, x1, x2, x3, x4 =>
    if (10 : Int32) ≤ x4 then (if x2 = 0 then (some (0 : Int32))
      else (f_X0_seatsOf x1 M).bind fun v80 => 
      (qrc M r0 [1] (f_X1_reelsIn r0 x1 M)).bind fun v87 => 
      qnz v87 (
      some (if (0 : Int32) < (((v80 * x2) / v87) - (x3 / (10 : Int32))) then (((v80 * x2) / v87) - (x3 / (10 : Int32))) else (0 : Int32))))
    else (qrc M r0 [1] (f_X1_isIn r0 x4 x1 M)).bind fun v18 => 
    if v18 = 0 then (f_X1_peopleFor_7 M n r0 x1 x2 x3 (x4 + (1 : Int32)))
    else (gR M r0 [(1, 0)]).bind fun v29 => 
    (aR M v29 x4).bind fun v34 => 
    (qrc M v34 [2] (f_X3_isFresh v34 x1 M)).bind fun v36 => 
    f_X1_peopleFor_47 M (f_X1_peopleFor_7 M n) r0 x1 x3 x4 x2 (if v36 = 0 then (0 : Int32) else (1 : Int32))
theorem s_X1_peopleFor_7 {l : Launch} (M : QM) : ∀ (n c s : Nat), c + 1 * n ≤ 11 → s + 5 * n ≤ 55 → ∀ (r0 : QR) (x1 : Int32) (x2 : Int32) (x3 : Int32) (x4 : Int32) , SB (eP M) l kX1_peopleFor M (f_X1_peopleFor_7 M n r0 x1 x2 x3 x4) (c, s) 7 M [some (.inr r0), some (.inl x1), some (.inl x2), some (.inl x3), some (.inl x4)] [] := by
  intro n
  induction n with
  | zero => intros; rw [f_X1_peopleFor_7]; exact r_none
  | succ n ih =>
    intro c s hc hs r0 x1 x2 x3 x4
    have hc1 : c + 1 ≤ 11 := by omega
    have hs1 : s + 5 ≤ 55 := by omega
    rw [f_X1_peopleFor_7]
    refine r_widen (u' := (c + 0, s + 0)) ⟨(show c ≤ c + 0 by omega), (show s ≤ s + 0 by omega)⟩ ?_
    refine r_iload (pc := 7) dX1_peopleFor_7 rfl ?_
    refine r_bipush (v := (10 : Int32)) (pc := 9) dX1_peopleFor_9 (by decide) ?_
    refine r_icmp_ge (pc := 11) (tgt := 70) dX1_peopleFor_11 (by decide) ?_ ?_
    · refine r_iload_n (pc := 70) dX1_peopleFor_70 rfl ?_
      refine r_if_ne (pc := 71) (tgt := 78) dX1_peopleFor_71 (by decide) ?_ ?_
      · refine r_iconst (v := (0 : Int32)) (pc := 78) dX1_peopleFor_78 (by decide) ?_
        refine r_iload_n (pc := 79) dX1_peopleFor_79 rfl ?_
        refine r_callSN_P (st := [.inl (0 : Int32)]) (vs := [.inl x1]) (pc := 80)  ct_X0_seatsOf cf_X1_112 rfl rfl (Nat.le_of_ble_eq_true rfl) ⟨by decide +kernel, (show c + 0 + 1 ≤ 11 by omega), (show s + 0 + 5 ≤ 55 by omega)⟩ dX1_peopleFor_80 (fun v80 => ?_)
        refine r_widen (u' := (c + 1, s + 5)) ⟨(show c + 0 + 1 ≤ c + 1 by omega), (show s + 0 + 5 ≤ s + 5 by omega)⟩ ?_
        refine r_iload_n (pc := 83) dX1_peopleFor_83 rfl ?_
        refine r_imul (pc := 84) dX1_peopleFor_84 ?_
        refine r_aload_n (pc := 85) dX1_peopleFor_85 rfl ?_
        refine r_iload_n (pc := 86) dX1_peopleFor_86 rfl ?_
        refine r_callV_P (st := [.inl (v80 * x2), .inl (0 : Int32)]) (vs := [.inl x1]) (pc := 87)  ct_X1_reelsIn hc_1 cf_X1_116 rfl rfl (Nat.le_of_ble_eq_true rfl) ⟨by decide +kernel, (show c + 1 + 0 ≤ 11 by omega), (show s + 5 + 0 ≤ 55 by omega)⟩ dX1_peopleFor_87 (fun v87 => ?_)
        refine r_widen (u' := (c + 1, s + 5)) ⟨(show c + 1 + 0 ≤ c + 1 by omega), (show s + 5 + 0 ≤ s + 5 by omega)⟩ ?_
        refine r_idivG (pc := 90) dX1_peopleFor_90 ?_
        refine r_iload_n (pc := 91) dX1_peopleFor_91 rfl ?_
        refine r_bipush (v := (10 : Int32)) (pc := 92) dX1_peopleFor_92 (by decide) ?_
        refine r_idiv (pc := 94) dX1_peopleFor_94 (by decide) ?_
        refine r_isub (pc := 95) dX1_peopleFor_95 ?_
        refine r_mmax (pc := 96)  ⟨q620, q448, q64, q449⟩ ⟨⟨Nat.le_of_ble_eq_true rfl, Nat.le_of_ble_eq_true rfl⟩, ⟨(show c + 1 ≤ 11 by omega), (show s + 5 ≤ 55 by omega)⟩⟩ dX1_peopleFor_96 ?_
        exact r_iretP (pc := 99) dX1_peopleFor_99 rfl ⟨(show c + 1 ≤ 11 by omega), (show s + 5 ≤ 55 by omega)⟩
      refine r_iconst (v := (0 : Int32)) (pc := 74) dX1_peopleFor_74 (by decide) ?_
      refine r_goto (tgt := 99) (pc := 75) dX1_peopleFor_75 (by decide) ?_
      exact r_iretP (pc := 99) dX1_peopleFor_99 rfl ⟨(show c + 0 ≤ 11 by omega), (show s + 0 ≤ 55 by omega)⟩
    refine r_aload_n (pc := 14) dX1_peopleFor_14 rfl ?_
    refine r_iload (pc := 15) dX1_peopleFor_15 rfl ?_
    refine r_iload_n (pc := 17) dX1_peopleFor_17 rfl ?_
    refine r_callV_P (st := []) (vs := [.inl x4, .inl x1]) (pc := 18)  ct_X1_isIn hc_1 cf_X1_88 rfl rfl (Nat.le_of_ble_eq_true rfl) ⟨by decide +kernel, (show c + 0 + 0 ≤ 11 by omega), (show s + 0 + 0 ≤ 55 by omega)⟩ dX1_peopleFor_18 (fun v18 => ?_)
    refine r_widen (u' := (c + 0, s + 0)) ⟨(show c + 0 + 0 ≤ c + 0 by omega), (show s + 0 + 0 ≤ s + 0 by omega)⟩ ?_
    refine r_if_ne (pc := 21) (tgt := 27) dX1_peopleFor_21 (by decide) ?_ ?_
    · refine r_iload_n (pc := 27) dX1_peopleFor_27 rfl ?_
      refine r_aload_n (pc := 28) dX1_peopleFor_28 rfl ?_
      refine r_getR (pc := 29)  gf_X1_11 dX1_peopleFor_29 (fun v29 => ?_)
      refine r_iload (pc := 32) dX1_peopleFor_32 rfl ?_
      refine r_aald (pc := 34) dX1_peopleFor_34 (fun v34 => ?_)
      refine r_iload_n (pc := 35) dX1_peopleFor_35 rfl ?_
      refine r_callV_P (st := [.inl x2]) (vs := [.inl x1]) (pc := 36)  ct_X3_isFresh hc_2 cf_X1_99 rfl rfl (Nat.le_of_ble_eq_true rfl) ⟨by decide +kernel, (show c + 0 + 0 ≤ 11 by omega), (show s + 0 + 0 ≤ 55 by omega)⟩ dX1_peopleFor_36 (fun v36 => ?_)
      refine r_widen (u' := (c + 0, s + 0)) ⟨(show c + 0 + 0 ≤ c + 0 by omega), (show s + 0 + 0 ≤ s + 0 by omega)⟩ ?_
      refine r_if_eqF (F := (fun (z9 : Int32) => f_X1_peopleFor_47 M (f_X1_peopleFor_7 M n) r0 x1 x3 x4 x2 z9)) (zA := (0 : Int32)) (zB := (1 : Int32)) (pc := 39) (tgt := 46) dX1_peopleFor_39 (by decide) ?_ ?_
      · refine r_iconst (v := (0 : Int32)) (pc := 46) dX1_peopleFor_46 (by decide) ?_
        exact s_X1_peopleFor_47 M c s (f_X1_peopleFor_7 M n) (ih (c + 1) (s + 5) (by omega) (by omega)) hc1 hs1 _ _ _ _ _ _ _
      refine r_iconst (v := (1 : Int32)) (pc := 42) dX1_peopleFor_42 (by decide) ?_
      refine r_goto (tgt := 47) (pc := 43) dX1_peopleFor_43 (by decide) ?_
      exact s_X1_peopleFor_47 M c s (f_X1_peopleFor_7 M n) (ih (c + 1) (s + 5) (by omega) (by omega)) hc1 hs1 _ _ _ _ _ _ _
    refine r_goto (tgt := 64) (pc := 24) dX1_peopleFor_24 (by decide) ?_
    refine r_iinc (v := (x4 + (1 : Int32))) (pc := 64) dX1_peopleFor_64 rfl rfl (by decide) rfl ?_
    refine r_goto (tgt := 7) (pc := 67) dX1_peopleFor_67 (by decide) ?_
    refine r_widen (u' := (c + 1, s + 5)) ⟨(show c + 0 ≤ c + 1 by omega), (show s + 0 ≤ s + 5 by omega)⟩ ?_
    exact ih (c + 1) (s + 5) (by omega) (by omega) _ _ _ _ _
noncomputable def f_X1_peopleFor (r0 : QR) (x1 : Int32) (M : QM) : Option (Int32) :=
  f_X1_peopleFor_7 M 11 r0 x1 (0 : Int32) (0 : Int32) (0 : Int32)
theorem s_X1_peopleFor {l : Launch} {r0 : QR} {x1 : Int32} {M : QM} : SB (eP M) l kX1_peopleFor M (f_X1_peopleFor r0 x1 M) (0, 0) 0 M [some (.inr r0), some (.inl x1), none, none, none] [] := by
  unfold f_X1_peopleFor
  refine r_iconst (v := (0 : Int32)) (pc := 0) dX1_peopleFor_0 (by decide) ?_
  refine r_istore_n (pc := 1) dX1_peopleFor_1 (by decide) rfl ?_
  refine r_iconst (v := (0 : Int32)) (pc := 2) dX1_peopleFor_2 (by decide) ?_
  refine r_istore_n (pc := 3) dX1_peopleFor_3 (by decide) rfl ?_
  refine r_iconst (v := (0 : Int32)) (pc := 4) dX1_peopleFor_4 (by decide) ?_
  refine r_istore (pc := 5) dX1_peopleFor_5 (by decide) rfl ?_
  refine r_widen (u' := (0, 0)) (by decide +kernel) ?_
  exact s_X1_peopleFor_7 M 11 0 0 (by decide +kernel) (by decide +kernel) _ _ _ _ _
theorem ct_X1_peopleFor {l : Launch} {r0 : QR} {x1 : Int32} {M : QM} : ∀ b, f_X1_peopleFor r0 x1 M = some b → PM l yX1_peopleFor (ws_ yX1_peopleFor cX1_peopleFor 5 (some .int)) rmX1_peopleFor [.inr r0, .inl x1] M ((eP M) b).1 ((eP M) b).2 := fun b hb =>
  PM.of (own := RX1) rfl (by decide +kernel) (Nat.le_of_ble_eq_true rfl) false (fun h => nomatch h) (s_X1_peopleFor b hb)
/-! X3_wears: BarnPictures$Reel.wears(I)I, kind I -/
abbrev rmX3_wears : Room := ({ frames := 0, cells := 0, slots := 0, locals := 0 })
abbrev kX3_wears : QK := (RX3, cX3_wears, 3, (some .int), [], false, rmX3_wears)
noncomputable def f_X3_wears_17 : Nat → QR → Int32 → QM → Option (Int32 × QM)
  | 0, _, _, _ => none
  | n + 1, r0, x2, M =>
    (gI M r0 [(2, 3)]).bind fun v18 => 
    if v18 < (40 : Int32) then ((gI M r0 [(2, 4)]).bind fun v61 => 
      some ((v61 - x2), M))
    else (gI M r0 [(2, 3)]).bind fun v28 => 
    (pF M r0 [(2, 3)] (.inl (v28 - (20 : Int32)))).bind fun m34 => 
    (gI m34 r0 [(2, 2)]).bind fun v39 => 
    (pF m34 r0 [(2, 2)] (.inl (v39 - (1 : Int32)))).bind fun m44 => 
    (gI m44 r0 [(2, 4)]).bind fun v49 => 
    (pF m44 r0 [(2, 4)] (.inl (v49 + (1 : Int32)))).bind fun m54 => 
    f_X3_wears_17 n r0 x2 m54
theorem s_X3_wears_17 {l : Launch} {M0 : QM} : ∀ (n : Nat) (r0 : QR) (x2 : Int32) (d1 : Option QV) (M : QM) , SB eI l kX3_wears M0 (f_X3_wears_17 n r0 x2 M) (0, 0) 17 M [some (.inr r0), d1, some (.inl x2)] [] := by
  intro n
  induction n with
  | zero => intros; rw [f_X3_wears_17]; exact r_none
  | succ n ih =>
    intro r0 x2 d1 M
    rw [f_X3_wears_17]
    refine r_aload_n (pc := 17) dX3_wears_17 rfl ?_
    refine r_getI (pc := 18)  gf_X3_24 dX3_wears_18 (fun v18 => ?_)
    refine r_bipush (v := (40 : Int32)) (pc := 21) dX3_wears_21 (by decide) ?_
    refine r_icmp_lt (pc := 23) (tgt := 60) dX3_wears_23 (by decide) ?_ ?_
    · refine r_aload_n (pc := 60) dX3_wears_60 rfl ?_
      refine r_getI (pc := 61)  gf_X3_27 dX3_wears_61 (fun v61 => ?_)
      refine r_iload_n (pc := 64) dX3_wears_64 rfl ?_
      refine r_isub (pc := 65) dX3_wears_65 ?_
      exact r_iretI (pc := 66) dX3_wears_66 rfl (by decide +kernel)
    refine r_aload_n (pc := 26) dX3_wears_26 rfl ?_
    refine r_dup (pc := 27) dX3_wears_27 ?_
    refine r_getI (pc := 28)  gf_X3_24 dX3_wears_28 (fun v28 => ?_)
    refine r_bipush (v := (20 : Int32)) (pc := 31) dX3_wears_31 (by decide) ?_
    refine r_isub (pc := 33) dX3_wears_33 ?_
    refine r_put (pc := 34)  pf_X3_24 (fun h => nomatch h) (fit_int _) dX3_wears_34 (fun m34 => ?_)
    refine r_aload_n (pc := 37) dX3_wears_37 rfl ?_
    refine r_dup (pc := 38) dX3_wears_38 ?_
    refine r_getI (pc := 39)  gf_X3_15 dX3_wears_39 (fun v39 => ?_)
    refine r_iconst (v := (1 : Int32)) (pc := 42) dX3_wears_42 (by decide) ?_
    refine r_isub (pc := 43) dX3_wears_43 ?_
    refine r_put (pc := 44)  pf_X3_15 (fun h => nomatch h) (fit_int _) dX3_wears_44 (fun m44 => ?_)
    refine r_aload_n (pc := 47) dX3_wears_47 rfl ?_
    refine r_dup (pc := 48) dX3_wears_48 ?_
    refine r_getI (pc := 49)  gf_X3_27 dX3_wears_49 (fun v49 => ?_)
    refine r_iconst (v := (1 : Int32)) (pc := 52) dX3_wears_52 (by decide) ?_
    refine r_iadd (pc := 53) dX3_wears_53 ?_
    refine r_put (pc := 54)  pf_X3_27 (fun h => nomatch h) (fit_int _) dX3_wears_54 (fun m54 => ?_)
    refine r_goto (tgt := 17) (pc := 57) dX3_wears_57 (by decide) ?_
    exact ih _ _ _ _
noncomputable def f_X3_wears (r0 : QR) (x1 : Int32) (M : QM) : Option (Int32 × QM) :=
  (gI M r0 [(2, 4)]).bind fun v1 => 
    (gI M r0 [(2, 3)]).bind fun v7 => 
    (pF M r0 [(2, 3)] (.inl (v7 + ((5 : Int32) + x1)))).bind fun m14 => 
    f_X3_wears_17 6 r0 v1 m14
theorem s_X3_wears {l : Launch} {M0 : QM} {r0 : QR} {x1 : Int32} {M : QM} : SB eI l kX3_wears M0 (f_X3_wears r0 x1 M) (0, 0) 0 M [some (.inr r0), some (.inl x1), none] [] := by
  unfold f_X3_wears
  refine r_aload_n (pc := 0) dX3_wears_0 rfl ?_
  refine r_getI (pc := 1)  gf_X3_27 dX3_wears_1 (fun v1 => ?_)
  refine r_istore_n (pc := 4) dX3_wears_4 (by decide) rfl ?_
  refine r_aload_n (pc := 5) dX3_wears_5 rfl ?_
  refine r_dup (pc := 6) dX3_wears_6 ?_
  refine r_getI (pc := 7)  gf_X3_24 dX3_wears_7 (fun v7 => ?_)
  refine r_iconst (v := (5 : Int32)) (pc := 10) dX3_wears_10 (by decide) ?_
  refine r_iload_n (pc := 11) dX3_wears_11 rfl ?_
  refine r_iadd (pc := 12) dX3_wears_12 ?_
  refine r_iadd (pc := 13) dX3_wears_13 ?_
  refine r_put (pc := 14)  pf_X3_24 (fun h => nomatch h) (fit_int _) dX3_wears_14 (fun m14 => ?_)
  exact s_X3_wears_17  6 _ _ _ _
theorem ct_X3_wears {l : Launch} {r0 : QR} {x1 : Int32} {M : QM} : ∀ b, f_X3_wears r0 x1 M = some b → PM l yX3_wears (ws_ yX3_wears cX3_wears 3 (some .int)) rmX3_wears [.inr r0, .inl x1] M (eI b).1 (eI b).2 := fun b hb =>
  PM.of (own := RX3) rfl (by decide +kernel) (Nat.le_of_ble_eq_true rfl) false (fun h => nomatch h) (s_X3_wears b hb)
/-! X3_isGone: BarnPictures$Reel.isGone()Z, kind P -/
abbrev rmX3_isGone : Room := ({ frames := 0, cells := 0, slots := 0, locals := 0 })
abbrev kX3_isGone : QK := (RX3, cX3_isGone, 1, (some .boolean), [], false, rmX3_isGone)
noncomputable def f_X3_isGone (r0 : QR) (M : QM) : Option (Int32) :=
  (gI M r0 [(2, 2)]).bind fun v1 => 
    if (3 : Int32) ≤ v1 then (some (0 : Int32))
    else some (1 : Int32)
theorem s_X3_isGone {l : Launch} {r0 : QR} {M : QM} : SB (eP M) l kX3_isGone M (f_X3_isGone r0 M) (0, 0) 0 M [some (.inr r0)] [] := by
  unfold f_X3_isGone
  refine r_aload_n (pc := 0) dX3_isGone_0 rfl ?_
  refine r_getI (pc := 1)  gf_X3_15 dX3_isGone_1 (fun v1 => ?_)
  refine r_iconst (v := (3 : Int32)) (pc := 4) dX3_isGone_4 (by decide) ?_
  refine r_icmp_ge (pc := 5) (tgt := 12) dX3_isGone_5 (by decide) ?_ ?_
  · refine r_iconst (v := (0 : Int32)) (pc := 12) dX3_isGone_12 (by decide) ?_
    exact r_zretP (pc := 13) dX3_isGone_13 rfl rfl (by decide +kernel)
  refine r_iconst (v := (1 : Int32)) (pc := 8) dX3_isGone_8 (by decide) ?_
  refine r_goto (tgt := 13) (pc := 9) dX3_isGone_9 (by decide) ?_
  exact r_zretP (pc := 13) dX3_isGone_13 rfl rfl (by decide +kernel)
theorem ct_X3_isGone {l : Launch} {r0 : QR} {M : QM} : ∀ b, f_X3_isGone r0 M = some b → PM l yX3_isGone (ws_ yX3_isGone cX3_isGone 1 (some .boolean)) rmX3_isGone [.inr r0] M ((eP M) b).1 ((eP M) b).2 := fun b hb =>
  PM.of (own := RX3) rfl (by decide +kernel) (Nat.le_of_ble_eq_true rfl) false (fun h => nomatch h) (s_X3_isGone b hb)
/-! X1_play: BarnPictures$Tour.play(II)V, kind V -/
abbrev rmX1_play : Room := ({ frames := 1, cells := 0, slots := 0, locals := 22 })
abbrev kX1_play : QK := (RX1, cX1_play, 3, none, [], false, rmX1_play)
noncomputable def f_X1_play (r0 : QR) (x1 : Int32) (x2 : Int32) (M : QM) : Option (QM) :=
  (gR M r0 [(1, 0)]).bind fun v1 => 
    (aR M v1 x1).bind fun v5 => 
    (gI M v5 [(2, 5)]).bind fun v7 => 
    (pF M v5 [(2, 5)] (.inl (v7 ||| ((1 : Int32) <<< (x2 &&& 31))))).bind fun m14 => 
    (gI m14 r0 [(1, 13)]).bind fun v19 => 
    (gR m14 r0 [(1, 0)]).bind fun v23 => 
    (aR m14 v23 x1).bind fun v27 => 
    qbI (qrc m14 v27 [2] (f_X3_wears v27 (x2 - x2 / (3 : Int32) * (3 : Int32)) m14)) fun v31 m31 => 
    (pF m31 r0 [(1, 13)] (.inl (v19 + v31))).bind fun m35 => 
    (gR m35 r0 [(1, 0)]).bind fun v39 => 
    (aR m35 v39 x1).bind fun v43 => 
    (qrc m35 v43 [2] (f_X3_isGone v43 m35)).bind fun v44 => 
    if v44 = 0 then (some m35)
    else (gR m35 r0 [(1, 0)]).bind fun v51 => 
    (sR m35 v51 x1 none).bind fun m56 => 
    some m56
theorem s_X1_play {l : Launch} {M0 : QM} {r0 : QR} {x1 : Int32} {x2 : Int32} {M : QM} : SB eV l kX1_play M0 (f_X1_play r0 x1 x2 M) (0, 0) 0 M [some (.inr r0), some (.inl x1), some (.inl x2)] [] := by
  unfold f_X1_play
  refine r_aload_n (pc := 0) dX1_play_0 rfl ?_
  refine r_getR (pc := 1)  gf_X1_11 dX1_play_1 (fun v1 => ?_)
  refine r_iload_n (pc := 4) dX1_play_4 rfl ?_
  refine r_aald (pc := 5) dX1_play_5 (fun v5 => ?_)
  refine r_dup (pc := 6) dX1_play_6 ?_
  refine r_getI (pc := 7)  gf_X1_172 dX1_play_7 (fun v7 => ?_)
  refine r_iconst (v := (1 : Int32)) (pc := 10) dX1_play_10 (by decide) ?_
  refine r_iload_n (pc := 11) dX1_play_11 rfl ?_
  refine r_ishl (pc := 12) dX1_play_12 ?_
  refine r_ior (pc := 13) dX1_play_13 ?_
  refine r_put (pc := 14)  pf_X1_172 (fun h => nomatch h) (fit_int _) dX1_play_14 (fun m14 => ?_)
  refine r_aload_n (pc := 17) dX1_play_17 rfl ?_
  refine r_dup (pc := 18) dX1_play_18 ?_
  refine r_getI (pc := 19)  gf_X1_76 dX1_play_19 (fun v19 => ?_)
  refine r_aload_n (pc := 22) dX1_play_22 rfl ?_
  refine r_getR (pc := 23)  gf_X1_11 dX1_play_23 (fun v23 => ?_)
  refine r_iload_n (pc := 26) dX1_play_26 rfl ?_
  refine r_aald (pc := 27) dX1_play_27 (fun v27 => ?_)
  refine r_iload_n (pc := 28) dX1_play_28 rfl ?_
  refine r_iconst (v := (3 : Int32)) (pc := 29) dX1_play_29 (by decide) ?_
  refine r_irem (pc := 30) dX1_play_30 (by decide) ?_
  refine r_callV_I (st := [.inl v19, .inr r0]) (vs := [.inl (x2 - x2 / (3 : Int32) * (3 : Int32))]) (pc := 31)  ct_X3_wears hc_2 cf_X1_175 rfl rfl (Nat.le_of_ble_eq_true rfl) (by decide +kernel) dX1_play_31 (fun v31 m31 => ?_)
  refine r_widen (u' := (0, 0)) (by decide +kernel) ?_
  refine r_iadd (pc := 34) dX1_play_34 ?_
  refine r_put (pc := 35)  pf_X1_76 (fun h => nomatch h) (fit_int _) dX1_play_35 (fun m35 => ?_)
  refine r_aload_n (pc := 38) dX1_play_38 rfl ?_
  refine r_getR (pc := 39)  gf_X1_11 dX1_play_39 (fun v39 => ?_)
  refine r_iload_n (pc := 42) dX1_play_42 rfl ?_
  refine r_aald (pc := 43) dX1_play_43 (fun v43 => ?_)
  refine r_callV_P (st := []) (vs := []) (pc := 44)  ct_X3_isGone hc_2 cf_X1_178 rfl rfl (Nat.le_of_ble_eq_true rfl) (by decide +kernel) dX1_play_44 (fun v44 => ?_)
  refine r_widen (u' := (0, 0)) (by decide +kernel) ?_
  refine r_if_eq (pc := 47) (tgt := 57) dX1_play_47 (by decide) ?_ ?_
  · exact r_vretV (pc := 57) dX1_play_57 rfl (by decide +kernel)
  refine r_aload_n (pc := 50) dX1_play_50 rfl ?_
  refine r_getR (pc := 51)  gf_X1_11 dX1_play_51 (fun v51 => ?_)
  refine r_iload_n (pc := 54) dX1_play_54 rfl ?_
  refine r_null (pc := 55) dX1_play_55 ?_
  refine r_aast (pc := 56) dX1_play_56 (fun m56 => ?_)
  exact r_vretV (pc := 57) dX1_play_57 rfl (by decide +kernel)
theorem ct_X1_play {l : Launch} {r0 : QR} {x1 : Int32} {x2 : Int32} {M : QM} : ∀ b, f_X1_play r0 x1 x2 M = some b → PM l yX1_play (ws_ yX1_play cX1_play 3 none) rmX1_play [.inr r0, .inl x1, .inl x2] M (eV b).1 (eV b).2 := fun b hb =>
  PM.of (own := RX1) rfl (by decide +kernel) (Nat.le_of_ble_eq_true rfl) false (fun h => nomatch h) (s_X1_play b hb)
/-! X1_show: BarnPictures$Tour.show(I)I, kind XI -/
abbrev rmX1_show : Room := ({ frames := 8, cells := 12, slots := 62, locals := 130 })
abbrev kX1_show : QK := (RX1, cX1_show, 6, (some .int), [], false, rmX1_show)
noncomputable def f_X1_show_131 : Nat → QR → Int32 → Int32 → Int32 → QM → Option ((Int32 ⊕ QN) × QM)
  | 0, _, _, _, _, _ => none
  | n + 1, r0, x1, x4, x5, M =>
    if (10 : Int32) ≤ x5 then ((gR M r0 [(1, 2)]).bind fun v162 => 
      (gI M r0 [(1, 7)]).bind fun v167 => 
      (sI M v162 x1 v167).bind fun m170 => 
      (gR m170 r0 [(1, 3)]).bind fun v172 => 
      (aI m170 v172 x1).bind fun v177 => 
      (sI m170 v172 x1 (v177 + (1 : Int32))).bind fun m180 => 
      (gR m180 r0 [(1, 4)]).bind fun v182 => 
      (aI m180 v182 x1).bind fun v187 => 
      (gI m180 r0 [(1, 8)]).bind fun v191 => 
      (sI m180 v182 x1 (v187 + (x4 * v191))).bind fun m196 => 
      (gI m196 r0 [(1, 12)]).bind fun v199 => 
      (pF m196 r0 [(1, 12)] (.inl (v199 + x4))).bind fun m205 => 
      (gI m205 r0 [(1, 8)]).bind fun v211 => 
      some (.inl (x4 * v211), m205))
    else (qrc M r0 [1] (f_X1_isIn r0 x5 x1 M)).bind fun v142 => 
    if v142 = 0 then (f_X1_show_131 n r0 x1 x4 (x5 + (1 : Int32)) M)
    else (qrc M r0 [1] (f_X1_play r0 x5 x1 M)).bind fun m152 => 
    f_X1_show_131 n r0 x1 x4 (x5 + (1 : Int32)) m152
theorem s_X1_show_131 {l : Launch} {M0 : QM} : ∀ (n : Nat) (r0 : QR) (x1 : Int32) (x4 : Int32) (x5 : Int32) (d2 : Option QV) (d3 : Option QV) (M : QM) , SB eXI l kX1_show M0 (f_X1_show_131 n r0 x1 x4 x5 M) (12, 62) 131 M [some (.inr r0), some (.inl x1), d2, d3, some (.inl x4), some (.inl x5)] [] := by
  intro n
  induction n with
  | zero => intros; rw [f_X1_show_131]; exact r_none
  | succ n ih =>
    intro r0 x1 x4 x5 d2 d3 M
    rw [f_X1_show_131]
    refine r_iload (pc := 131) dX1_show_131 rfl ?_
    refine r_bipush (v := (10 : Int32)) (pc := 133) dX1_show_133 (by decide) ?_
    refine r_icmp_ge (pc := 135) (tgt := 161) dX1_show_135 (by decide) ?_ ?_
    · refine r_aload_n (pc := 161) dX1_show_161 rfl ?_
      refine r_getR (pc := 162)  gf_X1_23 dX1_show_162 (fun v162 => ?_)
      refine r_iload_n (pc := 165) dX1_show_165 rfl ?_
      refine r_aload_n (pc := 166) dX1_show_166 rfl ?_
      refine r_getI (pc := 167)  gf_X1_61 dX1_show_167 (fun v167 => ?_)
      refine r_iast (pc := 170) dX1_show_170 (fun m170 => ?_)
      refine r_aload_n (pc := 171) dX1_show_171 rfl ?_
      refine r_getR (pc := 172)  gf_X1_27 dX1_show_172 (fun v172 => ?_)
      refine r_iload_n (pc := 175) dX1_show_175 rfl ?_
      refine r_dup2 (pc := 176) dX1_show_176 ?_
      refine r_iald (pc := 177) dX1_show_177 (fun v177 => ?_)
      refine r_iconst (v := (1 : Int32)) (pc := 178) dX1_show_178 (by decide) ?_
      refine r_iadd (pc := 179) dX1_show_179 ?_
      refine r_iast (pc := 180) dX1_show_180 (fun m180 => ?_)
      refine r_aload_n (pc := 181) dX1_show_181 rfl ?_
      refine r_getR (pc := 182)  gf_X1_30 dX1_show_182 (fun v182 => ?_)
      refine r_iload_n (pc := 185) dX1_show_185 rfl ?_
      refine r_dup2 (pc := 186) dX1_show_186 ?_
      refine r_iald (pc := 187) dX1_show_187 (fun v187 => ?_)
      refine r_iload (pc := 188) dX1_show_188 rfl ?_
      refine r_aload_n (pc := 190) dX1_show_190 rfl ?_
      refine r_getI (pc := 191)  gf_X1_36 dX1_show_191 (fun v191 => ?_)
      refine r_imul (pc := 194) dX1_show_194 ?_
      refine r_iadd (pc := 195) dX1_show_195 ?_
      refine r_iast (pc := 196) dX1_show_196 (fun m196 => ?_)
      refine r_aload_n (pc := 197) dX1_show_197 rfl ?_
      refine r_dup (pc := 198) dX1_show_198 ?_
      refine r_getI (pc := 199)  gf_X1_73 dX1_show_199 (fun v199 => ?_)
      refine r_iload (pc := 202) dX1_show_202 rfl ?_
      refine r_iadd (pc := 204) dX1_show_204 ?_
      refine r_put (pc := 205)  pf_X1_73 (fun h => nomatch h) (fit_int _) dX1_show_205 (fun m205 => ?_)
      refine r_iload (pc := 208) dX1_show_208 rfl ?_
      refine r_aload_n (pc := 210) dX1_show_210 rfl ?_
      refine r_getI (pc := 211)  gf_X1_36 dX1_show_211 (fun v211 => ?_)
      refine r_imul (pc := 214) dX1_show_214 ?_
      exact r_iretX (pc := 215) dX1_show_215 rfl (by decide +kernel)
    refine r_aload_n (pc := 138) dX1_show_138 rfl ?_
    refine r_iload (pc := 139) dX1_show_139 rfl ?_
    refine r_iload_n (pc := 141) dX1_show_141 rfl ?_
    refine r_callV_P (st := []) (vs := [.inl x5, .inl x1]) (pc := 142)  ct_X1_isIn hc_1 cf_X1_88 rfl rfl (Nat.le_of_ble_eq_true rfl) (by decide +kernel) dX1_show_142 (fun v142 => ?_)
    refine r_widen (u' := (12, 62)) (by decide +kernel) ?_
    refine r_if_eq (pc := 145) (tgt := 155) dX1_show_145 (by decide) ?_ ?_
    · refine r_iinc (v := (x5 + (1 : Int32))) (pc := 155) dX1_show_155 rfl rfl (by decide) rfl ?_
      refine r_goto (tgt := 131) (pc := 158) dX1_show_158 (by decide) ?_
      exact ih _ _ _ _ _ _ _
    refine r_aload_n (pc := 148) dX1_show_148 rfl ?_
    refine r_iload (pc := 149) dX1_show_149 rfl ?_
    refine r_iload_n (pc := 151) dX1_show_151 rfl ?_
    refine r_callV_V (st := []) (vs := [.inl x5, .inl x1]) (pc := 152)  ct_X1_play hc_1 cf_X1_168 rfl rfl (Nat.le_of_ble_eq_true rfl) (by decide +kernel) dX1_show_152 (fun m152 => ?_)
    refine r_widen (u' := (12, 62)) (by decide +kernel) ?_
    refine r_iinc (v := (x5 + (1 : Int32))) (pc := 155) dX1_show_155 rfl rfl (by decide) rfl ?_
    refine r_goto (tgt := 131) (pc := 158) dX1_show_158 (by decide) ?_
    exact ih _ _ _ _ _ _ _
noncomputable def f_X1_show (r0 : QR) (x1 : Int32) (M : QM) : Option ((Int32 ⊕ QN) × QM) :=
  (f_X0_inRange x1 (0 : Int32) (4 : Int32) M).bind fun v3 => 
    qbXV (f_X0_check v3 (-10000001 : Int32) M) (fun q8 m8 => some (.inr q8, m8)) fun m8 => 
    (qrc m8 r0 [1] (f_X1_reason r0 x1 m8)).bind fun v13 => 
    if v13 ≤ 0 then ((qrc m8 r0 [1] (f_X1_minutesIn r0 x1 m8)).bind fun v32 => 
      (qrc m8 r0 [1] (f_X1_peopleFor r0 x1 m8)).bind fun v38 => 
      (gR m8 r0 [(1, 1)]).bind fun v44 => 
      (qrc m8 r0 [1] (f_X1_generatorFor r0 x1 v32 m8)).bind fun v50 => 
      (aR m8 v44 v50).bind fun v53 => 
      (gI m8 v53 [(3, 1)]).bind fun v55 => 
      (pF m8 v53 [(3, 1)] (.inl (v55 - v32))).bind fun m60 => 
      (gR m60 r0 [(1, 5)]).bind fun v64 => 
      (gR m60 r0 [(1, 5)]).bind fun v69 => 
      (gR m60 r0 [(1, 5)]).bind fun v74 => 
      (aL m60 v74).bind fun v77 => 
      (cpI m60 v64 (0 : Int32) v69 (5 : Int32) (v77 - (5 : Int32))).bind fun m80 => 
      (gR m80 r0 [(1, 5)]).bind fun v84 => 
      (gI m80 r0 [(1, 7)]).bind fun v89 => 
      (sI m80 v84 (0 : Int32) v89).bind fun m92 => 
      (gR m92 r0 [(1, 5)]).bind fun v94 => 
      (sI m92 v94 (1 : Int32) x1).bind fun m99 => 
      (gR m99 r0 [(1, 5)]).bind fun v101 => 
      (sI m99 v101 (2 : Int32) v38).bind fun m107 => 
      (gR m107 r0 [(1, 5)]).bind fun v109 => 
      (gI m107 r0 [(1, 8)]).bind fun v116 => 
      (sI m107 v109 (3 : Int32) (v38 * v116)).bind fun m120 => 
      (gR m120 r0 [(1, 5)]).bind fun v122 => 
      (sI m120 v122 (4 : Int32) v32).bind fun m127 => 
      f_X1_show_131 11 r0 x1 v38 (0 : Int32) m127)
    else (nO m8 (m8.1, 0) (.inr (.inr (.inr (some (11, fs_11)))))).bind fun m21 => 
    (qnn (some (m8.1, 0)) (f_X8_init (some (m8.1, 0)) v13 m21)).bind fun m26 => 
    qthr m26 (some (m8.1, 0)) fun q29 => some (.inr q29, m26)
theorem s_X1_show {l : Launch} {M0 : QM} {r0 : QR} {x1 : Int32} {M : QM} : SB eXI l kX1_show M0 (f_X1_show r0 x1 M) (0, 0) 0 M [some (.inr r0), some (.inl x1), none, none, none, none] [] := by
  unfold f_X1_show
  refine r_iload_n (pc := 0) dX1_show_0 rfl ?_
  refine r_iconst (v := (0 : Int32)) (pc := 1) dX1_show_1 (by decide) ?_
  refine r_iconst (v := (4 : Int32)) (pc := 2) dX1_show_2 (by decide) ?_
  refine r_callSN_P (st := []) (vs := [.inl x1, .inl (0 : Int32), .inl (4 : Int32)]) (pc := 3)  ct_X0_inRange cf_X1_79 rfl rfl (Nat.le_of_ble_eq_true rfl) (by decide +kernel) dX1_show_3 (fun v3 => ?_)
  refine r_widen (u' := (0, 0)) (by decide +kernel) ?_
  refine r_ldc (pc := 6) dX1_show_6 q309 ?_
  refine r_callSN_XV (st := []) (vs := [.inl v3, .inl (-10000001 : Int32)]) (pc := 8)  ct_X0_check cf_X1_127 rfl rfl (Nat.le_of_ble_eq_true rfl) (by decide +kernel) dX1_show_8 (fun q8 m8 => ?_) (fun m8 => ?_)
  · refine x_widen (u' := (1, 7)) (by decide +kernel) ?_
    exact x_outI (by decide) (by decide +kernel)
  refine r_widen (u' := (1, 7)) (by decide +kernel) ?_
  refine r_aload_n (pc := 11) dX1_show_11 rfl ?_
  refine r_iload_n (pc := 12) dX1_show_12 rfl ?_
  refine r_callV_P (st := []) (vs := [.inl x1]) (pc := 13)  ct_X1_reason hc_1 cf_X1_159 rfl rfl (Nat.le_of_ble_eq_true rfl) (by decide +kernel) dX1_show_13 (fun v13 => ?_)
  refine r_widen (u' := (1, 7)) (by decide +kernel) ?_
  refine r_istore_n (pc := 16) dX1_show_16 (by decide) rfl ?_
  refine r_iload_n (pc := 17) dX1_show_17 rfl ?_
  refine r_if_le (pc := 18) (tgt := 30) dX1_show_18 (by decide) ?_ ?_
  · refine r_aload_n (pc := 30) dX1_show_30 rfl ?_
    refine r_iload_n (pc := 31) dX1_show_31 rfl ?_
    refine r_callV_P (st := []) (vs := [.inl x1]) (pc := 32)  ct_X1_minutesIn hc_1 cf_X1_123 rfl rfl (Nat.le_of_ble_eq_true rfl) (by decide +kernel) dX1_show_32 (fun v32 => ?_)
    refine r_widen (u' := (1, 7)) (by decide +kernel) ?_
    refine r_istore_n (pc := 35) dX1_show_35 (by decide) rfl ?_
    refine r_aload_n (pc := 36) dX1_show_36 rfl ?_
    refine r_iload_n (pc := 37) dX1_show_37 rfl ?_
    refine r_callV_P (st := []) (vs := [.inl x1]) (pc := 38)  ct_X1_peopleFor hc_1 cf_X1_165 rfl rfl (Nat.le_of_ble_eq_true rfl) (by decide +kernel) dX1_show_38 (fun v38 => ?_)
    refine r_widen (u' := (12, 62)) (by decide +kernel) ?_
    refine r_istore (pc := 41) dX1_show_41 (by decide) rfl ?_
    refine r_aload_n (pc := 43) dX1_show_43 rfl ?_
    refine r_getR (pc := 44)  gf_X1_19 dX1_show_44 (fun v44 => ?_)
    refine r_aload_n (pc := 47) dX1_show_47 rfl ?_
    refine r_iload_n (pc := 48) dX1_show_48 rfl ?_
    refine r_iload_n (pc := 49) dX1_show_49 rfl ?_
    refine r_callV_P (st := [.inr v44]) (vs := [.inl x1, .inl v32]) (pc := 50)  ct_X1_generatorFor hc_1 cf_X1_120 rfl rfl (Nat.le_of_ble_eq_true rfl) (by decide +kernel) dX1_show_50 (fun v50 => ?_)
    refine r_widen (u' := (12, 62)) (by decide +kernel) ?_
    refine r_aald (pc := 53) dX1_show_53 (fun v53 => ?_)
    refine r_dup (pc := 54) dX1_show_54 ?_
    refine r_getI (pc := 55)  gf_X1_119 dX1_show_55 (fun v55 => ?_)
    refine r_iload_n (pc := 58) dX1_show_58 rfl ?_
    refine r_isub (pc := 59) dX1_show_59 ?_
    refine r_put (pc := 60)  pf_X1_119 (fun h => nomatch h) (fit_int _) dX1_show_60 (fun m60 => ?_)
    refine r_aload_n (pc := 63) dX1_show_63 rfl ?_
    refine r_getR (pc := 64)  gf_X1_33 dX1_show_64 (fun v64 => ?_)
    refine r_iconst (v := (0 : Int32)) (pc := 67) dX1_show_67 (by decide) ?_
    refine r_aload_n (pc := 68) dX1_show_68 rfl ?_
    refine r_getR (pc := 69)  gf_X1_33 dX1_show_69 (fun v69 => ?_)
    refine r_iconst (v := (5 : Int32)) (pc := 72) dX1_show_72 (by decide) ?_
    refine r_aload_n (pc := 73) dX1_show_73 rfl ?_
    refine r_getR (pc := 74)  gf_X1_33 dX1_show_74 (fun v74 => ?_)
    refine r_alen (pc := 77) dX1_show_77 (fun v77 => ?_)
    refine r_iconst (v := (5 : Int32)) (pc := 78) dX1_show_78 (by decide) ?_
    refine r_isub (pc := 79) dX1_show_79 ?_
    refine r_cpI (pc := 80)  ⟨⟨q299, q301, q300, q59⟩, Nat.le_of_ble_eq_true rfl, Nat.le_of_ble_eq_true rfl⟩ dX1_show_80 (fun m80 => ?_)
    refine r_aload_n (pc := 83) dX1_show_83 rfl ?_
    refine r_getR (pc := 84)  gf_X1_33 dX1_show_84 (fun v84 => ?_)
    refine r_iconst (v := (0 : Int32)) (pc := 87) dX1_show_87 (by decide) ?_
    refine r_aload_n (pc := 88) dX1_show_88 rfl ?_
    refine r_getI (pc := 89)  gf_X1_61 dX1_show_89 (fun v89 => ?_)
    refine r_iast (pc := 92) dX1_show_92 (fun m92 => ?_)
    refine r_aload_n (pc := 93) dX1_show_93 rfl ?_
    refine r_getR (pc := 94)  gf_X1_33 dX1_show_94 (fun v94 => ?_)
    refine r_iconst (v := (1 : Int32)) (pc := 97) dX1_show_97 (by decide) ?_
    refine r_iload_n (pc := 98) dX1_show_98 rfl ?_
    refine r_iast (pc := 99) dX1_show_99 (fun m99 => ?_)
    refine r_aload_n (pc := 100) dX1_show_100 rfl ?_
    refine r_getR (pc := 101)  gf_X1_33 dX1_show_101 (fun v101 => ?_)
    refine r_iconst (v := (2 : Int32)) (pc := 104) dX1_show_104 (by decide) ?_
    refine r_iload (pc := 105) dX1_show_105 rfl ?_
    refine r_iast (pc := 107) dX1_show_107 (fun m107 => ?_)
    refine r_aload_n (pc := 108) dX1_show_108 rfl ?_
    refine r_getR (pc := 109)  gf_X1_33 dX1_show_109 (fun v109 => ?_)
    refine r_iconst (v := (3 : Int32)) (pc := 112) dX1_show_112 (by decide) ?_
    refine r_iload (pc := 113) dX1_show_113 rfl ?_
    refine r_aload_n (pc := 115) dX1_show_115 rfl ?_
    refine r_getI (pc := 116)  gf_X1_36 dX1_show_116 (fun v116 => ?_)
    refine r_imul (pc := 119) dX1_show_119 ?_
    refine r_iast (pc := 120) dX1_show_120 (fun m120 => ?_)
    refine r_aload_n (pc := 121) dX1_show_121 rfl ?_
    refine r_getR (pc := 122)  gf_X1_33 dX1_show_122 (fun v122 => ?_)
    refine r_iconst (v := (4 : Int32)) (pc := 125) dX1_show_125 (by decide) ?_
    refine r_iload_n (pc := 126) dX1_show_126 rfl ?_
    refine r_iast (pc := 127) dX1_show_127 (fun m127 => ?_)
    refine r_iconst (v := (0 : Int32)) (pc := 128) dX1_show_128 (by decide) ?_
    refine r_istore (pc := 129) dX1_show_129 (by decide) rfl ?_
    exact s_X1_show_131  11 _ _ _ _ _ _ _
  refine r_newF (pc := 21)  nf_X1_162 (by decide +kernel) dX1_show_21 (fun m21 => ?_)
  refine r_widen (u' := (2, 14)) (by decide +kernel) ?_
  refine r_dup (pc := 24) dX1_show_24 ?_
  refine r_iload_n (pc := 25) dX1_show_25 rfl ?_
  refine r_callI_V (st := [.inr (some (m8.1, 0))]) (vs := [.inl v13]) (pc := 26)  ct_X8_init cf_X1_164 rfl rfl (Nat.le_of_ble_eq_true rfl) (by decide +kernel) dX1_show_26 (fun m26 => ?_)
  refine r_widen (u' := (2, 14)) (by decide +kernel) ?_
  refine r_athrow (pc := 29) dX1_show_29 (fun q29 => ?_)
  exact x_outI (by decide) (by decide +kernel)
theorem ct_X1_show {l : Launch} {r0 : QR} {x1 : Int32} {M : QM} : ∀ b, f_X1_show r0 x1 M = some b → PM l yX1_show (ws_ yX1_show cX1_show 6 (some .int)) rmX1_show [.inr r0, .inl x1] M (eXI b).1 (eXI b).2 := fun b hb =>
  PM.of (own := RX1) rfl (by decide +kernel) (Nat.le_of_ble_eq_true rfl) false (fun h => nomatch h) (s_X1_show b hb)
/-! X8_code: BarnPictures$NoShow.code()I, kind P -/
abbrev rmX8_code : Room := ({ frames := 0, cells := 0, slots := 0, locals := 0 })
abbrev kX8_code : QK := (RX8, cX8_code, 1, (some .int), [], false, rmX8_code)
noncomputable def f_X8_code (r0 : QR) (M : QM) : Option (Int32) :=
  (gI M r0 [(15, 0)]).bind fun v3 => 
    some ((-10000010 : Int32) - v3)
theorem s_X8_code {l : Launch} {r0 : QR} {M : QM} : SB (eP M) l kX8_code M (f_X8_code r0 M) (0, 0) 0 M [some (.inr r0)] [] := by
  unfold f_X8_code
  refine r_ldc (pc := 0) dX8_code_0 q642 ?_
  refine r_aload_n (pc := 2) dX8_code_2 rfl ?_
  refine r_getI (pc := 3)  gf_X8_9 dX8_code_3 (fun v3 => ?_)
  refine r_isub (pc := 6) dX8_code_6 ?_
  exact r_iretP (pc := 7) dX8_code_7 rfl (by decide +kernel)
theorem ct_X8_code {l : Launch} {r0 : QR} {M : QM} : ∀ b, f_X8_code r0 M = some b → PM l yX8_code (ws_ yX8_code cX8_code 1 (some .int)) rmX8_code [.inr r0] M ((eP M) b).1 ((eP M) b).2 := fun b hb =>
  PM.of (own := RX8) rfl (by decide +kernel) (Nat.le_of_ble_eq_true rfl) false (fun h => nomatch h) (s_X8_code b hb)
/-! X0_show: BarnPictures.show(I)I, kind I -/
abbrev rmX0_show : Room := ({ frames := 9, cells := 34, slots := 269, locals := 193 })
abbrev kX0_show : QK := (RX0, cX0_show, 4, (some .int), [(12, 22, 23, 8), (12, 22, 23, 94)], false, rmX0_show)
noncomputable def f_X0_show (r0 : QR) (x1 : Int32) (M : QM) : Option (Int32 × QM) :=
  (nO M (M.1, 0) (.inl (1, fs_1))).bind fun m0 => 
    (gR m0 r0 [(0, 0)]).bind fun v5 => 
    (qnn (some (M.1, 0)) (f_X1_init_2 M.1 (some (M.1, 0)) v5 m0)).bind fun m8 => 
    qbXI (qrc m8 (some (M.1, 0)) [1] (f_X1_show (some (M.1, 0)) x1 m8)) (fun q16 m16 => if qcls m16 q16 = some 14 then ((qd2 m16 (some q16) 14 (f_X7_code (some q16) m16) 15 (f_X8_code (some q16) m16)).bind fun v25 => 
        some (v25, m16))
      else if qcls m16 q16 = some 15 then ((qd2 m16 (some q16) 14 (f_X7_code (some q16) m16) 15 (f_X8_code (some q16) m16)).bind fun v25 => 
        some (v25, m16))
      else none) fun v16 m16 => 
    qbI (qrc m16 r0 [0] (f_X0_accept r0 (some (M.1, 0)) v16 m16)) fun v19 m19 => 
    some (v19, m19)
theorem s_X0_show {l : Launch} {M0 : QM} {r0 : QR} {x1 : Int32} {M : QM} : SB eI l kX0_show M0 (f_X0_show r0 x1 M) (0, 0) 0 M [some (.inr r0), some (.inl x1), none, none] [] := by
  unfold f_X0_show
  refine r_new (pc := 0)  nf_X0_19 (by decide +kernel) dX0_show_0 (fun m0 => ?_)
  refine r_widen (u' := (1, 14)) (by decide +kernel) ?_
  refine r_dup (pc := 3) dX0_show_3 ?_
  refine r_aload_n (pc := 4) dX0_show_4 rfl ?_
  refine r_getR (pc := 5)  gf_X0_22 dX0_show_5 (fun v5 => ?_)
  refine r_callI_V (st := [.inr (some (M.1, 0))]) (vs := [.inr v5]) (pc := 8)  ct_X1_init_2 cf_X0_59 rfl rfl (Nat.le_of_ble_eq_true rfl) (by decide +kernel) dX0_show_8 (fun m8 => ?_)
  refine r_widen (u' := (21, 143)) (by decide +kernel) ?_
  refine r_astore_n (pc := 11) dX0_show_11 (by decide) rfl ?_
  refine r_aload_n (pc := 12) dX0_show_12 rfl ?_
  refine r_aload_n (pc := 13) dX0_show_13 rfl ?_
  refine r_aload_n (pc := 14) dX0_show_14 rfl ?_
  refine r_iload_n (pc := 15) dX0_show_15 rfl ?_
  refine r_callV_XI (st := [.inr (some (M.1, 0)), .inr r0]) (vs := [.inl x1]) (pc := 16)  ct_X1_show hc_1 cf_X0_91 rfl rfl (Nat.le_of_ble_eq_true rfl) (by decide +kernel) dX0_show_16 (fun q16 m16 => ?_) (fun v16 m16 => ?_)
  · refine x_widen (u' := (33, 205)) (by decide +kernel) ?_
    refine x_catch (ci := 14) (pc := 16) [] ⟨12, 22, 23, 8⟩ [⟨12, 22, 23, 94⟩] rfl rfl (fun z hz => nomatch hz) (by decide) (by decide) q283 (qnw_in q314 rfl) ?_ ?_
    · refine r_astore_n (pc := 23) dX0_show_23 (by decide) rfl ?_
      refine r_aload_n (pc := 24) dX0_show_24 rfl ?_
      refine r_callU2_P (st := []) (vs := []) (pc := 25)  ct_X7_code ct_X8_code rfl rfl cf_X0_96.1 cf_X0_96.2 rfl rfl (Nat.le_of_ble_eq_true rfl) (by decide +kernel) (by decide +kernel) dX0_show_25 (fun v25 => ?_)
      refine r_widen (u' := (33, 205)) (by decide +kernel) ?_
      exact r_iretI (pc := 28) dX0_show_28 rfl (by decide +kernel)
    refine x_catch (ci := 15) (pc := 16) [⟨12, 22, 23, 8⟩] ⟨12, 22, 23, 94⟩ [] rfl rfl (List.forall_mem_cons.mpr ⟨Or.inr ⟨by decide, _, q283, Or.inl ⟨rfl, rfl⟩⟩, (fun z hz => nomatch hz)⟩) (by decide) (by decide) q573 (qnw_in q596 rfl) ?_ ?_
    · refine r_astore_n (pc := 23) dX0_show_23 (by decide) rfl ?_
      refine r_aload_n (pc := 24) dX0_show_24 rfl ?_
      refine r_callU2_P (st := []) (vs := []) (pc := 25)  ct_X7_code ct_X8_code rfl rfl cf_X0_96.1 cf_X0_96.2 rfl rfl (Nat.le_of_ble_eq_true rfl) (by decide +kernel) (by decide +kernel) dX0_show_25 (fun v25 => ?_)
      refine r_widen (u' := (33, 205)) (by decide +kernel) ?_
      exact r_iretI (pc := 28) dX0_show_28 rfl (by decide +kernel)
    exact x_none
  refine r_widen (u' := (33, 205)) (by decide +kernel) ?_
  refine r_callV_I (st := []) (vs := [.inr (some (M.1, 0)), .inl v16]) (pc := 19)  ct_X0_accept hc_0 cf_X0_66 rfl rfl (Nat.le_of_ble_eq_true rfl) (by decide +kernel) dX0_show_19 (fun v19 m19 => ?_)
  refine r_widen (u' := (34, 269)) (by decide +kernel) ?_
  exact r_iretI (pc := 22) dX0_show_22 rfl (by decide +kernel)
theorem ct_X0_show {l : Launch} {r0 : QR} {x1 : Int32} {M : QM} : ∀ b, f_X0_show r0 x1 M = some b → PM l yX0_show (wsW_ yX0_show cX0_show 4 (some .int) [(12, 22, 23, 8), (12, 22, 23, 94)]) rmX0_show [.inr r0, .inl x1] M (eI b).1 (eI b).2 := fun b hb =>
  PM.ofH (own := RX0) rfl (by decide +kernel) (Nat.le_of_ble_eq_true rfl) (s_X0_show b hb)
