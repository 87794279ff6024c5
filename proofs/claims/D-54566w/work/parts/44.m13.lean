/-! the state that both sides tell; the model keeps it -/
set_option maxRecDepth 100000
abbrev RW : Type := Nat → Int32
/-- row, the rows known, how many, the row kept, the text, its length, the stop -/
abbrev ZS : Type := RW × (Nat → RW) × Nat × Option RW × RW × Nat × (Int32 × Int32)
def zs (z : ZS) : RW := z.1
def zh (z : ZS) : Nat → RW := z.2.1
def zk (z : ZS) : Nat := z.2.2.1
def zp (z : ZS) : Option RW := z.2.2.2.1
def zT (z : ZS) : RW := z.2.2.2.2.1
def zn (z : ZS) : Nat := z.2.2.2.2.2.1
def ze (z : ZS) : Int32 × Int32 := z.2.2.2.2.2.2
def zacc (z : ZS) (s : RW) : ZS := (s, (if zk z = 4 then fun j => if j = 3 then zs z else zh z (j + 1) else qupd (zh z) (zk z) (zs z)), knK (zk z), zp z, zT z, zn z, ze z)
theorem zs_acc (z : ZS) (s : RW) : zs (zacc z s) = s := rfl
theorem zh_acc (z : ZS) (s : RW) : zh (zacc z s) = if zk z = 4 then fun j => if j = 3 then zs z else zh z (j + 1) else qupd (zh z) (zk z) (zs z) := rfl
theorem zk_acc (z : ZS) (s : RW) : zk (zacc z s) = knK (zk z) := rfl
theorem zp_acc (z : ZS) (s : RW) : zp (zacc z s) = zp z := rfl
theorem zT_acc (z : ZS) (s : RW) : zT (zacc z s) = zT z := rfl
theorem zn_acc (z : ZS) (s : RW) : zn (zacc z s) = zn z := rfl
theorem ze_acc (z : ZS) (s : RW) : ze (zacc z s) = ze z := rfl
def zact (z : ZS) (a : AR) : Int32 × ZS := (a.1, match a.2 with
  | none => z
  | some s => zacc z s)
/-- the rows of a state are in their bounds -/
def ZI (z : ZS) : Prop := Inv (zs z) ∧ (∀ j, j < zk z → Inv (zh z j)) ∧ zk z ≤ 4 ∧ (∀ r, zp z = some r → Inv r) ∧ zn z ≤ 80
def MZ (A : Nat → RW) (F : RW) (z : ZS) : Prop := A 1 = zs z ∧ F 3 = nI (zk z) ∧ (∀ j, j < zk z → ∀ i, i < 108 → A 3 (108 * j + i) = zh z j i) ∧ ((zp z = none ∧ F 5 = 0) ∨ ∃ r, zp z = some r ∧ F 5 = 1 ∧ ∀ i, i < 108 → A 4 i = r i) ∧ A 5 = zT z ∧ F 7 = nI (zn z) ∧ F 8 = (ze z).1 ∧ F 9 = (ze z).2
theorem ZI.acc {z : ZS} {s : RW} (H : ZI z) (h : Inv s) : ZI (zacc z s) := by
  obtain ⟨h1, h2, h3, h4, h5⟩ := H
  refine ⟨h, fun j hj => ?_, ?_, h4, h5⟩
  · rw [zk_acc] at hj
    rw [zh_acc]
    unfold knK at hj
    by_cases g : zk z = 4
    · rw [if_pos g] at hj ⊢
      by_cases g1 : j = 3
      · rw [if_pos g1]; exact h1
      · rw [if_neg g1]; exact h2 _ (by omega)
    · rw [if_neg g] at hj ⊢
      by_cases g1 : j = zk z
      · rw [g1, qupd_at]; exact h1
      · rw [qupd_ne _ _ g1]; exact h2 _ (by omega)
  · rw [zk_acc]
    unfold knK
    by_cases g : zk z = 4
    · rw [if_pos g]; omega
    · rw [if_neg g]; omega
theorem MZ.acc {A : Nat → RW} {F : RW} {z : ZS} (s : RW) (h3 : zk z ≤ 4) (H : MZ A F z) : MZ (qupd (qupd A 3 (knB (A 3) (A 1) (zk z))) 1 s) (qupd F 3 (nI (knK (zk z)))) (zacc z s) := by
  obtain ⟨a1, a2, a3, a4, a5, a6, a7, a8⟩ := H
  refine ⟨qupd_at _ _ _, qupd_at _ _ _, fun j hj i hi => ?_, ?_, ?_, ?_, ?_, ?_⟩
  · rw [qupd_ne _ _ (by decide), qupd_at]
    rw [zk_acc] at hj
    rw [zh_acc]
    unfold knK at hj
    unfold knB
    by_cases g : zk z = 4
    · rw [if_pos g] at hj ⊢
      rw [if_pos g]
      unfold cqB shB
      by_cases g1 : j = 3
      · subst g1
        rw [if_pos (by omega), if_pos rfl, a1, show 108 * 3 + i - 108 * 3 = i by omega]
      · rw [if_neg (by omega), if_pos (by omega), if_neg g1, ← a3 (j + 1) (by omega) i hi, show 108 * (j + 1) + i = 108 + (108 * j + i) by omega]
    · rw [if_neg g] at hj ⊢
      rw [if_neg g]
      unfold cqB
      by_cases g1 : j = zk z
      · subst g1
        rw [if_pos (by omega), qupd_at, a1, show 108 * zk z + i - 108 * zk z = i by omega]
      · rw [if_neg (by omega), qupd_ne _ _ g1, a3 j (by omega) i hi]
  · rw [qupd_ne _ _ (by decide), qupd_ne _ _ (by decide), qupd_ne _ _ (by decide)]; exact a4
  · rw [qupd_ne _ _ (by decide), qupd_ne _ _ (by decide)]; exact a5
  · rw [qupd_ne _ _ (by decide)]; exact a6
  · rw [qupd_ne _ _ (by decide)]; exact a7
  · rw [qupd_ne _ _ (by decide)]; exact a8
/-! what the state becomes -/
def zsetT (z : ZS) (T : RW) (n : Nat) : ZS := (zs z, zh z, zk z, zp z, T, n, ze z)
def zsetE (z : ZS) (e : Int32 × Int32) : ZS := (zs z, zh z, zk z, zp z, zT z, zn z, e)
def zsetP (z : ZS) : ZS := (zs z, zh z, zk z, some (zs z), zT z, zn z, ze z)
def zpop (z : ZS) : ZS := (zh z (zk z - 1), zh z, zk z - 1, zp z, zT z, zn z, ze z)
def zType (z : ZS) (c : Int32) : Int32 × ZS := if zn z = 80 then (-10000003, z) else (nI (zn z + 1), zsetT z (qupd (zT z) (zn z) c) (zn z + 1))
def zClear (z : ZS) : Int32 × ZS := (nI (zn z), zsetT z (zT z) 0)
def zUndo (z : ZS) : Int32 × ZS := if zk z = 0 then (-10000005, z) else (nI (zk z - 1), zpop z)
def zKeep (z : ZS) : Int32 × ZS := (zs z 55, zsetP z)
def zRest (z : ZS) : Int32 × ZS := match zp z with
  | none => (-10000005, z)
  | some r => zact z (r 55, some r)
def zStop (z : ZS) (w : Int32) : Int32 := if inR w 0 1 = 0 then -10000002 else if w = 0 then (ze z).1 else (ze z).2
def zPerf (z : ZS) : Int32 × ZS := match pall (zT z) (zn z) 82 0 with
  | .inl e => (-10000200 - nI e, z)
  | .inr xs => if (runC (zs z) xs).2.1 = 0 then (nI (runC (zs z) xs).2.2, zacc z (runC (zs z) xs).1) else (-10000004, zsetE z (nI (runC (zs z) xs).2.2, (runC (zs z) xs).2.1))
/-- the model goes along -/
def mZ (M : QM) (m : Nat) (o : Option (Int32 × QM)) (y : Int32 × ZS) : Prop := ∃ A F, o = some (y.1, mM M m A F) ∧ MZ A F y.2
section M13
variable {M : QM} {m : Nat} {A : Nat → Nat → Int32} {F : Nat → Int32} {z : ZS}
theorem mZ_res {a : AR} (h3 : zk z ≤ 4) (H : MZ A F z) : mZ M m (mres M m A F (zk z) a) (zact z a) := by
  unfold mres zact
  obtain ⟨r, s⟩ := a
  cases s with
  | none => exact ⟨A, F, rfl, H⟩
  | some s => exact ⟨_, _, rfl, H.acc s h3⟩
theorem mZ_drive (h3 : zk z ≤ 4) (H : MZ A F z) (b : Int32) : mZ M m (f_X5_drive (some (m, 0)) b (mM M m A F)) (zact z (aDrive (zs z) b)) := by
  rw [l5_drive h3 H.2.1, H.1]; exact mZ_res h3 H
theorem mZ_moveReel (h3 : zk z ≤ 4) (H : MZ A F z) (b i : Int32) : mZ M m (f_X5_moveReel (some (m, 0)) b i (mM M m A F)) (zact z (aMoveR (zs z) b i)) := by
  rw [l5_moveReel h3 H.2.1, H.1]; exact mZ_res h3 H
theorem mZ_moveGenerator (h3 : zk z ≤ 4) (H : MZ A F z) (b i : Int32) : mZ M m (f_X5_moveGenerator (some (m, 0)) b i (mM M m A F)) (zact z (aMoveG (zs z) b i)) := by
  rw [l5_moveGenerator h3 H.2.1, H.1]; exact mZ_res h3 H
theorem mZ_fuel (h3 : zk z ≤ 4) (H : MZ A F z) (b i : Int32) : mZ M m (f_X5_fuel (some (m, 0)) b i (mM M m A F)) (zact z (aFuel (zs z) b i)) := by
  rw [l5_fuel h3 H.2.1, H.1]; exact mZ_res h3 H
theorem mZ_renew (h3 : zk z ≤ 4) (H : MZ A F z) (b : Int32) : mZ M m (f_X5_renew (some (m, 0)) b (mM M m A F)) (zact z (aRenew (zs z) b)) := by
  rw [l5_renew h3 H.2.1, H.1]; exact mZ_res h3 H
theorem mZ_setPrice (h3 : zk z ≤ 4) (H : MZ A F z) (b : Int32) : mZ M m (f_X5_setPrice (some (m, 0)) b (mM M m A F)) (zact z (aPrice (zs z) b)) := by
  rw [l5_setPrice h3 H.2.1, H.1]; exact mZ_res h3 H
theorem mZ_nextDay (h3 : zk z ≤ 4) (H : MZ A F z) : mZ M m (f_X5_nextDay (some (m, 0)) (mM M m A F)) (zact z (aDay (zs z))) := by
  rw [l5_nextDay h3 H.2.1, H.1]; exact mZ_res h3 H
theorem mZ_show (h3 : zk z ≤ 4) (hI : Inv (zs z)) (H : MZ A F z) (b : Int32) : mZ M m (f_X5_show (some (m, 0)) b (mM M m A F)) (zact z (aShow (zs z) b)) := by
  by_cases h : inR b 0 4 = 0
  · unfold f_X5_show aShow
    rw [if_pos h]
    simp only [l5_isBarn, obs, oms, h, if_true]
    exact ⟨A, F, rfl, H⟩
  · obtain ⟨j, hj, rfl⟩ := inR_of (n := 4) (by decide) h
    rw [l5_show h3 H.2.1 (nI j) (by rw [H.1]; exact hI.1.okW (by omega)), H.1]; exact mZ_res h3 H
theorem mZ_type (h5 : zn z ≤ 80) (H : MZ A F z) (c : Int32) : mZ M m (f_X5_type (some (m, 0)) c (mM M m A F)) (zType z c) := by
  obtain ⟨a1, a2, a3, a4, a5, a6, a7, a8⟩ := H
  unfold zType
  by_cases h : zn z = 80
  · rw [if_pos h, l5_type80 c (by rw [a6, h]; decide +kernel)]
    exact ⟨A, F, rfl, a1, a2, a3, a4, a5, a6, a7, a8⟩
  · rw [if_neg h, l5_type c (zn z) (by omega) a6, a5]
    refine ⟨_, _, rfl, ?_, ?_, fun j hj i hi => ?_, ?_, ?_, ?_, ?_, ?_⟩
    · rw [qupd_ne _ _ (by decide)]; exact a1
    · rw [qupd_ne _ _ (by decide)]; exact a2
    · rw [qupd_ne _ _ (by decide)]; exact a3 j hj i hi
    · rw [qupd_ne _ _ (by decide), qupd_ne _ _ (by decide)]; exact a4
    · exact qupd_at _ _ _
    · exact qupd_at _ _ _
    · rw [qupd_ne _ _ (by decide)]; exact a7
    · rw [qupd_ne _ _ (by decide)]; exact a8
theorem mZ_clear (H : MZ A F z) : mZ M m (f_X5_clearText (some (m, 0)) (mM M m A F)) (zClear z) := by
  obtain ⟨a1, a2, a3, a4, a5, a6, a7, a8⟩ := H
  unfold zClear
  rw [l5_clearText, a6]
  refine ⟨_, _, rfl, a1, ?_, a3, ?_, a5, ?_, ?_, ?_⟩
  · rw [qupd_ne _ _ (by decide)]; exact a2
  · rw [qupd_ne _ _ (by decide)]; exact a4
  · exact qupd_at _ _ _
  · rw [qupd_ne _ _ (by decide)]; exact a7
  · rw [qupd_ne _ _ (by decide)]; exact a8
theorem ovr_all {X S r : RW} (h : ∀ i, i < 108 → X i = r i) (h1 : I7 S) (h2 : I7 r) : ovr X S 108 = r := by
  funext i
  unfold ovr
  by_cases g : i < 108
  · rw [if_pos g, h i g]
  · rw [if_neg g, h1 i (by omega), h2 i (by omega)]
theorem mZ_undo (hI : ZI z) (H : MZ A F z) : mZ M m (f_X5_undo (some (m, 0)) (mM M m A F)) (zUndo z) := by
  obtain ⟨h1, h2, h3, h4, h5⟩ := hI
  obtain ⟨a1, a2, a3, a4, a5, a6, a7, a8⟩ := H
  unfold zUndo
  by_cases h : zk z = 0
  · rw [if_pos h, l5_undo0 (by rw [a2, h])]
    exact ⟨A, F, rfl, a1, a2, a3, a4, a5, a6, a7, a8⟩
  · obtain ⟨k, hk⟩ : ∃ k, zk z = k + 1 := ⟨zk z - 1, by omega⟩
    rw [if_neg h, l5_undo (k := k) (by omega) (by rw [a2, hk]), ovr_all (r := zh z k) (fun i hi => a3 k (by omega) i hi) (by rw [a1]; exact h1.2.2.2.2.2.2) (h2 k (by omega)).2.2.2.2.2.2, show zk z - 1 = k by omega]
    refine ⟨_, _, rfl, ?_, ?_, fun j hj i hi => ?_, ?_, ?_, ?_, ?_, ?_⟩
    · rw [qupd_at]; show _ = zh z (zk z - 1); rw [show zk z - 1 = k by omega]
    · rw [qupd_at]; show _ = nI (zk z - 1); rw [show zk z - 1 = k by omega]
    · rw [qupd_ne _ _ (by decide)]
      have hj : j < zk z - 1 := hj
      exact a3 j (by omega) i hi
    · rw [qupd_ne _ _ (by decide), qupd_ne _ _ (by decide)]; exact a4
    · rw [qupd_ne _ _ (by decide)]; exact a5
    · rw [qupd_ne _ _ (by decide)]; exact a6
    · rw [qupd_ne _ _ (by decide)]; exact a7
    · rw [qupd_ne _ _ (by decide)]; exact a8
theorem mZ_keep (H : MZ A F z) : mZ M m (f_X5_keep (some (m, 0)) (mM M m A F)) (zKeep z) := by
  obtain ⟨a1, a2, a3, a4, a5, a6, a7, a8⟩ := H
  unfold zKeep
  rw [l5_keep, a1]
  refine ⟨_, _, rfl, ?_, ?_, fun j hj i hi => ?_, Or.inr ⟨zs z, rfl, qupd_at _ _ _, fun i hi => ?_⟩, ?_, ?_, ?_, ?_⟩
  · rw [qupd_ne _ _ (by decide)]; exact a1
  · rw [qupd_ne _ _ (by decide)]; exact a2
  · rw [qupd_ne _ _ (by decide)]; exact a3 j hj i hi
  · rw [qupd_at]; unfold ovr; rw [if_pos hi]
  · rw [qupd_ne _ _ (by decide)]; exact a5
  · rw [qupd_ne _ _ (by decide)]; exact a6
  · rw [qupd_ne _ _ (by decide)]; exact a7
  · rw [qupd_ne _ _ (by decide)]; exact a8
theorem mZ_rest (hI : ZI z) (H : MZ A F z) : mZ M m (f_X5_restore (some (m, 0)) (mM M m A F)) (zRest z) := by
  obtain ⟨h1, h2, h3, h4, h5⟩ := hI
  unfold zRest
  rcases H.2.2.2.1 with ⟨g1, g2⟩ | ⟨r, g1, g2, g3⟩
  · rw [g1, l5_restore0 g2]; exact ⟨A, F, rfl, H⟩
  · rw [g1, l5_restore h3 H.2.1 g2, g3 55 (by decide), ovr_all g3 (by rw [H.1]; exact h1.2.2.2.2.2.2) (h4 r g1).2.2.2.2.2.2]
    exact mZ_res h3 H
theorem mZ_stop (H : MZ A F z) (w : Int32) : f_X5_stopped (some (m, 0)) w (mM M m A F) = some (zStop z w) := by
  rw [l5_stopped, H.2.2.2.2.2.2.1, H.2.2.2.2.2.2.2]; rfl
end M13
