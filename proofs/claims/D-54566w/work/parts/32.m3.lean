/-! the model's acts -/
set_option maxRecDepth 100000
def mres (M : QM) (m : Nat) (A : Nat → Nat → Int32) (F : Nat → Int32) (k : Nat) (a : AR) : Option (Int32 × QM) := some (a.1, match a.2 with
  | none => mM M m A F
  | some s => mM M m (qupd (qupd A 3 (knB (A 3) (A 1) k)) 1 s) (qupd F 3 (nI (knK k))))
section M3
variable {M : QM} {m : Nat} {A : Nat → Nat → Int32} {F : Nat → Int32} {k : Nat}
theorem l5_drives (b : Int32) : f_X5_drives (some (m, 0)) b (mM M m A F) = some (absF (mileF b - mileF (A 1 54)), mM M m (qupd A 1 (qupd (qupd (A 1) 72 (A 1 72 + absF (mileF b - mileF (A 1 54)))) 54 b)) F) := by
  unfold f_X5_drives f_X5_drives_26
  simp (disch := omega) only [mM_gR0, mM_gR1, mM_gR2, mM_gR4, mM_gR6, mM_gI3, mM_gI5, mM_gI7, mM_gI8, mM_gI9, mM_gI10, mM_gI11, mM_gI12, mM_gI13, mM_gI14, mM_gI15, mM_pF3, mM_pF5, mM_pF7, mM_pF8, mM_pF9, mM_pF10, mM_pF11, mM_pF12, mM_pF13, mM_pF14, mM_pF15, mM_a1, mM_a2, mM_a3, mM_a4, mM_a5, mM_s1, mM_s2, mM_s3, mM_s4, mM_s5, Option.bind_some, Option.map_some, mM_rc, ix108, ix432, ix80, i108_50, i108_51, i108_52, i108_53, i108_54, i108_55, i108_56, i108_72, i108_73, i108_74, i108_75, i108_76, i108_77, i108_78, i108_79, i108_80, i108_81, i108_82, l5_of0, l5_of1, l5_of2, l5_of3, l5_of4, l5_in, l5_isBarn, l5_isGenerator, l5_mile, l5_seats, qupd_at, qupd_qupd, qupd_ne, nI_1, g50, g50b, nI_add, qbI, l5_inVan, l5_gone, l5_r0, l5_r1, l5_r2, l5_r3, l5_generatorFor, l5_peopleAt, l5_isReel]
  rfl
theorem l5_drive (hk : k ≤ 4) (hF : F 3 = nI k) (b : Int32) : f_X5_drive (some (m, 0)) b (mM M m A F) = mres M m A F k (aDrive (A 1) b) := by
  unfold f_X5_drive mres aDrive
  simp (disch := omega) only [mM_gR0, mM_gR1, mM_gR2, mM_gR4, mM_gR6, mM_gI3, mM_gI5, mM_gI7, mM_gI8, mM_gI9, mM_gI10, mM_gI11, mM_gI12, mM_gI13, mM_gI14, mM_gI15, mM_pF3, mM_pF5, mM_pF7, mM_pF8, mM_pF9, mM_pF10, mM_pF11, mM_pF12, mM_pF13, mM_pF14, mM_pF15, mM_a1, mM_a2, mM_a3, mM_a4, mM_a5, mM_s1, mM_s2, mM_s3, mM_s4, mM_s5, Option.bind_some, Option.map_some, mM_rc, ix108, ix432, ix80, i108_50, i108_51, i108_52, i108_53, i108_54, i108_55, i108_56, i108_72, i108_73, i108_74, i108_75, i108_76, i108_77, i108_78, i108_79, i108_80, i108_81, i108_82, l5_of0, l5_of1, l5_of2, l5_of3, l5_of4, l5_in, l5_isBarn, l5_isGenerator, l5_mile, l5_seats, qupd_at, qupd_qupd, qupd_ne, nI_1, g50, g50b, nI_add, qbI, l5_inVan, l5_gone, l5_r0, l5_r1, l5_r2, l5_r3, l5_generatorFor, l5_peopleAt, l5_isReel]
  by_cases h : inR b 0 4 = 0
  · simp only [h, if_true]
  · simp only [h, if_false]
    by_cases h2 : A 1 54 = b
    · simp only [h2, if_true]
    · simp (disch := omega) only [h2, if_false, l5_know hk hF, l5_drives, mM_gR0, mM_gR1, mM_gR2, mM_gR4, mM_gR6, mM_gI3, mM_gI5, mM_gI7, mM_gI8, mM_gI9, mM_gI10, mM_gI11, mM_gI12, mM_gI13, mM_gI14, mM_gI15, mM_pF3, mM_pF5, mM_pF7, mM_pF8, mM_pF9, mM_pF10, mM_pF11, mM_pF12, mM_pF13, mM_pF14, mM_pF15, mM_a1, mM_a2, mM_a3, mM_a4, mM_a5, mM_s1, mM_s2, mM_s3, mM_s4, mM_s5, Option.bind_some, Option.map_some, mM_rc, ix108, ix432, ix80, i108_50, i108_51, i108_52, i108_53, i108_54, i108_55, i108_56, i108_72, i108_73, i108_74, i108_75, i108_76, i108_77, i108_78, i108_79, i108_80, i108_81, i108_82, l5_of0, l5_of1, l5_of2, l5_of3, l5_of4, l5_in, l5_isBarn, l5_isGenerator, l5_mile, l5_seats, qupd_at, qupd_qupd, qupd_ne, nI_1, g50, g50b, nI_add, qbI, l5_inVan, l5_gone, l5_r0, l5_r1, l5_r2, l5_r3, l5_generatorFor, l5_peopleAt, l5_isReel]
theorem l5_moves (a : Nat) (ha : a < 108) (i : Int32) : f_X5_moves (some (m, 0)) (nI a) i (mM M m A F) = some (vanF (qupd (A 1) a (if i = 0 then A 1 54 else -10000005)), mM M m (qupd A 1 (qupd (A 1) a (if i = 0 then A 1 54 else -10000005))) F) := by
  unfold f_X5_moves f_X5_moves_21
  by_cases h : i = 0
  · simp (disch := omega) only [h, if_true, mM_gR0, mM_gR1, mM_gR2, mM_gR4, mM_gR6, mM_gI3, mM_gI5, mM_gI7, mM_gI8, mM_gI9, mM_gI10, mM_gI11, mM_gI12, mM_gI13, mM_gI14, mM_gI15, mM_pF3, mM_pF5, mM_pF7, mM_pF8, mM_pF9, mM_pF10, mM_pF11, mM_pF12, mM_pF13, mM_pF14, mM_pF15, mM_a1, mM_a2, mM_a3, mM_a4, mM_a5, mM_s1, mM_s2, mM_s3, mM_s4, mM_s5, Option.bind_some, Option.map_some, mM_rc, ix108, ix432, ix80, i108_50, i108_51, i108_52, i108_53, i108_54, i108_55, i108_56, i108_72, i108_73, i108_74, i108_75, i108_76, i108_77, i108_78, i108_79, i108_80, i108_81, i108_82, l5_of0, l5_of1, l5_of2, l5_of3, l5_of4, l5_in, l5_isBarn, l5_isGenerator, l5_mile, l5_seats, qupd_at, qupd_qupd, qupd_ne, nI_1, g50, g50b, nI_add, qbI, l5_inVan, l5_gone, l5_r0, l5_r1, l5_r2, l5_r3, l5_generatorFor, l5_peopleAt, l5_isReel]
  · simp (disch := omega) only [h, if_false, mM_gR0, mM_gR1, mM_gR2, mM_gR4, mM_gR6, mM_gI3, mM_gI5, mM_gI7, mM_gI8, mM_gI9, mM_gI10, mM_gI11, mM_gI12, mM_gI13, mM_gI14, mM_gI15, mM_pF3, mM_pF5, mM_pF7, mM_pF8, mM_pF9, mM_pF10, mM_pF11, mM_pF12, mM_pF13, mM_pF14, mM_pF15, mM_a1, mM_a2, mM_a3, mM_a4, mM_a5, mM_s1, mM_s2, mM_s3, mM_s4, mM_s5, Option.bind_some, Option.map_some, mM_rc, ix108, ix432, ix80, i108_50, i108_51, i108_52, i108_53, i108_54, i108_55, i108_56, i108_72, i108_73, i108_74, i108_75, i108_76, i108_77, i108_78, i108_79, i108_80, i108_81, i108_82, l5_of0, l5_of1, l5_of2, l5_of3, l5_of4, l5_in, l5_isBarn, l5_isGenerator, l5_mile, l5_seats, qupd_at, qupd_qupd, qupd_ne, nI_1, g50, g50b, nI_add, qbI, l5_inVan, l5_gone, l5_r0, l5_r1, l5_r2, l5_r3, l5_generatorFor, l5_peopleAt, l5_isReel]
theorem l5_moveFault (a : Nat) (ha : a < 108) (i : Int32) : f_X5_moveFault (some (m, 0)) (nI a) i (mM M m A F) = some (if (aMove (A 1) a i).2 = none then (aMove (A 1) a i).1 else 0) := by
  unfold f_X5_moveFault aMove
  simp (disch := omega) only [mM_gR0, mM_gR1, mM_gR2, mM_gR4, mM_gR6, mM_gI3, mM_gI5, mM_gI7, mM_gI8, mM_gI9, mM_gI10, mM_gI11, mM_gI12, mM_gI13, mM_gI14, mM_gI15, mM_pF3, mM_pF5, mM_pF7, mM_pF8, mM_pF9, mM_pF10, mM_pF11, mM_pF12, mM_pF13, mM_pF14, mM_pF15, mM_a1, mM_a2, mM_a3, mM_a4, mM_a5, mM_s1, mM_s2, mM_s3, mM_s4, mM_s5, Option.bind_some, Option.map_some, mM_rc, ix108, ix432, ix80, i108_50, i108_51, i108_52, i108_53, i108_54, i108_55, i108_56, i108_72, i108_73, i108_74, i108_75, i108_76, i108_77, i108_78, i108_79, i108_80, i108_81, i108_82, l5_of0, l5_of1, l5_of2, l5_of3, l5_of4, l5_in, l5_isBarn, l5_isGenerator, l5_mile, l5_seats, qupd_at, qupd_qupd, qupd_ne, nI_1, g50, g50b, nI_add, qbI, l5_inVan, l5_gone, l5_r0, l5_r1, l5_r2, l5_r3, l5_generatorFor, l5_peopleAt, l5_isReel, f_X5_moveFault_30, f_X5_moveFault_46]
  by_cases h1 : A 1 a = -10000005
  · simp only [h1, if_true, ne_eq, not_true, false_and, if_false]
    by_cases h2 : (1 : Int32) = i
    · subst h2
      simp
    · by_cases h3 : i = 0
      · simp [h2, h3]
      · by_cases h4 : vanF (A 1) < 8
        · simp [h2, h3, h4]
        · simp [h2, h3, h4]
  · by_cases h5 : A 1 a = A 1 54
    · by_cases h2 : (0 : Int32) = i
      · subst h2
        simp [h1, h5]
        rw [h5] at h1
        simp [h1]
      · have h3 : ¬ i = 0 := fun z => h2 z.symm
        rw [h5] at h1
        by_cases h4 : vanF (A 1) < 8
        · simp [h1, h5, h2, h3, h4]
        · simp [h1, h5, h2, h3, h4]
    · simp [h1, h5]
theorem aMove_neg (s : Nat → Int32) (a : Nat) (i : Int32) (h : (aMove s a i).2 = none) : ¬ 0 ≤ (aMove s a i).1 := by
  unfold aMove at h ⊢
  by_cases h1 : s a ≠ -10000005 ∧ s a ≠ s 54
  · rw [if_pos h1]; decide
  · rw [if_neg h1] at h ⊢
    by_cases h2 : (if s a = -10000005 then (1 : Int32) else 0) = i
    · rw [if_pos h2]; decide
    · rw [if_neg h2] at h ⊢
      by_cases h3 : i = 0 ∨ vanF s < 8
      · rw [if_pos h3] at h; cases h
      · rw [if_neg h3]; decide
theorem aMove_some (s : Nat → Int32) (a : Nat) (i : Int32) (h : ¬ (aMove s a i).2 = none) : aMove s a i = (vanF (qupd s a (if i = 0 then s 54 else -10000005)), some (qupd s a (if i = 0 then s 54 else -10000005))) := by
  unfold aMove at h ⊢
  by_cases h1 : s a ≠ -10000005 ∧ s a ≠ s 54
  · rw [if_pos h1] at h; exact absurd rfl h
  · rw [if_neg h1] at h ⊢
    by_cases h2 : (if s a = -10000005 then (1 : Int32) else 0) = i
    · rw [if_pos h2] at h; exact absurd rfl h
    · rw [if_neg h2] at h ⊢
      by_cases h3 : i = 0 ∨ vanF s < 8
      · rw [if_pos h3]
      · rw [if_neg h3] at h; exact absurd rfl h
theorem l5_movesIf (hk : k ≤ 4) (hF : F 3 = nI k) (a : Nat) (ha : a < 108) (i : Int32) : f_X5_movesIf (some (m, 0)) (1 : Int32) (nI a) i (mM M m A F) = mres M m A F k (aMove (A 1) a i) := by
  unfold f_X5_movesIf f_X5_movesIf_15 mres
  rw [if_neg (by decide)]
  simp (disch := omega) only [l5_moveFault, mM_gR0, mM_gR1, mM_gR2, mM_gR4, mM_gR6, mM_gI3, mM_gI5, mM_gI7, mM_gI8, mM_gI9, mM_gI10, mM_gI11, mM_gI12, mM_gI13, mM_gI14, mM_gI15, mM_pF3, mM_pF5, mM_pF7, mM_pF8, mM_pF9, mM_pF10, mM_pF11, mM_pF12, mM_pF13, mM_pF14, mM_pF15, mM_a1, mM_a2, mM_a3, mM_a4, mM_a5, mM_s1, mM_s2, mM_s3, mM_s4, mM_s5, Option.bind_some, Option.map_some, mM_rc, ix108, ix432, ix80, i108_50, i108_51, i108_52, i108_53, i108_54, i108_55, i108_56, i108_72, i108_73, i108_74, i108_75, i108_76, i108_77, i108_78, i108_79, i108_80, i108_81, i108_82, l5_of0, l5_of1, l5_of2, l5_of3, l5_of4, l5_in, l5_isBarn, l5_isGenerator, l5_mile, l5_seats, qupd_at, qupd_qupd, qupd_ne, nI_1, g50, g50b, nI_add, qbI, l5_inVan, l5_gone, l5_r0, l5_r1, l5_r2, l5_r3, l5_generatorFor, l5_peopleAt, l5_isReel]
  by_cases h : (aMove (A 1) a i).2 = none
  · rw [if_pos h, if_neg (aMove_neg _ _ _ h), h]
  · rw [if_neg h, if_pos (by decide), aMove_some _ _ _ h]
    simp (disch := omega) only [l5_know hk hF, l5_moves, mM_gR0, mM_gR1, mM_gR2, mM_gR4, mM_gR6, mM_gI3, mM_gI5, mM_gI7, mM_gI8, mM_gI9, mM_gI10, mM_gI11, mM_gI12, mM_gI13, mM_gI14, mM_gI15, mM_pF3, mM_pF5, mM_pF7, mM_pF8, mM_pF9, mM_pF10, mM_pF11, mM_pF12, mM_pF13, mM_pF14, mM_pF15, mM_a1, mM_a2, mM_a3, mM_a4, mM_a5, mM_s1, mM_s2, mM_s3, mM_s4, mM_s5, Option.bind_some, Option.map_some, mM_rc, ix108, ix432, ix80, i108_50, i108_51, i108_52, i108_53, i108_54, i108_55, i108_56, i108_72, i108_73, i108_74, i108_75, i108_76, i108_77, i108_78, i108_79, i108_80, i108_81, i108_82, l5_of0, l5_of1, l5_of2, l5_of3, l5_of4, l5_in, l5_isBarn, l5_isGenerator, l5_mile, l5_seats, qupd_at, qupd_qupd, qupd_ne, nI_1, g50, g50b, nI_add, qbI, l5_inVan, l5_gone, l5_r0, l5_r1, l5_r2, l5_r3, l5_generatorFor, l5_peopleAt, l5_isReel]
theorem l5_movesIf0 (a i : Int32) : f_X5_movesIf (some (m, 0)) (0 : Int32) a i (mM M m A F) = some (-10000001, mM M m A F) := by
  unfold f_X5_movesIf f_X5_movesIf_15
  rw [if_pos rfl, if_neg (by decide)]
theorem isRF_of {s : Nat → Int32} {r : Int32} (h : ¬ isRF s r = 0) : ∃ j : Nat, j ≤ 9 ∧ r = nI j ∧ isRF s r = 1 ∧ ¬ s (5 * j) = -2 := by
  unfold isRF at h ⊢
  by_cases h1 : inR r 0 9 = 0
  · rw [if_pos h1] at h; exact absurd rfl h
  · rw [if_neg h1] at h ⊢
    obtain ⟨j, hj, rfl⟩ := inR_of (n := 9) (by decide) h1
    rw [nI_clamp (by omega)] at h ⊢
    by_cases h2 : s (5 * j) = -2
    · rw [if_pos h2] at h; exact absurd rfl h
    · exact ⟨j, hj, rfl, if_neg h2, h2⟩
theorem l5_moveReel (hk : k ≤ 4) (hF : F 3 = nI k) (r i : Int32) : f_X5_moveReel (some (m, 0)) r i (mM M m A F) = mres M m A F k (aMoveR (A 1) r i) := by
  unfold f_X5_moveReel f_X5_moveReel_21 aMoveR
  simp only [mM_gR0, mM_gR1, mM_gR2, mM_gR4, mM_gR6, mM_gI3, mM_gI5, mM_gI7, mM_gI8, mM_gI9, mM_gI10, mM_gI11, mM_gI12, mM_gI13, mM_gI14, mM_gI15, mM_pF3, mM_pF5, mM_pF7, mM_pF8, mM_pF9, mM_pF10, mM_pF11, mM_pF12, mM_pF13, mM_pF14, mM_pF15, mM_a1, mM_a2, mM_a3, mM_a4, mM_a5, mM_s1, mM_s2, mM_s3, mM_s4, mM_s5, Option.bind_some, Option.map_some, mM_rc, ix108, ix432, ix80, i108_50, i108_51, i108_52, i108_53, i108_54, i108_55, i108_56, i108_72, i108_73, i108_74, i108_75, i108_76, i108_77, i108_78, i108_79, i108_80, i108_81, i108_82, l5_of0, l5_of1, l5_of2, l5_of3, l5_of4, l5_in, l5_isBarn, l5_isGenerator, l5_mile, l5_seats, qupd_at, qupd_qupd, qupd_ne, nI_1, g50, g50b, nI_add, qbI, l5_inVan, l5_gone, l5_r0, l5_r1, l5_r2, l5_r3, l5_generatorFor, l5_peopleAt, l5_isReel]
  by_cases h : isRF (A 1) r = 0
  · simp only [h, if_true, l5_movesIf0, Option.bind_some, Option.map_some]
    rfl
  · obtain ⟨j, hj, rfl, h1, -⟩ := isRF_of h
    rw [h1]
    simp (disch := omega) only [ne_0_1, ne_0_2, ne_0_3, ne_1_0, ne_1_2, ne_1_3, ne_2_0, ne_2_1, ne_2_3, ne_3_0, ne_3_1, ne_3_2, if_true, if_false, mM_gR0, mM_gR1, mM_gR2, mM_gR4, mM_gR6, mM_gI3, mM_gI5, mM_gI7, mM_gI8, mM_gI9, mM_gI10, mM_gI11, mM_gI12, mM_gI13, mM_gI14, mM_gI15, mM_pF3, mM_pF5, mM_pF7, mM_pF8, mM_pF9, mM_pF10, mM_pF11, mM_pF12, mM_pF13, mM_pF14, mM_pF15, mM_a1, mM_a2, mM_a3, mM_a4, mM_a5, mM_s1, mM_s2, mM_s3, mM_s4, mM_s5, Option.bind_some, Option.map_some, mM_rc, ix108, ix432, ix80, i108_50, i108_51, i108_52, i108_53, i108_54, i108_55, i108_56, i108_72, i108_73, i108_74, i108_75, i108_76, i108_77, i108_78, i108_79, i108_80, i108_81, i108_82, l5_of0, l5_of1, l5_of2, l5_of3, l5_of4, l5_in, l5_isBarn, l5_isGenerator, l5_mile, l5_seats, qupd_at, qupd_qupd, qupd_ne, nI_1, g50, g50b, nI_add, qbI, l5_inVan, l5_gone, l5_r0, l5_r1, l5_r2, l5_r3, l5_generatorFor, l5_peopleAt, l5_isReel, l5_movesIf hk hF, nI_clamp]
    rfl
theorem inR1 {v lo hi : Int32} (h : ¬ inR v lo hi = 0) : inR v lo hi = 1 := (inR01 v lo hi).resolve_left h
theorem l5_moveGenerator (hk : k ≤ 4) (hF : F 3 = nI k) (g i : Int32) : f_X5_moveGenerator (some (m, 0)) g i (mM M m A F) = mres M m A F k (aMoveG (A 1) g i) := by
  unfold f_X5_moveGenerator f_X5_moveGenerator_21 aMoveG
  simp only [mM_gR0, mM_gR1, mM_gR2, mM_gR4, mM_gR6, mM_gI3, mM_gI5, mM_gI7, mM_gI8, mM_gI9, mM_gI10, mM_gI11, mM_gI12, mM_gI13, mM_gI14, mM_gI15, mM_pF3, mM_pF5, mM_pF7, mM_pF8, mM_pF9, mM_pF10, mM_pF11, mM_pF12, mM_pF13, mM_pF14, mM_pF15, mM_a1, mM_a2, mM_a3, mM_a4, mM_a5, mM_s1, mM_s2, mM_s3, mM_s4, mM_s5, Option.bind_some, Option.map_some, mM_rc, ix108, ix432, ix80, i108_50, i108_51, i108_52, i108_53, i108_54, i108_55, i108_56, i108_72, i108_73, i108_74, i108_75, i108_76, i108_77, i108_78, i108_79, i108_80, i108_81, i108_82, l5_of0, l5_of1, l5_of2, l5_of3, l5_of4, l5_in, l5_isBarn, l5_isGenerator, l5_mile, l5_seats, qupd_at, qupd_qupd, qupd_ne, nI_1, g50, g50b, nI_add, qbI, l5_inVan, l5_gone, l5_r0, l5_r1, l5_r2, l5_r3, l5_generatorFor, l5_peopleAt, l5_isReel]
  by_cases h : inR g 0 1 = 0
  · simp only [h, if_true, l5_movesIf0, Option.bind_some, Option.map_some]
    rfl
  · obtain ⟨j, hj, rfl⟩ := inR_of (n := 1) (by decide) h
    rw [inR1 h]
    simp (disch := omega) only [ne_0_1, ne_0_2, ne_0_3, ne_1_0, ne_1_2, ne_1_3, ne_2_0, ne_2_1, ne_2_3, ne_3_0, ne_3_1, ne_3_2, if_true, if_false, mM_gR0, mM_gR1, mM_gR2, mM_gR4, mM_gR6, mM_gI3, mM_gI5, mM_gI7, mM_gI8, mM_gI9, mM_gI10, mM_gI11, mM_gI12, mM_gI13, mM_gI14, mM_gI15, mM_pF3, mM_pF5, mM_pF7, mM_pF8, mM_pF9, mM_pF10, mM_pF11, mM_pF12, mM_pF13, mM_pF14, mM_pF15, mM_a1, mM_a2, mM_a3, mM_a4, mM_a5, mM_s1, mM_s2, mM_s3, mM_s4, mM_s5, Option.bind_some, Option.map_some, mM_rc, ix108, ix432, ix80, i108_50, i108_51, i108_52, i108_53, i108_54, i108_55, i108_56, i108_72, i108_73, i108_74, i108_75, i108_76, i108_77, i108_78, i108_79, i108_80, i108_81, i108_82, l5_of0, l5_of1, l5_of2, l5_of3, l5_of4, l5_in, l5_isBarn, l5_isGenerator, l5_mile, l5_seats, qupd_at, qupd_qupd, qupd_ne, nI_1, g50, g50b, nI_add, qbI, l5_inVan, l5_gone, l5_r0, l5_r1, l5_r2, l5_r3, l5_generatorFor, l5_peopleAt, l5_isReel, l5_movesIf hk hF, nI_clamp]
    rfl
theorem l5_fuelFault (g n : Int32) : f_X5_fuelFault (some (m, 0)) g n (mM M m A F) = some (if (aFuel (A 1) g n).2 = none then (aFuel (A 1) g n).1 else 0) := by
  unfold f_X5_fuelFault aFuel
  simp only [mM_gR0, mM_gR1, mM_gR2, mM_gR4, mM_gR6, mM_gI3, mM_gI5, mM_gI7, mM_gI8, mM_gI9, mM_gI10, mM_gI11, mM_gI12, mM_gI13, mM_gI14, mM_gI15, mM_pF3, mM_pF5, mM_pF7, mM_pF8, mM_pF9, mM_pF10, mM_pF11, mM_pF12, mM_pF13, mM_pF14, mM_pF15, mM_a1, mM_a2, mM_a3, mM_a4, mM_a5, mM_s1, mM_s2, mM_s3, mM_s4, mM_s5, Option.bind_some, Option.map_some, mM_rc, ix108, ix432, ix80, i108_50, i108_51, i108_52, i108_53, i108_54, i108_55, i108_56, i108_72, i108_73, i108_74, i108_75, i108_76, i108_77, i108_78, i108_79, i108_80, i108_81, i108_82, l5_of0, l5_of1, l5_of2, l5_of3, l5_of4, l5_in, l5_isBarn, l5_isGenerator, l5_mile, l5_seats, qupd_at, qupd_qupd, qupd_ne, nI_1, g50, g50b, nI_add, qbI, l5_inVan, l5_gone, l5_r0, l5_r1, l5_r2, l5_r3, l5_generatorFor, l5_peopleAt, l5_isReel]
  by_cases h : inR g 0 1 = 0
  · simp [h]
  · obtain ⟨j, hj, rfl⟩ := inR_of (n := 1) (by decide) h
    simp (disch := omega) only [h, if_false, mM_gR0, mM_gR1, mM_gR2, mM_gR4, mM_gR6, mM_gI3, mM_gI5, mM_gI7, mM_gI8, mM_gI9, mM_gI10, mM_gI11, mM_gI12, mM_gI13, mM_gI14, mM_gI15, mM_pF3, mM_pF5, mM_pF7, mM_pF8, mM_pF9, mM_pF10, mM_pF11, mM_pF12, mM_pF13, mM_pF14, mM_pF15, mM_a1, mM_a2, mM_a3, mM_a4, mM_a5, mM_s1, mM_s2, mM_s3, mM_s4, mM_s5, Option.bind_some, Option.map_some, mM_rc, ix108, ix432, ix80, i108_50, i108_51, i108_52, i108_53, i108_54, i108_55, i108_56, i108_72, i108_73, i108_74, i108_75, i108_76, i108_77, i108_78, i108_79, i108_80, i108_81, i108_82, l5_of0, l5_of1, l5_of2, l5_of3, l5_of4, l5_in, l5_isBarn, l5_isGenerator, l5_mile, l5_seats, qupd_at, qupd_qupd, qupd_ne, nI_1, g50, g50b, nI_add, qbI, l5_inVan, l5_gone, l5_r0, l5_r1, l5_r2, l5_r3, l5_generatorFor, l5_peopleAt, l5_isReel, nI_clamp]
    by_cases h1 : inR n 5 500 = 0
    · simp [h1]
    · by_cases h2 : n - n / 5 * 5 = 0
      · by_cases h3 : A 1 (50 + 2 * j) = -10000005
        · by_cases h4 : A 1 (50 + 2 * j + 1) + n ≤ 500
          · simp [h1, h2, h3, h4]
          · simp [h1, h2, h3, h4]
        · simp [h1, h2, h3]
      · simp [h1, h2]
theorem l5_fuels (j : Nat) (hj : j ≤ 1) (n : Int32) : f_X5_fuels (some (m, 0)) (nI j) n (mM M m A F) = some (A 1 (50 + 2 * j + 1) + n, mM M m (qupd A 1 (qupd (qupd (A 1) 73 (A 1 73 + n / 5)) (50 + 2 * j + 1) (A 1 (50 + 2 * j + 1) + n))) F) := by
  unfold f_X5_fuels
  simp (disch := omega) only [mM_gR0, mM_gR1, mM_gR2, mM_gR4, mM_gR6, mM_gI3, mM_gI5, mM_gI7, mM_gI8, mM_gI9, mM_gI10, mM_gI11, mM_gI12, mM_gI13, mM_gI14, mM_gI15, mM_pF3, mM_pF5, mM_pF7, mM_pF8, mM_pF9, mM_pF10, mM_pF11, mM_pF12, mM_pF13, mM_pF14, mM_pF15, mM_a1, mM_a2, mM_a3, mM_a4, mM_a5, mM_s1, mM_s2, mM_s3, mM_s4, mM_s5, Option.bind_some, Option.map_some, mM_rc, ix108, ix432, ix80, i108_50, i108_51, i108_52, i108_53, i108_54, i108_55, i108_56, i108_72, i108_73, i108_74, i108_75, i108_76, i108_77, i108_78, i108_79, i108_80, i108_81, i108_82, l5_of0, l5_of1, l5_of2, l5_of3, l5_of4, l5_in, l5_isBarn, l5_isGenerator, l5_mile, l5_seats, qupd_at, qupd_qupd, qupd_ne, nI_1, g50, g50b, nI_add, qbI, l5_inVan, l5_gone, l5_r0, l5_r1, l5_r2, l5_r3, l5_generatorFor, l5_peopleAt, l5_isReel]
theorem aFuel_neg (s : Nat → Int32) (g n : Int32) (h : (aFuel s g n).2 = none) : ¬ 0 ≤ (aFuel s g n).1 := by
  unfold aFuel at h ⊢
  by_cases h1 : inR g 0 1 = 0
  · rw [if_pos h1]; decide
  · rw [if_neg h1] at h ⊢
    by_cases h2 : inR n 5 500 = 0
    · rw [if_pos h2]; decide
    · rw [if_neg h2] at h ⊢
      by_cases h3 : n - n / 5 * 5 = 0
      · rw [if_pos h3] at h ⊢
        by_cases h4 : s (50 + 2 * g.toNatClampNeg) = -10000005
        · rw [if_pos h4] at h ⊢
          by_cases h5 : s (50 + 2 * g.toNatClampNeg + 1) + n ≤ 500
          · rw [if_pos h5] at h; cases h
          · rw [if_neg h5]; decide
        · rw [if_neg h4]; decide
      · rw [if_neg h3]; decide
theorem l5_fuel (hk : k ≤ 4) (hF : F 3 = nI k) (g n : Int32) : f_X5_fuel (some (m, 0)) g n (mM M m A F) = mres M m A F k (aFuel (A 1) g n) := by
  unfold f_X5_fuel mres
  simp only [l5_fuelFault, mM_gR0, mM_gR1, mM_gR2, mM_gR4, mM_gR6, mM_gI3, mM_gI5, mM_gI7, mM_gI8, mM_gI9, mM_gI10, mM_gI11, mM_gI12, mM_gI13, mM_gI14, mM_gI15, mM_pF3, mM_pF5, mM_pF7, mM_pF8, mM_pF9, mM_pF10, mM_pF11, mM_pF12, mM_pF13, mM_pF14, mM_pF15, mM_a1, mM_a2, mM_a3, mM_a4, mM_a5, mM_s1, mM_s2, mM_s3, mM_s4, mM_s5, Option.bind_some, Option.map_some, mM_rc, ix108, ix432, ix80, i108_50, i108_51, i108_52, i108_53, i108_54, i108_55, i108_56, i108_72, i108_73, i108_74, i108_75, i108_76, i108_77, i108_78, i108_79, i108_80, i108_81, i108_82, l5_of0, l5_of1, l5_of2, l5_of3, l5_of4, l5_in, l5_isBarn, l5_isGenerator, l5_mile, l5_seats, qupd_at, qupd_qupd, qupd_ne, nI_1, g50, g50b, nI_add, qbI, l5_inVan, l5_gone, l5_r0, l5_r1, l5_r2, l5_r3, l5_generatorFor, l5_peopleAt, l5_isReel]
  by_cases h : (aFuel (A 1) g n).2 = none
  · rw [if_pos h, if_neg (aFuel_neg _ _ _ h), h]
  · rw [if_neg h, if_pos (by decide)]
    simp only [l5_know hk hF, mM_gR0, mM_gR1, mM_gR2, mM_gR4, mM_gR6, mM_gI3, mM_gI5, mM_gI7, mM_gI8, mM_gI9, mM_gI10, mM_gI11, mM_gI12, mM_gI13, mM_gI14, mM_gI15, mM_pF3, mM_pF5, mM_pF7, mM_pF8, mM_pF9, mM_pF10, mM_pF11, mM_pF12, mM_pF13, mM_pF14, mM_pF15, mM_a1, mM_a2, mM_a3, mM_a4, mM_a5, mM_s1, mM_s2, mM_s3, mM_s4, mM_s5, Option.bind_some, Option.map_some, mM_rc, ix108, ix432, ix80, i108_50, i108_51, i108_52, i108_53, i108_54, i108_55, i108_56, i108_72, i108_73, i108_74, i108_75, i108_76, i108_77, i108_78, i108_79, i108_80, i108_81, i108_82, l5_of0, l5_of1, l5_of2, l5_of3, l5_of4, l5_in, l5_isBarn, l5_isGenerator, l5_mile, l5_seats, qupd_at, qupd_qupd, qupd_ne, nI_1, g50, g50b, nI_add, qbI, l5_inVan, l5_gone, l5_r0, l5_r1, l5_r2, l5_r3, l5_generatorFor, l5_peopleAt, l5_isReel]
    unfold aFuel at h ⊢
    by_cases h1 : inR g 0 1 = 0
    · simp [h1] at h
    · obtain ⟨j, hj, rfl⟩ := inR_of (n := 1) (by decide) h1
      simp (disch := omega) only [h1, if_false, nI_clamp, l5_fuels, mM_gR0, mM_gR1, mM_gR2, mM_gR4, mM_gR6, mM_gI3, mM_gI5, mM_gI7, mM_gI8, mM_gI9, mM_gI10, mM_gI11, mM_gI12, mM_gI13, mM_gI14, mM_gI15, mM_pF3, mM_pF5, mM_pF7, mM_pF8, mM_pF9, mM_pF10, mM_pF11, mM_pF12, mM_pF13, mM_pF14, mM_pF15, mM_a1, mM_a2, mM_a3, mM_a4, mM_a5, mM_s1, mM_s2, mM_s3, mM_s4, mM_s5, Option.bind_some, Option.map_some, mM_rc, ix108, ix432, ix80, i108_50, i108_51, i108_52, i108_53, i108_54, i108_55, i108_56, i108_72, i108_73, i108_74, i108_75, i108_76, i108_77, i108_78, i108_79, i108_80, i108_81, i108_82, l5_of0, l5_of1, l5_of2, l5_of3, l5_of4, l5_in, l5_isBarn, l5_isGenerator, l5_mile, l5_seats, qupd_at, qupd_qupd, qupd_ne, nI_1, g50, g50b, nI_add, qbI, l5_inVan, l5_gone, l5_r0, l5_r1, l5_r2, l5_r3, l5_generatorFor, l5_peopleAt, l5_isReel] at h ⊢
      by_cases h2 : inR n 5 500 = 0
      · simp [h2] at h
      · by_cases h3 : n - n / 5 * 5 = 0
        · by_cases h4 : A 1 (50 + 2 * j) = -10000005
          · by_cases h5 : A 1 (50 + 2 * j + 1) + n ≤ 500
            · simp [h2, h3, h4, h5]
            · simp [h2, h3, h4, h5] at h
          · simp [h2, h3, h4] at h
        · simp [h2, h3] at h
theorem l5_renew (hk : k ≤ 4) (hF : F 3 = nI k) (r : Int32) : f_X5_renew (some (m, 0)) r (mM M m A F) = mres M m A F k (aRenew (A 1) r) := by
  unfold f_X5_renew aRenew mres
  simp only [mM_gR0, mM_gR1, mM_gR2, mM_gR4, mM_gR6, mM_gI3, mM_gI5, mM_gI7, mM_gI8, mM_gI9, mM_gI10, mM_gI11, mM_gI12, mM_gI13, mM_gI14, mM_gI15, mM_pF3, mM_pF5, mM_pF7, mM_pF8, mM_pF9, mM_pF10, mM_pF11, mM_pF12, mM_pF13, mM_pF14, mM_pF15, mM_a1, mM_a2, mM_a3, mM_a4, mM_a5, mM_s1, mM_s2, mM_s3, mM_s4, mM_s5, Option.bind_some, Option.map_some, mM_rc, ix108, ix432, ix80, i108_50, i108_51, i108_52, i108_53, i108_54, i108_55, i108_56, i108_72, i108_73, i108_74, i108_75, i108_76, i108_77, i108_78, i108_79, i108_80, i108_81, i108_82, l5_of0, l5_of1, l5_of2, l5_of3, l5_of4, l5_in, l5_isBarn, l5_isGenerator, l5_mile, l5_seats, qupd_at, qupd_qupd, qupd_ne, nI_1, g50, g50b, nI_add, qbI, l5_inVan, l5_gone, l5_r0, l5_r1, l5_r2, l5_r3, l5_generatorFor, l5_peopleAt, l5_isReel]
  by_cases h : isRF (A 1) r = 0
  · simp [h]
  · obtain ⟨j, hj, rfl, h1, -⟩ := isRF_of h
    simp (disch := omega) only [h, if_false, mM_gR0, mM_gR1, mM_gR2, mM_gR4, mM_gR6, mM_gI3, mM_gI5, mM_gI7, mM_gI8, mM_gI9, mM_gI10, mM_gI11, mM_gI12, mM_gI13, mM_gI14, mM_gI15, mM_pF3, mM_pF5, mM_pF7, mM_pF8, mM_pF9, mM_pF10, mM_pF11, mM_pF12, mM_pF13, mM_pF14, mM_pF15, mM_a1, mM_a2, mM_a3, mM_a4, mM_a5, mM_s1, mM_s2, mM_s3, mM_s4, mM_s5, Option.bind_some, Option.map_some, mM_rc, ix108, ix432, ix80, i108_50, i108_51, i108_52, i108_53, i108_54, i108_55, i108_56, i108_72, i108_73, i108_74, i108_75, i108_76, i108_77, i108_78, i108_79, i108_80, i108_81, i108_82, l5_of0, l5_of1, l5_of2, l5_of3, l5_of4, l5_in, l5_isBarn, l5_isGenerator, l5_mile, l5_seats, qupd_at, qupd_qupd, qupd_ne, nI_1, g50, g50b, nI_add, qbI, l5_inVan, l5_gone, l5_r0, l5_r1, l5_r2, l5_r3, l5_generatorFor, l5_peopleAt, l5_isReel, nI_clamp]
    by_cases h2 : A 1 (5 * j) = -10000005
    · simp (disch := omega) only [h2, if_true, l5_know hk hF, mM_gR0, mM_gR1, mM_gR2, mM_gR4, mM_gR6, mM_gI3, mM_gI5, mM_gI7, mM_gI8, mM_gI9, mM_gI10, mM_gI11, mM_gI12, mM_gI13, mM_gI14, mM_gI15, mM_pF3, mM_pF5, mM_pF7, mM_pF8, mM_pF9, mM_pF10, mM_pF11, mM_pF12, mM_pF13, mM_pF14, mM_pF15, mM_a1, mM_a2, mM_a3, mM_a4, mM_a5, mM_s1, mM_s2, mM_s3, mM_s4, mM_s5, Option.bind_some, Option.map_some, mM_rc, ix108, ix432, ix80, i108_50, i108_51, i108_52, i108_53, i108_54, i108_55, i108_56, i108_72, i108_73, i108_74, i108_75, i108_76, i108_77, i108_78, i108_79, i108_80, i108_81, i108_82, l5_of0, l5_of1, l5_of2, l5_of3, l5_of4, l5_in, l5_isBarn, l5_isGenerator, l5_mile, l5_seats, qupd_at, qupd_qupd, qupd_ne, nI_1, g50, g50b, nI_add, qbI, l5_inVan, l5_gone, l5_r0, l5_r1, l5_r2, l5_r3, l5_generatorFor, l5_peopleAt, l5_isReel]
    · simp only [h2, if_false]
theorem l5_puts (v : Int32) : f_X5_puts (some (m, 0)) (56 : Int32) v (mM M m A F) = some (A 1 56, mM M m (qupd A 1 (qupd (A 1) 56 v)) F) := by
  unfold f_X5_puts
  simp (disch := omega) only [mM_gR0, mM_gR1, mM_gR2, mM_gR4, mM_gR6, mM_gI3, mM_gI5, mM_gI7, mM_gI8, mM_gI9, mM_gI10, mM_gI11, mM_gI12, mM_gI13, mM_gI14, mM_gI15, mM_pF3, mM_pF5, mM_pF7, mM_pF8, mM_pF9, mM_pF10, mM_pF11, mM_pF12, mM_pF13, mM_pF14, mM_pF15, mM_a1, mM_a2, mM_a3, mM_a4, mM_a5, mM_s1, mM_s2, mM_s3, mM_s4, mM_s5, Option.bind_some, Option.map_some, mM_rc, ix108, ix432, ix80, i108_50, i108_51, i108_52, i108_53, i108_54, i108_55, i108_56, i108_72, i108_73, i108_74, i108_75, i108_76, i108_77, i108_78, i108_79, i108_80, i108_81, i108_82, l5_of0, l5_of1, l5_of2, l5_of3, l5_of4, l5_in, l5_isBarn, l5_isGenerator, l5_mile, l5_seats, qupd_at, qupd_qupd, qupd_ne, nI_1, g50, g50b, nI_add, qbI, l5_inVan, l5_gone, l5_r0, l5_r1, l5_r2, l5_r3, l5_generatorFor, l5_peopleAt, l5_isReel]
theorem l5_setPrice (hk : k ≤ 4) (hF : F 3 = nI k) (c : Int32) : f_X5_setPrice (some (m, 0)) c (mM M m A F) = mres M m A F k (aPrice (A 1) c) := by
  unfold f_X5_setPrice aPrice mres
  simp only [mM_gR0, mM_gR1, mM_gR2, mM_gR4, mM_gR6, mM_gI3, mM_gI5, mM_gI7, mM_gI8, mM_gI9, mM_gI10, mM_gI11, mM_gI12, mM_gI13, mM_gI14, mM_gI15, mM_pF3, mM_pF5, mM_pF7, mM_pF8, mM_pF9, mM_pF10, mM_pF11, mM_pF12, mM_pF13, mM_pF14, mM_pF15, mM_a1, mM_a2, mM_a3, mM_a4, mM_a5, mM_s1, mM_s2, mM_s3, mM_s4, mM_s5, Option.bind_some, Option.map_some, mM_rc, ix108, ix432, ix80, i108_50, i108_51, i108_52, i108_53, i108_54, i108_55, i108_56, i108_72, i108_73, i108_74, i108_75, i108_76, i108_77, i108_78, i108_79, i108_80, i108_81, i108_82, l5_of0, l5_of1, l5_of2, l5_of3, l5_of4, l5_in, l5_isBarn, l5_isGenerator, l5_mile, l5_seats, qupd_at, qupd_qupd, qupd_ne, nI_1, g50, g50b, nI_add, qbI, l5_inVan, l5_gone, l5_r0, l5_r1, l5_r2, l5_r3, l5_generatorFor, l5_peopleAt, l5_isReel]
  by_cases h : inR c 1 99 = 0
  · simp [h]
  · by_cases h2 : A 1 56 = c
    · simp [h, h2]
    · simp (disch := omega) only [h, h2, if_false, l5_know hk hF, l5_puts, mM_gR0, mM_gR1, mM_gR2, mM_gR4, mM_gR6, mM_gI3, mM_gI5, mM_gI7, mM_gI8, mM_gI9, mM_gI10, mM_gI11, mM_gI12, mM_gI13, mM_gI14, mM_gI15, mM_pF3, mM_pF5, mM_pF7, mM_pF8, mM_pF9, mM_pF10, mM_pF11, mM_pF12, mM_pF13, mM_pF14, mM_pF15, mM_a1, mM_a2, mM_a3, mM_a4, mM_a5, mM_s1, mM_s2, mM_s3, mM_s4, mM_s5, Option.bind_some, Option.map_some, mM_rc, ix108, ix432, ix80, i108_50, i108_51, i108_52, i108_53, i108_54, i108_55, i108_56, i108_72, i108_73, i108_74, i108_75, i108_76, i108_77, i108_78, i108_79, i108_80, i108_81, i108_82, l5_of0, l5_of1, l5_of2, l5_of3, l5_of4, l5_in, l5_isBarn, l5_isGenerator, l5_mile, l5_seats, qupd_at, qupd_qupd, qupd_ne, nI_1, g50, g50b, nI_add, qbI, l5_inVan, l5_gone, l5_r0, l5_r1, l5_r2, l5_r3, l5_generatorFor, l5_peopleAt, l5_isReel]
theorem l5_begins : f_X5_begins (some (m, 0)) (mM M m A F) = some (A 1 55 + 1, mM M m (qupd A 1 (beginsF (A 1))) F) := by
  unfold f_X5_begins
  simp (disch := omega) only [f_X5_begins_13, mM_gR0, mM_gR1, mM_gR2, mM_gR4, mM_gR6, mM_gI3, mM_gI5, mM_gI7, mM_gI8, mM_gI9, mM_gI10, mM_gI11, mM_gI12, mM_gI13, mM_gI14, mM_gI15, mM_pF3, mM_pF5, mM_pF7, mM_pF8, mM_pF9, mM_pF10, mM_pF11, mM_pF12, mM_pF13, mM_pF14, mM_pF15, mM_a1, mM_a2, mM_a3, mM_a4, mM_a5, mM_s1, mM_s2, mM_s3, mM_s4, mM_s5, Option.bind_some, Option.map_some, mM_rc, ix108, ix432, ix80, i108_50, i108_51, i108_52, i108_53, i108_54, i108_55, i108_56, i108_72, i108_73, i108_74, i108_75, i108_76, i108_77, i108_78, i108_79, i108_80, i108_81, i108_82, l5_of0, l5_of1, l5_of2, l5_of3, l5_of4, l5_in, l5_isBarn, l5_isGenerator, l5_mile, l5_seats, qupd_at, qupd_qupd, qupd_ne, nI_1, g50, g50b, nI_add, qbI, l5_inVan, l5_gone, l5_r0, l5_r1, l5_r2, l5_r3, l5_generatorFor, l5_peopleAt, l5_isReel, Int32.reduceAdd, Int32.reduceMul, Int32.reduceSub, Int32.reduceLE, Int32.reduceLT, if_true, if_false]
  simp (disch := omega) only [mM_gR0, mM_gR1, mM_gR2, mM_gR4, mM_gR6, mM_gI3, mM_gI5, mM_gI7, mM_gI8, mM_gI9, mM_gI10, mM_gI11, mM_gI12, mM_gI13, mM_gI14, mM_gI15, mM_pF3, mM_pF5, mM_pF7, mM_pF8, mM_pF9, mM_pF10, mM_pF11, mM_pF12, mM_pF13, mM_pF14, mM_pF15, mM_a1, mM_a2, mM_a3, mM_a4, mM_a5, mM_s1, mM_s2, mM_s3, mM_s4, mM_s5, Option.bind_some, Option.map_some, mM_rc, ix108, ix432, ix80, i108_50, i108_51, i108_52, i108_53, i108_54, i108_55, i108_56, i108_72, i108_73, i108_74, i108_75, i108_76, i108_77, i108_78, i108_79, i108_80, i108_81, i108_82, l5_of0, l5_of1, l5_of2, l5_of3, l5_of4, l5_in, l5_isBarn, l5_isGenerator, l5_mile, l5_seats, qupd_at, qupd_qupd, qupd_ne, nI_1, g50, g50b, nI_add, qbI, l5_inVan, l5_gone, l5_r0, l5_r1, l5_r2, l5_r3, l5_generatorFor, l5_peopleAt, l5_isReel, i108_57, i108_58, i108_59, i108_60, i108_61]
  rfl
theorem l5_nextDay (hk : k ≤ 4) (hF : F 3 = nI k) : f_X5_nextDay (some (m, 0)) (mM M m A F) = mres M m A F k (aDay (A 1)) := by
  unfold f_X5_nextDay aDay mres
  simp only [mM_gR0, mM_gR1, mM_gR2, mM_gR4, mM_gR6, mM_gI3, mM_gI5, mM_gI7, mM_gI8, mM_gI9, mM_gI10, mM_gI11, mM_gI12, mM_gI13, mM_gI14, mM_gI15, mM_pF3, mM_pF5, mM_pF7, mM_pF8, mM_pF9, mM_pF10, mM_pF11, mM_pF12, mM_pF13, mM_pF14, mM_pF15, mM_a1, mM_a2, mM_a3, mM_a4, mM_a5, mM_s1, mM_s2, mM_s3, mM_s4, mM_s5, Option.bind_some, Option.map_some, mM_rc, ix108, ix432, ix80, i108_50, i108_51, i108_52, i108_53, i108_54, i108_55, i108_56, i108_72, i108_73, i108_74, i108_75, i108_76, i108_77, i108_78, i108_79, i108_80, i108_81, i108_82, l5_of0, l5_of1, l5_of2, l5_of3, l5_of4, l5_in, l5_isBarn, l5_isGenerator, l5_mile, l5_seats, qupd_at, qupd_qupd, qupd_ne, nI_1, g50, g50b, nI_add, qbI, l5_inVan, l5_gone, l5_r0, l5_r1, l5_r2, l5_r3, l5_generatorFor, l5_peopleAt, l5_isReel]
  by_cases h : A 1 55 = 9999
  · simp [h]
  · simp (disch := omega) only [h, if_false, l5_know hk hF, l5_begins, mM_gR0, mM_gR1, mM_gR2, mM_gR4, mM_gR6, mM_gI3, mM_gI5, mM_gI7, mM_gI8, mM_gI9, mM_gI10, mM_gI11, mM_gI12, mM_gI13, mM_gI14, mM_gI15, mM_pF3, mM_pF5, mM_pF7, mM_pF8, mM_pF9, mM_pF10, mM_pF11, mM_pF12, mM_pF13, mM_pF14, mM_pF15, mM_a1, mM_a2, mM_a3, mM_a4, mM_a5, mM_s1, mM_s2, mM_s3, mM_s4, mM_s5, Option.bind_some, Option.map_some, mM_rc, ix108, ix432, ix80, i108_50, i108_51, i108_52, i108_53, i108_54, i108_55, i108_56, i108_72, i108_73, i108_74, i108_75, i108_76, i108_77, i108_78, i108_79, i108_80, i108_81, i108_82, l5_of0, l5_of1, l5_of2, l5_of3, l5_of4, l5_in, l5_isBarn, l5_isGenerator, l5_mile, l5_seats, qupd_at, qupd_qupd, qupd_ne, nI_1, g50, g50b, nI_add, qbI, l5_inVan, l5_gone, l5_r0, l5_r1, l5_r2, l5_r3, l5_generatorFor, l5_peopleAt, l5_isReel]
end M3
