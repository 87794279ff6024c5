/-! the model's answers of the row -/
set_option maxRecDepth 100000
theorem inR_of {v hi : Int32} {n : Nat} (hh : hi.toInt = n) (h : ¬ inR v 0 hi = 0) : ∃ j : Nat, j ≤ n ∧ v = nI j := by
  unfold inR at h
  by_cases h1 : v < 0
  · rw [if_pos h1] at h; exact absurd rfl h
  · rw [if_neg h1] at h
    by_cases h2 : hi < v
    · rw [if_pos h2] at h; exact absurd rfl h
    · exact nI_of2 hh h1 (Int32.not_lt.mp h2)
def isRF (s : Nat → Int32) (r : Int32) : Int32 := if inR r 0 9 = 0 then 0 else if s (5 * r.toNatClampNeg) = -2 then 0 else 1
section M1
variable {M : QM} {m : Nat} {A : Nat → Nat → Int32} {F : Nat → Int32}
theorem l5_isReel (r : Int32) : f_X5_isReel (some (m, 0)) r (mM M m A F) = some (isRF (A 1) r) := by
  unfold f_X5_isReel isRF
  simp only [l5_in, Option.bind_some]
  by_cases h : inR r 0 9 = 0
  · rw [if_pos h, if_pos h]
  · rw [if_neg h, if_neg h]
    obtain ⟨k, hk, rfl⟩ := inR_of (n := 9) (by decide) h
    simp (disch := omega) only [mM_gR0, mM_gR1, mM_gR2, mM_gR4, mM_gR6, mM_gI3, mM_gI5, mM_gI7, mM_gI8, mM_gI9, mM_gI10, mM_gI11, mM_gI12, mM_gI13, mM_gI14, mM_gI15, mM_pF3, mM_pF5, mM_pF7, mM_pF8, mM_pF9, mM_pF10, mM_pF11, mM_pF12, mM_pF13, mM_pF14, mM_pF15, mM_a1, mM_a2, mM_a3, mM_a4, mM_a5, mM_s1, mM_s2, mM_s3, mM_s4, mM_s5, Option.bind_some, Option.map_some, mM_rc, ix108, ix432, ix80, i108_50, i108_51, i108_52, i108_53, i108_54, i108_55, i108_56, i108_72, i108_73, i108_74, i108_75, i108_76, i108_77, i108_78, i108_79, i108_80, i108_81, i108_82, l5_of0, l5_of1, l5_of2, l5_of3, l5_of4, l5_in, l5_isBarn, l5_isGenerator, l5_mile, l5_seats, qupd_at, qupd_qupd, qupd_ne, nI_1, g50, g50b, nI_add, nI_clamp]
    split <;> rfl
theorem l5_inVan_4 : ∀ n k : Nat, k ≤ 10 → 10 < k + n → f_X5_inVan_4 (mM M m A F) n (some (m, 0)) (sm (fun r => if A 1 (5 * r) = -10000005 then 1 else 0) k) (nI k) = some (vanF (A 1)) := by
  intro n
  induction n with
  | zero => intro k h1 h2; omega
  | succ n ih =>
    intro k h1 h2
    rw [f_X5_inVan_4]
    by_cases hk : k = 10
    · subst hk
      rw [if_pos (by decide +kernel)]
      simp (disch := omega) only [mM_gR0, mM_gR1, mM_gR2, mM_gR4, mM_gR6, mM_gI3, mM_gI5, mM_gI7, mM_gI8, mM_gI9, mM_gI10, mM_gI11, mM_gI12, mM_gI13, mM_gI14, mM_gI15, mM_pF3, mM_pF5, mM_pF7, mM_pF8, mM_pF9, mM_pF10, mM_pF11, mM_pF12, mM_pF13, mM_pF14, mM_pF15, mM_a1, mM_a2, mM_a3, mM_a4, mM_a5, mM_s1, mM_s2, mM_s3, mM_s4, mM_s5, Option.bind_some, Option.map_some, mM_rc, ix108, ix432, ix80, i108_50, i108_51, i108_52, i108_53, i108_54, i108_55, i108_56, i108_72, i108_73, i108_74, i108_75, i108_76, i108_77, i108_78, i108_79, i108_80, i108_81, i108_82, l5_of0, l5_of1, l5_of2, l5_of3, l5_of4, l5_in, l5_isBarn, l5_isGenerator, l5_mile, l5_seats, qupd_at, qupd_qupd, qupd_ne, nI_1, g50, g50b, nI_add, f_X5_inVan_57, f_X5_inVan_75]
      rfl
    · rw [if_neg (show ¬ (10 : Int32) ≤ nI k from nI_ge (a := k) (b := 10) (by omega) (by decide))]
      simp (disch := omega) only [mM_gR0, mM_gR1, mM_gR2, mM_gR4, mM_gR6, mM_gI3, mM_gI5, mM_gI7, mM_gI8, mM_gI9, mM_gI10, mM_gI11, mM_gI12, mM_gI13, mM_gI14, mM_gI15, mM_pF3, mM_pF5, mM_pF7, mM_pF8, mM_pF9, mM_pF10, mM_pF11, mM_pF12, mM_pF13, mM_pF14, mM_pF15, mM_a1, mM_a2, mM_a3, mM_a4, mM_a5, mM_s1, mM_s2, mM_s3, mM_s4, mM_s5, Option.bind_some, Option.map_some, mM_rc, ix108, ix432, ix80, i108_50, i108_51, i108_52, i108_53, i108_54, i108_55, i108_56, i108_72, i108_73, i108_74, i108_75, i108_76, i108_77, i108_78, i108_79, i108_80, i108_81, i108_82, l5_of0, l5_of1, l5_of2, l5_of3, l5_of4, l5_in, l5_isBarn, l5_isGenerator, l5_mile, l5_seats, qupd_at, qupd_qupd, qupd_ne, nI_1, g50, g50b, nI_add, f_X5_inVan_31]
      exact ih (k + 1) (by omega) (by omega)
theorem l5_inVan : f_X5_inVan (some (m, 0)) (mM M m A F) = some (vanF (A 1)) := l5_inVan_4 11 0 (by omega) (by omega)
theorem l5_gone_4 : ∀ n k : Nat, k ≤ 10 → 10 < k + n → f_X5_gone_4 (mM M m A F) n (some (m, 0)) (sm (fun r => if A 1 (5 * r) = -2 then 1 else 0) k) (nI k) = some (goneF (A 1)) := by
  intro n
  induction n with
  | zero => intro k h1 h2; omega
  | succ n ih =>
    intro k h1 h2
    rw [f_X5_gone_4]
    by_cases hk : k = 10
    · subst hk
      rw [if_pos (by decide +kernel)]
      rfl
    · rw [if_neg (show ¬ (10 : Int32) ≤ nI k from nI_ge (a := k) (b := 10) (by omega) (by decide))]
      simp (disch := omega) only [mM_gR0, mM_gR1, mM_gR2, mM_gR4, mM_gR6, mM_gI3, mM_gI5, mM_gI7, mM_gI8, mM_gI9, mM_gI10, mM_gI11, mM_gI12, mM_gI13, mM_gI14, mM_gI15, mM_pF3, mM_pF5, mM_pF7, mM_pF8, mM_pF9, mM_pF10, mM_pF11, mM_pF12, mM_pF13, mM_pF14, mM_pF15, mM_a1, mM_a2, mM_a3, mM_a4, mM_a5, mM_s1, mM_s2, mM_s3, mM_s4, mM_s5, Option.bind_some, Option.map_some, mM_rc, ix108, ix432, ix80, i108_50, i108_51, i108_52, i108_53, i108_54, i108_55, i108_56, i108_72, i108_73, i108_74, i108_75, i108_76, i108_77, i108_78, i108_79, i108_80, i108_81, i108_82, l5_of0, l5_of1, l5_of2, l5_of3, l5_of4, l5_in, l5_isBarn, l5_isGenerator, l5_mile, l5_seats, qupd_at, qupd_qupd, qupd_ne, nI_1, g50, g50b, nI_add, f_X5_gone_31]
      exact ih (k + 1) (by omega) (by omega)
theorem l5_gone : f_X5_gone (some (m, 0)) (mM M m A F) = some (goneF (A 1)) := l5_gone_4 11 0 (by omega) (by omega)
theorem l5_sum_5 (a N : Nat) (h : a + N ≤ 108) : ∀ n k : Nat, k ≤ N → N < k + n → f_X5_sum_5 (mM M m A F) n (some (m, 0)) (nI a) (nI N) (sm (fun r => A 1 (a + r)) k) (nI k) = some (sumF (A 1) a N) := by
  intro n
  induction n with
  | zero => intro k h1 h2; omega
  | succ n ih =>
    intro k h1 h2
    rw [f_X5_sum_5]
    by_cases hk : k = N
    · subst hk
      rw [if_pos (nI_le (Nat.le_refl _) (by omega))]
      rfl
    · rw [if_neg (nI_ge (by omega) (by omega))]
      simp (disch := omega) only [mM_gR0, mM_gR1, mM_gR2, mM_gR4, mM_gR6, mM_gI3, mM_gI5, mM_gI7, mM_gI8, mM_gI9, mM_gI10, mM_gI11, mM_gI12, mM_gI13, mM_gI14, mM_gI15, mM_pF3, mM_pF5, mM_pF7, mM_pF8, mM_pF9, mM_pF10, mM_pF11, mM_pF12, mM_pF13, mM_pF14, mM_pF15, mM_a1, mM_a2, mM_a3, mM_a4, mM_a5, mM_s1, mM_s2, mM_s3, mM_s4, mM_s5, Option.bind_some, Option.map_some, mM_rc, ix108, ix432, ix80, i108_50, i108_51, i108_52, i108_53, i108_54, i108_55, i108_56, i108_72, i108_73, i108_74, i108_75, i108_76, i108_77, i108_78, i108_79, i108_80, i108_81, i108_82, l5_of0, l5_of1, l5_of2, l5_of3, l5_of4, l5_in, l5_isBarn, l5_isGenerator, l5_mile, l5_seats, qupd_at, qupd_qupd, qupd_ne, nI_1, g50, g50b, nI_add, nI_add]
      exact ih (k + 1) (by omega) (by omega)
theorem l5_sum (a N : Nat) (h : a + N ≤ 108) (hN : N < 12) : f_X5_sum (some (m, 0)) (nI a) (nI N) (mM M m A F) = some (sumF (A 1) a N) := l5_sum_5 a N h 12 0 (by omega) (by omega)
theorem l5_generatorFor (b n : Int32) : f_X5_generatorFor (some (m, 0)) b n (mM M m A F) = some (genF (A 1) b n) := by
  unfold f_X5_generatorFor genF
  simp only [f_X5_generatorFor_2, mM_gR0, mM_gR1, mM_gR2, mM_gR4, mM_gR6, mM_gI3, mM_gI5, mM_gI7, mM_gI8, mM_gI9, mM_gI10, mM_gI11, mM_gI12, mM_gI13, mM_gI14, mM_gI15, mM_pF3, mM_pF5, mM_pF7, mM_pF8, mM_pF9, mM_pF10, mM_pF11, mM_pF12, mM_pF13, mM_pF14, mM_pF15, mM_a1, mM_a2, mM_a3, mM_a4, mM_a5, mM_s1, mM_s2, mM_s3, mM_s4, mM_s5, Option.bind_some, Option.map_some, mM_rc, ix108, ix432, ix80, i108_50, i108_51, i108_52, i108_53, i108_54, i108_55, i108_56, i108_72, i108_73, i108_74, i108_75, i108_76, i108_77, i108_78, i108_79, i108_80, i108_81, i108_82, l5_of0, l5_of1, l5_of2, l5_of3, l5_of4, l5_in, l5_isBarn, l5_isGenerator, l5_mile, l5_seats, qupd_at, qupd_qupd, qupd_ne, nI_1, g50, g50b, nI_add, Int32.reduceAdd, Int32.reduceMul, Int32.reduceSub, Int32.reduceLE, Int32.reduceLT, if_true, if_false]
  by_cases h1 : A 1 50 = b <;> by_cases h2 : A 1 51 < n <;> by_cases h3 : A 1 52 = b <;> by_cases h4 : A 1 53 < n <;> simp [h1, h2, h3, h4]
theorem l5_generatorFor0 (b n : Int32) : genF (A 1) b n = 0 ∨ genF (A 1) b n = 1 ∨ genF (A 1) b n = -10000005 := by
  unfold genF
  split
  · exact Or.inl rfl
  · split
    · exact Or.inr (Or.inl rfl)
    · exact Or.inr (Or.inr rfl)
/-- reels(barn, what) -/
theorem l5_reels0 (b : Int32) : ∀ n k : Nat, k ≤ 10 → 10 < k + n → f_X5_reels_5 (mM M m A F) n (some (m, 0)) b (0 : Int32) (sm (fun r => if A 1 (5 * r) = b then 1 else 0) k) (nI k) = some (cntF (A 1) b) := by
  intro n
  induction n with
  | zero => intro k h1 h2; omega
  | succ n ih =>
    intro k h1 h2
    rw [f_X5_reels_5]
    by_cases hk : k = 10
    · subst hk
      rw [if_pos (by decide +kernel)]
      rfl
    · rw [if_neg (show ¬ (10 : Int32) ≤ nI k from nI_ge (a := k) (b := 10) (by omega) (by decide))]
      simp (disch := omega) only [mM_gR0, mM_gR1, mM_gR2, mM_gR4, mM_gR6, mM_gI3, mM_gI5, mM_gI7, mM_gI8, mM_gI9, mM_gI10, mM_gI11, mM_gI12, mM_gI13, mM_gI14, mM_gI15, mM_pF3, mM_pF5, mM_pF7, mM_pF8, mM_pF9, mM_pF10, mM_pF11, mM_pF12, mM_pF13, mM_pF14, mM_pF15, mM_a1, mM_a2, mM_a3, mM_a4, mM_a5, mM_s1, mM_s2, mM_s3, mM_s4, mM_s5, Option.bind_some, Option.map_some, mM_rc, ix108, ix432, ix80, i108_50, i108_51, i108_52, i108_53, i108_54, i108_55, i108_56, i108_72, i108_73, i108_74, i108_75, i108_76, i108_77, i108_78, i108_79, i108_80, i108_81, i108_82, l5_of0, l5_of1, l5_of2, l5_of3, l5_of4, l5_in, l5_isBarn, l5_isGenerator, l5_mile, l5_seats, qupd_at, qupd_qupd, qupd_ne, nI_1, g50, g50b, nI_add, ne_0_1, ne_0_2, ne_0_3, ne_1_0, ne_1_2, ne_1_3, ne_2_0, ne_2_1, ne_2_3, ne_3_0, ne_3_1, ne_3_2, if_true, if_false, f_X5_reels_32, f_X5_reels_70, f_X5_reels_144]
      rw [← ih (k + 1) (by omega) (by omega)]
      by_cases h : A 1 (5 * k) = b <;> simp [h, sm]
theorem l5_reels1 (b : Int32) : ∀ n k : Nat, k ≤ 10 → 10 < k + n → f_X5_reels_5 (mM M m A F) n (some (m, 0)) b (1 : Int32) (sm (fun r => if A 1 (5 * r) = b then A 1 (5 * r + 1) else 0) k) (nI k) = some (minF (A 1) b) := by
  intro n
  induction n with
  | zero => intro k h1 h2; omega
  | succ n ih =>
    intro k h1 h2
    rw [f_X5_reels_5]
    by_cases hk : k = 10
    · subst hk
      rw [if_pos (by decide +kernel)]
      rfl
    · rw [if_neg (show ¬ (10 : Int32) ≤ nI k from nI_ge (a := k) (b := 10) (by omega) (by decide))]
      simp (disch := omega) only [mM_gR0, mM_gR1, mM_gR2, mM_gR4, mM_gR6, mM_gI3, mM_gI5, mM_gI7, mM_gI8, mM_gI9, mM_gI10, mM_gI11, mM_gI12, mM_gI13, mM_gI14, mM_gI15, mM_pF3, mM_pF5, mM_pF7, mM_pF8, mM_pF9, mM_pF10, mM_pF11, mM_pF12, mM_pF13, mM_pF14, mM_pF15, mM_a1, mM_a2, mM_a3, mM_a4, mM_a5, mM_s1, mM_s2, mM_s3, mM_s4, mM_s5, Option.bind_some, Option.map_some, mM_rc, ix108, ix432, ix80, i108_50, i108_51, i108_52, i108_53, i108_54, i108_55, i108_56, i108_72, i108_73, i108_74, i108_75, i108_76, i108_77, i108_78, i108_79, i108_80, i108_81, i108_82, l5_of0, l5_of1, l5_of2, l5_of3, l5_of4, l5_in, l5_isBarn, l5_isGenerator, l5_mile, l5_seats, qupd_at, qupd_qupd, qupd_ne, nI_1, g50, g50b, nI_add, ne_0_1, ne_0_2, ne_0_3, ne_1_0, ne_1_2, ne_1_3, ne_2_0, ne_2_1, ne_2_3, ne_3_0, ne_3_1, ne_3_2, if_true, if_false, f_X5_reels_32, f_X5_reels_70, f_X5_reels_144]
      rw [← ih (k + 1) (by omega) (by omega)]
      by_cases h : A 1 (5 * k) = b <;> simp [h, sm]
theorem l5_reels2 (b : Int32) : ∀ n k : Nat, k ≤ 10 → 10 < k + n → f_X5_reels_5 (mM M m A F) n (some (m, 0)) b (2 : Int32) (mxw (A 1) b k) (nI k) = some (wrF (A 1) b) := by
  intro n
  induction n with
  | zero => intro k h1 h2; omega
  | succ n ih =>
    intro k h1 h2
    rw [f_X5_reels_5]
    by_cases hk : k = 10
    · subst hk
      rw [if_pos (by decide +kernel)]
      rfl
    · rw [if_neg (show ¬ (10 : Int32) ≤ nI k from nI_ge (a := k) (b := 10) (by omega) (by decide))]
      simp (disch := omega) only [mM_gR0, mM_gR1, mM_gR2, mM_gR4, mM_gR6, mM_gI3, mM_gI5, mM_gI7, mM_gI8, mM_gI9, mM_gI10, mM_gI11, mM_gI12, mM_gI13, mM_gI14, mM_gI15, mM_pF3, mM_pF5, mM_pF7, mM_pF8, mM_pF9, mM_pF10, mM_pF11, mM_pF12, mM_pF13, mM_pF14, mM_pF15, mM_a1, mM_a2, mM_a3, mM_a4, mM_a5, mM_s1, mM_s2, mM_s3, mM_s4, mM_s5, Option.bind_some, Option.map_some, mM_rc, ix108, ix432, ix80, i108_50, i108_51, i108_52, i108_53, i108_54, i108_55, i108_56, i108_72, i108_73, i108_74, i108_75, i108_76, i108_77, i108_78, i108_79, i108_80, i108_81, i108_82, l5_of0, l5_of1, l5_of2, l5_of3, l5_of4, l5_in, l5_isBarn, l5_isGenerator, l5_mile, l5_seats, qupd_at, qupd_qupd, qupd_ne, nI_1, g50, g50b, nI_add, ne_0_1, ne_0_2, ne_0_3, ne_1_0, ne_1_2, ne_1_3, ne_2_0, ne_2_1, ne_2_3, ne_3_0, ne_3_1, ne_3_2, if_true, if_false, f_X5_reels_32, f_X5_reels_70, f_X5_reels_144]
      rw [← ih (k + 1) (by omega) (by omega)]
      by_cases h : A 1 (5 * k) = b <;> by_cases h2 : mxw (A 1) b k < A 1 (5 * k + 2) <;> simp [h, mxw, h2, Int32.not_le.mpr, Int32.not_lt.mp]
theorem l5_reels3 (b : Int32) : ∀ n k : Nat, k ≤ 10 → 10 < k + n → f_X5_reels_5 (mM M m A F) n (some (m, 0)) b (3 : Int32) (sm (fun r => if A 1 (5 * r) = b then (if ((A 1 (5 * r + 4) >>> (b &&& 31)) &&& 1) = 0 then 1 else 0) else 0) k) (nI k) = some (frF (A 1) b) := by
  intro n
  induction n with
  | zero => intro k h1 h2; omega
  | succ n ih =>
    intro k h1 h2
    rw [f_X5_reels_5]
    by_cases hk : k = 10
    · subst hk
      rw [if_pos (by decide +kernel)]
      rfl
    · rw [if_neg (show ¬ (10 : Int32) ≤ nI k from nI_ge (a := k) (b := 10) (by omega) (by decide))]
      simp (disch := omega) only [mM_gR0, mM_gR1, mM_gR2, mM_gR4, mM_gR6, mM_gI3, mM_gI5, mM_gI7, mM_gI8, mM_gI9, mM_gI10, mM_gI11, mM_gI12, mM_gI13, mM_gI14, mM_gI15, mM_pF3, mM_pF5, mM_pF7, mM_pF8, mM_pF9, mM_pF10, mM_pF11, mM_pF12, mM_pF13, mM_pF14, mM_pF15, mM_a1, mM_a2, mM_a3, mM_a4, mM_a5, mM_s1, mM_s2, mM_s3, mM_s4, mM_s5, Option.bind_some, Option.map_some, mM_rc, ix108, ix432, ix80, i108_50, i108_51, i108_52, i108_53, i108_54, i108_55, i108_56, i108_72, i108_73, i108_74, i108_75, i108_76, i108_77, i108_78, i108_79, i108_80, i108_81, i108_82, l5_of0, l5_of1, l5_of2, l5_of3, l5_of4, l5_in, l5_isBarn, l5_isGenerator, l5_mile, l5_seats, qupd_at, qupd_qupd, qupd_ne, nI_1, g50, g50b, nI_add, ne_0_1, ne_0_2, ne_0_3, ne_1_0, ne_1_2, ne_1_3, ne_2_0, ne_2_1, ne_2_3, ne_3_0, ne_3_1, ne_3_2, if_true, if_false, f_X5_reels_32, f_X5_reels_70, f_X5_reels_144]
      rw [← ih (k + 1) (by omega) (by omega)]
      by_cases h : A 1 (5 * k) = b <;> by_cases h2 : ((A 1 (5 * k + 4) >>> (b &&& 31)) &&& 1) = 0 <;> simp [h, sm, h2]
theorem l5_r0 (b : Int32) : f_X5_reels (some (m, 0)) b (0 : Int32) (mM M m A F) = some (cntF (A 1) b) := l5_reels0 b 11 0 (by omega) (by omega)
theorem l5_r1 (b : Int32) : f_X5_reels (some (m, 0)) b (1 : Int32) (mM M m A F) = some (minF (A 1) b) := l5_reels1 b 11 0 (by omega) (by omega)
theorem l5_r2 (b : Int32) : f_X5_reels (some (m, 0)) b (2 : Int32) (mM M m A F) = some (wrF (A 1) b) := l5_reels2 b 11 0 (by omega) (by omega)
theorem l5_r3 (b : Int32) : f_X5_reels (some (m, 0)) b (3 : Int32) (mM M m A F) = some (frF (A 1) b) := l5_reels3 b 11 0 (by omega) (by omega)
theorem l5_why (b : Nat) (hb : b < 5) : f_X5_why (some (m, 0)) (nI b) (mM M m A F) = some (whyF (A 1) (nI b)) := by
  unfold f_X5_why whyF
  rw [show (57 : Int32) = nI 57 from rfl, nI_add, nI_clamp (by omega)]
  simp (disch := omega) only [mM_gR0, mM_gR1, mM_gR2, mM_gR4, mM_gR6, mM_gI3, mM_gI5, mM_gI7, mM_gI8, mM_gI9, mM_gI10, mM_gI11, mM_gI12, mM_gI13, mM_gI14, mM_gI15, mM_pF3, mM_pF5, mM_pF7, mM_pF8, mM_pF9, mM_pF10, mM_pF11, mM_pF12, mM_pF13, mM_pF14, mM_pF15, mM_a1, mM_a2, mM_a3, mM_a4, mM_a5, mM_s1, mM_s2, mM_s3, mM_s4, mM_s5, Option.bind_some, Option.map_some, mM_rc, ix108, ix432, ix80, i108_50, i108_51, i108_52, i108_53, i108_54, i108_55, i108_56, i108_72, i108_73, i108_74, i108_75, i108_76, i108_77, i108_78, i108_79, i108_80, i108_81, i108_82, l5_of0, l5_of1, l5_of2, l5_of3, l5_of4, l5_in, l5_isBarn, l5_isGenerator, l5_mile, l5_seats, qupd_at, qupd_qupd, qupd_ne, nI_1, g50, g50b, nI_add, l5_r0, l5_r1, l5_generatorFor]
  repeat (first | rfl | split)
theorem l5_peopleAt (b : Int32) : f_X5_peopleAt (some (m, 0)) b (mM M m A F) = some (pplF (A 1) b) := by
  unfold f_X5_peopleAt pplF
  simp only [mM_gR0, mM_gR1, mM_gR2, mM_gR4, mM_gR6, mM_gI3, mM_gI5, mM_gI7, mM_gI8, mM_gI9, mM_gI10, mM_gI11, mM_gI12, mM_gI13, mM_gI14, mM_gI15, mM_pF3, mM_pF5, mM_pF7, mM_pF8, mM_pF9, mM_pF10, mM_pF11, mM_pF12, mM_pF13, mM_pF14, mM_pF15, mM_a1, mM_a2, mM_a3, mM_a4, mM_a5, mM_s1, mM_s2, mM_s3, mM_s4, mM_s5, Option.bind_some, Option.map_some, mM_rc, ix108, ix432, ix80, i108_50, i108_51, i108_52, i108_53, i108_54, i108_55, i108_56, i108_72, i108_73, i108_74, i108_75, i108_76, i108_77, i108_78, i108_79, i108_80, i108_81, i108_82, l5_of0, l5_of1, l5_of2, l5_of3, l5_of4, l5_in, l5_isBarn, l5_isGenerator, l5_mile, l5_seats, qupd_at, qupd_qupd, qupd_ne, nI_1, g50, g50b, nI_add, l5_r0, l5_r2, l5_r3, f_X5_peopleAt_38, qnz]
  by_cases h : cntF (A 1) b = 0
  · simp [h]
  · simp only [h, if_false]
    split
    · next h1 => rw [if_neg (Int32.not_lt.mpr h1)]
    · next h1 => rw [if_pos (Int32.not_le.mp h1)]
end M1
