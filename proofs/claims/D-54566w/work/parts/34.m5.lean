/-! the model: undo, keep, restore, text; what is told -/
set_option maxRecDepth 100000
def ovr (X S : Nat → Int32) (j : Nat) : Nat → Int32 := fun i => if i < j then X i else S i
theorem ovr_step (X S : Nat → Int32) (j : Nat) : qupd (ovr X S j) j (X j) = ovr X S (j + 1) := by
  funext i
  simp only [qupd, ovr]
  by_cases h : i = j
  · subst h
    simp
  · have h2 : i < j + 1 ↔ i < j := by omega
    simp [h, h2]
theorem ovr_0 (X S : Nat → Int32) : ovr X S 0 = S := by funext i; simp [ovr]
section M5
variable {M : QM} {m : Nat} {A : Nat → Nat → Int32} {F : Nat → Int32} {k : Nat}
theorem l5_undo_22 (S : Nat → Int32) (k : Nat) (hk : k < 4) : ∀ n j : Nat, j ≤ 108 → 108 < j + n → ∀ A F, F 3 = nI k → A 1 = ovr (fun i => A 3 (108 * k + i)) S j → f_X5_undo_22 n (some (m, 0)) (nI j) (mM M m A F) = some (nI k, mM M m (qupd A 1 (ovr (fun i => A 3 (108 * k + i)) S 108)) F) := by
  intro n
  induction n with
  | zero => intro j h1 h2; omega
  | succ n ih =>
    intro j h1 h2 A F hF hA
    rw [f_X5_undo_22]
    by_cases hj : j = 108
    · subst hj
      rw [if_pos (by decide +kernel)]
      simp (disch := omega) only [mM_gR0, mM_gR1, mM_gR2, mM_gR4, mM_gR6, mM_gI3, mM_gI5, mM_gI7, mM_gI8, mM_gI9, mM_gI10, mM_gI11, mM_gI12, mM_gI13, mM_gI14, mM_gI15, mM_pF3, mM_pF5, mM_pF7, mM_pF8, mM_pF9, mM_pF10, mM_pF11, mM_pF12, mM_pF13, mM_pF14, mM_pF15, mM_a1, mM_a2, mM_a3, mM_a4, mM_a5, mM_s1, mM_s2, mM_s3, mM_s4, mM_s5, Option.bind_some, Option.map_some, mM_rc, ix108, ix432, ix80, i108_50, i108_51, i108_52, i108_53, i108_54, i108_55, i108_56, i108_72, i108_73, i108_74, i108_75, i108_76, i108_77, i108_78, i108_79, i108_80, i108_81, i108_82, l5_of0, l5_of1, l5_of2, l5_of3, l5_of4, l5_in, l5_isBarn, l5_isGenerator, l5_mile, l5_seats, qupd_at, qupd_qupd, qupd_ne, nI_1, g50, g50b, nI_add, hF]
      rw [← hA, qupd_self]
    · rw [if_neg (show ¬ (108 : Int32) ≤ nI j from nI_ge (a := j) (b := 108) (by omega) (by decide))]
      have hi : (108 : Int32) * nI k + nI j = nI (108 * k + j) := by
        show nI 108 * nI k + nI j = _
        rw [nI_mul, nI_add]
      simp (disch := omega) only [mM_gR0, mM_gR1, mM_gR2, mM_gR4, mM_gR6, mM_gI3, mM_gI5, mM_gI7, mM_gI8, mM_gI9, mM_gI10, mM_gI11, mM_gI12, mM_gI13, mM_gI14, mM_gI15, mM_pF3, mM_pF5, mM_pF7, mM_pF8, mM_pF9, mM_pF10, mM_pF11, mM_pF12, mM_pF13, mM_pF14, mM_pF15, mM_a1, mM_a2, mM_a3, mM_a4, mM_a5, mM_s1, mM_s2, mM_s3, mM_s4, mM_s5, Option.bind_some, Option.map_some, mM_rc, hF, hi, ix432, ix108, nI_1]
      rw [ih (j + 1) (by omega) (by omega) _ _ hF]
      · rw [qupd_qupd, qupd_ne _ _ (by decide)]
      · rw [qupd_at, qupd_ne _ _ (by decide)]
        have := ovr_step (fun i => A 3 (108 * k + i)) S j
        rw [← hA] at this
        exact this
theorem l5_undo0 (hF : F 3 = nI 0) : f_X5_undo (some (m, 0)) (mM M m A F) = some (-10000005, mM M m A F) := by
  unfold f_X5_undo
  simp only [mM_gR0, mM_gR1, mM_gR2, mM_gR4, mM_gR6, mM_gI3, mM_gI5, mM_gI7, mM_gI8, mM_gI9, mM_gI10, mM_gI11, mM_gI12, mM_gI13, mM_gI14, mM_gI15, mM_pF3, mM_pF5, mM_pF7, mM_pF8, mM_pF9, mM_pF10, mM_pF11, mM_pF12, mM_pF13, mM_pF14, mM_pF15, mM_a1, mM_a2, mM_a3, mM_a4, mM_a5, mM_s1, mM_s2, mM_s3, mM_s4, mM_s5, Option.bind_some, Option.map_some, mM_rc, hF]
  rw [if_pos (by decide +kernel)]
theorem l5_undo (hk : k < 4) (hF : F 3 = nI (k + 1)) : f_X5_undo (some (m, 0)) (mM M m A F) = some (nI k, mM M m (qupd A 1 (ovr (fun i => A 3 (108 * k + i)) (A 1) 108)) (qupd F 3 (nI k))) := by
  unfold f_X5_undo
  simp only [mM_gR0, mM_gR1, mM_gR2, mM_gR4, mM_gR6, mM_gI3, mM_gI5, mM_gI7, mM_gI8, mM_gI9, mM_gI10, mM_gI11, mM_gI12, mM_gI13, mM_gI14, mM_gI15, mM_pF3, mM_pF5, mM_pF7, mM_pF8, mM_pF9, mM_pF10, mM_pF11, mM_pF12, mM_pF13, mM_pF14, mM_pF15, mM_a1, mM_a2, mM_a3, mM_a4, mM_a5, mM_s1, mM_s2, mM_s3, mM_s4, mM_s5, Option.bind_some, Option.map_some, mM_rc, hF]
  rw [if_neg (nI_ne0 (by omega) (by omega)), nI_pred]
  exact l5_undo_22 (A 1) k hk 109 0 (by omega) (by omega) A _ (qupd_at _ _ _) (ovr_0 _ _).symm
theorem l5_keep_2 (S : Nat → Int32) : ∀ n j : Nat, j ≤ 108 → 108 < j + n → ∀ A, A 4 = ovr (A 1) S j → f_X5_keep_2 n (some (m, 0)) (nI j) (mM M m A F) = some (A 1 55, mM M m (qupd A 4 (ovr (A 1) S 108)) (qupd F 5 1)) := by
  intro n
  induction n with
  | zero => intro j h1 h2; omega
  | succ n ih =>
    intro j h1 h2 A hA
    rw [f_X5_keep_2]
    by_cases hj : j = 108
    · subst hj
      rw [if_pos (by decide +kernel)]
      unfold qnf
      rw [if_pos (by decide +kernel)]
      simp (disch := omega) only [mM_gR0, mM_gR1, mM_gR2, mM_gR4, mM_gR6, mM_gI3, mM_gI5, mM_gI7, mM_gI8, mM_gI9, mM_gI10, mM_gI11, mM_gI12, mM_gI13, mM_gI14, mM_gI15, mM_pF3, mM_pF5, mM_pF7, mM_pF8, mM_pF9, mM_pF10, mM_pF11, mM_pF12, mM_pF13, mM_pF14, mM_pF15, mM_a1, mM_a2, mM_a3, mM_a4, mM_a5, mM_s1, mM_s2, mM_s3, mM_s4, mM_s5, Option.bind_some, Option.map_some, mM_rc, ix108, ix432, ix80, i108_50, i108_51, i108_52, i108_53, i108_54, i108_55, i108_56, i108_72, i108_73, i108_74, i108_75, i108_76, i108_77, i108_78, i108_79, i108_80, i108_81, i108_82, l5_of0, l5_of1, l5_of2, l5_of3, l5_of4, l5_in, l5_isBarn, l5_isGenerator, l5_mile, l5_seats, qupd_at, qupd_qupd, qupd_ne, nI_1, g50, g50b, nI_add]
      rw [← hA, qupd_self]
    · rw [if_neg (show ¬ (108 : Int32) ≤ nI j from nI_ge (a := j) (b := 108) (by omega) (by decide))]
      simp (disch := omega) only [mM_gR0, mM_gR1, mM_gR2, mM_gR4, mM_gR6, mM_gI3, mM_gI5, mM_gI7, mM_gI8, mM_gI9, mM_gI10, mM_gI11, mM_gI12, mM_gI13, mM_gI14, mM_gI15, mM_pF3, mM_pF5, mM_pF7, mM_pF8, mM_pF9, mM_pF10, mM_pF11, mM_pF12, mM_pF13, mM_pF14, mM_pF15, mM_a1, mM_a2, mM_a3, mM_a4, mM_a5, mM_s1, mM_s2, mM_s3, mM_s4, mM_s5, Option.bind_some, Option.map_some, mM_rc, ix108, nI_1]
      rw [ih (j + 1) (by omega) (by omega)]
      · rw [qupd_qupd, qupd_ne _ _ (by decide)]
      · rw [qupd_at, qupd_ne _ _ (by decide)]
        rw [hA, ovr_step]
theorem l5_keep : f_X5_keep (some (m, 0)) (mM M m A F) = some (A 1 55, mM M m (qupd A 4 (ovr (A 1) (A 4) 108)) (qupd F 5 1)) :=
  l5_keep_2 (A 4) 109 0 (by omega) (by omega) A (ovr_0 _ _).symm
theorem l5_restore_16 (S : Nat → Int32) : ∀ n j : Nat, j ≤ 108 → 108 < j + n → ∀ A F, A 1 = ovr (A 4) S j → f_X5_restore_16 n (some (m, 0)) (nI j) (mM M m A F) = some (A 4 55, mM M m (qupd A 1 (ovr (A 4) S 108)) F) := by
  intro n
  induction n with
  | zero => intro j h1 h2; omega
  | succ n ih =>
    intro j h1 h2 A F hA
    rw [f_X5_restore_16]
    by_cases hj : j = 108
    · subst hj
      rw [if_pos (by decide +kernel)]
      simp (disch := omega) only [mM_gR0, mM_gR1, mM_gR2, mM_gR4, mM_gR6, mM_gI3, mM_gI5, mM_gI7, mM_gI8, mM_gI9, mM_gI10, mM_gI11, mM_gI12, mM_gI13, mM_gI14, mM_gI15, mM_pF3, mM_pF5, mM_pF7, mM_pF8, mM_pF9, mM_pF10, mM_pF11, mM_pF12, mM_pF13, mM_pF14, mM_pF15, mM_a1, mM_a2, mM_a3, mM_a4, mM_a5, mM_s1, mM_s2, mM_s3, mM_s4, mM_s5, Option.bind_some, Option.map_some, mM_rc, ix108, ix432, ix80, i108_50, i108_51, i108_52, i108_53, i108_54, i108_55, i108_56, i108_72, i108_73, i108_74, i108_75, i108_76, i108_77, i108_78, i108_79, i108_80, i108_81, i108_82, l5_of0, l5_of1, l5_of2, l5_of3, l5_of4, l5_in, l5_isBarn, l5_isGenerator, l5_mile, l5_seats, qupd_at, qupd_qupd, qupd_ne, nI_1, g50, g50b, nI_add]
      rw [← hA, qupd_self]
      rw [hA]
      rfl
    · rw [if_neg (show ¬ (108 : Int32) ≤ nI j from nI_ge (a := j) (b := 108) (by omega) (by decide))]
      simp (disch := omega) only [mM_gR0, mM_gR1, mM_gR2, mM_gR4, mM_gR6, mM_gI3, mM_gI5, mM_gI7, mM_gI8, mM_gI9, mM_gI10, mM_gI11, mM_gI12, mM_gI13, mM_gI14, mM_gI15, mM_pF3, mM_pF5, mM_pF7, mM_pF8, mM_pF9, mM_pF10, mM_pF11, mM_pF12, mM_pF13, mM_pF14, mM_pF15, mM_a1, mM_a2, mM_a3, mM_a4, mM_a5, mM_s1, mM_s2, mM_s3, mM_s4, mM_s5, Option.bind_some, Option.map_some, mM_rc, ix108, nI_1]
      rw [ih (j + 1) (by omega) (by omega)]
      · rw [qupd_qupd, qupd_ne _ _ (by decide)]
      · rw [qupd_at, qupd_ne _ _ (by decide)]
        rw [hA, ovr_step]
theorem l5_restore0 (h : F 5 = 0) : f_X5_restore (some (m, 0)) (mM M m A F) = some (-10000005, mM M m A F) := by
  unfold f_X5_restore
  simp only [mM_gR0, mM_gR1, mM_gR2, mM_gR4, mM_gR6, mM_gI3, mM_gI5, mM_gI7, mM_gI8, mM_gI9, mM_gI10, mM_gI11, mM_gI12, mM_gI13, mM_gI14, mM_gI15, mM_pF3, mM_pF5, mM_pF7, mM_pF8, mM_pF9, mM_pF10, mM_pF11, mM_pF12, mM_pF13, mM_pF14, mM_pF15, mM_a1, mM_a2, mM_a3, mM_a4, mM_a5, mM_s1, mM_s2, mM_s3, mM_s4, mM_s5, Option.bind_some, Option.map_some, mM_rc, h, if_true]
theorem l5_restore (hk : k ≤ 4) (hF : F 3 = nI k) (h : F 5 = 1) : f_X5_restore (some (m, 0)) (mM M m A F) = mres M m A F k (A 4 55, some (ovr (A 4) (A 1) 108)) := by
  unfold f_X5_restore mres
  simp only [mM_gR0, mM_gR1, mM_gR2, mM_gR4, mM_gR6, mM_gI3, mM_gI5, mM_gI7, mM_gI8, mM_gI9, mM_gI10, mM_gI11, mM_gI12, mM_gI13, mM_gI14, mM_gI15, mM_pF3, mM_pF5, mM_pF7, mM_pF8, mM_pF9, mM_pF10, mM_pF11, mM_pF12, mM_pF13, mM_pF14, mM_pF15, mM_a1, mM_a2, mM_a3, mM_a4, mM_a5, mM_s1, mM_s2, mM_s3, mM_s4, mM_s5, Option.bind_some, Option.map_some, mM_rc, h, ne_0_1, ne_0_2, ne_0_3, ne_1_0, ne_1_2, ne_1_3, ne_2_0, ne_2_1, ne_2_3, ne_3_0, ne_3_1, ne_3_2, if_true, if_false, l5_know hk hF]
  rw [show (0 : Int32) = nI 0 from rfl, l5_restore_16 (A 1) 109 0 (by omega) (by omega) _ _ (by rw [qupd_ne _ _ (by decide), qupd_ne _ _ (by decide), ovr_0]), qupd_ne _ _ (by decide)]
theorem l5_putAside_2 (S : Nat → Int32) : ∀ n j : Nat, j ≤ 108 → 108 < j + n → ∀ A, A 2 = ovr (A 1) S j → f_X5_putAside_2 n (some (m, 0)) (nI j) (mM M m A F) = some (mM M m (qupd A 2 (ovr (A 1) S 108)) F) := by
  intro n
  induction n with
  | zero => intro j h1 h2; omega
  | succ n ih =>
    intro j h1 h2 A hA
    rw [f_X5_putAside_2]
    by_cases hj : j = 108
    · subst hj
      rw [if_pos (by decide +kernel)]
      rw [← hA, qupd_self]
    · rw [if_neg (show ¬ (108 : Int32) ≤ nI j from nI_ge (a := j) (b := 108) (by omega) (by decide))]
      simp (disch := omega) only [mM_gR0, mM_gR1, mM_gR2, mM_gR4, mM_gR6, mM_gI3, mM_gI5, mM_gI7, mM_gI8, mM_gI9, mM_gI10, mM_gI11, mM_gI12, mM_gI13, mM_gI14, mM_gI15, mM_pF3, mM_pF5, mM_pF7, mM_pF8, mM_pF9, mM_pF10, mM_pF11, mM_pF12, mM_pF13, mM_pF14, mM_pF15, mM_a1, mM_a2, mM_a3, mM_a4, mM_a5, mM_s1, mM_s2, mM_s3, mM_s4, mM_s5, Option.bind_some, Option.map_some, mM_rc, ix108, nI_1]
      rw [ih (j + 1) (by omega) (by omega)]
      · rw [qupd_qupd, qupd_ne _ _ (by decide)]
      · rw [qupd_at, qupd_ne _ _ (by decide)]
        rw [hA, ovr_step]
theorem l5_putAside : f_X5_putAside (some (m, 0)) (mM M m A F) = some (mM M m (qupd A 2 (ovr (A 1) (A 2) 108)) F) := l5_putAside_2 (A 2) 109 0 (by omega) (by omega) A (ovr_0 _ _).symm
theorem l5_putBack_2 (S : Nat → Int32) : ∀ n j : Nat, j ≤ 108 → 108 < j + n → ∀ A, A 1 = ovr (A 2) S j → f_X5_putBack_2 n (some (m, 0)) (nI j) (mM M m A F) = some (mM M m (qupd A 1 (ovr (A 2) S 108)) F) := by
  intro n
  induction n with
  | zero => intro j h1 h2; omega
  | succ n ih =>
    intro j h1 h2 A hA
    rw [f_X5_putBack_2]
    by_cases hj : j = 108
    · subst hj
      rw [if_pos (by decide +kernel)]
      rw [← hA, qupd_self]
    · rw [if_neg (show ¬ (108 : Int32) ≤ nI j from nI_ge (a := j) (b := 108) (by omega) (by decide))]
      simp (disch := omega) only [mM_gR0, mM_gR1, mM_gR2, mM_gR4, mM_gR6, mM_gI3, mM_gI5, mM_gI7, mM_gI8, mM_gI9, mM_gI10, mM_gI11, mM_gI12, mM_gI13, mM_gI14, mM_gI15, mM_pF3, mM_pF5, mM_pF7, mM_pF8, mM_pF9, mM_pF10, mM_pF11, mM_pF12, mM_pF13, mM_pF14, mM_pF15, mM_a1, mM_a2, mM_a3, mM_a4, mM_a5, mM_s1, mM_s2, mM_s3, mM_s4, mM_s5, Option.bind_some, Option.map_some, mM_rc, ix108, nI_1]
      rw [ih (j + 1) (by omega) (by omega)]
      · rw [qupd_qupd, qupd_ne _ _ (by decide)]
      · rw [qupd_at, qupd_ne _ _ (by decide)]
        rw [hA, ovr_step]
theorem l5_putBack : f_X5_putBack (some (m, 0)) (mM M m A F) = some (mM M m (qupd A 1 (ovr (A 2) (A 1) 108)) F) := l5_putBack_2 (A 1) 109 0 (by omega) (by omega) A (ovr_0 _ _).symm
theorem l5_stopped (w : Int32) : f_X5_stopped (some (m, 0)) w (mM M m A F) = some (if inR w 0 1 = 0 then -10000002 else if w = 0 then F 8 else F 9) := by
  unfold f_X5_stopped
  simp only [mM_gR0, mM_gR1, mM_gR2, mM_gR4, mM_gR6, mM_gI3, mM_gI5, mM_gI7, mM_gI8, mM_gI9, mM_gI10, mM_gI11, mM_gI12, mM_gI13, mM_gI14, mM_gI15, mM_pF3, mM_pF5, mM_pF7, mM_pF8, mM_pF9, mM_pF10, mM_pF11, mM_pF12, mM_pF13, mM_pF14, mM_pF15, mM_a1, mM_a2, mM_a3, mM_a4, mM_a5, mM_s1, mM_s2, mM_s3, mM_s4, mM_s5, Option.bind_some, Option.map_some, mM_rc, ix108, ix432, ix80, i108_50, i108_51, i108_52, i108_53, i108_54, i108_55, i108_56, i108_72, i108_73, i108_74, i108_75, i108_76, i108_77, i108_78, i108_79, i108_80, i108_81, i108_82, l5_of0, l5_of1, l5_of2, l5_of3, l5_of4, l5_in, l5_isBarn, l5_isGenerator, l5_mile, l5_seats, qupd_at, qupd_qupd, qupd_ne, nI_1, g50, g50b, nI_add]
  split
  · rfl
  · split <;> rfl
theorem l5_type80 (c : Int32) (hF : F 7 = 80) : f_X5_type (some (m, 0)) c (mM M m A F) = some (-10000003, mM M m A F) := by
  unfold f_X5_type
  simp only [mM_gR0, mM_gR1, mM_gR2, mM_gR4, mM_gR6, mM_gI3, mM_gI5, mM_gI7, mM_gI8, mM_gI9, mM_gI10, mM_gI11, mM_gI12, mM_gI13, mM_gI14, mM_gI15, mM_pF3, mM_pF5, mM_pF7, mM_pF8, mM_pF9, mM_pF10, mM_pF11, mM_pF12, mM_pF13, mM_pF14, mM_pF15, mM_a1, mM_a2, mM_a3, mM_a4, mM_a5, mM_s1, mM_s2, mM_s3, mM_s4, mM_s5, Option.bind_some, Option.map_some, mM_rc, hF, if_true]
theorem l5_type (c : Int32) (n : Nat) (hn : n < 80) (hF : F 7 = nI n) : f_X5_type (some (m, 0)) c (mM M m A F) = some (nI (n + 1), mM M m (qupd A 5 (qupd (A 5) n c)) (qupd F 7 (nI (n + 1)))) := by
  unfold f_X5_type
  simp only [mM_gR0, mM_gR1, mM_gR2, mM_gR4, mM_gR6, mM_gI3, mM_gI5, mM_gI7, mM_gI8, mM_gI9, mM_gI10, mM_gI11, mM_gI12, mM_gI13, mM_gI14, mM_gI15, mM_pF3, mM_pF5, mM_pF7, mM_pF8, mM_pF9, mM_pF10, mM_pF11, mM_pF12, mM_pF13, mM_pF14, mM_pF15, mM_a1, mM_a2, mM_a3, mM_a4, mM_a5, mM_s1, mM_s2, mM_s3, mM_s4, mM_s5, Option.bind_some, Option.map_some, mM_rc, hF]
  rw [if_neg (show ¬ nI n = (80 : Int32) from fun z => absurd ((nI_eq (by omega) (by decide)).mp z) (by omega : ¬ n = 80))]
  simp (disch := omega) only [mM_gR0, mM_gR1, mM_gR2, mM_gR4, mM_gR6, mM_gI3, mM_gI5, mM_gI7, mM_gI8, mM_gI9, mM_gI10, mM_gI11, mM_gI12, mM_gI13, mM_gI14, mM_gI15, mM_pF3, mM_pF5, mM_pF7, mM_pF8, mM_pF9, mM_pF10, mM_pF11, mM_pF12, mM_pF13, mM_pF14, mM_pF15, mM_a1, mM_a2, mM_a3, mM_a4, mM_a5, mM_s1, mM_s2, mM_s3, mM_s4, mM_s5, Option.bind_some, Option.map_some, mM_rc, ix108, ix432, ix80, i108_50, i108_51, i108_52, i108_53, i108_54, i108_55, i108_56, i108_72, i108_73, i108_74, i108_75, i108_76, i108_77, i108_78, i108_79, i108_80, i108_81, i108_82, l5_of0, l5_of1, l5_of2, l5_of3, l5_of4, l5_in, l5_isBarn, l5_isGenerator, l5_mile, l5_seats, qupd_at, qupd_qupd, qupd_ne, nI_1, g50, g50b, nI_add, hF]
theorem l5_clearText : f_X5_clearText (some (m, 0)) (mM M m A F) = some (F 7, mM M m A (qupd F 7 0)) := by
  unfold f_X5_clearText
  simp only [mM_gR0, mM_gR1, mM_gR2, mM_gR4, mM_gR6, mM_gI3, mM_gI5, mM_gI7, mM_gI8, mM_gI9, mM_gI10, mM_gI11, mM_gI12, mM_gI13, mM_gI14, mM_gI15, mM_pF3, mM_pF5, mM_pF7, mM_pF8, mM_pF9, mM_pF10, mM_pF11, mM_pF12, mM_pF13, mM_pF14, mM_pF15, mM_a1, mM_a2, mM_a3, mM_a4, mM_a5, mM_s1, mM_s2, mM_s3, mM_s4, mM_s5, Option.bind_some, Option.map_some, mM_rc]
end M5
