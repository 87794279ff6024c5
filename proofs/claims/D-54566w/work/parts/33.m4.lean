/-! the model: shows, undo, keep, restore, text -/
set_option maxRecDepth 100000
theorem nI_dec (j : Nat) : nI (j + 1) + (-1) = nI j := by
  rw [nI_succ, Int32.add_assoc, show (1 : Int32) + -1 = 0 from by decide +kernel, Int32.add_zero]
theorem nI_sub {a b : Nat} (h : b ≤ a) : nI a - nI b = nI (a - b) := by
  have e : nI a = nI (a - b) + nI b := by rw [nI_add]; congr 1; omega
  rw [e, Int32.add_sub_cancel]
def logF (s : Nat → Int32) (b p t mi : Int32) : Nat → Int32 := fun i => if i = 77 then s 77 + (if 6 ≤ s 77 then 0 else 1) else if i = 78 then s 55 else if i = 79 then b else if i = 80 then p else if i = 81 then t else if i = 82 then mi else if 82 < i ∧ i < 108 then s (i - 5) else s i
def shL (s : Nat → Int32) (j : Nat) : Nat → Int32 := fun i => if 78 + j < i ∧ i < 108 then s (i - 5) else s i
def genN (s : Nat → Int32) (b : Int32) : Nat := (genF s b (minF s b)).toNatClampNeg
def endF (s : Nat → Int32) (b : Nat) (c p t mi : Int32) : Nat → Int32 := logF (qupd (qupd (qupd (qupd s (57 + b) 1) (62 + b) (s (62 + b) + 1)) (67 + b) (s (67 + b) + t)) 75 (s 75 + p)) c p t mi
def showS (s : Nat → Int32) (b : Int32) : Nat → Int32 := endF (playsF (qupd s (50 + 2 * genN s b + 1) (s (50 + 2 * genN s b + 1) - minF s b)) b 10) b.toNatClampNeg b (pplF s b) (pplF s b * s 56) (minF s b)
def aShow (s : Nat → Int32) (b : Int32) : AR := if inR b 0 4 = 0 then (-10000001, none) else if whyF s b ≤ 0 then (pplF s b * s 56, some (showS s b)) else (-10000010 - whyF s b, none)
def okW (s : Nat → Int32) (w : Int32) : Prop := ∀ r, r < 10 → s (5 * r + 2) + w < 40 ∨ s (5 * r + 2) + w - 20 < 40
section M4
variable {M : QM} {m : Nat} {A : Nat → Nat → Int32} {F : Nat → Int32} {k : Nat}
theorem shL_step (s : Nat → Int32) (j : Nat) (hj : j + 1 < 30) (h4 : 4 ≤ j) : qupd (shL s (j + 1)) (78 + (j + 1)) (shL s (j + 1) (73 + (j + 1))) = shL s j := by
  funext i
  simp only [qupd, shL]
  by_cases h : i = 78 + (j + 1)
  · subst h
    rw [if_pos rfl, if_neg (by omega), if_pos (by omega)]
    congr 1
    omega
  · rw [if_neg h]
    by_cases h2 : 78 + (j + 1) < i ∧ i < 108
    · rw [if_pos h2, if_pos (by omega)]
    · rw [if_neg h2, if_neg (by omega)]
theorem l5_log_4 (s : Nat → Int32) (b p t mi : Int32) : ∀ n j : Nat, 4 ≤ j → j < 30 → j < 4 + n → ∀ A, A 1 = shL s j → f_X5_log_4 n (some (m, 0)) b p t mi (nI j) (mM M m A F) = some (mM M m (qupd A 1 (logF s b p t mi)) F) := by
  intro n
  induction n with
  | zero => intro j h1 h2 h3; omega
  | succ n ih =>
    intro j h1 h2 h3 A hA
    rw [f_X5_log_4]
    by_cases hj : j = 4
    · subst hj
      rw [if_pos (by decide +kernel)]
      simp (disch := omega) only [mM_gR0, mM_gR1, mM_gR2, mM_gR4, mM_gR6, mM_gI3, mM_gI5, mM_gI7, mM_gI8, mM_gI9, mM_gI10, mM_gI11, mM_gI12, mM_gI13, mM_gI14, mM_gI15, mM_pF3, mM_pF5, mM_pF7, mM_pF8, mM_pF9, mM_pF10, mM_pF11, mM_pF12, mM_pF13, mM_pF14, mM_pF15, mM_a1, mM_a2, mM_a3, mM_a4, mM_a5, mM_s1, mM_s2, mM_s3, mM_s4, mM_s5, Option.bind_some, Option.map_some, mM_rc, ix108, ix432, ix80, i108_50, i108_51, i108_52, i108_53, i108_54, i108_55, i108_56, i108_72, i108_73, i108_74, i108_75, i108_76, i108_77, i108_78, i108_79, i108_80, i108_81, i108_82, l5_of0, l5_of1, l5_of2, l5_of3, l5_of4, l5_in, l5_isBarn, l5_isGenerator, l5_mile, l5_seats, qupd_at, qupd_qupd, qupd_ne, nI_1, g50, g50b, nI_add, qbI, l5_inVan, l5_gone, l5_r0, l5_r1, l5_r2, l5_r3, l5_generatorFor, l5_peopleAt, l5_isReel, f_X5_log_110]
      congr 1
      congr 1
      congr 1
      funext i
      simp only [qupd, hA, shL, logF]
      by_cases h77 : i = 77
      · subst h77
        simp
      · by_cases h78 : i = 78
        · subst h78
          simp
        · by_cases h79 : i = 79
          · subst h79
            simp
          · by_cases h80 : i = 80
            · subst h80
              simp
            · by_cases h81 : i = 81
              · subst h81
                simp
              · by_cases h82 : i = 82
                · subst h82
                  simp
                · simp [h77, h78, h79, h80, h81, h82]
    · obtain ⟨j, rfl⟩ : ∃ z, j = z + 1 := ⟨j - 1, by omega⟩
      rw [if_neg (show ¬ nI (j + 1) < (5 : Int32) from nI_nlt (a := j + 1) (b := 5) (by omega) (by omega))]
      have e1 : (78 : Int32) + nI (j + 1) = nI (78 + (j + 1)) := nI_add 78 _
      have e2 : nI (78 + (j + 1)) - 5 = nI (73 + (j + 1)) := by
        show _ - nI 5 = _
        rw [nI_sub (by omega)]
        congr 1
        omega
      simp (disch := omega) only [mM_gR0, mM_gR1, mM_gR2, mM_gR4, mM_gR6, mM_gI3, mM_gI5, mM_gI7, mM_gI8, mM_gI9, mM_gI10, mM_gI11, mM_gI12, mM_gI13, mM_gI14, mM_gI15, mM_pF3, mM_pF5, mM_pF7, mM_pF8, mM_pF9, mM_pF10, mM_pF11, mM_pF12, mM_pF13, mM_pF14, mM_pF15, mM_a1, mM_a2, mM_a3, mM_a4, mM_a5, mM_s1, mM_s2, mM_s3, mM_s4, mM_s5, Option.bind_some, Option.map_some, mM_rc, e1, e2, ix108, nI_dec]
      rw [ih j (by omega) (by omega) (by omega)]
      · rw [qupd_qupd]
      · rw [qupd_at, hA, shL_step s j h2 (by omega)]
theorem l5_log (b p t mi : Int32) : f_X5_log (some (m, 0)) b p t mi (mM M m A F) = some (mM M m (qupd A 1 (logF (A 1) b p t mi)) F) := by
  unfold f_X5_log
  exact l5_log_4 (A 1) b p t mi 26 29 (by omega) (by omega) (by omega) A (by funext i; simp only [shL]; rw [if_neg (by omega)])
theorem l5_wear_end (r n : Nat) (hr : r < 10) (h : A 1 (5 * r + 2) < 40) : f_X5_wear_14 (n + 1) (some (m, 0)) (nI r) (mM M m A F) = some (mM M m (qupd A 1 (qupd (A 1) (5 * r) (if 3 ≤ A 1 (5 * r + 1) then A 1 (5 * r) else -2))) F) := by
  rw [f_X5_wear_14]
  simp (disch := omega) only [mM_gR0, mM_gR1, mM_gR2, mM_gR4, mM_gR6, mM_gI3, mM_gI5, mM_gI7, mM_gI8, mM_gI9, mM_gI10, mM_gI11, mM_gI12, mM_gI13, mM_gI14, mM_gI15, mM_pF3, mM_pF5, mM_pF7, mM_pF8, mM_pF9, mM_pF10, mM_pF11, mM_pF12, mM_pF13, mM_pF14, mM_pF15, mM_a1, mM_a2, mM_a3, mM_a4, mM_a5, mM_s1, mM_s2, mM_s3, mM_s4, mM_s5, Option.bind_some, Option.map_some, mM_rc, ix108, ix432, ix80, i108_50, i108_51, i108_52, i108_53, i108_54, i108_55, i108_56, i108_72, i108_73, i108_74, i108_75, i108_76, i108_77, i108_78, i108_79, i108_80, i108_81, i108_82, l5_of0, l5_of1, l5_of2, l5_of3, l5_of4, l5_in, l5_isBarn, l5_isGenerator, l5_mile, l5_seats, qupd_at, qupd_qupd, qupd_ne, nI_1, g50, g50b, nI_add, qbI, l5_inVan, l5_gone, l5_r0, l5_r1, l5_r2, l5_r3, l5_generatorFor, l5_peopleAt, l5_isReel, h, if_true]
  by_cases h2 : 3 ≤ A 1 (5 * r + 1)
  · simp (disch := omega) only [h2, if_true, f_X5_wear_124, mM_gR0, mM_gR1, mM_gR2, mM_gR4, mM_gR6, mM_gI3, mM_gI5, mM_gI7, mM_gI8, mM_gI9, mM_gI10, mM_gI11, mM_gI12, mM_gI13, mM_gI14, mM_gI15, mM_pF3, mM_pF5, mM_pF7, mM_pF8, mM_pF9, mM_pF10, mM_pF11, mM_pF12, mM_pF13, mM_pF14, mM_pF15, mM_a1, mM_a2, mM_a3, mM_a4, mM_a5, mM_s1, mM_s2, mM_s3, mM_s4, mM_s5, Option.bind_some, Option.map_some, mM_rc, ix108, ix432, ix80, i108_50, i108_51, i108_52, i108_53, i108_54, i108_55, i108_56, i108_72, i108_73, i108_74, i108_75, i108_76, i108_77, i108_78, i108_79, i108_80, i108_81, i108_82, l5_of0, l5_of1, l5_of2, l5_of3, l5_of4, l5_in, l5_isBarn, l5_isGenerator, l5_mile, l5_seats, qupd_at, qupd_qupd, qupd_ne, nI_1, g50, g50b, nI_add, qbI, l5_inVan, l5_gone, l5_r0, l5_r1, l5_r2, l5_r3, l5_generatorFor, l5_peopleAt, l5_isReel]
  · simp (disch := omega) only [h2, if_false, f_X5_wear_124, mM_gR0, mM_gR1, mM_gR2, mM_gR4, mM_gR6, mM_gI3, mM_gI5, mM_gI7, mM_gI8, mM_gI9, mM_gI10, mM_gI11, mM_gI12, mM_gI13, mM_gI14, mM_gI15, mM_pF3, mM_pF5, mM_pF7, mM_pF8, mM_pF9, mM_pF10, mM_pF11, mM_pF12, mM_pF13, mM_pF14, mM_pF15, mM_a1, mM_a2, mM_a3, mM_a4, mM_a5, mM_s1, mM_s2, mM_s3, mM_s4, mM_s5, Option.bind_some, Option.map_some, mM_rc, ix108, ix432, ix80, i108_50, i108_51, i108_52, i108_53, i108_54, i108_55, i108_56, i108_72, i108_73, i108_74, i108_75, i108_76, i108_77, i108_78, i108_79, i108_80, i108_81, i108_82, l5_of0, l5_of1, l5_of2, l5_of3, l5_of4, l5_in, l5_isBarn, l5_isGenerator, l5_mile, l5_seats, qupd_at, qupd_qupd, qupd_ne, nI_1, g50, g50b, nI_add, qbI, l5_inVan, l5_gone, l5_r0, l5_r1, l5_r2, l5_r3, l5_generatorFor, l5_peopleAt, l5_isReel]
theorem l5_wear (r : Nat) (hr : r < 10) (w : Int32) (hw : A 1 (5 * r + 2) + w < 40 ∨ A 1 (5 * r + 2) + w - 20 < 40) : f_X5_wear (some (m, 0)) (nI r) w (mM M m A F) = some (mM M m (qupd A 1 (wearF (A 1) r w)) F) := by
  unfold f_X5_wear wearF
  simp (disch := omega) only [mM_gR0, mM_gR1, mM_gR2, mM_gR4, mM_gR6, mM_gI3, mM_gI5, mM_gI7, mM_gI8, mM_gI9, mM_gI10, mM_gI11, mM_gI12, mM_gI13, mM_gI14, mM_gI15, mM_pF3, mM_pF5, mM_pF7, mM_pF8, mM_pF9, mM_pF10, mM_pF11, mM_pF12, mM_pF13, mM_pF14, mM_pF15, mM_a1, mM_a2, mM_a3, mM_a4, mM_a5, mM_s1, mM_s2, mM_s3, mM_s4, mM_s5, Option.bind_some, Option.map_some, mM_rc, ix108, ix432, ix80, i108_50, i108_51, i108_52, i108_53, i108_54, i108_55, i108_56, i108_72, i108_73, i108_74, i108_75, i108_76, i108_77, i108_78, i108_79, i108_80, i108_81, i108_82, l5_of0, l5_of1, l5_of2, l5_of3, l5_of4, l5_in, l5_isBarn, l5_isGenerator, l5_mile, l5_seats, qupd_at, qupd_qupd, qupd_ne, nI_1, g50, g50b, nI_add, qbI, l5_inVan, l5_gone, l5_r0, l5_r1, l5_r2, l5_r3, l5_generatorFor, l5_peopleAt, l5_isReel]
  by_cases h : A 1 (5 * r + 2) + w < 40
  · rw [l5_wear_end r 5 hr (by simpa (disch := omega) only [mM_gR0, mM_gR1, mM_gR2, mM_gR4, mM_gR6, mM_gI3, mM_gI5, mM_gI7, mM_gI8, mM_gI9, mM_gI10, mM_gI11, mM_gI12, mM_gI13, mM_gI14, mM_gI15, mM_pF3, mM_pF5, mM_pF7, mM_pF8, mM_pF9, mM_pF10, mM_pF11, mM_pF12, mM_pF13, mM_pF14, mM_pF15, mM_a1, mM_a2, mM_a3, mM_a4, mM_a5, mM_s1, mM_s2, mM_s3, mM_s4, mM_s5, Option.bind_some, Option.map_some, mM_rc, ix108, ix432, ix80, i108_50, i108_51, i108_52, i108_53, i108_54, i108_55, i108_56, i108_72, i108_73, i108_74, i108_75, i108_76, i108_77, i108_78, i108_79, i108_80, i108_81, i108_82, l5_of0, l5_of1, l5_of2, l5_of3, l5_of4, l5_in, l5_isBarn, l5_isGenerator, l5_mile, l5_seats, qupd_at, qupd_qupd, qupd_ne, nI_1, g50, g50b, nI_add, qbI, l5_inVan, l5_gone, l5_r0, l5_r1, l5_r2, l5_r3, l5_generatorFor, l5_peopleAt, l5_isReel] using h)]
    simp (disch := omega) only [h, if_true, mM_gR0, mM_gR1, mM_gR2, mM_gR4, mM_gR6, mM_gI3, mM_gI5, mM_gI7, mM_gI8, mM_gI9, mM_gI10, mM_gI11, mM_gI12, mM_gI13, mM_gI14, mM_gI15, mM_pF3, mM_pF5, mM_pF7, mM_pF8, mM_pF9, mM_pF10, mM_pF11, mM_pF12, mM_pF13, mM_pF14, mM_pF15, mM_a1, mM_a2, mM_a3, mM_a4, mM_a5, mM_s1, mM_s2, mM_s3, mM_s4, mM_s5, Option.bind_some, Option.map_some, mM_rc, ix108, ix432, ix80, i108_50, i108_51, i108_52, i108_53, i108_54, i108_55, i108_56, i108_72, i108_73, i108_74, i108_75, i108_76, i108_77, i108_78, i108_79, i108_80, i108_81, i108_82, l5_of0, l5_of1, l5_of2, l5_of3, l5_of4, l5_in, l5_isBarn, l5_isGenerator, l5_mile, l5_seats, qupd_at, qupd_qupd, qupd_ne, nI_1, g50, g50b, nI_add, qbI, l5_inVan, l5_gone, l5_r0, l5_r1, l5_r2, l5_r3, l5_generatorFor, l5_peopleAt, l5_isReel]
  · have h2 := hw.resolve_left h
    rw [f_X5_wear_14]
    simp (disch := omega) only [mM_gR0, mM_gR1, mM_gR2, mM_gR4, mM_gR6, mM_gI3, mM_gI5, mM_gI7, mM_gI8, mM_gI9, mM_gI10, mM_gI11, mM_gI12, mM_gI13, mM_gI14, mM_gI15, mM_pF3, mM_pF5, mM_pF7, mM_pF8, mM_pF9, mM_pF10, mM_pF11, mM_pF12, mM_pF13, mM_pF14, mM_pF15, mM_a1, mM_a2, mM_a3, mM_a4, mM_a5, mM_s1, mM_s2, mM_s3, mM_s4, mM_s5, Option.bind_some, Option.map_some, mM_rc, ix108, ix432, ix80, i108_50, i108_51, i108_52, i108_53, i108_54, i108_55, i108_56, i108_72, i108_73, i108_74, i108_75, i108_76, i108_77, i108_78, i108_79, i108_80, i108_81, i108_82, l5_of0, l5_of1, l5_of2, l5_of3, l5_of4, l5_in, l5_isBarn, l5_isGenerator, l5_mile, l5_seats, qupd_at, qupd_qupd, qupd_ne, nI_1, g50, g50b, nI_add, qbI, l5_inVan, l5_gone, l5_r0, l5_r1, l5_r2, l5_r3, l5_generatorFor, l5_peopleAt, l5_isReel, h, if_false]
    rw [l5_wear_end r 4 hr (by simpa (disch := omega) only [mM_gR0, mM_gR1, mM_gR2, mM_gR4, mM_gR6, mM_gI3, mM_gI5, mM_gI7, mM_gI8, mM_gI9, mM_gI10, mM_gI11, mM_gI12, mM_gI13, mM_gI14, mM_gI15, mM_pF3, mM_pF5, mM_pF7, mM_pF8, mM_pF9, mM_pF10, mM_pF11, mM_pF12, mM_pF13, mM_pF14, mM_pF15, mM_a1, mM_a2, mM_a3, mM_a4, mM_a5, mM_s1, mM_s2, mM_s3, mM_s4, mM_s5, Option.bind_some, Option.map_some, mM_rc, ix108, ix432, ix80, i108_50, i108_51, i108_52, i108_53, i108_54, i108_55, i108_56, i108_72, i108_73, i108_74, i108_75, i108_76, i108_77, i108_78, i108_79, i108_80, i108_81, i108_82, l5_of0, l5_of1, l5_of2, l5_of3, l5_of4, l5_in, l5_isBarn, l5_isGenerator, l5_mile, l5_seats, qupd_at, qupd_qupd, qupd_ne, nI_1, g50, g50b, nI_add, qbI, l5_inVan, l5_gone, l5_r0, l5_r1, l5_r2, l5_r3, l5_generatorFor, l5_peopleAt, l5_isReel] using h2)]
    simp (disch := omega) only [mM_gR0, mM_gR1, mM_gR2, mM_gR4, mM_gR6, mM_gI3, mM_gI5, mM_gI7, mM_gI8, mM_gI9, mM_gI10, mM_gI11, mM_gI12, mM_gI13, mM_gI14, mM_gI15, mM_pF3, mM_pF5, mM_pF7, mM_pF8, mM_pF9, mM_pF10, mM_pF11, mM_pF12, mM_pF13, mM_pF14, mM_pF15, mM_a1, mM_a2, mM_a3, mM_a4, mM_a5, mM_s1, mM_s2, mM_s3, mM_s4, mM_s5, Option.bind_some, Option.map_some, mM_rc, ix108, ix432, ix80, i108_50, i108_51, i108_52, i108_53, i108_54, i108_55, i108_56, i108_72, i108_73, i108_74, i108_75, i108_76, i108_77, i108_78, i108_79, i108_80, i108_81, i108_82, l5_of0, l5_of1, l5_of2, l5_of3, l5_of4, l5_in, l5_isBarn, l5_isGenerator, l5_mile, l5_seats, qupd_at, qupd_qupd, qupd_ne, nI_1, g50, g50b, nI_add, qbI, l5_inVan, l5_gone, l5_r0, l5_r1, l5_r2, l5_r3, l5_generatorFor, l5_peopleAt, l5_isReel]
theorem wearF_ne (s : Nat → Int32) (r : Nat) (w : Int32) (i : Nat) (h : i < 5 * r ∨ 5 * r + 5 ≤ i) (h76 : i ≠ 76) : wearF s r w i = s i := by
  unfold wearF
  rw [qupd_ne _ _ (by omega)]
  split
  · rw [qupd_ne _ _ (by omega)]
  · rw [qupd_ne _ _ h76, qupd_ne _ _ (by omega), qupd_ne _ _ (by omega), qupd_ne _ _ (by omega)]
theorem playF_ne (s : Nat → Int32) (b : Int32) (r i : Nat) (h : i < 5 * r ∨ 5 * r + 5 ≤ i) (h76 : i ≠ 76) : playF s b r i = s i := by
  unfold playF
  split
  · rw [wearF_ne _ _ _ _ h h76, qupd_ne _ _ (by omega)]
  · rfl
theorem playsF_ne (s : Nat → Int32) (b : Int32) (k i : Nat) (h : 5 * k ≤ i) (h76 : i ≠ 76) : playsF s b k i = s i := by
  induction k with
  | zero => rfl
  | succ k ih =>
    rw [playsF, playF_ne _ _ _ _ (by omega) h76]
    exact ih (by omega)
theorem l5_shows_49 (s : Nat → Int32) (b : Nat) (hb : b < 5) (p mi t : Int32) (hw : okW s (5 + (nI b - nI b / 3 * 3))) : ∀ n k : Nat, k ≤ 10 → 10 < k + n → ∀ A, A 1 = playsF s (nI b) k →
    f_X5_shows_49 n (some (m, 0)) (nI b) p mi t (nI k) (mM M m A F) = some (t, mM M m (qupd A 1 (endF (playsF s (nI b) 10) b (nI b) p t mi)) F) := by
  intro n
  induction n with
  | zero => intro k h1 h2; omega
  | succ n ih =>
    intro k h1 h2 A hA
    rw [f_X5_shows_49]
    by_cases hk : k = 10
    · subst hk
      rw [if_pos (by decide +kernel)]
      have e1 : (62 : Int32) + nI b = nI (62 + b) := nI_add 62 _
      have e2 : (67 : Int32) + nI b = nI (67 + b) := nI_add 67 _
      simp (disch := omega) only [mM_gR0, mM_gR1, mM_gR2, mM_gR4, mM_gR6, mM_gI3, mM_gI5, mM_gI7, mM_gI8, mM_gI9, mM_gI10, mM_gI11, mM_gI12, mM_gI13, mM_gI14, mM_gI15, mM_pF3, mM_pF5, mM_pF7, mM_pF8, mM_pF9, mM_pF10, mM_pF11, mM_pF12, mM_pF13, mM_pF14, mM_pF15, mM_a1, mM_a2, mM_a3, mM_a4, mM_a5, mM_s1, mM_s2, mM_s3, mM_s4, mM_s5, Option.bind_some, Option.map_some, mM_rc, ix108, ix432, ix80, i108_50, i108_51, i108_52, i108_53, i108_54, i108_55, i108_56, i108_72, i108_73, i108_74, i108_75, i108_76, i108_77, i108_78, i108_79, i108_80, i108_81, i108_82, l5_of0, l5_of1, l5_of2, l5_of3, l5_of4, l5_in, l5_isBarn, l5_isGenerator, l5_mile, l5_seats, qupd_at, qupd_qupd, qupd_ne, nI_1, g50, g50b, nI_add, qbI, l5_inVan, l5_gone, l5_r0, l5_r1, l5_r2, l5_r3, l5_generatorFor, l5_peopleAt, l5_isReel, e1, e2, l5_log, hA]
      rfl
    · rw [if_neg (show ¬ (10 : Int32) ≤ nI k from nI_ge (a := k) (b := 10) (by omega) (by decide))]
      simp (disch := omega) only [mM_gR0, mM_gR1, mM_gR2, mM_gR4, mM_gR6, mM_gI3, mM_gI5, mM_gI7, mM_gI8, mM_gI9, mM_gI10, mM_gI11, mM_gI12, mM_gI13, mM_gI14, mM_gI15, mM_pF3, mM_pF5, mM_pF7, mM_pF8, mM_pF9, mM_pF10, mM_pF11, mM_pF12, mM_pF13, mM_pF14, mM_pF15, mM_a1, mM_a2, mM_a3, mM_a4, mM_a5, mM_s1, mM_s2, mM_s3, mM_s4, mM_s5, Option.bind_some, Option.map_some, mM_rc, ix108, ix432, ix80, i108_50, i108_51, i108_52, i108_53, i108_54, i108_55, i108_56, i108_72, i108_73, i108_74, i108_75, i108_76, i108_77, i108_78, i108_79, i108_80, i108_81, i108_82, l5_of0, l5_of1, l5_of2, l5_of3, l5_of4, l5_in, l5_isBarn, l5_isGenerator, l5_mile, l5_seats, qupd_at, qupd_qupd, qupd_ne, nI_1, g50, g50b, nI_add, qbI, l5_inVan, l5_gone, l5_r0, l5_r1, l5_r2, l5_r3, l5_generatorFor, l5_peopleAt, l5_isReel]
      by_cases h : A 1 (5 * k) = nI b
      · have hw2 := hw k (by omega)
        rw [← playsF_ne s (nI b) k (5 * k + 2) (by omega) (by omega), ← hA] at hw2
        simp only [h, if_true]
        rw [l5_wear k (by omega) _ (by simpa (disch := omega) only [mM_gR0, mM_gR1, mM_gR2, mM_gR4, mM_gR6, mM_gI3, mM_gI5, mM_gI7, mM_gI8, mM_gI9, mM_gI10, mM_gI11, mM_gI12, mM_gI13, mM_gI14, mM_gI15, mM_pF3, mM_pF5, mM_pF7, mM_pF8, mM_pF9, mM_pF10, mM_pF11, mM_pF12, mM_pF13, mM_pF14, mM_pF15, mM_a1, mM_a2, mM_a3, mM_a4, mM_a5, mM_s1, mM_s2, mM_s3, mM_s4, mM_s5, Option.bind_some, Option.map_some, mM_rc, ix108, ix432, ix80, i108_50, i108_51, i108_52, i108_53, i108_54, i108_55, i108_56, i108_72, i108_73, i108_74, i108_75, i108_76, i108_77, i108_78, i108_79, i108_80, i108_81, i108_82, l5_of0, l5_of1, l5_of2, l5_of3, l5_of4, l5_in, l5_isBarn, l5_isGenerator, l5_mile, l5_seats, qupd_at, qupd_qupd, qupd_ne, nI_1, g50, g50b, nI_add, qbI, l5_inVan, l5_gone, l5_r0, l5_r1, l5_r2, l5_r3, l5_generatorFor, l5_peopleAt, l5_isReel] using hw2)]
        simp only [Option.bind_some, Option.map_some, mM_gR0, mM_gR1, mM_gR2, mM_gR4, mM_gR6, mM_gI3, mM_gI5, mM_gI7, mM_gI8, mM_gI9, mM_gI10, mM_gI11, mM_gI12, mM_gI13, mM_gI14, mM_gI15, mM_pF3, mM_pF5, mM_pF7, mM_pF8, mM_pF9, mM_pF10, mM_pF11, mM_pF12, mM_pF13, mM_pF14, mM_pF15, mM_a1, mM_a2, mM_a3, mM_a4, mM_a5, mM_s1, mM_s2, mM_s3, mM_s4, mM_s5, Option.bind_some, Option.map_some, mM_rc, ix108, ix432, ix80, i108_50, i108_51, i108_52, i108_53, i108_54, i108_55, i108_56, i108_72, i108_73, i108_74, i108_75, i108_76, i108_77, i108_78, i108_79, i108_80, i108_81, i108_82, l5_of0, l5_of1, l5_of2, l5_of3, l5_of4, l5_in, l5_isBarn, l5_isGenerator, l5_mile, l5_seats, qupd_at, qupd_qupd, qupd_ne, nI_1, g50, g50b, nI_add, qbI, l5_inVan, l5_gone, l5_r0, l5_r1, l5_r2, l5_r3, l5_generatorFor, l5_peopleAt, l5_isReel]
        rw [ih (k + 1) (by omega) (by omega) _ (by rw [qupd_at, playsF, ← hA, playF, if_pos h]), qupd_qupd]
      · simp only [h, if_false]
        rw [ih (k + 1) (by omega) (by omega) _ (by rw [playsF, ← hA, playF, if_neg h])]
theorem l5_shows (b : Nat) (hb : b < 5) (g : Nat) (hg1 : g ≤ 1) (hg : genF (A 1) (nI b) (minF (A 1) (nI b)) = nI g) (hw : okW (A 1) (5 + (nI b - nI b / 3 * 3))) : f_X5_shows (some (m, 0)) (nI b) (mM M m A F) = some (pplF (A 1) (nI b) * A 1 56, mM M m (qupd A 1 (showS (A 1) (nI b))) F) := by
  unfold f_X5_shows showS genN
  simp (disch := omega) only [mM_gR0, mM_gR1, mM_gR2, mM_gR4, mM_gR6, mM_gI3, mM_gI5, mM_gI7, mM_gI8, mM_gI9, mM_gI10, mM_gI11, mM_gI12, mM_gI13, mM_gI14, mM_gI15, mM_pF3, mM_pF5, mM_pF7, mM_pF8, mM_pF9, mM_pF10, mM_pF11, mM_pF12, mM_pF13, mM_pF14, mM_pF15, mM_a1, mM_a2, mM_a3, mM_a4, mM_a5, mM_s1, mM_s2, mM_s3, mM_s4, mM_s5, Option.bind_some, Option.map_some, mM_rc, ix108, ix432, ix80, i108_50, i108_51, i108_52, i108_53, i108_54, i108_55, i108_56, i108_72, i108_73, i108_74, i108_75, i108_76, i108_77, i108_78, i108_79, i108_80, i108_81, i108_82, l5_of0, l5_of1, l5_of2, l5_of3, l5_of4, l5_in, l5_isBarn, l5_isGenerator, l5_mile, l5_seats, qupd_at, qupd_qupd, qupd_ne, nI_1, g50, g50b, nI_add, qbI, l5_inVan, l5_gone, l5_r0, l5_r1, l5_r2, l5_r3, l5_generatorFor, l5_peopleAt, l5_isReel, hg, nI_clamp]
  have := l5_shows_49 (M := M) (m := m) (F := F) (qupd (A 1) (50 + 2 * g + 1) (A 1 (50 + 2 * g + 1) - minF (A 1) (nI b))) b hb (pplF (A 1) (nI b)) (minF (A 1) (nI b)) (pplF (A 1) (nI b) * A 1 56) (fun r hr => by rw [qupd_ne _ _ (by omega)]; exact hw r hr) 11 0 (by omega) (by omega) (qupd A 1 (qupd (A 1) (50 + 2 * g + 1) (A 1 (50 + 2 * g + 1) - minF (A 1) (nI b)))) (qupd_at _ _ _)
  rw [qupd_qupd] at this
  exact this
theorem l5_show (hk : k ≤ 4) (hF : F 3 = nI k) (b : Int32) (hw : okW (A 1) (5 + (b - b / 3 * 3))) : f_X5_show (some (m, 0)) b (mM M m A F) = mres M m A F k (aShow (A 1) b) := by
  unfold f_X5_show aShow mres
  simp only [mM_gR0, mM_gR1, mM_gR2, mM_gR4, mM_gR6, mM_gI3, mM_gI5, mM_gI7, mM_gI8, mM_gI9, mM_gI10, mM_gI11, mM_gI12, mM_gI13, mM_gI14, mM_gI15, mM_pF3, mM_pF5, mM_pF7, mM_pF8, mM_pF9, mM_pF10, mM_pF11, mM_pF12, mM_pF13, mM_pF14, mM_pF15, mM_a1, mM_a2, mM_a3, mM_a4, mM_a5, mM_s1, mM_s2, mM_s3, mM_s4, mM_s5, Option.bind_some, Option.map_some, mM_rc, ix108, ix432, ix80, i108_50, i108_51, i108_52, i108_53, i108_54, i108_55, i108_56, i108_72, i108_73, i108_74, i108_75, i108_76, i108_77, i108_78, i108_79, i108_80, i108_81, i108_82, l5_of0, l5_of1, l5_of2, l5_of3, l5_of4, l5_in, l5_isBarn, l5_isGenerator, l5_mile, l5_seats, qupd_at, qupd_qupd, qupd_ne, nI_1, g50, g50b, nI_add, qbI, l5_inVan, l5_gone, l5_r0, l5_r1, l5_r2, l5_r3, l5_generatorFor, l5_peopleAt, l5_isReel]
  by_cases h : inR b 0 4 = 0
  · simp [h]
  · obtain ⟨j, hj, rfl⟩ := inR_of (n := 4) (by decide) h
    simp (disch := omega) only [h, if_false, l5_why, mM_gR0, mM_gR1, mM_gR2, mM_gR4, mM_gR6, mM_gI3, mM_gI5, mM_gI7, mM_gI8, mM_gI9, mM_gI10, mM_gI11, mM_gI12, mM_gI13, mM_gI14, mM_gI15, mM_pF3, mM_pF5, mM_pF7, mM_pF8, mM_pF9, mM_pF10, mM_pF11, mM_pF12, mM_pF13, mM_pF14, mM_pF15, mM_a1, mM_a2, mM_a3, mM_a4, mM_a5, mM_s1, mM_s2, mM_s3, mM_s4, mM_s5, Option.bind_some, Option.map_some, mM_rc, ix108, ix432, ix80, i108_50, i108_51, i108_52, i108_53, i108_54, i108_55, i108_56, i108_72, i108_73, i108_74, i108_75, i108_76, i108_77, i108_78, i108_79, i108_80, i108_81, i108_82, l5_of0, l5_of1, l5_of2, l5_of3, l5_of4, l5_in, l5_isBarn, l5_isGenerator, l5_mile, l5_seats, qupd_at, qupd_qupd, qupd_ne, nI_1, g50, g50b, nI_add, qbI, l5_inVan, l5_gone, l5_r0, l5_r1, l5_r2, l5_r3, l5_generatorFor, l5_peopleAt, l5_isReel]
    by_cases h2 : whyF (A 1) (nI j) ≤ 0
    · have hg : ∃ g : Nat, g ≤ 1 ∧ genF (A 1) (nI j) (minF (A 1) (nI j)) = nI g := by
        rcases l5_generatorFor0 (A := A) (nI j) (minF (A 1) (nI j)) with h3 | h3 | h3
        · exact ⟨0, by omega, h3⟩
        · exact ⟨1, by omega, h3⟩
        · exfalso
          unfold whyF at h2
          rw [h3] at h2
          split at h2
          · exact absurd h2 (by decide)
          · split at h2
            · exact absurd h2 (by decide)
            · split at h2
              · exact absurd h2 (by decide)
              · exact absurd h2 (by decide)
      obtain ⟨g, hg1, hg2⟩ := hg
      have hg3 : genF (qupd A 3 (knB (A 3) (A 1) k) 1) (nI j) (minF (qupd A 3 (knB (A 3) (A 1) k) 1) (nI j)) = nI g := by rw [qupd_ne _ _ (by decide)]; exact hg2
      simp only [h2, if_true, l5_know hk hF, mM_gR0, mM_gR1, mM_gR2, mM_gR4, mM_gR6, mM_gI3, mM_gI5, mM_gI7, mM_gI8, mM_gI9, mM_gI10, mM_gI11, mM_gI12, mM_gI13, mM_gI14, mM_gI15, mM_pF3, mM_pF5, mM_pF7, mM_pF8, mM_pF9, mM_pF10, mM_pF11, mM_pF12, mM_pF13, mM_pF14, mM_pF15, mM_a1, mM_a2, mM_a3, mM_a4, mM_a5, mM_s1, mM_s2, mM_s3, mM_s4, mM_s5, Option.bind_some, Option.map_some, mM_rc, ix108, ix432, ix80, i108_50, i108_51, i108_52, i108_53, i108_54, i108_55, i108_56, i108_72, i108_73, i108_74, i108_75, i108_76, i108_77, i108_78, i108_79, i108_80, i108_81, i108_82, l5_of0, l5_of1, l5_of2, l5_of3, l5_of4, l5_in, l5_isBarn, l5_isGenerator, l5_mile, l5_seats, qupd_at, qupd_qupd, qupd_ne, nI_1, g50, g50b, nI_add, qbI, l5_inVan, l5_gone, l5_r0, l5_r1, l5_r2, l5_r3, l5_generatorFor, l5_peopleAt, l5_isReel]
      rw [l5_shows j (by omega) g hg1 hg3 (by rw [qupd_ne _ _ (by decide)]; exact hw)]
      simp (disch := omega) only [mM_gR0, mM_gR1, mM_gR2, mM_gR4, mM_gR6, mM_gI3, mM_gI5, mM_gI7, mM_gI8, mM_gI9, mM_gI10, mM_gI11, mM_gI12, mM_gI13, mM_gI14, mM_gI15, mM_pF3, mM_pF5, mM_pF7, mM_pF8, mM_pF9, mM_pF10, mM_pF11, mM_pF12, mM_pF13, mM_pF14, mM_pF15, mM_a1, mM_a2, mM_a3, mM_a4, mM_a5, mM_s1, mM_s2, mM_s3, mM_s4, mM_s5, Option.bind_some, Option.map_some, mM_rc, ix108, ix432, ix80, i108_50, i108_51, i108_52, i108_53, i108_54, i108_55, i108_56, i108_72, i108_73, i108_74, i108_75, i108_76, i108_77, i108_78, i108_79, i108_80, i108_81, i108_82, l5_of0, l5_of1, l5_of2, l5_of3, l5_of4, l5_in, l5_isBarn, l5_isGenerator, l5_mile, l5_seats, qupd_at, qupd_qupd, qupd_ne, nI_1, g50, g50b, nI_add, qbI, l5_inVan, l5_gone, l5_r0, l5_r1, l5_r2, l5_r3, l5_generatorFor, l5_peopleAt, l5_isReel]
    · simp only [h2, if_false]
end M4
