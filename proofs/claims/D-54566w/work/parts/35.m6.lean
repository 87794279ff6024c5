/-! the model: what is told -/
set_option maxRecDepth 100000
def brN : Nat → Nat → Nat → Nat → Option Int32
  | 0, _, _, _ => none
  | n + 1, a, c, k => if c < 3 then some (nI k) else if a + 5 < 40 then brN n (a + 5) c (k + 1) else brN n (a - 15) (c - 1) (k + 1)
theorem brN_some : ∀ n a c k : Nat, a < 40 → 20 * c + 40 ≤ a + 5 * n → ∃ v, brN n a c k = some v := by
  intro n
  induction n with
  | zero => intro a c k h1 h2; omega
  | succ n ih =>
    intro a c k h1 h2
    rw [brN]
    by_cases h : c < 3
    · exact ⟨_, if_pos h⟩
    · rw [if_neg h]
      by_cases h3 : a + 5 < 40
      · rw [if_pos h3]; exact ih _ _ _ h3 (by omega)
      · rw [if_neg h3]; exact ih _ _ _ (by omega) (by omega)
def brF (w mi : Int32) : Int32 := (brN 100 w.toNatClampNeg mi.toNatClampNeg 0).getD 0
def reelF (s : Nat → Int32) (r w : Int32) : Int32 := if isRF s r = 0 then -10000001 else if inR w 0 4 = 0 then (if w = 5 then brF (s (5 * r.toNatClampNeg + 2)) (s (5 * r.toNatClampNeg + 1)) else -10000002) else s (5 * r.toNatClampNeg + w.toNatClampNeg)
def genRF (s : Nat → Int32) (g w : Int32) : Int32 := if inR g 0 1 = 0 then -10000001 else if inR w 0 1 = 0 then -10000002 else s (50 + 2 * g.toNatClampNeg + w.toNatClampNeg)
def barnF (s : Nat → Int32) (b w : Int32) : Int32 := if inR b 0 4 = 0 then -10000001 else if w = 0 then mileF b else if w = 1 then seatsF b else if w = 2 then b - b / 3 * 3 else if w = 3 then cntF s b else if w = 4 then minF s b else if w = 5 then pplF s b else if w = 6 then whyF s b else if w = 7 then s (62 + b.toNatClampNeg) else if w = 8 then s (67 + b.toNatClampNeg) else -10000002
def bestL (s : Nat → Int32) : Nat → Int32
  | 0 => -10000005
  | k + 1 => if whyF s (nI k) = 0 ∧ (bestL s k = -10000005 ∨ ¬ pplF s (nI k) ≤ pplF s (bestL s k)) then nI k else bestL s k
def ifPF (s : Nat → Int32) (b p : Int32) : Int32 := if inR b 0 4 = 0 then -10000001 else if inR p 1 99 = 0 then -10000002 else pplF s b * p
def showOfF (s : Nat → Int32) (b w : Int32) : Int32 := if b < 0 then -10000002 else if inR w 0 4 = 0 then -10000002 else if s 77 ≤ b then -10000005 else s (78 + 5 * b.toNatClampNeg + w.toNatClampNeg)
def countF (s : Nat → Int32) (kn ty w : Int32) : Int32 := if w = 0 then s 55 else if w = 1 then s 54 else if w = 2 then vanF s else if w = 3 then goneF s else if w = 4 then sumF s 67 5 else if w = 5 then s 72 else if w = 6 then s 73 else if w = 7 then s 74 else if w = 8 then sumF s 67 5 - sumF s 72 3 else if w = 9 then sumF s 62 5 else if w = 10 then s 75 else if w = 11 then s 56 else if w = 12 then s 76 else if w = 13 then kn else if w = 14 then ty else -10000002
/-- bounds of the row -/
def okRow (s : Nat → Int32) : Prop := ∀ r, r < 10 → ¬ s (5 * r) = -2 → (∃ a : Nat, a < 40 ∧ s (5 * r + 2) = nI a) ∧ ∃ c : Nat, 3 ≤ c ∧ c ≤ 17 ∧ s (5 * r + 1) = nI c
theorem ite_some (p : Prop) [Decidable p] (a b : Int32) : (if p then some a else some b) = some (if p then a else b) := by split <;> rfl
section M6
variable {M : QM} {m : Nat} {A : Nat → Nat → Int32} {F : Nat → Int32} {k : Nat}
theorem l5_bears_25 : ∀ n a c k : Nat, a < 40 → c ≤ 17 → f_X5_bears_25 M n (nI a) (nI c) (nI k) = brN n a c k := by
  intro n
  induction n with
  | zero => intro a c k h1 h2; rfl
  | succ n ih =>
    intro a c k h1 h2
    rw [f_X5_bears_25, brN]
    by_cases h : c < 3
    · rw [if_pos (show nI c < (3 : Int32) from nI_lt (a := c) (b := 3) h (by decide)), if_pos h]
    · rw [if_neg (show ¬ nI c < (3 : Int32) from nI_nlt (a := c) (b := 3) (by omega) (by omega)), if_neg h]
      have e1 : nI a + (5 : Int32) = nI (a + 5) := nI_add a 5
      rw [e1, f_X5_bears_36]
      by_cases h3 : a + 5 < 40
      · rw [if_pos (show nI (a + 5) < (40 : Int32) from nI_lt (a := a + 5) (b := 40) h3 (by decide)), if_pos h3, nI_1]
        exact ih _ _ _ h3 h2
      · rw [if_neg (show ¬ nI (a + 5) < (40 : Int32) from nI_nlt (a := a + 5) (b := 40) (by omega) (by omega)), if_neg h3]
        have e2 : nI (a + 5) + (-20 : Int32) = nI (a - 15) := by
          have : nI (a + 5) = nI (a - 15) + nI 20 := by rw [nI_add]; congr 1; omega
          rw [this, Int32.add_assoc, show nI 20 + (-20 : Int32) = 0 from by decide +kernel, Int32.add_zero]
        obtain ⟨c', rfl⟩ : ∃ z, c = z + 1 := ⟨c - 1, by omega⟩
        rw [e2, nI_dec, f_X5_bears_36, if_pos (show nI (a - 15) < (40 : Int32) from nI_lt (a := a - 15) (b := 40) (by omega) (by decide)), nI_1]
        exact ih _ _ _ (by omega) (by omega)
theorem l5_bears (hA : okRow (A 1)) (r : Nat) (hr : r < 10) (h2 : ¬ A 1 (5 * r) = -2) : f_X5_bears (some (m, 0)) (nI r) (mM M m A F) = some (brF (A 1 (5 * r + 2)) (A 1 (5 * r + 1))) := by
  obtain ⟨⟨a, ha, e1⟩, c, hc3, hc, e2⟩ := hA r hr h2
  unfold f_X5_bears brF
  simp (disch := omega) only [mM_gR0, mM_gR1, mM_gR2, mM_gR4, mM_gR6, mM_gI3, mM_gI5, mM_gI7, mM_gI8, mM_gI9, mM_gI10, mM_gI11, mM_gI12, mM_gI13, mM_gI14, mM_gI15, mM_pF3, mM_pF5, mM_pF7, mM_pF8, mM_pF9, mM_pF10, mM_pF11, mM_pF12, mM_pF13, mM_pF14, mM_pF15, mM_a1, mM_a2, mM_a3, mM_a4, mM_a5, mM_s1, mM_s2, mM_s3, mM_s4, mM_s5, Option.bind_some, Option.map_some, mM_rc, ix108, ix432, ix80, i108_50, i108_51, i108_52, i108_53, i108_54, i108_55, i108_56, i108_72, i108_73, i108_74, i108_75, i108_76, i108_77, i108_78, i108_79, i108_80, i108_81, i108_82, l5_of0, l5_of1, l5_of2, l5_of3, l5_of4, l5_in, l5_isBarn, l5_isGenerator, l5_mile, l5_seats, qupd_at, qupd_qupd, qupd_ne, nI_1, g50, g50b, nI_add, qbI, l5_inVan, l5_gone, l5_r0, l5_r1, l5_r2, l5_r3, l5_generatorFor, l5_peopleAt, l5_isReel, e1, e2, nI_clamp]
  rw [show (0 : Int32) = nI 0 from rfl, l5_bears_25 100 a c 0 ha hc]
  obtain ⟨v, hv⟩ := brN_some 100 a c 0 ha (by omega)
  rw [hv]
  rfl
theorem l5_reel (hA : okRow (A 1)) (r w : Int32) : f_X5_reel (some (m, 0)) r w (mM M m A F) = some (reelF (A 1) r w) := by
  unfold f_X5_reel reelF
  simp only [mM_gR0, mM_gR1, mM_gR2, mM_gR4, mM_gR6, mM_gI3, mM_gI5, mM_gI7, mM_gI8, mM_gI9, mM_gI10, mM_gI11, mM_gI12, mM_gI13, mM_gI14, mM_gI15, mM_pF3, mM_pF5, mM_pF7, mM_pF8, mM_pF9, mM_pF10, mM_pF11, mM_pF12, mM_pF13, mM_pF14, mM_pF15, mM_a1, mM_a2, mM_a3, mM_a4, mM_a5, mM_s1, mM_s2, mM_s3, mM_s4, mM_s5, Option.bind_some, Option.map_some, mM_rc, ix108, ix432, ix80, i108_50, i108_51, i108_52, i108_53, i108_54, i108_55, i108_56, i108_72, i108_73, i108_74, i108_75, i108_76, i108_77, i108_78, i108_79, i108_80, i108_81, i108_82, l5_of0, l5_of1, l5_of2, l5_of3, l5_of4, l5_in, l5_isBarn, l5_isGenerator, l5_mile, l5_seats, qupd_at, qupd_qupd, qupd_ne, nI_1, g50, g50b, nI_add, qbI, l5_inVan, l5_gone, l5_r0, l5_r1, l5_r2, l5_r3, l5_generatorFor, l5_peopleAt, l5_isReel]
  by_cases h : isRF (A 1) r = 0
  · simp only [h, if_true]
  · obtain ⟨j, hj, rfl, -, h2⟩ := isRF_of h
    simp only [h, if_false]
    by_cases h3 : inR w 0 4 = 0
    · simp only [h3, if_true]
      by_cases h4 : w = 5
      · simp (disch := omega) only [h4, if_true, l5_bears hA j (by omega) h2, Option.bind_some, Option.map_some, nI_clamp]
      · simp only [h4, if_false]
    · obtain ⟨i, hi, rfl⟩ := inR_of (n := 4) (by decide) h3
      simp (disch := omega) only [h3, if_false, l5_of, mM_gR0, mM_gR1, mM_gR2, mM_gR4, mM_gR6, mM_gI3, mM_gI5, mM_gI7, mM_gI8, mM_gI9, mM_gI10, mM_gI11, mM_gI12, mM_gI13, mM_gI14, mM_gI15, mM_pF3, mM_pF5, mM_pF7, mM_pF8, mM_pF9, mM_pF10, mM_pF11, mM_pF12, mM_pF13, mM_pF14, mM_pF15, mM_a1, mM_a2, mM_a3, mM_a4, mM_a5, mM_s1, mM_s2, mM_s3, mM_s4, mM_s5, Option.bind_some, Option.map_some, mM_rc, ix108, ix432, ix80, i108_50, i108_51, i108_52, i108_53, i108_54, i108_55, i108_56, i108_72, i108_73, i108_74, i108_75, i108_76, i108_77, i108_78, i108_79, i108_80, i108_81, i108_82, l5_of0, l5_of1, l5_of2, l5_of3, l5_of4, l5_in, l5_isBarn, l5_isGenerator, l5_mile, l5_seats, qupd_at, qupd_qupd, qupd_ne, nI_1, g50, g50b, nI_add, qbI, l5_inVan, l5_gone, l5_r0, l5_r1, l5_r2, l5_r3, l5_generatorFor, l5_peopleAt, l5_isReel, nI_clamp]
theorem l5_generator (g w : Int32) : f_X5_generator (some (m, 0)) g w (mM M m A F) = some (genRF (A 1) g w) := by
  unfold f_X5_generator genRF
  simp only [mM_gR0, mM_gR1, mM_gR2, mM_gR4, mM_gR6, mM_gI3, mM_gI5, mM_gI7, mM_gI8, mM_gI9, mM_gI10, mM_gI11, mM_gI12, mM_gI13, mM_gI14, mM_gI15, mM_pF3, mM_pF5, mM_pF7, mM_pF8, mM_pF9, mM_pF10, mM_pF11, mM_pF12, mM_pF13, mM_pF14, mM_pF15, mM_a1, mM_a2, mM_a3, mM_a4, mM_a5, mM_s1, mM_s2, mM_s3, mM_s4, mM_s5, Option.bind_some, Option.map_some, mM_rc, ix108, ix432, ix80, i108_50, i108_51, i108_52, i108_53, i108_54, i108_55, i108_56, i108_72, i108_73, i108_74, i108_75, i108_76, i108_77, i108_78, i108_79, i108_80, i108_81, i108_82, l5_of0, l5_of1, l5_of2, l5_of3, l5_of4, l5_in, l5_isBarn, l5_isGenerator, l5_mile, l5_seats, qupd_at, qupd_qupd, qupd_ne, nI_1, g50, g50b, nI_add, qbI, l5_inVan, l5_gone, l5_r0, l5_r1, l5_r2, l5_r3, l5_generatorFor, l5_peopleAt, l5_isReel]
  by_cases h : inR g 0 1 = 0
  · simp only [h, if_true]
  · obtain ⟨j, hj, rfl⟩ := inR_of (n := 1) (by decide) h
    simp only [h, if_false]
    by_cases h3 : inR w 0 1 = 0
    · simp only [h3, if_true]
    · obtain ⟨i, hi, rfl⟩ := inR_of (n := 1) (by decide) h3
      simp (disch := omega) only [h3, if_false, mM_gR0, mM_gR1, mM_gR2, mM_gR4, mM_gR6, mM_gI3, mM_gI5, mM_gI7, mM_gI8, mM_gI9, mM_gI10, mM_gI11, mM_gI12, mM_gI13, mM_gI14, mM_gI15, mM_pF3, mM_pF5, mM_pF7, mM_pF8, mM_pF9, mM_pF10, mM_pF11, mM_pF12, mM_pF13, mM_pF14, mM_pF15, mM_a1, mM_a2, mM_a3, mM_a4, mM_a5, mM_s1, mM_s2, mM_s3, mM_s4, mM_s5, Option.bind_some, Option.map_some, mM_rc, ix108, ix432, ix80, i108_50, i108_51, i108_52, i108_53, i108_54, i108_55, i108_56, i108_72, i108_73, i108_74, i108_75, i108_76, i108_77, i108_78, i108_79, i108_80, i108_81, i108_82, l5_of0, l5_of1, l5_of2, l5_of3, l5_of4, l5_in, l5_isBarn, l5_isGenerator, l5_mile, l5_seats, qupd_at, qupd_qupd, qupd_ne, nI_1, g50, g50b, nI_add, qbI, l5_inVan, l5_gone, l5_r0, l5_r1, l5_r2, l5_r3, l5_generatorFor, l5_peopleAt, l5_isReel, nI_clamp]
theorem l5_barn (b w : Int32) : f_X5_barn (some (m, 0)) b w (mM M m A F) = some (barnF (A 1) b w) := by
  unfold f_X5_barn barnF
  simp only [mM_gR0, mM_gR1, mM_gR2, mM_gR4, mM_gR6, mM_gI3, mM_gI5, mM_gI7, mM_gI8, mM_gI9, mM_gI10, mM_gI11, mM_gI12, mM_gI13, mM_gI14, mM_gI15, mM_pF3, mM_pF5, mM_pF7, mM_pF8, mM_pF9, mM_pF10, mM_pF11, mM_pF12, mM_pF13, mM_pF14, mM_pF15, mM_a1, mM_a2, mM_a3, mM_a4, mM_a5, mM_s1, mM_s2, mM_s3, mM_s4, mM_s5, Option.bind_some, Option.map_some, mM_rc, ix108, ix432, ix80, i108_50, i108_51, i108_52, i108_53, i108_54, i108_55, i108_56, i108_72, i108_73, i108_74, i108_75, i108_76, i108_77, i108_78, i108_79, i108_80, i108_81, i108_82, l5_of0, l5_of1, l5_of2, l5_of3, l5_of4, l5_in, l5_isBarn, l5_isGenerator, l5_mile, l5_seats, qupd_at, qupd_qupd, qupd_ne, nI_1, g50, g50b, nI_add, qbI, l5_inVan, l5_gone, l5_r0, l5_r1, l5_r2, l5_r3, l5_generatorFor, l5_peopleAt, l5_isReel]
  by_cases h : inR b 0 4 = 0
  · simp only [h, if_true]
  · obtain ⟨j, hj, rfl⟩ := inR_of (n := 4) (by decide) h
    have e1 : (62 : Int32) + nI j = nI (62 + j) := nI_add 62 _
    have e2 : (67 : Int32) + nI j = nI (67 + j) := nI_add 67 _
    by_cases w3 : w = 3
    · subst w3
      simp (disch := omega) only [h, if_false, ne_0_1, ne_0_2, ne_0_3, ne_1_0, ne_1_2, ne_1_3, ne_2_0, ne_2_1, ne_2_3, ne_3_0, ne_3_1, ne_3_2, if_true, if_false, f_X5_barn_74, show (3 : Int32) - 3 = 0 from by decide, mM_gR0, mM_gR1, mM_gR2, mM_gR4, mM_gR6, mM_gI3, mM_gI5, mM_gI7, mM_gI8, mM_gI9, mM_gI10, mM_gI11, mM_gI12, mM_gI13, mM_gI14, mM_gI15, mM_pF3, mM_pF5, mM_pF7, mM_pF8, mM_pF9, mM_pF10, mM_pF11, mM_pF12, mM_pF13, mM_pF14, mM_pF15, mM_a1, mM_a2, mM_a3, mM_a4, mM_a5, mM_s1, mM_s2, mM_s3, mM_s4, mM_s5, Option.bind_some, Option.map_some, mM_rc, ix108, ix432, ix80, i108_50, i108_51, i108_52, i108_53, i108_54, i108_55, i108_56, i108_72, i108_73, i108_74, i108_75, i108_76, i108_77, i108_78, i108_79, i108_80, i108_81, i108_82, l5_of0, l5_of1, l5_of2, l5_of3, l5_of4, l5_in, l5_isBarn, l5_isGenerator, l5_mile, l5_seats, qupd_at, qupd_qupd, qupd_ne, nI_1, g50, g50b, nI_add, qbI, l5_inVan, l5_gone, l5_r0, l5_r1, l5_r2, l5_r3, l5_generatorFor, l5_peopleAt, l5_isReel]
    · by_cases w4 : w = 4
      · subst w4
        simp (disch := omega) only [h, if_false, ne_4_0, ne_4_1, ne_4_2, ne_4_3, if_true, f_X5_barn_74, show (4 : Int32) - 3 = 1 from by decide, mM_gR0, mM_gR1, mM_gR2, mM_gR4, mM_gR6, mM_gI3, mM_gI5, mM_gI7, mM_gI8, mM_gI9, mM_gI10, mM_gI11, mM_gI12, mM_gI13, mM_gI14, mM_gI15, mM_pF3, mM_pF5, mM_pF7, mM_pF8, mM_pF9, mM_pF10, mM_pF11, mM_pF12, mM_pF13, mM_pF14, mM_pF15, mM_a1, mM_a2, mM_a3, mM_a4, mM_a5, mM_s1, mM_s2, mM_s3, mM_s4, mM_s5, Option.bind_some, Option.map_some, mM_rc, ix108, ix432, ix80, i108_50, i108_51, i108_52, i108_53, i108_54, i108_55, i108_56, i108_72, i108_73, i108_74, i108_75, i108_76, i108_77, i108_78, i108_79, i108_80, i108_81, i108_82, l5_of0, l5_of1, l5_of2, l5_of3, l5_of4, l5_in, l5_isBarn, l5_isGenerator, l5_mile, l5_seats, qupd_at, qupd_qupd, qupd_ne, nI_1, g50, g50b, nI_add, qbI, l5_inVan, l5_gone, l5_r0, l5_r1, l5_r2, l5_r3, l5_generatorFor, l5_peopleAt, l5_isReel]
      · simp (disch := omega) only [h, if_false, w3, w4, l5_why j (show j < 5 by omega), e1, e2, mM_gR0, mM_gR1, mM_gR2, mM_gR4, mM_gR6, mM_gI3, mM_gI5, mM_gI7, mM_gI8, mM_gI9, mM_gI10, mM_gI11, mM_gI12, mM_gI13, mM_gI14, mM_gI15, mM_pF3, mM_pF5, mM_pF7, mM_pF8, mM_pF9, mM_pF10, mM_pF11, mM_pF12, mM_pF13, mM_pF14, mM_pF15, mM_a1, mM_a2, mM_a3, mM_a4, mM_a5, mM_s1, mM_s2, mM_s3, mM_s4, mM_s5, Option.bind_some, Option.map_some, mM_rc, ix108, ix432, ix80, i108_50, i108_51, i108_52, i108_53, i108_54, i108_55, i108_56, i108_72, i108_73, i108_74, i108_75, i108_76, i108_77, i108_78, i108_79, i108_80, i108_81, i108_82, l5_of0, l5_of1, l5_of2, l5_of3, l5_of4, l5_in, l5_isBarn, l5_isGenerator, l5_mile, l5_seats, qupd_at, qupd_qupd, qupd_ne, nI_1, g50, g50b, nI_add, qbI, l5_inVan, l5_gone, l5_r0, l5_r1, l5_r2, l5_r3, l5_generatorFor, l5_peopleAt, l5_isReel, nI_clamp]
        repeat (first | rfl | split)
theorem l5_ifPrice (b p : Int32) : f_X5_ifPrice (some (m, 0)) b p (mM M m A F) = some (ifPF (A 1) b p) := by
  unfold f_X5_ifPrice ifPF
  simp only [mM_gR0, mM_gR1, mM_gR2, mM_gR4, mM_gR6, mM_gI3, mM_gI5, mM_gI7, mM_gI8, mM_gI9, mM_gI10, mM_gI11, mM_gI12, mM_gI13, mM_gI14, mM_gI15, mM_pF3, mM_pF5, mM_pF7, mM_pF8, mM_pF9, mM_pF10, mM_pF11, mM_pF12, mM_pF13, mM_pF14, mM_pF15, mM_a1, mM_a2, mM_a3, mM_a4, mM_a5, mM_s1, mM_s2, mM_s3, mM_s4, mM_s5, Option.bind_some, Option.map_some, mM_rc, ix108, ix432, ix80, i108_50, i108_51, i108_52, i108_53, i108_54, i108_55, i108_56, i108_72, i108_73, i108_74, i108_75, i108_76, i108_77, i108_78, i108_79, i108_80, i108_81, i108_82, l5_of0, l5_of1, l5_of2, l5_of3, l5_of4, l5_in, l5_isBarn, l5_isGenerator, l5_mile, l5_seats, qupd_at, qupd_qupd, qupd_ne, nI_1, g50, g50b, nI_add, qbI, l5_inVan, l5_gone, l5_r0, l5_r1, l5_r2, l5_r3, l5_generatorFor, l5_peopleAt, l5_isReel]
  repeat (first | rfl | split)
theorem l5_bestBarn_5 : ∀ n k : Nat, k ≤ 5 → 5 < k + n → f_X5_bestBarn_5 (mM M m A F) n (some (m, 0)) (bestL (A 1) k) (nI k) = some (bestL (A 1) 5) := by
  intro n
  induction n with
  | zero => intro k h1 h2; omega
  | succ n ih =>
    intro k h1 h2
    rw [f_X5_bestBarn_5]
    by_cases hk : k = 5
    · subst hk
      rw [if_pos (by decide +kernel)]
    · rw [if_neg (show ¬ (5 : Int32) ≤ nI k from nI_ge (a := k) (b := 5) (by omega) (by decide))]
      simp (disch := omega) only [mM_gR0, mM_gR1, mM_gR2, mM_gR4, mM_gR6, mM_gI3, mM_gI5, mM_gI7, mM_gI8, mM_gI9, mM_gI10, mM_gI11, mM_gI12, mM_gI13, mM_gI14, mM_gI15, mM_pF3, mM_pF5, mM_pF7, mM_pF8, mM_pF9, mM_pF10, mM_pF11, mM_pF12, mM_pF13, mM_pF14, mM_pF15, mM_a1, mM_a2, mM_a3, mM_a4, mM_a5, mM_s1, mM_s2, mM_s3, mM_s4, mM_s5, Option.bind_some, Option.map_some, mM_rc, ix108, ix432, ix80, i108_50, i108_51, i108_52, i108_53, i108_54, i108_55, i108_56, i108_72, i108_73, i108_74, i108_75, i108_76, i108_77, i108_78, i108_79, i108_80, i108_81, i108_82, l5_of0, l5_of1, l5_of2, l5_of3, l5_of4, l5_in, l5_isBarn, l5_isGenerator, l5_mile, l5_seats, qupd_at, qupd_qupd, qupd_ne, nI_1, g50, g50b, nI_add, qbI, l5_inVan, l5_gone, l5_r0, l5_r1, l5_r2, l5_r3, l5_generatorFor, l5_peopleAt, l5_isReel, l5_why k (show k < 5 by omega), f_X5_bestBarn_42, f_X5_bestBarn_52]
      rw [← ih (k + 1) (by omega) (by omega), bestL]
      by_cases h1 : whyF (A 1) (nI k) = 0
      · by_cases h2 : bestL (A 1) k = -10000005
        · simp [h1, h2]
        · by_cases h3 : pplF (A 1) (nI k) ≤ pplF (A 1) (bestL (A 1) k)
          · simp [h1, h2, h3]
          · simp [h1, h2, h3]
      · simp [h1]
theorem l5_bestBarn : f_X5_bestBarn (some (m, 0)) (mM M m A F) = some (bestL (A 1) 5) := l5_bestBarn_5 6 0 (by omega) (by omega)
theorem l5_showOf (h77 : A 1 77 ≤ 6) (b w : Int32) : f_X5_showOf (some (m, 0)) b w (mM M m A F) = some (showOfF (A 1) b w) := by
  unfold f_X5_showOf showOfF
  simp only [mM_gR0, mM_gR1, mM_gR2, mM_gR4, mM_gR6, mM_gI3, mM_gI5, mM_gI7, mM_gI8, mM_gI9, mM_gI10, mM_gI11, mM_gI12, mM_gI13, mM_gI14, mM_gI15, mM_pF3, mM_pF5, mM_pF7, mM_pF8, mM_pF9, mM_pF10, mM_pF11, mM_pF12, mM_pF13, mM_pF14, mM_pF15, mM_a1, mM_a2, mM_a3, mM_a4, mM_a5, mM_s1, mM_s2, mM_s3, mM_s4, mM_s5, Option.bind_some, Option.map_some, mM_rc, ix108, ix432, ix80, i108_50, i108_51, i108_52, i108_53, i108_54, i108_55, i108_56, i108_72, i108_73, i108_74, i108_75, i108_76, i108_77, i108_78, i108_79, i108_80, i108_81, i108_82, l5_of0, l5_of1, l5_of2, l5_of3, l5_of4, l5_in, l5_isBarn, l5_isGenerator, l5_mile, l5_seats, qupd_at, qupd_qupd, qupd_ne, nI_1, g50, g50b, nI_add, qbI, l5_inVan, l5_gone, l5_r0, l5_r1, l5_r2, l5_r3, l5_generatorFor, l5_peopleAt, l5_isReel]
  by_cases h : b < 0
  · simp only [h, if_true]
  · simp only [h, if_false]
    by_cases h3 : inR w 0 4 = 0
    · simp only [h3, if_true]
    · obtain ⟨i, hi, rfl⟩ := inR_of (n := 4) (by decide) h3
      simp only [h3, if_false]
      by_cases h4 : A 1 77 ≤ b
      · simp only [h4, if_true]
      · have h5 : b < 6 := Int32.lt_of_lt_of_le (Int32.not_le.mp h4) h77
        obtain ⟨j, hj, rfl⟩ := nI_of2 (M := 6) (n := 6) (by decide) h (Int32.le_of_lt h5)
        have h6 : j < 6 := (nI_ltI (by omega) (by decide)).mp (show nI j < nI 6 from h5)
        have e1 : (78 : Int32) + (5 : Int32) * nI j = nI (78 + 5 * j) := by
          show nI 78 + nI 5 * nI j = _
          rw [nI_mul, nI_add]
        simp (disch := omega) only [h4, if_false, e1, mM_gR0, mM_gR1, mM_gR2, mM_gR4, mM_gR6, mM_gI3, mM_gI5, mM_gI7, mM_gI8, mM_gI9, mM_gI10, mM_gI11, mM_gI12, mM_gI13, mM_gI14, mM_gI15, mM_pF3, mM_pF5, mM_pF7, mM_pF8, mM_pF9, mM_pF10, mM_pF11, mM_pF12, mM_pF13, mM_pF14, mM_pF15, mM_a1, mM_a2, mM_a3, mM_a4, mM_a5, mM_s1, mM_s2, mM_s3, mM_s4, mM_s5, Option.bind_some, Option.map_some, mM_rc, ix108, ix432, ix80, i108_50, i108_51, i108_52, i108_53, i108_54, i108_55, i108_56, i108_72, i108_73, i108_74, i108_75, i108_76, i108_77, i108_78, i108_79, i108_80, i108_81, i108_82, l5_of0, l5_of1, l5_of2, l5_of3, l5_of4, l5_in, l5_isBarn, l5_isGenerator, l5_mile, l5_seats, qupd_at, qupd_qupd, qupd_ne, nI_1, g50, g50b, nI_add, qbI, l5_inVan, l5_gone, l5_r0, l5_r1, l5_r2, l5_r3, l5_generatorFor, l5_peopleAt, l5_isReel, nI_clamp]
theorem l5_count (w : Int32) : f_X5_count (some (m, 0)) w (mM M m A F) = some (countF (A 1) (F 3) (F 7) w) := by
  unfold f_X5_count countF
  have s1 : f_X5_sum (some (m, 0)) (67 : Int32) (5 : Int32) (mM M m A F) = some (sumF (A 1) 67 5) := l5_sum 67 5 (by omega) (by omega)
  have s2 : f_X5_sum (some (m, 0)) (72 : Int32) (3 : Int32) (mM M m A F) = some (sumF (A 1) 72 3) := l5_sum 72 3 (by omega) (by omega)
  have s3 : f_X5_sum (some (m, 0)) (62 : Int32) (5 : Int32) (mM M m A F) = some (sumF (A 1) 62 5) := l5_sum 62 5 (by omega) (by omega)
  by_cases w5 : w = 5
  · subst w5
    simp only [ne_5_0, ne_5_1, ne_5_2, ne_5_3, if_true, if_false, f_X5_count_110, show (72 : Int32) + 5 - 5 = 72 from by decide, mM_gR0, mM_gR1, mM_gR2, mM_gR4, mM_gR6, mM_gI3, mM_gI5, mM_gI7, mM_gI8, mM_gI9, mM_gI10, mM_gI11, mM_gI12, mM_gI13, mM_gI14, mM_gI15, mM_pF3, mM_pF5, mM_pF7, mM_pF8, mM_pF9, mM_pF10, mM_pF11, mM_pF12, mM_pF13, mM_pF14, mM_pF15, mM_a1, mM_a2, mM_a3, mM_a4, mM_a5, mM_s1, mM_s2, mM_s3, mM_s4, mM_s5, Option.bind_some, Option.map_some, mM_rc, ix108, ix432, ix80, i108_50, i108_51, i108_52, i108_53, i108_54, i108_55, i108_56, i108_72, i108_73, i108_74, i108_75, i108_76, i108_77, i108_78, i108_79, i108_80, i108_81, i108_82, l5_of0, l5_of1, l5_of2, l5_of3, l5_of4, l5_in, l5_isBarn, l5_isGenerator, l5_mile, l5_seats, qupd_at, qupd_qupd, qupd_ne, nI_1, g50, g50b, nI_add, qbI, l5_inVan, l5_gone, l5_r0, l5_r1, l5_r2, l5_r3, l5_generatorFor, l5_peopleAt, l5_isReel]
    rfl
  · by_cases w6 : w = 6
    · subst w6
      simp only [ne_6_0, ne_6_1, ne_6_2, ne_6_3, if_true, if_false, f_X5_count_110, show (72 : Int32) + 6 - 5 = 73 from by decide, mM_gR0, mM_gR1, mM_gR2, mM_gR4, mM_gR6, mM_gI3, mM_gI5, mM_gI7, mM_gI8, mM_gI9, mM_gI10, mM_gI11, mM_gI12, mM_gI13, mM_gI14, mM_gI15, mM_pF3, mM_pF5, mM_pF7, mM_pF8, mM_pF9, mM_pF10, mM_pF11, mM_pF12, mM_pF13, mM_pF14, mM_pF15, mM_a1, mM_a2, mM_a3, mM_a4, mM_a5, mM_s1, mM_s2, mM_s3, mM_s4, mM_s5, Option.bind_some, Option.map_some, mM_rc, ix108, ix432, ix80, i108_50, i108_51, i108_52, i108_53, i108_54, i108_55, i108_56, i108_72, i108_73, i108_74, i108_75, i108_76, i108_77, i108_78, i108_79, i108_80, i108_81, i108_82, l5_of0, l5_of1, l5_of2, l5_of3, l5_of4, l5_in, l5_isBarn, l5_isGenerator, l5_mile, l5_seats, qupd_at, qupd_qupd, qupd_ne, nI_1, g50, g50b, nI_add, qbI, l5_inVan, l5_gone, l5_r0, l5_r1, l5_r2, l5_r3, l5_generatorFor, l5_peopleAt, l5_isReel]
      rfl
    · by_cases w7 : w = 7
      · subst w7
        simp only [ne_7_0, ne_7_1, ne_7_2, ne_7_3, if_true, if_false, f_X5_count_110, show (72 : Int32) + 7 - 5 = 74 from by decide, mM_gR0, mM_gR1, mM_gR2, mM_gR4, mM_gR6, mM_gI3, mM_gI5, mM_gI7, mM_gI8, mM_gI9, mM_gI10, mM_gI11, mM_gI12, mM_gI13, mM_gI14, mM_gI15, mM_pF3, mM_pF5, mM_pF7, mM_pF8, mM_pF9, mM_pF10, mM_pF11, mM_pF12, mM_pF13, mM_pF14, mM_pF15, mM_a1, mM_a2, mM_a3, mM_a4, mM_a5, mM_s1, mM_s2, mM_s3, mM_s4, mM_s5, Option.bind_some, Option.map_some, mM_rc, ix108, ix432, ix80, i108_50, i108_51, i108_52, i108_53, i108_54, i108_55, i108_56, i108_72, i108_73, i108_74, i108_75, i108_76, i108_77, i108_78, i108_79, i108_80, i108_81, i108_82, l5_of0, l5_of1, l5_of2, l5_of3, l5_of4, l5_in, l5_isBarn, l5_isGenerator, l5_mile, l5_seats, qupd_at, qupd_qupd, qupd_ne, nI_1, g50, g50b, nI_add, qbI, l5_inVan, l5_gone, l5_r0, l5_r1, l5_r2, l5_r3, l5_generatorFor, l5_peopleAt, l5_isReel]
        rfl
      · simp only [w5, w6, w7, if_false, mM_gR0, mM_gR1, mM_gR2, mM_gR4, mM_gR6, mM_gI3, mM_gI5, mM_gI7, mM_gI8, mM_gI9, mM_gI10, mM_gI11, mM_gI12, mM_gI13, mM_gI14, mM_gI15, mM_pF3, mM_pF5, mM_pF7, mM_pF8, mM_pF9, mM_pF10, mM_pF11, mM_pF12, mM_pF13, mM_pF14, mM_pF15, mM_a1, mM_a2, mM_a3, mM_a4, mM_a5, mM_s1, mM_s2, mM_s3, mM_s4, mM_s5, Option.bind_some, Option.map_some, mM_rc, ix108, ix432, ix80, i108_50, i108_51, i108_52, i108_53, i108_54, i108_55, i108_56, i108_72, i108_73, i108_74, i108_75, i108_76, i108_77, i108_78, i108_79, i108_80, i108_81, i108_82, l5_of0, l5_of1, l5_of2, l5_of3, l5_of4, l5_in, l5_isBarn, l5_isGenerator, l5_mile, l5_seats, qupd_at, qupd_qupd, qupd_ne, nI_1, g50, g50b, nI_add, qbI, l5_inVan, l5_gone, l5_r0, l5_r1, l5_r2, l5_r3, l5_generatorFor, l5_peopleAt, l5_isReel, s1, s2, s3, ite_some]
end M6
