/-! reading a text: the spec; the model reads so -/
set_option maxRecDepth 100000
def chr (T : Nat → Int32) (n p : Nat) : Int32 := if p < n then T p else 0
abbrev isLt (c : Int32) : Prop := c = 118 ∨ c = 43 ∨ c = 45 ∨ c = 103 ∨ c = 102 ∨ c = 115 ∨ c = 100
def hiC (c : Int32) : Int32 := if c = 118 then 52 else if c = 43 then 57 else if c = 45 then 57 else 49
def pmL (T : Nat → Int32) (n : Nat) : Nat → Int32 → Nat → Option (Int32 × Nat)
  | 0, _, _ => none
  | f + 1, v, p => if inR (chr T n p) 48 57 = 0 then some (v, p) else if 500 < 10 * v + chr T n p - 48 then some (v, p) else pmL T n f (10 * v + chr T n p - 48) (p + 1)
/-- minutes at p: a fault's place, or their number and the place behind -/
def pmin (T : Nat → Int32) (n p : Nat) : Nat ⊕ (Int32 × Nat) := if inR (chr T n p) 49 57 = 0 then .inl p else match pmL T n 6 (chr T n p - 48) (p + 1) with
  | none => .inl 0
  | some (v, p') => if v - v / 5 * 5 = 0 then .inr (v, p') else .inl p'
abbrev CM : Type := Int32 × Int32 × Int32
/-- a command at p -/
def pcmd (T : Nat → Int32) (n p : Nat) : Nat ⊕ (CM × Nat) :=
  if isLt (chr T n p) then
    (if chr T n p = 115 ∨ chr T n p = 100 then .inr ((chr T n p, 0, 0), p + 1)
    else if inR (chr T n (p + 1)) 48 (hiC (chr T n p)) = 0 then .inl (p + 1)
    else if chr T n p = 102 then
      (if inR (chr T n (p + 2)) 58 58 = 0 then .inl (p + 2)
      else match pmin T n (p + 3) with
        | .inl e => .inl e
        | .inr (v, p') => .inr ((102, chr T n (p + 1) - 48, v), p'))
    else .inr ((chr T n p, chr T n (p + 1) - 48, 0), p + 2))
  else .inl p
section M7
variable {M : QM} {m : Nat} {A : Nat → Nat → Int32} {F : Nat → Int32} {k : Nat}
theorem qnfB {α : Type} {x : Int32} (h : x = 0 ∨ x = 1) (k : Option α) : qnf .boolean x k = k := by
  unfold qnf
  rw [if_pos (by rcases h with rfl | rfl <;> decide +kernel)]
theorem l5_chr {n p : Nat} (hn : n ≤ 80) (hp : p ≤ n) (h7 : F 7 = nI n) (h10 : F 10 = nI p) {α : Type} (f : Int32 → Option α) :
    (if nI n ≤ nI p then f 0 else (aI (mM M m A F) (some (m, 5)) (nI p)).bind f) = f (chr (A 5) n p) := by
  unfold chr
  by_cases h : p < n
  · rw [if_neg (nI_ge h (by omega)), if_pos h, mM_a5, ix80 (by omega)]
    rfl
  · rw [if_pos (nI_le (by omega) (by omega)), if_neg h]
/-- sign(lo, hi) -/
theorem l5_sign {n p : Nat} (hn : n ≤ 80) (hp : p ≤ n) (h7 : F 7 = nI n) (h10 : F 10 = nI p) (h11 : F 11 = 0) (lo hi : Int32) : f_X5_sign (some (m, 0)) lo hi (mM M m A F) = some (chr (A 5) n p, if inR (chr (A 5) n p) lo hi = 0 then mM M m A (qupd F 11 1) else mM M m A (qupd (qupd F 11 0) 10 (nI (p + 1)))) := by
  unfold f_X5_sign
  simp only [mM_gR0, mM_gR1, mM_gR2, mM_gR4, mM_gR6, mM_gI3, mM_gI5, mM_gI7, mM_gI8, mM_gI9, mM_gI10, mM_gI11, mM_gI12, mM_gI13, mM_gI14, mM_gI15, mM_pF3, mM_pF5, mM_pF7, mM_pF8, mM_pF9, mM_pF10, mM_pF11, mM_pF12, mM_pF13, mM_pF14, mM_pF15, mM_a1, mM_a2, mM_a3, mM_a4, mM_a5, mM_s1, mM_s2, mM_s3, mM_s4, mM_s5, Option.bind_some, Option.map_some, mM_rc, h7, h10]
  have := l5_chr (M := M) (m := m) (A := A) hn hp h7 h10 (fun v => f_X5_sign_24 (some (m, 0)) lo hi v (mM M m A F))
  simp only [mM_a5] at this
  rw [this]
  unfold f_X5_sign_24
  simp only [mM_gR0, mM_gR1, mM_gR2, mM_gR4, mM_gR6, mM_gI3, mM_gI5, mM_gI7, mM_gI8, mM_gI9, mM_gI10, mM_gI11, mM_gI12, mM_gI13, mM_gI14, mM_gI15, mM_pF3, mM_pF5, mM_pF7, mM_pF8, mM_pF9, mM_pF10, mM_pF11, mM_pF12, mM_pF13, mM_pF14, mM_pF15, mM_a1, mM_a2, mM_a3, mM_a4, mM_a5, mM_s1, mM_s2, mM_s3, mM_s4, mM_s5, Option.bind_some, Option.map_some, mM_rc, h11, if_true, l5_in]
  by_cases h : inR (chr (A 5) n p) lo hi = 0
  · simp (disch := omega) only [h, if_true, f_X5_sign_47, f_X5_sign_67, qnfB (Or.inr rfl), mM_gR0, mM_gR1, mM_gR2, mM_gR4, mM_gR6, mM_gI3, mM_gI5, mM_gI7, mM_gI8, mM_gI9, mM_gI10, mM_gI11, mM_gI12, mM_gI13, mM_gI14, mM_gI15, mM_pF3, mM_pF5, mM_pF7, mM_pF8, mM_pF9, mM_pF10, mM_pF11, mM_pF12, mM_pF13, mM_pF14, mM_pF15, mM_a1, mM_a2, mM_a3, mM_a4, mM_a5, mM_s1, mM_s2, mM_s3, mM_s4, mM_s5, Option.bind_some, Option.map_some, mM_rc, qupd_at, qupd_ne, h10, ne_0_1, ne_0_2, ne_0_3, ne_1_0, ne_1_2, ne_1_3, ne_2_0, ne_2_1, ne_2_3, ne_3_0, ne_3_1, ne_3_2, if_true, if_false, Int32.add_zero]
    congr 2
    congr 1
    funext i
    simp only [qupd]
    by_cases h2 : i = 10
    · subst h2
      simp [h10]
    · simp [h2]
  · simp (disch := omega) only [h, if_false, f_X5_sign_47, f_X5_sign_67, qnfB (Or.inl rfl), mM_gR0, mM_gR1, mM_gR2, mM_gR4, mM_gR6, mM_gI3, mM_gI5, mM_gI7, mM_gI8, mM_gI9, mM_gI10, mM_gI11, mM_gI12, mM_gI13, mM_gI14, mM_gI15, mM_pF3, mM_pF5, mM_pF7, mM_pF8, mM_pF9, mM_pF10, mM_pF11, mM_pF12, mM_pF13, mM_pF14, mM_pF15, mM_a1, mM_a2, mM_a3, mM_a4, mM_a5, mM_s1, mM_s2, mM_s3, mM_s4, mM_s5, Option.bind_some, Option.map_some, mM_rc, qupd_at, qupd_ne, h10, if_true, nI_1]
theorem l5_sign_w {n p : Nat} (hn : n ≤ 80) (hp : p ≤ n) (h7 : F 7 = nI n) (h10 : F 10 = nI p) (h11 : F 11 = 1) (lo hi : Int32) : f_X5_sign (some (m, 0)) lo hi (mM M m A F) = some (chr (A 5) n p, mM M m A F) := by
  unfold f_X5_sign
  simp only [mM_gR0, mM_gR1, mM_gR2, mM_gR4, mM_gR6, mM_gI3, mM_gI5, mM_gI7, mM_gI8, mM_gI9, mM_gI10, mM_gI11, mM_gI12, mM_gI13, mM_gI14, mM_gI15, mM_pF3, mM_pF5, mM_pF7, mM_pF8, mM_pF9, mM_pF10, mM_pF11, mM_pF12, mM_pF13, mM_pF14, mM_pF15, mM_a1, mM_a2, mM_a3, mM_a4, mM_a5, mM_s1, mM_s2, mM_s3, mM_s4, mM_s5, Option.bind_some, Option.map_some, mM_rc, h7, h10]
  have := l5_chr (M := M) (m := m) (A := A) hn hp h7 h10 (fun v => f_X5_sign_24 (some (m, 0)) lo hi v (mM M m A F))
  simp only [mM_a5] at this
  rw [this]
  unfold f_X5_sign_24
  simp (disch := omega) only [mM_gR0, mM_gR1, mM_gR2, mM_gR4, mM_gR6, mM_gI3, mM_gI5, mM_gI7, mM_gI8, mM_gI9, mM_gI10, mM_gI11, mM_gI12, mM_gI13, mM_gI14, mM_gI15, mM_pF3, mM_pF5, mM_pF7, mM_pF8, mM_pF9, mM_pF10, mM_pF11, mM_pF12, mM_pF13, mM_pF14, mM_pF15, mM_a1, mM_a2, mM_a3, mM_a4, mM_a5, mM_s1, mM_s2, mM_s3, mM_s4, mM_s5, Option.bind_some, Option.map_some, mM_rc, h11, ne_0_1, ne_0_2, ne_0_3, ne_1_0, ne_1_2, ne_1_3, ne_2_0, ne_2_1, ne_2_3, ne_3_0, ne_3_1, ne_3_2, if_true, if_false, f_X5_sign_47, f_X5_sign_67, qnfB (Or.inr rfl), qupd_at, qupd_ne, h10, Int32.add_zero]
  congr 2
  congr 1
  funext i
  simp only [qupd]
  by_cases h2 : i = 10
  · subst h2
    simp [h10]
  · by_cases h3 : i = 11
    · subst h3
      simp [h11]
    · simp [h2, h3]
def Pm (F F' : Nat → Int32) (p : Nat) (w : Int32) : Prop := (∀ i, i ≠ 10 → i ≠ 11 → F' i = F i) ∧ F' 10 = nI p ∧ F' 11 = w
theorem Pm.tr {F F1 F2 : Nat → Int32} {p p1 : Nat} {w w1 : Int32} (h : Pm F F1 p w) (h1 : Pm F1 F2 p1 w1) : Pm F F2 p1 w1 := ⟨fun i h2 h3 => (h1.1 i h2 h3).trans (h.1 i h2 h3), h1.2⟩
theorem l5_minutes_92 {p : Nat} (v : Int32) (h10 : F 10 = nI p) (h11 : F 11 = 0) : ∃ F', f_X5_minutes_92 (some (m, 0)) v (mM M m A F) = some (v, mM M m A F') ∧ Pm F F' p (if v - v / 5 * 5 = 0 then 0 else 1) := by
  refine ⟨qupd F 11 (if v - v / 5 * 5 = 0 then 0 else 1), ?_, fun i h1 h2 => qupd_ne _ _ h2, by rw [qupd_ne _ _ (by decide), h10], qupd_at _ _ _⟩
  unfold f_X5_minutes_92
  simp only [mM_gR0, mM_gR1, mM_gR2, mM_gR4, mM_gR6, mM_gI3, mM_gI5, mM_gI7, mM_gI8, mM_gI9, mM_gI10, mM_gI11, mM_gI12, mM_gI13, mM_gI14, mM_gI15, mM_pF3, mM_pF5, mM_pF7, mM_pF8, mM_pF9, mM_pF10, mM_pF11, mM_pF12, mM_pF13, mM_pF14, mM_pF15, mM_a1, mM_a2, mM_a3, mM_a4, mM_a5, mM_s1, mM_s2, mM_s3, mM_s4, mM_s5, Option.bind_some, Option.map_some, mM_rc, h11, if_true, f_X5_minutes_111]
  by_cases h : v - v / 5 * 5 = 0
  · simp only [h, if_true, qnfB (Or.inl rfl), mM_gR0, mM_gR1, mM_gR2, mM_gR4, mM_gR6, mM_gI3, mM_gI5, mM_gI7, mM_gI8, mM_gI9, mM_gI10, mM_gI11, mM_gI12, mM_gI13, mM_gI14, mM_gI15, mM_pF3, mM_pF5, mM_pF7, mM_pF8, mM_pF9, mM_pF10, mM_pF11, mM_pF12, mM_pF13, mM_pF14, mM_pF15, mM_a1, mM_a2, mM_a3, mM_a4, mM_a5, mM_s1, mM_s2, mM_s3, mM_s4, mM_s5, Option.bind_some, Option.map_some, mM_rc]
  · simp only [h, if_false, qnfB (Or.inr rfl), mM_gR0, mM_gR1, mM_gR2, mM_gR4, mM_gR6, mM_gI3, mM_gI5, mM_gI7, mM_gI8, mM_gI9, mM_gI10, mM_gI11, mM_gI12, mM_gI13, mM_gI14, mM_gI15, mM_pF3, mM_pF5, mM_pF7, mM_pF8, mM_pF9, mM_pF10, mM_pF11, mM_pF12, mM_pF13, mM_pF14, mM_pF15, mM_a1, mM_a2, mM_a3, mM_a4, mM_a5, mM_s1, mM_s2, mM_s3, mM_s4, mM_s5, Option.bind_some, Option.map_some, mM_rc]
theorem l5_minutes_92w {p : Nat} (v : Int32) (h10 : F 10 = nI p) (h11 : F 11 = 1) : ∃ F', f_X5_minutes_92 (some (m, 0)) v (mM M m A F) = some (v, mM M m A F') ∧ Pm F F' p 1 := by
  refine ⟨qupd F 11 1, ?_, fun i h1 h2 => qupd_ne _ _ h2, by rw [qupd_ne _ _ (by decide), h10], qupd_at _ _ _⟩
  unfold f_X5_minutes_92
  simp only [mM_gR0, mM_gR1, mM_gR2, mM_gR4, mM_gR6, mM_gI3, mM_gI5, mM_gI7, mM_gI8, mM_gI9, mM_gI10, mM_gI11, mM_gI12, mM_gI13, mM_gI14, mM_gI15, mM_pF3, mM_pF5, mM_pF7, mM_pF8, mM_pF9, mM_pF10, mM_pF11, mM_pF12, mM_pF13, mM_pF14, mM_pF15, mM_a1, mM_a2, mM_a3, mM_a4, mM_a5, mM_s1, mM_s2, mM_s3, mM_s4, mM_s5, Option.bind_some, Option.map_some, mM_rc, h11, ne_0_1, ne_0_2, ne_0_3, ne_1_0, ne_1_2, ne_1_3, ne_2_0, ne_2_1, ne_2_3, ne_3_0, ne_3_1, ne_3_2, if_true, if_false, f_X5_minutes_111, qnfB (Or.inr rfl)]
theorem l5_minutes_12 {n : Nat} (hn : n ≤ 80) : ∀ (f : Nat) (v : Int32) (p : Nat) (F : Nat → Int32) (v' : Int32) (p' : Nat), p ≤ n → F 7 = nI n → F 10 = nI p → F 11 = 0 → pmL (A 5) n f v p = some (v', p') → ∃ F', f_X5_minutes_12 f (some (m, 0)) v (mM M m A F) = some (v', mM M m A F') ∧ Pm F F' p' (if v' - v' / 5 * 5 = 0 then 0 else 1) := by
  intro f
  induction f with
  | zero => intro v p F v' p' hp h7 h10 h11 h; cases h
  | succ f ih =>
    intro v p F v' p' hp h7 h10 h11 h
    rw [f_X5_minutes_12]
    rw [pmL] at h
    simp only [mM_gR0, mM_gR1, mM_gR2, mM_gR4, mM_gR6, mM_gI3, mM_gI5, mM_gI7, mM_gI8, mM_gI9, mM_gI10, mM_gI11, mM_gI12, mM_gI13, mM_gI14, mM_gI15, mM_pF3, mM_pF5, mM_pF7, mM_pF8, mM_pF9, mM_pF10, mM_pF11, mM_pF12, mM_pF13, mM_pF14, mM_pF15, mM_a1, mM_a2, mM_a3, mM_a4, mM_a5, mM_s1, mM_s2, mM_s3, mM_s4, mM_s5, Option.bind_some, Option.map_some, mM_rc, h11, if_true, h7, h10]
    by_cases hlt : p < n
    · rw [if_neg (nI_ge hlt (by omega))]
      simp (disch := omega) only [ix80, Option.bind_some, Option.map_some, l5_in]
      have hc : chr (A 5) n p = A 5 p := if_pos hlt
      rw [hc] at h
      by_cases h1 : inR (A 5 p) 48 57 = 0
      · rw [if_pos h1] at h ⊢
        cases h
        exact l5_minutes_92 v h10 h11
      · rw [if_neg h1] at h ⊢
        by_cases h2 : 500 < 10 * v + A 5 p - 48
        · rw [if_pos h2] at h ⊢
          cases h
          exact l5_minutes_92 v h10 h11
        · rw [if_neg h2] at h ⊢
          have hs := l5_sign (M := M) (m := m) (A := A) hn hp h7 h10 h11 48 57
          rw [hc, if_neg h1] at hs
          simp only [mM_rc, hs, qbI, Option.bind_some, Option.map_some]
          obtain ⟨F', e1, e2⟩ := ih (10 * v + A 5 p - 48) (p + 1) (qupd (qupd F 11 0) 10 (nI (p + 1))) v' p' (by omega) (by rw [qupd_ne _ _ (by decide), qupd_ne _ _ (by decide), h7]) (qupd_at _ _ _) (by rw [qupd_ne _ _ (by decide), qupd_at]) h
          exact ⟨F', e1, fun i g1 g2 => by rw [e2.1 i g1 g2, qupd_ne _ _ g1, qupd_ne _ _ g2], e2.2⟩
    · have hc : chr (A 5) n p = 0 := if_neg hlt
      rw [hc, if_pos (by decide +kernel)] at h
      cases h
      rw [if_pos (nI_le (by omega) (by omega))]
      exact l5_minutes_92 v h10 h11
/-- pmL ends: the number grows -/
theorem pmL_some (T : Nat → Int32) (n : Nat) : ∀ (f a p : Nat), 1 ≤ a → a ≤ 500 → 501 ≤ a * 10 ^ f → ∃ b q, pmL T n (f + 1) (nI a) p = some (nI b, q) ∧ 1 ≤ b ∧ b ≤ 500 ∧ p ≤ q ∧ (p ≤ n → q ≤ n) := by
  intro f
  induction f with
  | zero => intro a p h1 h2 h3; omega
  | succ f ih =>
    intro a p h1 h2 h3
    rw [pmL]
    by_cases hc : inR (chr T n p) 48 57 = 0
    · exact ⟨a, p, if_pos hc, h1, h2, Nat.le_refl _, id⟩
    · rw [if_neg hc]
      have hp : p < n := by
        refine Nat.not_le.mp fun z => hc ?_
        rw [show chr T n p = 0 from if_neg (by omega)]
        decide +kernel
      obtain ⟨d, hd, e⟩ : ∃ d : Nat, d ≤ 9 ∧ chr T n p = nI (48 + d) := by
        unfold inR at hc
        by_cases g1 : chr T n p < 48
        · rw [if_pos g1] at hc; exact absurd rfl hc
        · rw [if_neg g1] at hc
          by_cases g2 : 57 < chr T n p
          · rw [if_pos g2] at hc; exact absurd rfl hc
          · have g3 : ¬ chr T n p < 0 := fun z => g1 (Int32.lt_trans z (by decide))
            obtain ⟨j, hj, e⟩ := nI_of2 (M := 57) (n := 57) (by decide) g3 (Int32.not_lt.mp g2)
            have : 48 ≤ j := Nat.not_lt.mp fun z => g1 (by rw [e]; exact nI_lt (a := j) (b := 48) z (by decide))
            exact ⟨j - 48, by omega, by rw [e]; congr 1; omega⟩
      have e2 : (10 : Int32) * nI a + chr T n p - 48 = nI (10 * a + d) := by
        rw [e]
        show nI 10 * nI a + nI (48 + d) - nI 48 = _
        rw [nI_mul, nI_add, nI_sub (by omega)]
        congr 1
        omega
      rw [e2]
      by_cases h4 : 10 * a + d ≤ 500
      · rw [if_neg (show ¬ (500 : Int32) < nI (10 * a + d) from nI_nlt (a := 500) (b := 10 * a + d) (by omega) (by omega))]
        obtain ⟨b, q, g1, g2, g3, g4, g5⟩ := ih (10 * a + d) (p + 1) (by omega) h4 (by
          have : a * 10 ^ (f + 1) = (10 * a) * 10 ^ f := by rw [Nat.pow_succ]; rw [Nat.mul_comm 10 a, Nat.mul_assoc, Nat.mul_comm 10]
          rw [this] at h3
          exact Nat.le_trans h3 (Nat.mul_le_mul_right _ (by omega)))
        exact ⟨b, q, g1, g2, g3, by omega, fun z => g5 (by omega)⟩
      · rw [if_pos (show (500 : Int32) < nI (10 * a + d) from nI_lt (a := 500) (b := 10 * a + d) (by omega) (by omega))]
        exact ⟨a, p, rfl, h1, h2, Nat.le_refl _, id⟩
theorem inR_dig {c lo hi : Int32} {a b : Nat} (ha : lo = nI a) (hb : hi = nI b) (hab : b < 2 ^ 31) (hle : a ≤ b) (h : ¬ inR c lo hi = 0) : ∃ d : Nat, a ≤ d ∧ d ≤ b ∧ c = nI d := by
  subst ha hb
  unfold inR at h
  by_cases g1 : c < nI a
  · rw [if_pos g1] at h; exact absurd rfl h
  · rw [if_neg g1] at h
    by_cases g2 : nI b < c
    · rw [if_pos g2] at h; exact absurd rfl h
    · have ha : a < 2 ^ 31 := by omega
      have g3 : ¬ c < 0 := fun z => g1 (Int32.lt_of_lt_of_le z (nI_pos' ha))
      obtain ⟨j, hj, e⟩ := nI_of2 (M := nI b) (n := b) (nI_toInt hab) g3 (Int32.not_lt.mp g2)
      exact ⟨j, Nat.not_lt.mp fun z => g1 (by rw [e]; exact nI_lt z ha), hj, e⟩
theorem chr_lt {T : Nat → Int32} {n p : Nat} {lo hi : Int32} (h0 : inR 0 lo hi = 0) (h : ¬ inR (chr T n p) lo hi = 0) : p < n := by
  refine Nat.not_le.mp fun z => h ?_
  rw [show chr T n p = 0 from if_neg (by omega)]
  exact h0
theorem pmin_spec (T : Nat → Int32) (n p : Nat) (h : ¬ inR (chr T n p) 49 57 = 0) : ∃ a b q : Nat, 1 ≤ a ∧ a ≤ 9 ∧ chr T n p - 48 = nI a ∧ pmL T n 6 (nI a) (p + 1) = some (nI b, q) ∧ 1 ≤ b ∧ b ≤ 500 ∧ p < n ∧ p < q ∧ q ≤ n ∧ pmin T n p = if nI b - nI b / 5 * 5 = 0 then .inr (nI b, q) else .inl q := by
  obtain ⟨d, h1, h2, e⟩ := inR_dig (a := 49) (b := 57) rfl rfl (by decide) (by decide) h
  have hp := chr_lt (by decide +kernel) h
  have e2 : chr T n p - 48 = nI (d - 48) := by
    rw [e]
    show nI d - nI 48 = _
    exact nI_sub (by omega)
  obtain ⟨b, q, g1, g2, g3, g4, g5⟩ := pmL_some T n 5 (d - 48) (p + 1) (by omega) (by omega) (by omega)
  refine ⟨d - 48, b, q, by omega, by omega, e2, g1, g2, g3, hp, by omega, g5 (by omega), ?_⟩
  unfold pmin
  rw [if_neg h, e2, g1]
theorem l5_minutes {n p : Nat} (hn : n ≤ 80) (hp : p ≤ n) (h7 : F 7 = nI n) (h10 : F 10 = nI p) (h11 : F 11 = 0) : ∃ v F', f_X5_minutes (some (m, 0)) (mM M m A F) = some (v, mM M m A F') ∧ (match pmin (A 5) n p with
    | .inl e => Pm F F' e 1
    | .inr (w, p') => v = w ∧ Pm F F' p' 0) := by
  unfold f_X5_minutes
  have hs := l5_sign (M := M) (m := m) (A := A) hn hp h7 h10 h11 49 57
  by_cases h : inR (chr (A 5) n p) 49 57 = 0
  · rw [if_pos h] at hs
    simp only [mM_rc, hs, qbI, Option.bind_some, Option.map_some]
    rw [f_X5_minutes_12]
    simp only [mM_gR0, mM_gR1, mM_gR2, mM_gR4, mM_gR6, mM_gI3, mM_gI5, mM_gI7, mM_gI8, mM_gI9, mM_gI10, mM_gI11, mM_gI12, mM_gI13, mM_gI14, mM_gI15, mM_pF3, mM_pF5, mM_pF7, mM_pF8, mM_pF9, mM_pF10, mM_pF11, mM_pF12, mM_pF13, mM_pF14, mM_pF15, mM_a1, mM_a2, mM_a3, mM_a4, mM_a5, mM_s1, mM_s2, mM_s3, mM_s4, mM_s5, Option.bind_some, Option.map_some, mM_rc, qupd_at, ne_0_1, ne_0_2, ne_0_3, ne_1_0, ne_1_2, ne_1_3, ne_2_0, ne_2_1, ne_2_3, ne_3_0, ne_3_1, ne_3_2, if_true, if_false]
    obtain ⟨F', e1, e2⟩ := l5_minutes_92w (M := M) (m := m) (A := A) (F := qupd F 11 1) (p := p) (chr (A 5) n p - 48) (by rw [qupd_ne _ _ (by decide), h10]) (qupd_at _ _ _)
    refine ⟨_, F', e1, ?_⟩
    unfold pmin
    rw [if_pos h]
    exact ⟨fun i g1 g2 => by rw [e2.1 i g1 g2, qupd_ne _ _ g2], e2.2⟩
  · obtain ⟨a, b, q, h1, h2, e1, e2, h3, h4, h5, h6, h8, e3⟩ := pmin_spec (A 5) n p h
    rw [if_neg h] at hs
    simp only [mM_rc, hs, qbI, Option.bind_some, Option.map_some, e1]
    obtain ⟨F', g1, g2⟩ := l5_minutes_12 (M := M) (m := m) hn 6 (nI a) (p + 1) (qupd (qupd F 11 0) 10 (nI (p + 1))) (nI b) q (by omega) (by rw [qupd_ne _ _ (by decide), qupd_ne _ _ (by decide), h7]) (qupd_at _ _ _) (by rw [qupd_ne _ _ (by decide), qupd_at]) e2
    refine ⟨_, F', g1, ?_⟩
    have g3 : ∀ i, i ≠ 10 → i ≠ 11 → F' i = F i := fun i z1 z2 => by rw [g2.1 i z1 z2, qupd_ne _ _ z1, qupd_ne _ _ z2]
    rw [e3]
    by_cases h9 : nI b - nI b / 5 * 5 = 0
    · rw [if_pos h9] at g2 ⊢
      exact ⟨rfl, g3, g2.2⟩
    · rw [if_neg h9] at g2 ⊢
      exact ⟨g3, g2.2⟩
theorem l5_minutes_w {n p : Nat} (hn : n ≤ 80) (hp : p ≤ n) (h7 : F 7 = nI n) (h10 : F 10 = nI p) (h11 : F 11 = 1) : ∃ v F', f_X5_minutes (some (m, 0)) (mM M m A F) = some (v, mM M m A F') ∧ Pm F F' p 1 := by
  unfold f_X5_minutes
  have hs := l5_sign_w (M := M) (m := m) (A := A) hn hp h7 h10 h11 49 57
  simp only [mM_rc, hs, qbI, Option.bind_some, Option.map_some]
  rw [f_X5_minutes_12]
  simp only [mM_gR0, mM_gR1, mM_gR2, mM_gR4, mM_gR6, mM_gI3, mM_gI5, mM_gI7, mM_gI8, mM_gI9, mM_gI10, mM_gI11, mM_gI12, mM_gI13, mM_gI14, mM_gI15, mM_pF3, mM_pF5, mM_pF7, mM_pF8, mM_pF9, mM_pF10, mM_pF11, mM_pF12, mM_pF13, mM_pF14, mM_pF15, mM_a1, mM_a2, mM_a3, mM_a4, mM_a5, mM_s1, mM_s2, mM_s3, mM_s4, mM_s5, Option.bind_some, Option.map_some, mM_rc, h11, ne_0_1, ne_0_2, ne_0_3, ne_1_0, ne_1_2, ne_1_3, ne_2_0, ne_2_1, ne_2_3, ne_3_0, ne_3_1, ne_3_2, if_true, if_false]
  obtain ⟨F', e1, e2⟩ := l5_minutes_92w (M := M) (m := m) (A := A) (F := F) (p := p) (chr (A 5) n p - 48) h10 h11
  exact ⟨_, F', e1, e2⟩
/-- what a reading leaves: fields 10 .. 14 alone change -/
def Pr (F F' : Nat → Int32) (p : Nat) (w : Int32) : Prop := (∀ i, (i < 10 ∨ 14 < i) → F' i = F i) ∧ F' 10 = nI p ∧ F' 11 = w
/-- from the letter's place on, when all is wrong already -/
theorem l5_read_w {n p : Nat} (hn : n ≤ 80) (hp : p ≤ n) (h7 : F 7 = nI n) (h10 : F 10 = nI p) (h11 : F 11 = 1) (c : Int32) (v : Int32) : (∃ F', f_X5_read_186 (some (m, 0)) c v (mM M m A F) = some (mM M m A F') ∧ Pr F F' p 1) ∧ ∃ F', f_X5_read_165 (some (m, 0)) c (some (m, 0)) v (mM M m A F) = some (mM M m A F') ∧ Pr F F' p 1 := by
  have k1 : ∀ (F : Nat → Int32) (v : Int32), F 7 = nI n → F 10 = nI p → F 11 = 1 → ∃ F', f_X5_read_186 (some (m, 0)) c v (mM M m A F) = some (mM M m A F') ∧ Pr F F' p 1 := by
    intro F v h7 h10 h11
    unfold f_X5_read_186
    by_cases h : c = 102
    · rw [if_pos h]
      obtain ⟨w, F', e1, e2⟩ := l5_minutes_w (M := M) (m := m) (A := A) hn hp h7 h10 h11
      simp only [mM_rc, e1, qbI, Option.bind_some, Option.map_some, f_X5_read_202, mM_gR0, mM_gR1, mM_gR2, mM_gR4, mM_gR6, mM_gI3, mM_gI5, mM_gI7, mM_gI8, mM_gI9, mM_gI10, mM_gI11, mM_gI12, mM_gI13, mM_gI14, mM_gI15, mM_pF3, mM_pF5, mM_pF7, mM_pF8, mM_pF9, mM_pF10, mM_pF11, mM_pF12, mM_pF13, mM_pF14, mM_pF15, mM_a1, mM_a2, mM_a3, mM_a4, mM_a5, mM_s1, mM_s2, mM_s3, mM_s4, mM_s5, Option.bind_some, Option.map_some, mM_rc]
      exact ⟨_, rfl, fun i hi => by rw [qupd_ne _ _ (by omega), e2.1 i (by omega) (by omega)], by rw [qupd_ne _ _ (by decide)]; exact e2.2.1, by rw [qupd_ne _ _ (by decide)]; exact e2.2.2⟩
    · rw [if_neg h]
      simp only [f_X5_read_202, mM_gR0, mM_gR1, mM_gR2, mM_gR4, mM_gR6, mM_gI3, mM_gI5, mM_gI7, mM_gI8, mM_gI9, mM_gI10, mM_gI11, mM_gI12, mM_gI13, mM_gI14, mM_gI15, mM_pF3, mM_pF5, mM_pF7, mM_pF8, mM_pF9, mM_pF10, mM_pF11, mM_pF12, mM_pF13, mM_pF14, mM_pF15, mM_a1, mM_a2, mM_a3, mM_a4, mM_a5, mM_s1, mM_s2, mM_s3, mM_s4, mM_s5, Option.bind_some, Option.map_some, mM_rc]
      exact ⟨_, rfl, fun i hi => by rw [qupd_ne _ _ (by omega)], by rw [qupd_ne _ _ (by decide)]; exact h10, by rw [qupd_ne _ _ (by decide)]; exact h11⟩
  refine ⟨k1 F v h7 h10 h11, ?_⟩
  unfold f_X5_read_165
  simp only [mM_gR0, mM_gR1, mM_gR2, mM_gR4, mM_gR6, mM_gI3, mM_gI5, mM_gI7, mM_gI8, mM_gI9, mM_gI10, mM_gI11, mM_gI12, mM_gI13, mM_gI14, mM_gI15, mM_pF3, mM_pF5, mM_pF7, mM_pF8, mM_pF9, mM_pF10, mM_pF11, mM_pF12, mM_pF13, mM_pF14, mM_pF15, mM_a1, mM_a2, mM_a3, mM_a4, mM_a5, mM_s1, mM_s2, mM_s3, mM_s4, mM_s5, Option.bind_some, Option.map_some, mM_rc]
  by_cases h : c = 102
  · rw [if_pos h]
    have hs := l5_sign_w (M := M) (m := m) (A := A) (F := qupd F 13 v) hn hp (by rw [qupd_ne _ _ (by decide), h7]) (by rw [qupd_ne _ _ (by decide), h10]) (by rw [qupd_ne _ _ (by decide), h11]) 58 58
    simp only [hs, qbI, Option.bind_some, Option.map_some]
    obtain ⟨F', e1, e2⟩ := k1 (qupd F 13 v) (chr (A 5) n p) (by rw [qupd_ne _ _ (by decide), h7]) (by rw [qupd_ne _ _ (by decide), h10]) (by rw [qupd_ne _ _ (by decide), h11])
    exact ⟨F', e1, fun i hi => by rw [e2.1 i hi, qupd_ne _ _ (by omega)], e2.2⟩
  · rw [if_neg h]
    obtain ⟨F', e1, e2⟩ := k1 (qupd F 13 v) 0 (by rw [qupd_ne _ _ (by decide), h7]) (by rw [qupd_ne _ _ (by decide), h10]) (by rw [qupd_ne _ _ (by decide), h11])
    exact ⟨F', e1, fun i hi => by rw [e2.1 i hi, qupd_ne _ _ (by omega)], e2.2⟩
end M7
