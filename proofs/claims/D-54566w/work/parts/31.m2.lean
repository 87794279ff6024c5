/-! what is done: the spec of the acts; the model does it -/
set_option maxRecDepth 100000
def absF (x : Int32) : Int32 := if 0 ≤ x then x else -x
abbrev AR : Type := Int32 × Option (Nat → Int32)
def aDrive (s : Nat → Int32) (b : Int32) : AR := if inR b 0 4 = 0 then (-10000001, none) else if s 54 = b then (-10000005, none) else (absF (mileF b - mileF (s 54)), some (qupd (qupd s 72 (s 72 + absF (mileF b - mileF (s 54)))) 54 b))
def aMove (s : Nat → Int32) (a : Nat) (i : Int32) : AR := if s a ≠ -10000005 ∧ s a ≠ s 54 then (-10000004, none) else if (if s a = -10000005 then (1 : Int32) else 0) = i then (-10000005, none) else if i = 0 ∨ vanF s < 8 then (vanF (qupd s a (if i = 0 then s 54 else -10000005)), some (qupd s a (if i = 0 then s 54 else -10000005))) else (-10000003, none)
def aMoveR (s : Nat → Int32) (r i : Int32) : AR := if isRF s r = 0 then (-10000001, none) else aMove s (5 * r.toNatClampNeg) i
def aMoveG (s : Nat → Int32) (g i : Int32) : AR := if inR g 0 1 = 0 then (-10000001, none) else aMove s (50 + 2 * g.toNatClampNeg) i
def aFuel (s : Nat → Int32) (g n : Int32) : AR := if inR g 0 1 = 0 then (-10000001, none) else if inR n 5 500 = 0 then (-10000002, none) else if n - n / 5 * 5 = 0 then (if s (50 + 2 * g.toNatClampNeg) = -10000005 then (if s (50 + 2 * g.toNatClampNeg + 1) + n ≤ 500 then (s (50 + 2 * g.toNatClampNeg + 1) + n, some (qupd (qupd s 73 (s 73 + n / 5)) (50 + 2 * g.toNatClampNeg + 1) (s (50 + 2 * g.toNatClampNeg + 1) + n))) else (-10000003, none)) else (-10000004, none)) else (-10000002, none)
def aRenew (s : Nat → Int32) (r : Int32) : AR := if isRF s r = 0 then (-10000001, none) else if s (5 * r.toNatClampNeg) = -10000005 then (8 + r, some (qupd (qupd (qupd (qupd (qupd s 74 (s 74 + 30)) (5 * r.toNatClampNeg + 1) (8 + r)) (5 * r.toNatClampNeg + 2) 0) (5 * r.toNatClampNeg + 3) 0) (5 * r.toNatClampNeg + 4) 0)) else (-10000004, none)
def aPrice (s : Nat → Int32) (c : Int32) : AR := if inR c 1 99 = 0 then (-10000002, none) else if s 56 = c then (-10000005, none) else (s 56, some (qupd s 56 c))
def beginsF (s : Nat → Int32) : Nat → Int32 := qupd (qupd (qupd (qupd (qupd (qupd s 55 (s 55 + 1)) 57 0) 58 0) 59 0) 60 0) 61 0
def aDay (s : Nat → Int32) : AR := if s 55 = 9999 then (-10000003, none) else (s 55 + 1, some (beginsF s))
/-- wearing by 'by': one break at the most -/
def wearF (s : Nat → Int32) (r : Nat) (by_ : Int32) : Nat → Int32 :=
  let w := s (5 * r + 2) + by_
  let s1 := if w < 40 then qupd s (5 * r + 2) w else qupd (qupd (qupd (qupd s (5 * r + 2) (w - 20)) (5 * r + 1) (s (5 * r + 1) - 1)) (5 * r + 3) (s (5 * r + 3) + 1)) 76 (s 76 + 1)
  qupd s1 (5 * r) (if 3 ≤ s1 (5 * r + 1) then s1 (5 * r) else -2)
def playF (s : Nat → Int32) (b : Int32) (r : Nat) : Nat → Int32 := if s (5 * r) = b then wearF (qupd s (5 * r + 4) (s (5 * r + 4) ||| (1 <<< (b &&& 31)))) r (5 + (b - b / 3 * 3)) else s
def playsF (s : Nat → Int32) (b : Int32) : Nat → Nat → Int32
  | 0 => s
  | k + 1 => playF (playsF s b k) b k
def shB (B : Nat → Int32) (j : Nat) : Nat → Int32 := fun i => if i < j then B (108 + i) else B i
def cqB (B S : Nat → Int32) (k j : Nat) : Nat → Int32 := fun i => if 108 * k ≤ i ∧ i < 108 * k + j then S (i - 108 * k) else B i
/-- the rows that are known, after one more -/
def knB (B S : Nat → Int32) (k : Nat) : Nat → Int32 := if k = 4 then cqB (shB B 324) S 3 108 else cqB B S k 108
def knK (k : Nat) : Nat := if k = 4 then 4 else k + 1
section M2
variable {M : QM} {m : Nat} {A : Nat → Nat → Int32} {F : Nat → Int32}
theorem shB_step (B : Nat → Int32) (j : Nat) : qupd (shB B j) j (shB B j (108 + j)) = shB B (j + 1) := by
  funext i
  simp only [qupd, shB]
  by_cases h : i = j
  · subst h
    simp
    intro h
    omega
  · have h2 : i < j + 1 ↔ i < j := by omega
    simp [h, h2]
theorem cqB_step (B S : Nat → Int32) (k j : Nat) : qupd (cqB B S k j) (108 * k + j) (S j) = cqB B S k (j + 1) := by
  funext i
  simp only [qupd, cqB]
  by_cases h : i = 108 * k + j
  · subst h
    simp
  · have h2 : i < 108 * k + (j + 1) ↔ i < 108 * k + j := by omega
    simp [h, h2]
theorem l5_know_50 (k : Nat) (hk : k < 4) (B : Nat → Int32) : ∀ n j : Nat, j ≤ 108 → 108 < j + n → ∀ A F, F 3 = nI k → A 3 = cqB B (A 1) k j → f_X5_know_50 n (some (m, 0)) (nI j) (mM M m A F) = some (mM M m (qupd A 3 (cqB B (A 1) k 108)) (qupd F 3 (nI (k + 1)))) := by
  intro n
  induction n with
  | zero => intro j h1 h2; omega
  | succ n ih =>
    intro j h1 h2 A F hF hA
    rw [f_X5_know_50]
    by_cases hj : j = 108
    · subst hj
      rw [if_pos (by decide +kernel)]
      simp (disch := omega) only [mM_gR0, mM_gR1, mM_gR2, mM_gR4, mM_gR6, mM_gI3, mM_gI5, mM_gI7, mM_gI8, mM_gI9, mM_gI10, mM_gI11, mM_gI12, mM_gI13, mM_gI14, mM_gI15, mM_pF3, mM_pF5, mM_pF7, mM_pF8, mM_pF9, mM_pF10, mM_pF11, mM_pF12, mM_pF13, mM_pF14, mM_pF15, mM_a1, mM_a2, mM_a3, mM_a4, mM_a5, mM_s1, mM_s2, mM_s3, mM_s4, mM_s5, Option.bind_some, Option.map_some, mM_rc, ix108, ix432, ix80, i108_50, i108_51, i108_52, i108_53, i108_54, i108_55, i108_56, i108_72, i108_73, i108_74, i108_75, i108_76, i108_77, i108_78, i108_79, i108_80, i108_81, i108_82, l5_of0, l5_of1, l5_of2, l5_of3, l5_of4, l5_in, l5_isBarn, l5_isGenerator, l5_mile, l5_seats, qupd_at, qupd_qupd, qupd_ne, nI_1, g50, g50b, nI_add, hF]
      rw [← hA, qupd_self]
    · rw [if_neg (show ¬ (108 : Int32) ≤ nI j from nI_ge (a := j) (b := 108) (by omega) (by decide))]
      have hi : (108 : Int32) * nI k + nI j = nI (108 * k + j) := by
        show nI 108 * nI k + nI j = _
        rw [nI_mul, nI_add]
      simp (disch := omega) only [mM_gR0, mM_gR1, mM_gR2, mM_gR4, mM_gR6, mM_gI3, mM_gI5, mM_gI7, mM_gI8, mM_gI9, mM_gI10, mM_gI11, mM_gI12, mM_gI13, mM_gI14, mM_gI15, mM_pF3, mM_pF5, mM_pF7, mM_pF8, mM_pF9, mM_pF10, mM_pF11, mM_pF12, mM_pF13, mM_pF14, mM_pF15, mM_a1, mM_a2, mM_a3, mM_a4, mM_a5, mM_s1, mM_s2, mM_s3, mM_s4, mM_s5, Option.bind_some, Option.map_some, mM_rc, hF, hi, ix432, ix108, nI_1]
      rw [ih (j + 1) (by omega) (by omega) _ _ hF]
      · rw [qupd_qupd, qupd_ne _ _ (by decide)]
      · rw [qupd_at, qupd_ne _ _ (by decide), hA, cqB_step]
theorem l5_know_10 (B : Nat → Int32) : ∀ n j : Nat, j ≤ 324 → 324 < j + n → ∀ A F, F 3 = nI 4 → A 3 = shB B j → f_X5_know_10 n (some (m, 0)) (nI j) (mM M m A F) = some (mM M m (qupd A 3 (cqB (shB B 324) (A 1) 3 108)) (qupd F 3 (nI 4))) := by
  intro n
  induction n with
  | zero => intro j h1 h2; omega
  | succ n ih =>
    intro j h1 h2 A F hF hA
    rw [f_X5_know_10]
    by_cases hj : j = 324
    · subst hj
      rw [if_pos (by decide +kernel)]
      simp (disch := omega) only [mM_gR0, mM_gR1, mM_gR2, mM_gR4, mM_gR6, mM_gI3, mM_gI5, mM_gI7, mM_gI8, mM_gI9, mM_gI10, mM_gI11, mM_gI12, mM_gI13, mM_gI14, mM_gI15, mM_pF3, mM_pF5, mM_pF7, mM_pF8, mM_pF9, mM_pF10, mM_pF11, mM_pF12, mM_pF13, mM_pF14, mM_pF15, mM_a1, mM_a2, mM_a3, mM_a4, mM_a5, mM_s1, mM_s2, mM_s3, mM_s4, mM_s5, Option.bind_some, Option.map_some, mM_rc, hF, f_X5_know_48]
      rw [show nI 4 - 1 = nI 3 from by decide +kernel, show (0 : Int32) = nI 0 from rfl, l5_know_50 3 (by decide) (shB B 324) 109 0 (by omega) (by omega) A _ (qupd_at _ _ _) (by rw [hA]; funext i; simp [cqB]; omega), qupd_qupd]
    · rw [if_neg (show ¬ (324 : Int32) ≤ nI j from nI_ge (a := j) (b := 324) (by omega) (by decide))]
      have hi : (108 : Int32) + nI j = nI (108 + j) := nI_add 108 j
      simp (disch := omega) only [mM_gR0, mM_gR1, mM_gR2, mM_gR4, mM_gR6, mM_gI3, mM_gI5, mM_gI7, mM_gI8, mM_gI9, mM_gI10, mM_gI11, mM_gI12, mM_gI13, mM_gI14, mM_gI15, mM_pF3, mM_pF5, mM_pF7, mM_pF8, mM_pF9, mM_pF10, mM_pF11, mM_pF12, mM_pF13, mM_pF14, mM_pF15, mM_a1, mM_a2, mM_a3, mM_a4, mM_a5, mM_s1, mM_s2, mM_s3, mM_s4, mM_s5, Option.bind_some, Option.map_some, mM_rc, hi, ix432, nI_1]
      rw [ih (j + 1) (by omega) (by omega) _ _ hF]
      · rw [qupd_qupd, qupd_ne _ _ (by decide)]
      · rw [qupd_at, hA, shB_step]
theorem l5_know {k : Nat} (hk : k ≤ 4) (hF : F 3 = nI k) : f_X5_know (some (m, 0)) (mM M m A F) = some (mM M m (qupd A 3 (knB (A 3) (A 1) k)) (qupd F 3 (nI (knK k)))) := by
  unfold f_X5_know knB knK
  simp only [mM_gR0, mM_gR1, mM_gR2, mM_gR4, mM_gR6, mM_gI3, mM_gI5, mM_gI7, mM_gI8, mM_gI9, mM_gI10, mM_gI11, mM_gI12, mM_gI13, mM_gI14, mM_gI15, mM_pF3, mM_pF5, mM_pF7, mM_pF8, mM_pF9, mM_pF10, mM_pF11, mM_pF12, mM_pF13, mM_pF14, mM_pF15, mM_a1, mM_a2, mM_a3, mM_a4, mM_a5, mM_s1, mM_s2, mM_s3, mM_s4, mM_s5, Option.bind_some, Option.map_some, mM_rc, hF]
  by_cases h : k = 4
  · subst h
    rw [if_pos (by decide +kernel)]
    simp only [if_true]
    exact l5_know_10 (A 3) 325 0 (by omega) (by omega) A F hF (by funext i; simp [shB])
  · rw [if_neg (show ¬ nI k = (4 : Int32) from fun z => h ((nI_eq (by omega) (by decide)).mp z)), if_neg h, if_neg h]
    exact l5_know_50 k (by omega) (A 3) 109 0 (by omega) (by omega) A F hF (by funext i; simp [cqB]; omega)
end M2
