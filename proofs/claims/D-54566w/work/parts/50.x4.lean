/-! what a tour tells -/
set_option maxRecDepth 100000
section X4
variable {M : QM} {t : Nat} {s L : Nat → Int32} {G : Nat → Option (Bool × QE)} {r g b : Nat} {x : Int32}
theorem x1_isIn (hr : r < 10) {b : Int32} (hb : ¬ b = -2) : f_X1_isIn (some (t, 0)) (nI r) b (tM M t s L G) = some (if s (5 * r) = b then 1 else 0) := by
  unfold f_X1_isIn
  simp only [tM_gR0, obs, tM_aR1 hr]
  by_cases h : s (5 * r) = -2
  · rw [if_pos h, if_pos rfl, if_neg (fun y => hb (by rw [← y, h]))]
  · rw [if_neg h, if_neg (fun y => by cases y)]
    rw [tM_gr0 hr h, obs]
    by_cases h1 : s (5 * r) = b
    · rw [if_pos h1, if_pos h1]
    · rw [if_neg h1, if_neg h1]
theorem x1_isReel (r : Int32) : f_X1_isReel (some (t, 0)) r (tM M t s L G) = some (isRF s r) := by
  unfold f_X1_isReel isRF
  rw [show (0 : Int32) = nI 0 from rfl, x0_inRange, obs]
  show (if inR r 0 9 = 0 then _ else _) = some (if inR r 0 9 = 0 then _ else _)
  by_cases h : inR r 0 9 = 0
  · rw [if_pos h, if_pos h]
  · rw [if_neg h, if_neg h]
    obtain ⟨k, hk, rfl⟩ := inR_of (n := 9) (by decide) h
    rw [tM_gR0, obs, tM_aR1 (by omega), obs, nI_clamp (by omega)]
    by_cases h1 : s (5 * k) = -2
    · rw [if_pos h1, if_pos h1, if_pos rfl]
    · rw [if_neg h1, if_neg h1, if_neg (fun y => by cases y)]
theorem x2_isInVan_r (hr : r < 10) (h : ¬ s (5 * r) = -2) : f_X2_isInVan (some (t, 10 + r)) (tM M t s L G) = some (if s (5 * r) = -10000005 then 1 else 0) := by
  unfold f_X2_isInVan
  rw [tM_gr0 hr h, obs]
  by_cases h1 : s (5 * r) = -10000005
  · rw [if_pos h1, if_pos h1]
  · rw [if_neg h1, if_neg h1]
theorem x2_isInVan_g (hg : g < 2) : f_X2_isInVan (some (t, 20 + g)) (tM M t s L G) = some (if s (50 + 2 * g) = -10000005 then 1 else 0) := by
  unfold f_X2_isInVan
  rw [tM_gg0 hg, obs]
  by_cases h1 : s (50 + 2 * g) = -10000005
  · rw [if_pos h1, if_pos h1]
  · rw [if_neg h1, if_neg h1]
theorem ite01 (p : Prop) [Decidable p] : (if (if p then (1 : Int32) else 0) = 0 then (0 : Int32) else 1) = if p then 1 else 0 := by
  by_cases h : p
  · rw [if_pos h, if_neg (by decide)]
  · rw [if_neg h, if_pos rfl]
theorem x1_things36 (v : Int32) : f_X1_things_36 (tM M t s L G) 3 (some (t, 0)) v 0 = some (v + (if s 50 = -10000005 then 1 else 0) + (if s 52 = -10000005 then 1 else 0)) := by
  have k1 : ∀ (j g : Nat) (v : Int32), g < 2 → f_X1_things_36 (tM M t s L G) (j + 1) (some (t, 0)) v (nI g) = f_X1_things_36 (tM M t s L G) j (some (t, 0)) (v + if s (50 + 2 * g) = -10000005 then 1 else 0) (nI (g + 1)) := by
    intro j g v hg
    rw [f_X1_things_36, if_neg (show ¬ (2 : Int32) ≤ nI g from nI_ge (a := g) (b := 2) (by omega) (by decide))]
    rw [tM_gR1, obs, tM_aR2 hg, obs, tM_rcg hg rfl, x2_isInVan_g hg, obs, ite01]
    unfold f_X1_things_59
    rw [nI_1]
  refine Eq.trans (k1 2 0 v (by decide)) (Eq.trans (k1 1 1 _ (by decide)) ?_)
  rw [f_X1_things_36, if_pos (by decide)]
theorem x1_things : f_X1_things (some (t, 0)) (tM M t s L G) = some (vanF s) := by
  have k1 : ∀ n k : Nat, k ≤ 10 → 10 < k + n → f_X1_things_4 (tM M t s L G) n (some (t, 0)) (sm (fun r => if s (5 * r) = -10000005 then 1 else 0) k) (nI k) = some (vanF s) := by
    intro n
    induction n with
    | zero => intro k h1 h2; omega
    | succ n ih =>
      intro k h1 h2
      rw [f_X1_things_4]
      by_cases hk : k = 10
      · subst hk
        rw [if_pos (by decide +kernel), x1_things36]
        rfl
      · rw [if_neg (show ¬ (10 : Int32) ≤ nI k from nI_ge (a := k) (b := 10) (by omega) (by decide)), tM_rc, x1_isIn (by omega) (by decide), obs]
        unfold f_X1_things_26
        rw [ite01, nI_1]
        exact ih (k + 1) (by omega) (by omega)
  exact k1 11 0 (by omega) (by omega)
theorem x1_gone : f_X1_gone (some (t, 0)) (tM M t s L G) = some (goneF s) := by
  have k1 : ∀ n k : Nat, k ≤ 10 → 10 < k + n → f_X1_gone_4 (tM M t s L G) n (some (t, 0)) (sm (fun r => if s (5 * r) = -2 then 1 else 0) k) (nI k) = some (goneF s) := by
    intro n
    induction n with
    | zero => intro k h1 h2; omega
    | succ n ih =>
      intro k h1 h2
      rw [f_X1_gone_4]
      by_cases hk : k = 10
      · subst hk
        rw [if_pos (by decide +kernel)]
        rfl
      · rw [if_neg (show ¬ (10 : Int32) ≤ nI k from nI_ge (a := k) (b := 10) (by omega) (by decide)), tM_gR0, obs, tM_aR1 (by omega), obs]
        unfold f_X1_gone_25
        rw [nI_1, ← ih (k + 1) (by omega) (by omega)]
        congr 2
        by_cases h : s (5 * k) = -2
        · rw [if_pos h, if_pos rfl]; show _ = (if s (5 * k) = -2 then (1 : Int32) else 0); rw [if_pos h]
        · rw [if_neg h, if_neg (fun y => by cases y)]; show _ = (if s (5 * k) = -2 then (1 : Int32) else 0); rw [if_neg h]
  exact k1 11 0 (by omega) (by omega)
theorem x1_reelsIn {b : Int32} (hb : ¬ b = -2) : f_X1_reelsIn (some (t, 0)) b (tM M t s L G) = some (cntF s b) := by
  have k1 : ∀ n k : Nat, k ≤ 10 → 10 < k + n → f_X1_reelsIn_4 (tM M t s L G) n (some (t, 0)) b (sm (fun r => if s (5 * r) = b then 1 else 0) k) (nI k) = some (cntF s b) := by
    intro n
    induction n with
    | zero => intro k h1 h2; omega
    | succ n ih =>
      intro k h1 h2
      rw [f_X1_reelsIn_4]
      by_cases hk : k = 10
      · subst hk
        rw [if_pos (by decide +kernel)]
        rfl
      · rw [if_neg (show ¬ (10 : Int32) ≤ nI k from nI_ge (a := k) (b := 10) (by omega) (by decide)), tM_rc, x1_isIn (by omega) hb, obs]
        unfold f_X1_reelsIn_25
        rw [ite01, nI_1]
        exact ih (k + 1) (by omega) (by omega)
  exact k1 11 0 (by omega) (by omega)
theorem x1_minutesIn {b : Int32} (hb : ¬ b = -2) : f_X1_minutesIn (some (t, 0)) b (tM M t s L G) = some (minF s b) := by
  have k1 : ∀ n k : Nat, k ≤ 10 → 10 < k + n → f_X1_minutesIn_4 (tM M t s L G) n (some (t, 0)) b (sm (fun r => if s (5 * r) = b then s (5 * r + 1) else 0) k) (nI k) = some (minF s b) := by
    intro n
    induction n with
    | zero => intro k h1 h2; omega
    | succ n ih =>
      intro k h1 h2
      rw [f_X1_minutesIn_4]
      by_cases hk : k = 10
      · subst hk
        rw [if_pos (by decide +kernel)]
        rfl
      · rw [if_neg (show ¬ (10 : Int32) ≤ nI k from nI_ge (a := k) (b := 10) (by omega) (by decide)), tM_rc, x1_isIn (by omega) hb, obs]
        rw [← ih (k + 1) (by omega) (by omega), ← nI_1]
        unfold f_X1_minutesIn_33
        by_cases h : s (5 * k) = b
        · have h2 : ¬ s (5 * k) = -2 := fun y => hb (by rw [← h, y])
          rw [if_pos h, if_neg (by decide), tM_gR0, obs, tM_aR1 (by omega), obs, if_neg h2, tM_gr2 (by omega) h2, obs]
          congr 1
          show _ = _ + ite _ _ _
          rw [if_pos h]
        · rw [if_neg h, if_pos rfl]
          congr 1
          show _ = _ + ite _ _ _
          rw [if_neg h]
  exact k1 11 0 (by omega) (by omega)
theorem x1_generatorFor (b n : Int32) : f_X1_generatorFor (some (t, 0)) b n (tM M t s L G) = some (genF s b n) := by
  unfold f_X1_generatorFor genF
  have k1 : ∀ (j g : Nat), g < 2 → f_X1_generatorFor_2 (tM M t s L G) (j + 1) (some (t, 0)) b n (nI g) = if s (50 + 2 * g) = b ∧ ¬ s (50 + 2 * g + 1) < n then some (nI g) else f_X1_generatorFor_2 (tM M t s L G) j (some (t, 0)) b n (nI (g + 1)) := by
    intro j g hg
    rw [f_X1_generatorFor_2, if_neg (show ¬ (2 : Int32) ≤ nI g from nI_ge (a := g) (b := 2) (by omega) (by decide))]
    rw [tM_gR1, obs, tM_aR2 hg, obs, tM_gg0 hg, obs, nI_1]
    by_cases h : s (50 + 2 * g) = b
    · rw [if_pos h, obs, tM_aR2 hg, obs, tM_gg1 hg, obs]
      by_cases h1 : s (50 + 2 * g + 1) < n
      · rw [if_pos h1, if_neg (fun y => y.2 h1)]
      · rw [if_neg h1, if_pos ⟨h, h1⟩]
    · rw [if_neg h, if_neg (fun y => h y.1)]
  have k2 : f_X1_generatorFor_2 (tM M t s L G) 1 (some (t, 0)) b n (nI 2) = some (-10000005) := by rw [f_X1_generatorFor_2, if_pos (by decide)]
  refine Eq.trans (k1 2 0 (by decide)) ?_
  rw [k1 1 1 (by decide), k2]
  show (if s 50 = b ∧ ¬ s 51 < n then some (nI 0) else if s 52 = b ∧ ¬ s 53 < n then some (nI 1) else some (-10000005)) = _
  by_cases h : s 50 = b ∧ ¬ s 51 < n
  · rw [if_pos h, if_pos h]; rfl
  · rw [if_neg h, if_neg h]
    by_cases h1 : s 52 = b ∧ ¬ s 53 < n
    · rw [if_pos h1, if_pos h1]; rfl
    · rw [if_neg h1, if_neg h1]
theorem x1_sum (a : Nat) (c : Nat) (hc : aL (tM M t s L G) (some (t, c)) = some 5) (ha : ∀ b, b < 5 → aI (tM M t s L G) (some (t, c)) (nI b) = some (s (a + b))) : f_X1_sum (some (t, c)) (tM M t s L G) = some (sumF s a 5) := by
  have k1 : ∀ n k : Nat, k ≤ 5 → 5 < k + n → f_X1_sum_4 (tM M t s L G) n (some (t, c)) (sm (fun r => s (a + r)) k) (nI k) = some (sumF s a 5) := by
    intro n
    induction n with
    | zero => intro k h1 h2; omega
    | succ n ih =>
      intro k h1 h2
      rw [f_X1_sum_4, hc, obs]
      by_cases hk : k = 5
      · subst hk
        rw [if_pos (by decide +kernel)]
        rfl
      · rw [if_neg (show ¬ (5 : Int32) ≤ nI k from nI_ge (a := k) (b := 5) (by omega) (by decide)), ha k (by omega), obs, nI_1]
        exact ih (k + 1) (by omega) (by omega)
  exact k1 8 0 (by omega) (by omega)
/-- the days of the last shows are those that the row knows -/
def LR (s L : Nat → Int32) : Prop := ∀ b, b < 5 → (s (57 + b) = 1 ↔ L b = s 55) ∧ (L b = -10000005 ∨ ∃ d e : Nat, L b = nI d ∧ s 55 = nI e ∧ d ≤ e ∧ e ≤ 9999)
theorem x1_reason (hL : LR s L) (hb : b < 5) : f_X1_reason (some (t, 0)) (nI b) (tM M t s L G) = some (whyF s (nI b)) := by
  unfold f_X1_reason whyF
  rw [nI_clamp (by omega), tM_gR2, obs, tM_a3 hb, obs, tM_gI7, obs]
  by_cases h : s (57 + b) = 1
  · rw [if_pos ((hL b hb).1.mp h), if_pos h]
  · rw [if_neg (fun y => h ((hL b hb).1.mpr y)), if_neg h, tM_rc, x1_reelsIn (nI_n2 hb), obs]
    by_cases h1 : cntF s (nI b) = 0
    · rw [if_pos h1, if_pos h1]
    · rw [if_neg h1, if_neg h1, tM_rc, x1_generatorFor, obs]
      by_cases h2 : genF s (nI b) 0 = -10000005
      · rw [if_pos h2, if_pos h2]
      · rw [if_neg h2, if_neg h2, tM_rc, x1_minutesIn (nI_n2 hb), obs, tM_rc, x1_generatorFor, obs]
        by_cases h3 : genF s (nI b) (minF s (nI b)) = -10000005
        · rw [if_pos h3, if_pos h3]
        · rw [if_neg h3, if_neg h3]
end X4
