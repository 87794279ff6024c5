/-! a route's commands: the spec; the model goes along -/
set_option maxRecDepth 100000
def actC (s : Nat → Int32) (x : CM) : AR := if x.1 = 118 then aDrive s x.2.1 else if x.1 = 43 then aMoveR s x.2.1 1 else if x.1 = 45 then aMoveR s x.2.1 0 else if x.1 = 103 then aMoveG s x.2.1 (if s (50 + 2 * x.2.1.toNatClampNeg) = -10000005 then 0 else 1) else if x.1 = 102 then aFuel s x.2.1 x.2.2 else if x.1 = 115 then aShow s (s 54) else aDay s
/-- a command's fault, or 0, and the row behind it -/
def stepC (s : Nat → Int32) (x : CM) : Int32 × (Nat → Int32) := match (actC s x).2 with
  | some s' => (0, s')
  | none => if (actC s x).1 = -10000005 then (0, s) else ((actC s x).1, s)
theorem whyF_5 (s : Nat → Int32) (b : Int32) : whyF s b = 0 ∨ whyF s b = 1 ∨ whyF s b = 2 ∨ whyF s b = 3 ∨ whyF s b = 4 := by
  unfold whyF
  repeat (first | exact Or.inl rfl | exact Or.inr (Or.inl rfl) | exact Or.inr (Or.inr (Or.inl rfl)) | exact Or.inr (Or.inr (Or.inr (Or.inl rfl))) | exact Or.inr (Or.inr (Or.inr (Or.inr rfl))) | split)
theorem aDrive_neg (s : Nat → Int32) (b : Int32) (h : (aDrive s b).2 = none) : ¬ 0 ≤ (aDrive s b).1 := by
  unfold aDrive at h ⊢
  by_cases h1 : inR b 0 4 = 0
  · rw [if_pos h1]; decide
  · rw [if_neg h1] at h ⊢
    by_cases h2 : s 54 = b
    · rw [if_pos h2]; decide
    · rw [if_neg h2] at h; cases h
theorem aMoveR_neg (s : Nat → Int32) (r i : Int32) (h : (aMoveR s r i).2 = none) : ¬ 0 ≤ (aMoveR s r i).1 := by
  unfold aMoveR at h ⊢
  by_cases h1 : isRF s r = 0
  · rw [if_pos h1]; decide
  · rw [if_neg h1] at h ⊢
    exact aMove_neg _ _ _ h
theorem aMoveG_neg (s : Nat → Int32) (r i : Int32) (h : (aMoveG s r i).2 = none) : ¬ 0 ≤ (aMoveG s r i).1 := by
  unfold aMoveG at h ⊢
  by_cases h1 : inR r 0 1 = 0
  · rw [if_pos h1]; decide
  · rw [if_neg h1] at h ⊢
    exact aMove_neg _ _ _ h
theorem aShow_neg (s : Nat → Int32) (b : Int32) (h : (aShow s b).2 = none) : ¬ 0 ≤ (aShow s b).1 := by
  unfold aShow at h ⊢
  by_cases h1 : inR b 0 4 = 0
  · rw [if_pos h1]; decide
  · rw [if_neg h1] at h ⊢
    by_cases h2 : whyF s b ≤ 0
    · rw [if_pos h2] at h; cases h
    · rw [if_neg h2]
      rcases whyF_5 s b with z | z | z | z | z <;> rw [z] <;> decide
theorem aDay_neg (s : Nat → Int32) (h : (aDay s).2 = none) : ¬ 0 ≤ (aDay s).1 := by
  unfold aDay at h ⊢
  by_cases h1 : s 55 = 9999
  · rw [if_pos h1]; decide
  · rw [if_neg h1] at h; cases h
theorem actC_neg (s : Nat → Int32) (x : CM) (h : (actC s x).2 = none) : ¬ 0 ≤ (actC s x).1 := by
  unfold actC at h ⊢
  by_cases h1 : x.1 = 118
  · rw [if_pos h1] at h ⊢; exact aDrive_neg _ _ h
  · rw [if_neg h1] at h ⊢
    by_cases h2 : x.1 = 43
    · rw [if_pos h2] at h ⊢; exact aMoveR_neg _ _ _ h
    · rw [if_neg h2] at h ⊢
      by_cases h3 : x.1 = 45
      · rw [if_pos h3] at h ⊢; exact aMoveR_neg _ _ _ h
      · rw [if_neg h3] at h ⊢
        by_cases h4 : x.1 = 103
        · rw [if_pos h4] at h ⊢; exact aMoveG_neg _ _ _ h
        · rw [if_neg h4] at h ⊢
          by_cases h5 : x.1 = 102
          · rw [if_pos h5] at h ⊢; exact aFuel_neg _ _ _ h
          · rw [if_neg h5] at h ⊢
            by_cases h6 : x.1 = 115
            · rw [if_pos h6] at h ⊢; exact aShow_neg _ _ h
            · rw [if_neg h6] at h ⊢; exact aDay_neg _ h
theorem Inv.act_ {s s' : Nat → Int32} {x : CM} {r : Int32} (H : Inv s) (h : actC s x = (r, some s')) : Inv s' := by
  unfold actC at h
  by_cases h1 : x.1 = 118
  · rw [if_pos h1] at h; exact H.drive h
  · rw [if_neg h1] at h
    by_cases h2 : x.1 = 43
    · rw [if_pos h2] at h; exact H.moveR h
    · rw [if_neg h2] at h
      by_cases h3 : x.1 = 45
      · rw [if_pos h3] at h; exact H.moveR h
      · rw [if_neg h3] at h
        by_cases h4 : x.1 = 103
        · rw [if_pos h4] at h; exact H.moveG h
        · rw [if_neg h4] at h
          by_cases h5 : x.1 = 102
          · rw [if_pos h5] at h; exact (H.fuel h).1
          · rw [if_neg h5] at h
            by_cases h6 : x.1 = 115
            · rw [if_pos h6] at h; exact (H.show h).1
            · rw [if_neg h6] at h; exact H.day h
theorem Inv.step_ {s : Nat → Int32} {x : CM} (H : Inv s) : Inv (stepC s x).2 := by
  unfold stepC
  cases h : (actC s x).2 with
  | none =>
    dsimp only
    split <;> exact H
  | some s' => exact H.act_ (r := (actC s x).1) (Prod.ext rfl h)
