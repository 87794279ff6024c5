/-! the row's bounds, kept by every act -/
set_option maxRecDepth 100000
def I1 (s : Nat → Int32) : Prop := ∀ r, r < 10 → (s (5 * r) = -10000005 ∨ s (5 * r) = -2 ∨ ∃ b : Nat, b < 5 ∧ s (5 * r) = nI b) ∧ (∃ a : Nat, a < 40 ∧ s (5 * r + 2) = nI a) ∧ (s (5 * r) = -2 ∨ ∃ c : Nat, 3 ≤ c ∧ c ≤ 17 ∧ s (5 * r + 1) = nI c)
def I2 (s : Nat → Int32) : Prop := ∀ g, g < 2 → (s (50 + 2 * g) = -10000005 ∨ ∃ b : Nat, b < 5 ∧ s (50 + 2 * g) = nI b) ∧ ∃ a : Nat, a ≤ 500 ∧ s (50 + 2 * g + 1) = nI a
def I3 (s : Nat → Int32) : Prop := ∃ v : Nat, v < 5 ∧ s 54 = nI v
def I4 (s : Nat → Int32) : Prop := ∃ d : Nat, d ≤ 9999 ∧ s 55 = nI d ∧ ∀ b, b < 5 → ∃ h c : Nat, h ≤ 1 ∧ s (57 + b) = nI h ∧ s (62 + b) = nI c ∧ c ≤ d + h
def I5 (s : Nat → Int32) : Prop := ∃ p : Nat, 1 ≤ p ∧ p ≤ 99 ∧ s 56 = nI p
def I6 (s : Nat → Int32) : Prop := s 77 = (if sumF s 62 5 < 6 then sumF s 62 5 else 6)
def I7 (s : Nat → Int32) : Prop := ∀ i, 108 ≤ i → s i = 0
def Inv (s : Nat → Int32) : Prop := I1 s ∧ I2 s ∧ I3 s ∧ I4 s ∧ I5 s ∧ I6 s ∧ I7 s
theorem I1.c {s s' : Nat → Int32} (h : ∀ i, i < 50 → s' i = s i) (H : I1 s) : I1 s' := fun r hr => by
  rw [h _ (by omega), h _ (by omega), h _ (by omega)]; exact H r hr
theorem I2.c {s s' : Nat → Int32} (h : ∀ i, 50 ≤ i → i < 54 → s' i = s i) (H : I2 s) : I2 s' := fun r hr => by
  rw [h _ (by omega) (by omega), h _ (by omega) (by omega)]; exact H r hr
theorem I3.c {s s' : Nat → Int32} (h : s' 54 = s 54) (H : I3 s) : I3 s' := by
  unfold I3; rw [h]; exact H
theorem I4.c {s s' : Nat → Int32} (h : ∀ i, 55 ≤ i → i ≠ 56 → i < 67 → s' i = s i) (H : I4 s) : I4 s' := by
  obtain ⟨d, h1, h2, h3⟩ := H
  refine ⟨d, h1, by rw [h 55 (by omega) (by omega) (by omega)]; exact h2, fun b hb => ?_⟩
  rw [h _ (by omega) (by omega) (by omega), h _ (by omega) (by omega) (by omega)]
  exact h3 b hb
theorem I5.c {s s' : Nat → Int32} (h : s' 56 = s 56) (H : I5 s) : I5 s' := by
  unfold I5; rw [h]; exact H
theorem sumF_c {s s' : Nat → Int32} (h : ∀ i, 62 ≤ i → i < 67 → s' i = s i) : sumF s' 62 5 = sumF s 62 5 := by
  simp (disch := omega) only [sumF, sm, h]
theorem I6.c {s s' : Nat → Int32} (h7 : s' 77 = s 77) (h : ∀ i, 62 ≤ i → i < 67 → s' i = s i) (H : I6 s) : I6 s' := by
  unfold I6; rw [h7, sumF_c h]; exact H
theorem I7.c {s s' : Nat → Int32} (h : ∀ i, 108 ≤ i → s' i = s i) (H : I7 s) : I7 s' := fun i hi => by rw [h i hi]; exact H i hi
theorem Inv.drive {s s' : Nat → Int32} {b r : Int32} (H : Inv s) (h : aDrive s b = (r, some s')) : Inv s' := by
  unfold aDrive at h
  by_cases h1 : inR b 0 4 = 0
  · rw [if_pos h1] at h; cases h
  · rw [if_neg h1] at h
    by_cases h2 : s 54 = b
    · rw [if_pos h2] at h; cases h
    · rw [if_neg h2] at h
      cases h
      obtain ⟨j, hj, rfl⟩ := inR_of (n := 4) (by decide) h1
      obtain ⟨i1, i2, i3, i4, i5, i6, i7⟩ := H
      exact ⟨i1.c fun i _ => by simp (disch := omega) only [qupd_ne], i2.c fun i _ _ => by simp (disch := omega) only [qupd_ne], ⟨j, by omega, qupd_at _ _ _⟩, i4.c fun i _ _ _ => by simp (disch := omega) only [qupd_ne], i5.c (by simp (disch := omega) only [qupd_ne]), i6.c (by simp (disch := omega) only [qupd_ne]) fun i _ _ => by simp (disch := omega) only [qupd_ne], i7.c fun i _ => by simp (disch := omega) only [qupd_ne]⟩
theorem Inv.price {s s' : Nat → Int32} {b r : Int32} (H : Inv s) (h : aPrice s b = (r, some s')) : Inv s' := by
  unfold aPrice at h
  by_cases h1 : inR b 1 99 = 0
  · rw [if_pos h1] at h; cases h
  · rw [if_neg h1] at h
    by_cases h2 : s 56 = b
    · rw [if_pos h2] at h; cases h
    · rw [if_neg h2] at h
      cases h
      obtain ⟨j, hj, hj2, rfl⟩ := inR_dig (a := 1) (b := 99) rfl rfl (by decide) (by decide) h1
      obtain ⟨i1, i2, i3, i4, i5, i6, i7⟩ := H
      exact ⟨i1.c fun i _ => by simp (disch := omega) only [qupd_ne], i2.c fun i _ _ => by simp (disch := omega) only [qupd_ne], i3.c (by simp (disch := omega) only [qupd_ne]), i4.c fun i _ _ _ => by simp (disch := omega) only [qupd_ne], ⟨j, hj, hj2, qupd_at _ _ _⟩, i6.c (by simp (disch := omega) only [qupd_ne]) fun i _ _ => by simp (disch := omega) only [qupd_ne], i7.c fun i _ => by simp (disch := omega) only [qupd_ne]⟩
theorem Inv.day {s s' : Nat → Int32} {r : Int32} (H : Inv s) (h : aDay s = (r, some s')) : Inv s' := by
  unfold aDay at h
  by_cases h1 : s 55 = 9999
  · rw [if_pos h1] at h; cases h
  · rw [if_neg h1] at h
    cases h
    unfold beginsF
    obtain ⟨i1, i2, i3, ⟨d, d1, d2, d3⟩, i5, i6, i7⟩ := H
    have hd : d ≠ 9999 := fun z => h1 (by rw [d2, z]; rfl)
    refine ⟨i1.c fun i _ => by simp (disch := omega) only [qupd_ne], i2.c fun i _ _ => by simp (disch := omega) only [qupd_ne], i3.c (by simp (disch := omega) only [qupd_ne]), ⟨d + 1, by omega, by simp (disch := omega) only [qupd_ne, qupd_at, d2, nI_1], fun b hb => ?_⟩, i5.c (by simp (disch := omega) only [qupd_ne]), i6.c (by simp (disch := omega) only [qupd_ne]) fun i _ _ => by simp (disch := omega) only [qupd_ne], i7.c fun i _ => by simp (disch := omega) only [qupd_ne]⟩
    obtain ⟨h, c, g1, g2, g3, g4⟩ := d3 b hb
    refine ⟨0, c, by omega, ?_, by simp (disch := omega) only [qupd_ne, g3], by omega⟩
    rcases (show b = 0 ∨ b = 1 ∨ b = 2 ∨ b = 3 ∨ b = 4 by omega) with rfl | rfl | rfl | rfl | rfl <;> rfl
/-- a place that can be moved -/
def atP (a : Nat) : Prop := (∃ r, r < 10 ∧ a = 5 * r) ∨ ∃ g, g < 2 ∧ a = 50 + 2 * g
theorem Inv.put {s : Nat → Int32} {a : Nat} {v : Int32} (H : Inv s) (ha : atP a) (hv : v = -10000005 ∨ ∃ b : Nat, b < 5 ∧ v = nI b) (hg : ¬ s a = -2) : Inv (qupd s a v) := by
  obtain ⟨i1, i2, i3, i4, i5, i6, i7⟩ := H
  have ha2 : a < 54 := by rcases ha with ⟨r, h1, rfl⟩ | ⟨g, h1, rfl⟩ <;> omega
  refine ⟨?_, ?_, i3.c (by simp (disch := omega) only [qupd_ne]), i4.c fun i _ _ _ => by simp (disch := omega) only [qupd_ne], i5.c (by simp (disch := omega) only [qupd_ne]), i6.c (by simp (disch := omega) only [qupd_ne]) fun i _ _ => by simp (disch := omega) only [qupd_ne], i7.c fun i _ => by simp (disch := omega) only [qupd_ne]⟩
  · intro r hr
    obtain ⟨g1, g2, g3⟩ := i1 r hr
    rcases ha with ⟨r', h1, rfl⟩ | ⟨g, h1, rfl⟩
    · rw [qupd_ne _ _ (show 5 * r + 2 ≠ 5 * r' by omega), qupd_ne _ _ (show 5 * r + 1 ≠ 5 * r' by omega)]
      by_cases hrr : r = r'
      · subst hrr
        rw [qupd_at]
        refine ⟨?_, g2, Or.inr (g3.resolve_left hg)⟩
        rcases hv with hv | hv
        · exact Or.inl hv
        · exact Or.inr (Or.inr hv)
      · rw [qupd_ne _ _ (by omega)]
        exact ⟨g1, g2, g3⟩
    · rw [qupd_ne _ _ (by omega), qupd_ne _ _ (by omega), qupd_ne _ _ (by omega)]
      exact ⟨g1, g2, g3⟩
  · intro g hgg
    obtain ⟨g1, g2⟩ := i2 g hgg
    rcases ha with ⟨r', h1, rfl⟩ | ⟨g', h1, rfl⟩
    · rw [qupd_ne _ _ (by omega), qupd_ne _ _ (by omega)]
      exact ⟨g1, g2⟩
    · rw [qupd_ne _ _ (show 50 + 2 * g + 1 ≠ 50 + 2 * g' by omega)]
      by_cases hrr : g = g'
      · subst hrr
        rw [qupd_at]
        exact ⟨hv, g2⟩
      · rw [qupd_ne _ _ (by omega)]
        exact ⟨g1, g2⟩
theorem Inv.move {s s' : Nat → Int32} {a : Nat} {i r : Int32} (H : Inv s) (ha : atP a) (h : aMove s a i = (r, some s')) : Inv s' ∧ ¬ s a = -2 := by
  have h9 : ¬ (aMove s a i).2 = none := by rw [h]; exact fun z => by cases z
  have h8 := aMove_some s a i h9
  rw [h] at h8
  cases h8
  have hg : ¬ s a = -2 := by
    intro z
    unfold aMove at h9
    obtain ⟨v, v1, v2⟩ := H.2.2.1
    rw [if_pos ⟨by rw [z]; decide, by
      rw [z, v2]
      intro z2
      have : v = 0 ∨ v = 1 ∨ v = 2 ∨ v = 3 ∨ v = 4 := by omega
      rcases this with rfl | rfl | rfl | rfl | rfl <;> exact absurd z2 (by decide +kernel)⟩] at h9
    exact h9 rfl
  refine ⟨H.put ha ?_ hg, hg⟩
  by_cases hi : i = 0
  · rw [if_pos hi]
    exact Or.inr H.2.2.1
  · rw [if_neg hi]
    exact Or.inl rfl
theorem Inv.moveR {s s' : Nat → Int32} {r i v : Int32} (H : Inv s) (h : aMoveR s r i = (v, some s')) : Inv s' := by
  unfold aMoveR at h
  by_cases h1 : isRF s r = 0
  · rw [if_pos h1] at h; cases h
  · rw [if_neg h1] at h
    obtain ⟨j, hj, rfl, -⟩ := isRF_of h1
    rw [nI_clamp (by omega)] at h
    exact (H.move (Or.inl ⟨j, by omega, rfl⟩) h).1
theorem Inv.moveG {s s' : Nat → Int32} {r i v : Int32} (H : Inv s) (h : aMoveG s r i = (v, some s')) : Inv s' := by
  unfold aMoveG at h
  by_cases h1 : inR r 0 1 = 0
  · rw [if_pos h1] at h; cases h
  · rw [if_neg h1] at h
    obtain ⟨j, hj, rfl⟩ := inR_of (n := 1) (by decide) h1
    rw [nI_clamp (by omega)] at h
    exact (H.move (Or.inr ⟨j, by omega, rfl⟩) h).1
theorem Inv.fuel {s s' : Nat → Int32} {g n v : Int32} (H : Inv s) (h : aFuel s g n = (v, some s')) : Inv s' ∧ ∃ a : Nat, a ≤ 500 ∧ v = nI a := by
  unfold aFuel at h
  by_cases h1 : inR g 0 1 = 0
  · rw [if_pos h1] at h; cases h
  · rw [if_neg h1] at h
    obtain ⟨j, hj, rfl⟩ := inR_of (n := 1) (by decide) h1
    rw [nI_clamp (by omega)] at h
    by_cases h2 : inR n 5 500 = 0
    · rw [if_pos h2] at h; cases h
    · rw [if_neg h2] at h
      obtain ⟨k, k1, k2, rfl⟩ := inR_dig (a := 5) (b := 500) rfl rfl (by decide) (by decide) h2
      by_cases h3 : nI k - nI k / 5 * 5 = 0
      · rw [if_pos h3] at h
        by_cases h4 : s (50 + 2 * j) = -10000005
        · rw [if_pos h4] at h
          by_cases h5 : s (50 + 2 * j + 1) + nI k ≤ 500
          · rw [if_pos h5] at h
            cases h
            obtain ⟨i1, i2, i3, i4, i5, i6, i7⟩ := H
            obtain ⟨g1, a, g2, g3⟩ := i2 j (by omega)
            rw [g3, nI_add] at h5 ⊢
            have h6 : a + k ≤ 500 := (nI_leI (by omega) (by decide)).mp (show nI (a + k) ≤ nI 500 from h5)
            refine ⟨⟨i1.c fun i _ => by simp (disch := omega) only [qupd_ne], ?_, i3.c (by simp (disch := omega) only [qupd_ne]), i4.c fun i _ _ _ => by simp (disch := omega) only [qupd_ne], i5.c (by simp (disch := omega) only [qupd_ne]), i6.c (by simp (disch := omega) only [qupd_ne]) fun i _ _ => by simp (disch := omega) only [qupd_ne], i7.c fun i _ => by simp (disch := omega) only [qupd_ne]⟩, a + k, h6, rfl⟩
            intro g hgg
            obtain ⟨q1, q2⟩ := i2 g hgg
            rw [qupd_ne _ _ (show 50 + 2 * g ≠ 50 + 2 * j + 1 by omega), qupd_ne _ _ (show 50 + 2 * g ≠ 73 by omega)]
            refine ⟨q1, ?_⟩
            by_cases hgj : g = j
            · subst hgj
              exact ⟨a + k, h6, qupd_at _ _ _⟩
            · rw [qupd_ne _ _ (by omega), qupd_ne _ _ (by omega)]
              exact q2
          · rw [if_neg h5] at h; cases h
        · rw [if_neg h4] at h; cases h
      · rw [if_neg h3] at h; cases h
theorem Inv.renew {s s' : Nat → Int32} {r v : Int32} (H : Inv s) (h : aRenew s r = (v, some s')) : Inv s' := by
  unfold aRenew at h
  by_cases h1 : isRF s r = 0
  · rw [if_pos h1] at h; cases h
  · rw [if_neg h1] at h
    obtain ⟨j, hj, rfl, -⟩ := isRF_of h1
    rw [nI_clamp (by omega)] at h
    by_cases h2 : s (5 * j) = -10000005
    · rw [if_pos h2] at h
      cases h
      obtain ⟨i1, i2, i3, i4, i5, i6, i7⟩ := H
      refine ⟨?_, i2.c fun i _ _ => by simp (disch := omega) only [qupd_ne], i3.c (by simp (disch := omega) only [qupd_ne]), i4.c fun i _ _ _ => by simp (disch := omega) only [qupd_ne], i5.c (by simp (disch := omega) only [qupd_ne]), i6.c (by simp (disch := omega) only [qupd_ne]) fun i _ _ => by simp (disch := omega) only [qupd_ne], i7.c fun i _ => by simp (disch := omega) only [qupd_ne]⟩
      intro r hr
      by_cases hrj : r = j
      · subst hrj
        refine ⟨Or.inl (by simp (disch := omega) only [qupd_ne, h2]), ⟨0, by omega, by simp (disch := omega) only [qupd_ne, qupd_at]; rfl⟩, Or.inr ⟨8 + r, by omega, by omega, ?_⟩⟩
        simp (disch := omega) only [qupd_ne, qupd_at]
        exact nI_add 8 r
      · obtain ⟨g1, g2, g3⟩ := i1 r hr
        simp (disch := omega) only [qupd_ne]
        exact ⟨g1, g2, g3⟩
    · rw [if_neg h2] at h; cases h
