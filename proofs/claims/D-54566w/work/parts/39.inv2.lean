/-! the row's bounds, kept by a show -/
set_option maxRecDepth 100000
def smN (g : Nat → Nat) : Nat → Nat
  | 0 => 0
  | k + 1 => smN g k + g k
theorem sm_nI (g : Nat → Int32) (G : Nat → Nat) : ∀ n, (∀ r, r < n → g r = nI (G r)) → sm g n = nI (smN G n) := by
  intro n
  induction n with
  | zero => intro _; rfl
  | succ n ih =>
    intro h
    rw [sm, smN, ih (fun r hr => h r (by omega)), h n (by omega), nI_add]
theorem smN_le (G : Nat → Nat) (B : Nat) : ∀ n, (∀ r, r < n → G r ≤ B) → smN G n ≤ n * B := by
  intro n
  induction n with
  | zero => intro _; exact Nat.zero_le _
  | succ n ih =>
    intro h
    have := ih (fun r hr => h r (by omega))
    have := h n (by omega)
    rw [smN, Nat.succ_mul]
    omega
theorem smN_mono (G G' : Nat → Nat) : ∀ n, (∀ r, r < n → G r ≤ G' r) → smN G n ≤ smN G' n := by
  intro n
  induction n with
  | zero => intro _; exact Nat.le_refl _
  | succ n ih =>
    intro h
    have := ih (fun r hr => h r (by omega))
    have := h n (by omega)
    rw [smN, smN]
    omega
theorem nI_n2 {b : Nat} (hb : b < 5) : ¬ nI b = -2 := by
  rcases (show b = 0 ∨ b = 1 ∨ b = 2 ∨ b = 3 ∨ b = 4 by omega) with rfl | rfl | rfl | rfl | rfl <;> decide +kernel
theorem nI_nN {b : Nat} (hb : b < 2 ^ 31) : ¬ nI b = -10000005 := by
  intro z
  have := congrArg Int32.toInt z
  rw [nI_toInt hb] at this
  have h2 : (-10000005 : Int32).toInt = -10000005 := by decide +kernel
  rw [h2] at this
  omega
theorem minF_nI {s : Nat → Int32} (H : I1 s) {b : Nat} (hb : b < 5) : ∃ t : Nat, t ≤ 170 ∧ minF s (nI b) = nI t := by
  have h : ∀ r, r < 10 → ∃ G : Nat, G ≤ 17 ∧ (if s (5 * r) = nI b then s (5 * r + 1) else 0) = nI G := by
    intro r hr
    by_cases h1 : s (5 * r) = nI b
    · rw [if_pos h1]
      obtain ⟨c, h2, h3, h4⟩ := (H r hr).2.2.resolve_left (by rw [h1]; exact nI_n2 hb)
      exact ⟨c, h3, h4⟩
    · rw [if_neg h1]
      exact ⟨0, by omega, rfl⟩
  refine ⟨smN (fun r => if h9 : r < 10 then (h r h9).choose else 0) 10, ?_, ?_⟩
  · refine Nat.le_trans (smN_le _ 17 10 fun r hr => ?_) (by decide)
    rw [dif_pos hr]
    exact (h r hr).choose_spec.1
  · refine sm_nI _ _ 10 fun r hr => ?_
    simp only [dif_pos hr]
    exact (h r hr).choose_spec.2
theorem frcnt_nI (s : Nat → Int32) (b : Int32) : ∃ f c : Nat, f ≤ c ∧ c ≤ 10 ∧ frF s b = nI f ∧ cntF s b = nI c := by
  refine ⟨smN (fun r => if s (5 * r) = b then (if ((s (5 * r + 4) >>> (b &&& 31)) &&& 1) = 0 then 1 else 0) else 0) 10, smN (fun r => if s (5 * r) = b then 1 else 0) 10, ?_, ?_, ?_, ?_⟩
  · refine smN_mono _ _ 10 fun r hr => ?_
    by_cases h1 : s (5 * r) = b
    · simp only [if_pos h1]
      split <;> omega
    · simp only [if_neg h1]
      omega
  · refine Nat.le_trans (smN_le _ 1 10 fun r hr => ?_) (by decide)
    split <;> omega
  · refine sm_nI _ _ 10 fun r hr => ?_
    by_cases h1 : s (5 * r) = b
    · simp only [if_pos h1]
      split <;> rfl
    · simp only [if_neg h1]
      rfl
  · refine sm_nI _ _ 10 fun r hr => ?_
    split <;> rfl
theorem mxw_nI {s : Nat → Int32} (H : I1 s) (b : Int32) : ∀ k, k ≤ 10 → ∃ w : Nat, w < 40 ∧ mxw s b k = nI w := by
  intro k
  induction k with
  | zero => intro _; exact ⟨0, by omega, rfl⟩
  | succ k ih =>
    intro hk
    obtain ⟨w, h1, h2⟩ := ih (by omega)
    rw [mxw]
    split
    · split
      · exact (H k (by omega)).2.1
      · exact ⟨w, h1, h2⟩
    · exact ⟨w, h1, h2⟩
theorem seatsF_nI (b : Int32) : ∃ t : Nat, t ≤ 80 ∧ seatsF b = nI t := by
  unfold seatsF
  split
  · exact ⟨40, by omega, rfl⟩
  · split
    · exact ⟨60, by omega, rfl⟩
    · split
      · exact ⟨80, by omega, rfl⟩
      · split
        · exact ⟨50, by omega, rfl⟩
        · exact ⟨30, by omega, rfl⟩
theorem pplF_nI {s : Nat → Int32} (H : I1 s) (b : Int32) : ∃ t : Nat, t ≤ 80 ∧ pplF s b = nI t := by
  obtain ⟨f, c, h1, h2, h3, h4⟩ := frcnt_nI s b
  obtain ⟨t, h5, h6⟩ := seatsF_nI b
  obtain ⟨w, h7, h8⟩ := mxw_nI H b 10 (by omega)
  unfold pplF wrF
  rw [h3, h4, h6, h8]
  by_cases hc : c = 0
  · subst hc
    exact ⟨0, by omega, by simp [nI_0]⟩
  · rw [if_neg (nI_ne0 (by omega) (by omega)), nI_mul]
    have e1 : nI (t * f) / nI c = nI (t * f / c) := pk_div (by
      have : t * f ≤ 80 * 10 := Nat.mul_le_mul h5 (by omega)
      omega) (by omega) (by omega)
    have e2 : nI w / 10 = nI (w / 10) := pk_div (d := 10) (by omega) (by omega) (by omega)
    have h9 : t * f / c ≤ 80 := by
      refine Nat.le_trans (Nat.div_le_of_le_mul ?_) h5
      rw [Nat.mul_comm c t]
      exact Nat.mul_le_mul_left _ h1
    rw [e1, e2]
    by_cases h10 : w / 10 ≤ t * f / c
    · rw [nI_sub h10]
      dsimp only
      rw [if_neg (nI_pos (by omega))]
      exact ⟨_, by omega, rfl⟩
    · refine ⟨0, by omega, ?_⟩
      dsimp only
      have : nI (t * f / c) - nI (w / 10) < 0 := by
        have e3 : nI (t * f / c) - nI (w / 10) = -nI (w / 10 - t * f / c) := by
          have : nI (w / 10) = nI (w / 10 - t * f / c) + nI (t * f / c) := by rw [nI_add]; congr 1; omega
          rw [this]
          grind
        rw [e3]
        have h11 : 0 < w / 10 - t * f / c := by omega
        have h13 := Nat.sub_le (w / 10) (t * f / c)
        have h12 : w / 10 - t * f / c < 4 := by omega
        rcases (show w / 10 - t * f / c = 1 ∨ w / 10 - t * f / c = 2 ∨ w / 10 - t * f / c = 3 by omega) with z | z | z <;> rw [z] <;> decide +kernel
      rw [if_pos this]
      rfl
theorem brn3 {b : Nat} (hb : b < 5) : (5 : Int32) + (nI b - nI b / 3 * 3) = nI (5 + b % 3) := by
  have : nI b - nI b / 3 * 3 = nI (b % 3) := pk_rem (d := 3) (by omega) (by omega) (by omega)
  rw [this]
  exact nI_add 5 _
theorem I1.okW {s : Nat → Int32} (H : I1 s) {b : Nat} (hb : b < 5) : okW s (5 + (nI b - nI b / 3 * 3)) := by
  intro r hr
  obtain ⟨a, h1, h2⟩ := (H r hr).2.1
  rw [brn3 hb, h2, nI_add]
  by_cases h3 : a + (5 + b % 3) < 40
  · exact Or.inl (nI_lt (b := 40) h3 (by decide))
  · refine Or.inr ?_
    have : nI (a + (5 + b % 3)) - 20 = nI (a + (5 + b % 3) - 20) := nI_sub (b := 20) (by omega)
    rw [this]
    exact nI_lt (b := 40) (by omega) (by decide)
theorem I1.play {s : Nat → Int32} (H : I1 s) {b r : Nat} (hb : b < 5) (hr : r < 10) : I1 (playF s (nI b) r) := by
  intro q hq
  by_cases hqr : q = r
  · subst hqr
    obtain ⟨g1, ⟨a, g2, g3⟩, g4⟩ := H q hq
    unfold playF
    by_cases h1 : s (5 * q) = nI b
    · rw [if_pos h1, brn3 hb]
      obtain ⟨c, c1, c2, c3⟩ := g4.resolve_left (by rw [h1]; exact nI_n2 hb)
      unfold wearF
      simp (disch := omega) only [qupd_ne, qupd_at, g3, h1, c3, nI_add]
      by_cases h2 : a + (5 + b % 3) < 40
      · have h3 : nI (a + (5 + b % 3)) < 40 := nI_lt (b := 40) h2 (by decide)
        have h4 : (3 : Int32) ≤ nI c := nI_le (a := 3) c1 (by omega)
        simp (disch := omega) only [h3, if_true, qupd_ne, qupd_at, h1, c3, h4]
        exact ⟨Or.inr (Or.inr ⟨b, hb, rfl⟩), ⟨_, h2, rfl⟩, Or.inr ⟨c, c1, c2, rfl⟩⟩
      · have h3 : ¬ nI (a + (5 + b % 3)) < 40 := nI_nlt (b := 40) (by omega) (by omega)
        have e1 : nI (a + (5 + b % 3)) - 20 = nI (a + (5 + b % 3) - 20) := nI_sub (b := 20) (by omega)
        have e2 : nI c - 1 = nI (c - 1) := nI_sub (b := 1) (by omega)
        simp (disch := omega) only [h3, if_false, qupd_ne, qupd_at, h1, c3, e1, e2]
        refine ⟨?_, ⟨_, by omega, rfl⟩, ?_⟩
        · split
          · exact Or.inr (Or.inr ⟨b, hb, rfl⟩)
          · exact Or.inr (Or.inl rfl)
        · by_cases h5 : 3 ≤ c - 1
          · exact Or.inr ⟨c - 1, h5, by omega, rfl⟩
          · exact Or.inl (if_neg (show ¬ (3 : Int32) ≤ nI (c - 1) from nI_ge (b := 3) (by omega) (by decide)))
    · rw [if_neg h1]
      exact ⟨g1, ⟨a, g2, g3⟩, g4⟩
  · rw [playF_ne _ _ _ _ (by omega) (by omega), playF_ne _ _ _ _ (by omega) (by omega), playF_ne _ _ _ _ (by omega) (by omega)]
    exact H q hq
theorem I1.plays {s : Nat → Int32} (H : I1 s) {b : Nat} (hb : b < 5) : ∀ k, k ≤ 10 → I1 (playsF s (nI b) k) := by
  intro k
  induction k with
  | zero => intro _; exact H
  | succ k ih =>
    intro hk
    exact (ih (by omega)).play hb (by omega)
theorem playsF_hi (s : Nat → Int32) (b : Int32) (k i : Nat) (hk : k ≤ 10) (h : 50 ≤ i) (h76 : i ≠ 76) : playsF s b k i = s i := playsF_ne s b k i (by omega) h76
theorem whyF_had {s : Nat → Int32} {b : Nat} (hb : b < 5) (h : whyF s (nI b) ≤ 0) : ¬ s (57 + b) = 1 ∧ ∃ g : Nat, g ≤ 1 ∧ genF s (nI b) (minF s (nI b)) = nI g ∧ s (50 + 2 * g) = nI b ∧ ¬ s (50 + 2 * g + 1) < minF s (nI b) := by
  unfold whyF at h
  rw [nI_clamp (by omega)] at h
  by_cases h1 : s (57 + b) = 1
  · rw [if_pos h1] at h; exact absurd h (by decide)
  · refine ⟨h1, ?_⟩
    rw [if_neg h1] at h
    by_cases h2 : cntF s (nI b) = 0
    · rw [if_pos h2] at h; exact absurd h (by decide)
    · rw [if_neg h2] at h
      by_cases h3 : genF s (nI b) 0 = -10000005
      · rw [if_pos h3] at h; exact absurd h (by decide)
      · rw [if_neg h3] at h
        by_cases h4 : genF s (nI b) (minF s (nI b)) = -10000005
        · rw [if_pos h4] at h; exact absurd h (by decide)
        · unfold genF at h4 ⊢
          by_cases h5 : s 50 = nI b ∧ ¬ s 51 < minF s (nI b)
          · exact ⟨0, by omega, by rw [if_pos h5]; rfl, h5.1, h5.2⟩
          · rw [if_neg h5] at h4 ⊢
            by_cases h6 : s 52 = nI b ∧ ¬ s 53 < minF s (nI b)
            · exact ⟨1, by omega, by rw [if_pos h6]; rfl, h6.1, h6.2⟩
            · rw [if_neg h6] at h4
              exact absurd rfl h4
theorem I4.sum {s : Nat → Int32} (H : I4 s) : ∃ T : Nat, T ≤ 50000 ∧ sumF s 62 5 = nI T := by
  obtain ⟨d, d1, d2, d3⟩ := H
  have h : ∀ b, b < 5 → ∃ c : Nat, c ≤ 10000 ∧ s (62 + b) = nI c := fun b hb => by
    obtain ⟨h, c, g1, g2, g3, g4⟩ := d3 b hb
    exact ⟨c, by omega, g3⟩
  refine ⟨smN (fun b => if h9 : b < 5 then (h b h9).choose else 0) 5, ?_, ?_⟩
  · refine Nat.le_trans (smN_le _ 10000 5 fun r hr => ?_) (by decide)
    rw [dif_pos hr]
    exact (h r hr).choose_spec.1
  · refine sm_nI _ _ 5 fun r hr => ?_
    simp only [dif_pos hr]
    exact (h r hr).choose_spec.2
theorem sumF_up (s : Nat → Int32) {b : Nat} (hb : b < 5) (v : Int32) : sumF (qupd s (62 + b) (s (62 + b) + v)) 62 5 = sumF s 62 5 + v := by
  rcases (show b = 0 ∨ b = 1 ∨ b = 2 ∨ b = 3 ∨ b = 4 by omega) with rfl | rfl | rfl | rfl | rfl <;> simp [sumF, sm, qupd] <;> grind
theorem Inv.show {s s' : Nat → Int32} {b r : Int32} (H : Inv s) (h : aShow s b = (r, some s')) : Inv s' ∧ ∃ t : Nat, t ≤ 8000 ∧ r = nI t := by
  unfold aShow at h
  by_cases h1 : inR b 0 4 = 0
  · rw [if_pos h1] at h; cases h
  · rw [if_neg h1] at h
    obtain ⟨j, hj, rfl⟩ := inR_of (n := 4) (by decide) h1
    by_cases h2 : whyF s (nI j) ≤ 0
    · rw [if_pos h2] at h
      cases h
      obtain ⟨i1, i2, i3, i4, i5, i6, i7⟩ := H
      have hj5 : j < 5 := by omega
      obtain ⟨hh, g, g1, g2, g3, g4⟩ := whyF_had hj5 h2
      obtain ⟨p, p1, p2⟩ := pplF_nI i1 (nI j)
      obtain ⟨q, q1, q2, q3⟩ := i5
      refine ⟨?_, p * q, Nat.le_trans (Nat.mul_le_mul p1 q2) (by decide), by rw [p2, q3, nI_mul]⟩
      obtain ⟨t, t1, t2⟩ := minF_nI i1 hj5
      obtain ⟨-, a, a1, a2⟩ := i2 g (by omega)
      rw [a2, t2] at g4
      have hta : t ≤ a := Nat.not_lt.mp fun z => g4 (nI_lt z (by omega))
      unfold showS genN
      rw [g2, nI_clamp (by omega), nI_clamp (by omega)]
      generalize hs1 : qupd s (50 + 2 * g + 1) (s (50 + 2 * g + 1) - minF s (nI j)) = s1
      have k1 : I1 s1 := i1.c fun i hi => by rw [← hs1, qupd_ne _ _ (by omega)]
      have kp := k1.plays hj5 10 (by omega)
      have e1 : ∀ i, 50 ≤ i → i ≠ 76 → playsF s1 (nI j) 10 i = s1 i := fun i hi hi2 => playsF_hi _ _ _ _ (by omega) hi hi2
      have e2 : ∀ i, 54 ≤ i → s1 i = s i := fun i hi => by rw [← hs1, qupd_ne _ _ (by omega)]
      unfold endF
      generalize hs2 : playsF s1 (nI j) 10 = s2 at kp e1 ⊢
      obtain ⟨d, d1, d2, d3⟩ := i4
      refine ⟨?_, ?_, ?_, ?_, ?_, ?_, ?_⟩
      · refine kp.c fun i hi => ?_
        simp only [logF]
        rw [if_neg (by omega), if_neg (by omega), if_neg (by omega), if_neg (by omega), if_neg (by omega), if_neg (by omega), if_neg (by omega)]
        simp (disch := omega) only [qupd_ne]
      · intro g' hg'
        have e3 : ∀ i, 50 ≤ i → i < 54 → logF (qupd (qupd (qupd (qupd s2 (57 + j) 1) (62 + j) (s2 (62 + j) + 1)) (67 + j) (s2 (67 + j) + pplF s (nI j) * s 56)) 75 (s2 75 + pplF s (nI j))) (nI j) (pplF s (nI j)) (pplF s (nI j) * s 56) (minF s (nI j)) i = s1 i := fun i hi hi2 => by
          simp only [logF]
          rw [if_neg (by omega), if_neg (by omega), if_neg (by omega), if_neg (by omega), if_neg (by omega), if_neg (by omega), if_neg (by omega)]
          simp (disch := omega) only [qupd_ne]
          exact e1 i hi (by omega)
        rw [e3 _ (by omega) (by omega), e3 _ (by omega) (by omega), ← hs1]
        obtain ⟨w1, w2⟩ := i2 g' hg'
        rw [qupd_ne _ _ (show 50 + 2 * g' ≠ 50 + 2 * g + 1 by omega)]
        refine ⟨w1, ?_⟩
        by_cases hgg : g' = g
        · subst hgg
          rw [qupd_at, a2, t2, nI_sub hta]
          exact ⟨_, by omega, rfl⟩
        · rw [qupd_ne _ _ (by omega)]
          exact w2
      · refine i3.c ?_
        simp only [logF]
        rw [if_neg (by omega), if_neg (by omega), if_neg (by omega), if_neg (by omega), if_neg (by omega), if_neg (by omega), if_neg (by omega)]
        simp (disch := omega) only [qupd_ne, e1, e2]
      · refine ⟨d, d1, ?_, fun b hb => ?_⟩
        · simp only [logF]
          rw [if_neg (by omega), if_neg (by omega), if_neg (by omega), if_neg (by omega), if_neg (by omega), if_neg (by omega), if_neg (by omega)]
          simp (disch := omega) only [qupd_ne, e1, e2, d2]
        · obtain ⟨h, c, w1, w2, w3, w4⟩ := d3 b hb
          by_cases hbj : b = j
          · subst hbj
            have h0 : h = 0 := by
              rcases (show h = 0 ∨ h = 1 by omega) with z | z
              · exact z
              · exact absurd (by rw [w2, z]; rfl) hh
            refine ⟨1, c + 1, by omega, ?_, ?_, by omega⟩
            · simp only [logF]
              rw [if_neg (by omega), if_neg (by omega), if_neg (by omega), if_neg (by omega), if_neg (by omega), if_neg (by omega), if_neg (by omega)]
              simp (disch := omega) only [qupd_ne, qupd_at]
              rfl
            · simp only [logF]
              rw [if_neg (by omega), if_neg (by omega), if_neg (by omega), if_neg (by omega), if_neg (by omega), if_neg (by omega), if_neg (by omega)]
              simp (disch := omega) only [qupd_ne, qupd_at, e1, e2, w3, nI_1]
          · refine ⟨h, c, w1, ?_, ?_, w4⟩
            · simp only [logF]
              rw [if_neg (by omega), if_neg (by omega), if_neg (by omega), if_neg (by omega), if_neg (by omega), if_neg (by omega), if_neg (by omega)]
              simp (disch := omega) only [qupd_ne, e1, e2, w2]
            · simp only [logF]
              rw [if_neg (by omega), if_neg (by omega), if_neg (by omega), if_neg (by omega), if_neg (by omega), if_neg (by omega), if_neg (by omega)]
              simp (disch := omega) only [qupd_ne, e1, e2, w3]
      · refine I5.c (s := s) ?_ ⟨q, q1, q2, q3⟩
        simp only [logF]
        rw [if_neg (by omega), if_neg (by omega), if_neg (by omega), if_neg (by omega), if_neg (by omega), if_neg (by omega), if_neg (by omega)]
        simp (disch := omega) only [qupd_ne, e1, e2]
      · unfold I6 at i6 ⊢
        obtain ⟨T, T1, T2⟩ := I4.sum ⟨d, d1, d2, d3⟩
        have e4 : sumF (logF (qupd (qupd (qupd (qupd s2 (57 + j) 1) (62 + j) (s2 (62 + j) + 1)) (67 + j) (s2 (67 + j) + pplF s (nI j) * s 56)) 75 (s2 75 + pplF s (nI j))) (nI j) (pplF s (nI j)) (pplF s (nI j) * s 56) (minF s (nI j))) 62 5 = nI (T + 1) := by
          rw [← nI_1, ← T2, ← sumF_up s hj5 1]
          refine sumF_c fun i hi hi2 => ?_
          simp only [logF]
          rw [if_neg (by omega), if_neg (by omega), if_neg (by omega), if_neg (by omega), if_neg (by omega), if_neg (by omega), if_neg (by omega)]
          rw [qupd_ne _ _ (by omega), qupd_ne _ _ (by omega)]
          by_cases hij : i = 62 + j
          · subst hij
            rw [qupd_at, qupd_at, e1 _ (by omega) (by omega), e2 _ (by omega)]
          · rw [qupd_ne _ _ hij, qupd_ne _ _ hij, qupd_ne _ _ (by omega), e1 _ (by omega) (by omega), e2 _ (by omega)]
        rw [e4]
        rw [T2] at i6
        simp only [logF, if_true]
        simp (disch := omega) only [qupd_ne, e1, e2, i6]
        by_cases hT : T < 6
        · rw [if_pos (show nI T < 6 from nI_lt (b := 6) hT (by decide)), if_neg (show ¬ (6 : Int32) ≤ nI T from nI_ge (b := 6) hT (by decide)), nI_1]
          by_cases hT5 : T + 1 < 6
          · rw [if_pos (show nI (T + 1) < 6 from nI_lt (b := 6) hT5 (by decide))]
          · rw [if_neg (show ¬ nI (T + 1) < 6 from nI_nlt (b := 6) (by omega) (by omega)), show T = 5 by omega]
            rfl
        · rw [if_neg (show ¬ nI T < 6 from nI_nlt (b := 6) (by omega) (by omega)), if_neg (show ¬ nI (T + 1) < 6 from nI_nlt (b := 6) (by omega) (by omega)), if_pos (by decide)]
          decide
      · intro i hi
        simp only [logF]
        rw [if_neg (by omega), if_neg (by omega), if_neg (by omega), if_neg (by omega), if_neg (by omega), if_neg (by omega), if_neg (by omega)]
        simp (disch := omega) only [qupd_ne, e1, e2]
        exact i7 i hi
    · rw [if_neg h2] at h
      have := congrArg Prod.snd h
      cases this
