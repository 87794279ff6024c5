/-! the model reads a command -/
set_option maxRecDepth 100000
theorem pmin_le {T : Nat → Int32} {n p : Nat} (hp : p ≤ n) : match pmin T n p with
    | .inl e => e ≤ n
    | .inr (w, p') => p < p' ∧ p' ≤ n ∧ ∃ b : Nat, b ≤ 500 ∧ w = nI b := by
  by_cases h : inR (chr T n p) 49 57 = 0
  · unfold pmin
    rw [if_pos h]
    exact hp
  · obtain ⟨a, b, q, h1, h2, e1, e2, h3, h4, h5, h6, h8, e3⟩ := pmin_spec T n p h
    rw [e3]
    by_cases h9 : nI b - nI b / 5 * 5 = 0
    · rw [if_pos h9]
      exact ⟨h6, h8, b, h4, rfl⟩
    · rw [if_neg h9]
      exact h8
/-- what a command's numbers are -/
def okC (x : CM) : Prop := (x.1 = 118 → ∃ d : Nat, d ≤ 4 ∧ x.2.1 = nI d) ∧ ((x.1 = 43 ∨ x.1 = 45) → ∃ d : Nat, d ≤ 9 ∧ x.2.1 = nI d) ∧ ((x.1 = 103 ∨ x.1 = 102) → ∃ d : Nat, d ≤ 1 ∧ x.2.1 = nI d) ∧ isLt x.1
theorem hiC_of {c : Int32} (h : isLt c) : ∃ b : Nat, 48 ≤ b ∧ b ≤ 57 ∧ hiC c = nI b ∧ (c = 118 → b = 52) ∧ (c = 103 ∨ c = 102 → b = 49) := by
  rcases h with rfl | rfl | rfl | rfl | rfl | rfl | rfl
  · exact ⟨52, by omega, by omega, by decide +kernel, fun _ => rfl, fun z => by rcases z with z | z <;> exact absurd z (by decide)⟩
  · exact ⟨57, by omega, by omega, by decide +kernel, fun z => absurd z (by decide), fun z => by rcases z with z | z <;> exact absurd z (by decide)⟩
  · exact ⟨57, by omega, by omega, by decide +kernel, fun z => absurd z (by decide), fun z => by rcases z with z | z <;> exact absurd z (by decide)⟩
  · exact ⟨49, by omega, by omega, by decide +kernel, fun z => absurd z (by decide), fun _ => rfl⟩
  · exact ⟨49, by omega, by omega, by decide +kernel, fun z => absurd z (by decide), fun _ => rfl⟩
  · exact ⟨49, by omega, by omega, by decide +kernel, fun z => absurd z (by decide), fun z => by rcases z with z | z <;> exact absurd z (by decide)⟩
  · exact ⟨49, by omega, by omega, by decide +kernel, fun z => absurd z (by decide), fun z => by rcases z with z | z <;> exact absurd z (by decide)⟩
theorem not_isLt0 : ¬ isLt 0 := by
  rintro (h | h | h | h | h | h | h) <;> exact absurd h (by decide)
theorem hiC_0 {c : Int32} (h : isLt c) : inR 0 48 (hiC c) = 0 := by
  obtain ⟨b, h1, h2, e, -⟩ := hiC_of h
  unfold inR
  rw [if_pos (by decide)]
theorem pcmd_le {T : Nat → Int32} {n p : Nat} (hp : p ≤ n) : match pcmd T n p with
    | .inl e => e ≤ n
    | .inr (x, p') => p < p' ∧ p' ≤ n ∧ okC x := by
  unfold pcmd
  by_cases h : isLt (chr T n p)
  · have hpn : p < n := Nat.not_le.mp fun z => not_isLt0 (by rw [show chr T n p = 0 from if_neg (by omega)] at h; exact h)
    rw [if_pos h]
    generalize hc : chr T n p = c at h
    by_cases h1 : c = 115 ∨ c = 100
    · rw [if_pos h1]
      refine ⟨Nat.lt_succ_self p, hpn, fun z => ?_, fun z => ?_, fun z => ?_, h⟩
      · have z : c = 118 := z
        rcases h1 with h1 | h1 <;> rw [h1] at z <;> exact absurd z (by decide)
      · have z : c = 43 ∨ c = 45 := z
        rcases h1 with h1 | h1 <;> rw [h1] at z <;> exact absurd z (by decide)
      · have z : c = 103 ∨ c = 102 := z
        rcases h1 with h1 | h1 <;> rw [h1] at z <;> exact absurd z (by decide)
    · rw [if_neg h1]
      by_cases h2 : inR (chr T n (p + 1)) 48 (hiC c) = 0
      · rw [if_pos h2]; exact hpn
      · rw [if_neg h2]
        have hp1 := chr_lt (hiC_0 h) h2
        obtain ⟨b, b1, b2, e, b3, b4⟩ := hiC_of h
        obtain ⟨d, d1, d2, e2⟩ := inR_dig (a := 48) (b := b) rfl e (by omega) b1 h2
        have e3 : chr T n (p + 1) - 48 = nI (d - 48) := by
          rw [e2]
          show nI d - nI 48 = _
          exact nI_sub d1
        by_cases h3 : c = 102
        · rw [if_pos h3]
          by_cases h4 : inR (chr T n (p + 2)) 58 58 = 0
          · rw [if_pos h4]; exact hp1
          · rw [if_neg h4]
            have hp2 := chr_lt (by decide +kernel) h4
            have := pmin_le (T := T) (n := n) (p := p + 3) hp2
            cases h5 : pmin T n (p + 3) with
            | inl e => rw [h5] at this; exact this
            | inr x =>
              obtain ⟨v, q⟩ := x
              rw [h5] at this
              refine ⟨by have := this.1; omega, this.2.1, fun z => absurd z (show ¬ (102 : Int32) = 118 by decide), fun z => ?_, fun z => ?_, ?_⟩
              · have z : (102 : Int32) = 43 ∨ (102 : Int32) = 45 := z
                rcases z with z | z <;> exact absurd z (by decide)
              · exact ⟨d - 48, by have := b4 (Or.inr h3); omega, e3⟩
              · rw [← h3]; exact h
        · rw [if_neg h3]
          refine ⟨by omega, by omega, fun z => ?_, fun z => ?_, fun z => ?_, h⟩
          · exact ⟨d - 48, by have := b3 z; omega, e3⟩
          · exact ⟨d - 48, by omega, e3⟩
          · exact ⟨d - 48, by have := b4 z; omega, e3⟩
  · rw [if_neg h]; exact hp
section M8
variable {M : QM} {m : Nat} {A : Nat → Nat → Int32} {F : Nat → Int32} {k : Nat}
theorem l5_read_165 {n p : Nat} (hn : n ≤ 80) (hp : p ≤ n) (h7 : F 7 = nI n) (h10 : F 10 = nI p) (h11 : F 11 = 0) (c v : Int32) : ∃ F', f_X5_read_165 (some (m, 0)) c (some (m, 0)) v (mM M m A F) = some (mM M m A F') ∧
    (if c = 102 then (if inR (chr (A 5) n p) 58 58 = 0 then Pr F F' p 1 else match pmin (A 5) n (p + 1) with
      | .inl e => Pr F F' e 1
      | .inr (w, p') => Pr F F' p' 0 ∧ F' 12 = F 12 ∧ F' 13 = v ∧ F' 14 = w)
    else Pr F F' p 0 ∧ F' 12 = F 12 ∧ F' 13 = v ∧ F' 14 = 0) := by
  unfold f_X5_read_165
  simp only [mM_gR0, mM_gR1, mM_gR2, mM_gR4, mM_gR6, mM_gI3, mM_gI5, mM_gI7, mM_gI8, mM_gI9, mM_gI10, mM_gI11, mM_gI12, mM_gI13, mM_gI14, mM_gI15, mM_pF3, mM_pF5, mM_pF7, mM_pF8, mM_pF9, mM_pF10, mM_pF11, mM_pF12, mM_pF13, mM_pF14, mM_pF15, mM_a1, mM_a2, mM_a3, mM_a4, mM_a5, mM_s1, mM_s2, mM_s3, mM_s4, mM_s5, Option.bind_some, Option.map_some, mM_rc]
  by_cases h : c = 102
  · simp only [if_pos h]
    have hs := l5_sign (M := M) (m := m) (A := A) (F := qupd F 13 v) hn hp (by rw [qupd_ne _ _ (by decide), h7]) (by rw [qupd_ne _ _ (by decide), h10]) (by rw [qupd_ne _ _ (by decide), h11]) 58 58
    by_cases h2 : inR (chr (A 5) n p) 58 58 = 0
    · rw [if_pos h2] at hs
      simp only [if_pos h2]
      simp only [hs, qbI, Option.bind_some, Option.map_some]
      obtain ⟨F', e1, e2⟩ := (l5_read_w (M := M) (m := m) (A := A) (F := qupd (qupd F 13 v) 11 1) hn hp (by rw [qupd_ne _ _ (by decide), qupd_ne _ _ (by decide), h7]) (by rw [qupd_ne _ _ (by decide), qupd_ne _ _ (by decide), h10]) (qupd_at _ _ _) c (chr (A 5) n p)).1
      exact ⟨F', e1, fun i hi => by rw [e2.1 i hi, qupd_ne _ _ (by omega), qupd_ne _ _ (by omega)], e2.2⟩
    · rw [if_neg h2] at hs
      simp only [if_neg h2]
      have hp2 := chr_lt (by decide +kernel) h2
      simp only [hs, qbI, Option.bind_some, Option.map_some]
      unfold f_X5_read_186
      rw [if_pos h]
      obtain ⟨w, F', e1, e2⟩ := l5_minutes (M := M) (m := m) (A := A) (F := qupd (qupd (qupd F 13 v) 11 0) 10 (nI (p + 1))) hn (show p + 1 ≤ n by omega) (by rw [qupd_ne _ _ (by decide), qupd_ne _ _ (by decide), qupd_ne _ _ (by decide), h7]) (qupd_at _ _ _) (by rw [qupd_ne _ _ (by decide), qupd_at])
      simp only [mM_rc, e1, qbI, Option.bind_some, Option.map_some, f_X5_read_202, mM_gR0, mM_gR1, mM_gR2, mM_gR4, mM_gR6, mM_gI3, mM_gI5, mM_gI7, mM_gI8, mM_gI9, mM_gI10, mM_gI11, mM_gI12, mM_gI13, mM_gI14, mM_gI15, mM_pF3, mM_pF5, mM_pF7, mM_pF8, mM_pF9, mM_pF10, mM_pF11, mM_pF12, mM_pF13, mM_pF14, mM_pF15, mM_a1, mM_a2, mM_a3, mM_a4, mM_a5, mM_s1, mM_s2, mM_s3, mM_s4, mM_s5, Option.bind_some, Option.map_some, mM_rc]
      refine ⟨_, rfl, ?_⟩
      cases h5 : pmin (A 5) n (p + 1) with
      | inl e =>
        rw [h5] at e2
        exact ⟨fun i hi => by rw [qupd_ne _ _ (by omega), e2.1 i (by omega) (by omega), qupd_ne _ _ (by omega), qupd_ne _ _ (by omega), qupd_ne _ _ (by omega)], by rw [qupd_ne _ _ (by decide)]; exact e2.2.1, by rw [qupd_ne _ _ (by decide)]; exact e2.2.2⟩
      | inr x =>
        obtain ⟨u, q⟩ := x
        rw [h5] at e2
        obtain ⟨rfl, e2⟩ := e2
        exact ⟨⟨fun i hi => by rw [qupd_ne _ _ (by omega), e2.1 i (by omega) (by omega), qupd_ne _ _ (by omega), qupd_ne _ _ (by omega), qupd_ne _ _ (by omega)], by rw [qupd_ne _ _ (by decide)]; exact e2.2.1, by rw [qupd_ne _ _ (by decide)]; exact e2.2.2⟩,
          by rw [qupd_ne _ _ (by decide), e2.1 12 (by decide) (by decide)]; rfl, by rw [qupd_ne _ _ (by decide), e2.1 13 (by decide) (by decide)]; rfl, qupd_at _ _ _⟩
  · simp only [if_neg h]
    unfold f_X5_read_186
    rw [if_neg h]
    simp only [f_X5_read_202, mM_gR0, mM_gR1, mM_gR2, mM_gR4, mM_gR6, mM_gI3, mM_gI5, mM_gI7, mM_gI8, mM_gI9, mM_gI10, mM_gI11, mM_gI12, mM_gI13, mM_gI14, mM_gI15, mM_pF3, mM_pF5, mM_pF7, mM_pF8, mM_pF9, mM_pF10, mM_pF11, mM_pF12, mM_pF13, mM_pF14, mM_pF15, mM_a1, mM_a2, mM_a3, mM_a4, mM_a5, mM_s1, mM_s2, mM_s3, mM_s4, mM_s5, Option.bind_some, Option.map_some, mM_rc]
    refine ⟨_, rfl, ⟨fun i hi => by rw [qupd_ne _ _ (by omega), qupd_ne _ _ (by omega)], by rw [qupd_ne _ _ (by decide), qupd_ne _ _ (by decide)]; exact h10, by rw [qupd_ne _ _ (by decide), qupd_ne _ _ (by decide)]; exact h11⟩, rfl, rfl, rfl⟩
theorem Pr.of {F F1 F2 : Nat → Int32} {p : Nat} {w : Int32} (h : ∀ i, (i < 10 ∨ 14 < i) → F1 i = F i) (h2 : Pr F1 F2 p w) : Pr F F2 p w := ⟨fun i hi => (h2.1 i hi).trans (h i hi), h2.2⟩
theorem l5_lt (c : Int32) : (if c = 118 then (0 : Int32) else if c = 43 then 0 else if c = 45 then 0 else if c = 103 then 0 else if c = 102 then 0 else if c = 115 then 0 else if c = 100 then 0 else 1) = if isLt c then 0 else 1 := by
  by_cases h : isLt c
  · rw [if_pos h]
    rcases h with rfl | rfl | rfl | rfl | rfl | rfl | rfl <;> decide +kernel
  · rw [if_neg h]
    simp only [isLt, not_or] at h
    obtain ⟨h1, h2, h3, h4, h5, h6, h7⟩ := h
    simp only [h1, h2, h3, h4, h5, h6, h7, if_false]
theorem l5_read {n p : Nat} (hn : n ≤ 80) (hp : p ≤ n) (h7 : F 7 = nI n) (h10 : F 10 = nI p) (h11 : F 11 = 0) : ∃ F', f_X5_read (some (m, 0)) (mM M m A F) = some (mM M m A F') ∧ (match pcmd (A 5) n p with
    | .inl e => Pr F F' e 1
    | .inr (x, p') => Pr F F' p' 0 ∧ F' 12 = x.1 ∧ F' 13 = x.2.1 ∧ F' 14 = x.2.2) := by
  unfold f_X5_read
  simp only [mM_gR0, mM_gR1, mM_gR2, mM_gR4, mM_gR6, mM_gI3, mM_gI5, mM_gI7, mM_gI8, mM_gI9, mM_gI10, mM_gI11, mM_gI12, mM_gI13, mM_gI14, mM_gI15, mM_pF3, mM_pF5, mM_pF7, mM_pF8, mM_pF9, mM_pF10, mM_pF11, mM_pF12, mM_pF13, mM_pF14, mM_pF15, mM_a1, mM_a2, mM_a3, mM_a4, mM_a5, mM_s1, mM_s2, mM_s3, mM_s4, mM_s5, Option.bind_some, Option.map_some, mM_rc, h7, h10]
  have := l5_chr (M := M) (m := m) (A := A) hn hp h7 h10 (fun v => f_X5_read_24 (some (m, 0)) v (mM M m A F))
  simp only [mM_a5] at this
  rw [this]
  unfold f_X5_read_24
  simp only [mM_gR0, mM_gR1, mM_gR2, mM_gR4, mM_gR6, mM_gI3, mM_gI5, mM_gI7, mM_gI8, mM_gI9, mM_gI10, mM_gI11, mM_gI12, mM_gI13, mM_gI14, mM_gI15, mM_pF3, mM_pF5, mM_pF7, mM_pF8, mM_pF9, mM_pF10, mM_pF11, mM_pF12, mM_pF13, mM_pF14, mM_pF15, mM_a1, mM_a2, mM_a3, mM_a4, mM_a5, mM_s1, mM_s2, mM_s3, mM_s4, mM_s5, Option.bind_some, Option.map_some, mM_rc, h11, if_true, l5_lt]
  unfold pcmd
  generalize hc : chr (A 5) n p = c
  by_cases h : isLt c
  · have hpn : p < n := Nat.not_le.mp fun z => not_isLt0 (by rw [show chr (A 5) n p = 0 from if_neg (by omega)] at hc; rw [hc]; exact h)
    simp (disch := omega) only [h, if_true, f_X5_read_80, f_X5_read_100, qnfB (Or.inl rfl), mM_gR0, mM_gR1, mM_gR2, mM_gR4, mM_gR6, mM_gI3, mM_gI5, mM_gI7, mM_gI8, mM_gI9, mM_gI10, mM_gI11, mM_gI12, mM_gI13, mM_gI14, mM_gI15, mM_pF3, mM_pF5, mM_pF7, mM_pF8, mM_pF9, mM_pF10, mM_pF11, mM_pF12, mM_pF13, mM_pF14, mM_pF15, mM_a1, mM_a2, mM_a3, mM_a4, mM_a5, mM_s1, mM_s2, mM_s3, mM_s4, mM_s5, Option.bind_some, Option.map_some, mM_rc, qupd_at, qupd_ne, h10, nI_1]
    generalize hF1 : qupd (qupd (qupd F 11 0) 10 (nI (p + 1))) 12 c = F1
    have f7 : F1 7 = nI n := by rw [← hF1]; simp (disch := omega) only [qupd_ne, h7]
    have f10 : F1 10 = nI (p + 1) := by rw [← hF1]; simp (disch := omega) only [qupd_ne, qupd_at]
    have f11 : F1 11 = 0 := by rw [← hF1]; simp (disch := omega) only [qupd_ne, qupd_at]
    have f12 : F1 12 = c := by rw [← hF1]; simp (disch := omega) only [qupd_ne, qupd_at]
    have fo : ∀ i, (i < 10 ∨ 14 < i) → F1 i = F i := fun i hi => by rw [← hF1]; simp (disch := omega) only [qupd_ne]
    by_cases h1 : c = 115 ∨ c = 100
    · rw [if_pos h1]
      have hne : ¬ c = 102 := by rcases h1 with rfl | rfl <;> decide
      obtain ⟨F', e1, e2⟩ := l5_read_165 (M := M) (m := m) (A := A) (F := F1) hn (show p + 1 ≤ n by omega) f7 f10 f11 c 0
      rw [if_neg hne] at e2
      refine ⟨F', ?_, Pr.of fo e2.1, e2.2.1.trans f12, e2.2.2⟩
      by_cases h2 : c = 115
      · rw [if_pos h2]; exact e1
      · rw [if_neg h2, if_pos (h1.resolve_left h2)]; exact e1
    · have h2 : ¬ c = 115 := fun z => h1 (Or.inl z)
      have h3 : ¬ c = 100 := fun z => h1 (Or.inr z)
      rw [if_neg h1, if_neg h2, if_neg h3]
      unfold f_X5_read_159
      have hs := l5_sign (M := M) (m := m) (A := A) (F := F1) hn (show p + 1 ≤ n by omega) f7 f10 f11 48 (hiC c)
      have hh : (if c = 118 then (52 : Int32) else if c = 43 then 57 else if c = 45 then 57 else 49) = hiC c := rfl
      rw [hh]
      by_cases h4 : inR (chr (A 5) n (p + 1)) 48 (hiC c) = 0
      · rw [if_pos h4] at hs ⊢
        simp only [mM_rc, hs, qbI, Option.bind_some, Option.map_some]
        obtain ⟨F', e1, e2⟩ := (l5_read_w (M := M) (m := m) (A := A) (F := qupd F1 11 1) hn (show p + 1 ≤ n by omega) (by rw [qupd_ne _ _ (by decide), f7]) (by rw [qupd_ne _ _ (by decide), f10]) (qupd_at _ _ _) c (chr (A 5) n (p + 1) - 48)).2
        exact ⟨F', e1, Pr.of (fun i hi => by rw [qupd_ne _ _ (by omega)]; exact fo i hi) e2⟩
      · rw [if_neg h4] at hs ⊢
        have hp2 := chr_lt (hiC_0 h) h4
        simp only [mM_rc, hs, qbI, Option.bind_some, Option.map_some]
        obtain ⟨F', e1, e2⟩ := l5_read_165 (M := M) (m := m) (A := A) (F := qupd (qupd F1 11 0) 10 (nI (p + 1 + 1))) hn (show p + 1 + 1 ≤ n by omega) (by rw [qupd_ne _ _ (by decide), qupd_ne _ _ (by decide), f7]) (qupd_at _ _ _) (by rw [qupd_ne _ _ (by decide), qupd_at]) c (chr (A 5) n (p + 1) - 48)
        have fo2 : ∀ i, (i < 10 ∨ 14 < i) → qupd (qupd F1 11 0) 10 (nI (p + 1 + 1)) i = F i := fun i hi => by rw [qupd_ne _ _ (by omega), qupd_ne _ _ (by omega)]; exact fo i hi
        have f122 : qupd (qupd F1 11 0) 10 (nI (p + 1 + 1)) 12 = c := by rw [qupd_ne _ _ (by decide), qupd_ne _ _ (by decide)]; exact f12
        refine ⟨F', e1, ?_⟩
        by_cases h5 : c = 102
        · rw [if_pos h5] at e2 ⊢
          by_cases h6 : inR (chr (A 5) n (p + 2)) 58 58 = 0
          · rw [if_pos h6] at e2 ⊢
            exact Pr.of fo2 e2
          · rw [if_neg h6] at e2 ⊢
            cases h8 : pmin (A 5) n (p + 3) with
            | inl e =>
              rw [show p + 1 + 1 + 1 = p + 3 from rfl, h8] at e2
              exact Pr.of fo2 e2
            | inr x =>
              obtain ⟨u, q⟩ := x
              rw [show p + 1 + 1 + 1 = p + 3 from rfl, h8] at e2
              exact ⟨Pr.of fo2 e2.1, by rw [e2.2.1, f122, h5], e2.2.2⟩
        · rw [if_neg h5] at e2 ⊢
          exact ⟨Pr.of fo2 e2.1, by rw [e2.2.1, f122], e2.2.2⟩
  · simp (disch := omega) only [h, if_false, f_X5_read_80, f_X5_read_100, qnfB (Or.inr rfl), mM_gR0, mM_gR1, mM_gR2, mM_gR4, mM_gR6, mM_gI3, mM_gI5, mM_gI7, mM_gI8, mM_gI9, mM_gI10, mM_gI11, mM_gI12, mM_gI13, mM_gI14, mM_gI15, mM_pF3, mM_pF5, mM_pF7, mM_pF8, mM_pF9, mM_pF10, mM_pF11, mM_pF12, mM_pF13, mM_pF14, mM_pF15, mM_a1, mM_a2, mM_a3, mM_a4, mM_a5, mM_s1, mM_s2, mM_s3, mM_s4, mM_s5, Option.bind_some, Option.map_some, mM_rc, qupd_at, qupd_ne, h10, ne_0_1, ne_0_2, ne_0_3, ne_1_0, ne_1_2, ne_1_3, ne_2_0, ne_2_1, ne_2_3, ne_3_0, ne_3_1, ne_3_2, if_true, if_false, Int32.add_zero]
    generalize hF1 : qupd (qupd (qupd F 11 1) 10 (nI p)) 12 c = F1
    have f7 : F1 7 = nI n := by rw [← hF1]; simp (disch := omega) only [qupd_ne, h7]
    have f10 : F1 10 = nI p := by rw [← hF1]; simp (disch := omega) only [qupd_ne, qupd_at]
    have f11 : F1 11 = 1 := by rw [← hF1]; simp (disch := omega) only [qupd_ne, qupd_at]
    have fo : ∀ i, (i < 10 ∨ 14 < i) → F1 i = F i := fun i hi => by rw [← hF1]; simp (disch := omega) only [qupd_ne]
    have h2 : ¬ c = 115 := fun z => h (by rw [z]; simp [isLt])
    have h3 : ¬ c = 100 := fun z => h (by rw [z]; simp [isLt])
    rw [if_neg h2, if_neg h3]
    unfold f_X5_read_159
    have hs := l5_sign_w (M := M) (m := m) (A := A) (F := F1) hn hp f7 f10 f11 48 (hiC c)
    have hh : (if c = 118 then (52 : Int32) else if c = 43 then 57 else if c = 45 then 57 else 49) = hiC c := rfl
    rw [hh]
    simp only [mM_rc, hs, qbI, Option.bind_some, Option.map_some]
    obtain ⟨F', e1, e2⟩ := (l5_read_w (M := M) (m := m) (A := A) (F := F1) hn hp f7 f10 f11 c (chr (A 5) n p - 48)).2
    exact ⟨F', e1, Pr.of fo e2⟩
end M8
