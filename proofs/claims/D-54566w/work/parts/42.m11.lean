/-! the model does a command -/
set_option maxRecDepth 100000
theorem qupdA1 (A : Nat → Nat → Int32) : qupd A 1 (A 1) = A := qupd_self A 1
theorem aDrive_some {s s' : Nat → Int32} {b r : Int32} (h : aDrive s b = (r, some s')) : s' = qupd (qupd s 72 (s 72 + absF (mileF b - mileF (s 54)))) 54 b := by
  unfold aDrive at h
  by_cases h1 : inR b 0 4 = 0
  · rw [if_pos h1] at h; have := congrArg Prod.snd h; cases this
  · rw [if_neg h1] at h
    by_cases h2 : s 54 = b
    · rw [if_pos h2] at h; have := congrArg Prod.snd h; cases this
    · rw [if_neg h2] at h; cases h; rfl
theorem aMove_s {s s' : Nat → Int32} {a : Nat} {i r : Int32} (h : aMove s a i = (r, some s')) : s' = qupd s a (if i = 0 then s 54 else -10000005) := by
  have h6 := aMove_some s a i (by rw [h]; exact fun z => by cases z)
  rw [h] at h6
  have := congrArg Prod.snd h6
  exact Option.some.inj this
theorem aFuel_s {s s' : Nat → Int32} {j : Nat} {t r : Int32} (hj : j ≤ 1) (h : aFuel s (nI j) t = (r, some s')) : s' = qupd (qupd s 73 (s 73 + t / 5)) (50 + 2 * j + 1) (s (50 + 2 * j + 1) + t) := by
  unfold aFuel at h
  rw [show inR (nI j) 0 1 = 1 from inR_nI (lo := 0) (hi := 1) (by omega) hj (by decide), if_neg (by decide), nI_clamp (by omega)] at h
  by_cases g2 : inR t 5 500 = 0
  · rw [if_pos g2] at h; have := congrArg Prod.snd h; cases this
  · rw [if_neg g2] at h
    by_cases g3 : t - t / 5 * 5 = 0
    · rw [if_pos g3] at h
      by_cases g4 : s (50 + 2 * j) = -10000005
      · rw [if_pos g4] at h
        by_cases g5 : s (50 + 2 * j + 1) + t ≤ 500
        · rw [if_pos g5] at h; have := congrArg Prod.snd h; exact (Option.some.inj this).symm
        · rw [if_neg g5] at h; have := congrArg Prod.snd h; cases this
      · rw [if_neg g4] at h; have := congrArg Prod.snd h; cases this
    · rw [if_neg g3] at h; have := congrArg Prod.snd h; cases this
section M11
variable {M : QM} {m : Nat} {A : Nat → Nat → Int32} {F : Nat → Int32} {k : Nat}
theorem l5_d55 (d i : Int32) (c : Int32) (hi : (if c = 43 then (1 : Int32) else 0) = i) (h13 : F 13 = d) {s' : Nat → Int32} {r : Int32} (h : aMoveR (A 1) d i = (r, some s')) : f_X5_does_55 (some (m, 0)) c (mM M m A F) = some (0, mM M m (qupd A 1 s') F) := by
  unfold aMoveR at h
  by_cases h1 : isRF (A 1) d = 0
  · rw [if_pos h1] at h; have := congrArg Prod.snd h; cases this
  · rw [if_neg h1] at h
    obtain ⟨j, hj, h2, -⟩ := isRF_of h1
    rw [h2] at h h13
    rw [nI_clamp (by omega)] at h
    rw [aMove_s h]
    unfold f_X5_does_55
    simp (disch := omega) only [mM_gI13, obs, oms, h13, l5_of0, hi, f_X5_does_75, mM_rc, l5_moves, qbI, f_X5_does_172]
theorem l5_does0 (H : I3 (A 1)) (x : CM) (h12 : F 12 = x.1) (h13 : F 13 = x.2.1) (h14 : F 14 = x.2.2) (hx : okC x) (h9 : (actC (A 1) x).2 = none) : f_X5_does (some (m, 0)) (mM M m A F) = some ((stepC (A 1) x).1, mM M m (qupd A 1 (stepC (A 1) x).2) F) := by
  unfold f_X5_does stepC
  simp only [mM_gI12, obs, oms, mM_rc, l5_wrong H x h12 h13 h14 hx, h9, wrO_none h9]
  rw [if_neg (actC_neg _ _ h9)]
  by_cases h8 : (actC (A 1) x).1 = -10000005
  · rw [if_pos h8, if_pos h8]
    simp only [qupdA1]
  · rw [if_neg h8, if_neg h8]
    simp only [qupdA1]
theorem l5_does1 (H : Inv (A 1)) (x : CM) (h12 : F 12 = x.1) (h13 : F 13 = x.2.1) (h14 : F 14 = x.2.2) (hx : okC x) (r : Int32) (s' : Nat → Int32) (h7 : actC (A 1) x = (r, some s')) : f_X5_does (some (m, 0)) (mM M m A F) = some (0, mM M m (qupd A 1 s') F) := by
  have hw := l5_wrong (M := M) (m := m) H.2.2.1 x h12 h13 h14 hx
  rw [wrO_some (congrArg Prod.snd h7)] at hw
  unfold f_X5_does
  simp only [mM_gI12, obs, oms, mM_rc, hw, h12]
  rw [if_pos (by decide)]
  clear hw
  obtain ⟨c, d, t⟩ := x
  obtain ⟨x1, x2, x3, x4⟩ := hx
  dsimp only at h12 h13 h14 x1 x2 x3 x4
  unfold actC at h7
  dsimp only at h7 ⊢
  rcases x4 with rfl | rfl | rfl | rfl | rfl | rfl | rfl
  · rw [if_pos rfl] at h7 ⊢
    simp only [mM_gI13, obs, oms, mM_rc, h13, l5_drives, qbI, f_X5_does_172]
    rw [aDrive_some h7]
  · rw [if_neg (show ¬ (43 : Int32) = 118 by decide), if_pos rfl] at h7 ⊢
    exact l5_d55 d 1 43 (if_pos rfl) h13 h7
  · rw [if_neg (show ¬ (45 : Int32) = 118 by decide), if_neg (show ¬ (45 : Int32) = 43 by decide), if_pos rfl] at h7 ⊢
    exact l5_d55 d 0 45 (if_neg (by decide)) h13 h7
  · obtain ⟨j, hj, rfl⟩ := x3 (Or.inl rfl)
    rw [if_neg (show ¬ (103 : Int32) = 118 by decide), if_neg (show ¬ (103 : Int32) = 43 by decide), if_neg (show ¬ (103 : Int32) = 45 by decide), if_pos rfl] at h7 ⊢
    unfold aMoveG at h7
    rw [show inR (nI j) 0 1 = 1 from inR_nI (lo := 0) (hi := 1) (by omega) hj (by decide), if_neg (by decide), nI_clamp (by omega)] at h7
    rw [aMove_s h7]
    simp (disch := omega) only [f_X5_does_121, f_X5_does_172, mM_gI13, mM_gR0, mM_a1, obs, oms, mM_rc, qbI, h13, g50, ix108, l5_moves]
  · obtain ⟨j, hj, rfl⟩ := x3 (Or.inr rfl)
    rw [if_neg (show ¬ (102 : Int32) = 118 by decide), if_neg (show ¬ (102 : Int32) = 43 by decide), if_neg (show ¬ (102 : Int32) = 45 by decide), if_neg (show ¬ (102 : Int32) = 103 by decide), if_pos rfl] at h7 ⊢
    have h6 := l5_fuels (M := M) (m := m) (A := A) (F := F) j hj t
    simp (disch := omega) only [f_X5_does_172, mM_gI13, mM_gI14, obs, oms, mM_rc, qbI, h13, h14, h6]
    rw [aFuel_s hj h7]
  · rw [if_neg (show ¬ (115 : Int32) = 118 by decide), if_neg (show ¬ (115 : Int32) = 43 by decide), if_neg (show ¬ (115 : Int32) = 45 by decide), if_neg (show ¬ (115 : Int32) = 103 by decide), if_neg (show ¬ (115 : Int32) = 102 by decide), if_pos rfl] at h7 ⊢
    obtain ⟨v, v1, v2⟩ := H.2.2.1
    simp only [mM_gR0, mM_a1, obs, oms, i108_54, mM_rc, qbI, f_X5_does_172]
    rw [v2] at h7 ⊢
    unfold aShow at h7
    rw [show inR (nI v) 0 4 = 1 from inR_nI (lo := 0) (hi := 4) (by omega) (by omega) (by decide), if_neg (by decide)] at h7
    by_cases g2 : whyF (A 1) (nI v) ≤ 0
    · rw [if_pos g2] at h7
      obtain ⟨-, g, e1, e2, -⟩ := whyF_had v1 g2
      have h5 := congrArg Prod.snd h7
      rw [← Option.some.inj h5]
      simp only [l5_shows v v1 g e1 e2 (H.1.okW v1), obs, oms]
    · rw [if_neg g2] at h7
      have := congrArg Prod.snd h7
      cases this
  · rw [if_neg (show ¬ (100 : Int32) = 118 by decide), if_neg (show ¬ (100 : Int32) = 43 by decide), if_neg (show ¬ (100 : Int32) = 45 by decide), if_neg (show ¬ (100 : Int32) = 103 by decide), if_neg (show ¬ (100 : Int32) = 102 by decide), if_neg (show ¬ (100 : Int32) = 115 by decide)] at h7 ⊢
    simp only [obs, oms, mM_rc, qbI, f_X5_does_172, l5_begins]
    unfold aDay at h7
    by_cases g2 : A 1 55 = 9999
    · rw [if_pos g2] at h7; have := congrArg Prod.snd h7; cases this
    · rw [if_neg g2] at h7
      have h5 := congrArg Prod.snd h7
      rw [← Option.some.inj h5]
theorem l5_does (H : Inv (A 1)) (x : CM) (h12 : F 12 = x.1) (h13 : F 13 = x.2.1) (h14 : F 14 = x.2.2) (hx : okC x) : f_X5_does (some (m, 0)) (mM M m A F) = some ((stepC (A 1) x).1, mM M m (qupd A 1 (stepC (A 1) x).2) F) := by
  cases h9 : (actC (A 1) x).2 with
  | none => exact l5_does0 H.2.2.1 x h12 h13 h14 hx h9
  | some s' =>
    have h7 : actC (A 1) x = ((actC (A 1) x).1, some s') := Prod.ext rfl h9
    rw [l5_does1 H x h12 h13 h14 hx _ s' h7]
    unfold stepC
    rw [h9]
end M11
