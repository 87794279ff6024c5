/-! the model does a command; goes through a text -/
set_option maxRecDepth 100000
theorem obs {α β : Type} (x : α) (f : α → Option β) : (some x).bind f = f x := Eq.symm (Option.bind_some x f).symm
theorem oms {α β : Type} (x : α) (f : α → β) : (some x).map f = some (f x) := Eq.symm (Option.map_some (f := f) (a := x)).symm
section M10
variable {M : QM} {m : Nat} {A : Nat → Nat → Int32} {F : Nat → Int32} {k : Nat}
theorem inR_nI {d lo hi : Nat} (h1 : lo ≤ d) (h2 : d ≤ hi) (h3 : hi < 2 ^ 31) : inR (nI d) (nI lo) (nI hi) = 1 := by
  unfold inR
  rw [if_neg (nI_nlt h1 (by omega)), if_neg (nI_nlt h2 h3)]
theorem l5_why_i {s : Nat → Int32} (H : I3 s) (hA : A 1 = s) : f_X5_why (some (m, 0)) (s 54) (mM M m A F) = some (whyF s (s 54)) := by
  obtain ⟨v, h1, h2⟩ := H
  rw [h2, ← hA]
  exact l5_why v h1
theorem aShow_le {s : Nat → Int32} {b : Int32} : whyF s b ≤ 0 ↔ whyF s b = 0 := by
  rcases whyF_5 s b with z | z | z | z | z <;> rw [z] <;> decide
def wrO (a : AR) : Int32 := match a.2 with
  | none => a.1
  | some _ => 0
theorem wrO_none {a : AR} (h : a.2 = none) : wrO a = a.1 := by unfold wrO; rw [h]
theorem wrO_some {a : AR} {s : Nat → Int32} (h : a.2 = some s) : wrO a = 0 := by unfold wrO; rw [h]
theorem wrO_if (a : AR) : (if a.2 = none then a.1 else 0) = wrO a := by
  cases h : a.2 with
  | none => rw [if_pos rfl, wrO_none h]
  | some s => rw [if_neg (fun z => by cases z), wrO_some h]
theorem l5_wrong_v (d : Nat) (hd : d ≤ 4) (t : Int32) (h12 : F 12 = 118) (h13 : F 13 = nI d) : f_X5_wrong (some (m, 0)) (mM M m A F) = some (wrO (aDrive (A 1) (nI d))) := by
  unfold f_X5_wrong
  simp only [mM_gR0, mM_gR1, mM_gR2, mM_gR4, mM_gR6, mM_gI3, mM_gI5, mM_gI7, mM_gI8, mM_gI9, mM_gI10, mM_gI11, mM_gI12, mM_gI13, mM_gI14, mM_gI15, obs, oms, mM_a1, mM_a2, mM_a3, mM_a4, mM_a5, mM_s1, mM_s2, mM_s3, mM_s4, mM_s5, ix108, ix432, ix80, i108_50, i108_51, i108_52, i108_53, i108_54, i108_55, i108_56, i108_72, i108_73, i108_74, i108_75, i108_76, i108_77, i108_78, i108_79, i108_80, i108_81, i108_82, h12, h13]
  rw [if_neg (by decide), if_neg (by decide), if_neg (by decide), if_neg (by decide), if_neg (by decide), if_pos trivial]
  unfold aDrive
  rw [show inR (nI d) 0 4 = 1 from inR_nI (lo := 0) (hi := 4) (by omega) hd (by decide), if_neg (show ¬ (1 : Int32) = 0 by decide)]
  by_cases h : A 1 54 = nI d
  · rw [if_pos h, if_pos h]; rfl
  · rw [if_neg h, if_neg h]; rfl
theorem wrO_n (r : Int32) : wrO (r, none) = r := rfl
theorem l5_wrong_r0 (d i : Int32) (h13 : F 13 = d) (h : isRF (A 1) d = 0) : f_X5_wrong_85 (mM M m A F) (some (m, 0)) = some (wrO (aMoveR (A 1) d i)) := by
  unfold f_X5_wrong_85
  simp only [mM_gI13, obs, oms, h13, mM_rc, l5_isReel]
  unfold aMoveR
  rw [if_pos h, if_pos h, wrO_n]
theorem l5_wrong_r1 (j : Nat) (hj : j ≤ 9) (c : Int32) (h13 : F 13 = nI j) (h12 : F 12 = c) (h : ¬ isRF (A 1) (nI j) = 0) : f_X5_wrong_85 (mM M m A F) (some (m, 0)) = some (wrO (aMoveR (A 1) (nI j) (if c = 43 then 1 else 0))) := by
  unfold f_X5_wrong_85
  simp only [mM_gI13, obs, oms, h13, mM_rc, l5_isReel]
  unfold aMoveR
  rw [if_neg h, if_neg h, nI_clamp (by omega)]
  simp (disch := omega) only [l5_of0, mM_gI12, h12, obs, oms, f_X5_wrong_119, mM_rc, l5_moveFault, wrO_if]
theorem l5_wrong_r (d : Int32) (i c : Int32) (hi : (if c = 43 then (1 : Int32) else 0) = i) (h12 : F 12 = c) (h13 : F 13 = d) : f_X5_wrong_85 (mM M m A F) (some (m, 0)) = some (wrO (aMoveR (A 1) d i)) := by
  by_cases h : isRF (A 1) d = 0
  · exact l5_wrong_r0 d i h13 h
  · obtain ⟨j, hj, h1, -⟩ := isRF_of h
    rw [h1] at h h13 ⊢
    rw [← hi]
    exact l5_wrong_r1 j hj c h13 h12 h
theorem l5_wrong_p (d : Int32) (h12 : F 12 = 43) (h13 : F 13 = d) : f_X5_wrong (some (m, 0)) (mM M m A F) = some (wrO (aMoveR (A 1) d 1)) := by
  unfold f_X5_wrong
  simp only [mM_gI12, obs, oms, h12, if_true]
  exact l5_wrong_r d 1 43 (if_pos rfl) h12 h13
theorem l5_wrong_m (d : Int32) (h12 : F 12 = 45) (h13 : F 13 = d) : f_X5_wrong (some (m, 0)) (mM M m A F) = some (wrO (aMoveR (A 1) d 0)) := by
  unfold f_X5_wrong
  simp only [mM_gI12, obs, oms, h12]
  rw [if_neg (by decide), if_pos trivial]
  exact l5_wrong_r d 0 45 (if_neg (by decide)) h12 h13
theorem l5_wrong_g (d : Nat) (hd : d ≤ 1) (h12 : F 12 = 103) (h13 : F 13 = nI d) : f_X5_wrong (some (m, 0)) (mM M m A F) = some (wrO (aMoveG (A 1) (nI d) (if A 1 (50 + 2 * d) = -10000005 then 0 else 1))) := by
  unfold f_X5_wrong
  simp only [mM_gI12, obs, oms, h12]
  rw [if_neg (by decide), if_neg (by decide), if_neg (by decide), if_pos trivial]
  unfold aMoveG
  rw [show inR (nI d) 0 1 = 1 from inR_nI (lo := 0) (hi := 1) (by omega) hd (by decide), if_neg (show ¬ (1 : Int32) = 0 by decide), nI_clamp (by omega)]
  simp (disch := omega) only [mM_gI13, mM_gR0, mM_a1, obs, oms, h13, g50, ix108, f_X5_wrong_162, mM_rc, l5_moveFault, wrO_if]
theorem l5_wrong_f (d t : Int32) (h12 : F 12 = 102) (h13 : F 13 = d) (h14 : F 14 = t) : f_X5_wrong (some (m, 0)) (mM M m A F) = some (wrO (aFuel (A 1) d t)) := by
  unfold f_X5_wrong
  simp only [mM_gI12, obs, oms, h12]
  rw [if_neg (by decide), if_neg (by decide), if_pos trivial]
  simp only [mM_gI13, mM_gI14, obs, oms, h13, h14, mM_rc, l5_fuelFault, wrO_if]
theorem l5_wrong_s (H : I3 (A 1)) (h12 : F 12 = 115) : f_X5_wrong (some (m, 0)) (mM M m A F) = some (wrO (aShow (A 1) (A 1 54))) := by
  unfold f_X5_wrong
  simp only [mM_gI12, obs, oms, h12]
  rw [if_neg (by decide), if_neg (by decide), if_neg (by decide), if_neg (by decide), if_pos trivial]
  simp only [mM_gR0, mM_a1, obs, oms, i108_54, mM_rc, l5_why_i H rfl]
  obtain ⟨v, v1, v2⟩ := H
  unfold aShow
  rw [show inR (A 1 54) 0 4 = 1 from by rw [v2]; exact inR_nI (lo := 0) (hi := 4) (by omega) (by omega) (by decide), if_neg (show ¬ (1 : Int32) = 0 by decide)]
  by_cases h : whyF (A 1) (A 1 54) = 0
  · rw [if_pos h, if_pos (aShow_le.mpr h), wrO_some rfl]
  · rw [if_neg h, if_neg (fun z => h (aShow_le.mp z)), wrO_none rfl]
theorem l5_wrong_d (h12 : F 12 = 100) : f_X5_wrong (some (m, 0)) (mM M m A F) = some (wrO (aDay (A 1))) := by
  unfold f_X5_wrong
  simp only [mM_gI12, obs, oms, h12]
  rw [if_neg (by decide), if_neg (by decide), if_neg (by decide), if_neg (by decide), if_neg (by decide), if_neg (by decide)]
  simp only [mM_gR0, mM_a1, obs, oms, i108_55]
  unfold aDay
  by_cases h : A 1 55 = 9999
  · rw [if_pos h, if_pos h, wrO_none rfl]
  · rw [if_neg h, if_neg h, wrO_some rfl]
theorem l5_wrong (H : I3 (A 1)) (x : CM) (h12 : F 12 = x.1) (h13 : F 13 = x.2.1) (h14 : F 14 = x.2.2) (hx : okC x) : f_X5_wrong (some (m, 0)) (mM M m A F) = some (wrO (actC (A 1) x)) := by
  obtain ⟨c, d, t⟩ := x
  obtain ⟨x1, x2, x3, x4⟩ := hx
  dsimp only at h12 h13 h14 x1 x2 x3 x4
  unfold actC
  dsimp only
  rcases x4 with rfl | rfl | rfl | rfl | rfl | rfl | rfl
  · rw [if_pos rfl]
    obtain ⟨j, hj, rfl⟩ := x1 rfl
    exact l5_wrong_v j hj t h12 h13
  · rw [if_neg (by decide), if_pos rfl]
    exact l5_wrong_p d h12 h13
  · rw [if_neg (by decide), if_neg (by decide), if_pos rfl]
    exact l5_wrong_m d h12 h13
  · rw [if_neg (by decide), if_neg (by decide), if_neg (by decide), if_pos rfl]
    obtain ⟨j, hj, rfl⟩ := x3 (Or.inl rfl)
    rw [nI_clamp (by omega)]
    exact l5_wrong_g j hj h12 h13
  · rw [if_neg (by decide), if_neg (by decide), if_neg (by decide), if_neg (by decide), if_pos rfl]
    exact l5_wrong_f d t h12 h13 h14
  · rw [if_neg (by decide), if_neg (by decide), if_neg (by decide), if_neg (by decide), if_neg (by decide), if_pos rfl]
    exact l5_wrong_s H h12
  · rw [if_neg (by decide), if_neg (by decide), if_neg (by decide), if_neg (by decide), if_neg (by decide), if_neg (by decide)]
    exact l5_wrong_d h12
end M10
