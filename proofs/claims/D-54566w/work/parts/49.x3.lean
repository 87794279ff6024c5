/-! the tour's cells: reads and writes -/
set_option maxRecDepth 100000
section X3
variable {M : QM} {t : Nat} {s L : Nat → Int32} {G : Nat → Option (Bool × QE)} {r g b : Nat} {x : Int32}
theorem tM_aR1 (hr : r < 10) : aR (tM M t s L G) (some (t, 1)) (nI r) = some (if s (5 * r) = -2 then none else some (t, 10 + r)) := by
  simp only [aR, tM_c1]
  rw [if_pos (by decide), ix_nI hr (by decide), Option.map_some]
  unfold rrow
  by_cases h : s (5 * r) = -2
  · rw [if_pos h, if_neg (fun y => y.2 h)]
  · rw [if_neg h, if_pos ⟨hr, h⟩]
theorem tM_aR2 (hg : g < 2) : aR (tM M t s L G) (some (t, 2)) (nI g) = some (some (t, 20 + g)) := by
  simp only [aR, tM_c2]
  rw [if_pos (by decide), ix_nI hg (by decide), Option.map_some]
  unfold grow
  rw [if_pos hg]
theorem tM_a3 (hb : b < 5) : aI (tM M t s L G) (some (t, 3)) (nI b) = some (L b) := by
  simp only [aI, tM_c3]
  rw [if_pos (by decide), ix_nI hb (by decide), Option.map_some]
theorem tM_a4 (hb : b < 5) : aI (tM M t s L G) (some (t, 4)) (nI b) = some (s (62 + b)) := by
  simp only [aI, tM_c4]
  rw [if_pos (by decide), ix_nI hb (by decide), Option.map_some]
  unfold crow
  rw [if_pos hb]
theorem tM_a5 (hb : b < 5) : aI (tM M t s L G) (some (t, 5)) (nI b) = some (s (67 + b)) := by
  simp only [aI, tM_c5]
  rw [if_pos (by decide), ix_nI hb (by decide), Option.map_some]
  unfold crow
  rw [if_pos hb]
theorem tM_a6 (hb : b < 30) : aI (tM M t s L G) (some (t, 6)) (nI b) = some (s (78 + b)) := by
  simp only [aI, tM_c6]
  rw [if_pos (by decide), ix_nI hb (by decide), Option.map_some]
  unfold crow
  rw [if_pos hb]
theorem tM_aL4 : aL (tM M t s L G) (some (t, 4)) = some 5 := by simp only [aL, tM_c4]; rfl
theorem tM_aL5 : aL (tM M t s L G) (some (t, 5)) = some 5 := by simp only [aL, tM_c5]; rfl
theorem tM_aL6 : aL (tM M t s L G) (some (t, 6)) = some 30 := by simp only [aL, tM_c6]; rfl
theorem tM_gr0 (hr : r < 10) (h : ¬ s (5 * r) = -2) : gI (tM M t s L G) (some (t, 10 + r)) [(2, 0), (3, 0)] = some (s (5 * r)) := by simp only [gI, qfld, tM_cr hr h, rcell]; rfl
theorem tM_gr1 (hr : r < 10) (h : ¬ s (5 * r) = -2) : gI (tM M t s L G) (some (t, 10 + r)) [(2, 1)] = some (nI r) := by simp only [gI, qfld, tM_cr hr h, rcell]; rfl
theorem tM_gg0 (hg : g < 2) : gI (tM M t s L G) (some (t, 20 + g)) [(2, 0), (3, 0)] = some (s (50 + 2 * g)) := by simp only [gI, qfld, tM_cg hg, gcell]; rfl
theorem tM_gg1 (hg : g < 2) : gI (tM M t s L G) (some (t, 20 + g)) [(3, 1)] = some (s (50 + 2 * g + 1)) := by simp only [gI, qfld, tM_cg hg, gcell]; rfl
theorem tM_gr2 (hr : r < 10) (h : ¬ s (5 * r) = -2) : gI (tM M t s L G) (some (t, 10 + r)) [(2, 2)] = some (s (5 * r + 1)) := by simp only [gI, qfld, tM_cr hr h, rcell]; rfl
theorem tM_gr3 (hr : r < 10) (h : ¬ s (5 * r) = -2) : gI (tM M t s L G) (some (t, 10 + r)) [(2, 3)] = some (s (5 * r + 2)) := by simp only [gI, qfld, tM_cr hr h, rcell]; rfl
theorem tM_gr4 (hr : r < 10) (h : ¬ s (5 * r) = -2) : gI (tM M t s L G) (some (t, 10 + r)) [(2, 4)] = some (s (5 * r + 3)) := by simp only [gI, qfld, tM_cr hr h, rcell]; rfl
theorem tM_gr5 (hr : r < 10) (h : ¬ s (5 * r) = -2) : gI (tM M t s L G) (some (t, 10 + r)) [(2, 5)] = some (s (5 * r + 4)) := by simp only [gI, qfld, tM_cr hr h, rcell]; rfl
theorem tM_pr2 (hr : r < 10) (h : ¬ s (5 * r) = -2) : pF (tM M t s L G) (some (t, 10 + r)) [(2, 2)] (.inl x) = some (tM M t (qupd s (5 * r + 1) x) L G) := by
  simp only [pF, tM_cr hr h, rcell]
  refine congrArg some (tM_qup (k := 10 + r) ?_ fun j hj => tcell_c (fun _ i hi => qupd_ne _ _ (by omega)) (fun _ r hr => by rw [qupd_ne _ _ (by omega)]) (fun _ => rfl) (fun _ b hb => qupd_ne _ _ (by omega)) (fun _ b hb => qupd_ne _ _ (by omega)) (fun _ b hb => qupd_ne _ _ (by omega)) (fun r1 hr1 hj1 => ?_) (fun g hg _ c hc => qupd_ne _ _ (by omega)))
  · rw [tcell_r hr, qupd_ne _ _ (by omega), if_neg h]
    unfold rcell
    simp (disch := omega) only [qupd_at, qupd_ne]
    rfl
  · have hne : r1 ≠ r := fun y => hj (by rw [hj1, y])
    unfold rcell
    rw [qupd_ne _ _ (by omega), qupd_ne _ _ (by omega), qupd_ne _ _ (by omega), qupd_ne _ _ (by omega), qupd_ne _ _ (by omega)]
theorem tM_pr3 (hr : r < 10) (h : ¬ s (5 * r) = -2) : pF (tM M t s L G) (some (t, 10 + r)) [(2, 3)] (.inl x) = some (tM M t (qupd s (5 * r + 2) x) L G) := by
  simp only [pF, tM_cr hr h, rcell]
  refine congrArg some (tM_qup (k := 10 + r) ?_ fun j hj => tcell_c (fun _ i hi => qupd_ne _ _ (by omega)) (fun _ r hr => by rw [qupd_ne _ _ (by omega)]) (fun _ => rfl) (fun _ b hb => qupd_ne _ _ (by omega)) (fun _ b hb => qupd_ne _ _ (by omega)) (fun _ b hb => qupd_ne _ _ (by omega)) (fun r1 hr1 hj1 => ?_) (fun g hg _ c hc => qupd_ne _ _ (by omega)))
  · rw [tcell_r hr, qupd_ne _ _ (by omega), if_neg h]
    unfold rcell
    simp (disch := omega) only [qupd_at, qupd_ne]
    rfl
  · have hne : r1 ≠ r := fun y => hj (by rw [hj1, y])
    unfold rcell
    rw [qupd_ne _ _ (by omega), qupd_ne _ _ (by omega), qupd_ne _ _ (by omega), qupd_ne _ _ (by omega), qupd_ne _ _ (by omega)]
theorem tM_pr4 (hr : r < 10) (h : ¬ s (5 * r) = -2) : pF (tM M t s L G) (some (t, 10 + r)) [(2, 4)] (.inl x) = some (tM M t (qupd s (5 * r + 3) x) L G) := by
  simp only [pF, tM_cr hr h, rcell]
  refine congrArg some (tM_qup (k := 10 + r) ?_ fun j hj => tcell_c (fun _ i hi => qupd_ne _ _ (by omega)) (fun _ r hr => by rw [qupd_ne _ _ (by omega)]) (fun _ => rfl) (fun _ b hb => qupd_ne _ _ (by omega)) (fun _ b hb => qupd_ne _ _ (by omega)) (fun _ b hb => qupd_ne _ _ (by omega)) (fun r1 hr1 hj1 => ?_) (fun g hg _ c hc => qupd_ne _ _ (by omega)))
  · rw [tcell_r hr, qupd_ne _ _ (by omega), if_neg h]
    unfold rcell
    simp (disch := omega) only [qupd_at, qupd_ne]
    rfl
  · have hne : r1 ≠ r := fun y => hj (by rw [hj1, y])
    unfold rcell
    rw [qupd_ne _ _ (by omega), qupd_ne _ _ (by omega), qupd_ne _ _ (by omega), qupd_ne _ _ (by omega), qupd_ne _ _ (by omega)]
theorem tM_pr5 (hr : r < 10) (h : ¬ s (5 * r) = -2) : pF (tM M t s L G) (some (t, 10 + r)) [(2, 5)] (.inl x) = some (tM M t (qupd s (5 * r + 4) x) L G) := by
  simp only [pF, tM_cr hr h, rcell]
  refine congrArg some (tM_qup (k := 10 + r) ?_ fun j hj => tcell_c (fun _ i hi => qupd_ne _ _ (by omega)) (fun _ r hr => by rw [qupd_ne _ _ (by omega)]) (fun _ => rfl) (fun _ b hb => qupd_ne _ _ (by omega)) (fun _ b hb => qupd_ne _ _ (by omega)) (fun _ b hb => qupd_ne _ _ (by omega)) (fun r1 hr1 hj1 => ?_) (fun g hg _ c hc => qupd_ne _ _ (by omega)))
  · rw [tcell_r hr, qupd_ne _ _ (by omega), if_neg h]
    unfold rcell
    simp (disch := omega) only [qupd_at, qupd_ne]
    rfl
  · have hne : r1 ≠ r := fun y => hj (by rw [hj1, y])
    unfold rcell
    rw [qupd_ne _ _ (by omega), qupd_ne _ _ (by omega), qupd_ne _ _ (by omega), qupd_ne _ _ (by omega), qupd_ne _ _ (by omega)]
theorem tM_pr0 (hr : r < 10) (h : ¬ s (5 * r) = -2) (hx : ¬ x = -2) : pF (tM M t s L G) (some (t, 10 + r)) [(2, 0), (3, 0)] (.inl x) = some (tM M t (qupd s (5 * r) x) L G) := by
  simp only [pF, tM_cr hr h, rcell]
  refine congrArg some (tM_qup (k := 10 + r) ?_ fun j hj => tcell_c (fun _ i hi => qupd_ne _ _ (by omega)) (fun _ r1 hr1 => ?_) (fun _ => rfl) (fun _ b hb => qupd_ne _ _ (by omega)) (fun _ b hb => qupd_ne _ _ (by omega)) (fun _ b hb => qupd_ne _ _ (by omega)) (fun r1 hr1 hj1 => ?_) (fun g hg _ c hc => qupd_ne _ _ (by omega)))
  · rw [tcell_r hr, qupd_at, if_neg hx]
    unfold rcell
    simp (disch := omega) only [qupd_at, qupd_ne]
    rfl
  · by_cases g : r1 = r
    · rw [g, qupd_at]; exact ⟨fun y => absurd y hx, fun y => absurd y h⟩
    · rw [qupd_ne _ _ (by omega)]
  · have hne : r1 ≠ r := fun y => hj (by rw [hj1, y])
    unfold rcell
    rw [qupd_ne _ _ (by omega), qupd_ne _ _ (by omega), qupd_ne _ _ (by omega), qupd_ne _ _ (by omega), qupd_ne _ _ (by omega)]
/-- a reel is no more -/
theorem tM_gone (hr : r < 10) (h : ¬ s (5 * r) = -2) : sR (tM M t s L G) (some (t, 1)) (nI r) none = some (tM M t (qupd s (5 * r) (-2)) L (qupd G r (some (true, rcell s r)))) := by
  simp only [sR, tM_c1]
  rw [if_pos (show okst (tM M t s L G) 3 none = true from rfl), ix_nI hr (by decide), Option.map_some]
  refine congrArg some (tM_qup (k := 1) ?_ fun j hj => tcell_c (fun _ i hi => qupd_ne _ _ (by omega)) (fun y => absurd y hj) (fun _ => rfl) (fun _ b hb => qupd_ne _ _ (by omega)) (fun _ b hb => qupd_ne _ _ (by omega)) (fun _ b hb => qupd_ne _ _ (by omega)) (fun r1 hr1 hj1 => ?_) (fun g hg _ c hc => qupd_ne _ _ (by omega)))
  · show some (true, _) = some (true, _)
    congr 7
    funext r1
    unfold rrow
    by_cases g : r1 = r
    · subst g
      rw [qupd_at, qupd_at, if_neg (fun y => y.2 rfl)]
    · rw [qupd_ne _ _ g]
      by_cases g1 : r1 < 10
      · rw [qupd_ne _ _ (by omega)]
      · rw [if_neg (fun y => g1 y.1), if_neg (fun y => g1 y.1)]
  · by_cases g : r1 = r
    · subst g
      rw [qupd_at, if_pos rfl, qupd_at, if_neg h]
    · rw [qupd_ne _ _ (by omega), qupd_ne _ _ g]
      unfold rcell
      rw [qupd_ne _ _ (by omega), qupd_ne _ _ (by omega), qupd_ne _ _ (by omega), qupd_ne _ _ (by omega), qupd_ne _ _ (by omega)]
theorem tM_pg0 (hg : g < 2) : pF (tM M t s L G) (some (t, 20 + g)) [(2, 0), (3, 0)] (.inl x) = some (tM M t (qupd s (50 + 2 * g) x) L G) := by
  simp only [pF, tM_cg hg, gcell]
  refine congrArg some (tM_qup (k := 20 + g) ?_ fun j hj => tcell_c (fun _ i hi => qupd_ne _ _ (by omega)) (fun _ r hr => by rw [qupd_ne _ _ (by omega)]) (fun _ => rfl) (fun _ b hb => qupd_ne _ _ (by omega)) (fun _ b hb => qupd_ne _ _ (by omega)) (fun _ b hb => qupd_ne _ _ (by omega)) (fun r1 hr1 _ => ?_) (fun g1 hg1 hj1 c hc => qupd_ne _ _ (by omega)))
  · rw [tcell_g hg]
    unfold gcell
    simp (disch := omega) only [qupd_at, qupd_ne]
    rfl
  · unfold rcell
    rw [qupd_ne _ _ (by omega), qupd_ne _ _ (by omega), qupd_ne _ _ (by omega), qupd_ne _ _ (by omega), qupd_ne _ _ (by omega)]
theorem tM_pg1 (hg : g < 2) : pF (tM M t s L G) (some (t, 20 + g)) [(3, 1)] (.inl x) = some (tM M t (qupd s (50 + 2 * g + 1) x) L G) := by
  simp only [pF, tM_cg hg, gcell]
  refine congrArg some (tM_qup (k := 20 + g) ?_ fun j hj => tcell_c (fun _ i hi => qupd_ne _ _ (by omega)) (fun _ r hr => by rw [qupd_ne _ _ (by omega)]) (fun _ => rfl) (fun _ b hb => qupd_ne _ _ (by omega)) (fun _ b hb => qupd_ne _ _ (by omega)) (fun _ b hb => qupd_ne _ _ (by omega)) (fun r1 hr1 _ => ?_) (fun g1 hg1 hj1 c hc => qupd_ne _ _ (by omega)))
  · rw [tcell_g hg]
    unfold gcell
    simp (disch := omega) only [qupd_at, qupd_ne]
    rfl
  · unfold rcell
    rw [qupd_ne _ _ (by omega), qupd_ne _ _ (by omega), qupd_ne _ _ (by omega), qupd_ne _ _ (by omega), qupd_ne _ _ (by omega)]
theorem tM_s4 (hb : b < 5) : sI (tM M t s L G) (some (t, 4)) (nI b) x = some (tM M t (qupd s (62 + b) x) L G) := by
  simp only [sI, tM_c4]
  rw [if_pos trivial, ix_nI hb (by decide), Option.map_some]
  refine congrArg some (tM_qup (k := 4) ?_ fun j hj => tcell_c (fun _ i hi => qupd_ne _ _ (by omega)) (fun _ r hr => by rw [qupd_ne _ _ (by omega)]) (fun _ => rfl) (fun y => absurd y hj) (fun _ b hb => qupd_ne _ _ (by omega)) (fun _ b hb => qupd_ne _ _ (by omega)) (fun r1 hr1 _ => ?_) (fun g hg _ c hc => qupd_ne _ _ (by omega)))
  · rw [crow_up hb]; rfl
  · unfold rcell
    rw [qupd_ne _ _ (by omega), qupd_ne _ _ (by omega), qupd_ne _ _ (by omega), qupd_ne _ _ (by omega), qupd_ne _ _ (by omega)]
theorem tM_s5 (hb : b < 5) : sI (tM M t s L G) (some (t, 5)) (nI b) x = some (tM M t (qupd s (67 + b) x) L G) := by
  simp only [sI, tM_c5]
  rw [if_pos trivial, ix_nI hb (by decide), Option.map_some]
  refine congrArg some (tM_qup (k := 5) ?_ fun j hj => tcell_c (fun _ i hi => qupd_ne _ _ (by omega)) (fun _ r hr => by rw [qupd_ne _ _ (by omega)]) (fun _ => rfl) (fun _ b hb => qupd_ne _ _ (by omega)) (fun y => absurd y hj) (fun _ b hb => qupd_ne _ _ (by omega)) (fun r1 hr1 _ => ?_) (fun g hg _ c hc => qupd_ne _ _ (by omega)))
  · rw [crow_up hb]; rfl
  · unfold rcell
    rw [qupd_ne _ _ (by omega), qupd_ne _ _ (by omega), qupd_ne _ _ (by omega), qupd_ne _ _ (by omega), qupd_ne _ _ (by omega)]
theorem tM_s6 (hb : b < 30) : sI (tM M t s L G) (some (t, 6)) (nI b) x = some (tM M t (qupd s (78 + b) x) L G) := by
  simp only [sI, tM_c6]
  rw [if_pos trivial, ix_nI hb (by decide), Option.map_some]
  refine congrArg some (tM_qup (k := 6) ?_ fun j hj => tcell_c (fun _ i hi => qupd_ne _ _ (by omega)) (fun _ r hr => by rw [qupd_ne _ _ (by omega)]) (fun _ => rfl) (fun _ b hb => qupd_ne _ _ (by omega)) (fun _ b hb => qupd_ne _ _ (by omega)) (fun y => absurd y hj) (fun r1 hr1 _ => ?_) (fun g hg _ c hc => qupd_ne _ _ (by omega)))
  · rw [crow_up hb]; rfl
  · unfold rcell
    rw [qupd_ne _ _ (by omega), qupd_ne _ _ (by omega), qupd_ne _ _ (by omega), qupd_ne _ _ (by omega), qupd_ne _ _ (by omega)]
theorem tM_s3 (hb : b < 5) : sI (tM M t s L G) (some (t, 3)) (nI b) x = some (tM M t s (qupd L b x) G) := by
  simp only [sI, tM_c3]
  rw [if_pos trivial, ix_nI hb (by decide), Option.map_some]
  exact congrArg some (tM_qup (k := 3) rfl fun j hj => tcell_c (fun _ _ _ => rfl) (fun _ _ _ => Iff.rfl) (fun y => absurd y hj) (fun _ _ _ => rfl) (fun _ _ _ => rfl) (fun _ _ _ => rfl) (fun _ _ _ => rfl) (fun _ _ _ _ _ => rfl))
end X3
