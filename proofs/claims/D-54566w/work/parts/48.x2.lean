/-! the tour's cells that a row tells -/
set_option maxRecDepth 100000
def tfs (t : Nat) (s : Nat → Int32) : List QV := [.inr (some (t, 1)), .inr (some (t, 2)), .inr (some (t, 3)), .inr (some (t, 4)), .inr (some (t, 5)), .inr (some (t, 6)), .inl (s 54), .inl (s 55), .inl (s 56), .inl (s 72), .inl (s 73), .inl (s 74), .inl (s 75), .inl (s 76)]
def rcell (s : Nat → Int32) (r : Nat) : QE := .inl (2, [.inl (s (5 * r)), .inl (nI r), .inl (s (5 * r + 1)), .inl (s (5 * r + 2)), .inl (s (5 * r + 3)), .inl (s (5 * r + 4))])
def gcell (s : Nat → Int32) (g : Nat) : QE := .inl (3, [.inl (s (50 + 2 * g)), .inl (s (50 + 2 * g + 1))])
def rrow (t : Nat) (s : Nat → Int32) : Nat → QR := fun r => if r < 10 ∧ ¬ s (5 * r) = -2 then some (t, 10 + r) else none
def grow (t : Nat) : Nat → QR := fun g => if g < 2 then some (t, 20 + g) else none
def crow (s : Nat → Int32) (a n : Nat) : Nat → Int32 := fun i => if i < n then s (a + i) else 0
def tcell (t : Nat) (s L : Nat → Int32) (G : Nat → Option (Bool × QE)) (k : Nat) : Option (Bool × QE) :=
  if k = 0 then some (true, .inl (1, tfs t s)) else if k = 1 then some (true, .inr (.inr (.inl (3, 10, rrow t s)))) else if k = 2 then some (true, .inr (.inr (.inl (4, 2, grow t)))) else
  if k = 3 then some (true, .inr (.inl (0, 5, L))) else if k = 4 then some (true, .inr (.inl (0, 5, crow s 62 5))) else if k = 5 then some (true, .inr (.inl (0, 5, crow s 67 5))) else if k = 6 then some (true, .inr (.inl (0, 30, crow s 78 30))) else
  if 10 ≤ k ∧ k < 20 then (if s (5 * (k - 10)) = -2 then G (k - 10) else some (true, rcell s (k - 10))) else if 20 ≤ k ∧ k < 22 then some (true, gcell s (k - 20)) else none
/-- the memory with a tour at id t -/
def tM (M : QM) (t : Nat) (s L : Nat → Int32) (G : Nat → Option (Bool × QE)) : QM := (M.1, fun q => if q.1 = t then tcell t s L G q.2 else M.2 q)
section X2
variable {M : QM} {t : Nat} {s L : Nat → Int32} {G : Nat → Option (Bool × QE)} {r g b : Nat} {x : Int32}
theorem crow_c {s s' : Nat → Int32} {a n : Nat} (h : ∀ i, i < n → s' (a + i) = s (a + i)) : crow s' a n = crow s a n := by
  funext i
  unfold crow
  by_cases g : i < n
  · rw [if_pos g, if_pos g, h i g]
  · rw [if_neg g, if_neg g]
theorem crow_up {s : Nat → Int32} {a n j : Nat} {x : Int32} (h : j < n) : qupd (crow s a n) j x = crow (qupd s (a + j) x) a n := by
  funext i
  unfold crow
  by_cases g : i = j
  · subst g
    rw [qupd_at, if_pos h, qupd_at]
  · rw [qupd_ne _ _ g, qupd_ne _ _ (by omega)]
theorem tcell_c {s s' L L' : Nat → Int32} {G G' : Nat → Option (Bool × QE)} {j : Nat} (h0 : j = 0 → ∀ i, (54 ≤ i ∧ i ≤ 56 ∨ 72 ≤ i ∧ i ≤ 76) → s' i = s i) (h1 : j = 1 → ∀ r, r < 10 → (s' (5 * r) = -2 ↔ s (5 * r) = -2)) (h3 : j = 3 → L' = L) (h4 : j = 4 → ∀ b, b < 5 → s' (62 + b) = s (62 + b)) (h5 : j = 5 → ∀ b, b < 5 → s' (67 + b) = s (67 + b)) (h6 : j = 6 → ∀ b, b < 30 → s' (78 + b) = s (78 + b))
    (hr : ∀ r, r < 10 → j = 10 + r → (if s' (5 * r) = -2 then G' r else some (true, rcell s' r)) = if s (5 * r) = -2 then G r else some (true, rcell s r)) (hg : ∀ g, g < 2 → j = 20 + g → ∀ c, c < 2 → s' (50 + 2 * g + c) = s (50 + 2 * g + c)) : tcell t s' L' G' j = tcell t s L G j := by
  unfold tcell
  by_cases c0 : j = 0
  · have h := h0 c0
    rw [if_pos c0, if_pos c0]
    unfold tfs
    rw [h 54 (by omega), h 55 (by omega), h 56 (by omega), h 72 (by omega), h 73 (by omega), h 74 (by omega), h 75 (by omega), h 76 (by omega)]
  rw [if_neg c0, if_neg c0]
  by_cases c1 : j = 1
  · rw [if_pos c1, if_pos c1]
    congr 7
    funext r
    unfold rrow
    by_cases g : r < 10
    · have h := h1 c1 r g
      by_cases g1 : s (5 * r) = -2
      · rw [if_neg (fun y => y.2 (h.mpr g1)), if_neg (fun y => y.2 g1)]
      · rw [if_pos ⟨g, fun y => g1 (h.mp y)⟩, if_pos ⟨g, g1⟩]
    · rw [if_neg (fun y => g y.1), if_neg (fun y => g y.1)]
  rw [if_neg c1, if_neg c1]
  by_cases c2 : j = 2
  · rw [if_pos c2, if_pos c2]
  rw [if_neg c2, if_neg c2]
  by_cases c3 : j = 3
  · rw [if_pos c3, if_pos c3, h3 c3]
  rw [if_neg c3, if_neg c3]
  by_cases c4 : j = 4
  · rw [if_pos c4, if_pos c4, crow_c (h4 c4)]
  rw [if_neg c4, if_neg c4]
  by_cases c5 : j = 5
  · rw [if_pos c5, if_pos c5, crow_c (h5 c5)]
  rw [if_neg c5, if_neg c5]
  by_cases c6 : j = 6
  · rw [if_pos c6, if_pos c6, crow_c (h6 c6)]
  rw [if_neg c6, if_neg c6]
  by_cases c7 : 10 ≤ j ∧ j < 20
  · rw [if_pos c7, if_pos c7]
    exact hr (j - 10) (by omega) (by omega)
  rw [if_neg c7, if_neg c7]
  by_cases c8 : 20 ≤ j ∧ j < 22
  · rw [if_pos c8, if_pos c8]
    unfold gcell
    have h := hg (j - 20) (by omega) (by omega)
    rw [show 50 + 2 * (j - 20) = 50 + 2 * (j - 20) + 0 from rfl, h 0 (by omega), h 1 (by omega)]
  rw [if_neg c8, if_neg c8]
theorem tM_at (k : Nat) : (tM M t s L G).2 (t, k) = tcell t s L G k := by
  unfold tM
  dsimp only
  rw [if_pos rfl]
theorem tM_ne {q : QN} (h : q.1 ≠ t) : (tM M t s L G).2 q = M.2 q := by
  unfold tM
  dsimp only
  rw [if_neg h]
theorem tM_1 : (tM M t s L G).1 = M.1 := rfl
theorem tM_c0 : (tM M t s L G).2 (t, 0) = some (true, .inl (1, tfs t s)) := tM_at 0
theorem tM_c1 : (tM M t s L G).2 (t, 1) = some (true, .inr (.inr (.inl (3, 10, rrow t s)))) := tM_at 1
theorem tM_c2 : (tM M t s L G).2 (t, 2) = some (true, .inr (.inr (.inl (4, 2, grow t)))) := tM_at 2
theorem tM_c3 : (tM M t s L G).2 (t, 3) = some (true, .inr (.inl (0, 5, L))) := tM_at 3
theorem tM_c4 : (tM M t s L G).2 (t, 4) = some (true, .inr (.inl (0, 5, crow s 62 5))) := tM_at 4
theorem tM_c5 : (tM M t s L G).2 (t, 5) = some (true, .inr (.inl (0, 5, crow s 67 5))) := tM_at 5
theorem tM_c6 : (tM M t s L G).2 (t, 6) = some (true, .inr (.inl (0, 30, crow s 78 30))) := tM_at 6
theorem tcell_r {s L : Nat → Int32} {G : Nat → Option (Bool × QE)} {r : Nat} (hr : r < 10) : tcell t s L G (10 + r) = if s (5 * r) = -2 then G r else some (true, rcell s r) := by
  unfold tcell
  rw [if_neg (by omega), if_neg (by omega), if_neg (by omega), if_neg (by omega), if_neg (by omega), if_neg (by omega), if_neg (by omega), if_pos (by omega), show 10 + r - 10 = r by omega]
theorem tcell_g {s L : Nat → Int32} {G : Nat → Option (Bool × QE)} {g : Nat} (hg : g < 2) : tcell t s L G (20 + g) = some (true, gcell s g) := by
  unfold tcell
  rw [if_neg (by omega), if_neg (by omega), if_neg (by omega), if_neg (by omega), if_neg (by omega), if_neg (by omega), if_neg (by omega), if_neg (by omega), if_pos (by omega), show 20 + g - 20 = g by omega]
theorem tM_cr (hr : r < 10) (h : ¬ s (5 * r) = -2) : (tM M t s L G).2 (t, 10 + r) = some (true, rcell s r) := by
  rw [tM_at, tcell_r hr, if_neg h]
theorem tM_cg (hg : g < 2) : (tM M t s L G).2 (t, 20 + g) = some (true, gcell s g) := by
  rw [tM_at, tcell_g hg]
theorem tM_qup {k : Nat} {e : QE} {s' L' : Nat → Int32} {G' : Nat → Option (Bool × QE)} (h1 : tcell t s' L' G' k = some (true, e)) (h2 : ∀ j, j ≠ k → tcell t s' L' G' j = tcell t s L G j) : qup (tM M t s L G) (t, k) e = tM M t s' L' G' := by
  unfold qup tM
  congr 1
  funext q
  obtain ⟨a, j⟩ := q
  dsimp only
  by_cases g : a = t
  · subst g
    by_cases g1 : j = k
    · subst g1
      rw [if_pos rfl, if_pos rfl, h1]
    · rw [if_neg (fun y => g1 (by cases y; rfl)), if_pos rfl, if_pos rfl, h2 j g1]
  · rw [if_neg (fun y => g (by cases y; rfl)), if_neg g, if_neg g]
theorem tM_rc {β : Type} {y : Option β} : qrc (tM M t s L G) (some (t, 0)) [1] y = y := by
  simp only [qrc, tM_c0]
  rfl
theorem tM_rcr {β : Type} {y : Option β} {cis : List Nat} (hr : r < 10) (h : ¬ s (5 * r) = -2) (hc : cis.contains 2 = true) : qrc (tM M t s L G) (some (t, 10 + r)) cis y = y := by
  simp only [qrc, tM_cr hr h, rcell]
  rw [if_pos hc]
theorem tM_rcg {β : Type} {y : Option β} {cis : List Nat} (hg : g < 2) (hc : cis.contains 3 = true) : qrc (tM M t s L G) (some (t, 20 + g)) cis y = y := by
  simp only [qrc, tM_cg hg, gcell]
  rw [if_pos hc]

theorem tM_gR0 : gR (tM M t s L G) (some (t, 0)) [(1, 0)] = some (some (t, 1)) := by simp only [gR, qfld, tM_c0]; rfl
theorem tM_gR1 : gR (tM M t s L G) (some (t, 0)) [(1, 1)] = some (some (t, 2)) := by simp only [gR, qfld, tM_c0]; rfl
theorem tM_gR2 : gR (tM M t s L G) (some (t, 0)) [(1, 2)] = some (some (t, 3)) := by simp only [gR, qfld, tM_c0]; rfl
theorem tM_gR3 : gR (tM M t s L G) (some (t, 0)) [(1, 3)] = some (some (t, 4)) := by simp only [gR, qfld, tM_c0]; rfl
theorem tM_gR4 : gR (tM M t s L G) (some (t, 0)) [(1, 4)] = some (some (t, 5)) := by simp only [gR, qfld, tM_c0]; rfl
theorem tM_gR5 : gR (tM M t s L G) (some (t, 0)) [(1, 5)] = some (some (t, 6)) := by simp only [gR, qfld, tM_c0]; rfl
theorem tM_gI6 : gI (tM M t s L G) (some (t, 0)) [(1, 6)] = some (s 54) := by simp only [gI, qfld, tM_c0]; rfl
theorem tM_gI7 : gI (tM M t s L G) (some (t, 0)) [(1, 7)] = some (s 55) := by simp only [gI, qfld, tM_c0]; rfl
theorem tM_gI8 : gI (tM M t s L G) (some (t, 0)) [(1, 8)] = some (s 56) := by simp only [gI, qfld, tM_c0]; rfl
theorem tM_gI9 : gI (tM M t s L G) (some (t, 0)) [(1, 9)] = some (s 72) := by simp only [gI, qfld, tM_c0]; rfl
theorem tM_gI10 : gI (tM M t s L G) (some (t, 0)) [(1, 10)] = some (s 73) := by simp only [gI, qfld, tM_c0]; rfl
theorem tM_gI11 : gI (tM M t s L G) (some (t, 0)) [(1, 11)] = some (s 74) := by simp only [gI, qfld, tM_c0]; rfl
theorem tM_gI12 : gI (tM M t s L G) (some (t, 0)) [(1, 12)] = some (s 75) := by simp only [gI, qfld, tM_c0]; rfl
theorem tM_gI13 : gI (tM M t s L G) (some (t, 0)) [(1, 13)] = some (s 76) := by simp only [gI, qfld, tM_c0]; rfl
theorem tM_pF6 : pF (tM M t s L G) (some (t, 0)) [(1, 6)] (.inl x) = some (tM M t (qupd s 54 x) L G) := by
  simp only [pF, tM_c0]
  refine congrArg some (tM_qup (k := 0) ?_ fun j hj => tcell_c (fun y => absurd y hj) (fun _ r hr => by rw [qupd_ne _ _ (by omega)]) (fun _ => rfl) (fun _ b hb => qupd_ne _ _ (by omega)) (fun _ b hb => qupd_ne _ _ (by omega)) (fun _ b hb => qupd_ne _ _ (by omega)) (fun r hr _ => ?_) (fun g hg _ c hc => qupd_ne _ _ (by omega)))
  · rfl
  · unfold rcell
    rw [qupd_ne _ _ (by omega), qupd_ne _ _ (by omega), qupd_ne _ _ (by omega), qupd_ne _ _ (by omega), qupd_ne _ _ (by omega)]
theorem tM_pF7 : pF (tM M t s L G) (some (t, 0)) [(1, 7)] (.inl x) = some (tM M t (qupd s 55 x) L G) := by
  simp only [pF, tM_c0]
  refine congrArg some (tM_qup (k := 0) ?_ fun j hj => tcell_c (fun y => absurd y hj) (fun _ r hr => by rw [qupd_ne _ _ (by omega)]) (fun _ => rfl) (fun _ b hb => qupd_ne _ _ (by omega)) (fun _ b hb => qupd_ne _ _ (by omega)) (fun _ b hb => qupd_ne _ _ (by omega)) (fun r hr _ => ?_) (fun g hg _ c hc => qupd_ne _ _ (by omega)))
  · rfl
  · unfold rcell
    rw [qupd_ne _ _ (by omega), qupd_ne _ _ (by omega), qupd_ne _ _ (by omega), qupd_ne _ _ (by omega), qupd_ne _ _ (by omega)]
theorem tM_pF8 : pF (tM M t s L G) (some (t, 0)) [(1, 8)] (.inl x) = some (tM M t (qupd s 56 x) L G) := by
  simp only [pF, tM_c0]
  refine congrArg some (tM_qup (k := 0) ?_ fun j hj => tcell_c (fun y => absurd y hj) (fun _ r hr => by rw [qupd_ne _ _ (by omega)]) (fun _ => rfl) (fun _ b hb => qupd_ne _ _ (by omega)) (fun _ b hb => qupd_ne _ _ (by omega)) (fun _ b hb => qupd_ne _ _ (by omega)) (fun r hr _ => ?_) (fun g hg _ c hc => qupd_ne _ _ (by omega)))
  · rfl
  · unfold rcell
    rw [qupd_ne _ _ (by omega), qupd_ne _ _ (by omega), qupd_ne _ _ (by omega), qupd_ne _ _ (by omega), qupd_ne _ _ (by omega)]
theorem tM_pF9 : pF (tM M t s L G) (some (t, 0)) [(1, 9)] (.inl x) = some (tM M t (qupd s 72 x) L G) := by
  simp only [pF, tM_c0]
  refine congrArg some (tM_qup (k := 0) ?_ fun j hj => tcell_c (fun y => absurd y hj) (fun _ r hr => by rw [qupd_ne _ _ (by omega)]) (fun _ => rfl) (fun _ b hb => qupd_ne _ _ (by omega)) (fun _ b hb => qupd_ne _ _ (by omega)) (fun _ b hb => qupd_ne _ _ (by omega)) (fun r hr _ => ?_) (fun g hg _ c hc => qupd_ne _ _ (by omega)))
  · rfl
  · unfold rcell
    rw [qupd_ne _ _ (by omega), qupd_ne _ _ (by omega), qupd_ne _ _ (by omega), qupd_ne _ _ (by omega), qupd_ne _ _ (by omega)]
theorem tM_pF10 : pF (tM M t s L G) (some (t, 0)) [(1, 10)] (.inl x) = some (tM M t (qupd s 73 x) L G) := by
  simp only [pF, tM_c0]
  refine congrArg some (tM_qup (k := 0) ?_ fun j hj => tcell_c (fun y => absurd y hj) (fun _ r hr => by rw [qupd_ne _ _ (by omega)]) (fun _ => rfl) (fun _ b hb => qupd_ne _ _ (by omega)) (fun _ b hb => qupd_ne _ _ (by omega)) (fun _ b hb => qupd_ne _ _ (by omega)) (fun r hr _ => ?_) (fun g hg _ c hc => qupd_ne _ _ (by omega)))
  · rfl
  · unfold rcell
    rw [qupd_ne _ _ (by omega), qupd_ne _ _ (by omega), qupd_ne _ _ (by omega), qupd_ne _ _ (by omega), qupd_ne _ _ (by omega)]
theorem tM_pF11 : pF (tM M t s L G) (some (t, 0)) [(1, 11)] (.inl x) = some (tM M t (qupd s 74 x) L G) := by
  simp only [pF, tM_c0]
  refine congrArg some (tM_qup (k := 0) ?_ fun j hj => tcell_c (fun y => absurd y hj) (fun _ r hr => by rw [qupd_ne _ _ (by omega)]) (fun _ => rfl) (fun _ b hb => qupd_ne _ _ (by omega)) (fun _ b hb => qupd_ne _ _ (by omega)) (fun _ b hb => qupd_ne _ _ (by omega)) (fun r hr _ => ?_) (fun g hg _ c hc => qupd_ne _ _ (by omega)))
  · rfl
  · unfold rcell
    rw [qupd_ne _ _ (by omega), qupd_ne _ _ (by omega), qupd_ne _ _ (by omega), qupd_ne _ _ (by omega), qupd_ne _ _ (by omega)]
theorem tM_pF12 : pF (tM M t s L G) (some (t, 0)) [(1, 12)] (.inl x) = some (tM M t (qupd s 75 x) L G) := by
  simp only [pF, tM_c0]
  refine congrArg some (tM_qup (k := 0) ?_ fun j hj => tcell_c (fun y => absurd y hj) (fun _ r hr => by rw [qupd_ne _ _ (by omega)]) (fun _ => rfl) (fun _ b hb => qupd_ne _ _ (by omega)) (fun _ b hb => qupd_ne _ _ (by omega)) (fun _ b hb => qupd_ne _ _ (by omega)) (fun r hr _ => ?_) (fun g hg _ c hc => qupd_ne _ _ (by omega)))
  · rfl
  · unfold rcell
    rw [qupd_ne _ _ (by omega), qupd_ne _ _ (by omega), qupd_ne _ _ (by omega), qupd_ne _ _ (by omega), qupd_ne _ _ (by omega)]
theorem tM_pF13 : pF (tM M t s L G) (some (t, 0)) [(1, 13)] (.inl x) = some (tM M t (qupd s 76 x) L G) := by
  simp only [pF, tM_c0]
  refine congrArg some (tM_qup (k := 0) ?_ fun j hj => tcell_c (fun y => absurd y hj) (fun _ r hr => by rw [qupd_ne _ _ (by omega)]) (fun _ => rfl) (fun _ b hb => qupd_ne _ _ (by omega)) (fun _ b hb => qupd_ne _ _ (by omega)) (fun _ b hb => qupd_ne _ _ (by omega)) (fun r hr _ => ?_) (fun g hg _ c hc => qupd_ne _ _ (by omega)))
  · rfl
  · unfold rcell
    rw [qupd_ne _ _ (by omega), qupd_ne _ _ (by omega), qupd_ne _ _ (by omega), qupd_ne _ _ (by omega), qupd_ne _ _ (by omega)]
end X2
