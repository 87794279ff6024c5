/-! the model's start -/
set_option maxRecDepth 100000
def row0 : RW := fun i => if i < 50 then (if i % 5 = 0 then -10000005 else if i % 5 = 1 then nI (8 + i / 5) else 0) else if i = 50 ∨ i = 52 then -10000005 else if i = 51 ∨ i = 53 then 60 else if i = 56 then 4 else 0
def rowA (n : Nat) : RW := fun i => if i < n then row0 i else 0
theorem row0_0 {j : Nat} (h : j < 10) : row0 (5 * j) = -10000005 := by
  unfold row0
  rw [if_pos (by omega), if_pos (by omega)]
theorem row0_1 {j : Nat} (h : j < 10) : row0 (5 * j + 1) = nI (8 + j) := by
  unfold row0
  rw [if_pos (by omega), if_neg (by omega), if_pos (by omega), show (5 * j + 1) / 5 = j by omega]
theorem row0_2 {i : Nat} (h : i < 50) (h0 : ¬ i % 5 = 0) (h1 : ¬ i % 5 = 1) : row0 i = 0 := by
  unfold row0
  rw [if_pos h, if_neg h0, if_neg h1]
theorem rowA_r {j : Nat} (h : j < 10) : qupd (qupd (rowA (5 * j)) (5 * j) (-10000005)) (5 * j + 1) (nI (8 + j)) = rowA (5 * (j + 1)) := by
  funext i
  unfold rowA
  by_cases h1 : i = 5 * j + 1
  · rw [h1, qupd_at, if_pos (by omega), row0_1 h]
  · rw [qupd_ne _ _ h1]
    by_cases h0 : i = 5 * j
    · rw [h0, qupd_at, if_pos (by omega), row0_0 h]
    · rw [qupd_ne _ _ h0]
      by_cases h2 : i < 5 * j
      · rw [if_pos h2, if_pos (by omega)]
      · rw [if_neg h2]
        by_cases h3 : i < 5 * (j + 1)
        · rw [if_pos h3, row0_2 (by omega) (by omega) (by omega)]
        · rw [if_neg h3]
theorem rowA_g {j : Nat} (h : j < 2) : qupd (qupd (rowA (50 + 2 * j)) (50 + 2 * j) (-10000005)) (50 + 2 * j + 1) 60 = rowA (50 + 2 * (j + 1)) := by
  funext i
  unfold rowA
  by_cases h1 : i = 50 + 2 * j + 1
  · rw [h1, qupd_at, if_pos (by omega)]
    unfold row0
    rw [if_neg (by omega), if_neg (by omega), if_pos (by omega)]
  · rw [qupd_ne _ _ h1]
    by_cases h0 : i = 50 + 2 * j
    · rw [h0, qupd_at, if_pos (by omega)]
      unfold row0
      rw [if_neg (by omega), if_pos (by omega)]
    · rw [qupd_ne _ _ h0]
      by_cases h2 : i < 50 + 2 * j
      · rw [if_pos h2, if_pos (by omega)]
      · rw [if_neg h2, if_neg (by omega)]
theorem rowA_p : qupd (rowA 54) 56 4 = row0 := by
  funext i
  unfold rowA
  by_cases h1 : i = 56
  · rw [h1, qupd_at]; decide +kernel
  · rw [qupd_ne _ _ h1]
    by_cases h2 : i < 54
    · rw [if_pos h2]
    · rw [if_neg h2]
      unfold row0
      rw [if_neg (by omega), if_neg (by omega), if_neg (by omega), if_neg h1]
theorem rowA_0 : rowA 0 = fun _ => 0 := by
  funext i
  unfold rowA
  rw [if_neg (by omega)]
theorem row0_I7 : I7 row0 := fun i hi => by
  unfold row0
  rw [if_neg (by omega), if_neg (by omega), if_neg (by omega), if_neg (by omega)]
theorem row0_Inv : Inv row0 := by
  refine ⟨fun r hr => ⟨Or.inl (row0_0 hr), ⟨0, by omega, ?_⟩, Or.inr ⟨8 + r, by omega, by omega, row0_1 hr⟩⟩, fun g hg => ?_, ⟨0, by omega, by decide +kernel⟩, ⟨0, by omega, by decide +kernel, fun b hb => ⟨0, 0, by omega, ?_, ?_, by omega⟩⟩, ⟨4, by omega, by omega, by decide +kernel⟩, by unfold I6; decide +kernel, row0_I7⟩
  · exact row0_2 (by omega) (by omega) (by omega)
  · rcases (show g = 0 ∨ g = 1 by omega) with rfl | rfl
    · exact ⟨Or.inl (by decide +kernel), 60, by omega, by decide +kernel⟩
    · exact ⟨Or.inl (by decide +kernel), 60, by omega, by decide +kernel⟩
  · rcases (show b = 0 ∨ b = 1 ∨ b = 2 ∨ b = 3 ∨ b = 4 by omega) with rfl | rfl | rfl | rfl | rfl <;> decide +kernel
  · rcases (show b = 0 ∨ b = 1 ∨ b = 2 ∨ b = 3 ∨ b = 4 by omega) with rfl | rfl | rfl | rfl | rfl <;> decide +kernel
section M15
variable {M : QM} {m : Nat} {A : Nat → Nat → Int32} {F : Nat → Int32} {z : ZS}
theorem l5_init_99 (bn : Nat) : ∀ n j : Nat, j ≤ 2 → 2 < j + n → ∀ A, A 1 = rowA (50 + 2 * j) → f_X5_init_99 bn n (some (m, 0)) (nI j) (mM M m A F) = some (mM M m (qupd A 1 row0) F) := by
  intro n
  induction n with
  | zero => intro j h1 h2; omega
  | succ n ih =>
    intro j h1 h2 A hA
    rw [f_X5_init_99]
    by_cases hj : j = 2
    · subst hj
      rw [if_pos (by decide +kernel)]
      simp (disch := omega) only [mM_gR0, mM_gR1, mM_gR2, mM_gR4, mM_gR6, mM_gI3, mM_gI5, mM_gI7, mM_gI8, mM_gI9, mM_gI10, mM_gI11, mM_gI12, mM_gI13, mM_gI14, mM_gI15, mM_pF3, mM_pF5, mM_pF7, mM_pF8, mM_pF9, mM_pF10, mM_pF11, mM_pF12, mM_pF13, mM_pF14, mM_pF15, mM_a1, mM_a2, mM_a3, mM_a4, mM_a5, mM_s1, mM_s2, mM_s3, mM_s4, mM_s5, obs, oms, mM_rc, i108_56]
      rw [hA, rowA_p]
    · rw [if_neg (show ¬ (2 : Int32) ≤ nI j from nI_ge (a := j) (b := 2) (by omega) (by decide))]
      simp (disch := omega) only [mM_gR0, mM_gR1, mM_gR2, mM_gR4, mM_gR6, mM_gI3, mM_gI5, mM_gI7, mM_gI8, mM_gI9, mM_gI10, mM_gI11, mM_gI12, mM_gI13, mM_gI14, mM_gI15, mM_pF3, mM_pF5, mM_pF7, mM_pF8, mM_pF9, mM_pF10, mM_pF11, mM_pF12, mM_pF13, mM_pF14, mM_pF15, mM_a1, mM_a2, mM_a3, mM_a4, mM_a5, mM_s1, mM_s2, mM_s3, mM_s4, mM_s5, obs, oms, mM_rc, g50, g50b, ix108, nI_1, qupd_at, qupd_qupd]
      rw [ih (j + 1) (by omega) (by omega) _ (by rw [qupd_at, hA, rowA_g (by omega)]), qupd_qupd]
theorem l5_init_59 (bn : Nat) : ∀ n j : Nat, j ≤ 10 → 10 < j + n → ∀ A, A 1 = rowA (5 * j) → f_X5_init_59 bn n (some (m, 0)) (nI j) (mM M m A F) = some (mM M m (qupd A 1 row0) F) := by
  intro n
  induction n with
  | zero => intro j h1 h2; omega
  | succ n ih =>
    intro j h1 h2 A hA
    rw [f_X5_init_59]
    by_cases hj : j = 10
    · subst hj
      rw [if_pos (by decide +kernel)]
      exact l5_init_99 bn 3 0 (by omega) (by omega) A hA
    · rw [if_neg (show ¬ (10 : Int32) ≤ nI j from nI_ge (a := j) (b := 10) (by omega) (by decide))]
      have h8 : (8 : Int32) + nI j = nI (8 + j) := nI_add 8 j
      simp (disch := omega) only [mM_gR0, mM_gR1, mM_gR2, mM_gR4, mM_gR6, mM_gI3, mM_gI5, mM_gI7, mM_gI8, mM_gI9, mM_gI10, mM_gI11, mM_gI12, mM_gI13, mM_gI14, mM_gI15, mM_pF3, mM_pF5, mM_pF7, mM_pF8, mM_pF9, mM_pF10, mM_pF11, mM_pF12, mM_pF13, mM_pF14, mM_pF15, mM_a1, mM_a2, mM_a3, mM_a4, mM_a5, mM_s1, mM_s2, mM_s3, mM_s4, mM_s5, obs, oms, mM_rc, l5_of0, l5_of1, h8, ix108, nI_1, qupd_at, qupd_qupd]
      rw [ih (j + 1) (by omega) (by omega) _ (by rw [qupd_at, hA, rowA_r (by omega)]), qupd_qupd]
/-- the model's cells, as far as they are made -/
def pM (M : QM) (m j : Nat) (fs : List QV) : QM := (M.1, fun q => if q.1 = m ∧ q.2 ≤ j then some (true, if q.2 = 0 then .inl (4, fs) else .inr (.inl (0, mlen q.2, fun _ => 0))) else M.2 q)
theorem pM_new (h : ∀ k, M.2 (M.1, k) = none) : nO M (M.1, 0) (.inl (4, fs_4)) = some (pM (M.1 + 1, M.2) M.1 0 fs_4) := by
  unfold nO
  rw [h 0]
  dsimp only
  unfold qnew pM
  rw [if_pos (Nat.le_refl _)]
  congr 2
  funext q
  obtain ⟨a, b⟩ := q
  dsimp only
  by_cases g : a = M.1 ∧ b ≤ 0
  · obtain ⟨rfl, g⟩ := g
    obtain rfl : b = 0 := by omega
    simp
  · rw [if_neg g, if_neg (fun y => g (by cases y; exact ⟨rfl, Nat.le_refl _⟩))]
theorem pM_nAi {j n : Nat} {fs : List QV} (hM : m < M.1) (h : M.2 (m, j + 1) = none) (hn : n = mlen (j + 1)) (h9 : n ≤ 432) : nAi (pM M m j fs) (m, j + 1) 0 (nI n) n = some (pM M m (j + 1) fs) := by
  unfold nAi
  rw [if_neg (by rw [nI_clamp (by omega)]; rintro (y | y)
                 · exact absurd y (nI_nlt (a := n) (b := 0) (by omega) (by omega))
                 · omega), nI_clamp (by omega)]
  unfold nO
  have h1 : (pM M m j fs).2 (m, j + 1) = none := by
    unfold pM
    dsimp only
    rw [if_neg (by omega), h]
  rw [h1]
  dsimp only
  unfold qnew
  rw [if_neg (show ¬ (pM M m j fs).1 ≤ m from by unfold pM; dsimp only; omega)]
  congr 1
  unfold pM
  congr 1
  funext q
  obtain ⟨a, b⟩ := q
  dsimp only
  by_cases g : a = m ∧ b = j + 1
  · obtain ⟨rfl, rfl⟩ := g
    rw [if_pos rfl, if_pos ⟨rfl, by omega⟩, if_neg (by omega), hn]
  · rw [if_neg (fun y => g (by cases y; exact ⟨rfl, rfl⟩))]
    by_cases g1 : a = m ∧ b ≤ j
    · rw [if_pos g1, if_pos (show a = m ∧ b ≤ j + 1 from ⟨g1.1, by omega⟩)]
    · rw [if_neg g1, if_neg (by omega)]
theorem pM_pF {j k : Nat} {fs : List QV} {v : QV} (hk : k < fs.length) : pF (pM M m j fs) (some (m, 0)) [(4, k)] v = some (pM M m j (fs.set k v)) := by
  have h1 : (pM M m j fs).2 (m, 0) = some (true, .inl (4, fs)) := by
    unfold pM
    dsimp only
    rw [if_pos ⟨rfl, Nat.zero_le _⟩, if_pos rfl]
  unfold pF
  simp only [h1]
  rw [show List.lookup 4 [(4, k)] = some k from rfl]
  dsimp only
  rw [if_pos hk]
  congr 1
  unfold qup pM
  congr 1
  funext q
  obtain ⟨a, b⟩ := q
  dsimp only
  by_cases g : a = m ∧ b = 0
  · obtain ⟨rfl, rfl⟩ := g
    rw [if_pos rfl, if_pos ⟨rfl, Nat.zero_le _⟩, if_pos rfl]
  · rw [if_neg (fun y => g (by cases y; exact ⟨rfl, rfl⟩))]
    by_cases g1 : a = m ∧ b ≤ j
    · rw [if_pos g1, if_pos g1, if_neg (by omega), if_neg (by omega)]
    · rw [if_neg g1, if_neg g1]
def Fz0 : RW := fun i => if i = 8 ∨ i = 9 then -10000005 else 0
theorem pM_mM : pM M m 5 (mfs m Fz0) = mM M m (fun _ _ => 0) Fz0 := by
  unfold pM mM
  congr 1
  funext q
  obtain ⟨a, b⟩ := q
  dsimp only
  by_cases g : a = m ∧ b ≤ 5
  · rw [if_pos g, if_pos (show a = m ∧ b < 6 from ⟨g.1, by omega⟩)]
    obtain ⟨rfl, g⟩ := g
    rcases (show b = 0 ∨ b = 1 ∨ b = 2 ∨ b = 3 ∨ b = 4 ∨ b = 5 by omega) with rfl | rfl | rfl | rfl | rfl | rfl <;> rfl
  · rw [if_neg g, if_neg (by omega)]
theorem l5_init (hM : m < M.1) (h : ∀ k, M.2 (m, k) = none) : f_X5_init m (some (m, 0)) (pM M m 0 fs_4) = some (mM M m (qupd (fun _ _ => 0) 1 row0) Fz0) := by
  unfold f_X5_init qnn fs_4
  dsimp only
  rw [show (108 : Int32) = nI 108 from rfl, show (432 : Int32) = nI 432 from rfl, show (80 : Int32) = nI 80 from rfl]
  rw [pM_nAi (n := 108) hM (h _) rfl (by decide), obs, pM_pF (show 0 < 16 by decide), obs]
  rw [pM_nAi (n := 108) hM (h _) rfl (by decide), obs, pM_pF (show 1 < 16 by decide), obs]
  rw [pM_nAi (n := 432) hM (h _) rfl (by decide), obs, pM_pF (show 2 < 16 by decide), obs]
  rw [pM_nAi (n := 108) hM (h _) rfl (by decide), obs, pM_pF (show 4 < 16 by decide), obs]
  rw [pM_nAi (n := 80) hM (h _) rfl (by decide), obs, pM_pF (show 6 < 16 by decide), obs]
  rw [pM_pF (show 8 < 16 by decide), obs, pM_pF (show 9 < 16 by decide), obs]
  refine Eq.trans (congrArg (f_X5_init_59 m 11 (some (m, 0)) 0) ?_) (l5_init_59 (M := M) (m := m) (F := Fz0) m 11 0 (by omega) (by omega) (fun _ _ => 0) rowA_0.symm)
  exact pM_mM
end M15
