/-! the other side: rows of numbers, refusals -/
set_option maxRecDepth 100000
/-- names of new ids are free -/
def Fr (M : QM) : Prop := ∀ q : QN, M.1 ≤ q.1 → M.2 q = none
def aM (M : QM) (n : Nat) (f : Nat → Int32) : QM := (M.1 + 1, fun q => if q = (M.1, 0) then some (true, .inr (.inl (0, n, f))) else M.2 q)
def pickF (x : Int32) (n : Nat) (f : Nat → Int32) : Int32 := if x < 0 then -10000002 else if nI n ≤ x then -10000002 else f x.toNatClampNeg
section X1
variable {M : QM}
theorem aM_new (hF : Fr M) {n : Nat} (hn : n < 2 ^ 31) : nAi M (M.1, 0) 0 (nI n) n = some (aM M n fun _ => 0) := by
  unfold nAi
  rw [nI_clamp hn, if_neg (fun y => y.elim (nI_nlt (a := n) (b := 0) (by omega) hn) (by omega))]
  unfold nO
  rw [hF (M.1, 0) (Nat.le_refl _)]
  dsimp only
  unfold qnew aM
  rw [if_pos (Nat.le_refl _)]
theorem aM_at {n : Nat} {f : Nat → Int32} : (aM M n f).2 (M.1, 0) = some (true, .inr (.inl (0, n, f))) := by
  unfold aM
  dsimp only
  rw [if_pos rfl]
theorem aM_sI {n : Nat} {f : Nat → Int32} {i : Nat} {x : Int32} (hi : i < n) (hn : n < 2 ^ 31) : sI (aM M n f) (some (M.1, 0)) (nI i) x = some (aM M n (qupd f i x)) := by
  unfold sI
  simp only [aM_at]
  rw [if_pos trivial, ix_nI hi hn, Option.map_some]
  congr 1
  unfold qup aM
  congr 1
  funext q
  dsimp only
  by_cases h : q = (M.1, 0)
  · rw [if_pos h, if_pos h]
  · rw [if_neg h, if_neg h, if_neg h]
theorem aM_pure {n : Nat} {f : Nat → Int32} {v : Int32} (hF : Fr M) : qpure M (aM M n f) v = some v := qpure_some fun q h => by
  unfold aM
  dsimp only
  rw [if_neg (fun y => h (by rw [y]; exact hF _ (Nat.le_refl _)))]
theorem x0_pick {n : Nat} {f : Nat → Int32} {x : Int32} (hn : n < 2 ^ 31) : f_X0_pick x (some (M.1, 0)) (aM M n f) = some (pickF x n f) := by
  unfold f_X0_pick pickF
  by_cases h : x < 0
  · rw [if_pos h, if_pos h]
  · rw [if_neg h, if_neg h]
    simp only [aL, aM_at]
    rw [if_pos (Or.inl trivial), obs, show Int32.ofNat n = nI n from rfl]
    by_cases h1 : nI n ≤ x
    · rw [if_pos h1, if_pos h1]
    · rw [if_neg h1, if_neg h1]
      simp only [aI, aM_at]
      rw [if_pos (Or.inl trivial)]
      unfold ix
      rw [if_neg]
      · rfl
      · rintro (y | y)
        · exact h y
        · apply h1
          have h2 := Int32.not_lt.mp h
          have h3 := Int32.le_iff_toInt_le.mp h2
          rw [Int32.le_iff_toInt_le, nI_toInt hn]
          have h4 : x.toInt = (x.toNatClampNeg : Int) := by
            rw [← Int32.toNat_toInt, Int.toNat_of_nonneg]
            exact h3
          rw [h4]
          omega
theorem x0_inRange (v lo hi : Int32) : f_X0_inRange v lo hi M = some (inR v lo hi) := by
  unfold f_X0_inRange inR
  by_cases h : v < lo
  · rw [if_pos h, if_pos h]
  · rw [if_neg h, if_neg h]
    by_cases h1 : hi < v
    · rw [if_pos h1, if_pos h1]
    · rw [if_neg h1, if_neg h1]
theorem x0_mileOf (hF : Fr M) {j : Nat} (hj : j ≤ 4) : f_X0_mileOf (nI j) M = some (mileF (nI j)) := by
  unfold f_X0_mileOf
  rw [show (5 : Int32) = nI 5 from rfl, aM_new hF (by decide), obs]
  rw [show (0 : Int32) = nI 0 from rfl, aM_sI (by decide) (by decide), obs]
  rw [show (1 : Int32) = nI 1 from rfl, aM_sI (by decide) (by decide), obs]
  rw [show (2 : Int32) = nI 2 from rfl, aM_sI (by decide) (by decide), obs]
  rw [show (3 : Int32) = nI 3 from rfl, aM_sI (by decide) (by decide), obs]
  rw [show (4 : Int32) = nI 4 from rfl, aM_sI (by decide) (by decide), obs]
  rw [x0_pick (by decide), obs, aM_pure hF]
  rcases (show j = 0 ∨ j = 1 ∨ j = 2 ∨ j = 3 ∨ j = 4 by omega) with rfl | rfl | rfl | rfl | rfl <;> congr 1
theorem x0_seatsOf (hF : Fr M) {j : Nat} (hj : j ≤ 4) : f_X0_seatsOf (nI j) M = some (seatsF (nI j)) := by
  unfold f_X0_seatsOf
  rw [show (5 : Int32) = nI 5 from rfl, aM_new hF (by decide), obs]
  rw [show (0 : Int32) = nI 0 from rfl, aM_sI (by decide) (by decide), obs]
  rw [show (1 : Int32) = nI 1 from rfl, aM_sI (by decide) (by decide), obs]
  rw [show (2 : Int32) = nI 2 from rfl, aM_sI (by decide) (by decide), obs]
  rw [show (3 : Int32) = nI 3 from rfl, aM_sI (by decide) (by decide), obs]
  rw [show (4 : Int32) = nI 4 from rfl, aM_sI (by decide) (by decide), obs]
  rw [x0_pick (by decide), obs, aM_pure hF]
  rcases (show j = 0 ∨ j = 1 ∨ j = 2 ∨ j = 3 ∨ j = 4 by omega) with rfl | rfl | rfl | rfl | rfl <;> congr 1
/-- a memory with one more object, at the next free id -/
def xM (M : QM) (e : QE) : QM := (M.1 + 1, fun q => if q = (M.1, 0) then some (true, e) else M.2 q)
theorem xM_at {e : QE} : (xM M e).2 (M.1, 0) = some (true, e) := by
  unfold xM
  dsimp only
  rw [if_pos rfl]
theorem xM_new (hF : Fr M) {e : QE} : nO M (M.1, 0) e = some (xM M e) := by
  unfold nO
  rw [hF (M.1, 0) (Nat.le_refl _)]
  dsimp only
  unfold qnew xM
  rw [if_pos (Nat.le_refl _)]
theorem xM_up {e e' : QE} : qup (xM M e) (M.1, 0) e' = xM M e' := by
  unfold qup xM
  congr 1
  funext q
  dsimp only
  by_cases h : q = (M.1, 0)
  · rw [if_pos h, if_pos h]
  · rw [if_neg h, if_neg h, if_neg h]
theorem x7_init (c : Int32) : f_X7_init (some (M.1, 0)) c (xM M (.inr (.inr (.inr (some (10, fs_10)))))) = some (xM M (.inl (14, [.inl c]))) := by
  unfold f_X7_init qexc
  simp only [xM_at]
  rw [if_pos ⟨trivial, rfl⟩, obs]
  unfold pF
  simp only [xM_up, xM_at]
  rfl
theorem x8_init (c : Int32) : f_X8_init (some (M.1, 0)) c (xM M (.inr (.inr (.inr (some (11, fs_11)))))) = some (xM M (.inl (15, [.inl c]))) := by
  unfold f_X8_init qexc
  simp only [xM_at]
  rw [if_pos ⟨trivial, rfl⟩, obs]
  unfold pF
  simp only [xM_up, xM_at]
  rfl
theorem x0_check (hF : Fr M) (x c : Int32) : f_X0_check x c M = if x = 0 then some (.inr (M.1, 0), xM M (.inl (14, [.inl c]))) else some (.inl (), M) := by
  unfold f_X0_check
  by_cases h : x = 0
  · rw [if_pos h, if_pos h, xM_new hF, obs]
    unfold qnn
    dsimp only
    rw [x7_init, obs]
    unfold qthr
    simp only [xM_at]
  · rw [if_neg h, if_neg h]
end X1
