/-! a new tour's cells -/
set_option maxRecDepth 100000
abbrev CF : Type := Nat → Option (Bool × QE)
def cM (M : QM) (t : Nat) (c : CF) : QM := (M.1, fun q => if q.1 = t then c q.2 else M.2 q)
def arr0 (k : Nat) : QE := if k = 1 then .inr (.inr (.inl (3, 10, fun _ => none))) else if k = 2 then .inr (.inr (.inl (4, 2, fun _ => none))) else if k = 6 then .inr (.inl (0, 30, fun _ => 0)) else .inr (.inl (0, 5, fun _ => 0))
def aC (fs : List QV) (j : Nat) : CF := fun k => if k = 0 then some (true, .inl (1, fs)) else if k ≤ j then some (true, arr0 k) else none
def sE : RW := fun i => if i < 50 ∧ i % 5 = 0 then -2 else if i = 56 then 4 else 0
def tcJ (t : Nat) (s L : RW) (G : CF) (J : Nat) : CF := fun k => if k = 2 then some (true, .inr (.inr (.inl (4, 2, fun g => if g < J then some (t, 20 + g) else none)))) else if 20 ≤ k ∧ J ≤ k - 20 then none else tcell t s L G k
section X9
variable {M : QM} {t : Nat} {s L : Nat → Int32} {G : Nat → Option (Bool × QE)} {r g b : Nat} {x : Int32} {c : CF} {k : Nat} {e e' : QE}
theorem tM_cM : tM M t s L G = cM M t (tcell t s L G) := rfl
theorem cM_at : (cM M t c).2 (t, k) = c k := by
  unfold cM
  dsimp only
  rw [if_pos rfl]
theorem cM_ne {q : QN} (h : q.1 ≠ t) : (cM M t c).2 q = M.2 q := by
  unfold cM
  dsimp only
  rw [if_neg h]
theorem cM_qup : qup (cM M t c) (t, k) e = cM M t (qupd c k (some (true, e))) := by
  unfold qup cM
  congr 1
  funext q
  obtain ⟨a, j⟩ := q
  dsimp only
  by_cases g : a = t
  · subst g
    by_cases g1 : j = k
    · subst g1
      rw [if_pos rfl, if_pos rfl, qupd_at]
    · rw [if_neg (fun y => g1 (by cases y; rfl)), if_pos rfl, if_pos rfl, qupd_ne _ _ g1]
  · rw [if_neg (fun y => g (by cases y; rfl)), if_neg g, if_neg g]
theorem cM_new (hM : t < M.1) : qnew (cM M t c) (t, k) e = cM M t (qupd c k (some (true, e))) := by
  rw [← cM_qup]
  unfold qnew qup
  rw [if_neg (show ¬ (cM M t c).1 ≤ t from Nat.not_le.mpr hM)]
theorem cM_nO (hM : t < M.1) (h : c k = none) : nO (cM M t c) (t, k) e = some (cM M t (qupd c k (some (true, e)))) := by
  unfold nO
  rw [cM_at, h]
  dsimp only
  rw [cM_new hM]
theorem aC_new {fs : List QV} {j : Nat} (hj : j < 6) : qupd (aC fs j) (j + 1) (some (true, arr0 (j + 1))) = aC fs (j + 1) := by
  funext k
  unfold aC
  by_cases h : k = j + 1
  · rw [h, qupd_at, if_neg (by omega), if_pos (Nat.le_refl _)]
  · rw [qupd_ne _ _ h]
    by_cases h0 : k = 0
    · rw [if_pos h0, if_pos h0]
    · rw [if_neg h0, if_neg h0]
      by_cases h1 : k ≤ j
      · rw [if_pos h1, if_pos (by omega)]
      · rw [if_neg h1, if_neg (by omega)]
theorem aC_fs {fs fs' : List QV} {j : Nat} : qupd (aC fs j) 0 (some (true, .inl (1, fs'))) = aC fs' j := by
  funext k
  unfold aC
  by_cases h : k = 0
  · rw [h, qupd_at, if_pos rfl]
  · rw [qupd_ne _ _ h, if_neg h, if_neg h]
theorem aC_nAi {fs : List QV} {j n : Nat} (hM : t < M.1) (hj : j < 6) (hn : arr0 (j + 1) = .inr (.inl (0, n, fun _ => 0))) (h9 : n ≤ 30) : nAi (cM M t (aC fs j)) (t, j + 1) 0 (nI n) n = some (cM M t (aC fs (j + 1))) := by
  unfold nAi
  rw [nI_clamp (by omega), if_neg (fun y => y.elim (nI_nlt (a := n) (b := 0) (by omega) (by omega)) (by omega)), ← hn]
  rw [cM_nO hM (by unfold aC; rw [if_neg (by omega), if_neg (by omega)]), aC_new hj]
theorem aC_nAr {fs : List QV} {j n kd : Nat} (hM : t < M.1) (hj : j < 6) (hn : arr0 (j + 1) = .inr (.inr (.inl (kd, n, fun _ => none)))) (h9 : n ≤ 30) : nAr (cM M t (aC fs j)) (t, j + 1) kd (nI n) n = some (cM M t (aC fs (j + 1))) := by
  unfold nAr
  rw [nI_clamp (by omega), if_neg (fun y => y.elim (nI_nlt (a := n) (b := 0) (by omega) (by omega)) (by omega)), ← hn]
  rw [cM_nO hM (by unfold aC; rw [if_neg (by omega), if_neg (by omega)]), aC_new hj]
theorem aC_pF {fs : List QV} {j k : Nat} {v : QV} (hk : k < fs.length) : pF (cM M t (aC fs j)) (some (t, 0)) [(1, k)] v = some (cM M t (aC (fs.set k v) j)) := by
  rw [pF_of (N := cM M t (aC fs j)) (ci := 1) (fs := fs) (by rw [cM_at]; rfl) (show List.lookup 1 [(1, k)] = some k from rfl) hk, cM_qup, aC_fs]
theorem tcJ_2 : tcJ t s L G 2 = tcell t s L G := by
  funext k
  unfold tcJ
  by_cases h : k = 2
  · subst h
    rw [if_pos rfl]
    rfl
  · rw [if_neg h]
    by_cases h1 : 20 ≤ k ∧ 2 ≤ k - 20
    · rw [if_pos h1]
      unfold tcell
      rw [if_neg (by omega), if_neg (by omega), if_neg (by omega), if_neg (by omega), if_neg (by omega), if_neg (by omega), if_neg (by omega), if_neg (by omega), if_neg (by omega)]
    · rw [if_neg h1]
theorem tcJ_c {s' L' : RW} {G' : CF} {J : Nat} (h : tcell t s' L' G' k = tcell t s L G k) : tcJ t s' L' G' J k = tcJ t s L G J k := by
  unfold tcJ
  rw [h]
theorem sE_r {r : Nat} (hr : r < 10) : sE (5 * r) = -2 := by
  unfold sE
  rw [if_pos (by omega)]
theorem crow_0 {s : RW} {a n : Nat} (h : ∀ i, i < n → s (a + i) = 0) : crow s a n = fun _ => 0 := by
  funext i
  unfold crow
  by_cases g : i < n
  · rw [if_pos g, h i g]
  · rw [if_neg g]
theorem sE_0 {i : Nat} (h : 50 ≤ i) (h1 : i ≠ 56) : sE i = 0 := by
  unfold sE
  rw [if_neg (by omega), if_neg h1]
theorem aC_tcJ : aC (tfs t sE) 6 = tcJ t sE (fun _ => 0) (fun _ => none) 0 := by
  funext k
  unfold aC tcJ tcell
  by_cases h0 : k = 0
  · rw [if_pos h0, if_neg (by omega), if_neg (by omega), if_pos h0]
  rw [if_neg h0]
  by_cases h6 : k ≤ 6
  · rw [if_pos h6]
    unfold arr0
    rcases (show k = 1 ∨ k = 2 ∨ k = 3 ∨ k = 4 ∨ k = 5 ∨ k = 6 by omega) with rfl | rfl | rfl | rfl | rfl | rfl
    · show some (true, _) = some (true, _)
      have : rrow t sE = fun _ => none := by
        funext r
        unfold rrow
        by_cases g : r < 10
        · rw [if_neg (fun y => y.2 (sE_r g))]
        · rw [if_neg (fun y => g y.1)]
      rw [this]; rfl
    · show some (true, _) = some (true, _)
      congr 7
    · rfl
    · show some (true, _) = some (true, _)
      rw [crow_0 (fun i hi => sE_0 (by omega) (by omega))]; rfl
    · show some (true, _) = some (true, _)
      rw [crow_0 (fun i hi => sE_0 (by omega) (by omega))]; rfl
    · show some (true, _) = some (true, _)
      rw [crow_0 (fun i hi => sE_0 (by omega) (by omega))]; rfl
  · rw [if_neg h6, if_neg (by omega)]
    by_cases h2 : 20 ≤ k ∧ 0 ≤ k - 20
    · rw [if_pos h2]
    · rw [if_neg h2, if_neg h0, if_neg (by omega), if_neg (by omega), if_neg (by omega), if_neg (by omega), if_neg (by omega), if_neg (by omega)]
      by_cases h3 : 10 ≤ k ∧ k < 20
      · rw [if_pos h3, if_pos (sE_r (by omega))]
      · rw [if_neg h3, if_neg (by omega)]
end X9
