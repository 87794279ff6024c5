/-! the model performs a text -/
set_option maxRecDepth 100000
def pall (T : Nat → Int32) (n : Nat) : Nat → Nat → Nat ⊕ List CM
  | 0, _ => .inl 0
  | f + 1, p => match pcmd T n p with
    | .inl e => .inl e
    | .inr (x, p') => if p' < n then (if inR (chr T n p') 44 44 = 0 then .inl p' else match pall T n f (p' + 1) with
        | .inl e => .inl e
        | .inr xs => .inr (x :: xs)) else .inr [x]
/-- a row behind the commands, the fault that stops them or 0, and how many were done -/
def runC (s : Nat → Int32) : List CM → (Nat → Int32) × Int32 × Nat
  | [] => (s, 0, 0)
  | x :: xs => if (stepC s x).1 = 0 then ((runC (stepC s x).2 xs).1, (runC (stepC s x).2 xs).2.1, (runC (stepC s x).2 xs).2.2 + 1) else ((stepC s x).2, (stepC s x).1, 0)
theorem runC_one {s : Nat → Int32} {x : CM} (h : (stepC s x).1 = 0) : runC s [x] = ((stepC s x).2, 0, 1) := by
  unfold runC
  rw [if_pos h]
  rfl
theorem stepC_le (s : Nat → Int32) (x : CM) : (stepC s x).1 = 0 ∨ ¬ 0 ≤ (stepC s x).1 := by
  unfold stepC
  cases h : (actC s x).2 with
  | none =>
    dsimp only
    by_cases h1 : (actC s x).1 = -10000005
    · rw [if_pos h1]; exact Or.inl rfl
    · rw [if_neg h1]; exact Or.inr (actC_neg s x h)
  | some s' => exact Or.inl rfl
theorem runC_le : ∀ (xs : List CM) (s : Nat → Int32), (runC s xs).2.1 = 0 ∨ ¬ 0 ≤ (runC s xs).2.1 := by
  intro xs
  induction xs with
  | nil => intro s; exact Or.inl rfl
  | cons x xs ih =>
    intro s
    unfold runC
    by_cases h : (stepC s x).1 = 0
    · rw [if_pos h]; exact ih _
    · rw [if_neg h]
      rcases stepC_le s x with h1 | h1
      · exact absurd h1 h
      · exact Or.inr h1
theorem Inv.run_ : ∀ (xs : List CM) {s : Nat → Int32}, Inv s → Inv (runC s xs).1 := by
  intro xs
  induction xs with
  | nil => intro s H; exact H
  | cons x xs ih =>
    intro s H
    unfold runC
    by_cases h : (stepC s x).1 = 0
    · rw [if_pos h]; exact ih H.step_
    · rw [if_neg h]; exact H.step_
theorem runC_cnt : ∀ (xs : List CM) (s : Nat → Int32), (runC s xs).2.2 ≤ xs.length := by
  intro xs
  induction xs with
  | nil => intro s; exact Nat.le_refl _
  | cons x xs ih =>
    intro s
    unfold runC
    by_cases h : (stepC s x).1 = 0
    · rw [if_pos h]; exact Nat.succ_le_succ (ih _)
    · rw [if_neg h]; exact Nat.zero_le _
theorem pall_len {T : Nat → Int32} {n : Nat} : ∀ (f p : Nat) (xs : List CM), p ≤ n → pall T n f p = .inr xs → xs.length + p ≤ n ∧ ∀ x ∈ xs, okC x := by
  intro f
  induction f with
  | zero => intro p xs hp h; cases h
  | succ f ih =>
    intro p xs hp h
    unfold pall at h
    have h1 := pcmd_le (T := T) hp
    cases h2 : pcmd T n p with
    | inl e => rw [h2] at h; cases h
    | inr y =>
      obtain ⟨x, p'⟩ := y
      rw [h2] at h h1
      dsimp only at h h1
      by_cases h3 : p' < n
      · rw [if_pos h3] at h
        by_cases h4 : inR (chr T n p') 44 44 = 0
        · rw [if_pos h4] at h; cases h
        · rw [if_neg h4] at h
          cases h5 : pall T n f (p' + 1) with
          | inl e => rw [h5] at h; cases h
          | inr ys =>
            rw [h5] at h
            cases h
            obtain ⟨g1, g2⟩ := ih (p' + 1) ys (by omega) h5
            refine ⟨by simp only [List.length_cons]; omega, fun z hz => ?_⟩
            rcases List.mem_cons.mp hz with rfl | hz
            · exact h1.2.2
            · exact g2 z hz
      · rw [if_neg h3] at h
        cases h
        refine ⟨by simp only [List.length_cons, List.length_nil]; omega, fun z hz => ?_⟩
        rcases List.mem_cons.mp hz with rfl | hz
        · exact h1.2.2
        · cases hz
section M12
variable {M : QM} {m : Nat} {A : Nat → Nat → Int32} {F : Nat → Int32} {k : Nat}
abbrev KL : Type := QR → Int32 → Int32 → Int32 → QM → Option (Int32 × QM)
theorem l5_tail_w (kL : KL) (x c v : Int32) (h11 : F 11 = 1) : f_X5_go_40 kL (some (m, 0)) x c (some (m, 0)) v (mM M m A F) = kL (some (m, 0)) x (c + if v = 0 then 1 else 0) 0 (mM M m A (qupd F 15 v)) := by
  unfold f_X5_go_40 f_X5_go_56 f_X5_go_88
  simp (disch := omega) only [mM_pF15, mM_gI15, mM_gI11, obs, oms, qupd_at, qupd_ne, h11, show ¬ (1 : Int32) = 0 by decide, if_false, if_true]
theorem l5_tail_f (kL : KL) (x c v : Int32) (h11 : F 11 = 0) (hv : ¬ v = 0) : f_X5_go_40 kL (some (m, 0)) x c (some (m, 0)) v (mM M m A F) = kL (some (m, 0)) x (c + 0) 0 (mM M m A (qupd F 15 v)) := by
  unfold f_X5_go_40 f_X5_go_56 f_X5_go_88
  simp (disch := omega) only [mM_pF15, mM_gI15, mM_gI11, obs, oms, qupd_at, qupd_ne, h11, hv, if_false, if_true]
theorem l5_tail_e (kL : KL) (x c : Int32) {n p : Nat} (hn : n ≤ 80) (hp : p ≤ n) (h7 : F 7 = nI n) (h10 : F 10 = nI p) (h11 : F 11 = 0) (h : ¬ p < n) : f_X5_go_40 kL (some (m, 0)) x c (some (m, 0)) 0 (mM M m A F) = kL (some (m, 0)) x (c + 1) 0 (mM M m A (qupd F 15 0)) := by
  unfold f_X5_go_40 f_X5_go_56 f_X5_go_88
  simp (disch := omega) only [mM_pF15, mM_gI15, mM_gI11, mM_gI10, mM_gI7, obs, oms, qupd_at, qupd_ne, h7, h10, h11, if_false, if_true, if_pos (nI_le (a := n) (b := p) (by omega) (by omega))]
theorem l5_tail_c (kL : KL) (x c : Int32) {n p : Nat} (hn : n ≤ 80) (h7 : F 7 = nI n) (h10 : F 10 = nI p) (h11 : F 11 = 0) (h : p < n) (hc : ¬ inR (chr (A 5) n p) 44 44 = 0) : f_X5_go_40 kL (some (m, 0)) x c (some (m, 0)) 0 (mM M m A F) = kL (some (m, 0)) x (c + 1) 1 (mM M m A (qupd (qupd (qupd F 15 0) 11 0) 10 (nI (p + 1)))) := by
  unfold f_X5_go_40 f_X5_go_56 f_X5_go_88 f_X5_go_115
  have g := l5_sign (M := M) (m := m) (A := A) (F := qupd F 15 0) hn (Nat.le_of_lt h) (by rw [qupd_ne _ _ (by decide), h7]) (by rw [qupd_ne _ _ (by decide), h10]) (by rw [qupd_ne _ _ (by decide), h11]) 44 44
  rw [if_neg hc] at g
  simp (disch := omega) only [mM_pF15, mM_gI15, mM_gI11, mM_gI10, mM_gI7, obs, oms, qupd_at, qupd_ne, h7, h10, h11, show ¬ (1 : Int32) = 0 by decide, if_false, if_true, if_neg (nI_ge (a := p) (b := n) (by omega) (by omega)), mM_rc, g, qbI]
theorem l5_tail_n (kL : KL) (x c : Int32) {n p : Nat} (hn : n ≤ 80) (h7 : F 7 = nI n) (h10 : F 10 = nI p) (h11 : F 11 = 0) (h : p < n) (hc : inR (chr (A 5) n p) 44 44 = 0) : f_X5_go_40 kL (some (m, 0)) x c (some (m, 0)) 0 (mM M m A F) = kL (some (m, 0)) x (c + 1) 0 (mM M m A (qupd (qupd F 15 0) 11 1)) := by
  unfold f_X5_go_40 f_X5_go_56 f_X5_go_88 f_X5_go_115
  have g := l5_sign (M := M) (m := m) (A := A) (F := qupd F 15 0) hn (Nat.le_of_lt h) (by rw [qupd_ne _ _ (by decide), h7]) (by rw [qupd_ne _ _ (by decide), h10]) (by rw [qupd_ne _ _ (by decide), h11]) 44 44
  rw [if_pos hc] at g
  simp (disch := omega) only [mM_pF15, mM_gI15, mM_gI11, mM_gI10, mM_gI7, obs, oms, qupd_at, qupd_ne, h7, h10, h11, show ¬ (1 : Int32) = 0 by decide, if_false, if_true, if_neg (nI_ge (a := p) (b := n) (by omega) (by omega)), mM_rc, g, qbI]
theorem l5_go_end (f : Nat) (x c : Int32) : f_X5_go_19 (f + 1) (some (m, 0)) x c 0 (mM M m A F) = some (c, mM M m A F) := by
  rw [f_X5_go_19, if_pos rfl]
theorem l5_goL0 {n : Nat} (hn : n ≤ 80) : ∀ (f p : Nat) (c : Int32) (F : Nat → Int32), n + 2 ≤ f + p → p ≤ n → F 7 = nI n → F 10 = nI p → F 11 = 0 → ∃ F' c', f_X5_go_19 f (some (m, 0)) 0 c 1 (mM M m A F) = some (c', mM M m A F') ∧ (∀ i, i < 10 → F' i = F i) ∧ (match pall (A 5) n f p with
    | .inl e => F' 11 = 1 ∧ F' 10 = nI e
    | .inr _ => F' 11 = 0) := by
  intro f
  induction f with
  | zero => intro p c F h1 h2; omega
  | succ f ih =>
    intro p c F h1 hp h7 h10 h11
    rw [f_X5_go_19, if_neg (by decide)]
    unfold pall
    obtain ⟨F1, e1, e2⟩ := l5_read (M := M) (m := m) (A := A) hn hp h7 h10 h11
    have h3 := pcmd_le (T := A 5) hp
    simp only [mM_rc, e1, obs, oms, if_true]
    obtain ⟨f, rfl⟩ : ∃ g, f = g + 1 := ⟨f - 1, by omega⟩
    cases h2 : pcmd (A 5) n p with
    | inl e =>
      rw [h2] at e2
      dsimp only at e2 ⊢
      rw [l5_tail_w _ _ _ _ e2.2.2, l5_go_end]
      exact ⟨_, _, rfl, fun i hi => by rw [qupd_ne _ _ (by omega)]; exact e2.1 i (Or.inl hi), by rw [qupd_ne _ _ (by decide)]; exact e2.2.2, by rw [qupd_ne _ _ (by decide)]; exact e2.2.1⟩
    | inr y =>
      obtain ⟨x, p'⟩ := y
      rw [h2] at e2 h3
      dsimp only at e2 h3 ⊢
      obtain ⟨e2, -⟩ := e2
      have h7' : F1 7 = nI n := by rw [e2.1 7 (by omega), h7]
      by_cases h4 : p' < n
      · rw [if_pos h4]
        by_cases h5 : inR (chr (A 5) n p') 44 44 = 0
        · rw [if_pos h5, l5_tail_n _ _ _ hn h7' e2.2.1 e2.2.2 h4 h5, l5_go_end]
          exact ⟨_, _, rfl, fun i hi => by rw [qupd_ne _ _ (by omega), qupd_ne _ _ (by omega)]; exact e2.1 i (Or.inl hi), qupd_at _ _ _, by rw [qupd_ne _ _ (by decide), qupd_ne _ _ (by decide)]; exact e2.2.1⟩
        · rw [if_neg h5, l5_tail_c _ _ _ hn h7' e2.2.1 e2.2.2 h4 h5]
          obtain ⟨F2, c2, g1, g2, g3⟩ := ih (p' + 1) (c + 1) (qupd (qupd (qupd F1 15 0) 11 0) 10 (nI (p' + 1))) (by omega) (by omega) (by rw [qupd_ne _ _ (by decide), qupd_ne _ _ (by decide), qupd_ne _ _ (by decide), h7']) (qupd_at _ _ _) (by rw [qupd_ne _ _ (by decide), qupd_at])
          refine ⟨F2, c2, g1, fun i hi => ?_, ?_⟩
          · rw [g2 i hi, qupd_ne _ _ (by omega), qupd_ne _ _ (by omega), qupd_ne _ _ (by omega)]; exact e2.1 i (Or.inl hi)
          · cases h6 : pall (A 5) n (f + 1) (p' + 1) with
            | inl e => rw [h6] at g3; exact g3
            | inr xs => rw [h6] at g3; exact g3
      · rw [if_neg h4, l5_tail_e _ _ _ hn h3.2.1 h7' e2.2.1 e2.2.2 h4, l5_go_end]
        exact ⟨_, _, rfl, fun i hi => by rw [qupd_ne _ _ (by omega)]; exact e2.1 i (Or.inl hi), by rw [qupd_ne _ _ (by decide)]; exact e2.2.2⟩
theorem l5_goL1 {n : Nat} (hn : n ≤ 80) : ∀ (f p c : Nat) (A : Nat → Nat → Int32) (F : Nat → Int32) (xs : List CM), Inv (A 1) → n + 2 ≤ f + p → p ≤ n → F 7 = nI n → F 10 = nI p → F 11 = 0 → pall (A 5) n f p = .inr xs → ∃ F', f_X5_go_19 f (some (m, 0)) 1 (nI c) 1 (mM M m A F) = some (nI (c + (runC (A 1) xs).2.2), mM M m (qupd A 1 (runC (A 1) xs).1) F') ∧ (∀ i, i < 10 → F' i = F i) ∧ F' 15 = (runC (A 1) xs).2.1 := by
  intro f
  induction f with
  | zero => intro p c A F xs H h1 h2; omega
  | succ f ih =>
    intro p c A F xs H h1 hp h7 h10 h11 hx
    rw [f_X5_go_19, if_neg (by decide)]
    unfold pall at hx
    obtain ⟨F1, e1, e2⟩ := l5_read (M := M) (m := m) (A := A) hn hp h7 h10 h11
    have h3 := pcmd_le (T := A 5) hp
    simp only [mM_rc, e1, obs, oms]
    rw [if_neg (by decide)]
    obtain ⟨f, rfl⟩ : ∃ g, f = g + 1 := ⟨f - 1, by omega⟩
    cases h2 : pcmd (A 5) n p with
    | inl e => rw [h2] at hx; cases hx
    | inr y =>
      obtain ⟨x, p'⟩ := y
      rw [h2] at e2 h3 hx
      dsimp only at e2 h3 hx
      obtain ⟨e2, f12, f13, f14⟩ := e2
      have h7' : F1 7 = nI n := by rw [e2.1 7 (by omega), h7]
      simp only [l5_does H x f12 f13 f14 h3.2.2, mM_rc, qbI, obs, oms]
      by_cases hs : (stepC (A 1) x).1 = 0
      · rw [hs]
        by_cases h4 : p' < n
        · rw [if_pos h4] at hx
          by_cases h5 : inR (chr (A 5) n p') 44 44 = 0
          · rw [if_pos h5] at hx; cases hx
          · rw [if_neg h5] at hx
            rw [l5_tail_c (A := qupd A 1 (stepC (A 1) x).2) _ _ _ hn h7' e2.2.1 e2.2.2 h4 (by rw [qupd_ne _ _ (by decide)]; exact h5)]
            cases h6 : pall (A 5) n (f + 1) (p' + 1) with
            | inl e => rw [h6] at hx; cases hx
            | inr ys =>
              rw [h6] at hx
              cases hx
              obtain ⟨F2, g1, g2, g3⟩ := ih (p' + 1) (c + 1) (qupd A 1 (stepC (A 1) x).2) (qupd (qupd (qupd F1 15 0) 11 0) 10 (nI (p' + 1))) ys (by rw [qupd_at]; exact H.step_) (by omega) (by omega) (by rw [qupd_ne _ _ (by decide), qupd_ne _ _ (by decide), qupd_ne _ _ (by decide), h7']) (qupd_at _ _ _) (by rw [qupd_ne _ _ (by decide), qupd_at]) (by rw [qupd_ne _ _ (by decide)]; exact h6)
              rw [qupd_at, qupd_qupd] at g1
              rw [qupd_at] at g3
              refine ⟨F2, ?_, fun i hi => ?_, ?_⟩
              · rw [nI_1, g1]
                conv => rhs; unfold runC
                rw [if_pos hs]
                dsimp only
                rw [show c + ((runC (stepC (A 1) x).2 ys).2.2 + 1) = c + 1 + (runC (stepC (A 1) x).2 ys).2.2 from by omega]
              · rw [g2 i hi, qupd_ne _ _ (by omega), qupd_ne _ _ (by omega), qupd_ne _ _ (by omega)]; exact e2.1 i (Or.inl hi)
              · rw [g3]
                conv => rhs; unfold runC
                rw [if_pos hs]
        · rw [if_neg h4] at hx
          cases hx
          rw [l5_tail_e _ _ _ hn h3.2.1 h7' e2.2.1 e2.2.2 h4, l5_go_end]
          rw [runC_one hs]
          refine ⟨qupd F1 15 0, by rw [nI_1], fun i hi => by rw [qupd_ne _ _ (by omega)]; exact e2.1 i (Or.inl hi), qupd_at _ _ _⟩
      · rw [l5_tail_f _ _ _ _ e2.2.2 hs, l5_go_end, Int32.add_zero]
        obtain ⟨ys, rfl⟩ : ∃ ys, xs = x :: ys := by
          by_cases h4 : p' < n
          · rw [if_pos h4] at hx
            by_cases h5 : inR (chr (A 5) n p') 44 44 = 0
            · rw [if_pos h5] at hx; cases hx
            · rw [if_neg h5] at hx
              cases h6 : pall (A 5) n (f + 1) (p' + 1) with
              | inl e => rw [h6] at hx; cases hx
              | inr ys => rw [h6] at hx; cases hx; exact ⟨ys, rfl⟩
          · rw [if_neg h4] at hx; cases hx; exact ⟨[], rfl⟩
        unfold runC
        rw [if_neg hs]
        exact ⟨_, rfl, fun i hi => by rw [qupd_ne _ _ (by omega)]; exact e2.1 i (Or.inl hi), qupd_at _ _ _⟩
/-- what perform() answers and does: (answer, row behind or none, count, fault) -/
def perfR (s : Nat → Int32) (T : Nat → Int32) (n : Nat) : Int32 × Option (Nat → Int32) × Option (Int32 × Int32) := match pall T n 82 0 with
  | .inl e => (-10000200 - nI e, none, none)
  | .inr xs => if (runC s xs).2.1 = 0 then (nI (runC s xs).2.2, some (runC s xs).1, none) else (-10000004, none, some (nI (runC s xs).2.2, (runC s xs).2.1))
end M12
