/-! the model performs; the state stays in its bounds -/
set_option maxRecDepth 100000
section M14
variable {M : QM} {m : Nat} {A : Nat → Nat → Int32} {F : Nat → Int32} {z : ZS}
theorem l5_go_s (x : Int32) : f_X5_go (some (m, 0)) x (mM M m A F) = f_X5_go_19 82 (some (m, 0)) x 0 1 (mM M m A (qupd (qupd (qupd F 10 0) 11 0) 15 0)) := by
  unfold f_X5_go
  simp only [mM_pF10, mM_pF11, mM_pF15, obs, oms, qnfB (Or.inl rfl)]
theorem l5_go0 {n : Nat} (hn : n ≤ 80) (h7 : F 7 = nI n) : ∃ F' c', f_X5_go (some (m, 0)) 0 (mM M m A F) = some (c', mM M m A F') ∧ (∀ i, i < 10 → F' i = F i) ∧ (match pall (A 5) n 82 0 with
    | .inl e => F' 11 = 1 ∧ F' 10 = nI e
    | .inr _ => F' 11 = 0) := by
  rw [l5_go_s]
  obtain ⟨F', c', h1, h2, h3⟩ := l5_goL0 (M := M) (m := m) (A := A) hn 82 0 0 (qupd (qupd (qupd F 10 0) 11 0) 15 0) (by omega) (by omega) (by rw [qupd_ne _ _ (by decide), qupd_ne _ _ (by decide), qupd_ne _ _ (by decide), h7]) (by rw [qupd_ne _ _ (by decide), qupd_ne _ _ (by decide), qupd_at]; rfl) (by rw [qupd_ne _ _ (by decide), qupd_at])
  exact ⟨F', c', h1, fun i hi => by rw [h2 i hi, qupd_ne _ _ (by omega), qupd_ne _ _ (by omega), qupd_ne _ _ (by omega)], h3⟩
theorem l5_go1 {n : Nat} (hn : n ≤ 80) (h7 : F 7 = nI n) (H : Inv (A 1)) {xs : List CM} (hx : pall (A 5) n 82 0 = .inr xs) : ∃ F', f_X5_go (some (m, 0)) 1 (mM M m A F) = some (nI (runC (A 1) xs).2.2, mM M m (qupd A 1 (runC (A 1) xs).1) F') ∧ (∀ i, i < 10 → F' i = F i) ∧ F' 15 = (runC (A 1) xs).2.1 := by
  rw [l5_go_s]
  obtain ⟨F', h1, h2, h3⟩ := l5_goL1 (M := M) (m := m) hn 82 0 0 A (qupd (qupd (qupd F 10 0) 11 0) 15 0) xs H (by omega) (by omega) (by rw [qupd_ne _ _ (by decide), qupd_ne _ _ (by decide), qupd_ne _ _ (by decide), h7]) (by rw [qupd_ne _ _ (by decide), qupd_ne _ _ (by decide), qupd_at]; rfl) (by rw [qupd_ne _ _ (by decide), qupd_at]) hx
  rw [Nat.zero_add] at h1
  exact ⟨F', h1, fun i hi => by rw [h2 i hi, qupd_ne _ _ (by omega), qupd_ne _ _ (by omega), qupd_ne _ _ (by omega)], h3⟩
theorem mZ_perf (hI : ZI z) (H : MZ A F z) : mZ M m (f_X5_perform (some (m, 0)) (mM M m A F)) (zPerf z) := by
  obtain ⟨h1, h2, h3, h4, h5⟩ := hI
  have H' := H
  obtain ⟨a1, a2, a3, a4, a5, a6, a7, a8⟩ := H'
  have i7 := h1.2.2.2.2.2.2
  unfold zPerf f_X5_perform
  obtain ⟨F1, c1, e1, e2, e3⟩ := l5_go0 (M := M) (m := m) (A := A) h5 a6
  simp only [mM_rc, e1, qbI, obs, oms, mM_gI11]
  rw [a5] at e3
  cases hp : pall (zT z) (zn z) 82 0 with
  | inl e =>
    rw [hp] at e3
    dsimp only at e3 ⊢
    simp only [e3.1, e3.2, mM_gI10, obs, oms]
    rw [if_neg (by decide)]
    exact ⟨A, F1, rfl, a1, by rw [e2 3 (by decide)]; exact a2, a3, by rw [e2 5 (by decide)]; exact a4, a5, by rw [e2 7 (by decide)]; exact a6, by rw [e2 8 (by decide)]; exact a7, by rw [e2 9 (by decide)]; exact a8⟩
  | inr xs =>
    rw [hp] at e3
    dsimp only at e3 ⊢
    rw [e3, if_pos rfl]
    simp only [l5_putAside, mM_rc, obs, oms]
    have hp1 : pall (qupd A 2 (ovr (A 1) (A 2) 108) 5) (zn z) 82 0 = .inr xs := by rw [qupd_ne _ _ (by decide), a5]; exact hp
    have h11 : qupd A 2 (ovr (A 1) (A 2) 108) 1 = zs z := by rw [qupd_ne _ _ (by decide)]; exact a1
    obtain ⟨F2, g1, g2, g3⟩ := l5_go1 (M := M) (m := m) (A := qupd A 2 (ovr (A 1) (A 2) 108)) (F := F1) h5 (by rw [e2 7 (by decide)]; exact a6) (by rw [h11]; exact h1) hp1
    rw [h11] at g1 g3
    simp only [g1, obs, oms, l5_putBack, mM_rc, mM_gI15]
    have hb : ovr (qupd (qupd A 2 (ovr (A 1) (A 2) 108)) 1 (runC (zs z) xs).1 2) (qupd (qupd A 2 (ovr (A 1) (A 2) 108)) 1 (runC (zs z) xs).1 1) 108 = zs z := by
      rw [qupd_at, qupd_ne _ _ (by decide), qupd_at]
      exact ovr_all (fun i hi => by unfold ovr; rw [if_pos hi, a1]) (Inv.run_ xs h1).2.2.2.2.2.2 i7
    rw [hb, qupd_qupd]
    have hM : MZ (qupd (qupd A 2 (ovr (A 1) (A 2) 108)) 1 (zs z)) F2 z := by
      refine ⟨qupd_at _ _ _, ?_, fun j hj i hi => ?_, ?_, ?_, ?_, ?_, ?_⟩
      · rw [g2 3 (by decide), e2 3 (by decide)]; exact a2
      · rw [qupd_ne _ _ (by decide), qupd_ne _ _ (by decide)]; exact a3 j hj i hi
      · rw [qupd_ne _ _ (by decide), qupd_ne _ _ (by decide), g2 5 (by decide), e2 5 (by decide)]; exact a4
      · rw [qupd_ne _ _ (by decide), qupd_ne _ _ (by decide)]; exact a5
      · rw [g2 7 (by decide), e2 7 (by decide)]; exact a6
      · rw [g2 8 (by decide), e2 8 (by decide)]; exact a7
      · rw [g2 9 (by decide), e2 9 (by decide)]; exact a8
    generalize qupd (qupd A 2 (ovr (A 1) (A 2) 108)) 1 (zs z) = B at hM
    rw [g3]
    rcases runC_le xs (zs z) with h | h
    · rw [h, if_pos (by decide), if_pos rfl, l5_know h3 hM.2.1]
      have h12 : qupd B 3 (knB (B 3) (B 1) (zk z)) 1 = zs z := by rw [qupd_ne _ _ (by decide)]; exact hM.1
      obtain ⟨F3, k1, k2, k3⟩ := l5_go1 (M := M) (m := m) (A := qupd B 3 (knB (B 3) (B 1) (zk z))) (F := qupd F2 3 (nI (knK (zk z)))) h5 (by rw [qupd_ne _ _ (by decide)]; exact hM.2.2.2.2.2.1) (by rw [h12]; exact h1) (by rw [qupd_ne _ _ (by decide), hM.2.2.2.2.1]; exact hp)
      rw [h12] at k1
      simp only [k1, obs, oms, mM_rc]
      have hN := hM.acc (runC (zs z) xs).1 h3
      refine ⟨_, F3, rfl, hN.1, ?_, hN.2.2.1, ?_, hN.2.2.2.2.1, ?_, ?_, ?_⟩
      · rw [k2 3 (by decide)]; exact hN.2.1
      · rw [k2 5 (by decide)]; exact hN.2.2.2.1
      · rw [k2 7 (by decide)]; exact hN.2.2.2.2.2.1
      · rw [k2 8 (by decide)]; exact hN.2.2.2.2.2.2.1
      · rw [k2 9 (by decide)]; exact hN.2.2.2.2.2.2.2
    · rw [if_neg h, if_neg (fun y => h (by rw [y]; decide))]
      simp (disch := omega) only [mM_pF8, mM_pF9, mM_gI15, obs, oms, qupd_ne]
      refine ⟨_, _, rfl, hM.1, ?_, hM.2.2.1, ?_, hM.2.2.2.2.1, ?_, ?_, ?_⟩
      · rw [qupd_ne _ _ (by decide), qupd_ne _ _ (by decide)]; exact hM.2.1
      · rw [qupd_ne _ _ (by decide), qupd_ne _ _ (by decide)]; exact hM.2.2.2.1
      · rw [qupd_ne _ _ (by decide), qupd_ne _ _ (by decide)]; exact hM.2.2.2.2.2.1
      · rw [qupd_ne _ _ (by decide), qupd_at]; rfl
      · rw [qupd_at]; exact g3
theorem ZI.act (hI : ZI z) {a : AR} (h : ∀ s, a.2 = some s → Inv s) : ZI (zact z a).2 := by
  unfold zact
  cases h9 : a.2 with
  | none => exact hI
  | some s => exact hI.acc (h s h9)
theorem ZI.type_ (hI : ZI z) (c : Int32) : ZI (zType z c).2 := by
  unfold zType
  by_cases h : zn z = 80
  · rw [if_pos h]; exact hI
  · rw [if_neg h]
    have := hI.2.2.2.2
    exact ⟨hI.1, hI.2.1, hI.2.2.1, hI.2.2.2.1, (by omega : zn z + 1 ≤ 80)⟩
theorem ZI.clear_ (hI : ZI z) : ZI (zClear z).2 := ⟨hI.1, hI.2.1, hI.2.2.1, hI.2.2.2.1, Nat.zero_le _⟩
theorem ZI.undo_ (hI : ZI z) : ZI (zUndo z).2 := by
  unfold zUndo
  by_cases h : zk z = 0
  · rw [if_pos h]; exact hI
  · rw [if_neg h]
    have := hI.2.2.1
    exact ⟨hI.2.1 (zk z - 1) (by omega), fun j (hj : j < zk z - 1) => hI.2.1 j (by omega), (by omega : zk z - 1 ≤ 4), hI.2.2.2.1, hI.2.2.2.2⟩
theorem ZI.keep_ (hI : ZI z) : ZI (zKeep z).2 := ⟨hI.1, hI.2.1, hI.2.2.1, fun r hr => by cases hr; exact hI.1, hI.2.2.2.2⟩
theorem ZI.rest_ (hI : ZI z) : ZI (zRest z).2 := by
  unfold zRest
  cases h : zp z with
  | none => exact hI
  | some r => exact hI.act (fun s hs => by cases hs; exact hI.2.2.2.1 r h)
theorem ZI.perf_ (hI : ZI z) : ZI (zPerf z).2 := by
  unfold zPerf
  cases hp : pall (zT z) (zn z) 82 0 with
  | inl e => exact hI
  | inr xs =>
    dsimp only
    by_cases h : (runC (zs z) xs).2.1 = 0
    · rw [if_pos h]; exact hI.acc (Inv.run_ xs hI.1)
    · rw [if_neg h]; exact hI
end M14
