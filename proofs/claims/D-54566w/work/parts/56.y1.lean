/-! a tour's copy: reels and generators -/
set_option maxRecDepth 100000
/-- the memory holds a tour at t -/
def TS (N : QM) (t : Nat) (s L : RW) (G : CF) : Prop := ∀ k, N.2 (t, k) = tcell t s L G k
theorem TS.eq {N : QM} {t : Nat} {s L : RW} {G : CF} (h : TS N t s L G) : tM N t s L G = N := by
  obtain ⟨a, f⟩ := N
  unfold tM
  congr 1
  funext q
  obtain ⟨u, k⟩ := q
  by_cases g : u = t
  · subst g
    rw [if_pos rfl]; exact (h k).symm
  · rw [if_neg g]
theorem TS.rd {N : QM} {t : Nat} {s L : RW} {G : CF} (h : TS N t s L G) {β : Type} (P : QM → β) {v : β} (e : P (tM N t s L G) = v) : P N = v := by
  rw [h.eq] at e; exact e
theorem TS.cM {M : QM} {t t' : Nat} {s L : RW} {G c : CF} (h : TS M t' s L G) (hn : t' ≠ t) : TS (cM M t c) t' s L G := fun k => by
  rw [cM_ne hn]; exact h k
def sRB (s : RW) (k : Nat) : RW := fun i => if i < 5 * k then s i else sE i
def sGC (s : RW) (k : Nat) : RW := fun i => if i < 50 + 2 * k then s i else sE i
def z0 : RW := fun _ => 0
def gN : CF := fun _ => none
section Y1
variable {M : QM} {t : Nat} {s L : Nat → Int32} {G : Nat → Option (Bool × QE)} {r g b : Nat} {x : Int32} {c : CF} {k : Nat} {e e' : QE}
theorem tJ_0 {J : Nat} : (cM M t (tcJ t s L G J)).2 (t, 0) = some (true, .inl (1, tfs t s)) := cM_at
theorem tJ_1 {J : Nat} : (cM M t (tcJ t s L G J)).2 (t, 1) = some (true, .inr (.inr (.inl (3, 10, rrow t s)))) := cM_at
theorem tJ_2' {J : Nat} : (cM M t (tcJ t s L G J)).2 (t, 2) = some (true, .inr (.inr (.inl (4, 2, fun g => if g < J then some (t, 20 + g) else none)))) := cM_at
theorem tJ_gR0 {J : Nat} : gR (cM M t (tcJ t s L G J)) (some (t, 0)) [(1, 0)] = some (some (t, 1)) := gR_of tJ_0 (k := 0) rfl rfl
theorem tJ_gR1 {J : Nat} : gR (cM M t (tcJ t s L G J)) (some (t, 0)) [(1, 1)] = some (some (t, 2)) := gR_of tJ_0 (k := 1) rfl rfl
theorem cM_sR1 {f : Nat → QR} {v : QR} (hc : c 1 = some (true, .inr (.inr (.inl (3, 10, f))))) (hk : k < 10) (hv : okst (cM M t c) 3 v = true) : sR (cM M t c) (some (t, 1)) (nI k) v = some (cM M t (qupd c 1 (some (true, .inr (.inr (.inl (3, 10, qupd f k v))))))) := by
  have h1 : (cM M t c).2 (t, 1) = _ := cM_at.trans hc
  simp only [sR, h1]
  rw [if_pos hv, ix_nI hk (by decide), Option.map_some, cM_qup]
theorem cM_sR2 {f : Nat → QR} {v : QR} (hc : c 2 = some (true, .inr (.inr (.inl (4, 2, f))))) (hk : k < 2) (hv : okst (cM M t c) 4 v = true) : sR (cM M t c) (some (t, 2)) (nI k) v = some (cM M t (qupd c 2 (some (true, .inr (.inr (.inl (4, 2, qupd f k v))))))) := by
  have h1 : (cM M t c).2 (t, 2) = _ := cM_at.trans hc
  simp only [sR, h1]
  rw [if_pos hv, ix_nI hk (by decide), Option.map_some, cM_qup]
/-- a reel more, at k -/
theorem tcJ_reel {s s' : RW} {J : Nat} (hk : k < 10) (h0 : s (5 * k) = -2) (h1 : ¬ s' (5 * k) = -2) (hs : ∀ i, (i < 5 * k ∨ 5 * k + 5 ≤ i) → s' i = s i) : qupd (qupd (tcJ t s L G J) (10 + k) (some (true, rcell s' k))) 1 (some (true, .inr (.inr (.inl (3, 10, qupd (rrow t s) k (some (t, 10 + k))))))) = tcJ t s' L G J := by
  funext j
  by_cases j1 : j = 1
  · subst j1
    rw [qupd_at]
    show some (true, _) = some (true, _)
    congr 7
    funext r
    unfold rrow
    by_cases g : r = k
    · rw [g, qupd_at, if_pos ⟨hk, h1⟩]
    · rw [qupd_ne _ _ g]
      by_cases g1 : r < 10
      · rw [hs _ (by omega)]
      · rw [if_neg (fun y => g1 y.1), if_neg (fun y => g1 y.1)]
  rw [qupd_ne _ _ j1]
  by_cases j2 : j = 10 + k
  · rw [j2, qupd_at]
    unfold tcJ
    rw [if_neg (by omega), if_neg (by omega), tcell_r hk, if_neg h1]
  rw [qupd_ne _ _ j2]
  refine (tcJ_c (tcell_c (fun _ i hi => hs i (by omega)) (fun y => absurd y j1) (fun _ => rfl) (fun _ b hb => hs _ (by omega)) (fun _ b hb => hs _ (by omega)) (fun _ b hb => hs _ (by omega)) (fun r1 hr1 hj1 => ?_) (fun g hg _ c hc => hs _ (by omega)))).symm
  have hne : r1 ≠ k := fun y => j2 (by rw [hj1, y])
  unfold rcell
  rw [hs _ (by omega), hs _ (by omega), hs _ (by omega), hs _ (by omega), hs _ (by omega)]
/-- no reel at k -/
theorem tcJ_noreel {s s' : RW} {J : Nat} (hk : k < 10) (h0 : s (5 * k) = -2) (h1 : s' (5 * k) = -2) (hs : ∀ i, (i < 5 * k ∨ 5 * k + 5 ≤ i) → s' i = s i) : qupd (tcJ t s L G J) 1 (some (true, .inr (.inr (.inl (3, 10, qupd (rrow t s) k none))))) = tcJ t s' L G J := by
  funext j
  by_cases j1 : j = 1
  · subst j1
    rw [qupd_at]
    show some (true, _) = some (true, _)
    congr 7
    funext r
    unfold rrow
    by_cases g : r = k
    · rw [g, qupd_at, if_neg (fun y => y.2 h1)]
    · rw [qupd_ne _ _ g]
      by_cases g1 : r < 10
      · rw [hs _ (by omega)]
      · rw [if_neg (fun y => g1 y.1), if_neg (fun y => g1 y.1)]
  rw [qupd_ne _ _ j1]
  refine (tcJ_c (tcell_c (fun _ i hi => hs i (by omega)) (fun y => absurd y j1) (fun _ => rfl) (fun _ b hb => hs _ (by omega)) (fun _ b hb => hs _ (by omega)) (fun _ b hb => hs _ (by omega)) (fun r1 hr1 hj1 => ?_) (fun g hg _ c hc => hs _ (by omega)))).symm
  by_cases g : r1 = k
  · rw [g, if_pos h1, if_pos h0]
  · unfold rcell
    rw [hs _ (by omega), hs _ (by omega), hs _ (by omega), hs _ (by omega), hs _ (by omega)]
/-- a generator more, at k -/
theorem tcJ_gen {s s' : RW} (hk : k < 2) (hs : ∀ i, (i < 50 + 2 * k ∨ 50 + 2 * k + 2 ≤ i) → s' i = s i) : qupd (qupd (tcJ t s L G k) (20 + k) (some (true, gcell s' k))) 2 (some (true, .inr (.inr (.inl (4, 2, qupd (fun g => if g < k then some (t, 20 + g) else none) k (some (t, 20 + k))))))) = tcJ t s' L G (k + 1) := by
  funext j
  by_cases j1 : j = 2
  · subst j1
    rw [qupd_at]
    show some (true, _) = some (true, _)
    congr 7
    funext r
    by_cases g : r = k
    · rw [g, qupd_at, if_pos (by omega)]
    · rw [qupd_ne _ _ g]
      by_cases g1 : r < k
      · rw [if_pos g1, if_pos (by omega)]
      · rw [if_neg g1, if_neg (by omega)]
  rw [qupd_ne _ _ j1]
  by_cases j2 : j = 20 + k
  · rw [j2, qupd_at]
    unfold tcJ
    rw [if_neg (by omega), if_neg (by omega), tcell_g hk]
  rw [qupd_ne _ _ j2]
  have e1 : tcell t s' L G j = tcell t s L G j := tcell_c (fun _ i hi => hs i (by omega)) (fun _ r hr => by rw [hs _ (by omega)]) (fun _ => rfl) (fun _ b hb => hs _ (by omega)) (fun _ b hb => hs _ (by omega)) (fun _ b hb => hs _ (by omega)) (fun r1 hr1 hj1 => by
    unfold rcell
    rw [hs _ (by omega), hs _ (by omega), hs _ (by omega), hs _ (by omega), hs _ (by omega)]) (fun g hg hj c hc => hs _ (by omega))
  unfold tcJ
  rw [if_neg j1, if_neg j1, e1]
  by_cases g : 20 ≤ j ∧ k ≤ j - 20
  · rw [if_pos g, if_pos (by omega)]
  · rw [if_neg g, if_neg (by omega)]
theorem sRB_hs {i : Nat} (hi : i < 5 * k ∨ 5 * k + 5 ≤ i) : sRB s (k + 1) i = sRB s k i := by
  unfold sRB
  by_cases h : i < 5 * k
  · rw [if_pos h, if_pos (by omega)]
  · rw [if_neg h, if_neg (by omega)]
theorem sRB_at {i : Nat} (h : i < 5 * (k + 1)) : sRB s (k + 1) i = s i := if_pos h
theorem x1_i57 {t' : Nat} {s0 L0 : RW} {G0 : CF} (hM : t < M.1) (hS : TS M t' s0 L0 G0) (hn : t' ≠ t) : ∀ n k : Nat, k ≤ 10 → 10 < k + n → f_X1_init_2_57 t n (some (t, 0)) (some (t', 0)) (nI k) (cM M t (tcJ t (sRB s0 k) z0 gN 0)) = f_X1_init_2_99 t 3 (some (t, 0)) (some (t', 0)) 0 (cM M t (tcJ t (sRB s0 10) z0 gN 0)) := by
  intro n
  induction n with
  | zero => intro k h1 h2; omega
  | succ n ih =>
    intro k h1 h2
    rw [f_X1_init_2_57]
    by_cases hk : k = 10
    · subst hk
      rw [if_pos (by decide +kernel)]
    · have hk : k < 10 := by omega
      have h3 := hS.cM (c := tcJ t (sRB s0 k) z0 gN 0) hn
      have h0 : sRB s0 k (5 * k) = -2 := by unfold sRB; rw [if_neg (by omega)]; exact sE_r hk
      rw [if_neg (show ¬ (10 : Int32) ≤ nI k from nI_ge (a := k) (b := 10) (by omega) (by decide)), tJ_gR0, obs, h3.rd (fun N => gR N (some (t', 0)) [(1, 0)]) tM_gR0, obs, h3.rd (fun N => aR N (some (t', 1)) (nI k)) (tM_aR1 hk), obs]
      by_cases h4 : s0 (5 * k) = -2
      · rw [if_pos h4, if_pos rfl]
        unfold f_X1_init_2_90
        rw [cM_sR1 (f := rrow t (sRB s0 k)) rfl hk rfl, obs, tcJ_noreel (s' := sRB s0 (k + 1)) hk h0 (by rw [sRB_at (by omega)]; exact h4) (fun i hi => sRB_hs hi), nI_1]
        exact ih (k + 1) (by omega) (by omega)
      · rw [if_neg h4, if_neg (fun y => by cases y), obs, h3.rd (fun N => aR N (some (t', 1)) (nI k)) (tM_aR1 hk), obs, if_neg h4, nI_clamp (by omega)]
        have h5 : (cM M t (tcJ t (sRB s0 k) z0 gN 0)).2 (t', 10 + k) = some (true, rE (s0 (5 * k)) (nI k) (s0 (5 * k + 1)) (s0 (5 * k + 2)) (s0 (5 * k + 3)) (s0 (5 * k + 4))) := h3.rd (fun N => N.2 (t', 10 + k)) (tM_cr hk h4)
        have h6 : tcJ t (sRB s0 k) z0 gN 0 (10 + k) = none := by
          unfold tcJ
          rw [if_neg (by omega), if_neg (by omega), tcell_r hk, if_pos h0]
          rfl
        rw [qrc_of h5 rfl, x3_copy (cM_at.trans h6) h5, cM_new hM]
        unfold qbR
        rw [obs]
        dsimp only
        unfold f_X1_init_2_90
        have e1 : rE (s0 (5 * k)) (nI k) (s0 (5 * k + 1)) (s0 (5 * k + 2)) (s0 (5 * k + 3)) (s0 (5 * k + 4)) = rcell (sRB s0 (k + 1)) k := by
          unfold rcell
          rw [sRB_at (by omega), sRB_at (by omega), sRB_at (by omega), sRB_at (by omega), sRB_at (by omega)]
        rw [e1]
        rw [cM_sR1 (f := rrow t (sRB s0 k)) (by rw [qupd_ne _ _ (by omega)]; rfl) hk (by
          unfold okst
          dsimp only
          rw [cM_at, qupd_at]
          rfl), obs, tcJ_reel (s' := sRB s0 (k + 1)) hk h0 (by rw [sRB_at (by omega)]; exact h4) (fun i hi => sRB_hs hi), nI_1]
        exact ih (k + 1) (by omega) (by omega)
end Y1
