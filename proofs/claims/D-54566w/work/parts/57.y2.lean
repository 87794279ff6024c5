/-! a tour's copy, whole -/
set_option maxRecDepth 100000
abbrev gE (b m : Int32) : QE := .inl (3, [.inl b, .inl m])
theorem x4_copy {N : QM} {q nq : QN} {b mi : Int32} (hn : N.2 nq = none) (h : N.2 q = some (true, gE b mi)) : f_X4_copy nq (some q) N = some (some nq, qnew N nq (gE b mi)) := by
  have hne : q ≠ nq := fun y => by rw [y, hn] at h; cases h
  have h0 : ∀ e, (qnew N nq e).2 nq = some (true, e) := fun e => by unfold qnew; dsimp only; rw [if_pos rfl]
  have h1 : ∀ e, (qnew N nq e).2 q = some (true, gE b mi) := fun e => by unfold qnew; dsimp only; rw [if_neg hne, h]
  have h2 : ∀ e e', qup (qnew N nq e) nq e' = qnew N nq e' := fun e e' => by
    unfold qup qnew
    congr 1
    funext p
    dsimp only
    by_cases g : p = nq
    · rw [if_pos g, if_pos g]
    · rw [if_neg g, if_neg g, if_neg g]
  unfold f_X4_copy nO
  rw [hn]
  dsimp only
  rw [obs]
  unfold qnn f_X4_init qnn f_X2_init qnn fs_3
  dsimp only
  rw [pF_of (h0 _) (k := 0) rfl (by exact (by decide : 0 < 2)), obs, h2, obs]
  rw [pF_of (h0 _) (k := 1) rfl (by exact (by decide : 1 < 2)), obs, h2, obs]
  rw [gI_of (h1 _) (k := 0) rfl rfl, obs, pF_of (h0 _) (k := 0) rfl (by exact (by decide : 0 < 2)), obs, h2]
  rw [gI_of (h1 _) (k := 1) rfl rfl, obs, pF_of (h0 _) (k := 1) rfl (by exact (by decide : 1 < 2)), obs, h2]
  rfl
def cpR1 (s1 s0 : RW) (a n : Nat) : RW := fun i => if a ≤ i ∧ i < a + n then s0 i else s1 i
section Y2
variable {M : QM} {t : Nat} {s L : Nat → Int32} {G : Nat → Option (Bool × QE)} {r g b : Nat} {x : Int32} {c : CF} {k : Nat} {e e' : QE}
theorem cpR1_ne {s1 s0 : RW} {a n i : Nat} (h : i < a ∨ a + n ≤ i) : cpR1 s1 s0 a n i = s1 i := by
  unfold cpR1
  rw [if_neg (by omega)]
theorem cpR1_at {s1 s0 : RW} {a n i : Nat} (h : a ≤ i ∧ i < a + n) : cpR1 s1 s0 a n i = s0 i := if_pos h
theorem cpy_crow (s1 s0 : RW) (a n : Nat) : va_cpy (crow s0 a n) (crow s1 a n) 0 0 n = crow (cpR1 s1 s0 a n) a n := by
  funext i
  unfold va_cpy crow
  by_cases h : i < n
  · rw [if_pos ⟨Nat.zero_le _, by omega⟩, if_pos (by omega), if_pos h, cpR1_at (by omega), show 0 + (i - 0) = i by omega]
  · rw [if_neg (by omega), if_neg h, if_neg h]
theorem TS.tM {M : QM} {t t' : Nat} {s L s1 L1 : RW} {G G1 : CF} (h : TS M t' s L G) (hn : t' ≠ t) : TS (tM M t s1 L1 G1) t' s L G := fun k => by
  rw [tM_ne hn]; exact h k
theorem tM_cp3 {t' : Nat} {s0 L0 : RW} {G0 : CF} (hS : TS M t' s0 L0 G0) (hn : t' ≠ t) : cpI (tM M t s L G) (some (t', 3)) 0 (some (t, 3)) 0 5 = some (tM M t s (va_cpy L0 L 0 0 5) G) := by
  have h1 := (hS.tM (s1 := s) (L1 := L) (G1 := G) hn).rd (fun N => N.2 (t', 3)) tM_c3
  simp only [cpI, tM_c3, h1]
  rw [if_pos ⟨trivial, trivial, by decide⟩]
  exact congrArg some (tM_qup (k := 3) rfl fun j hj => tcell_c (fun _ _ _ => rfl) (fun _ _ _ => Iff.rfl) (fun y => absurd y hj) (fun _ _ _ => rfl) (fun _ _ _ => rfl) (fun _ _ _ => rfl) (fun _ _ _ => rfl) (fun _ _ _ _ _ => rfl))
theorem tM_cp4 {t' : Nat} {s0 L0 : RW} {G0 : CF} (hS : TS M t' s0 L0 G0) (hn : t' ≠ t) : cpI (tM M t s L G) (some (t', 4)) 0 (some (t, 4)) 0 5 = some (tM M t (cpR1 s s0 62 5) L G) := by
  have h1 := (hS.tM (s1 := s) (L1 := L) (G1 := G) hn).rd (fun N => N.2 (t', 4)) tM_c4
  simp only [cpI, tM_c4, h1]
  rw [if_pos ⟨trivial, trivial, by decide⟩]
  refine congrArg some (tM_qup (k := 4) ?_ fun j hj => tcell_c (fun _ i hi => cpR1_ne (by omega)) (fun _ r hr => by rw [cpR1_ne (by omega)]) (fun _ => rfl) (fun y => absurd y hj) (fun _ b hb => cpR1_ne (by omega)) (fun _ b hb => cpR1_ne (by omega)) (fun r hr _ => ?_) (fun g hg _ c hc => cpR1_ne (by omega)))
  · show some (true, _) = some (true, _)
    rw [← cpy_crow]; rfl
  · unfold rcell
    rw [cpR1_ne (by omega), cpR1_ne (by omega), cpR1_ne (by omega), cpR1_ne (by omega), cpR1_ne (by omega)]
theorem tM_cp5 {t' : Nat} {s0 L0 : RW} {G0 : CF} (hS : TS M t' s0 L0 G0) (hn : t' ≠ t) : cpI (tM M t s L G) (some (t', 5)) 0 (some (t, 5)) 0 5 = some (tM M t (cpR1 s s0 67 5) L G) := by
  have h1 := (hS.tM (s1 := s) (L1 := L) (G1 := G) hn).rd (fun N => N.2 (t', 5)) tM_c5
  simp only [cpI, tM_c5, h1]
  rw [if_pos ⟨trivial, trivial, by decide⟩]
  refine congrArg some (tM_qup (k := 5) ?_ fun j hj => tcell_c (fun _ i hi => cpR1_ne (by omega)) (fun _ r hr => by rw [cpR1_ne (by omega)]) (fun _ => rfl) (fun _ b hb => cpR1_ne (by omega)) (fun y => absurd y hj) (fun _ b hb => cpR1_ne (by omega)) (fun r hr _ => ?_) (fun g hg _ c hc => cpR1_ne (by omega)))
  · show some (true, _) = some (true, _)
    rw [← cpy_crow]; rfl
  · unfold rcell
    rw [cpR1_ne (by omega), cpR1_ne (by omega), cpR1_ne (by omega), cpR1_ne (by omega), cpR1_ne (by omega)]
theorem tM_cp6 {t' : Nat} {s0 L0 : RW} {G0 : CF} (hS : TS M t' s0 L0 G0) (hn : t' ≠ t) : cpI (tM M t s L G) (some (t', 6)) 0 (some (t, 6)) 0 30 = some (tM M t (cpR1 s s0 78 30) L G) := by
  have h1 := (hS.tM (s1 := s) (L1 := L) (G1 := G) hn).rd (fun N => N.2 (t', 6)) tM_c6
  simp only [cpI, tM_c6, h1]
  rw [if_pos ⟨trivial, trivial, by decide⟩]
  refine congrArg some (tM_qup (k := 6) ?_ fun j hj => tcell_c (fun _ i hi => cpR1_ne (by omega)) (fun _ r hr => by rw [cpR1_ne (by omega)]) (fun _ => rfl) (fun _ b hb => cpR1_ne (by omega)) (fun _ b hb => cpR1_ne (by omega)) (fun y => absurd y hj) (fun r hr _ => ?_) (fun g hg _ c hc => cpR1_ne (by omega)))
  · show some (true, _) = some (true, _)
    rw [← cpy_crow]; rfl
  · unfold rcell
    rw [cpR1_ne (by omega), cpR1_ne (by omega), cpR1_ne (by omega), cpR1_ne (by omega), cpR1_ne (by omega)]
theorem tM_s107 {s' : Nat → Int32} (h : ∀ i, i < 108 → (i < 57 ∨ 61 < i) → i ≠ 77 → s' i = s i) : tM M t s' L G = tM M t s L G := by
  unfold tM
  congr 1
  funext q
  by_cases g : q.1 = t
  · rw [if_pos g, if_pos g]
    refine tcell_c (fun _ i hi => h i (by omega) (by omega) (by omega)) (fun _ r hr => by rw [h _ (by omega) (by omega) (by omega)]) (fun _ => rfl) (fun _ b hb => h _ (by omega) (by omega) (by omega)) (fun _ b hb => h _ (by omega) (by omega) (by omega)) (fun _ b hb => h _ (by omega) (by omega) (by omega)) (fun r hr _ => ?_) (fun g hg _ c hc => h _ (by omega) (by omega) (by omega))
    unfold rcell
    rw [h _ (by omega) (by omega) (by omega), h _ (by omega) (by omega) (by omega), h _ (by omega) (by omega) (by omega), h _ (by omega) (by omega) (by omega), h _ (by omega) (by omega) (by omega)]
  · rw [if_neg g, if_neg g]
theorem sGC_hs {s : RW} {i : Nat} (hi : i < 50 + 2 * k ∨ 50 + 2 * k + 2 ≤ i) : sGC s (k + 1) i = sGC s k i := by
  unfold sGC
  by_cases h : i < 50 + 2 * k
  · rw [if_pos h, if_pos (by omega)]
  · rw [if_neg h, if_neg (by omega)]
theorem sGC_at {s : RW} {i : Nat} (h : i < 50 + 2 * (k + 1)) : sGC s (k + 1) i = s i := if_pos h
theorem x1_i99g {t' : Nat} {s0 L0 : RW} {G0 : CF} (hM : t < M.1) (hS : TS M t' s0 L0 G0) (hn : t' ≠ t) (n k : Nat) (hk : k < 2) : f_X1_init_2_99 t (n + 1) (some (t, 0)) (some (t', 0)) (nI k) (cM M t (tcJ t (sGC s0 k) z0 gN k)) = f_X1_init_2_99 t n (some (t, 0)) (some (t', 0)) (nI (k + 1)) (cM M t (tcJ t (sGC s0 (k + 1)) z0 gN (k + 1))) := by
  rw [f_X1_init_2_99, if_neg (show ¬ (2 : Int32) ≤ nI k from nI_ge (a := k) (b := 2) (by omega) (by decide))]
  have h3 := hS.cM (c := tcJ t (sGC s0 k) z0 gN k) hn
  rw [tJ_gR1, obs, h3.rd (fun N => gR N (some (t', 0)) [(1, 1)]) tM_gR1, obs, h3.rd (fun N => aR N (some (t', 2)) (nI k)) (tM_aR2 hk), obs, nI_clamp (by omega)]
  have h5 : (cM M t (tcJ t (sGC s0 k) z0 gN k)).2 (t', 20 + k) = some (true, gE (s0 (50 + 2 * k)) (s0 (50 + 2 * k + 1))) := h3.rd (fun N => N.2 (t', 20 + k)) (tM_cg hk)
  have h6 : tcJ t (sGC s0 k) z0 gN k (20 + k) = none := by
    unfold tcJ
    rw [if_neg (by omega), if_pos (by omega)]
  rw [qrc_of h5 rfl, x4_copy (cM_at.trans h6) h5, cM_new hM]
  unfold qbR
  rw [obs]
  dsimp only
  have e1 : gE (s0 (50 + 2 * k)) (s0 (50 + 2 * k + 1)) = gcell (sGC s0 (k + 1)) k := by
    unfold gcell
    rw [sGC_at (by omega), sGC_at (by omega)]
  rw [e1, cM_sR2 (f := fun g => if g < k then some (t, 20 + g) else none) (by rw [qupd_ne _ _ (by omega)]; rfl) hk (by
    unfold okst
    dsimp only
    rw [cM_at, qupd_at]
    rfl), obs, tcJ_gen (s' := sGC s0 (k + 1)) hk (fun i hi => sGC_hs hi), nI_1]
theorem x1_i99 {t' : Nat} {s0 L0 : RW} {G0 : CF} (hM : t < M.1) (hS : TS M t' s0 L0 G0) (hn : t' ≠ t) (hL : LR s0 L0) : ∃ L', f_X1_init_2_99 t 3 (some (t, 0)) (some (t', 0)) 0 (cM M t (tcJ t (sRB s0 10) z0 gN 0)) = some (tM M t s0 L' gN) ∧ LR s0 L' := by
  have e0 : sRB s0 10 = sGC s0 0 := by
    funext i
    unfold sRB sGC
    rfl
  rw [e0]
  refine ⟨va_cpy L0 z0 0 0 5, ?_, fun b hb => ?_⟩
  · refine (x1_i99g hM hS hn 2 0 (by decide)).trans ((x1_i99g hM hS hn 1 1 (by decide)).trans ?_)
    rw [f_X1_init_2_99, if_pos (by decide), tcJ_2, ← tM_cM]
    have hs : ∀ {s1 L1 : RW}, TS (tM M t s1 L1 gN) t' s0 L0 G0 := fun {s1 L1} => hS.tM hn
    rw [hs.rd (fun N => gR N (some (t', 0)) [(1, 2)]) tM_gR2, obs, tM_gR2, obs, tM_cp3 hS hn, obs]
    rw [hs.rd (fun N => gR N (some (t', 0)) [(1, 3)]) tM_gR3, obs, tM_gR3, obs, tM_cp4 hS hn, obs]
    rw [hs.rd (fun N => gR N (some (t', 0)) [(1, 4)]) tM_gR4, obs, tM_gR4, obs, tM_cp5 hS hn, obs]
    rw [hs.rd (fun N => gR N (some (t', 0)) [(1, 5)]) tM_gR5, obs, tM_gR5, obs, obs, tM_aL6, obs, tM_cp6 hS hn, obs]
    rw [hs.rd (fun N => gI N (some (t', 0)) [(1, 6)]) tM_gI6, obs, tM_pF6, obs]
    rw [hs.rd (fun N => gI N (some (t', 0)) [(1, 7)]) tM_gI7, obs, tM_pF7, obs]
    rw [hs.rd (fun N => gI N (some (t', 0)) [(1, 8)]) tM_gI8, obs, tM_pF8, obs]
    rw [hs.rd (fun N => gI N (some (t', 0)) [(1, 9)]) tM_gI9, obs, tM_pF9, obs]
    rw [hs.rd (fun N => gI N (some (t', 0)) [(1, 10)]) tM_gI10, obs, tM_pF10, obs]
    rw [hs.rd (fun N => gI N (some (t', 0)) [(1, 11)]) tM_gI11, obs, tM_pF11, obs]
    rw [hs.rd (fun N => gI N (some (t', 0)) [(1, 12)]) tM_gI12, obs, tM_pF12, obs]
    rw [hs.rd (fun N => gI N (some (t', 0)) [(1, 13)]) tM_gI13, obs, tM_pF13, obs]
    refine congrArg some (tM_s107 fun i h1 h2 h3 => ?_)
    by_cases d : i = 76
    · rw [d, qupd_at]
    rw [qupd_ne _ _ d]
    by_cases d : i = 75
    · rw [d, qupd_at]
    rw [qupd_ne _ _ d]
    by_cases d : i = 74
    · rw [d, qupd_at]
    rw [qupd_ne _ _ d]
    by_cases d : i = 73
    · rw [d, qupd_at]
    rw [qupd_ne _ _ d]
    by_cases d : i = 72
    · rw [d, qupd_at]
    rw [qupd_ne _ _ d]
    by_cases d : i = 56
    · rw [d, qupd_at]
    rw [qupd_ne _ _ d]
    by_cases d : i = 55
    · rw [d, qupd_at]
    rw [qupd_ne _ _ d]
    by_cases d : i = 54
    · rw [d, qupd_at]
    rw [qupd_ne _ _ d]
    by_cases d : 78 ≤ i
    · rw [cpR1_at (by omega)]
    rw [cpR1_ne (by omega)]
    by_cases d : 67 ≤ i
    · rw [cpR1_at (by omega)]
    rw [cpR1_ne (by omega)]
    by_cases d : 62 ≤ i
    · rw [cpR1_at (by omega)]
    rw [cpR1_ne (by omega), sGC_at (by omega)]
  · have e1 : va_cpy L0 z0 0 0 5 b = L0 b := by
      unfold va_cpy
      rw [if_pos ⟨Nat.zero_le _, by omega⟩, show 0 + (b - 0) = b by omega]
    rw [e1]
    exact hL b hb
theorem x1_allocs {fs : List QV} (hM : t < M.1) (f : QM → Option QM) (hfs : fs = fs_1) : ((nAr (cM M t (aC fs 0)) (t, 1) 3 (10 : Int32) 10).bind fun m7 => (pF m7 (some (t, 0)) [(1, 0)] (.inr (some (t, 1)))).bind fun m10 => (nAr m10 (t, 2) 4 (2 : Int32) 2).bind fun m15 => (pF m15 (some (t, 0)) [(1, 1)] (.inr (some (t, 2)))).bind fun m18 => (nAi m18 (t, 3) 0 (5 : Int32) 5).bind fun m23 => (pF m23 (some (t, 0)) [(1, 2)] (.inr (some (t, 3)))).bind fun m25 => (nAi m25 (t, 4) 0 (5 : Int32) 5).bind fun m30 => (pF m30 (some (t, 0)) [(1, 3)] (.inr (some (t, 4)))).bind fun m32 => (nAi m32 (t, 5) 0 (5 : Int32) 5).bind fun m37 => (pF m37 (some (t, 0)) [(1, 4)] (.inr (some (t, 5)))).bind fun m39 => (nAi m39 (t, 6) 0 (30 : Int32) 30).bind fun m45 => (pF m45 (some (t, 0)) [(1, 5)] (.inr (some (t, 6)))).bind fun m47 => (pF m47 (some (t, 0)) [(1, 8)] (.inl (4 : Int32))).bind fun m52 => f m52) = f (cM M t (tcJ t sE z0 gN 0)) := by
  subst hfs
  unfold fs_1
  rw [show (10 : Int32) = nI 10 from rfl, show (2 : Int32) = nI 2 from rfl, show (5 : Int32) = nI 5 from rfl, show (30 : Int32) = nI 30 from rfl]
  rw [aC_nAr hM (by decide) rfl (by decide), obs, aC_pF (show 0 < 14 by decide), obs]
  rw [aC_nAr hM (by decide) rfl (by decide), obs, aC_pF (show 1 < 14 by decide), obs]
  rw [aC_nAi hM (by decide) rfl (by decide), obs, aC_pF (show 2 < 14 by decide), obs]
  rw [aC_nAi hM (by decide) rfl (by decide), obs, aC_pF (show 3 < 14 by decide), obs]
  rw [aC_nAi hM (by decide) rfl (by decide), obs, aC_pF (show 4 < 14 by decide), obs]
  rw [aC_nAi hM (by decide) rfl (by decide), obs, aC_pF (show 5 < 14 by decide), obs]
  rw [aC_pF (show 8 < 14 by decide), obs]
  refine congrArg (fun c => f (cM M t c)) ?_
  exact aC_tcJ
/-- a tour's copy -/
theorem x1_copy {t' : Nat} {s0 L0 : RW} {G0 : CF} (hM : t < M.1) (hS : TS M t' s0 L0 G0) (hn : t' ≠ t) (hL : LR s0 L0) : ∃ L', f_X1_init_2 t (some (t, 0)) (some (t', 0)) (cM M t (aC fs_1 0)) = some (tM M t s0 L' gN) ∧ LR s0 L' := by
  unfold f_X1_init_2 qnn
  dsimp only
  rw [x1_allocs hM _ rfl]
  have e0 : sE = sRB s0 0 := by
    funext i
    unfold sRB
    rw [if_neg (by omega)]
  rw [e0]
  obtain ⟨L', h1, h2⟩ := x1_i99 hM hS hn hL
  exact ⟨L', (x1_i57 hM hS hn 11 0 (by omega) (by omega)).trans h1, h2⟩
theorem tC_new {N : QM} (hF : Fr N) {fs : List QV} : nO N (N.1, 0) (.inl (1, fs)) = some (cM (N.1 + 1, N.2) N.1 (aC fs 0)) := by
  unfold nO
  rw [hF (N.1, 0) (Nat.le_refl _)]
  dsimp only
  unfold qnew cM
  rw [if_pos (Nat.le_refl _)]
  congr 2
  funext q
  obtain ⟨a, j⟩ := q
  dsimp only
  unfold aC
  by_cases g : a = N.1
  · subst g
    rw [if_pos rfl]
    by_cases g1 : j = 0
    · subst g1
      rw [if_pos rfl, if_pos rfl]
    · rw [if_neg (fun y => g1 (by cases y; rfl)), if_neg g1, if_neg (by omega)]
      exact hF _ (Nat.le_refl _)
  · rw [if_neg (fun y => g (by cases y; rfl)), if_neg g]
end Y2
