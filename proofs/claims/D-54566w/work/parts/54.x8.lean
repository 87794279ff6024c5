/-! a tour's show, whole -/
set_option maxRecDepth 100000
def shX (s : Nat → Int32) : Nat → Int32 := fun i => if 82 < i ∧ i < 108 then s (i - 5) else s i
theorem shX_log (s : Nat → Int32) (b p t mi : Int32) : qupd (qupd (qupd (qupd (qupd (shX s) 78 (s 55)) 79 b) 80 p) 81 t) 82 mi = logX s b p t mi := by
  funext i
  unfold logX
  by_cases h : i = 82
  · rw [h, qupd_at, if_neg (by omega), if_neg (by omega), if_neg (by omega), if_neg (by omega), if_pos rfl]
  rw [qupd_ne _ _ h]
  by_cases h : i = 81
  · rw [h, qupd_at, if_neg (by omega), if_neg (by omega), if_neg (by omega), if_pos rfl]
  rw [qupd_ne _ _ h]
  by_cases h : i = 80
  · rw [h, qupd_at, if_neg (by omega), if_neg (by omega), if_pos rfl]
  rw [qupd_ne _ _ h]
  by_cases h : i = 79
  · rw [h, qupd_at, if_neg (by omega), if_pos rfl]
  rw [qupd_ne _ _ h]
  by_cases h : i = 78
  · rw [h, qupd_at, if_pos rfl]
  rw [qupd_ne _ _ h, if_neg (by omega), if_neg (by omega), if_neg (by omega), if_neg (by omega), if_neg (by omega)]
  rfl
section X8
variable {M : QM} {t : Nat} {s L : Nat → Int32} {G : Nat → Option (Bool × QE)} {r g b : Nat} {x : Int32}
theorem tM_shift : cpI (tM M t s L G) (some (t, 6)) 0 (some (t, 6)) 5 25 = some (tM M t (shX s) L G) := by
  simp only [cpI, tM_c6]
  rw [if_pos ⟨trivial, trivial, by decide⟩]
  have hs : ∀ i, i < 83 → shX s i = s i := fun i hi => by unfold shX; rw [if_neg (by omega)]
  refine congrArg some (tM_qup (k := 6) ?_ fun j hj => tcell_c (fun _ i hi => hs i (by omega)) (fun _ r hr => by rw [hs _ (by omega)]) (fun _ => rfl) (fun _ b hb => hs _ (by omega)) (fun _ b hb => hs _ (by omega)) (fun y => absurd y hj) (fun r hr _ => ?_) (fun g hg _ c hc => hs _ (by omega)))
  · show some (true, _) = some (true, _)
    congr 6
    funext i
    unfold va_cpy crow shX
    show _ = if 5 ≤ i ∧ i < 5 + 25 then _ else _
    by_cases h : 5 ≤ i ∧ i < 5 + 25
    · rw [if_pos h, if_pos (by omega), if_pos (by omega)]
      show _ = if 0 + (i - 5) < 30 then s (78 + (0 + (i - 5))) else 0
      rw [if_pos (by omega), show 78 + i - 5 = 78 + (0 + (i - 5)) by omega]
    · rw [if_neg h]
      by_cases h1 : i < 30
      · rw [if_pos h1, if_pos h1, if_neg (by omega)]
      · rw [if_neg h1, if_neg h1]
  · unfold rcell
    rw [hs _ (by omega), hs _ (by omega), hs _ (by omega), hs _ (by omega), hs _ (by omega)]
theorem tM_log (b p t1 mi : Int32) : tM M t (qupd (qupd (qupd (qupd (qupd (shX s) 78 (s 55)) 79 b) 80 p) 81 t1) 82 mi) L G = tM M t (logX s b p t1 mi) L G := by rw [shX_log]
theorem LR.show (hI : I4 s) (hL : LR s L) (hb : b < 5) {s' : Nat → Int32} (h : ∀ i, 55 ≤ i → i ≤ 61 → i ≠ 56 → s' i = if i = 57 + b then 1 else s i) : LR s' (qupd L b (s 55)) := by
  obtain ⟨d, d1, d2, d3⟩ := hI
  intro c hc
  have e55 : s' 55 = s 55 := by rw [h 55 (by omega) (by omega) (by omega), if_neg (by omega)]
  rw [e55, h (57 + c) (by omega) (by omega) (by omega)]
  by_cases g : c = b
  · subst g
    rw [if_pos rfl, qupd_at]
    exact ⟨⟨fun _ => rfl, fun _ => rfl⟩, Or.inr ⟨d, d, d2, d2, by omega, d1⟩⟩
  · rw [if_neg (by omega), qupd_ne _ _ g]
    exact hL c hc
theorem tM_s77 {s' : Nat → Int32} (h : ∀ i, (i < 57 ∨ 61 < i) → i ≠ 77 → s' i = s i) : tM M t s' L G = tM M t s L G := by
  unfold tM
  congr 1
  funext q
  by_cases g : q.1 = t
  · rw [if_pos g, if_pos g]
    refine tcell_c (fun _ i hi => h i (by omega) (by omega)) (fun _ r hr => by rw [h _ (by omega) (by omega)]) (fun _ => rfl) (fun _ b hb => h _ (by omega) (by omega)) (fun _ b hb => h _ (by omega) (by omega)) (fun _ b hb => h _ (by omega) (by omega)) (fun r hr _ => ?_) (fun g hg _ c hc => h _ (by omega) (by omega))
    unfold rcell
    rw [h _ (by omega) (by omega), h _ (by omega) (by omega), h _ (by omega) (by omega), h _ (by omega) (by omega), h _ (by omega) (by omega)]
  · rw [if_neg g, if_neg g]
theorem x1_show (hI : Inv s) (hL : LR s L) (hF : Fr (tM M t s L G)) (b : Int32) : tRes M t s L G (f_X1_show (some (t, 0)) b (tM M t s L G)) (aShow s b) := by
  unfold f_X1_show aShow
  rw [x0_inRange, obs, qbXV_c hF]
  by_cases h : inR b 0 4 = 0
  · rw [if_pos h, if_pos h]
    exact tRes_wrong rfl
  · rw [if_neg h, if_neg h]
    obtain ⟨j, hj, rfl⟩ := inR_of (n := 4) (by decide) h
    have hj : j < 5 := by omega
    rw [tM_rc, x1_reason hL hj, obs]
    by_cases h1 : whyF s (nI j) ≤ 0
    · rw [if_pos h1, if_pos h1]
      obtain ⟨-, g, g1, g2, g3, g4⟩ := whyF_had hj h1
      rw [tM_rc, x1_minutesIn (nI_n2 hj), obs, tM_rc, x1_peopleFor hI.1 hF hj, obs, tM_gR1, obs, tM_rc, x1_generatorFor, obs, g2, tM_aR2 (by omega), obs, tM_gg1 (by omega), obs, tM_pg1 (by omega), obs]
      have hs1 : ∀ i, i ≠ 50 + 2 * g + 1 → qupd s (50 + 2 * g + 1) (s (50 + 2 * g + 1) - minF s (nI j)) i = s i := fun i hi => qupd_ne _ _ hi
      have hgn : genN s (nI j) = g := by unfold genN; rw [g2, nI_clamp (by omega)]
      unfold showS
      rw [hgn]
      have hw1 : okW (qupd s (50 + 2 * g + 1) (s (50 + 2 * g + 1) - minF s (nI j))) (5 + (nI j - nI j / 3 * 3)) := fun r hr => by
        rw [hs1 _ (by omega)]
        exact hI.1.okW hj r hr
      generalize qupd s (50 + 2 * g + 1) (s (50 + 2 * g + 1) - minF s (nI j)) = s1 at hs1 hw1 ⊢
      rw [tM_gR5, obs, obs, obs, tM_aL6, obs, show (30 : Int32) - 5 = 25 from rfl, tM_shift, obs]
      have h55 : shX s1 55 = s1 55 := by unfold shX; rw [if_neg (by omega)]
      have h56 : shX s1 56 = s1 56 := by unfold shX; rw [if_neg (by omega)]
      rw [tM_gR5, obs, tM_gI7, obs, h55, show (0 : Int32) = nI 0 from rfl, tM_s6 (by decide), obs]
      rw [tM_gR5, obs, show (1 : Int32) = nI 1 from rfl, tM_s6 (by decide), obs]
      rw [tM_gR5, obs, show (2 : Int32) = nI 2 from rfl, tM_s6 (by decide), obs]
      rw [tM_gR5, obs, tM_gI8, obs, show (3 : Int32) = nI 3 from rfl, tM_s6 (by decide), obs]
      rw [tM_gR5, obs, show (4 : Int32) = nI 4 from rfl, tM_s6 (by decide), obs]
      rw [qupd_ne _ _ (show 56 ≠ 78 + 2 by omega), qupd_ne _ _ (show 56 ≠ 78 + 1 by omega), qupd_ne _ _ (show 56 ≠ 78 + 0 by omega), h56]
      have hlog := tM_log (M := M) (t := t) (s := s1) (L := L) (G := G) (nI j) (pplF s (nI j)) (pplF s (nI j) * s1 56) (minF s (nI j))
      have hl : ∀ i, i < 78 → logX s1 (nI j) (pplF s (nI j)) (pplF s (nI j) * s1 56) (minF s (nI j)) i = s1 i := fun i hi => by
        unfold logX
        rw [if_neg (by omega), if_neg (by omega), if_neg (by omega), if_neg (by omega), if_neg (by omega), if_neg (by omega)]
      have hw2 : okW (logX s1 (nI j) (pplF s (nI j)) (pplF s (nI j) * s1 56) (minF s (nI j))) (5 + (nI j - nI j / 3 * 3)) := fun r hr => by
        rw [hl _ (by omega)]
        exact hw1 r hr
      obtain ⟨G', e⟩ := x1_show131 (M := M) (t := t) (s := logX s1 (nI j) (pplF s (nI j)) (pplF s (nI j) * s1 56) (minF s (nI j))) (L := L) hj (pplF s (nI j)) hw2 11 0 (by omega) (by omega) G
      rw [hl 55 (by omega), hl 56 (by omega), hs1 55 (by omega), hs1 56 (by omega)] at e
      rw [hs1 56 (by omega)] at hlog
      rw [hs1 55 (by omega), hs1 56 (by omega), nI_clamp (by omega)]
      rw [hs1 55 (by omega)] at hlog
      refine ⟨qupd L j (s 55), G', (congrArg (f_X1_show_131 11 (some (t, 0)) (nI j) (pplF s (nI j)) 0) hlog).trans (e.trans ?_), ?_⟩
      · refine congrArg (fun N => some (Sum.inl (pplF s (nI j) * s 56), N)) (tM_s77 fun i hi h77 => ?_)
        have := fin_end s1 hj (pplF s (nI j)) (minF s (nI j)) i hi h77
        rw [hs1 56 (by omega)] at this
        exact this
      · refine LR.show hI.2.2.2.1 hL hj fun i i1 i2 i3 => ?_
        unfold endF logF
        rw [if_neg (by omega), if_neg (by omega), if_neg (by omega), if_neg (by omega), if_neg (by omega), if_neg (by omega), if_neg (by omega), qupd_ne _ _ (by omega), qupd_ne _ _ (by omega), qupd_ne _ _ (by omega)]
        by_cases g5 : i = 57 + j
        · rw [g5, qupd_at, if_pos rfl]
        · rw [qupd_ne _ _ g5, if_neg g5, playsF_ne _ _ _ _ (by omega) (by omega), hs1 i (by omega)]
    · rw [if_neg h1, if_neg h1, xM_new hF, obs]
      unfold qnn
      dsimp only
      rw [x8_init, obs]
      unfold qthr
      simp only [xM_at]
      exact Or.inr ⟨_, rfl, Or.inr ⟨_, rfl, rfl⟩⟩
end X8
