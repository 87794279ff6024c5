/-! a tour's show -/
set_option maxRecDepth 100000
theorem qupd_id {β : Type} {f : Nat → β} {k : Nat} {x : β} (h : f k = x) : qupd f k x = f := by rw [← h, qupd_self]
section X7
variable {M : QM} {t : Nat} {s L : Nat → Int32} {G : Nat → Option (Bool × QE)} {r g b : Nat} {x : Int32}
theorem tM_reel {s' : Nat → Int32} (hr : r < 10) (h : ¬ s (5 * r) = -2) (hs : ∀ i, (i ≤ 5 * r ∨ 5 * r + 5 ≤ i) → s' i = s i) : qup (tM M t s L G) (t, 10 + r) (rcell s' r) = tM M t s' L G := by
  refine tM_qup ?_ fun j hj => tcell_c (fun _ i hi => hs i (by omega)) (fun _ r1 hr1 => ?_) (fun _ => rfl) (fun _ b hb => hs _ (by omega)) (fun _ b hb => hs _ (by omega)) (fun _ b hb => hs _ (by omega)) (fun r1 hr1 hj1 => ?_) (fun g hg _ c hc => hs _ (by omega))
  · rw [tcell_r hr, if_neg (by rw [hs _ (by omega)]; exact h)]
  · by_cases g : r1 = r
    · rw [g, hs _ (by omega)]
    · rw [hs _ (by omega)]
  · have hne : r1 ≠ r := fun y => hj (by rw [hj1, y])
    unfold rcell
    rw [hs _ (by omega), hs _ (by omega), hs _ (by omega), hs _ (by omega), hs _ (by omega)]
theorem x1_wears (hr : r < 10) (h : ¬ s (5 * r) = -2) {w : Int32} (hw : s (5 * r + 2) + (5 + w) < 40 ∨ s (5 * r + 2) + (5 + w) - 20 < 40) : f_X3_wears (some (t, 10 + r)) w (tM M t s L G) = if s (5 * r + 2) + (5 + w) < 40 then some (0, tM M t (qupd s (5 * r + 2) (s (5 * r + 2) + (5 + w))) L G) else some (1, tM M t (qupd (qupd (qupd s (5 * r + 2) (s (5 * r + 2) + (5 + w) - 20)) (5 * r + 1) (s (5 * r + 1) - 1)) (5 * r + 3) (s (5 * r + 3) + 1)) L G) := by
  by_cases h1 : s (5 * r + 2) + (5 + w) < 40
  · rw [if_pos h1, x3_wears1 (tM_cr hr h) h1, ← tM_reel hr h (fun i hi => qupd_ne _ _ (by omega))]
    unfold rcell
    simp (disch := omega) only [qupd_at, qupd_ne]
  · rw [if_neg h1, x3_wears2 (tM_cr hr h) h1 (hw.resolve_left h1), ← tM_reel (s' := qupd (qupd (qupd s (5 * r + 2) (s (5 * r + 2) + (5 + w) - 20)) (5 * r + 1) (s (5 * r + 1) - 1)) (5 * r + 3) (s (5 * r + 3) + 1)) hr h (fun i hi => by rw [qupd_ne _ _ (by omega), qupd_ne _ _ (by omega), qupd_ne _ _ (by omega)])]
    unfold rcell
    simp (disch := omega) only [qupd_at, qupd_ne]
theorem x1_play_e (hr : r < 10) (h : ¬ s (5 * r) = -2) : ∃ G', ((gR (tM M t s L G) (some (t, 0)) [(1, 0)]).bind fun v39 => (aR (tM M t s L G) v39 (nI r)).bind fun v43 => (qrc (tM M t s L G) v43 [2] (f_X3_isGone v43 (tM M t s L G))).bind fun v44 => if v44 = 0 then (some (tM M t s L G)) else (gR (tM M t s L G) (some (t, 0)) [(1, 0)]).bind fun v51 => (sR (tM M t s L G) v51 (nI r) none).bind fun m56 => some m56) = some (tM M t (qupd s (5 * r) (if 3 ≤ s (5 * r + 1) then s (5 * r) else -2)) L G') := by
  rw [tM_gR0, obs, tM_aR1 hr, obs, if_neg h, tM_rcr hr h rfl, x3_isGone (tM_cr hr h), obs]
  by_cases h1 : 3 ≤ s (5 * r + 1)
  · rw [if_pos h1, if_pos h1, if_pos rfl, qupd_self]
    exact ⟨G, rfl⟩
  · rw [if_neg h1, if_neg h1, if_neg (by decide), obs, tM_gone hr h, obs]
    exact ⟨_, rfl⟩
theorem x1_play (hr : r < 10) (hb : b < 5) (h : s (5 * r) = nI b) (hw : s (5 * r + 2) + (5 + (nI b - nI b / 3 * 3)) < 40 ∨ s (5 * r + 2) + (5 + (nI b - nI b / 3 * 3)) - 20 < 40) : ∃ G', f_X1_play (some (t, 0)) (nI r) (nI b) (tM M t s L G) = some (tM M t (playF s (nI b) r) L G') := by
  have h2 : ¬ s (5 * r) = -2 := fun y => nI_n2 hb (by rw [← h, y])
  unfold f_X1_play playF
  rw [if_pos h, tM_gR0, obs, tM_aR1 hr, obs, if_neg h2, tM_gr5 hr h2, obs, tM_pr5 hr h2, obs]
  have hA : ∀ i, i ≠ 5 * r + 4 → qupd s (5 * r + 4) (s (5 * r + 4) ||| (1 <<< (nI b &&& 31))) i = s i := fun i hi => qupd_ne _ _ hi
  generalize qupd s (5 * r + 4) (s (5 * r + 4) ||| (1 <<< (nI b &&& 31))) = sA at hA ⊢
  have h3 : ¬ sA (5 * r) = -2 := by rw [hA _ (by omega)]; exact h2
  rw [← hA (5 * r + 2) (by omega)] at hw
  rw [tM_gI13, obs, tM_gR0, obs, tM_aR1 hr, obs, if_neg h3, tM_rcr hr h3 rfl, x1_wears hr h3 hw]
  unfold wearF qbI
  dsimp only
  by_cases h4 : sA (5 * r + 2) + (5 + (nI b - nI b / 3 * 3)) < 40
  · rw [if_pos h4, if_pos h4, obs]
    dsimp only
    rw [tM_pF13, obs, Int32.add_zero, qupd_id (f := qupd sA (5 * r + 2) _) (qupd_ne _ _ (by omega))]
    exact x1_play_e hr (by rw [qupd_ne _ _ (by omega)]; exact h3)
  · rw [if_neg h4, if_neg h4, obs]
    dsimp only
    rw [tM_pF13, obs]
    exact x1_play_e hr (by rw [qupd_ne _ _ (by omega), qupd_ne _ _ (by omega), qupd_ne _ _ (by omega), qupd_ne _ _ (by omega)]; exact h3)
def finX (P : Nat → Int32) (b : Nat) (p : Int32) : Nat → Int32 := qupd (qupd (qupd P (62 + b) (P (62 + b) + 1)) (67 + b) (P (67 + b) + p * P 56)) 75 (P 75 + p)
theorem x1_show131 (hb : b < 5) (p : Int32) (hw : okW s (5 + (nI b - nI b / 3 * 3))) : ∀ n k : Nat, k ≤ 10 → 10 < k + n → ∀ G, ∃ G', f_X1_show_131 n (some (t, 0)) (nI b) p (nI k) (tM M t (playsF s (nI b) k) L G) = some (.inl (p * s 56), tM M t (finX (playsF s (nI b) 10) b p) (qupd L b (s 55)) G') := by
  intro n
  induction n with
  | zero => intro k h1 h2; omega
  | succ n ih =>
    intro k h1 h2 G
    rw [f_X1_show_131]
    by_cases hk : k = 10
    · subst hk
      rw [if_pos (by decide +kernel)]
      have e55 : playsF s (nI b) 10 55 = s 55 := playsF_ne _ _ _ _ (by omega) (by omega)
      have e56 : playsF s (nI b) 10 56 = s 56 := playsF_ne _ _ _ _ (by omega) (by omega)
      unfold finX
      rw [← e55, ← e56]
      generalize playsF s (nI b) 10 = P
      rw [tM_gR2, obs, tM_gI7, obs, tM_s3 hb, obs, tM_gR3, obs, tM_a4 hb, obs, tM_s4 hb, obs, tM_gR4, obs, tM_a5 hb, obs, tM_gI8, obs, tM_s5 hb, obs, tM_gI12, obs, tM_pF12, obs, tM_gI8, obs]
      refine ⟨G, ?_⟩
      rw [qupd_ne _ _ (show 67 + b ≠ 62 + b by omega), qupd_ne _ _ (show 56 ≠ 62 + b by omega), qupd_ne _ _ (show 75 ≠ 67 + b by omega), qupd_ne _ _ (show 75 ≠ 62 + b by omega), qupd_ne _ _ (show 56 ≠ 75 by omega), qupd_ne _ _ (show 56 ≠ 67 + b by omega), qupd_ne _ _ (show 56 ≠ 62 + b by omega)]
    · rw [if_neg (show ¬ (10 : Int32) ≤ nI k from nI_ge (a := k) (b := 10) (by omega) (by decide)), tM_rc, x1_isIn (by omega) (nI_n2 hb), obs, nI_1]
      by_cases h : playsF s (nI b) k (5 * k) = nI b
      · rw [if_pos h, if_neg (by decide), tM_rc]
        have hw' := hw k (by omega)
        rw [← playsF_ne s (nI b) k (5 * k + 2) (by omega) (by omega)] at hw'
        obtain ⟨G1, e1⟩ := x1_play (M := M) (t := t) (L := L) (G := G) (by omega) hb h hw'
        rw [e1, obs]
        exact ih (k + 1) (by omega) (by omega) G1
      · rw [if_neg h, if_pos rfl]
        have e1 : playsF s (nI b) k = playsF s (nI b) (k + 1) := by
          show _ = playF (playsF s (nI b) k) (nI b) k
          unfold playF
          rw [if_neg h]
        rw [e1]
        exact ih (k + 1) (by omega) (by omega) G
/-- log of the last shows, one more -/
def logX (s : Nat → Int32) (b p t mi : Int32) : Nat → Int32 := fun i => if i = 78 then s 55 else if i = 79 then b else if i = 80 then p else if i = 81 then t else if i = 82 then mi else if 82 < i ∧ i < 108 then s (i - 5) else s i
def mixF (s u : Nat → Int32) : Nat → Int32 := fun i => if i < 50 ∨ i = 76 then s i else u i
theorem mixF_at {s u : Nat → Int32} {a : Nat} (h : a < 50 ∨ a = 76) : mixF s u a = s a := if_pos h
theorem mixF_up {s u : Nat → Int32} {a : Nat} {x : Int32} (h : a < 50 ∨ a = 76) : qupd (mixF s u) a x = mixF (qupd s a x) u := by
  funext i
  unfold mixF
  by_cases g : i = a
  · subst g
    rw [qupd_at, if_pos h, qupd_at]
  · rw [qupd_ne _ _ g, qupd_ne _ _ g]
theorem mixF_wear {s u : Nat → Int32} (hr : r < 10) (w : Int32) : wearF (mixF s u) r w = mixF (wearF s r w) u := by
  unfold wearF
  simp (disch := omega) only [mixF_at, mixF_up]
  by_cases h : s (5 * r + 2) + w < 40
  · rw [if_pos h, if_pos h]
    simp (disch := omega) only [mixF_at, mixF_up]
  · rw [if_neg h, if_neg h]
    simp (disch := omega) only [mixF_at, mixF_up]
theorem mixF_play {s u : Nat → Int32} (hr : r < 10) (b : Int32) : playF (mixF s u) b r = mixF (playF s b r) u := by
  unfold playF
  simp (disch := omega) only [mixF_at, mixF_up]
  by_cases h : s (5 * r) = b
  · rw [if_pos h, if_pos h, mixF_wear hr]
  · rw [if_neg h, if_neg h]
theorem mixF_plays {s u : Nat → Int32} (b : Int32) : ∀ k, k ≤ 10 → playsF (mixF s u) b k = mixF (playsF s b k) u := by
  intro k
  induction k with
  | zero => intro _; rfl
  | succ k ih =>
    intro h
    show playF (playsF (mixF s u) b k) b k = mixF (playF (playsF s b k) b k) u
    rw [ih (by omega), mixF_play (by omega)]
theorem mixF_self (s : Nat → Int32) (b p t mi : Int32) : logX s b p t mi = mixF s (logX s b p t mi) := by
  funext i
  unfold mixF
  by_cases h : i < 50 ∨ i = 76
  · rw [if_pos h]
    unfold logX
    rw [if_neg (by omega), if_neg (by omega), if_neg (by omega), if_neg (by omega), if_neg (by omega), if_neg (by omega)]
  · rw [if_neg h]
/-- the row behind a show, as it was made, is the row told -/
theorem fin_end (s : Nat → Int32) {b : Nat} (hb : b < 5) (p mi : Int32) (i : Nat) (h : i < 57 ∨ 61 < i) (h77 : i ≠ 77) : finX (playsF (logX s (nI b) p (p * s 56) mi) (nI b) 10) b p i = endF (playsF s (nI b) 10) b (nI b) p (p * s 56) mi i := by
  have hP : ∀ i, 50 ≤ i → i ≠ 76 → playsF s (nI b) 10 i = s i := fun i h1 h2 => playsF_ne _ _ _ _ (by omega) h2
  rw [mixF_self, mixF_plays _ 10 (by omega)]
  generalize playsF s (nI b) 10 = P at hP
  have hu : ∀ j, 50 ≤ j → j ≠ 76 → mixF P (logX s (nI b) p (p * s 56) mi) j = logX s (nI b) p (p * s 56) mi j := fun j h1 h2 => if_neg (by omega)
  have hl : ∀ j, j < 78 → logX s (nI b) p (p * s 56) mi j = s j := fun j h1 => by
    unfold logX
    rw [if_neg (by omega), if_neg (by omega), if_neg (by omega), if_neg (by omega), if_neg (by omega), if_neg (by omega)]
  unfold finX endF
  rw [hu (62 + b) (by omega) (by omega), hl _ (by omega), hu (67 + b) (by omega) (by omega), hl _ (by omega), hu 75 (by omega) (by omega), hl 75 (by omega), hu 56 (by omega) (by omega), hl 56 (by omega), hP (62 + b) (by omega) (by omega), hP (67 + b) (by omega) (by omega), hP 75 (by omega) (by omega)]
  by_cases c1 : i < 50 ∨ i = 76
  · unfold logF
    rw [if_neg h77, if_neg (by omega), if_neg (by omega), if_neg (by omega), if_neg (by omega), if_neg (by omega), if_neg (by omega)]
    rw [qupd_ne _ _ (by omega), qupd_ne _ _ (by omega), qupd_ne _ _ (by omega), qupd_ne _ _ (by omega), qupd_ne _ _ (by omega), qupd_ne _ _ (by omega), qupd_ne _ _ (by omega), mixF_at c1]
  · by_cases c2 : i < 78
    · unfold logF
      rw [if_neg h77, if_neg (by omega), if_neg (by omega), if_neg (by omega), if_neg (by omega), if_neg (by omega), if_neg (by omega)]
      by_cases d1 : i = 75
      · rw [d1, qupd_at, qupd_at]
      · rw [qupd_ne _ _ d1, qupd_ne _ _ d1]
        by_cases d2 : i = 67 + b
        · rw [d2, qupd_at, qupd_at]
        · rw [qupd_ne _ _ d2, qupd_ne _ _ d2]
          by_cases d3 : i = 62 + b
          · rw [d3, qupd_at, qupd_at]
          · rw [qupd_ne _ _ d3, qupd_ne _ _ d3, qupd_ne _ _ (by omega), hu i (by omega) (by omega), hl i c2, hP i (by omega) (by omega)]
    · rw [qupd_ne _ _ (by omega), qupd_ne _ _ (by omega), qupd_ne _ _ (by omega), hu i (by omega) (by omega)]
      unfold logX logF
      rw [if_neg h77]
      have k1 : ∀ j, 72 < j → j ≠ 75 → j ≠ 76 → qupd (qupd (qupd (qupd P (57 + b) 1) (62 + b) (s (62 + b) + 1)) (67 + b) (s (67 + b) + p * s 56)) 75 (s 75 + p) j = s j := fun j j1 j2 j3 => by
        rw [qupd_ne _ _ j2, qupd_ne _ _ (by omega), qupd_ne _ _ (by omega), qupd_ne _ _ (by omega), hP j (by omega) j3]
      have k2 : qupd (qupd (qupd (qupd P (57 + b) 1) (62 + b) (s (62 + b) + 1)) (67 + b) (s (67 + b) + p * s 56)) 75 (s 75 + p) 55 = s 55 := by
        rw [qupd_ne _ _ (by omega), qupd_ne _ _ (by omega), qupd_ne _ _ (by omega), qupd_ne _ _ (by omega), hP 55 (by omega) (by omega)]
      rw [k2, k1 i (by omega) (by omega) (by omega)]
      by_cases d1 : 82 < i ∧ i < 108
      · rw [if_pos d1, if_pos d1, k1 (i - 5) (by omega) (by omega) (by omega)]
      · rw [if_neg d1, if_neg d1]
end X7
