/-! a tour's acts -/
set_option maxRecDepth 100000
theorem qupd_comm {β : Type} (f : Nat → β) {a c : Nat} (x y : β) (h : a ≠ c) : qupd (qupd f a x) c y = qupd (qupd f c y) a x := by
  funext i
  simp only [qupd]
  by_cases h1 : i = c
  · subst h1
    rw [if_pos rfl, if_neg (fun y => h y.symm), if_pos rfl]
  · rw [if_neg h1, if_neg h1]
theorem absF_x (d : Int32) : (if 0 ≤ d then d else 0 - d) = absF d := by
  unfold absF
  rw [Int32.zero_sub]
/-- a refusal's object and its code -/
def XE (e : QE) (c : Int32) : Prop := e = .inl (14, [.inl c]) ∨ ∃ v, e = .inl (15, [.inl v]) ∧ c = -10000010 - v
/-- what an act of a tour comes to -/
def tRes (M : QM) (t : Nat) (s L : Nat → Int32) (G : Nat → Option (Bool × QE)) (o : Option ((Int32 ⊕ QN) × QM)) (a : AR) : Prop := match a.2 with
  | some s' => ∃ L' G', o = some (.inl a.1, tM M t s' L' G') ∧ LR s' L'
  | none => (a.1 = -10000005 ∧ o = some (.inl (-10000005), tM M t s L G)) ∨ ∃ e, o = some (.inr (M.1, 0), xM (tM M t s L G) e) ∧ XE e a.1
theorem LR.c {s s' L : Nat → Int32} (h : ∀ i, 55 ≤ i → i ≤ 61 → i ≠ 56 → s' i = s i) (H : LR s L) : LR s' L := fun b hb => by
  rw [h (57 + b) (by omega) (by omega) (by omega), h 55 (by omega) (by omega) (by omega)]
  exact H b hb
theorem qbXV_c {β : Type} {M : QM} (hF : Fr M) (x c : Int32) (kx : QN → QM → Option β) (k : QM → Option β) : qbXV (f_X0_check x c M) kx k = if x = 0 then kx (M.1, 0) (xM M (.inl (14, [.inl c]))) else k M := by
  rw [x0_check hF]
  unfold qbXV
  by_cases h : x = 0
  · rw [if_pos h, if_pos h, obs]
  · rw [if_neg h, if_neg h, obs]
theorem vanF_nI (s : Nat → Int32) : ∃ n : Nat, n ≤ 12 ∧ vanF s = nI n := by
  have h : ∀ k, ∃ n : Nat, n ≤ k ∧ sm (fun r => if s (5 * r) = -10000005 then (1 : Int32) else 0) k = nI n := by
    intro k
    induction k with
    | zero => exact ⟨0, by omega, rfl⟩
    | succ k ih =>
      obtain ⟨n, h1, h2⟩ := ih
      by_cases h3 : s (5 * k) = -10000005
      · refine ⟨n + 1, by omega, ?_⟩
        show _ + (if s (5 * k) = -10000005 then (1 : Int32) else 0) = _
        rw [if_pos h3, h2, nI_1]
      · refine ⟨n, by omega, ?_⟩
        show _ + (if s (5 * k) = -10000005 then (1 : Int32) else 0) = _
        rw [if_neg h3, h2, Int32.add_zero]
  obtain ⟨n, h1, h2⟩ := h 10
  unfold vanF
  rw [h2]
  by_cases h3 : s 50 = -10000005
  · by_cases h4 : s 52 = -10000005
    · exact ⟨n + 1 + 1, by omega, by rw [if_pos h3, if_pos h4, nI_1, nI_1]⟩
    · exact ⟨n + 1, by omega, by rw [if_pos h3, if_neg h4, nI_1, Int32.add_zero]⟩
  · by_cases h4 : s 52 = -10000005
    · exact ⟨n + 1, by omega, by rw [if_neg h3, if_pos h4, Int32.add_zero, nI_1]⟩
    · exact ⟨n, by omega, by rw [if_neg h3, if_neg h4, Int32.add_zero, Int32.add_zero]⟩
theorem van8 (s : Nat → Int32) : 8 - vanF s ≤ 0 ↔ ¬ vanF s < 8 := by
  obtain ⟨n, h1, h2⟩ := vanF_nI s
  rw [h2]
  rcases (show n = 0 ∨ n = 1 ∨ n = 2 ∨ n = 3 ∨ n = 4 ∨ n = 5 ∨ n = 6 ∨ n = 7 ∨ n = 8 ∨ n = 9 ∨ n = 10 ∨ n = 11 ∨ n = 12 by omega) with z | z | z | z | z | z | z | z | z | z | z | z | z <;> rw [z] <;> decide +kernel
section X6
variable {M : QM} {t : Nat} {s L : Nat → Int32} {G : Nat → Option (Bool × QE)} {r g b : Nat} {x : Int32}
theorem tRes_wrong {c : Int32} {o : Option ((Int32 ⊕ QN) × QM)} (h : o = some (.inr (M.1, 0), xM (tM M t s L G) (.inl (14, [.inl c])))) : tRes M t s L G o (c, none) := Or.inr ⟨_, h, Or.inl rfl⟩
theorem tRes_none {o : Option ((Int32 ⊕ QN) × QM)} (h : o = some (.inl (-10000005), tM M t s L G)) : tRes M t s L G o (-10000005, none) := Or.inl ⟨rfl, h⟩
theorem tRes_some {c : Int32} {s' : Nat → Int32} {o : Option ((Int32 ⊕ QN) × QM)} (hL : LR s L) (hs : ∀ i, 55 ≤ i → i ≤ 61 → i ≠ 56 → s' i = s i) (h : o = some (.inl c, tM M t s' L G)) : tRes M t s L G o (c, some s') := ⟨L, G, h, hL.c hs⟩
theorem x1_drive (hI : I3 s) (hL : LR s L) (hF : Fr (tM M t s L G)) (b : Int32) : tRes M t s L G (f_X1_drive (some (t, 0)) b (tM M t s L G)) (aDrive s b) := by
  unfold f_X1_drive aDrive
  rw [x0_inRange, obs, qbXV_c hF]
  by_cases h : inR b 0 4 = 0
  · rw [if_pos h, if_pos h]
    exact tRes_wrong rfl
  · rw [if_neg h, if_neg h]
    obtain ⟨j, hj, rfl⟩ := inR_of (n := 4) (by decide) h
    obtain ⟨v, v1, v2⟩ := hI
    rw [x0_mileOf hF (by omega), obs, tM_gI6, obs]
    rw [show f_X0_mileOf (s 54) (tM M t s L G) = some (mileF (s 54)) by rw [v2]; exact x0_mileOf hF (by omega), obs, obs]
    by_cases h1 : s 54 = nI j
    · rw [if_pos h1, if_pos h1.symm]
      exact tRes_none rfl
    · rw [if_neg h1, if_neg (fun y => h1 y.symm), tM_pF6, obs, tM_gI9, obs, tM_pF9, obs, absF_x, qupd_ne _ _ (by decide), qupd_comm _ _ _ (by decide)]
      exact tRes_some hL (fun i h1 h2 h3 => by rw [qupd_ne _ _ (by omega), qupd_ne _ _ (by omega)]) rfl
/-- a thing at row's place a, at q -/
def TH (M : QM) (t : Nat) (s L : Nat → Int32) (G : Nat → Option (Bool × QE)) (q : QN) (a : Nat) : Prop := gI (tM M t s L G) (some q) [(2, 0), (3, 0)] = some (s a) ∧ (∀ y : Option Int32, qrc (tM M t s L G) (some q) [2, 3] y = y) ∧ (∀ y : Option ((Int32 ⊕ QN) × QM), qrc (tM M t s L G) (some q) [2, 3] y = y) ∧ ∀ x, ¬ x = -2 → pF (tM M t s L G) (some q) [(2, 0), (3, 0)] (.inl x) = some (tM M t (qupd s a x) L G)
theorem TH_r (hr : r < 10) (h : ¬ s (5 * r) = -2) : TH M t s L G (t, 10 + r) (5 * r) := ⟨tM_gr0 hr h, fun _ => tM_rcr hr h rfl, fun _ => tM_rcr hr h rfl, fun _ hx => tM_pr0 hr h hx⟩
theorem TH_g (hg : g < 2) : TH M t s L G (t, 20 + g) (50 + 2 * g) := ⟨tM_gg0 hg, fun _ => tM_rcg hg rfl, fun _ => tM_rcg hg rfl, fun _ _ => tM_pg0 hg⟩
theorem x1_move {q : QN} {a : Nat} (hI : I3 s) (hL : LR s L) (hF : Fr (tM M t s L G)) (hT : TH M t s L G q a) (ha : a < 54) (i : Int32) : tRes M t s L G (f_X1_move (some (t, 0)) (some q) i (tM M t s L G)) (aMove s a i) := by
  obtain ⟨t1, t2, t3, t4⟩ := hT
  unfold f_X1_move aMove
  rw [tM_gI6, obs, tM_rc, x1_things, obs, t3]
  have hm : f_X2_moves (some q) i (s 54) (8 - vanF s) (tM M t s L G) = if s a ≠ -10000005 ∧ s a ≠ s 54 then some (.inr (M.1, 0), xM (tM M t s L G) (.inl (14, [.inl (-10000004)]))) else if (if s a = -10000005 then (1 : Int32) else 0) = i then some (.inl 0, tM M t s L G) else if i = 0 ∨ vanF s < 8 then some (.inl 1, tM M t (qupd s a (if i = 0 then s 54 else -10000005)) L G) else some (.inr (M.1, 0), xM (tM M t s L G) (.inl (14, [.inl (-10000003)]))) := by
    have h22 : ∀ v : Int32, f_X2_moves_22 (some q) i (s 54) (8 - vanF s) v (tM M t s L G) = if v = 0 then some (.inr (M.1, 0), xM (tM M t s L G) (.inl (14, [.inl (-10000004)]))) else if (if s a = -10000005 then (1 : Int32) else 0) = i then some (.inl 0, tM M t s L G) else if i = 0 ∨ vanF s < 8 then some (.inl 1, tM M t (qupd s a (if i = 0 then s 54 else -10000005)) L G) else some (.inr (M.1, 0), xM (tM M t s L G) (.inl (14, [.inl (-10000003)]))) := by
      intro v
      unfold f_X2_moves_22
      rw [qbXV_c hF]
      by_cases h : v = 0
      · rw [if_pos h, if_pos h]; rfl
      · rw [if_neg h, if_neg h, t2]
        unfold f_X2_isInVan
        rw [t1, obs]
        have e1 : (if s a = -10000005 then some (1 : Int32) else some 0) = some (if s a = -10000005 then 1 else 0) := ite_some _ _ _
        rw [e1, obs]
        by_cases h1 : (if s a = -10000005 then (1 : Int32) else 0) = i
        · rw [if_pos h1, if_pos h1]
        · rw [if_neg h1, if_neg h1]
          unfold f_X2_moves_50 f_X2_moves_66
          rw [qbXV_c hF]
          have hx : ¬ (if i = 0 then s 54 else -10000005) = -2 := by
            by_cases h2 : i = 0
            · rw [if_pos h2]
              obtain ⟨v, v1, v2⟩ := hI
              rw [v2]; exact nI_n2 v1
            · rw [if_neg h2]; decide
          rw [t4 _ hx, obs]
          by_cases h2 : i = 0
          · rw [if_pos h2, if_pos h2, if_neg (by decide), if_pos (Or.inl h2)]
          · rw [if_neg h2, if_neg h2]
            by_cases h3 : vanF s < 8
            · rw [if_neg (show ¬ (8 - vanF s ≤ 0) from fun y => (van8 s).mp y h3), if_neg (by decide), if_pos (Or.inr h3)]
            · rw [if_pos ((van8 s).mpr h3), if_pos rfl, if_neg (fun y => y.elim h2 h3)]; rfl
    unfold f_X2_moves
    rw [t1, obs, h22, obs, h22]
    by_cases h : s a = -10000005
    · rw [if_pos h, if_neg (by decide), if_neg (show ¬ (s a ≠ -10000005 ∧ s a ≠ s 54) from fun y => y.1 h)]
    · rw [if_neg h]
      by_cases h1 : s a = s 54
      · rw [if_pos h1, if_neg (by decide), if_neg (show ¬ (s a ≠ -10000005 ∧ s a ≠ s 54) from fun y => y.2 h1)]
      · rw [if_neg h1, if_pos rfl, if_pos ⟨h, h1⟩]
  rw [hm]
  by_cases h1 : s a ≠ -10000005 ∧ s a ≠ s 54
  · rw [if_pos h1, if_pos h1]
    exact tRes_wrong rfl
  · rw [if_neg h1, if_neg h1]
    by_cases h2 : (if s a = -10000005 then (1 : Int32) else 0) = i
    · rw [if_pos h2, if_pos h2]
      exact tRes_none rfl
    · rw [if_neg h2, if_neg h2]
      by_cases h3 : i = 0 ∨ vanF s < 8
      · rw [if_pos h3, if_pos h3]
        unfold qbXI
        rw [obs]
        dsimp only
        rw [if_neg (by decide), tM_rc, x1_things, obs]
        exact tRes_some hL (fun i h1 h2 h3 => qupd_ne _ _ (by omega)) rfl
      · rw [if_neg h3, if_neg h3]
        exact tRes_wrong rfl
theorem tRes_qbXI {o : Option ((Int32 ⊕ QN) × QM)} {a : AR} (h : tRes M t s L G o a) : tRes M t s L G (qbXI o (fun q m => some (.inr q, m)) fun v m => some (.inl v, m)) a := by
  unfold tRes at h ⊢
  cases h9 : a.2 with
  | some s' =>
    rw [h9] at h
    obtain ⟨L', G', e, hL⟩ := h
    exact ⟨L', G', by rw [e]; rfl, hL⟩
  | none =>
    rw [h9] at h
    rcases h with ⟨e1, e2⟩ | ⟨e, e1, e2⟩
    · exact Or.inl ⟨e1, by rw [e2]; rfl⟩
    · exact Or.inr ⟨e, by rw [e1]; rfl, e2⟩
theorem x1_moveReel (hI : I3 s) (hL : LR s L) (hF : Fr (tM M t s L G)) (b i : Int32) : tRes M t s L G (f_X1_moveReel (some (t, 0)) b i (tM M t s L G)) (aMoveR s b i) := by
  unfold f_X1_moveReel aMoveR
  rw [tM_rc, x1_isReel, obs, qbXV_c hF]
  by_cases h : isRF s b = 0
  · rw [if_pos h, if_pos h]
    exact tRes_wrong rfl
  · rw [if_neg h, if_neg h]
    obtain ⟨j, hj, rfl, -, h2⟩ := isRF_of h
    rw [tM_gR0, obs, tM_aR1 (by omega), obs, if_neg h2, tM_rc, nI_clamp (by omega)]
    exact tRes_qbXI (x1_move hI hL hF (TH_r (by omega) h2) (by omega) i)
theorem x1_moveGenerator (hI : I3 s) (hL : LR s L) (hF : Fr (tM M t s L G)) (b i : Int32) : tRes M t s L G (f_X1_moveGenerator (some (t, 0)) b i (tM M t s L G)) (aMoveG s b i) := by
  unfold f_X1_moveGenerator aMoveG
  rw [x0_inRange, obs, qbXV_c hF]
  by_cases h : inR b 0 1 = 0
  · rw [if_pos h, if_pos h]
    exact tRes_wrong rfl
  · rw [if_neg h, if_neg h]
    obtain ⟨j, hj, rfl⟩ := inR_of (n := 1) (by decide) h
    rw [tM_gR1, obs, tM_aR2 (by omega), obs, tM_rc, nI_clamp (by omega)]
    exact tRes_qbXI (x1_move hI hL hF (TH_g (by omega)) (by omega) i)
theorem x1_fuel (hL : LR s L) (hF : Fr (tM M t s L G)) (b n : Int32) : tRes M t s L G (f_X1_fuel (some (t, 0)) b n (tM M t s L G)) (aFuel s b n) := by
  unfold f_X1_fuel aFuel
  rw [x0_inRange, obs, qbXV_c hF]
  by_cases h : inR b 0 1 = 0
  · rw [if_pos h, if_pos h]
    exact tRes_wrong rfl
  · rw [if_neg h, if_neg h]
    obtain ⟨j, hj, rfl⟩ := inR_of (n := 1) (by decide) h
    rw [x0_inRange, obs, nI_clamp (by omega)]
    unfold f_X1_fuel_33
    rw [qbXV_c hF]
    by_cases h1 : inR n 5 500 = 0
    · rw [if_pos h1, if_pos h1, if_pos rfl]
      exact tRes_wrong rfl
    · rw [if_neg h1, if_neg h1]
      by_cases h2 : n - n / 5 * 5 = 0
      · rw [if_pos h2, if_pos h2, if_neg (by decide), tM_gR1, obs, tM_aR2 (by omega), obs, tM_rcg (by omega) rfl, x2_isInVan_g (by omega), obs, qbXV_c hF]
        by_cases h3 : s (50 + 2 * j) = -10000005
        · rw [if_pos h3, if_pos h3, if_neg (by decide), tM_gR1, obs, tM_aR2 (by omega), obs, tM_gg1 (by omega), obs]
          unfold f_X1_fuel_74
          rw [qbXV_c hF]
          by_cases h4 : s (50 + 2 * j + 1) + n ≤ 500
          · rw [if_pos h4, if_neg (Int32.not_lt.mpr h4), if_neg (by decide)]
            rw [tM_gR1, obs, tM_aR2 (by omega), obs, tM_gg1 (by omega), obs, tM_pg1 (by omega), obs, tM_gI10, obs, tM_pF10, obs, tM_gR1, obs, tM_aR2 (by omega), obs, tM_gg1 (by omega), obs, qupd_ne _ _ (by omega), qupd_at, qupd_ne _ _ (by omega), qupd_comm _ _ _ (by omega)]
            exact tRes_some hL (fun i h1 h2 h3 => by rw [qupd_ne _ _ (by omega), qupd_ne _ _ (by omega)]) rfl
          · rw [if_neg h4, if_pos (Int32.not_le.mp h4), if_pos rfl]
            exact tRes_wrong rfl
        · rw [if_neg h3, if_neg h3, if_pos rfl]
          exact tRes_wrong rfl
      · rw [if_neg h2, if_neg h2, if_pos rfl]
        exact tRes_wrong rfl
theorem dayL {s : Nat → Int32} {d : Nat} (h : s 55 = nI d) (hd : d < 9999) : s 55 + 1 = nI (d + 1) := by rw [h, nI_1]
theorem LR.day (hI : I4 s) (hL : LR s L) (h : ¬ s 55 = 9999) : LR (beginsF s) L := by
  obtain ⟨d, d1, d2, d3⟩ := hI
  have hd : d < 9999 := by
    rcases Nat.lt_or_ge d 9999 with g | g
    · exact g
    · exact absurd (by rw [d2, show d = 9999 by omega]; rfl) h
  intro b hb
  have e1 : beginsF s 55 = nI (d + 1) := by
    unfold beginsF
    rw [qupd_ne _ _ (by omega), qupd_ne _ _ (by omega), qupd_ne _ _ (by omega), qupd_ne _ _ (by omega), qupd_ne _ _ (by omega), qupd_at, dayL d2 hd]
  have e2 : beginsF s (57 + b) = 0 := by
    unfold beginsF
    rcases (show b = 0 ∨ b = 1 ∨ b = 2 ∨ b = 3 ∨ b = 4 by omega) with rfl | rfl | rfl | rfl | rfl
    · rw [qupd_ne _ _ (by omega), qupd_ne _ _ (by omega), qupd_ne _ _ (by omega), qupd_ne _ _ (by omega), qupd_at]
    · rw [qupd_ne _ _ (by omega), qupd_ne _ _ (by omega), qupd_ne _ _ (by omega), qupd_at]
    · rw [qupd_ne _ _ (by omega), qupd_ne _ _ (by omega), qupd_at]
    · rw [qupd_ne _ _ (by omega), qupd_at]
    · rw [qupd_at]
  rw [e1, e2]
  rcases (hL b hb).2 with g | ⟨x, e, g1, g2, g3, g4⟩
  · exact ⟨⟨fun y => absurd y (by decide), fun y => by rw [g] at y; exact absurd y.symm (nI_nN (by omega))⟩, Or.inl g⟩
  · rw [d2] at g2
    have : d = e := (nI_eq (by omega) (by omega)).mp g2
    exact ⟨⟨fun y => absurd y (by decide), fun y => by rw [g1] at y; exact absurd ((nI_eq (by omega) (by omega)).mp y) (by omega)⟩, Or.inr ⟨x, d + 1, g1, rfl, by omega, by omega⟩⟩
/-- tours that differ at cells that are not told -/
theorem tM_s57 {s' : Nat → Int32} (h : ∀ i, (i < 57 ∨ 61 < i) → s' i = s i) : tM M t s' L G = tM M t s L G := by
  unfold tM
  congr 1
  funext q
  by_cases g : q.1 = t
  · rw [if_pos g, if_pos g]
    refine tcell_c (fun _ i hi => h i (by omega)) (fun _ r hr => by rw [h _ (by omega)]) (fun _ => rfl) (fun _ b hb => h _ (by omega)) (fun _ b hb => h _ (by omega)) (fun _ b hb => h _ (by omega)) (fun r hr _ => ?_) (fun g hg _ c hc => h _ (by omega))
    unfold rcell
    rw [h _ (by omega), h _ (by omega), h _ (by omega), h _ (by omega), h _ (by omega)]
  · rw [if_neg g, if_neg g]
theorem x1_nextDay (hI : I4 s) (hL : LR s L) (hF : Fr (tM M t s L G)) : tRes M t s L G (f_X1_nextDay (some (t, 0)) (tM M t s L G)) (aDay s) := by
  unfold f_X1_nextDay f_X1_nextDay_15 aDay
  rw [tM_gI7, obs, qbXV_c hF]
  by_cases h : s 55 = 9999
  · rw [if_pos h, if_pos (by rw [h]; decide)]
    exact tRes_wrong rfl
  · have hn : ¬ (9999 : Int32) ≤ s 55 := by
      obtain ⟨d, d1, d2, d3⟩ := hI
      rw [d2]
      rcases Nat.lt_or_ge d 9999 with g | g
      · exact nI_ge (a := d) (b := 9999) g (by decide)
      · exact absurd (by rw [d2, show d = 9999 by omega]; rfl) h
    rw [if_neg h, if_neg hn, if_neg (by decide), tM_gI7, obs, tM_pF7, obs, tM_gI7, obs, qupd_at]
    refine ⟨L, G, ?_, LR.day hI hL h⟩
    congr 2
    refine (tM_s57 fun i hi => ?_).symm
    unfold beginsF
    rw [qupd_ne _ _ (by omega), qupd_ne _ _ (by omega), qupd_ne _ _ (by omega), qupd_ne _ _ (by omega), qupd_ne _ _ (by omega)]
theorem x1_renew (hL : LR s L) (hF : Fr (tM M t s L G)) (b : Int32) : tRes M t s L G (f_X1_renew (some (t, 0)) b (tM M t s L G)) (aRenew s b) := by
  unfold f_X1_renew aRenew
  rw [tM_rc, x1_isReel, obs, qbXV_c hF]
  by_cases h : isRF s b = 0
  · rw [if_pos h, if_pos h]
    exact tRes_wrong rfl
  · rw [if_neg h, if_neg h]
    obtain ⟨j, hj, rfl, -, h2⟩ := isRF_of h
    rw [nI_clamp (by omega), tM_gR0, obs, tM_aR1 (by omega), obs, if_neg h2, tM_rcr (by omega) h2 rfl, x2_isInVan_r (by omega) h2, obs, qbXV_c hF]
    by_cases h3 : s (5 * j) = -10000005
    · rw [if_pos h3, if_pos h3, if_neg (by decide), tM_gR0, obs, tM_aR1 (by omega), obs, if_neg h2, tM_rcr (by omega) h2 rfl]
      unfold f_X3_renew
      rw [tM_gr1 (by omega) h2, obs, tM_pr2 (by omega) h2, obs]
      rw [tM_pr3 (by omega) (by rw [qupd_ne _ _ (by omega)]; exact h2), obs]
      rw [tM_pr4 (by omega) (by rw [qupd_ne _ _ (by omega), qupd_ne _ _ (by omega)]; exact h2), obs]
      rw [tM_pr5 (by omega) (by rw [qupd_ne _ _ (by omega), qupd_ne _ _ (by omega), qupd_ne _ _ (by omega)]; exact h2), obs, obs]
      rw [tM_gI11, obs, tM_pF11, obs, tM_gR0, obs, tM_aR1 (by omega), obs]
      have h4 : ¬ qupd (qupd (qupd (qupd (qupd s (5 * j + 1) (8 + nI j)) (5 * j + 2) 0) (5 * j + 3) 0) (5 * j + 4) 0) 74 (qupd (qupd (qupd (qupd s (5 * j + 1) (8 + nI j)) (5 * j + 2) 0) (5 * j + 3) 0) (5 * j + 4) 0 74 + 30) (5 * j) = -2 := by
        rw [qupd_ne _ _ (by omega), qupd_ne _ _ (by omega), qupd_ne _ _ (by omega), qupd_ne _ _ (by omega), qupd_ne _ _ (by omega)]; exact h2
      rw [if_neg h4, tM_gr2 (by omega) h4, obs]
      refine tRes_some hL (fun i h1 h2 h3 => by rw [qupd_ne _ _ (by omega), qupd_ne _ _ (by omega), qupd_ne _ _ (by omega), qupd_ne _ _ (by omega), qupd_ne _ _ (by omega)]) ?_
      have e : ∀ v : Int32, qupd (qupd (qupd (qupd (qupd s 74 v) (5 * j + 1) (8 + nI j)) (5 * j + 2) 0) (5 * j + 3) 0) (5 * j + 4) 0 = qupd (qupd (qupd (qupd (qupd s (5 * j + 1) (8 + nI j)) (5 * j + 2) 0) (5 * j + 3) 0) (5 * j + 4) 0) 74 v := fun v => by
        rw [qupd_comm s _ _ (by omega), qupd_comm _ _ _ (show 74 ≠ 5 * j + 2 by omega), qupd_comm _ _ _ (show 74 ≠ 5 * j + 3 by omega), qupd_comm _ _ _ (show 74 ≠ 5 * j + 4 by omega)]
      rw [e]
      congr 3
      · rw [qupd_ne _ _ (by omega), qupd_ne _ _ (by omega), qupd_ne _ _ (by omega), qupd_ne _ _ (by omega), qupd_at]
      · rw [qupd_ne _ _ (by omega), qupd_ne _ _ (by omega), qupd_ne _ _ (by omega), qupd_ne _ _ (by omega)]
    · rw [if_neg h3, if_neg h3, if_pos rfl]
      exact tRes_wrong rfl
end X6
