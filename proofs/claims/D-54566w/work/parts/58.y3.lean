/-! a new tour -/
set_option maxRecDepth 100000
def Ln (k : Nat) : RW := fun b => if b < k then -10000005 else 0
section Y3
variable {M : QM} {t : Nat} {s L : Nat → Int32} {G : Nat → Option (Bool × QE)} {r g b : Nat} {x : Int32} {c : CF} {k : Nat} {e e' : QE}
theorem x3_new (v : Int32) : (qnn (some (t, k)) (f_X3_init (some (t, k)) v (cM M t (qupd c k (some (true, .inl (2, fs_2))))))) = some (cM M t (qupd c k (some (true, rE (-10000005) v (8 + v) 0 0 0)))) := by
  unfold qnn f_X3_init qnn f_X2_init qnn fs_2
  dsimp only
  have h0 : ∀ e, (cM M t (qupd c k (some (true, e)))).2 (t, k) = some (true, e) := fun e => cM_at.trans (qupd_at _ _ _)
  rw [pF_of (h0 _) (k := 0) rfl (by exact (by decide : 0 < 6)), obs, cM_qup, qupd_qupd, obs]
  rw [pF_of (h0 _) (k := 1) rfl (by exact (by decide : 1 < 6)), obs, cM_qup, qupd_qupd, pF_of (h0 _) (k := 2) rfl (by exact (by decide : 2 < 6)), obs, cM_qup, qupd_qupd]
  rfl
theorem x4_new : (qnn (some (t, k)) (f_X4_init (some (t, k)) (cM M t (qupd c k (some (true, .inl (3, fs_3))))))) = some (cM M t (qupd c k (some (true, gE (-10000005) 60)))) := by
  unfold qnn f_X4_init qnn f_X2_init qnn fs_3
  dsimp only
  have h0 : ∀ e, (cM M t (qupd c k (some (true, e)))).2 (t, k) = some (true, e) := fun e => cM_at.trans (qupd_at _ _ _)
  rw [pF_of (h0 _) (k := 0) rfl (by exact (by decide : 0 < 2)), obs, cM_qup, qupd_qupd, obs]
  rw [pF_of (h0 _) (k := 1) rfl (by exact (by decide : 1 < 2)), obs, cM_qup, qupd_qupd]
  rfl
theorem x1_n57 (hM : t < M.1) : ∀ n k : Nat, k ≤ 10 → 10 < k + n → f_X1_init_57 t n (some (t, 0)) (nI k) (cM M t (tcJ t (sRB row0 k) z0 gN 0)) = f_X1_init_85 t 3 (some (t, 0)) 0 (cM M t (tcJ t (sRB row0 10) z0 gN 0)) := by
  intro n
  induction n with
  | zero => intro k h1 h2; omega
  | succ n ih =>
    intro k h1 h2
    rw [f_X1_init_57]
    by_cases hk : k = 10
    · subst hk
      rw [if_pos (by decide +kernel)]
    · have hk : k < 10 := by omega
      have h0 : sRB row0 k (5 * k) = -2 := by unfold sRB; rw [if_neg (by omega)]; exact sE_r hk
      have h6 : tcJ t (sRB row0 k) z0 gN 0 (10 + k) = none := by
        unfold tcJ
        rw [if_neg (by omega), if_neg (by omega), tcell_r hk, if_pos h0]
        rfl
      rw [if_neg (show ¬ (10 : Int32) ≤ nI k from nI_ge (a := k) (b := 10) (by omega) (by decide)), tJ_gR0, obs, nI_clamp (by omega), cM_nO hM h6, obs, x3_new, obs]
      have e1 : rE (-10000005) (nI k) (8 + nI k) 0 0 0 = rcell (sRB row0 (k + 1)) k := by
        unfold rcell
        rw [sRB_at (by omega), sRB_at (by omega), sRB_at (by omega), sRB_at (by omega), sRB_at (by omega), row0_0 hk, row0_1 hk, row0_2 (by omega) (by omega) (by omega), row0_2 (by omega) (by omega) (by omega), row0_2 (by omega) (by omega) (by omega), show (8 : Int32) + nI k = nI (8 + k) from nI_add 8 k]
      rw [e1, cM_sR1 (f := rrow t (sRB row0 k)) (by rw [qupd_ne _ _ (by omega)]; rfl) hk (by
          unfold okst
          dsimp only
          rw [cM_at, qupd_at]
          rfl), obs, tcJ_reel (s' := sRB row0 (k + 1)) hk h0 (by rw [sRB_at (by omega), row0_0 hk]; decide) (fun i hi => sRB_hs hi), nI_1]
      exact ih (k + 1) (by omega) (by omega)
theorem x1_n85g (hM : t < M.1) (n k : Nat) (hk : k < 2) : f_X1_init_85 t (n + 1) (some (t, 0)) (nI k) (cM M t (tcJ t (sGC row0 k) z0 gN k)) = f_X1_init_85 t n (some (t, 0)) (nI (k + 1)) (cM M t (tcJ t (sGC row0 (k + 1)) z0 gN (k + 1))) := by
  rw [f_X1_init_85, if_neg (show ¬ (2 : Int32) ≤ nI k from nI_ge (a := k) (b := 2) (by omega) (by decide))]
  have h6 : tcJ t (sGC row0 k) z0 gN k (20 + k) = none := by
    unfold tcJ
    rw [if_neg (by omega), if_pos (by omega)]
  rw [tJ_gR1, obs, nI_clamp (by omega), cM_nO hM h6, obs, x4_new, obs]
  have e1 : gE (-10000005) 60 = gcell (sGC row0 (k + 1)) k := by
    unfold gcell
    rw [sGC_at (by omega), sGC_at (by omega)]
    rcases (show k = 0 ∨ k = 1 by omega) with rfl | rfl <;> rfl
  rw [e1, cM_sR2 (f := fun g => if g < k then some (t, 20 + g) else none) (by rw [qupd_ne _ _ (by omega)]; rfl) hk (by
    unfold okst
    dsimp only
    rw [cM_at, qupd_at]
    rfl), obs, tcJ_gen (s' := sGC row0 (k + 1)) hk (fun i hi => sGC_hs hi), nI_1]
theorem sGC_row0 : sGC row0 2 = row0 := by
  funext i
  unfold sGC
  by_cases h : i < 50 + 2 * 2
  · rw [if_pos h]
  · rw [if_neg h]
    by_cases h1 : i = 56
    · rw [h1]; decide +kernel
    · rw [sE_0 (by omega) h1]
      unfold row0
      rw [if_neg (by omega), if_neg (by omega), if_neg (by omega), if_neg h1]
theorem Ln_up (k : Nat) : qupd (Ln k) k (-10000005) = Ln (k + 1) := by
  funext i
  unfold Ln
  by_cases h : i = k
  · rw [h, qupd_at, if_pos (by omega)]
  · rw [qupd_ne _ _ h]
    by_cases h1 : i < k
    · rw [if_pos h1, if_pos (by omega)]
    · rw [if_neg h1, if_neg (by omega)]
theorem x1_n111 : ∀ n k : Nat, k ≤ 5 → 5 < k + n → f_X1_init_111 t n (some (t, 0)) (nI k) (tM M t row0 (Ln k) gN) = some (tM M t row0 (Ln 5) gN) := by
  intro n
  induction n with
  | zero => intro k h1 h2; omega
  | succ n ih =>
    intro k h1 h2
    rw [f_X1_init_111]
    by_cases hk : k = 5
    · subst hk
      rw [if_pos (by decide +kernel)]
    · rw [if_neg (show ¬ (5 : Int32) ≤ nI k from nI_ge (a := k) (b := 5) (by omega) (by decide)), tM_gR2, obs, tM_s3 (by omega), obs, Ln_up, nI_1]
      exact ih (k + 1) (by omega) (by omega)
theorem Ln_LR : LR row0 (Ln 5) := fun b hb => by
  have e1 : row0 (57 + b) = 0 := by
    rcases (show b = 0 ∨ b = 1 ∨ b = 2 ∨ b = 3 ∨ b = 4 by omega) with rfl | rfl | rfl | rfl | rfl <;> decide +kernel
  have e2 : row0 55 = 0 := by decide +kernel
  have e3 : Ln 5 b = -10000005 := if_pos hb
  rw [e1, e2, e3]
  exact ⟨⟨fun y => absurd y (by decide), fun y => absurd y (by decide)⟩, Or.inl rfl⟩
theorem x1_new (hM : t < M.1) : f_X1_init t (some (t, 0)) (cM M t (aC fs_1 0)) = some (tM M t row0 (Ln 5) gN) := by
  unfold f_X1_init qnn
  dsimp only
  rw [x1_allocs hM _ rfl]
  have e0 : sE = sRB row0 0 := by
    funext i
    unfold sRB
    rw [if_neg (by omega)]
  rw [e0]
  refine (x1_n57 hM 11 0 (by omega) (by omega)).trans ?_
  have e1 : sRB row0 10 = sGC row0 0 := rfl
  rw [e1]
  refine (x1_n85g hM 2 0 (by decide)).trans ((x1_n85g hM 1 1 (by decide)).trans ?_)
  rw [f_X1_init_85, if_pos (by decide), tcJ_2, ← tM_cM, sGC_row0]
  have e2 : z0 = Ln 0 := rfl
  rw [e2]
  exact x1_n111 6 0 (by omega) (by omega)
end Y3
