/-! reels: wear, people, shows left -/
set_option maxRecDepth 100000
theorem qup_at {N : QM} {q : QN} {e : QE} : (qup N q e).2 q = some (true, e) := by
  unfold qup
  dsimp only
  rw [if_pos rfl]
theorem qup_ne {N : QM} {q p : QN} {e : QE} (h : p ≠ q) : (qup N q e).2 p = N.2 p := by
  unfold qup
  dsimp only
  rw [if_neg h]
theorem qup_qup {N : QM} {q : QN} {e e' : QE} : qup (qup N q e) q e' = qup N q e' := by
  unfold qup
  congr 1
  funext p
  dsimp only
  by_cases h : p = q
  · rw [if_pos h, if_pos h]
  · rw [if_neg h, if_neg h, if_neg h]
theorem pF_of {N : QM} {q : QN} {ci : Nat} {fs : List QV} {cks : List (Nat × Nat)} {k : Nat} {v : QV} (h : N.2 q = some (true, .inl (ci, fs))) (hl : cks.lookup ci = some k) (hk : k < fs.length) : pF N (some q) cks v = some (qup N q (.inl (ci, fs.set k v))) := by
  simp only [pF, h, hl]
  rw [if_pos hk]
theorem gI_of {N : QM} {q : QN} {ci : Nat} {fs : List QV} {cks : List (Nat × Nat)} {k : Nat} {x : Int32} {w : Bool} (h : N.2 q = some (w, .inl (ci, fs))) (hl : cks.lookup ci = some k) (hk : fs[k]? = some (.inl x)) : gI N (some q) cks = some x := by
  simp only [gI, qfld, h, hl, hk]
theorem gR_of {N : QM} {q : QN} {ci : Nat} {fs : List QV} {cks : List (Nat × Nat)} {k : Nat} {x : QR} {w : Bool} (h : N.2 q = some (w, .inl (ci, fs))) (hl : cks.lookup ci = some k) (hk : fs[k]? = some (.inr x)) : gR N (some q) cks = some x := by
  simp only [gR, qfld, h, hl, hk]
/-- a reel -/
abbrev rE (b n mi w sp pl : Int32) : QE := .inl (2, [.inl b, .inl n, .inl mi, .inl w, .inl sp, .inl pl])
theorem x3_wears1 {N : QM} {q : QN} {b n mi w sp pl x : Int32} (h : N.2 q = some (true, rE b n mi w sp pl)) (hw : w + (5 + x) < 40) : f_X3_wears (some q) x N = some (0, qup N q (rE b n mi (w + (5 + x)) sp pl)) := by
  unfold f_X3_wears
  rw [gI_of h (k := 4) rfl rfl, obs, gI_of h (k := 3) rfl rfl, obs, pF_of h (k := 3) rfl (by exact (by decide : 3 < 6)), obs]
  rw [f_X3_wears_17, gI_of (k := 3) qup_at rfl rfl, obs, if_pos hw, gI_of (k := 4) qup_at rfl rfl, obs, Int32.sub_self]
  rfl
theorem x3_wears2 {N : QM} {q : QN} {b n mi w sp pl x : Int32} (h : N.2 q = some (true, rE b n mi w sp pl)) (hw : ¬ w + (5 + x) < 40) (hw2 : w + (5 + x) - 20 < 40) : f_X3_wears (some q) x N = some (1, qup N q (rE b n (mi - 1) (w + (5 + x) - 20) (sp + 1) pl)) := by
  unfold f_X3_wears
  rw [gI_of h (k := 4) rfl rfl, obs, gI_of h (k := 3) rfl rfl, obs, pF_of h (k := 3) rfl (by exact (by decide : 3 < 6)), obs]
  rw [f_X3_wears_17, gI_of (k := 3) qup_at rfl rfl, obs, if_neg hw, obs, pF_of (k := 3) qup_at rfl (by exact (by decide : 3 < 6)), obs, qup_qup]
  rw [gI_of (k := 2) qup_at rfl rfl, obs, pF_of (k := 2) qup_at rfl (by exact (by decide : 2 < 6)), obs, qup_qup]
  rw [gI_of (k := 4) qup_at rfl rfl, obs, pF_of (k := 4) qup_at rfl (by exact (by decide : 4 < 6)), obs, qup_qup]
  rw [f_X3_wears_17, gI_of (k := 3) qup_at rfl rfl, obs, if_pos hw2, gI_of (k := 4) qup_at rfl rfl, obs]
  congr 2
  grind
theorem x3_isGone {N : QM} {q : QN} {b n mi w sp pl : Int32} (h : N.2 q = some (true, rE b n mi w sp pl)) : f_X3_isGone (some q) N = some (if 3 ≤ mi then 0 else 1) := by
  unfold f_X3_isGone
  rw [gI_of h (k := 2) rfl rfl, obs]
  by_cases g : 3 ≤ mi
  · rw [if_pos g, if_pos g]
  · rw [if_neg g, if_neg g]
theorem x3_isFresh {N : QM} {q : QN} {b n mi w sp pl x : Int32} (h : N.2 q = some (true, rE b n mi w sp pl)) : f_X3_isFresh (some q) x N = some (if ((pl >>> (x &&& 31)) &&& 1) = 0 then 1 else 0) := by
  unfold f_X3_isFresh
  rw [gI_of h (k := 5) rfl rfl, obs]
  by_cases g : ((pl >>> (x &&& 31)) &&& 1) = 0
  · rw [if_pos g, if_pos g]
  · rw [if_neg g, if_neg g]
theorem qrc_of {β : Type} {N : QM} {q : QN} {ci : Nat} {fs : List QV} {cis : List Nat} {w : Bool} {y : Option β} (h : N.2 q = some (w, .inl (ci, fs))) (hc : cis.contains ci = true) : qrc N (some q) cis y = y := by
  simp only [qrc, h]
  rw [if_pos hc]
theorem qpure_ne {β : Type} {M N : QM} {x : β} (hF : Fr M) (h : ∀ q : QN, q.1 < M.1 → N.2 q = M.2 q) : qpure M N x = some x := qpure_some fun q hq => h q (by
  rcases Nat.lt_or_ge q.1 M.1 with g | g
  · exact g
  · exact absurd (hF q g) hq)
theorem nI_n15 {a : Nat} (h : 35 ≤ a) : nI (a + 5) - 20 = nI (a - 15) := by
  rw [show a + 5 = (a - 15) + 20 by omega, ← nI_add]
  exact Int32.add_sub_cancel _ _
theorem nI_m1 {c : Nat} (h : 1 ≤ c) : nI c - 1 = nI (c - 1) := by
  obtain ⟨d, rfl⟩ : ∃ d, c = d + 1 := ⟨c - 1, by omega⟩
  rw [← nI_1]
  exact Int32.add_sub_cancel _ _
theorem x3_bears7 {Mo : QM} {q : QN} (hF : Fr Mo) (hq : Mo.1 ≤ q.1) : ∀ n a c k : Nat, a < 40 → c ≤ 17 → 20 * c + 40 ≤ a + 5 * n → ∀ (N : QM) (b nn sp pl : Int32), (∀ p : QN, p.1 < Mo.1 → N.2 p = Mo.2 p) → N.2 q = some (true, rE b nn (nI c) (nI a) sp pl) → f_X3_bears_7 Mo n (some q) (nI k) N = brN n a c k := by
  intro n
  induction n with
  | zero => intro a c k h1 h2 h3; omega
  | succ n ih =>
    intro a c k h1 h2 h3 N b nn sp pl hN hq'
    have hne : ∀ (e : QE) (p : QN), p.1 < Mo.1 → (qup N q e).2 p = Mo.2 p := fun e p hp => by
      rw [qup_ne (fun y => by rw [y] at hp; omega), hN p hp]
    rw [f_X3_bears_7, brN, qrc_of hq' rfl, x3_isGone hq', obs]
    by_cases h : c < 3
    · rw [if_neg (show ¬ (3 : Int32) ≤ nI c from nI_ge (a := c) (b := 3) h (by decide)), if_neg (by decide), if_pos h, qpure_ne hF hN]
    · rw [if_pos (show (3 : Int32) ≤ nI c from nI_le (a := 3) (b := c) (by omega) (by omega)), if_pos rfl, if_neg h, qrc_of hq' rfl]
      have e1 : nI a + ((5 : Int32) + 0) = nI (a + 5) := nI_add a 5
      by_cases h4 : a + 5 < 40
      · rw [x3_wears1 hq' (by rw [e1]; exact nI_lt (a := a + 5) (b := 40) h4 (by decide)), if_pos h4, e1]
        unfold qbI
        rw [obs]
        dsimp only
        rw [nI_1]
        exact ih (a + 5) c (k + 1) h4 h2 (by omega) _ b nn sp pl (hne _) qup_at
      · rw [x3_wears2 hq' (by rw [e1]; exact nI_nlt (a := a + 5) (b := 40) (by omega) (by omega)) (by rw [e1, nI_n15 (by omega)]; exact nI_lt (a := a - 15) (b := 40) (by omega) (by decide)), if_neg h4, e1, nI_n15 (by omega), nI_m1 (by omega)]
        unfold qbI
        rw [obs]
        dsimp only
        rw [nI_1]
        exact ih (a - 15) (c - 1) (k + 1) (by omega) (by omega) (by omega) _ b nn (sp + 1) pl (hne _) qup_at
/-- a reel's copy, at a free name -/
theorem x3_copy {N : QM} {q nq : QN} {b n mi w sp pl : Int32} (hn : N.2 nq = none) (h : N.2 q = some (true, rE b n mi w sp pl)) : f_X3_copy nq (some q) N = some (some nq, qnew N nq (rE b n mi w sp pl)) := by
  have hne : q ≠ nq := fun y => by rw [y, hn] at h; cases h
  have h0 : ∀ e, (qnew N nq e).2 nq = some (true, e) := fun e => by unfold qnew; dsimp only; rw [if_pos rfl]
  have h1 : ∀ e, (qnew N nq e).2 q = some (true, rE b n mi w sp pl) := fun e => by unfold qnew; dsimp only; rw [if_neg hne, h]
  have h2 : ∀ e e', qup (qnew N nq e) nq e' = qnew N nq e' := fun e e' => by
    unfold qup qnew
    congr 1
    funext p
    dsimp only
    by_cases g : p = nq
    · rw [if_pos g, if_pos g]
    · rw [if_neg g, if_neg g, if_neg g]
  unfold f_X3_copy nO
  rw [hn]
  dsimp only
  rw [obs, gI_of (h1 _) (k := 1) rfl rfl, obs]
  unfold qnn f_X3_init qnn f_X2_init qnn fs_2
  dsimp only
  rw [pF_of (h0 _) (k := 0) rfl (by exact (by decide : 0 < 6)), obs, h2, obs]
  rw [pF_of (h0 _) (k := 1) rfl (by exact (by decide : 1 < 6)), obs, h2, pF_of (h0 _) (k := 2) rfl (by exact (by decide : 2 < 6)), obs, h2, obs]
  rw [gI_of (h1 _) (k := 0) rfl rfl, obs, pF_of (h0 _) (k := 0) rfl (by exact (by decide : 0 < 6)), obs, h2]
  rw [gI_of (h1 _) (k := 2) rfl rfl, obs, pF_of (h0 _) (k := 2) rfl (by exact (by decide : 2 < 6)), obs, h2]
  rw [gI_of (h1 _) (k := 3) rfl rfl, obs, pF_of (h0 _) (k := 3) rfl (by exact (by decide : 3 < 6)), obs, h2]
  rw [gI_of (h1 _) (k := 4) rfl rfl, obs, pF_of (h0 _) (k := 4) rfl (by exact (by decide : 4 < 6)), obs, h2]
  rw [gI_of (h1 _) (k := 5) rfl rfl, obs, pF_of (h0 _) (k := 5) rfl (by exact (by decide : 5 < 6)), obs, h2]
  rfl
theorem x3_bears {N : QM} {q : QN} {b n sp pl : Int32} {a c : Nat} (hF : Fr N) (ha : a < 40) (hc : c ≤ 17) (h : N.2 q = some (true, rE b n (nI c) (nI a) sp pl)) : f_X3_bears (some q) N = some (brF (nI a) (nI c)) := by
  unfold f_X3_bears brF
  rw [nI_clamp (by omega), nI_clamp (by omega), qrc_of h rfl, x3_copy (hF (N.1, 0) (Nat.le_refl _)) h]
  unfold qbR
  rw [obs]
  dsimp only
  obtain ⟨v, hv⟩ := brN_some 100 a c 0 ha (by omega)
  rw [hv]
  refine Eq.trans (x3_bears7 (q := (N.1, 0)) hF (Nat.le_refl _) 100 a c 0 ha hc (by omega) _ b n sp pl (fun p hp => ?_) ?_) hv
  · unfold qnew
    dsimp only
    rw [if_neg (fun y => by rw [y] at hp; exact absurd hp (Nat.lt_irrefl _))]
  · unfold qnew
    dsimp only
    rw [if_pos rfl]
section X5
variable {M : QM} {t : Nat} {s L : Nat → Int32} {G : Nat → Option (Bool × QE)} {r g b : Nat} {x : Int32}
theorem tM_fr (hM : t < M.1) (hF : Fr M) : Fr (tM M t s L G) := fun q hq => by
  have hq : M.1 ≤ q.1 := hq
  rw [tM_ne (by omega)]
  exact hF q hq
theorem mx0 (p : Int32) : (if 0 < p then p else 0) = if p < 0 then 0 else p := by
  by_cases h : p < 0
  · rw [if_pos h, if_neg (fun y => by have := Int32.lt_iff_toInt_lt.mp h; have := Int32.lt_iff_toInt_lt.mp y; omega)]
  · rw [if_neg h]
    by_cases h1 : 0 < p
    · rw [if_pos h1]
    · rw [if_neg h1]
      apply Int32.toInt_inj.mp
      have h2 := Int32.le_iff_toInt_le.mp (Int32.not_lt.mp h)
      have h3 := Int32.le_iff_toInt_le.mp (Int32.not_lt.mp h1)
      exact Int.le_antisymm h2 h3
theorem pplF_0 {s : Nat → Int32} (H : I1 s) {b : Int32} (h : frF s b = 0) : pplF s b = 0 := by
  obtain ⟨w, h7, h8⟩ := mxw_nI H b 10 (by omega)
  unfold pplF wrF
  rw [h, h8]
  by_cases hc : cntF s b = 0
  · rw [if_pos hc]; rfl
  · rw [if_neg hc, Int32.mul_zero, Int32.zero_div]
    have e2 : nI w / 10 = nI (w / 10) := pk_div (d := 10) (by omega) (by omega) (by omega)
    rw [e2]
    have h9 : w / 10 < 4 := by omega
    rcases (show w / 10 = 0 ∨ w / 10 = 1 ∨ w / 10 = 2 ∨ w / 10 = 3 by omega) with z | z | z | z <;> rw [z] <;> decide +kernel
theorem x1_peopleFor (H : I1 s) (hF : Fr (tM M t s L G)) (hb : b < 5) : f_X1_peopleFor (some (t, 0)) (nI b) (tM M t s L G) = some (pplF s (nI b)) := by
  have hb2 := nI_n2 hb
  have k1 : ∀ n k : Nat, k ≤ 10 → 10 < k + n → f_X1_peopleFor_7 (tM M t s L G) n (some (t, 0)) (nI b) (sm (fun r => if s (5 * r) = nI b then (if ((s (5 * r + 4) >>> (nI b &&& 31)) &&& 1) = 0 then 1 else 0) else 0) k) (mxw s (nI b) k) (nI k) = some (pplF s (nI b)) := by
    intro n
    induction n with
    | zero => intro k h1 h2; omega
    | succ n ih =>
      intro k h1 h2
      rw [f_X1_peopleFor_7]
      by_cases hk : k = 10
      · subst hk
        rw [if_pos (by decide +kernel)]
        show (if frF s (nI b) = 0 then _ else _) = _
        by_cases hf : frF s (nI b) = 0
        · rw [if_pos hf, pplF_0 H hf]
        · rw [if_neg hf, x0_seatsOf hF (by omega), obs, tM_rc, x1_reelsIn hb2, obs]
          have hc : ¬ cntF s (nI b) = 0 := fun y => by
            obtain ⟨f, c, h1, h2, h3, h4⟩ := frcnt_nI s (nI b)
            rw [h4] at y
            have hc0 : c = 0 := by
              rcases Nat.eq_zero_or_pos c with g | g
              · exact g
              · exact absurd y (nI_ne0 (by omega) (by omega))
            apply hf
            rw [h3, show f = 0 by omega]
            rfl
          unfold qnz
          rw [if_neg hc, mx0]
          unfold pplF
          rw [if_neg hc]
          rfl
      · rw [if_neg (show ¬ (10 : Int32) ≤ nI k from nI_ge (a := k) (b := 10) (by omega) (by decide)), tM_rc, x1_isIn (by omega) hb2, obs, ← ih (k + 1) (by omega) (by omega), nI_1]
        by_cases h : s (5 * k) = nI b
        · have h2 : ¬ s (5 * k) = -2 := fun y => hb2 (by rw [← h, y])
          rw [if_pos h, if_neg (by decide), tM_gR0, obs, tM_aR1 (by omega), obs, if_neg h2, tM_rcr (by omega) h2 rfl, x3_isFresh (tM_cr (by omega) h2), obs]
          unfold f_X1_peopleFor_47
          rw [tM_gR0, obs, tM_aR1 (by omega), obs, if_neg h2, tM_gr3 (by omega) h2, obs, ite01, nI_1]
          have e1 : sm (fun r => if s (5 * r) = nI b then (if ((s (5 * r + 4) >>> (nI b &&& 31)) &&& 1) = 0 then (1 : Int32) else 0) else 0) (k + 1) = sm (fun r => if s (5 * r) = nI b then (if ((s (5 * r + 4) >>> (nI b &&& 31)) &&& 1) = 0 then 1 else 0) else 0) k + (if ((s (5 * k + 4) >>> (nI b &&& 31)) &&& 1) = 0 then 1 else 0) := by
            show _ + (if s (5 * k) = nI b then (if ((s (5 * k + 4) >>> (nI b &&& 31)) &&& 1) = 0 then (1 : Int32) else 0) else 0) = _
            rw [if_pos h]
          have e2 : mxw s (nI b) (k + 1) = if mxw s (nI b) k < s (5 * k + 2) then s (5 * k + 2) else mxw s (nI b) k := by
            show (if s (5 * k) = nI b then (if mxw s (nI b) k < s (5 * k + 2) then s (5 * k + 2) else mxw s (nI b) k) else mxw s (nI b) k) = _
            rw [if_pos h]
          rw [e1, e2]
        · rw [if_neg h, if_pos rfl]
          have e1 : sm (fun r => if s (5 * r) = nI b then (if ((s (5 * r + 4) >>> (nI b &&& 31)) &&& 1) = 0 then (1 : Int32) else 0) else 0) (k + 1) = sm (fun r => if s (5 * r) = nI b then (if ((s (5 * r + 4) >>> (nI b &&& 31)) &&& 1) = 0 then 1 else 0) else 0) k := by
            show _ + (if s (5 * k) = nI b then (if ((s (5 * k + 4) >>> (nI b &&& 31)) &&& 1) = 0 then (1 : Int32) else 0) else 0) = _
            rw [if_neg h, Int32.add_zero]
          have e2 : mxw s (nI b) (k + 1) = mxw s (nI b) k := by
            show (if s (5 * k) = nI b then (if mxw s (nI b) k < s (5 * k + 2) then s (5 * k + 2) else mxw s (nI b) k) else mxw s (nI b) k) = _
            rw [if_neg h]
          rw [e1, e2]
  exact k1 11 0 (by omega) (by omega)
end X5
