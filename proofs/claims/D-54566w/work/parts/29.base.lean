/-! step 2: numbers, the model's cells -/
set_option maxRecDepth 100000
theorem nI_mul (a b : Nat) : nI a * nI b = nI (a * b) := (Int32.ofNat_mul a b).symm
theorem ix_nI {k n : Nat} (h : k < n) (hn : n < 2 ^ 31) : ix (nI k) n = some k := by
  unfold ix
  rw [if_neg (nI_in h hn), nI_clamp (Nat.lt_trans h hn)]
theorem qupd_at {β : Type} (f : Nat → β) (k : Nat) (x : β) : qupd f k x k = x := by simp [qupd]
theorem qupd_ne {β : Type} (f : Nat → β) {k j : Nat} (x : β) (h : j ≠ k) : qupd f k x j = f j := by simp [qupd, h]
theorem qupd_qupd {β : Type} (f : Nat → β) (k : Nat) (x y : β) : qupd (qupd f k x) k y = qupd f k y := by
  funext j
  simp only [qupd]
  split <;> rfl
theorem qupd_self {β : Type} (f : Nat → β) (k : Nat) : qupd f k (f k) = f := by
  funext j
  simp only [qupd]
  split
  · next h => rw [h]
  · rfl
def mfs (m : Nat) (F : Nat → Int32) : List QV := [.inr (some (m, 1)), .inr (some (m, 2)), .inr (some (m, 3)), .inl (F 3), .inr (some (m, 4)), .inl (F 5), .inr (some (m, 5)), .inl (F 7), .inl (F 8), .inl (F 9), .inl (F 10), .inl (F 11), .inl (F 12), .inl (F 13), .inl (F 14), .inl (F 15)]
def mlen : Nat → Nat
  | 3 => 432
  | 5 => 80
  | _ => 108
def mcell (m : Nat) (A : Nat → Nat → Int32) (F : Nat → Int32) (k : Nat) : QE := if k = 0 then .inl (4, mfs m F) else .inr (.inl (0, mlen k, A k))
/-- the memory with the model's cells at id m -/
def mM (M : QM) (m : Nat) (A : Nat → Nat → Int32) (F : Nat → Int32) : QM := (M.1, fun q => if q.1 = m ∧ q.2 < 6 then some (true, mcell m A F q.2) else M.2 q)
section MM
variable {M : QM} {m : Nat} {A : Nat → Nat → Int32} {F : Nat → Int32}
theorem mM_at (k : Nat) (hk : k < 6) : (mM M m A F).2 (m, k) = some (true, mcell m A F k) := by simp [mM, hk]
theorem mM_c0 : (mM M m A F).2 (m, 0) = some (true, .inl (4, mfs m F)) := mM_at 0 (by decide)
theorem mM_c1 : (mM M m A F).2 (m, 1) = some (true, .inr (.inl (0, 108, A 1))) := mM_at 1 (by decide)
theorem mM_c2 : (mM M m A F).2 (m, 2) = some (true, .inr (.inl (0, 108, A 2))) := mM_at 2 (by decide)
theorem mM_c3 : (mM M m A F).2 (m, 3) = some (true, .inr (.inl (0, 432, A 3))) := mM_at 3 (by decide)
theorem mM_c4 : (mM M m A F).2 (m, 4) = some (true, .inr (.inl (0, 108, A 4))) := mM_at 4 (by decide)
theorem mM_c5 : (mM M m A F).2 (m, 5) = some (true, .inr (.inl (0, 80, A 5))) := mM_at 5 (by decide)
theorem mM_rc {β : Type} {x : Option β} : qrc (mM M m A F) (some (m, 0)) [4] x = x := by
  simp only [qrc, mM_c0]
  rfl
theorem mM_up0 {F' : Nat → Int32} : qup (mM M m A F) (m, 0) (.inl (4, mfs m F')) = mM M m A F' := by
  refine Prod.ext rfl (funext fun q => ?_)
  simp only [qup, mM]
  by_cases h : q = (m, 0)
  · subst h
    simp [mcell]
  · rw [if_neg h]
    by_cases h2 : q.1 = m ∧ q.2 < 6
    · rw [if_pos h2, if_pos h2]
      have h3 : q.2 ≠ 0 := fun z => h (Prod.ext h2.1 z)
      simp [mcell, h3]
    · rw [if_neg h2, if_neg h2]
theorem mM_upA {k : Nat} (h0 : k ≠ 0) (hk : k < 6) {g : Nat → Int32} : qup (mM M m A F) (m, k) (.inr (.inl (0, mlen k, g))) = mM M m (qupd A k g) F := by
  refine Prod.ext rfl (funext fun q => ?_)
  simp only [qup, mM]
  by_cases h : q = (m, k)
  · subst h
    simp [mcell, h0, hk, qupd]
  · rw [if_neg h]
    by_cases h2 : q.1 = m ∧ q.2 < 6
    · rw [if_pos h2, if_pos h2]
      have h3 : q.2 ≠ k := fun z => h (Prod.ext h2.1 z)
      simp [mcell, qupd, h3]
    · rw [if_neg h2, if_neg h2]
theorem mM_gR0 : gR (mM M m A F) (some (m, 0)) [(4, 0)] = some (some (m, 1)) := by simp only [gR, qfld, mM_c0]; rfl
theorem mM_gR1 : gR (mM M m A F) (some (m, 0)) [(4, 1)] = some (some (m, 2)) := by simp only [gR, qfld, mM_c0]; rfl
theorem mM_gR2 : gR (mM M m A F) (some (m, 0)) [(4, 2)] = some (some (m, 3)) := by simp only [gR, qfld, mM_c0]; rfl
theorem mM_gR4 : gR (mM M m A F) (some (m, 0)) [(4, 4)] = some (some (m, 4)) := by simp only [gR, qfld, mM_c0]; rfl
theorem mM_gR6 : gR (mM M m A F) (some (m, 0)) [(4, 6)] = some (some (m, 5)) := by simp only [gR, qfld, mM_c0]; rfl
theorem mM_gI3 : gI (mM M m A F) (some (m, 0)) [(4, 3)] = some (F 3) := by simp only [gI, qfld, mM_c0]; rfl
theorem mM_gI5 : gI (mM M m A F) (some (m, 0)) [(4, 5)] = some (F 5) := by simp only [gI, qfld, mM_c0]; rfl
theorem mM_gI7 : gI (mM M m A F) (some (m, 0)) [(4, 7)] = some (F 7) := by simp only [gI, qfld, mM_c0]; rfl
theorem mM_gI8 : gI (mM M m A F) (some (m, 0)) [(4, 8)] = some (F 8) := by simp only [gI, qfld, mM_c0]; rfl
theorem mM_gI9 : gI (mM M m A F) (some (m, 0)) [(4, 9)] = some (F 9) := by simp only [gI, qfld, mM_c0]; rfl
theorem mM_gI10 : gI (mM M m A F) (some (m, 0)) [(4, 10)] = some (F 10) := by simp only [gI, qfld, mM_c0]; rfl
theorem mM_gI11 : gI (mM M m A F) (some (m, 0)) [(4, 11)] = some (F 11) := by simp only [gI, qfld, mM_c0]; rfl
theorem mM_gI12 : gI (mM M m A F) (some (m, 0)) [(4, 12)] = some (F 12) := by simp only [gI, qfld, mM_c0]; rfl
theorem mM_gI13 : gI (mM M m A F) (some (m, 0)) [(4, 13)] = some (F 13) := by simp only [gI, qfld, mM_c0]; rfl
theorem mM_gI14 : gI (mM M m A F) (some (m, 0)) [(4, 14)] = some (F 14) := by simp only [gI, qfld, mM_c0]; rfl
theorem mM_gI15 : gI (mM M m A F) (some (m, 0)) [(4, 15)] = some (F 15) := by simp only [gI, qfld, mM_c0]; rfl
theorem mM_pF3 {v : Int32} : pF (mM M m A F) (some (m, 0)) [(4, 3)] (.inl v) = some (mM M m A (qupd F 3 v)) := by
  simp only [pF, mM_c0]
  exact congrArg some (mM_up0 (F' := qupd F 3 v))
theorem mM_pF5 {v : Int32} : pF (mM M m A F) (some (m, 0)) [(4, 5)] (.inl v) = some (mM M m A (qupd F 5 v)) := by
  simp only [pF, mM_c0]
  exact congrArg some (mM_up0 (F' := qupd F 5 v))
theorem mM_pF7 {v : Int32} : pF (mM M m A F) (some (m, 0)) [(4, 7)] (.inl v) = some (mM M m A (qupd F 7 v)) := by
  simp only [pF, mM_c0]
  exact congrArg some (mM_up0 (F' := qupd F 7 v))
theorem mM_pF8 {v : Int32} : pF (mM M m A F) (some (m, 0)) [(4, 8)] (.inl v) = some (mM M m A (qupd F 8 v)) := by
  simp only [pF, mM_c0]
  exact congrArg some (mM_up0 (F' := qupd F 8 v))
theorem mM_pF9 {v : Int32} : pF (mM M m A F) (some (m, 0)) [(4, 9)] (.inl v) = some (mM M m A (qupd F 9 v)) := by
  simp only [pF, mM_c0]
  exact congrArg some (mM_up0 (F' := qupd F 9 v))
theorem mM_pF10 {v : Int32} : pF (mM M m A F) (some (m, 0)) [(4, 10)] (.inl v) = some (mM M m A (qupd F 10 v)) := by
  simp only [pF, mM_c0]
  exact congrArg some (mM_up0 (F' := qupd F 10 v))
theorem mM_pF11 {v : Int32} : pF (mM M m A F) (some (m, 0)) [(4, 11)] (.inl v) = some (mM M m A (qupd F 11 v)) := by
  simp only [pF, mM_c0]
  exact congrArg some (mM_up0 (F' := qupd F 11 v))
theorem mM_pF12 {v : Int32} : pF (mM M m A F) (some (m, 0)) [(4, 12)] (.inl v) = some (mM M m A (qupd F 12 v)) := by
  simp only [pF, mM_c0]
  exact congrArg some (mM_up0 (F' := qupd F 12 v))
theorem mM_pF13 {v : Int32} : pF (mM M m A F) (some (m, 0)) [(4, 13)] (.inl v) = some (mM M m A (qupd F 13 v)) := by
  simp only [pF, mM_c0]
  exact congrArg some (mM_up0 (F' := qupd F 13 v))
theorem mM_pF14 {v : Int32} : pF (mM M m A F) (some (m, 0)) [(4, 14)] (.inl v) = some (mM M m A (qupd F 14 v)) := by
  simp only [pF, mM_c0]
  exact congrArg some (mM_up0 (F' := qupd F 14 v))
theorem mM_pF15 {v : Int32} : pF (mM M m A F) (some (m, 0)) [(4, 15)] (.inl v) = some (mM M m A (qupd F 15 v)) := by
  simp only [pF, mM_c0]
  exact congrArg some (mM_up0 (F' := qupd F 15 v))
theorem mM_a1 {i : Int32} : aI (mM M m A F) (some (m, 1)) i = (ix i 108).map (A 1) := by simp only [aI, mM_c1]; rfl
theorem mM_s1 {i v : Int32} : sI (mM M m A F) (some (m, 1)) i v = (ix i 108).map fun k => mM M m (qupd A 1 (qupd (A 1) k v)) F := by
  simp only [sI, mM_c1, if_true]
  exact congrArg (fun f => Option.map f _) (funext fun k => mM_upA (k := 1) (by decide) (by decide))
theorem mM_a2 {i : Int32} : aI (mM M m A F) (some (m, 2)) i = (ix i 108).map (A 2) := by simp only [aI, mM_c2]; rfl
theorem mM_s2 {i v : Int32} : sI (mM M m A F) (some (m, 2)) i v = (ix i 108).map fun k => mM M m (qupd A 2 (qupd (A 2) k v)) F := by
  simp only [sI, mM_c2, if_true]
  exact congrArg (fun f => Option.map f _) (funext fun k => mM_upA (k := 2) (by decide) (by decide))
theorem mM_a3 {i : Int32} : aI (mM M m A F) (some (m, 3)) i = (ix i 432).map (A 3) := by simp only [aI, mM_c3]; rfl
theorem mM_s3 {i v : Int32} : sI (mM M m A F) (some (m, 3)) i v = (ix i 432).map fun k => mM M m (qupd A 3 (qupd (A 3) k v)) F := by
  simp only [sI, mM_c3, if_true]
  exact congrArg (fun f => Option.map f _) (funext fun k => mM_upA (k := 3) (by decide) (by decide))
theorem mM_a4 {i : Int32} : aI (mM M m A F) (some (m, 4)) i = (ix i 108).map (A 4) := by simp only [aI, mM_c4]; rfl
theorem mM_s4 {i v : Int32} : sI (mM M m A F) (some (m, 4)) i v = (ix i 108).map fun k => mM M m (qupd A 4 (qupd (A 4) k v)) F := by
  simp only [sI, mM_c4, if_true]
  exact congrArg (fun f => Option.map f _) (funext fun k => mM_upA (k := 4) (by decide) (by decide))
theorem mM_a5 {i : Int32} : aI (mM M m A F) (some (m, 5)) i = (ix i 80).map (A 5) := by simp only [aI, mM_c5]; rfl
theorem mM_s5 {i v : Int32} : sI (mM M m A F) (some (m, 5)) i v = (ix i 80).map fun k => mM M m (qupd A 5 (qupd (A 5) k v)) F := by
  simp only [sI, mM_c5, if_true]
  exact congrArg (fun f => Option.map f _) (funext fun k => mM_upA (k := 5) (by decide) (by decide))
end MM
/-! the answers that are told of the row: one spec for both sides -/
def inR (v lo hi : Int32) : Int32 := if v < lo then 0 else if hi < v then 0 else 1
def mileF (b : Int32) : Int32 := if b = 0 then 0 else if b = 1 then 8 else if b = 2 then 20 else if b = 3 then 26 else 45
def seatsF (b : Int32) : Int32 := if b = 0 then 40 else if b = 1 then 60 else if b = 2 then 80 else if b = 3 then 50 else 30
def sm (g : Nat → Int32) : Nat → Int32
  | 0 => 0
  | k + 1 => sm g k + g k
def one0 (p : Prop) [Decidable p] : Int32 := if p then 1 else 0
def cntF (s : Nat → Int32) (b : Int32) : Int32 := sm (fun r => if s (5 * r) = b then 1 else 0) 10
def minF (s : Nat → Int32) (b : Int32) : Int32 := sm (fun r => if s (5 * r) = b then s (5 * r + 1) else 0) 10
def frF (s : Nat → Int32) (b : Int32) : Int32 := sm (fun r => if s (5 * r) = b then (if ((s (5 * r + 4) >>> (b &&& 31)) &&& 1) = 0 then 1 else 0) else 0) 10
def mxw (s : Nat → Int32) (b : Int32) : Nat → Int32
  | 0 => 0
  | k + 1 => if s (5 * k) = b then (if mxw s b k < s (5 * k + 2) then s (5 * k + 2) else mxw s b k) else mxw s b k
def wrF (s : Nat → Int32) (b : Int32) : Int32 := mxw s b 10
def genF (s : Nat → Int32) (b n : Int32) : Int32 := if s 50 = b ∧ ¬ s 51 < n then 0 else if s 52 = b ∧ ¬ s 53 < n then 1 else -10000005
def whyF (s : Nat → Int32) (b : Int32) : Int32 := if s (57 + b.toNatClampNeg) = 1 then 1 else if cntF s b = 0 then 2 else if genF s b 0 = -10000005 then 3 else if genF s b (minF s b) = -10000005 then 4 else 0
def pplF (s : Nat → Int32) (b : Int32) : Int32 :=
  let p := if cntF s b = 0 then 0 else seatsF b * frF s b / cntF s b - wrF s b / 10
  if p < 0 then 0 else p
def vanF (s : Nat → Int32) : Int32 := sm (fun r => if s (5 * r) = -10000005 then 1 else 0) 10 + (if s 50 = -10000005 then 1 else 0) + (if s 52 = -10000005 then 1 else 0)
def goneF (s : Nat → Int32) : Int32 := sm (fun r => if s (5 * r) = -2 then 1 else 0) 10
def sumF (s : Nat → Int32) (a n : Nat) : Int32 := sm (fun k => s (a + k)) n
/-! simple answers of the model -/
theorem l5_of (r w : Nat) {M : QM} : f_X5_of (nI r) (nI w) M = some (nI (5 * r + w)) := by
  show some (nI 0 + nI 5 * nI r + nI w) = _
  rw [nI_mul, nI_add, nI_add, Nat.zero_add]
theorem l5_of0 (r : Nat) {M : QM} : f_X5_of (nI r) (0 : Int32) M = some (nI (5 * r)) := l5_of r 0
theorem l5_of1 (r : Nat) {M : QM} : f_X5_of (nI r) (1 : Int32) M = some (nI (5 * r + 1)) := l5_of r 1
theorem l5_of2 (r : Nat) {M : QM} : f_X5_of (nI r) (2 : Int32) M = some (nI (5 * r + 2)) := l5_of r 2
theorem l5_of3 (r : Nat) {M : QM} : f_X5_of (nI r) (3 : Int32) M = some (nI (5 * r + 3)) := l5_of r 3
theorem l5_of4 (r : Nat) {M : QM} : f_X5_of (nI r) (4 : Int32) M = some (nI (5 * r + 4)) := l5_of r 4
theorem l5_in (v lo hi : Int32) {M : QM} : f_X5_in v lo hi M = some (inR v lo hi) := by
  unfold f_X5_in inR
  split
  · rfl
  · split <;> rfl
theorem l0_inRange (v lo hi : Int32) {M : QM} : f_X0_inRange v lo hi M = some (inR v lo hi) := by
  unfold f_X0_inRange inR
  split
  · rfl
  · split <;> rfl
theorem vpB (x : Int32) (h : x = 0 ∨ x = 1) : vp_nar .boolean x = x := by rcases h with rfl | rfl <;> rfl
theorem inR01 (v lo hi : Int32) : inR v lo hi = 0 ∨ inR v lo hi = 1 := by
  unfold inR
  split
  · exact Or.inl rfl
  · split
    · exact Or.inl rfl
    · exact Or.inr rfl
theorem qnarB {α : Type} {x : Int32} (h : x = 0 ∨ x = 1) (k : Option α) : qnar .boolean x k = k := by
  unfold qnar
  rw [if_pos (vpB x h)]
theorem l5_isBarn (b : Int32) {M : QM} : f_X5_isBarn b M = some (inR b 0 4) := by
  unfold f_X5_isBarn
  simp only [l5_in, Option.bind_some, qnarB (inR01 _ _ _)]
theorem l5_isGenerator (b : Int32) {M : QM} : f_X5_isGenerator b M = some (inR b 0 1) := by
  unfold f_X5_isGenerator
  simp only [l5_in, Option.bind_some, qnarB (inR01 _ _ _)]
theorem l0_isBarn (b : Int32) {M : QM} : f_X0_isBarn b M = some (inR b 0 4) := by
  unfold f_X0_isBarn
  simp only [l0_inRange, Option.bind_some, qnarB (inR01 _ _ _)]
theorem l5_mile (b : Int32) {M : QM} : f_X5_mile b M = some (mileF b) := by
  unfold f_X5_mile mileF
  repeat (first | rfl | split)
theorem l5_seats (b : Int32) {M : QM} : f_X5_seats b M = some (seatsF b) := by
  unfold f_X5_seats seatsF
  repeat (first | rfl | split)
theorem ix108 {k : Nat} (h : k < 108) : ix (nI k) 108 = some k := ix_nI h (by decide)
theorem ix432 {k : Nat} (h : k < 432) : ix (nI k) 432 = some k := ix_nI h (by decide)
theorem ix80 {k : Nat} (h : k < 80) : ix (nI k) 80 = some k := ix_nI h (by decide)
theorem i108_50 : ix (50 : Int32) 108 = some 50 := by decide +kernel
theorem i108_51 : ix (51 : Int32) 108 = some 51 := by decide +kernel
theorem i108_52 : ix (52 : Int32) 108 = some 52 := by decide +kernel
theorem i108_53 : ix (53 : Int32) 108 = some 53 := by decide +kernel
theorem i108_54 : ix (54 : Int32) 108 = some 54 := by decide +kernel
theorem i108_55 : ix (55 : Int32) 108 = some 55 := by decide +kernel
theorem i108_56 : ix (56 : Int32) 108 = some 56 := by decide +kernel
theorem i108_72 : ix (72 : Int32) 108 = some 72 := by decide +kernel
theorem i108_73 : ix (73 : Int32) 108 = some 73 := by decide +kernel
theorem i108_74 : ix (74 : Int32) 108 = some 74 := by decide +kernel
theorem i108_75 : ix (75 : Int32) 108 = some 75 := by decide +kernel
theorem i108_76 : ix (76 : Int32) 108 = some 76 := by decide +kernel
theorem i108_77 : ix (77 : Int32) 108 = some 77 := by decide +kernel
theorem i108_78 : ix (78 : Int32) 108 = some 78 := by decide +kernel
theorem i108_79 : ix (79 : Int32) 108 = some 79 := by decide +kernel
theorem i108_80 : ix (80 : Int32) 108 = some 80 := by decide +kernel
theorem i108_81 : ix (81 : Int32) 108 = some 81 := by decide +kernel
theorem i108_82 : ix (82 : Int32) 108 = some 82 := by decide +kernel
theorem ne_0_1 : ((0 : Int32) = 1) = False := by decide +kernel
theorem ne_0_2 : ((0 : Int32) = 2) = False := by decide +kernel
theorem ne_0_3 : ((0 : Int32) = 3) = False := by decide +kernel
theorem ne_0_4 : ((0 : Int32) = 4) = False := by decide +kernel
theorem ne_0_5 : ((0 : Int32) = 5) = False := by decide +kernel
theorem ne_0_6 : ((0 : Int32) = 6) = False := by decide +kernel
theorem ne_0_7 : ((0 : Int32) = 7) = False := by decide +kernel
theorem ne_0_8 : ((0 : Int32) = 8) = False := by decide +kernel
theorem ne_0_9 : ((0 : Int32) = 9) = False := by decide +kernel
theorem ne_0_10 : ((0 : Int32) = 10) = False := by decide +kernel
theorem ne_0_11 : ((0 : Int32) = 11) = False := by decide +kernel
theorem ne_0_12 : ((0 : Int32) = 12) = False := by decide +kernel
theorem ne_0_13 : ((0 : Int32) = 13) = False := by decide +kernel
theorem ne_0_14 : ((0 : Int32) = 14) = False := by decide +kernel
theorem ne_0_15 : ((0 : Int32) = 15) = False := by decide +kernel
theorem ne_1_0 : ((1 : Int32) = 0) = False := by decide +kernel
theorem ne_1_2 : ((1 : Int32) = 2) = False := by decide +kernel
theorem ne_1_3 : ((1 : Int32) = 3) = False := by decide +kernel
theorem ne_1_4 : ((1 : Int32) = 4) = False := by decide +kernel
theorem ne_1_5 : ((1 : Int32) = 5) = False := by decide +kernel
theorem ne_1_6 : ((1 : Int32) = 6) = False := by decide +kernel
theorem ne_1_7 : ((1 : Int32) = 7) = False := by decide +kernel
theorem ne_1_8 : ((1 : Int32) = 8) = False := by decide +kernel
theorem ne_1_9 : ((1 : Int32) = 9) = False := by decide +kernel
theorem ne_1_10 : ((1 : Int32) = 10) = False := by decide +kernel
theorem ne_1_11 : ((1 : Int32) = 11) = False := by decide +kernel
theorem ne_1_12 : ((1 : Int32) = 12) = False := by decide +kernel
theorem ne_1_13 : ((1 : Int32) = 13) = False := by decide +kernel
theorem ne_1_14 : ((1 : Int32) = 14) = False := by decide +kernel
theorem ne_1_15 : ((1 : Int32) = 15) = False := by decide +kernel
theorem ne_2_0 : ((2 : Int32) = 0) = False := by decide +kernel
theorem ne_2_1 : ((2 : Int32) = 1) = False := by decide +kernel
theorem ne_2_3 : ((2 : Int32) = 3) = False := by decide +kernel
theorem ne_3_0 : ((3 : Int32) = 0) = False := by decide +kernel
theorem ne_3_1 : ((3 : Int32) = 1) = False := by decide +kernel
theorem ne_3_2 : ((3 : Int32) = 2) = False := by decide +kernel
theorem ne_4_0 : ((4 : Int32) = 0) = False := by decide +kernel
theorem ne_4_1 : ((4 : Int32) = 1) = False := by decide +kernel
theorem ne_4_2 : ((4 : Int32) = 2) = False := by decide +kernel
theorem ne_4_3 : ((4 : Int32) = 3) = False := by decide +kernel
theorem ne_5_0 : ((5 : Int32) = 0) = False := by decide +kernel
theorem ne_5_1 : ((5 : Int32) = 1) = False := by decide +kernel
theorem ne_5_2 : ((5 : Int32) = 2) = False := by decide +kernel
theorem ne_5_3 : ((5 : Int32) = 3) = False := by decide +kernel
theorem ne_6_0 : ((6 : Int32) = 0) = False := by decide +kernel
theorem ne_6_1 : ((6 : Int32) = 1) = False := by decide +kernel
theorem ne_6_2 : ((6 : Int32) = 2) = False := by decide +kernel
theorem ne_6_3 : ((6 : Int32) = 3) = False := by decide +kernel
theorem ne_7_0 : ((7 : Int32) = 0) = False := by decide +kernel
theorem ne_7_1 : ((7 : Int32) = 1) = False := by decide +kernel
theorem ne_7_2 : ((7 : Int32) = 2) = False := by decide +kernel
theorem ne_7_3 : ((7 : Int32) = 3) = False := by decide +kernel
theorem ne_8_0 : ((8 : Int32) = 0) = False := by decide +kernel
theorem ne_8_1 : ((8 : Int32) = 1) = False := by decide +kernel
theorem ne_8_2 : ((8 : Int32) = 2) = False := by decide +kernel
theorem ne_8_3 : ((8 : Int32) = 3) = False := by decide +kernel
theorem ne_9_0 : ((9 : Int32) = 0) = False := by decide +kernel
theorem ne_9_1 : ((9 : Int32) = 1) = False := by decide +kernel
theorem ne_9_2 : ((9 : Int32) = 2) = False := by decide +kernel
theorem ne_9_3 : ((9 : Int32) = 3) = False := by decide +kernel
theorem ne_10_0 : ((10 : Int32) = 0) = False := by decide +kernel
theorem ne_10_1 : ((10 : Int32) = 1) = False := by decide +kernel
theorem ne_10_2 : ((10 : Int32) = 2) = False := by decide +kernel
theorem ne_10_3 : ((10 : Int32) = 3) = False := by decide +kernel
theorem ne_11_0 : ((11 : Int32) = 0) = False := by decide +kernel
theorem ne_11_1 : ((11 : Int32) = 1) = False := by decide +kernel
theorem ne_11_2 : ((11 : Int32) = 2) = False := by decide +kernel
theorem ne_11_3 : ((11 : Int32) = 3) = False := by decide +kernel
theorem ne_12_0 : ((12 : Int32) = 0) = False := by decide +kernel
theorem ne_12_1 : ((12 : Int32) = 1) = False := by decide +kernel
theorem ne_12_2 : ((12 : Int32) = 2) = False := by decide +kernel
theorem ne_12_3 : ((12 : Int32) = 3) = False := by decide +kernel
theorem ne_13_0 : ((13 : Int32) = 0) = False := by decide +kernel
theorem ne_13_1 : ((13 : Int32) = 1) = False := by decide +kernel
theorem ne_13_2 : ((13 : Int32) = 2) = False := by decide +kernel
theorem ne_13_3 : ((13 : Int32) = 3) = False := by decide +kernel
theorem ne_14_0 : ((14 : Int32) = 0) = False := by decide +kernel
theorem ne_14_1 : ((14 : Int32) = 1) = False := by decide +kernel
theorem ne_14_2 : ((14 : Int32) = 2) = False := by decide +kernel
theorem ne_14_3 : ((14 : Int32) = 3) = False := by decide +kernel
theorem ne_15_0 : ((15 : Int32) = 0) = False := by decide +kernel
theorem ne_15_1 : ((15 : Int32) = 1) = False := by decide +kernel
theorem ne_15_2 : ((15 : Int32) = 2) = False := by decide +kernel
theorem ne_15_3 : ((15 : Int32) = 3) = False := by decide +kernel
theorem g50 (g : Nat) : (50 : Int32) + (2 : Int32) * nI g = nI (50 + 2 * g) := by
  show nI 50 + nI 2 * nI g = _
  rw [nI_mul, nI_add]
theorem g50b (g : Nat) : (57 : Int32) + nI g = nI (57 + g) := nI_add 57 g
theorem i108_57 : ix (57 : Int32) 108 = some 57 := by decide +kernel
theorem i108_58 : ix (58 : Int32) 108 = some 58 := by decide +kernel
theorem i108_59 : ix (59 : Int32) 108 = some 59 := by decide +kernel
theorem i108_60 : ix (60 : Int32) 108 = some 60 := by decide +kernel
theorem i108_61 : ix (61 : Int32) 108 = some 61 := by decide +kernel
