/-! rows of the judgement: System.arraycopy, getClass of an array of objects, switches, Throwable's constructor -/
set_option maxRecDepth 100000
theorem qpairs (at_ : Nat) : ∀ (xs : List Value) (i : Nat) (c : Cell), (c.storePairs at_ (xs.zipIdx i)).cls = c.cls ∧ (c.storePairs at_ (xs.zipIdx i)).vm = c.vm ∧ (c.storePairs at_ (xs.zipIdx i)).slots.size = c.slots.size ∧ ∀ k : Nat, k < c.slots.size → (c.storePairs at_ (xs.zipIdx i)).slots[k]? = if at_ + i ≤ k ∧ k < at_ + i + xs.length then xs[k - (at_ + i)]? else c.slots[k]?
  | [], i, c => by
    refine ⟨rfl, rfl, rfl, fun k hk => ?_⟩
    rw [if_neg (by simp only [List.length_nil]; omega)]
    rfl
  | x :: xs, i, c => by
    rw [List.zipIdx_cons]
    obtain ⟨h1, h2, h3, h4⟩ := qpairs at_ xs (i + 1) (c.setSlot (at_ + i) x)
    have hsz : (c.setSlot (at_ + i) x).slots.size = c.slots.size := by simp [Cell.setSlot]
    refine ⟨h1, h2, h3.trans hsz, fun k hk => ?_⟩
    have h5 := h4 k (by rw [hsz]; exact hk)
    refine h5.trans ?_
    by_cases hk9 : k = at_ + i
    · subst hk9
      rw [if_neg (by omega), if_pos (by simp only [List.length_cons]; omega), Nat.sub_self, List.getElem?_cons_zero]
      simp [Cell.setSlot, hk]
    · by_cases h : at_ + (i + 1) ≤ k ∧ k < at_ + (i + 1) + xs.length
      · rw [if_pos h, if_pos (by simp only [List.length_cons]; omega)]
        have e : k - (at_ + i) = (k - (at_ + (i + 1))) + 1 := by omega
        rw [e, List.getElem?_cons_succ]
      · rw [if_neg h, if_neg (by simp only [List.length_cons]; omega)]
        exact Array.getElem?_setIfInBounds_ne (fun z => hk9 z.symm)
theorem qcopied {cs cd : Cell} {n0 n1 sp dp n : Nat} {f g : Nat → Value} (hs : ∀ j, j < n0 → cs.slots[j]? = some (f j)) (hz : cd.slots.size = n1) (hd : ∀ j, j < n1 → cd.slots[j]? = some (g j)) (h : sp + n ≤ n0) :
    (cd.storeRun dp (cs.stretch sp n)).cls = cd.cls ∧ (cd.storeRun dp (cs.stretch sp n)).vm = cd.vm ∧ (cd.storeRun dp (cs.stretch sp n)).slots.size = n1 ∧ ∀ j, j < n1 → (cd.storeRun dp (cs.stretch sp n)).slots[j]? = some (va_cpy f g sp dp n j) := by
  have e : cs.stretch sp n = (List.range n).map (fun i => f (sp + i)) := by
    unfold Cell.stretch
    apply List.map_congr_left
    intro i hi
    have hi' := List.mem_range.mp hi
    rw [Array.getD_eq_getD_getElem?, hs _ (by omega)]
    rfl
  rw [e, Cell.storeRun]
  obtain ⟨h1, h2, h3, h4⟩ := qpairs dp ((List.range n).map (fun i => f (sp + i))) 0 cd
  refine ⟨h1, h2, h3.trans hz, fun j hj => (h4 j (by omega)).trans ?_⟩
  simp only [va_cpy, List.length_map, List.length_range, Nat.add_zero]
  by_cases h9 : dp ≤ j ∧ j < dp + n
  · rw [if_pos h9, if_pos h9, List.getElem?_map, List.getElem?_range (by omega)]
    rfl
  · rw [if_neg h9, if_neg h9]
    exact hd j hj
def cpok (sp dp n : Int32) (n0 n1 : Nat) : Bool := decide (¬ sp < 0) && decide (¬ dp < 0) && decide (¬ n < 0) && decide (sp.toNatClampNeg + n.toNatClampNeg ≤ n0) && decide (dp.toNatClampNeg + n.toNatClampNeg ≤ n1)
def cpI (M : QM) (r : QR) (sp : Int32) (r2 : QR) (dp n : Int32) : Option QM := match r, r2 with
  | some q, some q2 => match M.2 q, M.2 q2 with
    | some (_, .inr (.inl (k0, n0, f))), some (true, .inr (.inl (k1, n1, g))) => if k0 = 0 ∧ k1 = 0 ∧ cpok sp dp n n0 n1 = true then some (qup M q2 (.inr (.inl (k1, n1, va_cpy f g sp.toNatClampNeg dp.toNatClampNeg n.toNatClampNeg)))) else none
    | _, _ => none
  | _, _ => none
noncomputable def cpB (M : QM) (r : QR) (sp : Int32) (r2 : QR) (dp n : Int32) : Option QM := match r, r2 with
  | some q, some q2 => match M.2 q, M.2 q2 with
    | some (_, .inr (.inl (k0, n0, f))), some (true, .inr (.inl (k1, n1, g))) => @ite _ (k0 = 1 ∧ k1 = 1 ∧ cpok sp dp n n0 n1 = true ∧ ∀ i, i < n.toNatClampNeg → fits .byte (.int (f (sp.toNatClampNeg + i))) = true) (Classical.propDecidable _) (some (qup M q2 (.inr (.inl (k1, n1, va_cpy f g sp.toNatClampNeg dp.toNatClampNeg n.toNatClampNeg))))) none
    | _, _ => none
  | _, _ => none
noncomputable def cpR (M : QM) (r : QR) (sp : Int32) (r2 : QR) (dp n : Int32) : Option QM := match r, r2 with
  | some q, some q2 => match M.2 q, M.2 q2 with
    | some (_, .inr (.inr (.inl (k0, n0, f)))), some (true, .inr (.inr (.inl (k1, n1, g)))) => @ite _ (k0 = 2 ∧ k1 = 2 ∧ cpok sp dp n n0 n1 = true ∧ ∀ i, i < n.toNatClampNeg → okst M 2 (f (sp.toNatClampNeg + i)) = true) (Classical.propDecidable _) (some (qup M q2 (.inr (.inr (.inl (k1, n1, va_cpy f g sp.toNatClampNeg dp.toNatClampNeg n.toNatClampNeg)))))) none
    | _, _ => none
  | _, _ => none
theorem cpok_inv {sp dp n : Int32} {n0 n1 : Nat} (h : cpok sp dp n n0 n1 = true) : ¬ sp < 0 ∧ ¬ dp < 0 ∧ ¬ n < 0 ∧ sp.toNatClampNeg + n.toNatClampNeg ≤ n0 ∧ dp.toNatClampNeg + n.toNatClampNeg ≤ n1 := by
  unfold cpok at h
  simp only [Bool.and_eq_true, decide_eq_true_eq] at h
  exact ⟨h.1.1.1.1, h.1.1.1.2, h.1.1.2, h.1.2, h.2⟩
theorem nn_int {z : Int32} (hz : ¬ z < 0) : z.toInt = (z.toNatClampNeg : Int) := by
  have hz0 : (0 : Int) ≤ z.toInt := by
    have := Int32.not_lt.mp hz
    simpa using Int32.le_iff_toInt_le.mp this
  show z.toInt = ((z.toInt.toNat : Nat) : Int)
  omega
section QRC
variable {p : Program} {l : Launch} {e : Env} {R : Room} {s : State} {m : MethodId} {args : Array Value} {below : List Frame} {meth : Method} {c : Code} {H : Heap} {locs : List Loc} {cells slots : Nat} {Q : State → Prop}
variable {cc : ByteArray} {pc : Nat} {ls : Array Slot} {rest : List Value} {a a0 : Nat} {D : QD}
theorem w_copy (hexec : p.tables.exec = Jvm.exec) (hb : c.code = cc) (hml : c.maxLocals = ls.size) {own : String} {index : Nat} (hown : s.vm.findClass own = some m.cls) (hlink : (Cond.methodLink own index arraycopyName).before args s = true) (hnat : (Cond.native arraycopyName).before args s = true) (hstat : (Cond.static arraycopyName).before args s = true) (hini : (Cond.initialized "java/lang/System").before args s = true)
    {cs cd : Cell} {ty : FieldType} {n0 n1 : Nat} {f g : Nat → Value} (hc0 : H[a0]? = some cs) (hc1 : H[a]? = some cd) (hA0 : s.isArrayOf cs ty) (hA1 : s.isArrayOf cd ty) (hk0 : cs.vm ≠ .unknown) (hk1 : cd.vm ≠ .unknown) (hz0 : cs.slots.size = n0) (hz1 : cd.slots.size = n1) (hf : ∀ j, j < n0 → cs.slots[j]? = some (f j)) (hg : ∀ j, j < n1 → cd.slots[j]? = some (g j))
    (hty : refKind ty = false ∨ ty = .object "java/lang/Object") {sp dp n : Int32} (hok : cpok sp dp n n0 n1 = true)
    (hfit : refKind ty = false → ∀ i, i < n.toNatClampNeg → fits ty (f (sp.toNatClampNeg + i)) = true ∧ ∃ x, f (sp.toNatClampNeg + i) = .int x)
    (hel : ty = .object "java/lang/Object" → ∀ i : Nat, i < n.toNatClampNeg → f (sp.toNatClampNeg + i) = .null ∨ ∃ y, f (sp.toNatClampNeg + i) = .ref y ∧ va_Any "java/lang/Object" s H y) (hKA : ty = .object "java/lang/Object" → va_RA s cd.cls ty)
    (hframes : 1 ≤ R.frames) (hlocals : (rest.map fun v => v.category).sum + (nativeFrameWords "java/lang/System" "arraycopy" 5 + 11) ≤ R.locals) (hdg : decode cc pc = .ok (.invokestatic index, 3))
    (kk : ∀ (H1 : Heap) (L : List Loc), (∀ z ∈ L, z.base = a) → (∃ cell : Cell, H1[a]? = some cell ∧ cell.cls = cd.cls ∧ cell.vm = cd.vm ∧ cell.slots.size = n1 ∧ ∀ j : Nat, j < n1 → cell.slots[j]? = some (va_cpy f g sp.toNatClampNeg dp.toNatClampNeg n.toNatClampNeg j)) → H1.size = H.size → (∀ q : Nat, q ≠ a → H1[q]? = H[q]?) → W p l e R s m args below meth c H1 (locs ++ L) cells slots Q (F0 m (pc + 3) ls rest)) : W p l e R s m args below meth c H locs cells slots Q (F0 m pc ls (.int n :: .int dp :: .ref a :: .int sp :: .ref a0 :: rest)) := by
  obtain ⟨h1, h2, h3, h4, h5⟩ := cpok_inv hok
  intro T hT X
  obtain ⟨hs0, k0, hk09, cm0, hkk0⟩ := hA0
  obtain ⟨hs1, k1, hk19, cm1, hkk1⟩ := hA1
  obtain ⟨vm', X', step⟩ := X.arraycopy hexec hown hlink hnat hstat hini (src := a0) (dst := a) (cs := cs) (cd := cd) (srcPos := sp) (destPos := dp) (n := n) (by rw [hT]; exact hc0) (by rw [hT]; exact hc1)
    hs0 hs1 hk0 hk1 hk09 hk19 hkk0 hkk1 (by rcases hty with hp | rfl <;> simp [*, refKind]) h1 h2 h3
    (by rw [nn_int h1, nn_int h3, hz0]; omega)
    (by rw [nn_int h2, nn_int h3, hz1]; omega)
    (fun vm₁ hal i hi => by
      have e : cs.slots.getD (sp.toNatClampNeg + i) .null = f (sp.toNatClampNeg + i) := by
        rw [Array.getD_eq_getD_getElem?, hf _ (by omega)]
        rfl
      rw [e]
      rcases hty with hp | hp
      · obtain ⟨e1, x, e2⟩ := hfit hp i hi
        refine ⟨e1, ?_⟩
        rw [e2]
        exact trivial
      · have hel9 := hel hp i hi
        have hKA9 := hKA hp
        subst hp
        rcases hel9 with hy | ⟨y, hy, cellV, g1, g2, ⟨kC, hkC⟩, hasg⟩
        · rw [hy]; exact ⟨rfl, trivial⟩
        · rw [hy]
          obtain ⟨kA, comp, r1, r2, r3, -⟩ := hKA9
          cases hk19.symm.trans r1
          cases hkk1.symm.trans r2
          obtain ⟨kE, hkE, -⟩ := Vm.findClass_spec r3
          obtain ⟨kC', hkC', -⟩ := hal.2.2 _ _ hkC
          obtain ⟨kE', hkE', -⟩ := hal.2.2 _ _ hkE
          refine ⟨rfl, cellV, (show T.heap[y]? = some cellV by rw [hT]; exact g1), (fun q h => by rw [h] at g2; cases g2), ⟨kC', hkC'⟩, ?_, ?_⟩
          · exact ⟨kE', hkE'⟩
          · show vm₁.assignable _ _ = true
            rw [hal.assignable]
            exact hasg _ r3)
    (g := F0 m pc ls (.int n :: .int dp :: .ref a :: .int sp :: .ref a0 :: rest)) rfl (by rw [hml]) (rest := rest) rfl (by rw [hb]; exact hdg) hframes (by show 2 * 0 + _ + _ ≤ _; omega)
  obtain ⟨q1, q2, q3, q4⟩ := qcopied (dp := dp.toNatClampNeg) hf hz1 hg h4
  have hl : a < H.size := (Array.getElem?_eq_some_iff.mp hc1).1
  generalize hcp : copied cs cd sp dp n = cp at X' step
  have hcp2 : cd.storeRun dp.toNatClampNeg (cs.stretch sp.toNatClampNeg n.toNatClampNeg) = cp := hcp
  rw [hcp2] at q1 q2 q3 q4
  have hheap : ((T.setVm vm').setCell a cp).heap = H.setIfInBounds a cp := by rw [← hT]; rfl
  obtain ⟨t, a1, b1⟩ := kk _ _ (fun z hz => by
      obtain ⟨w, -, hw⟩ := List.mem_map.mp hz
      rw [← hw]) ⟨cp, (show (H.setIfInBounds a cp)[a]? = some cp by simp [Array.getElem?_setIfInBounds, hl]), q1, q2, q3, q4⟩ (by simp) (fun q hq => by simp [Array.getElem?_setIfInBounds, Ne.symm hq]) _ hheap X'
  exact ⟨t, step t a1, b1⟩
end QRC
theorem qmap_cpy {β : Type} (mk : β → Value) (f g : Nat → β) (sp dp n j : Nat) : va_cpy (fun z => mk (f z)) (fun z => mk (g z)) sp dp n j = mk (va_cpy f g sp dp n j) := by
  unfold va_cpy
  split <;> rfl
section QR4
variable {α : Type} {emb : α → QO × QM} {l : Launch} {K : QK} {M0 M : QM} {t A B : Option α} {u : Nat × Nat} {pc : Nat} {ls ls' : List (Option QV)} {st : List QV}
/-- what System.arraycopy asks -/
def CfCp (K : QK) (i : Nat) (n : Nat) : Prop := (Cond.methodLink K.1 i arraycopyName ∈ lw_all ∧ Cond.native arraycopyName ∈ lw_all ∧ Cond.static arraycopyName ∈ lw_all ∧ Cond.initialized "java/lang/System" ∈ lw_all) ∧ 1 ≤ K.rm.frames ∧ n + (nativeFrameWords "java/lang/System" "arraycopy" 5 + 11) ≤ K.rm.locals

theorem r_cpI {r r2 : QR} {sp dp n : Int32} {i : Nat} {k : QM → Option α} (hF : CfCp K i st.length) (d : decode K.2.1 pc = .ok (.invokestatic i, 3)) (kk : ∀ M1, SB emb l K M0 (k M1) u (pc + 3) M1 ls st) : SB emb l K M0 ((cpI M r sp r2 dp n).bind k) u pc M ls (.inl n :: .inl dp :: .inr r2 :: .inl sp :: .inr r :: st) := by
  intro a ha hl p e s m args below meth c D ρ0 ρ H locs lsA C hI hG hS hL h1 h2
  obtain ⟨M1, hx, ha2⟩ := bind_inv ha
  unfold cpI at hx
  split at hx
  · next q q2 =>
    split at hx
    · next b0 k0 n0 f k1 n1 g g1 g2 =>
      split at hx
      · next hc =>
        cases hx
        have e0 := hc.1
        have e1 := hc.2.1
        subst e0
        subst e1
        obtain ⟨cs, x1, x2, x3, x4, x5, x6⟩ := (hI.1 q b0 _ g1).1
        obtain ⟨cd, y1, y2, y3, y4, y5, y6⟩ := (hI.1 q2 true _ g2).1
        have hT : ArrOfT s (D.2 0) (qty 0) := C.arr (by decide)
        refine w_copy C.x C.b (by rw [C.ml]; exact hL.1.symm) C.own (C.ts _ hF.1.1) (C.ts _ hF.1.2.1) (C.ts _ hF.1.2.2.1) (C.ts _ hF.1.2.2.2) (ty := .int) x1 y1 (qarrT hT x2 x3) (qarrT hT y2 y3) x4 y4 x5 y5 x6 y6 (Or.inl rfl) hc.2.2 (fun _ i _ => ⟨rfl, _, rfl⟩) (fun z => by cases z) (fun z => by cases z) hF.2.1 (by rw [qv_cats]; exact hF.2.2) d (fun H1 L hLo hce hz oq => ?_)
        obtain ⟨cell, z1, z2, z3, z4, z5⟩ := hce
        refine kk _ a ha2 hl p e s m args below meth c D ρ0 ρ H1 _ lsA C (hI.put g2 rfl ?_ trivial oq) (hG.put g2) ⟨by rw [hz]; exact hS.1, fun x w1 w2 => ?_, fun x hx => ?_⟩ hL (fun v hv => (h1 v hv).mono qup_dom) (fun v hv => (h2 v (List.mem_cons_of_mem _ (List.mem_cons_of_mem _ (List.mem_cons_of_mem _ (List.mem_cons_of_mem _ (List.mem_cons_of_mem _ hv)))))).mono qup_dom)
        · show qarr D 0 n1 (fun z => .int (va_cpy f g sp.toNatClampNeg dp.toNatClampNeg n.toNatClampNeg z)) (ρ q2) H1
          refine ⟨cell, z1, z2.trans y2, fun j => by rw [z3]; exact y3 j, by rw [z3]; exact y4, z4, fun j hj => (z5 j hj).trans ?_⟩
          exact congrArg some (qmap_cpy Value.int f g _ _ _ j)
        · rw [oq x (fun e9 => w2 (by rw [e9]; exact qA.put hG g2))]
          exact hS.2.1 x w1 w2
        · rcases List.mem_append.mp hx with h9 | h9
          · exact hS.2.2 x h9
          · rw [hLo x h9]; exact qA.put hG g2
      · cases hx
    · cases hx
  · cases hx
theorem r_cpB {r r2 : QR} {sp dp n : Int32} {i : Nat} {k : QM → Option α} (hF : CfCp K i st.length) (d : decode K.2.1 pc = .ok (.invokestatic i, 3)) (kk : ∀ M1, SB emb l K M0 (k M1) u (pc + 3) M1 ls st) : SB emb l K M0 ((cpB M r sp r2 dp n).bind k) u pc M ls (.inl n :: .inl dp :: .inr r2 :: .inl sp :: .inr r :: st) := by
  intro a ha hl p e s m args below meth c D ρ0 ρ H locs lsA C hI hG hS hL h1 h2
  obtain ⟨M1, hx, ha2⟩ := bind_inv ha
  unfold cpB at hx
  split at hx
  · next q q2 =>
    split at hx
    · next b0 k0 n0 f k1 n1 g g1 g2 =>
      split at hx
      · next hc =>
        cases hx
        have e0 := hc.1
        have e1 := hc.2.1
        subst e0
        subst e1
        obtain ⟨cs, x1, x2, x3, x4, x5, x6⟩ := (hI.1 q b0 _ g1).1
        obtain ⟨cd, y1, y2, y3, y4, y5, y6⟩ := (hI.1 q2 true _ g2).1
        have hT : ArrOfT s (D.2 1) (qty 1) := C.arr (by decide)
        refine w_copy C.x C.b (by rw [C.ml]; exact hL.1.symm) C.own (C.ts _ hF.1.1) (C.ts _ hF.1.2.1) (C.ts _ hF.1.2.2.1) (C.ts _ hF.1.2.2.2) (ty := .byte) x1 y1 (qarrT hT x2 x3) (qarrT hT y2 y3) x4 y4 x5 y5 x6 y6 (Or.inl rfl) hc.2.2.1 (fun _ i hi => ⟨hc.2.2.2 i hi, _, rfl⟩) (fun z => by cases z) (fun z => by cases z) hF.2.1 (by rw [qv_cats]; exact hF.2.2) d (fun H1 L hLo hce hz oq => ?_)
        obtain ⟨cell, z1, z2, z3, z4, z5⟩ := hce
        refine kk _ a ha2 hl p e s m args below meth c D ρ0 ρ H1 _ lsA C (hI.put g2 rfl ?_ trivial oq) (hG.put g2) ⟨by rw [hz]; exact hS.1, fun x w1 w2 => ?_, fun x hx => ?_⟩ hL (fun v hv => (h1 v hv).mono qup_dom) (fun v hv => (h2 v (List.mem_cons_of_mem _ (List.mem_cons_of_mem _ (List.mem_cons_of_mem _ (List.mem_cons_of_mem _ (List.mem_cons_of_mem _ hv)))))).mono qup_dom)
        · show qarr D 1 n1 (fun z => .int (va_cpy f g sp.toNatClampNeg dp.toNatClampNeg n.toNatClampNeg z)) (ρ q2) H1
          refine ⟨cell, z1, z2.trans y2, fun j => by rw [z3]; exact y3 j, by rw [z3]; exact y4, z4, fun j hj => (z5 j hj).trans ?_⟩
          exact congrArg some (qmap_cpy Value.int f g _ _ _ j)
        · rw [oq x (fun e9 => w2 (by rw [e9]; exact qA.put hG g2))]
          exact hS.2.1 x w1 w2
        · rcases List.mem_append.mp hx with h9 | h9
          · exact hS.2.2 x h9
          · rw [hLo x h9]; exact qA.put hG g2
      · cases hx
    · cases hx
  · cases hx
theorem r_cpR {r r2 : QR} {sp dp n : Int32} {i : Nat} {k : QM → Option α} (hF : CfCp K i st.length) (d : decode K.2.1 pc = .ok (.invokestatic i, 3)) (kk : ∀ M1, SB emb l K M0 (k M1) u (pc + 3) M1 ls st) : SB emb l K M0 ((cpR M r sp r2 dp n).bind k) u pc M ls (.inl n :: .inl dp :: .inr r2 :: .inl sp :: .inr r :: st) := by
  intro a ha hl p e s m args below meth c D ρ0 ρ H locs lsA C hI hG hS hL h1 h2
  obtain ⟨M1, hx, ha2⟩ := bind_inv ha
  unfold cpR at hx
  split at hx
  · next q q2 =>
    split at hx
    · next b0 k0 n0 f k1 n1 g g1 g2 =>
      split at hx
      · next hc =>
        cases hx
        have e0 := hc.1
        have e1 := hc.2.1
        subst e0
        subst e1
        obtain ⟨cs, x1, x2, x3, x4, x5, x6⟩ := (hI.1 q b0 _ g1).1
        obtain ⟨cd, y1, y2, y3, y4, y5, y6⟩ := (hI.1 q2 true _ g2).1
        have hT : ArrOfT s (D.2 2) (qty 2) := C.arr (by decide)
        refine w_copy C.x C.b (by rw [C.ml]; exact hL.1.symm) C.own (C.ts _ hF.1.1) (C.ts _ hF.1.2.1) (C.ts _ hF.1.2.2.1) (C.ts _ hF.1.2.2.2) (ty := .object "java/lang/Object") x1 y1 (qarrT hT x2 x3) (qarrT hT y2 y3) x4 y4 x5 y5 x6 y6 (Or.inr rfl) hc.2.2.1 (fun z => by cases z) (fun _ i hi => by
          have hk := hc.2.2.2 i hi
          cases hy : f (sp.toNatClampNeg + i) with
          | none => exact Or.inl rfl
          | some q' =>
            refine Or.inr ⟨ρ q', rfl, ?_⟩
            rw [hy] at hk
            unfold okst at hk
            dsimp only at hk
            split at hk
            · next b2 ci fs2 hq' =>
              obtain ⟨r9, hr9, cellV, v1, v2, v3, -⟩ := (hI.1 q' b2 _ hq').1
              obtain ⟨hfc, kC, hkC, hkind⟩ := (C.kk.1 ci _ hr9).2
              refine ⟨cellV, v1, by rw [v3]; rfl, ⟨kC, by rw [v2]; exact hkC⟩, fun comp hcomp => ?_⟩
              rw [v2]
              have viaW : Cond.castable r9.1 "java/lang/Object" ∈ qnw → s.vm.assignable (D.1.1 ci) comp = true := by
                intro h9
                obtain ⟨c0, t0, f1, f2, f3⟩ := Cond.castable_spec (va_Nw.use (A := args) rfl (C.nw _ h9))
                cases f1.symm.trans hfc
                cases f2.symm.trans hcomp
                exact f3
              simp only [Bool.or_eq_true, Bool.and_eq_true, beq_iff_eq] at hk
              rcases hk with (⟨h9, -⟩ | ⟨h9, -⟩) | ⟨-, rfl | rfl⟩
              · cases h9
              · cases h9
              · cases hr9; exact viaW (qnw_in q1385 rfl)
              · cases hr9; exact viaW (qnw_in q1393 rfl)
            · cases hk) (fun _ => by rw [y2]; exact (C.kk.2 2 _ (qtys_at D.2 (by decide))).2) hF.2.1 (by rw [qv_cats]; exact hF.2.2) d (fun H1 L hLo hce hz oq => ?_)
        obtain ⟨cell, z1, z2, z3, z4, z5⟩ := hce
        refine kk _ a ha2 hl p e s m args below meth c D ρ0 ρ H1 _ lsA C (hI.put g2 rfl ?_ (fun j q' hq' => by
            have hq' : va_cpy f g sp.toNatClampNeg dp.toNatClampNeg n.toNatClampNeg j = some q' := hq'
            unfold va_cpy at hq'
            split at hq'
            · exact (hI.1 q b0 _ g1).2 _ q' hq'
            · exact (hI.1 q2 true _ g2).2 _ q' hq') oq) (hG.put g2) ⟨by rw [hz]; exact hS.1, fun x w1 w2 => ?_, fun x hx => ?_⟩ hL (fun v hv => (h1 v hv).mono qup_dom) (fun v hv => (h2 v (List.mem_cons_of_mem _ (List.mem_cons_of_mem _ (List.mem_cons_of_mem _ (List.mem_cons_of_mem _ (List.mem_cons_of_mem _ hv)))))).mono qup_dom)
        · show qarr D 2 n1 (fun z => va_rf ((va_cpy f g sp.toNatClampNeg dp.toNatClampNeg n.toNatClampNeg z).map ρ)) (ρ q2) H1
          refine ⟨cell, z1, z2.trans y2, fun j => by rw [z3]; exact y3 j, by rw [z3]; exact y4, z4, fun j hj => (z5 j hj).trans ?_⟩
          exact congrArg some (qmap_cpy (fun o => va_rf (o.map ρ)) f g _ _ _ j)
        · rw [oq x (fun e9 => w2 (by rw [e9]; exact qA.put hG g2))]
          exact hS.2.1 x w1 w2
        · rcases List.mem_append.mp hx with h9 | h9
          · exact hS.2.2 x h9
          · rw [hLo x h9]; exact qA.put hG g2
      · cases hx
    · cases hx
  · cases hx
/-- getClass of an array of class Object[], by the kinds that were made here -/
def qgc (M : QM) (r : QR) : Option QR := match r with
  | none => none
  | some q => match M.2 q with
    | some (_, .inr (.inr (.inl (k, _, _)))) => if k = 2 then some (some (0, 4)) else none
    | _ => none
theorem r_getClass {r : QR} {i : Nat} {k : QR → Option α} (hlk : Cond.methodLink K.1 i ⟨"java/lang/Object", "getClass", "()Ljava/lang/Class;"⟩ ∈ lw_all) (hR : 1 ≤ K.rm.frames ∧ st.length + 14 ≤ K.rm.locals) (d : decode K.2.1 pc = .ok (.invokevirtual i, 3)) (kk : ∀ x, SB emb l K M0 (k x) u (pc + 3) M ls (.inr x :: st)) : SB emb l K M0 ((qgc M r).bind k) u pc M ls (.inr r :: st) := by
  intro a ha hl p e s m args below meth c D ρ0 ρ H locs lsA C hI hG hS hL h1 h2
  obtain ⟨x, hx, ha2⟩ := bind_inv ha
  unfold qgc at hx
  cases r with
  | none => cases hx
  | some q =>
    dsimp only at hx
    split at hx
    · next b k0 n0 f g1 =>
      split at hx
      · next hk =>
        cases hx
        subst hk
        obtain ⟨cs, x1, x2, x3, x4, x5, x6⟩ := (hI.1 q b _ g1).1
        have hn := C.ss.2.2.2.2.2.2.2.2
        have hz := C.ss.2.2.1.2.2.2.2
        rw [← (hG.1 _ hn).1] at hz
        obtain ⟨-, -, -, -, -, hfc⟩ := (C.kk.2 2 _ (qtys_at D.2 (by decide))).2
        refine va_getC C.x C.b (by rw [C.ml]; exact hL.1.symm) C.own (C.ts _ hlk) (va_Dc.use C.ss.2.2.2.1.2.2.2.2) (C.ts _ q1398) (C.ts _ q458) (C.ts _ q473) hz ⟨cs, x1, ?_, by rw [x2]; exact hfc⟩ hR.1 (by rw [qv_cats]; exact hR.2) d (kk _ a ha2 hl p e s m args below meth c D ρ0 ρ H locs lsA C hI hG hS hL h1 (qok_c (fun q' z => by cases z; exact hG.dom _ hn) (qok_t h2)))
        cases h9 : cs.vm <;> first | rfl | exact absurd h9 (x3 _)
      · cases hx
    · cases hx
theorem r_tableN {x : Int32} {dflt lo hi : Int} {offs : Array Int} {len tgt : Nat} (d : decode K.2.1 pc = .ok (.tableswitch dflt lo hi offs, len)) (h : x.toInt < lo ∨ hi < x.toInt) (ht : (pc : Int) + dflt = (tgt : Int)) (kk : SB emb l K M0 t u tgt M ls st) : SB emb l K M0 t u pc M ls (.inl x :: st) := by
  intro a ha hl p e s m args below meth c D ρ0 ρ H locs lsA C hI hG hS hL h1 h2
  exact lv_tableOut C.x C.b d h ht (kk a ha hl p e s m args below meth c D ρ0 ρ H locs lsA C hI hG hS hL h1 (qok_t h2))
theorem r_tableY {x : Int32} {dflt lo hi off : Int} {offs : Array Int} {len tgt : Nat} (d : decode K.2.1 pc = .ok (.tableswitch dflt lo hi offs, len)) (h9 : ¬ x.toInt < lo) (h8 : ¬ hi < x.toInt) (ho : offs[(x.toInt - lo).toNat]? = some off) (ht : (pc : Int) + off = (tgt : Int)) (kk : SB emb l K M0 t u tgt M ls st) : SB emb l K M0 t u pc M ls (.inl x :: st) := by
  intro a ha hl p e s m args below meth c D ρ0 ρ H locs lsA C hI hG hS hL h1 h2
  exact lv_tableIn C.x C.b d h9 h8 ho ht (kk a ha hl p e s m args below meth c D ρ0 ρ H locs lsA C hI hG hS hL h1 (qok_t h2))
theorem r_lookup {x : Int32} {dflt off : Int} {ps : Array (Int × Int)} {len tgt : Nat} (d : decode K.2.1 pc = .ok (.lookupswitch dflt ps, len)) (hp : (ps.toList.zip (ps.toList.drop 1)).all (fun (a, next) => a.1 < next.1) = true) (ho : Op.lookupswitch.offset ps.toList dflt x.toInt = off) (ht : (pc : Int) + off = (tgt : Int)) (kk : SB emb l K M0 t u tgt M ls st) : SB emb l K M0 t u pc M ls (.inl x :: st) := by
  intro a ha hl p e s m args below meth c D ρ0 ρ H locs lsA C hI hG hS hL h1 h2
  exact lv_lookup C.x C.b d hp ho ht (kk a ha hl p e s m args below meth c D ρ0 ρ H locs lsA C hI hG hS hL h1 (qok_t h2))
theorem r_iteE {x v : Int32} {inst : Decidable (x = v)} (kt : x = v → SB emb l K M0 A u pc M ls (.inl v :: st)) (kf : ¬ x = v → SB emb l K M0 B u pc M ls (.inl x :: st)) : SB emb l K M0 (@ite _ (x = v) inst A B) u pc M ls (.inl x :: st) := by
  by_cases h : x = v
  · rw [if_pos h, h]; exact kt h
  · rw [if_neg h]; exact kf h
theorem ne_toInt {x v : Int32} (h : ¬ x = v) : x.toInt ≠ v.toInt := fun z => h (Int32.toInt_inj.mp z)
end QR4
