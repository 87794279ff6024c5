/-! rows of the judgement: an exception's own constructor chain, String's own calls, what was wanting -/
set_option maxRecDepth 100000
section QEX
variable {p : Program} {l : Launch} {e : Env} {R : Room} {s : State} {m : MethodId} {args : Array Value} {below : List Frame} {meth : Method} {c : Code} {H : Heap} {locs : List Loc} {cells slots : Nat} {Q : State → Prop} {cc : ByteArray} {pc : Nat} {ls : Array Slot} {rest : List Value} {a : Nat}
theorem q_back9 {T S : State} {R' : Room} {k n : Nat} {L : List Loc} (X : Stand p l e R s m args below meth c T locs cells slots) (Y : Stand p l e R' ((T.setVm s.vm).setFrames (.invoking m args :: below)) m args below meth c T [] 0 0) (Z : Stand p l e R' ((T.setVm s.vm).setFrames (.invoking m args :: below)) m args below meth c S L k n) :
    Stand p l e R s m args below meth c S (locs ++ L) (cells + k) (slots + n) := by
  have hW0 : s.WarmedH ((T.setVm s.vm).setFrames (.invoking m args :: below)).vm := State.WarmedH.refl s
  refine { admits := X.admits, cas := X.cas, clock := X.clock, frames := X.frames, room := X.room, hears := X.hears, method := X.method, code := X.code, here := Z.here, tail := Z.tail, warmed := State.WarmedH.trans hW0 Z.warmed, limits := Z.limits.trans (Y.limits.symm.trans X.limits), bytes := Z.bytes.trans (Y.bytes.symm.trans X.bytes), same := ?_ }
  obtain ⟨e1, e2⟩ := Z.same
  rw [State.setFrames_setFrames] at e1
  have h2 : (T.setVm s.vm).sameButNew (S.setVm s.vm) L k n := ⟨e1, e2⟩
  exact X.same.trans h2
def exL (X cls1 : String) (names : List String) : List Cond := Bundle.throwableAtoms ++ (Bundle.chain0Atoms cls1 names ++ [.selects X Bundle.tFill0 Bundle.tFill0, .selects X Bundle.tFill Bundle.tFill, .fieldLink Bundle.tN 198 Bundle.tN "backtrace" "Ljava/lang/Object;", .lays Bundle.tN Bundle.tN "backtrace" "Ljava/lang/Object;", .lays X Bundle.tN "cause" "Ljava/lang/Throwable;", .lays X Bundle.tN "stackTrace" Bundle.steD, .lays X Bundle.tN "suppressedExceptions" Bundle.listD])
def exW (w : Cond) : Prop := w ∈ lw_all ∨ w ∈ qnw ∨ w = .laysStatic Bundle.tN "UNASSIGNED_STACK" Bundle.steD ∨ w = .laysStatic Bundle.tN "SUPPRESSED_SENTINEL" Bundle.listD
theorem qnw_use {w : Cond} (h : w ∈ qnw) {A : Array Value} {U : State} (hZ : va_Nw w U) : w.before A U = true := by
  have g := (List.mem_filter.mp h).2
  cases w <;> first | exact va_Nw.use rfl hZ | exact absurd g (by simp [qnwB])
set_option maxHeartbeats 4000000 in
theorem w_exc (hexec : p.tables.exec = Jvm.exec) (hb : c.code = cc) (hl : l.stackTraces = false) {Cn cls1 : String} {names : List String} {ic ci : Nat} {T0 : u_T} {N : Nat} {A : Nat → Prop} {D : QD}
    (hown : s.vm.findClass Cn = some m.cls) (hts : ∀ w ∈ lw_all, w.before args s = true) (hnw : ∀ w ∈ qnw, va_Nw w s)
    (hlink : (Cond.methodLink Cn ic (Bundle.init0 cls1)) ∈ lw_all ∨ ∃ host, (Cond.methodLinkNest Cn ic (Bundle.init0 cls1) host) ∈ qnw) (hcls : Bundle.fit cls1 = true) (hnames : ∀ n ∈ names, Bundle.fit n = true)
    (hL : ∀ w ∈ exL Cn cls1 names, exW w) (hi1 : Cond.instanceMethod (Bundle.init0 cls1) ∈ lw_all) (hi2 : Cond.code (Bundle.init0 cls1) Bundle.five 1 none ∈ lw_all)
    (hK : va_K D.1 vwCl (qtys D.2) s) (hc : vwCl[ci]? = some (Cn, T0, N)) (hin : ∀ w ∈ u_ws Cn T0 N, w ∈ lw_all) (ty : Nat → FieldType) (hty : ∀ k, k < N → parseFieldDescriptor (T0 k).2.2.1 = some (ty k)) (hnm : ∀ a, a < N → ∀ b, b < N → a ≠ b → (T0 a).2.1 ≠ (T0 b).2.1)
    (h5 : 5 ≤ N) (t0 : T0 0 = (Bundle.tN, "cause", "Ljava/lang/Throwable;", false)) (t1 : T0 1 = (Bundle.tN, "stackTrace", Bundle.steD, false)) (t2 : T0 2 = (Bundle.tN, "suppressedExceptions", Bundle.listD, false)) (t4 : T0 4 = (Bundle.tN, "backtrace", "Ljava/lang/Object;", false))
    (hU : vx_Zq Bundle.tN "UNASSIGNED_STACK" Bundle.steD A s s.heap) (hN : vx_Zq Bundle.tN "SUPPRESSED_SENTINEL" Bundle.listD A s s.heap) (hS : va_S A s.heap H locs) (hsize : ls.size = c.maxLocals)
    {cell : Cell} (hcell : H[a]? = some cell) (hcc : cell.cls = D.1.1 ci) (hv : cell.vm = .none) (ho : cell.monitor.owner = none) (hco : cell.monitor.count = 0)
    {fs : List Value} (hsl : ∀ k, k < N → cell.slots[D.1.2 ci k]? = some (vp_V fs k)) (hnull : vp_V fs 4 = .null)
    (d : decode cc pc = .ok (.invokespecial ic, 3)) (hRu : cells ≤ R.cells ∧ slots ≤ R.slots)
    (hRf : names.length + 3 < R.frames) (hRl : (rest.map fun v => v.category).sum + (13 * (names.length + 1) + 41) ≤ R.locals)
    (kk : ∀ (ce : Cell) (H1 : Heap) (L : List Loc), ce.cls = cell.cls → ce.vm = .none → (∀ k, k < N → 5 ≤ k → ce.slots[D.1.2 ci k]? = some (vp_V fs k)) → H1[a]? = some ce → H1.size = H.size → (∀ x : Nat, x ≠ a → H1[x]? = H[x]?) → (∀ y ∈ L, y.base = a) → W p l e R s m args below meth c H1 (locs ++ L) cells slots Q (F0 m (pc + 3) ls rest)) :
    W p l e R s m args below meth c H locs cells slots Q (F0 m pc ls (.ref a :: rest)) := by
  intro T hT X
  subst hT
  have htr : e.platform.stackTraces = false := (show e.platform.stackTraces = l.stackTraces by rw [X.admits.platform]).trans hl
  have howns : e.platform.frameOwnsMonitors = true := by rw [X.admits.platform]
  have hfin : e.platform.finalization = false := by rw [X.admits.platform]
  have hpl : e.platform.magicAccessors = ({} : Platform).magicAccessors := by rw [X.admits.platform]
  have Y := vx_rebase X (R' := { frames := R.frames, locals := R.locals, cells := 0, slots := 0 }) (Nat.le_refl _) (Nat.le_refl _) hRu.1 hRu.2
  obtain ⟨s', hA'⟩ : ∃ z, z = (T.setVm s.vm).setFrames (.invoking m args :: below) := ⟨_, rfl⟩
  rw [← hA'] at Y
  have hvm : s'.vm = s.vm := by rw [hA']; rfl
  have hhp : s'.heap = T.heap := by rw [hA']; rfl
  have hW0 : s.WarmedH s'.vm := by rw [hvm]; exact State.WarmedH.refl s
  have hg : ∀ w ∈ lw_all, w.before args s' = true := fun w hw => vx_ot_at hW0 hvm.symm (by simp [vx_ot, (List.mem_filter.mp hw).2]) (hts w hw)
  have hn : ∀ w ∈ qnw, w.before args s' = true := fun w hw => qnw_use hw (qnw_warm hw hW0 (hnw w hw))
  have hU' : vx_Zq Bundle.tN "UNASSIGNED_STACK" Bundle.steD A s' s'.heap := by rw [hhp]; exact vx_Zq.moved hW0.alike (hU.kept hS.2.1)
  have hN' : vx_Zq Bundle.tN "SUPPRESSED_SENTINEL" Bundle.listD A s' s'.heap := by rw [hhp]; exact vx_Zq.moved hW0.alike (hN.kept hS.2.1)
  have h : ∀ w ∈ exL Cn cls1 names, w.before args s' = true := by
    intro w hw
    rcases hL w hw with h9 | h9 | rfl | rfl
    · exact hg w h9
    · exact hn w h9
    · exact hU'.2.word
    · exact hN'.2.word
  have a' : ∀ x, x ∈ exL Cn cls1 names → x.holds args s' none s' [] = true := fun x hx => h x hx
  have hown' : s'.vm.findClass Cn = some m.cls := by rw [hvm]; exact hown
  have hK' : va_K D.1 vwCl (qtys D.2) s' := va_K.moved hW0.alike hK
  have hap := va_apart (own := Cn) hg hin ty hty hnm hK' hc
  obtain ⟨hSl, hfX, kX, hkX, hord⟩ := hK'.1 ci _ hc
  have hfX : s'.vm.findClass Cn = some (D.1.1 ci) := hfX
  obtain ⟨TH, Z, L, LZ, YT⟩ := ThrowableC.of_atoms (args := args) howns hfin hpl (fun x hx => h x (List.mem_append_left _ hx))
  obtain ⟨P1, Ps, hlen, L1, hLs, hP1m, hlink1, hlink2⟩ := Bundle.chain0 (args := args) hpl YT.init0 names cls1 hcls hnames (fun x hx => h x (List.mem_append_right _ (List.mem_append_left _ hx)))
  have hq : ∀ w ∈ ([.selects Cn Bundle.tFill0 Bundle.tFill0, .selects Cn Bundle.tFill Bundle.tFill, .fieldLink Bundle.tN 198 Bundle.tN "backtrace" "Ljava/lang/Object;", .lays Bundle.tN Bundle.tN "backtrace" "Ljava/lang/Object;", .lays Cn Bundle.tN "cause" "Ljava/lang/Throwable;", .lays Cn Bundle.tN "stackTrace" Bundle.steD, .lays Cn Bundle.tN "suppressedExceptions" Bundle.listD] : List Cond), w.holds args s' none s' [] = true := fun w hw => a' w (List.mem_append_right _ (List.mem_append_right _ hw))
  have hsel0 : selectMethod e.platform s'.vm cell.cls TH.fill0 = .method TH.fill0 := by
    obtain ⟨c2, r2, m2, q1, q2, q3, q4, -⟩ := Cond.selects_spec (hq (.selects Cn Bundle.tFill0 Bundle.tFill0) (by simp))
    cases Option.some.inj (q1.symm.trans hfX)
    cases Option.some.inj (q2.symm.trans (State.methodFound?_of_named YT.fill0 (by decide)))
    cases Option.some.inj (q3.symm.trans YT.fill0)
    rw [Launch.admits_selectMethod X.admits, hcc]; exact q4
  have hselF : selectMethod e.platform s'.vm cell.cls TH.fill = .method TH.fill := by
    obtain ⟨c2, r2, m2, q1, q2, q3, q4, -⟩ := Cond.selects_spec (hq (.selects Cn Bundle.tFill Bundle.tFill) (by simp))
    cases Option.some.inj (q1.symm.trans hfX)
    cases Option.some.inj (q2.symm.trans (State.methodFound?_of_named YT.fill (by decide)))
    cases Option.some.inj (q3.symm.trans YT.fill)
    rw [Launch.admits_selectMethod X.admits, hcc]; exact q4
  obtain ⟨cellS0, hcS0, hiss⟩ := YT.statics
  obtain ⟨u0, hu0⟩ := Cond.staticRefV YT.unassigned L.unassignedStatic L.statics hcS0 hiss (show (Cond.isRef (.static Bundle.tN "UNASSIGNED_STACK" Bundle.steD)).holds args s' none s' [] = true from vx_isRefq hU'.1)
  obtain ⟨sen, hsen⟩ := Cond.staticRefV YT.sentinel L.sentinelStatic L.statics hcS0 hiss (show (Cond.isRef (.static Bundle.tN "SUPPRESSED_SENTINEL" Bundle.listD)).holds args s' none s' [] = true from vx_isRefq hN'.1)
  obtain ⟨ci198, i198, fB, hk198, hg198, ha198, hsB, -, hnB, htB, hffB⟩ := Cond.ownField (t := .object "java/lang/Object") YT.found L.cls (by decide +kernel) (hq (.fieldLink Bundle.tN 198 Bundle.tN "backtrace" "Ljava/lang/Object;") (by simp)) (hq (.lays Bundle.tN Bundle.tN "backtrace" "Ljava/lang/Object;") (by simp)) e.platform hpl
  have hcellS : T.heap[TH.aS]? = some cellS0 := by rw [← hhp]; exact hcS0
  have hknownS : cellS0.vm ≠ .unknown := by
    intro hu
    rw [hu] at hiss
    cases hiss
  have hneS : TH.aS ≠ a := by
    intro z
    rw [z, hcell] at hcellS
    cases Option.some.inj hcellS
    rw [hv] at hiss
    cases hiss
  obtain ⟨tyC, -⟩ := Cond.laysAt hfX hkX YT.cause (hq (.lays Cn Bundle.tN "cause" "Ljava/lang/Throwable;") (by simp))
  obtain ⟨tyS, -⟩ := Cond.laysAt hfX hkX YT.stack (hq (.lays Cn Bundle.tN "stackTrace" Bundle.steD) (by simp))
  obtain ⟨tyP, -⟩ := Cond.laysAt hfX hkX YT.supp (hq (.lays Cn Bundle.tN "suppressedExceptions" Bundle.listD) (by simp))
  have sC : TH.fCause.slot = D.1.2 ci 0 := by
    obtain ⟨_, _, _, fd, g1, g2⟩ := hSl 0 (show 0 < N by omega)
    have g1 : s'.fieldFound? (T0 0).1 (T0 0).2.1 (T0 0).2.2.1 = _ := g1
    rw [t0] at g1
    have := (YT.cause).symm.trans g1
    simp only [Option.some.injEq, Prod.mk.injEq] at this
    rw [this.2.2.2]; exact g2
  have sS : TH.fStack.slot = D.1.2 ci 1 := by
    obtain ⟨_, _, _, fd, g1, g2⟩ := hSl 1 (show 1 < N by omega)
    have g1 : s'.fieldFound? (T0 1).1 (T0 1).2.1 (T0 1).2.2.1 = _ := g1
    rw [t1] at g1
    have := (YT.stack).symm.trans g1
    simp only [Option.some.injEq, Prod.mk.injEq] at this
    rw [this.2.2.2]; exact g2
  have sP : TH.fSupp.slot = D.1.2 ci 2 := by
    obtain ⟨_, _, _, fd, g1, g2⟩ := hSl 2 (show 2 < N by omega)
    have g1 : s'.fieldFound? (T0 2).1 (T0 2).2.1 (T0 2).2.2.1 = _ := g1
    rw [t2] at g1
    have := (YT.supp).symm.trans g1
    simp only [Option.some.injEq, Prod.mk.injEq] at this
    rw [this.2.2.2]; exact g2
  have sB : fB.slot = D.1.2 ci 4 := by
    obtain ⟨_, _, _, fd, g1, g2⟩ := hSl 4 (show 4 < N by omega)
    have g1 : s'.fieldFound? (T0 4).1 (T0 4).2.1 (T0 4).2.2.1 = _ := g1
    rw [t4] at g1
    have := hffB.symm.trans g1
    simp only [Option.some.injEq, Prod.mk.injEq] at this
    rw [this.2.2.2]; exact g2
  have szk : ∀ k, k < N → D.1.2 ci k < cell.slots.size := fun k hk => (Array.getElem?_eq_some_iff.mp (hsl k hk)).1
  have tk : ∀ (f : Field) (v : Value) (k : Nat), k < N → f.slot = D.1.2 ci k → kX.instanceTypes[f.slot]? = some f.type → fits f.type v = true → Takes s' cell f v := by
    intro f v k hk hf ht hv2
    have h9 := Takes.of_laid (s := s') hkX hord ht hv2
    refine ⟨by rw [hf]; exact szk k hk, ?_⟩
    have h8 := h9.2
    rw [hcc, hv]
    exact h8
  have htC : Takes s' cell TH.fCause (.ref a) := tk _ _ 0 (by omega) sC tyC (by rw [YT.causeType]; rfl)
  have htS : Takes s' cell TH.fStack u0.v := tk _ _ 1 (by omega) sS tyS (by rw [YT.stackType]; exact fits_refV_array _ u0)
  have htP : Takes s' cell TH.fSupp sen.v := tk _ _ 2 (by omega) sP tyP (by rw [YT.suppType]; exact fits_refV_object _ sen)
  have hskip : SkipFacts TH e.platform s' (fun u => u) u0 ((preparedCellV TH.toThrowableT cell a u0 sen).withEntry T.cur) := by
    refine ⟨{ ci198 := ci198, i198 := i198, fBack := fB }, ⟨hk198, hg198, ha198, hsB⟩, ?_, fun _ _ => rfl⟩
    have h9 := hsl 4 (by omega)
    rw [hnull, ← sB] at h9
    have b0 : fB.slot ≠ TH.fCause.slot := by rw [sB, sC]; exact hap 4 0 (by omega) (by omega) (by decide)
    have b1 : fB.slot ≠ TH.fStack.slot := by rw [sB, sS]; exact hap 4 1 (by omega) (by omega) (by decide)
    have b2 : fB.slot ≠ TH.fSupp.slot := by rw [sB, sP]; exact hap 4 2 (by omega) (by omega) (by decide)
    simpa [preparedCellV, Cell.setSlot, Cell.withEntry, Array.getElem?_setIfInBounds, b0, b1, b2, b0.symm, b1.symm, b2.symm] using h9
  have hd6 : decode c.code (F0 m pc ls (.ref a :: rest)).pc = .ok (.invokespecial ic, 3) := by rw [hb]; exact d
  have hstep : ∃ vm₁, s'.WarmedH vm₁ ∧ ∀ target, (∀ acts, Steps p.tables e below (doInvoke e ((T.setVm vm₁).setTop (F0 m pc ls rest)) acts P1.m #[.ref a]).1 target) → Steps p.tables e below (T.setTop (F0 m pc ls (.ref a :: rest))) target := by
    rcases hlink with hk | ⟨host, hk⟩
    · obtain ⟨tm, methC, cdC, kC, vm₁, hnC, -, -, -, -, -, -, -, hW₁, st1⟩ := Steps.initCold (tb := p.tables) (e := e) (below := below) (s := s') (U := T) Y.here hexec Y.warmed hpl hown' (t := Bundle.init0 cls1) rfl rfl (Bundle.fit_spec hcls).2
        (hg _ hk) (hg _ hi1) (bytes := Bundle.five) (maxL := 1) (hg _ hi2) (f := F0 m pc ls (.ref a :: rest)) rfl (a := a) (rest := rest) rfl hd6
      cases Option.some.inj (hnC.symm.trans hP1m)
      exact ⟨vm₁, hW₁, st1⟩
    · obtain ⟨mk, methM, cM, kP, vm₁, hnC, -, -, -, -, -, -, -, hW₁, st1⟩ := Steps.initColdArgsNest (tb := p.tables) (e := e) (below := below) (s := s') (U := T) Y.here hexec Y.warmed hpl hown' (t := Bundle.init0 cls1) rfl (Bundle.fit_spec hcls).2
        (hn _ hk) (hg _ hi1) (bytes := Bundle.five) (maxL := 1) (hg _ hi2) (f := F0 m pc ls (.ref a :: rest)) rfl (a := a) (argsL := []) (rest := rest) (fun sig hs => by
          have hs : parseMethodDescriptor "()V" = some sig := hs
          have : (parseMethodDescriptor "()V").map (fun d => d.parameters.length) = some 0 := by decide +kernel
          rw [hs] at this
          exact (Option.some.inj this).symm) rfl hd6
      cases Option.some.inj (hnC.symm.trans hP1m)
      exact ⟨vm₁, hW₁, st1⟩
  obtain ⟨vm₁, hW₁, st1⟩ := hstep
  have X₁ := Y.noted hW₁
  have hd7 : decode c.code (F0 m pc ls rest).pc = .ok (.invokespecial ic, 3) := by rw [hb]; exact d
  obtain ⟨vm₂, X₂, st2⟩ := X₁.ctorPlainOffV hexec (g := F0 m pc ls rest) rfl hsize TH L Z LZ (P1 :: Ps)
    (fun P hP => by rcases List.mem_cons.mp hP with rfl | hP; exact L1; exact hLs P hP) ⟨hlink1, hlink2⟩ (u0 := u0) (sen := sen) (self := a) (cell := cell) (cellS := cellS0)
    hcell (fun k z => by rw [hv] at z; cases z) (fun z => by rw [hv] at z; cases z) ho hco hsel0 hselF hcellS hneS hknownS hu0 hsen
    htC htS htP YT.objLocals hskip htr [] hd7
    (by simp only [List.length_cons, hlen]; omega) (by show 2 * 0 + _ + _ ≤ _; simp only [List.length_cons, hlen]; omega)
  subst hA'
  have X6 := q_back9 X Y X₂
  have hlt : a < ((T.setVm vm₁).setVm vm₂).heap.size := (Array.getElem?_eq_some_iff.mp hcell).1
  obtain ⟨t, a1, b1⟩ := kk ((preparedCellV TH.toThrowableT cell a u0 sen).setSlot TH.fStack.slot u0.v) (((T.setVm vm₁).setVm vm₂).setCell a ((preparedCellV TH.toThrowableT cell a u0 sen).setSlot TH.fStack.slot u0.v)).heap _ rfl (by show cell.vm = .none; exact hv) (fun k hk h9 => by
      have c0 : D.1.2 ci k ≠ TH.fCause.slot := by rw [sC]; exact hap k 0 hk (by omega) (by omega)
      have c1 : D.1.2 ci k ≠ TH.fStack.slot := by rw [sS]; exact hap k 1 hk (by omega) (by omega)
      have c2 : D.1.2 ci k ≠ TH.fSupp.slot := by rw [sP]; exact hap k 2 hk (by omega) (by omega)
      have h8 := hsl k hk
      simpa [preparedCellV, Cell.setSlot, Array.getElem?_setIfInBounds, c0, c1, c2, c0.symm, c1.symm, c2.symm] using h8)
    (heapAt_setCell_self (s := (T.setVm vm₁).setVm vm₂) ((preparedCellV TH.toThrowableT cell a u0 sen).setSlot TH.fStack.slot u0.v) hlt) (by show (T.heap.setIfInBounds a _).size = _; rw [Array.size_setIfInBounds]) (fun x hx => heapAt_setCell_ne (s := (T.setVm vm₁).setVm vm₂) _ (Ne.symm hx)) (fun y hy => by
      simp only [List.nil_append, List.mem_cons, List.not_mem_nil, or_false] at hy
      rcases hy with rfl | rfl | rfl | rfl <;> rfl) _ rfl X6
  refine ⟨t, st1 _ (fun acts => ?_), b1⟩
  rw [doInvoke_state]
  exact st2 _ a1
end QEX
section QR5
variable {α β : Type} {emb : α → QO × QM} {emb' : β → QO × QM} {l : Launch} {K : QK} {M0 M : QM} {t A B : Option α} {u : Nat × Nat} {pc : Nat} {ls : List (Option QV)} {st : List QV}
theorem x_widen {u' : Nat × Nat} {q : QN} (h : u.1 ≤ u'.1 ∧ u.2 ≤ u'.2) (kk : SX emb l K M0 t u' pc M ls q) : SX emb l K M0 t u pc M ls q := by
  intro a ha hl p e s m args below meth c D ρ0 ρ H locs lsA rest C hI hG hS hL h1 hq
  exact vx_widen h.1 h.2 (kk a ha hl p e s m args below meth c D ρ0 ρ H locs lsA rest C hI hG hS hL h1 hq)
theorem r_acmp_eq {r r' : QR} {off : Int} {tgt : Nat} (d : decode K.2.1 pc = .ok (.if_acmp .eq off, 3)) (ht : (pc : Int) + off = (tgt : Int)) (kt : SB emb l K M0 A u tgt M ls st) (kf : SB emb l K M0 B u (pc + 3) M ls st) : SB emb l K M0 ((qeq M r r').bind fun b => if b = true then A else B) u pc M ls (.inr r' :: .inr r :: st) := by
  intro a ha hl p e s m args below meth c D ρ0 ρ H locs lsA C hI hG hS hL h1 h2
  obtain ⟨b, hx, ha⟩ := bind_inv ha
  have hq := qeq_inv hI hx
  have := lv_acmp_eq (rx := r.map ρ) (ry := r'.map ρ) (pc := pc) (ls := lsA) (rest := st.map (qv ρ)) (p := p) (l := l) (e := e) (R := K.rm) (s := s) (m := m) (args := args) (below := below) (meth := meth) (c := c) (H := H) (locs := locs) (cells := u.1) (slots := u.2) (Q := vx_MQ below (qQ D s.heap.size ρ0 M0 (emb a).1 (emb a).2) (qXc D s.heap.size ρ0 M0 (emb a).1 (emb a).2) args s K.rm.cells K.rm.slots (qA s.heap.size ρ0 M0)) C.x C.b d ht (fun z => kt a (by rw [if_pos (hq.mp z)] at ha; exact ha) hl p e s m args below meth c D ρ0 ρ H locs lsA C hI hG hS hL h1 (qok_t (qok_t h2))) (fun z => kf a (by rw [if_neg (fun h => z (hq.mpr h))] at ha; exact ha) hl p e s m args below meth c D ρ0 ρ H locs lsA C hI hG hS hL h1 (qok_t (qok_t h2)))
  rw [List.map_cons, List.map_cons, qv_rf, qv_rf]
  exact this
def qcastA (M : QM) (r : QR) : Option Unit := match r with
  | none => some ()
  | some q => match M.2 q with
    | some (_, .inr (.inr (.inl (k, _, _)))) => if k = 2 then some () else none
    | _ => none
theorem r_castA {r : QR} {i : Nat} {k : Unit → Option α} (hlk : Cond.classLink K.1 i "[Ljava/lang/Object;" ∈ lw_all) (d : decode K.2.1 pc = .ok (.checkcast i, 3)) (kk : SB emb l K M0 (k ()) u (pc + 3) M ls (.inr r :: st)) : SB emb l K M0 ((qcastA M r).bind k) u pc M ls (.inr r :: st) := by
  intro a ha hl p e s m args below meth c D ρ0 ρ H locs lsA C hI hG hS hL h1 h2
  obtain ⟨x, hx, ha⟩ := bind_inv ha
  have hk := kk a ha hl p e s m args below meth c D ρ0 ρ H locs lsA C hI hG hS hL h1 h2
  unfold qcastA at hx
  cases r with
  | none => exact lv_castN C.x C.b d hk
  | some q =>
    dsimp only at hx
    split at hx
    · next b k0 n0 f g1 =>
      split at hx
      · next h9 =>
        subst h9
        obtain ⟨cs, x1, x2, x3, x4, x5, x6⟩ := (hI.1 q b _ g1).1
        obtain ⟨-, -, -, -, -, hfc⟩ := (C.kk.2 2 _ (qtys_at D.2 (by decide))).2
        intro T hT X
        obtain ⟨vm', X', st9⟩ := X.checkcastYes C.x C.own (C.ts _ hlk) (by rw [hT]; exact x1) (by cases h9 : cs.vm <;> first | rfl | exact absurd h9 (x3 _)) (show s.vm.findClass "[Ljava/lang/Object;" = some (D.2 2) from hfc) (by rw [x2]; exact va_asg _ _) (g := F0 m pc lsA (.ref (ρ q) :: st.map (qv ρ))) rfl rfl (by rw [C.b]; exact d)
        obtain ⟨t9, a1, b1⟩ := hk (T.setVm vm') hT X'
        exact ⟨t9, st9 t9 a1, b1⟩
      · cases hx
    · cases hx
theorem r_mmax {x y : Int32} {i : Nat} (hF : Cond.methodLink K.1 i Lib.Math.max.name ∈ lw_all ∧ Cond.static Lib.Math.max.name ∈ lw_all ∧ Cond.initialized "java/lang/Math" ∈ lw_all ∧ Cond.code Lib.Math.max.name Lib.Math.max.code 2 (some .int) ∈ lw_all) (hR : (1 ≤ K.rm.frames ∧ st.length + 13 ≤ K.rm.locals) ∧ u.1 ≤ K.rm.cells ∧ u.2 ≤ K.rm.slots) (d : decode K.2.1 pc = .ok (.invokestatic i, 3)) (kk : SB emb l K M0 t u (pc + 3) M ls (.inl (if x < y then y else x) :: st)) : SB emb l K M0 t u pc M ls (.inl y :: .inl x :: st) := by
  intro a ha hl p e s m args below meth c D ρ0 ρ H locs lsA C hI hG hS hL h1 h2
  exact va_mmax C.x C.b (by rw [C.ml]; exact hL.1.symm) C.own (C.ts _ hF.1) (C.ts _ hF.2.1) (C.ts _ hF.2.2.1) (C.ts _ hF.2.2.2) hR.1.1 (by rw [qv_cats]; exact hR.1.2) hR.2.1 hR.2.2 d (kk a ha hl p e s m args below meth c D ρ0 ρ H locs lsA C hI hG hS hL h1 (qok_i (qok_t (qok_t h2))))
theorem r_mmin {x y : Int32} {i : Nat} (hF : Cond.methodLink K.1 i Lib.Math.min.name ∈ lw_all ∧ Cond.static Lib.Math.min.name ∈ lw_all ∧ Cond.initialized "java/lang/Math" ∈ lw_all ∧ Cond.code Lib.Math.min.name Lib.Math.min.code 2 (some .int) ∈ lw_all) (hR : (1 ≤ K.rm.frames ∧ st.length + 13 ≤ K.rm.locals) ∧ u.1 ≤ K.rm.cells ∧ u.2 ≤ K.rm.slots) (d : decode K.2.1 pc = .ok (.invokestatic i, 3)) (kk : SB emb l K M0 t u (pc + 3) M ls (.inl (if y < x then y else x) :: st)) : SB emb l K M0 t u pc M ls (.inl y :: .inl x :: st) := by
  intro a ha hl p e s m args below meth c D ρ0 ρ H locs lsA C hI hG hS hL h1 h2
  exact va_mmin C.x C.b (by rw [C.ml]; exact hL.1.symm) C.own (C.ts _ hF.1) (C.ts _ hF.2.1) (C.ts _ hF.2.2.1) (C.ts _ hF.2.2.2) hR.1.1 (by rw [qv_cats]; exact hR.1.2) hR.2.1 hR.2.2 d (kk a ha hl p e s m args below meth c D ρ0 ρ H locs lsA C hI hG hS hL h1 (qok_i (qok_t (qok_t h2))))
theorem r_mabs {x : Int32} {i : Nat} (hF : Cond.methodLink K.1 i Lib.Math.abs.name ∈ lw_all ∧ Cond.static Lib.Math.abs.name ∈ lw_all ∧ Cond.initialized "java/lang/Math" ∈ lw_all ∧ Cond.code Lib.Math.abs.name Lib.Math.abs.code 1 (some .int) ∈ lw_all) (hR : (1 ≤ K.rm.frames ∧ st.length + 13 ≤ K.rm.locals) ∧ u.1 ≤ K.rm.cells ∧ u.2 ≤ K.rm.slots) (d : decode K.2.1 pc = .ok (.invokestatic i, 3)) (kk : SB emb l K M0 t u (pc + 3) M ls (.inl (if 0 ≤ x then x else 0 - x) :: st)) : SB emb l K M0 t u pc M ls (.inl x :: st) := by
  intro a ha hl p e s m args below meth c D ρ0 ρ H locs lsA C hI hG hS hL h1 h2
  exact va_mabs C.x C.b (by rw [C.ml]; exact hL.1.symm) C.own (C.ts _ hF.1) (C.ts _ hF.2.1) (C.ts _ hF.2.2.1) (C.ts _ hF.2.2.2) hR.1.1 (by rw [qv_cats]; exact hR.1.2) hR.2.1 hR.2.2 d (kk a ha hl p e s m args below meth c D ρ0 ρ H locs lsA C hI hG hS hL h1 (qok_i (qok_t h2)))
theorem r_ifnullF {r : QR} {off : Int} {tgt : Nat} {β : Type} (F : β → Option α) {zA zB : β} {inst : Decidable (r = none)} (d : decode K.2.1 pc = .ok (.ifnull off, 3)) (ht : (pc : Int) + off = (tgt : Int)) (kt : SB emb l K M0 (F zA) u tgt M ls st) (kf : SB emb l K M0 (F zB) u (pc + 3) M ls st) : SB emb l K M0 (F (@ite _ (r = none) inst zA zB)) u pc M ls (.inr r :: st) := by
  rw [show F (@ite _ (r = none) inst zA zB) = @ite _ (r = none) inst (F zA) (F zB) from by split <;> rfl]
  exact r_ifnull d ht kt kf
theorem r_ifnonnullF {r : QR} {off : Int} {tgt : Nat} {β : Type} (F : β → Option α) {zA zB : β} {inst : Decidable (r = none)} (d : decode K.2.1 pc = .ok (.ifnonnull off, 3)) (ht : (pc : Int) + off = (tgt : Int)) (kt : SB emb l K M0 (F zB) u tgt M ls st) (kf : SB emb l K M0 (F zA) u (pc + 3) M ls st) : SB emb l K M0 (F (@ite _ (r = none) inst zA zB)) u pc M ls (.inr r :: st) := by
  rw [show F (@ite _ (r = none) inst zA zB) = @ite _ (r = none) inst (F zA) (F zB) from by split <;> rfl]
  exact r_ifnonnull d ht kt kf
/-- a call through the constant String -/
def qrs {β : Type} (r : QR) (x : Option β) : Option β := if r = some (0, 2) then x else none
theorem r_callStr {fr : Option β} {k : β → Option α} {r : QR} {vs st S : List QV} {y : MethodName} {bytes : ByteArray} {maxL n idx : Nat} {ret : Option FieldType} {rm' : Room} (hPM : ∀ b, fr = some b → PM l y (ws_ y bytes maxL ret) rm' (.inr r :: vs) M (emb' b).1 (emb' b).2) (hF : CfV K.1 idx nStr y bytes maxL ret n) (hS9 : S = vs.reverse ++ .inr r :: st) (hn : vs.length = n) (hlen : st.length ≤ 8) (hu : CR K u rm' maxL) (d : decode K.2.1 pc = .ok (.invokevirtual idx, 3)) (kk : ∀ b, OB emb l K M0 (emb' b) (k b) (u.1 + rm'.cells, u.2 + rm'.slots) pc (pc + 3) ls st) : SB emb l K M0 ((qrs r fr).bind k) u pc M ls S := by
  intro a ha hl p e s m args below meth c D ρ0 ρ H locs lsA C hI hG hS hL h1 h2
  obtain ⟨b, hb, ha2⟩ := bind_inv ha
  unfold qrs at hb
  by_cases hr : r = some (0, 2)
  · rw [if_pos hr] at hb
    subst hr
    obtain ⟨hv, h3⟩ := q_oks hS9 h2
    have hp := q_pre C hI hG hS hv
    have hst := q_stk (ρ := ρ) hS9
    have hn2 := C.ss.2.2.2.2.2.2.1
    obtain ⟨cell, g1, g2, g3, g4⟩ := C.ss.2.2.1.1
    rw [← (hG.1 _ hn2).1] at g1 g4
    have g5 : H[ρ (0, 2)]? = some cell := by rw [hS.2.1 _ (Array.getElem?_eq_some_iff.mp g1).1 g4]; exact g1
    exact b_called hl C hG hS hL h1 h3 (aa := (((.inr (some (0, 2)) :: vs).map (qv ρ))).toArray) (o1 := (emb' b).1) (M1 := (emb' b).2) (vx_runV (As := vs.map (qv ρ)) (b := ρ (0, 2)) (q_fix C) (hPM b hb hl D ρ H.size) (cwV n C.ts (lw_V hF.1.1 hF.1.2.1 hF.1.2.2.1 hF.1.2.2.2.1 hF.1.2.2.2.2) rfl rfl rfl hF.2 hu.1) ⟨hp.1, ⟨cell, g5, g2, g3⟩, hp.2⟩ rfl (by rw [List.length_map]; exact hn) hL.1 hst (q_room hlen) d hu.2) ((kk b).v ha2) ((kk b).x ha2)
  · rw [if_neg hr] at hb; cases hb
/-- an exception's cell: what 'new' gives; what its constructor's chain makes of it -/
def fs_10 : List QV := [.inr none, .inr none, .inr none, .inr none, .inr none, .inl 0, .inl 0]
def fs_11 : List QV := fs_10
def fs_12 : List QV := fs_10
def fs_13 : List QV := [.inr none, .inr none, .inr none, .inr none, .inr none, .inl 0, .inl 0, .inr none]
def fs_ex (ci : Nat) : List QV := if ci = 13 then fs_13 else fs_10
def qexc (M : QM) (r : QR) (ci : Nat) : Option QM := match r with
  | none => none
  | some q => match M.2 q with
    | some (true, .inr (.inr (.inr (some (c, fs))))) => if c = ci ∧ fs = fs_ex ci then some (qup M q (.inl (ci + 4, (fs_ex ci).drop 6))) else none
    | _ => none
def ExF (ci ic : Nat) (Cn cls1 : String) (names : List String) (T0 T4 : u_T) (N N4 : Nat) : Prop :=
  ((Cond.methodLink Cn ic (Bundle.init0 cls1)) ∈ lw_all ∨ ∃ host, (Cond.methodLinkNest Cn ic (Bundle.init0 cls1) host) ∈ qnw) ∧ Bundle.fit cls1 = true ∧ (∀ n ∈ names, Bundle.fit n = true) ∧
  (∀ w ∈ exL Cn cls1 names, exW w) ∧ Cond.instanceMethod (Bundle.init0 cls1) ∈ lw_all ∧ Cond.code (Bundle.init0 cls1) Bundle.five 1 none ∈ lw_all ∧
  vwCl[ci]? = some (Cn, T0, N) ∧ (∀ w ∈ u_ws Cn T0 N, w ∈ lw_all) ∧ (∃ ty : Nat → FieldType, ∀ k, k < N → parseFieldDescriptor (T0 k).2.2.1 = some (ty k)) ∧ (∀ a, a < N → ∀ b, b < N → a ≠ b → (T0 a).2.1 ≠ (T0 b).2.1) ∧
  5 ≤ N ∧ T0 0 = (Bundle.tN, "cause", "Ljava/lang/Throwable;", false) ∧ T0 1 = (Bundle.tN, "stackTrace", Bundle.steD, false) ∧ T0 2 = (Bundle.tN, "suppressedExceptions", Bundle.listD, false) ∧ T0 4 = (Bundle.tN, "backtrace", "Ljava/lang/Object;", false) ∧
  vwCl[ci + 4]? = some (Cn, T4, N4) ∧ N = 6 + N4 ∧ (∀ k, k < N4 → T4 k = T0 (6 + k)) ∧ ∀ q : QN, (Sum.inr (some q) : QV) ∉ (fs_ex ci).drop 6
theorem r_exc {r : QR} {k : QM → Option α} {ci ic : Nat} {Cn cls1 : String} {names : List String} {T0 T4 : u_T} {N N4 : Nat} (hK1 : K.1 = Cn) (hF : ExF ci ic Cn cls1 names T0 T4 N N4) (hR : (names.length + 3 < K.rm.frames ∧ st.length + (13 * (names.length + 1) + 41) ≤ K.rm.locals) ∧ u.1 ≤ K.rm.cells ∧ u.2 ≤ K.rm.slots) (d : decode K.2.1 pc = .ok (.invokespecial ic, 3)) (kk : ∀ M1, SB emb l K M0 (k M1) u (pc + 3) M1 ls st) : SB emb l K M0 ((qexc M r ci).bind k) u pc M ls (.inr r :: st) := by
  intro a ha hl p e s m args below meth c D ρ0 ρ H locs lsA C hI hG hS hL h1 h2
  obtain ⟨M1, hx, ha⟩ := bind_inv ha
  obtain ⟨f1, f2, f3, f4, f5, f6, f7, f8, ⟨ty, f9⟩, f10, f11, f12, f13, f14, f15, f16, f17, f18, f19⟩ := hF
  unfold qexc at hx
  cases r with
  | none => cases hx
  | some q =>
    dsimp only at hx
    split at hx
    · next c9 fs hq =>
      split at hx
      · next hcc =>
        obtain ⟨rfl, rfl⟩ := hcc
        cases hx
        obtain ⟨cell, g1, g2, g3, g4, g5, r9, g6, g7⟩ := (hI.1 q true _ hq).1
        cases f7.symm.trans g6
        refine w_exc (D := D) (ci := c9) (cell := cell) (fs := (fs_ex c9).map (qv ρ)) C.x C.b hl (by rw [← hK1]; exact C.own) C.ts C.nw f1 f2 f3 f4 f5 f6 C.kk f7 f8 ty f9 f10 f11 f12 f13 f14 f15 C.ss.2.1.2.1 C.ss.2.1.2.2 hS (by rw [C.ml]; exact hL.1) g1 g2 g3 g4 g5 g7 ?_ d hR.2 hR.1.1 (by rw [qv_cats]; exact hR.1.2) fun ce H1 L e1 e2 e3 e4 e5 e6 e7 => ?_
        · unfold fs_ex
          split <;> rfl
        · have hne := e6
          have hA : qA s.heap.size ρ0 M0 (ρ q) := qA.put hG hq
          have hat : qat D ρ (ρ q) (.inl (c9 + 4, (fs_ex c9).drop 6)) H1 := by
            refine ⟨_, f16, ce, e4, ?_, e2, fun k hk => ?_⟩
            · rw [e1, g2]
              have k1 := (C.kk.1 c9 _ f7).2.1
              have k2 := (C.kk.1 (c9 + 4) _ f16).2.1
              exact Option.some.inj (k1.symm.trans k2)
            · have hk : k < N4 := hk
              obtain ⟨_, _, _, fd, k1, k2⟩ := (C.kk.1 (c9 + 4) _ f16).1 k hk
              obtain ⟨_, _, _, fd2, k3, k4⟩ := (C.kk.1 c9 _ f7).1 (6 + k) (show 6 + k < N by omega)
              have k1 : s.fieldFound? (T4 k).1 (T4 k).2.1 (T4 k).2.2.1 = _ := k1
              have k3 : s.fieldFound? (T0 (6 + k)).1 (T0 (6 + k)).2.1 (T0 (6 + k)).2.2.1 = _ := k3
              rw [f18 k hk] at k1
              have k5 := k1.symm.trans k3
              simp only [Option.some.injEq, Prod.mk.injEq] at k5
              have k6 : D.1.2 (c9 + 4) k = D.1.2 c9 (6 + k) := by rw [← k2, ← k4, k5.2.2.2]
              show ce.slots[D.1.2 (c9 + 4) k]? = _
              rw [k6, e3 (6 + k) (by omega) (by omega)]
              show some ((((fs_ex c9).map (qv ρ)).getD (6 + k) Value.null)) = some ((((fs_ex c9).drop 6).map (qv ρ)).getD k Value.null)
              rw [List.map_drop, List.getD_eq_getElem?_getD, List.getD_eq_getElem?_getD, List.getElem?_drop]
          exact kk _ a ha hl p e s m args below meth c D ρ0 ρ H1 (locs ++ L) lsA C (hI.put hq rfl hat (fun q' hq' => absurd hq' (f19 q')) e6) (hG.put hq) ⟨by rw [e5]; exact hS.1, fun x y1 y2 => (e6 x (fun z => y2 (by rw [z]; exact hA))).trans (hS.2.1 x y1 y2), fun y hy => by
            rcases List.mem_append.mp hy with hy | hy
            · exact hS.2.2 y hy
            · rw [e7 y hy]; exact hA⟩ hL (fun v hv => (h1 v hv).mono qup_dom) (fun v hv => (qok_t h2 v hv).mono qup_dom)
      · cases hx
    · cases hx
end QR5
