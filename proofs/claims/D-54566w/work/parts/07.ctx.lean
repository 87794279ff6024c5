/-! what is known beside the memory: statics, constants, the tables' other words; contracts over the memory; the judgement of a body -/
set_option maxRecDepth 100000
def qnwB : Cond → Bool
  | .methodLinkNest _ _ _ _ => true
  | .fieldLinkNest _ _ _ _ _ _ => true
  | .castable _ _ => true
  | .declares _ => true
  | _ => false
def qnw : List Cond := lw_tbl.filter qnwB
theorem qnw_in {w : Cond} (h : w ∈ lw_tbl) (g : qnwB w = true) : w ∈ qnw := List.mem_filter.mpr ⟨h, g⟩
theorem qnw_warm {w : Cond} (h : w ∈ qnw) {s U : State} (hW : s.WarmedH U.vm) (hZ : va_Nw w s) : va_Nw w U := by
  have g := (List.mem_filter.mp h).2
  cases w <;> first | exact va_Nw.warmM hW hZ | exact va_Nw.warmF hW hZ | exact va_Nw.warmC hW hZ | exact va_Nw.warmD hW hZ | exact absurd g (by simp [qnwB])
def qsio (M : QM) : QR := match M.2 (0, 5) with
  | some (false, _) => some (0, 5)
  | _ => none
abbrev nAL : String := "java/util/ArrayList"
abbrev nU16 : String := "java/lang/StringUTF16"
abbrev nStr : String := "java/lang/String"
abbrev nPre : String := "jdk/internal/util/Preconditions"
abbrev yL_size : MethodName := ⟨"java/util/List", "size", "()I"⟩
abbrev yL_remove : MethodName := ⟨"java/util/List", "remove", "(I)Ljava/lang/Object;"⟩
abbrev yL_add : MethodName := ⟨"java/util/List", "add", "(Ljava/lang/Object;)Z"⟩
abbrev yL_get : MethodName := ⟨"java/util/List", "get", "(I)Ljava/lang/Object;"⟩
abbrev yL_isEmpty : MethodName := ⟨"java/util/List", "isEmpty", "()Z"⟩
abbrev yC_length : MethodName := ⟨"java/lang/CharSequence", "length", "()I"⟩
abbrev yC_charAt : MethodName := ⟨"java/lang/CharSequence", "charAt", "(I)C"⟩
def qFw : List (String × MethodName × MethodName) := [(RJ2, yL_size, yJ2_size), (RJ2, yL_remove, yJ2_remove), (RJ2, yL_add, yJ2_add), (RJ2, yL_get, yJ2_get), (RJ2, yL_isEmpty, yJ2_isEmpty), (RJ4, yC_length, yJ4_length), (RJ4, yC_charAt, yJ4_charAt)]
def qS (D : QD) (ρ : QN → Nat) (M : QM) (A : Nat → Prop) (U : State) (H : Heap) : Prop :=
  (va_Z nAL "DEFAULTCAPACITY_EMPTY_ELEMENTDATA" "[Ljava/lang/Object;" (.ref (ρ (0, 1))) A U H ∧ va_Z nStr "COMPACT_STRINGS" "Z" (.int 1) A U H ∧ va_Z nU16 "$assertionsDisabled" "Z" (.int 1) A U H ∧ va_Z nU16 "HI_BYTE_SHIFT" "I" (.int 0) A U H ∧ va_Z nU16 "LO_BYTE_SHIFT" "I" (.int 8) A U H) ∧
  (va_Z nPre "SIOOBE_FORMATTER" "Ljava/util/function/BiFunction;" (qv ρ (.inr (qsio M))) A U H ∧ vx_Zq Bundle.tN "UNASSIGNED_STACK" Bundle.steD A U H ∧ vx_Zq Bundle.tN "SUPPRESSED_SENTINEL" Bundle.listD A U H) ∧
  (va_O nStr (ρ (0, 2)) A U H ∧ va_OF nStr "value" "[B" (.ref (ρ (0, 3))) (ρ (0, 2)) A U H ∧ va_OF nStr "coder" "B" (.int 0) (ρ (0, 2)) A U H ∧ vk_R "BarnPictures$Reader" 53 "v+-gfsd" (ρ (0, 2)) U ∧ va_Mi "[Ljava/lang/Object;" (ρ (0, 4)) U) ∧
  ((∀ w ∈ qnw, va_Nw w U) ∧ (va_AO "java/lang/Object" U ∧ va_AO "BarnPictures$Reel" U ∧ va_AO "BarnPictures$Generator" U) ∧ (∀ x ∈ qFw, va_Fw x.1 x.2.1 x.2.2 U) ∧ (va_Nc "BarnPictures$NoShow" "BarnPictures$Wrong" U ∧ va_Nc "BarnPictures$Stop" "BarnPictures$TextFault" U) ∧ va_Dc U) ∧
  (ArrOfT U (D.2 5) .int ∧ ArrOfT U (D.2 6) .byte ∧ ArrOfT U (D.2 7) (.object "java/lang/Object")) ∧
  (M.2 (0, 1) ≠ none ∧ M.2 (0, 2) ≠ none ∧ M.2 (0, 3) ≠ none ∧ M.2 (0, 4) ≠ none)
theorem qsio_eq {sz : Nat} {ρ0 ρ : QN → Nat} {M0 M : QM} (h : qG sz ρ0 M0 ρ M) : qsio M = qsio M0 ∧ qv ρ (.inr (qsio M)) = qv ρ0 (.inr (qsio M0)) := by
  by_cases h0 : M0.2 (0, 5) = none
  · have e0 : qsio M0 = none := by unfold qsio; rw [h0]
    have e1 : qsio M = none := by
      unfold qsio
      cases h1 : M.2 (0, 5) with
      | none => rfl
      | some y =>
        obtain ⟨b, e⟩ := y
        have := (h.2 (0, 5) h0 (by rw [h1]; exact fun z => by cases z)).2
        rw [h1] at this
        have hb : b = true := Option.some.inj this
        subst hb
        rfl
    rw [e0, e1]
    exact ⟨rfl, rfl⟩
  · obtain ⟨g1, g2⟩ := h.1 (0, 5) h0
    have e : qsio M = qsio M0 := by
      unfold qsio
      cases h9 : M0.2 (0, 5) with
      | none => exact absurd h9 h0
      | some y =>
        obtain ⟨b, e⟩ := y
        rw [h9] at g2
        cases h8 : M.2 (0, 5) with
        | none => rw [h8] at g2; cases g2
        | some y' =>
          obtain ⟨b', e'⟩ := y'
          rw [h8] at g2
          have hb : b' = b := Option.some.inj g2
          subst hb
          cases b' <;> rfl
    refine ⟨e, ?_⟩
    rw [e]
    cases h9 : qsio M0 with
    | none => rfl
    | some q =>
      have hq : q = (0, 5) := by
        unfold qsio at h9
        split at h9
        · exact (Option.some.inj h9).symm
        · cases h9
      rw [hq]
      show Value.ref (ρ (0, 5)) = Value.ref (ρ0 (0, 5))
      rw [g1]
theorem qS.call {D : QD} {sz : Nat} {ρ0 ρ : QN → Nat} {M0 M : QM} {A0 A1 : Nat → Prop} {s U : State} {H0 H : Heap} (h : qS D ρ0 M0 A0 s H0) (hW : s.WarmedH U.vm) (hG : qG sz ρ0 M0 ρ M) (hk : ∀ a : Nat, a < H0.size → ¬ A0 a → H[a]? = H0[a]?) (hA : ∀ x, A1 x → A0 x) : qS D ρ M A1 U H := by
  obtain ⟨⟨a1, a2, a3, a4, a5⟩, ⟨b1, b2, b3⟩, ⟨c1, c2, c3, c4, c5⟩, ⟨d1, ⟨d2, d3, d4⟩, d5, ⟨d6, d7⟩, d8⟩, ⟨e1, e2, e3⟩, f1, f2, f3, f4⟩ := h
  have hv := hW.alike
  rw [(hG.1 _ f1).1.symm] at a1
  rw [← (qsio_eq hG).2] at b1
  rw [(hG.1 _ f2).1.symm] at c1 c2 c3 c4
  rw [(hG.1 _ f3).1.symm] at c2
  rw [(hG.1 _ f4).1.symm] at c5
  refine ⟨⟨?_, ?_, ?_, ?_, ?_⟩, ⟨?_, ?_, ?_⟩, ⟨?_, ?_, ?_, vk_R.warm hW c4, va_Mi.moved hv c5⟩, ⟨fun w hw => qnw_warm hw hW (d1 w hw), ⟨d2.moved hv, d3.moved hv, d4.moved hv⟩, fun x hx => ?_, ⟨d6.moved hv, d7.moved hv⟩, va_Dc.moved hv d8⟩, ⟨arrOfT_moved hv e1, arrOfT_moved hv e2, arrOfT_moved hv e3⟩, hG.dom _ f1, hG.dom _ f2, hG.dom _ f3, hG.dom _ f4⟩
  · exact (va_Z.moved hv (a1.kept hk)).narrow hA
  · exact (va_Z.moved hv (a2.kept hk)).narrow hA
  · exact (va_Z.moved hv (a3.kept hk)).narrow hA
  · exact (va_Z.moved hv (a4.kept hk)).narrow hA
  · exact (va_Z.moved hv (a5.kept hk)).narrow hA
  · exact (va_Z.moved hv (b1.kept hk)).narrow hA
  · exact (vx_Zq.moved hv (b2.kept hk)).narrow hA
  · exact (vx_Zq.moved hv (b3.kept hk)).narrow hA
  · exact (va_O.moved hv (c1.kept hk)).narrow hA
  · exact (va_OF.moved hv (c2.kept hk)).narrow hA
  · exact (va_OF.moved hv (c3.kept hk)).narrow hA
  · refine va_Fw.moved ?_ hv (d5 x hx)
    simp only [qFw, List.mem_cons, List.not_mem_nil, or_false] at hx
    rcases hx with rfl | rfl | rfl | rfl | rfl | rfl | rfl <;> exact ⟨by decide +kernel, by decide +kernel⟩
def qP (D : QD) (ρ : QN → Nat) (M : QM) (sz : Nat) (U : State) : Prop := U.heap.size = sz ∧ qI D ρ M U.heap ∧ va_K D.1 vwCl (qtys D.2) U ∧ qS D ρ M (qA sz ρ M) U U.heap
def qQ (D : QD) (sz : Nat) (ρ0 : QN → Nat) (M0 : QM) (o : QO) (M' : QM) : Array Value → State → Outcome → State → Prop := fun _ st oc t =>
  ∃ (v : Option QV) (ρ' : QN → Nat), o = .inl v ∧ oc = .returned (v.map (qv ρ')) ∧ qI D ρ' M' t.heap ∧ qG sz ρ0 M0 ρ' M' ∧ (∀ w, v = some w → qok M' w) ∧ va_F (qA sz ρ0 M0) st t
def qXc (D : QD) (sz : Nat) (ρ0 : QN → Nat) (M0 : QM) (o : QO) (M' : QM) : Addr → String → State → State → Prop := fun q9 E st t =>
  ∃ (q : QN) (ρ' : QN → Nat) (ci : Nat) (fs : List QV) (T : u_T) (N : Nat), o = .inr q ∧ q9 = ρ' q ∧ M'.2 q = some (true, .inl (ci, fs)) ∧ vwCl[ci]? = some (E, T, N) ∧ qI D ρ' M' t.heap ∧ qG sz ρ0 M0 ρ' M' ∧ va_F (qA sz ρ0 M0) st t
/-- the contract of y at arguments vs, memory M: it ends with o, at memory M' -/
def PM (l : Launch) (y : MethodName) (ws : List Cond) (rm : Room) (vs : List QV) (M : QM) (o : QO) (M' : QM) : Prop :=
  l.stackTraces = false → ∀ (D : QD) (ρ : QN → Nat) (sz : Nat), vx_Met l y ws rm (va_Pc (vs.map (qv ρ)) (fun U => qP D ρ M sz U ∧ ∀ v ∈ vs, qok M v)) (qQ D sz ρ M o M') (qXc D sz ρ M o M') rm.cells rm.slots (qA sz ρ M)
/-- own class, code, locals, answer, handlers, a constructor's, room -/
abbrev QK : Type := String × ByteArray × Nat × Option FieldType × List (Nat × Nat × Nat × Nat) × Bool × Room
abbrev QK.rm (K : QK) : Room := K.2.2.2.2.2.2
def qC (K : QK) (M0 : QM) (p : Program) (s : State) (m : MethodId) (args : Array Value) (meth : Method) (c : Code) (D : QD) (ρ0 : QN → Nat) : Prop :=
  p.tables.exec = Jvm.exec ∧ c.code = K.2.1 ∧ meth.sig.returnType = K.2.2.2.1 ∧ c.maxLocals = K.2.2.1 ∧ s.vm.findClass K.1 = some m.cls ∧ (∀ w ∈ lw_all, w.before args s = true) ∧ meth.locks = false ∧ (K.2.2.2.2.2.1 = true → meth.name = "<init>") ∧ c.exceptionTable.toList = tableOf K.2.2.2.2.1 ∧ qP D ρ0 M0 s.heap.size s
def qL (ρ : QN → Nat) (nL : Nat) (ls : List (Option QV)) (lsA : Array Slot) : Prop := lsA.size = nL ∧ lv_wf lsA ∧ ∀ (k : Nat) (v : QV), ls[k]? = some (some v) → lsA[k]? = some (.val (qv ρ v))
def BW (l : Launch) (K : QK) (M0 : QM) (o : QO) (M' : QM) (u : Nat × Nat) (pc : Nat) (M : QM) (ls : List (Option QV)) (st : List QV) : Prop :=
  l.stackTraces = false → ∀ (p : Program) (e : Env) (s : State) (m : MethodId) (args : Array Value) (below : List Frame) (meth : Method) (c : Code) (D : QD) (ρ0 ρ : QN → Nat) (H : Heap) (locs : List Loc) (lsA : Array Slot),
    qC K M0 p s m args meth c D ρ0 → qI D ρ M H → qG s.heap.size ρ0 M0 ρ M → va_S (qA s.heap.size ρ0 M0) s.heap H locs → qL ρ K.2.2.1 ls lsA → (∀ v, some v ∈ ls → qok M v) → (∀ v ∈ st, qok M v) →
    W p l e K.rm s m args below meth c H locs u.1 u.2 (vx_MQ below (qQ D s.heap.size ρ0 M0 o M') (qXc D s.heap.size ρ0 M0 o M') args s K.rm.cells K.rm.slots (qA s.heap.size ρ0 M0)) (F0 m pc lsA (st.map (qv ρ)))
/-- q thrown over the frame -/
def BX (l : Launch) (K : QK) (M0 : QM) (o : QO) (M' : QM) (u : Nat × Nat) (pc : Nat) (M : QM) (ls : List (Option QV)) (q : QN) : Prop :=
  l.stackTraces = false → ∀ (p : Program) (e : Env) (s : State) (m : MethodId) (args : Array Value) (below : List Frame) (meth : Method) (c : Code) (D : QD) (ρ0 ρ : QN → Nat) (H : Heap) (locs : List Loc) (lsA : Array Slot) (rest : List Value),
    qC K M0 p s m args meth c D ρ0 → qI D ρ M H → qG s.heap.size ρ0 M0 ρ M → va_S (qA s.heap.size ρ0 M0) s.heap H locs → qL ρ K.2.2.1 ls lsA → (∀ v, some v ∈ ls → qok M v) → (∃ ci fs, M.2 q = some (true, .inl (ci, fs))) →
    vx_W p l e K.rm s m args below meth c H locs u.1 u.2 (vx_MQ below (qQ D s.heap.size ρ0 M0 o M') (qXc D s.heap.size ρ0 M0 o M') args s K.rm.cells K.rm.slots (qA s.heap.size ρ0 M0)) (F0 m pc lsA rest) (ρ q)
def SB {α : Type} (emb : α → QO × QM) (l : Launch) (K : QK) (M0 : QM) (t : Option α) (u : Nat × Nat) (pc : Nat) (M : QM) (ls : List (Option QV)) (st : List QV) : Prop := ∀ a, t = some a → BW l K M0 (emb a).1 (emb a).2 u pc M ls st
def SX {α : Type} (emb : α → QO × QM) (l : Launch) (K : QK) (M0 : QM) (t : Option α) (u : Nat × Nat) (pc : Nat) (M : QM) (ls : List (Option QV)) (q : QN) : Prop := ∀ a, t = some a → BX l K M0 (emb a).1 (emb a).2 u pc M ls q
/-- kinds of answers: an int and a memory, an int alone, a memory alone, .. -/
def eI : Int32 × QM → QO × QM := fun x => (.inl (some (.inl x.1)), x.2)
def eP (M0 : QM) : Int32 → QO × QM := fun x => (.inl (some (.inl x)), M0)
def eV : QM → QO × QM := fun x => (.inl none, x)
def eU (M0 : QM) : Unit → QO × QM := fun _ => (.inl none, M0)
def eR : QR × QM → QO × QM := fun x => (.inl (some (.inr x.1)), x.2)
def eO (M0 : QM) : QR → QO × QM := fun x => (.inl (some (.inr x)), M0)
def eXI : (Int32 ⊕ QN) × QM → QO × QM := fun x => match x.1 with
  | .inl v => (.inl (some (.inl v)), x.2)
  | .inr q => (.inr q, x.2)
def eXV : (Unit ⊕ QN) × QM → QO × QM := fun x => match x.1 with
  | .inl _ => (.inl none, x.2)
  | .inr q => (.inr q, x.2)
def eXR : (QR ⊕ QN) × QM → QO × QM := fun x => match x.1 with
  | .inl v => (.inl (some (.inr v)), x.2)
  | .inr q => (.inr q, x.2)
theorem qL.ren {ρ ρ' : QN → Nat} {M : QM} {nL : Nat} {ls : List (Option QV)} {lsA : Array Slot} (h : qL ρ nL ls lsA) (hc : ∀ v, some v ∈ ls → qok M v) (he : ∀ q, M.2 q ≠ none → ρ' q = ρ q) : qL ρ' nL ls lsA :=
  ⟨h.1, h.2.1, fun k v hk => by rw [qv_ok (hc v (List.mem_of_getElem? hk)) he]; exact h.2.2 k v hk⟩
theorem qst_ren {ρ ρ' : QN → Nat} {M : QM} {st : List QV} (hc : ∀ v ∈ st, qok M v) (he : ∀ q, M.2 q ≠ none → ρ' q = ρ q) : st.map (qv ρ') = st.map (qv ρ) := List.map_congr_left fun v hv => qv_ok (hc v hv) he
def qlp (ρ : QN → Nat) (ls : List (Option QV)) : List (Nat × Value) := (List.range ls.length).filterMap (fun k => match ls[k]? with
  | some (some v) => some (k, qv ρ v)
  | _ => none)
theorem qlp_mem {ρ : QN → Nat} {ls : List (Option QV)} {x : Nat × Value} : x ∈ qlp ρ ls ↔ ∃ v, ls[x.1]? = some (some v) ∧ x.2 = qv ρ v := by
  unfold qlp
  rw [List.mem_filterMap]
  constructor
  · rintro ⟨k, -, hk⟩
    split at hk
    · next v hv =>
      cases hk
      exact ⟨v, hv, rfl⟩
    · cases hk
  · rintro ⟨v, h1, h2⟩
    refine ⟨x.1, List.mem_range.mpr (List.getElem?_eq_some_iff.mp h1).1, ?_⟩
    rw [h1]
    simp [← h2]
theorem qL.has {ρ : QN → Nat} {nL : Nat} {ls : List (Option QV)} {lsA : Array Slot} (h : qL ρ nL ls lsA) : lv_has lsA nL (qlp ρ ls) := ⟨h.1, h.2.1, fun x hx => by
  obtain ⟨v, h1, h2⟩ := qlp_mem.mp hx
  rw [h2]
  exact h.2.2 _ _ h1⟩
theorem qL.set {ρ : QN → Nat} {nL i : Nat} {ls ls' : List (Option QV)} {l : List (Nat × Value)} {lsA : Array Slot} {v : QV} (h : lv_has lsA nL ((i, qv ρ v) :: l)) (hl : ∀ x ∈ (qlp ρ ls).filter (fun q => !(q.1 == i) && !(q.1 + 1 == i && q.2.category == 2)), x ∈ l) (hls : ls.set i (some v) = ls') : qL ρ nL ls' lsA := by
  refine ⟨h.1, h.2.1, fun k w hk => ?_⟩
  rw [← hls] at hk
  by_cases hki : k = i
  · subst hki
    rw [List.getElem?_set] at hk
    simp at hk
    rw [← hk.2]
    exact h.2.2 (k, qv ρ v) List.mem_cons_self
  · rw [List.getElem?_set_ne (Ne.symm hki)] at hk
    refine h.2.2 (k, qv ρ w) (List.mem_cons_of_mem _ (hl _ (List.mem_filter.mpr ⟨qlp_mem.mpr ⟨w, hk, rfl⟩, ?_⟩)))
    have hc := qv_cat ρ w
    simp [hki, hc]
theorem qls_set {M : QM} {ls ls' : List (Option QV)} {i : Nat} {v : QV} (h : ∀ v, some v ∈ ls → qok M v) (hv : qok M v) (hls : ls.set i (some v) = ls') : ∀ v, some v ∈ ls' → qok M v := by
  intro w hw
  rw [← hls] at hw
  rcases List.mem_or_eq_of_mem_set hw with h1 | h1
  · exact h w h1
  · cases h1
    exact hv
theorem qok_i {M : QM} {st : List QV} {x : Int32} (h : ∀ v ∈ st, qok M v) : ∀ v ∈ (Sum.inl x : QV) :: st, qok M v := fun v hv => by
  rcases List.mem_cons.mp hv with rfl | h1
  · exact fun q z => by cases z
  · exact h v h1
theorem qok_c {M : QM} {st : List QV} {w : QV} (hw : qok M w) (h : ∀ v ∈ st, qok M v) : ∀ v ∈ w :: st, qok M v := fun v hv => by
  rcases List.mem_cons.mp hv with rfl | h1
  · exact hw
  · exact h v h1
theorem qok_t {M : QM} {st : List QV} {w : QV} (h : ∀ v ∈ w :: st, qok M v) : ∀ v ∈ st, qok M v := fun v hv => h v (List.mem_cons_of_mem _ hv)
theorem qok_h {M : QM} {st : List QV} {w : QV} (h : ∀ v ∈ w :: st, qok M v) : qok M w := h w List.mem_cons_self
theorem qok_n {M : QM} : qok M (.inr none) := fun q z => by cases z
theorem qok_int {M : QM} {x : Int32} : qok M (.inl x) := fun q z => by cases z
theorem lv_args_at (ρ : QN → Nat) : ∀ (vs : List QV) (i k : Nat) (v : QV), vs[k]? = some v → (i + k, qv ρ v) ∈ lv_args i (vs.map (qv ρ))
  | [], i, k, v, h => by simp at h
  | w :: vs, i, k, v, h => by
    rw [List.map_cons, lv_args, qv_cat]
    cases k with
    | zero =>
      rw [List.getElem?_cons_zero] at h
      cases h
      exact List.mem_cons_self
    | succ k =>
      rw [List.getElem?_cons_succ] at h
      have := lv_args_at ρ vs (i + 1) k v h
      rw [show i + (k + 1) = i + 1 + k by omega]
      exact List.mem_cons_of_mem _ this
theorem lg_sl_len (ρ : QN → Nat) (vs : List QV) : (lg_sl (vs.map (qv ρ))).length = vs.length := by
  induction vs with
  | nil => rfl
  | cons v r ih =>
    unfold lg_sl at ih ⊢
    rw [List.map_cons, List.flatMap_cons, List.length_append, ih, qv_cat]
    simp [Nat.add_comm]
theorem qL.entry (ρ : QN → Nat) (vs : List QV) (nL : Nat) (h : vs.length ≤ nL) : qL ρ nL (vs.map some ++ List.replicate (nL - vs.length) none) ((lg_sl (vs.map (qv ρ)) ++ List.replicate (nL - (lg_sl (vs.map (qv ρ))).length) Slot.unset).toArray) := by
  have h1 := lv_entry (vs.map (qv ρ)) (n := nL) (by rw [lg_sl_len]; exact h)
  refine ⟨h1.1, h1.2.1, fun k v hk => ?_⟩
  have hk2 : vs[k]? = some v := by
    by_cases hl : k < vs.length
    · rw [List.getElem?_append_left (by simpa using hl), List.getElem?_map] at hk
      cases h9 : vs[k]? with
      | none => rw [h9] at hk; cases hk
      | some w => rw [h9] at hk; cases hk; rfl
    · rw [List.getElem?_append_right (by simpa using hl)] at hk
      have := List.mem_of_getElem? hk
      have := List.eq_of_mem_replicate this
      cases this
  have := h1.2.2 _ (lv_args_at ρ vs 0 k v hk2)
  rw [Nat.zero_add] at this
  exact this
/-- a contract out of a body, with no handlers -/
theorem PM.of {l : Launch} {y : MethodName} {own : String} {cc : ByteArray} {nL : Nat} {ret : Option FieldType} {rm : Room} {vs : List QV} {M : QM} {o : QO} {M' : QM} (own_y : y.cls = own) (hy : plainName y.cls = true) (hv : vs.length ≤ nL) (hin : Bool) (hini : hin = true → y.name = "<init>")
    (h : BW l (own, cc, nL, ret, [], hin, rm) M o M' (0, 0) 0 M (vs.map some ++ List.replicate (nL - vs.length) none) []) : PM l y (ws_ y cc nL ret) rm vs M o M' := by
  intro hl D ρ sz
  refine vx_ofW (cc := cc) (maxL := nL) (ret := ret) hy rfl ?_
  intro p e s m args below meth c s₁ B hml ht hv9
  obtain ⟨rfl, ⟨hsz, hI, hK, hS⟩, hok⟩ := hv9
  subst hsz
  have hts := atoms_spec (ws := ws_ y cc nL ret) B.pre
  have hts : ∀ w ∈ lw_all, w.before _ s = true := fun w h => hts w (List.mem_cons_of_mem _ h)
  rw [lg_entry_eq]
  refine h hl p e s m _ below meth c D ρ ρ s.heap [] _ ⟨B.exec, B.bytes, B.returns, hml, by rw [← own_y]; exact findClass_of_methodNamed B.named, hts, B.notSynchronized, fun hh => ?_, ?_, rfl, hI, hK, hS⟩ hI qG.rf va_S.rf (qL.entry ρ vs nL hv) (fun v hv => ?_) (fun v hv => by cases hv)
  · rw [(name_of_methodNamed B.named B.method).1]
    exact hini hh
  · show c.exceptionTable.toList = []
    cases h9 : c.exceptionTable.toList with
    | nil => rfl
    | cons x r => exact absurd (by rw [h9]; exact List.mem_cons_self) (ht x)
  · rcases List.mem_append.mp hv with h1 | h1
    · obtain ⟨w, hw, e⟩ := List.mem_map.mp h1
      cases e
      exact hok _ hw
    · cases List.eq_of_mem_replicate h1
/-- a contract out of a body with handlers -/
theorem PM.ofH {l : Launch} {y : MethodName} {own : String} {cc : ByteArray} {nL : Nat} {ret : Option FieldType} {hh : List (Nat × Nat × Nat × Nat)} {rm : Room} {vs : List QV} {M : QM} {o : QO} {M' : QM} (own_y : y.cls = own) (hy : plainName y.cls = true) (hv : vs.length ≤ nL)
    (h : BW l (own, cc, nL, ret, hh, false, rm) M o M' (0, 0) 0 M (vs.map some ++ List.replicate (nL - vs.length) none) []) : PM l y (wsW_ y cc nL ret hh) rm vs M o M' := by
  intro hl D ρ sz
  refine vx_ofWH (cc := cc) (maxL := nL) (ret := ret) (hh := hh) hy rfl ?_
  intro p e s m args below meth c s₁ B hml hv9
  obtain ⟨rfl, ⟨hsz, hI, hK, hS⟩, hok⟩ := hv9
  subst hsz
  have hts0 := atoms_spec (ws := wsW_ y cc nL ret hh) B.pre
  have hts : ∀ w ∈ lw_all, w.before _ s = true := fun w h => hts0 w (List.mem_cons_of_mem _ h)
  rw [lg_entry_eq]
  refine h hl p e s m _ below meth c D ρ ρ s.heap [] _ ⟨B.exec, B.bytes, B.returns, hml, by rw [← own_y]; exact findClass_of_methodNamed B.named, hts, B.notSynchronized, fun hh => (by cases hh), vx_table (x := y) B (hts0 _ List.mem_cons_self), rfl, hI, hK, hS⟩ hI qG.rf va_S.rf (qL.entry ρ vs nL hv) (fun v hv => ?_) (fun v hv => by cases hv)
  rcases List.mem_append.mp hv with h1 | h1
  · obtain ⟨w, hw, e⟩ := List.mem_map.mp h1
    cases e
    exact hok _ hw
  · cases List.eq_of_mem_replicate h1
