/-! rows of the judgement: new cells, statics, constants, casts, comparisons of references, calls, throws (printed by gen/p10.py) -/
set_option maxRecDepth 100000
def qNf (own : String) (idx ci n : Nat) (fs : List QV) : Prop := ∃ C T N, ∃ ty : Nat → FieldType, vwCl[ci]? = some (C, T, N) ∧ (∀ w ∈ u_ws C T N, w ∈ lw_all) ∧ (∀ k, k < N → parseFieldDescriptor (T k).2.2.1 = some (ty k)) ∧ Cond.classLink own idx C ∈ lw_all ∧ Cond.instantiable C n ∈ lw_all ∧ Cond.initialized C ∈ lw_all ∧ (∀ ρ : QN → Nat, ∀ j, j < N → defaultValue (ty j) = vp_V (fs.map (qv ρ)) j) ∧ ∀ q : QN, (Sum.inr (some q) : QV) ∉ fs
def qrc {β : Type} (M : QM) (r : QR) (cis : List Nat) (x : Option β) : Option β := match r with
  | none => none
  | some q => match M.2 q with
    | some (_, .inl (ci, _)) => if cis.contains ci = true then x else none
    | _ => none
def qnn {β : Type} (r : QR) (x : Option β) : Option β := match r with
  | none => none
  | some _ => x
def qd2 {β : Type} (M : QM) (r : QR) (c1 : Nat) (x1 : Option β) (c2 : Nat) (x2 : Option β) : Option β := match r with
  | none => none
  | some q => match M.2 q with
    | some (_, .inl (ci, _)) => if ci = c1 then x1 else if ci = c2 then x2 else none
    | _ => none
theorem qrc_inv {β : Type} {M : QM} {r : QR} {cis : List Nat} {x : Option β} {a : β} (h : qrc M r cis x = some a) : x = some a ∧ ∃ q b ci fs, r = some q ∧ M.2 q = some (b, .inl (ci, fs)) ∧ ci ∈ cis := by
  unfold qrc at h
  cases r with
  | none => cases h
  | some q =>
    dsimp only at h
    split at h
    · next b ci fs hq =>
      split at h
      · next hc => exact ⟨h, q, b, ci, fs, rfl, hq, by simpa using hc⟩
      · cases h
    · cases h
theorem qnn_inv {β : Type} {r : QR} {x : Option β} {a : β} (h : qnn r x = some a) : x = some a ∧ ∃ q, r = some q := by
  cases r with
  | none => cases h
  | some q => exact ⟨h, q, rfl⟩
theorem nO_inv {M M1 : QM} {q : QN} {e : QE} (h : nO M q e = some M1) : M.2 q = none ∧ M1 = qnew M q e := by
  unfold nO at h
  split at h
  · next hq => cases h; exact ⟨hq, rfl⟩
  · cases h
def qbI {β : Type} (r : Option (Int32 × QM)) (k : Int32 → QM → Option β) : Option β := r.bind fun x => k x.1 x.2
def qbR {β : Type} (r : Option (QR × QM)) (k : QR → QM → Option β) : Option β := r.bind fun x => k x.1 x.2
def qbXI {β : Type} (r : Option ((Int32 ⊕ QN) × QM)) (kx : QN → QM → Option β) (k : Int32 → QM → Option β) : Option β := r.bind fun x => match x.1 with
  | .inl v => k v x.2
  | .inr q => kx q x.2
def qbXV {β : Type} (r : Option ((Unit ⊕ QN) × QM)) (kx : QN → QM → Option β) (k : QM → Option β) : Option β := r.bind fun x => match x.1 with
  | .inl _ => k x.2
  | .inr q => kx q x.2
def qbXR {β : Type} (r : Option ((QR ⊕ QN) × QM)) (kx : QN → QM → Option β) (k : QR → QM → Option β) : Option β := r.bind fun x => match x.1 with
  | .inl v => k v x.2
  | .inr q => kx q x.2
def qeq (M : QM) (r r' : QR) : Option Bool := match r, r' with
  | none, none => some true
  | none, some _ => some false
  | some _, none => some false
  | some q, some q' => if q = q' then some true else match M.2 q, M.2 q' with
    | some (b, e), some (b', e') => if qreal e = true ∧ qreal e' = true ∧ (b = true ∨ b' = true) then some false else none
    | _, _ => none
def qcast (M : QM) (r : QR) (ci : Nat) : Option Unit := match r with
  | none => some ()
  | some q => match M.2 q with
    | some (_, .inl (c, _)) => if c = ci then some () else none
    | _ => none
def qcls (M : QM) (q : QN) : Option Nat := match M.2 q with
  | some (_, .inl (ci, _)) => some ci
  | _ => none
def qthr {β : Type} (M : QM) (r : QR) (k : QN → Option β) : Option β := match r with
  | none => none
  | some q => match M.2 q with
    | some (true, .inl _) => k q
    | _ => none
/-- a call's facts -/
def CfV (own : String) (idx : Nat) (C : String) (y : MethodName) (b : ByteArray) (L : Nat) (r : Option FieldType) (n : Nat) : Prop := (Cond.methodLink own idx y ∈ lw_all ∧ Cond.instanceMethod y ∈ lw_all ∧ Cond.selects C y y ∈ lw_all ∧ Cond.initialized C ∈ lw_all ∧ Cond.code y b L r ∈ lw_all) ∧ (y.cls = C ∧ y.cls ≠ "java/lang/invoke/MethodHandle" ∧ y.cls ≠ "java/lang/invoke/VarHandle" ∧ (parseMethodDescriptor y.desc).map (fun d => d.parameters.length) = some n)
def CfVW (own : String) (idx : Nat) (C : String) (y : MethodName) (b : ByteArray) (L : Nat) (r : Option FieldType) (hh : List (Nat × Nat × Nat × Nat)) (n : Nat) : Prop := (Cond.methodLink own idx y ∈ lw_all ∧ Cond.instanceMethod y ∈ lw_all ∧ Cond.selects C y y ∈ lw_all ∧ Cond.initialized C ∈ lw_all ∧ Cond.codeWith y b L r hh ∈ lw_all) ∧ (y.cls = C ∧ y.cls ≠ "java/lang/invoke/MethodHandle" ∧ y.cls ≠ "java/lang/invoke/VarHandle" ∧ (parseMethodDescriptor y.desc).map (fun d => d.parameters.length) = some n)
def CfS (own : String) (idx : Nat) (y : MethodName) (b : ByteArray) (L : Nat) (r : Option FieldType) (n : Nat) : Prop := (Cond.methodLink own idx y ∈ lw_all ∧ Cond.static y ∈ lw_all ∧ Cond.initialized y.cls ∈ lw_all ∧ Cond.code y b L r ∈ lw_all) ∧ (y.cls ≠ "java/lang/invoke/MethodHandle" ∧ y.cls ≠ "java/lang/invoke/VarHandle" ∧ (parseMethodDescriptor y.desc).map (fun d => d.parameters.length) = some n)
def CfSN (own : String) (idx : Nat) (y : MethodName) (b : ByteArray) (L : Nat) (r : Option FieldType) (n : Nat) : Prop := ((∃ host, Cond.methodLinkNest own idx y host ∈ qnw) ∧ Cond.static y ∈ lw_all ∧ Cond.initialized y.cls ∈ lw_all ∧ Cond.code y b L r ∈ lw_all) ∧ (y.cls ≠ "java/lang/invoke/MethodHandle" ∧ y.cls ≠ "java/lang/invoke/VarHandle" ∧ (parseMethodDescriptor y.desc).map (fun d => d.parameters.length) = some n)
def CfI (own : String) (idx : Nat) (y : MethodName) (b : ByteArray) (L : Nat) (n : Nat) : Prop := (Cond.methodLink own idx y ∈ lw_all ∧ Cond.instanceMethod y ∈ lw_all ∧ Cond.initialized y.cls ∈ lw_all ∧ Cond.code y b L none ∈ lw_all ∧ y.name = "<init>") ∧ (y.cls ≠ "java/lang/invoke/MethodHandle" ∧ y.cls ≠ "java/lang/invoke/VarHandle" ∧ (parseMethodDescriptor y.desc).map (fun d => d.parameters.length) = some n)
def CfIN (own : String) (idx : Nat) (y : MethodName) (b : ByteArray) (L : Nat) (n : Nat) : Prop := ((∃ host, Cond.methodLinkNest own idx y host ∈ qnw) ∧ Cond.instanceMethod y ∈ lw_all ∧ Cond.initialized y.cls ∈ lw_all ∧ Cond.code y b L none ∈ lw_all ∧ y.name = "<init>") ∧ (y.cls ≠ "java/lang/invoke/MethodHandle" ∧ y.cls ≠ "java/lang/invoke/VarHandle" ∧ (parseMethodDescriptor y.desc).map (fun d => d.parameters.length) = some n)
def CfU (own : String) (idx : Nat) (C owner : String) (x y : MethodName) (b : ByteArray) (L : Nat) (r : Option FieldType) (n : Nat) : Prop := (Cond.methodLink own idx x ∈ lw_all ∧ Cond.sameMethod x.cls owner x.name x.desc ∈ lw_all ∧ Cond.selects C x y ∈ lw_all ∧ Cond.instanceMethod y ∈ lw_all ∧ Cond.initialized y.cls ∈ lw_all ∧ Cond.code y b L r ∈ lw_all ∧ (y = ⟨owner, x.name, x.desc⟩ ∨ Cond.declares ⟨owner, x.name, x.desc⟩ ∈ qnw)) ∧ (owner ≠ "java/lang/invoke/MethodHandle" ∧ owner ≠ "java/lang/invoke/VarHandle" ∧ (parseMethodDescriptor x.desc).map (fun d => d.parameters.length) = some n)
def CfSU (own : String) (idx : Nat) (y : MethodName) (b : ByteArray) (L : Nat) (r : Option FieldType) (n : Nat) : Prop := (Cond.methodLink own idx y ∈ lw_all ∧ Cond.sameMethod y.cls y.cls y.name y.desc ∈ lw_all ∧ Cond.superclass own y.cls ∈ lw_all ∧ Cond.instanceMethod y ∈ lw_all ∧ Cond.initialized y.cls ∈ lw_all ∧ Cond.code y b L r ∈ lw_all) ∧ (y.name ≠ "<init>" ∧ (parseMethodDescriptor y.desc).map (fun d => d.parameters.length) = some n)
def CfF (own : String) (idx : Nat) (C : String) (x y : MethodName) (b : ByteArray) (L : Nat) (r : Option FieldType) (n : Nat) : Prop := (Cond.methodLink own idx x ∈ lw_all ∧ Cond.selects C x y ∈ lw_all ∧ Cond.instanceMethod y ∈ lw_all ∧ Cond.initialized y.cls ∈ lw_all ∧ Cond.code y b L r ∈ lw_all ∧ (C, x, y) ∈ qFw) ∧ (x.cls ≠ "java/lang/invoke/MethodHandle" ∧ x.cls ≠ "java/lang/invoke/VarHandle" ∧ (parseMethodDescriptor x.desc).map (fun d => d.parameters.length) = some n)
theorem good_list {ws : List Cond} {y : MethodName} {b : ByteArray} {L : Nat} {r : Option FieldType} (h : ∀ w ∈ ws, w ∈ lw_all) (h5 : Cond.code y b L r ∈ lw_all) : GoodIn lw_all (ws ++ ws_ y b L r) := lw_app h (lw_meth h5)
section QR3
variable {α β : Type} {emb : α → QO × QM} {emb' : β → QO × QM} {l : Launch} {K : QK} {M0 M M' : QM} {o : QO} {t A B : Option α} {u : Nat × Nat} {pc : Nat} {ls ls' : List (Option QV)} {st : List QV}
theorem r_widen {u' : Nat × Nat} (h : u.1 ≤ u'.1 ∧ u.2 ≤ u'.2) (kk : SB emb l K M0 t u' pc M ls st) : SB emb l K M0 t u pc M ls st := by
  intro a ha hl p e s m args below meth c D ρ0 ρ H locs lsA C hI hG hS hL h1 h2
  exact W.widen h.1 h.2 (kk a ha hl p e s m args below meth c D ρ0 ρ H locs lsA C hI hG hS hL h1 h2)
section
variable {p : Program} {e : Env} {s : State} {m : MethodId} {args : Array Value} {below : List Frame} {meth : Method} {c : Code} {D : QD} {ρ0 ρ : QN → Nat} {H : Heap} {locs : List Loc} {lsA : Array Slot}
/-- a new cell at the heap's end, under the name q -/
theorem alloc_k {q : QN} {en : QE} {H1 : Heap} {u' : Nat × Nat} {pc' : Nat} (hl : l.stackTraces = false) (C : qC K M0 p s m args meth c D ρ0) (hI : qI D ρ M H) (hG : qG s.heap.size ρ0 M0 ρ M) (hS : va_S (qA s.heap.size ρ0 M0) s.heap H locs) (hL : qL ρ K.2.2.1 ls lsA) (h1 : ∀ v, some v ∈ ls → qok M v) (h2 : ∀ v ∈ st, qok M v) (hq : M.2 q = none) (he : ∀ ρ', qat D ρ' H.size en H1) (hc : qclo M en) (hz : H1.size = H.size + 1) (oq : ∀ x : Nat, x < H.size → H1[x]? = H[x]?) (kk : BW l K M0 o M' u' pc' (qnew M q en) ls (.inr (some q) :: st)) :
    W p l e K.rm s m args below meth c H1 locs u'.1 u'.2 (vx_MQ below (qQ D s.heap.size ρ0 M0 o M') (qXc D s.heap.size ρ0 M0 o M') args s K.rm.cells K.rm.slots (qA s.heap.size ρ0 M0)) (F0 m pc' lsA (.ref H.size :: st.map (qv ρ))) := by
  have old := qren_old (a := H.size) (ρ := ρ) hq
  have := kk hl p e s m args below meth c D ρ0 (qren ρ q H.size) H1 locs lsA C (hI.new hq (he _) hc oq) (hG.new hq hS.1) ⟨Nat.le_trans hS.1 (by omega), fun x g1 g2 => (oq x (Nat.lt_of_lt_of_le g1 hS.1)).trans (hS.2.1 x g1 g2), hS.2.2⟩ (hL.ren h1 old) (fun v hv => (h1 v hv).mono qnew_dom) (qok_c (fun q' hq' => by cases hq'; show (if q = q then some (true, en) else M.2 q) ≠ none; rw [if_pos rfl]; exact fun z => by cases z) (fun v hv => (h2 v hv).mono qnew_dom))
  rw [List.map_cons, qst_ren h2 old, show qv (qren ρ q H.size) (.inr (some q)) = .ref H.size from congrArg Value.ref qren_self] at this
  exact this
theorem q_blind {vs : List QV} {av : List Value} {sz : Nat} : FrameBlind (va_Pc av (fun U => qP D ρ M sz U ∧ ∀ v ∈ vs, qok M v)) := by
  intro a U g mk h
  obtain ⟨h1, ⟨h2, h3, h4, h5⟩, h6⟩ := h
  exact ⟨h1, ⟨h2, h3, va_K.moved (u := U) (U := U.calling g mk a) (Vm.Alike.refl U.vm) h4, qS.call (sz := 0) (U := U.calling g mk a) h5 (State.WarmedH.refl U) qG.rf (fun _ _ _ => rfl) (fun _ z => z)⟩, h6⟩
theorem q_start (C : qC K M0 p s m args meth c D ρ0) (hI : qI D ρ M H) (hG : qG s.heap.size ρ0 M0 ρ M) (hS : va_S (qA s.heap.size ρ0 M0) s.heap H locs) (U : State) (hU : U.heap = H) (hW : s.WarmedH U.vm) : qP D ρ M H.size U :=
  ⟨by rw [hU], by rw [hU]; exact hI, va_K.moved hW.alike C.kk, by rw [hU]; exact qS.call C.ss hW hG hS.2.1 (qA.sub hG hS.1)⟩
theorem q_pre {vs : List QV} (C : qC K M0 p s m args meth c D ρ0) (hI : qI D ρ M H) (hG : qG s.heap.size ρ0 M0 ρ M) (hS : va_S (qA s.heap.size ρ0 M0) s.heap H locs) (hv : ∀ v ∈ vs, qok M v) : PreS s H (va_Pc (vs.map (qv ρ)) (fun U => qP D ρ M H.size U ∧ ∀ v ∈ vs, qok M v)) (vs.map (qv ρ)) :=
  ⟨q_blind, fun U hU hW => ⟨rfl, q_start C hI hG hS U hU hW, hv⟩⟩
theorem q_fix (C : qC K M0 p s m args meth c D ρ0) : CallFix p m c K.2.1 K.2.2.1 s args lw_all K.1 := ⟨C.x, C.b, C.ml, C.own, C.ts⟩
theorem q_recv {q : QN} {b : Bool} {ci : Nat} {fs : List QV} {Cn : String} {T : u_T} {N : Nat} (C : qC K M0 p s m args meth c D ρ0) (hI : qI D ρ M H) (hq : M.2 q = some (b, .inl (ci, fs))) (hc : vwCl[ci]? = some (Cn, T, N)) : ∃ cell : Cell, H[ρ q]? = some cell ∧ cell.vm.isStatics = false ∧ s.vm.findClass Cn = some cell.cls := by
  obtain ⟨r9, hr9, cellV, v1, v2, v3, -⟩ := (hI.1 q b _ hq).1
  exact ⟨cellV, v1, by rw [v3]; rfl, by rw [v2]; exact (C.kk.1 ci _ hc).2.1⟩

theorem b_called {o1 : QO} {M1 : QM} {mc ms : Nat} {st0 : List Value} {aa : Array Value} (hl : l.stackTraces = false) (C : qC K M0 p s m args meth c D ρ0) (hG : qG s.heap.size ρ0 M0 ρ M) (hS : va_S (qA s.heap.size ρ0 M0) s.heap H locs) (hL : qL ρ K.2.2.1 ls lsA) (h1 : ∀ v, some v ∈ ls → qok M v) (h2 : ∀ v ∈ st, qok M v)
    (hr : vx_Run p l e K.rm s m args below meth c H locs u.1 u.2 mc ms (F0 m pc lsA st0) (st.map (qv ρ)) (qQ D H.size ρ M o1 M1 aa) (qXc D H.size ρ M o1 M1) (qA H.size ρ M))
    (kv : ∀ v, o1 = .inl v → BW l K M0 o M' (u.1 + mc, u.2 + ms) (pc + 3) M1 ls (v.toList ++ st)) (kx : ∀ q, o1 = .inr q → BX l K M0 o M' (u.1 + mc, u.2 + ms) pc M1 ls q) :
    W p l e K.rm s m args below meth c H locs u.1 u.2 (vx_MQ below (qQ D s.heap.size ρ0 M0 o M') (qXc D s.heap.size ρ0 M0 o M') args s K.rm.cells K.rm.slots (qA s.heap.size ρ0 M0)) (F0 m pc lsA st0) := by
  intro T hT X
  have hsub := qA.sub hG hS.1
  rcases hr T hT X with ⟨v, st₀, t, T', L, h0, X', hL9, e1, e2, ⟨v', ρ', ho, hv, hI', hG', hok, hF⟩, stp⟩ | ⟨q, st₀, t, T', L, E, ce, h0, X', hL9, e1, e2, ⟨q', ρ', ci, fs, T9, N9, ho, hq9, hM1, hcl9, hI', hG', hF⟩, hce, hcv, hcl, stp⟩
  · cases hv
    obtain ⟨k1, k2, k3⟩ := vx_keep h0 e1 hS (fun q _ z => hsub q z) (fun q z => hsub q z) hL9 hF
    have old : ∀ q, M.2 q ≠ none → ρ' q = ρ q := fun q hq => (hG'.1 q hq).1
    obtain ⟨t2, a1, b1⟩ := kv v' ho hl p e s m args below meth c D ρ0 ρ' T'.heap (locs ++ L) lsA C (by rw [e1]; exact hI') (hG.tr hG' hS.1) k3 (hL.ren h1 old) (fun v hv => (h1 v hv).mono hG'.dom) (fun v hv => by
      rcases List.mem_append.mp hv with h9 | h9
      · exact hok v (by cases v' with
          | none => cases h9
          | some x => rw [List.mem_singleton.mp h9])
      · exact (h2 v h9).mono hG'.dom) T' rfl X'
    refine ⟨t2, stp t2 ?_, b1⟩
    rw [List.map_append, qst_ren h2 old] at a1
    cases v' <;> exact a1
  · subst hq9
    obtain ⟨k1, k2, k3⟩ := vx_keep h0 e1 hS (fun q _ z => hsub q z) (fun q z => hsub q z) hL9 hF
    have old : ∀ q, M.2 q ≠ none → ρ' q = ρ q := fun q hq => (hG'.1 q hq).1
    obtain ⟨t2, a1, b1⟩ := kx q' ho hl p e s m args below meth c D ρ0 ρ' T'.heap (locs ++ L) lsA (st.map (qv ρ)) C (by rw [e1]; exact hI') (hG.tr hG' hS.1) k3 (hL.ren h1 old) (fun v hv => (h1 v hv).mono hG'.dom) ⟨ci, fs, hM1⟩ T' rfl X'
    exact ⟨t2, stp.trans a1, b1⟩
theorem b_called5 {o1 : QO} {M1 : QM} {mc ms : Nat} {st0 : List Value} {aa : Array Value} (hl : l.stackTraces = false) (C : qC K M0 p s m args meth c D ρ0) (hG : qG s.heap.size ρ0 M0 ρ M) (hS : va_S (qA s.heap.size ρ0 M0) s.heap H locs) (hL : qL ρ K.2.2.1 ls lsA) (h1 : ∀ v, some v ∈ ls → qok M v) (h2 : ∀ v ∈ st, qok M v)
    (hr : vx_Run5 p l e K.rm s m args below meth c H locs u.1 u.2 mc ms (F0 m pc lsA st0) (st.map (qv ρ)) (qQ D H.size ρ M o1 M1 aa) (qXc D H.size ρ M o1 M1) (qA H.size ρ M))
    (kv : ∀ v, o1 = .inl v → BW l K M0 o M' (u.1 + mc, u.2 + ms) (pc + 5) M1 ls (v.toList ++ st)) (kx : ∀ q, o1 = .inr q → BX l K M0 o M' (u.1 + mc, u.2 + ms) pc M1 ls q) :
    W p l e K.rm s m args below meth c H locs u.1 u.2 (vx_MQ below (qQ D s.heap.size ρ0 M0 o M') (qXc D s.heap.size ρ0 M0 o M') args s K.rm.cells K.rm.slots (qA s.heap.size ρ0 M0)) (F0 m pc lsA st0) := by
  intro T hT X
  have hsub := qA.sub hG hS.1
  rcases hr T hT X with ⟨v, st₀, t, T', L, h0, X', hL9, e1, e2, ⟨v', ρ', ho, hv, hI', hG', hok, hF⟩, stp⟩ | ⟨q, st₀, t, T', L, E, ce, h0, X', hL9, e1, e2, ⟨q', ρ', ci, fs, T9, N9, ho, hq9, hM1, hcl9, hI', hG', hF⟩, hce, hcv, hcl, stp⟩
  · cases hv
    obtain ⟨k1, k2, k3⟩ := vx_keep h0 e1 hS (fun q _ z => hsub q z) (fun q z => hsub q z) hL9 hF
    have old : ∀ q, M.2 q ≠ none → ρ' q = ρ q := fun q hq => (hG'.1 q hq).1
    obtain ⟨t2, a1, b1⟩ := kv v' ho hl p e s m args below meth c D ρ0 ρ' T'.heap (locs ++ L) lsA C (by rw [e1]; exact hI') (hG.tr hG' hS.1) k3 (hL.ren h1 old) (fun v hv => (h1 v hv).mono hG'.dom) (fun v hv => by
      rcases List.mem_append.mp hv with h9 | h9
      · exact hok v (by cases v' with
          | none => cases h9
          | some x => rw [List.mem_singleton.mp h9])
      · exact (h2 v h9).mono hG'.dom) T' rfl X'
    refine ⟨t2, stp t2 ?_, b1⟩
    rw [List.map_append, qst_ren h2 old] at a1
    cases v' <;> exact a1
  · subst hq9
    obtain ⟨k1, k2, k3⟩ := vx_keep h0 e1 hS (fun q _ z => hsub q z) (fun q z => hsub q z) hL9 hF
    have old : ∀ q, M.2 q ≠ none → ρ' q = ρ q := fun q hq => (hG'.1 q hq).1
    obtain ⟨t2, a1, b1⟩ := kx q' ho hl p e s m args below meth c D ρ0 ρ' T'.heap (locs ++ L) lsA (st.map (qv ρ)) C (by rw [e1]; exact hI') (hG.tr hG' hS.1) k3 (hL.ren h1 old) (fun v hv => (h1 v hv).mono hG'.dom) ⟨ci, fs, hM1⟩ T' rfl X'
    exact ⟨t2, stp.trans a1, b1⟩
end
theorem r_new {q : QN} {i ci n : Nat} {fs : List QV} {k : QM → Option α} (hF : qNf K.1 i ci n fs) (hu : u.1 + 1 ≤ K.rm.cells ∧ u.2 + n ≤ K.rm.slots) (d : decode K.2.1 pc = .ok (.new i, 3)) (kk : ∀ M1, SB emb l K M0 (k M1) (u.1 + 1, u.2 + n) (pc + 3) M1 ls (.inr (some q) :: st)) : SB emb l K M0 ((nO M q (.inl (ci, fs))).bind k) u pc M ls st := by
  intro a ha hl p e s m args below meth c D ρ0 ρ H locs lsA C hI hG hS hL h1 h2
  obtain ⟨M1, hx, ha⟩ := bind_inv ha
  obtain ⟨hq, rfl⟩ := nO_inv hx
  obtain ⟨Cn, T, N, ty, hc, hin, hty, hcl, hins, hini, hdf, hnr⟩ := hF
  have hKn := C.kk.1 ci _ hc
  refine W.newcK C.x C.b C.own (C.ts _ hcl) (C.ts _ hins) (C.ts _ hini) rfl d hu.1 hu.2 hKn.2.1 rfl fun H1 kC hkC e1 z1 o1 => ?_
  exact alloc_k (en := .inl (ci, fs)) (u' := (u.1 + 1, u.2 + n)) hl C hI hG hS hL h1 h2 hq (fun ρ' => ⟨_, hc, (u_born ty C.ts hin hKn hkC e1 hty).to (hdf ρ')⟩) (fun q' hq' => absurd hq' (hnr q')) z1 o1 (kk _ a ha)
theorem r_newF {q : QN} {i ci n : Nat} {fs : List QV} {k : QM → Option α} (hF : qNf K.1 i ci n fs) (hu : u.1 + 1 ≤ K.rm.cells ∧ u.2 + n ≤ K.rm.slots) (d : decode K.2.1 pc = .ok (.new i, 3)) (kk : ∀ M1, SB emb l K M0 (k M1) (u.1 + 1, u.2 + n) (pc + 3) M1 ls (.inr (some q) :: st)) : SB emb l K M0 ((nO M q (.inr (.inr (.inr (some (ci, fs)))))).bind k) u pc M ls st := by
  intro a ha hl p e s m args below meth c D ρ0 ρ H locs lsA C hI hG hS hL h1 h2
  obtain ⟨M1, hx, ha⟩ := bind_inv ha
  obtain ⟨hq, rfl⟩ := nO_inv hx
  obtain ⟨Cn, T, N, ty, hc, hin, hty, hcl, hins, hini, hdf, hnr⟩ := hF
  have hKn := C.kk.1 ci _ hc
  refine W.newcK C.x C.b C.own (C.ts _ hcl) (C.ts _ hins) (C.ts _ hini) rfl d hu.1 hu.2 hKn.2.1 rfl fun H1 kC hkC e1 z1 o1 => ?_
  refine alloc_k (en := .inr (.inr (.inr (some (ci, fs))))) (u' := (u.1 + 1, u.2 + n)) hl C hI hG hS hL h1 h2 hq (fun ρ' => ?_) (fun q' hq' => absurd hq' (hnr q')) z1 o1 (kk _ a ha)
  obtain ⟨cell, g1, g2, g3, g4⟩ := u_born ty C.ts hin hKn hkC e1 hty
  have g5 : cell = blank (D.1.1 ci) kC := Option.some.inj (g1.symm.trans e1)
  subst g5
  exact ⟨_, g1, rfl, rfl, rfl, rfl, _, hc, fun j hj => by rw [← hdf ρ' j hj]; exact g4 j hj⟩
theorem r_newI {q : QN} {n : Int32} {B : Nat} {k : QM → Option α} (hu : u.1 + 1 ≤ K.rm.cells ∧ u.2 + B ≤ K.rm.slots ∧ B * 4 ≤ 536870912) (d : decode K.2.1 pc = .ok (.newarray .int, 2)) (kk : ∀ M1, SB emb l K M0 (k M1) (u.1 + 1, u.2 + B) (pc + 2) M1 ls (.inr (some q) :: st)) : SB emb l K M0 ((nAi M q 0 n B).bind k) u pc M ls (.inl n :: st) := by
  intro a ha hl p e s m args below meth c D ρ0 ρ H locs lsA C hI hG hS hL h1 h2
  obtain ⟨M1, hx, ha⟩ := bind_inv ha
  unfold nAi at hx
  by_cases hn : n < 0 ∨ B < n.toNatClampNeg
  · rw [if_pos hn] at hx; cases hx
  · rw [if_neg hn] at hx
    obtain ⟨hq, rfl⟩ := nO_inv hx
    have hB : n.toNatClampNeg ≤ B := Nat.not_lt.mp fun z => hn (Or.inr z)
    have hby : n.toNatClampNeg * componentBytes (newarray.typeOf .int) ≤ 536870912 := by
      have : componentBytes (newarray.typeOf .int) ≤ 4 := by decide
      exact Nat.le_trans (Nat.mul_le_mul hB this) hu.2.2
    refine va_newaK (atype := .int) C.x C.b (C.ts _ q133) rfl d rfl (fun z => hn (Or.inl z)) rfl hby hu.1 (Nat.le_trans (Nat.add_le_add_left hB _) hu.2.1) rfl fun H1 cA e1 z1 o1 hAr hNm => ?_
    have hcA : cA = D.2 0 := Option.some.inj (hNm.symm.trans (C.kk.2 0 _ (qtys_at D.2 (by decide))).2)
    subst hcA
    refine W.widen (k := u.1 + 1) (n := u.2 + B) (Nat.le_refl _) (Nat.add_le_add_left hB _) ?_
    exact alloc_k (en := .inr (.inl (0, n.toNatClampNeg, fun _ => 0))) (u' := (u.1 + 1, u.2 + B)) hl C hI hG hS hL h1 (qok_t h2) hq (fun ρ' => qarr.of e1) trivial z1 o1 (kk _ a ha)
theorem r_newB {q : QN} {n : Int32} {B : Nat} {k : QM → Option α} (hu : u.1 + 1 ≤ K.rm.cells ∧ u.2 + B ≤ K.rm.slots ∧ B * 4 ≤ 536870912) (d : decode K.2.1 pc = .ok (.newarray .byte, 2)) (kk : ∀ M1, SB emb l K M0 (k M1) (u.1 + 1, u.2 + B) (pc + 2) M1 ls (.inr (some q) :: st)) : SB emb l K M0 ((nAi M q 1 n B).bind k) u pc M ls (.inl n :: st) := by
  intro a ha hl p e s m args below meth c D ρ0 ρ H locs lsA C hI hG hS hL h1 h2
  obtain ⟨M1, hx, ha⟩ := bind_inv ha
  unfold nAi at hx
  by_cases hn : n < 0 ∨ B < n.toNatClampNeg
  · rw [if_pos hn] at hx; cases hx
  · rw [if_neg hn] at hx
    obtain ⟨hq, rfl⟩ := nO_inv hx
    have hB : n.toNatClampNeg ≤ B := Nat.not_lt.mp fun z => hn (Or.inr z)
    have hby : n.toNatClampNeg * componentBytes (newarray.typeOf .byte) ≤ 536870912 := by
      have : componentBytes (newarray.typeOf .byte) ≤ 4 := by decide
      exact Nat.le_trans (Nat.mul_le_mul hB this) hu.2.2
    refine va_newaK (atype := .byte) C.x C.b (C.ts _ q262) rfl d rfl (fun z => hn (Or.inl z)) rfl hby hu.1 (Nat.le_trans (Nat.add_le_add_left hB _) hu.2.1) rfl fun H1 cA e1 z1 o1 hAr hNm => ?_
    have hcA : cA = D.2 1 := Option.some.inj (hNm.symm.trans (C.kk.2 1 _ (qtys_at D.2 (by decide))).2)
    subst hcA
    refine W.widen (k := u.1 + 1) (n := u.2 + B) (Nat.le_refl _) (Nat.add_le_add_left hB _) ?_
    exact alloc_k (en := .inr (.inl (1, n.toNatClampNeg, fun _ => 0))) (u' := (u.1 + 1, u.2 + B)) hl C hI hG hS hL h1 (qok_t h2) hq (fun ρ' => qarr.of e1) trivial z1 o1 (kk _ a ha)
theorem r_newR {q : QN} {i : Nat} {n : Int32} {B kd : Nat} {Cn : String} {k : QM → Option α} (hkd : kd = 2 ∨ kd = 3 ∨ kd = 4) (hC : qty kd = .object Cn) (hcl : Cond.classLink K.1 i Cn ∈ lw_all) (hu : u.1 + 1 ≤ K.rm.cells ∧ u.2 + B ≤ K.rm.slots ∧ B * 4 ≤ 536870912) (d : decode K.2.1 pc = .ok (.anewarray i, 3)) (kk : ∀ M1, SB emb l K M0 (k M1) (u.1 + 1, u.2 + B) (pc + 3) M1 ls (.inr (some q) :: st)) : SB emb l K M0 ((nAr M q kd n B).bind k) u pc M ls (.inl n :: st) := by
  intro a ha hl p e s m args below meth c D ρ0 ρ H locs lsA C hI hG hS hL h1 h2
  obtain ⟨M1, hx, ha⟩ := bind_inv ha
  unfold nAr at hx
  by_cases hn : n < 0 ∨ B < n.toNatClampNeg
  · rw [if_pos hn] at hx; cases hx
  · rw [if_neg hn] at hx
    obtain ⟨hq, rfl⟩ := nO_inv hx
    have hB : n.toNatClampNeg ≤ B := Nat.not_lt.mp fun z => hn (Or.inr z)
    have hao : va_AO Cn s := by
      obtain ⟨a1, a2, a3⟩ := C.ss.2.2.2.1.2.1
      rcases hkd with rfl | rfl | rfl
      · cases hC; exact a1
      · cases hC; exact a2
      · cases hC; exact a3
    refine W.anew C.x C.b C.own (C.ts _ hcl) (va_AO.use hao) rfl d rfl (fun z => hn (Or.inl z)) (Nat.le_trans (Nat.mul_le_mul_right 4 hB) hu.2.2) hu.1 (Nat.le_trans (Nat.add_le_add_left hB _) hu.2.1) fun cA kA comp f1 f2 f3 f4 => ?_
    generalize hH1 : H.push ({ cls := cA, slots := Array.replicate n.toNatClampNeg .null, vm := .none } : Cell) = H1
    have z1 : H1.size = H.size + 1 := by rw [← hH1, Array.size_push]
    have e1 : H1[H.size]? = some (arrV cA n.toNatClampNeg (fun _ => .null)) := by rw [← hH1, Array.getElem?_push_size, ← arrV_new]
    have o1 : ∀ q : Nat, q < H.size → H1[q]? = H[q]? := fun q hq => by rw [← hH1, Array.getElem?_push, if_neg (Nat.ne_of_lt hq)]
    have hra := (C.kk.2 kd _ (qtys_at D.2 (by omega))).2
    rw [hC] at hra
    obtain ⟨-, -, -, -, -, g4⟩ := hra
    have hcA : cA = D.2 kd := Option.some.inj (f1.symm.trans g4)
    subst hcA
    refine W.widen (k := u.1 + 1) (n := u.2 + B) (Nat.le_refl _) (Nat.add_le_add_left hB _) ?_
    exact alloc_k (en := .inr (.inr (.inl (kd, n.toNatClampNeg, fun _ => none)))) (u' := (u.1 + 1, u.2 + B)) hl C hI hG hS hL h1 (qok_t h2) hq (fun ρ' => qarr.of e1) (fun j q' z => by cases z) z1 o1 (kk _ a ha)
theorem r_gsI {i : Nat} {Cn nm ds : String} {v : Int32} (hz : ∀ {p : Program} {s : State} {m : MethodId} {args : Array Value} {meth : Method} {c : Code} {D : QD} {ρ0 : QN → Nat}, qC K M0 p s m args meth c D ρ0 → va_Z Cn nm ds (.int v) (qA s.heap.size ρ0 M0) s s.heap) (hlk : Cond.fieldLink K.1 i Cn nm ds ∈ lw_all) (d : decode K.2.1 pc = .ok (.getstatic i, 3)) (kk : SB emb l K M0 t u (pc + 3) M ls (.inl v :: st)) : SB emb l K M0 t u pc M ls st := by
  intro a ha hl p e s m args below meth c D ρ0 ρ H locs lsA C hI hG hS hL h1 h2
  exact va_gets C.x C.b (hz C) hS C.own (C.ts _ hlk) (fun _ z => z) d (kk a ha hl p e s m args below meth c D ρ0 ρ H locs lsA C hI hG hS hL h1 (qok_i h2))
theorem r_gsCompact {i : Nat} (hlk : Cond.fieldLink K.1 i nStr "COMPACT_STRINGS" "Z" ∈ lw_all) (d : decode K.2.1 pc = .ok (.getstatic i, 3)) (kk : SB emb l K M0 t u (pc + 3) M ls (.inl 1 :: st)) : SB emb l K M0 t u pc M ls st := r_gsI (fun C => C.ss.1.2.1) hlk d kk
theorem r_gsAssert {i : Nat} (hlk : Cond.fieldLink K.1 i nU16 "$assertionsDisabled" "Z" ∈ lw_all) (d : decode K.2.1 pc = .ok (.getstatic i, 3)) (kk : SB emb l K M0 t u (pc + 3) M ls (.inl 1 :: st)) : SB emb l K M0 t u pc M ls st := r_gsI (fun C => C.ss.1.2.2.1) hlk d kk
theorem r_gsHi {i : Nat} (hlk : Cond.fieldLink K.1 i nU16 "HI_BYTE_SHIFT" "I" ∈ lw_all) (d : decode K.2.1 pc = .ok (.getstatic i, 3)) (kk : SB emb l K M0 t u (pc + 3) M ls (.inl 0 :: st)) : SB emb l K M0 t u pc M ls st := r_gsI (fun C => C.ss.1.2.2.2.1) hlk d kk
theorem r_gsLo {i : Nat} (hlk : Cond.fieldLink K.1 i nU16 "LO_BYTE_SHIFT" "I" ∈ lw_all) (d : decode K.2.1 pc = .ok (.getstatic i, 3)) (kk : SB emb l K M0 t u (pc + 3) M ls (.inl 8 :: st)) : SB emb l K M0 t u pc M ls st := r_gsI (fun C => C.ss.1.2.2.2.2) hlk d kk
theorem r_gsEmpty {i : Nat} (hlk : Cond.fieldLink K.1 i nAL "DEFAULTCAPACITY_EMPTY_ELEMENTDATA" "[Ljava/lang/Object;" ∈ lw_all) (d : decode K.2.1 pc = .ok (.getstatic i, 3)) (kk : SB emb l K M0 t u (pc + 3) M ls (.inr (some (0, 1)) :: st)) : SB emb l K M0 t u pc M ls st := by
  intro a ha hl p e s m args below meth c D ρ0 ρ H locs lsA C hI hG hS hL h1 h2
  have hn := C.ss.2.2.2.2.2.1
  have hz := C.ss.1.1
  rw [← (hG.1 _ hn).1] at hz
  exact va_gets C.x C.b hz hS C.own (C.ts _ hlk) (fun _ z => z) d (kk a ha hl p e s m args below meth c D ρ0 ρ H locs lsA C hI hG hS hL h1 (qok_c (fun q' z => by cases z; exact hG.dom _ hn) h2))
theorem r_gsSio {i : Nat} (hlk : Cond.fieldLink K.1 i nPre "SIOOBE_FORMATTER" "Ljava/util/function/BiFunction;" ∈ lw_all) (d : decode K.2.1 pc = .ok (.getstatic i, 3)) (kk : SB emb l K M0 t u (pc + 3) M ls (.inr (qsio M) :: st)) : SB emb l K M0 t u pc M ls st := by
  intro a ha hl p e s m args below meth c D ρ0 ρ H locs lsA C hI hG hS hL h1 h2
  have hz := C.ss.2.1.1
  rw [← (qsio_eq hG).2] at hz
  refine va_gets C.x C.b hz hS C.own (C.ts _ hlk) (fun _ z => z) d (kk a ha hl p e s m args below meth c D ρ0 ρ H locs lsA C hI hG hS hL h1 (qok_c (fun q' z => ?_) h2))
  have hq : qsio M = some q' := by injection z
  unfold qsio at hq
  split at hq
  · next e9 h9 => cases hq; rw [h9]; exact fun z => by cases z
  · cases hq
theorem r_ldcS {i : Nat} (hK : K.1 = "BarnPictures$Reader") (hi : i = 53) (d : decode K.2.1 pc = .ok (.ldc i, 2)) (kk : SB emb l K M0 t u (pc + 2) M ls (.inr (some (0, 2)) :: st)) : SB emb l K M0 t u pc M ls st := by
  intro a ha hl p e s m args below meth c D ρ0 ρ H locs lsA C hI hG hS hL h1 h2
  subst hi
  have hn := C.ss.2.2.2.2.2.2.1
  have hz := C.ss.2.2.1.2.2.2.1
  rw [← (hG.1 _ hn).1] at hz
  exact va_ldcS C.x C.b (by rw [← hK]; exact C.own) hz d (kk a ha hl p e s m args below meth c D ρ0 ρ H locs lsA C hI hG hS hL h1 (qok_c (fun q' z => by cases z; exact hG.dom _ hn) h2))
theorem r_ldcM {i : Nat} (hlk : Cond.classLink K.1 i "[Ljava/lang/Object;" ∈ lw_all) (d : decode K.2.1 pc = .ok (.ldc i, 2)) (kk : SB emb l K M0 t u (pc + 2) M ls (.inr (some (0, 4)) :: st)) : SB emb l K M0 t u pc M ls st := by
  intro a ha hl p e s m args below meth c D ρ0 ρ H locs lsA C hI hG hS hL h1 h2
  have hn := C.ss.2.2.2.2.2.2.2.2
  have hz := C.ss.2.2.1.2.2.2.2
  rw [← (hG.1 _ hn).1] at hz
  exact va_ldcM C.x C.b C.own (C.ts _ hlk) hz d (kk a ha hl p e s m args below meth c D ρ0 ρ H locs lsA C hI hG hS hL h1 (qok_c (fun q' z => by cases z; exact hG.dom _ hn) h2))
/-- String's fields: of the constant alone -/
def gSv (r : QR) : Option QR := if r = some (0, 2) then some (some (0, 3)) else none
def gSc (r : QR) : Option Int32 := if r = some (0, 2) then some 0 else none
theorem w_getOF {p : Program} {e : Env} {s : State} {m : MethodId} {args : Array Value} {below : List Frame} {meth : Method} {c : Code} {H H0 : Heap} {locs : List Loc} {cells slots : Nat} {Q : State → Prop} {R : Room} {cc : ByteArray} {pc : Nat} {ls : Array Slot} {rest : List Value} {a : Nat} {A9 : Nat → Prop} {own n d9 : String} {i : Nat} {v : Value} (hx : p.tables.exec = Jvm.exec) (hb : c.code = cc) (hown : s.vm.findClass own = some m.cls) (hz : va_OF nStr n d9 v a A9 s H0) (hS : va_S A9 H0 H locs) (hlk : (Cond.fieldLink own i nStr n d9).before args s = true) (d : decode cc pc = .ok (.getfield i, 3)) (kk : W p l e R s m args below meth c H locs cells slots Q (F0 m (pc + 3) ls (v :: rest))) : W p l e R s m args below meth c H locs cells slots Q (F0 m pc ls (.ref a :: rest)) := by
  obtain ⟨cf, k, i9, f, cell, q1, q2, q3, q4, q5, q6⟩ := hz
  exact W.getf hx hb hown hlk q1 q2 (by rw [hS.2.1 a (Array.getElem?_eq_some_iff.mp q3).1 q6]; exact q3) q4 q5 rfl rfl d kk
theorem r_gSv {r : QR} {i : Nat} {k : QR → Option α} (hlk : Cond.fieldLink K.1 i nStr "value" "[B" ∈ lw_all) (d : decode K.2.1 pc = .ok (.getfield i, 3)) (kk : ∀ x, SB emb l K M0 (k x) u (pc + 3) M ls (.inr x :: st)) : SB emb l K M0 ((gSv r).bind k) u pc M ls (.inr r :: st) := by
  intro a ha hl p e s m args below meth c D ρ0 ρ H locs lsA C hI hG hS hL h1 h2
  obtain ⟨x, hx, ha⟩ := bind_inv ha
  unfold gSv at hx
  by_cases hr : r = some (0, 2)
  · rw [if_pos hr] at hx
    cases hx
    subst hr
    have hn2 := C.ss.2.2.2.2.2.2.1
    have hn3 := C.ss.2.2.2.2.2.2.2.1
    have hz := C.ss.2.2.1.2.1
    rw [← (hG.1 _ hn2).1, ← (hG.1 _ hn3).1] at hz
    exact w_getOF C.x C.b C.own hz hS (C.ts _ hlk) d (kk _ a ha hl p e s m args below meth c D ρ0 ρ H locs lsA C hI hG hS hL h1 (qok_c (fun q' z => by cases z; exact hG.dom _ hn3) (qok_t h2)))
  · rw [if_neg hr] at hx; cases hx
theorem r_gSc {r : QR} {i : Nat} {k : Int32 → Option α} (hlk : Cond.fieldLink K.1 i nStr "coder" "B" ∈ lw_all) (d : decode K.2.1 pc = .ok (.getfield i, 3)) (kk : ∀ x, SB emb l K M0 (k x) u (pc + 3) M ls (.inl x :: st)) : SB emb l K M0 ((gSc r).bind k) u pc M ls (.inr r :: st) := by
  intro a ha hl p e s m args below meth c D ρ0 ρ H locs lsA C hI hG hS hL h1 h2
  obtain ⟨x, hx, ha⟩ := bind_inv ha
  unfold gSc at hx
  by_cases hr : r = some (0, 2)
  · rw [if_pos hr] at hx
    cases hx
    subst hr
    have hn2 := C.ss.2.2.2.2.2.2.1
    have hz := C.ss.2.2.1.2.2.1
    rw [← (hG.1 _ hn2).1] at hz
    exact w_getOF C.x C.b C.own hz hS (C.ts _ hlk) d (kk _ a ha hl p e s m args below meth c D ρ0 ρ H locs lsA C hI hG hS hL h1 (qok_i (qok_t h2)))
  · rw [if_neg hr] at hx; cases hx
theorem r_cast {r : QR} {i ci : Nat} {Cn : String} {T : u_T} {N : Nat} {k : Unit → Option α} (hc : vwCl[ci]? = some (Cn, T, N)) (hlk : Cond.classLink K.1 i Cn ∈ lw_all) (d : decode K.2.1 pc = .ok (.checkcast i, 3)) (kk : SB emb l K M0 (k ()) u (pc + 3) M ls (.inr r :: st)) : SB emb l K M0 ((qcast M r ci).bind k) u pc M ls (.inr r :: st) := by
  intro a ha hl p e s m args below meth c D ρ0 ρ H locs lsA C hI hG hS hL h1 h2
  obtain ⟨x, hx, ha⟩ := bind_inv ha
  have hk := kk a ha hl p e s m args below meth c D ρ0 ρ H locs lsA C hI hG hS hL h1 h2
  unfold qcast at hx
  cases r with
  | none => exact lv_castN C.x C.b d hk
  | some q =>
    dsimp only at hx
    split at hx
    · next b c9 fs hq =>
      split at hx
      · next h9 =>
        subst h9
        exact va_castS C.x C.b C.own (C.ts _ hlk) (C.kk.1 _ _ hc).2 (q_recv C hI hq hc) d hk
      · cases hx
    · cases hx
theorem qeq_inv {D : QD} {ρ : QN → Nat} {H : Heap} (hI : qI D ρ M H) {r r' : QR} {b : Bool} (h : qeq M r r' = some b) : (r.map ρ = r'.map ρ ↔ b = true) := by
  unfold qeq at h
  cases r with
  | none =>
    cases r' with
    | none => cases h; simp
    | some q' => cases h; simp
  | some q =>
    cases r' with
    | none => cases h; simp
    | some q' =>
      dsimp only at h
      by_cases hqq : q = q'
      · rw [if_pos hqq] at h
        cases h
        rw [hqq]; simp
      · rw [if_neg hqq] at h
        split at h
        · next b1 e1 b2 e2 g1 g2 =>
          split at h
          · next hc =>
            cases h
            simp only [Option.map_some, Option.some.injEq, Bool.false_eq_true, iff_false]
            exact fun z => hqq (hI.2 _ _ _ _ _ _ g1 g2 hc.1 hc.2.1 hc.2.2 z)
          · cases h
        · cases h
theorem r_acmp_ne {r r' : QR} {off : Int} {tgt : Nat} (d : decode K.2.1 pc = .ok (.if_acmp .ne off, 3)) (ht : (pc : Int) + off = (tgt : Int)) (kt : SB emb l K M0 B u tgt M ls st) (kf : SB emb l K M0 A u (pc + 3) M ls st) : SB emb l K M0 ((qeq M r r').bind fun b => if b = true then A else B) u pc M ls (.inr r' :: .inr r :: st) := by
  intro a ha hl p e s m args below meth c D ρ0 ρ H locs lsA C hI hG hS hL h1 h2
  obtain ⟨b, hx, ha⟩ := bind_inv ha
  have hq := qeq_inv hI hx
  have := lv_acmp_ne (rx := r.map ρ) (ry := r'.map ρ) (pc := pc) (ls := lsA) (rest := st.map (qv ρ)) (p := p) (l := l) (e := e) (R := K.rm) (s := s) (m := m) (args := args) (below := below) (meth := meth) (c := c) (H := H) (locs := locs) (cells := u.1) (slots := u.2) (Q := vx_MQ below (qQ D s.heap.size ρ0 M0 (emb a).1 (emb a).2) (qXc D s.heap.size ρ0 M0 (emb a).1 (emb a).2) args s K.rm.cells K.rm.slots (qA s.heap.size ρ0 M0)) C.x C.b d ht (fun z => kt a (by rw [if_neg (fun h => z (hq.mpr h))] at ha; exact ha) hl p e s m args below meth c D ρ0 ρ H locs lsA C hI hG hS hL h1 (qok_t (qok_t h2))) (fun z => kf a (by rw [if_pos (hq.mp z)] at ha; exact ha) hl p e s m args below meth c D ρ0 ρ H locs lsA C hI hG hS hL h1 (qok_t (qok_t h2)))
  rw [List.map_cons, List.map_cons, qv_rf, qv_rf]
  exact this
theorem r_objInit {r : QR} {i : Nat} (h1' : Cond.methodLink K.1 i objectInit ∈ lw_all) (h2' : Cond.instanceMethod objectInit ∈ lw_all) (h3' : Cond.code objectInit ⟨#[0xb1]⟩ 1 none ∈ lw_all) (hR : 1 ≤ K.rm.frames ∧ st.length + 12 ≤ K.rm.locals) (d : decode K.2.1 pc = .ok (.invokespecial i, 3)) (kk : SB emb l K M0 t u (pc + 3) M ls st) : SB emb l K M0 (qnn r t) u pc M ls (.inr r :: st) := by
  intro a ha hl p e s m args below meth c D ρ0 ρ H locs lsA C hI hG hS hL h1 h2
  obtain ⟨ha, q, rfl⟩ := qnn_inv ha
  refine W.objInit C.x C.b C.own (C.ts _ h1') (C.ts _ h2') (C.ts _ h3') rfl (by rw [C.ml]; exact hL.1) rfl d hR.1 (by rw [qv_cats]; show 2 * 0 + _ + _ ≤ _; omega) ?_
  exact kk a ha hl p e s m args below meth c D ρ0 ρ H locs lsA C hI hG hS hL h1 (qok_t h2)
def OB (emb : α → QO × QM) (l : Launch) (K : QK) (M0 : QM) (r : QO × QM) (t : Option α) (u : Nat × Nat) (pc pc' : Nat) (ls : List (Option QV)) (st : List QV) : Prop := match r.1 with
  | .inl v => SB emb l K M0 t u pc' r.2 ls (v.toList ++ st)
  | .inr q => SX emb l K M0 t u pc r.2 ls q
theorem OB.v {r : QO × QM} {pc' : Nat} {a : α} (h : OB emb l K M0 r t u pc pc' ls st) (ha : t = some a) : ∀ v, r.1 = .inl v → BW l K M0 (emb a).1 (emb a).2 u pc' r.2 ls (v.toList ++ st) := fun v hv => by
  unfold OB at h
  rw [hv] at h
  exact h a ha
theorem OB.x {r : QO × QM} {pc' : Nat} {a : α} (h : OB emb l K M0 r t u pc pc' ls st) (ha : t = some a) : ∀ q, r.1 = .inr q → BX l K M0 (emb a).1 (emb a).2 u pc r.2 ls q := fun v hv => by
  unfold OB at h
  rw [hv] at h
  exact h a ha
abbrev CR (K : QK) (u : Nat × Nat) (rm : Room) (maxL : Nat) : Prop := (rm.frames + 1 ≤ K.rm.frames ∧ 8 + (maxL + 11) + rm.locals ≤ K.rm.locals) ∧ (u.1 + rm.cells ≤ K.rm.cells ∧ u.2 + rm.slots ≤ K.rm.slots)
theorem q_room {m : MethodId} {pc : Nat} {lsA : Array Slot} {S : List Value} {ρ : QN → Nat} (h : st.length ≤ 8) : 2 * (F0 m pc lsA S).monitorRoom + ((st.map (qv ρ)).map fun v => v.category).sum ≤ 8 := by
  rw [qv_cats]; show 2 * 0 + st.length ≤ 8; omega
theorem q_stk {vs S : List QV} {r : QV} {ρ : QN → Nat} (h : S = vs.reverse ++ r :: st) : S.map (qv ρ) = (vs.map (qv ρ)).reverse ++ qv ρ r :: st.map (qv ρ) := by
  rw [h, List.map_append, List.map_reverse, List.map_cons]
theorem q_stk0 {vs S : List QV} {ρ : QN → Nat} (h : S = vs.reverse ++ st) : S.map (qv ρ) = (vs.map (qv ρ)).reverse ++ st.map (qv ρ) := by
  rw [h, List.map_append, List.map_reverse]
theorem q_oks {vs S : List QV} {r : QV} (h : S = vs.reverse ++ r :: st) (h2 : ∀ v ∈ S, qok M v) : (∀ v ∈ r :: vs, qok M v) ∧ ∀ v ∈ st, qok M v := by
  subst h
  refine ⟨fun v hv => h2 v ?_, fun v hv => h2 v (List.mem_append_right _ (List.mem_cons_of_mem _ hv))⟩
  rcases List.mem_cons.mp hv with rfl | hv
  · exact List.mem_append_right _ List.mem_cons_self
  · exact List.mem_append_left _ (List.mem_reverse.mpr hv)
theorem q_oks0 {vs S : List QV} (h : S = vs.reverse ++ st) (h2 : ∀ v ∈ S, qok M v) : (∀ v ∈ vs, qok M v) ∧ ∀ v ∈ st, qok M v := by
  subst h
  exact ⟨fun v hv => h2 v (List.mem_append_left _ (List.mem_reverse.mpr hv)), fun v hv => h2 v (List.mem_append_right _ hv)⟩
theorem r_callV {fr : Option β} {k : β → Option α} {r : QR} {vs st S : List QV} {cis : List Nat} {Cn : String} {y : MethodName} {bytes : ByteArray} {maxL n idx : Nat} {ret : Option FieldType} {rm' : Room} (hPM : ∀ b, fr = some b → PM l y (ws_ y bytes maxL ret) rm' (.inr r :: vs) M (emb' b).1 (emb' b).2) (hC : ∀ ci ∈ cis, ∃ T N, vwCl[ci]? = some (Cn, T, N)) (hF : CfV K.1 idx Cn y bytes maxL ret n) (hS9 : S = vs.reverse ++ .inr r :: st) (hn : vs.length = n) (hlen : st.length ≤ 8) (hu : CR K u rm' maxL) (d : decode K.2.1 pc = .ok (.invokevirtual idx, 3)) (kk : ∀ b, OB emb l K M0 (emb' b) (k b) (u.1 + rm'.cells, u.2 + rm'.slots) pc (pc + 3) ls st) : SB emb l K M0 ((qrc M r cis fr).bind k) u pc M ls S := by
  intro a ha hl p e s m args below meth c D ρ0 ρ H locs lsA C hI hG hS hL h1 h2
  obtain ⟨b, hb, ha2⟩ := bind_inv ha
  obtain ⟨hfr, q, b9, ci, fs, rfl, hq, hci⟩ := qrc_inv hb
  obtain ⟨T9, N9, hcl⟩ := hC ci hci
  obtain ⟨hv, h3⟩ := q_oks hS9 h2
  have hp := q_pre C hI hG hS hv
  have hst := q_stk (ρ := ρ) hS9
  refine b_called hl C hG hS hL h1 h3 (aa := (((.inr (some q) :: vs).map (qv ρ))).toArray) (o1 := (emb' b).1) (M1 := (emb' b).2) (vx_runV (As := vs.map (qv ρ)) (b := ρ q) (q_fix C) (hPM b hfr hl D ρ H.size) (cwV n C.ts (lw_V hF.1.1 hF.1.2.1 hF.1.2.2.1 hF.1.2.2.2.1 hF.1.2.2.2.2) rfl rfl rfl hF.2 hu.1) ⟨hp.1, q_recv C hI hq hcl, hp.2⟩ rfl (by rw [List.length_map]; exact hn) hL.1 hst (q_room hlen) d hu.2) ((kk b).v ha2) ((kk b).x ha2)
theorem r_callVX {fr : Option β} {k : β → Option α} {r : QR} {vs st S : List QV} {cis : List Nat} {Cn : String} {y : MethodName} {bytes : ByteArray} {maxL n idx : Nat} {ret : Option FieldType} {hh : List (Nat × Nat × Nat × Nat)} {rm' : Room} (hPM : ∀ b, fr = some b → PM l y (wsW_ y bytes maxL ret hh) rm' (.inr r :: vs) M (emb' b).1 (emb' b).2) (hC : ∀ ci ∈ cis, ∃ T N, vwCl[ci]? = some (Cn, T, N)) (hF : CfVW K.1 idx Cn y bytes maxL ret hh n) (hS9 : S = vs.reverse ++ .inr r :: st) (hn : vs.length = n) (hlen : st.length ≤ 8) (hu : CR K u rm' maxL) (d : decode K.2.1 pc = .ok (.invokevirtual idx, 3)) (kk : ∀ b, OB emb l K M0 (emb' b) (k b) (u.1 + rm'.cells, u.2 + rm'.slots) pc (pc + 3) ls st) : SB emb l K M0 ((qrc M r cis fr).bind k) u pc M ls S := by
  intro a ha hl p e s m args below meth c D ρ0 ρ H locs lsA C hI hG hS hL h1 h2
  obtain ⟨b, hb, ha2⟩ := bind_inv ha
  obtain ⟨hfr, q, b9, ci, fs, rfl, hq, hci⟩ := qrc_inv hb
  obtain ⟨T9, N9, hcl⟩ := hC ci hci
  obtain ⟨hv, h3⟩ := q_oks hS9 h2
  have hp := q_pre C hI hG hS hv
  have hst := q_stk (ρ := ρ) hS9
  refine b_called hl C hG hS hL h1 h3 (aa := (((.inr (some q) :: vs).map (qv ρ))).toArray) (o1 := (emb' b).1) (M1 := (emb' b).2) (vx_runVX (As := vs.map (qv ρ)) (b := ρ q) (q_fix C) (hPM b hfr hl D ρ H.size) (vx_cwVW n C.ts (lw_VW hF.1.1 hF.1.2.1 hF.1.2.2.1 hF.1.2.2.2.1 hF.1.2.2.2.2) rfl rfl rfl hF.2 hu.1) ⟨hp.1, q_recv C hI hq hcl, hp.2⟩ rfl (by rw [List.length_map]; exact hn) hL.1 hst (q_room hlen) d hu.2) ((kk b).v ha2) ((kk b).x ha2)
theorem r_callU {fr : Option β} {k : β → Option α} {r : QR} {vs st S : List QV} {cis : List Nat} {Cn : String} {y : MethodName} {bytes : ByteArray} {maxL n idx : Nat} {ret : Option FieldType} {owner : String} {x : MethodName} {rm' : Room} (hPM : ∀ b, fr = some b → PM l y (ws_ y bytes maxL ret) rm' (.inr r :: vs) M (emb' b).1 (emb' b).2) (hC : ∀ ci ∈ cis, ∃ T N, vwCl[ci]? = some (Cn, T, N)) (hF : CfU K.1 idx Cn owner x y bytes maxL ret n) (hS9 : S = vs.reverse ++ .inr r :: st) (hn : vs.length = n) (hlen : st.length ≤ 8) (hu : CR K u rm' maxL) (d : decode K.2.1 pc = .ok (.invokevirtual idx, 3)) (kk : ∀ b, OB emb l K M0 (emb' b) (k b) (u.1 + rm'.cells, u.2 + rm'.slots) pc (pc + 3) ls st) : SB emb l K M0 ((qrc M r cis fr).bind k) u pc M ls S := by
  intro a ha hl p e s m args below meth c D ρ0 ρ H locs lsA C hI hG hS hL h1 h2
  obtain ⟨b, hb, ha2⟩ := bind_inv ha
  obtain ⟨hfr, q, b9, ci, fs, rfl, hq, hci⟩ := qrc_inv hb
  obtain ⟨T9, N9, hcl⟩ := hC ci hci
  obtain ⟨hv, h3⟩ := q_oks hS9 h2
  have hp := q_pre C hI hG hS hv
  have hst := q_stk (ρ := ρ) hS9
  have hG9 : GoodIn lw_all (va_wsU K.1 idx Cn owner x y (ws_ y bytes maxL ret)) := good_list (fun w hw => by
    simp only [List.mem_cons, List.not_mem_nil, or_false] at hw
    rcases hw with e9 | e9 | e9 | e9 | e9
    · rw [e9]; exact hF.1.1
    · rw [e9]; exact hF.1.2.1
    · rw [e9]; exact hF.1.2.2.1
    · rw [e9]; exact hF.1.2.2.2.1
    · rw [e9]; exact hF.1.2.2.2.2.1) hF.1.2.2.2.2.2.1
  have cw : va_CU K.rm s args K.1 Cn owner idx x y bytes maxL ret (ws_ y bytes maxL ret) rm' rm'.cells rm'.slots n := by
    rcases hF.1.2.2.2.2.2.2 with hyx | hz
    · exact va_cwU n C.ts hG9 rfl rfl rfl hyx hF.2 hu.1
    · exact va_cwA n C.ts hG9 rfl rfl rfl (C.nw _ hz) hF.2 hu.1
  refine b_called hl C hG hS hL h1 h3 (aa := (((.inr (some q) :: vs).map (qv ρ))).toArray) (o1 := (emb' b).1) (M1 := (emb' b).2) (vx_runU (As := vs.map (qv ρ)) (b := ρ q) (q_fix C) (hPM b hfr hl D ρ H.size) (cw) ⟨hp.1, q_recv C hI hq hcl, hp.2⟩ rfl (by rw [List.length_map]; exact hn) hL.1 hst (q_room hlen) d hu.2) ((kk b).v ha2) ((kk b).x ha2)
theorem r_callUs {fr : Option β} {k : β → Option α} {r : QR} {vs st S : List QV} {cis : List Nat} {owner : String} {x y : MethodName} {bytes : ByteArray} {maxL n idx : Nat} {ret : Option FieldType} {rm' : Room} (hPM : ∀ b, fr = some b → PM l y (ws_ y bytes maxL ret) rm' (.inr r :: vs) M (emb' b).1 (emb' b).2) (hF : ∀ ci ∈ cis, ∃ C T N, vwCl[ci]? = some (C, T, N) ∧ CfU K.1 idx C owner x y bytes maxL ret n) (hS9 : S = vs.reverse ++ .inr r :: st) (hn : vs.length = n) (hlen : st.length ≤ 8) (hu : CR K u rm' maxL) (d : decode K.2.1 pc = .ok (.invokevirtual idx, 3)) (kk : ∀ b, OB emb l K M0 (emb' b) (k b) (u.1 + rm'.cells, u.2 + rm'.slots) pc (pc + 3) ls st) : SB emb l K M0 ((qrc M r cis fr).bind k) u pc M ls S := by
  intro a ha
  obtain ⟨b, hb, ha9⟩ := bind_inv ha
  obtain ⟨hfr, q, b9, ci, fs, rfl, hq, hci⟩ := qrc_inv hb
  obtain ⟨Cn, T, N, hcl, hF9⟩ := hF ci hci
  have hb2 : qrc M (some q) [ci] fr = some b := by
    unfold qrc
    dsimp only
    rw [hq]
    simp [hfr]
  exact r_callU (cis := [ci]) hPM (fun c9 hc9 => by rw [List.mem_singleton.mp hc9]; exact ⟨T, N, hcl⟩) hF9 hS9 hn hlen hu d kk a (by rw [hb2]; exact ha9)
theorem r_callU2 {f1 f2 : Option β} {k : β → Option α} {r : QR} {vs st S : List QV} {c1 c2 : Nat} {C1 C2 owner : String} {x y1 y2 : MethodName} {by1 by2 : ByteArray} {mL1 mL2 n idx : Nat} {ret1 ret2 : Option FieldType} {rm1 rm2 : Room} {T1 T2 : u_T} {N1 N2 : Nat} (hPM1 : ∀ b, f1 = some b → PM l y1 (ws_ y1 by1 mL1 ret1) rm1 (.inr r :: vs) M (emb' b).1 (emb' b).2) (hPM2 : ∀ b, f2 = some b → PM l y2 (ws_ y2 by2 mL2 ret2) rm2 (.inr r :: vs) M (emb' b).1 (emb' b).2) (h1 : vwCl[c1]? = some (C1, T1, N1)) (h2 : vwCl[c2]? = some (C2, T2, N2)) (hF1 : CfU K.1 idx C1 owner x y1 by1 mL1 ret1 n) (hF2 : CfU K.1 idx C2 owner x y2 by2 mL2 ret2 n) (hS9 : S = vs.reverse ++ .inr r :: st) (hn : vs.length = n) (hlen : st.length ≤ 8) (hu1 : CR K u rm1 mL1) (hu2 : CR K u rm2 mL2) (d : decode K.2.1 pc = .ok (.invokevirtual idx, 3)) (kk1 : ∀ b, OB emb l K M0 (emb' b) (k b) (u.1 + rm1.cells, u.2 + rm1.slots) pc (pc + 3) ls st) (kk2 : ∀ b, OB emb l K M0 (emb' b) (k b) (u.1 + rm2.cells, u.2 + rm2.slots) pc (pc + 3) ls st) : SB emb l K M0 ((qd2 M r c1 f1 c2 f2).bind k) u pc M ls S := by
  intro a ha
  obtain ⟨b, hb, ha9⟩ := bind_inv ha
  unfold qd2 at hb
  cases r with
  | none => cases hb
  | some q =>
    dsimp only at hb
    split at hb
    · next b9 ci fs hq =>
      split at hb
      · next hci =>
        have hb2 : qrc M (some q) [c1] f1 = some b := by unfold qrc; dsimp only; rw [hq]; simp [hb, hci]
        exact r_callU (cis := [c1]) hPM1 (fun c9 hc9 => by rw [List.mem_singleton.mp hc9]; exact ⟨_, _, h1⟩) hF1 hS9 hn hlen hu1 d kk1 a (by rw [hb2]; exact ha9)
      · split at hb
        · next hci =>
          have hb2 : qrc M (some q) [c2] f2 = some b := by unfold qrc; dsimp only; rw [hq]; simp [hb, hci]
          exact r_callU (cis := [c2]) hPM2 (fun c9 hc9 => by rw [List.mem_singleton.mp hc9]; exact ⟨_, _, h2⟩) hF2 hS9 hn hlen hu2 d kk2 a (by rw [hb2]; exact ha9)
        · cases hb
    · cases hb
theorem r_callSU {fr : Option β} {k : β → Option α} {r : QR} {vs st S : List QV} {cis : List Nat} {Cn : String} {y : MethodName} {bytes : ByteArray} {maxL n idx : Nat} {ret : Option FieldType} {rm' : Room} (hPM : ∀ b, fr = some b → PM l y (ws_ y bytes maxL ret) rm' (.inr r :: vs) M (emb' b).1 (emb' b).2) (hC : ∀ ci ∈ cis, ∃ T N, vwCl[ci]? = some (Cn, T, N)) (hF : CfSU K.1 idx y bytes maxL ret n) (hS9 : S = vs.reverse ++ .inr r :: st) (hn : vs.length = n) (hlen : st.length ≤ 8) (hu : CR K u rm' maxL) (d : decode K.2.1 pc = .ok (.invokespecial idx, 3)) (kk : ∀ b, OB emb l K M0 (emb' b) (k b) (u.1 + rm'.cells, u.2 + rm'.slots) pc (pc + 3) ls st) : SB emb l K M0 ((qrc M r cis fr).bind k) u pc M ls S := by
  intro a ha hl p e s m args below meth c D ρ0 ρ H locs lsA C hI hG hS hL h1 h2
  obtain ⟨b, hb, ha2⟩ := bind_inv ha
  obtain ⟨hfr, q, b9, ci, fs, rfl, hq, hci⟩ := qrc_inv hb
  obtain ⟨T9, N9, hcl⟩ := hC ci hci
  obtain ⟨hv, h3⟩ := q_oks hS9 h2
  have hp := q_pre C hI hG hS hv
  have hst := q_stk (ρ := ρ) hS9
  have hG9 : GoodIn lw_all (va_wsSU K.1 idx y (ws_ y bytes maxL ret)) := good_list (fun w hw => by
    simp only [List.mem_cons, List.not_mem_nil, or_false] at hw
    rcases hw with e9 | e9 | e9 | e9 | e9
    · rw [e9]; exact hF.1.1
    · rw [e9]; exact hF.1.2.1
    · rw [e9]; exact hF.1.2.2.1
    · rw [e9]; exact hF.1.2.2.2.1
    · rw [e9]; exact hF.1.2.2.2.2.1) hF.1.2.2.2.2.2
  refine b_called hl C hG hS hL h1 h3 (aa := (((.inr (some q) :: vs).map (qv ρ))).toArray) (o1 := (emb' b).1) (M1 := (emb' b).2) (vx_runSU (As := vs.map (qv ρ)) (b := ρ q) (C.kk.1 ci _ hcl).2 (q_fix C) (hPM b hfr hl D ρ H.size) (va_cwSU n C.ts hG9 rfl rfl rfl hF.2 hu.1) ⟨hp.1, q_recv C hI hq hcl, hp.2⟩ rfl (by rw [List.length_map]; exact hn) hL.1 hst (q_room hlen) d hu.2) ((kk b).v ha2) ((kk b).x ha2)
theorem r_callF {fr : Option β} {k : β → Option α} {r : QR} {vs st S : List QV} {cis : List Nat} {Cn : String} {y : MethodName} {bytes : ByteArray} {maxL n idx : Nat} {ret : Option FieldType} {x : MethodName} {cnt : Nat} {rm' : Room} (hPM : ∀ b, fr = some b → PM l y (ws_ y bytes maxL ret) rm' (.inr r :: vs) M (emb' b).1 (emb' b).2) (hC : ∀ ci ∈ cis, ∃ T N, vwCl[ci]? = some (Cn, T, N)) (hF : CfF K.1 idx Cn x y bytes maxL ret n) (hS9 : S = vs.reverse ++ .inr r :: st) (hn : vs.length = n) (hlen : st.length ≤ 8) (hu : CR K u rm' maxL) (d : decode K.2.1 pc = .ok (.invokeinterface idx cnt, 5)) (kk : ∀ b, OB emb l K M0 (emb' b) (k b) (u.1 + rm'.cells, u.2 + rm'.slots) pc (pc + 5) ls st) : SB emb l K M0 ((qrc M r cis fr).bind k) u pc M ls S := by
  intro a ha hl p e s m args below meth c D ρ0 ρ H locs lsA C hI hG hS hL h1 h2
  obtain ⟨b, hb, ha2⟩ := bind_inv ha
  obtain ⟨hfr, q, b9, ci, fs, rfl, hq, hci⟩ := qrc_inv hb
  obtain ⟨T9, N9, hcl⟩ := hC ci hci
  obtain ⟨hv, h3⟩ := q_oks hS9 h2
  have hp := q_pre C hI hG hS hv
  have hst := q_stk (ρ := ρ) hS9
  have hG9 : GoodIn lw_all (va_wsF K.1 idx Cn x y (ws_ y bytes maxL ret)) := good_list (fun w hw => by
    simp only [List.mem_cons, List.not_mem_nil, or_false] at hw
    rcases hw with e9 | e9 | e9 | e9
    · rw [e9]; exact hF.1.1
    · rw [e9]; exact hF.1.2.1
    · rw [e9]; exact hF.1.2.2.1
    · rw [e9]; exact hF.1.2.2.2.1) hF.1.2.2.2.2.1
  refine b_called5 hl C hG hS hL h1 h3 (aa := (((.inr (some q) :: vs).map (qv ρ))).toArray) (o1 := (emb' b).1) (M1 := (emb' b).2) (vx_runF (As := vs.map (qv ρ)) (b := ρ q) (C.kk.1 ci _ hcl).2 (q_fix C) (hPM b hfr hl D ρ H.size) (va_cwF n C.ts hG9 rfl rfl rfl (C.ss.2.2.2.1.2.2.1 _ hF.1.2.2.2.2.2) hF.2 hu.1) ⟨hp.1, q_recv C hI hq hcl, hp.2⟩ rfl (by rw [List.length_map]; exact hn) hL.1 hst (q_room hlen) d hu.2) ((kk b).v ha2) ((kk b).x ha2)
theorem r_callS {fr : Option β} {k : β → Option α} {vs st S : List QV} {y : MethodName} {bytes : ByteArray} {maxL n idx : Nat} {ret : Option FieldType} {rm' : Room} (hPM : ∀ b, fr = some b → PM l y (ws_ y bytes maxL ret) rm' vs M (emb' b).1 (emb' b).2) (hF : CfS K.1 idx y bytes maxL ret n) (hS9 : S = vs.reverse ++ st) (hn : vs.length = n) (hlen : st.length ≤ 8) (hu : CR K u rm' maxL) (d : decode K.2.1 pc = .ok (.invokestatic idx, 3)) (kk : ∀ b, OB emb l K M0 (emb' b) (k b) (u.1 + rm'.cells, u.2 + rm'.slots) pc (pc + 3) ls st) : SB emb l K M0 (fr.bind k) u pc M ls S := by
  intro a ha hl p e s m args below meth c D ρ0 ρ H locs lsA C hI hG hS hL h1 h2
  obtain ⟨b, hb, ha2⟩ := bind_inv ha
  obtain ⟨hv, h3⟩ := q_oks0 hS9 h2
  have hst := q_stk0 (ρ := ρ) hS9
  refine b_called hl C hG hS hL h1 h3 (aa := ((vs.map (qv ρ))).toArray) (o1 := (emb' b).1) (M1 := (emb' b).2) (vx_runS (As := vs.map (qv ρ)) (q_fix C) (hPM b hb hl D ρ H.size) (va_cwS n C.ts (lw_S hF.1.1 hF.1.2.1 hF.1.2.2.1 hF.1.2.2.2) rfl rfl rfl hF.2 hu.1) (q_pre C hI hG hS hv) rfl (by rw [List.length_map]; exact hn) hL.1 hst (q_room hlen) d hu.2) ((kk b).v ha2) ((kk b).x ha2)
theorem r_callSN {fr : Option β} {k : β → Option α} {vs st S : List QV} {y : MethodName} {bytes : ByteArray} {maxL n idx : Nat} {ret : Option FieldType} {rm' : Room} (hPM : ∀ b, fr = some b → PM l y (ws_ y bytes maxL ret) rm' vs M (emb' b).1 (emb' b).2) (hF : CfSN K.1 idx y bytes maxL ret n) (hS9 : S = vs.reverse ++ st) (hn : vs.length = n) (hlen : st.length ≤ 8) (hu : CR K u rm' maxL) (d : decode K.2.1 pc = .ok (.invokestatic idx, 3)) (kk : ∀ b, OB emb l K M0 (emb' b) (k b) (u.1 + rm'.cells, u.2 + rm'.slots) pc (pc + 3) ls st) : SB emb l K M0 (fr.bind k) u pc M ls S := by
  intro a ha hl p e s m args below meth c D ρ0 ρ H locs lsA C hI hG hS hL h1 h2
  obtain ⟨b, hb, ha2⟩ := bind_inv ha
  obtain ⟨hv, h3⟩ := q_oks0 hS9 h2
  have hst := q_stk0 (ρ := ρ) hS9
  refine b_called hl C hG hS hL h1 h3 (aa := ((vs.map (qv ρ))).toArray) (o1 := (emb' b).1) (M1 := (emb' b).2) (vx_runSN (As := vs.map (qv ρ)) (q_fix C) (hPM b hb hl D ρ H.size) (⟨va_cnB n C.ts (lw_meth hF.1.2.2.2) rfl rfl rfl (C.nw _ hF.1.1.choose_spec) (C.ts _ hF.1.2.2.1) hF.2 hu.1, C.ts _ hF.1.2.1, trivial⟩) (q_pre C hI hG hS hv) rfl (by rw [List.length_map]; exact hn) hL.1 hst (q_room hlen) d hu.2) ((kk b).v ha2) ((kk b).x ha2)
theorem r_callI {fr : Option β} {k : β → Option α} {r : QR} {vs st S : List QV} {y : MethodName} {bytes : ByteArray} {maxL n idx : Nat} {rm' : Room} (hPM : ∀ b, fr = some b → PM l y (ws_ y bytes maxL none) rm' (.inr r :: vs) M (emb' b).1 (emb' b).2) (hF : CfI K.1 idx y bytes maxL n) (hS9 : S = vs.reverse ++ .inr r :: st) (hn : vs.length = n) (hlen : st.length ≤ 8) (hu : CR K u rm' maxL) (d : decode K.2.1 pc = .ok (.invokespecial idx, 3)) (kk : ∀ b, OB emb l K M0 (emb' b) (k b) (u.1 + rm'.cells, u.2 + rm'.slots) pc (pc + 3) ls st) : SB emb l K M0 ((qnn r fr).bind k) u pc M ls S := by
  intro a ha hl p e s m args below meth c D ρ0 ρ H locs lsA C hI hG hS hL h1 h2
  obtain ⟨b, hb, ha2⟩ := bind_inv ha
  obtain ⟨hfr, q, rfl⟩ := qnn_inv hb
  obtain ⟨hv, h3⟩ := q_oks hS9 h2
  have hst := q_stk (ρ := ρ) hS9
  refine b_called hl C hG hS hL h1 h3 (aa := (((.inr (some q) :: vs).map (qv ρ))).toArray) (o1 := (emb' b).1) (M1 := (emb' b).2) (vx_runI (As := vs.map (qv ρ)) (b := ρ q) (q_fix C) (hPM b hfr hl D ρ H.size) (cwI n C.ts (lw_meth hF.1.2.2.2.1) rfl rfl rfl (C.ts _ hF.1.2.2.1) (C.ts _ hF.1.1) (C.ts _ hF.1.2.1) hF.1.2.2.2.2 hF.2 hu.1) (q_pre C hI hG hS hv) rfl (by rw [List.length_map]; exact hn) hL.1 hst (q_room hlen) d hu.2) ((kk b).v ha2) ((kk b).x ha2)
theorem r_callIN {fr : Option β} {k : β → Option α} {r : QR} {vs st S : List QV} {y : MethodName} {bytes : ByteArray} {maxL n idx : Nat} {rm' : Room} (hPM : ∀ b, fr = some b → PM l y (ws_ y bytes maxL none) rm' (.inr r :: vs) M (emb' b).1 (emb' b).2) (hF : CfIN K.1 idx y bytes maxL n) (hS9 : S = vs.reverse ++ .inr r :: st) (hn : vs.length = n) (hlen : st.length ≤ 8) (hu : CR K u rm' maxL) (d : decode K.2.1 pc = .ok (.invokespecial idx, 3)) (kk : ∀ b, OB emb l K M0 (emb' b) (k b) (u.1 + rm'.cells, u.2 + rm'.slots) pc (pc + 3) ls st) : SB emb l K M0 ((qnn r fr).bind k) u pc M ls S := by
  intro a ha hl p e s m args below meth c D ρ0 ρ H locs lsA C hI hG hS hL h1 h2
  obtain ⟨b, hb, ha2⟩ := bind_inv ha
  obtain ⟨hfr, q, rfl⟩ := qnn_inv hb
  obtain ⟨hv, h3⟩ := q_oks hS9 h2
  have hst := q_stk (ρ := ρ) hS9
  refine b_called hl C hG hS hL h1 h3 (aa := (((.inr (some q) :: vs).map (qv ρ))).toArray) (o1 := (emb' b).1) (M1 := (emb' b).2) (vx_runIN (As := vs.map (qv ρ)) (b := ρ q) (q_fix C) (hPM b hfr hl D ρ H.size) (⟨va_cnB n C.ts (lw_meth hF.1.2.2.2.1) rfl rfl rfl (C.nw _ hF.1.1.choose_spec) (C.ts _ hF.1.2.2.1) hF.2 hu.1, hF.1.2.2.2.2, C.ts _ hF.1.2.1⟩) (q_pre C hI hG hS hv) rfl (by rw [List.length_map]; exact hn) hL.1 hst (q_room hlen) d hu.2) ((kk b).v ha2) ((kk b).x ha2)
/-- behind a call, by the kind of its answer -/
theorem okI {k : Int32 → QM → Option α} {u9 : Nat × Nat} {pc' : Nat} (h : ∀ x M1, SB emb l K M0 (k x M1) u9 pc' M1 ls (.inl x :: st)) : ∀ b : Int32 × QM, OB emb l K M0 (eI b) (k b.1 b.2) u9 pc pc' ls st := fun b => h b.1 b.2
theorem okP {k : Int32 → Option α} {u9 : Nat × Nat} {pc' : Nat} (h : ∀ x, SB emb l K M0 (k x) u9 pc' M ls (.inl x :: st)) : ∀ b : Int32, OB emb l K M0 (eP M b) (k b) u9 pc pc' ls st := fun b => h b
theorem okV {k : QM → Option α} {u9 : Nat × Nat} {pc' : Nat} (h : ∀ M1, SB emb l K M0 (k M1) u9 pc' M1 ls st) : ∀ b : QM, OB emb l K M0 (eV b) (k b) u9 pc pc' ls st := fun b => h b
theorem okU {k : Unit → Option α} {u9 : Nat × Nat} {pc' : Nat} (h : SB emb l K M0 (k ()) u9 pc' M ls st) : ∀ b : Unit, OB emb l K M0 (eU M b) (k b) u9 pc pc' ls st := fun _ => h
theorem okR {k : QR → QM → Option α} {u9 : Nat × Nat} {pc' : Nat} (h : ∀ x M1, SB emb l K M0 (k x M1) u9 pc' M1 ls (.inr x :: st)) : ∀ b : QR × QM, OB emb l K M0 (eR b) (k b.1 b.2) u9 pc pc' ls st := fun b => h b.1 b.2
theorem okO {k : QR → Option α} {u9 : Nat × Nat} {pc' : Nat} (h : ∀ x, SB emb l K M0 (k x) u9 pc' M ls (.inr x :: st)) : ∀ b : QR, OB emb l K M0 (eO M b) (k b) u9 pc pc' ls st := fun b => h b
theorem okXI {kx : QN → QM → Option α} {k : Int32 → QM → Option α} {u9 : Nat × Nat} {pc' : Nat} (hx : ∀ q M1, SX emb l K M0 (kx q M1) u9 pc M1 ls q) (h : ∀ x M1, SB emb l K M0 (k x M1) u9 pc' M1 ls (.inl x :: st)) : ∀ b : (Int32 ⊕ QN) × QM, OB emb l K M0 (eXI b) (match b.1 with
  | .inl v => k v b.2
  | .inr q => kx q b.2) u9 pc pc' ls st := fun b => by
  rcases b with ⟨v | q, M1⟩
  · exact h v M1
  · exact hx q M1
theorem okXV {kx : QN → QM → Option α} {k : QM → Option α} {u9 : Nat × Nat} {pc' : Nat} (hx : ∀ q M1, SX emb l K M0 (kx q M1) u9 pc M1 ls q) (h : ∀ M1, SB emb l K M0 (k M1) u9 pc' M1 ls st) : ∀ b : (Unit ⊕ QN) × QM, OB emb l K M0 (eXV b) (match b.1 with
  | .inl _ => k b.2
  | .inr q => kx q b.2) u9 pc pc' ls st := fun b => by
  rcases b with ⟨v | q, M1⟩
  · exact h M1
  · exact hx q M1
theorem okXR {kx : QN → QM → Option α} {k : QR → QM → Option α} {u9 : Nat × Nat} {pc' : Nat} (hx : ∀ q M1, SX emb l K M0 (kx q M1) u9 pc M1 ls q) (h : ∀ x M1, SB emb l K M0 (k x M1) u9 pc' M1 ls (.inr x :: st)) : ∀ b : (QR ⊕ QN) × QM, OB emb l K M0 (eXR b) (match b.1 with
  | .inl v => k v b.2
  | .inr q => kx q b.2) u9 pc pc' ls st := fun b => by
  rcases b with ⟨v | q, M1⟩
  · exact h v M1
  · exact hx q M1
/-! throws -/
theorem r_athrow {r : QR} {k : QN → Option α} (d : decode K.2.1 pc = .ok (.athrow, 1)) (kk : ∀ q, SX emb l K M0 (k q) u pc M ls q) : SB emb l K M0 (qthr M r k) u pc M ls (.inr r :: st) := by
  intro a ha hl p e s m args below meth c D ρ0 ρ H locs lsA C hI hG hS hL h1 h2
  unfold qthr at ha
  cases r with
  | none => cases ha
  | some q =>
    dsimp only at ha
    split at ha
    · next x9 hq =>
      obtain ⟨ci, fs⟩ := x9
      exact vx_athrow C.x C.b d (kk q a ha hl p e s m args below meth c D ρ0 ρ H locs lsA _ C hI hG hS hL h1 ⟨ci, fs, hq⟩)
    · cases ha
theorem q_thrown {p : Program} {s : State} {m : MethodId} {args : Array Value} {meth : Method} {c : Code} {D : QD} {ρ0 ρ : QN → Nat} {H : Heap} {q : QN} {ci : Nat} {fs : List QV} {Cn : String} {T : u_T} {N : Nat} (C : qC K M0 p s m args meth c D ρ0) (hI : qI D ρ M H) (hq : M.2 q = some (true, .inl (ci, fs))) (hc : vwCl[ci]? = some (Cn, T, N)) : ∃ ce : Cell, H[ρ q]? = some ce ∧ ce.vm = .none ∧ s.vm.findClass Cn = some ce.cls := by
  obtain ⟨r9, hr9, cellV, v1, v2, v3, -⟩ := (hI.1 q true _ hq).1
  exact ⟨cellV, v1, v3, by rw [v2]; exact (C.kk.1 ci _ hc).2.1⟩
theorem b_out {q : QN} (hout : ∀ x ∈ tableOf K.2.2.2.2.1, covers x pc = false) (hu : u.1 ≤ K.rm.cells ∧ u.2 ≤ K.rm.slots) : BX l K M0 (.inr q) M u pc M ls q := by
  intro hl p e s m args below meth c D ρ0 ρ H locs lsA rest C hI hG hS hL h1 hq
  obtain ⟨ci, fs, hq⟩ := hq
  obtain ⟨r9, hr9, -⟩ := (hI.1 q true _ hq).1
  obtain ⟨Cn, T, N⟩ := r9
  obtain ⟨ce, g1, g2, g3⟩ := q_thrown C hI hq hr9
  exact vx_out (by rw [C.tab]; exact hout) C.lk g1 g2 g3 (fun t ht _ => ⟨q, ρ, ci, fs, T, N, rfl, rfl, hq, hr9, by rw [ht]; exact hI, hG, hS.F ht⟩) hS.2.2 hu.1 hu.2
theorem x_outI {q : QN} (hout : ∀ x ∈ tableOf K.2.2.2.2.1, covers x pc = false) (hu : u.1 ≤ K.rm.cells ∧ u.2 ≤ K.rm.slots) : SX eXI l K M0 (some (.inr q, M)) u pc M ls q := fun a ha => by cases ha; exact b_out hout hu
theorem x_outV {q : QN} (hout : ∀ x ∈ tableOf K.2.2.2.2.1, covers x pc = false) (hu : u.1 ≤ K.rm.cells ∧ u.2 ≤ K.rm.slots) : SX eXV l K M0 (some (.inr q, M)) u pc M ls q := fun a ha => by cases ha; exact b_out hout hu
theorem x_outR {q : QN} (hout : ∀ x ∈ tableOf K.2.2.2.2.1, covers x pc = false) (hu : u.1 ≤ K.rm.cells ∧ u.2 ≤ K.rm.slots) : SX eXR l K M0 (some (.inr q, M)) u pc M ls q := fun a ha => by cases ha; exact b_out hout hu
theorem x_none {q : QN} : SX emb l K M0 none u pc M ls q := fun a h => by cases h
/-- caught by the row x, if of class ci; the rows ahead name classes that it is not of -/
theorem x_catch {q : QN} {ci : Nat} {Cn name : String} {T : u_T} {N : Nat} (pre : List ExceptionTableEntry) (x : ExceptionTableEntry) (suf : List ExceptionTableEntry) (hsplit : tableOf K.2.2.2.2.1 = pre ++ x :: suf) (hcl : vwCl[ci]? = some (Cn, T, N))
    (hpass : ∀ z ∈ pre, covers z pc = false ∨ (z.catchType ≠ 0 ∧ ∃ nm : String, Cond.classLink K.1 z.catchType nm ∈ lw_all ∧ ((Cn = "BarnPictures$NoShow" ∧ nm = "BarnPictures$Wrong") ∨ (Cn = "BarnPictures$Stop" ∧ nm = "BarnPictures$TextFault")))) (hx : covers x pc = true) (h0 : x.catchType ≠ 0) (hlink : Cond.classLink K.1 x.catchType name ∈ lw_all) (hcast : Cond.castable Cn name ∈ qnw)
    (kt : SB emb l K M0 A u x.handlerPc M ls [.inr (some q)]) (kf : SX emb l K M0 B u pc M ls q) : SX emb l K M0 (if qcls M q = some ci then A else B) u pc M ls q := by
  intro a ha hl p e s m args below meth c D ρ0 ρ H locs lsA rest C hI hG hS hL h1 hq
  obtain ⟨c9, fs, hq⟩ := hq
  have hcls : qcls M q = some c9 := by unfold qcls; rw [hq]
  by_cases hc9 : c9 = ci
  · subst hc9
    rw [if_pos hcls] at ha
    obtain ⟨ce, g1, g2, g3⟩ := q_thrown C hI hq hcl
    refine vx_catch C.own pre x suf (by rw [C.tab]; exact hsplit) (fun z hz => ?_) hx h0 (C.ts _ hlink) (va_Nw.use (A := args) rfl (C.nw _ hcast)) g1 g2 g3 (kt a ha hl p e s m args below meth c D ρ0 ρ H locs lsA C hI hG hS hL h1 (qok_c (fun q' z => by cases z; rw [hq]; exact fun z => by cases z) (fun v hv => by cases hv)))
    rcases hpass z hz with h9 | ⟨h8, nm, h7, h6⟩
    · exact Or.inl h9
    · refine Or.inr ⟨h8, nm, C.ts _ h7, ?_⟩
      obtain ⟨n1, n2⟩ := C.ss.2.2.2.1.2.2.2.1
      rcases h6 with ⟨rfl, rfl⟩ | ⟨rfl, rfl⟩
      · exact n1
      · exact n2
  · rw [if_neg (by rw [hcls]; exact fun z => hc9 (Option.some.inj z))] at ha
    exact kf a ha hl p e s m args below meth c D ρ0 ρ H locs lsA rest C hI hG hS hL h1 ⟨c9, fs, hq⟩
end QR3
