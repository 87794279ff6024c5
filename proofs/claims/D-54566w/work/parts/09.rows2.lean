/-! rows of the judgement: fields, arrays, new objects -/
set_option maxRecDepth 100000
/-- class ci of the memory is the class C with the fields T 0 .. T (N-1) -/
def qCl (ci : Nat) (C : String) (T : u_T) (N : Nat) : Prop := vwCl[ci]? = some (C, T, N) ∧ (∀ w ∈ u_ws C T N, w ∈ lw_all) ∧ (∃ ty0 : Nat → FieldType, ∀ k, k < N → parseFieldDescriptor (T k).2.2.1 = some (ty0 k)) ∧ ∀ a, a < N → ∀ b, b < N → a ≠ b → (T a).2.1 ≠ (T b).2.1
def qFl (own : String) (idx : Nat) (ref : String) (T : u_T) (k : Nat) : Prop := (Cond.fieldLink own idx ref (T k).2.1 (T k).2.2.1 ∈ lw_all ∧ (ref = (T k).1 ∨ Cond.sameField ref (T k).1 (T k).2.1 (T k).2.2.1 ∈ lw_all)) ∨ ∃ host, Cond.fieldLinkNest own idx ref (T k).2.1 (T k).2.2.1 host ∈ qnw ∧ ref = (T k).1
/-- the field that own's entry idx names is the k-th of class ci -/
def GF (own : String) (idx ci k : Nat) : Prop := ∃ C T N ref, qCl ci C T N ∧ k < N ∧ qFl own idx ref T k
def PF (own : String) (idx ci k : Nat) (ty : FieldType) (fin : Bool) : Prop := ∃ C T N ref, qCl ci C T N ∧ k < N ∧ qFl own idx ref T k ∧ (T k).2.2.2 = fin ∧ parseFieldDescriptor (T k).2.2.1 = some ty ∧ (fin = true → (T k).1 = own ∧ Cond.fieldLink own idx ref (T k).2.1 (T k).2.2.1 ∈ lw_all ∧ ref = (T k).1)
def qfld (M : QM) (r : QR) (cks : List (Nat × Nat)) : Option QV := match r with
  | none => none
  | some q => match M.2 q with
    | some (_, .inl (ci, fs)) => match cks.lookup ci with
      | some k => fs[k]?
      | none => none
    | _ => none
def gI (M : QM) (r : QR) (cks : List (Nat × Nat)) : Option Int32 := match qfld M r cks with
  | some (.inl x) => some x
  | _ => none
def gR (M : QM) (r : QR) (cks : List (Nat × Nat)) : Option QR := match qfld M r cks with
  | some (.inr x) => some x
  | _ => none
def pF (M : QM) (r : QR) (cks : List (Nat × Nat)) (v : QV) : Option QM := match r with
  | none => none
  | some q => match M.2 q with
    | some (true, .inl (ci, fs)) => match cks.lookup ci with
      | some k => if k < fs.length then some (qup M q (.inl (ci, fs.set k v))) else none
      | none => none
    | _ => none
def ix (i : Int32) (n : Nat) : Option Nat := if i < 0 ∨ n ≤ i.toNatClampNeg then none else some i.toNatClampNeg
def qupd {β : Type} (f : Nat → β) (j : Nat) (x : β) : Nat → β := fun z => if z = j then x else f z
def aI (M : QM) (r : QR) (i : Int32) : Option Int32 := match r with
  | none => none
  | some q => match M.2 q with
    | some (_, .inr (.inl (k, n, f))) => if k = 0 ∨ k = 5 then (ix i n).map f else none
    | _ => none
def aB (M : QM) (r : QR) (i : Int32) : Option Int32 := match r with
  | none => none
  | some q => match M.2 q with
    | some (_, .inr (.inl (k, n, f))) => if k = 1 ∨ k = 6 then (ix i n).map f else none
    | _ => none
def aR (M : QM) (r : QR) (i : Int32) : Option QR := match r with
  | none => none
  | some q => match M.2 q with
    | some (_, .inr (.inr (.inl (k, n, f)))) => if k = 2 ∨ k = 3 ∨ k = 4 then (ix i n).map f else none
    | _ => none
def aL (M : QM) (r : QR) : Option Int32 := match r with
  | none => none
  | some q => match M.2 q with
    | some (_, .inr (.inl (k, n, _))) => if k = 0 ∨ k = 1 ∨ k = 5 ∨ k = 6 then some (Int32.ofNat n) else none
    | some (_, .inr (.inr (.inl (k, n, _)))) => if k = 2 ∨ k = 3 ∨ k = 4 ∨ k = 7 then some (Int32.ofNat n) else none
    | _ => none
def sI (M : QM) (r : QR) (i x : Int32) : Option QM := match r with
  | none => none
  | some q => match M.2 q with
    | some (true, .inr (.inl (k, n, f))) => if k = 0 then (ix i n).map fun j => qup M q (.inr (.inl (k, n, qupd f j x))) else none
    | _ => none
def sB (M : QM) (r : QR) (i x : Int32) : Option QM := match r with
  | none => none
  | some q => match M.2 q with
    | some (true, .inr (.inl (k, n, f))) => if k = 1 then (ix i n).map fun j => qup M q (.inr (.inl (k, n, qupd f j (vp_nar .byte x)))) else none
    | _ => none
/-- what may be stored in an array of references -/
def okst (M : QM) (k : Nat) (v : QR) : Bool := match v with
  | none => k == 2 || k == 3 || k == 4
  | some q => match M.2 q with
    | some (_, .inl (ci, _)) => (k == 3 && ci == 2) || (k == 4 && ci == 3) || (k == 2 && (ci == 1 || ci == 6))
    | _ => false
def sR (M : QM) (r : QR) (i : Int32) (v : QR) : Option QM := match r with
  | none => none
  | some q => match M.2 q with
    | some (true, .inr (.inr (.inl (k, n, f)))) => if okst M k v = true then (ix i n).map fun j => qup M q (.inr (.inr (.inl (k, n, qupd f j v)))) else none
    | _ => none
def nO (M : QM) (q : QN) (e : QE) : Option QM := match M.2 q with
  | none => some (qnew M q e)
  | some _ => none
def nAi (M : QM) (q : QN) (k : Nat) (n : Int32) (B : Nat) : Option QM := if n < 0 ∨ B < n.toNatClampNeg then none else nO M q (.inr (.inl (k, n.toNatClampNeg, fun _ => 0)))
def nAr (M : QM) (q : QN) (k : Nat) (n : Int32) (B : Nat) : Option QM := if n < 0 ∨ B < n.toNatClampNeg then none else nO M q (.inr (.inr (.inl (k, n.toNatClampNeg, fun _ => none))))
theorem lookup_in : ∀ {cks : List (Nat × Nat)} {a b : Nat}, cks.lookup a = some b → (a, b) ∈ cks
  | [], a, b, h => by cases h
  | (x, y) :: r, a, b, h => by
    rw [List.lookup_cons] at h
    by_cases hx : a = x
    · subst hx
      simp at h
      subst h
      exact List.mem_cons_self
    · have : (a == x) = false := by simpa using hx
      rw [this] at h
      exact List.mem_cons_of_mem _ (lookup_in h)
theorem qfld_inv {M : QM} {r : QR} {cks : List (Nat × Nat)} {v : QV} (h : qfld M r cks = some v) : ∃ q b ci fs k, r = some q ∧ M.2 q = some (b, .inl (ci, fs)) ∧ (ci, k) ∈ cks ∧ fs[k]? = some v := by
  unfold qfld at h
  cases r with
  | none => cases h
  | some q =>
    dsimp only at h
    split at h
    · next b ci fs hq =>
      split at h
      · next k hk => exact ⟨q, b, ci, fs, k, rfl, hq, lookup_in hk, h⟩
      · cases h
    · cases h
theorem gI_inv {M : QM} {r : QR} {cks : List (Nat × Nat)} {x : Int32} (h : gI M r cks = some x) : qfld M r cks = some (.inl x) := by
  unfold gI at h
  split at h
  · next y hy => cases h; exact hy
  · cases h
theorem gR_inv {M : QM} {r : QR} {cks : List (Nat × Nat)} {x : QR} (h : gR M r cks = some x) : qfld M r cks = some (.inr x) := by
  unfold gR at h
  split at h
  · next y hy => cases h; exact hy
  · cases h
theorem pF_inv {M M1 : QM} {r : QR} {cks : List (Nat × Nat)} {v : QV} (h : pF M r cks v = some M1) : ∃ q ci fs k, r = some q ∧ M.2 q = some (true, .inl (ci, fs)) ∧ (ci, k) ∈ cks ∧ k < fs.length ∧ M1 = qup M q (.inl (ci, fs.set k v)) := by
  unfold pF at h
  cases r with
  | none => cases h
  | some q =>
    dsimp only at h
    split at h
    · next ci fs hq =>
      split at h
      · next k hk =>
        by_cases hl : k < fs.length
        · rw [if_pos hl] at h
          cases h
          exact ⟨q, ci, fs, k, rfl, hq, lookup_in hk, hl, rfl⟩
        · rw [if_neg hl] at h; cases h
      · cases h
    · cases h
theorem ix_inv {i : Int32} {n j : Nat} (h : ix i n = some j) : ¬ (i < 0 ∨ n ≤ i.toNatClampNeg) ∧ j = i.toNatClampNeg ∧ j < n := by
  unfold ix at h
  by_cases hc : i < 0 ∨ n ≤ i.toNatClampNeg
  · rw [if_pos hc] at h; cases h
  · rw [if_neg hc] at h
    cases h
    exact ⟨hc, rfl, Nat.not_le.mp fun z => hc (Or.inr z)⟩
theorem bind_inv {β γ : Type} {x : Option β} {k : β → Option γ} {a : γ} (h : x.bind k = some a) : ∃ b, x = some b ∧ k b = some a := by
  cases x with
  | none => cases h
  | some b => exact ⟨b, rfl, h⟩
theorem map_inv {β γ : Type} {x : Option β} {k : β → γ} {a : γ} (h : x.map k = some a) : ∃ b, x = some b ∧ k b = a := by
  cases x with
  | none => cases h
  | some b => exact ⟨b, rfl, Option.some.inj h⟩
section QRW
variable {p : Program} {l : Launch} {e : Env} {R : Room} {s : State} {m : MethodId} {args : Array Value} {below : List Frame} {meth : Method} {c : Code} {H : Heap} {locs : List Loc} {cells slots : Nat} {Q : State → Prop}
variable {cc : ByteArray} {pc : Nat} {ls : Array Slot} {rest : List Value} {a : Nat} {D : QD}
/-- an object's field written: the object's own cell alone changes -/
theorem w_put (hexec : p.tables.exec = Jvm.exec) (hb : c.code = cc) {own : String} {idx ci k : Nat} {ty : FieldType} {fin : Bool} (hF : PF own idx ci k ty fin) (hts : ∀ w ∈ lw_all, w.before args s = true) (hnw : ∀ w ∈ qnw, va_Nw w s) (hown : s.vm.findClass own = some m.cls) (hK : va_K D.1 vwCl (qtys D.2) s) {fs : List Value} (hat : va_at D.1 vwCl (a, .inr (ci, fs)) H) (hin2 : fin = true → meth.name = "<init>") {v : Value} (hn : narrow ty v = v) (hfit : fits ty v = true) (hl : k < fs.length) (hdg : decode cc pc = .ok (.putfield idx, 3))
    (kk : ∀ (H1 : Heap) (i : Nat), va_at D.1 vwCl (a, .inr (ci, fs.set k v)) H1 → H1.size = H.size → (∀ x : Nat, x ≠ a → H1[x]? = H[x]?) → W p l e R s m args below meth c H1 (locs ++ [⟨a, i⟩]) cells slots Q (F0 m (pc + 3) ls rest)) : W p l e R s m args below meth c H locs cells slots Q (F0 m pc ls (v :: .ref a :: rest)) := by
  obtain ⟨C, T, N, ref, ⟨hc, hin, ⟨ty0, hty⟩, hnm⟩, hk, hfl, hfin, hd, hfo⟩ := hF
  have hap := va_apart (own := own) hts hin ty0 hty hnm hK hc
  obtain ⟨r, h1, cell, q1, q2, q3, q4⟩ := hat
  have hr : r = (C, T, N) := Option.some.inj (h1.symm.trans hc)
  subst hr
  obtain ⟨hS, hfc, kC, hkC, hkind⟩ := hK.1 ci _ hc
  obtain ⟨cf, kf, fi, f, hi, hsl⟩ := hS k hk
  have hlay := hts _ (hin _ (u_in_lay hk))
  have hst := (u_facts hfc hkC (u_lays hts hin hk) hi).1
  cases fin with
  | true =>
    unfold u_lay at hlay
    rw [if_pos hfin] at hlay
    obtain ⟨hdecl, hlink, href⟩ := hfo rfl
    have hcf : m.cls = cf := by
      obtain ⟨_, _, c', _, _, _, -, -, hf', -, -, -, hown2, -⟩ := Cond.laysFinal_spec hlay
      have e1 : c' = cf := by have := hi.symm.trans hf'; simp at this; exact this.1.symm
      rw [hdecl] at hown2
      rw [← e1]; exact Option.some.inj (hown.symm.trans hown2)
    have h6 := u_fits hfc hkC hkind (Or.inr hlay) hi hd hn hfit
    refine W.putFinK hexec hb hown (hts _ hlink) (by rw [href]; exact hi) hst hcf (hin2 rfl) (by rw [q2]; exact h6) q1 q3 (by rw [hsl]; exact k2_hasslot (q4 k hk)) rfl rfl hdg fun H' e1 e2 e3 => ?_
    rw [hsl] at e1 ⊢
    exact kk H' _ ⟨_, hc, t_OB.to (V := updV (vp_V fs) k v) ⟨_, e1, q2, q3, t_set q4 hap hk v⟩ (fun j _ => vp_updV_set hl v j)⟩ e2 e3
  | false =>
    unfold u_lay at hlay
    rw [if_neg (by rw [hfin]; decide)] at hlay
    have h6 := u_store hfc hkC hkind hlay hi hd hn hfit
    rcases hfl with ⟨hlink, href⟩ | ⟨host, hlink, href⟩
    · have hi2 : s.fieldFound? ref (T k).2.1 (T k).2.2.1 = some (cf, kf, fi, f) := by
        rcases href with href | href
        · rw [href]; exact hi
        · exact u_same (hts _ href) _ hi
      refine W.putK hexec hb (f := f) ⟨hown, hts _ hlink, ⟨_, _, _, hi2⟩, hst⟩ (by rw [q2]; exact h6) q1 q3 (by rw [hsl]; exact k2_hasslot (q4 k hk)) rfl rfl hdg fun H' e1 e2 e3 => ?_
      rw [hsl] at e1 ⊢
      exact kk H' _ ⟨_, hc, t_OB.to (V := updV (vp_V fs) k v) ⟨_, e1, q2, q3, t_set q4 hap hk v⟩ (fun j _ => vp_updV_set hl v j)⟩ e2 e3
    · have hl9 := va_Nw.use (A := args) rfl (hnw _ hlink)
      refine va_WputK hexec hb (f := f) hown hl9 (by rw [href]; exact hi) hst (by rw [q2]; exact h6) q1 q3 (by rw [hsl]; exact k2_hasslot (q4 k hk)) rfl rfl hdg fun H' e1 e2 e3 => ?_
      rw [hsl] at e1 ⊢
      exact kk H' _ ⟨_, hc, t_OB.to (V := updV (vp_V fs) k v) ⟨_, e1, q2, q3, t_set q4 hap hk v⟩ (fun j _ => vp_updV_set hl v j)⟩ e2 e3
theorem w_get (hexec : p.tables.exec = Jvm.exec) (hb : c.code = cc) {own : String} {idx ci k : Nat} (hF : GF own idx ci k) (hts : ∀ w ∈ lw_all, w.before args s = true) (hnw : ∀ w ∈ qnw, va_Nw w s) (hown : s.vm.findClass own = some m.cls) (hK : va_K D.1 vwCl (qtys D.2) s) {fs : List Value} (hat : va_at D.1 vwCl (a, .inr (ci, fs)) H) {v : Value} (hv : fs[k]? = some v) (hdg : decode cc pc = .ok (.getfield idx, 3))
    (kk : W p l e R s m args below meth c H locs cells slots Q (F0 m (pc + 3) ls (v :: rest))) : W p l e R s m args below meth c H locs cells slots Q (F0 m pc ls (.ref a :: rest)) := by
  obtain ⟨C, T, N, ref, ⟨hc, hin, -, -⟩, hk, hfl⟩ := hF
  have hP : va_P D.1 vwCl [(a, .inr (ci, fs))] H := fun j q hj => by
    have hz : j < 1 := (List.getElem?_eq_some_iff.mp hj).1
    rw [show j = 0 by omega] at hj
    cases hj
    exact hat
  rcases hfl with ⟨hlink, href⟩ | ⟨host, hlink, href⟩
  · refine va_get hexec hb hts hin hown hK hP 0 rfl hc k hk (hts _ hlink) (fun x hx => ?_) hv hdg kk
    rcases href with href | href
    · rw [href]; exact hx
    · exact u_same (hts _ href) x hx
  · exact va_getN hexec hb hts hin hown hK hP 0 rfl hc k hk (va_Nw.use (A := args) rfl (hnw _ hlink)) (fun x hx => by rw [href]; exact hx) hv hdg kk
end QRW
theorem qarrT {s : State} {cA : ClassId} {ty : FieldType} (h : ArrOfT s cA ty) {cell : Cell} (h1 : cell.cls = cA) (h2 : ∀ j, cell.vm ≠ .statics j) : s.isArrayOf cell ty := by
  obtain ⟨-, kA, h3, comp, h4⟩ := h 0 (fun _ => .null)
  exact ⟨h2, kA, by rw [h1]; exact h3, comp, h4⟩
section QR2
variable {α : Type} {emb : α → QO × QM} {l : Launch} {K : QK} {M0 M : QM} {t A B : Option α} {u : Nat × Nat} {pc : Nat} {ls ls' : List (Option QV)} {st : List QV}
theorem qI.ref {D : QD} {ρ : QN → Nat} {H : Heap} (hI : qI D ρ M H) {q : QN} {b : Bool} {ci : Nat} {fs : List QV} {k : Nat} {v : QV} (hq : M.2 q = some (b, .inl (ci, fs))) (hk : fs[k]? = some v) : qok M v := by
  intro q' hv
  subst hv
  exact (hI.1 q b _ hq).2 q' (List.mem_of_getElem? hk)
theorem qC.nw {p : Program} {s : State} {m : MethodId} {args : Array Value} {meth : Method} {c : Code} {D : QD} {ρ0 : QN → Nat} (C : qC K M0 p s m args meth c D ρ0) : ∀ w ∈ qnw, va_Nw w s := C.ss.2.2.2.1.1
theorem qC.arr {p : Program} {s : State} {m : MethodId} {args : Array Value} {meth : Method} {c : Code} {D : QD} {ρ0 : QN → Nat} (C : qC K M0 p s m args meth c D ρ0) {k : Nat} (hk : k < 8) : ArrOfT s (D.2 k) (qty k) := by
  by_cases h5 : k < 5
  · exact (C.kk.2 k _ (qtys_at D.2 h5)).1
  · obtain ⟨e1, e2, e3⟩ := C.ss.2.2.2.2.1
    rcases (show k = 5 ∨ k = 6 ∨ k = 7 by omega) with rfl | rfl | rfl
    · exact e1
    · exact e2
    · exact e3
theorem r_getI {r : QR} {cks : List (Nat × Nat)} {i : Nat} {k : Int32 → Option α} (hF : ∀ x ∈ cks, GF K.1 i x.1 x.2) (d : decode K.2.1 pc = .ok (.getfield i, 3)) (kk : ∀ x, SB emb l K M0 (k x) u (pc + 3) M ls (.inl x :: st)) : SB emb l K M0 ((gI M r cks).bind k) u pc M ls (.inr r :: st) := by
  intro a ha hl p e s m args below meth c D ρ0 ρ H locs lsA C hI hG hS hL h1 h2
  obtain ⟨x, hx, ha2⟩ := bind_inv ha
  obtain ⟨q, b, ci, fs, k9, rfl, hq, hm, hk⟩ := qfld_inv (gI_inv hx)
  exact w_get C.x C.b (hF _ hm) C.ts C.nw C.own C.kk (hI.1 q b _ hq).1 (v := .int x) (by rw [List.getElem?_map, hk]; rfl) d (kk x a ha2 hl p e s m args below meth c D ρ0 ρ H locs lsA C hI hG hS hL h1 (qok_i (qok_t h2)))
theorem r_getR {r : QR} {cks : List (Nat × Nat)} {i : Nat} {k : QR → Option α} (hF : ∀ x ∈ cks, GF K.1 i x.1 x.2) (d : decode K.2.1 pc = .ok (.getfield i, 3)) (kk : ∀ x, SB emb l K M0 (k x) u (pc + 3) M ls (.inr x :: st)) : SB emb l K M0 ((gR M r cks).bind k) u pc M ls (.inr r :: st) := by
  intro a ha hl p e s m args below meth c D ρ0 ρ H locs lsA C hI hG hS hL h1 h2
  obtain ⟨x, hx, ha2⟩ := bind_inv ha
  obtain ⟨q, b, ci, fs, k9, rfl, hq, hm, hk⟩ := qfld_inv (gR_inv hx)
  exact w_get C.x C.b (hF _ hm) C.ts C.nw C.own C.kk (hI.1 q b _ hq).1 (v := qv ρ (.inr x)) (by rw [List.getElem?_map, hk]; rfl) d (kk x a ha2 hl p e s m args below meth c D ρ0 ρ H locs lsA C hI hG hS hL h1 (qok_c (hI.ref hq hk) (qok_t h2)))
theorem b_put {r : QR} {cks : List (Nat × Nat)} {i : Nat} {v : QV} {ty : FieldType} {fin : Bool} {M1 M' : QM} {o : QO} (hF : ∀ x ∈ cks, PF K.1 i x.1 x.2 ty fin) (hin : fin = true → K.2.2.2.2.2.1 = true) (hfit : ∀ ρ, narrow ty (qv ρ v) = qv ρ v ∧ fits ty (qv ρ v) = true) (d : decode K.2.1 pc = .ok (.putfield i, 3)) (h : pF M r cks v = some M1) (kk : BW l K M0 o M' u (pc + 3) M1 ls st) : BW l K M0 o M' u pc M ls (v :: .inr r :: st) := by
  intro hl p e s m args below meth c D ρ0 ρ H locs lsA C hI hG hS hL h1 h2
  obtain ⟨q, ci, fs, k, rfl, hq, hm, hk, rfl⟩ := pF_inv h
  refine w_put C.x C.b (hF _ hm) C.ts C.nw C.own C.kk (hI.1 q true _ hq).1 (fun z => C.ini (hin z)) (hfit ρ).1 (hfit ρ).2 (by simpa using hk) d (fun H1 j hat hz oq => ?_)
  refine kk hl p e s m args below meth c D ρ0 ρ H1 _ lsA C (hI.put hq rfl ?_ ?_ oq) (hG.put hq) (hS.put hz oq (qA.put hG hq)) hL (fun v hv => (h1 v hv).mono qup_dom) (fun v hv => (h2 v (List.mem_cons_of_mem _ (List.mem_cons_of_mem _ hv))).mono qup_dom)
  · show va_at D.1 vwCl (ρ q, .inr (ci, (fs.set k v).map (qv ρ))) H1
    rw [List.map_set]
    exact hat
  · intro q' hq'
    rcases List.mem_or_eq_of_mem_set hq' with h3 | h3
    · exact (hI.1 q true _ hq).2 q' h3
    · exact qok_h h2 q' h3.symm
theorem r_put {r : QR} {cks : List (Nat × Nat)} {i : Nat} {v : QV} {ty : FieldType} {fin : Bool} {k : QM → Option α} (hF : ∀ x ∈ cks, PF K.1 i x.1 x.2 ty fin) (hin : fin = true → K.2.2.2.2.2.1 = true) (hfit : ∀ ρ, narrow ty (qv ρ v) = qv ρ v ∧ fits ty (qv ρ v) = true) (d : decode K.2.1 pc = .ok (.putfield i, 3)) (kk : ∀ M1, SB emb l K M0 (k M1) u (pc + 3) M1 ls st) : SB emb l K M0 ((pF M r cks v).bind k) u pc M ls (v :: .inr r :: st) := by
  intro a ha
  obtain ⟨M1, hM, ha⟩ := bind_inv ha
  exact b_put hF hin hfit d hM (kk M1 a ha)
theorem fit_int (x : Int32) : ∀ ρ : QN → Nat, narrow .int (qv ρ (.inl x)) = qv ρ (.inl x) ∧ fits .int (qv ρ (.inl x)) = true := fun _ => ⟨rfl, rfl⟩
theorem fit_obj (n : String) (r : QR) : ∀ ρ : QN → Nat, narrow (.object n) (qv ρ (.inr r)) = qv ρ (.inr r) ∧ fits (.object n) (qv ρ (.inr r)) = true := fun ρ => by cases r <;> exact ⟨rfl, rfl⟩
theorem fit_arr (n : FieldType) (r : QR) : ∀ ρ : QN → Nat, narrow (.array n) (qv ρ (.inr r)) = qv ρ (.inr r) ∧ fits (.array n) (qv ρ (.inr r)) = true := fun ρ => by cases r <;> exact ⟨rfl, rfl⟩
def qnf (ty : FieldType) (x : Int32) (k : Option α) : Option α := if vp_nar ty x = x ∧ fits ty (.int x) = true then k else none
theorem r_putN {r : QR} {cks : List (Nat × Nat)} {i : Nat} {x : Int32} {ty : FieldType} {fin : Bool} {k : QM → Option α} (hF : ∀ x ∈ cks, PF K.1 i x.1 x.2 ty fin) (hin : fin = true → K.2.2.2.2.2.1 = true) (hty : ty = .boolean ∨ ty = .byte ∨ ty = .char ∨ ty = .short) (d : decode K.2.1 pc = .ok (.putfield i, 3)) (kk : ∀ M1, SB emb l K M0 (k M1) u (pc + 3) M1 ls st) : SB emb l K M0 (qnf ty x ((pF M r cks (.inl x)).bind k)) u pc M ls (.inl x :: .inr r :: st) := by
  intro a ha
  unfold qnf at ha
  by_cases h9 : vp_nar ty x = x ∧ fits ty (.int x) = true
  · rw [if_pos h9] at ha
    obtain ⟨M1, hM, ha⟩ := bind_inv ha
    exact b_put hF hin (fun ρ => ⟨qnar_ok hty h9.1, h9.2⟩) d hM (kk M1 a ha)
  · rw [if_neg h9] at ha; cases ha
theorem r_iald {r : QR} {i : Int32} {k : Int32 → Option α} (d : decode K.2.1 pc = .ok (.iaload, 1)) (kk : ∀ x, SB emb l K M0 (k x) u (pc + 1) M ls (.inl x :: st)) : SB emb l K M0 ((aI M r i).bind k) u pc M ls (.inl i :: .inr r :: st) := by
  intro a ha hl p e s m args below meth c D ρ0 ρ H locs lsA C hI hG hS hL h1 h2
  obtain ⟨x, hx, ha⟩ := bind_inv ha
  unfold aI at hx
  cases r with
  | none => cases hx
  | some q =>
    dsimp only at hx
    split at hx
    · next b kd n f hq =>
      split at hx
      · next hk =>
        obtain ⟨j, hj, rfl⟩ := map_inv hx
        obtain ⟨j1, j2, j3⟩ := ix_inv hj
        obtain ⟨cell, g1, g2, g3, g4, g5, g6⟩ := (hI.1 q b _ hq).1
        have hT : ArrOfT s (D.2 kd) (qty 0) := by rcases hk with rfl | rfl <;> exact C.arr (by decide)
        exact W.iald C.x C.b g1 (qarrT hT g2 g3) g4 (by rw [g5]; exact j1) (v := .int (f j)) (by rw [← j2]; exact g6 j j3) rfl rfl d (kk (f j) a ha hl p e s m args below meth c D ρ0 ρ H locs lsA C hI hG hS hL h1 (qok_i (qok_t (qok_t h2))))
      · cases hx
    · cases hx
theorem r_bald {r : QR} {i : Int32} {k : Int32 → Option α} (d : decode K.2.1 pc = .ok (.baload, 1)) (kk : ∀ x, SB emb l K M0 (k x) u (pc + 1) M ls (.inl x :: st)) : SB emb l K M0 ((aB M r i).bind k) u pc M ls (.inl i :: .inr r :: st) := by
  intro a ha hl p e s m args below meth c D ρ0 ρ H locs lsA C hI hG hS hL h1 h2
  obtain ⟨x, hx, ha⟩ := bind_inv ha
  unfold aB at hx
  cases r with
  | none => cases hx
  | some q =>
    dsimp only at hx
    split at hx
    · next b kd n f hq =>
      split at hx
      · next hk =>
        obtain ⟨j, hj, rfl⟩ := map_inv hx
        obtain ⟨j1, j2, j3⟩ := ix_inv hj
        obtain ⟨cell, g1, g2, g3, g4, g5, g6⟩ := (hI.1 q b _ hq).1
        have hT : ArrOfT s (D.2 kd) (qty 1) := by rcases hk with rfl | rfl <;> exact C.arr (by decide)
        exact W.bald C.x C.b g1 (qarrT hT g2 g3) g4 (by rw [g5]; exact j1) (v := .int (f j)) (by rw [← j2]; exact g6 j j3) rfl rfl d (kk (f j) a ha hl p e s m args below meth c D ρ0 ρ H locs lsA C hI hG hS hL h1 (qok_i (qok_t (qok_t h2))))
      · cases hx
    · cases hx
theorem r_aald {r : QR} {i : Int32} {k : QR → Option α} (d : decode K.2.1 pc = .ok (.aaload, 1)) (kk : ∀ x, SB emb l K M0 (k x) u (pc + 1) M ls (.inr x :: st)) : SB emb l K M0 ((aR M r i).bind k) u pc M ls (.inl i :: .inr r :: st) := by
  intro a ha hl p e s m args below meth c D ρ0 ρ H locs lsA C hI hG hS hL h1 h2
  obtain ⟨x, hx, ha⟩ := bind_inv ha
  unfold aR at hx
  cases r with
  | none => cases hx
  | some q =>
    dsimp only at hx
    split at hx
    · next b kd n f hq =>
      split at hx
      · next hk =>
        obtain ⟨j, hj, rfl⟩ := map_inv hx
        obtain ⟨j1, j2, j3⟩ := ix_inv hj
        obtain ⟨⟨cell, g1, g2, g3, g4, g5, g6⟩, gc⟩ := hI.1 q b _ hq
        have hT : ∃ ty, ArrOfT s (D.2 kd) ty ∧ ty.isReference = true := by rcases hk with rfl | rfl | rfl <;> exact ⟨_, C.arr (by decide), rfl⟩
        obtain ⟨ty, hT, hty⟩ := hT
        have hok : qok M (.inr (f j)) := fun q' hq' => gc j q' (by injection hq')
        exact W.aald C.x C.b g1 (qarrT hT g2 g3) hty g4 (by rw [g5]; exact j1) (v := qv ρ (.inr (f j))) (by rw [← j2, qv_rf]; exact g6 j j3) rfl rfl d (kk (f j) a ha hl p e s m args below meth c D ρ0 ρ H locs lsA C hI hG hS hL h1 (qok_c hok (qok_t (qok_t h2))))
      · cases hx
    · cases hx
theorem r_alen {r : QR} {k : Int32 → Option α} (d : decode K.2.1 pc = .ok (.arraylength, 1)) (kk : ∀ x, SB emb l K M0 (k x) u (pc + 1) M ls (.inl x :: st)) : SB emb l K M0 ((aL M r).bind k) u pc M ls (.inr r :: st) := by
  intro a ha hl p e s m args below meth c D ρ0 ρ H locs lsA C hI hG hS hL h1 h2
  obtain ⟨x, hx, ha⟩ := bind_inv ha
  unfold aL at hx
  cases r with
  | none => cases hx
  | some q =>
    dsimp only at hx
    split at hx
    · next b kd n f hq =>
      split at hx
      · next hk =>
        cases hx
        obtain ⟨cell, g1, g2, g3, g4, g5, g6⟩ := (hI.1 q b _ hq).1
        have hT : ArrOfT s (D.2 kd) (qty kd) := C.arr (by omega)
        exact W.alen (n := Int32.ofNat n) C.x C.b g1 (qarrT hT g2 g3) (by rw [g5] <;> rfl) rfl rfl d (kk _ a ha hl p e s m args below meth c D ρ0 ρ H locs lsA C hI hG hS hL h1 (qok_i (qok_t h2)))
      · cases hx
    · next b kd n f hq =>
      split at hx
      · next hk =>
        cases hx
        obtain ⟨cell, g1, g2, g3, g4, g5, g6⟩ := (hI.1 q b _ hq).1
        have hT : ArrOfT s (D.2 kd) (qty kd) := C.arr (by omega)
        exact W.alen (n := Int32.ofNat n) C.x C.b g1 (qarrT hT g2 g3) (by rw [g5] <;> rfl) rfl rfl d (kk _ a ha hl p e s m args below meth c D ρ0 ρ H locs lsA C hI hG hS hL h1 (qok_i (qok_t h2)))
      · cases hx
    · cases hx
theorem r_iast {r : QR} {i x : Int32} {k : QM → Option α} (d : decode K.2.1 pc = .ok (.iastore, 1)) (kk : ∀ M1, SB emb l K M0 (k M1) u (pc + 1) M1 ls st) : SB emb l K M0 ((sI M r i x).bind k) u pc M ls (.inl x :: .inl i :: .inr r :: st) := by
  intro a ha hl p e s m args below meth c D ρ0 ρ H locs lsA C hI hG hS hL h1 h2
  obtain ⟨M1, hx, ha⟩ := bind_inv ha
  unfold sI at hx
  cases r with
  | none => cases hx
  | some q =>
    dsimp only at hx
    split at hx
    · next kd n f hq =>
      split at hx
      · next hk =>
        subst hk
        obtain ⟨j, hj, rfl⟩ := map_inv hx
        obtain ⟨j1, j2, j3⟩ := ix_inv hj
        obtain ⟨cell, g1, g2, g3, g4, g5, g6⟩ := (hI.1 q true _ hq).1
        have hT : ArrOfT s (D.2 0) (qty 0) := C.arr (by decide)
        refine W.iast C.x C.b g1 (qarrT hT g2 g3) g4 (by rw [g5]; exact j1) rfl rfl d (fun H1 e1 z1 oq => ?_)
        refine kk _ a ha hl p e s m args below meth c D ρ0 ρ H1 _ lsA C (hI.put hq rfl ?_ trivial oq) (hG.put hq) (hS.put z1 oq (qA.put hG hq)) hL (fun v hv => (h1 v hv).mono qup_dom) (fun v hv => (h2 v (List.mem_cons_of_mem _ (List.mem_cons_of_mem _ (List.mem_cons_of_mem _ hv)))).mono qup_dom)
        have := qarr.set (H1 := H1) (H := H) g2 g3 g4 g5 g6 e1
        show qarr D 0 n (fun z => .int (qupd f j x z)) (ρ q) H1
        rw [show (fun z => Value.int (qupd f j x z)) = (fun z => if z = i.toNatClampNeg then Value.int x else Value.int (f z)) from funext fun z => by
          unfold qupd
          rw [j2]
          split <;> rfl]
        exact this
      · cases hx
    · cases hx
theorem r_bast {r : QR} {i x : Int32} {k : QM → Option α} (d : decode K.2.1 pc = .ok (.bastore, 1)) (kk : ∀ M1, SB emb l K M0 (k M1) u (pc + 1) M1 ls st) : SB emb l K M0 ((sB M r i x).bind k) u pc M ls (.inl x :: .inl i :: .inr r :: st) := by
  intro a ha hl p e s m args below meth c D ρ0 ρ H locs lsA C hI hG hS hL h1 h2
  obtain ⟨M1, hx, ha⟩ := bind_inv ha
  unfold sB at hx
  cases r with
  | none => cases hx
  | some q =>
    dsimp only at hx
    split at hx
    · next kd n f hq =>
      split at hx
      · next hk =>
        subst hk
        obtain ⟨j, hj, rfl⟩ := map_inv hx
        obtain ⟨j1, j2, j3⟩ := ix_inv hj
        obtain ⟨cell, g1, g2, g3, g4, g5, g6⟩ := (hI.1 q true _ hq).1
        have hT : ArrOfT s (D.2 1) (qty 1) := C.arr (by decide)
        refine W.bast C.x C.b g1 (qarrT hT g2 g3) g4 (by rw [g5]; exact j1) rfl rfl d (fun H1 e1 z1 oq => ?_)
        refine kk _ a ha hl p e s m args below meth c D ρ0 ρ H1 _ lsA C (hI.put hq rfl ?_ trivial oq) (hG.put hq) (hS.put z1 oq (qA.put hG hq)) hL (fun v hv => (h1 v hv).mono qup_dom) (fun v hv => (h2 v (List.mem_cons_of_mem _ (List.mem_cons_of_mem _ (List.mem_cons_of_mem _ hv)))).mono qup_dom)
        have := qarr.set (H1 := H1) (H := H) g2 g3 g4 g5 g6 e1
        show qarr D 1 n (fun z => .int (qupd f j (vp_nar .byte x) z)) (ρ q) H1
        rw [show (fun z => Value.int (qupd f j (vp_nar .byte x) z)) = (fun z => if z = i.toNatClampNeg then Value.int (vp_nar .byte x) else Value.int (f z)) from funext fun z => by
          unfold qupd
          rw [j2]
          split <;> rfl]
        exact this
      · cases hx
    · cases hx
theorem r_aast {r v : QR} {i : Int32} {k : QM → Option α} (d : decode K.2.1 pc = .ok (.aastore, 1)) (kk : ∀ M1, SB emb l K M0 (k M1) u (pc + 1) M1 ls st) : SB emb l K M0 ((sR M r i v).bind k) u pc M ls (.inr v :: .inl i :: .inr r :: st) := by
  intro a ha hl p e s m args below meth c D ρ0 ρ H locs lsA C hI hG hS hL h1 h2
  obtain ⟨M1, hx, ha⟩ := bind_inv ha
  unfold sR at hx
  cases r with
  | none => cases hx
  | some q =>
    dsimp only at hx
    split at hx
    · next kd n f hq =>
      split at hx
      · next hk =>
        obtain ⟨j, hj, rfl⟩ := map_inv hx
        obtain ⟨j1, j2, j3⟩ := ix_inv hj
        obtain ⟨⟨cell, g1, g2, g3, g4, g5, g6⟩, gc⟩ := hI.1 q true _ hq
        have fin : ∀ H1 : Heap, H1[ρ q]? = some (cell.setSlot i.toNatClampNeg (qv ρ (.inr v))) → H1.size = H.size → (∀ x : Nat, x ≠ ρ q → H1[x]? = H[x]?) → W p l e K.rm s m args below meth c H1 (locs ++ [⟨ρ q, i.toNatClampNeg⟩]) u.1 u.2 (vx_MQ below (qQ D s.heap.size ρ0 M0 (emb a).1 (emb a).2) (qXc D s.heap.size ρ0 M0 (emb a).1 (emb a).2) args s K.rm.cells K.rm.slots (qA s.heap.size ρ0 M0)) (F0 m (pc + 1) lsA (st.map (qv ρ))) := by
          intro H1 e1 z1 oq
          refine kk _ a ha hl p e s m args below meth c D ρ0 ρ H1 _ lsA C (hI.put hq rfl ?_ ?_ oq) (hG.put hq) (hS.put z1 oq (qA.put hG hq)) hL (fun v hv => (h1 v hv).mono qup_dom) (fun v hv => (h2 v (List.mem_cons_of_mem _ (List.mem_cons_of_mem _ (List.mem_cons_of_mem _ hv)))).mono qup_dom)
          · have := qarr.set (H1 := H1) (H := H) g2 g3 g4 g5 g6 e1
            show qarr D kd n (fun z => va_rf ((qupd f j v z).map ρ)) (ρ q) H1
            rw [show (fun z => va_rf ((qupd f j v z).map ρ)) = (fun z => if z = i.toNatClampNeg then qv ρ (.inr v) else va_rf ((f z).map ρ)) from funext fun z => by
              unfold qupd
              rw [j2, qv_rf]
              split <;> rfl]
            exact this
          · intro z q' hz
            unfold qupd at hz
            split at hz
            · subst hz
              exact qok_h h2 q' rfl
            · exact gc z q' hz
        have ck : kd = 2 ∨ kd = 3 ∨ kd = 4 := by
          cases v with
          | none => simp [okst] at hk; omega
          | some q' =>
            unfold okst at hk
            dsimp only at hk
            split at hk
            · simp at hk; omega
            · cases hk
        have hTy : ∃ Cn, qty kd = .object Cn := by rcases ck with rfl | rfl | rfl <;> exact ⟨_, rfl⟩
        obtain ⟨Cn, hCn⟩ := hTy
        have hT : ArrOfT s (D.2 kd) (qty kd) := C.arr (by omega)
        rw [hCn] at hT
        cases v with
        | none => exact va_WaastN (C := Cn) C.x C.b g1 (qarrT hT g2 g3) g4 (by rw [g5]; exact j1) rfl rfl d fin
        | some q' =>
          have hra := (C.kk.2 kd _ (qtys_at D.2 (by omega))).2
          rw [hCn] at hra
          obtain ⟨kA, comp, k1, k2, k3, -⟩ := hra
          unfold okst at hk
          dsimp only at hk
          split at hk
          · next b2 ci fs2 hq' =>
            obtain ⟨r9, hr9, cellV, v1, v2, v3, -⟩ := (hI.1 q' b2 _ hq').1
            obtain ⟨-, hca⟩ := C.kk.1 ci _ hr9
            obtain ⟨hfc, kC, hkC, hkind⟩ := id hca
            obtain ⟨kE, hkE, -⟩ := Vm.findClass_spec k3
            have hasg : s.vm.assignable (D.1.1 ci) comp = true := by
              have same : r9.1 = Cn → s.vm.assignable (D.1.1 ci) comp = true := by
                intro e9
                rw [e9, k3] at hfc
                rw [Option.some.inj hfc]
                exact va_assign (C := r9.1) (s := s) ⟨by rw [e9, k3, Option.some.inj hfc], kC, hkC, hkind⟩
              have viaW : Cond.castable r9.1 Cn ∈ qnw → s.vm.assignable (D.1.1 ci) comp = true := by
                intro h9
                obtain ⟨c0, t0, f1, f2, f3⟩ := Cond.castable_spec (va_Nw.use (A := args) rfl (C.nw _ h9))
                cases f1.symm.trans hfc
                cases f2.symm.trans k3
                exact f3
              simp only [Bool.or_eq_true, Bool.and_eq_true, beq_iff_eq] at hk
              rcases hk with (⟨rfl, rfl⟩ | ⟨rfl, rfl⟩) | ⟨rfl, rfl | rfl⟩
              · cases hCn; cases hr9; exact same rfl
              · cases hCn; cases hr9; exact same rfl
              · cases hCn; cases hr9; exact viaW (qnw_in q1385 rfl)
              · cases hCn; cases hr9; exact viaW (qnw_in q1393 rfl)
            refine W.aast C.x C.b g1 g3 g4 (by rw [g2]; exact k1) k2 rfl hkE ⟨fun z => j1 (Or.inl z), by rw [g5, ← j2]; exact j3⟩ v1 (fun z h => by rw [v3] at h; cases h) (by rw [v2]; exact hkC) (by rw [v2]; exact hasg) rfl rfl d fin
          · cases hk
      · cases hx
    · cases hx
end QR2
