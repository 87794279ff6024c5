/-! the abstract memory: names, references, values, entries, memory; what it says of a heap -/
set_option maxRecDepth 100000
abbrev QN : Type := Nat × Nat
abbrev QR : Type := Option QN
abbrev QV : Type := Int32 ⊕ QR
abbrev QE : Type := (Nat × List QV) ⊕ ((Nat × Nat × (Nat → Int32)) ⊕ ((Nat × Nat × (Nat → QR)) ⊕ Option (Nat × List QV)))
abbrev QM : Type := Nat × (QN → Option (Bool × QE))
abbrev QO : Type := Option QV ⊕ QN
abbrev QD : Type := va_G × (Nat → ClassId)
def qv (ρ : QN → Nat) : QV → Value
  | .inl x => .int x
  | .inr none => .null
  | .inr (some q) => .ref (ρ q)
theorem qv_cat (ρ : QN → Nat) (v : QV) : (qv ρ v).category = 1 := by
  rcases v with x | _ | q <;> rfl
theorem qv_cats (ρ : QN → Nat) (st : List QV) : ((st.map (qv ρ)).map fun v => v.category).sum = st.length := by
  induction st with
  | nil => rfl
  | cons v r ih => rw [List.map_cons, List.map_cons, List.sum_cons, ih, qv_cat, List.length_cons, Nat.add_comm]
theorem qv_rf (ρ : QN → Nat) (o : QR) : qv ρ (.inr o) = va_rf (o.map ρ) := by cases o <;> rfl
def TO14 : u_T := fun _ => ("BarnPictures$Wrong", "code", "I", true)
def TO15 : u_T := fun _ => ("BarnPictures$NoShow", "reason", "I", true)
def TO16 : u_T := fun _ => ("BarnPictures$TextFault", "place", "I", true)
def TO17 : u_T := fun k => match k with
  | 0 => ("BarnPictures$Stop", "number", "I", true)
  | _ => ("BarnPictures$Stop", "reason", "LBarnPictures$Refusal;", true)
/-- the classes: 0 BarnPictures, 1 Tour, 2 Reel, 3 Generator, 4 Model, 5 Reader, 6 Command, 7 ArrayList, 8 StringBuilder, 10..13 Wrong, NoShow, TextFault, Stop just made, 14..17 the same with their own fields -/
abbrev vwCl : List vw_C := [(RX0, TX0, 5), (RX1, TX1, 14), (RX3, TX3, 6), (RX4, TX4, 2), (RX5, TX5, 16), (RX9, TX9, 3), (RX11, TX11, 3), (RJ2, TJ2, 3), (RJ4, TJ4, 4), (RX0, TX0, 5), (RX7, TX7, 7), (RX8, TX8, 7), (RX10, TX10, 7), (RX12, TX12, 8), (RX7, TO14, 1), (RX8, TO15, 1), (RX10, TO16, 1), (RX12, TO17, 2)]
def qty : Nat → FieldType
  | 0 => .int
  | 1 => .byte
  | 2 => .object "java/lang/Object"
  | 3 => .object "BarnPictures$Reel"
  | 4 => .object "BarnPictures$Generator"
  | 5 => .int
  | 6 => .byte
  | _ => .object "java/lang/Object"
abbrev qtys (dA : Nat → ClassId) : List (ClassId × FieldType) := [(dA 0, .int), (dA 1, .byte), (dA 2, .object "java/lang/Object"), (dA 3, .object "BarnPictures$Reel"), (dA 4, .object "BarnPictures$Generator")]
theorem qtys_at (dA : Nat → ClassId) {k : Nat} (h : k < 5) : (qtys dA)[k]? = some (dA k, qty k) := by
  rcases (show k = 0 ∨ k = 1 ∨ k = 2 ∨ k = 3 ∨ k = 4 by omega) with rfl | rfl | rfl | rfl | rfl <;> rfl
/-- an array of kind k, of length n -/
def qarr (D : QD) (k n : Nat) (f : Nat → Value) (a : Nat) (H : Heap) : Prop := ∃ cell : Cell, H[a]? = some cell ∧ cell.cls = D.2 k ∧ (∀ j, cell.vm ≠ .statics j) ∧ cell.vm ≠ .unknown ∧ cell.slots.size = n ∧ ∀ j : Nat, j < n → cell.slots[j]? = some (f j)
theorem qarr.kept {D : QD} {k n : Nat} {f : Nat → Value} {a : Nat} {H H1 : Heap} (h : qarr D k n f a H) (hq : H1[a]? = H[a]?) : qarr D k n f a H1 := by
  obtain ⟨cell, h1, h2⟩ := h
  exact ⟨cell, by rw [hq]; exact h1, h2⟩
theorem qarr.of {D : QD} {k n : Nat} {f : Nat → Value} {a : Nat} {H : Heap} (h : H[a]? = some (arrV (D.2 k) n f)) : qarr D k n f a H :=
  ⟨_, h, rfl, fun j z => (by cases z), fun z => (by cases z), arrV_size _ _ _, fun j hj => arrV_read _ _ hj⟩
theorem qarr.set {D : QD} {k n i : Nat} {f : Nat → Value} {a : Nat} {H H1 : Heap} {cell : Cell} {v : Value} (h1 : cell.cls = D.2 k) (h2 : ∀ j, cell.vm ≠ .statics j) (h3 : cell.vm ≠ .unknown) (h4 : cell.slots.size = n) (h5 : ∀ j : Nat, j < n → cell.slots[j]? = some (f j)) (e : H1[a]? = some (cell.setSlot i v)) : qarr D k n (fun j => if j = i then v else f j) a H1 := by
  refine ⟨_, e, h1, h2, h3, by simp [Cell.setSlot, h4], fun j hj => ?_⟩
  dsimp only
  by_cases hji : j = i
  · subst hji
    rw [if_pos rfl]
    simp [Cell.setSlot, h4, hj]
  · rw [if_neg hji, ← h5 j hj]
    exact Array.getElem?_setIfInBounds_ne (fun z => hji z.symm)
/-- an entry at an address -/
def qat (D : QD) (ρ : QN → Nat) (a : Nat) (e : QE) (H : Heap) : Prop := match e with
  | .inl (ci, fs) => va_at D.1 vwCl (a, .inr (ci, fs.map (qv ρ))) H
  | .inr (.inl (k, n, f)) => qarr D k n (fun j => .int (f j)) a H
  | .inr (.inr (.inl (k, n, f))) => qarr D k n (fun j => va_rf ((f j).map ρ)) a H
  | .inr (.inr (.inr none)) => True
  | .inr (.inr (.inr (some (ci, fs)))) => ∃ cell : Cell, H[a]? = some cell ∧ cell.cls = D.1.1 ci ∧ cell.vm = .none ∧ cell.monitor.owner = none ∧ cell.monitor.count = 0 ∧ ∃ r : vw_C, vwCl[ci]? = some r ∧ ∀ k, k < r.2.2 → cell.slots[D.1.2 ci k]? = some (vp_V (fs.map (qv ρ)) k)
def qreal : QE → Bool
  | .inr (.inr (.inr none)) => false
  | _ => true
/-- what an entry refers to is in the memory -/
def qclo (M : QM) : QE → Prop
  | .inl (_, fs) => ∀ q : QN, (Sum.inr (some q) : QV) ∈ fs → M.2 q ≠ none
  | .inr (.inl _) => True
  | .inr (.inr (.inl (_, _, f))) => ∀ (j : Nat) (q : QN), f j = some q → M.2 q ≠ none
  | .inr (.inr (.inr none)) => True
  | .inr (.inr (.inr (some (_, fs)))) => ∀ q : QN, (Sum.inr (some q) : QV) ∈ fs → M.2 q ≠ none
def qok (M : QM) (v : QV) : Prop := ∀ q : QN, v = .inr (some q) → M.2 q ≠ none
def qI (D : QD) (ρ : QN → Nat) (M : QM) (H : Heap) : Prop :=
  (∀ q b e, M.2 q = some (b, e) → qat D ρ (ρ q) e H ∧ qclo M e) ∧
  ∀ q b e q' b' e', M.2 q = some (b, e) → M.2 q' = some (b', e') → qreal e = true → qreal e' = true → (b = true ∨ b' = true) → ρ q = ρ q' → q = q'
def qG (sz : Nat) (ρ0 : QN → Nat) (M0 : QM) (ρ : QN → Nat) (M : QM) : Prop :=
  (∀ q, M0.2 q ≠ none → ρ q = ρ0 q ∧ (M.2 q).map (·.1) = (M0.2 q).map (·.1)) ∧ ∀ q, M0.2 q = none → M.2 q ≠ none → sz ≤ ρ q ∧ (M.2 q).map (·.1) = some true
def qA (sz : Nat) (ρ : QN → Nat) (M : QM) : Nat → Prop := fun x => (∃ q e, M.2 q = some (true, e) ∧ x = ρ q) ∨ sz ≤ x
def qup (M : QM) (q : QN) (e : QE) : QM := (M.1, fun x => if x = q then some (true, e) else M.2 x)
def qnew (M : QM) (q : QN) (e : QE) : QM := (if M.1 ≤ q.1 then q.1 + 1 else M.1, fun x => if x = q then some (true, e) else M.2 x)
theorem qat.lt {D : QD} {ρ : QN → Nat} {a : Nat} {e : QE} {H : Heap} (h : qat D ρ a e H) (hr : qreal e = true) : a < H.size := by
  rcases e with ⟨ci, fs⟩ | ⟨k, n, f⟩ | ⟨k, n, f⟩ | _ | ⟨ci, fs⟩
  · exact va_at.lt (q := (a, .inr (ci, fs.map (qv ρ)))) h
  · obtain ⟨cell, h1, -⟩ := h
    exact (Array.getElem?_eq_some_iff.mp h1).1
  · obtain ⟨cell, h1, -⟩ := h
    exact (Array.getElem?_eq_some_iff.mp h1).1
  · cases hr
  · obtain ⟨cell, h1, -⟩ := h
    exact (Array.getElem?_eq_some_iff.mp h1).1
theorem qat.kept {D : QD} {ρ : QN → Nat} {a : Nat} {e : QE} {H H1 : Heap} (h : qat D ρ a e H) (hq : H1[a]? = H[a]?) : qat D ρ a e H1 := by
  rcases e with ⟨ci, fs⟩ | ⟨k, n, f⟩ | ⟨k, n, f⟩ | _ | ⟨ci, fs⟩
  · exact va_at.kept (q := (a, .inr (ci, fs.map (qv ρ)))) h hq
  · exact qarr.kept h hq
  · exact qarr.kept h hq
  · exact trivial
  · obtain ⟨cell, h1, h2⟩ := h
    exact ⟨cell, by rw [hq]; exact h1, h2⟩
theorem qv_map {ρ ρ' : QN → Nat} {M : QM} {fs : List QV} (hc : ∀ q : QN, (Sum.inr (some q) : QV) ∈ fs → M.2 q ≠ none) (he : ∀ q, M.2 q ≠ none → ρ' q = ρ q) : fs.map (qv ρ') = fs.map (qv ρ) := by
  refine List.map_congr_left fun v hv => ?_
  rcases v with x | _ | q
  · rfl
  · rfl
  · show Value.ref (ρ' q) = Value.ref (ρ q)
    rw [he q (hc q hv)]
theorem qv_ok {ρ ρ' : QN → Nat} {M : QM} {v : QV} (hc : qok M v) (he : ∀ q, M.2 q ≠ none → ρ' q = ρ q) : qv ρ' v = qv ρ v := by
  rcases v with x | _ | q
  · rfl
  · rfl
  · show Value.ref (ρ' q) = Value.ref (ρ q)
    rw [he q (hc q rfl)]
theorem qat.ren {D : QD} {ρ ρ' : QN → Nat} {M : QM} {a : Nat} {e : QE} {H : Heap} (h : qat D ρ a e H) (hc : qclo M e) (he : ∀ q, M.2 q ≠ none → ρ' q = ρ q) : qat D ρ' a e H := by
  rcases e with ⟨ci, fs⟩ | ⟨k, n, f⟩ | ⟨k, n, f⟩ | _ | ⟨ci, fs⟩
  · show va_at D.1 vwCl (a, .inr (ci, fs.map (qv ρ'))) H
    rw [qv_map hc he]; exact h
  · exact h
  · show qarr D k n (fun j => va_rf ((f j).map ρ')) a H
    rw [show (fun j => va_rf ((f j).map ρ')) = (fun j => va_rf ((f j).map ρ)) from funext fun j => by
      cases hj : f j with
      | none => rfl
      | some q => rw [Option.map_some, Option.map_some, he q (hc j q hj)]]
    exact h
  · exact trivial
  · obtain ⟨cell, h1, h2, h3, h4, h5, r, h6, h7⟩ := h
    exact ⟨cell, h1, h2, h3, h4, h5, r, h6, by rw [qv_map hc he]; exact h7⟩
theorem qclo.mono {M M' : QM} {e : QE} (h : qclo M e) (hm : ∀ q, M.2 q ≠ none → M'.2 q ≠ none) : qclo M' e := by
  rcases e with ⟨ci, fs⟩ | ⟨k, n, f⟩ | ⟨k, n, f⟩ | _ | ⟨ci, fs⟩
  · exact fun q hq => hm q (h q hq)
  · exact trivial
  · exact fun j q hq => hm q (h j q hq)
  · exact trivial
  · exact fun q hq => hm q (h q hq)
theorem qok.mono {M M' : QM} {v : QV} (h : qok M v) (hm : ∀ q, M.2 q ≠ none → M'.2 q ≠ none) : qok M' v := fun q hq => hm q (h q hq)
theorem qup_dom {M : QM} {q : QN} {e : QE} : ∀ x, M.2 x ≠ none → (qup M q e).2 x ≠ none := by
  intro x h
  show (if x = q then some (true, e) else M.2 x) ≠ none
  by_cases hx : x = q
  · rw [if_pos hx]; exact fun z => by cases z
  · rw [if_neg hx]; exact h
theorem qnew_dom {M : QM} {q : QN} {e : QE} : ∀ x, M.2 x ≠ none → (qnew M q e).2 x ≠ none := by
  intro x h
  show (if x = q then some (true, e) else M.2 x) ≠ none
  by_cases hx : x = q
  · rw [if_pos hx]; exact fun z => by cases z
  · rw [if_neg hx]; exact h
theorem qI.put {D : QD} {ρ : QN → Nat} {M : QM} {H H1 : Heap} {q : QN} {e0 e : QE} (h : qI D ρ M H) (hq : M.2 q = some (true, e0)) (hr0 : qreal e0 = true) (he : qat D ρ (ρ q) e H1) (hc : qclo M e) (oq : ∀ x : Nat, x ≠ ρ q → H1[x]? = H[x]?) : qI D ρ (qup M q e) H1 := by
  obtain ⟨h1, h2⟩ := h
  have key : ∀ x b e', (qup M q e).2 x = some (b, e') → (x = q ∧ b = true ∧ e' = e) ∨ (x ≠ q ∧ M.2 x = some (b, e')) := by
    intro x b e' hx
    have hx : (if x = q then some (true, e) else M.2 x) = some (b, e') := hx
    by_cases hxq : x = q
    · rw [if_pos hxq] at hx
      cases hx
      exact Or.inl ⟨hxq, rfl, rfl⟩
    · rw [if_neg hxq] at hx
      exact Or.inr ⟨hxq, hx⟩
  refine ⟨fun x b e' hx => ?_, fun x b e1 x' b' e1' hx hx' hr hr' hb hρ => ?_⟩
  · rcases key x b e' hx with ⟨rfl, rfl, rfl⟩ | ⟨hne, hx⟩
    · exact ⟨he, hc.mono qup_dom⟩
    · obtain ⟨g1, g2⟩ := h1 x b e' hx
      refine ⟨?_, g2.mono qup_dom⟩
      by_cases hr : qreal e' = true
      · refine g1.kept (oq _ fun z => hne (h2 x b e' q true e0 hx hq hr hr0 (Or.inr rfl) z))
      · rcases e' with ⟨ci, fs⟩ | ⟨k, n, f⟩ | ⟨k, n, f⟩ | _ | ⟨ci, fs⟩
        · exact absurd rfl hr
        · exact absurd rfl hr
        · exact absurd rfl hr
        · exact trivial
        · exact absurd rfl hr
  · rcases key x b e1 hx with ⟨rfl, rfl, rfl⟩ | ⟨hne, gx⟩ <;> rcases key x' b' e1' hx' with ⟨rfl, rfl, rfl⟩ | ⟨hne', gx'⟩
    · rfl
    · exact h2 _ _ _ _ _ _ hq gx' hr0 hr' (Or.inl rfl) hρ
    · exact h2 _ _ _ _ _ _ gx hq hr hr0 (Or.inr rfl) hρ
    · exact h2 _ _ _ _ _ _ gx gx' hr hr' hb hρ
/-- a fresh name at the heap's end -/
def qren (ρ : QN → Nat) (q : QN) (a : Nat) : QN → Nat := fun x => if x = q then a else ρ x
theorem qren_old {ρ : QN → Nat} {M : QM} {q : QN} {a : Nat} (hq : M.2 q = none) : ∀ x, M.2 x ≠ none → qren ρ q a x = ρ x := fun x hx => by
  show (if x = q then a else ρ x) = ρ x
  rw [if_neg (fun z => hx (by rw [z]; exact hq))]
theorem qren_self {ρ : QN → Nat} {q : QN} {a : Nat} : qren ρ q a q = a := if_pos rfl
theorem qI.new {D : QD} {ρ : QN → Nat} {M : QM} {H H1 : Heap} {q : QN} {e : QE} (h : qI D ρ M H) (hq : M.2 q = none) (he : qat D (qren ρ q H.size) H.size e H1) (hc : qclo M e) (oq : ∀ x : Nat, x < H.size → H1[x]? = H[x]?) : qI D (qren ρ q H.size) (qnew M q e) H1 := by
  obtain ⟨h1, h2⟩ := h
  have key : ∀ x b e', (qnew M q e).2 x = some (b, e') → (x = q ∧ b = true ∧ e' = e) ∨ (x ≠ q ∧ M.2 x = some (b, e')) := by
    intro x b e' hx
    have hx : (if x = q then some (true, e) else M.2 x) = some (b, e') := hx
    by_cases hxq : x = q
    · rw [if_pos hxq] at hx
      cases hx
      exact Or.inl ⟨hxq, rfl, rfl⟩
    · rw [if_neg hxq] at hx
      exact Or.inr ⟨hxq, hx⟩
  have old : ∀ x b e', M.2 x = some (b, e') → qren ρ q H.size x = ρ x := fun x b e' hx => qren_old hq x (by rw [hx]; exact fun z => by cases z)
  refine ⟨fun x b e' hx => ?_, fun x b e1 x' b' e1' hx hx' hr hr' hb hρ => ?_⟩
  · rcases key x b e' hx with ⟨rfl, rfl, rfl⟩ | ⟨hne, hx⟩
    · exact ⟨by rw [qren_self]; exact he, hc.mono qnew_dom⟩
    · obtain ⟨g1, g2⟩ := h1 x b e' hx
      refine ⟨?_, g2.mono qnew_dom⟩
      rw [old x b e' hx]
      have g1 := g1.ren g2 (qren_old (a := H.size) hq)
      by_cases hr : qreal e' = true
      · exact g1.kept (oq _ (g1.lt hr))
      · rcases e' with ⟨ci, fs⟩ | ⟨k, n, f⟩ | ⟨k, n, f⟩ | _ | ⟨ci, fs⟩
        · exact absurd rfl hr
        · exact absurd rfl hr
        · exact absurd rfl hr
        · exact trivial
        · exact absurd rfl hr
  · rcases key x b e1 hx with ⟨rfl, rfl, rfl⟩ | ⟨hne, gx⟩ <;> rcases key x' b' e1' hx' with ⟨rfl, rfl, rfl⟩ | ⟨hne', gx'⟩
    · rfl
    · rw [qren_self, old x' b' e1' gx'] at hρ
      have := (h1 x' b' e1' gx').1.lt hr'
      omega
    · rw [qren_self, old x b e1 gx] at hρ
      have := (h1 x b e1 gx).1.lt hr
      omega
    · rw [old x b e1 gx, old x' b' e1' gx'] at hρ
      exact h2 _ _ _ _ _ _ gx gx' hr hr' hb hρ
theorem qG.rf {sz : Nat} {ρ : QN → Nat} {M : QM} : qG sz ρ M ρ M := ⟨fun _ _ => ⟨rfl, rfl⟩, fun _ h1 h2 => absurd h1 h2⟩
theorem qG.dom {sz : Nat} {ρ0 ρ : QN → Nat} {M0 M : QM} (h : qG sz ρ0 M0 ρ M) : ∀ q, M0.2 q ≠ none → M.2 q ≠ none := by
  intro q hq z
  have := (h.1 q hq).2
  rw [z] at this
  cases h9 : M0.2 q with
  | none => exact hq h9
  | some x => rw [h9] at this; cases this
theorem qG.put {sz : Nat} {ρ0 ρ : QN → Nat} {M0 M : QM} {q : QN} {e0 e : QE} (h : qG sz ρ0 M0 ρ M) (hq : M.2 q = some (true, e0)) : qG sz ρ0 M0 ρ (qup M q e) := by
  have key : ∀ x, ((qup M q e).2 x).map (·.1) = (M.2 x).map (·.1) := by
    intro x
    show ((if x = q then some (true, e) else M.2 x)).map (·.1) = (M.2 x).map (·.1)
    by_cases hx : x = q
    · rw [if_pos hx, hx, hq]; rfl
    · rw [if_neg hx]
  refine ⟨fun x hx => ⟨(h.1 x hx).1, by rw [key]; exact (h.1 x hx).2⟩, fun x h1 h2 => ?_⟩
  have h3 : M.2 x ≠ none := by
    intro z
    have := key x
    rw [z] at this
    cases h9 : (qup M q e).2 x with
    | none => exact h2 h9
    | some y => rw [h9] at this; cases this
  exact ⟨(h.2 x h1 h3).1, by rw [key]; exact (h.2 x h1 h3).2⟩
theorem qG.new {sz a : Nat} {ρ0 ρ : QN → Nat} {M0 M : QM} {q : QN} {e : QE} (h : qG sz ρ0 M0 ρ M) (hq : M.2 q = none) (ha : sz ≤ a) : qG sz ρ0 M0 (qren ρ q a) (qnew M q e) := by
  have hq0 : M0.2 q = none := by
    cases h9 : M0.2 q with
    | none => rfl
    | some x => exact absurd hq (h.dom q (by rw [h9]; exact fun z => by cases z))
  refine ⟨fun x hx => ?_, fun x h1 h2 => ?_⟩
  · have hne : x ≠ q := fun z => hx (by rw [z]; exact hq0)
    refine ⟨by show (if x = q then a else ρ x) = _; rw [if_neg hne]; exact (h.1 x hx).1, ?_⟩
    show ((if x = q then some (true, e) else M.2 x)).map (·.1) = _
    rw [if_neg hne]; exact (h.1 x hx).2
  · by_cases hx : x = q
    · refine ⟨by show sz ≤ (if x = q then a else ρ x); rw [if_pos hx]; exact ha, ?_⟩
      show ((if x = q then some (true, e) else M.2 x)).map (·.1) = _
      rw [if_pos hx]; rfl
    · have h3 : M.2 x ≠ none := fun z => h2 (by show (if x = q then some (true, e) else M.2 x) = none; rw [if_neg hx]; exact z)
      refine ⟨by show sz ≤ (if x = q then a else ρ x); rw [if_neg hx]; exact (h.2 x h1 h3).1, ?_⟩
      show ((if x = q then some (true, e) else M.2 x)).map (·.1) = _
      rw [if_neg hx]; exact (h.2 x h1 h3).2
theorem qG.tr {sz sz1 : Nat} {ρ0 ρ ρ1 : QN → Nat} {M0 M M1 : QM} (h : qG sz ρ0 M0 ρ M) (h1 : qG sz1 ρ M ρ1 M1) (hz : sz ≤ sz1) : qG sz ρ0 M0 ρ1 M1 := by
  refine ⟨fun q hq => ?_, fun q hq hq1 => ?_⟩
  · obtain ⟨a1, a2⟩ := h.1 q hq
    obtain ⟨b1, b2⟩ := h1.1 q (h.dom q hq)
    exact ⟨b1.trans a1, b2.trans a2⟩
  · by_cases hm : M.2 q = none
    · obtain ⟨b1, b2⟩ := h1.2 q hm hq1
      exact ⟨Nat.le_trans hz b1, b2⟩
    · obtain ⟨a1, a2⟩ := h.2 q hq hm
      obtain ⟨b1, b2⟩ := h1.1 q hm
      exact ⟨by rw [b1]; exact a1, b2.trans a2⟩
/-- the callee's cells are the caller's, or new -/
theorem qA.sub {sz sz1 : Nat} {ρ0 ρ : QN → Nat} {M0 M : QM} (h : qG sz ρ0 M0 ρ M) (hz : sz ≤ sz1) : ∀ x, qA sz1 ρ M x → qA sz ρ0 M0 x := by
  rintro x (⟨q, e, h1, rfl⟩ | h1)
  · by_cases hm : M0.2 q = none
    · exact Or.inr (h.2 q hm (by rw [h1]; exact fun z => by cases z)).1
    · obtain ⟨a1, a2⟩ := h.1 q hm
      rw [h1] at a2
      cases h9 : M0.2 q with
      | none => exact absurd h9 hm
      | some y =>
        obtain ⟨b, e9⟩ := y
        rw [h9] at a2
        have hb : true = b := Option.some.inj a2
        exact Or.inl ⟨q, e9, by rw [h9, hb], a1⟩
  · exact Or.inr (Nat.le_trans hz h1)
theorem qA.put {sz : Nat} {ρ0 ρ : QN → Nat} {M0 M : QM} {q : QN} {e : QE} (h : qG sz ρ0 M0 ρ M) (hq : M.2 q = some (true, e)) : qA sz ρ0 M0 (ρ q) := qA.sub h (Nat.le_refl sz) _ (Or.inl ⟨q, e, hq, rfl⟩)
/-- back to the entry's memory, where nothing old has changed -/
theorem qI.back {D : QD} {sz : Nat} {ρ0 ρ : QN → Nat} {M0 M : QM} {H H0 : Heap} (h : qI D ρ M H) (hG : qG sz ρ0 M0 ρ M) (h0 : qI D ρ0 M0 H0) (he : ∀ q, M0.2 q ≠ none → M.2 q = M0.2 q) : qI D ρ0 M0 H := by
  refine ⟨fun q b e hq => ?_, h0.2⟩
  have hn : M0.2 q ≠ none := by rw [hq]; exact fun z => by cases z
  have hq1 : M.2 q = some (b, e) := by rw [he q hn]; exact hq
  obtain ⟨g1, -⟩ := h.1 q b e hq1
  have g2 := (h0.1 q b e hq).2
  rw [(hG.1 q hn).1] at g1
  exact ⟨g1.ren g2 (fun x hx => ((hG.1 x hx).1).symm), g2⟩
