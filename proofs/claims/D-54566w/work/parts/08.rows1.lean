/-! rows of the judgement: instructions that touch no heap (printed by gen/mkrows1.py) -/
set_option maxRecDepth 100000
section QR1
variable {α : Type} {emb : α → QO × QM} {l : Launch} {K : QK} {M0 M : QM} {t A B : Option α} {u : Nat × Nat} {pc : Nat} {ls ls' : List (Option QV)} {st : List QV}
section
variable {p : Program} {s : State} {m : MethodId} {args : Array Value} {meth : Method} {c : Code} {D : QD} {ρ0 : QN → Nat}
theorem qC.x (h : qC K M0 p s m args meth c D ρ0) : p.tables.exec = Jvm.exec := h.1
theorem qC.b (h : qC K M0 p s m args meth c D ρ0) : c.code = K.2.1 := h.2.1
theorem qC.r (h : qC K M0 p s m args meth c D ρ0) : meth.sig.returnType = K.2.2.2.1 := h.2.2.1
theorem qC.ml (h : qC K M0 p s m args meth c D ρ0) : c.maxLocals = K.2.2.1 := h.2.2.2.1
theorem qC.own (h : qC K M0 p s m args meth c D ρ0) : s.vm.findClass K.1 = some m.cls := h.2.2.2.2.1
theorem qC.ts (h : qC K M0 p s m args meth c D ρ0) : ∀ w ∈ lw_all, w.before args s = true := h.2.2.2.2.2.1
theorem qC.lk (h : qC K M0 p s m args meth c D ρ0) : meth.locks = false := h.2.2.2.2.2.2.1
theorem qC.ini (h : qC K M0 p s m args meth c D ρ0) : K.2.2.2.2.2.1 = true → meth.name = "<init>" := h.2.2.2.2.2.2.2.1
theorem qC.tab (h : qC K M0 p s m args meth c D ρ0) : c.exceptionTable.toList = tableOf K.2.2.2.2.1 := h.2.2.2.2.2.2.2.2.1
theorem qC.P (h : qC K M0 p s m args meth c D ρ0) : qP D ρ0 M0 s.heap.size s := h.2.2.2.2.2.2.2.2.2
theorem qC.kk (h : qC K M0 p s m args meth c D ρ0) : va_K D.1 vwCl (qtys D.2) s := h.P.2.2.1
theorem qC.ss (h : qC K M0 p s m args meth c D ρ0) : qS D ρ0 M0 (qA s.heap.size ρ0 M0) s s.heap := h.P.2.2.2
end
def qlet {β γ : Type} (x : β) (k : β → γ) : γ := k x
theorem r_none {st : List QV} : SB emb l K M0 none u pc M ls st := fun a h => by cases h
theorem r_let {β : Type} {x : β} {k : β → Option α} (kk : SB emb l K M0 (k x) u pc M ls st) : SB emb l K M0 (qlet x k) u pc M ls st := kk
theorem r_iconst {n : Int} {v : Int32} (d : decode K.2.1 pc = .ok (.iconst n, 1)) (hv : Int32.ofInt n = v) (kk : SB emb l K M0 t u (pc + 1) M ls (.inl v :: st)) : SB emb l K M0 t u pc M ls (st) := by
  intro a ha hl p e s m args below meth c D ρ0 ρ H locs lsA C hI hG hS hL h1 h2
  exact lv_iconst C.x C.b d hv (kk a ha hl p e s m args below meth c D ρ0 ρ H locs lsA C hI hG hS hL h1 (qok_i h2))
theorem r_bipush {n : Int} {v : Int32} (d : decode K.2.1 pc = .ok (.bipush n, 2)) (hv : (Int8.ofInt n).toInt32 = v) (kk : SB emb l K M0 t u (pc + 2) M ls (.inl v :: st)) : SB emb l K M0 t u pc M ls (st) := by
  intro a ha hl p e s m args below meth c D ρ0 ρ H locs lsA C hI hG hS hL h1 h2
  exact lv_bipush C.x C.b d hv (kk a ha hl p e s m args below meth c D ρ0 ρ H locs lsA C hI hG hS hL h1 (qok_i h2))
theorem r_sipush {n : Int} {v : Int32} (d : decode K.2.1 pc = .ok (.sipush n, 3)) (hv : (Int16.ofInt n).toInt32 = v) (kk : SB emb l K M0 t u (pc + 3) M ls (.inl v :: st)) : SB emb l K M0 t u pc M ls (st) := by
  intro a ha hl p e s m args below meth c D ρ0 ρ H locs lsA C hI hG hS hL h1 h2
  exact lv_sipush C.x C.b d hv (kk a ha hl p e s m args below meth c D ρ0 ρ H locs lsA C hI hG hS hL h1 (qok_i h2))
theorem r_ldc {i : Nat} {v : Int32} (d : decode K.2.1 pc = .ok (.ldc i, 2)) (hw : Cond.constant K.1 i v ∈ lw_all) (kk : SB emb l K M0 t u (pc + 2) M ls (.inl v :: st)) : SB emb l K M0 t u pc M ls (st) := by
  intro a ha hl p e s m args below meth c D ρ0 ρ H locs lsA C hI hG hS hL h1 h2
  exact lv_ldc C.x C.b C.own (C.ts _ hw) d (kk a ha hl p e s m args below meth c D ρ0 ρ H locs lsA C hI hG hS hL h1 (qok_i h2))
theorem r_null (d : decode K.2.1 pc = .ok (.aconst_null, 1)) (kk : SB emb l K M0 t u (pc + 1) M ls (.inr none :: st)) : SB emb l K M0 t u pc M ls (st) := by
  intro a ha hl p e s m args below meth c D ρ0 ρ H locs lsA C hI hG hS hL h1 h2
  exact lv_null C.x C.b d (kk a ha hl p e s m args below meth c D ρ0 ρ H locs lsA C hI hG hS hL h1 (qok_c qok_n h2))
theorem r_iload_n {k : Fin 4} {x : Int32} (d : decode K.2.1 pc = .ok (.iload_n k, 1)) (h : ls[(k : Nat)]? = some (some (.inl x))) (kk : SB emb l K M0 t u (pc + 1) M ls (.inl x :: st)) : SB emb l K M0 t u pc M ls (st) := by
  intro a ha hl p e s m args below meth c D ρ0 ρ H locs lsA C hI hG hS hL h1 h2
  exact lv_iload_n C.x C.b d rfl (hL.2.2 _ _ h) (kk a ha hl p e s m args below meth c D ρ0 ρ H locs lsA C hI hG hS hL h1 (qok_i h2))
theorem r_iload {k : Nat} {x : Int32} (d : decode K.2.1 pc = .ok (.iload k, 2)) (h : ls[k]? = some (some (.inl x))) (kk : SB emb l K M0 t u (pc + 2) M ls (.inl x :: st)) : SB emb l K M0 t u pc M ls (st) := by
  intro a ha hl p e s m args below meth c D ρ0 ρ H locs lsA C hI hG hS hL h1 h2
  exact lv_iload C.x C.b d (hL.2.2 _ _ h) (kk a ha hl p e s m args below meth c D ρ0 ρ H locs lsA C hI hG hS hL h1 (qok_i h2))
theorem r_aload_n {k : Fin 4} {r : QR} (d : decode K.2.1 pc = .ok (.aload_n k, 1)) (h : ls[(k : Nat)]? = some (some (.inr r))) (kk : SB emb l K M0 t u (pc + 1) M ls (.inr r :: st)) : SB emb l K M0 t u pc M ls st := by
  intro a ha hl p e s m args below meth c D ρ0 ρ H locs lsA C hI hG hS hL h1 h2
  have ho := hL.2.2 _ _ h
  have hk := kk a ha hl p e s m args below meth c D ρ0 ρ H locs lsA C hI hG hS hL h1 (qok_c (h1 _ (List.mem_of_getElem? h)) h2)
  cases r with
  | none => exact lv_aload_nN C.x C.b d rfl ho hk
  | some q => exact lv_aload_n C.x C.b d rfl ho hk
theorem r_aload {k : Nat} {r : QR} (d : decode K.2.1 pc = .ok (.aload k, 2)) (h : ls[(k : Nat)]? = some (some (.inr r))) (kk : SB emb l K M0 t u (pc + 2) M ls (.inr r :: st)) : SB emb l K M0 t u pc M ls st := by
  intro a ha hl p e s m args below meth c D ρ0 ρ H locs lsA C hI hG hS hL h1 h2
  have ho := hL.2.2 _ _ h
  have hk := kk a ha hl p e s m args below meth c D ρ0 ρ H locs lsA C hI hG hS hL h1 (qok_c (h1 _ (List.mem_of_getElem? h)) h2)
  cases r with
  | none => exact lv_aloadN C.x C.b d ho hk
  | some q => exact lv_aload C.x C.b d ho hk
theorem r_istore_n {k : Fin 4} {x : Int32} (d : decode K.2.1 pc = .ok (.istore_n k, 1)) (hn : (k : Nat) < K.2.2.1) (hls : ls.set (k : Nat) (some (.inl x)) = ls') (kk : SB emb l K M0 t u (pc + 1) M ls' st) : SB emb l K M0 t u pc M ls (.inl x :: st) := by
  intro a ha hl p e s m args below meth c D ρ0 ρ H locs lsA C hI hG hS hL h1 h2
  exact lv_istore_n C.x C.b d rfl hL.has hn rfl (fun lsA9 hL9 => kk a ha hl p e s m args below meth c D ρ0 ρ H locs lsA9 C hI hG hS (qL.set (v := .inl x) hL9 (fun _ z => z) hls) (qls_set h1 qok_int hls) (qok_t h2))
theorem r_istore {k : Nat} {x : Int32} (d : decode K.2.1 pc = .ok (.istore k, 2)) (hn : (k : Nat) < K.2.2.1) (hls : ls.set (k : Nat) (some (.inl x)) = ls') (kk : SB emb l K M0 t u (pc + 2) M ls' st) : SB emb l K M0 t u pc M ls (.inl x :: st) := by
  intro a ha hl p e s m args below meth c D ρ0 ρ H locs lsA C hI hG hS hL h1 h2
  exact lv_istore C.x C.b d hL.has hn rfl (fun lsA9 hL9 => kk a ha hl p e s m args below meth c D ρ0 ρ H locs lsA9 C hI hG hS (qL.set (v := .inl x) hL9 (fun _ z => z) hls) (qls_set h1 qok_int hls) (qok_t h2))
theorem r_astore_n {k : Fin 4} {r : QR} (d : decode K.2.1 pc = .ok (.astore_n k, 1)) (hn : (k : Nat) < K.2.2.1) (hls : ls.set (k : Nat) (some (.inr r)) = ls') (kk : SB emb l K M0 t u (pc + 1) M ls' st) : SB emb l K M0 t u pc M ls (.inr r :: st) := by
  intro a ha hl p e s m args below meth c D ρ0 ρ H locs lsA C hI hG hS hL h1 h2
  cases r with
  | none => exact lv_astore_nN C.x C.b d rfl hL.has hn rfl (fun lsA9 hL9 => kk a ha hl p e s m args below meth c D ρ0 ρ H locs lsA9 C hI hG hS (qL.set (v := .inr none) hL9 (fun _ z => z) hls) (qls_set h1 (qok_h h2) hls) (qok_t h2))
  | some q => exact lv_astore_n C.x C.b d rfl hL.has hn rfl (fun lsA9 hL9 => kk a ha hl p e s m args below meth c D ρ0 ρ H locs lsA9 C hI hG hS (qL.set (v := .inr (some q)) hL9 (fun _ z => z) hls) (qls_set h1 (qok_h h2) hls) (qok_t h2))
theorem r_astore {k : Nat} {r : QR} (d : decode K.2.1 pc = .ok (.astore k, 2)) (hn : (k : Nat) < K.2.2.1) (hls : ls.set (k : Nat) (some (.inr r)) = ls') (kk : SB emb l K M0 t u (pc + 2) M ls' st) : SB emb l K M0 t u pc M ls (.inr r :: st) := by
  intro a ha hl p e s m args below meth c D ρ0 ρ H locs lsA C hI hG hS hL h1 h2
  cases r with
  | none => exact lv_astoreN C.x C.b d hL.has hn rfl (fun lsA9 hL9 => kk a ha hl p e s m args below meth c D ρ0 ρ H locs lsA9 C hI hG hS (qL.set (v := .inr none) hL9 (fun _ z => z) hls) (qls_set h1 (qok_h h2) hls) (qok_t h2))
  | some q => exact lv_astore C.x C.b d hL.has hn rfl (fun lsA9 hL9 => kk a ha hl p e s m args below meth c D ρ0 ρ H locs lsA9 C hI hG hS (qL.set (v := .inr (some q)) hL9 (fun _ z => z) hls) (qls_set h1 (qok_h h2) hls) (qok_t h2))
theorem r_iinc {k : Nat} {n : Int} {x v : Int32} (d : decode K.2.1 pc = .ok (.iinc k n, 3)) (h : ls[k]? = some (some (.inl x))) (hv : x + Int32.ofInt n = v) (hn : k < K.2.2.1) (hls : ls.set k (some (.inl v)) = ls') (kk : SB emb l K M0 t u (pc + 3) M ls' st) : SB emb l K M0 t u pc M ls st := by
  intro a ha hl p e s m args below meth c D ρ0 ρ H locs lsA C hI hG hS hL h1 h2
  have hh : lv_has lsA K.2.2.1 ((k, Value.int x) :: qlp ρ ls) := ⟨hL.1, hL.2.1, fun y hy => by
    rcases List.mem_cons.mp hy with rfl | hy
    · exact hL.2.2 _ _ h
    · exact hL.has.2.2 y hy⟩
  exact lv_iinc C.x C.b d hh (k := 0) rfl hv hn rfl (fun lsA9 hL9 => kk a ha hl p e s m args below meth c D ρ0 ρ H locs lsA9 C hI hG hS (qL.set (v := .inl v) hL9 (fun y hy => List.mem_filter.mpr ⟨List.mem_cons_of_mem _ (List.mem_filter.mp hy).1, (List.mem_filter.mp hy).2⟩) hls) (qls_set h1 qok_int hls) h2)
theorem r_iadd {x y : Int32} (d : decode K.2.1 pc = .ok (.iadd, 1)) (kk : SB emb l K M0 t u (pc + 1) M ls (.inl (x + y) :: st)) : SB emb l K M0 t u pc M ls (.inl y :: .inl x :: st) := by
  intro a ha hl p e s m args below meth c D ρ0 ρ H locs lsA C hI hG hS hL h1 h2
  exact lv_iadd C.x C.b d (kk a ha hl p e s m args below meth c D ρ0 ρ H locs lsA C hI hG hS hL h1 (qok_i (qok_t (qok_t h2))))
theorem r_isub {x y : Int32} (d : decode K.2.1 pc = .ok (.isub, 1)) (kk : SB emb l K M0 t u (pc + 1) M ls (.inl (x - y) :: st)) : SB emb l K M0 t u pc M ls (.inl y :: .inl x :: st) := by
  intro a ha hl p e s m args below meth c D ρ0 ρ H locs lsA C hI hG hS hL h1 h2
  exact lv_isub C.x C.b d (kk a ha hl p e s m args below meth c D ρ0 ρ H locs lsA C hI hG hS hL h1 (qok_i (qok_t (qok_t h2))))
theorem r_imul {x y : Int32} (d : decode K.2.1 pc = .ok (.imul, 1)) (kk : SB emb l K M0 t u (pc + 1) M ls (.inl (x * y) :: st)) : SB emb l K M0 t u pc M ls (.inl y :: .inl x :: st) := by
  intro a ha hl p e s m args below meth c D ρ0 ρ H locs lsA C hI hG hS hL h1 h2
  exact lv_imul C.x C.b d (kk a ha hl p e s m args below meth c D ρ0 ρ H locs lsA C hI hG hS hL h1 (qok_i (qok_t (qok_t h2))))
theorem r_iand {x y : Int32} (d : decode K.2.1 pc = .ok (.iand, 1)) (kk : SB emb l K M0 t u (pc + 1) M ls (.inl (x &&& y) :: st)) : SB emb l K M0 t u pc M ls (.inl y :: .inl x :: st) := by
  intro a ha hl p e s m args below meth c D ρ0 ρ H locs lsA C hI hG hS hL h1 h2
  exact lv_iand C.x C.b d (kk a ha hl p e s m args below meth c D ρ0 ρ H locs lsA C hI hG hS hL h1 (qok_i (qok_t (qok_t h2))))
theorem r_ior {x y : Int32} (d : decode K.2.1 pc = .ok (.ior, 1)) (kk : SB emb l K M0 t u (pc + 1) M ls (.inl (x ||| y) :: st)) : SB emb l K M0 t u pc M ls (.inl y :: .inl x :: st) := by
  intro a ha hl p e s m args below meth c D ρ0 ρ H locs lsA C hI hG hS hL h1 h2
  exact lv_ior C.x C.b d (kk a ha hl p e s m args below meth c D ρ0 ρ H locs lsA C hI hG hS hL h1 (qok_i (qok_t (qok_t h2))))
theorem r_ishl {x y : Int32} (d : decode K.2.1 pc = .ok (.ishl, 1)) (kk : SB emb l K M0 t u (pc + 1) M ls (.inl (x <<< (y &&& 31)) :: st)) : SB emb l K M0 t u pc M ls (.inl y :: .inl x :: st) := by
  intro a ha hl p e s m args below meth c D ρ0 ρ H locs lsA C hI hG hS hL h1 h2
  exact lv_ishl C.x C.b d (kk a ha hl p e s m args below meth c D ρ0 ρ H locs lsA C hI hG hS hL h1 (qok_i (qok_t (qok_t h2))))
theorem r_ishr {x y : Int32} (d : decode K.2.1 pc = .ok (.ishr, 1)) (kk : SB emb l K M0 t u (pc + 1) M ls (.inl (x >>> (y &&& 31)) :: st)) : SB emb l K M0 t u pc M ls (.inl y :: .inl x :: st) := by
  intro a ha hl p e s m args below meth c D ρ0 ρ H locs lsA C hI hG hS hL h1 h2
  exact lv_ishr C.x C.b d (kk a ha hl p e s m args below meth c D ρ0 ρ H locs lsA C hI hG hS hL h1 (qok_i (qok_t (qok_t h2))))
theorem r_iushr {x y : Int32} (d : decode K.2.1 pc = .ok (.iushr, 1)) (kk : SB emb l K M0 t u (pc + 1) M ls (.inl ((x.toUInt32 >>> (y.toUInt32 &&& Int32.toUInt32 31)).toInt32) :: st)) : SB emb l K M0 t u pc M ls (.inl y :: .inl x :: st) := by
  intro a ha hl p e s m args below meth c D ρ0 ρ H locs lsA C hI hG hS hL h1 h2
  exact lv_iushr C.x C.b d rfl (kk a ha hl p e s m args below meth c D ρ0 ρ H locs lsA C hI hG hS hL h1 (qok_i (qok_t (qok_t h2))))
theorem r_idiv {x y : Int32} (d : decode K.2.1 pc = .ok (.idiv, 1)) (hne : ¬ y = 0) (kk : SB emb l K M0 t u (pc + 1) M ls (.inl (x / y) :: st)) : SB emb l K M0 t u pc M ls (.inl y :: .inl x :: st) := by
  intro a ha hl p e s m args below meth c D ρ0 ρ H locs lsA C hI hG hS hL h1 h2
  exact lv_idiv C.x C.b d hne (kk a ha hl p e s m args below meth c D ρ0 ρ H locs lsA C hI hG hS hL h1 (qok_i (qok_t (qok_t h2))))
theorem r_irem {x y : Int32} (d : decode K.2.1 pc = .ok (.irem, 1)) (hne : ¬ y = 0) (kk : SB emb l K M0 t u (pc + 1) M ls (.inl (x - x / y * y) :: st)) : SB emb l K M0 t u pc M ls (.inl y :: .inl x :: st) := by
  intro a ha hl p e s m args below meth c D ρ0 ρ H locs lsA C hI hG hS hL h1 h2
  exact lv_irem C.x C.b d hne (kk a ha hl p e s m args below meth c D ρ0 ρ H locs lsA C hI hG hS hL h1 (qok_i (qok_t (qok_t h2))))
def qnz (y : Int32) (k : Option α) : Option α := if y = 0 then none else k
theorem r_idivG {x y : Int32} (d : decode K.2.1 pc = .ok (.idiv, 1)) (kk : SB emb l K M0 t u (pc + 1) M ls (.inl (x / y) :: st)) : SB emb l K M0 (qnz y t) u pc M ls (.inl y :: .inl x :: st) := by
  intro a ha hl p e s m args below meth c D ρ0 ρ H locs lsA C hI hG hS hL h1 h2
  unfold qnz at ha
  by_cases hy : y = 0
  · rw [if_pos hy] at ha; cases ha
  · rw [if_neg hy] at ha
    exact lv_idiv C.x C.b d hy (kk a ha hl p e s m args below meth c D ρ0 ρ H locs lsA C hI hG hS hL h1 (qok_i (qok_t (qok_t h2))))
theorem r_ineg {x : Int32} (d : decode K.2.1 pc = .ok (.ineg, 1)) (kk : SB emb l K M0 t u (pc + 1) M ls (.inl (-x) :: st)) : SB emb l K M0 t u pc M ls (.inl x :: st) := by
  intro a ha hl p e s m args below meth c D ρ0 ρ H locs lsA C hI hG hS hL h1 h2
  exact lv_ineg C.x C.b d (kk a ha hl p e s m args below meth c D ρ0 ρ H locs lsA C hI hG hS hL h1 (qok_i (qok_t h2)))
theorem r_i2b {x : Int32} (d : decode K.2.1 pc = .ok (.i2b, 1)) (kk : SB emb l K M0 t u (pc + 1) M ls (.inl x.toInt8.toInt32 :: st)) : SB emb l K M0 t u pc M ls (.inl x :: st) := by
  intro a ha hl p e s m args below meth c D ρ0 ρ H locs lsA C hI hG hS hL h1 h2
  exact lv_i2b C.x C.b d rfl (kk a ha hl p e s m args below meth c D ρ0 ρ H locs lsA C hI hG hS hL h1 (qok_i (qok_t h2)))
theorem r_i2c {x : Int32} (d : decode K.2.1 pc = .ok (.i2c, 1)) (kk : SB emb l K M0 t u (pc + 1) M ls (.inl (x.toUInt32 % 65536).toInt32 :: st)) : SB emb l K M0 t u pc M ls (.inl x :: st) := by
  intro a ha hl p e s m args below meth c D ρ0 ρ H locs lsA C hI hG hS hL h1 h2
  exact lv_i2c C.x C.b d rfl (kk a ha hl p e s m args below meth c D ρ0 ρ H locs lsA C hI hG hS hL h1 (qok_i (qok_t h2)))
theorem r_dup {v : QV} (d : decode K.2.1 pc = .ok (.dup, 1)) (kk : SB emb l K M0 t u (pc + 1) M ls (v :: v :: st)) : SB emb l K M0 t u pc M ls (v :: st) := by
  intro a ha hl p e s m args below meth c D ρ0 ρ H locs lsA C hI hG hS hL h1 h2
  exact lv_dup C.x C.b d (qv_cat ρ v) (kk a ha hl p e s m args below meth c D ρ0 ρ H locs lsA C hI hG hS hL h1 (qok_c (qok_h h2) h2))
theorem r_pop {v : QV} (d : decode K.2.1 pc = .ok (.pop, 1)) (kk : SB emb l K M0 t u (pc + 1) M ls (st)) : SB emb l K M0 t u pc M ls (v :: st) := by
  intro a ha hl p e s m args below meth c D ρ0 ρ H locs lsA C hI hG hS hL h1 h2
  exact lv_pop C.x C.b d (qv_cat ρ v) (kk a ha hl p e s m args below meth c D ρ0 ρ H locs lsA C hI hG hS hL h1 (qok_t h2))
theorem r_dup_x1 {v w : QV} (d : decode K.2.1 pc = .ok (.dup_x1, 1)) (kk : SB emb l K M0 t u (pc + 1) M ls (v :: w :: v :: st)) : SB emb l K M0 t u pc M ls (v :: w :: st) := by
  intro a ha hl p e s m args below meth c D ρ0 ρ H locs lsA C hI hG hS hL h1 h2
  exact lv_dup_x1 C.x C.b d (qv_cat ρ v) (qv_cat ρ w) (kk a ha hl p e s m args below meth c D ρ0 ρ H locs lsA C hI hG hS hL h1 (qok_c (qok_h h2) (qok_c (qok_h (qok_t h2)) (qok_c (qok_h h2) (qok_t (qok_t h2))))))
theorem r_dup2 {v w : QV} (d : decode K.2.1 pc = .ok (.dup2, 1)) (kk : SB emb l K M0 t u (pc + 1) M ls (v :: w :: v :: w :: st)) : SB emb l K M0 t u pc M ls (v :: w :: st) := by
  intro a ha hl p e s m args below meth c D ρ0 ρ H locs lsA C hI hG hS hL h1 h2
  exact lv_dup2_11 C.x C.b d (qv_cat ρ v) (qv_cat ρ w) (kk a ha hl p e s m args below meth c D ρ0 ρ H locs lsA C hI hG hS hL h1 (qok_c (qok_h h2) (qok_c (qok_h (qok_t h2)) h2)))
theorem r_if_eq {x : Int32} {off : Int} {tgt : Nat} {inst : Decidable (x = 0)} (d : decode K.2.1 pc = .ok (.ifCond .eq off, 3)) (ht : (pc : Int) + off = (tgt : Int)) (kt : SB emb l K M0 A u tgt M ls st) (kf : SB emb l K M0 B u (pc + 3) M ls st) : SB emb l K M0 (@ite _ (x = 0) inst A B) u pc M ls (.inl x :: st) := by
  intro a ha hl p e s m args below meth c D ρ0 ρ H locs lsA C hI hG hS hL h1 h2
  exact lv_if_eq C.x C.b d ht (fun hc => kt a (by rw [if_pos hc] at ha; exact ha) hl p e s m args below meth c D ρ0 ρ H locs lsA C hI hG hS hL h1 (qok_t h2)) (fun hc => kf a (by rw [if_neg hc] at ha; exact ha) hl p e s m args below meth c D ρ0 ρ H locs lsA C hI hG hS hL h1 (qok_t h2))
theorem r_if_eqF {x : Int32} {off : Int} {tgt : Nat} {β : Type} (F : β → Option α) {zA zB : β} {inst : Decidable (x = 0)} (d : decode K.2.1 pc = .ok (.ifCond .eq off, 3)) (ht : (pc : Int) + off = (tgt : Int)) (kt : SB emb l K M0 (F zA) u tgt M ls st) (kf : SB emb l K M0 (F zB) u (pc + 3) M ls st) : SB emb l K M0 (F (@ite _ (x = 0) inst zA zB)) u pc M ls (.inl x :: st) := by
  intro a ha hl p e s m args below meth c D ρ0 ρ H locs lsA C hI hG hS hL h1 h2
  exact lv_if_eq C.x C.b d ht (fun hc => kt a (by rw [if_pos hc] at ha; exact ha) hl p e s m args below meth c D ρ0 ρ H locs lsA C hI hG hS hL h1 (qok_t h2)) (fun hc => kf a (by rw [if_neg hc] at ha; exact ha) hl p e s m args below meth c D ρ0 ρ H locs lsA C hI hG hS hL h1 (qok_t h2))
theorem r_icmp_eq {x y : Int32} {off : Int} {tgt : Nat} {inst : Decidable (x = y)} (d : decode K.2.1 pc = .ok (.if_icmp .eq off, 3)) (ht : (pc : Int) + off = (tgt : Int)) (kt : SB emb l K M0 A u tgt M ls st) (kf : SB emb l K M0 B u (pc + 3) M ls st) : SB emb l K M0 (@ite _ (x = y) inst A B) u pc M ls (.inl y :: .inl x :: st) := by
  intro a ha hl p e s m args below meth c D ρ0 ρ H locs lsA C hI hG hS hL h1 h2
  exact lv_icmp_eq C.x C.b d ht (fun hc => kt a (by rw [if_pos hc] at ha; exact ha) hl p e s m args below meth c D ρ0 ρ H locs lsA C hI hG hS hL h1 (qok_t (qok_t h2))) (fun hc => kf a (by rw [if_neg hc] at ha; exact ha) hl p e s m args below meth c D ρ0 ρ H locs lsA C hI hG hS hL h1 (qok_t (qok_t h2)))
theorem r_icmp_eqF {x y : Int32} {off : Int} {tgt : Nat} {β : Type} (F : β → Option α) {zA zB : β} {inst : Decidable (x = y)} (d : decode K.2.1 pc = .ok (.if_icmp .eq off, 3)) (ht : (pc : Int) + off = (tgt : Int)) (kt : SB emb l K M0 (F zA) u tgt M ls st) (kf : SB emb l K M0 (F zB) u (pc + 3) M ls st) : SB emb l K M0 (F (@ite _ (x = y) inst zA zB)) u pc M ls (.inl y :: .inl x :: st) := by
  intro a ha hl p e s m args below meth c D ρ0 ρ H locs lsA C hI hG hS hL h1 h2
  exact lv_icmp_eq C.x C.b d ht (fun hc => kt a (by rw [if_pos hc] at ha; exact ha) hl p e s m args below meth c D ρ0 ρ H locs lsA C hI hG hS hL h1 (qok_t (qok_t h2))) (fun hc => kf a (by rw [if_neg hc] at ha; exact ha) hl p e s m args below meth c D ρ0 ρ H locs lsA C hI hG hS hL h1 (qok_t (qok_t h2)))
theorem r_if_ne {x : Int32} {off : Int} {tgt : Nat} {inst : Decidable (x = 0)} (d : decode K.2.1 pc = .ok (.ifCond .ne off, 3)) (ht : (pc : Int) + off = (tgt : Int)) (kt : SB emb l K M0 B u tgt M ls st) (kf : SB emb l K M0 A u (pc + 3) M ls st) : SB emb l K M0 (@ite _ (x = 0) inst A B) u pc M ls (.inl x :: st) := by
  intro a ha hl p e s m args below meth c D ρ0 ρ H locs lsA C hI hG hS hL h1 h2
  exact lv_if_ne C.x C.b d ht (fun hc => kt a (by rw [if_neg hc] at ha; exact ha) hl p e s m args below meth c D ρ0 ρ H locs lsA C hI hG hS hL h1 (qok_t h2)) (fun hc => kf a (by rw [if_pos hc] at ha; exact ha) hl p e s m args below meth c D ρ0 ρ H locs lsA C hI hG hS hL h1 (qok_t h2))
theorem r_if_neF {x : Int32} {off : Int} {tgt : Nat} {β : Type} (F : β → Option α) {zA zB : β} {inst : Decidable (x = 0)} (d : decode K.2.1 pc = .ok (.ifCond .ne off, 3)) (ht : (pc : Int) + off = (tgt : Int)) (kt : SB emb l K M0 (F zB) u tgt M ls st) (kf : SB emb l K M0 (F zA) u (pc + 3) M ls st) : SB emb l K M0 (F (@ite _ (x = 0) inst zA zB)) u pc M ls (.inl x :: st) := by
  intro a ha hl p e s m args below meth c D ρ0 ρ H locs lsA C hI hG hS hL h1 h2
  exact lv_if_ne C.x C.b d ht (fun hc => kt a (by rw [if_neg hc] at ha; exact ha) hl p e s m args below meth c D ρ0 ρ H locs lsA C hI hG hS hL h1 (qok_t h2)) (fun hc => kf a (by rw [if_pos hc] at ha; exact ha) hl p e s m args below meth c D ρ0 ρ H locs lsA C hI hG hS hL h1 (qok_t h2))
theorem r_icmp_ne {x y : Int32} {off : Int} {tgt : Nat} {inst : Decidable (x = y)} (d : decode K.2.1 pc = .ok (.if_icmp .ne off, 3)) (ht : (pc : Int) + off = (tgt : Int)) (kt : SB emb l K M0 B u tgt M ls st) (kf : SB emb l K M0 A u (pc + 3) M ls st) : SB emb l K M0 (@ite _ (x = y) inst A B) u pc M ls (.inl y :: .inl x :: st) := by
  intro a ha hl p e s m args below meth c D ρ0 ρ H locs lsA C hI hG hS hL h1 h2
  exact lv_icmp_ne C.x C.b d ht (fun hc => kt a (by rw [if_neg hc] at ha; exact ha) hl p e s m args below meth c D ρ0 ρ H locs lsA C hI hG hS hL h1 (qok_t (qok_t h2))) (fun hc => kf a (by rw [if_pos hc] at ha; exact ha) hl p e s m args below meth c D ρ0 ρ H locs lsA C hI hG hS hL h1 (qok_t (qok_t h2)))
theorem r_icmp_neF {x y : Int32} {off : Int} {tgt : Nat} {β : Type} (F : β → Option α) {zA zB : β} {inst : Decidable (x = y)} (d : decode K.2.1 pc = .ok (.if_icmp .ne off, 3)) (ht : (pc : Int) + off = (tgt : Int)) (kt : SB emb l K M0 (F zB) u tgt M ls st) (kf : SB emb l K M0 (F zA) u (pc + 3) M ls st) : SB emb l K M0 (F (@ite _ (x = y) inst zA zB)) u pc M ls (.inl y :: .inl x :: st) := by
  intro a ha hl p e s m args below meth c D ρ0 ρ H locs lsA C hI hG hS hL h1 h2
  exact lv_icmp_ne C.x C.b d ht (fun hc => kt a (by rw [if_neg hc] at ha; exact ha) hl p e s m args below meth c D ρ0 ρ H locs lsA C hI hG hS hL h1 (qok_t (qok_t h2))) (fun hc => kf a (by rw [if_pos hc] at ha; exact ha) hl p e s m args below meth c D ρ0 ρ H locs lsA C hI hG hS hL h1 (qok_t (qok_t h2)))
theorem r_if_lt {x : Int32} {off : Int} {tgt : Nat} {inst : Decidable (x < 0)} (d : decode K.2.1 pc = .ok (.ifCond .lt off, 3)) (ht : (pc : Int) + off = (tgt : Int)) (kt : SB emb l K M0 A u tgt M ls st) (kf : SB emb l K M0 B u (pc + 3) M ls st) : SB emb l K M0 (@ite _ (x < 0) inst A B) u pc M ls (.inl x :: st) := by
  intro a ha hl p e s m args below meth c D ρ0 ρ H locs lsA C hI hG hS hL h1 h2
  exact lv_if_lt C.x C.b d ht (fun hc => kt a (by rw [if_pos hc] at ha; exact ha) hl p e s m args below meth c D ρ0 ρ H locs lsA C hI hG hS hL h1 (qok_t h2)) (fun hc => kf a (by rw [if_neg hc] at ha; exact ha) hl p e s m args below meth c D ρ0 ρ H locs lsA C hI hG hS hL h1 (qok_t h2))
theorem r_if_ltF {x : Int32} {off : Int} {tgt : Nat} {β : Type} (F : β → Option α) {zA zB : β} {inst : Decidable (x < 0)} (d : decode K.2.1 pc = .ok (.ifCond .lt off, 3)) (ht : (pc : Int) + off = (tgt : Int)) (kt : SB emb l K M0 (F zA) u tgt M ls st) (kf : SB emb l K M0 (F zB) u (pc + 3) M ls st) : SB emb l K M0 (F (@ite _ (x < 0) inst zA zB)) u pc M ls (.inl x :: st) := by
  intro a ha hl p e s m args below meth c D ρ0 ρ H locs lsA C hI hG hS hL h1 h2
  exact lv_if_lt C.x C.b d ht (fun hc => kt a (by rw [if_pos hc] at ha; exact ha) hl p e s m args below meth c D ρ0 ρ H locs lsA C hI hG hS hL h1 (qok_t h2)) (fun hc => kf a (by rw [if_neg hc] at ha; exact ha) hl p e s m args below meth c D ρ0 ρ H locs lsA C hI hG hS hL h1 (qok_t h2))
theorem r_icmp_lt {x y : Int32} {off : Int} {tgt : Nat} {inst : Decidable (x < y)} (d : decode K.2.1 pc = .ok (.if_icmp .lt off, 3)) (ht : (pc : Int) + off = (tgt : Int)) (kt : SB emb l K M0 A u tgt M ls st) (kf : SB emb l K M0 B u (pc + 3) M ls st) : SB emb l K M0 (@ite _ (x < y) inst A B) u pc M ls (.inl y :: .inl x :: st) := by
  intro a ha hl p e s m args below meth c D ρ0 ρ H locs lsA C hI hG hS hL h1 h2
  exact lv_icmp_lt C.x C.b d ht (fun hc => kt a (by rw [if_pos hc] at ha; exact ha) hl p e s m args below meth c D ρ0 ρ H locs lsA C hI hG hS hL h1 (qok_t (qok_t h2))) (fun hc => kf a (by rw [if_neg hc] at ha; exact ha) hl p e s m args below meth c D ρ0 ρ H locs lsA C hI hG hS hL h1 (qok_t (qok_t h2)))
theorem r_icmp_ltF {x y : Int32} {off : Int} {tgt : Nat} {β : Type} (F : β → Option α) {zA zB : β} {inst : Decidable (x < y)} (d : decode K.2.1 pc = .ok (.if_icmp .lt off, 3)) (ht : (pc : Int) + off = (tgt : Int)) (kt : SB emb l K M0 (F zA) u tgt M ls st) (kf : SB emb l K M0 (F zB) u (pc + 3) M ls st) : SB emb l K M0 (F (@ite _ (x < y) inst zA zB)) u pc M ls (.inl y :: .inl x :: st) := by
  intro a ha hl p e s m args below meth c D ρ0 ρ H locs lsA C hI hG hS hL h1 h2
  exact lv_icmp_lt C.x C.b d ht (fun hc => kt a (by rw [if_pos hc] at ha; exact ha) hl p e s m args below meth c D ρ0 ρ H locs lsA C hI hG hS hL h1 (qok_t (qok_t h2))) (fun hc => kf a (by rw [if_neg hc] at ha; exact ha) hl p e s m args below meth c D ρ0 ρ H locs lsA C hI hG hS hL h1 (qok_t (qok_t h2)))
theorem r_if_ge {x : Int32} {off : Int} {tgt : Nat} {inst : Decidable (0 ≤ x)} (d : decode K.2.1 pc = .ok (.ifCond .ge off, 3)) (ht : (pc : Int) + off = (tgt : Int)) (kt : SB emb l K M0 A u tgt M ls st) (kf : SB emb l K M0 B u (pc + 3) M ls st) : SB emb l K M0 (@ite _ (0 ≤ x) inst A B) u pc M ls (.inl x :: st) := by
  intro a ha hl p e s m args below meth c D ρ0 ρ H locs lsA C hI hG hS hL h1 h2
  exact lv_if_ge C.x C.b d ht (fun hc => kt a (by rw [if_pos hc] at ha; exact ha) hl p e s m args below meth c D ρ0 ρ H locs lsA C hI hG hS hL h1 (qok_t h2)) (fun hc => kf a (by rw [if_neg hc] at ha; exact ha) hl p e s m args below meth c D ρ0 ρ H locs lsA C hI hG hS hL h1 (qok_t h2))
theorem r_if_geF {x : Int32} {off : Int} {tgt : Nat} {β : Type} (F : β → Option α) {zA zB : β} {inst : Decidable (0 ≤ x)} (d : decode K.2.1 pc = .ok (.ifCond .ge off, 3)) (ht : (pc : Int) + off = (tgt : Int)) (kt : SB emb l K M0 (F zA) u tgt M ls st) (kf : SB emb l K M0 (F zB) u (pc + 3) M ls st) : SB emb l K M0 (F (@ite _ (0 ≤ x) inst zA zB)) u pc M ls (.inl x :: st) := by
  intro a ha hl p e s m args below meth c D ρ0 ρ H locs lsA C hI hG hS hL h1 h2
  exact lv_if_ge C.x C.b d ht (fun hc => kt a (by rw [if_pos hc] at ha; exact ha) hl p e s m args below meth c D ρ0 ρ H locs lsA C hI hG hS hL h1 (qok_t h2)) (fun hc => kf a (by rw [if_neg hc] at ha; exact ha) hl p e s m args below meth c D ρ0 ρ H locs lsA C hI hG hS hL h1 (qok_t h2))
theorem r_icmp_ge {x y : Int32} {off : Int} {tgt : Nat} {inst : Decidable (y ≤ x)} (d : decode K.2.1 pc = .ok (.if_icmp .ge off, 3)) (ht : (pc : Int) + off = (tgt : Int)) (kt : SB emb l K M0 A u tgt M ls st) (kf : SB emb l K M0 B u (pc + 3) M ls st) : SB emb l K M0 (@ite _ (y ≤ x) inst A B) u pc M ls (.inl y :: .inl x :: st) := by
  intro a ha hl p e s m args below meth c D ρ0 ρ H locs lsA C hI hG hS hL h1 h2
  exact lv_icmp_ge C.x C.b d ht (fun hc => kt a (by rw [if_pos hc] at ha; exact ha) hl p e s m args below meth c D ρ0 ρ H locs lsA C hI hG hS hL h1 (qok_t (qok_t h2))) (fun hc => kf a (by rw [if_neg hc] at ha; exact ha) hl p e s m args below meth c D ρ0 ρ H locs lsA C hI hG hS hL h1 (qok_t (qok_t h2)))
theorem r_icmp_geF {x y : Int32} {off : Int} {tgt : Nat} {β : Type} (F : β → Option α) {zA zB : β} {inst : Decidable (y ≤ x)} (d : decode K.2.1 pc = .ok (.if_icmp .ge off, 3)) (ht : (pc : Int) + off = (tgt : Int)) (kt : SB emb l K M0 (F zA) u tgt M ls st) (kf : SB emb l K M0 (F zB) u (pc + 3) M ls st) : SB emb l K M0 (F (@ite _ (y ≤ x) inst zA zB)) u pc M ls (.inl y :: .inl x :: st) := by
  intro a ha hl p e s m args below meth c D ρ0 ρ H locs lsA C hI hG hS hL h1 h2
  exact lv_icmp_ge C.x C.b d ht (fun hc => kt a (by rw [if_pos hc] at ha; exact ha) hl p e s m args below meth c D ρ0 ρ H locs lsA C hI hG hS hL h1 (qok_t (qok_t h2))) (fun hc => kf a (by rw [if_neg hc] at ha; exact ha) hl p e s m args below meth c D ρ0 ρ H locs lsA C hI hG hS hL h1 (qok_t (qok_t h2)))
theorem r_if_gt {x : Int32} {off : Int} {tgt : Nat} {inst : Decidable (0 < x)} (d : decode K.2.1 pc = .ok (.ifCond .gt off, 3)) (ht : (pc : Int) + off = (tgt : Int)) (kt : SB emb l K M0 A u tgt M ls st) (kf : SB emb l K M0 B u (pc + 3) M ls st) : SB emb l K M0 (@ite _ (0 < x) inst A B) u pc M ls (.inl x :: st) := by
  intro a ha hl p e s m args below meth c D ρ0 ρ H locs lsA C hI hG hS hL h1 h2
  exact lv_if_gt C.x C.b d ht (fun hc => kt a (by rw [if_pos hc] at ha; exact ha) hl p e s m args below meth c D ρ0 ρ H locs lsA C hI hG hS hL h1 (qok_t h2)) (fun hc => kf a (by rw [if_neg hc] at ha; exact ha) hl p e s m args below meth c D ρ0 ρ H locs lsA C hI hG hS hL h1 (qok_t h2))
theorem r_if_gtF {x : Int32} {off : Int} {tgt : Nat} {β : Type} (F : β → Option α) {zA zB : β} {inst : Decidable (0 < x)} (d : decode K.2.1 pc = .ok (.ifCond .gt off, 3)) (ht : (pc : Int) + off = (tgt : Int)) (kt : SB emb l K M0 (F zA) u tgt M ls st) (kf : SB emb l K M0 (F zB) u (pc + 3) M ls st) : SB emb l K M0 (F (@ite _ (0 < x) inst zA zB)) u pc M ls (.inl x :: st) := by
  intro a ha hl p e s m args below meth c D ρ0 ρ H locs lsA C hI hG hS hL h1 h2
  exact lv_if_gt C.x C.b d ht (fun hc => kt a (by rw [if_pos hc] at ha; exact ha) hl p e s m args below meth c D ρ0 ρ H locs lsA C hI hG hS hL h1 (qok_t h2)) (fun hc => kf a (by rw [if_neg hc] at ha; exact ha) hl p e s m args below meth c D ρ0 ρ H locs lsA C hI hG hS hL h1 (qok_t h2))
theorem r_icmp_gt {x y : Int32} {off : Int} {tgt : Nat} {inst : Decidable (y < x)} (d : decode K.2.1 pc = .ok (.if_icmp .gt off, 3)) (ht : (pc : Int) + off = (tgt : Int)) (kt : SB emb l K M0 A u tgt M ls st) (kf : SB emb l K M0 B u (pc + 3) M ls st) : SB emb l K M0 (@ite _ (y < x) inst A B) u pc M ls (.inl y :: .inl x :: st) := by
  intro a ha hl p e s m args below meth c D ρ0 ρ H locs lsA C hI hG hS hL h1 h2
  exact lv_icmp_gt C.x C.b d ht (fun hc => kt a (by rw [if_pos hc] at ha; exact ha) hl p e s m args below meth c D ρ0 ρ H locs lsA C hI hG hS hL h1 (qok_t (qok_t h2))) (fun hc => kf a (by rw [if_neg hc] at ha; exact ha) hl p e s m args below meth c D ρ0 ρ H locs lsA C hI hG hS hL h1 (qok_t (qok_t h2)))
theorem r_icmp_gtF {x y : Int32} {off : Int} {tgt : Nat} {β : Type} (F : β → Option α) {zA zB : β} {inst : Decidable (y < x)} (d : decode K.2.1 pc = .ok (.if_icmp .gt off, 3)) (ht : (pc : Int) + off = (tgt : Int)) (kt : SB emb l K M0 (F zA) u tgt M ls st) (kf : SB emb l K M0 (F zB) u (pc + 3) M ls st) : SB emb l K M0 (F (@ite _ (y < x) inst zA zB)) u pc M ls (.inl y :: .inl x :: st) := by
  intro a ha hl p e s m args below meth c D ρ0 ρ H locs lsA C hI hG hS hL h1 h2
  exact lv_icmp_gt C.x C.b d ht (fun hc => kt a (by rw [if_pos hc] at ha; exact ha) hl p e s m args below meth c D ρ0 ρ H locs lsA C hI hG hS hL h1 (qok_t (qok_t h2))) (fun hc => kf a (by rw [if_neg hc] at ha; exact ha) hl p e s m args below meth c D ρ0 ρ H locs lsA C hI hG hS hL h1 (qok_t (qok_t h2)))
theorem r_if_le {x : Int32} {off : Int} {tgt : Nat} {inst : Decidable (x ≤ 0)} (d : decode K.2.1 pc = .ok (.ifCond .le off, 3)) (ht : (pc : Int) + off = (tgt : Int)) (kt : SB emb l K M0 A u tgt M ls st) (kf : SB emb l K M0 B u (pc + 3) M ls st) : SB emb l K M0 (@ite _ (x ≤ 0) inst A B) u pc M ls (.inl x :: st) := by
  intro a ha hl p e s m args below meth c D ρ0 ρ H locs lsA C hI hG hS hL h1 h2
  exact lv_if_le C.x C.b d ht (fun hc => kt a (by rw [if_pos hc] at ha; exact ha) hl p e s m args below meth c D ρ0 ρ H locs lsA C hI hG hS hL h1 (qok_t h2)) (fun hc => kf a (by rw [if_neg hc] at ha; exact ha) hl p e s m args below meth c D ρ0 ρ H locs lsA C hI hG hS hL h1 (qok_t h2))
theorem r_if_leF {x : Int32} {off : Int} {tgt : Nat} {β : Type} (F : β → Option α) {zA zB : β} {inst : Decidable (x ≤ 0)} (d : decode K.2.1 pc = .ok (.ifCond .le off, 3)) (ht : (pc : Int) + off = (tgt : Int)) (kt : SB emb l K M0 (F zA) u tgt M ls st) (kf : SB emb l K M0 (F zB) u (pc + 3) M ls st) : SB emb l K M0 (F (@ite _ (x ≤ 0) inst zA zB)) u pc M ls (.inl x :: st) := by
  intro a ha hl p e s m args below meth c D ρ0 ρ H locs lsA C hI hG hS hL h1 h2
  exact lv_if_le C.x C.b d ht (fun hc => kt a (by rw [if_pos hc] at ha; exact ha) hl p e s m args below meth c D ρ0 ρ H locs lsA C hI hG hS hL h1 (qok_t h2)) (fun hc => kf a (by rw [if_neg hc] at ha; exact ha) hl p e s m args below meth c D ρ0 ρ H locs lsA C hI hG hS hL h1 (qok_t h2))
theorem r_icmp_le {x y : Int32} {off : Int} {tgt : Nat} {inst : Decidable (x ≤ y)} (d : decode K.2.1 pc = .ok (.if_icmp .le off, 3)) (ht : (pc : Int) + off = (tgt : Int)) (kt : SB emb l K M0 A u tgt M ls st) (kf : SB emb l K M0 B u (pc + 3) M ls st) : SB emb l K M0 (@ite _ (x ≤ y) inst A B) u pc M ls (.inl y :: .inl x :: st) := by
  intro a ha hl p e s m args below meth c D ρ0 ρ H locs lsA C hI hG hS hL h1 h2
  exact lv_icmp_le C.x C.b d ht (fun hc => kt a (by rw [if_pos hc] at ha; exact ha) hl p e s m args below meth c D ρ0 ρ H locs lsA C hI hG hS hL h1 (qok_t (qok_t h2))) (fun hc => kf a (by rw [if_neg hc] at ha; exact ha) hl p e s m args below meth c D ρ0 ρ H locs lsA C hI hG hS hL h1 (qok_t (qok_t h2)))
theorem r_icmp_leF {x y : Int32} {off : Int} {tgt : Nat} {β : Type} (F : β → Option α) {zA zB : β} {inst : Decidable (x ≤ y)} (d : decode K.2.1 pc = .ok (.if_icmp .le off, 3)) (ht : (pc : Int) + off = (tgt : Int)) (kt : SB emb l K M0 (F zA) u tgt M ls st) (kf : SB emb l K M0 (F zB) u (pc + 3) M ls st) : SB emb l K M0 (F (@ite _ (x ≤ y) inst zA zB)) u pc M ls (.inl y :: .inl x :: st) := by
  intro a ha hl p e s m args below meth c D ρ0 ρ H locs lsA C hI hG hS hL h1 h2
  exact lv_icmp_le C.x C.b d ht (fun hc => kt a (by rw [if_pos hc] at ha; exact ha) hl p e s m args below meth c D ρ0 ρ H locs lsA C hI hG hS hL h1 (qok_t (qok_t h2))) (fun hc => kf a (by rw [if_neg hc] at ha; exact ha) hl p e s m args below meth c D ρ0 ρ H locs lsA C hI hG hS hL h1 (qok_t (qok_t h2)))
theorem r_goto {off : Int} {tgt : Nat} (d : decode K.2.1 pc = .ok (.goto off, 3)) (ht : (pc : Int) + off = (tgt : Int)) (kk : SB emb l K M0 t u tgt M ls st) : SB emb l K M0 t u pc M ls st := by
  intro a ha hl p e s m args below meth c D ρ0 ρ H locs lsA C hI hG hS hL h1 h2
  exact lv_goto C.x C.b d ht (kk a ha hl p e s m args below meth c D ρ0 ρ H locs lsA C hI hG hS hL h1 h2)
theorem r_ifnull {r : QR} {off : Int} {tgt : Nat} {inst : Decidable (r = none)} (d : decode K.2.1 pc = .ok (.ifnull off, 3)) (ht : (pc : Int) + off = (tgt : Int)) (kt : SB emb l K M0 A u tgt M ls st) (kf : SB emb l K M0 B u (pc + 3) M ls st) : SB emb l K M0 (@ite _ (r = none) inst A B) u pc M ls (.inr r :: st) := by
  intro a ha hl p e s m args below meth c D ρ0 ρ H locs lsA C hI hG hS hL h1 h2
  cases r with
  | none =>
    rw [if_pos rfl] at ha
    exact lv_ifnullN C.x C.b d ht (kt a ha hl p e s m args below meth c D ρ0 ρ H locs lsA C hI hG hS hL h1 (qok_t h2))
  | some q =>
    rw [if_neg (fun z => by cases z)] at ha
    exact lv_ifnull C.x C.b d (kf a ha hl p e s m args below meth c D ρ0 ρ H locs lsA C hI hG hS hL h1 (qok_t h2))
theorem r_ifnonnull {r : QR} {off : Int} {tgt : Nat} {inst : Decidable (r = none)} (d : decode K.2.1 pc = .ok (.ifnonnull off, 3)) (ht : (pc : Int) + off = (tgt : Int)) (kt : SB emb l K M0 B u tgt M ls st) (kf : SB emb l K M0 A u (pc + 3) M ls st) : SB emb l K M0 (@ite _ (r = none) inst A B) u pc M ls (.inr r :: st) := by
  intro a ha hl p e s m args below meth c D ρ0 ρ H locs lsA C hI hG hS hL h1 h2
  cases r with
  | none =>
    rw [if_pos rfl] at ha
    exact lv_ifnonnullN C.x C.b d (kf a ha hl p e s m args below meth c D ρ0 ρ H locs lsA C hI hG hS hL h1 (qok_t h2))
  | some q =>
    rw [if_neg (fun z => by cases z)] at ha
    exact lv_ifnonnull C.x C.b d ht (kt a ha hl p e s m args below meth c D ρ0 ρ H locs lsA C hI hG hS hL h1 (qok_t h2))
theorem qend {D : QD} {ρ0 ρ : QN → Nat} {M' : QM} {s : State} {H : Heap} {locs : List Loc} {v : Option QV} {args : Array Value} (hI : qI D ρ M' H) (hG : qG s.heap.size ρ0 M0 ρ M') (hS : va_S (qA s.heap.size ρ0 M0) s.heap H locs) (hv : ∀ w, v = some w → qok M' w) (T : State) (hT : T.heap = H) : qQ D s.heap.size ρ0 M0 (.inl v) M' args s (.returned (v.map (qv ρ))) T :=
  ⟨v, ρ, rfl, rfl, by rw [hT]; exact hI, hG, hv, hS.F hT⟩
theorem b_iret {x : Int32} (d : decode K.2.1 pc = .ok (.ireturn, 1)) (hr : K.2.2.2.1 = some .int) (hu : u.1 ≤ K.rm.cells ∧ u.2 ≤ K.rm.slots) : BW l K M0 (.inl (some (.inl x))) M u pc M ls [.inl x] := by
  intro hl p e s m args below meth c D ρ0 ρ H locs lsA C hI hG hS hL h1 h2
  refine vx_ret (W.widen hu.1 hu.2 ?_)
  exact W.iret C.x C.b (C.r.trans hr) (fun T hT _ => qend (v := some (.inl x)) hI hG hS (fun w z => by cases z; exact qok_int) T hT) hS.2.2 d C.lk
theorem b_zret {x : Int32} {ty : FieldType} (d : decode K.2.1 pc = .ok (.ireturn, 1)) (hr : K.2.2.2.1 = some ty) (hn : narrow ty (.int x) = .int x) (hu : u.1 ≤ K.rm.cells ∧ u.2 ≤ K.rm.slots) : BW l K M0 (.inl (some (.inl x))) M u pc M ls [.inl x] := by
  intro hl p e s m args below meth c D ρ0 ρ H locs lsA C hI hG hS hL h1 h2
  refine vx_ret (W.widen hu.1 hu.2 ?_)
  exact W.zret C.x C.b (C.r.trans hr) hn (fun T hT _ => qend (v := some (.inl x)) hI hG hS (fun w z => by cases z; exact qok_int) T hT) hS.2.2 d C.lk
theorem b_zretP {x : Int32} {ty : FieldType} (d : decode K.2.1 pc = .ok (.ireturn, 1)) (hr : K.2.2.2.1 = some ty) (hn : narrow ty (.int x) = .int x) (hu : u.1 ≤ K.rm.cells ∧ u.2 ≤ K.rm.slots) (hM : ∀ q, M0.2 q ≠ none → M.2 q = M0.2 q) : BW l K M0 (.inl (some (.inl x))) M0 u pc M ls [.inl x] := by
  intro hl p e s m args below meth c D ρ0 ρ H locs lsA C hI hG hS hL h1 h2
  refine vx_ret (W.widen hu.1 hu.2 ?_)
  exact W.zret C.x C.b (C.r.trans hr) hn (fun T hT _ => qend (v := some (.inl x)) (hI.back hG C.P.2.1 hM) qG.rf hS (fun w z => by cases z; exact qok_int) T hT) hS.2.2 d C.lk
theorem b_vret (d : decode K.2.1 pc = .ok (.return_, 1)) (hr : K.2.2.2.1 = none) (hu : u.1 ≤ K.rm.cells ∧ u.2 ≤ K.rm.slots) : BW l K M0 (.inl none) M u pc M ls [] := by
  intro hl p e s m args below meth c D ρ0 ρ H locs lsA C hI hG hS hL h1 h2
  refine vx_ret (W.widen hu.1 hu.2 ?_)
  exact W.vret C.x C.b (C.r.trans hr) (fun T hT _ => qend (v := none) hI hG hS (fun w z => by cases z) T hT) hS.2.2 d C.lk
theorem b_aret {r : QR} {rt : FieldType} (d : decode K.2.1 pc = .ok (.areturn, 1)) (hr : K.2.2.2.1 = some rt) (hrt : (∃ n, rt = .object n) ∨ ∃ t, rt = .array t) (hu : u.1 ≤ K.rm.cells ∧ u.2 ≤ K.rm.slots) : BW l K M0 (.inl (some (.inr r))) M u pc M ls [.inr r] := by
  intro hl p e s m args below meth c D ρ0 ρ H locs lsA C hI hG hS hL h1 h2
  refine vx_ret (W.widen hu.1 hu.2 ?_)
  refine W.aret (v := qv ρ (.inr r)) C.x C.b (C.r.trans hr) hrt ?_ (fun T hT _ => qend (v := some (.inr r)) hI hG hS (fun w z => by cases z; exact qok_h h2) T hT) hS.2.2 d C.lk
  cases r with
  | none => exact Or.inl rfl
  | some q => exact Or.inr ⟨_, rfl⟩
theorem r_iretI {x : Int32} (d : decode K.2.1 pc = .ok (.ireturn, 1)) (hr : K.2.2.2.1 = some .int) (hu : u.1 ≤ K.rm.cells ∧ u.2 ≤ K.rm.slots) : SB eI l K M0 (some (x, M)) u pc M ls [.inl x] := fun a ha => by cases ha; exact b_iret d hr hu
theorem r_iretP {x : Int32} (d : decode K.2.1 pc = .ok (.ireturn, 1)) (hr : K.2.2.2.1 = some .int) (hu : u.1 ≤ K.rm.cells ∧ u.2 ≤ K.rm.slots) : SB (eP M) l K M (some x) u pc M ls [.inl x] := fun a ha => by cases ha; exact b_iret d hr hu
theorem r_iretX {x : Int32} (d : decode K.2.1 pc = .ok (.ireturn, 1)) (hr : K.2.2.2.1 = some .int) (hu : u.1 ≤ K.rm.cells ∧ u.2 ≤ K.rm.slots) : SB eXI l K M0 (some (.inl x, M)) u pc M ls [.inl x] := fun a ha => by cases ha; exact b_iret d hr hu
/-- only cells that are gone were made: the memory is the entry's -/
noncomputable def qpure (M0 M : QM) (x : α) : Option α := @ite _ (∀ q, M0.2 q ≠ none → M.2 q = M0.2 q) (Classical.propDecidable _) (some x) none
theorem qpure_some {M0 M : QM} {x : α} (h : ∀ q, M0.2 q ≠ none → M.2 q = M0.2 q) : qpure M0 M x = some x := by unfold qpure; rw [if_pos h]
theorem qpure_self {M : QM} {x : α} : qpure M M x = some x := qpure_some fun _ _ => rfl
theorem qpure_inv {M0 M : QM} {x a : α} (h : qpure M0 M x = some a) : (∀ q, M0.2 q ≠ none → M.2 q = M0.2 q) ∧ a = x := by
  unfold qpure at h
  by_cases hc : ∀ q, M0.2 q ≠ none → M.2 q = M0.2 q
  · rw [if_pos hc] at h; cases h; exact ⟨hc, rfl⟩
  · rw [if_neg hc] at h; cases h
theorem r_iretPP {x : Int32} (d : decode K.2.1 pc = .ok (.ireturn, 1)) (hr : K.2.2.2.1 = some .int) (hu : u.1 ≤ K.rm.cells ∧ u.2 ≤ K.rm.slots) : SB (eP M0) l K M0 (qpure M0 M x) u pc M ls [.inl x] := fun a ha => by
  obtain ⟨h1, rfl⟩ := qpure_inv ha
  exact b_zretP d hr rfl hu h1
def qnar (ty : FieldType) (x : Int32) (k : Option α) : Option α := if vp_nar ty x = x then k else none
theorem qnar_ok {ty : FieldType} {x : Int32} (hty : ty = .boolean ∨ ty = .byte ∨ ty = .char ∨ ty = .short) (h : vp_nar ty x = x) : narrow ty (.int x) = .int x := by
  rcases hty with rfl | rfl | rfl | rfl
  · exact congrArg Value.int h
  · exact congrArg Value.int h
  · exact congrArg Value.int h
  · exact congrArg Value.int h
theorem qnar_inv {ty : FieldType} {x : Int32} {k : Option α} {a : α} (h : qnar ty x k = some a) : vp_nar ty x = x ∧ k = some a := by
  unfold qnar at h
  by_cases hc : vp_nar ty x = x
  · rw [if_pos hc] at h; exact ⟨hc, h⟩
  · rw [if_neg hc] at h; cases h
theorem r_zretI {x : Int32} {ty : FieldType} (d : decode K.2.1 pc = .ok (.ireturn, 1)) (hr : K.2.2.2.1 = some ty) (hn : narrow ty (.int x) = .int x) (hu : u.1 ≤ K.rm.cells ∧ u.2 ≤ K.rm.slots) : SB eI l K M0 (some (x, M)) u pc M ls [.inl x] := fun a ha => by cases ha; exact b_zret d hr hn hu
theorem r_zretP {x : Int32} {ty : FieldType} (d : decode K.2.1 pc = .ok (.ireturn, 1)) (hr : K.2.2.2.1 = some ty) (hn : narrow ty (.int x) = .int x) (hu : u.1 ≤ K.rm.cells ∧ u.2 ≤ K.rm.slots) : SB (eP M) l K M (some x) u pc M ls [.inl x] := fun a ha => by cases ha; exact b_zret d hr hn hu
theorem r_zretX {x : Int32} {ty : FieldType} (d : decode K.2.1 pc = .ok (.ireturn, 1)) (hr : K.2.2.2.1 = some ty) (hn : narrow ty (.int x) = .int x) (hu : u.1 ≤ K.rm.cells ∧ u.2 ≤ K.rm.slots) : SB eXI l K M0 (some (.inl x, M)) u pc M ls [.inl x] := fun a ha => by cases ha; exact b_zret d hr hn hu
theorem r_nretI {x : Int32} {ty : FieldType} (d : decode K.2.1 pc = .ok (.ireturn, 1)) (hr : K.2.2.2.1 = some ty) (hty : ty = .boolean ∨ ty = .byte ∨ ty = .char ∨ ty = .short) (hu : u.1 ≤ K.rm.cells ∧ u.2 ≤ K.rm.slots) : SB eI l K M0 (qnar ty x (some (x, M))) u pc M ls [.inl x] := fun a ha => by
  obtain ⟨h1, h2⟩ := qnar_inv ha
  cases h2; exact b_zret d hr (qnar_ok hty h1) hu
theorem r_nretP {x : Int32} {ty : FieldType} (d : decode K.2.1 pc = .ok (.ireturn, 1)) (hr : K.2.2.2.1 = some ty) (hty : ty = .boolean ∨ ty = .byte ∨ ty = .char ∨ ty = .short) (hu : u.1 ≤ K.rm.cells ∧ u.2 ≤ K.rm.slots) : SB (eP M) l K M (qnar ty x (some x)) u pc M ls [.inl x] := fun a ha => by
  obtain ⟨h1, h2⟩ := qnar_inv ha
  cases h2; exact b_zret d hr (qnar_ok hty h1) hu
theorem r_nretX {x : Int32} {ty : FieldType} (d : decode K.2.1 pc = .ok (.ireturn, 1)) (hr : K.2.2.2.1 = some ty) (hty : ty = .boolean ∨ ty = .byte ∨ ty = .char ∨ ty = .short) (hu : u.1 ≤ K.rm.cells ∧ u.2 ≤ K.rm.slots) : SB eXI l K M0 (qnar ty x (some (.inl x, M))) u pc M ls [.inl x] := fun a ha => by
  obtain ⟨h1, h2⟩ := qnar_inv ha
  cases h2; exact b_zret d hr (qnar_ok hty h1) hu
theorem r_vretV (d : decode K.2.1 pc = .ok (.return_, 1)) (hr : K.2.2.2.1 = none) (hu : u.1 ≤ K.rm.cells ∧ u.2 ≤ K.rm.slots) : SB eV l K M0 (some M) u pc M ls [] := fun a ha => by cases ha; exact b_vret d hr hu
theorem r_vretU (d : decode K.2.1 pc = .ok (.return_, 1)) (hr : K.2.2.2.1 = none) (hu : u.1 ≤ K.rm.cells ∧ u.2 ≤ K.rm.slots) : SB (eU M) l K M (some ()) u pc M ls [] := fun a ha => by cases ha; exact b_vret d hr hu
theorem r_vretX (d : decode K.2.1 pc = .ok (.return_, 1)) (hr : K.2.2.2.1 = none) (hu : u.1 ≤ K.rm.cells ∧ u.2 ≤ K.rm.slots) : SB eXV l K M0 (some (.inl (), M)) u pc M ls [] := fun a ha => by cases ha; exact b_vret d hr hu
theorem r_aretR {r : QR} {rt : FieldType} (d : decode K.2.1 pc = .ok (.areturn, 1)) (hr : K.2.2.2.1 = some rt) (hrt : (∃ n, rt = .object n) ∨ ∃ t, rt = .array t) (hu : u.1 ≤ K.rm.cells ∧ u.2 ≤ K.rm.slots) : SB eR l K M0 (some (r, M)) u pc M ls [.inr r] := fun a ha => by cases ha; exact b_aret d hr hrt hu
theorem r_aretO {r : QR} {rt : FieldType} (d : decode K.2.1 pc = .ok (.areturn, 1)) (hr : K.2.2.2.1 = some rt) (hrt : (∃ n, rt = .object n) ∨ ∃ t, rt = .array t) (hu : u.1 ≤ K.rm.cells ∧ u.2 ≤ K.rm.slots) : SB (eO M) l K M (some r) u pc M ls [.inr r] := fun a ha => by cases ha; exact b_aret d hr hrt hu
theorem r_aretX {r : QR} {rt : FieldType} (d : decode K.2.1 pc = .ok (.areturn, 1)) (hr : K.2.2.2.1 = some rt) (hrt : (∃ n, rt = .object n) ∨ ∃ t, rt = .array t) (hu : u.1 ≤ K.rm.cells ∧ u.2 ≤ K.rm.slots) : SB eXR l K M0 (some (.inl r, M)) u pc M ls [.inr r] := fun a ha => by cases ha; exact b_aret d hr hrt hu
end QR1
