/-! rows: an instruction at a heap as the picture has it -/
set_option maxRecDepth 100000
/-! branches of what is computed -/
theorem g_ift {α : Type} {c : Prop} [Decidable c] {a b : Option α} {R : α} (hc : c) (h : (if c then a else b) = some R) : a = some R := (if_pos hc).symm.trans h
theorem g_iff {α : Type} {c : Prop} [Decidable c] {a b : Option α} {R : α} (hc : ¬ c) (h : (if c then a else b) = some R) : b = some R := (if_neg hc).symm.trans h
theorem g_bnd {α β : Type} {x : Option α} {f : α → Option β} {R : β} (h : x.bind f = some R) : ∃ a, x = some a ∧ f a = some R := Option.bind_eq_some_iff.mp h
theorem g_no {α : Type} {R : α} {P : Prop} (h : (none : Option α) = some R) : P := nomatch h
section GROW
variable {p : Program} {l : Launch} {e : Env} {R : Room} {s : State} {m : MethodId} {args : Array Value} {below : List Frame} {meth : Method} {c : Code} {H : Heap} {locs : List Loc} {cells slots : Nat} {Q : State → Prop}
variable {cc : ByteArray} {pc nL : Nat} {ls : Array Slot} {rest : List Value} {E : g_E} {D : g_D} {G : g_G} {own nm : String} {ret : Option FieldType} {F Lc : Nat}
theorem W.tight {g : JFrame} {k n : Nat} (hk : H.size ≤ s.heap.size + k) (hn : ghsl H ≤ ghsl s.heap + n) (kk : W p l e R s m args below meth c H locs k n Q g) : W p l e R s m args below meth c H locs cells slots Q g := by
  intro T hT X
  exact kk T hT { X with same := g_same X.same (by show T.heap.size ≤ _; rw [hT]; exact hk) (by show ghsl T.heap ≤ _; rw [hT]; exact hn) }
theorem W.gtight {g : JFrame} (hS : gSt E D G H locs) (kk : W p l e R s m args below meth c H locs (gsz G - s.heap.size) (gsl G - ghsl s.heap) Q g) : W p l e R s m args below meth c H locs cells slots Q g :=
  W.tight (by rw [hS.1.1]; omega) (by rw [hS.1.2.1]; omega) kk
/-! locals -/
theorem g_iload_n (hx : p.tables.exec = Jvm.exec) (hb : c.code = cc) {l0 : List (Nat × g_v)} (hl : gls ls nL l0) (k : Nat) {j : Fin 4} {x : Int32} (hk : l0[k]? = some ((j : Nat), .inl x)) (hdg : decode cc pc = .ok (.iload_n j, 1))
    (kk : W p l e R s m args below meth c H locs cells slots Q (F0 m (pc + 1) ls (.int x :: rest))) : W p l e R s m args below meth c H locs cells slots Q (F0 m pc ls rest) := lv_iload_n hx hb hdg rfl (gls_at hl k hk) kk
theorem g_iload (hx : p.tables.exec = Jvm.exec) (hb : c.code = cc) {l0 : List (Nat × g_v)} (hl : gls ls nL l0) (k : Nat) {j : Nat} {x : Int32} (hk : l0[k]? = some (j, .inl x)) (hdg : decode cc pc = .ok (.iload j, 2))
    (kk : W p l e R s m args below meth c H locs cells slots Q (F0 m (pc + 2) ls (.int x :: rest))) : W p l e R s m args below meth c H locs cells slots Q (F0 m pc ls rest) := lv_iload hx hb hdg (gls_at hl k hk) kk
theorem g_lload_n (hx : p.tables.exec = Jvm.exec) (hb : c.code = cc) {l0 : List (Nat × g_v)} (hl : gls ls nL l0) (k : Nat) {j : Fin 4} {x : Int64} (hk : l0[k]? = some ((j : Nat), .inr (.inl x))) (hdg : decode cc pc = .ok (.lload_n j, 1))
    (kk : W p l e R s m args below meth c H locs cells slots Q (F0 m (pc + 1) ls (.long x :: rest))) : W p l e R s m args below meth c H locs cells slots Q (F0 m pc ls rest) := lv_lload_n hx hb hdg rfl (gls_at hl k hk) kk
theorem g_lload (hx : p.tables.exec = Jvm.exec) (hb : c.code = cc) {l0 : List (Nat × g_v)} (hl : gls ls nL l0) (k : Nat) {j : Nat} {x : Int64} (hk : l0[k]? = some (j, .inr (.inl x))) (hdg : decode cc pc = .ok (.lload j, 2))
    (kk : W p l e R s m args below meth c H locs cells slots Q (F0 m (pc + 2) ls (.long x :: rest))) : W p l e R s m args below meth c H locs cells slots Q (F0 m pc ls rest) := lv_lload hx hb hdg (gls_at hl k hk) kk
theorem g_aload_n (hx : p.tables.exec = Jvm.exec) (hb : c.code = cc) {l0 : List (Nat × g_v)} (hl : gls ls nL l0) (k : Nat) {j : Fin 4} {r : Option Nat} (hk : l0[k]? = some ((j : Nat), .inr (.inr r))) (hdg : decode cc pc = .ok (.aload_n j, 1))
    (kk : W p l e R s m args below meth c H locs cells slots Q (F0 m (pc + 1) ls (va_rf r :: rest))) : W p l e R s m args below meth c H locs cells slots Q (F0 m pc ls rest) := by
  have h := gls_at hl k hk
  cases r with
  | none => exact lv_aload_nN hx hb hdg rfl h kk
  | some a => exact lv_aload_n hx hb hdg rfl h kk
theorem g_aload (hx : p.tables.exec = Jvm.exec) (hb : c.code = cc) {l0 : List (Nat × g_v)} (hl : gls ls nL l0) (k : Nat) {j : Nat} {r : Option Nat} (hk : l0[k]? = some (j, .inr (.inr r))) (hdg : decode cc pc = .ok (.aload j, 2))
    (kk : W p l e R s m args below meth c H locs cells slots Q (F0 m (pc + 2) ls (va_rf r :: rest))) : W p l e R s m args below meth c H locs cells slots Q (F0 m pc ls rest) := by
  have h := gls_at hl k hk
  cases r with
  | none => exact lv_aloadN hx hb hdg h kk
  | some a => exact lv_aload hx hb hdg h kk
theorem gls_st {ls : Array Slot} {nL i : Nat} {v : g_v} {l0 l1 : List (Nat × g_v)} (hl : (i, v) :: gfil i l0 = l1) : (i, gvv v) :: (l0.map fun q => (q.1, gvv q.2)).filter (fun q => !(q.1 == i) && !(q.1 + 1 == i && q.2.category == 2)) = l1.map fun q => (q.1, gvv q.2) := by
  subst hl
  rw [gfil_eq]
  rfl
theorem gls_st2 {ls : Array Slot} {nL i : Nat} {v : g_v} {l0 l1 : List (Nat × g_v)} (hl : (i, v) :: gfil2 i l0 = l1) : (i, gvv v) :: (l0.map fun q => (q.1, gvv q.2)).filter (fun q => !(q.1 == i) && (!(q.1 == i + 1) && !(q.1 + 1 == i && q.2.category == 2))) = l1.map fun q => (q.1, gvv q.2) := by
  subst hl
  rw [gfil2_eq]
  rfl
theorem g_istore_n (hx : p.tables.exec = Jvm.exec) (hb : c.code = cc) {l0 l1 : List (Nat × g_v)} (hl : gls ls nL l0) {j : Fin 4} {x : Int32} (hn : (j : Nat) < nL) (h1 : ((j : Nat), .inl x) :: gfil (j : Nat) l0 = l1) (hdg : decode cc pc = .ok (.istore_n j, 1))
    (kk : ∀ ls : Array Slot, gls ls nL l1 → W p l e R s m args below meth c H locs cells slots Q (F0 m (pc + 1) ls rest)) : W p l e R s m args below meth c H locs cells slots Q (F0 m pc ls (.int x :: rest)) := lv_istore_n hx hb hdg rfl hl hn (gls_st (ls := ls) (nL := nL) h1) kk
theorem g_istore (hx : p.tables.exec = Jvm.exec) (hb : c.code = cc) {l0 l1 : List (Nat × g_v)} (hl : gls ls nL l0) {j : Nat} {x : Int32} (hn : j < nL) (h1 : (j, .inl x) :: gfil j l0 = l1) (hdg : decode cc pc = .ok (.istore j, 2))
    (kk : ∀ ls : Array Slot, gls ls nL l1 → W p l e R s m args below meth c H locs cells slots Q (F0 m (pc + 2) ls rest)) : W p l e R s m args below meth c H locs cells slots Q (F0 m pc ls (.int x :: rest)) := lv_istore hx hb hdg hl hn (gls_st (ls := ls) (nL := nL) h1) kk
theorem g_lstore_n (hx : p.tables.exec = Jvm.exec) (hb : c.code = cc) {l0 l1 : List (Nat × g_v)} (hl : gls ls nL l0) {j : Fin 4} {x : Int64} (hn : (j : Nat) + 1 < nL) (h1 : ((j : Nat), .inr (.inl x)) :: gfil2 (j : Nat) l0 = l1) (hdg : decode cc pc = .ok (.lstore_n j, 1))
    (kk : ∀ ls : Array Slot, gls ls nL l1 → W p l e R s m args below meth c H locs cells slots Q (F0 m (pc + 1) ls rest)) : W p l e R s m args below meth c H locs cells slots Q (F0 m pc ls (.long x :: rest)) := lv_lstore_n hx hb hdg rfl hl hn (gls_st2 (ls := ls) (nL := nL) h1) kk
theorem g_lstore (hx : p.tables.exec = Jvm.exec) (hb : c.code = cc) {l0 l1 : List (Nat × g_v)} (hl : gls ls nL l0) {j : Nat} {x : Int64} (hn : j + 1 < nL) (h1 : (j, .inr (.inl x)) :: gfil2 j l0 = l1) (hdg : decode cc pc = .ok (.lstore j, 2))
    (kk : ∀ ls : Array Slot, gls ls nL l1 → W p l e R s m args below meth c H locs cells slots Q (F0 m (pc + 2) ls rest)) : W p l e R s m args below meth c H locs cells slots Q (F0 m pc ls (.long x :: rest)) := lv_lstore hx hb hdg hl hn (gls_st2 (ls := ls) (nL := nL) h1) kk
theorem g_astore_n (hx : p.tables.exec = Jvm.exec) (hb : c.code = cc) {l0 l1 : List (Nat × g_v)} (hl : gls ls nL l0) {j : Fin 4} {r : Option Nat} (hn : (j : Nat) < nL) (h1 : ((j : Nat), .inr (.inr r)) :: gfil (j : Nat) l0 = l1) (hdg : decode cc pc = .ok (.astore_n j, 1))
    (kk : ∀ ls : Array Slot, gls ls nL l1 → W p l e R s m args below meth c H locs cells slots Q (F0 m (pc + 1) ls rest)) : W p l e R s m args below meth c H locs cells slots Q (F0 m pc ls (va_rf r :: rest)) := by
  have h := gls_st (ls := ls) (nL := nL) h1
  cases r with
  | none => exact lv_astore_nN hx hb hdg rfl hl hn h kk
  | some a => exact lv_astore_n hx hb hdg rfl hl hn h kk
theorem g_astore (hx : p.tables.exec = Jvm.exec) (hb : c.code = cc) {l0 l1 : List (Nat × g_v)} (hl : gls ls nL l0) {j : Nat} {r : Option Nat} (hn : j < nL) (h1 : (j, .inr (.inr r)) :: gfil j l0 = l1) (hdg : decode cc pc = .ok (.astore j, 2))
    (kk : ∀ ls : Array Slot, gls ls nL l1 → W p l e R s m args below meth c H locs cells slots Q (F0 m (pc + 2) ls rest)) : W p l e R s m args below meth c H locs cells slots Q (F0 m pc ls (va_rf r :: rest)) := by
  have h := gls_st (ls := ls) (nL := nL) h1
  cases r with
  | none => exact lv_astoreN hx hb hdg hl hn h kk
  | some a => exact lv_astore hx hb hdg hl hn h kk
theorem g_iinc (hx : p.tables.exec = Jvm.exec) (hb : c.code = cc) {l0 l1 : List (Nat × g_v)} (hl : gls ls nL l0) {j k : Nat} {n : Int} {x v : Int32} (hk : l0[k]? = some (j, .inl x)) (hv : x + Int32.ofInt n = v) (hn : j < nL) (h1 : (j, .inl v) :: gfil j l0 = l1) (hdg : decode cc pc = .ok (.iinc j n, 3))
    (kk : ∀ ls : Array Slot, gls ls nL l1 → W p l e R s m args below meth c H locs cells slots Q (F0 m (pc + 3) ls rest)) : W p l e R s m args below meth c H locs cells slots Q (F0 m pc ls rest) := lv_iinc (k := k) hx hb hdg hl (by rw [List.getElem?_map, hk]; rfl) hv hn (gls_st (ls := ls) (nL := nL) h1) kk
/-! null or not -/
theorem g_ifnull (hx : p.tables.exec = Jvm.exec) (hb : c.code = cc) {r : Option Nat} {off : Int} {tgt : Nat} (hdg : decode cc pc = .ok (.ifnull off, 3)) (ht : (pc : Int) + off = (tgt : Int))
    (kt : r = none → W p l e R s m args below meth c H locs cells slots Q (F0 m tgt ls rest)) (kf : ¬ r = none → W p l e R s m args below meth c H locs cells slots Q (F0 m (pc + 3) ls rest)) : W p l e R s m args below meth c H locs cells slots Q (F0 m pc ls (va_rf r :: rest)) := by
  cases r with
  | none => exact lv_ifnullN hx hb hdg ht (kt rfl)
  | some a => exact lv_ifnull hx hb hdg (kf (fun h => nomatch h))
theorem g_ifnonnull (hx : p.tables.exec = Jvm.exec) (hb : c.code = cc) {r : Option Nat} {off : Int} {tgt : Nat} (hdg : decode cc pc = .ok (.ifnonnull off, 3)) (ht : (pc : Int) + off = (tgt : Int))
    (kt : ¬ r = none → W p l e R s m args below meth c H locs cells slots Q (F0 m tgt ls rest)) (kf : r = none → W p l e R s m args below meth c H locs cells slots Q (F0 m (pc + 3) ls rest)) : W p l e R s m args below meth c H locs cells slots Q (F0 m pc ls (va_rf r :: rest)) := by
  cases r with
  | none => exact lv_ifnonnullN hx hb hdg (kf rfl)
  | some a => exact lv_ifnonnull hx hb hdg ht (kt (fun h => nomatch h))
theorem g_null (hx : p.tables.exec = Jvm.exec) (hb : c.code = cc) (hdg : decode cc pc = .ok (.aconst_null, 1)) (k : W p l e R s m args below meth c H locs cells slots Q (F0 m (pc + 1) ls (va_rf none :: rest))) : W p l e R s m args below meth c H locs cells slots Q (F0 m pc ls rest) := lv_null hx hb hdg k
/-! what the picture says of a cell -/
theorem gReal.at {H : Heap} {a : Nat} (h : gReal E D G H) (ha : gcl G a ≠ 0) : gOk (gcl G a) ∧ gAt E D G H a := h.2.2.2.2.2.1 a ha
theorem gReal.lt {H : Heap} {a : Nat} (h : gReal E D G H) (ha : gcl G a ≠ 0) : a < gsz G := by
  obtain ⟨-, cell, h1, -⟩ := h.at ha
  rw [← h.1]
  exact (Array.getElem?_eq_some_iff.mp h1).1
theorem gKn.obj {U : State} (h : gKn E D U) {k : Nat} (h1 : 1 ≤ k) (h2 : k ≤ 22) : u_Kn U (gNm k) (gTb k) (gNf k) (D.1 k) (D.2.1 k) := g_codes (P := fun k => u_Kn U (gNm k) (gTb k) (gNf k) (D.1 k) (D.2.1 k)) h.1 h1 h2
theorem g_in' {k : Nat} (h1 : 1 ≤ k) (h2 : k ≤ 22) : ∀ w ∈ u_ws (gNm k) (gTb k) (gNf k), w ∈ lw_all := g_codes (P := fun k => ∀ w ∈ u_ws (gNm k) (gTb k) (gNf k), w ∈ lw_all) g_in h1 h2
theorem g_ty' {k : Nat} (h1 : 1 ≤ k) (h2 : k ≤ 22) : ∀ j, j < gNf k → parseFieldDescriptor (gTb k j).2.2.1 = some (gTy k j) := g_codes (P := fun k => ∀ j, j < gNf k → parseFieldDescriptor (gTb k j).2.2.1 = some (gTy k j)) g_ty h1 h2
theorem g_nm' {k : Nat} (h1 : 1 ≤ k) (h2 : k ≤ 22) : ∀ a, a < gNf k → ∀ b, b < gNf k → a ≠ b → (gTb k a).2.1 ≠ (gTb k b).2.1 := g_codes (P := fun k => ∀ a, a < gNf k → ∀ b, b < gNf k → a ≠ b → (gTb k a).2.1 ≠ (gTb k b).2.1) g_nm h1 h2
/-- a field of kinds lo to hi, at the place k: its declarer, name, descriptor, whether it's final, its type -/
def gFd (lo hi k : Nat) (dcl n d : String) (fin : Bool) (ty : FieldType) : Prop := ∀ x, lo ≤ x → x ≤ hi → (1 ≤ x ∧ x ≤ 22) ∧ k < gNf x ∧ gTb x k = (dcl, n, d, fin) ∧ gTy x k = ty
theorem gFd.mk {lo hi k : Nat} {dcl n d : String} {fin : Bool} {ty : FieldType} (h : ∀ j, j < hi + 1 - lo → (1 ≤ lo + j ∧ lo + j ≤ 22) ∧ k < gNf (lo + j) ∧ gTb (lo + j) k = (dcl, n, d, fin) ∧ gTy (lo + j) k = ty) : gFd lo hi k dcl n d fin ty := by
  intro x h1 h2
  have := h (x - lo) (by omega)
  rw [show lo + (x - lo) = x by omega] at this
  exact this
theorem g_getf0 (hx : p.tables.exec = Jvm.exec) (hb : c.code = cc) (hown : s.vm.findClass own = some m.cls) (hts : ∀ w ∈ lw_all, w.before args s = true) (hKn : gKn E D s) (hS : gSt E D G H locs) {lo hi k a index : Nat} {dcl n d ref : String} {fin : Bool} {ty : FieldType} (hF : gFd lo hi k dcl n d fin ty) (h1 : lo ≤ gcl G a) (h2 : gcl G a ≤ hi) {v : Value} (hv : gV G a k = v)
    (hlink : (Cond.fieldLink own index ref n d).before args s = true ∨ ∃ w, (Cond.fieldLinkNest own index ref n d w).before args s = true) (hsame : ∀ x, s.fieldFound? dcl n d = some x → s.fieldFound? ref n d = some x) (hdg : decode cc pc = .ok (.getfield index, 3))
    (kk : W p l e R s m args below meth c H locs cells slots Q (F0 m (pc + 3) ls (v :: rest))) : W p l e R s m args below meth c H locs cells slots Q (F0 m pc ls (.ref a :: rest)) := by
  obtain ⟨⟨b1, b2⟩, hk, hT, hty⟩ := hF _ h1 h2
  obtain ⟨-, cell, q1, q2, q3, q4, q5, q6, q7, q8, q9⟩ := hS.1.at (a := a) (by omega)
  obtain ⟨hSl, hfc, kC, hkC, hkind⟩ := hKn.obj b1 b2
  obtain ⟨cf, kf, fi, f, hi', hsl⟩ := hSl k hk
  have hst := (u_facts hfc hkC (u_lays hts (g_in' b1 b2) hk) hi').1
  rw [hT] at hi'
  have hval : cell.slots[f.slot]? = some v := by
    rw [hsl, ← hv]
    have := q9 k (by rw [q7 (by omega)]; exact hk)
    unfold gslot at this
    rw [if_neg (by omega)] at this
    exact this
  rcases hlink with hl | ⟨w, hl⟩
  · exact W.getf hx hb hown hl (hsame _ hi') hst q1 q3 hval rfl rfl hdg kk
  · exact va_Wgetf hx hb hown hl (hsame _ hi') hst q1 q3 hval rfl rfl hdg kk
end GROW
