/-! methods that return or throw: what is thrown is a kind, an address, the heap -/
set_option maxRecDepth 100000
abbrev gX : Type := Nat × Nat × g_G
/-- behind a call: go on with what it returned, or with what it threw -/
def gcat {α β : Type} (x : Option (α ⊕ gX)) (f : α → Option β) (k : gX → Option β) : Option β := x.bind fun o => match o with
  | .inl z => f z
  | .inr y => k y
theorem g_catE {α β : Type} {x : Option (α ⊕ gX)} {f : α → Option β} {k : gX → Option β} {R : β} (h : gcat x f k = some R) : ∃ o, x = some o ∧ (∀ z, o = .inl z → f z = some R) ∧ ∀ y, o = .inr y → k y = some R := by
  obtain ⟨o, h1, h2⟩ := g_bnd h
  refine ⟨o, h1, fun z e => ?_, fun y e => ?_⟩ <;> subst e <;> exact h2
def gokI : Int32 × g_G → Option Value × g_G := fun r => (some (.int r.1), r.2)
def gokA : Option Nat × g_G → Option Value × g_G := fun r => (some (va_rf r.1), r.2)
def gokV : g_G → Option Value × g_G := fun r => (none, r)
def gQX {α : Type} (E : g_E) (D : g_D) (ok : α → Option Value × g_G) (q : α ⊕ gX) : Array Value → State → Outcome → State → Prop := fun _ _ o t => ∃ r, q = .inl r ∧ o = .returned (ok r).1 ∧ gRl E D (ok r).2 t
def gXX {α : Type} (E : g_E) (D : g_D) (q : α ⊕ gX) : String → Addr → State → State → Prop := fun En a _ t => ∃ k G1, q = .inr (k, a, G1) ∧ En = gNm k ∧ (1 ≤ k ∧ k ≤ 22) ∧ gcl G1 a = k ∧ gB E ≤ a ∧ gRl E D G1 t
def gMetX {α : Type} (l : Launch) (E : g_E) (D : g_D) (y : MethodName) (ws : List Cond) (F Lc : Nat) (av : List g_v) (G : g_G) (ok : α → Option Value × g_G) (q : α ⊕ gX) : Prop :=
  vx_Met l y ws { frames := F, cells := gMc E - gsz G, slots := gMs E - gsl G, locals := Lc } (va_Pc (av.map gvv) (fun U => gRl E D G U)) (gQX E D ok q) (gXX E D q) (gMc E - gsz G) (gMs E - gsl G) (fun q => gB E ≤ q)
abbrev gTX {α : Type} (p : Program) (l : Launch) (e : Env) (R : Room) (s : State) (m : MethodId) (args : Array Value) (below : List Frame) (meth : Method) (c : Code) (E : g_E) (D : g_D) (H : Heap) (locs : List Loc) (cells slots : Nat) (ok : α → Option Value × g_G) (q : α ⊕ gX) (g : JFrame) : Prop :=
  W p l e R s m args below meth c H locs cells slots (vx_MQ below (gQX E D ok q) (gXX E D q) args s R.cells R.slots (fun q => gB E ≤ q)) g
theorem gMetX.of {α : Type} {l : Launch} {E : g_E} {D : g_D} {y : MethodName} {cc : ByteArray} {maxL : Nat} {ret : Option FieldType} {F Lc : Nat} {av : List g_v} {G : g_G} {ok : α → Option Value × g_G} {q : α ⊕ gX} (hy : plainName y.cls = true) (hw : gwid av ≤ maxL)
    (body : ∀ (p : Program) (e : Env) (R : Room) (s : State) (m : MethodId) (args : Array Value) (below : List Frame) (meth : Method) (c : Code), gC p R s m args meth c cc maxL y.cls y.name ret F Lc E D → c.exceptionTable.toList = [] → gSt E D G s.heap [] → ∀ ls : Array Slot, gls ls maxL (gargs 0 av) → gTX p l e R s m args below meth c E D s.heap [] 0 0 ok q (F0 m 0 ls [])) :
    gMetX l E D y (ws_ y cc maxL ret) F Lc av G ok q := by
  refine vx_ofW (cc := cc) (maxL := maxL) (ret := ret) hy rfl ?_
  intro p e s m args below meth c s₁ B hml ht hv
  obtain ⟨rfl, hR, hK⟩ := hv
  have hts := atoms_spec (ws := ws_ y cc maxL ret) B.pre
  rw [lg_entry_eq]
  refine body p e _ s m _ below meth c ⟨B.exec, B.bytes, hml, findClass_of_methodNamed B.named, fun w h => hts w (List.mem_cons_of_mem _ h), hK, ?_, ?_, ?_, ?_, rfl, rfl, B.returns, B.notSynchronized, (name_of_methodNamed B.named B.method).1⟩ (List.eq_nil_iff_forall_not_mem.mpr ht) ⟨hR, fun q h => by cases h⟩ _ (g_entry av hw)
  · show gMc E - gsz G = _
    rw [hR.1]
  · show gMs E - gsl G = _
    rw [hR.2.1]
  · exact ⟨by rw [hR.1]; exact hR.2.2.1, hR.2.2.2.2.2.2⟩
  · rw [hR.2.1]; exact hR.2.2.2.1
theorem gMetX.ofH {α : Type} {l : Launch} {E : g_E} {D : g_D} {y : MethodName} {cc : ByteArray} {maxL : Nat} {ret : Option FieldType} {hh : List (Nat × Nat × Nat × Nat)} {F Lc : Nat} {av : List g_v} {G : g_G} {ok : α → Option Value × g_G} {q : α ⊕ gX} (hy : plainName y.cls = true) (hw : gwid av ≤ maxL)
    (body : ∀ (p : Program) (e : Env) (R : Room) (s : State) (m : MethodId) (args : Array Value) (below : List Frame) (meth : Method) (c : Code), gC p R s m args meth c cc maxL y.cls y.name ret F Lc E D → c.exceptionTable.toList = tableOf hh → gSt E D G s.heap [] → ∀ ls : Array Slot, gls ls maxL (gargs 0 av) → gTX p l e R s m args below meth c E D s.heap [] 0 0 ok q (F0 m 0 ls [])) :
    gMetX l E D y (wsW_ y cc maxL ret hh) F Lc av G ok q := by
  refine vx_ofWH (cc := cc) (maxL := maxL) (ret := ret) (hh := hh) hy rfl ?_
  intro p e s m args below meth c s₁ B hml hv
  obtain ⟨rfl, hR, hK⟩ := hv
  have hts := atoms_spec (ws := wsW_ y cc maxL ret hh) B.pre
  rw [lg_entry_eq]
  refine body p e _ s m _ below meth c ⟨B.exec, B.bytes, hml, findClass_of_methodNamed B.named, fun w h => hts w (List.mem_cons_of_mem _ h), hK, ?_, ?_, ?_, ?_, rfl, rfl, B.returns, B.notSynchronized, (name_of_methodNamed B.named B.method).1⟩ (vx_table (x := y) B (hts _ List.mem_cons_self)) ⟨hR, fun q h => by cases h⟩ _ (g_entry av hw)
  · show gMc E - gsz G = _
    rw [hR.1]
  · show gMs E - gsl G = _
    rw [hR.2.1]
  · exact ⟨by rw [hR.1]; exact hR.2.2.1, hR.2.2.2.2.2.2⟩
  · rw [hR.2.1]; exact hR.2.2.2.1
section GWX
variable {p : Program} {l : Launch} {e : Env} {R : Room} {s : State} {m : MethodId} {args : Array Value} {below : List Frame} {meth : Method} {c : Code} {H : Heap} {locs : List Loc} {cells slots : Nat} {Q : State → Prop}
variable {cc : ByteArray} {pc nL : Nat} {ls : Array Slot} {rest : List Value} {E : g_E} {D : g_D} {G : g_G} {own nm : String} {ret : Option FieldType} {F Lc : Nat} {α : Type} {ok : α → Option Value × g_G} {q : α ⊕ gX}
/-- a return -/
theorem g_retX {g : JFrame} {rv : Option Value} {G1 : g_G} {r : α} (k : W p l e R s m args below meth c H locs cells slots (MQ below (gQc E D rv G1) args s R.cells R.slots (fun q => gB E ≤ q)) g) (h : some (Sum.inl r) = some q) (h1 : ok r = (rv, G1)) : gTX p l e R s m args below meth c E D H locs cells slots ok q g := by
  intro T hT X
  obtain ⟨t, a1, o, b1, b2, ⟨b3, b5, b6⟩, b4⟩ := k T hT X
  exact ⟨t, a1, o, b1, b2, Or.inl ⟨⟨r, (Option.some.inj h).symm, by rw [h1]; exact b3, by rw [h1]; exact ⟨b5, b6⟩⟩, b4⟩⟩
theorem vx_W.gtight {g : JFrame} {a : Addr} (hS : gSt E D G H locs) (kk : vx_W p l e R s m args below meth c H locs (gsz G - s.heap.size) (gsl G - ghsl s.heap) Q g a) : vx_W p l e R s m args below meth c H locs cells slots Q g a := by
  intro T hT X
  refine kk T hT { X with same := g_same X.same ?_ ?_ }
  · show T.heap.size ≤ _
    rw [hT, hS.1.1]
    omega
  · show ghsl T.heap ≤ _
    rw [hT, hS.1.2.1]
    omega
/-- a throw that isn't caught here -/
theorem g_outX {k a : Nat} (hout : ∀ x ∈ c.exceptionTable.toList, covers x pc = false) (hlk : meth.locks = false) (hKn : gKn E D s) (hRc : R.cells = gMc E - s.heap.size) (hRs : R.slots = gMs E - ghsl s.heap) (hS : gSt E D G H locs) (b1 : 1 ≤ k) (b2 : k ≤ 22) (hB : gB E ≤ a) (hk : gcl G a = k) (h : some (Sum.inr (k, a, G)) = some q) : vx_W p l e R s m args below meth c H locs cells slots (vx_MQ below (gQX E D ok q) (gXX E D q) args s R.cells R.slots (fun q => gB E ≤ q)) (F0 m pc ls rest) a := by
  obtain ⟨-, cell, q1, q2, q3, q4, q5, -⟩ := hS.1.at (a := a) (by omega)
  refine vx_W.gtight hS (vx_out (E := gNm k) hout hlk q1 (q5 hB).1 (by rw [q2, hk]; exact (hKn.obj b1 b2).2.1) (fun t ht hW => ⟨k, G, (Option.some.inj h).symm, rfl, ⟨b1, b2⟩, hk, hB, by rw [ht]; exact hS.1, hKn.warm hW⟩) hS.2 ?_ ?_)
  · rw [hRc]
    have := hS.1.2.2.1
    omega
  · rw [hRs]
    have := hS.1.2.2.2.1
    omega
/-- athrow -/
theorem g_throwX (hx : p.tables.exec = Jvm.exec) (hb : c.code = cc) {a : Nat} (hdg : decode cc pc = .ok (.athrow, 1)) (k : vx_W p l e R s m args below meth c H locs cells slots Q (F0 m pc ls rest) a) : W p l e R s m args below meth c H locs cells slots Q (F0 m pc ls (.ref a :: rest)) := vx_athrow hx hb hdg k
/-- caught by the first row of the method's own table -/
theorem g_catchX (hown : s.vm.findClass own = some m.cls) (hKn : gKn E D s) (hS : gSt E D G H locs) {k a : Nat} (b1 : 1 ≤ k) (b2 : k ≤ 22) (hB : gB E ≤ a) (hk : gcl G a = k) {hq : Nat × Nat × Nat × Nat} (htab : c.exceptionTable.toList = tableOf [hq]) (hcov : covers ⟨hq.1, hq.2.1, hq.2.2.1, hq.2.2.2⟩ pc = true) (h0 : hq.2.2.2 ≠ 0) (hlink : (Cond.classLink own hq.2.2.2 (gNm k)).before args s = true) (hcast : Cond.castable (gNm k) (gNm k) ∈ lw_tbl)
    (kk : W p l e R s m args below meth c H locs cells slots Q (F0 m hq.2.2.1 ls [.ref a])) : vx_W p l e R s m args below meth c H locs cells slots Q (F0 m pc ls rest) a := by
  obtain ⟨-, cell, q1, q2, q3, q4, q5, -⟩ := hS.1.at (a := a) (by omega)
  exact vx_catch (E := gNm k) hown [] ⟨hq.1, hq.2.1, hq.2.2.1, hq.2.2.2⟩ [] htab (fun z hz => by cases hz) hcov h0 hlink (gNest_use rfl (hKn.2.2.2.2.1 _ (gNest_in hcast rfl))) q1 (q5 hB).1 (by rw [q2, hk]; exact (hKn.obj b1 b2).2.1) kk
variable {y : MethodName} {bytes : ByteArray} {maxL index n F1 L1 : Nat} {av rs : List g_v} {b : Nat} {C : String} {st0 : List Value} {rt : Option FieldType} {β : Type} {ok1 : β → Option Value × g_G} {o : β ⊕ gX}
theorem g_goX {arr : Array Value} (hS : gSt E D G H locs) (hKn : gKn E D s) (hr : vx_Run p l e R s m args below meth c H locs cells slots (gMc E - gsz G) (gMs E - gsl G) (F0 m pc ls st0) rest (gQX E D ok1 o arr) (gXX E D o) (fun q => gB E ≤ q))
    (kk : ∀ z, o = .inl z → ∀ (H1 : Heap) (locs1 : List Loc) (cells1 slots1 : Nat), gSt E D (ok1 z).2 H1 locs1 → W p l e R s m args below meth c H1 locs1 cells1 slots1 Q (F0 m (pc + 3) ls ((ok1 z).1.toList ++ rest)))
    (kx : ∀ k a G1, o = .inr (k, a, G1) → 1 ≤ k → k ≤ 22 → gcl G1 a = k → gB E ≤ a → ∀ (H1 : Heap) (locs1 : List Loc) (cells1 slots1 : Nat), gSt E D G1 H1 locs1 → vx_W p l e R s m args below meth c H1 locs1 cells1 slots1 Q (F0 m pc ls rest) a) : W p l e R s m args below meth c H locs cells slots Q (F0 m pc ls st0) := by
  intro T hT X
  rcases hr T hT X with ⟨v, st₀, t, T', L, h0, X', hL, e1, e2, ⟨z, hz, hv, hR, -⟩, st⟩ | ⟨a, st₀, t, T', L, En, ce, h0, X', hL, e1, e2, ⟨k, G1, hz, hE, ⟨b1, b2⟩, hk, hB, hR, -⟩, hce, hcv, hcl, st⟩
  · cases hv
    obtain ⟨t2, a1, b1⟩ := kk z hz T'.heap (locs ++ L) _ _ ⟨by rw [e1]; exact hR, fun q hq => by
      rcases List.mem_append.mp hq with h | h
      · exact hS.2 q h
      · exact hL q h⟩ T' rfl X'
    exact ⟨t2, st t2 a1, b1⟩
  · obtain ⟨t2, a1, b1⟩ := kx k a G1 hz b1 b2 hk hB T'.heap (locs ++ L) _ _ ⟨by rw [e1]; exact hR, fun q hq => by
      rcases List.mem_append.mp hq with h | h
      · exact hS.2 q h
      · exact hL q h⟩ T' rfl X'
    exact ⟨t2, st.trans a1, b1⟩
/-- calls of methods that may throw -/
theorem g_callSt (hx : p.tables.exec = Jvm.exec) (hb : c.code = cc) (hml : c.maxLocals = nL) (hown : s.vm.findClass own = some m.cls) (hts : ∀ w ∈ lw_all, w.before args s = true) (hKn : gKn E D s) (hRc : R.cells = gMc E - s.heap.size) (hRs : R.slots = gMs E - ghsl s.heap) (hS : gSt E D G H locs) {l0 : List (Nat × g_v)} (hl : gls ls nL l0)
    (hM : gMetX l E D y (ws_ y bytes maxL rt) F1 L1 av G ok1 o) (hW : GoodIn lw_all (va_wsS own index y (ws_ y bytes maxL rt))) (hd : y.cls ≠ "java/lang/invoke/MethodHandle" ∧ y.cls ≠ "java/lang/invoke/VarHandle" ∧ (parseMethodDescriptor y.desc).map (fun d => d.parameters.length) = some n) (hR : F1 + 1 ≤ R.frames ∧ 8 + (maxL + 11) + L1 ≤ R.locals)
    (hn : av.length = n) (hst : st0 = (av.map gvv).reverse ++ rs.map gvv) (h8 : gwid rs ≤ 8) (hdg : decode cc pc = .ok (.invokestatic index, 3))
    (kk : ∀ z, o = .inl z → ∀ (H1 : Heap) (locs1 : List Loc) (cells1 slots1 : Nat), gSt E D (ok1 z).2 H1 locs1 → W p l e R s m args below meth c H1 locs1 cells1 slots1 Q (F0 m (pc + 3) ls ((ok1 z).1.toList ++ rs.map gvv)))
    (kx : ∀ k a G1, o = .inr (k, a, G1) → 1 ≤ k → k ≤ 22 → gcl G1 a = k → gB E ≤ a → ∀ (H1 : Heap) (locs1 : List Loc) (cells1 slots1 : Nat), gSt E D G1 H1 locs1 → vx_W p l e R s m args below meth c H1 locs1 cells1 slots1 Q (F0 m pc ls (rs.map gvv)) a) : W p l e R s m args below meth c H locs cells slots Q (F0 m pc ls st0) := by
  refine W.room hRc hRs hS fun hf => g_goX hS hKn (vx_runS (As := av.map gvv) (rest := rs.map gvv) ⟨hx, hb, hml, hown, hts⟩ hM (va_cwS n hts hW rfl rfl rfl hd hR) ⟨g_blind _, fun U hU hW => ⟨rfl, by rw [hU]; exact hS.1, hKn.warm hW⟩⟩ rfl (by rw [List.length_map]; exact hn) hl.1 hst (lv_room (by rw [gcat_eq]; exact h8)) hdg hf) kk kx
theorem g_callVt (hx : p.tables.exec = Jvm.exec) (hb : c.code = cc) (hml : c.maxLocals = nL) (hown : s.vm.findClass own = some m.cls) (hts : ∀ w ∈ lw_all, w.before args s = true) (hKn : gKn E D s) (hRc : R.cells = gMc E - s.heap.size) (hRs : R.slots = gMs E - ghsl s.heap) (hS : gSt E D G H locs) {l0 : List (Nat × g_v)} (hl : gls ls nL l0)
    (hM : gMetX l E D y (ws_ y bytes maxL rt) F1 L1 (.inr (.inr (some b)) :: av) G ok1 o) (hW : GoodIn lw_all (wsV own index C y (ws_ y bytes maxL rt))) (hd : y.cls = C ∧ y.cls ≠ "java/lang/invoke/MethodHandle" ∧ y.cls ≠ "java/lang/invoke/VarHandle" ∧ (parseMethodDescriptor y.desc).map (fun d => d.parameters.length) = some n) (hR : F1 + 1 ≤ R.frames ∧ 8 + (maxL + 11) + L1 ≤ R.locals)
    (hrv : ∃ cell : Cell, H[b]? = some cell ∧ cell.vm.isStatics = false ∧ s.vm.findClass C = some cell.cls) (hn : av.length = n) (hst : st0 = (av.map gvv).reverse ++ .ref b :: rs.map gvv) (h8 : gwid rs ≤ 8) (hdg : decode cc pc = .ok (.invokevirtual index, 3))
    (kk : ∀ z, o = .inl z → ∀ (H1 : Heap) (locs1 : List Loc) (cells1 slots1 : Nat), gSt E D (ok1 z).2 H1 locs1 → W p l e R s m args below meth c H1 locs1 cells1 slots1 Q (F0 m (pc + 3) ls ((ok1 z).1.toList ++ rs.map gvv)))
    (kx : ∀ k a G1, o = .inr (k, a, G1) → 1 ≤ k → k ≤ 22 → gcl G1 a = k → gB E ≤ a → ∀ (H1 : Heap) (locs1 : List Loc) (cells1 slots1 : Nat), gSt E D G1 H1 locs1 → vx_W p l e R s m args below meth c H1 locs1 cells1 slots1 Q (F0 m pc ls (rs.map gvv)) a) : W p l e R s m args below meth c H locs cells slots Q (F0 m pc ls st0) := by
  refine W.room hRc hRs hS fun hf => g_goX hS hKn (vx_runV (As := av.map gvv) (rest := rs.map gvv) ⟨hx, hb, hml, hown, hts⟩ hM (cwV n hts hW rfl rfl rfl hd hR) ⟨g_blind _, hrv, fun U hU hW => ⟨rfl, by rw [hU]; exact hS.1, hKn.warm hW⟩⟩ rfl (by rw [List.length_map]; exact hn) hl.1 hst (lv_room (by rw [gcat_eq]; exact h8)) hdg hf) kk kx
/-- of one with a table of its own -/
theorem g_callVh {hh : List (Nat × Nat × Nat × Nat)} (hx : p.tables.exec = Jvm.exec) (hb : c.code = cc) (hml : c.maxLocals = nL) (hown : s.vm.findClass own = some m.cls) (hts : ∀ w ∈ lw_all, w.before args s = true) (hKn : gKn E D s) (hRc : R.cells = gMc E - s.heap.size) (hRs : R.slots = gMs E - ghsl s.heap) (hS : gSt E D G H locs) {l0 : List (Nat × g_v)} (hl : gls ls nL l0)
    (hM : gMetX l E D y (wsW_ y bytes maxL rt hh) F1 L1 (.inr (.inr (some b)) :: av) G ok1 o) (hW : GoodIn lw_all (wsV own index C y (wsW_ y bytes maxL rt hh))) (hd : y.cls = C ∧ y.cls ≠ "java/lang/invoke/MethodHandle" ∧ y.cls ≠ "java/lang/invoke/VarHandle" ∧ (parseMethodDescriptor y.desc).map (fun d => d.parameters.length) = some n) (hR : F1 + 1 ≤ R.frames ∧ 8 + (maxL + 11) + L1 ≤ R.locals)
    (hrv : ∃ cell : Cell, H[b]? = some cell ∧ cell.vm.isStatics = false ∧ s.vm.findClass C = some cell.cls) (hn : av.length = n) (hst : st0 = (av.map gvv).reverse ++ .ref b :: rs.map gvv) (h8 : gwid rs ≤ 8) (hdg : decode cc pc = .ok (.invokevirtual index, 3))
    (kk : ∀ z, o = .inl z → ∀ (H1 : Heap) (locs1 : List Loc) (cells1 slots1 : Nat), gSt E D (ok1 z).2 H1 locs1 → W p l e R s m args below meth c H1 locs1 cells1 slots1 Q (F0 m (pc + 3) ls ((ok1 z).1.toList ++ rs.map gvv)))
    (kx : ∀ k a G1, o = .inr (k, a, G1) → 1 ≤ k → k ≤ 22 → gcl G1 a = k → gB E ≤ a → ∀ (H1 : Heap) (locs1 : List Loc) (cells1 slots1 : Nat), gSt E D G1 H1 locs1 → vx_W p l e R s m args below meth c H1 locs1 cells1 slots1 Q (F0 m pc ls (rs.map gvv)) a) : W p l e R s m args below meth c H locs cells slots Q (F0 m pc ls st0) := by
  refine W.room hRc hRs hS fun hf => g_goX hS hKn (vx_runVX (hh := hh) (As := av.map gvv) (rest := rs.map gvv) ⟨hx, hb, hml, hown, hts⟩ hM (vx_cwVW n hts hW rfl rfl rfl hd hR) ⟨g_blind _, hrv, fun U hU hW => ⟨rfl, by rw [hU]; exact hS.1, hKn.warm hW⟩⟩ rfl (by rw [List.length_map]; exact hn) hl.1 hst (lv_room (by rw [gcat_eq]; exact h8)) hdg hf) kk kx
theorem g_callSh {hh : List (Nat × Nat × Nat × Nat)} (hx : p.tables.exec = Jvm.exec) (hb : c.code = cc) (hml : c.maxLocals = nL) (hown : s.vm.findClass own = some m.cls) (hts : ∀ w ∈ lw_all, w.before args s = true) (hKn : gKn E D s) (hRc : R.cells = gMc E - s.heap.size) (hRs : R.slots = gMs E - ghsl s.heap) (hS : gSt E D G H locs) {l0 : List (Nat × g_v)} (hl : gls ls nL l0)
    (hM : gMetX l E D y (wsW_ y bytes maxL rt hh) F1 L1 av G ok1 o) (hW : GoodIn lw_all (va_wsS own index y (wsW_ y bytes maxL rt hh))) (hd : y.cls ≠ "java/lang/invoke/MethodHandle" ∧ y.cls ≠ "java/lang/invoke/VarHandle" ∧ (parseMethodDescriptor y.desc).map (fun d => d.parameters.length) = some n) (hR : F1 + 1 ≤ R.frames ∧ 8 + (maxL + 11) + L1 ≤ R.locals)
    (hn : av.length = n) (hst : st0 = (av.map gvv).reverse ++ rs.map gvv) (h8 : gwid rs ≤ 8) (hdg : decode cc pc = .ok (.invokestatic index, 3))
    (kk : ∀ z, o = .inl z → ∀ (H1 : Heap) (locs1 : List Loc) (cells1 slots1 : Nat), gSt E D (ok1 z).2 H1 locs1 → W p l e R s m args below meth c H1 locs1 cells1 slots1 Q (F0 m (pc + 3) ls ((ok1 z).1.toList ++ rs.map gvv)))
    (kx : ∀ k a G1, o = .inr (k, a, G1) → 1 ≤ k → k ≤ 22 → gcl G1 a = k → gB E ≤ a → ∀ (H1 : Heap) (locs1 : List Loc) (cells1 slots1 : Nat), gSt E D G1 H1 locs1 → vx_W p l e R s m args below meth c H1 locs1 cells1 slots1 Q (F0 m pc ls (rs.map gvv)) a) : W p l e R s m args below meth c H locs cells slots Q (F0 m pc ls st0) := by
  refine W.room hRc hRs hS fun hf => g_goX hS hKn (vx_runSX (hh := hh) (As := av.map gvv) (rest := rs.map gvv) ⟨hx, hb, hml, hown, hts⟩ hM (vx_cwSW n hts hW rfl rfl rfl hd hR) ⟨g_blind _, fun U hU hW => ⟨rfl, by rw [hU]; exact hS.1, hKn.warm hW⟩⟩ rfl (by rw [List.length_map]; exact hn) hl.1 hst (lv_room (by rw [gcat_eq]; exact h8)) hdg hf) kk kx
def gthr (E : g_E) (G : g_G) (k : Nat) (r : Option Nat) : Option Nat := r.bind fun a => if gcl G a = k ∧ gB E ≤ a then some a else none
theorem g_thr {k a : Nat} {r : Option Nat} (h : gthr E G k r = some a) : r = some a ∧ gcl G a = k ∧ gB E ≤ a := by
  obtain ⟨b, rfl, h2⟩ := g_bnd h
  by_cases hc : gcl G b = k ∧ gB E ≤ b
  · cases g_ift hc h2
    exact ⟨rfl, hc⟩
  · exact g_no (g_iff hc h2)
end GWX
