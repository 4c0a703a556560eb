/-! what the proof knows of the tables at a state; it lasts all through a run -/
set_option maxRecDepth 100000
/-- the arrays' kinds: a number for each -/
def gArk (D : g_D) (U : State) (c : Nat) : Prop := ∃ (kA : Class) (comp : ClassId), U.vm.classes[D.1 c]? = some kA ∧ kA.kind = .array comp (gAT c)
def gArn (D : g_D) (U : State) (c : Nat) : Prop := U.vm.findClass ("[" ++ (gAT c).toString) = some (D.1 c)
def gAsg (D : g_D) (U : State) : Prop := ∀ c d, gasg c d = true → ∃ (kA : Class) (comp : ClassId) (kc : Class), U.vm.classes[D.1 c]? = some kA ∧ kA.kind = .array comp (gAT c) ∧ U.vm.classes[comp]? = some kc ∧ U.vm.assignable (D.1 d) comp = true
def gStatics (E : g_E) : List (String × String × String × Value) := [("SendHall$Sort", "WORD", "LSendHall$Sort;", .ref (gA E 1)), ("SendHall$Sort", "NUMBER", "LSendHall$Sort;", .ref (gA E 2)), ("SendHall$Sort", "SIGN", "LSendHall$Sort;", .ref (gA E 3)), ("SendHall$Sort", "BAD", "LSendHall$Sort;", .ref (gA E 4)), ("SendHall$Sort", "END", "LSendHall$Sort;", .ref (gA E 5)),
  ("java/lang/String", "COMPACT_STRINGS", "Z", .int 1), ("java/lang/Character$CharacterCache", "cache", "[Ljava/lang/Character;", .ref (gA E 6))]
/-- a reference that is read off and never used: its two numbers -/
def gQ (E : g_E) (i : Nat) : Option Nat := if gA E (1000 + 2 * i) = 0 then none else some (gA E (1001 + 2 * i))
def gStatQ : List (String × String × String × Nat) := [("jdk/internal/util/Preconditions", "SIOOBE_FORMATTER", "Ljava/util/function/BiFunction;", 10), ("java/lang/Throwable", "UNASSIGNED_STACK", "[Ljava/lang/StackTraceElement;", 11), ("java/lang/Throwable", "SUPPRESSED_SENTINEL", "Ljava/util/List;", 12)]
def gStrs : List (String × Nat × String × Nat) := [("SendHall$Reader", 9, "", 20), ("SendHall$Reader", 104, ";()+-*/<=", 21), ("SendHall$Reader", 146, "send", 22), ("SendHall$Reader", 148, "meet", 23), ("SendHall$Reader", 150, "begin", 24), ("SendHall$Reader", 152, "wait", 25), ("SendHall$Reader", 154, "any", 26), ("SendHall$Reader", 156, "done", 27), ("SendHall$Reader", 158, "all", 28), ("SendHall$Reader", 160, "sum", 29), ("SendHall$Reader", 162, "set", 30), ("SendHall$Reader", 164, "tell", 31), ("SendHall$Reader", 166, "if", 32), ("SendHall$Reader", 350, "(", 33), ("SendHall$Reader", 321, "<", 34), ("SendHall$Reader", 323, "=", 35), ("SendHall$Reader", 355, ")", 36), ("SendHall$Reader", 362, "a", 37), ("SendHall$Reader", 364, "b", 38), ("SendHall$Reader", 366, "c", 39), ("SendHall$Reader", 368, "d", 40), ("SendHall$Reader", 370, "me", 41), ("SendHall$Reader", 372, "n", 42), ("SendHall$Reader", 374, "from", 43), ("SendHall$Reader", 343, "*", 44), ("SendHall$Reader", 345, "/", 45), ("SendHall$Reader", 336, "+", 46), ("SendHall$Reader", 338, "-", 47), ("SendHall$Reader", 268, "mark", 48), ("SendHall$Reader", 272, "word", 49), ("SendHall$Reader", 275, "long", 50), ("SendHall$Reader", 293, "into", 51), ("SendHall$Reader", 297, "most", 52), ("SendHall$Reader", 309, "then", 53), ("SendHall$Reader", 311, "else", 54), ("SendHall$Reader", 313, "end", 55), ("SendHall$Reader", 213, ";", 56), ("SendHallModel", 11, "send", 22), ("SendHallModel", 13, "meet", 23), ("SendHallModel", 15, "begin", 24), ("SendHallModel", 17, "wait", 25), ("SendHallModel", 19, "any", 26), ("SendHallModel", 21, "done", 27), ("SendHallModel", 23, "all", 28), ("SendHallModel", 25, "sum", 29), ("SendHallModel", 27, "set", 30), ("SendHallModel", 29, "tell", 31), ("SendHallModel", 31, "if", 32), ("SendHallModel", 37, "a", 37), ("SendHallModel", 39, "b", 38), ("SendHallModel", 41, "c", 39), ("SendHallModel", 43, "d", 40), ("SendHallModel", 45, "me", 41), ("SendHallModel", 47, "n", 42), ("SendHallModel", 49, "from", 43), ("SendHallModel", 306, "else", 54), ("SendHallModel", 308, "end", 55), ("SendHallModel", 284, "mark", 48), ("SendHallModel", 290, "word", 49), ("SendHallModel", 291, "long", 50), ("SendHallModel", 293, "into", 51), ("SendHallModel", 297, "most", 52), ("SendHallModel", 302, "then", 53)]
/-- where a static field lies: its class's cell, that is never written -/
def gLs (E : g_E) (D : g_D) (C n d : String) (U : State) : Prop := ∃ (c : ClassId) (k : Class) (i : Nat) (f : Field) (a : Nat) (cell : Cell), U.vm.findClass C = some c ∧ U.fieldFound? C n d = some (c, k, i, f) ∧ f.isStatic = true ∧ k.statics = some a ∧ D.2.2[a]? = some cell ∧ cell.vm.isStatics = true ∧ cell.cls = c ∧ f.slot < cell.slots.size ∧ k.staticTypes[f.slot]? = some f.type ∧ ¬ gB E ≤ a
theorem gLs.moved {E : g_E} {D : g_D} {C n d : String} {u U : State} (hvm : u.vm.Alike U.vm) (h : gLs E D C n d u) : gLs E D C n d U := by
  obtain ⟨c, k, i, f, a, cell, h0, h1, h2, h3, h4⟩ := h
  obtain ⟨k', hi', he⟩ := State.fieldFound?_setVm hvm h1
  exact ⟨c, k', i, f, a, cell, by rw [hvm.findClass]; exact h0, hi', h2, by rw [he]; exact h3, by rw [he]; exact h4⟩
/-- a private method of a superclass, that is called through an object of the subclass -/
def gSel : List Cond := [Cond.selects "java/lang/StringBuilder" ⟨"java/lang/AbstractStringBuilder", "ensureCapacityInternal", "(I)V"⟩ ⟨"java/lang/AbstractStringBuilder", "ensureCapacityInternal", "(I)V"⟩]
def gKn (E : g_E) (D : g_D) (U : State) : Prop :=
  (∀ c, c < 22 → u_Kn U (gNm (c + 1)) (gTb (c + 1)) (gNf (c + 1)) (D.1 (c + 1)) (D.2.1 (c + 1))) ∧ (∀ c ∈ [100, 101, 102, 110, 120, 121, 122, 123, 124], gArk D U c) ∧ (∀ c ∈ [100, 101, 102, 110, 120, 121, 122, 123], gArn D U c) ∧ gAsg D U ∧
  (∀ w ∈ gNest, va_Nw w U) ∧ (∀ C ∈ ["java/lang/Object", RX3, RX7, RJ9], va_AO C U) ∧ (∀ z ∈ gStatics E, va_Z z.1 z.2.1 z.2.2.1 z.2.2.2 (fun q => gB E ≤ q) U D.2.2) ∧ (∀ z ∈ gStatQ, va_Z z.1 z.2.1 z.2.2.1 (va_rf (gQ E z.2.2.2)) (fun q => gB E ≤ q) U D.2.2) ∧ (∀ z ∈ gStrs, vk_R z.1 z.2.1 z.2.2.1 (gA E z.2.2.2) U) ∧
  (∀ C ∈ [RX10, RX11, RX12], va_Fw C ⟨"SendHall$Expr", "value", "(LSendHall$Life;I)I"⟩ ⟨C, "value", "(LSendHall$Life;I)I"⟩ U) ∧ va_Mi "[Ljava/lang/Object;" (gA E 7) U ∧ va_Dc U ∧ (∀ w ∈ gSel, va_Nw w U) ∧ ∀ z ∈ gStatQ, gLs E D z.1 z.2.1 z.2.2.1 U
theorem gAsg.moved {D : g_D} {u U : State} (hvm : u.vm.Alike U.vm) (h : gAsg D u) : gAsg D U := by
  intro c d hcd
  obtain ⟨kA, comp, kc, h1, h2, h3, h4⟩ := h c d hcd
  obtain ⟨k', hk', he⟩ := hvm.2.2 _ _ h1
  obtain ⟨k2, hk2, -⟩ := hvm.2.2 _ _ h3
  exact ⟨k', comp, k2, hk', by rw [he]; exact h2, hk2, by rw [hvm.assignable]; exact h4⟩
theorem gArk.moved {D : g_D} {u U : State} {c : Nat} (hvm : u.vm.Alike U.vm) (h : gArk D u c) : gArk D U c := by
  obtain ⟨kA, comp, h1, h2⟩ := h
  obtain ⟨k', hk', he⟩ := hvm.2.2 _ _ h1
  exact ⟨k', comp, hk', by rw [he]; exact h2⟩
theorem gKn.warm {E : g_E} {D : g_D} {s U : State} (hW : s.WarmedH U.vm) (h : gKn E D s) : gKn E D U := by
  obtain ⟨h1, h2, h3, h4, h5, h6, h7, h8, h9, h10, h11, h12, h13, h14⟩ := h
  have hvm := hW.alike
  refine ⟨fun c hc => u_Kn_moved hvm (h1 c hc), fun c hc => (h2 c hc).moved hvm, fun c hc => ?_, h4.moved hvm, fun w hw => gNest_warm (List.mem_filter.mp hw).2 hW (h5 w hw), fun C hC => (h6 C hC).moved hvm, fun z hz => (h7 z hz).moved hvm, fun z hz => (h8 z hz).moved hvm, fun z hz => (h9 z hz).warm hW, fun C hC => (h10 C hC).moved ⟨by decide +kernel, by decide +kernel⟩ hvm, h11.moved hvm, h12.moved hvm, fun w hw => ?_, fun z hz => (h14 z hz).moved hvm⟩
  · show U.vm.findClass _ = _
    rw [hvm.findClass]
    exact h3 c hc
  · refine word_at (args := #[]) hW (good_of_word ?_) (h13 w hw)
    rw [List.mem_singleton.mp hw]
    rfl
/-- a state is as the picture has it -/
def gRl (E : g_E) (D : g_D) (G : g_G) (U : State) : Prop := gReal E D G U.heap ∧ gKn E D U
theorem gRl.calling {E : g_E} {D : g_D} {G : g_G} {U : State} (h : gRl E D G U) (g : JFrame) (mk : MethodId) (a : Array Value) : gRl E D G (U.calling g mk a) := ⟨h.1, gKn.warm (s := U) (U := U.calling g mk a) (State.WarmedH.refl U) h.2⟩
theorem g_blind {E : g_E} {D : g_D} {G : g_G} (av : List Value) : FrameBlind (va_Pc av (fun U => gRl E D G U)) := fun a U g mk h => ⟨h.1, h.2.calling g mk a⟩
/-! values with their sorts -/
abbrev g_v : Type := Int32 ⊕ Int64 ⊕ Option Nat
def gvv : g_v → Value
  | .inl x => .int x
  | .inr (.inl x) => .long x
  | .inr (.inr r) => va_rf r
def gv2 : g_v → Bool
  | .inr (.inl _) => true
  | _ => false
theorem va_rf_cat (r : Option Nat) : (va_rf r).category = 1 := by cases r <;> rfl
theorem gvv_cat (v : g_v) : (gvv v).category = if gv2 v = true then 2 else 1 := by
  rcases v with x | x | r
  · rfl
  · rfl
  · exact va_rf_cat r
def gls (ls : Array Slot) (nL : Nat) (l : List (Nat × g_v)) : Prop := lv_has ls nL (l.map fun q => (q.1, gvv q.2))
theorem gls_at {ls : Array Slot} {nL : Nat} {l : List (Nat × g_v)} (h : gls ls nL l) (k : Nat) {i : Nat} {v : g_v} (hk : l[k]? = some (i, v)) : ls[i]? = some (.val (gvv v)) :=
  lv_at h k (by rw [List.getElem?_map, hk]; rfl)
theorem gls_pick (l : List (Nat × g_v)) : ∀ ks : List Nat, lv_pick (l.map fun q => (q.1, gvv q.2)) ks = (ks.filterMap (fun k => l[k]?)).map fun q => (q.1, gvv q.2)
  | [] => rfl
  | k :: ks => by
    have ih := gls_pick l ks
    unfold lv_pick at ih ⊢
    rw [List.filterMap_cons, List.filterMap_cons, List.getElem?_map]
    cases l[k]? with
    | none => exact ih
    | some q =>
      rw [Option.map_some, List.map_cons]
      exact congrArg _ ih
theorem gls_sub {ls : Array Slot} {nL : Nat} {l l' : List (Nat × g_v)} (h : gls ls nL l) (ks : List Nat) (hl : ks.filterMap (fun k => l[k]?) = l') : gls ls nL l' := lv_sub h ks (by rw [gls_pick, hl])
def gfil (i : Nat) (l : List (Nat × g_v)) : List (Nat × g_v) := l.filter (fun q => !(q.1 == i) && !(q.1 + 1 == i && gv2 q.2))
theorem gfil_eq (i : Nat) (l : List (Nat × g_v)) : (l.map fun q => (q.1, gvv q.2)).filter (fun q => !(q.1 == i) && !(q.1 + 1 == i && q.2.category == 2)) = (gfil i l).map fun q => (q.1, gvv q.2) := by
  unfold gfil
  rw [List.filter_map]
  congr 1
  apply List.filter_congr
  intro q _
  have h : ((gvv q.2).category == 2) = gv2 q.2 := by
    rw [gvv_cat]
    cases gv2 q.2 <;> rfl
  show (!(q.1 == i) && !(q.1 + 1 == i && ((gvv q.2).category == 2))) = _
  rw [h]
def gfil2 (i : Nat) (l : List (Nat × g_v)) : List (Nat × g_v) := l.filter (fun q => !(q.1 == i) && (!(q.1 == i + 1) && !(q.1 + 1 == i && gv2 q.2)))
theorem gfil2_eq (i : Nat) (l : List (Nat × g_v)) : (l.map fun q => (q.1, gvv q.2)).filter (fun q => !(q.1 == i) && (!(q.1 == i + 1) && !(q.1 + 1 == i && q.2.category == 2))) = (gfil2 i l).map fun q => (q.1, gvv q.2) := by
  unfold gfil2
  rw [List.filter_map]
  congr 1
  apply List.filter_congr
  intro q _
  have h : ((gvv q.2).category == 2) = gv2 q.2 := by
    rw [gvv_cat]
    cases gv2 q.2 <;> rfl
  show (!(q.1 == i) && (!(q.1 == i + 1) && !(q.1 + 1 == i && ((gvv q.2).category == 2)))) = _
  rw [h]
def gargs : Nat → List g_v → List (Nat × g_v)
  | _, [] => []
  | i, v :: vs => (i, v) :: gargs (if gv2 v = true then i + 2 else i + 1) vs
theorem gargs_eq : ∀ (l : List g_v) (i : Nat), lv_args i (l.map gvv) = (gargs i l).map fun q => (q.1, gvv q.2)
  | [], i => rfl
  | v :: l, i => by
    have h : (if (gvv v).category = 2 then i + 2 else i + 1) = (if gv2 v = true then i + 2 else i + 1) := by
      rw [gvv_cat]
      cases gv2 v <;> rfl
    show (i, gvv v) :: lv_args (if (gvv v).category = 2 then i + 2 else i + 1) (l.map gvv) = _
    rw [h, gargs_eq l]
    rfl
def gwid : List g_v → Nat
  | [] => 0
  | v :: l => (if gv2 v = true then 2 else 1) + gwid l
theorem gwid_eq : ∀ l : List g_v, (lg_sl (l.map gvv)).length = gwid l
  | [] => rfl
  | v :: l => by
    have ih := gwid_eq l
    unfold lg_sl at ih ⊢
    rw [List.map_cons, List.flatMap_cons, List.length_append, ih, gvv_cat]
    show _ = (if gv2 v = true then 2 else 1) + gwid l
    cases gv2 v <;> simp
theorem gcat_eq : ∀ l : List g_v, ((l.map gvv).map fun v => v.category).sum = gwid l
  | [] => rfl
  | v :: l => by
    have ih := gcat_eq l
    rw [List.map_cons, List.map_cons, List.sum_cons, ih, gvv_cat]
    rfl
theorem g_entry (l : List g_v) {n : Nat} (h : gwid l ≤ n) : gls ((lg_sl (l.map gvv) ++ List.replicate (n - (lg_sl (l.map gvv)).length) Slot.unset).toArray) n (gargs 0 l) := by
  have h1 := lv_entry (l.map gvv) (n := n) (by rw [gwid_eq]; exact h)
  rw [gargs_eq] at h1
  exact h1
/-! a method's contract by the picture before and the picture behind -/
def gMet (l : Launch) (E : g_E) (D : g_D) (y : MethodName) (ws : List Cond) (F Lc : Nat) (av : List g_v) (G : g_G) (rv : Option Value) (G1 : g_G) : Prop :=
  Met l y ws { frames := F, cells := gMc E - gsz G, slots := gMs E - gsl G, locals := Lc } (va_Pc (av.map gvv) (fun U => gRl E D G U)) (fun _ _ o t => o = .returned rv ∧ gRl E D G1 t) (gMc E - gsz G) (gMs E - gsl G) (fun q => gB E ≤ q)
/-- what stands fast while a method's body is walked -/
def gC (p : Program) (R : Room) (s : State) (m : MethodId) (args : Array Value) (meth : Method) (c : Code) (cc : ByteArray) (nL : Nat) (own : String) (nm : String) (ret : Option FieldType) (F Lc : Nat) (E : g_E) (D : g_D) : Prop :=
  p.tables.exec = Jvm.exec ∧ c.code = cc ∧ c.maxLocals = nL ∧ s.vm.findClass own = some m.cls ∧ (∀ w ∈ lw_all, w.before args s = true) ∧ gKn E D s ∧ R.cells = gMc E - s.heap.size ∧ R.slots = gMs E - ghsl s.heap ∧ (s.heap.size ≤ gMc E ∧ ∀ a, a < gB E → s.heap[a]? = D.2.2[a]?) ∧ ghsl s.heap ≤ gMs E ∧
  R.frames = F ∧ R.locals = Lc ∧ meth.sig.returnType = ret ∧ meth.locks = false ∧ meth.name = nm
def gQc (E : g_E) (D : g_D) (rv : Option Value) (G1 : g_G) : Array Value → State → Outcome → State → Prop := fun _ _ o t => o = .returned rv ∧ gRl E D G1 t
abbrev gT (p : Program) (l : Launch) (e : Env) (R : Room) (s : State) (m : MethodId) (args : Array Value) (below : List Frame) (meth : Method) (c : Code) (E : g_E) (D : g_D) (H : Heap) (locs : List Loc) (cells slots : Nat) (rv : Option Value) (G1 : g_G) (g : JFrame) : Prop :=
  W p l e R s m args below meth c H locs cells slots (MQ below (gQc E D rv G1) args s R.cells R.slots (fun q => gB E ≤ q)) g
theorem gMet.of {l : Launch} {E : g_E} {D : g_D} {y : MethodName} {cc : ByteArray} {maxL : Nat} {ret : Option FieldType} {F Lc : Nat} {av : List g_v} {G G1 : g_G} {rv : Option Value} (hy : plainName y.cls = true) (hw : gwid av ≤ maxL)
    (body : ∀ (p : Program) (e : Env) (R : Room) (s : State) (m : MethodId) (args : Array Value) (below : List Frame) (meth : Method) (c : Code), gC p R s m args meth c cc maxL y.cls y.name ret F Lc E D → gSt E D G s.heap [] → ∀ ls : Array Slot, gls ls maxL (gargs 0 av) → gT p l e R s m args below meth c E D s.heap [] 0 0 rv G1 (F0 m 0 ls [])) :
    gMet l E D y (ws_ y cc maxL ret) F Lc av G rv G1 := by
  refine Met.ofW (cc := cc) (maxL := maxL) (ret := ret) hy rfl ?_
  intro p e s m args below meth c s₁ B hml hv
  obtain ⟨rfl, hR, hK⟩ := hv
  have hts := atoms_spec (ws := ws_ y cc maxL ret) B.pre
  rw [lg_entry_eq]
  refine body p e _ s m _ below meth c ⟨B.exec, B.bytes, hml, findClass_of_methodNamed B.named, fun w h => hts w (List.mem_cons_of_mem _ h), hK, ?_, ?_, ?_, ?_, rfl, rfl, B.returns, B.notSynchronized, (name_of_methodNamed B.named B.method).1⟩ ⟨hR, fun q h => by cases h⟩ _ (g_entry av hw)
  · show gMc E - gsz G = _
    rw [hR.1]
  · show gMs E - gsl G = _
    rw [hR.2.1]
  · exact ⟨by rw [hR.1]; exact hR.2.2.1, hR.2.2.2.2.2.2⟩
  · rw [hR.2.1]; exact hR.2.2.2.1
