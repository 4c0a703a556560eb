/-! the law's own body: it ends as the claim asks -/
set_option maxRecDepth 100000
def R_law : String := "SendHallLaw"
def lw_Q (_ : Array Value) (s : State) (o : Outcome) (t : State) : Prop := o = .returned (some (.int 1)) ∧ Framed s o t [] 1200128 5501098
def lw_Z (below : List Frame) (a : Array Value) (s : State) : State → Prop := fun t => ∃ o, t.status = .running ∧ Ended t below o ∧ lw_Q a s o t
/-- the law's own end, with 1 on the stack (the skeleton's row) -/
theorem lw_ret {p : Program} {l : Launch} {e : Env} {s : State} {m : MethodId} {below : List Frame} {meth : Method} {c : Code} {b : Nat} (hx : p.tables.exec = Jvm.exec) (hb : c.code = code) (hr : meth.sig.returnType = ret) (hlocks : meth.locks = false) {pc : Nat} {H : Heap} {ls : Array Slot} (hdg : decode code pc = .ok (.ireturn, 1)) : W p l e room_1 s m #[Value.ref b] below meth c H [] 1200128 5501098 (lw_Z below #[Value.ref b] s) (F0 m pc ls [.int 1]) := by
  intro T hT X
  obtain ⟨fs, hret, hrun, hended, hW, hframe⟩ := X.leave (v := some (.int 1)) (hlocks := hlocks) (fun h => by rw [hr] at h; cases h)
  have hmeth' : T.vm.method? m = some meth := X.method'
  refine ⟨T.setFrames fs, ?_, .returned (some (.int 1)), hrun, hended, rfl, ⟨_, rfl⟩, hW, hframe⟩
  jvm_step X.here [X.here.top, hx, hb, hdg, hmeth', hr, ret, narrow_b1]
  (try refine ⟨rfl, ?_⟩); (try refine ⟨rfl, ?_⟩)
  first | (intro acts; rw [hret _ acts rfl rfl rfl]) | rw [hret _ _ rfl rfl rfl]
  exact Steps.refl _
/-- what stands fast while the law's body is walked -/
def gCL (p : Program) (R : Room) (s : State) (m : MethodId) (args : Array Value) (meth : Method) (c : Code) (cc : ByteArray) (nL : Nat) (own : String) (nm : String) (ret : Option FieldType) (F Lc : Nat) (E : g_E) (D : g_D) : Prop :=
  p.tables.exec = Jvm.exec ∧ c.code = cc ∧ c.maxLocals = nL ∧ s.vm.findClass own = some m.cls ∧ (∀ w ∈ lw_all, w.before args s = true) ∧ gKn E D s ∧ R.cells = gMc E - s.heap.size ∧ R.slots = gMs E - ghsl s.heap ∧ (s.heap.size ≤ gMc E ∧ ∀ a, a < gB E → s.heap[a]? = D.2.2[a]?) ∧ ghsl s.heap ≤ gMs E ∧
  R.frames = F ∧ R.locals = Lc ∧ meth.sig.returnType = ret ∧ meth.locks = false ∧ (R = room_1 ∧ (∃ b, args = #[Value.ref b]) ∧ gB E = s.heap.size)
theorem g_lret {p : Program} {l : Launch} {e : Env} {R : Room} {s : State} {m : MethodId} {args : Array Value} {below : List Frame} {meth : Method} {c : Code} {H : Heap} {locs : List Loc} {cells slots pc : Nat} {ls : Array Slot} {E : g_E} {D : g_D} {G : g_G} (hx : p.tables.exec = Jvm.exec) (hb : c.code = code) (hr : meth.sig.returnType = some .boolean) (hlk : meth.locks = false) (hRc : R.cells = gMc E - s.heap.size) (hRs : R.slots = gMs E - ghsl s.heap) (hnm : R = room_1 ∧ (∃ b, args = #[Value.ref b]) ∧ gB E = s.heap.size) (hS : gSt E D G H locs) {v : Int32} {q : Int32 × g_G} (h : (if v = 0 ∨ v = 1 then some (v, G) else none) = some q) (hq : q.1 = 1) (hdg : decode code pc = .ok (.ireturn, 1)) : W p l e R s m args below meth c H locs cells slots (lw_Z below args s) (F0 m pc ls [.int v]) := by
  obtain ⟨hR, ⟨b, rfl⟩, hB⟩ := hnm
  have hv : v = 1 := by
    by_cases hc : v = 0 ∨ v = 1
    · cases g_ift hc h
      exact hq
    · exact g_no (g_iff hc h)
  subst hv
  refine g_end hRc hRs hS ?_
  subst hR
  intro T hT X
  exact lw_ret (b := b) hx hb hr hlk hdg T hT (Stand.forget (locs := []) X fun y hy => by rw [← hB]; exact hS.2 y hy)
