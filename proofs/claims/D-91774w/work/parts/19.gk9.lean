/-! calls of another kind: private ones of a superclass, inherited static ones, super's, clone, getClass, through Expr -/
set_option maxRecDepth 100000
/-- a private method is the one that runs, whatever the object's own class -/
theorem g_selP {C : String} {y : MethodName} {s : State} {args : Array Value} {n : Nat} (hy : y.cls ≠ "java/lang/invoke/MethodHandle" ∧ y.cls ≠ "java/lang/invoke/VarHandle")
    (hins : (Cond.instantiable C n).before args s = true) (hsame : (Cond.sameMethod y.cls y.cls y.name y.desc).before args s = true) (hpriv : (Cond.privateMethod y).before args s = true) (hinst : (Cond.instanceMethod y).before args s = true) : (Cond.selects C y y).before args s = true := by
  obtain ⟨c, k, hc, hk, -, -, -, -⟩ := Cond.instantiable_spec hins
  obtain ⟨c1, k1, r1, hc1, hk1, hni1, -, hn1⟩ := Cond.sameMethod_found hsame
  obtain ⟨mk, methM, hnamed, hmethM, -, -⟩ := Cond.instanceMethod_spec hinst
  have hfound : s.methodFound? y.cls y.name y.desc = some mk := State.methodFound?_of_named hnamed hy
  have hcls : mk.cls = c1 := Option.some.inj ((findClass_of_methodNamed hnamed).symm.trans hc1)
  have hsel : selectMethod {} s.vm c mk = .method mk := selectMethod_private hmethM (Cond.privateMethod_at hpriv mk methM hnamed hmethM)
  simp only [Cond.before, Cond.holds, Cond.value, hc, hfound, hnamed, hsel, hcls, hk1]
  simp
  exact hni1
theorem g_cwUP {R : Room} {s : State} {args : Array Value} {own C : String} {index maxL mc ms : Nat} {y : MethodName} {bytes : ByteArray} {ret : Option FieldType} {rm : Room} (n : Nat) (hts : ∀ w ∈ lw_all, w.before args s = true) (hG : GoodIn lw_all (ws_ y bytes maxL ret)) (hlink : (Cond.methodLink own index y).before args s = true) (hsame : (Cond.sameMethod y.cls y.cls y.name y.desc).before args s = true)
    (hsel : (Cond.selects C y y).before args s = true) (hinst : (Cond.instanceMethod y).before args s = true) (hini : (Cond.initialized y.cls).before args s = true) (hc : rm.cells = mc) (hs : rm.slots = ms)
    (hd : y.cls ≠ "java/lang/invoke/MethodHandle" ∧ y.cls ≠ "java/lang/invoke/VarHandle" ∧ (parseMethodDescriptor y.desc).map (fun d => d.parameters.length) = some n) (hR : rm.frames + 1 ≤ R.frames ∧ 8 + (maxL + 11) + rm.locals ≤ R.locals) : va_CU R s args own C y.cls index y y bytes maxL ret (ws_ y bytes maxL ret) rm mc ms n := by
  have hcw : Cond.code y bytes maxL ret ∈ ws_ y bytes maxL ret := List.mem_cons_self
  refine ⟨⟨hc, hs, hR.1, hR.2, pay_in hts hG, hcw⟩, hts _ (hG _ hcw).1, hini, ⟨hd.1, hd.2.1⟩, fun sig h => ?_, hlink, hsame, va_Decl.of hinst (hts _ (hG _ hcw).1), hsel, hinst⟩
  have h2 := hd.2.2
  rw [h] at h2
  exact (Option.some.inj h2).symm
/-- a new cell that isn't all zero -/
theorem gReal.push2 {E : g_E} {D : g_D} {G G1 : g_G} {H H1 : Heap} {c n : Nat} {cell : Cell} (h : gReal E D G H) (h1 : H1[H.size]? = some cell) (hz : H1.size = H.size + 1) (ho : ∀ q : Nat, q < H.size → H1[q]? = H[q]?) (hn : cell.slots.size = n) (hc : gsz G + 1 ≤ gMc E) (hs : gsl G + n ≤ gMs E)
    (hok : gOk c) (hvm : gFree cell) (hcl : cell.cls = D.1 c) (h100 : c < 100 → n = gNf c) (hsm : n < 2 ^ 31)
    (e1 : gsz G1 = gsz G + 1) (e2 : gsl G1 = gsl G + n) (e3 : ∀ b, gcl G1 b = if b = gsz G then c else gcl G b) (e4 : ∀ b, gln G1 b = if b = gsz G then n else gln G b) (e5 : ∀ b, b ≠ gsz G → ∀ j, gI G1 b j = gI G b j ∧ gL G1 b j = gL G b j ∧ gR G1 b j = gR G b j)
    (hval : ∀ k, k < n → cell.slots[gslot D c k]? = some (gV G1 (gsz G) k)) : gReal E D G1 H1 := by
  have hlt : ∀ b, gcl G b ≠ 0 → b < gsz G := fun b hb => h.lt hb
  obtain ⟨r1, r2, r3, r4, r5, r6, r7⟩ := h
  refine ⟨by rw [hz, r1, e1], by rw [ghsl_pushed h1 hz ho, r2, hn, e2], by rw [e1]; exact hc, by rw [e2]; exact hs, by rw [e1]; exact Nat.le_succ_of_le r5, fun b hb => ?_, fun b hb => ?_⟩
  · rw [e3] at hb ⊢
    by_cases hbz : b = gsz G
    · subst hbz
      rw [if_pos rfl]
      refine ⟨hok, cell, by rw [← r1]; exact h1, by rw [e3, if_pos rfl]; exact hcl, (by rw [hvm.1]; exact fun h => VmData.noConfusion h), (by rw [hvm.1]; rfl), fun _ => hvm, fun _ => by rw [e4, if_pos rfl]; exact ⟨Nat.le_of_eq hn.symm, congrArg Nat.toInt32 hn, fun _ => hn⟩, fun hh => ?_, by rw [e4, if_pos rfl]; exact hsm, fun k hk => ?_⟩
      · rw [e3, if_pos rfl] at hh ⊢
        rw [e4, if_pos rfl]
        exact h100 hh
      · rw [e4, if_pos rfl] at hk
        rw [e3, if_pos rfl]
        exact hval k hk
    · rw [if_neg hbz] at hb ⊢
      obtain ⟨g1, cb, q1, q2, q3, q4, q5, q6, q7, q8, q9⟩ := r6 b hb
      refine ⟨g1, cb, by rw [ho b (by rw [r1]; exact hlt b hb)]; exact q1, by rw [e3, if_neg hbz]; exact q2, q3, q4, q5, fun hh => ?_, fun hh => ?_, by rw [e4, if_neg hbz]; exact q8, fun k hk => ?_⟩
      · rw [e3, if_neg hbz] at hh
        rw [e4, if_neg hbz]
        exact q6 hh
      · rw [e3, if_neg hbz] at hh ⊢
        rw [e4, if_neg hbz]
        exact q7 hh
      · rw [e4, if_neg hbz] at hk
        obtain ⟨w1, w2, w3⟩ := e5 b hbz k
        have e : gV G1 b k = gV G b k := gV_eq (by rw [e3, if_neg hbz]) w1 w2 w3
        rw [e3, if_neg hbz, e]
        exact q9 k hk
  · rw [ho b (by omega)]
    exact r7 b hb
/-- a copy of a byte[] as a new cell -/
def gdup (G : g_G) (a : Nat) : g_G := (gsz G + 1, gsl G + gln G a, va_up (gcl G) (gsz G) (gcl G a), va_up (gln G) (gsz G) (gln G a), va_up (gI G) (gsz G) (gI G a), va_up (gL G) (gsz G) (gL G a), va_up (gR G) (gsz G) (gR G a))
theorem g_catA (r : Option Nat) : (gvv (.inr (.inr r))).category = 1 := va_rf_cat r
def gclone (E : g_E) (G : g_G) (r : Option Nat) : Option (Nat × g_G) := r.bind fun a => if gB E ≤ a ∧ gcl G a = 101 ∧ gsz G + 1 ≤ gMc E ∧ gsl G + gln G a ≤ gMs E ∧ ∀ k, k < gln G a → gfit G 101 a k = true then some (gsz G, gdup G a) else none
theorem g_up {α : Type} (f : Nat → α) (i : Nat) (x : α) (b : Nat) : va_up f i x b = if b = i then x else f b := rfl
/-- invokestatic through a reference that is resolved further up: the class is looked up, then the method -/
theorem g_wpUp {index ci nt cn : Nat} {mk : MethodId} {dk ck : Class} {cf : ClassFile} {nm ds : String} {T s0 : State} {f : JFrame} {e : Env} {E0 : CtlPost} {Q0 : Unit → Pre} {d0 : Bool} {acts : List Action} (ht : T.topJava?.isSome) (hp : e.platform.polymorphicOnlyByInvokevirtual = true) (hW : s0.WarmedH T.vm) (hE : s0.MethodEntryUp e T.vm f.method.cls index cn mk ci)
    (hd : s0.vm.classes[f.method.cls]? = some dk) (hf : dk.cf = some cf) (hr : cf.constantPool[index]? = some (.methodref ci nt)) (hn : cf.constantPool.nameAndType? nt = some (nm, ds)) (hc : s0.vm.classes[cn]? = some ck) (hno : (ck.methods.any fun x => x.name == nm && !x.isStatic && signaturePolymorphic ck x) = false) :
    wp (Op.invokestatic.sem index) Q0 E0 e d0 acts (T.setTop f) ↔ wp (Op.invokestatic.sem index) Q0 E0 e d0 acts ((T.setVm (T.vm.calledUp f.method.cls ci index cn mk)).setTop f) := by
  obtain ⟨first, -, hWm, second⟩ := hE.classFirst
  have hr' : cf.constantPool[index]? = some (if false then .interfaceMethodref ci nt else .methodref ci nt) := hr
  have see : ∀ vm', s0.WarmedH vm' → ∃ d c : Class, vm'.classes[f.method.cls]? = some d ∧ d.cf = some cf ∧ vm'.classes[cn]? = some c ∧ (c.methods.any fun x => x.name == nm && !x.isStatic && signaturePolymorphic c x) = false := by
    intro vm' hw
    obtain ⟨d, g1, g2⟩ := hw.alike.2.2 _ _ hd
    obtain ⟨c, g3, g4⟩ := hw.alike.2.2 _ _ hc
    exact ⟨d, c, g1, by rw [g2]; exact hf, g3, by rw [g4]; exact hno⟩
  obtain ⟨d1, -, a1, a2, -, -⟩ := see _ hW
  obtain ⟨-, c2, -, -, a3, a4⟩ := see _ hWm
  obtain ⟨d3, c3, a5, a6, a7, a8⟩ := see _ hE.warmed
  have m1 := memberRef_ask_via (e := e) a1 a2 hr' hn
  have m3 := memberRef_ask_via (e := e) a5 a6 hr' hn
  have t2 : (T.setVm (T.vm.noted f.method.cls ci (.cls cn))).topJava?.isSome := ht
  have t3 : (T.setVm (T.vm.calledUp f.method.cls ci index cn mk)).topJava?.isSome := ht
  have stepC : ∀ {Q' : ClassId → Pre} {d' : Bool} {l' : List Action}, wp (Jvm.resolveClassAt ci) Q' E0 e d' l' (T.setTop f) ↔ Q' cn d' l' ((T.setVm (T.vm.noted f.method.cls ci (.cls cn))).setTop f) := W.resolveClassAt_links (t := T.setTop f) (State.method?_setTop f ht) first
  have stepM : ∀ {Q' : MethodId → Pre} {d' : Bool} {l' : List Action}, wp (Jvm.resolveMethodAt index) Q' E0 e d' l' ((T.setVm (T.vm.noted f.method.cls ci (.cls cn))).setTop f) ↔ Q' mk d' l' ((T.setVm (T.vm.calledUp f.method.cls ci index cn mk)).setTop f) := W.resolveMethodAt_links (t := (T.setVm (T.vm.noted f.method.cls ci (.cls cn))).setTop f) (State.method?_setTop f t2) second
  simp [Op.invokestatic.sem, hp, Seam.memberRefOf, State.method?_setTop f ht, State.method?_setTop f t3, m1, m3, stepC, stepM, W.resolveClassAt_ready (s := (T.setVm (T.vm.calledUp f.method.cls ci index cn mk)).setTop f) (State.method?_setTop f t3) hE.classReady,
    W.resolveMethodAt_ready (s := (T.setVm (T.vm.calledUp f.method.cls ci index cn mk)).setTop f) (State.method?_setTop f t3) hE.ready, a3, a4, a7, a8, -Array.any_eq_true]
section GROW9
variable {p : Program} {l : Launch} {e : Env} {R : Room} {s : State} {m : MethodId} {args : Array Value} {below : List Frame} {meth : Method} {c : Code} {H : Heap} {locs : List Loc} {cells slots : Nat} {Q : State → Prop}
variable {cc : ByteArray} {pc nL : Nat} {ls : Array Slot} {rest : List Value} {E : g_E} {D : g_D} {G : g_G} {own nm : String} {ret : Option FieldType} {F Lc : Nat}
theorem g_cloneG (hx : p.tables.exec = Jvm.exec) (hb : c.code = cc) (hml : c.maxLocals = nL) (hown : s.vm.findClass own = some m.cls) (hts : ∀ w ∈ lw_all, w.before args s = true) (hKn : gKn E D s) (hRc : R.cells = gMc E - s.heap.size) (hRs : R.slots = gMs E - ghsl s.heap) (hS : gSt E D G H locs) {l0 : List (Nat × g_v)} (hl : gls ls nL l0) {r : Option Nat} {index : Nat} {rs : List g_v} {st0 : List Value} {β : Type} {f : Nat × g_G → Option β} {Rr : β} (h : (gclone E G r).bind f = some Rr)
    (hlink : (Cond.methodLink own index ⟨"[B", "clone", "()Ljava/lang/Object;"⟩).before args s = true) (hsame : (Cond.sameMethod "[B" "java/lang/Object" "clone" "()Ljava/lang/Object;").before args s = true) (hnat : (Cond.native ⟨"java/lang/Object", "clone", "()Ljava/lang/Object;"⟩).before args s = true) (hinst : (Cond.instanceMethod ⟨"java/lang/Object", "clone", "()Ljava/lang/Object;"⟩).before args s = true)
    (hsel : (Cond.selects "[B" ⟨"[B", "clone", "()Ljava/lang/Object;"⟩ ⟨"java/lang/Object", "clone", "()Ljava/lang/Object;"⟩).before args s = true) (hcl : Cond.castable "[B" "java/lang/Cloneable" ∈ lw_tbl) (hst : st0 = va_rf r :: rs.map gvv) (h8 : gwid rs ≤ 8) (hR : 1 ≤ R.frames ∧ 22 ≤ R.locals) (hdg : decode cc pc = .ok (.invokevirtual index, 3))
    (kk : ∀ q, f q = some Rr → ∀ (H1 : Heap) (locs1 : List Loc) (cells1 slots1 : Nat), gSt E D q.2 H1 locs1 → W p l e R s m args below meth c H1 locs1 cells1 slots1 Q (F0 m (pc + 3) ls (va_rf (some q.1) :: rs.map gvv))) : W p l e R s m args below meth c H locs cells slots Q (F0 m pc ls st0) := by
  subst hst
  obtain ⟨q, hx1, hf⟩ := g_bnd h
  obtain ⟨a, rfl, h2⟩ := g_bnd hx1
  by_cases hc : gB E ≤ a ∧ gcl G a = 101 ∧ gsz G + 1 ≤ gMc E ∧ gsl G + gln G a ≤ gMs E ∧ ∀ k, k < gln G a → gfit G 101 a k = true
  · cases g_ift hc h2
    obtain ⟨hBa, c1, c2, c3, c4⟩ := hc
    refine W.room hRc hRs hS fun hr => ?_
    obtain ⟨cell, q1, ⟨-, kA, t1, comp, t2⟩, q3, q40, q5, q6, q7, q8, q9⟩ := g_arr hKn hS c1 (by decide)
    have q4 := q40.2.2 hBa
    have hn := hKn.2.2.1 101 (by decide)
    have e0 : "[" ++ (gAT 101).toString = "[B" := by decide +kernel
    unfold gArn at hn
    rw [e0] at hn
    obtain ⟨c0, t0, f1, f2, f3⟩ := Cond.castable_spec (gNest_use (A := args) rfl (hKn.2.2.2.2.1 _ (gNest_in hcl rfl)))
    cases hn.symm.trans f1
    intro T hT X
    obtain ⟨kA2, hkA2, he2⟩ := X.warmed.alike.2.2 _ _ t1
    obtain ⟨vm', X', st⟩ := X.cloneArray hx hown hlink hsame hnat hinst hsel (a := a) (cell := cell) (by rw [hT]; exact q1) (fun z hz => by rw [hz] at q8; cases q8) q3 (by rw [q7]; exact hn) f2 (by rw [q7]; exact f3)
      (fun i v hv => by
        have hi : i < gln G a := by
          rw [← q4]
          exact (Array.getElem?_eq_some_iff.mp hv).1
        have hv2 : some v = some (gV G a i) := hv.symm.trans (q9 i hi)
        cases hv2
        rw [gV_I (by rw [c1]; rfl)]
        have hfi : (gI G a i).toInt8.toInt32 = gI G a i := of_decide_eq_true (c4 i hi)
        have hk2 : T.vm.classes[cell.cls]? = some kA2 := hkA2
        have hki : kA2.kind = .array comp .byte := by rw [he2]; exact t2
        simpa [State.fitsSlot, State.slotType?, hk2, hki] using g_fitB hfi)
      (g := F0 m pc ls (.ref a :: rs.map gvv)) rfl (by rw [hml]; exact hl.1) rfl (by rw [hb]; exact hdg) hR.1 (by show 2 * 0 + _ + 14 ≤ _; rw [gcat_eq]; omega) (by omega) (by rw [q4]; omega) (hloader := Vm.clonesLoader_of_array t1 t2)
    rw [hT] at st
    have hRl : gReal E D (gdup G a) (H.push { cls := cell.cls, slots := cell.slots }) := by
      refine hS.1.push2 (c := 101) (n := gln G a) (cell := { cls := cell.cls, slots := cell.slots }) (by rw [Array.getElem?_push_size]) (by simp) (fun z hz => by rw [Array.getElem?_push, if_neg (Nat.ne_of_lt hz)]) q4 c2 c3 (Or.inr (Or.inr (Or.inl rfl))) ⟨rfl, rfl, rfl⟩ q7 (fun z => absurd z (by decide)) q5 rfl rfl (fun b => ?_) (fun b => rfl) (fun b hb j => ?_) (fun k hk => ?_)
      · show va_up (gcl G) (gsz G) (gcl G a) b = _
        rw [g_up, c1]
      · refine ⟨?_, ?_, ?_⟩
        · show va_up (gI G) (gsz G) (gI G a) b j = _
          rw [g_up, if_neg hb]
        · show va_up (gL G) (gsz G) (gL G a) b j = _
          rw [g_up, if_neg hb]
        · show va_up (gR G) (gsz G) (gR G a) b j = _
          rw [g_up, if_neg hb]
      · have e9 := q9 k hk
        have e8 : gV (gdup G a) (gsz G) k = gV G a k := by
          have x1 : gcl (gdup G a) (gsz G) = 101 := by
            show va_up (gcl G) (gsz G) (gcl G a) (gsz G) = _
            rw [g_up, if_pos rfl, c1]
          rw [gV_I (by rw [x1]; rfl), gV_I (by rw [c1]; rfl)]
          show Value.int (va_up (gI G) (gsz G) (gI G a) (gsz G) k) = _
          rw [g_up, if_pos rfl]
        rw [e8]
        exact e9
    obtain ⟨t, b1, b2⟩ := kk _ hf _ _ _ _ ⟨hRl, hS.2⟩ ((T.setVm vm').pushCell { cls := cell.cls, slots := cell.slots }) (by rw [← hT]; rfl) X'
    refine ⟨t, st t ?_, b2⟩
    rw [hS.1.1]
    exact b1
  · exact g_no (g_iff hc h2)
/-- the mirror of Object[] -/
theorem g_ldcM (hx : p.tables.exec = Jvm.exec) (hb : c.code = cc) (hown : s.vm.findClass own = some m.cls) (hKn : gKn E D s) {index : Nat} (hlink : (Cond.classLink own index "[Ljava/lang/Object;").before args s = true) (hdg : decode cc pc = .ok (.ldc index, 2))
    (kk : W p l e R s m args below meth c H locs cells slots Q (F0 m (pc + 2) ls (va_rf (some (gA E 7)) :: rest))) : W p l e R s m args below meth c H locs cells slots Q (F0 m pc ls rest) := va_ldcM hx hb hown hlink hKn.2.2.2.2.2.2.2.2.2.2.1 hdg kk
theorem g_getC (hx : p.tables.exec = Jvm.exec) (hb : c.code = cc) (hml : c.maxLocals = nL) (hown : s.vm.findClass own = some m.cls) (hKn : gKn E D s) (hS : gSt E D G H locs) {l0 : List (Nat × g_v)} (hl : gls ls nL l0) {index b : Nat} {r : Option Nat} {rs : List g_v} {st0 : List Value} (hr : r = some b) (hk : gcl G b = 120) (hlink : (Cond.methodLink own index ⟨"java/lang/Object", "getClass", "()Ljava/lang/Class;"⟩).before args s = true) 
    (hsel : (Cond.selects "[Ljava/lang/Object;" ⟨"java/lang/Object", "getClass", "()Ljava/lang/Class;"⟩ ⟨"java/lang/Object", "getClass", "()Ljava/lang/Class;"⟩).before args s = true) (hinst : (Cond.instanceMethod ⟨"java/lang/Object", "getClass", "()Ljava/lang/Class;"⟩).before args s = true) (hnat : (Cond.native ⟨"java/lang/Object", "getClass", "()Ljava/lang/Class;"⟩).before args s = true)
    (hst : st0 = va_rf r :: rs.map gvv) (h8 : gwid rs ≤ 8) (hR : 1 ≤ R.frames ∧ 22 ≤ R.locals) (hdg : decode cc pc = .ok (.invokevirtual index, 3))
    (kk : W p l e R s m args below meth c H locs cells slots Q (F0 m (pc + 3) ls (va_rf (some (gA E 7)) :: rs.map gvv))) : W p l e R s m args below meth c H locs cells slots Q (F0 m pc ls st0) := by
  subst hr
  subst hst
  obtain ⟨cell, q1, q2, q3, q4, q5, q6, q7, q8, q9⟩ := g_arr hKn hS hk (by decide)
  have hn := hKn.2.2.1 120 (by decide)
  have e0 : "[" ++ (gAT 120).toString = "[Ljava/lang/Object;" := by decide +kernel
  unfold gArn at hn
  rw [e0] at hn
  exact va_getC hx hb (by rw [hml]; exact hl.1.symm) hown hlink (va_Dc.use hKn.2.2.2.2.2.2.2.2.2.2.2.1) hsel hinst hnat hKn.2.2.2.2.2.2.2.2.2.2.1 ⟨cell, q1, q8, by rw [q7]; exact hn⟩ hR.1 (by rw [gcat_eq]; omega) hdg kk
variable {y : MethodName} {bytes : ByteArray} {maxL index n F1 L1 : Nat} {av rs : List g_v} {b : Nat} {C : String} {rv : Option Value} {G1 : g_G} {st0 : List Value} {rt : Option FieldType}
theorem g_back (hM : gMet l E D y (ws_ y bytes maxL rt) F1 L1 av G rv G1) (hts : ∀ w ∈ lw_all, w.before args s = true) (hW : GoodIn lw_all (ws_ y bytes maxL rt)) (hini : (Cond.initialized y.cls).before args s = true) (hR : F1 + 1 ≤ R.frames ∧ 8 + (maxL + 11) + L1 ≤ R.locals) : Back l R p e below s args y 3 8 (PreOf R (gMc E - gsz G) (gMs E - gsl G) (va_Pc (av.map gvv) (fun U => gRl E D G U))) (PostOf (fun _ _ o t => o = .returned rv ∧ gRl E D G1 t) (gMc E - gsz G) (gMs E - gsl G) (fun q => gB E ≤ q)) :=
  back_of (bytes := bytes) (maxL := maxL) (ret := rt) hM (g_blind _) rfl rfl hR.1 hR.2 (pay_in hts hW) List.mem_cons_self (fun a' U hw => word_at hw (Or.inl (by first | rfl | simp [Cond.onTables, Cond.keeps, Cond.steady])) hini)
/-- super.m(..), where the named class inherits m from further up -/
theorem g_callSX (hx : p.tables.exec = Jvm.exec) (hb : c.code = cc) (hml : c.maxLocals = nL) (hown : s.vm.findClass own = some m.cls) (hts : ∀ w ∈ lw_all, w.before args s = true) (hKn : gKn E D s) (hRc : R.cells = gMc E - s.heap.size) (hRs : R.slots = gMs E - ghsl s.heap) (hS : gSt E D G H locs) {l0 : List (Nat × g_v)} (hl : gls ls nL l0) {cC : ClassId} {up : String} (hat : ClassAt s C cC)
    (hM : gMet l E D y (ws_ y bytes maxL rt) F1 L1 (.inr (.inr (some b)) :: av) G rv G1) (hW : GoodIn lw_all (ws_ y bytes maxL rt)) (hini : (Cond.initialized y.cls).before args s = true) (hlink : (Cond.methodLink own index ⟨up, y.name, y.desc⟩).before args s = true) (hsame : (Cond.sameMethod up y.cls y.name y.desc).before args s = true) (hs1 : (Cond.superclass own up).before args s = true) (hs2 : (Cond.superclass up y.cls).before args s = true) (hinst : (Cond.instanceMethod y).before args s = true)
    (hd : y.name ≠ "<init>" ∧ (parseMethodDescriptor y.desc).map (fun d => d.parameters.length) = some n) (hR : F1 + 1 ≤ R.frames ∧ 8 + (maxL + 11) + L1 ≤ R.locals)
    (hrv : ∃ cell : Cell, H[b]? = some cell ∧ cell.vm.isStatics = false ∧ s.vm.findClass C = some cell.cls) (hn : av.length = n) (hst : st0 = (av.map gvv).reverse ++ .ref b :: rs.map gvv) (h8 : gwid rs ≤ 8) (hdg : decode cc pc = .ok (.invokespecial index, 3))
    (kk : ∀ (H1 : Heap) (locs1 : List Loc) (cells1 slots1 : Nat), gSt E D G1 H1 locs1 → W p l e R s m args below meth c H1 locs1 cells1 slots1 Q (F0 m (pc + 3) ls (rv.toList ++ rs.map gvv))) : W p l e R s m args below meth c H locs cells slots Q (F0 m pc ls st0) := by
  refine W.room hRc hRs hS fun hf => g_go hS ?_ kk
  have hK := g_back (R := R) (p := p) (e := e) (below := below) hM hts hW hini hR
  obtain ⟨cellB, hcB, hoB, hclB⟩ := hrv
  obtain ⟨hfc, kB, hkB, -⟩ := hat
  cases hfc.symm.trans hclB
  obtain ⟨mk, methM, hnamed, hmethM, hstM, habM⟩ := Cond.instanceMethod_spec hinst
  obtain ⟨methM', cM, hmethM', -, -, -, -, -, -, hsigM⟩ := Cond.code_spec hnamed (hts _ (hW _ List.mem_cons_self).1)
  cases hmethM.symm.trans hmethM'
  obtain ⟨ps, dk, kp, hps, hdk, hkp, hsuper, -, -, hnid⟩ := Cond.superclass_spec hown hs1
  obtain ⟨ps2, dk2, kp2, hps2, hdk2, hkp2, hsuper2, -, -, -⟩ := Cond.superclass_spec (c := ps) hps hs2
  have hn2 : s.methodNamed? ⟨y.cls, y.name, y.desc⟩ = some mk := hnamed
  have hpm : ps2 = mk.cls := Option.some.inj (hps2.symm.trans (findClass_of_methodNamed hnamed))
  have hsub : s.vm.isSubclass ps mk.cls = true := by
    rw [← hpm]
    have hpos : 0 < s.vm.classes.size := Nat.lt_of_le_of_lt (Nat.zero_le _) (Array.getElem?_eq_some_iff.mp hdk2).1
    obtain ⟨k, hk⟩ : ∃ k, s.vm.classes.size = k + 1 := ⟨s.vm.classes.size - 1, by omega⟩
    simp [Vm.isSubclass, Vm.isSubclassAux, hdk2, hsuper2, hk]
  intro T hT X
  have hlen : (av.map gvv).length = methM.sig.parameters.length := by
    have h2 := hd.2
    rw [hsigM] at h2
    rw [List.length_map, hn]
    exact (Option.some.inj h2).symm
  obtain ⟨vm1, X1, hstep1⟩ := X.invokespecialUp hx hown hlink hsame hn2 hmethM hstM habM hd.1 hdk hnid hps hsuper hsub (a := b) (cell := cellB) (by rw [hT]; exact hcB) (fun z h => by rw [h] at hoB; cases hoB) hkB (g := F0 m pc ls st0) rfl (argsL := av.map gvv) (rest := rs.map gvv) hlen hst (by rw [hb]; exact hdg)
  obtain ⟨v, ⟨U', l2, c2, s2⟩, X', ⟨g', mk', t, L, e1, e2, hq, h1, hL, h2, h3⟩, hsteps⟩ := hK m meth c ⟨T.setVm vm1, locs, _, _⟩ (F0 m pc ls (rs.map gvv)) (.invokespecial index) mk (Value.ref b :: av.map gvv).toArray X1 rfl (by rw [hml]; exact hl.1) (by rw [hb]; exact hdg) (lv_room (by rw [gcat_eq]; exact h8)) (X1.named hnamed) ⟨hf.1, hf.2, rfl, by show gReal E D G (T.setVm vm1).heap; rw [show (T.setVm vm1).heap = H from hT]; exact hS.1, hKn.warm X1.warmed⟩
  dsimp only [Pt.U, Pt.locs, Pt.cells, Pt.slots] at X' e1 e2 h1 h2 h3 hsteps
  subst h1; subst h2; subst h3
  exact ⟨v, (T.setVm vm1).calling g' mk' (Value.ref b :: av.map gvv).toArray, t, U', L, hT, X', hL, e1, e2, hq, fun target h => hstep1 _ (by rw [doInvoke_state]; exact hsteps.trans h)⟩
/-- an inherited static method -/
theorem g_callSS (hx : p.tables.exec = Jvm.exec) (hb : c.code = cc) (hml : c.maxLocals = nL) (hown : s.vm.findClass own = some m.cls) (hts : ∀ w ∈ lw_all, w.before args s = true) (hKn : gKn E D s) (hRc : R.cells = gMc E - s.heap.size) (hRs : R.slots = gMs E - ghsl s.heap) (hS : gSt E D G H locs) {l0 : List (Nat × g_v)} (hl : gls ls nL l0) {sub : String}
    (hM : gMet l E D y (ws_ y bytes maxL rt) F1 L1 av G rv G1) (hW : GoodIn lw_all (ws_ y bytes maxL rt)) (hini : (Cond.initialized y.cls).before args s = true) (hlink : (Cond.methodLink own index ⟨sub, y.name, y.desc⟩).before args s = true) (hsame : (Cond.sameMethod sub y.cls y.name y.desc).before args s = true) (hstat : (Cond.static y).before args s = true)
    (hd : y.cls ≠ "java/lang/invoke/MethodHandle" ∧ y.cls ≠ "java/lang/invoke/VarHandle" ∧ (parseMethodDescriptor y.desc).map (fun d => d.parameters.length) = some n) (hR : F1 + 1 ≤ R.frames ∧ 8 + (maxL + 11) + L1 ≤ R.locals)
    (hn : av.length = n) (hst : st0 = (av.map gvv).reverse ++ rs.map gvv) (h8 : gwid rs ≤ 8) (hdg : decode cc pc = .ok (.invokestatic index, 3))
    (kk : ∀ (H1 : Heap) (locs1 : List Loc) (cells1 slots1 : Nat), gSt E D G1 H1 locs1 → W p l e R s m args below meth c H1 locs1 cells1 slots1 Q (F0 m (pc + 3) ls (rv.toList ++ rs.map gvv))) : W p l e R s m args below meth c H locs cells slots Q (F0 m pc ls st0) := by
  refine W.room hRc hRs hS fun hf => g_go hS ?_ kk
  have hK := g_back (R := R) (p := p) (e := e) (below := below) hM hts hW hini hR
  intro T hT X
  have hcode := hts _ (hW _ (List.mem_cons_self (a := Cond.code y bytes maxL rt))).1
  obtain ⟨cn, ck, mk, hcn, hck, hni, hfd, hnamed⟩ := Cond.sameMethod_found hsame
  have hnamed : s.methodNamed? y = some mk := hnamed
  obtain ⟨kM, hkM, hnM⟩ := className_of_methodNamed hnamed
  obtain ⟨methM, cM, hmethM, -, -, -, -, -, -, hsigM⟩ := Cond.code_spec hnamed hcode
  have hstM : methM.isStatic = true := Cond.static_spec hnamed hmethM hstat
  have hiniM : kM.init = .initialized := Cond.initialized_spec (findClass_of_methodNamed hnamed) hkM hini
  have hlen : (av.map gvv).length = methM.sig.parameters.length := by
    have h2 := hd.2.2
    rw [hsigM] at h2
    rw [List.length_map, hn]
    exact (Option.some.inj h2).symm
  have hpl : e.platform.magicAccessors = ({} : Platform).magicAccessors := by rw [X.admits.platform]
  have hpv : e.platform.polymorphicOnlyByInvokevirtual = true := by rw [X.admits.platform]
  obtain ⟨ci, hlk, hright⟩ := Cond.methodLink_specUp hown hcn hck hni hfd hlink e.platform hpl (by rw [X.admits.platform])
  have hE : s.MethodEntryUp e T.vm m.cls index cn mk ci := State.methodEntryUp X.warmed hlk hright
  obtain ⟨dk, cfile, nt, mname, mdesc, ck', _, _, hdk, hcf, hcp, hnt, -, -, hck', -, hnp, -⟩ := hlk.here
  cases hck.symm.trans hck'
  obtain ⟨dk2, hdk2, hed2⟩ := hE.warmed.alike.2.2 _ _ hdk
  obtain ⟨kM2, hkM2, heM2⟩ := hE.warmed.alike.2.2 _ _ hkM
  obtain ⟨ck2, hck2, hec2⟩ := hE.warmed.alike.2.2 _ _ hck
  have hno : (ck.methods.any fun x => x.name == mname && !x.isStatic && signaturePolymorphic ck x) = false := by simp [hnp]
  have hno2 : (ck2.methods.any fun x => x.name == mname && !x.isStatic && signaturePolymorphic ck2 x) = false := by rw [hec2]; exact hno
  have hcp' : cfile.constantPool[index]? = some (if false then .interfaceMethodref ci nt else .methodref ci nt) := hcp
  have X1 := X.noted hE.warmed
  obtain ⟨v, ⟨U', l2, c2, s2⟩, X', ⟨g', mk', t, L, e1, e2, hq, h1, hL, h2, h3⟩, hsteps⟩ := hK m meth c ⟨T.setVm (T.vm.calledUp m.cls ci index cn mk), locs, _, _⟩ (F0 m pc ls (rs.map gvv)) (.invokestatic index) mk (av.map gvv).toArray X1 rfl (by rw [hml]; exact hl.1) (by rw [hb]; exact hdg) (lv_room (by rw [gcat_eq]; exact h8)) (X1.named hnamed) ⟨hf.1, hf.2, rfl, by show gReal E D G T.heap; rw [hT]; exact hS.1, hKn.warm X1.warmed⟩
  dsimp only [Pt.U, Pt.locs, Pt.cells, Pt.slots] at X' e1 e2 h1 h2 h3 hsteps
  subst h1; subst h2; subst h3
  refine ⟨v, (T.setVm (T.vm.calledUp m.cls ci index cn mk)).calling g' mk' (av.map gvv).toArray, t, U', L, hT, X', hL, e1, e2, hq, fun target h => ?_⟩
  have key : ∀ acts, Steps p.tables e below (doInvoke e ((T.setVm (T.vm.calledUp m.cls ci index cn mk)).setTop (F0 m pc ls (rs.map gvv))) acts mk (av.map gvv).toArray).1 target := fun acts => by
    rw [doInvoke_state]
    exact hsteps.trans h
  have hdg' : decode c.code pc = .ok (.invokestatic index, 3) := by rw [hb]; exact hdg
  jvm_step X.here [hx, hdg', g_wpUp (e := e) (T := T) (s0 := s) (f := F0 m pc ls st0) X.here.top hpv X.warmed hE hdk hcf hcp hnt hck hno,
    Op.invokestatic.wp_ready (e := e) (s := T.setVm (T.vm.calledUp m.cls ci index cn mk)) (k := kM2) (meth := methM) (m := mk) (args := av.map gvv) (rest := rs.map gvv) (f := F0 m pc ls st0) X.here.top ⟨ci, mname, mdesc, false, cn, ck2, memberRef_ask_via (e := e) hdk2 (by rw [hed2]; exact hcf) hcp' hnt, hE.classReady, hck2, hno2⟩ hE.ready hkM2
      (by show (T.vm.calledUp m.cls ci index cn mk).method? mk = some methM; rw [hE.warmed.alike.method?]; exact hmethM) (by rw [heM2]; show signaturePolymorphic kM methM = false; simp [signaturePolymorphic, hnM, hd.1, hd.2.1]) hstM (by rw [heM2]; exact hiniM) hlen hst]
  exact fun acts => key _
/-- Expr.value as one function of any reference: it runs what the object's own kind says -/
def gIk (l : Launch) (E : g_E) (D : g_D) (y : MethodName) (cy : ByteArray) (mL : Nat) (F1 L1 : Nat) (t : Nat) (v1 : Option Nat) (v2 : Int32) (G : g_G) (q : Int32 × g_G) : Prop := ∃ F L, F ≤ F1 ∧ L ≤ L1 ∧ mL ≤ 5 ∧ gMet l E D y (ws_ y cy mL (some .int)) F L [.inr (.inr (some t)), .inr (.inr v1), .inl v2] G (some (.int q.1)) q.2
def gIV (l : Launch) (E : g_E) (D : g_D) (fI : Option Nat → Option Nat → Int32 → g_G → Option (Int32 × g_G)) (F1 L1 : Nat) : Prop := ∀ (r v1 : Option Nat) (v2 : Int32) (G : g_G) (q : Int32 × g_G), fI r v1 v2 G = some q → ∃ t, r = some t ∧
  ((gcl G t = 8 ∧ gIk l E D yX10_value cX10_value 3 F1 L1 t v1 v2 G q) ∨ (gcl G t = 9 ∧ gIk l E D yX11_value cX11_value 5 F1 L1 t v1 v2 G q) ∨ (gcl G t = 10 ∧ gIk l E D yX12_value cX12_value 3 F1 L1 t v1 v2 G q))
def gxV : MethodName := ⟨"SendHall$Expr", "value", "(LSendHall$Life;I)I"⟩
theorem g_valueK (hx : p.tables.exec = Jvm.exec) (hb : c.code = cc) (hml : c.maxLocals = nL) (hown : s.vm.findClass own = some m.cls) (hts : ∀ w ∈ lw_all, w.before args s = true) (hKn : gKn E D s) (hRc : R.cells = gMc E - s.heap.size) (hRs : R.slots = gMs E - ghsl s.heap) (hS : gSt E D G H locs) {l0 : List (Nat × g_v)} (hl : gls ls nL l0) {cy : ByteArray} {mL k t count : Nat} {v1 : Option Nat} {v2 : Int32} {q : Int32 × g_G} (hI : gIk l E D y cy mL F1 L1 t v1 v2 G q) (hk : gcl G t = k) (b1 : 1 ≤ k) (b2 : k ≤ 22)
    (hlk : Cond.methodLink own index gxV ∈ lw_all) (h1 : Cond.selects (gNm k) gxV y ∈ lw_all) (h2 : Cond.instanceMethod y ∈ lw_all) (h3 : Cond.initialized y.cls ∈ lw_all) (h4 : Cond.code y cy mL (some .int) ∈ lw_all) (hFw : va_Fw (gNm k) gxV y s)
    (hR : F1 + 1 ≤ R.frames ∧ 24 + L1 ≤ R.locals) (hst : st0 = .int v2 :: va_rf v1 :: .ref t :: rs.map gvv) (h8 : gwid rs ≤ 8) (hdg : decode cc pc = .ok (.invokeinterface index count, 5))
    (kk : ∀ (H1 : Heap) (locs1 : List Loc) (cells1 slots1 : Nat), gSt E D q.2 H1 locs1 → W p l e R s m args below meth c H1 locs1 cells1 slots1 Q (F0 m (pc + 5) ls (.int q.1 :: rs.map gvv))) : W p l e R s m args below meth c H locs cells slots Q (F0 m pc ls st0) := by
  obtain ⟨F, L, w1, w2, w3, hM⟩ := hI
  refine g_callF (n := 2) (x := gxV) (av := [.inr (.inr v1), .inl v2]) (rs := rs) hx hb hml hown hts hKn hRc hRs hS hl (C := gNm k) (hKn.obj b1 b2).2 hM (lw_app ?_ (lw_meth h4)) hFw ⟨by decide, by decide, by decide +kernel⟩ ⟨by omega, by omega⟩ (g_recv hKn hS hk b1 b2) rfl hst h8 hdg kk
  intro w hw
  simp only [List.mem_cons, List.not_mem_nil, or_false] at hw
  rcases hw with e | e | e | e
  · rw [e]; exact hlk
  · rw [e]; exact h1
  · rw [e]; exact h2
  · rw [e]; exact h3
theorem g_valueI (hx : p.tables.exec = Jvm.exec) (hb : c.code = cc) (hml : c.maxLocals = nL) (hown : s.vm.findClass own = some m.cls) (hts : ∀ w ∈ lw_all, w.before args s = true) (hKn : gKn E D s) (hRc : R.cells = gMc E - s.heap.size) (hRs : R.slots = gMs E - ghsl s.heap) (hS : gSt E D G H locs) {l0 : List (Nat × g_v)} (hl : gls ls nL l0) {fI : Option Nat → Option Nat → Int32 → g_G → Option (Int32 × g_G)} {r v1 : Option Nat} {v2 : Int32} {q : Int32 × g_G} {count : Nat} (hI : gIV l E D fI F1 L1) (h : fI r v1 v2 G = some q)
    (hlk : Cond.methodLink own index gxV ∈ lw_all) (hR : F1 + 1 ≤ R.frames ∧ 24 + L1 ≤ R.locals) (hst : st0 = .int v2 :: va_rf v1 :: va_rf r :: rs.map gvv) (h8 : gwid rs ≤ 8) (hdg : decode cc pc = .ok (.invokeinterface index count, 5))
    (kk : ∀ (H1 : Heap) (locs1 : List Loc) (cells1 slots1 : Nat), gSt E D q.2 H1 locs1 → W p l e R s m args below meth c H1 locs1 cells1 slots1 Q (F0 m (pc + 5) ls (.int q.1 :: rs.map gvv))) : W p l e R s m args below meth c H locs cells slots Q (F0 m pc ls st0) := by
  obtain ⟨t, rfl, h1 | h1 | h1⟩ := hI r v1 v2 G q h
  · exact g_valueK hx hb hml hown hts hKn hRc hRs hS hl h1.2 h1.1 (by decide) (by decide) hlk q747 q749 q144 q751 (hKn.2.2.2.2.2.2.2.2.2.1 RX10 (by decide)) hR hst h8 hdg kk
  · exact g_valueK hx hb hml hown hts hKn hRc hRs hS hl h1.2 h1.1 (by decide) (by decide) hlk q753 q755 q145 q757 (hKn.2.2.2.2.2.2.2.2.2.1 RX11 (by decide)) hR hst h8 hdg kk
  · exact g_valueK hx hb hml hown hts hKn hRc hRs hS hl h1.2 h1.1 (by decide) (by decide) hlk q776 q778 q147 q780 (hKn.2.2.2.2.2.2.2.2.2.1 RX12 (by decide)) hR hst h8 hdg kk
end GROW9
