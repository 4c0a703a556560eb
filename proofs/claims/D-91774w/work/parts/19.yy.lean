/-! the constructors of exceptions, on an object that the picture has (follows vx_ctorMade0 of the starting text EXCEPTIONS; here the object's class may be a subclass of the constructor's) -/
set_option maxRecDepth 100000
/-- the words that the constructor Y0.<init>() asks; the words of the object's own class -/
def gxA (own : String) (ic : Nat) (Y0 : String) (names : List String) : List Cond := Bundle.throwableAtoms ++ Bundle.chain0Atoms Y0 names ++ [.methodLink own ic (Bundle.init0 Y0), .fieldLink Bundle.tN 198 Bundle.tN "backtrace" "Ljava/lang/Object;", .lays Bundle.tN Bundle.tN "backtrace" "Ljava/lang/Object;"]
def gxK (K : String) (n : Nat) : List Cond := [.instantiable K n, .selects K Bundle.tFill0 Bundle.tFill0, .selects K Bundle.tFill Bundle.tFill, .lays K Bundle.tN "cause" "Ljava/lang/Throwable;", .lays K Bundle.tN "stackTrace" Bundle.steD, .lays K Bundle.tN "suppressedExceptions" Bundle.listD, .lays K Bundle.tN "backtrace" "Ljava/lang/Object;"]
/-- the object behind the constructor -/
def gxC (cell : Cell) (a c1 c2 c3 : Nat) (u v : Value) : Cell := (((cell.setSlot c1 (.ref a)).setSlot c2 u).setSlot c3 v).setSlot c2 u
section GXC
variable {p : Program} {l : Launch} {e : Env} {R : Room} {s : State} {m₀ : MethodId} {args : Array Value} {below : List Frame} {meth : Method} {c : Code} {W : State} {locs : List Loc} {cells slots : Nat}
set_option maxHeartbeats 1000000 in
theorem gx_ctor (X : Stand p l e R s m₀ args below meth c W locs cells slots) (hexec : p.tables.exec = Jvm.exec) (htr : e.platform.stackTraces = false) {own Y0 K : String} {names : List String} {ic nK : Nat}
    (hown : s.vm.findClass own = some m₀.cls) (hcls : Bundle.fit Y0 = true) (hnames : ∀ n ∈ names, Bundle.fit n = true)
    (h : ∀ w ∈ gxA own ic Y0 names, w.before args s = true) (hk : ∀ w ∈ gxK K nK, w.before args s = true)
    (hU : (Cond.isRef (.static Bundle.tN "UNASSIGNED_STACK" Bundle.steD)).before args s = true) (hN : (Cond.isRef (.static Bundle.tN "SUPPRESSED_SENTINEL" Bundle.listD)).before args s = true)
    {a : Addr} {cell : Cell} (hfX : s.vm.findClass K = some cell.cls) (hcell : W.heap[a]? = some cell) (hfr : gFree cell)
    (hsame : ∀ cf kf fi f (b : Nat), s.fieldFound? Bundle.tN "UNASSIGNED_STACK" Bundle.steD = some (cf, kf, fi, f) → kf.statics = some b → W.heap[b]? = s.heap[b]?)
    (hC : ∀ n ∈ [("cause", "Ljava/lang/Throwable;"), ("stackTrace", Bundle.steD), ("suppressedExceptions", Bundle.listD)], ∀ cf kf fi f, s.fieldFound? Bundle.tN n.1 n.2 = some (cf, kf, fi, f) → f.slot < cell.slots.size)
    (hbt : ∀ cf kf fi f, s.fieldFound? Bundle.tN "backtrace" "Ljava/lang/Object;" = some (cf, kf, fi, f) → cell.slots[f.slot]? = some .null)
    {g : JFrame} (hg : g.method = m₀) (hsize : g.locals.size = c.maxLocals) {rest : List Value} (hstack : g.stack = .ref a :: rest) (hd6 : decode c.code g.pc = .ok (.invokespecial ic, 3))
    (hRframes : names.length + 3 < R.frames) (hRlocals : 2 * g.monitorRoom + (rest.map fun v => v.category).sum + (13 * (names.length + 1) + 41) ≤ R.locals) :
    ∃ (vm' : Vm) (u v : RefV) (cf : ClassId) (kf : Class) (i1 i2 i3 i4 i5 : Nat) (f1 f2 f3 f4 f5 : Field) (b : Addr) (cs : Cell),
      s.fieldFound? Bundle.tN "cause" "Ljava/lang/Throwable;" = some (cf, kf, i1, f1) ∧ s.fieldFound? Bundle.tN "stackTrace" Bundle.steD = some (cf, kf, i2, f2) ∧ s.fieldFound? Bundle.tN "suppressedExceptions" Bundle.listD = some (cf, kf, i3, f3) ∧
      s.fieldFound? Bundle.tN "UNASSIGNED_STACK" Bundle.steD = some (cf, kf, i4, f4) ∧ s.fieldFound? Bundle.tN "SUPPRESSED_SENTINEL" Bundle.listD = some (cf, kf, i5, f5) ∧ kf.statics = some b ∧ s.heap[b]? = some cs ∧ cs.slots[f4.slot]? = some u.v ∧ cs.slots[f5.slot]? = some v.v ∧
      Stand p l e R s m₀ args below meth c ((W.setVm vm').setCell a (gxC cell a f1.slot f2.slot f3.slot u.v v.v)) (locs ++ [⟨a, f1.slot⟩, ⟨a, f2.slot⟩, ⟨a, f3.slot⟩, ⟨a, f2.slot⟩]) cells slots ∧
      ∀ target, Steps p.tables e below (((W.setVm vm').setCell a (gxC cell a f1.slot f2.slot f3.slot u.v v.v)).setTop { g with stack := rest, pc := g.pc + 3 }) target → Steps p.tables e below (W.setTop g) target := by
  have howns : e.platform.frameOwnsMonitors = true := by rw [X.admits.platform]
  have hfin : e.platform.finalization = false := by rw [X.admits.platform]
  have hpl : e.platform.magicAccessors = ({} : Platform).magicAccessors := by rw [X.admits.platform]
  have a' : ∀ x, x ∈ gxA own ic Y0 names → x.holds args s none s [] = true := fun x hx => h x hx
  have k' : ∀ x, x ∈ gxK K nK → x.holds args s none s [] = true := fun x hx => hk x hx
  obtain ⟨T, Z, L, LZ, Y⟩ := ThrowableC.of_atoms (args := args) howns hfin hpl (fun x hx => h x (by simp [gxA, hx]))
  obtain ⟨P1, Ps, hlen, L1, hL, hP1m, hlink1, hlink⟩ := Bundle.chain0 (args := args) hpl Y.init0 names Y0 hcls hnames (fun x hx => h x (by simp [gxA, hx]))
  obtain ⟨c1, kX, hc1, hkX, hord, -, -, hn6⟩ := Cond.instantiable_spec (k' (.instantiable K nK) (by simp [gxK]))
  cases Option.some.inj (hc1.symm.trans hfX)
  have hsel0 : selectMethod e.platform s.vm cell.cls T.fill0 = .method T.fill0 := by
    obtain ⟨c2, r2, m2, q1, q2, q3, q4, -⟩ := Cond.selects_spec (k' (.selects K Bundle.tFill0 Bundle.tFill0) (by simp [gxK]))
    cases Option.some.inj (q1.symm.trans hfX)
    cases Option.some.inj (q2.symm.trans (State.methodFound?_of_named Y.fill0 (by decide)))
    cases Option.some.inj (q3.symm.trans Y.fill0)
    rw [Launch.admits_selectMethod X.admits]; exact q4
  have hselF : selectMethod e.platform s.vm cell.cls T.fill = .method T.fill := by
    obtain ⟨c2, r2, m2, q1, q2, q3, q4, -⟩ := Cond.selects_spec (k' (.selects K Bundle.tFill Bundle.tFill) (by simp [gxK]))
    cases Option.some.inj (q1.symm.trans hfX)
    cases Option.some.inj (q2.symm.trans (State.methodFound?_of_named Y.fill (by decide)))
    cases Option.some.inj (q3.symm.trans Y.fill)
    rw [Launch.admits_selectMethod X.admits]; exact q4
  obtain ⟨cellS0, hcS0, hiss⟩ := Y.statics
  obtain ⟨u0, hu0⟩ := Cond.staticRefV (args := args) (first := s) (o := none) (idx := []) Y.unassigned L.unassignedStatic L.statics hcS0 hiss hU
  obtain ⟨sen, hsen⟩ := Cond.staticRefV (args := args) (first := s) (o := none) (idx := []) Y.sentinel L.sentinelStatic L.statics hcS0 hiss hN
  obtain ⟨ci198, i198, fB, hk198, hg198, ha198, hsB, -, hnB, htB, hffB⟩ := Cond.ownField (t := .object "java/lang/Object") Y.found L.cls (by decide +kernel) (a' (.fieldLink Bundle.tN 198 Bundle.tN "backtrace" "Ljava/lang/Object;") (by simp [gxA])) (a' (.lays Bundle.tN Bundle.tN "backtrace" "Ljava/lang/Object;") (by simp [gxA])) e.platform hpl
  have hcellS : W.heap[T.aS]? = some cellS0 := (hsame _ _ _ _ _ Y.unassigned L.statics).trans hcS0
  have hknownS : cellS0.vm ≠ .unknown := by
    intro hu
    rw [hu] at hiss
    cases hiss
  have hneS : T.aS ≠ a := by
    intro hz
    rw [hz, hcell] at hcellS
    cases hcellS
    rw [hfr.1] at hiss
    cases hiss
  obtain ⟨tyC, dC, hdC, hdnC⟩ := Cond.laysAt hfX hkX Y.cause (k' (.lays K Bundle.tN "cause" "Ljava/lang/Throwable;") (by simp [gxK]))
  obtain ⟨tyS, dS, hdS, hdnS⟩ := Cond.laysAt hfX hkX Y.stack (k' (.lays K Bundle.tN "stackTrace" Bundle.steD) (by simp [gxK]))
  obtain ⟨tyP, dP, hdP, hdnP⟩ := Cond.laysAt hfX hkX Y.supp (k' (.lays K Bundle.tN "suppressedExceptions" Bundle.listD) (by simp [gxK]))
  obtain ⟨tyB, dB, hdB, hdnB⟩ := Cond.laysAt hfX hkX hffB (k' (.lays K Bundle.tN "backtrace" "Ljava/lang/Object;") (by simp [gxK]))
  have bC := Cond.laysApart hdB hdC hdnB hdnC (by rw [hnB, Y.causeName]; decide)
  have bS := Cond.laysApart hdB hdS hdnB hdnS (by rw [hnB, Y.stackName]; decide)
  have bP := Cond.laysApart hdB hdP hdnB hdnP (by rw [hnB, Y.suppName]; decide)
  have hbt' := hbt _ _ _ _ hffB
  have hskip : SkipFacts T e.platform s (fun u => u) u0 ((preparedCellV T.toThrowableT cell a u0 sen).withEntry W.cur) :=
    ⟨{ ci198 := ci198, i198 := i198, fBack := fB }, ⟨hk198, hg198, ha198, hsB⟩, by
      simpa [preparedCellV, Cell.setSlot, Cell.withEntry, Array.getElem?_setIfInBounds, bC, bS, bP, bC.symm, bS.symm, bP.symm] using hbt', fun _ _ => rfl⟩
  obtain ⟨tm, methC, cdC, kC, vm₁, hnC, -, -, -, -, -, -, -, hW₁, st1⟩ := Steps.initCold (tb := p.tables) (e := e) (below := below) (s := s) (U := W) X.here hexec X.warmed hpl hown (t := Bundle.init0 Y0) rfl rfl (Bundle.fit_spec hcls).2
    (a' (.methodLink own ic (Bundle.init0 Y0)) (by simp [gxA])) (h (.instanceMethod (Bundle.init0 Y0)) (by cases names <;> simp [gxA, Bundle.chain0Atoms, Bundle.passAtoms])) (bytes := Bundle.five) (maxL := 1) (h (.code (Bundle.init0 Y0) Bundle.five 1 none) (by cases names <;> simp [gxA, Bundle.chain0Atoms, Bundle.passAtoms]))
    (f := g) hg (a := a) (rest := rest) hstack hd6
  cases Option.some.inj (hnC.symm.trans hP1m)
  have X₁ := X.noted hW₁
  have tk : ∀ (f : Field) (v : Value), f.slot < cell.slots.size → kX.instanceTypes[f.slot]? = some f.type → fits f.type v = true → Takes s cell f v := fun f v h1 h2 h3 => ⟨h1, by simp [State.fitsSlot, State.slotType?, hkX, hord, h2, h3, hfr.1]⟩
  obtain ⟨vm₂, X₂, st2⟩ := X₁.ctorPlainOffV hexec (g := { g with stack := rest }) hg hsize T L Z LZ (P1 :: Ps)
    (fun P hP => by rcases List.mem_cons.mp hP with rfl | hP; exact L1; exact hL P hP) ⟨hlink1, hlink⟩ (u0 := u0) (sen := sen) (self := a) (cell := cell) (cellS := cellS0)
    hcell (fun _ => by rw [hfr.1]; exact fun hz => VmData.noConfusion hz) (by rw [hfr.1]; exact fun hz => VmData.noConfusion hz) hfr.2.1 hfr.2.2 hsel0 hselF hcellS hneS hknownS hu0 hsen
    (tk _ _ (hC ("cause", "Ljava/lang/Throwable;") (by simp) _ _ _ _ Y.cause) tyC (by rw [Y.causeType]; rfl)) (tk _ _ (hC ("stackTrace", Bundle.steD) (by simp) _ _ _ _ Y.stack) tyS (by rw [Y.stackType]; exact fits_refV_array _ u0)) (tk _ _ (hC ("suppressedExceptions", Bundle.listD) (by simp) _ _ _ _ Y.supp) tyP (by rw [Y.suppType]; exact fits_refV_object _ sen)) Y.objLocals hskip htr [] hd6
    (by simp only [List.length_cons, hlen]; omega) (by simp only [List.length_cons, hlen]; exact hRlocals)
  exact ⟨vm₂, u0, sen, T.cT, T.kT, T.i7, T.i17, T.i24, T.i13, T.i20, T.fCause, T.fStack, T.fSupp, T.fUnassigned, T.fSentinel, T.aS, cellS0, Y.cause, Y.stack, Y.supp, Y.unassigned, Y.sentinel, L.statics, hcS0, hu0, hsen, X₂, fun target hwalk => st1 _ (fun acts => by
    rw [doInvoke_state]
    exact st2 _ hwalk)⟩
end GXC
