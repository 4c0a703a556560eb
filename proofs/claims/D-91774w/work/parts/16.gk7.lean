/-! rows: new cells, ends, statics, casts, calls -/
set_option maxRecDepth 100000
theorem g_tyk : ∀ c, c < 22 → ∀ k, k < gNf (c + 1) → gkd (gTy (c + 1) k) ≠ 3 := by decide +kernel
theorem g_def {ty : FieldType} (h : gkd ty ≠ 3) : defaultValue ty = match gkd ty with
    | 0 => .int 0
    | 1 => .long 0
    | _ => .null := by
  cases ty <;> first | rfl | exact absurd rfl h
section GROW7
variable {p : Program} {l : Launch} {e : Env} {R : Room} {s : State} {m : MethodId} {args : Array Value} {below : List Frame} {meth : Method} {c : Code} {H : Heap} {locs : List Loc} {cells slots : Nat} {Q : State → Prop}
variable {cc : ByteArray} {pc nL : Nat} {ls : Array Slot} {rest : List Value} {E : g_E} {D : g_D} {G : g_G} {own nm : String} {ret : Option FieldType} {F Lc : Nat}
theorem W.ge {g : JFrame} (kk : s.heap.size ≤ H.size → ghsl s.heap ≤ ghsl H → W p l e R s m args below meth c H locs cells slots Q g) : W p l e R s m args below meth c H locs cells slots Q g := by
  intro T hT X
  have h1 : s.heap.size ≤ H.size := by rw [← hT]; exact X.same.2.1
  refine kk h1 ?_ T hT X
  have h2 : s.heap.toList.map (·.slots.size) = (H.toList.take s.heap.size).map (·.slots.size) := by
    apply List.ext_getElem?
    intro i
    rw [List.getElem?_map, List.getElem?_map, List.getElem?_take, Array.getElem?_toList, Array.getElem?_toList]
    by_cases hi : i < s.heap.size
    · rw [if_pos hi]
      obtain ⟨c', h1, -, h3, -⟩ := X.same.2.2.2.2.2 i s.heap[i] (Array.getElem?_eq_getElem hi)
      have h1' : H[i]? = some c' := by rw [← hT]; exact h1
      rw [h1', Array.getElem?_eq_getElem hi]
      simp [h3]
    · rw [if_neg hi, Array.getElem?_eq_none (by omega)]
      try rfl
  have h3 : ghsl H = ((H.toList.take s.heap.size).map (·.slots.size)).sum + ((H.toList.drop s.heap.size).map (·.slots.size)).sum := by
    unfold ghsl
    rw [← List.sum_append, ← List.map_append, List.take_append_drop]
  rw [h3, ← h2]
  exact Nat.le_add_right _ _
/-- the room that is left -/
theorem W.room {g : JFrame} (hRc : R.cells = gMc E - s.heap.size) (hRs : R.slots = gMs E - ghsl s.heap) (hS : gSt E D G H locs)
    (kk : gsz G - s.heap.size + (gMc E - gsz G) ≤ R.cells ∧ gsl G - ghsl s.heap + (gMs E - gsl G) ≤ R.slots → W p l e R s m args below meth c H locs (gsz G - s.heap.size) (gsl G - ghsl s.heap) Q g) : W p l e R s m args below meth c H locs cells slots Q g := by
  refine W.gtight hS (W.ge fun h1 h2 => kk ?_)
  rw [hS.1.1] at h1
  rw [hS.1.2.1] at h2
  have h3 := hS.1.2.2.1
  have h4 := hS.1.2.2.2.1
  omega
theorem g_newG (hx : p.tables.exec = Jvm.exec) (hb : c.code = cc) (hown : s.vm.findClass own = some m.cls) (hts : ∀ w ∈ lw_all, w.before args s = true) (hKn : gKn E D s) (hRc : R.cells = gMc E - s.heap.size) (hRs : R.slots = gMs E - ghsl s.heap) (hS : gSt E D G H locs) {k index : Nat} {β : Type} {f : Nat × g_G → Option β} {Rr : β} (h : (gnewO E G k (gNf k)).bind f = some Rr)
    (b1 : 1 ≤ k) (b2 : k ≤ 22) (hcl : (Cond.classLink own index (gNm k)).before args s = true) (hins : (Cond.instantiable (gNm k) (gNf k)).before args s = true) (hini : (Cond.initialized (gNm k)).before args s = true) (hdg : decode cc pc = .ok (.new index, 3))
    (kk : ∀ q, f q = some Rr → ∀ (H1 : Heap) (locs1 : List Loc) (cells1 slots1 : Nat), gSt E D q.2 H1 locs1 → W p l e R s m args below meth c H1 locs1 cells1 slots1 Q (F0 m (pc + 3) ls (va_rf (some q.1) :: rest))) : W p l e R s m args below meth c H locs cells slots Q (F0 m pc ls rest) := by
  obtain ⟨q, hx1, hf⟩ := g_bnd h
  by_cases hc : gsz G + 1 ≤ gMc E ∧ gsl G + gNf k ≤ gMs E
  · cases g_ift hc hx1
    refine W.room hRc hRs hS fun hr => ?_
    have hKo := hKn.obj b1 b2
    refine W.newc hx hb hown hcl hins hini rfl hdg (by omega) (by omega) fun cC kC h1 h2 h3 h4 => ?_
    cases hKo.2.1.symm.trans h1
    have hz : (H.push { cls := D.1 k, slots := kC.instanceTypes.map defaultValue, vm := .none })[H.size]? = some (blank (D.1 k) kC) := by simp [blank]
    have hsz : (blank (D.1 k) kC).slots.size = gNf k := by simp [blank, h4]
    obtain ⟨cell, y1, y2, y3, y4⟩ := u_born (gTy k) hts (g_in' b1 b2) hKo h2 hz (g_ty' b1 b2)
    cases hz.symm.trans y1
    have e1 : H.size = gsz G := hS.1.1
    have hsm : gNf k < 2 ^ 31 := by
      have : ∀ j, j < 22 → gNf (j + 1) < 2 ^ 31 := by decide +kernel
      exact g_codes (P := fun k => gNf k < 2 ^ 31) this b1 b2
    have hR := hS.1.push (c := k) (n := gNf k) hz (by simp) (fun q hq => by rw [Array.getElem?_push, if_neg (Nat.ne_of_lt hq)]) hsz hc.1 hc.2 (Or.inl ⟨b1, b2⟩) ⟨rfl, rfl, rfl⟩ y2 (fun _ => rfl) hsm (fun j hj => by
      have h5 := y4 j hj
      have hk3 := g_codes (P := fun k => ∀ j, j < gNf k → gkd (gTy k j) ≠ 3) g_tyk b1 b2 j hj
      unfold gslot
      rw [if_neg (by omega), h5]
      show some (defaultValue (gTy k j)) = _
      rw [g_def hk3]
      unfold gV
      rw [gcl_new, if_pos rfl, gI_new, if_pos rfl, gL_new, if_pos rfl, gR_new, if_pos rfl]
      unfold gkK
      rw [if_neg (by omega)]
      rfl)
    rw [e1]
    exact kk _ hf _ locs _ _ ⟨hR, hS.2⟩
  · exact g_no (g_iff hc hx1)
/-- newarray of ints, bytes, booleans, longs -/
theorem g_newaG (hx : p.tables.exec = Jvm.exec) (hb : c.code = cc) (hKn : gKn E D s) (hRc : R.cells = gMc E - s.heap.size) (hRs : R.slots = gMs E - ghsl s.heap) (hS : gSt E D G H locs) {k : Nat} {n : Int32} {atype : ArrayType} {β : Type} {f : Nat × g_G → Option β} {Rr : β} (h : (gnewA E G k n).bind f = some Rr)
    (hk : k ∈ [100, 101, 102, 110]) (hty : newarray.typeOf atype = gAT k) (harr : (Cond.arrayClass (newarray.typeOf atype)).before args s = true) (hdg : decode cc pc = .ok (.newarray atype, 2))
    (kk : ∀ q, f q = some Rr → ∀ (H1 : Heap) (locs1 : List Loc) (cells1 slots1 : Nat), gSt E D q.2 H1 locs1 → W p l e R s m args below meth c H1 locs1 cells1 slots1 Q (F0 m (pc + 2) ls (va_rf (some q.1) :: rest))) : W p l e R s m args below meth c H locs cells slots Q (F0 m pc ls (.int n :: rest)) := by
  obtain ⟨q, hx1, hf⟩ := g_bnd h
  by_cases hc : ¬ n < 0 ∧ n.toNatClampNeg ≤ 67108864 ∧ gsz G + 1 ≤ gMc E ∧ gsl G + n.toNatClampNeg ≤ gMs E
  · cases g_ift hc hx1
    refine W.room hRc hRs hS fun hr => ?_
    have hcb : componentBytes (newarray.typeOf atype) ≤ 8 := by cases atype <;> decide
    have hbytes : n.toNatClampNeg * componentBytes (newarray.typeOf atype) ≤ 536870912 := Nat.le_trans (Nat.mul_le_mul hc.2.1 hcb) (by decide)
    refine W.newa hx hb harr rfl hdg rfl hc.1 hbytes (by omega) (by omega) fun cA kA comp h1 h2 h3 => ?_
    have h100 : 100 ≤ k := by
      simp only [List.mem_cons, List.not_mem_nil, or_false] at hk
      omega
    have hA : cA = D.1 k := by
      have := hKn.2.2.1 k (by simp only [List.mem_cons, List.not_mem_nil, or_false] at hk ⊢; omega)
      unfold gArn at this
      rw [← hty] at this
      exact Option.some.inj (h1.symm.trans this)
    have e1 : H.size = gsz G := hS.1.1
    have hR := hS.1.push (c := k) (n := n.toNatClampNeg) (H1 := H.push { cls := cA, slots := Array.replicate n.toNatClampNeg (defaultValue (newarray.typeOf atype)), vm := .none }) (cell := { cls := cA, slots := Array.replicate n.toNatClampNeg (defaultValue (newarray.typeOf atype)), vm := .none }) (by simp) (by simp) (fun q hq => by rw [Array.getElem?_push, if_neg (Nat.ne_of_lt hq)]) (by simp) hc.2.2.1 hc.2.2.2 (by
        unfold gOk
        simp only [List.mem_cons, List.not_mem_nil, or_false] at hk
        omega) ⟨rfl, rfl, rfl⟩ hA (fun z => absurd z (by omega)) (by omega) (fun j hj => by
      unfold gslot gV gkK
      rw [if_pos h100, gcl_new, if_pos rfl, gI_new, if_pos rfl, gL_new, if_pos rfl, gR_new, if_pos rfl, if_pos h100]
      show (Array.replicate n.toNatClampNeg (defaultValue (newarray.typeOf atype)))[j]? = _
      rw [hty]
      simp only [Array.getElem?_replicate, hj, if_true]
      simp only [List.mem_cons, List.not_mem_nil, or_false] at hk
      rcases hk with rfl | rfl | rfl | rfl <;> rfl)
    rw [e1]
    exact kk _ hf _ locs _ _ ⟨hR, hS.2⟩
  · exact g_no (g_iff hc hx1)
/-- anewarray -/
theorem g_newqG (hx : p.tables.exec = Jvm.exec) (hb : c.code = cc) (hown : s.vm.findClass own = some m.cls) (hKn : gKn E D s) (hRc : R.cells = gMc E - s.heap.size) (hRs : R.slots = gMs E - ghsl s.heap) (hS : gSt E D G H locs) {k index : Nat} {n : Int32} {C : String} {β : Type} {f : Nat × g_G → Option β} {Rr : β} (h : (gnewA E G k n).bind f = some Rr)
    (hk : k ∈ [120, 121, 122, 123]) (hty : gAT k = .object C) (hC : C ∈ ["java/lang/Object", RX3, RX7, RJ9]) (hlink : (Cond.classLink own index C).before args s = true) (hdg : decode cc pc = .ok (.anewarray index, 3))
    (kk : ∀ q, f q = some Rr → ∀ (H1 : Heap) (locs1 : List Loc) (cells1 slots1 : Nat), gSt E D q.2 H1 locs1 → W p l e R s m args below meth c H1 locs1 cells1 slots1 Q (F0 m (pc + 3) ls (va_rf (some q.1) :: rest))) : W p l e R s m args below meth c H locs cells slots Q (F0 m pc ls (.int n :: rest)) := by
  obtain ⟨q, hx1, hf⟩ := g_bnd h
  by_cases hc : ¬ n < 0 ∧ n.toNatClampNeg ≤ 67108864 ∧ gsz G + 1 ≤ gMc E ∧ gsl G + n.toNatClampNeg ≤ gMs E
  · cases g_ift hc hx1
    refine W.room hRc hRs hS fun hr => ?_
    refine W.anew hx hb hown hlink (va_AO.use (hKn.2.2.2.2.2.1 C hC)) rfl hdg rfl hc.1 (by omega) (by omega) (by omega) fun cA kA comp h1 h2 h3 h4 => ?_
    have h100 : 100 ≤ k := by
      simp only [List.mem_cons, List.not_mem_nil, or_false] at hk
      omega
    have hA : cA = D.1 k := by
      have := hKn.2.2.1 k (by simp only [List.mem_cons, List.not_mem_nil, or_false] at hk ⊢; omega)
      unfold gArn at this
      rw [hty] at this
      exact Option.some.inj (h1.symm.trans this)
    have e1 : H.size = gsz G := hS.1.1
    have hR := hS.1.push (c := k) (n := n.toNatClampNeg) (H1 := H.push { cls := cA, slots := Array.replicate n.toNatClampNeg .null, vm := .none }) (cell := { cls := cA, slots := Array.replicate n.toNatClampNeg .null, vm := .none }) (by simp) (by simp) (fun q hq => by rw [Array.getElem?_push, if_neg (Nat.ne_of_lt hq)]) (by simp) hc.2.2.1 hc.2.2.2 (by
        unfold gOk
        simp only [List.mem_cons, List.not_mem_nil, or_false] at hk
        omega) ⟨rfl, rfl, rfl⟩ hA (fun z => absurd z (by omega)) (by omega) (fun j hj => by
      unfold gslot gV gkK
      rw [if_pos h100, gcl_new, if_pos rfl, gI_new, if_pos rfl, gL_new, if_pos rfl, gR_new, if_pos rfl, if_pos h100, hty]
      show (Array.replicate n.toNatClampNeg Value.null)[j]? = _
      simp only [Array.getElem?_replicate, hj, if_true]
      rfl)
    rw [e1]
    exact kk _ hf _ locs _ _ ⟨hR, hS.2⟩
  · exact g_no (g_iff hc hx1)
/-! ends -/
theorem g_end (hRc : R.cells = gMc E - s.heap.size) (hRs : R.slots = gMs E - ghsl s.heap) (hS : gSt E D G H locs) {g : JFrame}
    (kk : W p l e R s m args below meth c H locs R.cells R.slots Q g) : W p l e R s m args below meth c H locs cells slots Q g := by
  refine W.gtight hS (W.widen ?_ ?_ kk)
  · rw [hRc]; have := hS.1.2.2.1; omega
  · rw [hRs]; have := hS.1.2.2.2.1; omega
theorem g_endQ (hKn : gKn E D s) (hS : gSt E D G H locs) {rv : Option Value} : ∀ t : State, t.heap = H → s.WarmedH t.vm → gQc E D rv G args s (.returned rv) t := fun t ht hW => ⟨rfl, by rw [ht]; exact hS.1, hKn.warm hW⟩
theorem g_vretG (hx : p.tables.exec = Jvm.exec) (hb : c.code = cc) (hr : meth.sig.returnType = none) (hlk : meth.locks = false) (hKn : gKn E D s) (hRc : R.cells = gMc E - s.heap.size) (hRs : R.slots = gMs E - ghsl s.heap) (hS : gSt E D G H locs) {G1 : g_G} (h : some G = some G1) (hdg : decode cc pc = .ok (.return_, 1)) : gT p l e R s m args below meth c E D H locs cells slots none G1 (F0 m pc ls []) := by
  cases h
  exact g_end hRc hRs hS (W.vret hx hb hr (g_endQ hKn hS) hS.2 hdg hlk)
theorem g_iretG (hx : p.tables.exec = Jvm.exec) (hb : c.code = cc) (hr : meth.sig.returnType = some .int) (hlk : meth.locks = false) (hKn : gKn E D s) (hRc : R.cells = gMc E - s.heap.size) (hRs : R.slots = gMs E - ghsl s.heap) (hS : gSt E D G H locs) {v : Int32} {q : Int32 × g_G} (h : some (v, G) = some q) (hdg : decode cc pc = .ok (.ireturn, 1)) : gT p l e R s m args below meth c E D H locs cells slots (some (.int q.1)) q.2 (F0 m pc ls [.int v]) := by
  cases h
  exact g_end hRc hRs hS (W.iret hx hb hr (g_endQ hKn hS) hS.2 hdg hlk)
theorem g_zretG (hx : p.tables.exec = Jvm.exec) (hb : c.code = cc) (hr : meth.sig.returnType = some .boolean) (hlk : meth.locks = false) (hKn : gKn E D s) (hRc : R.cells = gMc E - s.heap.size) (hRs : R.slots = gMs E - ghsl s.heap) (hS : gSt E D G H locs) {v : Int32} {q : Int32 × g_G} (h : (if v = 0 ∨ v = 1 then some (v, G) else none) = some q) (hdg : decode cc pc = .ok (.ireturn, 1)) : gT p l e R s m args below meth c E D H locs cells slots (some (.int q.1)) q.2 (F0 m pc ls [.int v]) := by
  by_cases hc : v = 0 ∨ v = 1
  · have hz : narrow .boolean (.int v) = .int v := by rcases hc with rfl | rfl <;> decide
    cases g_ift hc h
    exact g_end hRc hRs hS (W.zret hx hb hr hz (g_endQ hKn hS) hS.2 hdg hlk)
  · exact g_no (g_iff hc h)
theorem g_cretG (hx : p.tables.exec = Jvm.exec) (hb : c.code = cc) (hr : meth.sig.returnType = some .char) (hlk : meth.locks = false) (hKn : gKn E D s) (hRc : R.cells = gMc E - s.heap.size) (hRs : R.slots = gMs E - ghsl s.heap) (hS : gSt E D G H locs) {v : Int32} {q : Int32 × g_G} (h : (if v.toUInt32.toUInt16.toUInt32.toInt32 = v then some (v, G) else none) = some q) (hdg : decode cc pc = .ok (.ireturn, 1)) : gT p l e R s m args below meth c E D H locs cells slots (some (.int q.1)) q.2 (F0 m pc ls [.int v]) := by
  by_cases hc : v.toUInt32.toUInt16.toUInt32.toInt32 = v
  · cases g_ift hc h
    exact g_end hRc hRs hS (W.zret hx hb hr (show Value.int v.toUInt32.toUInt16.toUInt32.toInt32 = _ by rw [hc]) (g_endQ hKn hS) hS.2 hdg hlk)
  · exact g_no (g_iff hc h)
theorem g_bretG (hx : p.tables.exec = Jvm.exec) (hb : c.code = cc) (hr : meth.sig.returnType = some .byte) (hlk : meth.locks = false) (hKn : gKn E D s) (hRc : R.cells = gMc E - s.heap.size) (hRs : R.slots = gMs E - ghsl s.heap) (hS : gSt E D G H locs) {v : Int32} {q : Int32 × g_G} (h : (if v.toInt8.toInt32 = v then some (v, G) else none) = some q) (hdg : decode cc pc = .ok (.ireturn, 1)) : gT p l e R s m args below meth c E D H locs cells slots (some (.int q.1)) q.2 (F0 m pc ls [.int v]) := by
  by_cases hc : v.toInt8.toInt32 = v
  · cases g_ift hc h
    exact g_end hRc hRs hS (W.zret hx hb hr (show Value.int v.toInt8.toInt32 = _ by rw [hc]) (g_endQ hKn hS) hS.2 hdg hlk)
  · exact g_no (g_iff hc h)
theorem g_aretG (hx : p.tables.exec = Jvm.exec) (hb : c.code = cc) {rt : FieldType} (hr : meth.sig.returnType = some rt) (hrt : (∃ n, rt = .object n) ∨ ∃ t, rt = .array t) (hlk : meth.locks = false) (hKn : gKn E D s) (hRc : R.cells = gMc E - s.heap.size) (hRs : R.slots = gMs E - ghsl s.heap) (hS : gSt E D G H locs) {v : Option Nat} {q : Option Nat × g_G} (h : some (v, G) = some q) (hdg : decode cc pc = .ok (.areturn, 1)) : gT p l e R s m args below meth c E D H locs cells slots (some (va_rf q.1)) q.2 (F0 m pc ls [va_rf v]) := by
  cases h
  exact g_end hRc hRs hS (W.aret hx hb hr hrt (va_rf_or v) (g_endQ hKn hS) hS.2 hdg hlk)
/-! statics and strings -/
theorem g_getsZ (hx : p.tables.exec = Jvm.exec) (hb : c.code = cc) (hown : s.vm.findClass own = some m.cls) {C n d ref : String} {v : Value} {index : Nat} (hZ : va_Z C n d v (fun q => gB E ≤ q) s D.2.2) (hS : gSt E D G H locs) (hlink : (Cond.fieldLink own index ref n d).before args s = true) (hsame : ∀ x, s.fieldFound? C n d = some x → s.fieldFound? ref n d = some x) (hdg : decode cc pc = .ok (.getstatic index, 3))
    (kk : W p l e R s m args below meth c H locs cells slots Q (F0 m (pc + 3) ls (v :: rest))) : W p l e R s m args below meth c H locs cells slots Q (F0 m pc ls rest) := by
  obtain ⟨cf, kf, fi, f, a, cell, h1, h2, h3, h4, h5, h6, h7, h8⟩ := hZ
  have h5' : H[a]? = some cell := by rw [hS.1.2.2.2.2.2.2 a (Nat.lt_of_not_le h8)]; exact h5
  exact W.gets hx hb hown hlink (hsame _ h1) h2 h3 h4 h5' (by intro z; rw [z] at h6; cases h6) h7 rfl hdg kk
theorem g_ldcS (hx : p.tables.exec = Jvm.exec) (hb : c.code = cc) (hown : s.vm.findClass own = some m.cls) (hKn : gKn E D s) {index i : Nat} {tx : String} (hz : (own, index, tx, i) ∈ gStrs) (hdg : decode cc pc = .ok (.ldc index, 2))
    (kk : W p l e R s m args below meth c H locs cells slots Q (F0 m (pc + 2) ls (va_rf (some (gA E i)) :: rest))) : W p l e R s m args below meth c H locs cells slots Q (F0 m pc ls rest) :=
  va_ldcS hx hb hown (hKn.2.2.2.2.2.2.2.2.1 _ hz) hdg kk
theorem g_ldcwS0 {T : State} (X : Stand p l e R s m args below meth c T locs cells slots) (hexec : p.tables.exec = Jvm.exec) {text : String} {index : Nat} {a : Addr} (hown : s.vm.findClass own = some m.cls)
    (hconst : (Cond.stringRef own index text).before args s = true) (hev : (Term.string own index).eval args s none [] s = some (.ref a)) {g : JFrame} (hg : g.method = m) (hdg : decode c.code g.pc = .ok (.ldc_w index, 3)) :
    ∀ target, Steps p.tables e below (T.setTop { g with pc := g.pc + 3, stack := .ref a :: g.stack }) target → Steps p.tables e below (T.setTop g) target := by
  obtain ⟨k, cf, i, a', hk, hcf, hcp, -, hr, hev'⟩ := Cond.stringRef_spec hown hconst
  cases hev.symm.trans hev'
  obtain ⟨k', hk', he⟩ := X.warmed.alike.2.2 _ _ hk
  have hr' : k'.resolved[index]? = some (some (.string a)) := by
    rcases X.warmed.entry hk hk' index with h | ⟨h, -⟩
    · rw [h]; exact hr
    · rw [hr] at h; cases h
  intro target hrest
  subst hg
  jvm_step X.here [hexec, hdg, ldc_w.wp_string (e := e) (s := T) (f := g) X.here.top hk' (by rw [he]; exact hcf) hcp hr']
  exact hrest
theorem g_ldcwS (hx : p.tables.exec = Jvm.exec) (hb : c.code = cc) (hown : s.vm.findClass own = some m.cls) (hKn : gKn E D s) {index i : Nat} {tx : String} (hz : (own, index, tx, i) ∈ gStrs) (hdg : decode cc pc = .ok (.ldc_w index, 3))
    (kk : W p l e R s m args below meth c H locs cells slots Q (F0 m (pc + 3) ls (va_rf (some (gA E i)) :: rest))) : W p l e R s m args below meth c H locs cells slots Q (F0 m pc ls rest) := by
  have hZ := hKn.2.2.2.2.2.2.2.2.1 _ hz
  intro T hT X
  obtain ⟨t, a1, b1⟩ := kk T hT X
  exact ⟨t, g_ldcwS0 X hx (text := tx) (a := gA E i) hown hZ.1 hZ.2 (g := F0 m pc ls rest) rfl (by rw [hb]; exact hdg) t a1, b1⟩
/-! the receiver of a call; casts -/
theorem g_recv (hKn : gKn E D s) (hS : gSt E D G H locs) {a k : Nat} (hk : gcl G a = k) (b1 : 1 ≤ k) (b2 : k ≤ 22) : ∃ cell : Cell, H[a]? = some cell ∧ cell.vm.isStatics = false ∧ s.vm.findClass (gNm k) = some cell.cls := by
  obtain ⟨-, cell, q1, q2, q3, q4, -⟩ := hS.1.at (a := a) (by omega)
  exact ⟨cell, q1, q4, by rw [q2, hk]; exact (hKn.obj b1 b2).2.1⟩
/-- checkcast to the object's own kind, or to one that its kind goes to -/
def gcast (G : g_G) (lo hi : Nat) (r : Option Nat) : Option (Option Nat) := match r with
  | none => some none
  | some a => if lo ≤ gcl G a ∧ gcl G a ≤ hi then some (some a) else none
theorem g_castS (hx : p.tables.exec = Jvm.exec) (hb : c.code = cc) (hown : s.vm.findClass own = some m.cls) (hKn : gKn E D s) (hS : gSt E D G H locs) {k index : Nat} {r : Option Nat} {β : Type} {f : Option Nat → Option β} {Rr : β} (h : (gcast G k k r).bind f = some Rr) (b1 : 1 ≤ k) (b2 : k ≤ 22) (hlink : (Cond.classLink own index (gNm k)).before args s = true) (hdg : decode cc pc = .ok (.checkcast index, 3))
    (kk : ∀ x, f x = some Rr → W p l e R s m args below meth c H locs cells slots Q (F0 m (pc + 3) ls (va_rf x :: rest))) : W p l e R s m args below meth c H locs cells slots Q (F0 m pc ls (va_rf r :: rest)) := by
  obtain ⟨x, hx1, hf⟩ := g_bnd h
  cases r with
  | none =>
    cases hx1
    exact lv_castN hx hb hdg (kk _ hf)
  | some a =>
    have hx1 : (if k ≤ gcl G a ∧ gcl G a ≤ k then some (some a) else none) = some x := hx1
    by_cases hc : k ≤ gcl G a ∧ gcl G a ≤ k
    · cases g_ift hc hx1
      exact va_castS hx hb hown hlink (hKn.obj b1 b2).2 (g_recv hKn hS (by omega) b1 b2) hdg (kk _ hf)
    · exact g_no (g_iff hc hx1)
theorem g_castY (hx : p.tables.exec = Jvm.exec) (hb : c.code = cc) (hown : s.vm.findClass own = some m.cls) (hKn : gKn E D s) (hS : gSt E D G H locs) {lo hi index : Nat} {C : String} {r : Option Nat} {β : Type} {f : Option Nat → Option β} {Rr : β} (h : (gcast G lo hi r).bind f = some Rr) (b1 : 1 ≤ lo) (b2 : hi ≤ 22) (hlink : (Cond.classLink own index C).before args s = true) (hn : ∀ j, j < hi + 1 - lo → Cond.castable (gNm (lo + j)) C ∈ lw_tbl) (hdg : decode cc pc = .ok (.checkcast index, 3))
    (kk : ∀ x, f x = some Rr → W p l e R s m args below meth c H locs cells slots Q (F0 m (pc + 3) ls (va_rf x :: rest))) : W p l e R s m args below meth c H locs cells slots Q (F0 m pc ls (va_rf r :: rest)) := by
  obtain ⟨x, hx1, hf⟩ := g_bnd h
  cases r with
  | none =>
    cases hx1
    exact lv_castN hx hb hdg (kk _ hf)
  | some a =>
    have hx1 : (if lo ≤ gcl G a ∧ gcl G a ≤ hi then some (some a) else none) = some x := hx1
    by_cases hc : lo ≤ gcl G a ∧ gcl G a ≤ hi
    · cases g_ift hc hx1
      have h1 := hn (gcl G a - lo) (by omega)
      rw [show lo + (gcl G a - lo) = gcl G a by omega] at h1
      exact va_castY hx hb hown hlink (hKn.2.2.2.2.1 _ (gNest_in h1 rfl)) (g_recv hKn hS rfl (by omega) (by omega)) hdg (kk _ hf)
    · exact g_no (g_iff hc hx1)
/-! calls -/
theorem g_go {rv : Option Value} {G1 : g_G} {st0 : List Value} (hS : gSt E D G H locs) (hr : va_Run p l e R s m args below meth c H locs cells slots (gMc E - gsz G) (gMs E - gsl G) (F0 m pc ls st0) rest (fun _ o t => o = .returned rv ∧ gRl E D G1 t) (fun q => gB E ≤ q))
    (kk : ∀ (H1 : Heap) (locs1 : List Loc) (cells1 slots1 : Nat), gSt E D G1 H1 locs1 → W p l e R s m args below meth c H1 locs1 cells1 slots1 Q (F0 m (pc + 3) ls (rv.toList ++ rest))) : W p l e R s m args below meth c H locs cells slots Q (F0 m pc ls st0) := by
  intro T hT X
  obtain ⟨v, st₀, t, T', L, h0, X', hL, e1, e2, ⟨hv, hR, -⟩, st⟩ := hr T hT X
  cases hv
  obtain ⟨t2, a1, b1⟩ := kk T'.heap (locs ++ L) _ _ ⟨by rw [e1]; exact hR, fun q hq => by
      rcases List.mem_append.mp hq with h | h
      · exact hS.2 q h
      · exact hL q h⟩ T' rfl X'
  exact ⟨t2, st t2 a1, b1⟩
theorem g_go5 {rv : Option Value} {G1 : g_G} {st0 : List Value} (hS : gSt E D G H locs) (hr : va_Run5 p l e R s m args below meth c H locs cells slots (gMc E - gsz G) (gMs E - gsl G) (F0 m pc ls st0) rest (fun _ o t => o = .returned rv ∧ gRl E D G1 t) (fun q => gB E ≤ q))
    (kk : ∀ (H1 : Heap) (locs1 : List Loc) (cells1 slots1 : Nat), gSt E D G1 H1 locs1 → W p l e R s m args below meth c H1 locs1 cells1 slots1 Q (F0 m (pc + 5) ls (rv.toList ++ rest))) : W p l e R s m args below meth c H locs cells slots Q (F0 m pc ls st0) := by
  intro T hT X
  obtain ⟨v, st₀, t, T', L, h0, X', hL, e1, e2, ⟨hv, hR, -⟩, st⟩ := hr T hT X
  cases hv
  obtain ⟨t2, a1, b1⟩ := kk T'.heap (locs ++ L) _ _ ⟨by rw [e1]; exact hR, fun q hq => by
      rcases List.mem_append.mp hq with h | h
      · exact hS.2 q h
      · exact hL q h⟩ T' rfl X'
  exact ⟨t2, st t2 a1, b1⟩
variable {y : MethodName} {bytes : ByteArray} {maxL index n F1 L1 : Nat} {av rs : List g_v} {b : Nat} {C : String} {rv : Option Value} {G1 : g_G} {st0 : List Value} {rt : Option FieldType}
theorem g_callV (hx : p.tables.exec = Jvm.exec) (hb : c.code = cc) (hml : c.maxLocals = nL) (hown : s.vm.findClass own = some m.cls) (hts : ∀ w ∈ lw_all, w.before args s = true) (hKn : gKn E D s) (hRc : R.cells = gMc E - s.heap.size) (hRs : R.slots = gMs E - ghsl s.heap) (hS : gSt E D G H locs) {l0 : List (Nat × g_v)} (hl : gls ls nL l0)
    (hM : gMet l E D y (ws_ y bytes maxL rt) F1 L1 (.inr (.inr (some b)) :: av) G rv G1) (hW : GoodIn lw_all (wsV own index C y (ws_ y bytes maxL rt))) (hd : y.cls = C ∧ y.cls ≠ "java/lang/invoke/MethodHandle" ∧ y.cls ≠ "java/lang/invoke/VarHandle" ∧ (parseMethodDescriptor y.desc).map (fun d => d.parameters.length) = some n) (hR : F1 + 1 ≤ R.frames ∧ 8 + (maxL + 11) + L1 ≤ R.locals)
    (hrv : ∃ cell : Cell, H[b]? = some cell ∧ cell.vm.isStatics = false ∧ s.vm.findClass C = some cell.cls) (hn : av.length = n) (hst : st0 = (av.map gvv).reverse ++ .ref b :: rs.map gvv) (h8 : gwid rs ≤ 8) (hdg : decode cc pc = .ok (.invokevirtual index, 3))
    (kk : ∀ (H1 : Heap) (locs1 : List Loc) (cells1 slots1 : Nat), gSt E D G1 H1 locs1 → W p l e R s m args below meth c H1 locs1 cells1 slots1 Q (F0 m (pc + 3) ls (rv.toList ++ rs.map gvv))) : W p l e R s m args below meth c H locs cells slots Q (F0 m pc ls st0) := by
  refine W.room hRc hRs hS fun hf => g_go hS (va_runV (As := av.map gvv) (rest := rs.map gvv) ⟨hx, hb, hml, hown, hts⟩ hM (cwV n hts hW rfl rfl rfl hd hR) ⟨g_blind _, hrv, fun U hU hW => ⟨rfl, by rw [hU]; exact hS.1, hKn.warm hW⟩⟩ rfl (by rw [List.length_map]; exact hn) hl.1 hst (lv_room (by rw [gcat_eq]; exact h8)) hdg hf) kk
theorem g_callS (hx : p.tables.exec = Jvm.exec) (hb : c.code = cc) (hml : c.maxLocals = nL) (hown : s.vm.findClass own = some m.cls) (hts : ∀ w ∈ lw_all, w.before args s = true) (hKn : gKn E D s) (hRc : R.cells = gMc E - s.heap.size) (hRs : R.slots = gMs E - ghsl s.heap) (hS : gSt E D G H locs) {l0 : List (Nat × g_v)} (hl : gls ls nL l0)
    (hM : gMet l E D y (ws_ y bytes maxL rt) F1 L1 av G rv G1) (hW : GoodIn lw_all (va_wsS own index y (ws_ y bytes maxL rt))) (hd : y.cls ≠ "java/lang/invoke/MethodHandle" ∧ y.cls ≠ "java/lang/invoke/VarHandle" ∧ (parseMethodDescriptor y.desc).map (fun d => d.parameters.length) = some n) (hR : F1 + 1 ≤ R.frames ∧ 8 + (maxL + 11) + L1 ≤ R.locals)
    (hn : av.length = n) (hst : st0 = (av.map gvv).reverse ++ rs.map gvv) (h8 : gwid rs ≤ 8) (hdg : decode cc pc = .ok (.invokestatic index, 3))
    (kk : ∀ (H1 : Heap) (locs1 : List Loc) (cells1 slots1 : Nat), gSt E D G1 H1 locs1 → W p l e R s m args below meth c H1 locs1 cells1 slots1 Q (F0 m (pc + 3) ls (rv.toList ++ rs.map gvv))) : W p l e R s m args below meth c H locs cells slots Q (F0 m pc ls st0) := by
  refine W.room hRc hRs hS fun hf => g_go hS (va_runS (As := av.map gvv) (rest := rs.map gvv) ⟨hx, hb, hml, hown, hts⟩ hM (va_cwS n hts hW rfl rfl rfl hd hR) ⟨g_blind _, fun U hU hW => ⟨rfl, by rw [hU]; exact hS.1, hKn.warm hW⟩⟩ rfl (by rw [List.length_map]; exact hn) hl.1 hst (lv_room (by rw [gcat_eq]; exact h8)) hdg hf) kk
theorem g_callI (hx : p.tables.exec = Jvm.exec) (hb : c.code = cc) (hml : c.maxLocals = nL) (hown : s.vm.findClass own = some m.cls) (hts : ∀ w ∈ lw_all, w.before args s = true) (hKn : gKn E D s) (hRc : R.cells = gMc E - s.heap.size) (hRs : R.slots = gMs E - ghsl s.heap) (hS : gSt E D G H locs) {l0 : List (Nat × g_v)} (hl : gls ls nL l0)
    (hM : gMet l E D y (ws_ y bytes maxL none) F1 L1 (.inr (.inr (some b)) :: av) G rv G1) (hW : GoodIn lw_all (ws_ y bytes maxL none)) (hini : (Cond.initialized y.cls).before args s = true) (hlk : (Cond.methodLink own index y).before args s = true) (hin : (Cond.instanceMethod y).before args s = true) (hy : y.name = "<init>")
    (hd : y.cls ≠ "java/lang/invoke/MethodHandle" ∧ y.cls ≠ "java/lang/invoke/VarHandle" ∧ (parseMethodDescriptor y.desc).map (fun d => d.parameters.length) = some n) (hR : F1 + 1 ≤ R.frames ∧ 8 + (maxL + 11) + L1 ≤ R.locals)
    (hn : av.length = n) (hst : st0 = (av.map gvv).reverse ++ .ref b :: rs.map gvv) (h8 : gwid rs ≤ 8) (hdg : decode cc pc = .ok (.invokespecial index, 3))
    (kk : ∀ (H1 : Heap) (locs1 : List Loc) (cells1 slots1 : Nat), gSt E D G1 H1 locs1 → W p l e R s m args below meth c H1 locs1 cells1 slots1 Q (F0 m (pc + 3) ls (rv.toList ++ rs.map gvv))) : W p l e R s m args below meth c H locs cells slots Q (F0 m pc ls st0) := by
  refine W.room hRc hRs hS fun hf => g_go hS (va_runI (As := av.map gvv) (rest := rs.map gvv) ⟨hx, hb, hml, hown, hts⟩ hM (cwI n hts hW rfl rfl rfl hini hlk hin hy hd hR) ⟨g_blind _, fun U hU hW => ⟨rfl, by rw [hU]; exact hS.1, hKn.warm hW⟩⟩ rfl (by rw [List.length_map]; exact hn) hl.1 hst (lv_room (by rw [gcat_eq]; exact h8)) hdg hf) kk
theorem g_callIN (hx : p.tables.exec = Jvm.exec) (hb : c.code = cc) (hml : c.maxLocals = nL) (hown : s.vm.findClass own = some m.cls) (hts : ∀ w ∈ lw_all, w.before args s = true) (hKn : gKn E D s) (hRc : R.cells = gMc E - s.heap.size) (hRs : R.slots = gMs E - ghsl s.heap) (hS : gSt E D G H locs) {l0 : List (Nat × g_v)} (hl : gls ls nL l0) {host : String}
    (hM : gMet l E D y (ws_ y bytes maxL none) F1 L1 (.inr (.inr (some b)) :: av) G rv G1) (hW : GoodIn lw_all (ws_ y bytes maxL none)) (hini : (Cond.initialized y.cls).before args s = true) (hlk : Cond.methodLinkNest own index y host ∈ lw_tbl) (hin : (Cond.instanceMethod y).before args s = true) (hy : y.name = "<init>")
    (hd : y.cls ≠ "java/lang/invoke/MethodHandle" ∧ y.cls ≠ "java/lang/invoke/VarHandle" ∧ (parseMethodDescriptor y.desc).map (fun d => d.parameters.length) = some n) (hR : F1 + 1 ≤ R.frames ∧ 8 + (maxL + 11) + L1 ≤ R.locals)
    (hn : av.length = n) (hst : st0 = (av.map gvv).reverse ++ .ref b :: rs.map gvv) (h8 : gwid rs ≤ 8) (hdg : decode cc pc = .ok (.invokespecial index, 3))
    (kk : ∀ (H1 : Heap) (locs1 : List Loc) (cells1 slots1 : Nat), gSt E D G1 H1 locs1 → W p l e R s m args below meth c H1 locs1 cells1 slots1 Q (F0 m (pc + 3) ls (rv.toList ++ rs.map gvv))) : W p l e R s m args below meth c H locs cells slots Q (F0 m pc ls st0) := by
  refine W.room hRc hRs hS fun hf => g_go hS (va_runIN (As := av.map gvv) (rest := rs.map gvv) ⟨hx, hb, hml, hown, hts⟩ hM ⟨va_cnB n hts hW rfl rfl rfl (hKn.2.2.2.2.1 _ (gNest_in hlk rfl)) hini hd hR, hy, hin⟩ ⟨g_blind _, fun U hU hW => ⟨rfl, by rw [hU]; exact hS.1, hKn.warm hW⟩⟩ rfl (by rw [List.length_map]; exact hn) hl.1 hst (lv_room (by rw [gcat_eq]; exact h8)) hdg hf) kk
/-- an inherited method -/
theorem g_callU (hx : p.tables.exec = Jvm.exec) (hb : c.code = cc) (hml : c.maxLocals = nL) (hown : s.vm.findClass own = some m.cls) (hts : ∀ w ∈ lw_all, w.before args s = true) (hKn : gKn E D s) (hRc : R.cells = gMc E - s.heap.size) (hRs : R.slots = gMs E - ghsl s.heap) (hS : gSt E D G H locs) {l0 : List (Nat × g_v)} (hl : gls ls nL l0) {owner : String} {x : MethodName}
    (hM : gMet l E D y (ws_ y bytes maxL rt) F1 L1 (.inr (.inr (some b)) :: av) G rv G1) (cw : va_CU R s args own C owner index x y bytes maxL rt (ws_ y bytes maxL rt) { frames := F1, cells := gMc E - gsz G, slots := gMs E - gsl G, locals := L1 } (gMc E - gsz G) (gMs E - gsl G) n)
    (hrv : ∃ cell : Cell, H[b]? = some cell ∧ cell.vm.isStatics = false ∧ s.vm.findClass C = some cell.cls) (hn : av.length = n) (hst : st0 = (av.map gvv).reverse ++ .ref b :: rs.map gvv) (h8 : gwid rs ≤ 8) (hdg : decode cc pc = .ok (.invokevirtual index, 3))
    (kk : ∀ (H1 : Heap) (locs1 : List Loc) (cells1 slots1 : Nat), gSt E D G1 H1 locs1 → W p l e R s m args below meth c H1 locs1 cells1 slots1 Q (F0 m (pc + 3) ls (rv.toList ++ rs.map gvv))) : W p l e R s m args below meth c H locs cells slots Q (F0 m pc ls st0) := by
  refine W.room hRc hRs hS fun hf => g_go hS (va_runU (As := av.map gvv) (rest := rs.map gvv) ⟨hx, hb, hml, hown, hts⟩ hM cw ⟨g_blind _, hrv, fun U hU hW => ⟨rfl, by rw [hU]; exact hS.1, hKn.warm hW⟩⟩ rfl (by rw [List.length_map]; exact hn) hl.1 hst (lv_room (by rw [gcat_eq]; exact h8)) hdg hf) kk
/-- a superclass's method -/
theorem g_callSU (hx : p.tables.exec = Jvm.exec) (hb : c.code = cc) (hml : c.maxLocals = nL) (hown : s.vm.findClass own = some m.cls) (hts : ∀ w ∈ lw_all, w.before args s = true) (hKn : gKn E D s) (hRc : R.cells = gMc E - s.heap.size) (hRs : R.slots = gMs E - ghsl s.heap) (hS : gSt E D G H locs) {l0 : List (Nat × g_v)} (hl : gls ls nL l0) {cC : ClassId} (hat : ClassAt s C cC)
    (hM : gMet l E D y (ws_ y bytes maxL rt) F1 L1 (.inr (.inr (some b)) :: av) G rv G1) (hW : GoodIn lw_all (va_wsSU own index y (ws_ y bytes maxL rt))) (hd : y.name ≠ "<init>" ∧ (parseMethodDescriptor y.desc).map (fun d => d.parameters.length) = some n) (hR : F1 + 1 ≤ R.frames ∧ 8 + (maxL + 11) + L1 ≤ R.locals)
    (hrv : ∃ cell : Cell, H[b]? = some cell ∧ cell.vm.isStatics = false ∧ s.vm.findClass C = some cell.cls) (hn : av.length = n) (hst : st0 = (av.map gvv).reverse ++ .ref b :: rs.map gvv) (h8 : gwid rs ≤ 8) (hdg : decode cc pc = .ok (.invokespecial index, 3))
    (kk : ∀ (H1 : Heap) (locs1 : List Loc) (cells1 slots1 : Nat), gSt E D G1 H1 locs1 → W p l e R s m args below meth c H1 locs1 cells1 slots1 Q (F0 m (pc + 3) ls (rv.toList ++ rs.map gvv))) : W p l e R s m args below meth c H locs cells slots Q (F0 m pc ls st0) := by
  refine W.room hRc hRs hS fun hf => g_go hS (va_runSU (As := av.map gvv) (rest := rs.map gvv) hat ⟨hx, hb, hml, hown, hts⟩ hM (va_cwSU n hts hW rfl rfl rfl hd hR) ⟨g_blind _, hrv, fun U hU hW => ⟨rfl, by rw [hU]; exact hS.1, hKn.warm hW⟩⟩ rfl (by rw [List.length_map]; exact hn) hl.1 hst (lv_room (by rw [gcat_eq]; exact h8)) hdg hf) kk
/-- through an interface -/
theorem g_callF (hx : p.tables.exec = Jvm.exec) (hb : c.code = cc) (hml : c.maxLocals = nL) (hown : s.vm.findClass own = some m.cls) (hts : ∀ w ∈ lw_all, w.before args s = true) (hKn : gKn E D s) (hRc : R.cells = gMc E - s.heap.size) (hRs : R.slots = gMs E - ghsl s.heap) (hS : gSt E D G H locs) {l0 : List (Nat × g_v)} (hl : gls ls nL l0) {cC : ClassId} (hat : ClassAt s C cC) {x : MethodName} {count : Nat}
    (hM : gMet l E D y (ws_ y bytes maxL rt) F1 L1 (.inr (.inr (some b)) :: av) G rv G1) (hW : GoodIn lw_all (va_wsF own index C x y (ws_ y bytes maxL rt))) (hF : va_Fw C x y s) (hd : x.cls ≠ "java/lang/invoke/MethodHandle" ∧ x.cls ≠ "java/lang/invoke/VarHandle" ∧ (parseMethodDescriptor x.desc).map (fun d => d.parameters.length) = some n) (hR : F1 + 1 ≤ R.frames ∧ 8 + (maxL + 11) + L1 ≤ R.locals)
    (hrv : ∃ cell : Cell, H[b]? = some cell ∧ cell.vm.isStatics = false ∧ s.vm.findClass C = some cell.cls) (hn : av.length = n) (hst : st0 = (av.map gvv).reverse ++ .ref b :: rs.map gvv) (h8 : gwid rs ≤ 8) (hdg : decode cc pc = .ok (.invokeinterface index count, 5))
    (kk : ∀ (H1 : Heap) (locs1 : List Loc) (cells1 slots1 : Nat), gSt E D G1 H1 locs1 → W p l e R s m args below meth c H1 locs1 cells1 slots1 Q (F0 m (pc + 5) ls (rv.toList ++ rs.map gvv))) : W p l e R s m args below meth c H locs cells slots Q (F0 m pc ls st0) := by
  refine W.room hRc hRs hS fun hf => g_go5 hS (va_runF (As := av.map gvv) (rest := rs.map gvv) hat ⟨hx, hb, hml, hown, hts⟩ hM (va_cwF n hts hW rfl rfl rfl hF hd hR) ⟨g_blind _, hrv, fun U hU hW => ⟨rfl, by rw [hU]; exact hS.1, hKn.warm hW⟩⟩ rfl (by rw [List.length_map]; exact hn) hl.1 hst (lv_room (by rw [gcat_eq]; exact h8)) hdg hf) kk
theorem g_objInit (hx : p.tables.exec = Jvm.exec) (hb : c.code = cc) (hml : c.maxLocals = nL) (hown : s.vm.findClass own = some m.cls) {l0 : List (Nat × g_v)} (hl : gls ls nL l0) {idx a : Nat} (h1 : (Cond.methodLink own idx Lib.objectInit).before args s = true) (h2 : (Cond.instanceMethod Lib.objectInit).before args s = true) (h3 : (Cond.code Lib.objectInit ⟨#[0xb1]⟩ 1 none).before args s = true) (hst : st0 = .ref a :: rs.map gvv) (hdg : decode cc pc = .ok (.invokespecial idx, 3)) (hR : 1 ≤ R.frames ∧ gwid rs + 12 ≤ R.locals)
    (kk : W p l e R s m args below meth c H locs cells slots Q (F0 m (pc + 3) ls (rs.map gvv))) : W p l e R s m args below meth c H locs cells slots Q (F0 m pc ls st0) :=
  W.objInit hx hb hown h1 h2 h3 rfl (by rw [hml]; exact hl.1) hst hdg hR.1 (by rw [gcat_eq]; show 2 * 0 + _ + 12 ≤ _; omega) kk
end GROW7
