/-! the rest of the rows: receivers, casts of arrays, switches, System.arraycopy -/
set_option maxRecDepth 100000
def gchk (G : g_G) (k : Nat) (r : Option Nat) : Option Nat := r.bind fun a => if gcl G a = k then some a else none
theorem g_chk {G : g_G} {k : Nat} {r : Option Nat} {b : Nat} (h : gchk G k r = some b) : r = some b ∧ gcl G b = k := by
  obtain ⟨a, rfl, h2⟩ := g_bnd h
  by_cases hc : gcl G a = k
  · cases g_ift hc h2
    exact ⟨rfl, hc⟩
  · exact g_no (g_iff hc h2)
/-- how often a loop may go round; how deep an expression's rows may lie in one another -/
def gFU : Nat := 1000000000000
def gDP : Nat := 24
def ginst (G : g_G) (k : Nat) (r : Option Nat) : Option Int32 := match r with
  | none => some 0
  | some a => if gcl G a = k then some 1 else none
/-- one cell written anew -/
theorem gReal.upw {E : g_E} {D : g_D} {G G1 : g_G} {H H1 : Heap} {a : Nat} {cell cell1 : Cell} (h : gReal E D G H) (ha : gcl G a ≠ 0) (hB : gB E ≤ a) (hc : H[a]? = some cell) (h1 : H1[a]? = some cell1) (ec : cell1.cls = cell.cls) (em : cell1.monitor = cell.monitor) (ev : cell1.vm = cell.vm) (es : cell1.slots.size = cell.slots.size) (hz : H1.size = H.size) (ho : ∀ q : Nat, q ≠ a → H1[q]? = H[q]?)
    (e1 : gsz G1 = gsz G) (e2 : gsl G1 = gsl G) (e3 : gcl G1 = gcl G) (e4 : gln G1 = gln G) (hv : ∀ k, k < gln G a → cell1.slots[gslot D (gcl G a) k]? = some (gV G1 a k)) (hne : ∀ b, b ≠ a → ∀ j, gV G1 b j = gV G b j) : gReal E D G1 H1 := by
  obtain ⟨r1, r2, r3, r4, r5, r6, r7⟩ := h
  refine ⟨by rw [hz, r1, e1], ?_, by rw [e1]; exact r3, by rw [e2]; exact r4, by rw [e1]; exact r5, fun b hb => ?_, fun b hb => ?_⟩
  · rw [e2, ← r2]
    refine ghsl_of_sizes hz fun b => ?_
    by_cases hb : b = a
    · subst hb
      rw [hc, h1]
      exact congrArg some es
    · rw [ho b hb]
  · rw [e3] at hb ⊢
    obtain ⟨g1, cb, q1, q2, q3, q4, q5, q6, q7, q8, q9⟩ := r6 b hb
    refine ⟨g1, ?_⟩
    by_cases hba : b = a
    · subst hba
      cases hc.symm.trans q1
      refine ⟨_, h1, by rw [e3, ec]; exact q2, by rw [ev]; exact q3, by rw [ev]; exact q4, by unfold gFree; rw [ev, em]; exact q5, fun hh => ?_, fun hh => ?_, by rw [e4]; exact q8, fun j hj => ?_⟩
      · rw [e3] at hh
        rw [e4, es]
        exact q6 hh
      · rw [e3] at hh ⊢
        rw [e4]
        exact q7 hh
      · rw [e4] at hj
        rw [e3]
        exact hv j hj
    · refine ⟨cb, by rw [ho b hba]; exact q1, by rw [e3]; exact q2, q3, q4, q5, fun hh => by rw [e3] at hh; rw [e4]; exact q6 hh, fun hh => by rw [e3] at hh ⊢; rw [e4]; exact q7 hh, by rw [e4]; exact q8, fun j hj => ?_⟩
      rw [e4] at hj
      rw [e3, hne b hba j]
      exact q9 j hj
  · rw [ho b (by omega)]
    exact r7 b hb
section GROW8
variable {p : Program} {l : Launch} {e : Env} {R : Room} {s : State} {m : MethodId} {args : Array Value} {below : List Frame} {meth : Method} {c : Code} {H : Heap} {locs : List Loc} {cells slots : Nat} {Q : State → Prop}
variable {cc : ByteArray} {pc nL : Nat} {ls : Array Slot} {rest : List Value} {E : g_E} {D : g_D} {G : g_G} {own nm : String} {ret : Option FieldType} {F Lc : Nat}
theorem g_castA (hx : p.tables.exec = Jvm.exec) (hb : c.code = cc) (hown : s.vm.findClass own = some m.cls) (hKn : gKn E D s) (hS : gSt E D G H locs) {k index : Nat} {C : String} {r : Option Nat} {β : Type} {f : Option Nat → Option β} {Rr : β} (h : (gcast G k k r).bind f = some Rr) (hm : k ∈ [100, 101, 102, 110, 120, 121, 122, 123]) (hC : "[" ++ (gAT k).toString = C) (hlink : (Cond.classLink own index C).before args s = true) (hdg : decode cc pc = .ok (.checkcast index, 3))
    (kk : ∀ x, f x = some Rr → W p l e R s m args below meth c H locs cells slots Q (F0 m (pc + 3) ls (va_rf x :: rest))) : W p l e R s m args below meth c H locs cells slots Q (F0 m pc ls (va_rf r :: rest)) := by
  obtain ⟨x, hx1, hf⟩ := g_bnd h
  cases r with
  | none =>
    cases hx1
    exact lv_castN hx hb hdg (kk _ hf)
  | some a =>
    have hx1 : (if k ≤ gcl G a ∧ gcl G a ≤ k then some (some a) else none) = some x := hx1
    by_cases hc : k ≤ gcl G a ∧ gcl G a ≤ k
    · cases g_ift hc hx1
      have hm' : k ∈ [100, 101, 102, 110, 120, 121, 122, 123, 124] := by
        simp only [List.mem_cons, List.not_mem_nil, or_false] at hm ⊢
        omega
      obtain ⟨cell, q1, q2, q3, q4, q5, q6, q7, q8, -⟩ := g_arr hKn hS (a := a) (k := k) (by omega) hm'
      have hn := hKn.2.2.1 k hm
      unfold gArn at hn
      rw [hC] at hn
      intro T hT X
      obtain ⟨vm', X', st⟩ := X.checkcastYes hx hown hlink (by rw [hT]; exact q1) q8 hn (by rw [q7]; exact va_asg _ _) (g := F0 m pc ls (.ref a :: rest)) rfl rfl (by rw [hb]; exact hdg)
      obtain ⟨t, a1, b1⟩ := kk _ hf (T.setVm vm') hT X'
      exact ⟨t, st t a1, b1⟩
    · exact g_no (g_iff hc hx1)
theorem g_instS (hx : p.tables.exec = Jvm.exec) (hb : c.code = cc) (hown : s.vm.findClass own = some m.cls) (hKn : gKn E D s) (hS : gSt E D G H locs) {k index : Nat} {r : Option Nat} {β : Type} {f : Int32 → Option β} {Rr : β} (h : (ginst G k r).bind f = some Rr) (b1 : 1 ≤ k) (b2 : k ≤ 22) (hlink : (Cond.classLink own index (gNm k)).before args s = true) (hdg : decode cc pc = .ok (.instanceof index, 3))
    (kk : ∀ x, f x = some Rr → W p l e R s m args below meth c H locs cells slots Q (F0 m (pc + 3) ls (.int x :: rest))) : W p l e R s m args below meth c H locs cells slots Q (F0 m pc ls (va_rf r :: rest)) := by
  obtain ⟨x, hx1, hf⟩ := g_bnd h
  cases r with
  | none =>
    cases hx1
    exact lv_instN hx hb hdg (kk _ hf)
  | some a =>
    have hx1 : (if gcl G a = k then some (1 : Int32) else none) = some x := hx1
    by_cases hc : gcl G a = k
    · cases g_ift hc hx1
      exact va_instS hx hb hown hlink (hKn.obj b1 b2).2 (g_recv hKn hS hc b1 b2) hdg (kk _ hf)
    · exact g_no (g_iff hc hx1)
theorem g_tableD (hx : p.tables.exec = Jvm.exec) (hb : c.code = cc) {dflt lo hi : Int} {offs : Array Int} {len : Nat} {x : Int32} {tgt : Nat} (hdg : decode cc pc = .ok (.tableswitch dflt lo hi offs, len)) (ht : (pc : Int) + dflt = (tgt : Int)) (ks : List Int32) (ha : ∀ i, i < (hi + 1 - lo).toNat → offs[i]? = some dflt ∨ (ks.any fun k => k.toInt == lo + (i : Int)) = true) (hn : ∀ k ∈ ks, ¬ x = k)
    (kk : W p l e R s m args below meth c H locs cells slots Q (F0 m tgt ls rest)) : W p l e R s m args below meth c H locs cells slots Q (F0 m pc ls (.int x :: rest)) := by
  by_cases h : x.toInt < lo ∨ hi < x.toInt
  · exact lv_tableOut hx hb hdg h ht kk
  · rcases ha (x.toInt - lo).toNat (by omega) with h1 | h1
    · exact lv_tableIn hx hb hdg (fun q => h (Or.inl q)) (fun q => h (Or.inr q)) h1 ht kk
    · obtain ⟨k, hk, h2⟩ := List.any_eq_true.mp h1
      refine absurd (Int32.toInt_inj.mp ?_) (hn k hk)
      have := eq_of_beq h2
      omega
theorem g_offD (d x : Int) : ∀ (l : List (Int × Int)), (∀ q ∈ l, q.1 ≠ x) → Op.lookupswitch.offset l d x = d
  | [], _ => rfl
  | q :: r, h => by
    obtain ⟨a, o⟩ := q
    rw [Op.lookupswitch.offset_cons, if_neg (h (a, o) (List.mem_cons_self ..))]
    exact g_offD d x r fun q hq => h q (List.mem_cons_of_mem _ hq)
theorem g_lookupD (hx : p.tables.exec = Jvm.exec) (hb : c.code = cc) {dflt : Int} {ps : Array (Int × Int)} {len : Nat} {x : Int32} {tgt : Nat} (hdg : decode cc pc = .ok (.lookupswitch dflt ps, len)) (hp : (ps.toList.zip (ps.toList.drop 1)).all (fun (a, next) => a.1 < next.1) = true) (ks : List Int32) (hk : ps.toList.map (·.1) = ks.map Int32.toInt) (hn : ∀ k ∈ ks, ¬ x = k) (ht : (pc : Int) + dflt = (tgt : Int))
    (kk : W p l e R s m args below meth c H locs cells slots Q (F0 m tgt ls rest)) : W p l e R s m args below meth c H locs cells slots Q (F0 m pc ls (.int x :: rest)) := by
  refine lv_lookup hx hb hdg hp (g_offD _ _ _ fun q hq hqx => ?_) ht kk
  have : q.1 ∈ ks.map Int32.toInt := hk ▸ List.mem_map_of_mem hq
  obtain ⟨k, h1, h2⟩ := List.mem_map.mp this
  exact hn k h1 (Int32.toInt_inj.mp (by rw [h2]; exact hqx.symm))
theorem g_nn {z : Int32} (hz : ¬ z < 0) : z.toInt = (z.toNatClampNeg : Int) := by
  have hz0 : (0 : Int) ≤ z.toInt := by
    have := Int32.not_lt.mp hz
    simpa using Int32.le_iff_toInt_le.mp this
  show z.toInt = ((z.toInt.toNat : Nat) : Int)
  omega
theorem gV_cpy {G : g_G} {a b sp dp n x j : Nat} (hk : ∀ i, gkK (gcl G a) i = gkK (gcl G b) j) : gV (gsz G, gsl G, gcl G, gln G, gcpy (gI G) a b sp dp n, gcpy (gL G) a b sp dp n, gcpy (gR G) a b sp dp n) x j = if x = b ∧ dp ≤ j ∧ j < dp + n then gV G a (sp + (j - dp)) else gV G x j := by
  by_cases h : x = b ∧ dp ≤ j ∧ j < dp + n
  · rw [if_pos h]
    unfold gV
    show (match gkK (gcl G x) j with | 0 => Value.int (gcpy (gI G) a b sp dp n x j) | 1 => .long (gcpy (gL G) a b sp dp n x j) | _ => va_rf (gcpy (gR G) a b sp dp n x j)) = _
    unfold gcpy
    rw [if_pos h, if_pos h, if_pos h, h.1, hk (sp + (j - dp))]
    rfl
  · rw [if_neg h]
    unfold gV
    show (match gkK (gcl G x) j with | 0 => Value.int (gcpy (gI G) a b sp dp n x j) | 1 => .long (gcpy (gL G) a b sp dp n x j) | _ => va_rf (gcpy (gR G) a b sp dp n x j)) = _
    unfold gcpy
    rw [if_neg h, if_neg h, if_neg h]
    rfl
theorem g_copyG (hx : p.tables.exec = Jvm.exec) (hb : c.code = cc) (hml : c.maxLocals = nL) (hown : s.vm.findClass own = some m.cls) (hts : ∀ w ∈ lw_all, w.before args s = true) (hKn : gKn E D s) (hS : gSt E D G H locs) {l0 : List (Nat × g_v)} (hl : gls ls nL l0) {r q : Option Nat} {i j n : Int32} {index : Nat} {rs : List g_v} {st0 : List Value} {β : Type} {f : g_G → Option β} {Rr : β} (h : (gcopy E G r i q j n).bind f = some Rr)
    (hlink : (Cond.methodLink own index arraycopyName).before args s = true) (hnat : (Cond.native arraycopyName).before args s = true) (hstat : (Cond.static arraycopyName).before args s = true) (hini : (Cond.initialized "java/lang/System").before args s = true) (hst : st0 = .int n :: .int j :: va_rf q :: .int i :: va_rf r :: rs.map gvv) (h8 : gwid rs ≤ 8) (hR : 1 ≤ R.frames ∧ 8 + (nativeFrameWords "java/lang/System" "arraycopy" 5 + 11) ≤ R.locals) (hdg : decode cc pc = .ok (.invokestatic index, 3))
    (kk : ∀ G1, f G1 = some Rr → ∀ (H1 : Heap) (locs1 : List Loc), gSt E D G1 H1 locs1 → W p l e R s m args below meth c H1 locs1 cells slots Q (F0 m (pc + 3) ls (rs.map gvv))) : W p l e R s m args below meth c H locs cells slots Q (F0 m pc ls st0) := by
  subst hst
  obtain ⟨G1, hx1, hf⟩ := g_bnd h
  obtain ⟨a, rfl, hx2⟩ := g_bnd hx1
  obtain ⟨b, rfl, h2⟩ := g_bnd hx2
  by_cases hc : gB E ≤ b ∧ (gcl G a = 101 ∨ gcl G a = 120) ∧ gcl G b = gcl G a ∧ ¬ i < 0 ∧ ¬ j < 0 ∧ ¬ n < 0 ∧ i.toNatClampNeg + n.toNatClampNeg ≤ gln G a ∧ j.toNatClampNeg + n.toNatClampNeg ≤ gln G b ∧ ∀ k, k < n.toNatClampNeg → gfit G (gcl G a) a (i.toNatClampNeg + k) = true
  · have e := g_ift hc h2
    obtain ⟨hB, hk, hab, c1, c2, c3, c4, c5, c6⟩ := hc
    have hm : gcl G a ∈ [100, 101, 102, 110, 120, 121, 122, 123, 124] := by
      simp only [List.mem_cons, List.not_mem_nil, or_false]
      omega
    obtain ⟨cs, s1, ⟨-, ks, t1, sComp, t2⟩, s3, s4, s5, s6, s7, s8, s9⟩ := g_arr hKn hS rfl hm
    obtain ⟨cd, d1, ⟨-, kd, u1, dComp, u2⟩, d3, d4, d5, d6, d7, d8, d9⟩ := g_arr hKn hS hab hm
    have hread : ∀ k, k < n.toNatClampNeg → cs.slots.getD (i.toNatClampNeg + k) .null = gV G a (i.toNatClampNeg + k) := fun k hk => by
      rw [Array.getD_eq_getD_getElem?, s9 _ (by omega)]
      rfl
    intro T hT X
    obtain ⟨vm', X', step⟩ := X.arraycopy hx hown hlink hnat hstat hini (src := a) (dst := b) (cs := cs) (cd := cd) (srcPos := i) (destPos := j) (n := n) (by rw [hT]; exact s1) (by rw [hT]; exact d1)
      (fun z hz => by rw [hz] at s8; cases s8) (fun z hz => by rw [hz] at d8; cases d8) s3 d3 t1 u1 t2 u2 (by rcases hk with z | z <;> rw [z] <;> rfl) c1 c2 c3
      (by rw [g_nn c1, g_nn c3]; have := s4.1; omega) (by rw [g_nn c2, g_nn c3, d4.2.2 hB]; omega)
      (fun vm1 hal k hk' => by
        rw [hread k hk']
        have hfi := c6 k hk'
        rcases hk with z | z
        · rw [z] at hfi ⊢
          have hfi : (gI G a (i.toNatClampNeg + k)).toInt8.toInt32 = gI G a (i.toNatClampNeg + k) := of_decide_eq_true hfi
          rw [gV_I (by rw [z]; rfl)]
          exact ⟨g_fitB hfi, trivial⟩
        · rw [z] at hfi ⊢
          have hfi : (gR G a (i.toNatClampNeg + k)).all (fun b => gasg 120 (gcl G b)) = true := hfi
          rw [gV_R (by rw [z]; rfl)]
          cases hy : gR G a (i.toNatClampNeg + k) with
          | none => exact ⟨rfl, trivial⟩
          | some y =>
            rw [hy] at hfi
            have hg : gasg 120 (gcl G y) = true := hfi
            have hr : 1 ≤ gcl G y ∧ gcl G y ≤ 22 := by
              unfold gasg at hg
              simp only [Bool.or_eq_true, Bool.and_eq_true, beq_iff_eq, Nat.ble_eq] at hg
              omega
            obtain ⟨-, cb, g1, g2, g3, g4, -⟩ := hS.1.at (a := y) (by omega)
            obtain ⟨kA, comp, kc, a1, a2, a3, a4⟩ := hKn.2.2.2.1 120 (gcl G y) hg
            obtain ⟨-, -, kC, hkC, -⟩ := hKn.obj hr.1 hr.2
            rw [d7, z] at u1
            cases u1.symm.trans a1
            rw [z] at u2
            cases u2.symm.trans a2
            obtain ⟨kC', hkC', -⟩ := hal.2.2 _ _ hkC
            obtain ⟨kE', hkE', -⟩ := hal.2.2 _ _ a3
            refine ⟨rfl, cb, (show T.heap[y]? = some cb by rw [hT]; exact g1), (fun w hw => by rw [hw] at g4; cases g4), ⟨kC', by rw [g2]; exact hkC'⟩, ⟨kE', hkE'⟩, ?_⟩
            show vm1.assignable _ _ = true
            rw [hal.assignable, g2]
            exact a4)
      (g := F0 m pc ls (.int n :: .int j :: .ref b :: .int i :: .ref a :: rs.map gvv)) rfl (by rw [hml]; exact hl.1) (rest := rs.map gvv) rfl (by rw [hb]; exact hdg) hR.1 (by show 2 * 0 + _ + _ ≤ _; rw [gcat_eq]; omega)
    have hlt : b < H.size := (Array.getElem?_eq_some_iff.mp d1).1
    have hheap : ((T.setVm vm').setCell b (copied cs cd i j n)).heap = H.setIfInBounds b (copied cs cd i j n) := by rw [← hT]; rfl
    have hst1 : (cs.stretch i.toNatClampNeg n.toNatClampNeg).length = n.toNatClampNeg := by simp [Cell.stretch]
    have hsl : ∀ k, (copied cs cd i j n).slots[k]? = if j.toNatClampNeg ≤ k ∧ k < j.toNatClampNeg + n.toNatClampNeg then (cs.stretch i.toNatClampNeg n.toNatClampNeg)[k - j.toNatClampNeg]? else cd.slots[k]? := fun k => by
      have := cd.storePairs_get j.toNatClampNeg (cs.stretch i.toNatClampNeg n.toNatClampNeg) 0 k (by rw [hst1, d4.2.2 hB]; omega)
      rw [hst1] at this
      simp only [Nat.add_zero] at this
      exact this
    obtain ⟨f1, f2, f3, -, f5⟩ := cd.storeRun_facts j.toNatClampNeg (cs.stretch i.toNatClampNeg n.toNatClampNeg)
    cases e
    have hgk : ∀ z w, gkK (gcl G a) z = gkK (gcl G b) w := fun z w => by rw [hab, gkK_arr (by omega), gkK_arr (by omega)]
    have hg : gslot D (gcl G b) = fun k => k := funext fun k => by unfold gslot; rw [if_pos (by omega)]
    have hRl : gReal E D (gsz G, gsl G, gcl G, gln G, gcpy (gI G) a b i.toNatClampNeg j.toNatClampNeg n.toNatClampNeg, gcpy (gL G) a b i.toNatClampNeg j.toNatClampNeg n.toNatClampNeg, gcpy (gR G) a b i.toNatClampNeg j.toNatClampNeg n.toNatClampNeg) (H.setIfInBounds b (copied cs cd i j n)) := by
      refine hS.1.upw (a := b) (by omega) hB d1 (cell1 := copied cs cd i j n) (by simp [Array.getElem?_setIfInBounds, hlt]) f1 f5 f2 f3 (by simp) (fun z hz => by simp [Array.getElem?_setIfInBounds, Ne.symm hz]) rfl rfl rfl rfl (fun k hk1 => ?_) (fun x hxb k => ?_)
      · rw [hg, hsl, gV_cpy (fun z => hgk z k)]
        by_cases hz : j.toNatClampNeg ≤ k ∧ k < j.toNatClampNeg + n.toNatClampNeg
        · rw [if_pos hz, if_pos ⟨rfl, hz⟩]
          have e2 : (cs.stretch i.toNatClampNeg n.toNatClampNeg)[k - j.toNatClampNeg]? = some (cs.slots.getD (i.toNatClampNeg + (k - j.toNatClampNeg)) .null) := by
            unfold Cell.stretch
            rw [List.getElem?_map, List.getElem?_range (by omega)]
            rfl
          rw [e2, hread _ (by omega)]
        · rw [if_neg hz, if_neg (fun w => hz w.2)]
          exact d9 k hk1
      · have hw : ¬ (x = b ∧ j.toNatClampNeg ≤ k ∧ k < j.toNatClampNeg + n.toNatClampNeg) := fun w => hxb w.1
        refine gV_eq rfl ?_ ?_ ?_
        · exact if_neg hw
        · exact if_neg hw
        · exact if_neg hw
    obtain ⟨t, a1, b1⟩ := kk _ hf _ _ ⟨hRl, fun z hz => by
      rcases List.mem_append.mp hz with h | h
      · exact hS.2 z h
      · obtain ⟨w, -, hw⟩ := List.mem_map.mp h
        rw [← hw]
        exact hB⟩ _ hheap X'
    exact ⟨t, step t a1, b1⟩
  · exact g_no (g_iff hc h2)
theorem g_mmax (hx : p.tables.exec = Jvm.exec) (hb : c.code = cc) (hml : c.maxLocals = nL) (hown : s.vm.findClass own = some m.cls) (hRc : R.cells = gMc E - s.heap.size) (hRs : R.slots = gMs E - ghsl s.heap) (hS : gSt E D G H locs) {l0 : List (Nat × g_v)} (hl : gls ls nL l0) {x y : Int32} {index : Nat} {rs : List g_v} {st0 : List Value} {cd : ByteArray}
    (hlink : (Cond.methodLink own index Lib.Math.max.name).before args s = true) (hstat : (Cond.static Lib.Math.max.name).before args s = true) (hini : (Cond.initialized "java/lang/Math").before args s = true) (hcode : (Cond.code Lib.Math.max.name cd 2 (some .int)).before args s = true) (hcd : cd = Lib.Math.max.code) (hst : st0 = .int y :: .int x :: rs.map gvv) (h8 : gwid rs ≤ 8) (hR : 1 ≤ R.frames ∧ 21 ≤ R.locals) (hdg : decode cc pc = .ok (.invokestatic index, 3))
    (kk : ∀ cells slots : Nat, W p l e R s m args below meth c H locs cells slots Q (F0 m (pc + 3) ls (.int (if x < y then y else x) :: rs.map gvv))) : W p l e R s m args below meth c H locs cells slots Q (F0 m pc ls st0) := by
  subst hst
  subst hcd
  exact W.room hRc hRs hS fun hf => va_mmax hx hb (by rw [hml]; exact hl.1.symm) hown hlink hstat hini hcode hR.1 (by rw [gcat_eq]; omega) (by omega) (by omega) hdg (kk _ _)
theorem g_mmin (hx : p.tables.exec = Jvm.exec) (hb : c.code = cc) (hml : c.maxLocals = nL) (hown : s.vm.findClass own = some m.cls) (hRc : R.cells = gMc E - s.heap.size) (hRs : R.slots = gMs E - ghsl s.heap) (hS : gSt E D G H locs) {l0 : List (Nat × g_v)} (hl : gls ls nL l0) {x y : Int32} {index : Nat} {rs : List g_v} {st0 : List Value} {cd : ByteArray}
    (hlink : (Cond.methodLink own index Lib.Math.min.name).before args s = true) (hstat : (Cond.static Lib.Math.min.name).before args s = true) (hini : (Cond.initialized "java/lang/Math").before args s = true) (hcode : (Cond.code Lib.Math.min.name cd 2 (some .int)).before args s = true) (hcd : cd = Lib.Math.min.code) (hst : st0 = .int y :: .int x :: rs.map gvv) (h8 : gwid rs ≤ 8) (hR : 1 ≤ R.frames ∧ 21 ≤ R.locals) (hdg : decode cc pc = .ok (.invokestatic index, 3))
    (kk : ∀ cells slots : Nat, W p l e R s m args below meth c H locs cells slots Q (F0 m (pc + 3) ls (.int (if y < x then y else x) :: rs.map gvv))) : W p l e R s m args below meth c H locs cells slots Q (F0 m pc ls st0) := by
  subst hst
  subst hcd
  exact W.room hRc hRs hS fun hf => va_mmin hx hb (by rw [hml]; exact hl.1.symm) hown hlink hstat hini hcode hR.1 (by rw [gcat_eq]; omega) (by omega) (by omega) hdg (kk _ _)
theorem g_mabs (hx : p.tables.exec = Jvm.exec) (hb : c.code = cc) (hml : c.maxLocals = nL) (hown : s.vm.findClass own = some m.cls) (hRc : R.cells = gMc E - s.heap.size) (hRs : R.slots = gMs E - ghsl s.heap) (hS : gSt E D G H locs) {l0 : List (Nat × g_v)} (hl : gls ls nL l0) {x : Int32} {index : Nat} {rs : List g_v} {st0 : List Value} {cd : ByteArray}
    (hlink : (Cond.methodLink own index Lib.Math.abs.name).before args s = true) (hstat : (Cond.static Lib.Math.abs.name).before args s = true) (hini : (Cond.initialized "java/lang/Math").before args s = true) (hcode : (Cond.code Lib.Math.abs.name cd 1 (some .int)).before args s = true) (hcd : cd = Lib.Math.abs.code) (hst : st0 = .int x :: rs.map gvv) (h8 : gwid rs ≤ 8) (hR : 1 ≤ R.frames ∧ 21 ≤ R.locals) (hdg : decode cc pc = .ok (.invokestatic index, 3))
    (kk : ∀ cells slots : Nat, W p l e R s m args below meth c H locs cells slots Q (F0 m (pc + 3) ls (.int (if 0 ≤ x then x else 0 - x) :: rs.map gvv))) : W p l e R s m args below meth c H locs cells slots Q (F0 m pc ls st0) := by
  subst hst
  subst hcd
  exact W.room hRc hRs hS fun hf => va_mabs hx hb (by rw [hml]; exact hl.1.symm) hown hlink hstat hini hcode hR.1 (by rw [gcat_eq]; omega) (by omega) (by omega) hdg (kk _ _)
theorem g_fitC {v : Int32} (h : v.toUInt32.toUInt16.toUInt32.toInt32 = v) : fits .char (.int v) = true := by
  have e : v.toUInt32.toUInt16.toUInt32 = v.toUInt32 % 65536 := by simp
  rw [e] at h
  rw [← h]
  exact pk_fc v
theorem g_ptC (hx : p.tables.exec = Jvm.exec) (hb : c.code = cc) (hown : s.vm.findClass own = some m.cls) (hts : ∀ w ∈ lw_all, w.before args s = true) (hKn : gKn E D s) (hS : gSt E D G H locs) {lo hi k index : Nat} {r : Option Nat} {v : Int32} {dcl n d ref : String} {fin : Bool} {β : Type} {f : g_G → Option β} {Rr : β} (h : (gpC E G lo hi r k v).bind f = some Rr)
    (hF : gFd lo hi k dcl n d fin .char) (hlink : (Cond.fieldLink own index ref n d).before args s = true ∨ (fin = false ∧ ∃ w, (Cond.fieldLinkNest own index ref n d w).before args s = true)) (hsame : ∀ x, s.fieldFound? dcl n d = some x → s.fieldFound? ref n d = some x) (hfin : fin = true → meth.name = "<init>" ∧ dcl = own) (hdg : decode cc pc = .ok (.putfield index, 3))
    (kk : ∀ G1, f G1 = some Rr → ∀ (H1 : Heap) (locs1 : List Loc), gSt E D G1 H1 locs1 → W p l e R s m args below meth c H1 locs1 cells slots Q (F0 m (pc + 3) ls rest)) : W p l e R s m args below meth c H locs cells slots Q (F0 m pc ls (.int v :: va_rf r :: rest)) := by
  obtain ⟨G1, hx1, hf⟩ := g_bnd h
  obtain ⟨a, rfl, h2⟩ := g_bnd hx1
  by_cases hc : v.toUInt32.toUInt16.toUInt32.toInt32 = v ∧ gB E ≤ a ∧ lo ≤ gcl G a ∧ gcl G a ≤ hi
  · cases g_ift hc h2
    exact g_putf0 (G1 := gsI G a k v) hx hb hown hts hKn hS hF hc.2.2.1 hc.2.2.2 hc.2.1 (show Value.int v.toUInt32.toUInt16.toUInt32.toInt32 = _ by rw [hc.1]) (g_fitC hc.1) hlink hsame hfin hdg rfl rfl rfl rfl (gV_sI (by rw [gkK_fd hF hc.2.2.1 hc.2.2.2]; rfl)) (fun b j hh => gV_sI_ne hh) (kk _ hf)
  · exact g_no (g_iff hc h2)
end GROW8
