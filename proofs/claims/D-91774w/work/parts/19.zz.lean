/-! the constructor of an exception, as a row over the picture -/
set_option maxRecDepth 100000
def gexI (E : g_E) (G : g_G) (k a : Nat) : Option g_G := if gcl G a = k ∧ gB E ≤ a ∧ gR G a 4 = none then some (gsR (gsR (gsR G a 0 (some a)) a 1 (gQ E 11)) a 2 (gQ E 12)) else none
theorem gx_names {k : Nat} (b : k = 6 ∨ k = 21 ∨ k = 22) : (1 ≤ k ∧ k ≤ 22) ∧ 6 ≤ gNf k ∧ gTb k 0 = (Bundle.tN, "cause", "Ljava/lang/Throwable;", false) ∧ gTb k 1 = (Bundle.tN, "stackTrace", Bundle.steD, false) ∧ gTb k 2 = (Bundle.tN, "suppressedExceptions", Bundle.listD, false) ∧ gTb k 4 = (Bundle.tN, "backtrace", "Ljava/lang/Object;", false) ∧ gkd (gTy k 0) = 2 ∧ gkd (gTy k 1) = 2 ∧ gkd (gTy k 2) = 2 ∧ gkd (gTy k 4) = 2 := by
  rcases b with rfl | rfl | rfl <;> decide +kernel
theorem gx_ref (r : Option Nat) : (va_rf r).isRef = true := by cases r <;> rfl
/-- the statics of Throwable, seen from a state whose old cells are the launch's -/
theorem gx_word {E : g_E} {D : g_D} {C n d : String} {s : State} {args : Array Value} (h : gLs E D C n d s) (ho : ∀ a, a < gB E → s.heap[a]? = D.2.2[a]?) : (Cond.laysStatic C n d).before args s = true := by
  obtain ⟨c, k, i, f, a, cell, h0, h1, h2, h3, h4, h5, h6, h7, h8, h9⟩ := h
  exact vx_L.word (A := fun q => gB E ≤ q) ⟨c, k, i, f, a, cell, h0, h1, h2, h3, by rw [ho a (by omega)]; exact h4, h5, h6, h7, h8, h9⟩
section GZ
variable {p : Program} {l : Launch} {e : Env} {R : Room} {s : State} {m : MethodId} {args : Array Value} {below : List Frame} {meth : Method} {c : Code} {H : Heap} {locs : List Loc} {cells slots : Nat} {Q : State → Prop}
variable {cc : ByteArray} {pc nL : Nat} {ls : Array Slot} {rest : List Value} {E : g_E} {D : g_D} {G : g_G} {own nm : String} {ret : Option FieldType} {F Lc : Nat}
theorem g_excI (hx : p.tables.exec = Jvm.exec) (hb : c.code = cc) (hml : c.maxLocals = nL) (hown : s.vm.findClass own = some m.cls) (hts : ∀ w ∈ lw_all, w.before args s = true) (hKn : gKn E D s) (ho : ∀ a, a < gB E → s.heap[a]? = D.2.2[a]?) (hlT : l.stackTraces = false) (hS : gSt E D G H locs) {l0 : List (Nat × g_v)} (hl : gls ls nL l0) {k nK ic a : Nat} {Y0 : String} {names : List String} {rs : List g_v} {st0 : List Value} {β : Type} {f : g_G → Option β} {Rr : β} (h : (gexI E G k a).bind f = some Rr)
    (b : k = 6 ∨ k = 21 ∨ k = 22) (hcls : Bundle.fit Y0 = true) (hnames : ∀ n ∈ names, Bundle.fit n = true) (hA : ∀ w ∈ gxA own ic Y0 names, w.before args s = true) (hK : ∀ w ∈ gxK (gNm k) nK, w.before args s = true) (hst : st0 = .ref a :: rs.map gvv) (h8 : gwid rs ≤ 8) (hR : names.length + 3 < R.frames ∧ 8 + (13 * (names.length + 1) + 41) ≤ R.locals) (hdg : decode cc pc = .ok (.invokespecial ic, 3))
    (kk : ∀ G1, f G1 = some Rr → ∀ (H1 : Heap) (locs1 : List Loc), gSt E D G1 H1 locs1 → W p l e R s m args below meth c H1 locs1 cells slots Q (F0 m (pc + 3) ls (rs.map gvv))) : W p l e R s m args below meth c H locs cells slots Q (F0 m pc ls st0) := by
  subst hst
  obtain ⟨G1, hx1, hf⟩ := g_bnd h
  by_cases hc : gcl G a = k ∧ gB E ≤ a ∧ gR G a 4 = none
  · cases g_ift hc hx1
    obtain ⟨hk, hB, h4⟩ := hc
    obtain ⟨⟨b1, b2⟩, hN6, t0, t1, t2, t4, d0, d1, d2, d4⟩ := gx_names b
    obtain ⟨-, cell, q1, q2, q3, q4, q5, q6, q7, q8, q9⟩ := hS.1.at (a := a) (by omega)
    have hln : gln G a = gNf k := by rw [q7 (by omega), hk]
    obtain ⟨hSl, hfc, kC, hkC, hkind⟩ := hKn.obj b1 b2
    have hslot : ∀ j, j < gNf k → ∃ cf kf fi f, s.fieldFound? (gTb k j).1 (gTb k j).2.1 (gTb k j).2.2.1 = some (cf, kf, fi, f) ∧ f.slot = D.2.1 k j := hSl
    have hat : ∀ j, j < gNf k → cell.slots[D.2.1 k j]? = some (gV G a j) := fun j hj => by
      have := q9 j (by rw [hln]; exact hj)
      unfold gslot at this
      rw [hk, if_neg (by omega)] at this
      exact this
    have hz1 := hKn.2.2.2.2.2.2.2.1 _ (List.mem_of_getElem? (i := 1) rfl)
    have hz2 := hKn.2.2.2.2.2.2.2.1 _ (List.mem_of_getElem? (i := 2) rfl)
    have kp : ∀ {C n d : String} {v : Value}, va_Z C n d v (fun q => gB E ≤ q) s D.2.2 → va_Z C n d v (fun q => gB E ≤ q) s s.heap := fun hz => hz.kept (fun q _ h2 => ho q (Nat.not_le.mp h2))
    obtain ⟨cf, kf, fi, fU, aS, cS, z1, z2, z3, z4, z5, z6, z7, z8⟩ := kp hz1
    obtain ⟨cf', kf', fi', fN, aS', cS', y1, y2, y3, y4, y5, y6, y7, y8⟩ := kp hz2
    intro T hT X
    have htr : e.platform.stackTraces = false := (show e.platform.stackTraces = l.stackTraces by rw [X.admits.platform]).trans hlT
    have slt : ∀ j, j < gNf k → ∀ cf kf fi f, s.fieldFound? (gTb k j).1 (gTb k j).2.1 (gTb k j).2.2.1 = some (cf, kf, fi, f) → f.slot = D.2.1 k j := fun j hj cf kf fi f hff => by
      obtain ⟨_, _, _, f', e1, e2⟩ := hslot j hj
      cases hff.symm.trans e1
      exact e2
    obtain ⟨vm', u, v, cf9, kf9, i1, i2, i3, i4, i5, f1, f2, f3, f4, f5, b9, cs9, w1, w2, w3, w4, w5, w6, w7, w8, w9, X', st⟩ := gx_ctor X hx htr (own := own) (Y0 := Y0) (K := gNm k) (names := names) (ic := ic) (nK := nK) hown hcls hnames hA hK (vx_isRef (kp hz1) (gx_ref _)) (vx_isRef (kp hz2) (gx_ref _))
      (a := a) (cell := cell) (by rw [q2, hk]; exact hfc) (by rw [hT]; exact q1) (q5 hB)
      (fun cf2 kf2 fi2 f2 b2 e1 e2 => by
        cases e1.symm.trans z1
        cases e2.symm.trans z4
        rw [hT, hS.1.2.2.2.2.2.2 _ (Nat.not_le.mp z8), ho _ (Nat.not_le.mp z8)])
      (fun n hn cf2 kf2 fi2 f2 e1 => by
        simp only [List.mem_cons, List.not_mem_nil, or_false] at hn
        rcases hn with rfl | rfl | rfl
        · rw [slt 0 (by omega) _ _ _ _ (by rw [t0]; exact e1)]
          exact (Array.getElem?_eq_some_iff.mp (hat 0 (by omega))).1
        · rw [slt 1 (by omega) _ _ _ _ (by rw [t1]; exact e1)]
          exact (Array.getElem?_eq_some_iff.mp (hat 1 (by omega))).1
        · rw [slt 2 (by omega) _ _ _ _ (by rw [t2]; exact e1)]
          exact (Array.getElem?_eq_some_iff.mp (hat 2 (by omega))).1)
      (fun cf2 kf2 fi2 f2 e1 => by
        rw [slt 4 (by omega) _ _ _ _ (by rw [t4]; exact e1), hat 4 (by omega), gV_R (by unfold gkK; rw [if_neg (by omega), hk]; exact d4), h4]
        rfl)
      (g := F0 m pc ls (.ref a :: rs.map gvv)) rfl (by rw [hml]; exact hl.1) (rest := rs.map gvv) rfl (by rw [hb]; exact hdg) hR.1 (by show 2 * 0 + _ + _ ≤ _; rw [gcat_eq]; omega)
    cases w4.symm.trans z1
    cases w5.symm.trans y1
    cases w6.symm.trans z4
    cases y4.symm.trans w6
    cases w7.symm.trans z5
    cases y5.symm.trans w7
    have eu : u.v = va_rf (gQ E 11) := Option.some.inj (w8.symm.trans z7)
    have ev : v.v = va_rf (gQ E 12) := Option.some.inj (w9.symm.trans y7)
    have s0 : f1.slot = D.2.1 k 0 := slt 0 (by omega) _ _ _ _ (by rw [t0]; exact w1)
    have s1 : f2.slot = D.2.1 k 1 := slt 1 (by omega) _ _ _ _ (by rw [t1]; exact w2)
    have s2 : f3.slot = D.2.1 k 2 := slt 2 (by omega) _ _ _ _ (by rw [t2]; exact w3)
    rw [s0, s1, s2, eu, ev] at X' st
    have hlt : a < H.size := (Array.getElem?_eq_some_iff.mp q1).1
    have hap : ∀ i j, i < gNf k → j < gNf k → i ≠ j → D.2.1 k i ≠ D.2.1 k j := fun i j hi hj hne => g_apart hts hKn b1 b2 hi hj hne
    have hin : ∀ j, j < gNf k → D.2.1 k j < cell.slots.size := fun j hj => (Array.getElem?_eq_some_iff.mp (hat j hj)).1
    have kd : ∀ j, gkK (gcl G a) j = gkd (gTy k j) := fun j => by unfold gkK; rw [if_neg (by omega), hk]
    have hRl : gReal E D (gsR (gsR (gsR G a 0 (some a)) a 1 (gQ E 11)) a 2 (gQ E 12)) (H.setIfInBounds a (gxC cell a (D.2.1 k 0) (D.2.1 k 1) (D.2.1 k 2) (va_rf (gQ E 11)) (va_rf (gQ E 12)))) := by
      refine hS.1.upw (a := a) (by omega) hB q1 (cell1 := gxC cell a (D.2.1 k 0) (D.2.1 k 1) (D.2.1 k 2) (va_rf (gQ E 11)) (va_rf (gQ E 12))) (by simp [Array.getElem?_setIfInBounds, hlt]) rfl rfl rfl (by simp [gxC, Cell.setSlot]) (by simp) (fun z hz => by simp [Array.getElem?_setIfInBounds, Ne.symm hz]) rfl rfl rfl rfl (fun j hj => ?_) (fun z hz j => ?_)
      · rw [hln] at hj
        have hg : gslot D (gcl G a) j = D.2.1 k j := by unfold gslot; rw [hk, if_neg (by omega)]
        rw [hg]
        have hj4 : gV (gsR (gsR (gsR G a 0 (some a)) a 1 (gQ E 11)) a 2 (gQ E 12)) a j = if j = 2 then va_rf (gQ E 12) else if j = 1 then va_rf (gQ E 11) else if j = 0 then .ref a else gV G a j := by
          by_cases e2 : j = 2
          · subst e2
            rw [if_pos rfl]
            exact gV_sR (by show gkK (gcl G a) 2 = 2; rw [kd]; exact d2)
          · rw [if_neg e2, gV_sR_ne (fun w => e2 w.2)]
            by_cases e1 : j = 1
            · subst e1
              rw [if_pos rfl]
              exact gV_sR (by show gkK (gcl G a) 1 = 2; rw [kd]; exact d1)
            · rw [if_neg e1, gV_sR_ne (fun w => e1 w.2)]
              by_cases e0 : j = 0
              · subst e0
                rw [if_pos rfl]
                exact gV_sR (G := G) (x := some a) (by rw [kd]; exact d0)
              · rw [if_neg e0, gV_sR_ne (fun w => e0 w.2)]
        rw [hj4]
        unfold gxC
        have z0 := hin 0 (by omega)
        have z1 := hin 1 (by omega)
        have z2 := hin 2 (by omega)
        have n01 := hap 0 1 (by omega) (by omega) (by decide)
        have n02 := hap 0 2 (by omega) (by omega) (by decide)
        have n12 := hap 1 2 (by omega) (by omega) (by decide)
        by_cases e2 : j = 2
        · subst e2
          simp [Cell.setSlot, Array.getElem?_setIfInBounds, n12, z2]
        · by_cases e1 : j = 1
          · subst e1
            simp [Cell.setSlot, Array.getElem?_setIfInBounds, z1]
          · by_cases e0 : j = 0
            · subst e0
              simp [Cell.setSlot, Array.getElem?_setIfInBounds, n01.symm, n02.symm, z0]
            · have m0 := hap 0 j (by omega) hj (Ne.symm e0)
              have m1 := hap 1 j (by omega) hj (Ne.symm e1)
              have m2 := hap 2 j (by omega) hj (Ne.symm e2)
              have hh := hat j hj
              simpa [Cell.setSlot, Array.getElem?_setIfInBounds, m0, m1, m2, e0, e1, e2] using hh
      · rw [gV_sR_ne (fun w => hz w.1), gV_sR_ne (fun w => hz w.1), gV_sR_ne (fun w => hz w.1)]
    obtain ⟨t, a1, b1'⟩ := kk _ hf _ _ ⟨hRl, fun z hz => by
      rcases List.mem_append.mp hz with h | h
      · exact hS.2 z h
      · simp only [List.mem_cons, List.not_mem_nil, or_false] at h
        rcases h with rfl | rfl | rfl | rfl <;> exact hB⟩ ((T.setVm vm').setCell a (gxC cell a (D.2.1 k 0) (D.2.1 k 1) (D.2.1 k 2) (va_rf (gQ E 11)) (va_rf (gQ E 12)))) (by rw [← hT]; rfl) X'
    exact ⟨t, st t a1, b1'⟩
  · exact g_no (g_iff hc hx1)
end GZ
