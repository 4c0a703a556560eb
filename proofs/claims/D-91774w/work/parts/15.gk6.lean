/-! rows: arrays, new cells, ends, statics, casts -/
set_option maxRecDepth 100000
section GROW6
variable {p : Program} {l : Launch} {e : Env} {R : Room} {s : State} {m : MethodId} {args : Array Value} {below : List Frame} {meth : Method} {c : Code} {H : Heap} {locs : List Loc} {cells slots : Nat} {Q : State → Prop}
variable {cc : ByteArray} {pc nL : Nat} {ls : Array Slot} {rest : List Value} {E : g_E} {D : g_D} {G : g_G} {own nm : String} {ret : Option FieldType} {F Lc : Nat}
/-- an array's cell -/
theorem g_arr (hKn : gKn E D s) (hS : gSt E D G H locs) {a k : Nat} (hk : gcl G a = k) (hm : k ∈ [100, 101, 102, 110, 120, 121, 122, 123, 124]) : ∃ cell : Cell, H[a]? = some cell ∧ s.isArrayOf cell (gAT k) ∧ cell.vm ≠ .unknown ∧ (gln G a ≤ cell.slots.size ∧ cell.slots.size.toInt32 = Int32.ofNat (gln G a) ∧ (gB E ≤ a → cell.slots.size = gln G a)) ∧ gln G a < 2 ^ 31 ∧ (gB E ≤ a → cell.vm = .none) ∧ cell.cls = D.1 k ∧ cell.vm.isStatics = false ∧ ∀ j, j < gln G a → cell.slots[j]? = some (gV G a j) := by
  have h100 : 100 ≤ k := by
    simp only [List.mem_cons, List.not_mem_nil, or_false] at hm
    omega
  have hne : gcl G a ≠ 0 := by omega
  obtain ⟨-, cell, q1, q2, q3, q4, q5, q6, q7, q8, q9⟩ := hS.1.at hne
  obtain ⟨kA, comp, h1, h2⟩ := hKn.2.1 k hm
  refine ⟨cell, q1, ⟨fun z hz => (by rw [hz] at q4; cases q4), kA, by rw [q2, hk]; exact h1, comp, h2⟩, q3, q6 (by omega), q8, fun hh => (q5 hh).1, by rw [q2, hk], q4, fun j hj => ?_⟩
  have := q9 j hj
  unfold gslot at this
  rw [if_pos (by omega)] at this
  exact this
theorem gkK_arr {k j : Nat} (h : 100 ≤ k) : gkK k j = gkd (gAT k) := by unfold gkK; rw [if_pos h]
theorem g_alen (hx : p.tables.exec = Jvm.exec) (hb : c.code = cc) (hKn : gKn E D s) (hS : gSt E D G H locs) {r : Option Nat} {β : Type} {f : Int32 → Option β} {Rr : β} (h : (galen G r).bind f = some Rr) (hdg : decode cc pc = .ok (.arraylength, 1))
    (kk : ∀ x, f x = some Rr → W p l e R s m args below meth c H locs cells slots Q (F0 m (pc + 1) ls (.int x :: rest))) : W p l e R s m args below meth c H locs cells slots Q (F0 m pc ls (va_rf r :: rest)) := by
  obtain ⟨x, hx1, hf⟩ := g_bnd h
  obtain ⟨a, rfl, h2⟩ := g_bnd hx1
  by_cases hc : 100 ≤ gcl G a
  · cases g_ift hc h2
    have hok := (hS.1.at (a := a) (by omega)).1
    have hm : gcl G a ∈ [100, 101, 102, 110, 120, 121, 122, 123, 124] := by
      simp only [List.mem_cons, List.not_mem_nil, or_false]
      unfold gOk at hok
      omega
    obtain ⟨cell, q1, q2, q3, q4, q5, -⟩ := g_arr hKn hS rfl hm
    exact W.alen hx hb q1 q2 q4.2.1 rfl rfl hdg (kk _ hf)
  · exact g_no (g_iff hc h2)
theorem g_ald0 (hKn : gKn E D s) (hS : gSt E D G H locs) {a k : Nat} {i : Int32} (hc : gcl G a = k ∧ ¬ (i < 0 ∨ gln G a ≤ i.toNatClampNeg)) (hm : k ∈ [100, 101, 102, 110, 120, 121, 122, 123, 124]) : ∃ cell : Cell, H[a]? = some cell ∧ s.isArrayOf cell (gAT k) ∧ cell.vm ≠ .unknown ∧ ¬ (i < 0 ∨ cell.slots.size ≤ i.toNatClampNeg) ∧ cell.slots[i.toNatClampNeg]? = some (gV G a i.toNatClampNeg) := by
  obtain ⟨cell, q1, q2, q3, q4, q5, -, -, -, q6⟩ := g_arr hKn hS hc.1 hm
  exact ⟨cell, q1, q2, q3, fun z => hc.2 (z.imp id fun w => Nat.le_trans q4.1 w), q6 _ (Nat.not_le.mp fun q => hc.2 (Or.inr q))⟩
theorem g_ialoadG (hx : p.tables.exec = Jvm.exec) (hb : c.code = cc) (hKn : gKn E D s) (hS : gSt E D G H locs) {r : Option Nat} {i : Int32} {β : Type} {f : Int32 → Option β} {Rr : β} (h : (gaI G 100 r i).bind f = some Rr) (hdg : decode cc pc = .ok (.iaload, 1))
    (kk : ∀ x, f x = some Rr → W p l e R s m args below meth c H locs cells slots Q (F0 m (pc + 1) ls (.int x :: rest))) : W p l e R s m args below meth c H locs cells slots Q (F0 m pc ls (.int i :: va_rf r :: rest)) := by
  obtain ⟨x, hx1, hf⟩ := g_bnd h
  obtain ⟨a, rfl, h2⟩ := g_bnd hx1
  by_cases hc : gcl G a = 100 ∧ ¬ (i < 0 ∨ gln G a ≤ i.toNatClampNeg)
  · cases g_ift hc h2
    obtain ⟨cell, q1, q2, q3, q4, q5⟩ := g_ald0 hKn hS hc (by decide)
    rw [gV_I (by rw [hc.1]; rfl)] at q5
    exact W.iald hx hb q1 q2 q3 q4 q5 rfl rfl hdg (kk _ hf)
  · exact g_no (g_iff hc h2)
theorem g_baloadG (hx : p.tables.exec = Jvm.exec) (hb : c.code = cc) (hKn : gKn E D s) (hS : gSt E D G H locs) {r : Option Nat} {i : Int32} {β : Type} {f : Int32 → Option β} {Rr : β} (h : (gaI G 101 r i).bind f = some Rr) (hdg : decode cc pc = .ok (.baload, 1))
    (kk : ∀ x, f x = some Rr → W p l e R s m args below meth c H locs cells slots Q (F0 m (pc + 1) ls (.int x :: rest))) : W p l e R s m args below meth c H locs cells slots Q (F0 m pc ls (.int i :: va_rf r :: rest)) := by
  obtain ⟨x, hx1, hf⟩ := g_bnd h
  obtain ⟨a, rfl, h2⟩ := g_bnd hx1
  by_cases hc : gcl G a = 101 ∧ ¬ (i < 0 ∨ gln G a ≤ i.toNatClampNeg)
  · cases g_ift hc h2
    obtain ⟨cell, q1, q2, q3, q4, q5⟩ := g_ald0 hKn hS hc (by decide)
    rw [gV_I (by rw [hc.1]; rfl)] at q5
    exact W.bald hx hb q1 q2 q3 q4 q5 rfl rfl hdg (kk _ hf)
  · exact g_no (g_iff hc h2)
theorem g_zaloadG (hx : p.tables.exec = Jvm.exec) (hb : c.code = cc) (hKn : gKn E D s) (hS : gSt E D G H locs) {r : Option Nat} {i : Int32} {β : Type} {f : Int32 → Option β} {Rr : β} (h : (gaI G 102 r i).bind f = some Rr) (hdg : decode cc pc = .ok (.baload, 1))
    (kk : ∀ x, f x = some Rr → W p l e R s m args below meth c H locs cells slots Q (F0 m (pc + 1) ls (.int x :: rest))) : W p l e R s m args below meth c H locs cells slots Q (F0 m pc ls (.int i :: va_rf r :: rest)) := by
  obtain ⟨x, hx1, hf⟩ := g_bnd h
  obtain ⟨a, rfl, h2⟩ := g_bnd hx1
  by_cases hc : gcl G a = 102 ∧ ¬ (i < 0 ∨ gln G a ≤ i.toNatClampNeg)
  · cases g_ift hc h2
    obtain ⟨cell, q1, q2, q3, q4, q5⟩ := g_ald0 hKn hS hc (by decide)
    rw [gV_I (by rw [hc.1]; rfl)] at q5
    exact W.zald hx hb q1 q2 q3 q4 q5 rfl rfl hdg (kk _ hf)
  · exact g_no (g_iff hc h2)
theorem g_laloadG (hx : p.tables.exec = Jvm.exec) (hb : c.code = cc) (hKn : gKn E D s) (hS : gSt E D G H locs) {r : Option Nat} {i : Int32} {β : Type} {f : Int64 → Option β} {Rr : β} (h : (gaL G r i).bind f = some Rr) (hdg : decode cc pc = .ok (.laload, 1))
    (kk : ∀ x, f x = some Rr → W p l e R s m args below meth c H locs cells slots Q (F0 m (pc + 1) ls (.long x :: rest))) : W p l e R s m args below meth c H locs cells slots Q (F0 m pc ls (.int i :: va_rf r :: rest)) := by
  obtain ⟨x, hx1, hf⟩ := g_bnd h
  obtain ⟨a, rfl, h2⟩ := g_bnd hx1
  by_cases hc : gcl G a = 110 ∧ ¬ (i < 0 ∨ gln G a ≤ i.toNatClampNeg)
  · cases g_ift hc h2
    obtain ⟨cell, q1, q2, q3, q4, q5⟩ := g_ald0 hKn hS hc (by decide)
    rw [gV_L (by rw [hc.1]; rfl)] at q5
    exact W.lald hx hb q1 q2 q3 q4 q5 rfl rfl hdg (kk _ hf)
  · exact g_no (g_iff hc h2)
theorem g_aaloadG (hx : p.tables.exec = Jvm.exec) (hb : c.code = cc) (hKn : gKn E D s) (hS : gSt E D G H locs) {k : Nat} {r : Option Nat} {i : Int32} {β : Type} {f : Option Nat → Option β} {Rr : β} (h : (gaR G k r i).bind f = some Rr) (hm : k ∈ [120, 121, 122, 123, 124]) (hdg : decode cc pc = .ok (.aaload, 1))
    (kk : ∀ x, f x = some Rr → W p l e R s m args below meth c H locs cells slots Q (F0 m (pc + 1) ls (va_rf x :: rest))) : W p l e R s m args below meth c H locs cells slots Q (F0 m pc ls (.int i :: va_rf r :: rest)) := by
  obtain ⟨x, hx1, hf⟩ := g_bnd h
  obtain ⟨a, rfl, h2⟩ := g_bnd hx1
  have hm' : k ∈ [100, 101, 102, 110, 120, 121, 122, 123, 124] := by
    simp only [List.mem_cons, List.not_mem_nil, or_false] at hm ⊢
    omega
  have hty : (gAT k).isReference = true ∧ gkK k i.toNatClampNeg = 2 := by
    simp only [List.mem_cons, List.not_mem_nil, or_false] at hm
    rcases hm with rfl | rfl | rfl | rfl | rfl <;> exact ⟨rfl, rfl⟩
  by_cases hc : gcl G a = k ∧ ¬ (i < 0 ∨ gln G a ≤ i.toNatClampNeg)
  · cases g_ift hc h2
    obtain ⟨cell, q1, q2, q3, q4, q5⟩ := g_ald0 hKn hS hc hm'
    rw [gV_R (by rw [hc.1]; exact hty.2)] at q5
    exact W.aald hx hb q1 q2 hty.1 q3 q4 q5 rfl rfl hdg (kk _ hf)
  · exact g_no (g_iff hc h2)
/-- behind a store into an array -/
theorem g_ast0 (hS : gSt E D G H locs) {a j : Nat} {cell : Cell} {v : Value} {G1 : g_G} {H1 : Heap} (h100 : 100 ≤ gcl G a) (hB : gB E ≤ a) (hj : j < gln G a) (hc : H[a]? = some cell) (h1 : H1[a]? = some (cell.setSlot j v)) (hz : H1.size = H.size) (ho : ∀ q : Nat, q ≠ a → H1[q]? = H[q]?)
    (e1 : gsz G1 = gsz G) (e2 : gsl G1 = gsl G) (e3 : gcl G1 = gcl G) (e4 : gln G1 = gln G) (hv : gV G1 a j = v) (hne : ∀ b i, ¬ (b = a ∧ i = j) → gV G1 b i = gV G b i) : gSt E D G1 H1 (locs ++ [⟨a, j⟩]) := by
  have hg : ∀ i, gslot D (gcl G a) i = i := fun i => by unfold gslot; rw [if_pos h100]
  exact hS.put hB (hS.1.upd (by omega) hB hj hc (by rw [hg]; exact h1) hz ho e1 e2 e3 e4 hv hne (fun i _ hi => by rw [hg, hg]; exact Ne.symm hi))
theorem g_iastoreG (hx : p.tables.exec = Jvm.exec) (hb : c.code = cc) (hKn : gKn E D s) (hS : gSt E D G H locs) {r : Option Nat} {i v : Int32} {β : Type} {f : g_G → Option β} {Rr : β} (h : (gsaI E G r i v).bind f = some Rr) (hdg : decode cc pc = .ok (.iastore, 1))
    (kk : ∀ G1, f G1 = some Rr → ∀ (H1 : Heap) (locs1 : List Loc), gSt E D G1 H1 locs1 → W p l e R s m args below meth c H1 locs1 cells slots Q (F0 m (pc + 1) ls rest)) : W p l e R s m args below meth c H locs cells slots Q (F0 m pc ls (.int v :: .int i :: va_rf r :: rest)) := by
  obtain ⟨G1, hx1, hf⟩ := g_bnd h
  obtain ⟨a, rfl, h2⟩ := g_bnd hx1
  by_cases hc : gB E ≤ a ∧ gcl G a = 100 ∧ ¬ (i < 0 ∨ gln G a ≤ i.toNatClampNeg)
  · cases g_ift hc h2
    obtain ⟨cell, q1, q2, q3, q4, q5, q6, -⟩ := g_arr hKn hS hc.2.1 (by decide)
    refine W.iast hx hb q1 q2 q3 (by rw [q4.2.2 hc.1]; exact hc.2.2) rfl rfl hdg fun H1 z1 z2 z3 => ?_
    exact kk _ hf H1 _ (g_ast0 (G1 := gsI G a i.toNatClampNeg v) hS (by omega) hc.1 (Nat.not_le.mp fun q => hc.2.2 (Or.inr q)) q1 z1 z2 z3 rfl rfl rfl rfl (gV_sI (by rw [hc.2.1]; rfl)) (fun _ _ hh => gV_sI_ne hh))
  · exact g_no (g_iff hc h2)
theorem g_bastoreG (hx : p.tables.exec = Jvm.exec) (hb : c.code = cc) (hKn : gKn E D s) (hS : gSt E D G H locs) {r : Option Nat} {i v : Int32} {β : Type} {f : g_G → Option β} {Rr : β} (h : (gsaB E G r i v).bind f = some Rr) (hdg : decode cc pc = .ok (.bastore, 1))
    (kk : ∀ G1, f G1 = some Rr → ∀ (H1 : Heap) (locs1 : List Loc), gSt E D G1 H1 locs1 → W p l e R s m args below meth c H1 locs1 cells slots Q (F0 m (pc + 1) ls rest)) : W p l e R s m args below meth c H locs cells slots Q (F0 m pc ls (.int v :: .int i :: va_rf r :: rest)) := by
  obtain ⟨G1, hx1, hf⟩ := g_bnd h
  obtain ⟨a, rfl, h2⟩ := g_bnd hx1
  by_cases hc : gB E ≤ a ∧ gcl G a = 101 ∧ ¬ (i < 0 ∨ gln G a ≤ i.toNatClampNeg)
  · cases g_ift hc h2
    obtain ⟨cell, q1, q2, q3, q4, q5, q6, -⟩ := g_arr hKn hS hc.2.1 (by decide)
    refine W.bast hx hb q1 q2 q3 (by rw [q4.2.2 hc.1]; exact hc.2.2) rfl rfl hdg fun H1 z1 z2 z3 => ?_
    exact kk _ hf H1 _ (g_ast0 (G1 := gsI G a i.toNatClampNeg v.toInt8.toInt32) hS (by omega) hc.1 (Nat.not_le.mp fun q => hc.2.2 (Or.inr q)) q1 z1 z2 z3 rfl rfl rfl rfl (gV_sI (by rw [hc.2.1]; rfl)) (fun _ _ hh => gV_sI_ne hh))
  · exact g_no (g_iff hc h2)
theorem g_zastoreG (hx : p.tables.exec = Jvm.exec) (hb : c.code = cc) (hKn : gKn E D s) (hS : gSt E D G H locs) {r : Option Nat} {i v : Int32} {β : Type} {f : g_G → Option β} {Rr : β} (h : (gsaZ E G r i v).bind f = some Rr) (hdg : decode cc pc = .ok (.bastore, 1))
    (kk : ∀ G1, f G1 = some Rr → ∀ (H1 : Heap) (locs1 : List Loc), gSt E D G1 H1 locs1 → W p l e R s m args below meth c H1 locs1 cells slots Q (F0 m (pc + 1) ls rest)) : W p l e R s m args below meth c H locs cells slots Q (F0 m pc ls (.int v :: .int i :: va_rf r :: rest)) := by
  obtain ⟨G1, hx1, hf⟩ := g_bnd h
  obtain ⟨a, rfl, h2⟩ := g_bnd hx1
  by_cases hc : gB E ≤ a ∧ gcl G a = 102 ∧ ¬ (i < 0 ∨ gln G a ≤ i.toNatClampNeg)
  · cases g_ift hc h2
    obtain ⟨cell, q1, q2, q3, q4, q5, q6, -⟩ := g_arr hKn hS hc.2.1 (by decide)
    refine W.zast hx hb q1 q2 q3 (by rw [q4.2.2 hc.1]; exact hc.2.2) rfl rfl hdg fun H1 z1 z2 z3 => ?_
    exact kk _ hf H1 _ (g_ast0 (G1 := gsI G a i.toNatClampNeg (v &&& 1)) hS (by omega) hc.1 (Nat.not_le.mp fun q => hc.2.2 (Or.inr q)) q1 z1 z2 z3 rfl rfl rfl rfl (gV_sI (by rw [hc.2.1]; rfl)) (fun _ _ hh => gV_sI_ne hh))
  · exact g_no (g_iff hc h2)
theorem g_lastoreG (hx : p.tables.exec = Jvm.exec) (hb : c.code = cc) (hKn : gKn E D s) (hS : gSt E D G H locs) {r : Option Nat} {i : Int32} {v : Int64} {β : Type} {f : g_G → Option β} {Rr : β} (h : (gsaL E G r i v).bind f = some Rr) (hdg : decode cc pc = .ok (.lastore, 1))
    (kk : ∀ G1, f G1 = some Rr → ∀ (H1 : Heap) (locs1 : List Loc), gSt E D G1 H1 locs1 → W p l e R s m args below meth c H1 locs1 cells slots Q (F0 m (pc + 1) ls rest)) : W p l e R s m args below meth c H locs cells slots Q (F0 m pc ls (.long v :: .int i :: va_rf r :: rest)) := by
  obtain ⟨G1, hx1, hf⟩ := g_bnd h
  obtain ⟨a, rfl, h2⟩ := g_bnd hx1
  by_cases hc : gB E ≤ a ∧ gcl G a = 110 ∧ ¬ (i < 0 ∨ gln G a ≤ i.toNatClampNeg)
  · cases g_ift hc h2
    obtain ⟨cell, q1, q2, q3, q4, q5, q6, -⟩ := g_arr hKn hS hc.2.1 (by decide)
    refine W.last hx hb q1 q2 q3 (by rw [q4.2.2 hc.1]; exact hc.2.2) rfl rfl hdg fun H1 z1 z2 z3 => ?_
    exact kk _ hf H1 _ (g_ast0 (G1 := gsL G a i.toNatClampNeg v) hS (by omega) hc.1 (Nat.not_le.mp fun q => hc.2.2 (Or.inr q)) q1 z1 z2 z3 rfl rfl rfl rfl (gV_sL (by rw [hc.2.1]; rfl)) (fun _ _ hh => gV_sL_ne hh))
  · exact g_no (g_iff hc h2)
theorem g_aastoreG (hx : p.tables.exec = Jvm.exec) (hb : c.code = cc) (hKn : gKn E D s) (hS : gSt E D G H locs) {k : Nat} {r v : Option Nat} {i : Int32} {β : Type} {f : g_G → Option β} {Rr : β} (h : (gsaR E G k r i v).bind f = some Rr) (hm : k ∈ [120, 121, 122, 123]) (hdg : decode cc pc = .ok (.aastore, 1))
    (kk : ∀ G1, f G1 = some Rr → ∀ (H1 : Heap) (locs1 : List Loc), gSt E D G1 H1 locs1 → W p l e R s m args below meth c H1 locs1 cells slots Q (F0 m (pc + 1) ls rest)) : W p l e R s m args below meth c H locs cells slots Q (F0 m pc ls (va_rf v :: .int i :: va_rf r :: rest)) := by
  obtain ⟨G1, hx1, hf⟩ := g_bnd h
  obtain ⟨a, rfl, h2⟩ := g_bnd hx1
  have hm' : k ∈ [100, 101, 102, 110, 120, 121, 122, 123, 124] := by
    simp only [List.mem_cons, List.not_mem_nil, or_false] at hm ⊢
    omega
  have h100 : 100 ≤ k := by
    simp only [List.mem_cons, List.not_mem_nil, or_false] at hm
    omega
  obtain ⟨C, hty⟩ : ∃ C, gAT k = .object C := by
    simp only [List.mem_cons, List.not_mem_nil, or_false] at hm
    rcases hm with rfl | rfl | rfl | rfl <;> exact ⟨_, rfl⟩
  have hkk : ∀ j, gkK k j = 2 := fun j => by rw [gkK_arr h100, hty]; rfl
  by_cases hc : gB E ≤ a ∧ gcl G a = k ∧ ¬ (i < 0 ∨ gln G a ≤ i.toNatClampNeg) ∧ v.all (fun b => gasg k (gcl G b)) = true
  · cases g_ift hc h2
    obtain ⟨cell, q1, q2, q3, q4, q5, q6, q7, q8, -⟩ := g_arr hKn hS hc.2.1 hm'
    have hlt : i.toNatClampNeg < gln G a := Nat.not_le.mp fun q => hc.2.2.1 (Or.inr q)
    cases v with
    | none =>
      rw [hty] at q2
      refine va_WaastN (C := C) hx hb q1 q2 q3 (by rw [q4.2.2 hc.1]; exact hc.2.2.1) rfl rfl hdg fun H1 z1 z2 z3 => ?_
      exact kk _ hf H1 _ (g_ast0 (G1 := gsR G a i.toNatClampNeg none) hS (by omega) hc.1 hlt q1 z1 z2 z3 rfl rfl rfl rfl (gV_sR (by rw [hc.2.1]; exact hkk _)) (fun _ _ hh => gV_sR_ne hh))
    | some b =>
      have hg : gasg k (gcl G b) = true := hc.2.2.2
      have hb0 : gcl G b ≠ 0 := by
        intro z
        rw [z] at hg
        simp only [List.mem_cons, List.not_mem_nil, or_false] at hm
        rcases hm with rfl | rfl | rfl | rfl <;> cases hg
      obtain ⟨-, cb, g1, g2, g3, g4, -⟩ := hS.1.at hb0
      obtain ⟨kA, comp, kc, a1, a2, a3, a4⟩ := hKn.2.2.2.1 k (gcl G b) hg
      have hkv : ∃ kv, s.vm.classes[cb.cls]? = some kv := by
        have hr : 1 ≤ gcl G b ∧ gcl G b ≤ 22 := by
          unfold gasg at hg
          simp only [Bool.or_eq_true, Bool.and_eq_true, beq_iff_eq, Nat.ble_eq] at hg
          omega
        obtain ⟨-, -, kC, hkC, -⟩ := hKn.obj hr.1 hr.2
        exact ⟨kC, by rw [g2]; exact hkC⟩
      obtain ⟨kv, hkv⟩ := hkv
      refine W.aast hx hb q1 (fun z hz => by rw [hz] at q8; cases q8) q3 (by rw [q7]; exact a1) a2 (by rw [hty]; rfl) a3 ⟨fun z => hc.2.2.1 (Or.inl z), by rw [q4.2.2 hc.1]; exact hlt⟩ g1 (fun z hz => by rw [hz] at g4; cases g4) hkv (by rw [g2]; exact a4) rfl rfl hdg fun H1 z1 z2 z3 => ?_
      exact kk _ hf H1 _ (g_ast0 (G1 := gsR G a i.toNatClampNeg (some b)) hS (by omega) hc.1 hlt q1 z1 z2 z3 rfl rfl rfl rfl (gV_sR (by rw [hc.2.1]; exact hkk _)) (fun _ _ hh => gV_sR_ne hh))
  · exact g_no (g_iff hc h2)
end GROW6
