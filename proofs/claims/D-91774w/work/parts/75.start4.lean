/-! the start: statics -/
set_option maxRecDepth 100000
theorem g_stat0 {s : State} {args : Array Value} {E : g_E} {D : g_D} (hts : ∀ w ∈ lw_tbl, w.before args s = true) (hta : ∀ w ∈ lw_all, w.before args s = true) (hD : D.2.2 = s.heap) (hB : gB E = s.heap.size) (hev : ∀ z ∈ gStatics E, (Term.static z.1 z.2.1 z.2.2.1).eval args s none [] s = some z.2.2.2) : ∀ z ∈ gStatics E, va_Z z.1 z.2.1 z.2.2.1 z.2.2.2 (fun q => gB E ≤ q) s D.2.2 := by
  intro z hz
  have hv := hev z hz
  rw [hD]
  unfold gStatics at hz
  simp only [List.mem_cons, List.not_mem_nil, or_false] at hz
  rcases hz with rfl | rfl | rfl | rfl | rfl | rfl | rfl
  · exact va_Zof (by first | exact hts _ q1158 | exact hta _ q1158) (by first | exact hts _ q138 | exact hta _ q138) hv (fun a h => by omega)
  · exact va_Zof (by first | exact hts _ q1163 | exact hta _ q1163) (by first | exact hts _ q138 | exact hta _ q138) hv (fun a h => by omega)
  · exact va_Zof (by first | exact hts _ q1216 | exact hta _ q1216) (by first | exact hts _ q138 | exact hta _ q138) hv (fun a h => by omega)
  · exact va_Zof (by first | exact hts _ q1218 | exact hta _ q1218) (by first | exact hts _ q138 | exact hta _ q138) hv (fun a h => by omega)
  · exact va_Zof (by first | exact hts _ q1127 | exact hta _ q1127) (by first | exact hts _ q138 | exact hta _ q138) hv (fun a h => by omega)
  · exact va_Zof (by first | exact hts _ q237 | exact hta _ q237) (by first | exact hts _ q124 | exact hta _ q124) hv (fun a h => by omega)
  · exact va_Zof (by first | exact hts _ q1542 | exact hta _ q1542) (by first | exact hts _ q146 | exact hta _ q146) hv (fun a h => by omega)
theorem g_statq0 {s : State} {args : Array Value} {E : g_E} {D : g_D} (hts : ∀ w ∈ lw_tbl, w.before args s = true) (hta : ∀ w ∈ lw_all, w.before args s = true) (hD : D.2.2 = s.heap) (hB : gB E = s.heap.size) (hev : ∀ z ∈ gStatQ, (Term.static z.1 z.2.1 z.2.2.1).eval args s none [] s = some (va_rf (gQ E z.2.2.2))) : ∀ z ∈ gStatQ, va_Z z.1 z.2.1 z.2.2.1 (va_rf (gQ E z.2.2.2)) (fun q => gB E ≤ q) s D.2.2 := by
  intro z hz
  have hv := hev z hz
  rw [hD]
  unfold gStatQ at hz
  simp only [List.mem_cons, List.not_mem_nil, or_false] at hz
  rcases hz with rfl | rfl | rfl
  · exact va_Zof (by first | exact hts _ q324 | exact hta _ q324) (by first | exact hts _ q130 | exact hta _ q130) hv (fun a h => by omega)
  · exact va_Zof (by first | exact hts _ q213 | exact hta _ q213) (by first | exact hts _ q118 | exact hta _ q118) hv (fun a h => by omega)
  · exact va_Zof (by first | exact hts _ q215 | exact hta _ q215) (by first | exact hts _ q118 | exact hta _ q118) hv (fun a h => by omega)
theorem g_ls0 {s : State} {args : Array Value} {E : g_E} {D : g_D} (hts : ∀ w ∈ lw_tbl, w.before args s = true) (hta : ∀ w ∈ lw_all, w.before args s = true) (hD : D.2.2 = s.heap) (hB : gB E = s.heap.size) : ∀ z ∈ gStatQ, gLs E D z.1 z.2.1 z.2.2.1 s := by
  have key : ∀ C n d : String, (Cond.laysStatic C n d).before args s = true → gLs E D C n d s := fun C n d h => by
    obtain ⟨c, k, i, f, a, cell, h1, h2, h3, h4, h5, h6, h7, h8, h9⟩ := Cond.laysStatic_spec h
    exact ⟨c, k, i, f, a, cell, h1, h2, h3, h4, by rw [hD]; exact h5, h6, h7, h8, h9, by have := (Array.getElem?_eq_some_iff.mp h5).1; omega⟩
  intro z hz
  unfold gStatQ at hz
  simp only [List.mem_cons, List.not_mem_nil, or_false] at hz
  rcases hz with rfl | rfl | rfl
  · exact key _ _ _ (by first | exact hts _ q324 | exact hta _ q324)
  · exact key _ _ _ (by first | exact hts _ q213 | exact hta _ q213)
  · exact key _ _ _ (by first | exact hts _ q215 | exact hta _ q215)
theorem g_hlT {l : Launch} (h : l.flags = flags0) : l.stackTraces = false := by
  unfold Launch.stackTraces
  rw [h]
  decide +kernel
