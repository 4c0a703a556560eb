/-! the start: statics, words that the lists don't carry -/
set_option maxRecDepth 100000
theorem g_nest0 {s : State} {args : Array Value} (hts : ∀ w ∈ lw_tbl, w.before args s = true) : ∀ w ∈ gNest, va_Nw w s := fun w hw => gNest_of (List.mem_filter.mp hw).2 (hts w (List.mem_filter.mp hw).1)
theorem g_ao0 {s : State} {args : Array Value} (hts : ∀ w ∈ lw_tbl, w.before args s = true) : ∀ C ∈ ["java/lang/Object", RX3, RX7, RJ9], va_AO C s := by
  intro C hC
  simp only [List.mem_cons, List.not_mem_nil, or_false] at hC
  rcases hC with rfl | rfl | rfl | rfl
  · exact va_AO.of (hts _ q183)
  · exact va_AO.of (hts _ q527)
  · exact va_AO.of (hts _ q536)
  · exact va_AO.of (hts _ q1845)
/-- a static that holds a reference -/
theorem g_ref0 {s : State} {args : Array Value} {C n d : String} (h : (Cond.isRef (.static C n d)).before args s = true) : ∃ r : Option Nat, (Term.static C n d).eval args s none [] s = some (va_rf r) := by
  cases hv : (Term.static C n d).eval args s none [] s with
  | none => simp [Cond.before, Cond.holds, Cond.value, hv] at h
  | some w =>
    simp only [Cond.before, Cond.holds, Cond.value, hv] at h
    cases w with
    | null => exact ⟨none, rfl⟩
    | ref t => exact ⟨some t, rfl⟩
    | _ => simp at h
theorem g_fw0 {s : State} {args : Array Value} (hts : ∀ w ∈ lw_tbl, w.before args s = true) (hta : ∀ w ∈ lw_all, w.before args s = true) : ∀ C ∈ [RX10, RX11, RX12], va_Fw C ⟨"SendHall$Expr", "value", "(LSendHall$Life;I)I"⟩ ⟨C, "value", "(LSendHall$Life;I)I"⟩ s := by
  intro C hC
  simp only [List.mem_cons, List.not_mem_nil, or_false] at hC
  rcases hC with rfl | rfl | rfl
  · exact va_Fw.of (A := args) (by first | exact hts _ q745 | exact hta _ q745) (by first | exact hts _ q744 | exact hta _ q744) (by first | exact hts _ q750 | exact hta _ q750) (by first | exact hts _ q748 | exact hta _ q748) (by first | exact hts _ q746 | exact hta _ q746)
  · exact va_Fw.of (A := args) (by first | exact hts _ q745 | exact hta _ q745) (by first | exact hts _ q744 | exact hta _ q744) (by first | exact hts _ q756 | exact hta _ q756) (by first | exact hts _ q754 | exact hta _ q754) (by first | exact hts _ q752 | exact hta _ q752)
  · exact va_Fw.of (A := args) (by first | exact hts _ q745 | exact hta _ q745) (by first | exact hts _ q744 | exact hta _ q744) (by first | exact hts _ q779 | exact hta _ q779) (by first | exact hts _ q777 | exact hta _ q777) (by first | exact hts _ q775 | exact hta _ q775)
theorem g_sel0 {s : State} {args : Array Value} (hts : ∀ w ∈ lw_tbl, w.before args s = true) (hta : ∀ w ∈ lw_all, w.before args s = true) : ∀ w ∈ gSel, va_Nw w s := by
  intro w hw
  rw [List.mem_singleton.mp hw]
  exact va_Nw.of (A := args) rfl (g_selP (n := 4) ⟨by decide, by decide⟩ (by first | exact hts _ q228 | exact hta _ q228) (by first | exact hts _ q2449 | exact hta _ q2449) (by first | exact hts _ q272 | exact hta _ q272) (by first | exact hts _ q273 | exact hta _ q273))
