/-! lemmas of the picture's ops -/
set_option maxRecDepth 100000
theorem gsz_sI (G : g_G) (a k : Nat) (v : Int32) : gsz (gsI G a k v) = gsz G := rfl
theorem gsl_sI (G : g_G) (a k : Nat) (v : Int32) : gsl (gsI G a k v) = gsl G := rfl
theorem gcl_sI (G : g_G) (a k : Nat) (v : Int32) : gcl (gsI G a k v) = gcl G := rfl
theorem gln_sI (G : g_G) (a k : Nat) (v : Int32) : gln (gsI G a k v) = gln G := rfl
theorem gI_sI (G : g_G) (a k : Nat) (v : Int32) (b j : Nat) : gI (gsI G a k v) b j = if b = a ∧ j = k then v else gI G b j := rfl
theorem gL_sI (G : g_G) (a k : Nat) (v : Int32) : gL (gsI G a k v) = gL G := rfl
theorem gR_sI (G : g_G) (a k : Nat) (v : Int32) : gR (gsI G a k v) = gR G := rfl
theorem gsz_sL (G : g_G) (a k : Nat) (v : Int64) : gsz (gsL G a k v) = gsz G := rfl
theorem gsl_sL (G : g_G) (a k : Nat) (v : Int64) : gsl (gsL G a k v) = gsl G := rfl
theorem gcl_sL (G : g_G) (a k : Nat) (v : Int64) : gcl (gsL G a k v) = gcl G := rfl
theorem gln_sL (G : g_G) (a k : Nat) (v : Int64) : gln (gsL G a k v) = gln G := rfl
theorem gI_sL (G : g_G) (a k : Nat) (v : Int64) : gI (gsL G a k v) = gI G := rfl
theorem gL_sL (G : g_G) (a k : Nat) (v : Int64) (b j : Nat) : gL (gsL G a k v) b j = if b = a ∧ j = k then v else gL G b j := rfl
theorem gR_sL (G : g_G) (a k : Nat) (v : Int64) : gR (gsL G a k v) = gR G := rfl
theorem gsz_sR (G : g_G) (a k : Nat) (v : Option Nat) : gsz (gsR G a k v) = gsz G := rfl
theorem gsl_sR (G : g_G) (a k : Nat) (v : Option Nat) : gsl (gsR G a k v) = gsl G := rfl
theorem gcl_sR (G : g_G) (a k : Nat) (v : Option Nat) : gcl (gsR G a k v) = gcl G := rfl
theorem gln_sR (G : g_G) (a k : Nat) (v : Option Nat) : gln (gsR G a k v) = gln G := rfl
theorem gI_sR (G : g_G) (a k : Nat) (v : Option Nat) : gI (gsR G a k v) = gI G := rfl
theorem gL_sR (G : g_G) (a k : Nat) (v : Option Nat) : gL (gsR G a k v) = gL G := rfl
theorem gR_sR (G : g_G) (a k : Nat) (v : Option Nat) (b j : Nat) : gR (gsR G a k v) b j = if b = a ∧ j = k then v else gR G b j := rfl
theorem gsz_new (G : g_G) (c n : Nat) : gsz (gnew G c n) = gsz G + 1 := rfl
theorem gsl_new (G : g_G) (c n : Nat) : gsl (gnew G c n) = gsl G + n := rfl
theorem gcl_new (G : g_G) (c n b : Nat) : gcl (gnew G c n) b = if b = gsz G then c else gcl G b := rfl
theorem gln_new (G : g_G) (c n b : Nat) : gln (gnew G c n) b = if b = gsz G then n else gln G b := rfl
theorem gI_new (G : g_G) (c n b j : Nat) : gI (gnew G c n) b j = if b = gsz G then 0 else gI G b j := by
  show va_up (gI G) (gsz G) (fun _ => 0) b j = _
  unfold va_up
  split <;> rfl
theorem gL_new (G : g_G) (c n b j : Nat) : gL (gnew G c n) b j = if b = gsz G then 0 else gL G b j := by
  show va_up (gL G) (gsz G) (fun _ => 0) b j = _
  unfold va_up
  split <;> rfl
theorem gR_new (G : g_G) (c n b j : Nat) : gR (gnew G c n) b j = if b = gsz G then none else gR G b j := by
  show va_up (gR G) (gsz G) (fun _ => none) b j = _
  unfold va_up
  split <;> rfl
theorem gV_eq {G G1 : g_G} {a k : Nat} (hc : gcl G1 a = gcl G a) (h1 : gI G1 a k = gI G a k) (h2 : gL G1 a k = gL G a k) (h3 : gR G1 a k = gR G a k) : gV G1 a k = gV G a k := by
  unfold gV
  rw [hc, h1, h2, h3]
/-! heaps: how many slots they hold -/
theorem ghsl_push (H : Heap) (x : Cell) : ghsl (H.push x) = ghsl H + x.slots.size := by
  simp [ghsl]
theorem ghsl_of_sizes {H H1 : Heap} (hz : H1.size = H.size) (h : ∀ a : Nat, (H1[a]?).map (·.slots.size) = (H[a]?).map (·.slots.size)) : ghsl H1 = ghsl H := by
  unfold ghsl
  have : H1.toList.map (·.slots.size) = H.toList.map (·.slots.size) := by
    apply List.ext_getElem?
    intro i
    rw [List.getElem?_map, List.getElem?_map, Array.getElem?_toList, Array.getElem?_toList]
    exact h i
  rw [this]
theorem ghsl_set {H H1 : Heap} {a : Nat} {cell : Cell} {i : Nat} {v : Value} (hc : H[a]? = some cell) (h1 : H1[a]? = some (cell.setSlot i v)) (hz : H1.size = H.size) (ho : ∀ q : Nat, q ≠ a → H1[q]? = H[q]?) : ghsl H1 = ghsl H := by
  refine ghsl_of_sizes hz fun b => ?_
  by_cases hb : b = a
  · subst hb
    rw [hc, h1]
    simp [Cell.setSlot]
  · rw [ho b hb]
theorem ghsl_pushed {H H1 : Heap} {x : Cell} (h1 : H1[H.size]? = some x) (hz : H1.size = H.size + 1) (ho : ∀ q : Nat, q < H.size → H1[q]? = H[q]?) : ghsl H1 = ghsl H + x.slots.size := by
  rw [← ghsl_push]
  refine ghsl_of_sizes (by simp [hz]) fun b => ?_
  by_cases hb : b < H.size
  · rw [ho b hb, Array.getElem?_push, if_neg (Nat.ne_of_lt hb)]
  · by_cases hb2 : b = H.size
    · subst hb2
      rw [h1]
      simp
    · rw [Array.getElem?_eq_none (by omega), Array.getElem?_eq_none (by simp; omega)]
/-- a Stand's counts are what the heap shows -/
theorem g_same {s s' : State} {locs : List Loc} {cells slots k n : Nat} (h : s.sameButNew s' locs cells slots) (hk : s'.heap.size ≤ s.heap.size + k) (hn : ghsl s'.heap ≤ ghsl s.heap + n) : s.sameButNew s' locs k n := by
  obtain ⟨e1, e2, e3, e4, e5, e6⟩ := h
  refine ⟨e1, e2, hk, e4, ?_, e6⟩
  have ht : (s'.heap.toList.take s.heap.size).map (·.slots.size) = s.heap.toList.map (·.slots.size) := by
    apply List.ext_getElem?
    intro i
    rw [List.getElem?_map, List.getElem?_map, List.getElem?_take, Array.getElem?_toList, Array.getElem?_toList]
    by_cases hi : i < s.heap.size
    · rw [if_pos hi]
      obtain ⟨c', h1, -, h3, -⟩ := e6 i s.heap[i] (Array.getElem?_eq_getElem hi)
      rw [h1, Array.getElem?_eq_getElem hi]
      simp [h3]
    · rw [if_neg hi, Array.getElem?_eq_none (by omega)]
      try rfl
  have hs : ghsl s'.heap = ghsl s.heap + ((s'.heap.toList.drop s.heap.size).map (·.slots.size)).sum := by
    unfold ghsl
    rw [← ht, ← List.sum_append, ← List.map_append, List.take_append_drop]
  omega
/-! words that the lists don't carry -/
def gIsN : Cond → Bool
  | .fieldLinkNest .. => true
  | .methodLinkNest .. => true
  | .castable .. => true
  | .declares .. => true
  | _ => false
def gNest : List Cond := lw_tbl.filter gIsN
theorem gNest_in {w : Cond} (h : w ∈ lw_tbl) (g : gIsN w = true) : w ∈ gNest := List.mem_filter.mpr ⟨h, g⟩
theorem g_warmDe {x : MethodName} {s U : State} (hW : s.WarmedH U.vm) (hZ : va_Nw (.declares x) s) : va_Nw (.declares x) U := va_tabs rfl (rfl : (s.setVm U.vm).vm = U.vm) (by rw [Cond.declares_setVm hW.alike]; exact hZ)
theorem gNest_warm {w : Cond} (g : gIsN w = true) {s U : State} (hW : s.WarmedH U.vm) (h : va_Nw w s) : va_Nw w U := by
  cases w <;> first | (exact va_Nw.warmF hW h) | (exact va_Nw.warmM hW h) | (exact va_Nw.warmC hW h) | (exact g_warmDe hW h) | (cases g)
theorem gNest_use {w : Cond} (g : gIsN w = true) {A : Array Value} {U : State} (h : va_Nw w U) : w.before A U = true := by
  cases w <;> first | (exact va_Nw.use rfl h) | (cases g)
theorem gNest_of {w : Cond} (g : gIsN w = true) {A : Array Value} {U : State} (h : w.before A U = true) : va_Nw w U := by
  cases w <;> first | (exact va_Nw.of rfl h) | (cases g)
