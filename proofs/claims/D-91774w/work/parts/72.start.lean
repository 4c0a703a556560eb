/-! the start: the first picture, read off the heap -/
set_option maxRecDepth 100000
def gvI : Option Value → Int32
  | some (.int x) => x
  | _ => 0
def gvL : Option Value → Int64
  | some (.long x) => x
  | _ => 0
def gvR : Option Value → Option Nat
  | some (.ref t) => some t
  | _ => none
/-- what old cells may be known as: ints, bytes, Strings, Characters, the cache of Characters -/
def gK0 : List Nat := [100, 101, 19, 20, 124]
def gVal (c k : Nat) (v : Value) : Prop := (gkK c k = 0 ∧ ∃ x, v = .int x) ∨ (gkK c k = 1 ∧ ∃ x, v = .long x) ∨ (gkK c k = 2 ∧ ∃ r, v = va_rf r)
/-- the cell a is well made as one of kind c -/
def gGood (D : g_D) (H : Heap) (c a : Nat) : Prop := ∃ (cell : Cell) (n : Nat), H[a]? = some cell ∧ cell.cls = D.1 c ∧ cell.vm ≠ .unknown ∧ cell.vm.isStatics = false ∧ (100 ≤ c → n ≤ cell.slots.size ∧ cell.slots.size.toInt32 = Int32.ofNat n) ∧ (c < 100 → n = gNf c) ∧ n < 2 ^ 31 ∧ ∀ k, k < n → ∃ v, cell.slots[gslot D c k]? = some v ∧ gVal c k v
theorem g_kinds (D : g_D) (H : Heap) : ∃ K : Nat → Nat, ∀ a, (K a = 0 ∧ ∀ c ∈ gK0, ¬ gGood D H c a) ∨ (K a ∈ gK0 ∧ gGood D H (K a) a) := by
  refine Classical.axiomOfChoice (r := fun a (c : Nat) => (c = 0 ∧ ∀ d ∈ gK0, ¬ gGood D H d a) ∨ (c ∈ gK0 ∧ gGood D H c a)) fun a => ?_
  by_cases h : ∃ c ∈ gK0, gGood D H c a
  · obtain ⟨c, h1, h2⟩ := h
    exact ⟨c, Or.inr ⟨h1, h2⟩⟩
  · exact ⟨0, Or.inl ⟨rfl, fun c h1 h2 => h ⟨c, h1, h2⟩⟩⟩
def gSlot0 (D : g_D) (H : Heap) (K : Nat → Nat) (a k : Nat) : Option Value := (H[a]?).bind fun cell => cell.slots[gslot D (K a) k]?
def gLen0 (H : Heap) (K : Nat → Nat) (a : Nat) : Nat := if 100 ≤ K a then ((H[a]?).map fun cell => cell.slots.size.toInt32.toNatClampNeg).getD 0 else gNf (K a)
/-- the first picture -/
def gG0 (D : g_D) (H : Heap) (K : Nat → Nat) : g_G := (H.size, ghsl H, K, gLen0 H K, fun a k => gvI (gSlot0 D H K a k), fun a k => gvL (gSlot0 D H K a k), fun a k => gvR (gSlot0 D H K a k))
theorem g_ofN {n : Nat} (h : n < 2 ^ 31) : (Int32.ofNat n).toNatClampNeg = n := by
  have h1 : (Int32.ofNat n).toInt = (n : Int) := nI_toInt h
  show (Int32.ofNat n).toInt.toNat = n
  rw [h1]
  rfl
theorem gV_of {D : g_D} {H : Heap} {K : Nat → Nat} {a k : Nat} {v : Value} (h : gSlot0 D H K a k = some v) (hv : gVal (K a) k v) : gV (gG0 D H K) a k = v := by
  rcases hv with ⟨h1, x, rfl⟩ | ⟨h1, x, rfl⟩ | ⟨h1, r, rfl⟩
  · rw [gV_I (G := gG0 D H K) (a := a) h1]
    show Value.int (gvI (gSlot0 D H K a k)) = _
    rw [h]
    rfl
  · rw [gV_L (G := gG0 D H K) (a := a) h1]
    show Value.long (gvL (gSlot0 D H K a k)) = _
    rw [h]
    rfl
  · rw [gV_R (G := gG0 D H K) (a := a) h1]
    show va_rf (gvR (gSlot0 D H K a k)) = _
    rw [h]
    cases r <;> rfl
theorem gReal0 {E : g_E} {D : g_D} {H : Heap} {K : Nat → Nat} (hK : ∀ a, (K a = 0 ∧ ∀ c ∈ gK0, ¬ gGood D H c a) ∨ (K a ∈ gK0 ∧ gGood D H (K a) a)) (hB : gB E = H.size) (hc : H.size ≤ gMc E) (hs : ghsl H ≤ gMs E) (hD : D.2.2 = H) : gReal E D (gG0 D H K) H := by
  refine ⟨rfl, rfl, hc, hs, Nat.le_of_eq hB, fun a ha => ?_, fun a ha => by rw [hD]⟩
  have ha : K a ≠ 0 := ha
  rcases hK a with h | ⟨h1, cell, n, q1, q2, q3, q4, q5, q6, q7, q8⟩
  · exact absurd h.1 ha
  · have hcl : gcl (gG0 D H K) a = K a := rfl
    have hln : gln (gG0 D H K) a = n := by
      show gLen0 H K a = n
      unfold gLen0
      by_cases h100 : 100 ≤ K a
      · rw [if_pos h100, q1]
        show cell.slots.size.toInt32.toNatClampNeg = n
        rw [(q5 h100).2]
        exact g_ofN q7
      · rw [if_neg h100]
        exact (q6 (by omega)).symm
    refine ⟨?_, cell, q1, by rw [hcl]; exact q2, q3, q4, fun hh => ?_, fun hh => ?_, fun hh => ?_, by rw [hln]; exact q7, fun k hk => ?_⟩
    · rw [hcl]
      unfold gK0 at h1
      simp only [List.mem_cons, List.not_mem_nil, or_false] at h1
      unfold gOk
      omega
    · have := (Array.getElem?_eq_some_iff.mp q1).1
      omega
    · rw [hln]
      exact ⟨(q5 hh).1, (q5 hh).2, fun w => absurd w (by have := (Array.getElem?_eq_some_iff.mp q1).1; omega)⟩
    · rw [hln]
      exact q6 hh
    · rw [hln] at hk
      obtain ⟨v, w1, w2⟩ := q8 k hk
      rw [hcl, w1]
      have : gSlot0 D H K a k = some v := by
        unfold gSlot0
        rw [q1]
        exact w1
      rw [gV_of this w2]
/-- a well made cell is known as what it is -/
theorem g_kind {D : g_D} {H : Heap} {K : Nat → Nat} (hK : ∀ a, (K a = 0 ∧ ∀ c ∈ gK0, ¬ gGood D H c a) ∨ (K a ∈ gK0 ∧ gGood D H (K a) a)) (hinj : ∀ c ∈ gK0, ∀ d ∈ gK0, D.1 c = D.1 d → c = d) {c a : Nat} (hc : c ∈ gK0) (h : gGood D H c a) : K a = c := by
  rcases hK a with h1 | ⟨h1, h2⟩
  · exact absurd h (h1.2 c hc)
  · obtain ⟨cell, n, q1, q2, -⟩ := h
    obtain ⟨cell', n', p1, p2, -⟩ := h2
    cases q1.symm.trans p1
    exact hinj _ h1 _ hc (p2.symm.trans q2)
