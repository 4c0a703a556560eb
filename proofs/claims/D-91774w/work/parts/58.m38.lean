set_option maxRecDepth 100000
/-- SendHall.endings(I)I -/
def fX1_endings_b60 (E : g_E) (k23 : Nat → Int32 → Int32 → Int32 → g_G → Option (Int32 × g_G)) (t : Nat) (v1 : Int32) (v2 : Int32) (v3 : Int32) (G : g_G) : Option (Int32 × g_G) :=
  k23 t v1 v2 (v3 + 1) G
def fX1_endings_b57 (E : g_E) (k23 : Nat → Int32 → Int32 → Int32 → g_G → Option (Int32 × g_G)) (t : Nat) (v1 : Int32) (v2 : Int32) (v3 : Int32) (G : g_G) : Option (Int32 × g_G) :=
  fX1_endings_b60 E k23 t v1 (v2 + 1) v3 G
def fX1_endings_b23 (E : g_E) : Nat → Nat → Int32 → Int32 → Int32 → g_G → Option (Int32 × g_G)
  | 0, _, _, _, _, _ => none
  | n + 1, t, v1, v2, v3, G =>
    (grR G 1 1 (some t) 16).bind fun x25 =>
    (gchk G 17 x25).bind fun b28 =>
    (fJ2_size E b28 G).bind fun z28 =>
    if z28.1 ≤ v3 then (
      some (v2, z28.2))
    else (
      if v1 = (-1 : Int32) then (
        fX1_endings_b57 E (fX1_endings_b23 E n) t v1 v2 v3 z28.2)
      else (
        (grR z28.2 1 1 (some t) 16).bind fun x40 =>
        (gchk z28.2 17 x40).bind fun b44 =>
        (fJ2_get E b44 v3 z28.2).bind fun z44 =>
        (gcast z44.2 7 7 z44.1).bind fun x47 =>
        (grI z44.2 7 7 x47 0).bind fun x50 =>
        if ¬ x50 = v1 then (
          fX1_endings_b60 E (fX1_endings_b23 E n) t v1 v2 v3 z44.2)
        else (
          fX1_endings_b57 E (fX1_endings_b23 E n) t v1 v2 v3 z44.2)))
def fX1_endings (E : g_E) (t : Nat) (v1 : Int32) (G : g_G) : Option (Int32 × g_G) :=
  (fX1_within E v1 (-1) 2 G).bind fun z3 =>
  (fX1_there E z3.1 z3.2).bind fun z6 =>
  (gchk z6 1 (some t)).bind fun b10 =>
  (fX1_finds E b10 z6).bind fun z10 =>
  if ¬ z10.1 = 0 then (
    fX1_endings_b23 E gFU t v1 0 0 z10.2)
  else (
    some ((-2), z10.2))
theorem sX1_endings_b60 {p : Program} {l : Launch} {e : Env} {R : Room} {s : State} {m : MethodId} {args : Array Value} {below : List Frame} {meth : Method} {c : Code} {E : g_E} {D : g_D} (C : gC p R s m args meth c cX1_endings 4 RX1 "endings" (some .int) 227 7531 E D) {k23 : Nat → Int32 → Int32 → Int32 → g_G → Option (Int32 × g_G)} (hk23 : ∀ (t : Nat) (v1 : Int32) (v2 : Int32) (v3 : Int32) (G : g_G) (q : Int32 × g_G), k23 t v1 v2 v3 G = some q → ∀ (H : Heap) (locs : List Loc) (cells slots : Nat) (ls : Array Slot), gSt E D G H locs → gls ls 4 [(0, .inr (.inr (some t))), (1, .inl v1), (2, .inl v2), (3, .inl v3)] → gT p l e R s m args below meth c E D H locs cells slots (some (.int q.1)) q.2 (F0 m 23 ls [])) : ∀ (t : Nat) (v1 : Int32) (v2 : Int32) (v3 : Int32) (G : g_G) (q : Int32 × g_G), fX1_endings_b60 E k23 t v1 v2 v3 G = some q → ∀ (H : Heap) (locs : List Loc) (cells slots : Nat) (ls : Array Slot), gSt E D G H locs → gls ls 4 [(0, .inr (.inr (some t))), (1, .inl v1), (2, .inl v2), (3, .inl v3)] → gT p l e R s m args below meth c E D H locs cells slots (some (.int q.1)) q.2 (F0 m 60 ls []) := by
  obtain ⟨hx, hb, hml, hown, hts, hKn, hRc, hRs, hc1, hc2, hRf, hRl, hr, hlk, hnm⟩ := id C
  intro t v1 v2 v3 G q h H locs cells slots ls hS hl
  unfold fX1_endings_b60 at h
  refine g_iinc (l1 := [(3, .inl (v3 + 1)), (0, .inr (.inr (some t))), (1, .inl v1), (2, .inl v2)]) (v := (v3 + 1)) hx hb hl (k := 3) rfl (by rfl) (by decide) rfl dX1_endings_60 (fun ls hl => ?_)
  refine lv_goto (tgt := 23) hx hb dX1_endings_63 (by decide) ?_
  exact hk23 _ _ _ _ _ _ h _ _ _ _ _ hS (gls_sub hl [1, 2, 3, 0] rfl)
theorem sX1_endings_b57 {p : Program} {l : Launch} {e : Env} {R : Room} {s : State} {m : MethodId} {args : Array Value} {below : List Frame} {meth : Method} {c : Code} {E : g_E} {D : g_D} (C : gC p R s m args meth c cX1_endings 4 RX1 "endings" (some .int) 227 7531 E D) {k23 : Nat → Int32 → Int32 → Int32 → g_G → Option (Int32 × g_G)} (hk23 : ∀ (t : Nat) (v1 : Int32) (v2 : Int32) (v3 : Int32) (G : g_G) (q : Int32 × g_G), k23 t v1 v2 v3 G = some q → ∀ (H : Heap) (locs : List Loc) (cells slots : Nat) (ls : Array Slot), gSt E D G H locs → gls ls 4 [(0, .inr (.inr (some t))), (1, .inl v1), (2, .inl v2), (3, .inl v3)] → gT p l e R s m args below meth c E D H locs cells slots (some (.int q.1)) q.2 (F0 m 23 ls [])) : ∀ (t : Nat) (v1 : Int32) (v2 : Int32) (v3 : Int32) (G : g_G) (q : Int32 × g_G), fX1_endings_b57 E k23 t v1 v2 v3 G = some q → ∀ (H : Heap) (locs : List Loc) (cells slots : Nat) (ls : Array Slot), gSt E D G H locs → gls ls 4 [(0, .inr (.inr (some t))), (1, .inl v1), (2, .inl v2), (3, .inl v3)] → gT p l e R s m args below meth c E D H locs cells slots (some (.int q.1)) q.2 (F0 m 57 ls []) := by
  obtain ⟨hx, hb, hml, hown, hts, hKn, hRc, hRs, hc1, hc2, hRf, hRl, hr, hlk, hnm⟩ := id C
  intro t v1 v2 v3 G q h H locs cells slots ls hS hl
  unfold fX1_endings_b57 at h
  refine g_iinc (l1 := [(2, .inl (v2 + 1)), (0, .inr (.inr (some t))), (1, .inl v1), (3, .inl v3)]) (v := (v2 + 1)) hx hb hl (k := 2) rfl (by rfl) (by decide) rfl dX1_endings_57 (fun ls hl => ?_)
  exact sX1_endings_b60 C hk23 _ _ _ _ _ _ h _ _ _ _ _ hS (gls_sub hl [1, 2, 0, 3] rfl)
theorem sX1_endings_b23 {p : Program} {l : Launch} {e : Env} {R : Room} {s : State} {m : MethodId} {args : Array Value} {below : List Frame} {meth : Method} {c : Code} {E : g_E} {D : g_D} (C : gC p R s m args meth c cX1_endings 4 RX1 "endings" (some .int) 227 7531 E D) : ∀ (n : Nat) (t : Nat) (v1 : Int32) (v2 : Int32) (v3 : Int32) (G : g_G) (q : Int32 × g_G), fX1_endings_b23 E n t v1 v2 v3 G = some q → ∀ (H : Heap) (locs : List Loc) (cells slots : Nat) (ls : Array Slot), gSt E D G H locs → gls ls 4 [(0, .inr (.inr (some t))), (1, .inl v1), (2, .inl v2), (3, .inl v3)] → gT p l e R s m args below meth c E D H locs cells slots (some (.int q.1)) q.2 (F0 m 23 ls []) := by
  obtain ⟨hx, hb, hml, hown, hts, hKn, hRc, hRs, hc1, hc2, hRf, hRl, hr, hlk, hnm⟩ := id C
  intro n
  induction n with
  | zero =>
    intro t v1 v2 v3 G q h
    exact g_no h
  | succ n ih =>
    intro t v1 v2 v3 G q h H locs cells slots ls hS hl
    rw [fX1_endings_b23] at h
    refine g_iload_n hx hb hl 3 rfl dX1_endings_23 ?_
    refine g_aload_n hx hb hl 0 rfl dX1_endings_24 ?_
    refine g_rdR hx hb hown hts hKn hS h fd_1_1_16 rfl (Or.inl (hts _ q613)) (fun _ z => z) dX1_endings_25 (fun x25 h => ?_)
    obtain ⟨b28, hb28, h⟩ := g_bnd h
    obtain ⟨hr28, hk28⟩ := g_chk hb28
    obtain ⟨z28, h28, h⟩ := g_bnd h
    refine g_callV (n := 0) (b := b28) (av := []) (rs := [.inl v3]) hx hb hml hown hts hKn hRc hRs hS hl (sJ2_size l E D h28) (lw_V q995 q782 q783 q117 q784) ⟨rfl, by decide, by decide, by decide +kernel⟩ ⟨by rw [hRf]; exact Nat.le_of_ble_eq_true rfl, by rw [hRl]; exact Nat.le_of_ble_eq_true rfl⟩ (g_recv hKn hS hk28 (by decide) (by decide)) rfl (by rw [hr28]; rfl) (Nat.le_of_ble_eq_true rfl) dX1_endings_28 (fun H locs cells slots hS => ?_)
    refine lv_icmp_ge (tgt := 66) hx hb dX1_endings_31 (by decide) (fun c_31 => ?_) (fun c_31 => ?_)
    · have h := g_ift c_31 h
      refine g_iload_n hx hb hl 2 rfl dX1_endings_66 ?_
      exact g_iretG hx hb hr hlk hKn hRc hRs hS h dX1_endings_67
    · have h := g_iff c_31 h
      refine g_iload_n hx hb hl 1 rfl dX1_endings_34 ?_
      refine lv_iconst (v := (-1)) hx hb dX1_endings_35 (by decide) ?_
      refine lv_icmp_eq (tgt := 57) hx hb dX1_endings_36 (by decide) (fun c_36 => ?_) (fun c_36 => ?_)
      · have h := g_ift c_36 h
        exact sX1_endings_b57 C ih _ _ _ _ _ _ h _ _ _ _ _ hS (gls_sub hl [0, 1, 2, 3] rfl)
      · have h := g_iff c_36 h
        refine g_aload_n hx hb hl 0 rfl dX1_endings_39 ?_
        refine g_rdR hx hb hown hts hKn hS h fd_1_1_16 rfl (Or.inl (hts _ q613)) (fun _ z => z) dX1_endings_40 (fun x40 h => ?_)
        refine g_iload_n hx hb hl 3 rfl dX1_endings_43 ?_
        obtain ⟨b44, hb44, h⟩ := g_bnd h
        obtain ⟨hr44, hk44⟩ := g_chk hb44
        obtain ⟨z44, h44, h⟩ := g_bnd h
        refine g_callV (n := 1) (b := b44) (av := [.inl v3]) (rs := []) hx hb hml hown hts hKn hRc hRs hS hl (sJ2_get l E D h44) (lw_V q996 q759 q760 q117 q761) ⟨rfl, by decide, by decide, by decide +kernel⟩ ⟨by rw [hRf]; exact Nat.le_of_ble_eq_true rfl, by rw [hRl]; exact Nat.le_of_ble_eq_true rfl⟩ (g_recv hKn hS hk44 (by decide) (by decide)) rfl (by rw [hr44]; rfl) (Nat.le_of_ble_eq_true rfl) dX1_endings_44 (fun H locs cells slots hS => ?_)
        refine g_castS (k := 7) hx hb hown hKn hS h (by decide) (by decide) (hts _ q962) dX1_endings_47 (fun x47 h => ?_)
        refine g_rdI hx hb hown hts hKn hS h fd_7_7_0 rfl (Or.inr ⟨_, gNest_use rfl (hKn.2.2.2.2.1 _ (gNest_in q969 rfl))⟩) (fun _ z => z) dX1_endings_50 (fun x50 h => ?_)
        refine g_iload_n hx hb hl 1 rfl dX1_endings_53 ?_
        refine lv_icmp_ne (tgt := 60) hx hb dX1_endings_54 (by decide) (fun c_54 => ?_) (fun c_54 => ?_)
        · have h := g_ift c_54 h
          exact sX1_endings_b60 C ih _ _ _ _ _ _ h _ _ _ _ _ hS (gls_sub hl [0, 1, 2, 3] rfl)
        · have h := g_iff (fun z => z c_54) h
          exact sX1_endings_b57 C ih _ _ _ _ _ _ h _ _ _ _ _ hS (gls_sub hl [0, 1, 2, 3] rfl)
theorem sX1_endings (l : Launch) (E : g_E) (D : g_D) {t : Nat} {v1 : Int32} {G : g_G} {q : Int32 × g_G} (h : fX1_endings E t v1 G = some q) : gMet l E D yX1_endings (ws_ yX1_endings cX1_endings 4 (some .int)) 227 7531 [.inr (.inr (some t)), .inl v1] G (some (.int q.1)) q.2 := by
  refine gMet.of (by decide +kernel) (Nat.le_of_ble_eq_true rfl) ?_
  intro p e R s m args below meth c C hS ls hl
  have C : gC p R s m args meth c cX1_endings 4 RX1 "endings" (some .int) 227 7531 E D := C
  obtain ⟨hx, hb, hml, hown, hts, hKn, hRc, hRs, hc1, hc2, hRf, hRl, hr, hlk, hnm⟩ := id C
  have hl : gls ls 4 [(0, .inr (.inr (some t))), (1, .inl v1)] := hl
  generalize s.heap = H at hS ⊢
  unfold fX1_endings at h
  refine g_iload_n hx hb hl 1 rfl dX1_endings_0 ?_
  refine lv_iconst (v := (-1)) hx hb dX1_endings_1 (by decide) ?_
  refine lv_iconst (v := 2) hx hb dX1_endings_2 (by decide) ?_
  obtain ⟨z3, h3, h⟩ := g_bnd h
  refine g_callS (n := 3) (av := [.inl v1, .inl (-1), .inl 2]) (rs := []) hx hb hml hown hts hKn hRc hRs hS hl (sX1_within l E D h3) (lw_S q713 q714 q113 q715) ⟨by decide, by decide, by decide +kernel⟩ ⟨by rw [hRf]; exact Nat.le_of_ble_eq_true rfl, by rw [hRl]; exact Nat.le_of_ble_eq_true rfl⟩ rfl rfl (Nat.le_of_ble_eq_true rfl) dX1_endings_3 (fun H locs cells slots hS => ?_)
  obtain ⟨z6, h6, h⟩ := g_bnd h
  refine g_callS (n := 1) (av := [.inl z3.1]) (rs := []) hx hb hml hown hts hKn hRc hRs hS hl (sX1_there l E D h6) (lw_S q1721 q1722 q113 q1723) ⟨by decide, by decide, by decide +kernel⟩ ⟨by rw [hRf]; exact Nat.le_of_ble_eq_true rfl, by rw [hRl]; exact Nat.le_of_ble_eq_true rfl⟩ rfl rfl (Nat.le_of_ble_eq_true rfl) dX1_endings_6 (fun H locs cells slots hS => ?_)
  refine g_aload_n hx hb hl 0 rfl dX1_endings_9 ?_
  obtain ⟨b10, hb10, h⟩ := g_bnd h
  obtain ⟨hr10, hk10⟩ := g_chk hb10
  obtain ⟨z10, h10, h⟩ := g_bnd h
  refine g_callV (n := 0) (b := b10) (av := []) (rs := []) hx hb hml hown hts hKn hRc hRs hS hl (sX1_finds l E D h10) (lw_V q720 q722 qs2 q113 q723) ⟨rfl, by decide, by decide, by decide +kernel⟩ ⟨by rw [hRf]; exact Nat.le_of_ble_eq_true rfl, by rw [hRl]; exact Nat.le_of_ble_eq_true rfl⟩ (g_recv hKn hS hk10 (by decide) (by decide)) rfl (by rw [hr10]; rfl) (Nat.le_of_ble_eq_true rfl) dX1_endings_10 (fun H locs cells slots hS => ?_)
  refine lv_if_ne (tgt := 19) hx hb dX1_endings_13 (by decide) (fun c_13 => ?_) (fun c_13 => ?_)
  · have h := g_ift c_13 h
    refine lv_iconst (v := 0) hx hb dX1_endings_19 (by decide) ?_
    refine g_istore_n (l1 := [(2, .inl 0), (0, .inr (.inr (some t))), (1, .inl v1)]) hx hb hl (by decide) rfl dX1_endings_20 (fun ls hl => ?_)
    refine lv_iconst (v := 0) hx hb dX1_endings_21 (by decide) ?_
    refine g_istore_n (l1 := [(3, .inl 0), (2, .inl 0), (0, .inr (.inr (some t))), (1, .inl v1)]) hx hb hl (by decide) rfl dX1_endings_22 (fun ls hl => ?_)
    exact sX1_endings_b23 C gFU _ _ _ _ _ _ h _ _ _ _ _ hS (gls_sub hl [2, 3, 1, 0] rfl)
  · have h := g_iff (fun z => z c_13) h
    refine lv_bipush (v := (-2)) hx hb dX1_endings_16 (by decide) ?_
    exact g_iretG hx hb hr hlk hKn hRc hRs hS h dX1_endings_18
/-- SendHallLaw.could(LSendHall;II[J)I -/
def fX0_could (E : g_E) (v0 : Option Nat) (v1 : Int32) (v2 : Int32) (v3 : Option Nat) (G : g_G) : Option (Int32 × g_G) :=
  (gchk G 1 v0).bind fun b5 =>
  (fX1_could E b5 v1 v2 G).bind fun z5 =>
  (gsaL E z5.2 v3 0 (Int32.toInt64 z5.1)).bind fun G9 =>
  some (0, G9)
theorem sX0_could (l : Launch) (E : g_E) (D : g_D) {v0 : Option Nat} {v1 : Int32} {v2 : Int32} {v3 : Option Nat} {G : g_G} {q : Int32 × g_G} (h : fX0_could E v0 v1 v2 v3 G = some q) : gMet l E D yX0_could (ws_ yX0_could cX0_could 5 (some .int)) 228 7553 [.inr (.inr v0), .inl v1, .inl v2, .inr (.inr v3)] G (some (.int q.1)) q.2 := by
  refine gMet.of (by decide +kernel) (Nat.le_of_ble_eq_true rfl) ?_
  intro p e R s m args below meth c C hS ls hl
  have C : gC p R s m args meth c cX0_could 5 RX0 "could" (some .int) 228 7553 E D := C
  obtain ⟨hx, hb, hml, hown, hts, hKn, hRc, hRs, hc1, hc2, hRf, hRl, hr, hlk, hnm⟩ := id C
  have hl : gls ls 5 [(0, .inr (.inr v0)), (1, .inl v1), (2, .inl v2), (3, .inr (.inr v3))] := hl
  generalize s.heap = H at hS ⊢
  unfold fX0_could at h
  refine g_aload_n hx hb hl 3 rfl dX0_could_0 ?_
  refine lv_iconst (v := 0) hx hb dX0_could_1 (by decide) ?_
  refine g_aload_n hx hb hl 0 rfl dX0_could_2 ?_
  refine g_iload_n hx hb hl 1 rfl dX0_could_3 ?_
  refine g_iload_n hx hb hl 2 rfl dX0_could_4 ?_
  obtain ⟨b5, hb5, h⟩ := g_bnd h
  obtain ⟨hr5, hk5⟩ := g_chk hb5
  obtain ⟨z5, h5, h⟩ := g_bnd h
  refine g_callV (n := 2) (b := b5) (av := [.inl v1, .inl v2]) (rs := [.inl 0, .inr (.inr v3)]) hx hb hml hown hts hKn hRc hRs hS hl (sX1_could l E D h5) (lw_V q1767 q1768 q1769 q113 q1770) ⟨rfl, by decide, by decide, by decide +kernel⟩ ⟨by rw [hRf]; exact Nat.le_of_ble_eq_true rfl, by rw [hRl]; exact Nat.le_of_ble_eq_true rfl⟩ (g_recv hKn hS hk5 (by decide) (by decide)) rfl (by rw [hr5]; rfl) (Nat.le_of_ble_eq_true rfl) dX0_could_5 (fun H locs cells slots hS => ?_)
  refine lv_i2l (v := (Int32.toInt64 z5.1)) hx hb dX0_could_8 rfl ?_
  refine g_lastoreG hx hb hKn hS h dX0_could_9 (fun G9 h H locs hS => ?_)
  refine lv_goto (tgt := 17) hx hb dX0_could_10 (by decide) ?_
  refine lv_iconst (v := 0) hx hb dX0_could_17 (by decide) ?_
  exact g_iretG hx hb hr hlk hKn hRc hRs hS h dX0_could_18
/-- SendHallLaw.ending(LSendHall;II[J)I -/
def fX0_ending (E : g_E) (v0 : Option Nat) (v1 : Int32) (v2 : Int32) (v3 : Option Nat) (G : g_G) : Option (Int32 × g_G) :=
  (gchk G 1 v0).bind fun b5 =>
  (fX1_ending E b5 v1 v2 G).bind fun z5 =>
  (gsaL E z5.2 v3 0 (Int32.toInt64 z5.1)).bind fun G9 =>
  some (0, G9)
theorem sX0_ending (l : Launch) (E : g_E) (D : g_D) {v0 : Option Nat} {v1 : Int32} {v2 : Int32} {v3 : Option Nat} {G : g_G} {q : Int32 × g_G} (h : fX0_ending E v0 v1 v2 v3 G = some q) : gMet l E D yX0_ending (ws_ yX0_ending cX0_ending 5 (some .int)) 228 7554 [.inr (.inr v0), .inl v1, .inl v2, .inr (.inr v3)] G (some (.int q.1)) q.2 := by
  refine gMet.of (by decide +kernel) (Nat.le_of_ble_eq_true rfl) ?_
  intro p e R s m args below meth c C hS ls hl
  have C : gC p R s m args meth c cX0_ending 5 RX0 "ending" (some .int) 228 7554 E D := C
  obtain ⟨hx, hb, hml, hown, hts, hKn, hRc, hRs, hc1, hc2, hRf, hRl, hr, hlk, hnm⟩ := id C
  have hl : gls ls 5 [(0, .inr (.inr v0)), (1, .inl v1), (2, .inl v2), (3, .inr (.inr v3))] := hl
  generalize s.heap = H at hS ⊢
  unfold fX0_ending at h
  refine g_aload_n hx hb hl 3 rfl dX0_ending_0 ?_
  refine lv_iconst (v := 0) hx hb dX0_ending_1 (by decide) ?_
  refine g_aload_n hx hb hl 0 rfl dX0_ending_2 ?_
  refine g_iload_n hx hb hl 1 rfl dX0_ending_3 ?_
  refine g_iload_n hx hb hl 2 rfl dX0_ending_4 ?_
  obtain ⟨b5, hb5, h⟩ := g_bnd h
  obtain ⟨hr5, hk5⟩ := g_chk hb5
  obtain ⟨z5, h5, h⟩ := g_bnd h
  refine g_callV (n := 2) (b := b5) (av := [.inl v1, .inl v2]) (rs := [.inl 0, .inr (.inr v3)]) hx hb hml hown hts hKn hRc hRs hS hl (sX1_ending l E D h5) (lw_V q1760 q1761 q1762 q113 q1763) ⟨rfl, by decide, by decide, by decide +kernel⟩ ⟨by rw [hRf]; exact Nat.le_of_ble_eq_true rfl, by rw [hRl]; exact Nat.le_of_ble_eq_true rfl⟩ (g_recv hKn hS hk5 (by decide) (by decide)) rfl (by rw [hr5]; rfl) (Nat.le_of_ble_eq_true rfl) dX0_ending_5 (fun H locs cells slots hS => ?_)
  refine lv_i2l (v := (Int32.toInt64 z5.1)) hx hb dX0_ending_8 rfl ?_
  refine g_lastoreG hx hb hKn hS h dX0_ending_9 (fun G9 h H locs hS => ?_)
  refine lv_goto (tgt := 17) hx hb dX0_ending_10 (by decide) ?_
  refine lv_iconst (v := 0) hx hb dX0_ending_17 (by decide) ?_
  exact g_iretG hx hb hr hlk hKn hRc hRs hS h dX0_ending_18
/-- SendHallLaw.endings(LSendHall;I[J)I -/
def fX0_endings (E : g_E) (v0 : Option Nat) (v1 : Int32) (v2 : Option Nat) (G : g_G) : Option (Int32 × g_G) :=
  (gchk G 1 v0).bind fun b4 =>
  (fX1_endings E b4 v1 G).bind fun z4 =>
  (gsaL E z4.2 v2 0 (Int32.toInt64 z4.1)).bind fun G8 =>
  some (0, G8)
theorem sX0_endings (l : Launch) (E : g_E) (D : g_D) {v0 : Option Nat} {v1 : Int32} {v2 : Option Nat} {G : g_G} {q : Int32 × g_G} (h : fX0_endings E v0 v1 v2 G = some q) : gMet l E D yX0_endings (ws_ yX0_endings cX0_endings 4 (some .int)) 228 7554 [.inr (.inr v0), .inl v1, .inr (.inr v2)] G (some (.int q.1)) q.2 := by
  refine gMet.of (by decide +kernel) (Nat.le_of_ble_eq_true rfl) ?_
  intro p e R s m args below meth c C hS ls hl
  have C : gC p R s m args meth c cX0_endings 4 RX0 "endings" (some .int) 228 7554 E D := C
  obtain ⟨hx, hb, hml, hown, hts, hKn, hRc, hRs, hc1, hc2, hRf, hRl, hr, hlk, hnm⟩ := id C
  have hl : gls ls 4 [(0, .inr (.inr v0)), (1, .inl v1), (2, .inr (.inr v2))] := hl
  generalize s.heap = H at hS ⊢
  unfold fX0_endings at h
  refine g_aload_n hx hb hl 2 rfl dX0_endings_0 ?_
  refine lv_iconst (v := 0) hx hb dX0_endings_1 (by decide) ?_
  refine g_aload_n hx hb hl 0 rfl dX0_endings_2 ?_
  refine g_iload_n hx hb hl 1 rfl dX0_endings_3 ?_
  obtain ⟨b4, hb4, h⟩ := g_bnd h
  obtain ⟨hr4, hk4⟩ := g_chk hb4
  obtain ⟨z4, h4, h⟩ := g_bnd h
  refine g_callV (n := 1) (b := b4) (av := [.inl v1]) (rs := [.inl 0, .inr (.inr v2)]) hx hb hml hown hts hKn hRc hRs hS hl (sX1_endings l E D h4) (lw_V q1753 q1754 q1755 q113 q1756) ⟨rfl, by decide, by decide, by decide +kernel⟩ ⟨by rw [hRf]; exact Nat.le_of_ble_eq_true rfl, by rw [hRl]; exact Nat.le_of_ble_eq_true rfl⟩ (g_recv hKn hS hk4 (by decide) (by decide)) rfl (by rw [hr4]; rfl) (Nat.le_of_ble_eq_true rfl) dX0_endings_4 (fun H locs cells slots hS => ?_)
  refine lv_i2l (v := (Int32.toInt64 z4.1)) hx hb dX0_endings_7 rfl ?_
  refine g_lastoreG hx hb hKn hS h dX0_endings_8 (fun G8 h H locs hS => ?_)
  refine lv_goto (tgt := 15) hx hb dX0_endings_9 (by decide) ?_
  refine lv_iconst (v := 0) hx hb dX0_endings_15 (by decide) ?_
  exact g_iretG hx hb hr hlk hKn hRc hRs hS h dX0_endings_16
