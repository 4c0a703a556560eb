set_option maxRecDepth 100000
/-- SendHallModel.needs()I -/
def fX4_needs_b75 (E : g_E) (t : Nat) (v1 : Int32) (v2 : Int32) (G : g_G) : Option (Int32 × g_G) :=
  (gpI E G 4 4 (some t) 4 v1).bind fun G77 =>
  some (v2, G77)
def fX4_needs_b69 (E : g_E) (k17 : Nat → Int32 → Int32 → Int32 → Int32 → g_G → Option (Int32 × g_G)) (t : Nat) (v1 : Int32) (v2 : Int32) (v3 : Int32) (v4 : Int32) (G : g_G) : Option (Int32 × g_G) :=
  k17 t v1 v2 v3 (v4 + 1) G
def fX4_needs_b56 (E : g_E) (k17 : Nat → Int32 → Int32 → Int32 → Int32 → g_G → Option (Int32 × g_G)) (t : Nat) (v1 : Int32) (v2 : Int32) (v4 : Int32) (v5 : Int32) (s0 : Int32) (G : g_G) : Option (Int32 × g_G) :=
  if v5 = 0 then (
    fX4_needs_b69 E k17 t v1 v2 s0 v4 G)
  else (
    if ¬ s0 = 0 then (
      fX4_needs_b69 E k17 t v1 v2 s0 v4 G)
    else (
      fX4_needs_b69 E k17 t v1 v4 s0 v4 G))
def fX4_needs_b55 (E : g_E) (k17 : Nat → Int32 → Int32 → Int32 → Int32 → g_G → Option (Int32 × g_G)) (t : Nat) (v1 : Int32) (v2 : Int32) (v4 : Int32) (v5 : Int32) (G : g_G) : Option (Int32 × g_G) :=
  fX4_needs_b56 E k17 t v1 v2 v4 v5 0 G
def fX4_needs_b17 (E : g_E) : Nat → Nat → Int32 → Int32 → Int32 → Int32 → g_G → Option (Int32 × g_G)
  | 0, _, _, _, _, _, _ => none
  | n + 1, t, v1, v2, v3, v4, G =>
    if (3 : Int32) < v4 then (
      fX4_needs_b75 E t v1 v2 G)
    else (
      if v3 = 0 then (
        fX4_needs_b75 E t v1 v2 G)
      else (
        (gpI E G 4 4 (some t) 4 v4).bind fun G30 =>
        (gchk G30 4 (some t)).bind fun b34 =>
        (fX4_go E b34 G30).bind fun z34 =>
        if z34.1 = 0 then (
          fX4_needs_b55 E (fX4_needs_b17 E n) t v1 v2 v4 z34.1 z34.2)
        else (
          (gchk z34.2 4 (some t)).bind fun b45 =>
          (fX4_someLocks E b45 z34.2).bind fun z45 =>
          if z45.1 = 0 then (
            fX4_needs_b55 E (fX4_needs_b17 E n) t v1 v2 v4 z34.1 z45.2)
          else (
            fX4_needs_b56 E (fX4_needs_b17 E n) t v1 v2 v4 z34.1 1 z45.2))))
def fX4_needs (E : g_E) (t : Nat) (G : g_G) : Option (Int32 × g_G) :=
  (gpI E G 4 4 (some t) 2 0).bind fun G2 =>
  (grI G2 4 4 (some t) 4).bind fun x6 =>
  fX4_needs_b17 E gFU t x6 (-1) 1 0 G2
theorem sX4_needs_b75 {p : Program} {l : Launch} {e : Env} {R : Room} {s : State} {m : MethodId} {args : Array Value} {below : List Frame} {meth : Method} {c : Code} {E : g_E} {D : g_D} (C : gC p R s m args meth c cX4_needs 6 RX4 "needs" (some .int) 12 327 E D) : ∀ (t : Nat) (v1 : Int32) (v2 : Int32) (G : g_G) (q : Int32 × g_G), fX4_needs_b75 E t v1 v2 G = some q → ∀ (H : Heap) (locs : List Loc) (cells slots : Nat) (ls : Array Slot), gSt E D G H locs → gls ls 6 [(0, .inr (.inr (some t))), (1, .inl v1), (2, .inl v2)] → gT p l e R s m args below meth c E D H locs cells slots (some (.int q.1)) q.2 (F0 m 75 ls []) := by
  obtain ⟨hx, hb, hml, hown, hts, hKn, hRc, hRs, hc1, hc2, hRf, hRl, hr, hlk, hnm⟩ := id C
  intro t v1 v2 G q h H locs cells slots ls hS hl
  unfold fX4_needs_b75 at h
  refine g_aload_n hx hb hl 0 rfl dX4_needs_75 ?_
  refine g_iload_n hx hb hl 1 rfl dX4_needs_76 ?_
  refine g_ptI hx hb hown hts hKn hS h fd_4_4_4 (Or.inl (hts _ q1869)) (fun _ z => z) (fun z => nomatch z) dX4_needs_77 (fun G77 h H locs hS => ?_)
  refine g_iload_n hx hb hl 2 rfl dX4_needs_80 ?_
  exact g_iretG hx hb hr hlk hKn hRc hRs hS h dX4_needs_81
theorem sX4_needs_b69 {p : Program} {l : Launch} {e : Env} {R : Room} {s : State} {m : MethodId} {args : Array Value} {below : List Frame} {meth : Method} {c : Code} {E : g_E} {D : g_D} (C : gC p R s m args meth c cX4_needs 6 RX4 "needs" (some .int) 12 327 E D) {k17 : Nat → Int32 → Int32 → Int32 → Int32 → g_G → Option (Int32 × g_G)} (hk17 : ∀ (t : Nat) (v1 : Int32) (v2 : Int32) (v3 : Int32) (v4 : Int32) (G : g_G) (q : Int32 × g_G), k17 t v1 v2 v3 v4 G = some q → ∀ (H : Heap) (locs : List Loc) (cells slots : Nat) (ls : Array Slot), gSt E D G H locs → gls ls 6 [(0, .inr (.inr (some t))), (1, .inl v1), (2, .inl v2), (3, .inl v3), (4, .inl v4)] → gT p l e R s m args below meth c E D H locs cells slots (some (.int q.1)) q.2 (F0 m 17 ls [])) : ∀ (t : Nat) (v1 : Int32) (v2 : Int32) (v3 : Int32) (v4 : Int32) (G : g_G) (q : Int32 × g_G), fX4_needs_b69 E k17 t v1 v2 v3 v4 G = some q → ∀ (H : Heap) (locs : List Loc) (cells slots : Nat) (ls : Array Slot), gSt E D G H locs → gls ls 6 [(0, .inr (.inr (some t))), (1, .inl v1), (2, .inl v2), (3, .inl v3), (4, .inl v4)] → gT p l e R s m args below meth c E D H locs cells slots (some (.int q.1)) q.2 (F0 m 69 ls []) := by
  obtain ⟨hx, hb, hml, hown, hts, hKn, hRc, hRs, hc1, hc2, hRf, hRl, hr, hlk, hnm⟩ := id C
  intro t v1 v2 v3 v4 G q h H locs cells slots ls hS hl
  unfold fX4_needs_b69 at h
  refine g_iinc (l1 := [(4, .inl (v4 + 1)), (0, .inr (.inr (some t))), (1, .inl v1), (2, .inl v2), (3, .inl v3)]) (v := (v4 + 1)) hx hb hl (k := 4) rfl (by rfl) (by decide) rfl dX4_needs_69 (fun ls hl => ?_)
  refine lv_goto (tgt := 17) hx hb dX4_needs_72 (by decide) ?_
  exact hk17 _ _ _ _ _ _ _ h _ _ _ _ _ hS (gls_sub hl [1, 2, 3, 4, 0] rfl)
theorem sX4_needs_b56 {p : Program} {l : Launch} {e : Env} {R : Room} {s : State} {m : MethodId} {args : Array Value} {below : List Frame} {meth : Method} {c : Code} {E : g_E} {D : g_D} (C : gC p R s m args meth c cX4_needs 6 RX4 "needs" (some .int) 12 327 E D) {k17 : Nat → Int32 → Int32 → Int32 → Int32 → g_G → Option (Int32 × g_G)} (hk17 : ∀ (t : Nat) (v1 : Int32) (v2 : Int32) (v3 : Int32) (v4 : Int32) (G : g_G) (q : Int32 × g_G), k17 t v1 v2 v3 v4 G = some q → ∀ (H : Heap) (locs : List Loc) (cells slots : Nat) (ls : Array Slot), gSt E D G H locs → gls ls 6 [(0, .inr (.inr (some t))), (1, .inl v1), (2, .inl v2), (3, .inl v3), (4, .inl v4)] → gT p l e R s m args below meth c E D H locs cells slots (some (.int q.1)) q.2 (F0 m 17 ls [])) : ∀ (t : Nat) (v1 : Int32) (v2 : Int32) (v4 : Int32) (v5 : Int32) (s0 : Int32) (G : g_G) (q : Int32 × g_G), fX4_needs_b56 E k17 t v1 v2 v4 v5 s0 G = some q → ∀ (H : Heap) (locs : List Loc) (cells slots : Nat) (ls : Array Slot), gSt E D G H locs → gls ls 6 [(0, .inr (.inr (some t))), (1, .inl v1), (2, .inl v2), (4, .inl v4), (5, .inl v5)] → gT p l e R s m args below meth c E D H locs cells slots (some (.int q.1)) q.2 (F0 m 56 ls [.int s0]) := by
  obtain ⟨hx, hb, hml, hown, hts, hKn, hRc, hRs, hc1, hc2, hRf, hRl, hr, hlk, hnm⟩ := id C
  intro t v1 v2 v4 v5 s0 G q h H locs cells slots ls hS hl
  unfold fX4_needs_b56 at h
  refine g_istore_n (l1 := [(3, .inl s0), (0, .inr (.inr (some t))), (1, .inl v1), (2, .inl v2), (4, .inl v4), (5, .inl v5)]) hx hb hl (by decide) rfl dX4_needs_56 (fun ls hl => ?_)
  refine g_iload hx hb hl 5 rfl dX4_needs_57 ?_
  refine lv_if_eq (tgt := 69) hx hb dX4_needs_59 (by decide) (fun c_59 => ?_) (fun c_59 => ?_)
  · have h := g_ift c_59 h
    exact sX4_needs_b69 C hk17 _ _ _ _ _ _ _ h _ _ _ _ _ hS (gls_sub hl [1, 2, 3, 0, 4] rfl)
  · have h := g_iff c_59 h
    refine g_iload_n hx hb hl 0 rfl dX4_needs_62 ?_
    refine lv_if_ne (tgt := 69) hx hb dX4_needs_63 (by decide) (fun c_63 => ?_) (fun c_63 => ?_)
    · have h := g_ift c_63 h
      exact sX4_needs_b69 C hk17 _ _ _ _ _ _ _ h _ _ _ _ _ hS (gls_sub hl [1, 2, 3, 0, 4] rfl)
    · have h := g_iff (fun z => z c_63) h
      refine g_iload hx hb hl 4 rfl dX4_needs_66 ?_
      refine g_istore_n (l1 := [(2, .inl v4), (3, .inl s0), (0, .inr (.inr (some t))), (1, .inl v1), (4, .inl v4), (5, .inl v5)]) hx hb hl (by decide) rfl dX4_needs_68 (fun ls hl => ?_)
      exact sX4_needs_b69 C hk17 _ _ _ _ _ _ _ h _ _ _ _ _ hS (gls_sub hl [2, 3, 0, 1, 4] rfl)
theorem sX4_needs_b55 {p : Program} {l : Launch} {e : Env} {R : Room} {s : State} {m : MethodId} {args : Array Value} {below : List Frame} {meth : Method} {c : Code} {E : g_E} {D : g_D} (C : gC p R s m args meth c cX4_needs 6 RX4 "needs" (some .int) 12 327 E D) {k17 : Nat → Int32 → Int32 → Int32 → Int32 → g_G → Option (Int32 × g_G)} (hk17 : ∀ (t : Nat) (v1 : Int32) (v2 : Int32) (v3 : Int32) (v4 : Int32) (G : g_G) (q : Int32 × g_G), k17 t v1 v2 v3 v4 G = some q → ∀ (H : Heap) (locs : List Loc) (cells slots : Nat) (ls : Array Slot), gSt E D G H locs → gls ls 6 [(0, .inr (.inr (some t))), (1, .inl v1), (2, .inl v2), (3, .inl v3), (4, .inl v4)] → gT p l e R s m args below meth c E D H locs cells slots (some (.int q.1)) q.2 (F0 m 17 ls [])) : ∀ (t : Nat) (v1 : Int32) (v2 : Int32) (v4 : Int32) (v5 : Int32) (G : g_G) (q : Int32 × g_G), fX4_needs_b55 E k17 t v1 v2 v4 v5 G = some q → ∀ (H : Heap) (locs : List Loc) (cells slots : Nat) (ls : Array Slot), gSt E D G H locs → gls ls 6 [(0, .inr (.inr (some t))), (1, .inl v1), (2, .inl v2), (4, .inl v4), (5, .inl v5)] → gT p l e R s m args below meth c E D H locs cells slots (some (.int q.1)) q.2 (F0 m 55 ls []) := by
  obtain ⟨hx, hb, hml, hown, hts, hKn, hRc, hRs, hc1, hc2, hRf, hRl, hr, hlk, hnm⟩ := id C
  intro t v1 v2 v4 v5 G q h H locs cells slots ls hS hl
  unfold fX4_needs_b55 at h
  refine lv_iconst (v := 0) hx hb dX4_needs_55 (by decide) ?_
  exact sX4_needs_b56 C hk17 _ _ _ _ _ _ _ _ h _ _ _ _ _ hS (gls_sub hl [0, 1, 2, 3, 4] rfl)
theorem sX4_needs_b17 {p : Program} {l : Launch} {e : Env} {R : Room} {s : State} {m : MethodId} {args : Array Value} {below : List Frame} {meth : Method} {c : Code} {E : g_E} {D : g_D} (C : gC p R s m args meth c cX4_needs 6 RX4 "needs" (some .int) 12 327 E D) : ∀ (n : Nat) (t : Nat) (v1 : Int32) (v2 : Int32) (v3 : Int32) (v4 : Int32) (G : g_G) (q : Int32 × g_G), fX4_needs_b17 E n t v1 v2 v3 v4 G = some q → ∀ (H : Heap) (locs : List Loc) (cells slots : Nat) (ls : Array Slot), gSt E D G H locs → gls ls 6 [(0, .inr (.inr (some t))), (1, .inl v1), (2, .inl v2), (3, .inl v3), (4, .inl v4)] → gT p l e R s m args below meth c E D H locs cells slots (some (.int q.1)) q.2 (F0 m 17 ls []) := by
  obtain ⟨hx, hb, hml, hown, hts, hKn, hRc, hRs, hc1, hc2, hRf, hRl, hr, hlk, hnm⟩ := id C
  intro n
  induction n with
  | zero =>
    intro t v1 v2 v3 v4 G q h
    exact g_no h
  | succ n ih =>
    intro t v1 v2 v3 v4 G q h H locs cells slots ls hS hl
    rw [fX4_needs_b17] at h
    refine g_iload hx hb hl 4 rfl dX4_needs_17 ?_
    refine lv_iconst (v := 3) hx hb dX4_needs_19 (by decide) ?_
    refine lv_icmp_gt (tgt := 75) hx hb dX4_needs_20 (by decide) (fun c_20 => ?_) (fun c_20 => ?_)
    · have h := g_ift c_20 h
      exact sX4_needs_b75 C _ _ _ _ _ h _ _ _ _ _ hS (gls_sub hl [0, 1, 2] rfl)
    · have h := g_iff c_20 h
      refine g_iload_n hx hb hl 3 rfl dX4_needs_23 ?_
      refine lv_if_eq (tgt := 75) hx hb dX4_needs_24 (by decide) (fun c_24 => ?_) (fun c_24 => ?_)
      · have h := g_ift c_24 h
        exact sX4_needs_b75 C _ _ _ _ _ h _ _ _ _ _ hS (gls_sub hl [0, 1, 2] rfl)
      · have h := g_iff c_24 h
        refine g_aload_n hx hb hl 0 rfl dX4_needs_27 ?_
        refine g_iload hx hb hl 4 rfl dX4_needs_28 ?_
        refine g_ptI hx hb hown hts hKn hS h fd_4_4_4 (Or.inl (hts _ q1869)) (fun _ z => z) (fun z => nomatch z) dX4_needs_30 (fun G30 h H locs hS => ?_)
        refine g_aload_n hx hb hl 0 rfl dX4_needs_33 ?_
        obtain ⟨b34, hb34, h⟩ := g_bnd h
        obtain ⟨hr34, hk34⟩ := g_chk hb34
        obtain ⟨z34, h34, h⟩ := g_bnd h
        refine g_callV (n := 0) (b := b34) (av := []) (rs := []) hx hb hml hown hts hKn hRc hRs hS hl (sX4_go l E D h34) (lw_V q2221 q2223 qs71 q135 q2224) ⟨rfl, by decide, by decide, by decide +kernel⟩ ⟨by rw [hRf]; exact Nat.le_of_ble_eq_true rfl, by rw [hRl]; exact Nat.le_of_ble_eq_true rfl⟩ (g_recv hKn hS hk34 (by decide) (by decide)) rfl (by rw [hr34]; rfl) (Nat.le_of_ble_eq_true rfl) dX4_needs_34 (fun H locs cells slots hS => ?_)
        refine g_istore (l1 := [(5, .inl z34.1), (0, .inr (.inr (some t))), (1, .inl v1), (2, .inl v2), (3, .inl v3), (4, .inl v4)]) hx hb hl (by decide) rfl dX4_needs_37 (fun ls hl => ?_)
        refine g_iload hx hb hl 0 rfl dX4_needs_39 ?_
        refine lv_if_eq (tgt := 55) hx hb dX4_needs_41 (by decide) (fun c_41 => ?_) (fun c_41 => ?_)
        · have h := g_ift c_41 h
          exact sX4_needs_b55 C ih _ _ _ _ _ _ _ h _ _ _ _ _ hS (gls_sub hl [1, 2, 3, 5, 0] rfl)
        · have h := g_iff c_41 h
          refine g_aload_n hx hb hl 1 rfl dX4_needs_44 ?_
          obtain ⟨b45, hb45, h⟩ := g_bnd h
          obtain ⟨hr45, hk45⟩ := g_chk hb45
          obtain ⟨z45, h45, h⟩ := g_bnd h
          refine g_callV (n := 0) (b := b45) (av := []) (rs := []) hx hb hml hown hts hKn hRc hRs hS hl (sX4_someLocks l E D h45) (lw_V q2392 q2394 qs106 q135 q2395) ⟨rfl, by decide, by decide, by decide +kernel⟩ ⟨by rw [hRf]; exact Nat.le_of_ble_eq_true rfl, by rw [hRl]; exact Nat.le_of_ble_eq_true rfl⟩ (g_recv hKn hS hk45 (by decide) (by decide)) rfl (by rw [hr45]; rfl) (Nat.le_of_ble_eq_true rfl) dX4_needs_45 (fun H locs cells slots hS => ?_)
          refine lv_if_eq (tgt := 55) hx hb dX4_needs_48 (by decide) (fun c_48 => ?_) (fun c_48 => ?_)
          · have h := g_ift c_48 h
            exact sX4_needs_b55 C ih _ _ _ _ _ _ _ h _ _ _ _ _ hS (gls_sub hl [1, 2, 3, 5, 0] rfl)
          · have h := g_iff c_48 h
            refine lv_iconst (v := 1) hx hb dX4_needs_51 (by decide) ?_
            refine lv_goto (tgt := 56) hx hb dX4_needs_52 (by decide) ?_
            exact sX4_needs_b56 C ih _ _ _ _ _ _ _ _ h _ _ _ _ _ hS (gls_sub hl [1, 2, 3, 5, 0] rfl)
theorem sX4_needs (l : Launch) (E : g_E) (D : g_D) {t : Nat} {G : g_G} {q : Int32 × g_G} (h : fX4_needs E t G = some q) : gMet l E D yX4_needs (ws_ yX4_needs cX4_needs 6 (some .int)) 12 327 [.inr (.inr (some t))] G (some (.int q.1)) q.2 := by
  refine gMet.of (by decide +kernel) (Nat.le_of_ble_eq_true rfl) ?_
  intro p e R s m args below meth c C hS ls hl
  have C : gC p R s m args meth c cX4_needs 6 RX4 "needs" (some .int) 12 327 E D := C
  obtain ⟨hx, hb, hml, hown, hts, hKn, hRc, hRs, hc1, hc2, hRf, hRl, hr, hlk, hnm⟩ := id C
  have hl : gls ls 6 [(0, .inr (.inr (some t)))] := hl
  generalize s.heap = H at hS ⊢
  unfold fX4_needs at h
  refine g_aload_n hx hb hl 0 rfl dX4_needs_0 ?_
  refine lv_iconst (v := 0) hx hb dX4_needs_1 (by decide) ?_
  refine g_ptI hx hb hown hts hKn hS h fd_4_4_2 (Or.inl (hts _ q1867)) (fun _ z => z) (fun z => nomatch z) dX4_needs_2 (fun G2 h H locs hS => ?_)
  refine g_aload_n hx hb hl 0 rfl dX4_needs_5 ?_
  refine g_rdI hx hb hown hts hKn hS h fd_4_4_4 rfl (Or.inl (hts _ q1869)) (fun _ z => z) dX4_needs_6 (fun x6 h => ?_)
  refine g_istore_n (l1 := [(1, .inl x6), (0, .inr (.inr (some t)))]) hx hb hl (by decide) rfl dX4_needs_9 (fun ls hl => ?_)
  refine lv_iconst (v := (-1)) hx hb dX4_needs_10 (by decide) ?_
  refine g_istore_n (l1 := [(2, .inl (-1)), (1, .inl x6), (0, .inr (.inr (some t)))]) hx hb hl (by decide) rfl dX4_needs_11 (fun ls hl => ?_)
  refine lv_iconst (v := 1) hx hb dX4_needs_12 (by decide) ?_
  refine g_istore_n (l1 := [(3, .inl 1), (2, .inl (-1)), (1, .inl x6), (0, .inr (.inr (some t)))]) hx hb hl (by decide) rfl dX4_needs_13 (fun ls hl => ?_)
  refine lv_iconst (v := 0) hx hb dX4_needs_14 (by decide) ?_
  refine g_istore (l1 := [(4, .inl 0), (3, .inl 1), (2, .inl (-1)), (1, .inl x6), (0, .inr (.inr (some t)))]) hx hb hl (by decide) rfl dX4_needs_15 (fun ls hl => ?_)
  exact sX4_needs_b17 C gFU _ _ _ _ _ _ _ h _ _ _ _ _ hS (gls_sub hl [4, 3, 2, 1, 0] rfl)
/-- SendHallModel.play(IJ)I -/
def fX4_play_b171 (E : g_E) : Nat → Nat → Int32 → Int32 → g_G → Option (Int32 × g_G)
  | 0, _, _, _, _ => none
  | n + 1, t, v4, v5, G =>
    (grI G 4 4 (some t) 59).bind fun x174 =>
    if x174 ≤ v5 then (
      (grI G 4 4 (some t) 3).bind fun x202 =>
      (gpI E G 4 4 (some t) 57 x202).bind fun G205 =>
      (grI G205 4 4 (some t) 8).bind fun x210 =>
      (gpI E G205 4 4 (some t) 58 x210).bind fun G213 =>
      some (v4, G213))
    else (
      (grR G 4 4 (some t) 69).bind fun x181 =>
      (grR G 4 4 (some t) 62).bind fun x187 =>
      (gaI G 100 x187 v5).bind fun x192 =>
      (gsaI E G x181 v5 x192).bind fun G193 =>
      fX4_play_b171 E n t v4 (v5 + 1) G193)
def fX4_play_b133 (E : g_E) : Nat → Nat → Int32 → Int32 → g_G → Option (Int32 × g_G)
  | 0, _, _, _, _ => none
  | n + 1, t, v4, v5, G =>
    if (64 : Int32) ≤ v5 then (
      (grI G 4 4 (some t) 59).bind fun x162 =>
      (gpI E G 4 4 (some t) 68 x162).bind fun G165 =>
      fX4_play_b171 E gFU t v4 0 G165)
    else (
      (grR G 4 4 (some t) 61).bind fun x141 =>
      (grR G 4 4 (some t) 33).bind fun x147 =>
      (gaI G 100 x147 v5).bind fun x152 =>
      (gsaI E G x141 v5 x152).bind fun G153 =>
      fX4_play_b133 E n t v4 (v5 + 1) G153)
def fX4_play_b70 (E : g_E) : Nat → Nat → Int32 → Int32 → g_G → Option (Int32 × g_G)
  | 0, _, _, _, _ => none
  | n + 1, t, v4, v5, G =>
    (grI G 4 4 (some t) 3).bind fun x73 =>
    if x73 ≤ v5 then (
      (gchk G 4 (some t)).bind fun b127 =>
      (fX4_tellRing E b127 G).bind fun z127 =>
      fX4_play_b133 E gFU t v4 0 z127)
    else (
      (grR G 4 4 (some t) 64).bind fun x80 =>
      (gchk G 4 (some t)).bind fun b88 =>
      (fX4_waitsFor E b88 v5 G).bind fun z88 =>
      (gsaI E z88.2 x80 v5 z88.1).bind fun G91 =>
      (grR G91 4 4 (some t) 66).bind fun x93 =>
      (grR G91 4 4 (some t) 36).bind fun x99 =>
      (gaI G91 100 x99 v5).bind fun x104 =>
      (gsaI E G91 x93 v5 x104).bind fun G105 =>
      (grR G105 4 4 (some t) 67).bind fun x107 =>
      (grR G105 4 4 (some t) 37).bind fun x113 =>
      (gaI G105 100 x113 v5).bind fun x118 =>
      (gsaI E G105 x107 v5 x118).bind fun G119 =>
      fX4_play_b70 E n t v4 (v5 + 1) G119)
def fX4_play_b24 (E : g_E) : Nat → Nat → Int32 → Int64 → Int32 → g_G → Option (Int32 × g_G)
  | 0, _, _, _, _, _ => none
  | n + 1, t, v1, v2, v4, G =>
    if v1 ≤ v4 then (
      (gchk G 4 (some t)).bind fun b62 =>
      (fX4_run E b62 v1 v2 G).bind fun z62 =>
      fX4_play_b70 E gFU t z62.1 0 z62.2)
    else (
      (grI G 4 4 (some t) 3).bind fun x41 =>
      if ((Int64.toInt32 (v2 >>> (Int32.toInt64 (4 * v4) &&& 63))) &&& 15) < x41 then (
        fX4_play_b24 E n t v1 v2 (v4 + 1) G)
      else (
        (gchk G 4 (some t)).bind fun b49 =>
        (fX4_fail E b49 1 G).bind fun z49 =>
        some (z49.1, z49.2)))
def fX4_play (E : g_E) (t : Nat) (v1 : Int32) (v2 : Int64) (G : g_G) : Option (Int32 × g_G) :=
  (gpI E G 4 4 (some t) 2 0).bind fun G2 =>
  (fX4_isIn E v1 0 16 G2).bind fun z9 =>
  if ¬ z9.1 = 0 then (
    fX4_play_b24 E gFU t v1 v2 0 z9.2)
  else (
    (gchk z9.2 4 (some t)).bind fun b17 =>
    (fX4_fail E b17 1 z9.2).bind fun z17 =>
    some (z17.1, z17.2))
theorem sX4_play_b171 {p : Program} {l : Launch} {e : Env} {R : Room} {s : State} {m : MethodId} {args : Array Value} {below : List Frame} {meth : Method} {c : Code} {E : g_E} {D : g_D} (C : gC p R s m args meth c cX4_play 6 RX4 "play" (some .int) 11 310 E D) : ∀ (n : Nat) (t : Nat) (v4 : Int32) (v5 : Int32) (G : g_G) (q : Int32 × g_G), fX4_play_b171 E n t v4 v5 G = some q → ∀ (H : Heap) (locs : List Loc) (cells slots : Nat) (ls : Array Slot), gSt E D G H locs → gls ls 6 [(0, .inr (.inr (some t))), (4, .inl v4), (5, .inl v5)] → gT p l e R s m args below meth c E D H locs cells slots (some (.int q.1)) q.2 (F0 m 171 ls []) := by
  obtain ⟨hx, hb, hml, hown, hts, hKn, hRc, hRs, hc1, hc2, hRf, hRl, hr, hlk, hnm⟩ := id C
  intro n
  induction n with
  | zero =>
    intro t v4 v5 G q h
    exact g_no h
  | succ n ih =>
    intro t v4 v5 G q h H locs cells slots ls hS hl
    rw [fX4_play_b171] at h
    refine g_iload hx hb hl 2 rfl dX4_play_171 ?_
    refine g_aload_n hx hb hl 0 rfl dX4_play_173 ?_
    refine g_rdI hx hb hown hts hKn hS h fd_4_4_59 rfl (Or.inl (hts _ q1924)) (fun _ z => z) dX4_play_174 (fun x174 h => ?_)
    refine lv_icmp_ge (tgt := 200) hx hb dX4_play_177 (by decide) (fun c_177 => ?_) (fun c_177 => ?_)
    · have h := g_ift c_177 h
      refine g_aload_n hx hb hl 0 rfl dX4_play_200 ?_
      refine g_aload_n hx hb hl 0 rfl dX4_play_201 ?_
      refine g_rdI hx hb hown hts hKn hS h fd_4_4_3 rfl (Or.inl (hts _ q1868)) (fun _ z => z) dX4_play_202 (fun x202 h => ?_)
      refine g_ptI hx hb hown hts hKn hS h fd_4_4_57 (Or.inl (hts _ q1922)) (fun _ z => z) (fun z => nomatch z) dX4_play_205 (fun G205 h H locs hS => ?_)
      refine g_aload_n hx hb hl 0 rfl dX4_play_208 ?_
      refine g_aload_n hx hb hl 0 rfl dX4_play_209 ?_
      refine g_rdI hx hb hown hts hKn hS h fd_4_4_8 rfl (Or.inl (hts _ q1873)) (fun _ z => z) dX4_play_210 (fun x210 h => ?_)
      refine g_ptI hx hb hown hts hKn hS h fd_4_4_58 (Or.inl (hts _ q1923)) (fun _ z => z) (fun z => nomatch z) dX4_play_213 (fun G213 h H locs hS => ?_)
      refine g_iload hx hb hl 1 rfl dX4_play_216 ?_
      exact g_iretG hx hb hr hlk hKn hRc hRs hS h dX4_play_218
    · have h := g_iff c_177 h
      refine g_aload_n hx hb hl 0 rfl dX4_play_180 ?_
      refine g_rdR hx hb hown hts hKn hS h fd_4_4_69 rfl (Or.inl (hts _ q1934)) (fun _ z => z) dX4_play_181 (fun x181 h => ?_)
      refine g_iload hx hb hl 2 rfl dX4_play_184 ?_
      refine g_aload_n hx hb hl 0 rfl dX4_play_186 ?_
      refine g_rdR hx hb hown hts hKn hS h fd_4_4_62 rfl (Or.inl (hts _ q1927)) (fun _ z => z) dX4_play_187 (fun x187 h => ?_)
      refine g_iload hx hb hl 2 rfl dX4_play_190 ?_
      refine g_ialoadG hx hb hKn hS h dX4_play_192 (fun x192 h => ?_)
      refine g_iastoreG hx hb hKn hS h dX4_play_193 (fun G193 h H locs hS => ?_)
      refine g_iinc (l1 := [(5, .inl (v5 + 1)), (0, .inr (.inr (some t))), (4, .inl v4)]) (v := (v5 + 1)) hx hb hl (k := 2) rfl (by rfl) (by decide) rfl dX4_play_194 (fun ls hl => ?_)
      refine lv_goto (tgt := 171) hx hb dX4_play_197 (by decide) ?_
      exact ih _ _ _ _ _ h _ _ _ _ _ hS (gls_sub hl [1, 2, 0] rfl)
theorem sX4_play_b133 {p : Program} {l : Launch} {e : Env} {R : Room} {s : State} {m : MethodId} {args : Array Value} {below : List Frame} {meth : Method} {c : Code} {E : g_E} {D : g_D} (C : gC p R s m args meth c cX4_play 6 RX4 "play" (some .int) 11 310 E D) : ∀ (n : Nat) (t : Nat) (v4 : Int32) (v5 : Int32) (G : g_G) (q : Int32 × g_G), fX4_play_b133 E n t v4 v5 G = some q → ∀ (H : Heap) (locs : List Loc) (cells slots : Nat) (ls : Array Slot), gSt E D G H locs → gls ls 6 [(0, .inr (.inr (some t))), (4, .inl v4), (5, .inl v5)] → gT p l e R s m args below meth c E D H locs cells slots (some (.int q.1)) q.2 (F0 m 133 ls []) := by
  obtain ⟨hx, hb, hml, hown, hts, hKn, hRc, hRs, hc1, hc2, hRf, hRl, hr, hlk, hnm⟩ := id C
  intro n
  induction n with
  | zero =>
    intro t v4 v5 G q h
    exact g_no h
  | succ n ih =>
    intro t v4 v5 G q h H locs cells slots ls hS hl
    rw [fX4_play_b133] at h
    refine g_iload hx hb hl 2 rfl dX4_play_133 ?_
    refine lv_bipush (v := 64) hx hb dX4_play_135 (by decide) ?_
    refine lv_icmp_ge (tgt := 160) hx hb dX4_play_137 (by decide) (fun c_137 => ?_) (fun c_137 => ?_)
    · have h := g_ift c_137 h
      refine g_aload_n hx hb hl 0 rfl dX4_play_160 ?_
      refine g_aload_n hx hb hl 0 rfl dX4_play_161 ?_
      refine g_rdI hx hb hown hts hKn hS h fd_4_4_59 rfl (Or.inl (hts _ q1924)) (fun _ z => z) dX4_play_162 (fun x162 h => ?_)
      refine g_ptI hx hb hown hts hKn hS h fd_4_4_68 (Or.inl (hts _ q1933)) (fun _ z => z) (fun z => nomatch z) dX4_play_165 (fun G165 h H locs hS => ?_)
      refine lv_iconst (v := 0) hx hb dX4_play_168 (by decide) ?_
      refine g_istore (l1 := [(5, .inl 0), (0, .inr (.inr (some t))), (4, .inl v4)]) hx hb hl (by decide) rfl dX4_play_169 (fun ls hl => ?_)
      exact sX4_play_b171 C gFU _ _ _ _ _ h _ _ _ _ _ hS (gls_sub hl [1, 2, 0] rfl)
    · have h := g_iff c_137 h
      refine g_aload_n hx hb hl 0 rfl dX4_play_140 ?_
      refine g_rdR hx hb hown hts hKn hS h fd_4_4_61 rfl (Or.inl (hts _ q1926)) (fun _ z => z) dX4_play_141 (fun x141 h => ?_)
      refine g_iload hx hb hl 2 rfl dX4_play_144 ?_
      refine g_aload_n hx hb hl 0 rfl dX4_play_146 ?_
      refine g_rdR hx hb hown hts hKn hS h fd_4_4_33 rfl (Or.inl (hts _ q1898)) (fun _ z => z) dX4_play_147 (fun x147 h => ?_)
      refine g_iload hx hb hl 2 rfl dX4_play_150 ?_
      refine g_ialoadG hx hb hKn hS h dX4_play_152 (fun x152 h => ?_)
      refine g_iastoreG hx hb hKn hS h dX4_play_153 (fun G153 h H locs hS => ?_)
      refine g_iinc (l1 := [(5, .inl (v5 + 1)), (0, .inr (.inr (some t))), (4, .inl v4)]) (v := (v5 + 1)) hx hb hl (k := 2) rfl (by rfl) (by decide) rfl dX4_play_154 (fun ls hl => ?_)
      refine lv_goto (tgt := 133) hx hb dX4_play_157 (by decide) ?_
      exact ih _ _ _ _ _ h _ _ _ _ _ hS (gls_sub hl [1, 2, 0] rfl)
theorem sX4_play_b70 {p : Program} {l : Launch} {e : Env} {R : Room} {s : State} {m : MethodId} {args : Array Value} {below : List Frame} {meth : Method} {c : Code} {E : g_E} {D : g_D} (C : gC p R s m args meth c cX4_play 6 RX4 "play" (some .int) 11 310 E D) : ∀ (n : Nat) (t : Nat) (v4 : Int32) (v5 : Int32) (G : g_G) (q : Int32 × g_G), fX4_play_b70 E n t v4 v5 G = some q → ∀ (H : Heap) (locs : List Loc) (cells slots : Nat) (ls : Array Slot), gSt E D G H locs → gls ls 6 [(0, .inr (.inr (some t))), (4, .inl v4), (5, .inl v5)] → gT p l e R s m args below meth c E D H locs cells slots (some (.int q.1)) q.2 (F0 m 70 ls []) := by
  obtain ⟨hx, hb, hml, hown, hts, hKn, hRc, hRs, hc1, hc2, hRf, hRl, hr, hlk, hnm⟩ := id C
  intro n
  induction n with
  | zero =>
    intro t v4 v5 G q h
    exact g_no h
  | succ n ih =>
    intro t v4 v5 G q h H locs cells slots ls hS hl
    rw [fX4_play_b70] at h
    refine g_iload hx hb hl 2 rfl dX4_play_70 ?_
    refine g_aload_n hx hb hl 0 rfl dX4_play_72 ?_
    refine g_rdI hx hb hown hts hKn hS h fd_4_4_3 rfl (Or.inl (hts _ q1868)) (fun _ z => z) dX4_play_73 (fun x73 h => ?_)
    refine lv_icmp_ge (tgt := 126) hx hb dX4_play_76 (by decide) (fun c_76 => ?_) (fun c_76 => ?_)
    · have h := g_ift c_76 h
      refine g_aload_n hx hb hl 0 rfl dX4_play_126 ?_
      obtain ⟨b127, hb127, h⟩ := g_bnd h
      obtain ⟨hr127, hk127⟩ := g_chk hb127
      obtain ⟨z127, h127, h⟩ := g_bnd h
      refine g_callV (n := 0) (b := b127) (av := []) (rs := []) hx hb hml hown hts hKn hRc hRs hS hl (sX4_tellRing l E D h127) (lw_V q2420 q2422 qs110 q135 q2423) ⟨rfl, by decide, by decide, by decide +kernel⟩ ⟨by rw [hRf]; exact Nat.le_of_ble_eq_true rfl, by rw [hRl]; exact Nat.le_of_ble_eq_true rfl⟩ (g_recv hKn hS hk127 (by decide) (by decide)) rfl (by rw [hr127]; rfl) (Nat.le_of_ble_eq_true rfl) dX4_play_127 (fun H locs cells slots hS => ?_)
      refine lv_iconst (v := 0) hx hb dX4_play_130 (by decide) ?_
      refine g_istore (l1 := [(5, .inl 0), (0, .inr (.inr (some t))), (4, .inl v4)]) hx hb hl (by decide) rfl dX4_play_131 (fun ls hl => ?_)
      exact sX4_play_b133 C gFU _ _ _ _ _ h _ _ _ _ _ hS (gls_sub hl [1, 2, 0] rfl)
    · have h := g_iff c_76 h
      refine g_aload_n hx hb hl 0 rfl dX4_play_79 ?_
      refine g_rdR hx hb hown hts hKn hS h fd_4_4_64 rfl (Or.inl (hts _ q1929)) (fun _ z => z) dX4_play_80 (fun x80 h => ?_)
      refine g_iload hx hb hl 2 rfl dX4_play_83 ?_
      refine g_aload_n hx hb hl 0 rfl dX4_play_85 ?_
      refine g_iload hx hb hl 2 rfl dX4_play_86 ?_
      obtain ⟨b88, hb88, h⟩ := g_bnd h
      obtain ⟨hr88, hk88⟩ := g_chk hb88
      obtain ⟨z88, h88, h⟩ := g_bnd h
      refine g_callV (n := 1) (b := b88) (av := [.inl v5]) (rs := [.inl v5, .inr (.inr x80)]) hx hb hml hown hts hKn hRc hRs hS hl (sX4_waitsFor l E D h88) (lw_V q2416 q2418 qs109 q135 q2419) ⟨rfl, by decide, by decide, by decide +kernel⟩ ⟨by rw [hRf]; exact Nat.le_of_ble_eq_true rfl, by rw [hRl]; exact Nat.le_of_ble_eq_true rfl⟩ (g_recv hKn hS hk88 (by decide) (by decide)) rfl (by rw [hr88]; rfl) (Nat.le_of_ble_eq_true rfl) dX4_play_88 (fun H locs cells slots hS => ?_)
      refine g_iastoreG hx hb hKn hS h dX4_play_91 (fun G91 h H locs hS => ?_)
      refine g_aload_n hx hb hl 0 rfl dX4_play_92 ?_
      refine g_rdR hx hb hown hts hKn hS h fd_4_4_66 rfl (Or.inl (hts _ q1931)) (fun _ z => z) dX4_play_93 (fun x93 h => ?_)
      refine g_iload hx hb hl 2 rfl dX4_play_96 ?_
      refine g_aload_n hx hb hl 0 rfl dX4_play_98 ?_
      refine g_rdR hx hb hown hts hKn hS h fd_4_4_36 rfl (Or.inl (hts _ q1901)) (fun _ z => z) dX4_play_99 (fun x99 h => ?_)
      refine g_iload hx hb hl 2 rfl dX4_play_102 ?_
      refine g_ialoadG hx hb hKn hS h dX4_play_104 (fun x104 h => ?_)
      refine g_iastoreG hx hb hKn hS h dX4_play_105 (fun G105 h H locs hS => ?_)
      refine g_aload_n hx hb hl 0 rfl dX4_play_106 ?_
      refine g_rdR hx hb hown hts hKn hS h fd_4_4_67 rfl (Or.inl (hts _ q1932)) (fun _ z => z) dX4_play_107 (fun x107 h => ?_)
      refine g_iload hx hb hl 2 rfl dX4_play_110 ?_
      refine g_aload_n hx hb hl 0 rfl dX4_play_112 ?_
      refine g_rdR hx hb hown hts hKn hS h fd_4_4_37 rfl (Or.inl (hts _ q1902)) (fun _ z => z) dX4_play_113 (fun x113 h => ?_)
      refine g_iload hx hb hl 2 rfl dX4_play_116 ?_
      refine g_ialoadG hx hb hKn hS h dX4_play_118 (fun x118 h => ?_)
      refine g_iastoreG hx hb hKn hS h dX4_play_119 (fun G119 h H locs hS => ?_)
      refine g_iinc (l1 := [(5, .inl (v5 + 1)), (0, .inr (.inr (some t))), (4, .inl v4)]) (v := (v5 + 1)) hx hb hl (k := 2) rfl (by rfl) (by decide) rfl dX4_play_120 (fun ls hl => ?_)
      refine lv_goto (tgt := 70) hx hb dX4_play_123 (by decide) ?_
      exact ih _ _ _ _ _ h _ _ _ _ _ hS (gls_sub hl [1, 2, 0] rfl)
theorem sX4_play_b24 {p : Program} {l : Launch} {e : Env} {R : Room} {s : State} {m : MethodId} {args : Array Value} {below : List Frame} {meth : Method} {c : Code} {E : g_E} {D : g_D} (C : gC p R s m args meth c cX4_play 6 RX4 "play" (some .int) 11 310 E D) : ∀ (n : Nat) (t : Nat) (v1 : Int32) (v2 : Int64) (v4 : Int32) (G : g_G) (q : Int32 × g_G), fX4_play_b24 E n t v1 v2 v4 G = some q → ∀ (H : Heap) (locs : List Loc) (cells slots : Nat) (ls : Array Slot), gSt E D G H locs → gls ls 6 [(0, .inr (.inr (some t))), (1, .inl v1), (2, .inr (.inl v2)), (4, .inl v4)] → gT p l e R s m args below meth c E D H locs cells slots (some (.int q.1)) q.2 (F0 m 24 ls []) := by
  obtain ⟨hx, hb, hml, hown, hts, hKn, hRc, hRs, hc1, hc2, hRf, hRl, hr, hlk, hnm⟩ := id C
  intro n
  induction n with
  | zero =>
    intro t v1 v2 v4 G q h
    exact g_no h
  | succ n ih =>
    intro t v1 v2 v4 G q h H locs cells slots ls hS hl
    rw [fX4_play_b24] at h
    refine g_iload hx hb hl 3 rfl dX4_play_24 ?_
    refine g_iload_n hx hb hl 1 rfl dX4_play_26 ?_
    refine lv_icmp_ge (tgt := 59) hx hb dX4_play_27 (by decide) (fun c_27 => ?_) (fun c_27 => ?_)
    · have h := g_ift c_27 h
      refine g_aload_n hx hb hl 0 rfl dX4_play_59 ?_
      refine g_iload_n hx hb hl 1 rfl dX4_play_60 ?_
      refine g_lload_n hx hb hl 2 rfl dX4_play_61 ?_
      obtain ⟨b62, hb62, h⟩ := g_bnd h
      obtain ⟨hr62, hk62⟩ := g_chk hb62
      obtain ⟨z62, h62, h⟩ := g_bnd h
      refine g_callV (n := 2) (b := b62) (av := [.inl v1, .inr (.inl v2)]) (rs := []) hx hb hml hown hts hKn hRc hRs hS hl (sX4_run l E D h62) (lw_V q2412 q2414 qs108 q135 q2415) ⟨rfl, by decide, by decide, by decide +kernel⟩ ⟨by rw [hRf]; exact Nat.le_of_ble_eq_true rfl, by rw [hRl]; exact Nat.le_of_ble_eq_true rfl⟩ (g_recv hKn hS hk62 (by decide) (by decide)) rfl (by rw [hr62]; rfl) (Nat.le_of_ble_eq_true rfl) dX4_play_62 (fun H locs cells slots hS => ?_)
      refine g_istore (l1 := [(4, .inl z62.1), (0, .inr (.inr (some t))), (1, .inl v1), (2, .inr (.inl v2))]) hx hb hl (by decide) rfl dX4_play_65 (fun ls hl => ?_)
      refine lv_iconst (v := 0) hx hb dX4_play_67 (by decide) ?_
      refine g_istore (l1 := [(5, .inl 0), (4, .inl z62.1), (0, .inr (.inr (some t))), (1, .inl v1), (2, .inr (.inl v2))]) hx hb hl (by decide) rfl dX4_play_68 (fun ls hl => ?_)
      exact sX4_play_b70 C gFU _ _ _ _ _ h _ _ _ _ _ hS (gls_sub hl [2, 1, 0] rfl)
    · have h := g_iff c_27 h
      refine g_lload_n hx hb hl 2 rfl dX4_play_30 ?_
      refine lv_iconst (v := 4) hx hb dX4_play_31 (by decide) ?_
      refine g_iload hx hb hl 3 rfl dX4_play_32 ?_
      refine lv_imul hx hb dX4_play_34 ?_
      refine lv_lshr (v := (v2 >>> (Int32.toInt64 (4 * v4) &&& 63))) hx hb dX4_play_35 rfl ?_
      refine lv_l2i (v := (Int64.toInt32 (v2 >>> (Int32.toInt64 (4 * v4) &&& 63)))) hx hb dX4_play_36 rfl ?_
      refine lv_bipush (v := 15) hx hb dX4_play_37 (by decide) ?_
      refine lv_iand hx hb dX4_play_39 ?_
      refine g_aload_n hx hb hl 0 rfl dX4_play_40 ?_
      refine g_rdI hx hb hown hts hKn hS h fd_4_4_3 rfl (Or.inl (hts _ q1868)) (fun _ z => z) dX4_play_41 (fun x41 h => ?_)
      refine lv_icmp_lt (tgt := 53) hx hb dX4_play_44 (by decide) (fun c_44 => ?_) (fun c_44 => ?_)
      · have h := g_ift c_44 h
        refine g_iinc (l1 := [(4, .inl (v4 + 1)), (0, .inr (.inr (some t))), (1, .inl v1), (2, .inr (.inl v2))]) (v := (v4 + 1)) hx hb hl (k := 3) rfl (by rfl) (by decide) rfl dX4_play_53 (fun ls hl => ?_)
        refine lv_goto (tgt := 24) hx hb dX4_play_56 (by decide) ?_
        exact ih _ _ _ _ _ _ h _ _ _ _ _ hS (gls_sub hl [1, 2, 3, 0] rfl)
      · have h := g_iff c_44 h
        refine g_aload_n hx hb hl 0 rfl dX4_play_47 ?_
        refine lv_iconst (v := 1) hx hb dX4_play_48 (by decide) ?_
        obtain ⟨b49, hb49, h⟩ := g_bnd h
        obtain ⟨hr49, hk49⟩ := g_chk hb49
        obtain ⟨z49, h49, h⟩ := g_bnd h
        refine g_callV (n := 1) (b := b49) (av := [.inl 1]) (rs := []) hx hb hml hown hts hKn hRc hRs hS hl (sX4_fail l E D h49) (lw_V q2088 q2090 qs48 q135 q2091) ⟨rfl, by decide, by decide, by decide +kernel⟩ ⟨by rw [hRf]; exact Nat.le_of_ble_eq_true rfl, by rw [hRl]; exact Nat.le_of_ble_eq_true rfl⟩ (g_recv hKn hS hk49 (by decide) (by decide)) rfl (by rw [hr49]; rfl) (Nat.le_of_ble_eq_true rfl) dX4_play_49 (fun H locs cells slots hS => ?_)
        exact g_iretG hx hb hr hlk hKn hRc hRs hS h dX4_play_52
theorem sX4_play (l : Launch) (E : g_E) (D : g_D) {t : Nat} {v1 : Int32} {v2 : Int64} {G : g_G} {q : Int32 × g_G} (h : fX4_play E t v1 v2 G = some q) : gMet l E D yX4_play (ws_ yX4_play cX4_play 6 (some .int)) 11 310 [.inr (.inr (some t)), .inl v1, .inr (.inl v2)] G (some (.int q.1)) q.2 := by
  refine gMet.of (by decide +kernel) (Nat.le_of_ble_eq_true rfl) ?_
  intro p e R s m args below meth c C hS ls hl
  have C : gC p R s m args meth c cX4_play 6 RX4 "play" (some .int) 11 310 E D := C
  obtain ⟨hx, hb, hml, hown, hts, hKn, hRc, hRs, hc1, hc2, hRf, hRl, hr, hlk, hnm⟩ := id C
  have hl : gls ls 6 [(0, .inr (.inr (some t))), (1, .inl v1), (2, .inr (.inl v2))] := hl
  generalize s.heap = H at hS ⊢
  unfold fX4_play at h
  refine g_aload_n hx hb hl 0 rfl dX4_play_0 ?_
  refine lv_iconst (v := 0) hx hb dX4_play_1 (by decide) ?_
  refine g_ptI hx hb hown hts hKn hS h fd_4_4_2 (Or.inl (hts _ q1867)) (fun _ z => z) (fun z => nomatch z) dX4_play_2 (fun G2 h H locs hS => ?_)
  refine g_iload_n hx hb hl 1 rfl dX4_play_5 ?_
  refine lv_iconst (v := 0) hx hb dX4_play_6 (by decide) ?_
  refine lv_bipush (v := 16) hx hb dX4_play_7 (by decide) ?_
  obtain ⟨z9, h9, h⟩ := g_bnd h
  refine g_callS (n := 3) (av := [.inl v1, .inl 0, .inl 16]) (rs := []) hx hb hml hown hts hKn hRc hRs hS hl (sX4_isIn l E D h9) (lw_S q2180 q2181 q135 q2182) ⟨by decide, by decide, by decide +kernel⟩ ⟨by rw [hRf]; exact Nat.le_of_ble_eq_true rfl, by rw [hRl]; exact Nat.le_of_ble_eq_true rfl⟩ rfl rfl (Nat.le_of_ble_eq_true rfl) dX4_play_9 (fun H locs cells slots hS => ?_)
  refine lv_if_ne (tgt := 21) hx hb dX4_play_12 (by decide) (fun c_12 => ?_) (fun c_12 => ?_)
  · have h := g_ift c_12 h
    refine lv_iconst (v := 0) hx hb dX4_play_21 (by decide) ?_
    refine g_istore (l1 := [(4, .inl 0), (0, .inr (.inr (some t))), (1, .inl v1), (2, .inr (.inl v2))]) hx hb hl (by decide) rfl dX4_play_22 (fun ls hl => ?_)
    exact sX4_play_b24 C gFU _ _ _ _ _ _ h _ _ _ _ _ hS (gls_sub hl [1, 2, 3, 0] rfl)
  · have h := g_iff (fun z => z c_12) h
    refine g_aload_n hx hb hl 0 rfl dX4_play_15 ?_
    refine lv_iconst (v := 1) hx hb dX4_play_16 (by decide) ?_
    obtain ⟨b17, hb17, h⟩ := g_bnd h
    obtain ⟨hr17, hk17⟩ := g_chk hb17
    obtain ⟨z17, h17, h⟩ := g_bnd h
    refine g_callV (n := 1) (b := b17) (av := [.inl 1]) (rs := []) hx hb hml hown hts hKn hRc hRs hS hl (sX4_fail l E D h17) (lw_V q2088 q2090 qs48 q135 q2091) ⟨rfl, by decide, by decide, by decide +kernel⟩ ⟨by rw [hRf]; exact Nat.le_of_ble_eq_true rfl, by rw [hRl]; exact Nat.le_of_ble_eq_true rfl⟩ (g_recv hKn hS hk17 (by decide) (by decide)) rfl (by rw [hr17]; rfl) (Nat.le_of_ble_eq_true rfl) dX4_play_17 (fun H locs cells slots hS => ?_)
    exact g_iretG hx hb hr hlk hKn hRc hRs hS h dX4_play_20
/-- SendHallModel.readBranches(II)V -/
def fX4_readBranches_b62 (E : g_E) (fN : g_E → Nat → Int32 → Int32 → g_G → Option (Int32 × g_G)) (t : Nat) (G : g_G) : Option (g_G) :=
  (gchk G 4 (some t)).bind fun b66 =>
  (fX4_word E b66 (some (gA E 55)) G).bind fun z66 =>
  some z66
def fX4_readBranches (E : g_E) (fN : g_E → Nat → Int32 → Int32 → g_G → Option (Int32 × g_G)) (t : Nat) (v1 : Int32) (v2 : Int32) (G : g_G) : Option (g_G) :=
  (gchk G 4 (some t)).bind fun b4 =>
  (fX4_readInto E b4 v1 0 1 G).bind fun z4 =>
  (gchk z4 4 (some t)).bind fun b11 =>
  (fX4_word E b11 (some (gA E 53)) z4).bind fun z11 =>
  (grR z11 4 4 (some t) 30).bind fun x15 =>
  (gchk z11 4 (some t)).bind fun b27 =>
  (fN E b27 (v2 + 1) v1 z11).bind fun z27 =>
  (gsaI E z27.2 x15 (40 + v1) z27.1).bind fun G30 =>
  (gchk G30 4 (some t)).bind fun b35 =>
  (fX4_is E b35 (some (gA E 54)) G30).bind fun z35 =>
  if z35.1 = 0 then (
    fX4_readBranches_b62 E fN t z35.2)
  else (
    (gchk z35.2 4 (some t)).bind fun b42 =>
    (fX4_stepOn E b42 z35.2).bind fun z42 =>
    (grR z42 4 4 (some t) 31).bind fun x46 =>
    (gchk z42 4 (some t)).bind fun b58 =>
    (fN E b58 (v2 + 1) v1 z42).bind fun z58 =>
    (gsaI E z58.2 x46 (40 + v1) z58.1).bind fun G61 =>
    fX4_readBranches_b62 E fN t G61)
theorem sX4_readBranches_b62 {p : Program} {l : Launch} {e : Env} {R : Room} {s : State} {m : MethodId} {args : Array Value} {below : List Frame} {meth : Method} {c : Code} {E : g_E} {D : g_D} {fN : g_E → Nat → Int32 → Int32 → g_G → Option (Int32 × g_G)} {fF : Nat} {fL : Nat} (C : gC p R s m args meth c cX4_readBranches 3 RX4 "readBranches" (none) (fF + 2) (fL + 100) E D) (hfN : ∀ (l : Launch) (E : g_E) (D : g_D), ∀ {t : Nat} {v1 : Int32} {v2 : Int32} {G : g_G} {q : Int32 × g_G}, fN E t v1 v2 G = some q → gMet l E D yX4_readSteps (ws_ yX4_readSteps cX4_readSteps 6 (some .int)) fF fL [.inr (.inr (some t)), .inl v1, .inl v2] G (some (.int q.1)) q.2) (hF : 200 ≤ fF) (hL : 12000 ≤ fL) : ∀ (t : Nat) (G : g_G) (q : g_G), fX4_readBranches_b62 E fN t G = some q → ∀ (H : Heap) (locs : List Loc) (cells slots : Nat) (ls : Array Slot), gSt E D G H locs → gls ls 3 [(0, .inr (.inr (some t)))] → gT p l e R s m args below meth c E D H locs cells slots none q (F0 m 62 ls []) := by
  obtain ⟨hx, hb, hml, hown, hts, hKn, hRc, hRs, hc1, hc2, hRf, hRl, hr, hlk, hnm⟩ := id C
  intro t G q h H locs cells slots ls hS hl
  unfold fX4_readBranches_b62 at h
  refine g_aload_n hx hb hl 0 rfl dX4_readBranches_62 ?_
  refine g_ldcwS (i := 55) hx hb hown hKn (List.mem_of_getElem? (i := 56) rfl) dX4_readBranches_63 ?_
  obtain ⟨b66, hb66, h⟩ := g_bnd h
  obtain ⟨hr66, hk66⟩ := g_chk hb66
  obtain ⟨z66, h66, h⟩ := g_bnd h
  refine g_callV (n := 1) (b := b66) (av := [.inr (.inr (some (gA E 55)))]) (rs := []) hx hb hml hown hts hKn hRc hRs hS hl (sX4_word l E D h66) (lw_V q2169 q2171 qs65 q135 q2172) ⟨rfl, by decide, by decide, by decide +kernel⟩ ⟨by rw [hRf]; omega, by rw [hRl]; omega⟩ (g_recv hKn hS hk66 (by decide) (by decide)) rfl (by rw [hr66]; rfl) (Nat.le_of_ble_eq_true rfl) dX4_readBranches_66 (fun H locs cells slots hS => ?_)
  exact g_vretG hx hb hr hlk hKn hRc hRs hS h dX4_readBranches_69
theorem sX4_readBranches (l : Launch) (E : g_E) (D : g_D) {fN : g_E → Nat → Int32 → Int32 → g_G → Option (Int32 × g_G)} {fF : Nat} {fL : Nat} (hfN : ∀ (l : Launch) (E : g_E) (D : g_D), ∀ {t : Nat} {v1 : Int32} {v2 : Int32} {G : g_G} {q : Int32 × g_G}, fN E t v1 v2 G = some q → gMet l E D yX4_readSteps (ws_ yX4_readSteps cX4_readSteps 6 (some .int)) fF fL [.inr (.inr (some t)), .inl v1, .inl v2] G (some (.int q.1)) q.2) (hF : 200 ≤ fF) (hL : 12000 ≤ fL) {t : Nat} {v1 : Int32} {v2 : Int32} {G : g_G} {q : g_G} (h : fX4_readBranches E fN t v1 v2 G = some q) : gMet l E D yX4_readBranches (ws_ yX4_readBranches cX4_readBranches 3 (none)) (fF + 2) (fL + 100) [.inr (.inr (some t)), .inl v1, .inl v2] G none q := by
  refine gMet.of (by decide +kernel) (Nat.le_of_ble_eq_true rfl) ?_
  intro p e R s m args below meth c C hS ls hl
  have C : gC p R s m args meth c cX4_readBranches 3 RX4 "readBranches" (none) (fF + 2) (fL + 100) E D := C
  obtain ⟨hx, hb, hml, hown, hts, hKn, hRc, hRs, hc1, hc2, hRf, hRl, hr, hlk, hnm⟩ := id C
  have hl : gls ls 3 [(0, .inr (.inr (some t))), (1, .inl v1), (2, .inl v2)] := hl
  generalize s.heap = H at hS ⊢
  unfold fX4_readBranches at h
  refine g_aload_n hx hb hl 0 rfl dX4_readBranches_0 ?_
  refine g_iload_n hx hb hl 1 rfl dX4_readBranches_1 ?_
  refine lv_iconst (v := 0) hx hb dX4_readBranches_2 (by decide) ?_
  refine lv_iconst (v := 1) hx hb dX4_readBranches_3 (by decide) ?_
  obtain ⟨b4, hb4, h⟩ := g_bnd h
  obtain ⟨hr4, hk4⟩ := g_chk hb4
  obtain ⟨z4, h4, h⟩ := g_bnd h
  refine g_callV (n := 3) (b := b4) (av := [.inl v1, .inl 0, .inl 1]) (rs := []) hx hb hml hown hts hKn hRc hRs hS hl (sX4_readInto l E D h4) (lw_V q2132 q2134 qs56 q135 q2135) ⟨rfl, by decide, by decide, by decide +kernel⟩ ⟨by rw [hRf]; omega, by rw [hRl]; omega⟩ (g_recv hKn hS hk4 (by decide) (by decide)) rfl (by rw [hr4]; rfl) (Nat.le_of_ble_eq_true rfl) dX4_readBranches_4 (fun H locs cells slots hS => ?_)
  refine g_aload_n hx hb hl 0 rfl dX4_readBranches_7 ?_
  refine g_ldcwS (i := 53) hx hb hown hKn (List.mem_of_getElem? (i := 62) rfl) dX4_readBranches_8 ?_
  obtain ⟨b11, hb11, h⟩ := g_bnd h
  obtain ⟨hr11, hk11⟩ := g_chk hb11
  obtain ⟨z11, h11, h⟩ := g_bnd h
  refine g_callV (n := 1) (b := b11) (av := [.inr (.inr (some (gA E 53)))]) (rs := []) hx hb hml hown hts hKn hRc hRs hS hl (sX4_word l E D h11) (lw_V q2169 q2171 qs65 q135 q2172) ⟨rfl, by decide, by decide, by decide +kernel⟩ ⟨by rw [hRf]; omega, by rw [hRl]; omega⟩ (g_recv hKn hS hk11 (by decide) (by decide)) rfl (by rw [hr11]; rfl) (Nat.le_of_ble_eq_true rfl) dX4_readBranches_11 (fun H locs cells slots hS => ?_)
  refine g_aload_n hx hb hl 0 rfl dX4_readBranches_14 ?_
  refine g_rdR hx hb hown hts hKn hS h fd_4_4_30 rfl (Or.inl (hts _ q1895)) (fun _ z => z) dX4_readBranches_15 (fun x15 h => ?_)
  refine lv_bipush (v := 40) hx hb dX4_readBranches_18 (by decide) ?_
  refine g_iload_n hx hb hl 1 rfl dX4_readBranches_20 ?_
  refine lv_iadd hx hb dX4_readBranches_21 ?_
  refine g_aload_n hx hb hl 0 rfl dX4_readBranches_22 ?_
  refine g_iload_n hx hb hl 2 rfl dX4_readBranches_23 ?_
  refine lv_iconst (v := 1) hx hb dX4_readBranches_24 (by decide) ?_
  refine lv_iadd hx hb dX4_readBranches_25 ?_
  refine g_iload_n hx hb hl 1 rfl dX4_readBranches_26 ?_
  obtain ⟨b27, hb27, h⟩ := g_bnd h
  obtain ⟨hr27, hk27⟩ := g_chk hb27
  obtain ⟨z27, h27, h⟩ := g_bnd h
  refine g_callV (n := 2) (b := b27) (av := [.inl (v2 + 1), .inl v1]) (rs := [.inl (40 + v1), .inr (.inr x15)]) hx hb hml hown hts hKn hRc hRs hS hl (hfN l E D h27) (lw_V q2108 q2110 qs51 q135 q2111) ⟨rfl, by decide, by decide, by decide +kernel⟩ ⟨by rw [hRf]; omega, by rw [hRl]; omega⟩ (g_recv hKn hS hk27 (by decide) (by decide)) rfl (by rw [hr27]; rfl) (Nat.le_of_ble_eq_true rfl) dX4_readBranches_27 (fun H locs cells slots hS => ?_)
  refine g_iastoreG hx hb hKn hS h dX4_readBranches_30 (fun G30 h H locs hS => ?_)
  refine g_aload_n hx hb hl 0 rfl dX4_readBranches_31 ?_
  refine g_ldcwS (i := 54) hx hb hown hKn (List.mem_of_getElem? (i := 55) rfl) dX4_readBranches_32 ?_
  obtain ⟨b35, hb35, h⟩ := g_bnd h
  obtain ⟨hr35, hk35⟩ := g_chk hb35
  obtain ⟨z35, h35, h⟩ := g_bnd h
  refine g_callV (n := 1) (b := b35) (av := [.inr (.inr (some (gA E 54)))]) (rs := []) hx hb hml hown hts hKn hRc hRs hS hl (sX4_is l E D h35) (lw_V q2113 q2115 qs52 q135 q2116) ⟨rfl, by decide, by decide, by decide +kernel⟩ ⟨by rw [hRf]; omega, by rw [hRl]; omega⟩ (g_recv hKn hS hk35 (by decide) (by decide)) rfl (by rw [hr35]; rfl) (Nat.le_of_ble_eq_true rfl) dX4_readBranches_35 (fun H locs cells slots hS => ?_)
  refine lv_if_eq (tgt := 62) hx hb dX4_readBranches_38 (by decide) (fun c_38 => ?_) (fun c_38 => ?_)
  · have h := g_ift c_38 h
    exact sX4_readBranches_b62 C hfN hF hL _ _ _ h _ _ _ _ _ hS (gls_sub hl [0] rfl)
  · have h := g_iff c_38 h
    refine g_aload_n hx hb hl 0 rfl dX4_readBranches_41 ?_
    obtain ⟨b42, hb42, h⟩ := g_bnd h
    obtain ⟨hr42, hk42⟩ := g_chk hb42
    obtain ⟨z42, h42, h⟩ := g_bnd h
    refine g_callV (n := 0) (b := b42) (av := []) (rs := []) hx hb hml hown hts hKn hRc hRs hS hl (sX4_stepOn l E D h42) (lw_V q2092 q2094 qs49 q135 q2095) ⟨rfl, by decide, by decide, by decide +kernel⟩ ⟨by rw [hRf]; omega, by rw [hRl]; omega⟩ (g_recv hKn hS hk42 (by decide) (by decide)) rfl (by rw [hr42]; rfl) (Nat.le_of_ble_eq_true rfl) dX4_readBranches_42 (fun H locs cells slots hS => ?_)
    refine g_aload_n hx hb hl 0 rfl dX4_readBranches_45 ?_
    refine g_rdR hx hb hown hts hKn hS h fd_4_4_31 rfl (Or.inl (hts _ q1896)) (fun _ z => z) dX4_readBranches_46 (fun x46 h => ?_)
    refine lv_bipush (v := 40) hx hb dX4_readBranches_49 (by decide) ?_
    refine g_iload_n hx hb hl 1 rfl dX4_readBranches_51 ?_
    refine lv_iadd hx hb dX4_readBranches_52 ?_
    refine g_aload_n hx hb hl 0 rfl dX4_readBranches_53 ?_
    refine g_iload_n hx hb hl 2 rfl dX4_readBranches_54 ?_
    refine lv_iconst (v := 1) hx hb dX4_readBranches_55 (by decide) ?_
    refine lv_iadd hx hb dX4_readBranches_56 ?_
    refine g_iload_n hx hb hl 1 rfl dX4_readBranches_57 ?_
    obtain ⟨b58, hb58, h⟩ := g_bnd h
    obtain ⟨hr58, hk58⟩ := g_chk hb58
    obtain ⟨z58, h58, h⟩ := g_bnd h
    refine g_callV (n := 2) (b := b58) (av := [.inl (v2 + 1), .inl v1]) (rs := [.inl (40 + v1), .inr (.inr x46)]) hx hb hml hown hts hKn hRc hRs hS hl (hfN l E D h58) (lw_V q2108 q2110 qs51 q135 q2111) ⟨rfl, by decide, by decide, by decide +kernel⟩ ⟨by rw [hRf]; omega, by rw [hRl]; omega⟩ (g_recv hKn hS hk58 (by decide) (by decide)) rfl (by rw [hr58]; rfl) (Nat.le_of_ble_eq_true rfl) dX4_readBranches_58 (fun H locs cells slots hS => ?_)
    refine g_iastoreG hx hb hKn hS h dX4_readBranches_61 (fun G61 h H locs hS => ?_)
    exact sX4_readBranches_b62 C hfN hF hL _ _ _ h _ _ _ _ _ hS (gls_sub hl [0] rfl)
