set_option maxRecDepth 100000
/-- SendHall$Life.sent(II)I -/
def fX3_sent_b43 (E : g_E) (k5 : Nat → Int32 → Int32 → Int32 → Int32 → g_G → Option (Int32 × g_G)) (t : Nat) (v1 : Int32) (v2 : Int32) (v3 : Int32) (v4 : Int32) (G : g_G) : Option (Int32 × g_G) :=
  k5 t v1 v2 v3 (v4 + 1) G
def fX3_sent_b5 (E : g_E) : Nat → Nat → Int32 → Int32 → Int32 → Int32 → g_G → Option (Int32 × g_G)
  | 0, _, _, _, _, _, _ => none
  | n + 1, t, v1, v2, v3, v4, G =>
    (grI G 3 3 (some t) 1).bind fun x8 =>
    if x8 ≤ v4 then (
      some (v3, G))
    else (
      (grR G 3 3 (some t) 8).bind fun x15 =>
      (gaI G 100 x15 v4).bind fun x20 =>
      if ¬ x20 = ((8 * v1) + v2) then (
        fX3_sent_b43 E (fX3_sent_b5 E n) t v1 v2 v3 v4 G)
      else (
        (grR G 3 3 (some t) 11).bind fun x31 =>
        (gaI G 100 x31 v4).bind fun x36 =>
        if x36 ≤ 0 then (
          fX3_sent_b43 E (fX3_sent_b5 E n) t v1 v2 v3 v4 G)
        else (
          fX3_sent_b43 E (fX3_sent_b5 E n) t v1 v2 (v3 + 1) v4 G)))
def fX3_sent (E : g_E) (t : Nat) (v1 : Int32) (v2 : Int32) (G : g_G) : Option (Int32 × g_G) :=
  fX3_sent_b5 E gFU t v1 v2 0 0 G
theorem sX3_sent_b43 {p : Program} {l : Launch} {e : Env} {R : Room} {s : State} {m : MethodId} {args : Array Value} {below : List Frame} {meth : Method} {c : Code} {E : g_E} {D : g_D} (C : gC p R s m args meth c cX3_sent 5 RX3 "sent" (some .int) 1 64 E D) {k5 : Nat → Int32 → Int32 → Int32 → Int32 → g_G → Option (Int32 × g_G)} (hk5 : ∀ (t : Nat) (v1 : Int32) (v2 : Int32) (v3 : Int32) (v4 : Int32) (G : g_G) (q : Int32 × g_G), k5 t v1 v2 v3 v4 G = some q → ∀ (H : Heap) (locs : List Loc) (cells slots : Nat) (ls : Array Slot), gSt E D G H locs → gls ls 5 [(0, .inr (.inr (some t))), (1, .inl v1), (2, .inl v2), (3, .inl v3), (4, .inl v4)] → gT p l e R s m args below meth c E D H locs cells slots (some (.int q.1)) q.2 (F0 m 5 ls [])) : ∀ (t : Nat) (v1 : Int32) (v2 : Int32) (v3 : Int32) (v4 : Int32) (G : g_G) (q : Int32 × g_G), fX3_sent_b43 E k5 t v1 v2 v3 v4 G = some q → ∀ (H : Heap) (locs : List Loc) (cells slots : Nat) (ls : Array Slot), gSt E D G H locs → gls ls 5 [(0, .inr (.inr (some t))), (1, .inl v1), (2, .inl v2), (3, .inl v3), (4, .inl v4)] → gT p l e R s m args below meth c E D H locs cells slots (some (.int q.1)) q.2 (F0 m 43 ls []) := by
  obtain ⟨hx, hb, hml, hown, hts, hKn, hRc, hRs, hc1, hc2, hRf, hRl, hr, hlk, hnm⟩ := id C
  intro t v1 v2 v3 v4 G q h H locs cells slots ls hS hl
  unfold fX3_sent_b43 at h
  refine g_iinc (l1 := [(4, .inl (v4 + 1)), (0, .inr (.inr (some t))), (1, .inl v1), (2, .inl v2), (3, .inl v3)]) (v := (v4 + 1)) hx hb hl (k := 4) rfl (by rfl) (by decide) rfl dX3_sent_43 (fun ls hl => ?_)
  refine lv_goto (tgt := 5) hx hb dX3_sent_46 (by decide) ?_
  exact hk5 _ _ _ _ _ _ _ h _ _ _ _ _ hS (gls_sub hl [1, 2, 3, 4, 0] rfl)
theorem sX3_sent_b5 {p : Program} {l : Launch} {e : Env} {R : Room} {s : State} {m : MethodId} {args : Array Value} {below : List Frame} {meth : Method} {c : Code} {E : g_E} {D : g_D} (C : gC p R s m args meth c cX3_sent 5 RX3 "sent" (some .int) 1 64 E D) : ∀ (n : Nat) (t : Nat) (v1 : Int32) (v2 : Int32) (v3 : Int32) (v4 : Int32) (G : g_G) (q : Int32 × g_G), fX3_sent_b5 E n t v1 v2 v3 v4 G = some q → ∀ (H : Heap) (locs : List Loc) (cells slots : Nat) (ls : Array Slot), gSt E D G H locs → gls ls 5 [(0, .inr (.inr (some t))), (1, .inl v1), (2, .inl v2), (3, .inl v3), (4, .inl v4)] → gT p l e R s m args below meth c E D H locs cells slots (some (.int q.1)) q.2 (F0 m 5 ls []) := by
  obtain ⟨hx, hb, hml, hown, hts, hKn, hRc, hRs, hc1, hc2, hRf, hRl, hr, hlk, hnm⟩ := id C
  intro n
  induction n with
  | zero =>
    intro t v1 v2 v3 v4 G q h
    exact g_no h
  | succ n ih =>
    intro t v1 v2 v3 v4 G q h H locs cells slots ls hS hl
    rw [fX3_sent_b5] at h
    refine g_iload hx hb hl 4 rfl dX3_sent_5 ?_
    refine g_aload_n hx hb hl 0 rfl dX3_sent_7 ?_
    refine g_rdI hx hb hown hts hKn hS h fd_3_3_1 rfl (Or.inl (hts _ q542)) (fun _ z => z) dX3_sent_8 (fun x8 h => ?_)
    refine lv_icmp_ge (tgt := 49) hx hb dX3_sent_11 (by decide) (fun c_11 => ?_) (fun c_11 => ?_)
    · have h := g_ift c_11 h
      refine g_iload_n hx hb hl 3 rfl dX3_sent_49 ?_
      exact g_iretG hx hb hr hlk hKn hRc hRs hS h dX3_sent_50
    · have h := g_iff c_11 h
      refine g_aload_n hx hb hl 0 rfl dX3_sent_14 ?_
      refine g_rdR hx hb hown hts hKn hS h fd_3_3_8 rfl (Or.inl (hts _ q560)) (fun _ z => z) dX3_sent_15 (fun x15 h => ?_)
      refine g_iload hx hb hl 4 rfl dX3_sent_18 ?_
      refine g_ialoadG hx hb hKn hS h dX3_sent_20 (fun x20 h => ?_)
      refine lv_bipush (v := 8) hx hb dX3_sent_21 (by decide) ?_
      refine g_iload_n hx hb hl 1 rfl dX3_sent_23 ?_
      refine lv_imul hx hb dX3_sent_24 ?_
      refine g_iload_n hx hb hl 2 rfl dX3_sent_25 ?_
      refine lv_iadd hx hb dX3_sent_26 ?_
      refine lv_icmp_ne (tgt := 43) hx hb dX3_sent_27 (by decide) (fun c_27 => ?_) (fun c_27 => ?_)
      · have h := g_ift c_27 h
        exact sX3_sent_b43 C ih _ _ _ _ _ _ _ h _ _ _ _ _ hS (gls_sub hl [0, 1, 2, 3, 4] rfl)
      · have h := g_iff (fun z => z c_27) h
        refine g_aload_n hx hb hl 0 rfl dX3_sent_30 ?_
        refine g_rdR hx hb hown hts hKn hS h fd_3_3_11 rfl (Or.inl (hts _ q564)) (fun _ z => z) dX3_sent_31 (fun x31 h => ?_)
        refine g_iload hx hb hl 4 rfl dX3_sent_34 ?_
        refine g_ialoadG hx hb hKn hS h dX3_sent_36 (fun x36 h => ?_)
        refine lv_if_le (tgt := 43) hx hb dX3_sent_37 (by decide) (fun c_37 => ?_) (fun c_37 => ?_)
        · have h := g_ift c_37 h
          exact sX3_sent_b43 C ih _ _ _ _ _ _ _ h _ _ _ _ _ hS (gls_sub hl [0, 1, 2, 3, 4] rfl)
        · have h := g_iff c_37 h
          refine g_iinc (l1 := [(3, .inl (v3 + 1)), (0, .inr (.inr (some t))), (1, .inl v1), (2, .inl v2), (4, .inl v4)]) (v := (v3 + 1)) hx hb hl (k := 3) rfl (by rfl) (by decide) rfl dX3_sent_40 (fun ls hl => ?_)
          exact sX3_sent_b43 C ih _ _ _ _ _ _ _ h _ _ _ _ _ hS (gls_sub hl [1, 2, 3, 0, 4] rfl)
theorem sX3_sent (l : Launch) (E : g_E) (D : g_D) {t : Nat} {v1 : Int32} {v2 : Int32} {G : g_G} {q : Int32 × g_G} (h : fX3_sent E t v1 v2 G = some q) : gMet l E D yX3_sent (ws_ yX3_sent cX3_sent 5 (some .int)) 1 64 [.inr (.inr (some t)), .inl v1, .inl v2] G (some (.int q.1)) q.2 := by
  refine gMet.of (by decide +kernel) (Nat.le_of_ble_eq_true rfl) ?_
  intro p e R s m args below meth c C hS ls hl
  have C : gC p R s m args meth c cX3_sent 5 RX3 "sent" (some .int) 1 64 E D := C
  obtain ⟨hx, hb, hml, hown, hts, hKn, hRc, hRs, hc1, hc2, hRf, hRl, hr, hlk, hnm⟩ := id C
  have hl : gls ls 5 [(0, .inr (.inr (some t))), (1, .inl v1), (2, .inl v2)] := hl
  generalize s.heap = H at hS ⊢
  unfold fX3_sent at h
  refine lv_iconst (v := 0) hx hb dX3_sent_0 (by decide) ?_
  refine g_istore_n (l1 := [(3, .inl 0), (0, .inr (.inr (some t))), (1, .inl v1), (2, .inl v2)]) hx hb hl (by decide) rfl dX3_sent_1 (fun ls hl => ?_)
  refine lv_iconst (v := 0) hx hb dX3_sent_2 (by decide) ?_
  refine g_istore (l1 := [(4, .inl 0), (3, .inl 0), (0, .inr (.inr (some t))), (1, .inl v1), (2, .inl v2)]) hx hb hl (by decide) rfl dX3_sent_3 (fun ls hl => ?_)
  exact sX3_sent_b5 C gFU _ _ _ _ _ _ _ h _ _ _ _ _ hS (gls_sub hl [2, 3, 4, 1, 0] rfl)
/-- SendHall$Life.takeOut(I)V -/
def fX3_takeOut_b12 (E : g_E) : Nat → Nat → Int32 → g_G → Option (g_G)
  | 0, _, _, _ => none
  | n + 1, t, v2, G =>
    (grI G 3 3 (some t) 1).bind fun x14 =>
    if x14 ≤ v2 then (
      some G)
    else (
      (gchk G 3 (some t)).bind fun b26 =>
      (fX3_put E b26 v2 (some t) (v2 + 1) G).bind fun z26 =>
      fX3_takeOut_b12 E n t (v2 + 1) z26)
def fX3_takeOut (E : g_E) (t : Nat) (v1 : Int32) (G : g_G) : Option (g_G) :=
  (grI G 3 3 (some t) 1).bind fun x2 =>
  (gpI E G 3 3 (some t) 1 (x2 - 1)).bind fun G7 =>
  fX3_takeOut_b12 E gFU t v1 G7
theorem sX3_takeOut_b12 {p : Program} {l : Launch} {e : Env} {R : Room} {s : State} {m : MethodId} {args : Array Value} {below : List Frame} {meth : Method} {c : Code} {E : g_E} {D : g_D} (C : gC p R s m args meth c cX3_takeOut 3 RX3 "takeOut" (none) 2 87 E D) : ∀ (n : Nat) (t : Nat) (v2 : Int32) (G : g_G) (q : g_G), fX3_takeOut_b12 E n t v2 G = some q → ∀ (H : Heap) (locs : List Loc) (cells slots : Nat) (ls : Array Slot), gSt E D G H locs → gls ls 3 [(0, .inr (.inr (some t))), (2, .inl v2)] → gT p l e R s m args below meth c E D H locs cells slots none q (F0 m 12 ls []) := by
  obtain ⟨hx, hb, hml, hown, hts, hKn, hRc, hRs, hc1, hc2, hRf, hRl, hr, hlk, hnm⟩ := id C
  intro n
  induction n with
  | zero =>
    intro t v2 G q h
    exact g_no h
  | succ n ih =>
    intro t v2 G q h H locs cells slots ls hS hl
    rw [fX3_takeOut_b12] at h
    refine g_iload_n hx hb hl 1 rfl dX3_takeOut_12 ?_
    refine g_aload_n hx hb hl 0 rfl dX3_takeOut_13 ?_
    refine g_rdI hx hb hown hts hKn hS h fd_3_3_1 rfl (Or.inl (hts _ q542)) (fun _ z => z) dX3_takeOut_14 (fun x14 h => ?_)
    refine lv_icmp_ge (tgt := 35) hx hb dX3_takeOut_17 (by decide) (fun c_17 => ?_) (fun c_17 => ?_)
    · have h := g_ift c_17 h
      exact g_vretG hx hb hr hlk hKn hRc hRs hS h dX3_takeOut_35
    · have h := g_iff c_17 h
      refine g_aload_n hx hb hl 0 rfl dX3_takeOut_20 ?_
      refine g_iload_n hx hb hl 1 rfl dX3_takeOut_21 ?_
      refine g_aload_n hx hb hl 0 rfl dX3_takeOut_22 ?_
      refine g_iload_n hx hb hl 1 rfl dX3_takeOut_23 ?_
      refine lv_iconst (v := 1) hx hb dX3_takeOut_24 (by decide) ?_
      refine lv_iadd hx hb dX3_takeOut_25 ?_
      obtain ⟨b26, hb26, h⟩ := g_bnd h
      obtain ⟨hr26, hk26⟩ := g_chk hb26
      obtain ⟨z26, h26, h⟩ := g_bnd h
      refine g_callV (n := 3) (b := b26) (av := [.inl v2, .inr (.inr (some t)), .inl (v2 + 1)]) (rs := []) hx hb hml hown hts hKn hRc hRs hS hl (sX3_put l E D h26) (lw_V q907 q909 qs11 q134 q910) ⟨rfl, by decide, by decide, by decide +kernel⟩ ⟨by rw [hRf]; exact Nat.le_of_ble_eq_true rfl, by rw [hRl]; exact Nat.le_of_ble_eq_true rfl⟩ (g_recv hKn hS hk26 (by decide) (by decide)) rfl (by rw [hr26]; rfl) (Nat.le_of_ble_eq_true rfl) dX3_takeOut_26 (fun H locs cells slots hS => ?_)
      refine g_iinc (l1 := [(2, .inl (v2 + 1)), (0, .inr (.inr (some t)))]) (v := (v2 + 1)) hx hb hl (k := 1) rfl (by rfl) (by decide) rfl dX3_takeOut_29 (fun ls hl => ?_)
      refine lv_goto (tgt := 12) hx hb dX3_takeOut_32 (by decide) ?_
      exact ih _ _ _ _ h _ _ _ _ _ hS (gls_sub hl [1, 0] rfl)
theorem sX3_takeOut (l : Launch) (E : g_E) (D : g_D) {t : Nat} {v1 : Int32} {G : g_G} {q : g_G} (h : fX3_takeOut E t v1 G = some q) : gMet l E D yX3_takeOut (ws_ yX3_takeOut cX3_takeOut 3 (none)) 2 87 [.inr (.inr (some t)), .inl v1] G none q := by
  refine gMet.of (by decide +kernel) (Nat.le_of_ble_eq_true rfl) ?_
  intro p e R s m args below meth c C hS ls hl
  have C : gC p R s m args meth c cX3_takeOut 3 RX3 "takeOut" (none) 2 87 E D := C
  obtain ⟨hx, hb, hml, hown, hts, hKn, hRc, hRs, hc1, hc2, hRf, hRl, hr, hlk, hnm⟩ := id C
  have hl : gls ls 3 [(0, .inr (.inr (some t))), (1, .inl v1)] := hl
  generalize s.heap = H at hS ⊢
  unfold fX3_takeOut at h
  refine g_aload_n hx hb hl 0 rfl dX3_takeOut_0 ?_
  refine lv_dup hx hb dX3_takeOut_1 (by first | exact va_rf_cat _ | rfl | exact g_catA _) ?_
  refine g_rdI hx hb hown hts hKn hS h fd_3_3_1 rfl (Or.inl (hts _ q542)) (fun _ z => z) dX3_takeOut_2 (fun x2 h => ?_)
  refine lv_iconst (v := 1) hx hb dX3_takeOut_5 (by decide) ?_
  refine lv_isub hx hb dX3_takeOut_6 ?_
  refine g_ptI hx hb hown hts hKn hS h fd_3_3_1 (Or.inl (hts _ q542)) (fun _ z => z) (fun z => nomatch z) dX3_takeOut_7 (fun G7 h H locs hS => ?_)
  refine g_iload_n hx hb hl 1 rfl dX3_takeOut_10 ?_
  refine g_istore_n (l1 := [(2, .inl v1), (0, .inr (.inr (some t))), (1, .inl v1)]) hx hb hl (by decide) rfl dX3_takeOut_11 (fun ls hl => ?_)
  exact sX3_takeOut_b12 C gFU _ _ _ _ h _ _ _ _ _ hS (gls_sub hl [1, 0] rfl)
/-- SendHallModel.anySteps()I -/
def fX4_anySteps_b30 (E : g_E) (k4 : Nat → Int32 → Int32 → g_G → Option (Int32 × g_G)) (t : Nat) (v2 : Int32) (s0 : Int32) (s1 : Int32) (G : g_G) : Option (Int32 × g_G) :=
  k4 t (s0 + s1) (v2 + 1) G
def fX4_anySteps_b4 (E : g_E) : Nat → Nat → Int32 → Int32 → g_G → Option (Int32 × g_G)
  | 0, _, _, _, _ => none
  | n + 1, t, v1, v2, G =>
    (grR G 4 4 (some t) 22).bind fun x6 =>
    (gaI G 100 x6 0).bind fun x10 =>
    if x10 ≤ v2 then (
      some (v1, G))
    else (
      (grR G 4 4 (some t) 24).bind fun x16 =>
      (gaI G 100 x16 v2).bind fun x20 =>
      if ¬ x20 = (4 : Int32) then (
        fX4_anySteps_b30 E (fX4_anySteps_b4 E n) t v2 v1 0 G)
      else (
        fX4_anySteps_b30 E (fX4_anySteps_b4 E n) t v2 v1 1 G))
def fX4_anySteps (E : g_E) (t : Nat) (G : g_G) : Option (Int32 × g_G) :=
  fX4_anySteps_b4 E gFU t 0 0 G
theorem sX4_anySteps_b30 {p : Program} {l : Launch} {e : Env} {R : Room} {s : State} {m : MethodId} {args : Array Value} {below : List Frame} {meth : Method} {c : Code} {E : g_E} {D : g_D} (C : gC p R s m args meth c cX4_anySteps 3 RX4 "anySteps" (some .int) 1 64 E D) {k4 : Nat → Int32 → Int32 → g_G → Option (Int32 × g_G)} (hk4 : ∀ (t : Nat) (v1 : Int32) (v2 : Int32) (G : g_G) (q : Int32 × g_G), k4 t v1 v2 G = some q → ∀ (H : Heap) (locs : List Loc) (cells slots : Nat) (ls : Array Slot), gSt E D G H locs → gls ls 3 [(0, .inr (.inr (some t))), (1, .inl v1), (2, .inl v2)] → gT p l e R s m args below meth c E D H locs cells slots (some (.int q.1)) q.2 (F0 m 4 ls [])) : ∀ (t : Nat) (v2 : Int32) (s0 : Int32) (s1 : Int32) (G : g_G) (q : Int32 × g_G), fX4_anySteps_b30 E k4 t v2 s0 s1 G = some q → ∀ (H : Heap) (locs : List Loc) (cells slots : Nat) (ls : Array Slot), gSt E D G H locs → gls ls 3 [(0, .inr (.inr (some t))), (2, .inl v2)] → gT p l e R s m args below meth c E D H locs cells slots (some (.int q.1)) q.2 (F0 m 30 ls [.int s1, .int s0]) := by
  obtain ⟨hx, hb, hml, hown, hts, hKn, hRc, hRs, hc1, hc2, hRf, hRl, hr, hlk, hnm⟩ := id C
  intro t v2 s0 s1 G q h H locs cells slots ls hS hl
  unfold fX4_anySteps_b30 at h
  refine lv_iadd hx hb dX4_anySteps_30 ?_
  refine g_istore_n (l1 := [(1, .inl (s0 + s1)), (0, .inr (.inr (some t))), (2, .inl v2)]) hx hb hl (by decide) rfl dX4_anySteps_31 (fun ls hl => ?_)
  refine g_iinc (l1 := [(2, .inl (v2 + 1)), (1, .inl (s0 + s1)), (0, .inr (.inr (some t)))]) (v := (v2 + 1)) hx hb hl (k := 2) rfl (by rfl) (by decide) rfl dX4_anySteps_32 (fun ls hl => ?_)
  refine lv_goto (tgt := 4) hx hb dX4_anySteps_35 (by decide) ?_
  exact hk4 _ _ _ _ _ h _ _ _ _ _ hS (gls_sub hl [2, 1, 0] rfl)
theorem sX4_anySteps_b4 {p : Program} {l : Launch} {e : Env} {R : Room} {s : State} {m : MethodId} {args : Array Value} {below : List Frame} {meth : Method} {c : Code} {E : g_E} {D : g_D} (C : gC p R s m args meth c cX4_anySteps 3 RX4 "anySteps" (some .int) 1 64 E D) : ∀ (n : Nat) (t : Nat) (v1 : Int32) (v2 : Int32) (G : g_G) (q : Int32 × g_G), fX4_anySteps_b4 E n t v1 v2 G = some q → ∀ (H : Heap) (locs : List Loc) (cells slots : Nat) (ls : Array Slot), gSt E D G H locs → gls ls 3 [(0, .inr (.inr (some t))), (1, .inl v1), (2, .inl v2)] → gT p l e R s m args below meth c E D H locs cells slots (some (.int q.1)) q.2 (F0 m 4 ls []) := by
  obtain ⟨hx, hb, hml, hown, hts, hKn, hRc, hRs, hc1, hc2, hRf, hRl, hr, hlk, hnm⟩ := id C
  intro n
  induction n with
  | zero =>
    intro t v1 v2 G q h
    exact g_no h
  | succ n ih =>
    intro t v1 v2 G q h H locs cells slots ls hS hl
    rw [fX4_anySteps_b4] at h
    refine g_iload_n hx hb hl 2 rfl dX4_anySteps_4 ?_
    refine g_aload_n hx hb hl 0 rfl dX4_anySteps_5 ?_
    refine g_rdR hx hb hown hts hKn hS h fd_4_4_22 rfl (Or.inl (hts _ q1887)) (fun _ z => z) dX4_anySteps_6 (fun x6 h => ?_)
    refine lv_iconst (v := 0) hx hb dX4_anySteps_9 (by decide) ?_
    refine g_ialoadG hx hb hKn hS h dX4_anySteps_10 (fun x10 h => ?_)
    refine lv_icmp_ge (tgt := 38) hx hb dX4_anySteps_11 (by decide) (fun c_11 => ?_) (fun c_11 => ?_)
    · have h := g_ift c_11 h
      refine g_iload_n hx hb hl 1 rfl dX4_anySteps_38 ?_
      exact g_iretG hx hb hr hlk hKn hRc hRs hS h dX4_anySteps_39
    · have h := g_iff c_11 h
      refine g_iload_n hx hb hl 1 rfl dX4_anySteps_14 ?_
      refine g_aload_n hx hb hl 0 rfl dX4_anySteps_15 ?_
      refine g_rdR hx hb hown hts hKn hS h fd_4_4_24 rfl (Or.inl (hts _ q1889)) (fun _ z => z) dX4_anySteps_16 (fun x16 h => ?_)
      refine g_iload_n hx hb hl 2 rfl dX4_anySteps_19 ?_
      refine g_ialoadG hx hb hKn hS h dX4_anySteps_20 (fun x20 h => ?_)
      refine lv_iconst (v := 4) hx hb dX4_anySteps_21 (by decide) ?_
      refine lv_icmp_ne (tgt := 29) hx hb dX4_anySteps_22 (by decide) (fun c_22 => ?_) (fun c_22 => ?_)
      · have h := g_ift c_22 h
        refine lv_iconst (v := 0) hx hb dX4_anySteps_29 (by decide) ?_
        exact sX4_anySteps_b30 C ih _ _ _ _ _ _ h _ _ _ _ _ hS (gls_sub hl [0, 2] rfl)
      · have h := g_iff (fun z => z c_22) h
        refine lv_iconst (v := 1) hx hb dX4_anySteps_25 (by decide) ?_
        refine lv_goto (tgt := 30) hx hb dX4_anySteps_26 (by decide) ?_
        exact sX4_anySteps_b30 C ih _ _ _ _ _ _ h _ _ _ _ _ hS (gls_sub hl [0, 2] rfl)
theorem sX4_anySteps (l : Launch) (E : g_E) (D : g_D) {t : Nat} {G : g_G} {q : Int32 × g_G} (h : fX4_anySteps E t G = some q) : gMet l E D yX4_anySteps (ws_ yX4_anySteps cX4_anySteps 3 (some .int)) 1 64 [.inr (.inr (some t))] G (some (.int q.1)) q.2 := by
  refine gMet.of (by decide +kernel) (Nat.le_of_ble_eq_true rfl) ?_
  intro p e R s m args below meth c C hS ls hl
  have C : gC p R s m args meth c cX4_anySteps 3 RX4 "anySteps" (some .int) 1 64 E D := C
  obtain ⟨hx, hb, hml, hown, hts, hKn, hRc, hRs, hc1, hc2, hRf, hRl, hr, hlk, hnm⟩ := id C
  have hl : gls ls 3 [(0, .inr (.inr (some t)))] := hl
  generalize s.heap = H at hS ⊢
  unfold fX4_anySteps at h
  refine lv_iconst (v := 0) hx hb dX4_anySteps_0 (by decide) ?_
  refine g_istore_n (l1 := [(1, .inl 0), (0, .inr (.inr (some t)))]) hx hb hl (by decide) rfl dX4_anySteps_1 (fun ls hl => ?_)
  refine lv_iconst (v := 0) hx hb dX4_anySteps_2 (by decide) ?_
  refine g_istore_n (l1 := [(2, .inl 0), (1, .inl 0), (0, .inr (.inr (some t)))]) hx hb hl (by decide) rfl dX4_anySteps_3 (fun ls hl => ?_)
  exact sX4_anySteps_b4 C gFU _ _ _ _ _ h _ _ _ _ _ hS (gls_sub hl [2, 1, 0] rfl)
/-- SendHallModel.byteAt(I)I -/
def fX4_byteAt (E : g_E) (t : Nat) (v1 : Int32) (G : g_G) : Option (Int32 × g_G) :=
  (grI G 4 4 (some t) 12).bind fun x2 =>
  if x2 ≤ v1 then (
    some ((-1), G))
  else (
    (grR G 4 4 (some t) 9).bind fun x9 =>
    (gaI G 100 x9 v1).bind fun x13 =>
    some (x13, G))
theorem sX4_byteAt (l : Launch) (E : g_E) (D : g_D) {t : Nat} {v1 : Int32} {G : g_G} {q : Int32 × g_G} (h : fX4_byteAt E t v1 G = some q) : gMet l E D yX4_byteAt (ws_ yX4_byteAt cX4_byteAt 2 (some .int)) 1 64 [.inr (.inr (some t)), .inl v1] G (some (.int q.1)) q.2 := by
  refine gMet.of (by decide +kernel) (Nat.le_of_ble_eq_true rfl) ?_
  intro p e R s m args below meth c C hS ls hl
  have C : gC p R s m args meth c cX4_byteAt 2 RX4 "byteAt" (some .int) 1 64 E D := C
  obtain ⟨hx, hb, hml, hown, hts, hKn, hRc, hRs, hc1, hc2, hRf, hRl, hr, hlk, hnm⟩ := id C
  have hl : gls ls 2 [(0, .inr (.inr (some t))), (1, .inl v1)] := hl
  generalize s.heap = H at hS ⊢
  unfold fX4_byteAt at h
  refine g_iload_n hx hb hl 1 rfl dX4_byteAt_0 ?_
  refine g_aload_n hx hb hl 0 rfl dX4_byteAt_1 ?_
  refine g_rdI hx hb hown hts hKn hS h fd_4_4_12 rfl (Or.inl (hts _ q1877)) (fun _ z => z) dX4_byteAt_2 (fun x2 h => ?_)
  refine lv_icmp_ge (tgt := 17) hx hb dX4_byteAt_5 (by decide) (fun c_5 => ?_) (fun c_5 => ?_)
  · have h := g_ift c_5 h
    refine lv_iconst (v := (-1)) hx hb dX4_byteAt_17 (by decide) ?_
    exact g_iretG hx hb hr hlk hKn hRc hRs hS h dX4_byteAt_18
  · have h := g_iff c_5 h
    refine g_aload_n hx hb hl 0 rfl dX4_byteAt_8 ?_
    refine g_rdR hx hb hown hts hKn hS h fd_4_4_9 rfl (Or.inl (hts _ q1874)) (fun _ z => z) dX4_byteAt_9 (fun x9 h => ?_)
    refine g_iload_n hx hb hl 1 rfl dX4_byteAt_12 ?_
    refine g_ialoadG hx hb hKn hS h dX4_byteAt_13 (fun x13 h => ?_)
    refine lv_goto (tgt := 18) hx hb dX4_byteAt_14 (by decide) ?_
    exact g_iretG hx hb hr hlk hKn hRc hRs hS h dX4_byteAt_18
/-- SendHallModel.compare([III)I -/
def fX4_compare_b2 (E : g_E) : Nat → (Option Nat) → Int32 → Int32 → Int32 → g_G → Option (Int32 × g_G)
  | 0, _, _, _, _, _ => none
  | n + 1, v0, v1, v2, v3, G =>
    if (11 : Int32) ≤ v3 then (
      some (0, G))
    else (
      (gaI G 100 v0 (v1 + v3)).bind fun x12 =>
      (gaI G 100 v0 (v2 + v3)).bind fun x17 =>
      if x12 = x17 then (
        fX4_compare_b2 E n v0 v1 v2 (v3 + 1) G)
      else (
        (gaI G 100 v0 (v1 + v3)).bind fun x25 =>
        (gaI G 100 v0 (v2 + v3)).bind fun x30 =>
        if x30 ≤ x25 then (
          some (1, G))
        else (
          some ((-1), G))))
def fX4_compare (E : g_E) (v0 : Option Nat) (v1 : Int32) (v2 : Int32) (G : g_G) : Option (Int32 × g_G) :=
  fX4_compare_b2 E gFU v0 v1 v2 0 G
theorem sX4_compare_b2 {p : Program} {l : Launch} {e : Env} {R : Room} {s : State} {m : MethodId} {args : Array Value} {below : List Frame} {meth : Method} {c : Code} {E : g_E} {D : g_D} (C : gC p R s m args meth c cX4_compare 4 RX4 "compare" (some .int) 1 64 E D) : ∀ (n : Nat) (v0 : Option Nat) (v1 : Int32) (v2 : Int32) (v3 : Int32) (G : g_G) (q : Int32 × g_G), fX4_compare_b2 E n v0 v1 v2 v3 G = some q → ∀ (H : Heap) (locs : List Loc) (cells slots : Nat) (ls : Array Slot), gSt E D G H locs → gls ls 4 [(0, .inr (.inr v0)), (1, .inl v1), (2, .inl v2), (3, .inl v3)] → gT p l e R s m args below meth c E D H locs cells slots (some (.int q.1)) q.2 (F0 m 2 ls []) := by
  obtain ⟨hx, hb, hml, hown, hts, hKn, hRc, hRs, hc1, hc2, hRf, hRl, hr, hlk, hnm⟩ := id C
  intro n
  induction n with
  | zero =>
    intro v0 v1 v2 v3 G q h
    exact g_no h
  | succ n ih =>
    intro v0 v1 v2 v3 G q h H locs cells slots ls hS hl
    rw [fX4_compare_b2] at h
    refine g_iload_n hx hb hl 3 rfl dX4_compare_2 ?_
    refine lv_bipush (v := 11) hx hb dX4_compare_3 (by decide) ?_
    refine lv_icmp_ge (tgt := 46) hx hb dX4_compare_5 (by decide) (fun c_5 => ?_) (fun c_5 => ?_)
    · have h := g_ift c_5 h
      refine lv_iconst (v := 0) hx hb dX4_compare_46 (by decide) ?_
      exact g_iretG hx hb hr hlk hKn hRc hRs hS h dX4_compare_47
    · have h := g_iff c_5 h
      refine g_aload_n hx hb hl 0 rfl dX4_compare_8 ?_
      refine g_iload_n hx hb hl 1 rfl dX4_compare_9 ?_
      refine g_iload_n hx hb hl 3 rfl dX4_compare_10 ?_
      refine lv_iadd hx hb dX4_compare_11 ?_
      refine g_ialoadG hx hb hKn hS h dX4_compare_12 (fun x12 h => ?_)
      refine g_aload_n hx hb hl 0 rfl dX4_compare_13 ?_
      refine g_iload_n hx hb hl 2 rfl dX4_compare_14 ?_
      refine g_iload_n hx hb hl 3 rfl dX4_compare_15 ?_
      refine lv_iadd hx hb dX4_compare_16 ?_
      refine g_ialoadG hx hb hKn hS h dX4_compare_17 (fun x17 h => ?_)
      refine lv_icmp_eq (tgt := 40) hx hb dX4_compare_18 (by decide) (fun c_18 => ?_) (fun c_18 => ?_)
      · have h := g_ift c_18 h
        refine g_iinc (l1 := [(3, .inl (v3 + 1)), (0, .inr (.inr v0)), (1, .inl v1), (2, .inl v2)]) (v := (v3 + 1)) hx hb hl (k := 3) rfl (by rfl) (by decide) rfl dX4_compare_40 (fun ls hl => ?_)
        refine lv_goto (tgt := 2) hx hb dX4_compare_43 (by decide) ?_
        exact ih _ _ _ _ _ _ h _ _ _ _ _ hS (gls_sub hl [1, 2, 3, 0] rfl)
      · have h := g_iff c_18 h
        refine g_aload_n hx hb hl 0 rfl dX4_compare_21 ?_
        refine g_iload_n hx hb hl 1 rfl dX4_compare_22 ?_
        refine g_iload_n hx hb hl 3 rfl dX4_compare_23 ?_
        refine lv_iadd hx hb dX4_compare_24 ?_
        refine g_ialoadG hx hb hKn hS h dX4_compare_25 (fun x25 h => ?_)
        refine g_aload_n hx hb hl 0 rfl dX4_compare_26 ?_
        refine g_iload_n hx hb hl 2 rfl dX4_compare_27 ?_
        refine g_iload_n hx hb hl 3 rfl dX4_compare_28 ?_
        refine lv_iadd hx hb dX4_compare_29 ?_
        refine g_ialoadG hx hb hKn hS h dX4_compare_30 (fun x30 h => ?_)
        refine lv_icmp_ge (tgt := 38) hx hb dX4_compare_31 (by decide) (fun c_31 => ?_) (fun c_31 => ?_)
        · have h := g_ift c_31 h
          refine lv_iconst (v := 1) hx hb dX4_compare_38 (by decide) ?_
          exact g_iretG hx hb hr hlk hKn hRc hRs hS h dX4_compare_39
        · have h := g_iff c_31 h
          refine lv_iconst (v := (-1)) hx hb dX4_compare_34 (by decide) ?_
          refine lv_goto (tgt := 39) hx hb dX4_compare_35 (by decide) ?_
          exact g_iretG hx hb hr hlk hKn hRc hRs hS h dX4_compare_39
theorem sX4_compare (l : Launch) (E : g_E) (D : g_D) {v0 : Option Nat} {v1 : Int32} {v2 : Int32} {G : g_G} {q : Int32 × g_G} (h : fX4_compare E v0 v1 v2 G = some q) : gMet l E D yX4_compare (ws_ yX4_compare cX4_compare 4 (some .int)) 1 64 [.inr (.inr v0), .inl v1, .inl v2] G (some (.int q.1)) q.2 := by
  refine gMet.of (by decide +kernel) (Nat.le_of_ble_eq_true rfl) ?_
  intro p e R s m args below meth c C hS ls hl
  have C : gC p R s m args meth c cX4_compare 4 RX4 "compare" (some .int) 1 64 E D := C
  obtain ⟨hx, hb, hml, hown, hts, hKn, hRc, hRs, hc1, hc2, hRf, hRl, hr, hlk, hnm⟩ := id C
  have hl : gls ls 4 [(0, .inr (.inr v0)), (1, .inl v1), (2, .inl v2)] := hl
  generalize s.heap = H at hS ⊢
  unfold fX4_compare at h
  refine lv_iconst (v := 0) hx hb dX4_compare_0 (by decide) ?_
  refine g_istore_n (l1 := [(3, .inl 0), (0, .inr (.inr v0)), (1, .inl v1), (2, .inl v2)]) hx hb hl (by decide) rfl dX4_compare_1 (fun ls hl => ?_)
  exact sX4_compare_b2 C gFU _ _ _ _ _ _ h _ _ _ _ _ hS (gls_sub hl [1, 2, 3, 0] rfl)
/-- SendHallModel.emit(I)V -/
def fX4_emit (E : g_E) (t : Nat) (v1 : Int32) (G : g_G) : Option (g_G) :=
  (grI G 4 4 (some t) 18).bind fun x1 =>
  if x1 = 0 then (
    (grR G 4 4 (some t) 23).bind fun x9 =>
    (grI G 4 4 (some t) 21).bind fun x16 =>
    (gsaI E G x9 (1080 + x16) v1).bind fun G21 =>
    (grI G21 4 4 (some t) 21).bind fun x24 =>
    (gpI E G21 4 4 (some t) 21 (x24 + 1)).bind fun G29 =>
    some G29)
  else (
    some G)
theorem sX4_emit (l : Launch) (E : g_E) (D : g_D) {t : Nat} {v1 : Int32} {G : g_G} {q : g_G} (h : fX4_emit E t v1 G = some q) : gMet l E D yX4_emit (ws_ yX4_emit cX4_emit 2 (none)) 1 64 [.inr (.inr (some t)), .inl v1] G none q := by
  refine gMet.of (by decide +kernel) (Nat.le_of_ble_eq_true rfl) ?_
  intro p e R s m args below meth c C hS ls hl
  have C : gC p R s m args meth c cX4_emit 2 RX4 "emit" (none) 1 64 E D := C
  obtain ⟨hx, hb, hml, hown, hts, hKn, hRc, hRs, hc1, hc2, hRf, hRl, hr, hlk, hnm⟩ := id C
  have hl : gls ls 2 [(0, .inr (.inr (some t))), (1, .inl v1)] := hl
  generalize s.heap = H at hS ⊢
  unfold fX4_emit at h
  refine g_aload_n hx hb hl 0 rfl dX4_emit_0 ?_
  refine g_rdI hx hb hown hts hKn hS h fd_4_4_18 rfl (Or.inl (hts _ q1883)) (fun _ z => z) dX4_emit_1 (fun x1 h => ?_)
  refine lv_if_eq (tgt := 8) hx hb dX4_emit_4 (by decide) (fun c_4 => ?_) (fun c_4 => ?_)
  · have h := g_ift c_4 h
    refine g_aload_n hx hb hl 0 rfl dX4_emit_8 ?_
    refine g_rdR hx hb hown hts hKn hS h fd_4_4_23 rfl (Or.inl (hts _ q1888)) (fun _ z => z) dX4_emit_9 (fun x9 h => ?_)
    refine lv_sipush (v := 1080) hx hb dX4_emit_12 (by decide) ?_
    refine g_aload_n hx hb hl 0 rfl dX4_emit_15 ?_
    refine g_rdI hx hb hown hts hKn hS h fd_4_4_21 rfl (Or.inl (hts _ q1886)) (fun _ z => z) dX4_emit_16 (fun x16 h => ?_)
    refine lv_iadd hx hb dX4_emit_19 ?_
    refine g_iload_n hx hb hl 1 rfl dX4_emit_20 ?_
    refine g_iastoreG hx hb hKn hS h dX4_emit_21 (fun G21 h H locs hS => ?_)
    refine g_aload_n hx hb hl 0 rfl dX4_emit_22 ?_
    refine lv_dup hx hb dX4_emit_23 (by first | exact va_rf_cat _ | rfl | exact g_catA _) ?_
    refine g_rdI hx hb hown hts hKn hS h fd_4_4_21 rfl (Or.inl (hts _ q1886)) (fun _ z => z) dX4_emit_24 (fun x24 h => ?_)
    refine lv_iconst (v := 1) hx hb dX4_emit_27 (by decide) ?_
    refine lv_iadd hx hb dX4_emit_28 ?_
    refine g_ptI hx hb hown hts hKn hS h fd_4_4_21 (Or.inl (hts _ q1886)) (fun _ z => z) (fun z => nomatch z) dX4_emit_29 (fun G29 h H locs hS => ?_)
    exact g_vretG hx hb hr hlk hKn hRc hRs hS h dX4_emit_32
  · have h := g_iff c_4 h
    exact g_vretG hx hb hr hlk hKn hRc hRs hS h dX4_emit_7
/-- SendHallModel.fail(I)I -/
def fX4_fail (E : g_E) (t : Nat) (v1 : Int32) (G : g_G) : Option (Int32 × g_G) :=
  (gpI E G 4 4 (some t) 2 v1).bind fun G2 =>
  some (0, G2)
theorem sX4_fail (l : Launch) (E : g_E) (D : g_D) {t : Nat} {v1 : Int32} {G : g_G} {q : Int32 × g_G} (h : fX4_fail E t v1 G = some q) : gMet l E D yX4_fail (ws_ yX4_fail cX4_fail 2 (some .int)) 1 64 [.inr (.inr (some t)), .inl v1] G (some (.int q.1)) q.2 := by
  refine gMet.of (by decide +kernel) (Nat.le_of_ble_eq_true rfl) ?_
  intro p e R s m args below meth c C hS ls hl
  have C : gC p R s m args meth c cX4_fail 2 RX4 "fail" (some .int) 1 64 E D := C
  obtain ⟨hx, hb, hml, hown, hts, hKn, hRc, hRs, hc1, hc2, hRf, hRl, hr, hlk, hnm⟩ := id C
  have hl : gls ls 2 [(0, .inr (.inr (some t))), (1, .inl v1)] := hl
  generalize s.heap = H at hS ⊢
  unfold fX4_fail at h
  refine g_aload_n hx hb hl 0 rfl dX4_fail_0 ?_
  refine g_iload_n hx hb hl 1 rfl dX4_fail_1 ?_
  refine g_ptI hx hb hown hts hKn hS h fd_4_4_2 (Or.inl (hts _ q1867)) (fun _ z => z) (fun z => nomatch z) dX4_fail_2 (fun G2 h H locs hS => ?_)
  refine lv_iconst (v := 0) hx hb dX4_fail_5 (by decide) ?_
  exact g_iretG hx hb hr hlk hKn hRc hRs hS h dX4_fail_6
/-- SendHallModel.farOf(II)I -/
def fX4_farOf (E : g_E) (t : Nat) (v1 : Int32) (v2 : Int32) (G : g_G) : Option (Int32 × g_G) :=
  (grI G 4 4 (some t) 5).bind fun x1 =>
  (grI G 4 4 (some t) 6).bind fun x11 =>
  some ((x1 + ((if 0 ≤ (v1 - v2) then (v1 - v2) else 0 - (v1 - v2)) * x11)), G)
theorem sX4_farOf (l : Launch) (E : g_E) (D : g_D) {t : Nat} {v1 : Int32} {v2 : Int32} {G : g_G} {q : Int32 × g_G} (h : fX4_farOf E t v1 v2 G = some q) : gMet l E D yX4_farOf (ws_ yX4_farOf cX4_farOf 3 (some .int)) 1 64 [.inr (.inr (some t)), .inl v1, .inl v2] G (some (.int q.1)) q.2 := by
  refine gMet.of (by decide +kernel) (Nat.le_of_ble_eq_true rfl) ?_
  intro p e R s m args below meth c C hS ls hl
  have C : gC p R s m args meth c cX4_farOf 3 RX4 "farOf" (some .int) 1 64 E D := C
  obtain ⟨hx, hb, hml, hown, hts, hKn, hRc, hRs, hc1, hc2, hRf, hRl, hr, hlk, hnm⟩ := id C
  have hl : gls ls 3 [(0, .inr (.inr (some t))), (1, .inl v1), (2, .inl v2)] := hl
  generalize s.heap = H at hS ⊢
  unfold fX4_farOf at h
  refine g_aload_n hx hb hl 0 rfl dX4_farOf_0 ?_
  refine g_rdI hx hb hown hts hKn hS h fd_4_4_5 rfl (Or.inl (hts _ q1870)) (fun _ z => z) dX4_farOf_1 (fun x1 h => ?_)
  refine g_iload_n hx hb hl 1 rfl dX4_farOf_4 ?_
  refine g_iload_n hx hb hl 2 rfl dX4_farOf_5 ?_
  refine lv_isub hx hb dX4_farOf_6 ?_
  refine g_mabs (rs := [.inl x1]) hx hb hml hown hRc hRs hS hl (hts _ q2323) (hts _ q924) (hts _ q127) (hts _ q925) (by decide +kernel) rfl (Nat.le_of_ble_eq_true rfl) ⟨by rw [hRf]; exact Nat.le_of_ble_eq_true rfl, by rw [hRl]; exact Nat.le_of_ble_eq_true rfl⟩ dX4_farOf_7 (fun cells slots => ?_)
  refine g_aload_n hx hb hl 0 rfl dX4_farOf_10 ?_
  refine g_rdI hx hb hown hts hKn hS h fd_4_4_6 rfl (Or.inl (hts _ q1871)) (fun _ z => z) dX4_farOf_11 (fun x11 h => ?_)
  refine lv_imul hx hb dX4_farOf_14 ?_
  refine lv_iadd hx hb dX4_farOf_15 ?_
  exact g_iretG hx hb hr hlk hKn hRc hRs hS h dX4_farOf_16
/-- SendHallModel.fault()I -/
def fX4_fault (E : g_E) (t : Nat) (G : g_G) : Option (Int32 × g_G) :=
  (gpI E G 4 4 (some t) 2 0).bind fun G2 =>
  (grI G2 4 4 (some t) 20).bind fun x6 =>
  some (x6, G2)
theorem sX4_fault (l : Launch) (E : g_E) (D : g_D) {t : Nat} {G : g_G} {q : Int32 × g_G} (h : fX4_fault E t G = some q) : gMet l E D yX4_fault (ws_ yX4_fault cX4_fault 1 (some .int)) 1 64 [.inr (.inr (some t))] G (some (.int q.1)) q.2 := by
  refine gMet.of (by decide +kernel) (Nat.le_of_ble_eq_true rfl) ?_
  intro p e R s m args below meth c C hS ls hl
  have C : gC p R s m args meth c cX4_fault 1 RX4 "fault" (some .int) 1 64 E D := C
  obtain ⟨hx, hb, hml, hown, hts, hKn, hRc, hRs, hc1, hc2, hRf, hRl, hr, hlk, hnm⟩ := id C
  have hl : gls ls 1 [(0, .inr (.inr (some t)))] := hl
  generalize s.heap = H at hS ⊢
  unfold fX4_fault at h
  refine g_aload_n hx hb hl 0 rfl dX4_fault_0 ?_
  refine lv_iconst (v := 0) hx hb dX4_fault_1 (by decide) ?_
  refine g_ptI hx hb hown hts hKn hS h fd_4_4_2 (Or.inl (hts _ q1867)) (fun _ z => z) (fun z => nomatch z) dX4_fault_2 (fun G2 h H locs hS => ?_)
  refine g_aload_n hx hb hl 0 rfl dX4_fault_5 ?_
  refine g_rdI hx hb hown hts hKn hS h fd_4_4_20 rfl (Or.inl (hts _ q1885)) (fun _ z => z) dX4_fault_6 (fun x6 h => ?_)
  exact g_iretG hx hb hr hlk hKn hRc hRs hS h dX4_fault_9
/-- SendHallModel.feed(IIIII)I -/
def fX4_feed_b76 (E : g_E) (k23 : Nat → Int32 → Int32 → Int32 → Int32 → Int32 → Int32 → g_G → Option (Int32 × g_G)) (t : Nat) (v1 : Int32) (v2 : Int32) (v3 : Int32) (v4 : Int32) (v5 : Int32) (v6 : Int32) (s0 : Int32) (G : g_G) : Option (Int32 × g_G) :=
  (grR G 4 4 (some t) 9).bind fun x79 =>
  (grI G 4 4 (some t) 10).bind fun x83 =>
  if (4 : Int32) = 0 then none else
  (gsaI E G x79 x83 ((s0 >>> ((24 - (8 * (v6 - v6 / 4 * 4))) &&& 31)) &&& 255)).bind fun G103 =>
  (grI G103 4 4 (some t) 10).bind fun x106 =>
  (gpI E G103 4 4 (some t) 10 (x106 + 1)).bind fun G111 =>
  k23 t v1 v2 v3 v4 v5 (v6 + 1) G111
def fX4_feed_b23 (E : g_E) : Nat → Nat → Int32 → Int32 → Int32 → Int32 → Int32 → Int32 → g_G → Option (Int32 × g_G)
  | 0, _, _, _, _, _, _, _, _ => none
  | n + 1, t, v1, v2, v3, v4, v5, v6, G =>
    if (20 : Int32) ≤ v6 then (
      (grI G 4 4 (some t) 10).bind fun x121 =>
      some (x121, G))
    else (
      if (4 : Int32) ≤ v6 then (
        if (8 : Int32) ≤ v6 then (
          if (12 : Int32) ≤ v6 then (
            if (16 : Int32) ≤ v6 then (
              fX4_feed_b76 E (fX4_feed_b23 E n) t v1 v2 v3 v4 v5 v6 v5 G)
            else (
              fX4_feed_b76 E (fX4_feed_b23 E n) t v1 v2 v3 v4 v5 v6 v4 G))
          else (
            fX4_feed_b76 E (fX4_feed_b23 E n) t v1 v2 v3 v4 v5 v6 v3 G))
        else (
          fX4_feed_b76 E (fX4_feed_b23 E n) t v1 v2 v3 v4 v5 v6 v2 G))
      else (
        fX4_feed_b76 E (fX4_feed_b23 E n) t v1 v2 v3 v4 v5 v6 v1 G))
def fX4_feed (E : g_E) (t : Nat) (v1 : Int32) (v2 : Int32) (v3 : Int32) (v4 : Int32) (v5 : Int32) (G : g_G) : Option (Int32 × g_G) :=
  (gpI E G 4 4 (some t) 2 0).bind fun G2 =>
  (grI G2 4 4 (some t) 10).bind fun x6 =>
  if (x6 + 20) ≤ (700 : Int32) then (
    fX4_feed_b23 E gFU t v1 v2 v3 v4 v5 0 G2)
  else (
    some ((-1), G2))
theorem sX4_feed_b76 {p : Program} {l : Launch} {e : Env} {R : Room} {s : State} {m : MethodId} {args : Array Value} {below : List Frame} {meth : Method} {c : Code} {E : g_E} {D : g_D} (C : gC p R s m args meth c cX4_feed 8 RX4 "feed" (some .int) 1 64 E D) {k23 : Nat → Int32 → Int32 → Int32 → Int32 → Int32 → Int32 → g_G → Option (Int32 × g_G)} (hk23 : ∀ (t : Nat) (v1 : Int32) (v2 : Int32) (v3 : Int32) (v4 : Int32) (v5 : Int32) (v6 : Int32) (G : g_G) (q : Int32 × g_G), k23 t v1 v2 v3 v4 v5 v6 G = some q → ∀ (H : Heap) (locs : List Loc) (cells slots : Nat) (ls : Array Slot), gSt E D G H locs → gls ls 8 [(0, .inr (.inr (some t))), (1, .inl v1), (2, .inl v2), (3, .inl v3), (4, .inl v4), (5, .inl v5), (6, .inl v6)] → gT p l e R s m args below meth c E D H locs cells slots (some (.int q.1)) q.2 (F0 m 23 ls [])) : ∀ (t : Nat) (v1 : Int32) (v2 : Int32) (v3 : Int32) (v4 : Int32) (v5 : Int32) (v6 : Int32) (s0 : Int32) (G : g_G) (q : Int32 × g_G), fX4_feed_b76 E k23 t v1 v2 v3 v4 v5 v6 s0 G = some q → ∀ (H : Heap) (locs : List Loc) (cells slots : Nat) (ls : Array Slot), gSt E D G H locs → gls ls 8 [(0, .inr (.inr (some t))), (1, .inl v1), (2, .inl v2), (3, .inl v3), (4, .inl v4), (5, .inl v5), (6, .inl v6)] → gT p l e R s m args below meth c E D H locs cells slots (some (.int q.1)) q.2 (F0 m 76 ls [.int s0]) := by
  obtain ⟨hx, hb, hml, hown, hts, hKn, hRc, hRs, hc1, hc2, hRf, hRl, hr, hlk, hnm⟩ := id C
  intro t v1 v2 v3 v4 v5 v6 s0 G q h H locs cells slots ls hS hl
  unfold fX4_feed_b76 at h
  refine g_istore (l1 := [(7, .inl s0), (0, .inr (.inr (some t))), (1, .inl v1), (2, .inl v2), (3, .inl v3), (4, .inl v4), (5, .inl v5), (6, .inl v6)]) hx hb hl (by decide) rfl dX4_feed_76 (fun ls hl => ?_)
  refine g_aload_n hx hb hl 1 rfl dX4_feed_78 ?_
  refine g_rdR hx hb hown hts hKn hS h fd_4_4_9 rfl (Or.inl (hts _ q1874)) (fun _ z => z) dX4_feed_79 (fun x79 h => ?_)
  refine g_aload_n hx hb hl 1 rfl dX4_feed_82 ?_
  refine g_rdI hx hb hown hts hKn hS h fd_4_4_10 rfl (Or.inl (hts _ q1875)) (fun _ z => z) dX4_feed_83 (fun x83 h => ?_)
  refine g_iload hx hb hl 0 rfl dX4_feed_86 ?_
  refine lv_bipush (v := 24) hx hb dX4_feed_88 (by decide) ?_
  refine lv_bipush (v := 8) hx hb dX4_feed_90 (by decide) ?_
  refine g_iload hx hb hl 7 rfl dX4_feed_92 ?_
  refine lv_iconst (v := 4) hx hb dX4_feed_94 (by decide) ?_
  by_cases hz95 : (4 : Int32) = 0
  · exact g_no (g_ift hz95 h)
  have h := g_iff hz95 h
  refine lv_irem hx hb dX4_feed_95 hz95 ?_
  refine lv_imul hx hb dX4_feed_96 ?_
  refine lv_isub hx hb dX4_feed_97 ?_
  refine lv_ishr hx hb dX4_feed_98 ?_
  refine lv_sipush (v := 255) hx hb dX4_feed_99 (by decide) ?_
  refine lv_iand hx hb dX4_feed_102 ?_
  refine g_iastoreG hx hb hKn hS h dX4_feed_103 (fun G103 h H locs hS => ?_)
  refine g_aload_n hx hb hl 1 rfl dX4_feed_104 ?_
  refine lv_dup hx hb dX4_feed_105 (by first | exact va_rf_cat _ | rfl | exact g_catA _) ?_
  refine g_rdI hx hb hown hts hKn hS h fd_4_4_10 rfl (Or.inl (hts _ q1875)) (fun _ z => z) dX4_feed_106 (fun x106 h => ?_)
  refine lv_iconst (v := 1) hx hb dX4_feed_109 (by decide) ?_
  refine lv_iadd hx hb dX4_feed_110 ?_
  refine g_ptI hx hb hown hts hKn hS h fd_4_4_10 (Or.inl (hts _ q1875)) (fun _ z => z) (fun z => nomatch z) dX4_feed_111 (fun G111 h H locs hS => ?_)
  refine g_iinc (l1 := [(6, .inl (v6 + 1)), (7, .inl s0), (0, .inr (.inr (some t))), (1, .inl v1), (2, .inl v2), (3, .inl v3), (4, .inl v4), (5, .inl v5)]) (v := (v6 + 1)) hx hb hl (k := 7) rfl (by rfl) (by decide) rfl dX4_feed_114 (fun ls hl => ?_)
  refine lv_goto (tgt := 23) hx hb dX4_feed_117 (by decide) ?_
  exact hk23 _ _ _ _ _ _ _ _ _ h _ _ _ _ _ hS (gls_sub hl [2, 3, 4, 5, 6, 7, 0] rfl)
theorem sX4_feed_b23 {p : Program} {l : Launch} {e : Env} {R : Room} {s : State} {m : MethodId} {args : Array Value} {below : List Frame} {meth : Method} {c : Code} {E : g_E} {D : g_D} (C : gC p R s m args meth c cX4_feed 8 RX4 "feed" (some .int) 1 64 E D) : ∀ (n : Nat) (t : Nat) (v1 : Int32) (v2 : Int32) (v3 : Int32) (v4 : Int32) (v5 : Int32) (v6 : Int32) (G : g_G) (q : Int32 × g_G), fX4_feed_b23 E n t v1 v2 v3 v4 v5 v6 G = some q → ∀ (H : Heap) (locs : List Loc) (cells slots : Nat) (ls : Array Slot), gSt E D G H locs → gls ls 8 [(0, .inr (.inr (some t))), (1, .inl v1), (2, .inl v2), (3, .inl v3), (4, .inl v4), (5, .inl v5), (6, .inl v6)] → gT p l e R s m args below meth c E D H locs cells slots (some (.int q.1)) q.2 (F0 m 23 ls []) := by
  obtain ⟨hx, hb, hml, hown, hts, hKn, hRc, hRs, hc1, hc2, hRf, hRl, hr, hlk, hnm⟩ := id C
  intro n
  induction n with
  | zero =>
    intro t v1 v2 v3 v4 v5 v6 G q h
    exact g_no h
  | succ n ih =>
    intro t v1 v2 v3 v4 v5 v6 G q h H locs cells slots ls hS hl
    rw [fX4_feed_b23] at h
    refine g_iload hx hb hl 6 rfl dX4_feed_23 ?_
    refine lv_bipush (v := 20) hx hb dX4_feed_25 (by decide) ?_
    refine lv_icmp_ge (tgt := 120) hx hb dX4_feed_27 (by decide) (fun c_27 => ?_) (fun c_27 => ?_)
    · have h := g_ift c_27 h
      refine g_aload_n hx hb hl 0 rfl dX4_feed_120 ?_
      refine g_rdI hx hb hown hts hKn hS h fd_4_4_10 rfl (Or.inl (hts _ q1875)) (fun _ z => z) dX4_feed_121 (fun x121 h => ?_)
      exact g_iretG hx hb hr hlk hKn hRc hRs hS h dX4_feed_124
    · have h := g_iff c_27 h
      refine g_iload hx hb hl 6 rfl dX4_feed_30 ?_
      refine lv_iconst (v := 4) hx hb dX4_feed_32 (by decide) ?_
      refine lv_icmp_ge (tgt := 40) hx hb dX4_feed_33 (by decide) (fun c_33 => ?_) (fun c_33 => ?_)
      · have h := g_ift c_33 h
        refine g_iload hx hb hl 6 rfl dX4_feed_40 ?_
        refine lv_bipush (v := 8) hx hb dX4_feed_42 (by decide) ?_
        refine lv_icmp_ge (tgt := 51) hx hb dX4_feed_44 (by decide) (fun c_44 => ?_) (fun c_44 => ?_)
        · have h := g_ift c_44 h
          refine g_iload hx hb hl 6 rfl dX4_feed_51 ?_
          refine lv_bipush (v := 12) hx hb dX4_feed_53 (by decide) ?_
          refine lv_icmp_ge (tgt := 62) hx hb dX4_feed_55 (by decide) (fun c_55 => ?_) (fun c_55 => ?_)
          · have h := g_ift c_55 h
            refine g_iload hx hb hl 6 rfl dX4_feed_62 ?_
            refine lv_bipush (v := 16) hx hb dX4_feed_64 (by decide) ?_
            refine lv_icmp_ge (tgt := 74) hx hb dX4_feed_66 (by decide) (fun c_66 => ?_) (fun c_66 => ?_)
            · have h := g_ift c_66 h
              refine g_iload hx hb hl 5 rfl dX4_feed_74 ?_
              exact sX4_feed_b76 C ih _ _ _ _ _ _ _ _ _ _ h _ _ _ _ _ hS (gls_sub hl [0, 1, 2, 3, 4, 5, 6] rfl)
            · have h := g_iff c_66 h
              refine g_iload hx hb hl 4 rfl dX4_feed_69 ?_
              refine lv_goto (tgt := 76) hx hb dX4_feed_71 (by decide) ?_
              exact sX4_feed_b76 C ih _ _ _ _ _ _ _ _ _ _ h _ _ _ _ _ hS (gls_sub hl [0, 1, 2, 3, 4, 5, 6] rfl)
          · have h := g_iff c_55 h
            refine g_iload_n hx hb hl 3 rfl dX4_feed_58 ?_
            refine lv_goto (tgt := 76) hx hb dX4_feed_59 (by decide) ?_
            exact sX4_feed_b76 C ih _ _ _ _ _ _ _ _ _ _ h _ _ _ _ _ hS (gls_sub hl [0, 1, 2, 3, 4, 5, 6] rfl)
        · have h := g_iff c_44 h
          refine g_iload_n hx hb hl 2 rfl dX4_feed_47 ?_
          refine lv_goto (tgt := 76) hx hb dX4_feed_48 (by decide) ?_
          exact sX4_feed_b76 C ih _ _ _ _ _ _ _ _ _ _ h _ _ _ _ _ hS (gls_sub hl [0, 1, 2, 3, 4, 5, 6] rfl)
      · have h := g_iff c_33 h
        refine g_iload_n hx hb hl 1 rfl dX4_feed_36 ?_
        refine lv_goto (tgt := 76) hx hb dX4_feed_37 (by decide) ?_
        exact sX4_feed_b76 C ih _ _ _ _ _ _ _ _ _ _ h _ _ _ _ _ hS (gls_sub hl [0, 1, 2, 3, 4, 5, 6] rfl)
theorem sX4_feed (l : Launch) (E : g_E) (D : g_D) {t : Nat} {v1 : Int32} {v2 : Int32} {v3 : Int32} {v4 : Int32} {v5 : Int32} {G : g_G} {q : Int32 × g_G} (h : fX4_feed E t v1 v2 v3 v4 v5 G = some q) : gMet l E D yX4_feed (ws_ yX4_feed cX4_feed 8 (some .int)) 1 64 [.inr (.inr (some t)), .inl v1, .inl v2, .inl v3, .inl v4, .inl v5] G (some (.int q.1)) q.2 := by
  refine gMet.of (by decide +kernel) (Nat.le_of_ble_eq_true rfl) ?_
  intro p e R s m args below meth c C hS ls hl
  have C : gC p R s m args meth c cX4_feed 8 RX4 "feed" (some .int) 1 64 E D := C
  obtain ⟨hx, hb, hml, hown, hts, hKn, hRc, hRs, hc1, hc2, hRf, hRl, hr, hlk, hnm⟩ := id C
  have hl : gls ls 8 [(0, .inr (.inr (some t))), (1, .inl v1), (2, .inl v2), (3, .inl v3), (4, .inl v4), (5, .inl v5)] := hl
  generalize s.heap = H at hS ⊢
  unfold fX4_feed at h
  refine g_aload_n hx hb hl 0 rfl dX4_feed_0 ?_
  refine lv_iconst (v := 0) hx hb dX4_feed_1 (by decide) ?_
  refine g_ptI hx hb hown hts hKn hS h fd_4_4_2 (Or.inl (hts _ q1867)) (fun _ z => z) (fun z => nomatch z) dX4_feed_2 (fun G2 h H locs hS => ?_)
  refine g_aload_n hx hb hl 0 rfl dX4_feed_5 ?_
  refine g_rdI hx hb hown hts hKn hS h fd_4_4_10 rfl (Or.inl (hts _ q1875)) (fun _ z => z) dX4_feed_6 (fun x6 h => ?_)
  refine lv_bipush (v := 20) hx hb dX4_feed_9 (by decide) ?_
  refine lv_iadd hx hb dX4_feed_11 ?_
  refine lv_sipush (v := 700) hx hb dX4_feed_12 (by decide) ?_
  refine lv_icmp_le (tgt := 20) hx hb dX4_feed_15 (by decide) (fun c_15 => ?_) (fun c_15 => ?_)
  · have h := g_ift c_15 h
    refine lv_iconst (v := 0) hx hb dX4_feed_20 (by decide) ?_
    refine g_istore (l1 := [(6, .inl 0), (0, .inr (.inr (some t))), (1, .inl v1), (2, .inl v2), (3, .inl v3), (4, .inl v4), (5, .inl v5)]) hx hb hl (by decide) rfl dX4_feed_21 (fun ls hl => ?_)
    exact sX4_feed_b23 C gFU _ _ _ _ _ _ _ _ _ h _ _ _ _ _ hS (gls_sub hl [1, 2, 3, 4, 5, 6, 0] rfl)
  · have h := g_iff c_15 h
    refine lv_iconst (v := (-1)) hx hb dX4_feed_18 (by decide) ?_
    exact g_iretG hx hb hr hlk hKn hRc hRs hS h dX4_feed_19
/-- SendHallModel.following(I)I -/
def fX4_following_b7 (E : g_E) : Nat → Nat → Int32 → g_G → Option (Int32 × g_G)
  | 0, _, _, _ => none
  | n + 1, t, v2, G =>
    if (-2 : Int32) < v2 then (
      some (v2, G))
    else (
      (grR G 4 4 (some t) 29).bind fun x14 =>
      (gaI G 100 x14 ((-2) - v2)).bind fun x21 =>
      fX4_following_b7 E n t x21 G)
def fX4_following (E : g_E) (t : Nat) (v1 : Int32) (G : g_G) : Option (Int32 × g_G) :=
  (grR G 4 4 (some t) 29).bind fun x1 =>
  (gaI G 100 x1 v1).bind fun x5 =>
  fX4_following_b7 E gFU t x5 G
theorem sX4_following_b7 {p : Program} {l : Launch} {e : Env} {R : Room} {s : State} {m : MethodId} {args : Array Value} {below : List Frame} {meth : Method} {c : Code} {E : g_E} {D : g_D} (C : gC p R s m args meth c cX4_following 3 RX4 "following" (some .int) 1 64 E D) : ∀ (n : Nat) (t : Nat) (v2 : Int32) (G : g_G) (q : Int32 × g_G), fX4_following_b7 E n t v2 G = some q → ∀ (H : Heap) (locs : List Loc) (cells slots : Nat) (ls : Array Slot), gSt E D G H locs → gls ls 3 [(0, .inr (.inr (some t))), (2, .inl v2)] → gT p l e R s m args below meth c E D H locs cells slots (some (.int q.1)) q.2 (F0 m 7 ls []) := by
  obtain ⟨hx, hb, hml, hown, hts, hKn, hRc, hRs, hc1, hc2, hRf, hRl, hr, hlk, hnm⟩ := id C
  intro n
  induction n with
  | zero =>
    intro t v2 G q h
    exact g_no h
  | succ n ih =>
    intro t v2 G q h H locs cells slots ls hS hl
    rw [fX4_following_b7] at h
    refine g_iload_n hx hb hl 1 rfl dX4_following_7 ?_
    refine lv_bipush (v := (-2)) hx hb dX4_following_8 (by decide) ?_
    refine lv_icmp_gt (tgt := 26) hx hb dX4_following_10 (by decide) (fun c_10 => ?_) (fun c_10 => ?_)
    · have h := g_ift c_10 h
      refine g_iload_n hx hb hl 1 rfl dX4_following_26 ?_
      exact g_iretG hx hb hr hlk hKn hRc hRs hS h dX4_following_27
    · have h := g_iff c_10 h
      refine g_aload_n hx hb hl 0 rfl dX4_following_13 ?_
      refine g_rdR hx hb hown hts hKn hS h fd_4_4_29 rfl (Or.inl (hts _ q1894)) (fun _ z => z) dX4_following_14 (fun x14 h => ?_)
      refine lv_bipush (v := (-2)) hx hb dX4_following_17 (by decide) ?_
      refine g_iload_n hx hb hl 1 rfl dX4_following_19 ?_
      refine lv_isub hx hb dX4_following_20 ?_
      refine g_ialoadG hx hb hKn hS h dX4_following_21 (fun x21 h => ?_)
      refine g_istore_n (l1 := [(2, .inl x21), (0, .inr (.inr (some t)))]) hx hb hl (by decide) rfl dX4_following_22 (fun ls hl => ?_)
      refine lv_goto (tgt := 7) hx hb dX4_following_23 (by decide) ?_
      exact ih _ _ _ _ h _ _ _ _ _ hS (gls_sub hl [1, 0] rfl)
theorem sX4_following (l : Launch) (E : g_E) (D : g_D) {t : Nat} {v1 : Int32} {G : g_G} {q : Int32 × g_G} (h : fX4_following E t v1 G = some q) : gMet l E D yX4_following (ws_ yX4_following cX4_following 3 (some .int)) 1 64 [.inr (.inr (some t)), .inl v1] G (some (.int q.1)) q.2 := by
  refine gMet.of (by decide +kernel) (Nat.le_of_ble_eq_true rfl) ?_
  intro p e R s m args below meth c C hS ls hl
  have C : gC p R s m args meth c cX4_following 3 RX4 "following" (some .int) 1 64 E D := C
  obtain ⟨hx, hb, hml, hown, hts, hKn, hRc, hRs, hc1, hc2, hRf, hRl, hr, hlk, hnm⟩ := id C
  have hl : gls ls 3 [(0, .inr (.inr (some t))), (1, .inl v1)] := hl
  generalize s.heap = H at hS ⊢
  unfold fX4_following at h
  refine g_aload_n hx hb hl 0 rfl dX4_following_0 ?_
  refine g_rdR hx hb hown hts hKn hS h fd_4_4_29 rfl (Or.inl (hts _ q1894)) (fun _ z => z) dX4_following_1 (fun x1 h => ?_)
  refine g_iload_n hx hb hl 1 rfl dX4_following_4 ?_
  refine g_ialoadG hx hb hKn hS h dX4_following_5 (fun x5 h => ?_)
  refine g_istore_n (l1 := [(2, .inl x5), (0, .inr (.inr (some t))), (1, .inl v1)]) hx hb hl (by decide) rfl dX4_following_6 (fun ls hl => ?_)
  exact sX4_following_b7 C gFU _ _ _ _ h _ _ _ _ _ hS (gls_sub hl [1, 0] rfl)
/-- SendHallModel.hasPlay()Z -/
def fX4_hasPlay (E : g_E) (t : Nat) (G : g_G) : Option (Int32 × g_G) :=
  (grI G 4 4 (some t) 57).bind fun x1 =>
  (grI G 4 4 (some t) 3).bind fun x5 =>
  if ¬ x1 = x5 then (
    if (0 : Int32) = 0 ∨ (0 : Int32) = 1 then some (0, G) else none)
  else (
    (grI G 4 4 (some t) 58).bind fun x12 =>
    (grI G 4 4 (some t) 8).bind fun x16 =>
    if ¬ x12 = x16 then (
      if (0 : Int32) = 0 ∨ (0 : Int32) = 1 then some (0, G) else none)
    else (
      if (1 : Int32) = 0 ∨ (1 : Int32) = 1 then some (1, G) else none))
theorem sX4_hasPlay (l : Launch) (E : g_E) (D : g_D) {t : Nat} {G : g_G} {q : Int32 × g_G} (h : fX4_hasPlay E t G = some q) : gMet l E D yX4_hasPlay (ws_ yX4_hasPlay cX4_hasPlay 1 (some .boolean)) 1 64 [.inr (.inr (some t))] G (some (.int q.1)) q.2 := by
  refine gMet.of (by decide +kernel) (Nat.le_of_ble_eq_true rfl) ?_
  intro p e R s m args below meth c C hS ls hl
  have C : gC p R s m args meth c cX4_hasPlay 1 RX4 "hasPlay" (some .boolean) 1 64 E D := C
  obtain ⟨hx, hb, hml, hown, hts, hKn, hRc, hRs, hc1, hc2, hRf, hRl, hr, hlk, hnm⟩ := id C
  have hl : gls ls 1 [(0, .inr (.inr (some t)))] := hl
  generalize s.heap = H at hS ⊢
  unfold fX4_hasPlay at h
  refine g_aload_n hx hb hl 0 rfl dX4_hasPlay_0 ?_
  refine g_rdI hx hb hown hts hKn hS h fd_4_4_57 rfl (Or.inl (hts _ q1922)) (fun _ z => z) dX4_hasPlay_1 (fun x1 h => ?_)
  refine g_aload_n hx hb hl 0 rfl dX4_hasPlay_4 ?_
  refine g_rdI hx hb hown hts hKn hS h fd_4_4_3 rfl (Or.inl (hts _ q1868)) (fun _ z => z) dX4_hasPlay_5 (fun x5 h => ?_)
  refine lv_icmp_ne (tgt := 26) hx hb dX4_hasPlay_8 (by decide) (fun c_8 => ?_) (fun c_8 => ?_)
  · have h := g_ift c_8 h
    refine lv_iconst (v := 0) hx hb dX4_hasPlay_26 (by decide) ?_
    exact g_zretG hx hb hr hlk hKn hRc hRs hS h dX4_hasPlay_27
  · have h := g_iff (fun z => z c_8) h
    refine g_aload_n hx hb hl 0 rfl dX4_hasPlay_11 ?_
    refine g_rdI hx hb hown hts hKn hS h fd_4_4_58 rfl (Or.inl (hts _ q1923)) (fun _ z => z) dX4_hasPlay_12 (fun x12 h => ?_)
    refine g_aload_n hx hb hl 0 rfl dX4_hasPlay_15 ?_
    refine g_rdI hx hb hown hts hKn hS h fd_4_4_8 rfl (Or.inl (hts _ q1873)) (fun _ z => z) dX4_hasPlay_16 (fun x16 h => ?_)
    refine lv_icmp_ne (tgt := 26) hx hb dX4_hasPlay_19 (by decide) (fun c_19 => ?_) (fun c_19 => ?_)
    · have h := g_ift c_19 h
      refine lv_iconst (v := 0) hx hb dX4_hasPlay_26 (by decide) ?_
      exact g_zretG hx hb hr hlk hKn hRc hRs hS h dX4_hasPlay_27
    · have h := g_iff (fun z => z c_19) h
      refine lv_iconst (v := 1) hx hb dX4_hasPlay_22 (by decide) ?_
      refine lv_goto (tgt := 27) hx hb dX4_hasPlay_23 (by decide) ?_
      exact g_zretG hx hb hr hlk hKn hRc hRs hS h dX4_hasPlay_27
