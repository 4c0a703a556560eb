set_option maxRecDepth 100000
/-- SendHall$Life.begun(I)I -/
def fX3_begun_b48 (E : g_E) (k4 : Nat → Int32 → Int32 → Int32 → g_G → Option (Int32 × g_G)) (t : Nat) (v1 : Int32) (v2 : Int32) (v3 : Int32) (G : g_G) : Option (Int32 × g_G) :=
  k4 t v1 v2 (v3 + 1) G
def fX3_begun_b4 (E : g_E) : Nat → Nat → Int32 → Int32 → Int32 → g_G → Option (Int32 × g_G)
  | 0, _, _, _, _, _ => none
  | n + 1, t, v1, v2, v3, G =>
    (grI G 3 3 (some t) 1).bind fun x6 =>
    if x6 ≤ v3 then (
      some (v2, G))
    else (
      (grR G 3 3 (some t) 8).bind fun x13 =>
      (gaI G 100 x13 v3).bind fun x17 =>
      if (8 : Int32) = 0 then none else
      if ¬ (x17 / 8) = v1 then (
        fX3_begun_b48 E (fX3_begun_b4 E n) t v1 v2 v3 G)
      else (
        (grR G 3 3 (some t) 11).bind fun x26 =>
        (gaI G 100 x26 v3).bind fun x30 =>
        if 0 ≤ x30 then (
          fX3_begun_b48 E (fX3_begun_b4 E n) t v1 v2 v3 G)
        else (
          (grR G 3 3 (some t) 8).bind fun x37 =>
          (gaI G 100 x37 v3).bind fun x41 =>
          if (8 : Int32) = 0 then none else
          fX3_begun_b48 E (fX3_begun_b4 E n) t v1 (v2 ||| (1 <<< ((x41 - x41 / 8 * 8) &&& 31))) v3 G)))
def fX3_begun (E : g_E) (t : Nat) (v1 : Int32) (G : g_G) : Option (Int32 × g_G) :=
  fX3_begun_b4 E gFU t v1 0 0 G
theorem sX3_begun_b48 {p : Program} {l : Launch} {e : Env} {R : Room} {s : State} {m : MethodId} {args : Array Value} {below : List Frame} {meth : Method} {c : Code} {E : g_E} {D : g_D} (C : gC p R s m args meth c cX3_begun 4 RX3 "begun" (some .int) 1 64 E D) {k4 : Nat → Int32 → Int32 → Int32 → g_G → Option (Int32 × g_G)} (hk4 : ∀ (t : Nat) (v1 : Int32) (v2 : Int32) (v3 : Int32) (G : g_G) (q : Int32 × g_G), k4 t v1 v2 v3 G = some q → ∀ (H : Heap) (locs : List Loc) (cells slots : Nat) (ls : Array Slot), gSt E D G H locs → gls ls 4 [(0, .inr (.inr (some t))), (1, .inl v1), (2, .inl v2), (3, .inl v3)] → gT p l e R s m args below meth c E D H locs cells slots (some (.int q.1)) q.2 (F0 m 4 ls [])) : ∀ (t : Nat) (v1 : Int32) (v2 : Int32) (v3 : Int32) (G : g_G) (q : Int32 × g_G), fX3_begun_b48 E k4 t v1 v2 v3 G = some q → ∀ (H : Heap) (locs : List Loc) (cells slots : Nat) (ls : Array Slot), gSt E D G H locs → gls ls 4 [(0, .inr (.inr (some t))), (1, .inl v1), (2, .inl v2), (3, .inl v3)] → gT p l e R s m args below meth c E D H locs cells slots (some (.int q.1)) q.2 (F0 m 48 ls []) := by
  obtain ⟨hx, hb, hml, hown, hts, hKn, hRc, hRs, hc1, hc2, hRf, hRl, hr, hlk, hnm⟩ := id C
  intro t v1 v2 v3 G q h H locs cells slots ls hS hl
  unfold fX3_begun_b48 at h
  refine g_iinc (l1 := [(3, .inl (v3 + 1)), (0, .inr (.inr (some t))), (1, .inl v1), (2, .inl v2)]) (v := (v3 + 1)) hx hb hl (k := 3) rfl (by rfl) (by decide) rfl dX3_begun_48 (fun ls hl => ?_)
  refine lv_goto (tgt := 4) hx hb dX3_begun_51 (by decide) ?_
  exact hk4 _ _ _ _ _ _ h _ _ _ _ _ hS (gls_sub hl [1, 2, 3, 0] rfl)
theorem sX3_begun_b4 {p : Program} {l : Launch} {e : Env} {R : Room} {s : State} {m : MethodId} {args : Array Value} {below : List Frame} {meth : Method} {c : Code} {E : g_E} {D : g_D} (C : gC p R s m args meth c cX3_begun 4 RX3 "begun" (some .int) 1 64 E D) : ∀ (n : Nat) (t : Nat) (v1 : Int32) (v2 : Int32) (v3 : Int32) (G : g_G) (q : Int32 × g_G), fX3_begun_b4 E n t v1 v2 v3 G = some q → ∀ (H : Heap) (locs : List Loc) (cells slots : Nat) (ls : Array Slot), gSt E D G H locs → gls ls 4 [(0, .inr (.inr (some t))), (1, .inl v1), (2, .inl v2), (3, .inl v3)] → gT p l e R s m args below meth c E D H locs cells slots (some (.int q.1)) q.2 (F0 m 4 ls []) := by
  obtain ⟨hx, hb, hml, hown, hts, hKn, hRc, hRs, hc1, hc2, hRf, hRl, hr, hlk, hnm⟩ := id C
  intro n
  induction n with
  | zero =>
    intro t v1 v2 v3 G q h
    exact g_no h
  | succ n ih =>
    intro t v1 v2 v3 G q h H locs cells slots ls hS hl
    rw [fX3_begun_b4] at h
    refine g_iload_n hx hb hl 3 rfl dX3_begun_4 ?_
    refine g_aload_n hx hb hl 0 rfl dX3_begun_5 ?_
    refine g_rdI hx hb hown hts hKn hS h fd_3_3_1 rfl (Or.inl (hts _ q542)) (fun _ z => z) dX3_begun_6 (fun x6 h => ?_)
    refine lv_icmp_ge (tgt := 54) hx hb dX3_begun_9 (by decide) (fun c_9 => ?_) (fun c_9 => ?_)
    · have h := g_ift c_9 h
      refine g_iload_n hx hb hl 2 rfl dX3_begun_54 ?_
      exact g_iretG hx hb hr hlk hKn hRc hRs hS h dX3_begun_55
    · have h := g_iff c_9 h
      refine g_aload_n hx hb hl 0 rfl dX3_begun_12 ?_
      refine g_rdR hx hb hown hts hKn hS h fd_3_3_8 rfl (Or.inl (hts _ q560)) (fun _ z => z) dX3_begun_13 (fun x13 h => ?_)
      refine g_iload_n hx hb hl 3 rfl dX3_begun_16 ?_
      refine g_ialoadG hx hb hKn hS h dX3_begun_17 (fun x17 h => ?_)
      refine lv_bipush (v := 8) hx hb dX3_begun_18 (by decide) ?_
      by_cases hz20 : (8 : Int32) = 0
      · exact g_no (g_ift hz20 h)
      have h := g_iff hz20 h
      refine lv_idiv hx hb dX3_begun_20 hz20 ?_
      refine g_iload_n hx hb hl 1 rfl dX3_begun_21 ?_
      refine lv_icmp_ne (tgt := 48) hx hb dX3_begun_22 (by decide) (fun c_22 => ?_) (fun c_22 => ?_)
      · have h := g_ift c_22 h
        exact sX3_begun_b48 C ih _ _ _ _ _ _ h _ _ _ _ _ hS (gls_sub hl [0, 1, 2, 3] rfl)
      · have h := g_iff (fun z => z c_22) h
        refine g_aload_n hx hb hl 0 rfl dX3_begun_25 ?_
        refine g_rdR hx hb hown hts hKn hS h fd_3_3_11 rfl (Or.inl (hts _ q564)) (fun _ z => z) dX3_begun_26 (fun x26 h => ?_)
        refine g_iload_n hx hb hl 3 rfl dX3_begun_29 ?_
        refine g_ialoadG hx hb hKn hS h dX3_begun_30 (fun x30 h => ?_)
        refine lv_if_ge (tgt := 48) hx hb dX3_begun_31 (by decide) (fun c_31 => ?_) (fun c_31 => ?_)
        · have h := g_ift c_31 h
          exact sX3_begun_b48 C ih _ _ _ _ _ _ h _ _ _ _ _ hS (gls_sub hl [0, 1, 2, 3] rfl)
        · have h := g_iff c_31 h
          refine g_iload_n hx hb hl 2 rfl dX3_begun_34 ?_
          refine lv_iconst (v := 1) hx hb dX3_begun_35 (by decide) ?_
          refine g_aload_n hx hb hl 0 rfl dX3_begun_36 ?_
          refine g_rdR hx hb hown hts hKn hS h fd_3_3_8 rfl (Or.inl (hts _ q560)) (fun _ z => z) dX3_begun_37 (fun x37 h => ?_)
          refine g_iload_n hx hb hl 3 rfl dX3_begun_40 ?_
          refine g_ialoadG hx hb hKn hS h dX3_begun_41 (fun x41 h => ?_)
          refine lv_bipush (v := 8) hx hb dX3_begun_42 (by decide) ?_
          by_cases hz44 : (8 : Int32) = 0
          · exact g_no (g_ift hz44 h)
          have h := g_iff hz44 h
          refine lv_irem hx hb dX3_begun_44 hz44 ?_
          refine lv_ishl hx hb dX3_begun_45 ?_
          refine lv_ior hx hb dX3_begun_46 ?_
          refine g_istore_n (l1 := [(2, .inl (v2 ||| (1 <<< ((x41 - x41 / 8 * 8) &&& 31)))), (0, .inr (.inr (some t))), (1, .inl v1), (3, .inl v3)]) hx hb hl (by decide) rfl dX3_begun_47 (fun ls hl => ?_)
          exact sX3_begun_b48 C ih _ _ _ _ _ _ h _ _ _ _ _ hS (gls_sub hl [1, 2, 0, 3] rfl)
theorem sX3_begun (l : Launch) (E : g_E) (D : g_D) {t : Nat} {v1 : Int32} {G : g_G} {q : Int32 × g_G} (h : fX3_begun E t v1 G = some q) : gMet l E D yX3_begun (ws_ yX3_begun cX3_begun 4 (some .int)) 1 64 [.inr (.inr (some t)), .inl v1] G (some (.int q.1)) q.2 := by
  refine gMet.of (by decide +kernel) (Nat.le_of_ble_eq_true rfl) ?_
  intro p e R s m args below meth c C hS ls hl
  have C : gC p R s m args meth c cX3_begun 4 RX3 "begun" (some .int) 1 64 E D := C
  obtain ⟨hx, hb, hml, hown, hts, hKn, hRc, hRs, hc1, hc2, hRf, hRl, hr, hlk, hnm⟩ := id C
  have hl : gls ls 4 [(0, .inr (.inr (some t))), (1, .inl v1)] := hl
  generalize s.heap = H at hS ⊢
  unfold fX3_begun at h
  refine lv_iconst (v := 0) hx hb dX3_begun_0 (by decide) ?_
  refine g_istore_n (l1 := [(2, .inl 0), (0, .inr (.inr (some t))), (1, .inl v1)]) hx hb hl (by decide) rfl dX3_begun_1 (fun ls hl => ?_)
  refine lv_iconst (v := 0) hx hb dX3_begun_2 (by decide) ?_
  refine g_istore_n (l1 := [(3, .inl 0), (2, .inl 0), (0, .inr (.inr (some t))), (1, .inl v1)]) hx hb hl (by decide) rfl dX3_begun_3 (fun ls hl => ?_)
  exact sX3_begun_b4 C gFU _ _ _ _ _ _ h _ _ _ _ _ hS (gls_sub hl [2, 3, 1, 0] rfl)
/-- SendHall$Life.first(III)I -/
def fX3_first_b42 (E : g_E) (k3 : Nat → Int32 → Int32 → Int32 → Int32 → g_G → Option (Int32 × g_G)) (t : Nat) (v1 : Int32) (v2 : Int32) (v3 : Int32) (v4 : Int32) (G : g_G) : Option (Int32 × g_G) :=
  k3 t v1 v2 v3 (v4 + 1) G
def fX3_first_b3 (E : g_E) : Nat → Nat → Int32 → Int32 → Int32 → Int32 → g_G → Option (Int32 × g_G)
  | 0, _, _, _, _, _, _ => none
  | n + 1, t, v1, v2, v3, v4, G =>
    (grI G 3 3 (some t) 1).bind fun x6 =>
    if x6 ≤ v4 then (
      some ((-1), G))
    else (
      (grR G 3 3 (some t) 8).bind fun x13 =>
      (gaI G 100 x13 v4).bind fun x18 =>
      if ¬ x18 = ((8 * v1) + v2) then (
        fX3_first_b42 E (fX3_first_b3 E n) t v1 v2 v3 v4 G)
      else (
        (grR G 3 3 (some t) 9).bind fun x29 =>
        (gaI G 100 x29 v4).bind fun x34 =>
        if ¬ x34 = v3 then (
          fX3_first_b42 E (fX3_first_b3 E n) t v1 v2 v3 v4 G)
        else (
          some (v4, G))))
def fX3_first (E : g_E) (t : Nat) (v1 : Int32) (v2 : Int32) (v3 : Int32) (G : g_G) : Option (Int32 × g_G) :=
  fX3_first_b3 E gFU t v1 v2 v3 0 G
theorem sX3_first_b42 {p : Program} {l : Launch} {e : Env} {R : Room} {s : State} {m : MethodId} {args : Array Value} {below : List Frame} {meth : Method} {c : Code} {E : g_E} {D : g_D} (C : gC p R s m args meth c cX3_first 5 RX3 "first" (some .int) 1 64 E D) {k3 : Nat → Int32 → Int32 → Int32 → Int32 → g_G → Option (Int32 × g_G)} (hk3 : ∀ (t : Nat) (v1 : Int32) (v2 : Int32) (v3 : Int32) (v4 : Int32) (G : g_G) (q : Int32 × g_G), k3 t v1 v2 v3 v4 G = some q → ∀ (H : Heap) (locs : List Loc) (cells slots : Nat) (ls : Array Slot), gSt E D G H locs → gls ls 5 [(0, .inr (.inr (some t))), (1, .inl v1), (2, .inl v2), (3, .inl v3), (4, .inl v4)] → gT p l e R s m args below meth c E D H locs cells slots (some (.int q.1)) q.2 (F0 m 3 ls [])) : ∀ (t : Nat) (v1 : Int32) (v2 : Int32) (v3 : Int32) (v4 : Int32) (G : g_G) (q : Int32 × g_G), fX3_first_b42 E k3 t v1 v2 v3 v4 G = some q → ∀ (H : Heap) (locs : List Loc) (cells slots : Nat) (ls : Array Slot), gSt E D G H locs → gls ls 5 [(0, .inr (.inr (some t))), (1, .inl v1), (2, .inl v2), (3, .inl v3), (4, .inl v4)] → gT p l e R s m args below meth c E D H locs cells slots (some (.int q.1)) q.2 (F0 m 42 ls []) := by
  obtain ⟨hx, hb, hml, hown, hts, hKn, hRc, hRs, hc1, hc2, hRf, hRl, hr, hlk, hnm⟩ := id C
  intro t v1 v2 v3 v4 G q h H locs cells slots ls hS hl
  unfold fX3_first_b42 at h
  refine g_iinc (l1 := [(4, .inl (v4 + 1)), (0, .inr (.inr (some t))), (1, .inl v1), (2, .inl v2), (3, .inl v3)]) (v := (v4 + 1)) hx hb hl (k := 4) rfl (by rfl) (by decide) rfl dX3_first_42 (fun ls hl => ?_)
  refine lv_goto (tgt := 3) hx hb dX3_first_45 (by decide) ?_
  exact hk3 _ _ _ _ _ _ _ h _ _ _ _ _ hS (gls_sub hl [1, 2, 3, 4, 0] rfl)
theorem sX3_first_b3 {p : Program} {l : Launch} {e : Env} {R : Room} {s : State} {m : MethodId} {args : Array Value} {below : List Frame} {meth : Method} {c : Code} {E : g_E} {D : g_D} (C : gC p R s m args meth c cX3_first 5 RX3 "first" (some .int) 1 64 E D) : ∀ (n : Nat) (t : Nat) (v1 : Int32) (v2 : Int32) (v3 : Int32) (v4 : Int32) (G : g_G) (q : Int32 × g_G), fX3_first_b3 E n t v1 v2 v3 v4 G = some q → ∀ (H : Heap) (locs : List Loc) (cells slots : Nat) (ls : Array Slot), gSt E D G H locs → gls ls 5 [(0, .inr (.inr (some t))), (1, .inl v1), (2, .inl v2), (3, .inl v3), (4, .inl v4)] → gT p l e R s m args below meth c E D H locs cells slots (some (.int q.1)) q.2 (F0 m 3 ls []) := by
  obtain ⟨hx, hb, hml, hown, hts, hKn, hRc, hRs, hc1, hc2, hRf, hRl, hr, hlk, hnm⟩ := id C
  intro n
  induction n with
  | zero =>
    intro t v1 v2 v3 v4 G q h
    exact g_no h
  | succ n ih =>
    intro t v1 v2 v3 v4 G q h H locs cells slots ls hS hl
    rw [fX3_first_b3] at h
    refine g_iload hx hb hl 4 rfl dX3_first_3 ?_
    refine g_aload_n hx hb hl 0 rfl dX3_first_5 ?_
    refine g_rdI hx hb hown hts hKn hS h fd_3_3_1 rfl (Or.inl (hts _ q542)) (fun _ z => z) dX3_first_6 (fun x6 h => ?_)
    refine lv_icmp_ge (tgt := 48) hx hb dX3_first_9 (by decide) (fun c_9 => ?_) (fun c_9 => ?_)
    · have h := g_ift c_9 h
      refine lv_iconst (v := (-1)) hx hb dX3_first_48 (by decide) ?_
      exact g_iretG hx hb hr hlk hKn hRc hRs hS h dX3_first_49
    · have h := g_iff c_9 h
      refine g_aload_n hx hb hl 0 rfl dX3_first_12 ?_
      refine g_rdR hx hb hown hts hKn hS h fd_3_3_8 rfl (Or.inl (hts _ q560)) (fun _ z => z) dX3_first_13 (fun x13 h => ?_)
      refine g_iload hx hb hl 4 rfl dX3_first_16 ?_
      refine g_ialoadG hx hb hKn hS h dX3_first_18 (fun x18 h => ?_)
      refine lv_bipush (v := 8) hx hb dX3_first_19 (by decide) ?_
      refine g_iload_n hx hb hl 1 rfl dX3_first_21 ?_
      refine lv_imul hx hb dX3_first_22 ?_
      refine g_iload_n hx hb hl 2 rfl dX3_first_23 ?_
      refine lv_iadd hx hb dX3_first_24 ?_
      refine lv_icmp_ne (tgt := 42) hx hb dX3_first_25 (by decide) (fun c_25 => ?_) (fun c_25 => ?_)
      · have h := g_ift c_25 h
        exact sX3_first_b42 C ih _ _ _ _ _ _ _ h _ _ _ _ _ hS (gls_sub hl [0, 1, 2, 3, 4] rfl)
      · have h := g_iff (fun z => z c_25) h
        refine g_aload_n hx hb hl 0 rfl dX3_first_28 ?_
        refine g_rdR hx hb hown hts hKn hS h fd_3_3_9 rfl (Or.inl (hts _ q561)) (fun _ z => z) dX3_first_29 (fun x29 h => ?_)
        refine g_iload hx hb hl 4 rfl dX3_first_32 ?_
        refine g_ialoadG hx hb hKn hS h dX3_first_34 (fun x34 h => ?_)
        refine g_iload_n hx hb hl 3 rfl dX3_first_35 ?_
        refine lv_icmp_ne (tgt := 42) hx hb dX3_first_36 (by decide) (fun c_36 => ?_) (fun c_36 => ?_)
        · have h := g_ift c_36 h
          exact sX3_first_b42 C ih _ _ _ _ _ _ _ h _ _ _ _ _ hS (gls_sub hl [0, 1, 2, 3, 4] rfl)
        · have h := g_iff (fun z => z c_36) h
          refine g_iload hx hb hl 4 rfl dX3_first_39 ?_
          exact g_iretG hx hb hr hlk hKn hRc hRs hS h dX3_first_41
theorem sX3_first (l : Launch) (E : g_E) (D : g_D) {t : Nat} {v1 : Int32} {v2 : Int32} {v3 : Int32} {G : g_G} {q : Int32 × g_G} (h : fX3_first E t v1 v2 v3 G = some q) : gMet l E D yX3_first (ws_ yX3_first cX3_first 5 (some .int)) 1 64 [.inr (.inr (some t)), .inl v1, .inl v2, .inl v3] G (some (.int q.1)) q.2 := by
  refine gMet.of (by decide +kernel) (Nat.le_of_ble_eq_true rfl) ?_
  intro p e R s m args below meth c C hS ls hl
  have C : gC p R s m args meth c cX3_first 5 RX3 "first" (some .int) 1 64 E D := C
  obtain ⟨hx, hb, hml, hown, hts, hKn, hRc, hRs, hc1, hc2, hRf, hRl, hr, hlk, hnm⟩ := id C
  have hl : gls ls 5 [(0, .inr (.inr (some t))), (1, .inl v1), (2, .inl v2), (3, .inl v3)] := hl
  generalize s.heap = H at hS ⊢
  unfold fX3_first at h
  refine lv_iconst (v := 0) hx hb dX3_first_0 (by decide) ?_
  refine g_istore (l1 := [(4, .inl 0), (0, .inr (.inr (some t))), (1, .inl v1), (2, .inl v2), (3, .inl v3)]) hx hb hl (by decide) rfl dX3_first_1 (fun ls hl => ?_)
  exact sX3_first_b3 C gFU _ _ _ _ _ _ _ h _ _ _ _ _ hS (gls_sub hl [1, 2, 3, 4, 0] rfl)
/-- SendHall$Life.hasEnded(I)Z -/
def fX3_hasEnded (E : g_E) (t : Nat) (v1 : Int32) (G : g_G) : Option (Int32 × g_G) :=
  (grR G 3 3 (some t) 3).bind fun x1 =>
  (gaR G 122 x1 v1).bind fun x5 =>
  if ¬ x5 = none then (
    if (0 : Int32) = 0 ∨ (0 : Int32) = 1 then some (0, G) else none)
  else (
    if (1 : Int32) = 0 ∨ (1 : Int32) = 1 then some (1, G) else none)
theorem sX3_hasEnded (l : Launch) (E : g_E) (D : g_D) {t : Nat} {v1 : Int32} {G : g_G} {q : Int32 × g_G} (h : fX3_hasEnded E t v1 G = some q) : gMet l E D yX3_hasEnded (ws_ yX3_hasEnded cX3_hasEnded 2 (some .boolean)) 1 64 [.inr (.inr (some t)), .inl v1] G (some (.int q.1)) q.2 := by
  refine gMet.of (by decide +kernel) (Nat.le_of_ble_eq_true rfl) ?_
  intro p e R s m args below meth c C hS ls hl
  have C : gC p R s m args meth c cX3_hasEnded 2 RX3 "hasEnded" (some .boolean) 1 64 E D := C
  obtain ⟨hx, hb, hml, hown, hts, hKn, hRc, hRs, hc1, hc2, hRf, hRl, hr, hlk, hnm⟩ := id C
  have hl : gls ls 2 [(0, .inr (.inr (some t))), (1, .inl v1)] := hl
  generalize s.heap = H at hS ⊢
  unfold fX3_hasEnded at h
  refine g_aload_n hx hb hl 0 rfl dX3_hasEnded_0 ?_
  refine g_rdR hx hb hown hts hKn hS h fd_3_3_3 rfl (Or.inl (hts _ q544)) (fun _ z => z) dX3_hasEnded_1 (fun x1 h => ?_)
  refine g_iload_n hx hb hl 1 rfl dX3_hasEnded_4 ?_
  refine g_aaloadG hx hb hKn hS h (by decide) dX3_hasEnded_5 (fun x5 h => ?_)
  refine g_ifnonnull (tgt := 13) hx hb dX3_hasEnded_6 (by decide) (fun c_6 => ?_) (fun c_6 => ?_)
  · have h := g_ift c_6 h
    refine lv_iconst (v := 0) hx hb dX3_hasEnded_13 (by decide) ?_
    exact g_zretG hx hb hr hlk hKn hRc hRs hS h dX3_hasEnded_14
  · have h := g_iff (fun z => z c_6) h
    refine lv_iconst (v := 1) hx hb dX3_hasEnded_9 (by decide) ?_
    refine lv_goto (tgt := 14) hx hb dX3_hasEnded_10 (by decide) ?_
    exact g_zretG hx hb hr hlk hKn hRc hRs hS h dX3_hasEnded_14
/-- SendHall$Life.hashes()V -/
def fX3_hashes_b92 (E : g_E) : Nat → Nat → Int32 → Int32 → g_G → Option (g_G)
  | 0, _, _, _, _ => none
  | n + 1, t, v1, v2, G =>
    (grI G 3 3 (some t) 1).bind fun x94 =>
    if x94 ≤ v2 then (
      (gpI E G 3 3 (some t) 2 v1).bind fun G130 =>
      some G130)
    else (
      (grR G 3 3 (some t) 8).bind fun x107 =>
      (gaI G 100 x107 v2).bind fun x111 =>
      (grR G 3 3 (some t) 10).bind fun x115 =>
      (gaI G 100 x115 v2).bind fun x119 =>
      fX3_hashes_b92 E n t ((31 * ((31 * v1) + x111)) + x119) (v2 + 1) G)
def fX3_hashes_b57 (E : g_E) (k7 : Nat → Int32 → Int32 → g_G → Option (g_G)) : Nat → Nat → Int32 → Int32 → Int32 → g_G → Option (g_G)
  | 0, _, _, _, _, _ => none
  | n + 1, t, v1, v2, v3, G =>
    if (4 : Int32) ≤ v3 then (
      k7 t v1 (v2 + 1) G)
    else (
      (grR G 3 3 (some t) 5).bind fun x67 =>
      (gaI G 100 x67 ((4 * v2) + v3)).bind fun x75 =>
      fX3_hashes_b57 E k7 n t ((31 * v1) + x75) v2 (v3 + 1) G)
def fX3_hashes_b41 (E : g_E) (k7 : Nat → Int32 → Int32 → g_G → Option (g_G)) (t : Nat) (v2 : Int32) (s0 : Int32) (s1 : Int32) (G : g_G) : Option (g_G) :=
  (grR G 3 3 (some t) 7).bind fun x48 =>
  (gaI G 100 x48 v2).bind fun x52 =>
  fX3_hashes_b57 E k7 gFU t ((31 * (s0 + s1)) + x52) v2 0 G
def fX3_hashes_b7 (E : g_E) : Nat → Nat → Int32 → Int32 → g_G → Option (g_G)
  | 0, _, _, _, _ => none
  | n + 1, t, v1, v2, G =>
    (grI G 3 3 (some t) 0).bind fun x9 =>
    if x9 ≤ v2 then (
      fX3_hashes_b92 E gFU t v1 0 G)
    else (
      (grR G 3 3 (some t) 3).bind fun x20 =>
      (gaR G 122 x20 v2).bind fun x24 =>
      if ¬ x24 = none then (
        (grR G 3 3 (some t) 3).bind fun x33 =>
        (gaR G 122 x33 v2).bind fun x37 =>
        (grI G 11 16 x37 1).bind fun x38 =>
        fX3_hashes_b41 E (fX3_hashes_b7 E n) t v2 (31 * v1) x38 G)
      else (
        fX3_hashes_b41 E (fX3_hashes_b7 E n) t v2 (31 * v1) (-1) G))
def fX3_hashes (E : g_E) (t : Nat) (G : g_G) : Option (g_G) :=
  (grI G 3 3 (some t) 1).bind fun x1 =>
  fX3_hashes_b7 E gFU t x1 0 G
theorem sX3_hashes_b92 {p : Program} {l : Launch} {e : Env} {R : Room} {s : State} {m : MethodId} {args : Array Value} {below : List Frame} {meth : Method} {c : Code} {E : g_E} {D : g_D} (C : gC p R s m args meth c cX3_hashes 4 RX3 "hashes" (none) 1 64 E D) : ∀ (n : Nat) (t : Nat) (v1 : Int32) (v2 : Int32) (G : g_G) (q : g_G), fX3_hashes_b92 E n t v1 v2 G = some q → ∀ (H : Heap) (locs : List Loc) (cells slots : Nat) (ls : Array Slot), gSt E D G H locs → gls ls 4 [(0, .inr (.inr (some t))), (1, .inl v1), (2, .inl v2)] → gT p l e R s m args below meth c E D H locs cells slots none q (F0 m 92 ls []) := by
  obtain ⟨hx, hb, hml, hown, hts, hKn, hRc, hRs, hc1, hc2, hRf, hRl, hr, hlk, hnm⟩ := id C
  intro n
  induction n with
  | zero =>
    intro t v1 v2 G q h
    exact g_no h
  | succ n ih =>
    intro t v1 v2 G q h H locs cells slots ls hS hl
    rw [fX3_hashes_b92] at h
    refine g_iload_n hx hb hl 2 rfl dX3_hashes_92 ?_
    refine g_aload_n hx hb hl 0 rfl dX3_hashes_93 ?_
    refine g_rdI hx hb hown hts hKn hS h fd_3_3_1 rfl (Or.inl (hts _ q542)) (fun _ z => z) dX3_hashes_94 (fun x94 h => ?_)
    refine lv_icmp_ge (tgt := 128) hx hb dX3_hashes_97 (by decide) (fun c_97 => ?_) (fun c_97 => ?_)
    · have h := g_ift c_97 h
      refine g_aload_n hx hb hl 0 rfl dX3_hashes_128 ?_
      refine g_iload_n hx hb hl 1 rfl dX3_hashes_129 ?_
      refine g_ptI hx hb hown hts hKn hS h fd_3_3_2 (Or.inl (hts _ q543)) (fun _ z => z) (fun z => nomatch z) dX3_hashes_130 (fun G130 h H locs hS => ?_)
      exact g_vretG hx hb hr hlk hKn hRc hRs hS h dX3_hashes_133
    · have h := g_iff c_97 h
      refine lv_bipush (v := 31) hx hb dX3_hashes_100 (by decide) ?_
      refine lv_bipush (v := 31) hx hb dX3_hashes_102 (by decide) ?_
      refine g_iload_n hx hb hl 1 rfl dX3_hashes_104 ?_
      refine lv_imul hx hb dX3_hashes_105 ?_
      refine g_aload_n hx hb hl 0 rfl dX3_hashes_106 ?_
      refine g_rdR hx hb hown hts hKn hS h fd_3_3_8 rfl (Or.inl (hts _ q560)) (fun _ z => z) dX3_hashes_107 (fun x107 h => ?_)
      refine g_iload_n hx hb hl 2 rfl dX3_hashes_110 ?_
      refine g_ialoadG hx hb hKn hS h dX3_hashes_111 (fun x111 h => ?_)
      refine lv_iadd hx hb dX3_hashes_112 ?_
      refine lv_imul hx hb dX3_hashes_113 ?_
      refine g_aload_n hx hb hl 0 rfl dX3_hashes_114 ?_
      refine g_rdR hx hb hown hts hKn hS h fd_3_3_10 rfl (Or.inl (hts _ q562)) (fun _ z => z) dX3_hashes_115 (fun x115 h => ?_)
      refine g_iload_n hx hb hl 2 rfl dX3_hashes_118 ?_
      refine g_ialoadG hx hb hKn hS h dX3_hashes_119 (fun x119 h => ?_)
      refine lv_iadd hx hb dX3_hashes_120 ?_
      refine g_istore_n (l1 := [(1, .inl ((31 * ((31 * v1) + x111)) + x119)), (0, .inr (.inr (some t))), (2, .inl v2)]) hx hb hl (by decide) rfl dX3_hashes_121 (fun ls hl => ?_)
      refine g_iinc (l1 := [(2, .inl (v2 + 1)), (1, .inl ((31 * ((31 * v1) + x111)) + x119)), (0, .inr (.inr (some t)))]) (v := (v2 + 1)) hx hb hl (k := 2) rfl (by rfl) (by decide) rfl dX3_hashes_122 (fun ls hl => ?_)
      refine lv_goto (tgt := 92) hx hb dX3_hashes_125 (by decide) ?_
      exact ih _ _ _ _ _ h _ _ _ _ _ hS (gls_sub hl [2, 1, 0] rfl)
theorem sX3_hashes_b57 {p : Program} {l : Launch} {e : Env} {R : Room} {s : State} {m : MethodId} {args : Array Value} {below : List Frame} {meth : Method} {c : Code} {E : g_E} {D : g_D} (C : gC p R s m args meth c cX3_hashes 4 RX3 "hashes" (none) 1 64 E D) {k7 : Nat → Int32 → Int32 → g_G → Option (g_G)} (hk7 : ∀ (t : Nat) (v1 : Int32) (v2 : Int32) (G : g_G) (q : g_G), k7 t v1 v2 G = some q → ∀ (H : Heap) (locs : List Loc) (cells slots : Nat) (ls : Array Slot), gSt E D G H locs → gls ls 4 [(0, .inr (.inr (some t))), (1, .inl v1), (2, .inl v2)] → gT p l e R s m args below meth c E D H locs cells slots none q (F0 m 7 ls [])) : ∀ (n : Nat) (t : Nat) (v1 : Int32) (v2 : Int32) (v3 : Int32) (G : g_G) (q : g_G), fX3_hashes_b57 E k7 n t v1 v2 v3 G = some q → ∀ (H : Heap) (locs : List Loc) (cells slots : Nat) (ls : Array Slot), gSt E D G H locs → gls ls 4 [(0, .inr (.inr (some t))), (1, .inl v1), (2, .inl v2), (3, .inl v3)] → gT p l e R s m args below meth c E D H locs cells slots none q (F0 m 57 ls []) := by
  obtain ⟨hx, hb, hml, hown, hts, hKn, hRc, hRs, hc1, hc2, hRf, hRl, hr, hlk, hnm⟩ := id C
  intro n
  induction n with
  | zero =>
    intro t v1 v2 v3 G q h
    exact g_no h
  | succ n ih =>
    intro t v1 v2 v3 G q h H locs cells slots ls hS hl
    rw [fX3_hashes_b57] at h
    refine g_iload_n hx hb hl 3 rfl dX3_hashes_57 ?_
    refine lv_iconst (v := 4) hx hb dX3_hashes_58 (by decide) ?_
    refine lv_icmp_ge (tgt := 84) hx hb dX3_hashes_59 (by decide) (fun c_59 => ?_) (fun c_59 => ?_)
    · have h := g_ift c_59 h
      refine g_iinc (l1 := [(2, .inl (v2 + 1)), (0, .inr (.inr (some t))), (1, .inl v1), (3, .inl v3)]) (v := (v2 + 1)) hx hb hl (k := 2) rfl (by rfl) (by decide) rfl dX3_hashes_84 (fun ls hl => ?_)
      refine lv_goto (tgt := 7) hx hb dX3_hashes_87 (by decide) ?_
      exact hk7 _ _ _ _ _ h _ _ _ _ _ hS (gls_sub hl [1, 2, 0] rfl)
    · have h := g_iff c_59 h
      refine lv_bipush (v := 31) hx hb dX3_hashes_62 (by decide) ?_
      refine g_iload_n hx hb hl 1 rfl dX3_hashes_64 ?_
      refine lv_imul hx hb dX3_hashes_65 ?_
      refine g_aload_n hx hb hl 0 rfl dX3_hashes_66 ?_
      refine g_rdR hx hb hown hts hKn hS h fd_3_3_5 rfl (Or.inl (hts _ q550)) (fun _ z => z) dX3_hashes_67 (fun x67 h => ?_)
      refine lv_iconst (v := 4) hx hb dX3_hashes_70 (by decide) ?_
      refine g_iload_n hx hb hl 2 rfl dX3_hashes_71 ?_
      refine lv_imul hx hb dX3_hashes_72 ?_
      refine g_iload_n hx hb hl 3 rfl dX3_hashes_73 ?_
      refine lv_iadd hx hb dX3_hashes_74 ?_
      refine g_ialoadG hx hb hKn hS h dX3_hashes_75 (fun x75 h => ?_)
      refine lv_iadd hx hb dX3_hashes_76 ?_
      refine g_istore_n (l1 := [(1, .inl ((31 * v1) + x75)), (0, .inr (.inr (some t))), (2, .inl v2), (3, .inl v3)]) hx hb hl (by decide) rfl dX3_hashes_77 (fun ls hl => ?_)
      refine g_iinc (l1 := [(3, .inl (v3 + 1)), (1, .inl ((31 * v1) + x75)), (0, .inr (.inr (some t))), (2, .inl v2)]) (v := (v3 + 1)) hx hb hl (k := 3) rfl (by rfl) (by decide) rfl dX3_hashes_78 (fun ls hl => ?_)
      refine lv_goto (tgt := 57) hx hb dX3_hashes_81 (by decide) ?_
      exact ih _ _ _ _ _ _ h _ _ _ _ _ hS (gls_sub hl [2, 1, 3, 0] rfl)
theorem sX3_hashes_b41 {p : Program} {l : Launch} {e : Env} {R : Room} {s : State} {m : MethodId} {args : Array Value} {below : List Frame} {meth : Method} {c : Code} {E : g_E} {D : g_D} (C : gC p R s m args meth c cX3_hashes 4 RX3 "hashes" (none) 1 64 E D) {k7 : Nat → Int32 → Int32 → g_G → Option (g_G)} (hk7 : ∀ (t : Nat) (v1 : Int32) (v2 : Int32) (G : g_G) (q : g_G), k7 t v1 v2 G = some q → ∀ (H : Heap) (locs : List Loc) (cells slots : Nat) (ls : Array Slot), gSt E D G H locs → gls ls 4 [(0, .inr (.inr (some t))), (1, .inl v1), (2, .inl v2)] → gT p l e R s m args below meth c E D H locs cells slots none q (F0 m 7 ls [])) : ∀ (t : Nat) (v2 : Int32) (s0 : Int32) (s1 : Int32) (G : g_G) (q : g_G), fX3_hashes_b41 E k7 t v2 s0 s1 G = some q → ∀ (H : Heap) (locs : List Loc) (cells slots : Nat) (ls : Array Slot), gSt E D G H locs → gls ls 4 [(0, .inr (.inr (some t))), (2, .inl v2)] → gT p l e R s m args below meth c E D H locs cells slots none q (F0 m 41 ls [.int s1, .int s0]) := by
  obtain ⟨hx, hb, hml, hown, hts, hKn, hRc, hRs, hc1, hc2, hRf, hRl, hr, hlk, hnm⟩ := id C
  intro t v2 s0 s1 G q h H locs cells slots ls hS hl
  unfold fX3_hashes_b41 at h
  refine lv_iadd hx hb dX3_hashes_41 ?_
  refine g_istore_n (l1 := [(1, .inl (s0 + s1)), (0, .inr (.inr (some t))), (2, .inl v2)]) hx hb hl (by decide) rfl dX3_hashes_42 (fun ls hl => ?_)
  refine lv_bipush (v := 31) hx hb dX3_hashes_43 (by decide) ?_
  refine g_iload_n hx hb hl 0 rfl dX3_hashes_45 ?_
  refine lv_imul hx hb dX3_hashes_46 ?_
  refine g_aload_n hx hb hl 1 rfl dX3_hashes_47 ?_
  refine g_rdR hx hb hown hts hKn hS h fd_3_3_7 rfl (Or.inl (hts _ q557)) (fun _ z => z) dX3_hashes_48 (fun x48 h => ?_)
  refine g_iload_n hx hb hl 2 rfl dX3_hashes_51 ?_
  refine g_ialoadG hx hb hKn hS h dX3_hashes_52 (fun x52 h => ?_)
  refine lv_iadd hx hb dX3_hashes_53 ?_
  refine g_istore_n (l1 := [(1, .inl ((31 * (s0 + s1)) + x52)), (0, .inr (.inr (some t))), (2, .inl v2)]) hx hb hl (by decide) rfl dX3_hashes_54 (fun ls hl => ?_)
  refine lv_iconst (v := 0) hx hb dX3_hashes_55 (by decide) ?_
  refine g_istore_n (l1 := [(3, .inl 0), (1, .inl ((31 * (s0 + s1)) + x52)), (0, .inr (.inr (some t))), (2, .inl v2)]) hx hb hl (by decide) rfl dX3_hashes_56 (fun ls hl => ?_)
  exact sX3_hashes_b57 C hk7 gFU _ _ _ _ _ _ h _ _ _ _ _ hS (gls_sub hl [2, 1, 3, 0] rfl)
theorem sX3_hashes_b7 {p : Program} {l : Launch} {e : Env} {R : Room} {s : State} {m : MethodId} {args : Array Value} {below : List Frame} {meth : Method} {c : Code} {E : g_E} {D : g_D} (C : gC p R s m args meth c cX3_hashes 4 RX3 "hashes" (none) 1 64 E D) : ∀ (n : Nat) (t : Nat) (v1 : Int32) (v2 : Int32) (G : g_G) (q : g_G), fX3_hashes_b7 E n t v1 v2 G = some q → ∀ (H : Heap) (locs : List Loc) (cells slots : Nat) (ls : Array Slot), gSt E D G H locs → gls ls 4 [(0, .inr (.inr (some t))), (1, .inl v1), (2, .inl v2)] → gT p l e R s m args below meth c E D H locs cells slots none q (F0 m 7 ls []) := by
  obtain ⟨hx, hb, hml, hown, hts, hKn, hRc, hRs, hc1, hc2, hRf, hRl, hr, hlk, hnm⟩ := id C
  intro n
  induction n with
  | zero =>
    intro t v1 v2 G q h
    exact g_no h
  | succ n ih =>
    intro t v1 v2 G q h H locs cells slots ls hS hl
    rw [fX3_hashes_b7] at h
    refine g_iload_n hx hb hl 2 rfl dX3_hashes_7 ?_
    refine g_aload_n hx hb hl 0 rfl dX3_hashes_8 ?_
    refine g_rdI hx hb hown hts hKn hS h fd_3_3_0 rfl (Or.inl (hts _ q538)) (fun _ z => z) dX3_hashes_9 (fun x9 h => ?_)
    refine lv_icmp_ge (tgt := 90) hx hb dX3_hashes_12 (by decide) (fun c_12 => ?_) (fun c_12 => ?_)
    · have h := g_ift c_12 h
      refine lv_iconst (v := 0) hx hb dX3_hashes_90 (by decide) ?_
      refine g_istore_n (l1 := [(2, .inl 0), (0, .inr (.inr (some t))), (1, .inl v1)]) hx hb hl (by decide) rfl dX3_hashes_91 (fun ls hl => ?_)
      exact sX3_hashes_b92 C gFU _ _ _ _ _ h _ _ _ _ _ hS (gls_sub hl [1, 2, 0] rfl)
    · have h := g_iff c_12 h
      refine lv_bipush (v := 31) hx hb dX3_hashes_15 (by decide) ?_
      refine g_iload_n hx hb hl 1 rfl dX3_hashes_17 ?_
      refine lv_imul hx hb dX3_hashes_18 ?_
      refine g_aload_n hx hb hl 0 rfl dX3_hashes_19 ?_
      refine g_rdR hx hb hown hts hKn hS h fd_3_3_3 rfl (Or.inl (hts _ q544)) (fun _ z => z) dX3_hashes_20 (fun x20 h => ?_)
      refine g_iload_n hx hb hl 2 rfl dX3_hashes_23 ?_
      refine g_aaloadG hx hb hKn hS h (by decide) dX3_hashes_24 (fun x24 h => ?_)
      refine g_ifnonnull (tgt := 32) hx hb dX3_hashes_25 (by decide) (fun c_25 => ?_) (fun c_25 => ?_)
      · have h := g_ift c_25 h
        refine g_aload_n hx hb hl 0 rfl dX3_hashes_32 ?_
        refine g_rdR hx hb hown hts hKn hS h fd_3_3_3 rfl (Or.inl (hts _ q544)) (fun _ z => z) dX3_hashes_33 (fun x33 h => ?_)
        refine g_iload_n hx hb hl 2 rfl dX3_hashes_36 ?_
        refine g_aaloadG hx hb hKn hS h (by decide) dX3_hashes_37 (fun x37 h => ?_)
        refine g_rdI hx hb hown hts hKn hS h fd_11_16_1 rfl (Or.inl (hts _ q1429)) (fun _ z => z) dX3_hashes_38 (fun x38 h => ?_)
        exact sX3_hashes_b41 C ih _ _ _ _ _ _ h _ _ _ _ _ hS (gls_sub hl [0, 2] rfl)
      · have h := g_iff (fun z => z c_25) h
        refine lv_iconst (v := (-1)) hx hb dX3_hashes_28 (by decide) ?_
        refine lv_goto (tgt := 41) hx hb dX3_hashes_29 (by decide) ?_
        exact sX3_hashes_b41 C ih _ _ _ _ _ _ h _ _ _ _ _ hS (gls_sub hl [0, 2] rfl)
theorem sX3_hashes (l : Launch) (E : g_E) (D : g_D) {t : Nat} {G : g_G} {q : g_G} (h : fX3_hashes E t G = some q) : gMet l E D yX3_hashes (ws_ yX3_hashes cX3_hashes 4 (none)) 1 64 [.inr (.inr (some t))] G none q := by
  refine gMet.of (by decide +kernel) (Nat.le_of_ble_eq_true rfl) ?_
  intro p e R s m args below meth c C hS ls hl
  have C : gC p R s m args meth c cX3_hashes 4 RX3 "hashes" (none) 1 64 E D := C
  obtain ⟨hx, hb, hml, hown, hts, hKn, hRc, hRs, hc1, hc2, hRf, hRl, hr, hlk, hnm⟩ := id C
  have hl : gls ls 4 [(0, .inr (.inr (some t)))] := hl
  generalize s.heap = H at hS ⊢
  unfold fX3_hashes at h
  refine g_aload_n hx hb hl 0 rfl dX3_hashes_0 ?_
  refine g_rdI hx hb hown hts hKn hS h fd_3_3_1 rfl (Or.inl (hts _ q542)) (fun _ z => z) dX3_hashes_1 (fun x1 h => ?_)
  refine g_istore_n (l1 := [(1, .inl x1), (0, .inr (.inr (some t)))]) hx hb hl (by decide) rfl dX3_hashes_4 (fun ls hl => ?_)
  refine lv_iconst (v := 0) hx hb dX3_hashes_5 (by decide) ?_
  refine g_istore_n (l1 := [(2, .inl 0), (1, .inl x1), (0, .inr (.inr (some t)))]) hx hb hl (by decide) rfl dX3_hashes_6 (fun ls hl => ?_)
  exact sX3_hashes_b7 C gFU _ _ _ _ _ h _ _ _ _ _ hS (gls_sub hl [2, 1, 0] rfl)
/-- SendHall$Life.<init>()V -/
def fX3_init (E : g_E) (t : Nat) (G : g_G) : Option (g_G) :=
  (gnewA E G 122 8).bind fun z7 =>
  (gpR E z7.2 3 3 (some t) 3 (some z7.1)).bind fun G10 =>
  (gnewA E G10 102 8).bind fun z16 =>
  (gpR E z16.2 3 3 (some t) 4 (some z16.1)).bind fun G18 =>
  (gnewA E G18 100 32).bind fun z24 =>
  (gpR E z24.2 3 3 (some t) 5 (some z24.1)).bind fun G26 =>
  (gnewA E G26 100 8).bind fun z32 =>
  (gpR E z32.2 3 3 (some t) 6 (some z32.1)).bind fun G34 =>
  (gnewA E G34 100 8).bind fun z40 =>
  (gpR E z40.2 3 3 (some t) 7 (some z40.1)).bind fun G42 =>
  (gnewA E G42 100 320).bind fun z49 =>
  (gpR E z49.2 3 3 (some t) 8 (some z49.1)).bind fun G51 =>
  (gnewA E G51 100 320).bind fun z58 =>
  (gpR E z58.2 3 3 (some t) 9 (some z58.1)).bind fun G60 =>
  (gnewA E G60 100 320).bind fun z67 =>
  (gpR E z67.2 3 3 (some t) 10 (some z67.1)).bind fun G69 =>
  (gnewA E G69 100 320).bind fun z76 =>
  (gpR E z76.2 3 3 (some t) 11 (some z76.1)).bind fun G78 =>
  (gnewA E G78 100 320).bind fun z85 =>
  (gpR E z85.2 3 3 (some t) 12 (some z85.1)).bind fun G87 =>
  some G87
theorem sX3_init (l : Launch) (E : g_E) (D : g_D) {t : Nat} {G : g_G} {q : g_G} (h : fX3_init E t G = some q) : gMet l E D yX3_init (ws_ yX3_init cX3_init 1 (none)) 1 64 [.inr (.inr (some t))] G none q := by
  refine gMet.of (by decide +kernel) (Nat.le_of_ble_eq_true rfl) ?_
  intro p e R s m args below meth c C hS ls hl
  have C : gC p R s m args meth c cX3_init 1 RX3 "<init>" (none) 1 64 E D := C
  obtain ⟨hx, hb, hml, hown, hts, hKn, hRc, hRs, hc1, hc2, hRf, hRl, hr, hlk, hnm⟩ := id C
  have hl : gls ls 1 [(0, .inr (.inr (some t)))] := hl
  generalize s.heap = H at hS ⊢
  unfold fX3_init at h
  refine g_aload_n hx hb hl 0 rfl dX3_init_0 ?_
  refine g_objInit (rs := []) hx hb hml hown hl (hts _ q534) (hts _ q162) (hts _ q163) rfl dX3_init_1 ⟨by rw [hRf]; exact Nat.le_of_ble_eq_true rfl, by rw [hRl]; exact Nat.le_of_ble_eq_true rfl⟩ ?_
  refine g_aload_n hx hb hl 0 rfl dX3_init_4 ?_
  refine lv_bipush (v := 8) hx hb dX3_init_5 (by decide) ?_
  refine g_newqG (k := 122) (C := "SendHall$Step") hx hb hown hKn hRc hRs hS h (by decide) rfl (List.mem_of_getElem? (i := 2) rfl) (hts _ q535) dX3_init_7 (fun z7 h H locs cells slots hS => ?_)
  refine g_ptR hx hb hown hts hKn hS h fd_3_3_3 rfl (Or.inl (hts _ q544)) (fun _ z => z) (fun _ => ⟨hnm, rfl⟩) dX3_init_10 (fun G10 h H locs hS => ?_)
  refine g_aload_n hx hb hl 0 rfl dX3_init_13 ?_
  refine lv_bipush (v := 8) hx hb dX3_init_14 (by decide) ?_
  refine g_newaG (k := 102) (atype := .boolean) hx hb hKn hRc hRs hS h (by decide) rfl (hts _ q595) dX3_init_16 (fun z16 h H locs cells slots hS => ?_)
  refine g_ptR hx hb hown hts hKn hS h fd_3_3_4 rfl (Or.inl (hts _ q546)) (fun _ z => z) (fun _ => ⟨hnm, rfl⟩) dX3_init_18 (fun G18 h H locs hS => ?_)
  refine g_aload_n hx hb hl 0 rfl dX3_init_21 ?_
  refine lv_bipush (v := 32) hx hb dX3_init_22 (by decide) ?_
  refine g_newaG (k := 100) (atype := .int) hx hb hKn hRc hRs hS h (by decide) rfl (hts _ q596) dX3_init_24 (fun z24 h H locs cells slots hS => ?_)
  refine g_ptR hx hb hown hts hKn hS h fd_3_3_5 rfl (Or.inl (hts _ q550)) (fun _ z => z) (fun _ => ⟨hnm, rfl⟩) dX3_init_26 (fun G26 h H locs hS => ?_)
  refine g_aload_n hx hb hl 0 rfl dX3_init_29 ?_
  refine lv_bipush (v := 8) hx hb dX3_init_30 (by decide) ?_
  refine g_newaG (k := 100) (atype := .int) hx hb hKn hRc hRs hS h (by decide) rfl (hts _ q596) dX3_init_32 (fun z32 h H locs cells slots hS => ?_)
  refine g_ptR hx hb hown hts hKn hS h fd_3_3_6 rfl (Or.inl (hts _ q554)) (fun _ z => z) (fun _ => ⟨hnm, rfl⟩) dX3_init_34 (fun G34 h H locs hS => ?_)
  refine g_aload_n hx hb hl 0 rfl dX3_init_37 ?_
  refine lv_bipush (v := 8) hx hb dX3_init_38 (by decide) ?_
  refine g_newaG (k := 100) (atype := .int) hx hb hKn hRc hRs hS h (by decide) rfl (hts _ q596) dX3_init_40 (fun z40 h H locs cells slots hS => ?_)
  refine g_ptR hx hb hown hts hKn hS h fd_3_3_7 rfl (Or.inl (hts _ q557)) (fun _ z => z) (fun _ => ⟨hnm, rfl⟩) dX3_init_42 (fun G42 h H locs hS => ?_)
  refine g_aload_n hx hb hl 0 rfl dX3_init_45 ?_
  refine lv_sipush (v := 320) hx hb dX3_init_46 (by decide) ?_
  refine g_newaG (k := 100) (atype := .int) hx hb hKn hRc hRs hS h (by decide) rfl (hts _ q596) dX3_init_49 (fun z49 h H locs cells slots hS => ?_)
  refine g_ptR hx hb hown hts hKn hS h fd_3_3_8 rfl (Or.inl (hts _ q560)) (fun _ z => z) (fun _ => ⟨hnm, rfl⟩) dX3_init_51 (fun G51 h H locs hS => ?_)
  refine g_aload_n hx hb hl 0 rfl dX3_init_54 ?_
  refine lv_sipush (v := 320) hx hb dX3_init_55 (by decide) ?_
  refine g_newaG (k := 100) (atype := .int) hx hb hKn hRc hRs hS h (by decide) rfl (hts _ q596) dX3_init_58 (fun z58 h H locs cells slots hS => ?_)
  refine g_ptR hx hb hown hts hKn hS h fd_3_3_9 rfl (Or.inl (hts _ q561)) (fun _ z => z) (fun _ => ⟨hnm, rfl⟩) dX3_init_60 (fun G60 h H locs hS => ?_)
  refine g_aload_n hx hb hl 0 rfl dX3_init_63 ?_
  refine lv_sipush (v := 320) hx hb dX3_init_64 (by decide) ?_
  refine g_newaG (k := 100) (atype := .int) hx hb hKn hRc hRs hS h (by decide) rfl (hts _ q596) dX3_init_67 (fun z67 h H locs cells slots hS => ?_)
  refine g_ptR hx hb hown hts hKn hS h fd_3_3_10 rfl (Or.inl (hts _ q562)) (fun _ z => z) (fun _ => ⟨hnm, rfl⟩) dX3_init_69 (fun G69 h H locs hS => ?_)
  refine g_aload_n hx hb hl 0 rfl dX3_init_72 ?_
  refine lv_sipush (v := 320) hx hb dX3_init_73 (by decide) ?_
  refine g_newaG (k := 100) (atype := .int) hx hb hKn hRc hRs hS h (by decide) rfl (hts _ q596) dX3_init_76 (fun z76 h H locs cells slots hS => ?_)
  refine g_ptR hx hb hown hts hKn hS h fd_3_3_11 rfl (Or.inl (hts _ q564)) (fun _ z => z) (fun _ => ⟨hnm, rfl⟩) dX3_init_78 (fun G78 h H locs hS => ?_)
  refine g_aload_n hx hb hl 0 rfl dX3_init_81 ?_
  refine lv_sipush (v := 320) hx hb dX3_init_82 (by decide) ?_
  refine g_newaG (k := 100) (atype := .int) hx hb hKn hRc hRs hS h (by decide) rfl (hts _ q596) dX3_init_85 (fun z85 h H locs cells slots hS => ?_)
  refine g_ptR hx hb hown hts hKn hS h fd_3_3_12 rfl (Or.inl (hts _ q566)) (fun _ z => z) (fun _ => ⟨hnm, rfl⟩) dX3_init_87 (fun G87 h H locs hS => ?_)
  exact g_vretG hx hb hr hlk hKn hRc hRs hS h dX3_init_90
/-- SendHall$Life.isAt(II)Z -/
def fX3_isAt (E : g_E) (t : Nat) (v1 : Int32) (v2 : Int32) (G : g_G) : Option (Int32 × g_G) :=
  (grR G 3 3 (some t) 3).bind fun x1 =>
  (gaR G 122 x1 v1).bind fun x5 =>
  if x5 = none then (
    if (0 : Int32) = 0 ∨ (0 : Int32) = 1 then some (0, G) else none)
  else (
    (grR G 3 3 (some t) 4).bind fun x10 =>
    (gaI G 102 x10 v1).bind fun x14 =>
    if ¬ x14 = 0 then (
      if (0 : Int32) = 0 ∨ (0 : Int32) = 1 then some (0, G) else none)
    else (
      (grR G 3 3 (some t) 3).bind fun x19 =>
      (gaR G 122 x19 v1).bind fun x23 =>
      (grI G 11 16 x23 0).bind fun x24 =>
      if ¬ x24 = v2 then (
        if (0 : Int32) = 0 ∨ (0 : Int32) = 1 then some (0, G) else none)
      else (
        if (1 : Int32) = 0 ∨ (1 : Int32) = 1 then some (1, G) else none)))
theorem sX3_isAt (l : Launch) (E : g_E) (D : g_D) {t : Nat} {v1 : Int32} {v2 : Int32} {G : g_G} {q : Int32 × g_G} (h : fX3_isAt E t v1 v2 G = some q) : gMet l E D yX3_isAt (ws_ yX3_isAt cX3_isAt 3 (some .boolean)) 1 64 [.inr (.inr (some t)), .inl v1, .inl v2] G (some (.int q.1)) q.2 := by
  refine gMet.of (by decide +kernel) (Nat.le_of_ble_eq_true rfl) ?_
  intro p e R s m args below meth c C hS ls hl
  have C : gC p R s m args meth c cX3_isAt 3 RX3 "isAt" (some .boolean) 1 64 E D := C
  obtain ⟨hx, hb, hml, hown, hts, hKn, hRc, hRs, hc1, hc2, hRf, hRl, hr, hlk, hnm⟩ := id C
  have hl : gls ls 3 [(0, .inr (.inr (some t))), (1, .inl v1), (2, .inl v2)] := hl
  generalize s.heap = H at hS ⊢
  unfold fX3_isAt at h
  refine g_aload_n hx hb hl 0 rfl dX3_isAt_0 ?_
  refine g_rdR hx hb hown hts hKn hS h fd_3_3_3 rfl (Or.inl (hts _ q544)) (fun _ z => z) dX3_isAt_1 (fun x1 h => ?_)
  refine g_iload_n hx hb hl 1 rfl dX3_isAt_4 ?_
  refine g_aaloadG hx hb hKn hS h (by decide) dX3_isAt_5 (fun x5 h => ?_)
  refine g_ifnull (tgt := 35) hx hb dX3_isAt_6 (by decide) (fun c_6 => ?_) (fun c_6 => ?_)
  · have h := g_ift c_6 h
    refine lv_iconst (v := 0) hx hb dX3_isAt_35 (by decide) ?_
    exact g_zretG hx hb hr hlk hKn hRc hRs hS h dX3_isAt_36
  · have h := g_iff c_6 h
    refine g_aload_n hx hb hl 0 rfl dX3_isAt_9 ?_
    refine g_rdR hx hb hown hts hKn hS h fd_3_3_4 rfl (Or.inl (hts _ q546)) (fun _ z => z) dX3_isAt_10 (fun x10 h => ?_)
    refine g_iload_n hx hb hl 1 rfl dX3_isAt_13 ?_
    refine g_zaloadG hx hb hKn hS h dX3_isAt_14 (fun x14 h => ?_)
    refine lv_if_ne (tgt := 35) hx hb dX3_isAt_15 (by decide) (fun c_15 => ?_) (fun c_15 => ?_)
    · have h := g_ift c_15 h
      refine lv_iconst (v := 0) hx hb dX3_isAt_35 (by decide) ?_
      exact g_zretG hx hb hr hlk hKn hRc hRs hS h dX3_isAt_36
    · have h := g_iff (fun z => z c_15) h
      refine g_aload_n hx hb hl 0 rfl dX3_isAt_18 ?_
      refine g_rdR hx hb hown hts hKn hS h fd_3_3_3 rfl (Or.inl (hts _ q544)) (fun _ z => z) dX3_isAt_19 (fun x19 h => ?_)
      refine g_iload_n hx hb hl 1 rfl dX3_isAt_22 ?_
      refine g_aaloadG hx hb hKn hS h (by decide) dX3_isAt_23 (fun x23 h => ?_)
      refine g_rdI hx hb hown hts hKn hS h fd_11_16_0 rfl (Or.inl (hts _ q1421)) (fun _ z => z) dX3_isAt_24 (fun x24 h => ?_)
      refine g_iload_n hx hb hl 2 rfl dX3_isAt_27 ?_
      refine lv_icmp_ne (tgt := 35) hx hb dX3_isAt_28 (by decide) (fun c_28 => ?_) (fun c_28 => ?_)
      · have h := g_ift c_28 h
        refine lv_iconst (v := 0) hx hb dX3_isAt_35 (by decide) ?_
        exact g_zretG hx hb hr hlk hKn hRc hRs hS h dX3_isAt_36
      · have h := g_iff (fun z => z c_28) h
        refine lv_iconst (v := 1) hx hb dX3_isAt_31 (by decide) ?_
        refine lv_goto (tgt := 36) hx hb dX3_isAt_32 (by decide) ?_
        exact g_zretG hx hb hr hlk hKn hRc hRs hS h dX3_isAt_36
