set_option maxRecDepth 100000
/-- SendHall$Life.first(III)I -/
def fX3_first_b42 (E : g_E) (k3 : Nat → Int32 → Int32 → Int32 → Int32 → g_G → Option (Int32 × g_G)) (t : Nat) (v1 : Int32) (v2 : Int32) (v3 : Int32) (v4 : Int32) (G : g_G) : Option (Int32 × g_G) :=
  k3 t v1 v2 v3 (v4 + 1) G
def fX3_first_b3 (E : g_E) : Nat → Nat → Int32 → Int32 → Int32 → Int32 → g_G → Option (Int32 × g_G)
  | 0, _, _, _, _, _, _ => none
  | n + 1, t, v1, v2, v3, v4, G =>
    (grI G 3 3 (some t) 1).bind fun x6 =>
    if x6 ≤ v4 then (
      some ((-1), G))
    else (
      (grR G 3 3 (some t) 8).bind fun x13 =>
      (gaI G 100 x13 v4).bind fun x18 =>
      if ¬ x18 = ((8 * v1) + v2) then (
        fX3_first_b42 E (fX3_first_b3 E n) t v1 v2 v3 v4 G)
      else (
        (grR G 3 3 (some t) 9).bind fun x29 =>
        (gaI G 100 x29 v4).bind fun x34 =>
        if ¬ x34 = v3 then (
          fX3_first_b42 E (fX3_first_b3 E n) t v1 v2 v3 v4 G)
        else (
          some (v4, G))))
def fX3_first (E : g_E) (t : Nat) (v1 : Int32) (v2 : Int32) (v3 : Int32) (G : g_G) : Option (Int32 × g_G) :=
  fX3_first_b3 E gFU t v1 v2 v3 0 G
theorem sX3_first_b42 {p : Program} {l : Launch} {e : Env} {R : Room} {s : State} {m : MethodId} {args : Array Value} {below : List Frame} {meth : Method} {c : Code} {E : g_E} {D : g_D} (C : gC p R s m args meth c cX3_first 5 RX3 "first" (some .int) 1 64 E D) {k3 : Nat → Int32 → Int32 → Int32 → Int32 → g_G → Option (Int32 × g_G)} (hk3 : ∀ (t : Nat) (v1 : Int32) (v2 : Int32) (v3 : Int32) (v4 : Int32) (G : g_G) (q : Int32 × g_G), k3 t v1 v2 v3 v4 G = some q → ∀ (H : Heap) (locs : List Loc) (cells slots : Nat) (ls : Array Slot), gSt E D G H locs → gls ls 5 [(0, .inr (.inr (some t))), (1, .inl v1), (2, .inl v2), (3, .inl v3), (4, .inl v4)] → gT p l e R s m args below meth c E D H locs cells slots (some (.int q.1)) q.2 (F0 m 3 ls [])) : ∀ (t : Nat) (v1 : Int32) (v2 : Int32) (v3 : Int32) (v4 : Int32) (G : g_G) (q : Int32 × g_G), fX3_first_b42 E k3 t v1 v2 v3 v4 G = some q → ∀ (H : Heap) (locs : List Loc) (cells slots : Nat) (ls : Array Slot), gSt E D G H locs → gls ls 5 [(0, .inr (.inr (some t))), (1, .inl v1), (2, .inl v2), (3, .inl v3), (4, .inl v4)] → gT p l e R s m args below meth c E D H locs cells slots (some (.int q.1)) q.2 (F0 m 42 ls []) := by
  obtain ⟨hx, hb, hml, hown, hts, hKn, hRc, hRs, hc1, hc2, hRf, hRl, hr, hlk, hnm⟩ := id C
  intro t v1 v2 v3 v4 G q h H locs cells slots ls hS hl
  unfold fX3_first_b42 at h
  refine g_iinc (l1 := [(4, .inl (v4 + 1)), (0, .inr (.inr (some t))), (1, .inl v1), (2, .inl v2), (3, .inl v3)]) (v := (v4 + 1)) hx hb hl (k := 4) rfl (by rfl) (by decide) rfl dX3_first_42 (fun ls hl => ?_)
  refine lv_goto (tgt := 3) hx hb dX3_first_45 (by decide) ?_
  exact hk3 _ _ _ _ _ _ _ h _ _ _ _ _ hS (gls_sub hl [1, 2, 3, 4, 0] rfl)
theorem sX3_first_b3 {p : Program} {l : Launch} {e : Env} {R : Room} {s : State} {m : MethodId} {args : Array Value} {below : List Frame} {meth : Method} {c : Code} {E : g_E} {D : g_D} (C : gC p R s m args meth c cX3_first 5 RX3 "first" (some .int) 1 64 E D) : ∀ (n : Nat) (t : Nat) (v1 : Int32) (v2 : Int32) (v3 : Int32) (v4 : Int32) (G : g_G) (q : Int32 × g_G), fX3_first_b3 E n t v1 v2 v3 v4 G = some q → ∀ (H : Heap) (locs : List Loc) (cells slots : Nat) (ls : Array Slot), gSt E D G H locs → gls ls 5 [(0, .inr (.inr (some t))), (1, .inl v1), (2, .inl v2), (3, .inl v3), (4, .inl v4)] → gT p l e R s m args below meth c E D H locs cells slots (some (.int q.1)) q.2 (F0 m 3 ls []) := by
  obtain ⟨hx, hb, hml, hown, hts, hKn, hRc, hRs, hc1, hc2, hRf, hRl, hr, hlk, hnm⟩ := id C
  intro n
  induction n with
  | zero =>
    intro t v1 v2 v3 v4 G q h
    exact g_no h
  | succ n ih =>
    intro t v1 v2 v3 v4 G q h H locs cells slots ls hS hl
    rw [fX3_first_b3] at h
    refine g_iload hx hb hl 4 rfl dX3_first_3 ?_
    refine g_aload_n hx hb hl 0 rfl dX3_first_5 ?_
    refine g_rdI hx hb hown hts hKn hS h fd_3_3_1 rfl (Or.inl (hts _ q542)) (fun _ z => z) dX3_first_6 (fun x6 h => ?_)
    refine lv_icmp_ge (tgt := 48) hx hb dX3_first_9 (by decide) (fun c_9 => ?_) (fun c_9 => ?_)
    · have h := g_ift c_9 h
      refine lv_iconst (v := (-1)) hx hb dX3_first_48 (by decide) ?_
      exact g_iretG hx hb hr hlk hKn hRc hRs hS h dX3_first_49
    · have h := g_iff c_9 h
      refine g_aload_n hx hb hl 0 rfl dX3_first_12 ?_
      refine g_rdR hx hb hown hts hKn hS h fd_3_3_8 rfl (Or.inl (hts _ q560)) (fun _ z => z) dX3_first_13 (fun x13 h => ?_)
      refine g_iload hx hb hl 4 rfl dX3_first_16 ?_
      refine g_ialoadG hx hb hKn hS h dX3_first_18 (fun x18 h => ?_)
      refine lv_bipush (v := 8) hx hb dX3_first_19 (by decide) ?_
      refine g_iload_n hx hb hl 1 rfl dX3_first_21 ?_
      refine lv_imul hx hb dX3_first_22 ?_
      refine g_iload_n hx hb hl 2 rfl dX3_first_23 ?_
      refine lv_iadd hx hb dX3_first_24 ?_
      refine lv_icmp_ne (tgt := 42) hx hb dX3_first_25 (by decide) (fun c_25 => ?_) (fun c_25 => ?_)
      · have h := g_ift c_25 h
        exact sX3_first_b42 C ih _ _ _ _ _ _ _ h _ _ _ _ _ hS (gls_sub hl [0, 1, 2, 3, 4] rfl)
      · have h := g_iff (fun z => z c_25) h
        refine g_aload_n hx hb hl 0 rfl dX3_first_28 ?_
        refine g_rdR hx hb hown hts hKn hS h fd_3_3_9 rfl (Or.inl (hts _ q561)) (fun _ z => z) dX3_first_29 (fun x29 h => ?_)
        refine g_iload hx hb hl 4 rfl dX3_first_32 ?_
        refine g_ialoadG hx hb hKn hS h dX3_first_34 (fun x34 h => ?_)
        refine g_iload_n hx hb hl 3 rfl dX3_first_35 ?_
        refine lv_icmp_ne (tgt := 42) hx hb dX3_first_36 (by decide) (fun c_36 => ?_) (fun c_36 => ?_)
        · have h := g_ift c_36 h
          exact sX3_first_b42 C ih _ _ _ _ _ _ _ h _ _ _ _ _ hS (gls_sub hl [0, 1, 2, 3, 4] rfl)
        · have h := g_iff (fun z => z c_36) h
          refine g_iload hx hb hl 4 rfl dX3_first_39 ?_
          exact g_iretG hx hb hr hlk hKn hRc hRs hS h dX3_first_41
theorem sX3_first (l : Launch) (E : g_E) (D : g_D) {t : Nat} {v1 : Int32} {v2 : Int32} {v3 : Int32} {G : g_G} {q : Int32 × g_G} (h : fX3_first E t v1 v2 v3 G = some q) : gMet l E D yX3_first (ws_ yX3_first cX3_first 5 (some .int)) 1 64 [.inr (.inr (some t)), .inl v1, .inl v2, .inl v3] G (some (.int q.1)) q.2 := by
  refine gMet.of (by decide +kernel) (Nat.le_of_ble_eq_true rfl) ?_
  intro p e R s m args below meth c C hS ls hl
  have C : gC p R s m args meth c cX3_first 5 RX3 "first" (some .int) 1 64 E D := C
  obtain ⟨hx, hb, hml, hown, hts, hKn, hRc, hRs, hc1, hc2, hRf, hRl, hr, hlk, hnm⟩ := id C
  have hl : gls ls 5 [(0, .inr (.inr (some t))), (1, .inl v1), (2, .inl v2), (3, .inl v3)] := hl
  generalize s.heap = H at hS ⊢
  unfold fX3_first at h
  refine lv_iconst (v := 0) hx hb dX3_first_0 (by decide) ?_
  refine g_istore (l1 := [(4, .inl 0), (0, .inr (.inr (some t))), (1, .inl v1), (2, .inl v2), (3, .inl v3)]) hx hb hl (by decide) rfl dX3_first_1 (fun ls hl => ?_)
  exact sX3_first_b3 C gFU _ _ _ _ _ _ _ h _ _ _ _ _ hS (gls_sub hl [1, 2, 3, 4, 0] rfl)
/-- SendHall$Life.hasEnded(I)Z -/
def fX3_hasEnded (E : g_E) (t : Nat) (v1 : Int32) (G : g_G) : Option (Int32 × g_G) :=
  (grR G 3 3 (some t) 3).bind fun x1 =>
  (gaR G 122 x1 v1).bind fun x5 =>
  if ¬ x5 = none then (
    if (0 : Int32) = 0 ∨ (0 : Int32) = 1 then some (0, G) else none)
  else (
    if (1 : Int32) = 0 ∨ (1 : Int32) = 1 then some (1, G) else none)
theorem sX3_hasEnded (l : Launch) (E : g_E) (D : g_D) {t : Nat} {v1 : Int32} {G : g_G} {q : Int32 × g_G} (h : fX3_hasEnded E t v1 G = some q) : gMet l E D yX3_hasEnded (ws_ yX3_hasEnded cX3_hasEnded 2 (some .boolean)) 1 64 [.inr (.inr (some t)), .inl v1] G (some (.int q.1)) q.2 := by
  refine gMet.of (by decide +kernel) (Nat.le_of_ble_eq_true rfl) ?_
  intro p e R s m args below meth c C hS ls hl
  have C : gC p R s m args meth c cX3_hasEnded 2 RX3 "hasEnded" (some .boolean) 1 64 E D := C
  obtain ⟨hx, hb, hml, hown, hts, hKn, hRc, hRs, hc1, hc2, hRf, hRl, hr, hlk, hnm⟩ := id C
  have hl : gls ls 2 [(0, .inr (.inr (some t))), (1, .inl v1)] := hl
  generalize s.heap = H at hS ⊢
  unfold fX3_hasEnded at h
  refine g_aload_n hx hb hl 0 rfl dX3_hasEnded_0 ?_
  refine g_rdR hx hb hown hts hKn hS h fd_3_3_3 rfl (Or.inl (hts _ q544)) (fun _ z => z) dX3_hasEnded_1 (fun x1 h => ?_)
  refine g_iload_n hx hb hl 1 rfl dX3_hasEnded_4 ?_
  refine g_aaloadG hx hb hKn hS h (by decide) dX3_hasEnded_5 (fun x5 h => ?_)
  refine g_ifnonnull (tgt := 13) hx hb dX3_hasEnded_6 (by decide) (fun c_6 => ?_) (fun c_6 => ?_)
  · have h := g_ift c_6 h
    refine lv_iconst (v := 0) hx hb dX3_hasEnded_13 (by decide) ?_
    exact g_zretG hx hb hr hlk hKn hRc hRs hS h dX3_hasEnded_14
  · have h := g_iff (fun z => z c_6) h
    refine lv_iconst (v := 1) hx hb dX3_hasEnded_9 (by decide) ?_
    refine lv_goto (tgt := 14) hx hb dX3_hasEnded_10 (by decide) ?_
    exact g_zretG hx hb hr hlk hKn hRc hRs hS h dX3_hasEnded_14
/-- SendHall$Life.hashes()V -/
def fX3_hashes_b92 (E : g_E) : Nat → Nat → Int32 → Int32 → g_G → Option (g_G)
  | 0, _, _, _, _ => none
  | n + 1, t, v1, v2, G =>
    (grI G 3 3 (some t) 1).bind fun x94 =>
    if x94 ≤ v2 then (
      (gpI E G 3 3 (some t) 2 v1).bind fun G130 =>
      some G130)
    else (
      (grR G 3 3 (some t) 8).bind fun x107 =>
      (gaI G 100 x107 v2).bind fun x111 =>
      (grR G 3 3 (some t) 10).bind fun x115 =>
      (gaI G 100 x115 v2).bind fun x119 =>
      fX3_hashes_b92 E n t ((31 * ((31 * v1) + x111)) + x119) (v2 + 1) G)
def fX3_hashes_b57 (E : g_E) (k7 : Nat → Int32 → Int32 → g_G → Option (g_G)) : Nat → Nat → Int32 → Int32 → Int32 → g_G → Option (g_G)
  | 0, _, _, _, _, _ => none
  | n + 1, t, v1, v2, v3, G =>
    if (4 : Int32) ≤ v3 then (
      k7 t v1 (v2 + 1) G)
    else (
      (grR G 3 3 (some t) 5).bind fun x67 =>
      (gaI G 100 x67 ((4 * v2) + v3)).bind fun x75 =>
      fX3_hashes_b57 E k7 n t ((31 * v1) + x75) v2 (v3 + 1) G)
def fX3_hashes_b41 (E : g_E) (k7 : Nat → Int32 → Int32 → g_G → Option (g_G)) (t : Nat) (v2 : Int32) (s0 : Int32) (s1 : Int32) (G : g_G) : Option (g_G) :=
  (grR G 3 3 (some t) 7).bind fun x48 =>
  (gaI G 100 x48 v2).bind fun x52 =>
  fX3_hashes_b57 E k7 gFU t ((31 * (s0 + s1)) + x52) v2 0 G
def fX3_hashes_b7 (E : g_E) : Nat → Nat → Int32 → Int32 → g_G → Option (g_G)
  | 0, _, _, _, _ => none
  | n + 1, t, v1, v2, G =>
    (grI G 3 3 (some t) 0).bind fun x9 =>
    if x9 ≤ v2 then (
      fX3_hashes_b92 E gFU t v1 0 G)
    else (
      (grR G 3 3 (some t) 3).bind fun x20 =>
      (gaR G 122 x20 v2).bind fun x24 =>
      if ¬ x24 = none then (
        (grR G 3 3 (some t) 3).bind fun x33 =>
        (gaR G 122 x33 v2).bind fun x37 =>
        (grI G 11 16 x37 1).bind fun x38 =>
        fX3_hashes_b41 E (fX3_hashes_b7 E n) t v2 (31 * v1) x38 G)
      else (
        fX3_hashes_b41 E (fX3_hashes_b7 E n) t v2 (31 * v1) (-1) G))
def fX3_hashes (E : g_E) (t : Nat) (G : g_G) : Option (g_G) :=
  (grI G 3 3 (some t) 1).bind fun x1 =>
  fX3_hashes_b7 E gFU t x1 0 G
theorem sX3_hashes_b92 {p : Program} {l : Launch} {e : Env} {R : Room} {s : State} {m : MethodId} {args : Array Value} {below : List Frame} {meth : Method} {c : Code} {E : g_E} {D : g_D} (C : gC p R s m args meth c cX3_hashes 4 RX3 "hashes" (none) 1 64 E D) : ∀ (n : Nat) (t : Nat) (v1 : Int32) (v2 : Int32) (G : g_G) (q : g_G), fX3_hashes_b92 E n t v1 v2 G = some q → ∀ (H : Heap) (locs : List Loc) (cells slots : Nat) (ls : Array Slot), gSt E D G H locs → gls ls 4 [(0, .inr (.inr (some t))), (1, .inl v1), (2, .inl v2)] → gT p l e R s m args below meth c E D H locs cells slots none q (F0 m 92 ls []) := by
  obtain ⟨hx, hb, hml, hown, hts, hKn, hRc, hRs, hc1, hc2, hRf, hRl, hr, hlk, hnm⟩ := id C
  intro n
  induction n with
  | zero =>
    intro t v1 v2 G q h
    exact g_no h
  | succ n ih =>
    intro t v1 v2 G q h H locs cells slots ls hS hl
    rw [fX3_hashes_b92] at h
    refine g_iload_n hx hb hl 2 rfl dX3_hashes_92 ?_
    refine g_aload_n hx hb hl 0 rfl dX3_hashes_93 ?_
    refine g_rdI hx hb hown hts hKn hS h fd_3_3_1 rfl (Or.inl (hts _ q542)) (fun _ z => z) dX3_hashes_94 (fun x94 h => ?_)
    refine lv_icmp_ge (tgt := 128) hx hb dX3_hashes_97 (by decide) (fun c_97 => ?_) (fun c_97 => ?_)
    · have h := g_ift c_97 h
      refine g_aload_n hx hb hl 0 rfl dX3_hashes_128 ?_
      refine g_iload_n hx hb hl 1 rfl dX3_hashes_129 ?_
      refine g_ptI hx hb hown hts hKn hS h fd_3_3_2 (Or.inl (hts _ q543)) (fun _ z => z) (fun z => nomatch z) dX3_hashes_130 (fun G130 h H locs hS => ?_)
      exact g_vretG hx hb hr hlk hKn hRc hRs hS h dX3_hashes_133
    · have h := g_iff c_97 h
      refine lv_bipush (v := 31) hx hb dX3_hashes_100 (by decide) ?_
      refine lv_bipush (v := 31) hx hb dX3_hashes_102 (by decide) ?_
      refine g_iload_n hx hb hl 1 rfl dX3_hashes_104 ?_
      refine lv_imul hx hb dX3_hashes_105 ?_
      refine g_aload_n hx hb hl 0 rfl dX3_hashes_106 ?_
      refine g_rdR hx hb hown hts hKn hS h fd_3_3_8 rfl (Or.inl (hts _ q560)) (fun _ z => z) dX3_hashes_107 (fun x107 h => ?_)
      refine g_iload_n hx hb hl 2 rfl dX3_hashes_110 ?_
      refine g_ialoadG hx hb hKn hS h dX3_hashes_111 (fun x111 h => ?_)
      refine lv_iadd hx hb dX3_hashes_112 ?_
      refine lv_imul hx hb dX3_hashes_113 ?_
      refine g_aload_n hx hb hl 0 rfl dX3_hashes_114 ?_
      refine g_rdR hx hb hown hts hKn hS h fd_3_3_10 rfl (Or.inl (hts _ q562)) (fun _ z => z) dX3_hashes_115 (fun x115 h => ?_)
      refine g_iload_n hx hb hl 2 rfl dX3_hashes_118 ?_
      refine g_ialoadG hx hb hKn hS h dX3_hashes_119 (fun x119 h => ?_)
      refine lv_iadd hx hb dX3_hashes_120 ?_
      refine g_istore_n (l1 := [(1, .inl ((31 * ((31 * v1) + x111)) + x119)), (0, .inr (.inr (some t))), (2, .inl v2)]) hx hb hl (by decide) rfl dX3_hashes_121 (fun ls hl => ?_)
      refine g_iinc (l1 := [(2, .inl (v2 + 1)), (1, .inl ((31 * ((31 * v1) + x111)) + x119)), (0, .inr (.inr (some t)))]) (v := (v2 + 1)) hx hb hl (k := 2) rfl (by rfl) (by decide) rfl dX3_hashes_122 (fun ls hl => ?_)
      refine lv_goto (tgt := 92) hx hb dX3_hashes_125 (by decide) ?_
      exact ih _ _ _ _ _ h _ _ _ _ _ hS (gls_sub hl [2, 1, 0] rfl)
theorem sX3_hashes_b57 {p : Program} {l : Launch} {e : Env} {R : Room} {s : State} {m : MethodId} {args : Array Value} {below : List Frame} {meth : Method} {c : Code} {E : g_E} {D : g_D} (C : gC p R s m args meth c cX3_hashes 4 RX3 "hashes" (none) 1 64 E D) {k7 : Nat → Int32 → Int32 → g_G → Option (g_G)} (hk7 : ∀ (t : Nat) (v1 : Int32) (v2 : Int32) (G : g_G) (q : g_G), k7 t v1 v2 G = some q → ∀ (H : Heap) (locs : List Loc) (cells slots : Nat) (ls : Array Slot), gSt E D G H locs → gls ls 4 [(0, .inr (.inr (some t))), (1, .inl v1), (2, .inl v2)] → gT p l e R s m args below meth c E D H locs cells slots none q (F0 m 7 ls [])) : ∀ (n : Nat) (t : Nat) (v1 : Int32) (v2 : Int32) (v3 : Int32) (G : g_G) (q : g_G), fX3_hashes_b57 E k7 n t v1 v2 v3 G = some q → ∀ (H : Heap) (locs : List Loc) (cells slots : Nat) (ls : Array Slot), gSt E D G H locs → gls ls 4 [(0, .inr (.inr (some t))), (1, .inl v1), (2, .inl v2), (3, .inl v3)] → gT p l e R s m args below meth c E D H locs cells slots none q (F0 m 57 ls []) := by
  obtain ⟨hx, hb, hml, hown, hts, hKn, hRc, hRs, hc1, hc2, hRf, hRl, hr, hlk, hnm⟩ := id C
  intro n
  induction n with
  | zero =>
    intro t v1 v2 v3 G q h
    exact g_no h
  | succ n ih =>
    intro t v1 v2 v3 G q h H locs cells slots ls hS hl
    rw [fX3_hashes_b57] at h
    refine g_iload_n hx hb hl 3 rfl dX3_hashes_57 ?_
    refine lv_iconst (v := 4) hx hb dX3_hashes_58 (by decide) ?_
    refine lv_icmp_ge (tgt := 84) hx hb dX3_hashes_59 (by decide) (fun c_59 => ?_) (fun c_59 => ?_)
    · have h := g_ift c_59 h
      refine g_iinc (l1 := [(2, .inl (v2 + 1)), (0, .inr (.inr (some t))), (1, .inl v1), (3, .inl v3)]) (v := (v2 + 1)) hx hb hl (k := 2) rfl (by rfl) (by decide) rfl dX3_hashes_84 (fun ls hl => ?_)
      refine lv_goto (tgt := 7) hx hb dX3_hashes_87 (by decide) ?_
      exact hk7 _ _ _ _ _ h _ _ _ _ _ hS (gls_sub hl [1, 2, 0] rfl)
    · have h := g_iff c_59 h
      refine lv_bipush (v := 31) hx hb dX3_hashes_62 (by decide) ?_
      refine g_iload_n hx hb hl 1 rfl dX3_hashes_64 ?_
      refine lv_imul hx hb dX3_hashes_65 ?_
      refine g_aload_n hx hb hl 0 rfl dX3_hashes_66 ?_
      refine g_rdR hx hb hown hts hKn hS h fd_3_3_5 rfl (Or.inl (hts _ q550)) (fun _ z => z) dX3_hashes_67 (fun x67 h => ?_)
      refine lv_iconst (v := 4) hx hb dX3_hashes_70 (by decide) ?_
      refine g_iload_n hx hb hl 2 rfl dX3_hashes_71 ?_
      refine lv_imul hx hb dX3_hashes_72 ?_
      refine g_iload_n hx hb hl 3 rfl dX3_hashes_73 ?_
      refine lv_iadd hx hb dX3_hashes_74 ?_
      refine g_ialoadG hx hb hKn hS h dX3_hashes_75 (fun x75 h => ?_)
      refine lv_iadd hx hb dX3_hashes_76 ?_
      refine g_istore_n (l1 := [(1, .inl ((31 * v1) + x75)), (0, .inr (.inr (some t))), (2, .inl v2), (3, .inl v3)]) hx hb hl (by decide) rfl dX3_hashes_77 (fun ls hl => ?_)
      refine g_iinc (l1 := [(3, .inl (v3 + 1)), (1, .inl ((31 * v1) + x75)), (0, .inr (.inr (some t))), (2, .inl v2)]) (v := (v3 + 1)) hx hb hl (k := 3) rfl (by rfl) (by decide) rfl dX3_hashes_78 (fun ls hl => ?_)
      refine lv_goto (tgt := 57) hx hb dX3_hashes_81 (by decide) ?_
      exact ih _ _ _ _ _ _ h _ _ _ _ _ hS (gls_sub hl [2, 1, 3, 0] rfl)
theorem sX3_hashes_b41 {p : Program} {l : Launch} {e : Env} {R : Room} {s : State} {m : MethodId} {args : Array Value} {below : List Frame} {meth : Method} {c : Code} {E : g_E} {D : g_D} (C : gC p R s m args meth c cX3_hashes 4 RX3 "hashes" (none) 1 64 E D) {k7 : Nat → Int32 → Int32 → g_G → Option (g_G)} (hk7 : ∀ (t : Nat) (v1 : Int32) (v2 : Int32) (G : g_G) (q : g_G), k7 t v1 v2 G = some q → ∀ (H : Heap) (locs : List Loc) (cells slots : Nat) (ls : Array Slot), gSt E D G H locs → gls ls 4 [(0, .inr (.inr (some t))), (1, .inl v1), (2, .inl v2)] → gT p l e R s m args below meth c E D H locs cells slots none q (F0 m 7 ls [])) : ∀ (t : Nat) (v2 : Int32) (s0 : Int32) (s1 : Int32) (G : g_G) (q : g_G), fX3_hashes_b41 E k7 t v2 s0 s1 G = some q → ∀ (H : Heap) (locs : List Loc) (cells slots : Nat) (ls : Array Slot), gSt E D G H locs → gls ls 4 [(0, .inr (.inr (some t))), (2, .inl v2)] → gT p l e R s m args below meth c E D H locs cells slots none q (F0 m 41 ls [.int s1, .int s0]) := by
  obtain ⟨hx, hb, hml, hown, hts, hKn, hRc, hRs, hc1, hc2, hRf, hRl, hr, hlk, hnm⟩ := id C
  intro t v2 s0 s1 G q h H locs cells slots ls hS hl
  unfold fX3_hashes_b41 at h
  refine lv_iadd hx hb dX3_hashes_41 ?_
  refine g_istore_n (l1 := [(1, .inl (s0 + s1)), (0, .inr (.inr (some t))), (2, .inl v2)]) hx hb hl (by decide) rfl dX3_hashes_42 (fun ls hl => ?_)
  refine lv_bipush (v := 31) hx hb dX3_hashes_43 (by decide) ?_
  refine g_iload_n hx hb hl 0 rfl dX3_hashes_45 ?_
  refine lv_imul hx hb dX3_hashes_46 ?_
  refine g_aload_n hx hb hl 1 rfl dX3_hashes_47 ?_
  refine g_rdR hx hb hown hts hKn hS h fd_3_3_7 rfl (Or.inl (hts _ q557)) (fun _ z => z) dX3_hashes_48 (fun x48 h => ?_)
  refine g_iload_n hx hb hl 2 rfl dX3_hashes_51 ?_
  refine g_ialoadG hx hb hKn hS h dX3_hashes_52 (fun x52 h => ?_)
  refine lv_iadd hx hb dX3_hashes_53 ?_
  refine g_istore_n (l1 := [(1, .inl ((31 * (s0 + s1)) + x52)), (0, .inr (.inr (some t))), (2, .inl v2)]) hx hb hl (by decide) rfl dX3_hashes_54 (fun ls hl => ?_)
  refine lv_iconst (v := 0) hx hb dX3_hashes_55 (by decide) ?_
  refine g_istore_n (l1 := [(3, .inl 0), (1, .inl ((31 * (s0 + s1)) + x52)), (0, .inr (.inr (some t))), (2, .inl v2)]) hx hb hl (by decide) rfl dX3_hashes_56 (fun ls hl => ?_)
  exact sX3_hashes_b57 C hk7 gFU _ _ _ _ _ _ h _ _ _ _ _ hS (gls_sub hl [2, 1, 3, 0] rfl)
theorem sX3_hashes_b7 {p : Program} {l : Launch} {e : Env} {R : Room} {s : State} {m : MethodId} {args : Array Value} {below : List Frame} {meth : Method} {c : Code} {E : g_E} {D : g_D} (C : gC p R s m args meth c cX3_hashes 4 RX3 "hashes" (none) 1 64 E D) : ∀ (n : Nat) (t : Nat) (v1 : Int32) (v2 : Int32) (G : g_G) (q : g_G), fX3_hashes_b7 E n t v1 v2 G = some q → ∀ (H : Heap) (locs : List Loc) (cells slots : Nat) (ls : Array Slot), gSt E D G H locs → gls ls 4 [(0, .inr (.inr (some t))), (1, .inl v1), (2, .inl v2)] → gT p l e R s m args below meth c E D H locs cells slots none q (F0 m 7 ls []) := by
  obtain ⟨hx, hb, hml, hown, hts, hKn, hRc, hRs, hc1, hc2, hRf, hRl, hr, hlk, hnm⟩ := id C
  intro n
  induction n with
  | zero =>
    intro t v1 v2 G q h
    exact g_no h
  | succ n ih =>
    intro t v1 v2 G q h H locs cells slots ls hS hl
    rw [fX3_hashes_b7] at h
    refine g_iload_n hx hb hl 2 rfl dX3_hashes_7 ?_
    refine g_aload_n hx hb hl 0 rfl dX3_hashes_8 ?_
    refine g_rdI hx hb hown hts hKn hS h fd_3_3_0 rfl (Or.inl (hts _ q538)) (fun _ z => z) dX3_hashes_9 (fun x9 h => ?_)
    refine lv_icmp_ge (tgt := 90) hx hb dX3_hashes_12 (by decide) (fun c_12 => ?_) (fun c_12 => ?_)
    · have h := g_ift c_12 h
      refine lv_iconst (v := 0) hx hb dX3_hashes_90 (by decide) ?_
      refine g_istore_n (l1 := [(2, .inl 0), (0, .inr (.inr (some t))), (1, .inl v1)]) hx hb hl (by decide) rfl dX3_hashes_91 (fun ls hl => ?_)
      exact sX3_hashes_b92 C gFU _ _ _ _ _ h _ _ _ _ _ hS (gls_sub hl [1, 2, 0] rfl)
    · have h := g_iff c_12 h
      refine lv_bipush (v := 31) hx hb dX3_hashes_15 (by decide) ?_
      refine g_iload_n hx hb hl 1 rfl dX3_hashes_17 ?_
      refine lv_imul hx hb dX3_hashes_18 ?_
      refine g_aload_n hx hb hl 0 rfl dX3_hashes_19 ?_
      refine g_rdR hx hb hown hts hKn hS h fd_3_3_3 rfl (Or.inl (hts _ q544)) (fun _ z => z) dX3_hashes_20 (fun x20 h => ?_)
      refine g_iload_n hx hb hl 2 rfl dX3_hashes_23 ?_
      refine g_aaloadG hx hb hKn hS h (by decide) dX3_hashes_24 (fun x24 h => ?_)
      refine g_ifnonnull (tgt := 32) hx hb dX3_hashes_25 (by decide) (fun c_25 => ?_) (fun c_25 => ?_)
      · have h := g_ift c_25 h
        refine g_aload_n hx hb hl 0 rfl dX3_hashes_32 ?_
        refine g_rdR hx hb hown hts hKn hS h fd_3_3_3 rfl (Or.inl (hts _ q544)) (fun _ z => z) dX3_hashes_33 (fun x33 h => ?_)
        refine g_iload_n hx hb hl 2 rfl dX3_hashes_36 ?_
        refine g_aaloadG hx hb hKn hS h (by decide) dX3_hashes_37 (fun x37 h => ?_)
        refine g_rdI hx hb hown hts hKn hS h fd_11_16_1 rfl (Or.inl (hts _ q1429)) (fun _ z => z) dX3_hashes_38 (fun x38 h => ?_)
        exact sX3_hashes_b41 C ih _ _ _ _ _ _ h _ _ _ _ _ hS (gls_sub hl [0, 2] rfl)
      · have h := g_iff (fun z => z c_25) h
        refine lv_iconst (v := (-1)) hx hb dX3_hashes_28 (by decide) ?_
        refine lv_goto (tgt := 41) hx hb dX3_hashes_29 (by decide) ?_
        exact sX3_hashes_b41 C ih _ _ _ _ _ _ h _ _ _ _ _ hS (gls_sub hl [0, 2] rfl)
theorem sX3_hashes (l : Launch) (E : g_E) (D : g_D) {t : Nat} {G : g_G} {q : g_G} (h : fX3_hashes E t G = some q) : gMet l E D yX3_hashes (ws_ yX3_hashes cX3_hashes 4 (none)) 1 64 [.inr (.inr (some t))] G none q := by
  refine gMet.of (by decide +kernel) (Nat.le_of_ble_eq_true rfl) ?_
  intro p e R s m args below meth c C hS ls hl
  have C : gC p R s m args meth c cX3_hashes 4 RX3 "hashes" (none) 1 64 E D := C
  obtain ⟨hx, hb, hml, hown, hts, hKn, hRc, hRs, hc1, hc2, hRf, hRl, hr, hlk, hnm⟩ := id C
  have hl : gls ls 4 [(0, .inr (.inr (some t)))] := hl
  generalize s.heap = H at hS ⊢
  unfold fX3_hashes at h
  refine g_aload_n hx hb hl 0 rfl dX3_hashes_0 ?_
  refine g_rdI hx hb hown hts hKn hS h fd_3_3_1 rfl (Or.inl (hts _ q542)) (fun _ z => z) dX3_hashes_1 (fun x1 h => ?_)
  refine g_istore_n (l1 := [(1, .inl x1), (0, .inr (.inr (some t)))]) hx hb hl (by decide) rfl dX3_hashes_4 (fun ls hl => ?_)
  refine lv_iconst (v := 0) hx hb dX3_hashes_5 (by decide) ?_
  refine g_istore_n (l1 := [(2, .inl 0), (1, .inl x1), (0, .inr (.inr (some t)))]) hx hb hl (by decide) rfl dX3_hashes_6 (fun ls hl => ?_)
  exact sX3_hashes_b7 C gFU _ _ _ _ _ h _ _ _ _ _ hS (gls_sub hl [2, 1, 0] rfl)
/-- SendHall$Life.<init>()V -/
def fX3_init (E : g_E) (t : Nat) (G : g_G) : Option (g_G) :=
  (gnewA E G 122 8).bind fun z7 =>
  (gpR E z7.2 3 3 (some t) 3 (some z7.1)).bind fun G10 =>
  (gnewA E G10 102 8).bind fun z16 =>
  (gpR E z16.2 3 3 (some t) 4 (some z16.1)).bind fun G18 =>
  (gnewA E G18 100 32).bind fun z24 =>
  (gpR E z24.2 3 3 (some t) 5 (some z24.1)).bind fun G26 =>
  (gnewA E G26 100 8).bind fun z32 =>
  (gpR E z32.2 3 3 (some t) 6 (some z32.1)).bind fun G34 =>
  (gnewA E G34 100 8).bind fun z40 =>
  (gpR E z40.2 3 3 (some t) 7 (some z40.1)).bind fun G42 =>
  (gnewA E G42 100 320).bind fun z49 =>
  (gpR E z49.2 3 3 (some t) 8 (some z49.1)).bind fun G51 =>
  (gnewA E G51 100 320).bind fun z58 =>
  (gpR E z58.2 3 3 (some t) 9 (some z58.1)).bind fun G60 =>
  (gnewA E G60 100 320).bind fun z67 =>
  (gpR E z67.2 3 3 (some t) 10 (some z67.1)).bind fun G69 =>
  (gnewA E G69 100 320).bind fun z76 =>
  (gpR E z76.2 3 3 (some t) 11 (some z76.1)).bind fun G78 =>
  (gnewA E G78 100 320).bind fun z85 =>
  (gpR E z85.2 3 3 (some t) 12 (some z85.1)).bind fun G87 =>
  some G87
theorem sX3_init (l : Launch) (E : g_E) (D : g_D) {t : Nat} {G : g_G} {q : g_G} (h : fX3_init E t G = some q) : gMet l E D yX3_init (ws_ yX3_init cX3_init 1 (none)) 1 64 [.inr (.inr (some t))] G none q := by
  refine gMet.of (by decide +kernel) (Nat.le_of_ble_eq_true rfl) ?_
  intro p e R s m args below meth c C hS ls hl
  have C : gC p R s m args meth c cX3_init 1 RX3 "<init>" (none) 1 64 E D := C
  obtain ⟨hx, hb, hml, hown, hts, hKn, hRc, hRs, hc1, hc2, hRf, hRl, hr, hlk, hnm⟩ := id C
  have hl : gls ls 1 [(0, .inr (.inr (some t)))] := hl
  generalize s.heap = H at hS ⊢
  unfold fX3_init at h
  refine g_aload_n hx hb hl 0 rfl dX3_init_0 ?_
  refine g_objInit (rs := []) hx hb hml hown hl (hts _ q534) (hts _ q162) (hts _ q163) rfl dX3_init_1 ⟨by rw [hRf]; exact Nat.le_of_ble_eq_true rfl, by rw [hRl]; exact Nat.le_of_ble_eq_true rfl⟩ ?_
  refine g_aload_n hx hb hl 0 rfl dX3_init_4 ?_
  refine lv_bipush (v := 8) hx hb dX3_init_5 (by decide) ?_
  refine g_newqG (k := 122) (C := "SendHall$Step") hx hb hown hKn hRc hRs hS h (by decide) rfl (List.mem_of_getElem? (i := 2) rfl) (hts _ q535) dX3_init_7 (fun z7 h H locs cells slots hS => ?_)
  refine g_ptR hx hb hown hts hKn hS h fd_3_3_3 rfl (Or.inl (hts _ q544)) (fun _ z => z) (fun _ => ⟨hnm, rfl⟩) dX3_init_10 (fun G10 h H locs hS => ?_)
  refine g_aload_n hx hb hl 0 rfl dX3_init_13 ?_
  refine lv_bipush (v := 8) hx hb dX3_init_14 (by decide) ?_
  refine g_newaG (k := 102) (atype := .boolean) hx hb hKn hRc hRs hS h (by decide) rfl (hts _ q595) dX3_init_16 (fun z16 h H locs cells slots hS => ?_)
  refine g_ptR hx hb hown hts hKn hS h fd_3_3_4 rfl (Or.inl (hts _ q546)) (fun _ z => z) (fun _ => ⟨hnm, rfl⟩) dX3_init_18 (fun G18 h H locs hS => ?_)
  refine g_aload_n hx hb hl 0 rfl dX3_init_21 ?_
  refine lv_bipush (v := 32) hx hb dX3_init_22 (by decide) ?_
  refine g_newaG (k := 100) (atype := .int) hx hb hKn hRc hRs hS h (by decide) rfl (hts _ q596) dX3_init_24 (fun z24 h H locs cells slots hS => ?_)
  refine g_ptR hx hb hown hts hKn hS h fd_3_3_5 rfl (Or.inl (hts _ q550)) (fun _ z => z) (fun _ => ⟨hnm, rfl⟩) dX3_init_26 (fun G26 h H locs hS => ?_)
  refine g_aload_n hx hb hl 0 rfl dX3_init_29 ?_
  refine lv_bipush (v := 8) hx hb dX3_init_30 (by decide) ?_
  refine g_newaG (k := 100) (atype := .int) hx hb hKn hRc hRs hS h (by decide) rfl (hts _ q596) dX3_init_32 (fun z32 h H locs cells slots hS => ?_)
  refine g_ptR hx hb hown hts hKn hS h fd_3_3_6 rfl (Or.inl (hts _ q554)) (fun _ z => z) (fun _ => ⟨hnm, rfl⟩) dX3_init_34 (fun G34 h H locs hS => ?_)
  refine g_aload_n hx hb hl 0 rfl dX3_init_37 ?_
  refine lv_bipush (v := 8) hx hb dX3_init_38 (by decide) ?_
  refine g_newaG (k := 100) (atype := .int) hx hb hKn hRc hRs hS h (by decide) rfl (hts _ q596) dX3_init_40 (fun z40 h H locs cells slots hS => ?_)
  refine g_ptR hx hb hown hts hKn hS h fd_3_3_7 rfl (Or.inl (hts _ q557)) (fun _ z => z) (fun _ => ⟨hnm, rfl⟩) dX3_init_42 (fun G42 h H locs hS => ?_)
  refine g_aload_n hx hb hl 0 rfl dX3_init_45 ?_
  refine lv_sipush (v := 320) hx hb dX3_init_46 (by decide) ?_
  refine g_newaG (k := 100) (atype := .int) hx hb hKn hRc hRs hS h (by decide) rfl (hts _ q596) dX3_init_49 (fun z49 h H locs cells slots hS => ?_)
  refine g_ptR hx hb hown hts hKn hS h fd_3_3_8 rfl (Or.inl (hts _ q560)) (fun _ z => z) (fun _ => ⟨hnm, rfl⟩) dX3_init_51 (fun G51 h H locs hS => ?_)
  refine g_aload_n hx hb hl 0 rfl dX3_init_54 ?_
  refine lv_sipush (v := 320) hx hb dX3_init_55 (by decide) ?_
  refine g_newaG (k := 100) (atype := .int) hx hb hKn hRc hRs hS h (by decide) rfl (hts _ q596) dX3_init_58 (fun z58 h H locs cells slots hS => ?_)
  refine g_ptR hx hb hown hts hKn hS h fd_3_3_9 rfl (Or.inl (hts _ q561)) (fun _ z => z) (fun _ => ⟨hnm, rfl⟩) dX3_init_60 (fun G60 h H locs hS => ?_)
  refine g_aload_n hx hb hl 0 rfl dX3_init_63 ?_
  refine lv_sipush (v := 320) hx hb dX3_init_64 (by decide) ?_
  refine g_newaG (k := 100) (atype := .int) hx hb hKn hRc hRs hS h (by decide) rfl (hts _ q596) dX3_init_67 (fun z67 h H locs cells slots hS => ?_)
  refine g_ptR hx hb hown hts hKn hS h fd_3_3_10 rfl (Or.inl (hts _ q562)) (fun _ z => z) (fun _ => ⟨hnm, rfl⟩) dX3_init_69 (fun G69 h H locs hS => ?_)
  refine g_aload_n hx hb hl 0 rfl dX3_init_72 ?_
  refine lv_sipush (v := 320) hx hb dX3_init_73 (by decide) ?_
  refine g_newaG (k := 100) (atype := .int) hx hb hKn hRc hRs hS h (by decide) rfl (hts _ q596) dX3_init_76 (fun z76 h H locs cells slots hS => ?_)
  refine g_ptR hx hb hown hts hKn hS h fd_3_3_11 rfl (Or.inl (hts _ q564)) (fun _ z => z) (fun _ => ⟨hnm, rfl⟩) dX3_init_78 (fun G78 h H locs hS => ?_)
  refine g_aload_n hx hb hl 0 rfl dX3_init_81 ?_
  refine lv_sipush (v := 320) hx hb dX3_init_82 (by decide) ?_
  refine g_newaG (k := 100) (atype := .int) hx hb hKn hRc hRs hS h (by decide) rfl (hts _ q596) dX3_init_85 (fun z85 h H locs cells slots hS => ?_)
  refine g_ptR hx hb hown hts hKn hS h fd_3_3_12 rfl (Or.inl (hts _ q566)) (fun _ z => z) (fun _ => ⟨hnm, rfl⟩) dX3_init_87 (fun G87 h H locs hS => ?_)
  exact g_vretG hx hb hr hlk hKn hRc hRs hS h dX3_init_90
/-- SendHall$Life.isAt(II)Z -/
def fX3_isAt (E : g_E) (t : Nat) (v1 : Int32) (v2 : Int32) (G : g_G) : Option (Int32 × g_G) :=
  (grR G 3 3 (some t) 3).bind fun x1 =>
  (gaR G 122 x1 v1).bind fun x5 =>
  if x5 = none then (
    if (0 : Int32) = 0 ∨ (0 : Int32) = 1 then some (0, G) else none)
  else (
    (grR G 3 3 (some t) 4).bind fun x10 =>
    (gaI G 102 x10 v1).bind fun x14 =>
    if ¬ x14 = 0 then (
      if (0 : Int32) = 0 ∨ (0 : Int32) = 1 then some (0, G) else none)
    else (
      (grR G 3 3 (some t) 3).bind fun x19 =>
      (gaR G 122 x19 v1).bind fun x23 =>
      (grI G 11 16 x23 0).bind fun x24 =>
      if ¬ x24 = v2 then (
        if (0 : Int32) = 0 ∨ (0 : Int32) = 1 then some (0, G) else none)
      else (
        if (1 : Int32) = 0 ∨ (1 : Int32) = 1 then some (1, G) else none)))
theorem sX3_isAt (l : Launch) (E : g_E) (D : g_D) {t : Nat} {v1 : Int32} {v2 : Int32} {G : g_G} {q : Int32 × g_G} (h : fX3_isAt E t v1 v2 G = some q) : gMet l E D yX3_isAt (ws_ yX3_isAt cX3_isAt 3 (some .boolean)) 1 64 [.inr (.inr (some t)), .inl v1, .inl v2] G (some (.int q.1)) q.2 := by
  refine gMet.of (by decide +kernel) (Nat.le_of_ble_eq_true rfl) ?_
  intro p e R s m args below meth c C hS ls hl
  have C : gC p R s m args meth c cX3_isAt 3 RX3 "isAt" (some .boolean) 1 64 E D := C
  obtain ⟨hx, hb, hml, hown, hts, hKn, hRc, hRs, hc1, hc2, hRf, hRl, hr, hlk, hnm⟩ := id C
  have hl : gls ls 3 [(0, .inr (.inr (some t))), (1, .inl v1), (2, .inl v2)] := hl
  generalize s.heap = H at hS ⊢
  unfold fX3_isAt at h
  refine g_aload_n hx hb hl 0 rfl dX3_isAt_0 ?_
  refine g_rdR hx hb hown hts hKn hS h fd_3_3_3 rfl (Or.inl (hts _ q544)) (fun _ z => z) dX3_isAt_1 (fun x1 h => ?_)
  refine g_iload_n hx hb hl 1 rfl dX3_isAt_4 ?_
  refine g_aaloadG hx hb hKn hS h (by decide) dX3_isAt_5 (fun x5 h => ?_)
  refine g_ifnull (tgt := 35) hx hb dX3_isAt_6 (by decide) (fun c_6 => ?_) (fun c_6 => ?_)
  · have h := g_ift c_6 h
    refine lv_iconst (v := 0) hx hb dX3_isAt_35 (by decide) ?_
    exact g_zretG hx hb hr hlk hKn hRc hRs hS h dX3_isAt_36
  · have h := g_iff c_6 h
    refine g_aload_n hx hb hl 0 rfl dX3_isAt_9 ?_
    refine g_rdR hx hb hown hts hKn hS h fd_3_3_4 rfl (Or.inl (hts _ q546)) (fun _ z => z) dX3_isAt_10 (fun x10 h => ?_)
    refine g_iload_n hx hb hl 1 rfl dX3_isAt_13 ?_
    refine g_zaloadG hx hb hKn hS h dX3_isAt_14 (fun x14 h => ?_)
    refine lv_if_ne (tgt := 35) hx hb dX3_isAt_15 (by decide) (fun c_15 => ?_) (fun c_15 => ?_)
    · have h := g_ift c_15 h
      refine lv_iconst (v := 0) hx hb dX3_isAt_35 (by decide) ?_
      exact g_zretG hx hb hr hlk hKn hRc hRs hS h dX3_isAt_36
    · have h := g_iff (fun z => z c_15) h
      refine g_aload_n hx hb hl 0 rfl dX3_isAt_18 ?_
      refine g_rdR hx hb hown hts hKn hS h fd_3_3_3 rfl (Or.inl (hts _ q544)) (fun _ z => z) dX3_isAt_19 (fun x19 h => ?_)
      refine g_iload_n hx hb hl 1 rfl dX3_isAt_22 ?_
      refine g_aaloadG hx hb hKn hS h (by decide) dX3_isAt_23 (fun x23 h => ?_)
      refine g_rdI hx hb hown hts hKn hS h fd_11_16_0 rfl (Or.inl (hts _ q1421)) (fun _ z => z) dX3_isAt_24 (fun x24 h => ?_)
      refine g_iload_n hx hb hl 2 rfl dX3_isAt_27 ?_
      refine lv_icmp_ne (tgt := 35) hx hb dX3_isAt_28 (by decide) (fun c_28 => ?_) (fun c_28 => ?_)
      · have h := g_ift c_28 h
        refine lv_iconst (v := 0) hx hb dX3_isAt_35 (by decide) ?_
        exact g_zretG hx hb hr hlk hKn hRc hRs hS h dX3_isAt_36
      · have h := g_iff (fun z => z c_28) h
        refine lv_iconst (v := 1) hx hb dX3_isAt_31 (by decide) ?_
        refine lv_goto (tgt := 36) hx hb dX3_isAt_32 (by decide) ?_
        exact g_zretG hx hb hr hlk hKn hRc hRs hS h dX3_isAt_36
/-- SendHall$Life.isLike(LSendHall$Life;)Z -/
def fX3_isLike_b142 (E : g_E) : Nat → Nat → (Option Nat) → Int32 → g_G → Option (Int32 × g_G)
  | 0, _, _, _, _ => none
  | n + 1, t, v1, v2, G =>
    (grI G 3 3 (some t) 1).bind fun x144 =>
    if x144 ≤ v2 then (
      if (1 : Int32) = 0 ∨ (1 : Int32) = 1 then some (1, G) else none)
    else (
      (grR G 3 3 (some t) 8).bind fun x151 =>
      (gaI G 100 x151 v2).bind fun x155 =>
      (grR G 3 3 v1 8).bind fun x157 =>
      (gaI G 100 x157 v2).bind fun x161 =>
      if ¬ x155 = x161 then (
        if (0 : Int32) = 0 ∨ (0 : Int32) = 1 then some (0, G) else none)
      else (
        (grR G 3 3 (some t) 9).bind fun x166 =>
        (gaI G 100 x166 v2).bind fun x170 =>
        (grR G 3 3 v1 9).bind fun x172 =>
        (gaI G 100 x172 v2).bind fun x176 =>
        if ¬ x170 = x176 then (
          if (0 : Int32) = 0 ∨ (0 : Int32) = 1 then some (0, G) else none)
        else (
          (grR G 3 3 (some t) 10).bind fun x181 =>
          (gaI G 100 x181 v2).bind fun x185 =>
          (grR G 3 3 v1 10).bind fun x187 =>
          (gaI G 100 x187 v2).bind fun x191 =>
          if ¬ x185 = x191 then (
            if (0 : Int32) = 0 ∨ (0 : Int32) = 1 then some (0, G) else none)
          else (
            (grR G 3 3 (some t) 11).bind fun x196 =>
            (gaI G 100 x196 v2).bind fun x200 =>
            (grR G 3 3 v1 11).bind fun x202 =>
            (gaI G 100 x202 v2).bind fun x206 =>
            if x200 = x206 then (
              fX3_isLike_b142 E n t v1 (v2 + 1) G)
            else (
              if (0 : Int32) = 0 ∨ (0 : Int32) = 1 then some (0, G) else none)))))
def fX3_isLike_b98 (E : g_E) (k26 : Nat → (Option Nat) → Int32 → g_G → Option (Int32 × g_G)) : Nat → Nat → (Option Nat) → Int32 → Int32 → g_G → Option (Int32 × g_G)
  | 0, _, _, _, _, _ => none
  | n + 1, t, v1, v2, v3, G =>
    if (4 : Int32) ≤ v3 then (
      k26 t v1 (v2 + 1) G)
    else (
      (grR G 3 3 (some t) 5).bind fun x104 =>
      (gaI G 100 x104 ((4 * v2) + v3)).bind fun x112 =>
      (grR G 3 3 v1 5).bind fun x114 =>
      (gaI G 100 x114 ((4 * v2) + v3)).bind fun x122 =>
      if x112 = x122 then (
        fX3_isLike_b98 E k26 n t v1 v2 (v3 + 1) G)
      else (
        if (0 : Int32) = 0 ∨ (0 : Int32) = 1 then some (0, G) else none))
def fX3_isLike_b26 (E : g_E) : Nat → Nat → (Option Nat) → Int32 → g_G → Option (Int32 × g_G)
  | 0, _, _, _, _ => none
  | n + 1, t, v1, v2, G =>
    (grI G 3 3 (some t) 0).bind fun x28 =>
    if x28 ≤ v2 then (
      fX3_isLike_b142 E gFU t v1 0 G)
    else (
      (grR G 3 3 (some t) 3).bind fun x35 =>
      (gaR G 122 x35 v2).bind fun x39 =>
      (grR G 3 3 v1 3).bind fun x41 =>
      (gaR G 122 x41 v2).bind fun x45 =>
      if ¬ x39 = x45 then (
        if (0 : Int32) = 0 ∨ (0 : Int32) = 1 then some (0, G) else none)
      else (
        (grR G 3 3 (some t) 4).bind fun x50 =>
        (gaI G 102 x50 v2).bind fun x54 =>
        (grR G 3 3 v1 4).bind fun x56 =>
        (gaI G 102 x56 v2).bind fun x60 =>
        if ¬ x54 = x60 then (
          if (0 : Int32) = 0 ∨ (0 : Int32) = 1 then some (0, G) else none)
        else (
          (grR G 3 3 (some t) 6).bind fun x65 =>
          (gaI G 100 x65 v2).bind fun x69 =>
          (grR G 3 3 v1 6).bind fun x71 =>
          (gaI G 100 x71 v2).bind fun x75 =>
          if ¬ x69 = x75 then (
            if (0 : Int32) = 0 ∨ (0 : Int32) = 1 then some (0, G) else none)
          else (
            (grR G 3 3 (some t) 7).bind fun x80 =>
            (gaI G 100 x80 v2).bind fun x84 =>
            (grR G 3 3 v1 7).bind fun x86 =>
            (gaI G 100 x86 v2).bind fun x90 =>
            if x84 = x90 then (
              fX3_isLike_b98 E (fX3_isLike_b26 E n) gFU t v1 v2 0 G)
            else (
              if (0 : Int32) = 0 ∨ (0 : Int32) = 1 then some (0, G) else none)))))
def fX3_isLike (E : g_E) (t : Nat) (v1 : Option Nat) (G : g_G) : Option (Int32 × g_G) :=
  (grI G 3 3 (some t) 2).bind fun x1 =>
  (grI G 3 3 v1 2).bind fun x5 =>
  if ¬ x1 = x5 then (
    if (0 : Int32) = 0 ∨ (0 : Int32) = 1 then some (0, G) else none)
  else (
    (grI G 3 3 (some t) 1).bind fun x12 =>
    (grI G 3 3 v1 1).bind fun x16 =>
    if x12 = x16 then (
      fX3_isLike_b26 E gFU t v1 0 G)
    else (
      if (0 : Int32) = 0 ∨ (0 : Int32) = 1 then some (0, G) else none))
theorem sX3_isLike_b142 {p : Program} {l : Launch} {e : Env} {R : Room} {s : State} {m : MethodId} {args : Array Value} {below : List Frame} {meth : Method} {c : Code} {E : g_E} {D : g_D} (C : gC p R s m args meth c cX3_isLike 4 RX3 "isLike" (some .boolean) 1 64 E D) : ∀ (n : Nat) (t : Nat) (v1 : Option Nat) (v2 : Int32) (G : g_G) (q : Int32 × g_G), fX3_isLike_b142 E n t v1 v2 G = some q → ∀ (H : Heap) (locs : List Loc) (cells slots : Nat) (ls : Array Slot), gSt E D G H locs → gls ls 4 [(0, .inr (.inr (some t))), (1, .inr (.inr v1)), (2, .inl v2)] → gT p l e R s m args below meth c E D H locs cells slots (some (.int q.1)) q.2 (F0 m 142 ls []) := by
  obtain ⟨hx, hb, hml, hown, hts, hKn, hRc, hRs, hc1, hc2, hRf, hRl, hr, hlk, hnm⟩ := id C
  intro n
  induction n with
  | zero =>
    intro t v1 v2 G q h
    exact g_no h
  | succ n ih =>
    intro t v1 v2 G q h H locs cells slots ls hS hl
    rw [fX3_isLike_b142] at h
    refine g_iload_n hx hb hl 2 rfl dX3_isLike_142 ?_
    refine g_aload_n hx hb hl 0 rfl dX3_isLike_143 ?_
    refine g_rdI hx hb hown hts hKn hS h fd_3_3_1 rfl (Or.inl (hts _ q542)) (fun _ z => z) dX3_isLike_144 (fun x144 h => ?_)
    refine lv_icmp_ge (tgt := 218) hx hb dX3_isLike_147 (by decide) (fun c_147 => ?_) (fun c_147 => ?_)
    · have h := g_ift c_147 h
      refine lv_iconst (v := 1) hx hb dX3_isLike_218 (by decide) ?_
      exact g_zretG hx hb hr hlk hKn hRc hRs hS h dX3_isLike_219
    · have h := g_iff c_147 h
      refine g_aload_n hx hb hl 0 rfl dX3_isLike_150 ?_
      refine g_rdR hx hb hown hts hKn hS h fd_3_3_8 rfl (Or.inl (hts _ q560)) (fun _ z => z) dX3_isLike_151 (fun x151 h => ?_)
      refine g_iload_n hx hb hl 2 rfl dX3_isLike_154 ?_
      refine g_ialoadG hx hb hKn hS h dX3_isLike_155 (fun x155 h => ?_)
      refine g_aload_n hx hb hl 1 rfl dX3_isLike_156 ?_
      refine g_rdR hx hb hown hts hKn hS h fd_3_3_8 rfl (Or.inl (hts _ q560)) (fun _ z => z) dX3_isLike_157 (fun x157 h => ?_)
      refine g_iload_n hx hb hl 2 rfl dX3_isLike_160 ?_
      refine g_ialoadG hx hb hKn hS h dX3_isLike_161 (fun x161 h => ?_)
      refine lv_icmp_ne (tgt := 210) hx hb dX3_isLike_162 (by decide) (fun c_162 => ?_) (fun c_162 => ?_)
      · have h := g_ift c_162 h
        refine lv_iconst (v := 0) hx hb dX3_isLike_210 (by decide) ?_
        exact g_zretG hx hb hr hlk hKn hRc hRs hS h dX3_isLike_211
      · have h := g_iff (fun z => z c_162) h
        refine g_aload_n hx hb hl 0 rfl dX3_isLike_165 ?_
        refine g_rdR hx hb hown hts hKn hS h fd_3_3_9 rfl (Or.inl (hts _ q561)) (fun _ z => z) dX3_isLike_166 (fun x166 h => ?_)
        refine g_iload_n hx hb hl 2 rfl dX3_isLike_169 ?_
        refine g_ialoadG hx hb hKn hS h dX3_isLike_170 (fun x170 h => ?_)
        refine g_aload_n hx hb hl 1 rfl dX3_isLike_171 ?_
        refine g_rdR hx hb hown hts hKn hS h fd_3_3_9 rfl (Or.inl (hts _ q561)) (fun _ z => z) dX3_isLike_172 (fun x172 h => ?_)
        refine g_iload_n hx hb hl 2 rfl dX3_isLike_175 ?_
        refine g_ialoadG hx hb hKn hS h dX3_isLike_176 (fun x176 h => ?_)
        refine lv_icmp_ne (tgt := 210) hx hb dX3_isLike_177 (by decide) (fun c_177 => ?_) (fun c_177 => ?_)
        · have h := g_ift c_177 h
          refine lv_iconst (v := 0) hx hb dX3_isLike_210 (by decide) ?_
          exact g_zretG hx hb hr hlk hKn hRc hRs hS h dX3_isLike_211
        · have h := g_iff (fun z => z c_177) h
          refine g_aload_n hx hb hl 0 rfl dX3_isLike_180 ?_
          refine g_rdR hx hb hown hts hKn hS h fd_3_3_10 rfl (Or.inl (hts _ q562)) (fun _ z => z) dX3_isLike_181 (fun x181 h => ?_)
          refine g_iload_n hx hb hl 2 rfl dX3_isLike_184 ?_
          refine g_ialoadG hx hb hKn hS h dX3_isLike_185 (fun x185 h => ?_)
          refine g_aload_n hx hb hl 1 rfl dX3_isLike_186 ?_
          refine g_rdR hx hb hown hts hKn hS h fd_3_3_10 rfl (Or.inl (hts _ q562)) (fun _ z => z) dX3_isLike_187 (fun x187 h => ?_)
          refine g_iload_n hx hb hl 2 rfl dX3_isLike_190 ?_
          refine g_ialoadG hx hb hKn hS h dX3_isLike_191 (fun x191 h => ?_)
          refine lv_icmp_ne (tgt := 210) hx hb dX3_isLike_192 (by decide) (fun c_192 => ?_) (fun c_192 => ?_)
          · have h := g_ift c_192 h
            refine lv_iconst (v := 0) hx hb dX3_isLike_210 (by decide) ?_
            exact g_zretG hx hb hr hlk hKn hRc hRs hS h dX3_isLike_211
          · have h := g_iff (fun z => z c_192) h
            refine g_aload_n hx hb hl 0 rfl dX3_isLike_195 ?_
            refine g_rdR hx hb hown hts hKn hS h fd_3_3_11 rfl (Or.inl (hts _ q564)) (fun _ z => z) dX3_isLike_196 (fun x196 h => ?_)
            refine g_iload_n hx hb hl 2 rfl dX3_isLike_199 ?_
            refine g_ialoadG hx hb hKn hS h dX3_isLike_200 (fun x200 h => ?_)
            refine g_aload_n hx hb hl 1 rfl dX3_isLike_201 ?_
            refine g_rdR hx hb hown hts hKn hS h fd_3_3_11 rfl (Or.inl (hts _ q564)) (fun _ z => z) dX3_isLike_202 (fun x202 h => ?_)
            refine g_iload_n hx hb hl 2 rfl dX3_isLike_205 ?_
            refine g_ialoadG hx hb hKn hS h dX3_isLike_206 (fun x206 h => ?_)
            refine lv_icmp_eq (tgt := 212) hx hb dX3_isLike_207 (by decide) (fun c_207 => ?_) (fun c_207 => ?_)
            · have h := g_ift c_207 h
              refine g_iinc (l1 := [(2, .inl (v2 + 1)), (0, .inr (.inr (some t))), (1, .inr (.inr v1))]) (v := (v2 + 1)) hx hb hl (k := 2) rfl (by rfl) (by decide) rfl dX3_isLike_212 (fun ls hl => ?_)
              refine lv_goto (tgt := 142) hx hb dX3_isLike_215 (by decide) ?_
              exact ih _ _ _ _ _ h _ _ _ _ _ hS (gls_sub hl [1, 2, 0] rfl)
            · have h := g_iff c_207 h
              refine lv_iconst (v := 0) hx hb dX3_isLike_210 (by decide) ?_
              exact g_zretG hx hb hr hlk hKn hRc hRs hS h dX3_isLike_211
theorem sX3_isLike_b98 {p : Program} {l : Launch} {e : Env} {R : Room} {s : State} {m : MethodId} {args : Array Value} {below : List Frame} {meth : Method} {c : Code} {E : g_E} {D : g_D} (C : gC p R s m args meth c cX3_isLike 4 RX3 "isLike" (some .boolean) 1 64 E D) {k26 : Nat → (Option Nat) → Int32 → g_G → Option (Int32 × g_G)} (hk26 : ∀ (t : Nat) (v1 : Option Nat) (v2 : Int32) (G : g_G) (q : Int32 × g_G), k26 t v1 v2 G = some q → ∀ (H : Heap) (locs : List Loc) (cells slots : Nat) (ls : Array Slot), gSt E D G H locs → gls ls 4 [(0, .inr (.inr (some t))), (1, .inr (.inr v1)), (2, .inl v2)] → gT p l e R s m args below meth c E D H locs cells slots (some (.int q.1)) q.2 (F0 m 26 ls [])) : ∀ (n : Nat) (t : Nat) (v1 : Option Nat) (v2 : Int32) (v3 : Int32) (G : g_G) (q : Int32 × g_G), fX3_isLike_b98 E k26 n t v1 v2 v3 G = some q → ∀ (H : Heap) (locs : List Loc) (cells slots : Nat) (ls : Array Slot), gSt E D G H locs → gls ls 4 [(0, .inr (.inr (some t))), (1, .inr (.inr v1)), (2, .inl v2), (3, .inl v3)] → gT p l e R s m args below meth c E D H locs cells slots (some (.int q.1)) q.2 (F0 m 98 ls []) := by
  obtain ⟨hx, hb, hml, hown, hts, hKn, hRc, hRs, hc1, hc2, hRf, hRl, hr, hlk, hnm⟩ := id C
  intro n
  induction n with
  | zero =>
    intro t v1 v2 v3 G q h
    exact g_no h
  | succ n ih =>
    intro t v1 v2 v3 G q h H locs cells slots ls hS hl
    rw [fX3_isLike_b98] at h
    refine g_iload_n hx hb hl 3 rfl dX3_isLike_98 ?_
    refine lv_iconst (v := 4) hx hb dX3_isLike_99 (by decide) ?_
    refine lv_icmp_ge (tgt := 134) hx hb dX3_isLike_100 (by decide) (fun c_100 => ?_) (fun c_100 => ?_)
    · have h := g_ift c_100 h
      refine g_iinc (l1 := [(2, .inl (v2 + 1)), (0, .inr (.inr (some t))), (1, .inr (.inr v1)), (3, .inl v3)]) (v := (v2 + 1)) hx hb hl (k := 2) rfl (by rfl) (by decide) rfl dX3_isLike_134 (fun ls hl => ?_)
      refine lv_goto (tgt := 26) hx hb dX3_isLike_137 (by decide) ?_
      exact hk26 _ _ _ _ _ h _ _ _ _ _ hS (gls_sub hl [1, 2, 0] rfl)
    · have h := g_iff c_100 h
      refine g_aload_n hx hb hl 0 rfl dX3_isLike_103 ?_
      refine g_rdR hx hb hown hts hKn hS h fd_3_3_5 rfl (Or.inl (hts _ q550)) (fun _ z => z) dX3_isLike_104 (fun x104 h => ?_)
      refine lv_iconst (v := 4) hx hb dX3_isLike_107 (by decide) ?_
      refine g_iload_n hx hb hl 2 rfl dX3_isLike_108 ?_
      refine lv_imul hx hb dX3_isLike_109 ?_
      refine g_iload_n hx hb hl 3 rfl dX3_isLike_110 ?_
      refine lv_iadd hx hb dX3_isLike_111 ?_
      refine g_ialoadG hx hb hKn hS h dX3_isLike_112 (fun x112 h => ?_)
      refine g_aload_n hx hb hl 1 rfl dX3_isLike_113 ?_
      refine g_rdR hx hb hown hts hKn hS h fd_3_3_5 rfl (Or.inl (hts _ q550)) (fun _ z => z) dX3_isLike_114 (fun x114 h => ?_)
      refine lv_iconst (v := 4) hx hb dX3_isLike_117 (by decide) ?_
      refine g_iload_n hx hb hl 2 rfl dX3_isLike_118 ?_
      refine lv_imul hx hb dX3_isLike_119 ?_
      refine g_iload_n hx hb hl 3 rfl dX3_isLike_120 ?_
      refine lv_iadd hx hb dX3_isLike_121 ?_
      refine g_ialoadG hx hb hKn hS h dX3_isLike_122 (fun x122 h => ?_)
      refine lv_icmp_eq (tgt := 128) hx hb dX3_isLike_123 (by decide) (fun c_123 => ?_) (fun c_123 => ?_)
      · have h := g_ift c_123 h
        refine g_iinc (l1 := [(3, .inl (v3 + 1)), (0, .inr (.inr (some t))), (1, .inr (.inr v1)), (2, .inl v2)]) (v := (v3 + 1)) hx hb hl (k := 3) rfl (by rfl) (by decide) rfl dX3_isLike_128 (fun ls hl => ?_)
        refine lv_goto (tgt := 98) hx hb dX3_isLike_131 (by decide) ?_
        exact ih _ _ _ _ _ _ h _ _ _ _ _ hS (gls_sub hl [1, 2, 3, 0] rfl)
      · have h := g_iff c_123 h
        refine lv_iconst (v := 0) hx hb dX3_isLike_126 (by decide) ?_
        exact g_zretG hx hb hr hlk hKn hRc hRs hS h dX3_isLike_127
theorem sX3_isLike_b26 {p : Program} {l : Launch} {e : Env} {R : Room} {s : State} {m : MethodId} {args : Array Value} {below : List Frame} {meth : Method} {c : Code} {E : g_E} {D : g_D} (C : gC p R s m args meth c cX3_isLike 4 RX3 "isLike" (some .boolean) 1 64 E D) : ∀ (n : Nat) (t : Nat) (v1 : Option Nat) (v2 : Int32) (G : g_G) (q : Int32 × g_G), fX3_isLike_b26 E n t v1 v2 G = some q → ∀ (H : Heap) (locs : List Loc) (cells slots : Nat) (ls : Array Slot), gSt E D G H locs → gls ls 4 [(0, .inr (.inr (some t))), (1, .inr (.inr v1)), (2, .inl v2)] → gT p l e R s m args below meth c E D H locs cells slots (some (.int q.1)) q.2 (F0 m 26 ls []) := by
  obtain ⟨hx, hb, hml, hown, hts, hKn, hRc, hRs, hc1, hc2, hRf, hRl, hr, hlk, hnm⟩ := id C
  intro n
  induction n with
  | zero =>
    intro t v1 v2 G q h
    exact g_no h
  | succ n ih =>
    intro t v1 v2 G q h H locs cells slots ls hS hl
    rw [fX3_isLike_b26] at h
    refine g_iload_n hx hb hl 2 rfl dX3_isLike_26 ?_
    refine g_aload_n hx hb hl 0 rfl dX3_isLike_27 ?_
    refine g_rdI hx hb hown hts hKn hS h fd_3_3_0 rfl (Or.inl (hts _ q538)) (fun _ z => z) dX3_isLike_28 (fun x28 h => ?_)
    refine lv_icmp_ge (tgt := 140) hx hb dX3_isLike_31 (by decide) (fun c_31 => ?_) (fun c_31 => ?_)
    · have h := g_ift c_31 h
      refine lv_iconst (v := 0) hx hb dX3_isLike_140 (by decide) ?_
      refine g_istore_n (l1 := [(2, .inl 0), (0, .inr (.inr (some t))), (1, .inr (.inr v1))]) hx hb hl (by decide) rfl dX3_isLike_141 (fun ls hl => ?_)
      exact sX3_isLike_b142 C gFU _ _ _ _ _ h _ _ _ _ _ hS (gls_sub hl [1, 2, 0] rfl)
    · have h := g_iff c_31 h
      refine g_aload_n hx hb hl 0 rfl dX3_isLike_34 ?_
      refine g_rdR hx hb hown hts hKn hS h fd_3_3_3 rfl (Or.inl (hts _ q544)) (fun _ z => z) dX3_isLike_35 (fun x35 h => ?_)
      refine g_iload_n hx hb hl 2 rfl dX3_isLike_38 ?_
      refine g_aaloadG hx hb hKn hS h (by decide) dX3_isLike_39 (fun x39 h => ?_)
      refine g_aload_n hx hb hl 1 rfl dX3_isLike_40 ?_
      refine g_rdR hx hb hown hts hKn hS h fd_3_3_3 rfl (Or.inl (hts _ q544)) (fun _ z => z) dX3_isLike_41 (fun x41 h => ?_)
      refine g_iload_n hx hb hl 2 rfl dX3_isLike_44 ?_
      refine g_aaloadG hx hb hKn hS h (by decide) dX3_isLike_45 (fun x45 h => ?_)
      refine lv_acmp_ne (tgt := 94) hx hb dX3_isLike_46 (by decide) (fun c_46 => ?_) (fun c_46 => ?_)
      · have h := g_ift c_46 h
        refine lv_iconst (v := 0) hx hb dX3_isLike_94 (by decide) ?_
        exact g_zretG hx hb hr hlk hKn hRc hRs hS h dX3_isLike_95
      · have h := g_iff (fun z => z c_46) h
        refine g_aload_n hx hb hl 0 rfl dX3_isLike_49 ?_
        refine g_rdR hx hb hown hts hKn hS h fd_3_3_4 rfl (Or.inl (hts _ q546)) (fun _ z => z) dX3_isLike_50 (fun x50 h => ?_)
        refine g_iload_n hx hb hl 2 rfl dX3_isLike_53 ?_
        refine g_zaloadG hx hb hKn hS h dX3_isLike_54 (fun x54 h => ?_)
        refine g_aload_n hx hb hl 1 rfl dX3_isLike_55 ?_
        refine g_rdR hx hb hown hts hKn hS h fd_3_3_4 rfl (Or.inl (hts _ q546)) (fun _ z => z) dX3_isLike_56 (fun x56 h => ?_)
        refine g_iload_n hx hb hl 2 rfl dX3_isLike_59 ?_
        refine g_zaloadG hx hb hKn hS h dX3_isLike_60 (fun x60 h => ?_)
        refine lv_icmp_ne (tgt := 94) hx hb dX3_isLike_61 (by decide) (fun c_61 => ?_) (fun c_61 => ?_)
        · have h := g_ift c_61 h
          refine lv_iconst (v := 0) hx hb dX3_isLike_94 (by decide) ?_
          exact g_zretG hx hb hr hlk hKn hRc hRs hS h dX3_isLike_95
        · have h := g_iff (fun z => z c_61) h
          refine g_aload_n hx hb hl 0 rfl dX3_isLike_64 ?_
          refine g_rdR hx hb hown hts hKn hS h fd_3_3_6 rfl (Or.inl (hts _ q554)) (fun _ z => z) dX3_isLike_65 (fun x65 h => ?_)
          refine g_iload_n hx hb hl 2 rfl dX3_isLike_68 ?_
          refine g_ialoadG hx hb hKn hS h dX3_isLike_69 (fun x69 h => ?_)
          refine g_aload_n hx hb hl 1 rfl dX3_isLike_70 ?_
          refine g_rdR hx hb hown hts hKn hS h fd_3_3_6 rfl (Or.inl (hts _ q554)) (fun _ z => z) dX3_isLike_71 (fun x71 h => ?_)
          refine g_iload_n hx hb hl 2 rfl dX3_isLike_74 ?_
          refine g_ialoadG hx hb hKn hS h dX3_isLike_75 (fun x75 h => ?_)
          refine lv_icmp_ne (tgt := 94) hx hb dX3_isLike_76 (by decide) (fun c_76 => ?_) (fun c_76 => ?_)
          · have h := g_ift c_76 h
            refine lv_iconst (v := 0) hx hb dX3_isLike_94 (by decide) ?_
            exact g_zretG hx hb hr hlk hKn hRc hRs hS h dX3_isLike_95
          · have h := g_iff (fun z => z c_76) h
            refine g_aload_n hx hb hl 0 rfl dX3_isLike_79 ?_
            refine g_rdR hx hb hown hts hKn hS h fd_3_3_7 rfl (Or.inl (hts _ q557)) (fun _ z => z) dX3_isLike_80 (fun x80 h => ?_)
            refine g_iload_n hx hb hl 2 rfl dX3_isLike_83 ?_
            refine g_ialoadG hx hb hKn hS h dX3_isLike_84 (fun x84 h => ?_)
            refine g_aload_n hx hb hl 1 rfl dX3_isLike_85 ?_
            refine g_rdR hx hb hown hts hKn hS h fd_3_3_7 rfl (Or.inl (hts _ q557)) (fun _ z => z) dX3_isLike_86 (fun x86 h => ?_)
            refine g_iload_n hx hb hl 2 rfl dX3_isLike_89 ?_
            refine g_ialoadG hx hb hKn hS h dX3_isLike_90 (fun x90 h => ?_)
            refine lv_icmp_eq (tgt := 96) hx hb dX3_isLike_91 (by decide) (fun c_91 => ?_) (fun c_91 => ?_)
            · have h := g_ift c_91 h
              refine lv_iconst (v := 0) hx hb dX3_isLike_96 (by decide) ?_
              refine g_istore_n (l1 := [(3, .inl 0), (0, .inr (.inr (some t))), (1, .inr (.inr v1)), (2, .inl v2)]) hx hb hl (by decide) rfl dX3_isLike_97 (fun ls hl => ?_)
              exact sX3_isLike_b98 C ih gFU _ _ _ _ _ _ h _ _ _ _ _ hS (gls_sub hl [1, 2, 3, 0] rfl)
            · have h := g_iff c_91 h
              refine lv_iconst (v := 0) hx hb dX3_isLike_94 (by decide) ?_
              exact g_zretG hx hb hr hlk hKn hRc hRs hS h dX3_isLike_95
theorem sX3_isLike (l : Launch) (E : g_E) (D : g_D) {t : Nat} {v1 : Option Nat} {G : g_G} {q : Int32 × g_G} (h : fX3_isLike E t v1 G = some q) : gMet l E D yX3_isLike (ws_ yX3_isLike cX3_isLike 4 (some .boolean)) 1 64 [.inr (.inr (some t)), .inr (.inr v1)] G (some (.int q.1)) q.2 := by
  refine gMet.of (by decide +kernel) (Nat.le_of_ble_eq_true rfl) ?_
  intro p e R s m args below meth c C hS ls hl
  have C : gC p R s m args meth c cX3_isLike 4 RX3 "isLike" (some .boolean) 1 64 E D := C
  obtain ⟨hx, hb, hml, hown, hts, hKn, hRc, hRs, hc1, hc2, hRf, hRl, hr, hlk, hnm⟩ := id C
  have hl : gls ls 4 [(0, .inr (.inr (some t))), (1, .inr (.inr v1))] := hl
  generalize s.heap = H at hS ⊢
  unfold fX3_isLike at h
  refine g_aload_n hx hb hl 0 rfl dX3_isLike_0 ?_
  refine g_rdI hx hb hown hts hKn hS h fd_3_3_2 rfl (Or.inl (hts _ q543)) (fun _ z => z) dX3_isLike_1 (fun x1 h => ?_)
  refine g_aload_n hx hb hl 1 rfl dX3_isLike_4 ?_
  refine g_rdI hx hb hown hts hKn hS h fd_3_3_2 rfl (Or.inl (hts _ q543)) (fun _ z => z) dX3_isLike_5 (fun x5 h => ?_)
  refine lv_icmp_ne (tgt := 22) hx hb dX3_isLike_8 (by decide) (fun c_8 => ?_) (fun c_8 => ?_)
  · have h := g_ift c_8 h
    refine lv_iconst (v := 0) hx hb dX3_isLike_22 (by decide) ?_
    exact g_zretG hx hb hr hlk hKn hRc hRs hS h dX3_isLike_23
  · have h := g_iff (fun z => z c_8) h
    refine g_aload_n hx hb hl 0 rfl dX3_isLike_11 ?_
    refine g_rdI hx hb hown hts hKn hS h fd_3_3_1 rfl (Or.inl (hts _ q542)) (fun _ z => z) dX3_isLike_12 (fun x12 h => ?_)
    refine g_aload_n hx hb hl 1 rfl dX3_isLike_15 ?_
    refine g_rdI hx hb hown hts hKn hS h fd_3_3_1 rfl (Or.inl (hts _ q542)) (fun _ z => z) dX3_isLike_16 (fun x16 h => ?_)
    refine lv_icmp_eq (tgt := 24) hx hb dX3_isLike_19 (by decide) (fun c_19 => ?_) (fun c_19 => ?_)
    · have h := g_ift c_19 h
      refine lv_iconst (v := 0) hx hb dX3_isLike_24 (by decide) ?_
      refine g_istore_n (l1 := [(2, .inl 0), (0, .inr (.inr (some t))), (1, .inr (.inr v1))]) hx hb hl (by decide) rfl dX3_isLike_25 (fun ls hl => ?_)
      exact sX3_isLike_b26 C gFU _ _ _ _ _ h _ _ _ _ _ hS (gls_sub hl [1, 2, 0] rfl)
    · have h := g_iff c_19 h
      refine lv_iconst (v := 0) hx hb dX3_isLike_22 (by decide) ?_
      exact g_zretG hx hb hr hlk hKn hRc hRs hS h dX3_isLike_23
/-- SendHall$Life.put(ILSendHall$Life;I)V -/
def fX3_put (E : g_E) (t : Nat) (v1 : Int32) (v2 : Option Nat) (v3 : Int32) (G : g_G) : Option (g_G) :=
  (grR G 3 3 (some t) 8).bind fun x1 =>
  (grR G 3 3 v2 8).bind fun x6 =>
  (gaI G 100 x6 v3).bind fun x10 =>
  (gsaI E G x1 v1 x10).bind fun G11 =>
  (grR G11 3 3 (some t) 9).bind fun x13 =>
  (grR G11 3 3 v2 9).bind fun x18 =>
  (gaI G11 100 x18 v3).bind fun x22 =>
  (gsaI E G11 x13 v1 x22).bind fun G23 =>
  (grR G23 3 3 (some t) 10).bind fun x25 =>
  (grR G23 3 3 v2 10).bind fun x30 =>
  (gaI G23 100 x30 v3).bind fun x34 =>
  (gsaI E G23 x25 v1 x34).bind fun G35 =>
  (grR G35 3 3 (some t) 11).bind fun x37 =>
  (grR G35 3 3 v2 11).bind fun x42 =>
  (gaI G35 100 x42 v3).bind fun x46 =>
  (gsaI E G35 x37 v1 x46).bind fun G47 =>
  (grR G47 3 3 (some t) 12).bind fun x49 =>
  (grR G47 3 3 v2 12).bind fun x54 =>
  (gaI G47 100 x54 v3).bind fun x58 =>
  (gsaI E G47 x49 v1 x58).bind fun G59 =>
  some G59
theorem sX3_put (l : Launch) (E : g_E) (D : g_D) {t : Nat} {v1 : Int32} {v2 : Option Nat} {v3 : Int32} {G : g_G} {q : g_G} (h : fX3_put E t v1 v2 v3 G = some q) : gMet l E D yX3_put (ws_ yX3_put cX3_put 4 (none)) 1 64 [.inr (.inr (some t)), .inl v1, .inr (.inr v2), .inl v3] G none q := by
  refine gMet.of (by decide +kernel) (Nat.le_of_ble_eq_true rfl) ?_
  intro p e R s m args below meth c C hS ls hl
  have C : gC p R s m args meth c cX3_put 4 RX3 "put" (none) 1 64 E D := C
  obtain ⟨hx, hb, hml, hown, hts, hKn, hRc, hRs, hc1, hc2, hRf, hRl, hr, hlk, hnm⟩ := id C
  have hl : gls ls 4 [(0, .inr (.inr (some t))), (1, .inl v1), (2, .inr (.inr v2)), (3, .inl v3)] := hl
  generalize s.heap = H at hS ⊢
  unfold fX3_put at h
  refine g_aload_n hx hb hl 0 rfl dX3_put_0 ?_
  refine g_rdR hx hb hown hts hKn hS h fd_3_3_8 rfl (Or.inl (hts _ q560)) (fun _ z => z) dX3_put_1 (fun x1 h => ?_)
  refine g_iload_n hx hb hl 1 rfl dX3_put_4 ?_
  refine g_aload_n hx hb hl 2 rfl dX3_put_5 ?_
  refine g_rdR hx hb hown hts hKn hS h fd_3_3_8 rfl (Or.inl (hts _ q560)) (fun _ z => z) dX3_put_6 (fun x6 h => ?_)
  refine g_iload_n hx hb hl 3 rfl dX3_put_9 ?_
  refine g_ialoadG hx hb hKn hS h dX3_put_10 (fun x10 h => ?_)
  refine g_iastoreG hx hb hKn hS h dX3_put_11 (fun G11 h H locs hS => ?_)
  refine g_aload_n hx hb hl 0 rfl dX3_put_12 ?_
  refine g_rdR hx hb hown hts hKn hS h fd_3_3_9 rfl (Or.inl (hts _ q561)) (fun _ z => z) dX3_put_13 (fun x13 h => ?_)
  refine g_iload_n hx hb hl 1 rfl dX3_put_16 ?_
  refine g_aload_n hx hb hl 2 rfl dX3_put_17 ?_
  refine g_rdR hx hb hown hts hKn hS h fd_3_3_9 rfl (Or.inl (hts _ q561)) (fun _ z => z) dX3_put_18 (fun x18 h => ?_)
  refine g_iload_n hx hb hl 3 rfl dX3_put_21 ?_
  refine g_ialoadG hx hb hKn hS h dX3_put_22 (fun x22 h => ?_)
  refine g_iastoreG hx hb hKn hS h dX3_put_23 (fun G23 h H locs hS => ?_)
  refine g_aload_n hx hb hl 0 rfl dX3_put_24 ?_
  refine g_rdR hx hb hown hts hKn hS h fd_3_3_10 rfl (Or.inl (hts _ q562)) (fun _ z => z) dX3_put_25 (fun x25 h => ?_)
  refine g_iload_n hx hb hl 1 rfl dX3_put_28 ?_
  refine g_aload_n hx hb hl 2 rfl dX3_put_29 ?_
  refine g_rdR hx hb hown hts hKn hS h fd_3_3_10 rfl (Or.inl (hts _ q562)) (fun _ z => z) dX3_put_30 (fun x30 h => ?_)
  refine g_iload_n hx hb hl 3 rfl dX3_put_33 ?_
  refine g_ialoadG hx hb hKn hS h dX3_put_34 (fun x34 h => ?_)
  refine g_iastoreG hx hb hKn hS h dX3_put_35 (fun G35 h H locs hS => ?_)
  refine g_aload_n hx hb hl 0 rfl dX3_put_36 ?_
  refine g_rdR hx hb hown hts hKn hS h fd_3_3_11 rfl (Or.inl (hts _ q564)) (fun _ z => z) dX3_put_37 (fun x37 h => ?_)
  refine g_iload_n hx hb hl 1 rfl dX3_put_40 ?_
  refine g_aload_n hx hb hl 2 rfl dX3_put_41 ?_
  refine g_rdR hx hb hown hts hKn hS h fd_3_3_11 rfl (Or.inl (hts _ q564)) (fun _ z => z) dX3_put_42 (fun x42 h => ?_)
  refine g_iload_n hx hb hl 3 rfl dX3_put_45 ?_
  refine g_ialoadG hx hb hKn hS h dX3_put_46 (fun x46 h => ?_)
  refine g_iastoreG hx hb hKn hS h dX3_put_47 (fun G47 h H locs hS => ?_)
  refine g_aload_n hx hb hl 0 rfl dX3_put_48 ?_
  refine g_rdR hx hb hown hts hKn hS h fd_3_3_12 rfl (Or.inl (hts _ q566)) (fun _ z => z) dX3_put_49 (fun x49 h => ?_)
  refine g_iload_n hx hb hl 1 rfl dX3_put_52 ?_
  refine g_aload_n hx hb hl 2 rfl dX3_put_53 ?_
  refine g_rdR hx hb hown hts hKn hS h fd_3_3_12 rfl (Or.inl (hts _ q566)) (fun _ z => z) dX3_put_54 (fun x54 h => ?_)
  refine g_iload_n hx hb hl 3 rfl dX3_put_57 ?_
  refine g_ialoadG hx hb hKn hS h dX3_put_58 (fun x58 h => ?_)
  refine g_iastoreG hx hb hKn hS h dX3_put_59 (fun G59 h H locs hS => ?_)
  exact g_vretG hx hb hr hlk hKn hRc hRs hS h dX3_put_60
