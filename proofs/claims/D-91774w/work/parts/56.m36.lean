set_option maxRecDepth 100000
/-- SendHall.plays(LSendHall$Life;II)V -/
def fX1_plays_b92 (E : g_E) (k54 : Nat → (Option Nat) → Int32 → Int32 → Int32 → g_G → Option (g_G)) (t : Nat) (v1 : Option Nat) (v2 : Int32) (v3 : Int32) (v4 : Int32) (G : g_G) : Option (g_G) :=
  k54 t v1 v2 v3 v4 G
def fX1_plays_b65 (E : g_E) (k54 : Nat → (Option Nat) → Int32 → Int32 → Int32 → g_G → Option (g_G)) : Nat → Nat → (Option Nat) → Int32 → Int32 → Int32 → Int32 → g_G → Option (g_G)
  | 0, _, _, _, _, _, _, _ => none
  | n + 1, t, v1, v2, v3, v4, v5, G =>
    if v2 ≤ v5 then (
      fX1_plays_b92 E k54 t v1 v2 v3 v4 G)
    else (
      if ¬ v4 = 0 then (
        fX1_plays_b92 E k54 t v1 v2 v3 v4 G)
      else (
        (gchk G 1 (some t)).bind fun b81 =>
        (fX1_goesOn E b81 v1 v5 v3 G).bind fun z81 =>
        fX1_plays_b65 E k54 n t v1 v2 v3 z81.1 (v5 + 1) z81.2))
def fX1_plays_b54 (E : g_E) : Nat → Nat → (Option Nat) → Int32 → Int32 → Int32 → g_G → Option (g_G)
  | 0, _, _, _, _, _, _ => none
  | n + 1, t, v1, v2, v3, v4, G =>
    if v4 = 0 then (
      some G)
    else (
      fX1_plays_b65 E (fX1_plays_b54 E n) gFU t v1 v2 v3 0 0 G)
def fX1_plays_b8 (E : g_E) : Nat → Nat → (Option Nat) → Int32 → Int32 → Int32 → g_G → Option (g_G)
  | 0, _, _, _, _, _, _ => none
  | n + 1, t, v1, v2, v3, v4, G =>
    if (8 : Int32) ≤ v4 then (
      (gchk G 1 (some t)).bind fun b48 =>
      (fX1_begins E b48 v1 v2 G).bind fun z48 =>
      fX1_plays_b54 E gFU t v1 v2 v3 1 z48)
    else (
      (grR G 1 1 (some t) 6).bind fun x16 =>
      (gsaI E G x16 v4 0).bind fun G22 =>
      (grR G22 1 1 (some t) 7).bind fun x24 =>
      (gsaI E G22 x24 v4 0).bind fun G30 =>
      (grR G30 1 1 (some t) 8).bind fun x32 =>
      (gsaI E G30 x32 v4 0).bind fun G38 =>
      fX1_plays_b8 E n t v1 v2 v3 (v4 + 1) G38)
def fX1_plays (E : g_E) (t : Nat) (v1 : Option Nat) (v2 : Int32) (v3 : Int32) (G : g_G) : Option (g_G) :=
  (gpI E G 1 1 (some t) 25 0).bind fun G2 =>
  fX1_plays_b8 E gFU t v1 v2 v3 0 G2
theorem sX1_plays_b92 {p : Program} {l : Launch} {e : Env} {R : Room} {s : State} {m : MethodId} {args : Array Value} {below : List Frame} {meth : Method} {c : Code} {E : g_E} {D : g_D} (C : gC p R s m args meth c cX1_plays 6 RX1 "plays" (none) 225 7486 E D) {k54 : Nat → (Option Nat) → Int32 → Int32 → Int32 → g_G → Option (g_G)} (hk54 : ∀ (t : Nat) (v1 : Option Nat) (v2 : Int32) (v3 : Int32) (v4 : Int32) (G : g_G) (q : g_G), k54 t v1 v2 v3 v4 G = some q → ∀ (H : Heap) (locs : List Loc) (cells slots : Nat) (ls : Array Slot), gSt E D G H locs → gls ls 6 [(0, .inr (.inr (some t))), (1, .inr (.inr v1)), (2, .inl v2), (3, .inl v3), (4, .inl v4)] → gT p l e R s m args below meth c E D H locs cells slots none q (F0 m 54 ls [])) : ∀ (t : Nat) (v1 : Option Nat) (v2 : Int32) (v3 : Int32) (v4 : Int32) (G : g_G) (q : g_G), fX1_plays_b92 E k54 t v1 v2 v3 v4 G = some q → ∀ (H : Heap) (locs : List Loc) (cells slots : Nat) (ls : Array Slot), gSt E D G H locs → gls ls 6 [(0, .inr (.inr (some t))), (1, .inr (.inr v1)), (2, .inl v2), (3, .inl v3), (4, .inl v4)] → gT p l e R s m args below meth c E D H locs cells slots none q (F0 m 92 ls []) := by
  obtain ⟨hx, hb, hml, hown, hts, hKn, hRc, hRs, hc1, hc2, hRf, hRl, hr, hlk, hnm⟩ := id C
  intro t v1 v2 v3 v4 G q h H locs cells slots ls hS hl
  unfold fX1_plays_b92 at h
  refine lv_goto (tgt := 54) hx hb dX1_plays_92 (by decide) ?_
  exact hk54 _ _ _ _ _ _ _ h _ _ _ _ _ hS (gls_sub hl [0, 1, 2, 3, 4] rfl)
theorem sX1_plays_b65 {p : Program} {l : Launch} {e : Env} {R : Room} {s : State} {m : MethodId} {args : Array Value} {below : List Frame} {meth : Method} {c : Code} {E : g_E} {D : g_D} (C : gC p R s m args meth c cX1_plays 6 RX1 "plays" (none) 225 7486 E D) {k54 : Nat → (Option Nat) → Int32 → Int32 → Int32 → g_G → Option (g_G)} (hk54 : ∀ (t : Nat) (v1 : Option Nat) (v2 : Int32) (v3 : Int32) (v4 : Int32) (G : g_G) (q : g_G), k54 t v1 v2 v3 v4 G = some q → ∀ (H : Heap) (locs : List Loc) (cells slots : Nat) (ls : Array Slot), gSt E D G H locs → gls ls 6 [(0, .inr (.inr (some t))), (1, .inr (.inr v1)), (2, .inl v2), (3, .inl v3), (4, .inl v4)] → gT p l e R s m args below meth c E D H locs cells slots none q (F0 m 54 ls [])) : ∀ (n : Nat) (t : Nat) (v1 : Option Nat) (v2 : Int32) (v3 : Int32) (v4 : Int32) (v5 : Int32) (G : g_G) (q : g_G), fX1_plays_b65 E k54 n t v1 v2 v3 v4 v5 G = some q → ∀ (H : Heap) (locs : List Loc) (cells slots : Nat) (ls : Array Slot), gSt E D G H locs → gls ls 6 [(0, .inr (.inr (some t))), (1, .inr (.inr v1)), (2, .inl v2), (3, .inl v3), (4, .inl v4), (5, .inl v5)] → gT p l e R s m args below meth c E D H locs cells slots none q (F0 m 65 ls []) := by
  obtain ⟨hx, hb, hml, hown, hts, hKn, hRc, hRs, hc1, hc2, hRf, hRl, hr, hlk, hnm⟩ := id C
  intro n
  induction n with
  | zero =>
    intro t v1 v2 v3 v4 v5 G q h
    exact g_no h
  | succ n ih =>
    intro t v1 v2 v3 v4 v5 G q h H locs cells slots ls hS hl
    rw [fX1_plays_b65] at h
    refine g_iload hx hb hl 5 rfl dX1_plays_65 ?_
    refine g_iload_n hx hb hl 2 rfl dX1_plays_67 ?_
    refine lv_icmp_ge (tgt := 92) hx hb dX1_plays_68 (by decide) (fun c_68 => ?_) (fun c_68 => ?_)
    · have h := g_ift c_68 h
      exact sX1_plays_b92 C hk54 _ _ _ _ _ _ _ h _ _ _ _ _ hS (gls_sub hl [0, 1, 2, 3, 4] rfl)
    · have h := g_iff c_68 h
      refine g_iload hx hb hl 4 rfl dX1_plays_71 ?_
      refine lv_if_ne (tgt := 92) hx hb dX1_plays_73 (by decide) (fun c_73 => ?_) (fun c_73 => ?_)
      · have h := g_ift c_73 h
        exact sX1_plays_b92 C hk54 _ _ _ _ _ _ _ h _ _ _ _ _ hS (gls_sub hl [0, 1, 2, 3, 4] rfl)
      · have h := g_iff (fun z => z c_73) h
        refine g_aload_n hx hb hl 0 rfl dX1_plays_76 ?_
        refine g_aload_n hx hb hl 1 rfl dX1_plays_77 ?_
        refine g_iload hx hb hl 5 rfl dX1_plays_78 ?_
        refine g_iload_n hx hb hl 3 rfl dX1_plays_80 ?_
        obtain ⟨b81, hb81, h⟩ := g_bnd h
        obtain ⟨hr81, hk81⟩ := g_chk hb81
        obtain ⟨z81, h81, h⟩ := g_bnd h
        refine g_callV (n := 3) (b := b81) (av := [.inr (.inr v1), .inl v5, .inl v3]) (rs := []) hx hb hml hown hts hKn hRc hRs hS hl (sX1_goesOn l E D h81) (lw_V q1790 q1792 qs44 q113 q1793) ⟨rfl, by decide, by decide, by decide +kernel⟩ ⟨by rw [hRf]; exact Nat.le_of_ble_eq_true rfl, by rw [hRl]; exact Nat.le_of_ble_eq_true rfl⟩ (g_recv hKn hS hk81 (by decide) (by decide)) rfl (by rw [hr81]; rfl) (Nat.le_of_ble_eq_true rfl) dX1_plays_81 (fun H locs cells slots hS => ?_)
        refine g_istore (l1 := [(4, .inl z81.1), (0, .inr (.inr (some t))), (1, .inr (.inr v1)), (2, .inl v2), (3, .inl v3), (5, .inl v5)]) hx hb hl (by decide) rfl dX1_plays_84 (fun ls hl => ?_)
        refine g_iinc (l1 := [(5, .inl (v5 + 1)), (4, .inl z81.1), (0, .inr (.inr (some t))), (1, .inr (.inr v1)), (2, .inl v2), (3, .inl v3)]) (v := (v5 + 1)) hx hb hl (k := 5) rfl (by rfl) (by decide) rfl dX1_plays_86 (fun ls hl => ?_)
        refine lv_goto (tgt := 65) hx hb dX1_plays_89 (by decide) ?_
        exact ih _ _ _ _ _ _ _ _ h _ _ _ _ _ hS (gls_sub hl [2, 3, 4, 5, 1, 0] rfl)
theorem sX1_plays_b54 {p : Program} {l : Launch} {e : Env} {R : Room} {s : State} {m : MethodId} {args : Array Value} {below : List Frame} {meth : Method} {c : Code} {E : g_E} {D : g_D} (C : gC p R s m args meth c cX1_plays 6 RX1 "plays" (none) 225 7486 E D) : ∀ (n : Nat) (t : Nat) (v1 : Option Nat) (v2 : Int32) (v3 : Int32) (v4 : Int32) (G : g_G) (q : g_G), fX1_plays_b54 E n t v1 v2 v3 v4 G = some q → ∀ (H : Heap) (locs : List Loc) (cells slots : Nat) (ls : Array Slot), gSt E D G H locs → gls ls 6 [(0, .inr (.inr (some t))), (1, .inr (.inr v1)), (2, .inl v2), (3, .inl v3), (4, .inl v4)] → gT p l e R s m args below meth c E D H locs cells slots none q (F0 m 54 ls []) := by
  obtain ⟨hx, hb, hml, hown, hts, hKn, hRc, hRs, hc1, hc2, hRf, hRl, hr, hlk, hnm⟩ := id C
  intro n
  induction n with
  | zero =>
    intro t v1 v2 v3 v4 G q h
    exact g_no h
  | succ n ih =>
    intro t v1 v2 v3 v4 G q h H locs cells slots ls hS hl
    rw [fX1_plays_b54] at h
    refine g_iload hx hb hl 4 rfl dX1_plays_54 ?_
    refine lv_if_eq (tgt := 95) hx hb dX1_plays_56 (by decide) (fun c_56 => ?_) (fun c_56 => ?_)
    · have h := g_ift c_56 h
      exact g_vretG hx hb hr hlk hKn hRc hRs hS h dX1_plays_95
    · have h := g_iff c_56 h
      refine lv_iconst (v := 0) hx hb dX1_plays_59 (by decide) ?_
      refine g_istore (l1 := [(4, .inl 0), (0, .inr (.inr (some t))), (1, .inr (.inr v1)), (2, .inl v2), (3, .inl v3)]) hx hb hl (by decide) rfl dX1_plays_60 (fun ls hl => ?_)
      refine lv_iconst (v := 0) hx hb dX1_plays_62 (by decide) ?_
      refine g_istore (l1 := [(5, .inl 0), (4, .inl 0), (0, .inr (.inr (some t))), (1, .inr (.inr v1)), (2, .inl v2), (3, .inl v3)]) hx hb hl (by decide) rfl dX1_plays_63 (fun ls hl => ?_)
      exact sX1_plays_b65 C ih gFU _ _ _ _ _ _ _ _ h _ _ _ _ _ hS (gls_sub hl [2, 3, 4, 5, 1, 0] rfl)
theorem sX1_plays_b8 {p : Program} {l : Launch} {e : Env} {R : Room} {s : State} {m : MethodId} {args : Array Value} {below : List Frame} {meth : Method} {c : Code} {E : g_E} {D : g_D} (C : gC p R s m args meth c cX1_plays 6 RX1 "plays" (none) 225 7486 E D) : ∀ (n : Nat) (t : Nat) (v1 : Option Nat) (v2 : Int32) (v3 : Int32) (v4 : Int32) (G : g_G) (q : g_G), fX1_plays_b8 E n t v1 v2 v3 v4 G = some q → ∀ (H : Heap) (locs : List Loc) (cells slots : Nat) (ls : Array Slot), gSt E D G H locs → gls ls 6 [(0, .inr (.inr (some t))), (1, .inr (.inr v1)), (2, .inl v2), (3, .inl v3), (4, .inl v4)] → gT p l e R s m args below meth c E D H locs cells slots none q (F0 m 8 ls []) := by
  obtain ⟨hx, hb, hml, hown, hts, hKn, hRc, hRs, hc1, hc2, hRf, hRl, hr, hlk, hnm⟩ := id C
  intro n
  induction n with
  | zero =>
    intro t v1 v2 v3 v4 G q h
    exact g_no h
  | succ n ih =>
    intro t v1 v2 v3 v4 G q h H locs cells slots ls hS hl
    rw [fX1_plays_b8] at h
    refine g_iload hx hb hl 4 rfl dX1_plays_8 ?_
    refine lv_bipush (v := 8) hx hb dX1_plays_10 (by decide) ?_
    refine lv_icmp_ge (tgt := 45) hx hb dX1_plays_12 (by decide) (fun c_12 => ?_) (fun c_12 => ?_)
    · have h := g_ift c_12 h
      refine g_aload_n hx hb hl 0 rfl dX1_plays_45 ?_
      refine g_aload_n hx hb hl 1 rfl dX1_plays_46 ?_
      refine g_iload_n hx hb hl 2 rfl dX1_plays_47 ?_
      obtain ⟨b48, hb48, h⟩ := g_bnd h
      obtain ⟨hr48, hk48⟩ := g_chk hb48
      obtain ⟨z48, h48, h⟩ := g_bnd h
      refine g_callV (n := 2) (b := b48) (av := [.inr (.inr v1), .inl v2]) (rs := []) hx hb hml hown hts hKn hRc hRs hS hl (sX1_begins l E D h48) (lw_V q728 q730 qs4 q113 q731) ⟨rfl, by decide, by decide, by decide +kernel⟩ ⟨by rw [hRf]; exact Nat.le_of_ble_eq_true rfl, by rw [hRl]; exact Nat.le_of_ble_eq_true rfl⟩ (g_recv hKn hS hk48 (by decide) (by decide)) rfl (by rw [hr48]; rfl) (Nat.le_of_ble_eq_true rfl) dX1_plays_48 (fun H locs cells slots hS => ?_)
      refine lv_iconst (v := 1) hx hb dX1_plays_51 (by decide) ?_
      refine g_istore (l1 := [(4, .inl 1), (0, .inr (.inr (some t))), (1, .inr (.inr v1)), (2, .inl v2), (3, .inl v3)]) hx hb hl (by decide) rfl dX1_plays_52 (fun ls hl => ?_)
      exact sX1_plays_b54 C gFU _ _ _ _ _ _ _ h _ _ _ _ _ hS (gls_sub hl [1, 2, 3, 4, 0] rfl)
    · have h := g_iff c_12 h
      refine g_aload_n hx hb hl 0 rfl dX1_plays_15 ?_
      refine g_rdR hx hb hown hts hKn hS h fd_1_1_6 rfl (Or.inl (hts _ q603)) (fun _ z => z) dX1_plays_16 (fun x16 h => ?_)
      refine g_iload hx hb hl 4 rfl dX1_plays_19 ?_
      refine lv_iconst (v := 0) hx hb dX1_plays_21 (by decide) ?_
      refine g_iastoreG hx hb hKn hS h dX1_plays_22 (fun G22 h H locs hS => ?_)
      refine g_aload_n hx hb hl 0 rfl dX1_plays_23 ?_
      refine g_rdR hx hb hown hts hKn hS h fd_1_1_7 rfl (Or.inl (hts _ q604)) (fun _ z => z) dX1_plays_24 (fun x24 h => ?_)
      refine g_iload hx hb hl 4 rfl dX1_plays_27 ?_
      refine lv_iconst (v := 0) hx hb dX1_plays_29 (by decide) ?_
      refine g_iastoreG hx hb hKn hS h dX1_plays_30 (fun G30 h H locs hS => ?_)
      refine g_aload_n hx hb hl 0 rfl dX1_plays_31 ?_
      refine g_rdR hx hb hown hts hKn hS h fd_1_1_8 rfl (Or.inl (hts _ q605)) (fun _ z => z) dX1_plays_32 (fun x32 h => ?_)
      refine g_iload hx hb hl 4 rfl dX1_plays_35 ?_
      refine lv_iconst (v := 0) hx hb dX1_plays_37 (by decide) ?_
      refine g_iastoreG hx hb hKn hS h dX1_plays_38 (fun G38 h H locs hS => ?_)
      refine g_iinc (l1 := [(4, .inl (v4 + 1)), (0, .inr (.inr (some t))), (1, .inr (.inr v1)), (2, .inl v2), (3, .inl v3)]) (v := (v4 + 1)) hx hb hl (k := 4) rfl (by rfl) (by decide) rfl dX1_plays_39 (fun ls hl => ?_)
      refine lv_goto (tgt := 8) hx hb dX1_plays_42 (by decide) ?_
      exact ih _ _ _ _ _ _ _ h _ _ _ _ _ hS (gls_sub hl [1, 2, 3, 4, 0] rfl)
theorem sX1_plays (l : Launch) (E : g_E) (D : g_D) {t : Nat} {v1 : Option Nat} {v2 : Int32} {v3 : Int32} {G : g_G} {q : g_G} (h : fX1_plays E t v1 v2 v3 G = some q) : gMet l E D yX1_plays (ws_ yX1_plays cX1_plays 6 (none)) 225 7486 [.inr (.inr (some t)), .inr (.inr v1), .inl v2, .inl v3] G none q := by
  refine gMet.of (by decide +kernel) (Nat.le_of_ble_eq_true rfl) ?_
  intro p e R s m args below meth c C hS ls hl
  have C : gC p R s m args meth c cX1_plays 6 RX1 "plays" (none) 225 7486 E D := C
  obtain ⟨hx, hb, hml, hown, hts, hKn, hRc, hRs, hc1, hc2, hRf, hRl, hr, hlk, hnm⟩ := id C
  have hl : gls ls 6 [(0, .inr (.inr (some t))), (1, .inr (.inr v1)), (2, .inl v2), (3, .inl v3)] := hl
  generalize s.heap = H at hS ⊢
  unfold fX1_plays at h
  refine g_aload_n hx hb hl 0 rfl dX1_plays_0 ?_
  refine lv_iconst (v := 0) hx hb dX1_plays_1 (by decide) ?_
  refine g_ptI hx hb hown hts hKn hS h fd_1_1_25 (Or.inl (hts _ q622)) (fun _ z => z) (fun z => nomatch z) dX1_plays_2 (fun G2 h H locs hS => ?_)
  refine lv_iconst (v := 0) hx hb dX1_plays_5 (by decide) ?_
  refine g_istore (l1 := [(4, .inl 0), (0, .inr (.inr (some t))), (1, .inr (.inr v1)), (2, .inl v2), (3, .inl v3)]) hx hb hl (by decide) rfl dX1_plays_6 (fun ls hl => ?_)
  exact sX1_plays_b8 C gFU _ _ _ _ _ _ _ h _ _ _ _ _ hS (gls_sub hl [1, 2, 3, 4, 0] rfl)
/-- SendHall.finds()Z -/
def fX1_finds_b27 (E : g_E) (t : Nat) (G : g_G) : Option (Int32 × g_G) :=
  (gpZ E G 1 1 (some t) 13 1).bind fun G29 =>
  (grI G29 1 1 (some t) 14).bind fun x33 =>
  if ¬ x33 = 0 then (
    if (0 : Int32) = 0 ∨ (0 : Int32) = 1 then some (0, G29) else none)
  else (
    if (1 : Int32) = 0 ∨ (1 : Int32) = 1 then some (1, G29) else none)
def fX1_finds_b24 (E : g_E) (t : Nat) (s0 : Option Nat) (s1 : Int32) (G : g_G) : Option (Int32 × g_G) :=
  (gpZ E G 1 1 s0 14 s1).bind fun G24 =>
  fX1_finds_b27 E t G24
def fX1_finds (E : g_E) (t : Nat) (G : g_G) : Option (Int32 × g_G) :=
  (grI G 1 1 (some t) 13).bind fun x1 =>
  if ¬ x1 = 0 then (
    fX1_finds_b27 E t G)
  else (
    (grI G 1 1 (some t) 1).bind fun x10 =>
    (gchk G 1 (some t)).bind fun b13 =>
    (fX1_goesThrough E b13 x10 G).bind fun z13 =>
    if ¬ z13.1 = 0 then (
      fX1_finds_b24 E t (some t) 0 z13.2)
    else (
      fX1_finds_b24 E t (some t) 1 z13.2))
theorem sX1_finds_b27 {p : Program} {l : Launch} {e : Env} {R : Room} {s : State} {m : MethodId} {args : Array Value} {below : List Frame} {meth : Method} {c : Code} {E : g_E} {D : g_D} (C : gC p R s m args meth c cX1_finds 1 RX1 "finds" (some .boolean) 226 7511 E D) : ∀ (t : Nat) (G : g_G) (q : Int32 × g_G), fX1_finds_b27 E t G = some q → ∀ (H : Heap) (locs : List Loc) (cells slots : Nat) (ls : Array Slot), gSt E D G H locs → gls ls 1 [(0, .inr (.inr (some t)))] → gT p l e R s m args below meth c E D H locs cells slots (some (.int q.1)) q.2 (F0 m 27 ls []) := by
  obtain ⟨hx, hb, hml, hown, hts, hKn, hRc, hRs, hc1, hc2, hRf, hRl, hr, hlk, hnm⟩ := id C
  intro t G q h H locs cells slots ls hS hl
  unfold fX1_finds_b27 at h
  refine g_aload_n hx hb hl 0 rfl dX1_finds_27 ?_
  refine lv_iconst (v := 1) hx hb dX1_finds_28 (by decide) ?_
  refine g_ptZ hx hb hown hts hKn hS h fd_1_1_13 (Or.inl (hts _ q610)) (fun _ z => z) (fun z => nomatch z) dX1_finds_29 (fun G29 h H locs hS => ?_)
  refine g_aload_n hx hb hl 0 rfl dX1_finds_32 ?_
  refine g_rdI hx hb hown hts hKn hS h fd_1_1_14 rfl (Or.inl (hts _ q611)) (fun _ z => z) dX1_finds_33 (fun x33 h => ?_)
  refine lv_if_ne (tgt := 43) hx hb dX1_finds_36 (by decide) (fun c_36 => ?_) (fun c_36 => ?_)
  · have h := g_ift c_36 h
    refine lv_iconst (v := 0) hx hb dX1_finds_43 (by decide) ?_
    exact g_zretG hx hb hr hlk hKn hRc hRs hS h dX1_finds_44
  · have h := g_iff (fun z => z c_36) h
    refine lv_iconst (v := 1) hx hb dX1_finds_39 (by decide) ?_
    refine lv_goto (tgt := 44) hx hb dX1_finds_40 (by decide) ?_
    exact g_zretG hx hb hr hlk hKn hRc hRs hS h dX1_finds_44
theorem sX1_finds_b24 {p : Program} {l : Launch} {e : Env} {R : Room} {s : State} {m : MethodId} {args : Array Value} {below : List Frame} {meth : Method} {c : Code} {E : g_E} {D : g_D} (C : gC p R s m args meth c cX1_finds 1 RX1 "finds" (some .boolean) 226 7511 E D) : ∀ (t : Nat) (s0 : Option Nat) (s1 : Int32) (G : g_G) (q : Int32 × g_G), fX1_finds_b24 E t s0 s1 G = some q → ∀ (H : Heap) (locs : List Loc) (cells slots : Nat) (ls : Array Slot), gSt E D G H locs → gls ls 1 [(0, .inr (.inr (some t)))] → gT p l e R s m args below meth c E D H locs cells slots (some (.int q.1)) q.2 (F0 m 24 ls [.int s1, va_rf s0]) := by
  obtain ⟨hx, hb, hml, hown, hts, hKn, hRc, hRs, hc1, hc2, hRf, hRl, hr, hlk, hnm⟩ := id C
  intro t s0 s1 G q h H locs cells slots ls hS hl
  unfold fX1_finds_b24 at h
  refine g_ptZ hx hb hown hts hKn hS h fd_1_1_14 (Or.inl (hts _ q611)) (fun _ z => z) (fun z => nomatch z) dX1_finds_24 (fun G24 h H locs hS => ?_)
  exact sX1_finds_b27 C _ _ _ h _ _ _ _ _ hS (gls_sub hl [0] rfl)
theorem sX1_finds (l : Launch) (E : g_E) (D : g_D) {t : Nat} {G : g_G} {q : Int32 × g_G} (h : fX1_finds E t G = some q) : gMet l E D yX1_finds (ws_ yX1_finds cX1_finds 1 (some .boolean)) 226 7511 [.inr (.inr (some t))] G (some (.int q.1)) q.2 := by
  refine gMet.of (by decide +kernel) (Nat.le_of_ble_eq_true rfl) ?_
  intro p e R s m args below meth c C hS ls hl
  have C : gC p R s m args meth c cX1_finds 1 RX1 "finds" (some .boolean) 226 7511 E D := C
  obtain ⟨hx, hb, hml, hown, hts, hKn, hRc, hRs, hc1, hc2, hRf, hRl, hr, hlk, hnm⟩ := id C
  have hl : gls ls 1 [(0, .inr (.inr (some t)))] := hl
  generalize s.heap = H at hS ⊢
  unfold fX1_finds at h
  refine g_aload_n hx hb hl 0 rfl dX1_finds_0 ?_
  refine g_rdI hx hb hown hts hKn hS h fd_1_1_13 rfl (Or.inl (hts _ q610)) (fun _ z => z) dX1_finds_1 (fun x1 h => ?_)
  refine lv_if_ne (tgt := 27) hx hb dX1_finds_4 (by decide) (fun c_4 => ?_) (fun c_4 => ?_)
  · have h := g_ift c_4 h
    exact sX1_finds_b27 C _ _ _ h _ _ _ _ _ hS (gls_sub hl [0] rfl)
  · have h := g_iff (fun z => z c_4) h
    refine g_aload_n hx hb hl 0 rfl dX1_finds_7 ?_
    refine g_aload_n hx hb hl 0 rfl dX1_finds_8 ?_
    refine g_aload_n hx hb hl 0 rfl dX1_finds_9 ?_
    refine g_rdI hx hb hown hts hKn hS h fd_1_1_1 rfl (Or.inl (hts _ q598)) (fun _ z => z) dX1_finds_10 (fun x10 h => ?_)
    obtain ⟨b13, hb13, h⟩ := g_bnd h
    obtain ⟨hr13, hk13⟩ := g_chk hb13
    obtain ⟨z13, h13, h⟩ := g_bnd h
    refine g_callV (n := 1) (b := b13) (av := [.inl x10]) (rs := [.inr (.inr (some t))]) hx hb hml hown hts hKn hRc hRs hS hl (sX1_goesThrough l E D h13) (lw_V q724 q726 qs3 q113 q727) ⟨rfl, by decide, by decide, by decide +kernel⟩ ⟨by rw [hRf]; exact Nat.le_of_ble_eq_true rfl, by rw [hRl]; exact Nat.le_of_ble_eq_true rfl⟩ (g_recv hKn hS hk13 (by decide) (by decide)) rfl (by rw [hr13]; rfl) (Nat.le_of_ble_eq_true rfl) dX1_finds_13 (fun H locs cells slots hS => ?_)
    refine lv_if_ne (tgt := 23) hx hb dX1_finds_16 (by decide) (fun c_16 => ?_) (fun c_16 => ?_)
    · have h := g_ift c_16 h
      refine lv_iconst (v := 0) hx hb dX1_finds_23 (by decide) ?_
      exact sX1_finds_b24 C _ _ _ _ _ h _ _ _ _ _ hS (gls_sub hl [0] rfl)
    · have h := g_iff (fun z => z c_16) h
      refine lv_iconst (v := 1) hx hb dX1_finds_19 (by decide) ?_
      refine lv_goto (tgt := 24) hx hb dX1_finds_20 (by decide) ?_
      exact sX1_finds_b24 C _ _ _ _ _ h _ _ _ _ _ hS (gls_sub hl [0] rfl)
/-- SendHall.least(I)I -/
def fX1_least_b29 (E : g_E) : Nat → Nat → Int32 → Int32 → g_G → Option (Int32 × g_G)
  | 0, _, _, _, _ => none
  | n + 1, t, v1, v2, G =>
    if (8 : Int32) < v2 then (
      some ((-1), G))
    else (
      (grR G 1 1 (some t) 32).bind fun x37 =>
      (gchk G 1 (some t)).bind fun b42 =>
      (fX1_plays E b42 x37 v2 v1 G).bind fun z42 =>
      (grR z42 1 1 (some t) 32).bind fun x46 =>
      (gchk z42 3 x46).bind fun b49 =>
      (fX3_kind E b49 z42).bind fun z49 =>
      if ¬ z49.1 = (2 : Int32) then (
        fX1_least_b29 E n t v1 (v2 + 1) z49.2)
      else (
        some (v2, z49.2)))
def fX1_least (E : g_E) (t : Nat) (v1 : Int32) (G : g_G) : Option (Int32 × g_G) :=
  (fX1_within E v1 0 3 G).bind fun z3 =>
  (fX1_right E z3.1 z3.2).bind fun z6 =>
  (grR z6 1 1 (some t) 4).bind fun x10 =>
  (grI z6 2 2 x10 2).bind fun x13 =>
  if x13 ≤ 0 then (
    (gpI E z6 1 1 (some t) 26 0).bind fun G24 =>
    fX1_least_b29 E gFU t v1 2 G24)
  else (
    some ((-2), z6))
theorem sX1_least_b29 {p : Program} {l : Launch} {e : Env} {R : Room} {s : State} {m : MethodId} {args : Array Value} {below : List Frame} {meth : Method} {c : Code} {E : g_E} {D : g_D} (C : gC p R s m args meth c cX1_least 3 RX1 "least" (some .int) 226 7511 E D) : ∀ (n : Nat) (t : Nat) (v1 : Int32) (v2 : Int32) (G : g_G) (q : Int32 × g_G), fX1_least_b29 E n t v1 v2 G = some q → ∀ (H : Heap) (locs : List Loc) (cells slots : Nat) (ls : Array Slot), gSt E D G H locs → gls ls 3 [(0, .inr (.inr (some t))), (1, .inl v1), (2, .inl v2)] → gT p l e R s m args below meth c E D H locs cells slots (some (.int q.1)) q.2 (F0 m 29 ls []) := by
  obtain ⟨hx, hb, hml, hown, hts, hKn, hRc, hRs, hc1, hc2, hRf, hRl, hr, hlk, hnm⟩ := id C
  intro n
  induction n with
  | zero =>
    intro t v1 v2 G q h
    exact g_no h
  | succ n ih =>
    intro t v1 v2 G q h H locs cells slots ls hS hl
    rw [fX1_least_b29] at h
    refine g_iload_n hx hb hl 2 rfl dX1_least_29 ?_
    refine lv_bipush (v := 8) hx hb dX1_least_30 (by decide) ?_
    refine lv_icmp_gt (tgt := 64) hx hb dX1_least_32 (by decide) (fun c_32 => ?_) (fun c_32 => ?_)
    · have h := g_ift c_32 h
      refine lv_iconst (v := (-1)) hx hb dX1_least_64 (by decide) ?_
      exact g_iretG hx hb hr hlk hKn hRc hRs hS h dX1_least_65
    · have h := g_iff c_32 h
      refine g_aload_n hx hb hl 0 rfl dX1_least_35 ?_
      refine g_aload_n hx hb hl 0 rfl dX1_least_36 ?_
      refine g_rdR hx hb hown hts hKn hS h fd_1_1_32 rfl (Or.inl (hts _ q629)) (fun _ z => z) dX1_least_37 (fun x37 h => ?_)
      refine g_iload_n hx hb hl 2 rfl dX1_least_40 ?_
      refine g_iload_n hx hb hl 1 rfl dX1_least_41 ?_
      obtain ⟨b42, hb42, h⟩ := g_bnd h
      obtain ⟨hr42, hk42⟩ := g_chk hb42
      obtain ⟨z42, h42, h⟩ := g_bnd h
      refine g_callV (n := 3) (b := b42) (av := [.inr (.inr x37), .inl v2, .inl v1]) (rs := []) hx hb hml hown hts hKn hRc hRs hS hl (sX1_plays l E D h42) (lw_V q1786 q1788 qs43 q113 q1789) ⟨rfl, by decide, by decide, by decide +kernel⟩ ⟨by rw [hRf]; exact Nat.le_of_ble_eq_true rfl, by rw [hRl]; exact Nat.le_of_ble_eq_true rfl⟩ (g_recv hKn hS hk42 (by decide) (by decide)) rfl (by rw [hr42]; rfl) (Nat.le_of_ble_eq_true rfl) dX1_least_42 (fun H locs cells slots hS => ?_)
      refine g_aload_n hx hb hl 0 rfl dX1_least_45 ?_
      refine g_rdR hx hb hown hts hKn hS h fd_1_1_32 rfl (Or.inl (hts _ q629)) (fun _ z => z) dX1_least_46 (fun x46 h => ?_)
      obtain ⟨b49, hb49, h⟩ := g_bnd h
      obtain ⟨hr49, hk49⟩ := g_chk hb49
      obtain ⟨z49, h49, h⟩ := g_bnd h
      refine g_callV (n := 0) (b := b49) (av := []) (rs := []) hx hb hml hown hts hKn hRc hRs hS hl (sX3_kind l E D h49) (lw_V q985 q986 q987 q134 q988) ⟨rfl, by decide, by decide, by decide +kernel⟩ ⟨by rw [hRf]; exact Nat.le_of_ble_eq_true rfl, by rw [hRl]; exact Nat.le_of_ble_eq_true rfl⟩ (g_recv hKn hS hk49 (by decide) (by decide)) rfl (by rw [hr49]; rfl) (Nat.le_of_ble_eq_true rfl) dX1_least_49 (fun H locs cells slots hS => ?_)
      refine lv_iconst (v := 2) hx hb dX1_least_52 (by decide) ?_
      refine lv_icmp_ne (tgt := 58) hx hb dX1_least_53 (by decide) (fun c_53 => ?_) (fun c_53 => ?_)
      · have h := g_ift c_53 h
        refine g_iinc (l1 := [(2, .inl (v2 + 1)), (0, .inr (.inr (some t))), (1, .inl v1)]) (v := (v2 + 1)) hx hb hl (k := 2) rfl (by rfl) (by decide) rfl dX1_least_58 (fun ls hl => ?_)
        refine lv_goto (tgt := 29) hx hb dX1_least_61 (by decide) ?_
        exact ih _ _ _ _ _ h _ _ _ _ _ hS (gls_sub hl [1, 2, 0] rfl)
      · have h := g_iff (fun z => z c_53) h
        refine g_iload_n hx hb hl 2 rfl dX1_least_56 ?_
        exact g_iretG hx hb hr hlk hKn hRc hRs hS h dX1_least_57
theorem sX1_least (l : Launch) (E : g_E) (D : g_D) {t : Nat} {v1 : Int32} {G : g_G} {q : Int32 × g_G} (h : fX1_least E t v1 G = some q) : gMet l E D yX1_least (ws_ yX1_least cX1_least 3 (some .int)) 226 7511 [.inr (.inr (some t)), .inl v1] G (some (.int q.1)) q.2 := by
  refine gMet.of (by decide +kernel) (Nat.le_of_ble_eq_true rfl) ?_
  intro p e R s m args below meth c C hS ls hl
  have C : gC p R s m args meth c cX1_least 3 RX1 "least" (some .int) 226 7511 E D := C
  obtain ⟨hx, hb, hml, hown, hts, hKn, hRc, hRs, hc1, hc2, hRf, hRl, hr, hlk, hnm⟩ := id C
  have hl : gls ls 3 [(0, .inr (.inr (some t))), (1, .inl v1)] := hl
  generalize s.heap = H at hS ⊢
  unfold fX1_least at h
  refine g_iload_n hx hb hl 1 rfl dX1_least_0 ?_
  refine lv_iconst (v := 0) hx hb dX1_least_1 (by decide) ?_
  refine lv_iconst (v := 3) hx hb dX1_least_2 (by decide) ?_
  obtain ⟨z3, h3, h⟩ := g_bnd h
  refine g_callS (n := 3) (av := [.inl v1, .inl 0, .inl 3]) (rs := []) hx hb hml hown hts hKn hRc hRs hS hl (sX1_within l E D h3) (lw_S q713 q714 q113 q715) ⟨by decide, by decide, by decide +kernel⟩ ⟨by rw [hRf]; exact Nat.le_of_ble_eq_true rfl, by rw [hRl]; exact Nat.le_of_ble_eq_true rfl⟩ rfl rfl (Nat.le_of_ble_eq_true rfl) dX1_least_3 (fun H locs cells slots hS => ?_)
  obtain ⟨z6, h6, h⟩ := g_bnd h
  refine g_callS (n := 1) (av := [.inl z3.1]) (rs := []) hx hb hml hown hts hKn hRc hRs hS hl (sX1_right l E D h6) (lw_S q1093 q1094 q113 q1095) ⟨by decide, by decide, by decide +kernel⟩ ⟨by rw [hRf]; exact Nat.le_of_ble_eq_true rfl, by rw [hRl]; exact Nat.le_of_ble_eq_true rfl⟩ rfl rfl (Nat.le_of_ble_eq_true rfl) dX1_least_6 (fun H locs cells slots hS => ?_)
  refine g_aload_n hx hb hl 0 rfl dX1_least_9 ?_
  refine g_rdR hx hb hown hts hKn hS h fd_1_1_4 rfl (Or.inl (hts _ q601)) (fun _ z => z) dX1_least_10 (fun x10 h => ?_)
  refine g_rdI hx hb hown hts hKn hS h fd_2_2_2 rfl (Or.inr ⟨_, gNest_use rfl (hKn.2.2.2.2.1 _ (gNest_in q518 rfl))⟩) (fun _ z => z) dX1_least_13 (fun x13 h => ?_)
  refine lv_if_le (tgt := 22) hx hb dX1_least_16 (by decide) (fun c_16 => ?_) (fun c_16 => ?_)
  · have h := g_ift c_16 h
    refine g_aload_n hx hb hl 0 rfl dX1_least_22 ?_
    refine lv_iconst (v := 0) hx hb dX1_least_23 (by decide) ?_
    refine g_ptI hx hb hown hts hKn hS h fd_1_1_26 (Or.inl (hts _ q623)) (fun _ z => z) (fun z => nomatch z) dX1_least_24 (fun G24 h H locs hS => ?_)
    refine lv_iconst (v := 2) hx hb dX1_least_27 (by decide) ?_
    refine g_istore_n (l1 := [(2, .inl 2), (0, .inr (.inr (some t))), (1, .inl v1)]) hx hb hl (by decide) rfl dX1_least_28 (fun ls hl => ?_)
    exact sX1_least_b29 C gFU _ _ _ _ _ h _ _ _ _ _ hS (gls_sub hl [1, 2, 0] rfl)
  · have h := g_iff c_16 h
    refine lv_bipush (v := (-2)) hx hb dX1_least_19 (by decide) ?_
    exact g_iretG hx hb hr hlk hKn hRc hRs hS h dX1_least_21
/-- SendHall.play(IJ)I -/
def fX1_play_b172 (E : g_E) : Nat → Nat → Int32 → g_G → Option (Int32 × g_G)
  | 0, _, _, _ => none
  | n + 1, t, v4, G =>
    (grI G 1 1 (some t) 25).bind fun x175 =>
    if x175 ≤ v4 then (
      (grR G 1 1 (some t) 20).bind fun x202 =>
      (gchk G 3 x202).bind fun b205 =>
      (fX3_kind E b205 G).bind fun z205 =>
      some (z205.1, z205.2))
    else (
      (grR G 1 1 (some t) 30).bind fun x182 =>
      (grR G 1 1 (some t) 22).bind fun x188 =>
      (gaI G 100 x188 v4).bind fun x193 =>
      (gsaI E G x182 v4 x193).bind fun G194 =>
      fX1_play_b172 E n t (v4 + 1) G194)
def fX1_play_b118 (E : g_E) : Nat → Nat → Int32 → g_G → Option (Int32 × g_G)
  | 0, _, _, _ => none
  | n + 1, t, v4, G =>
    (grI G 1 1 (some t) 0).bind fun x121 =>
    if x121 ≤ v4 then (
      (grI G 1 1 (some t) 25).bind fun x163 =>
      (gpI E G 1 1 (some t) 31 x163).bind fun G166 =>
      fX1_play_b172 E gFU t 0 G166)
    else (
      (grR G 1 1 (some t) 28).bind fun x128 =>
      (grR G 1 1 (some t) 6).bind fun x134 =>
      (gaI G 100 x134 v4).bind fun x139 =>
      (gsaI E G x128 v4 x139).bind fun G140 =>
      (grR G140 1 1 (some t) 29).bind fun x142 =>
      (grR G140 1 1 (some t) 7).bind fun x148 =>
      (gaI G140 100 x148 v4).bind fun x153 =>
      (gsaI E G140 x142 v4 x153).bind fun G154 =>
      fX1_play_b118 E n t (v4 + 1) G154)
def fX1_play_b60 (E : g_E) : Nat → Nat → Int32 → Int64 → Int32 → g_G → Option (Int32 × g_G)
  | 0, _, _, _, _, _ => none
  | n + 1, t, v1, v2, v4, G =>
    if v1 ≤ v4 then (
      (grR G 1 1 (some t) 20).bind fun x92 =>
      (grI G 1 1 (some t) 0).bind fun x96 =>
      (grI G 1 1 (some t) 1).bind fun x100 =>
      (gchk G 1 (some t)).bind fun b103 =>
      (fX1_plays E b103 x92 x96 x100 G).bind fun z103 =>
      (gpZ E z103 1 1 (some t) 21 1).bind fun G108 =>
      (gchk G108 1 (some t)).bind fun b112 =>
      (fX1_rounds E b112 G108).bind fun z112 =>
      fX1_play_b118 E gFU t 0 z112)
    else (
      (grR G 1 1 (some t) 23).bind fun x67 =>
      (gsaI E G x67 v4 (Int64.toInt32 ((v2 >>> (Int32.toInt64 (4 * v4) &&& 63)) &&& 15))).bind fun G83 =>
      fX1_play_b60 E n t v1 v2 (v4 + 1) G83)
def fX1_play_b43 (E : g_E) (k13 : Nat → Int32 → Int64 → Int32 → g_G → Option (Int32 × g_G)) (t : Nat) (v1 : Int32) (v2 : Int64) (v4 : Int32) (s0 : Int32) (G : g_G) : Option (Int32 × g_G) :=
  (fX1_right E s0 G).bind fun z43 =>
  k13 t v1 v2 (v4 + 1) z43
def fX1_play_b13 (E : g_E) : Nat → Nat → Int32 → Int64 → Int32 → g_G → Option (Int32 × g_G)
  | 0, _, _, _, _, _ => none
  | n + 1, t, v1, v2, v4, G =>
    if v1 ≤ v4 then (
      (gpI E G 1 1 (some t) 26 v1).bind fun G54 =>
      fX1_play_b60 E gFU t v1 v2 0 G54)
    else (
      (grI G 1 1 (some t) 0).bind fun x30 =>
      if 0 ≤ (lg_cmp ((v2 >>> (Int32.toInt64 (4 * v4) &&& 63)) &&& 15) (Int32.toInt64 x30)) then (
        fX1_play_b43 E (fX1_play_b13 E n) t v1 v2 v4 0 G)
      else (
        fX1_play_b43 E (fX1_play_b13 E n) t v1 v2 v4 1 G))
def fX1_play (E : g_E) (t : Nat) (v1 : Int32) (v2 : Int64) (G : g_G) : Option (Int32 × g_G) :=
  (fX1_within E v1 0 16 G).bind fun z4 =>
  (fX1_right E z4.1 z4.2).bind fun z7 =>
  fX1_play_b13 E gFU t v1 v2 0 z7
theorem sX1_play_b172 {p : Program} {l : Launch} {e : Env} {R : Room} {s : State} {m : MethodId} {args : Array Value} {below : List Frame} {meth : Method} {c : Code} {E : g_E} {D : g_D} (C : gC p R s m args meth c cX1_play 5 RX1 "play" (some .int) 226 7511 E D) : ∀ (n : Nat) (t : Nat) (v4 : Int32) (G : g_G) (q : Int32 × g_G), fX1_play_b172 E n t v4 G = some q → ∀ (H : Heap) (locs : List Loc) (cells slots : Nat) (ls : Array Slot), gSt E D G H locs → gls ls 5 [(0, .inr (.inr (some t))), (4, .inl v4)] → gT p l e R s m args below meth c E D H locs cells slots (some (.int q.1)) q.2 (F0 m 172 ls []) := by
  obtain ⟨hx, hb, hml, hown, hts, hKn, hRc, hRs, hc1, hc2, hRf, hRl, hr, hlk, hnm⟩ := id C
  intro n
  induction n with
  | zero =>
    intro t v4 G q h
    exact g_no h
  | succ n ih =>
    intro t v4 G q h H locs cells slots ls hS hl
    rw [fX1_play_b172] at h
    refine g_iload hx hb hl 1 rfl dX1_play_172 ?_
    refine g_aload_n hx hb hl 0 rfl dX1_play_174 ?_
    refine g_rdI hx hb hown hts hKn hS h fd_1_1_25 rfl (Or.inl (hts _ q622)) (fun _ z => z) dX1_play_175 (fun x175 h => ?_)
    refine lv_icmp_ge (tgt := 201) hx hb dX1_play_178 (by decide) (fun c_178 => ?_) (fun c_178 => ?_)
    · have h := g_ift c_178 h
      refine g_aload_n hx hb hl 0 rfl dX1_play_201 ?_
      refine g_rdR hx hb hown hts hKn hS h fd_1_1_20 rfl (Or.inl (hts _ q617)) (fun _ z => z) dX1_play_202 (fun x202 h => ?_)
      obtain ⟨b205, hb205, h⟩ := g_bnd h
      obtain ⟨hr205, hk205⟩ := g_chk hb205
      obtain ⟨z205, h205, h⟩ := g_bnd h
      refine g_callV (n := 0) (b := b205) (av := []) (rs := []) hx hb hml hown hts hKn hRc hRs hS hl (sX3_kind l E D h205) (lw_V q985 q986 q987 q134 q988) ⟨rfl, by decide, by decide, by decide +kernel⟩ ⟨by rw [hRf]; exact Nat.le_of_ble_eq_true rfl, by rw [hRl]; exact Nat.le_of_ble_eq_true rfl⟩ (g_recv hKn hS hk205 (by decide) (by decide)) rfl (by rw [hr205]; rfl) (Nat.le_of_ble_eq_true rfl) dX1_play_205 (fun H locs cells slots hS => ?_)
      exact g_iretG hx hb hr hlk hKn hRc hRs hS h dX1_play_208
    · have h := g_iff c_178 h
      refine g_aload_n hx hb hl 0 rfl dX1_play_181 ?_
      refine g_rdR hx hb hown hts hKn hS h fd_1_1_30 rfl (Or.inl (hts _ q627)) (fun _ z => z) dX1_play_182 (fun x182 h => ?_)
      refine g_iload hx hb hl 1 rfl dX1_play_185 ?_
      refine g_aload_n hx hb hl 0 rfl dX1_play_187 ?_
      refine g_rdR hx hb hown hts hKn hS h fd_1_1_22 rfl (Or.inl (hts _ q619)) (fun _ z => z) dX1_play_188 (fun x188 h => ?_)
      refine g_iload hx hb hl 1 rfl dX1_play_191 ?_
      refine g_ialoadG hx hb hKn hS h dX1_play_193 (fun x193 h => ?_)
      refine g_iastoreG hx hb hKn hS h dX1_play_194 (fun G194 h H locs hS => ?_)
      refine g_iinc (l1 := [(4, .inl (v4 + 1)), (0, .inr (.inr (some t)))]) (v := (v4 + 1)) hx hb hl (k := 1) rfl (by rfl) (by decide) rfl dX1_play_195 (fun ls hl => ?_)
      refine lv_goto (tgt := 172) hx hb dX1_play_198 (by decide) ?_
      exact ih _ _ _ _ h _ _ _ _ _ hS (gls_sub hl [1, 0] rfl)
theorem sX1_play_b118 {p : Program} {l : Launch} {e : Env} {R : Room} {s : State} {m : MethodId} {args : Array Value} {below : List Frame} {meth : Method} {c : Code} {E : g_E} {D : g_D} (C : gC p R s m args meth c cX1_play 5 RX1 "play" (some .int) 226 7511 E D) : ∀ (n : Nat) (t : Nat) (v4 : Int32) (G : g_G) (q : Int32 × g_G), fX1_play_b118 E n t v4 G = some q → ∀ (H : Heap) (locs : List Loc) (cells slots : Nat) (ls : Array Slot), gSt E D G H locs → gls ls 5 [(0, .inr (.inr (some t))), (4, .inl v4)] → gT p l e R s m args below meth c E D H locs cells slots (some (.int q.1)) q.2 (F0 m 118 ls []) := by
  obtain ⟨hx, hb, hml, hown, hts, hKn, hRc, hRs, hc1, hc2, hRf, hRl, hr, hlk, hnm⟩ := id C
  intro n
  induction n with
  | zero =>
    intro t v4 G q h
    exact g_no h
  | succ n ih =>
    intro t v4 G q h H locs cells slots ls hS hl
    rw [fX1_play_b118] at h
    refine g_iload hx hb hl 1 rfl dX1_play_118 ?_
    refine g_aload_n hx hb hl 0 rfl dX1_play_120 ?_
    refine g_rdI hx hb hown hts hKn hS h fd_1_1_0 rfl (Or.inl (hts _ q597)) (fun _ z => z) dX1_play_121 (fun x121 h => ?_)
    refine lv_icmp_ge (tgt := 161) hx hb dX1_play_124 (by decide) (fun c_124 => ?_) (fun c_124 => ?_)
    · have h := g_ift c_124 h
      refine g_aload_n hx hb hl 0 rfl dX1_play_161 ?_
      refine g_aload_n hx hb hl 0 rfl dX1_play_162 ?_
      refine g_rdI hx hb hown hts hKn hS h fd_1_1_25 rfl (Or.inl (hts _ q622)) (fun _ z => z) dX1_play_163 (fun x163 h => ?_)
      refine g_ptI hx hb hown hts hKn hS h fd_1_1_31 (Or.inl (hts _ q628)) (fun _ z => z) (fun z => nomatch z) dX1_play_166 (fun G166 h H locs hS => ?_)
      refine lv_iconst (v := 0) hx hb dX1_play_169 (by decide) ?_
      refine g_istore (l1 := [(4, .inl 0), (0, .inr (.inr (some t)))]) hx hb hl (by decide) rfl dX1_play_170 (fun ls hl => ?_)
      exact sX1_play_b172 C gFU _ _ _ _ h _ _ _ _ _ hS (gls_sub hl [1, 0] rfl)
    · have h := g_iff c_124 h
      refine g_aload_n hx hb hl 0 rfl dX1_play_127 ?_
      refine g_rdR hx hb hown hts hKn hS h fd_1_1_28 rfl (Or.inl (hts _ q625)) (fun _ z => z) dX1_play_128 (fun x128 h => ?_)
      refine g_iload hx hb hl 1 rfl dX1_play_131 ?_
      refine g_aload_n hx hb hl 0 rfl dX1_play_133 ?_
      refine g_rdR hx hb hown hts hKn hS h fd_1_1_6 rfl (Or.inl (hts _ q603)) (fun _ z => z) dX1_play_134 (fun x134 h => ?_)
      refine g_iload hx hb hl 1 rfl dX1_play_137 ?_
      refine g_ialoadG hx hb hKn hS h dX1_play_139 (fun x139 h => ?_)
      refine g_iastoreG hx hb hKn hS h dX1_play_140 (fun G140 h H locs hS => ?_)
      refine g_aload_n hx hb hl 0 rfl dX1_play_141 ?_
      refine g_rdR hx hb hown hts hKn hS h fd_1_1_29 rfl (Or.inl (hts _ q626)) (fun _ z => z) dX1_play_142 (fun x142 h => ?_)
      refine g_iload hx hb hl 1 rfl dX1_play_145 ?_
      refine g_aload_n hx hb hl 0 rfl dX1_play_147 ?_
      refine g_rdR hx hb hown hts hKn hS h fd_1_1_7 rfl (Or.inl (hts _ q604)) (fun _ z => z) dX1_play_148 (fun x148 h => ?_)
      refine g_iload hx hb hl 1 rfl dX1_play_151 ?_
      refine g_ialoadG hx hb hKn hS h dX1_play_153 (fun x153 h => ?_)
      refine g_iastoreG hx hb hKn hS h dX1_play_154 (fun G154 h H locs hS => ?_)
      refine g_iinc (l1 := [(4, .inl (v4 + 1)), (0, .inr (.inr (some t)))]) (v := (v4 + 1)) hx hb hl (k := 1) rfl (by rfl) (by decide) rfl dX1_play_155 (fun ls hl => ?_)
      refine lv_goto (tgt := 118) hx hb dX1_play_158 (by decide) ?_
      exact ih _ _ _ _ h _ _ _ _ _ hS (gls_sub hl [1, 0] rfl)
theorem sX1_play_b60 {p : Program} {l : Launch} {e : Env} {R : Room} {s : State} {m : MethodId} {args : Array Value} {below : List Frame} {meth : Method} {c : Code} {E : g_E} {D : g_D} (C : gC p R s m args meth c cX1_play 5 RX1 "play" (some .int) 226 7511 E D) : ∀ (n : Nat) (t : Nat) (v1 : Int32) (v2 : Int64) (v4 : Int32) (G : g_G) (q : Int32 × g_G), fX1_play_b60 E n t v1 v2 v4 G = some q → ∀ (H : Heap) (locs : List Loc) (cells slots : Nat) (ls : Array Slot), gSt E D G H locs → gls ls 5 [(0, .inr (.inr (some t))), (1, .inl v1), (2, .inr (.inl v2)), (4, .inl v4)] → gT p l e R s m args below meth c E D H locs cells slots (some (.int q.1)) q.2 (F0 m 60 ls []) := by
  obtain ⟨hx, hb, hml, hown, hts, hKn, hRc, hRs, hc1, hc2, hRf, hRl, hr, hlk, hnm⟩ := id C
  intro n
  induction n with
  | zero =>
    intro t v1 v2 v4 G q h
    exact g_no h
  | succ n ih =>
    intro t v1 v2 v4 G q h H locs cells slots ls hS hl
    rw [fX1_play_b60] at h
    refine g_iload hx hb hl 3 rfl dX1_play_60 ?_
    refine g_iload_n hx hb hl 1 rfl dX1_play_62 ?_
    refine lv_icmp_ge (tgt := 90) hx hb dX1_play_63 (by decide) (fun c_63 => ?_) (fun c_63 => ?_)
    · have h := g_ift c_63 h
      refine g_aload_n hx hb hl 0 rfl dX1_play_90 ?_
      refine g_aload_n hx hb hl 0 rfl dX1_play_91 ?_
      refine g_rdR hx hb hown hts hKn hS h fd_1_1_20 rfl (Or.inl (hts _ q617)) (fun _ z => z) dX1_play_92 (fun x92 h => ?_)
      refine g_aload_n hx hb hl 0 rfl dX1_play_95 ?_
      refine g_rdI hx hb hown hts hKn hS h fd_1_1_0 rfl (Or.inl (hts _ q597)) (fun _ z => z) dX1_play_96 (fun x96 h => ?_)
      refine g_aload_n hx hb hl 0 rfl dX1_play_99 ?_
      refine g_rdI hx hb hown hts hKn hS h fd_1_1_1 rfl (Or.inl (hts _ q598)) (fun _ z => z) dX1_play_100 (fun x100 h => ?_)
      obtain ⟨b103, hb103, h⟩ := g_bnd h
      obtain ⟨hr103, hk103⟩ := g_chk hb103
      obtain ⟨z103, h103, h⟩ := g_bnd h
      refine g_callV (n := 3) (b := b103) (av := [.inr (.inr x92), .inl x96, .inl x100]) (rs := []) hx hb hml hown hts hKn hRc hRs hS hl (sX1_plays l E D h103) (lw_V q1786 q1788 qs43 q113 q1789) ⟨rfl, by decide, by decide, by decide +kernel⟩ ⟨by rw [hRf]; exact Nat.le_of_ble_eq_true rfl, by rw [hRl]; exact Nat.le_of_ble_eq_true rfl⟩ (g_recv hKn hS hk103 (by decide) (by decide)) rfl (by rw [hr103]; rfl) (Nat.le_of_ble_eq_true rfl) dX1_play_103 (fun H locs cells slots hS => ?_)
      refine g_aload_n hx hb hl 0 rfl dX1_play_106 ?_
      refine lv_iconst (v := 1) hx hb dX1_play_107 (by decide) ?_
      refine g_ptZ hx hb hown hts hKn hS h fd_1_1_21 (Or.inl (hts _ q618)) (fun _ z => z) (fun z => nomatch z) dX1_play_108 (fun G108 h H locs hS => ?_)
      refine g_aload_n hx hb hl 0 rfl dX1_play_111 ?_
      obtain ⟨b112, hb112, h⟩ := g_bnd h
      obtain ⟨hr112, hk112⟩ := g_chk hb112
      obtain ⟨z112, h112, h⟩ := g_bnd h
      refine g_callV (n := 0) (b := b112) (av := []) (rs := []) hx hb hml hown hts hKn hRc hRs hS hl (sX1_rounds l E D h112) (lw_V q1802 q1804 qs46 q113 q1805) ⟨rfl, by decide, by decide, by decide +kernel⟩ ⟨by rw [hRf]; exact Nat.le_of_ble_eq_true rfl, by rw [hRl]; exact Nat.le_of_ble_eq_true rfl⟩ (g_recv hKn hS hk112 (by decide) (by decide)) rfl (by rw [hr112]; rfl) (Nat.le_of_ble_eq_true rfl) dX1_play_112 (fun H locs cells slots hS => ?_)
      refine lv_iconst (v := 0) hx hb dX1_play_115 (by decide) ?_
      refine g_istore (l1 := [(4, .inl 0), (0, .inr (.inr (some t))), (1, .inl v1), (2, .inr (.inl v2))]) hx hb hl (by decide) rfl dX1_play_116 (fun ls hl => ?_)
      exact sX1_play_b118 C gFU _ _ _ _ h _ _ _ _ _ hS (gls_sub hl [1, 0] rfl)
    · have h := g_iff c_63 h
      refine g_aload_n hx hb hl 0 rfl dX1_play_66 ?_
      refine g_rdR hx hb hown hts hKn hS h fd_1_1_23 rfl (Or.inl (hts _ q620)) (fun _ z => z) dX1_play_67 (fun x67 h => ?_)
      refine g_iload hx hb hl 3 rfl dX1_play_70 ?_
      refine g_lload_n hx hb hl 2 rfl dX1_play_72 ?_
      refine lv_iconst (v := 4) hx hb dX1_play_73 (by decide) ?_
      refine g_iload hx hb hl 3 rfl dX1_play_74 ?_
      refine lv_imul hx hb dX1_play_76 ?_
      refine lv_lshr (v := (v2 >>> (Int32.toInt64 (4 * v4) &&& 63))) hx hb dX1_play_77 rfl ?_
      refine lv_ldc2 (v := 15) hx hb hown (hts _ q1785) dX1_play_78 ?_
      refine lv_land hx hb dX1_play_81 ?_
      refine lv_l2i (v := (Int64.toInt32 ((v2 >>> (Int32.toInt64 (4 * v4) &&& 63)) &&& 15))) hx hb dX1_play_82 rfl ?_
      refine g_iastoreG hx hb hKn hS h dX1_play_83 (fun G83 h H locs hS => ?_)
      refine g_iinc (l1 := [(4, .inl (v4 + 1)), (0, .inr (.inr (some t))), (1, .inl v1), (2, .inr (.inl v2))]) (v := (v4 + 1)) hx hb hl (k := 3) rfl (by rfl) (by decide) rfl dX1_play_84 (fun ls hl => ?_)
      refine lv_goto (tgt := 60) hx hb dX1_play_87 (by decide) ?_
      exact ih _ _ _ _ _ _ h _ _ _ _ _ hS (gls_sub hl [1, 2, 3, 0] rfl)
theorem sX1_play_b43 {p : Program} {l : Launch} {e : Env} {R : Room} {s : State} {m : MethodId} {args : Array Value} {below : List Frame} {meth : Method} {c : Code} {E : g_E} {D : g_D} (C : gC p R s m args meth c cX1_play 5 RX1 "play" (some .int) 226 7511 E D) {k13 : Nat → Int32 → Int64 → Int32 → g_G → Option (Int32 × g_G)} (hk13 : ∀ (t : Nat) (v1 : Int32) (v2 : Int64) (v4 : Int32) (G : g_G) (q : Int32 × g_G), k13 t v1 v2 v4 G = some q → ∀ (H : Heap) (locs : List Loc) (cells slots : Nat) (ls : Array Slot), gSt E D G H locs → gls ls 5 [(0, .inr (.inr (some t))), (1, .inl v1), (2, .inr (.inl v2)), (4, .inl v4)] → gT p l e R s m args below meth c E D H locs cells slots (some (.int q.1)) q.2 (F0 m 13 ls [])) : ∀ (t : Nat) (v1 : Int32) (v2 : Int64) (v4 : Int32) (s0 : Int32) (G : g_G) (q : Int32 × g_G), fX1_play_b43 E k13 t v1 v2 v4 s0 G = some q → ∀ (H : Heap) (locs : List Loc) (cells slots : Nat) (ls : Array Slot), gSt E D G H locs → gls ls 5 [(0, .inr (.inr (some t))), (1, .inl v1), (2, .inr (.inl v2)), (4, .inl v4)] → gT p l e R s m args below meth c E D H locs cells slots (some (.int q.1)) q.2 (F0 m 43 ls [.int s0]) := by
  obtain ⟨hx, hb, hml, hown, hts, hKn, hRc, hRs, hc1, hc2, hRf, hRl, hr, hlk, hnm⟩ := id C
  intro t v1 v2 v4 s0 G q h H locs cells slots ls hS hl
  unfold fX1_play_b43 at h
  obtain ⟨z43, h43, h⟩ := g_bnd h
  refine g_callS (n := 1) (av := [.inl s0]) (rs := []) hx hb hml hown hts hKn hRc hRs hS hl (sX1_right l E D h43) (lw_S q1093 q1094 q113 q1095) ⟨by decide, by decide, by decide +kernel⟩ ⟨by rw [hRf]; exact Nat.le_of_ble_eq_true rfl, by rw [hRl]; exact Nat.le_of_ble_eq_true rfl⟩ rfl rfl (Nat.le_of_ble_eq_true rfl) dX1_play_43 (fun H locs cells slots hS => ?_)
  refine g_iinc (l1 := [(4, .inl (v4 + 1)), (0, .inr (.inr (some t))), (1, .inl v1), (2, .inr (.inl v2))]) (v := (v4 + 1)) hx hb hl (k := 3) rfl (by rfl) (by decide) rfl dX1_play_46 (fun ls hl => ?_)
  refine lv_goto (tgt := 13) hx hb dX1_play_49 (by decide) ?_
  exact hk13 _ _ _ _ _ _ h _ _ _ _ _ hS (gls_sub hl [1, 2, 3, 0] rfl)
theorem sX1_play_b13 {p : Program} {l : Launch} {e : Env} {R : Room} {s : State} {m : MethodId} {args : Array Value} {below : List Frame} {meth : Method} {c : Code} {E : g_E} {D : g_D} (C : gC p R s m args meth c cX1_play 5 RX1 "play" (some .int) 226 7511 E D) : ∀ (n : Nat) (t : Nat) (v1 : Int32) (v2 : Int64) (v4 : Int32) (G : g_G) (q : Int32 × g_G), fX1_play_b13 E n t v1 v2 v4 G = some q → ∀ (H : Heap) (locs : List Loc) (cells slots : Nat) (ls : Array Slot), gSt E D G H locs → gls ls 5 [(0, .inr (.inr (some t))), (1, .inl v1), (2, .inr (.inl v2)), (4, .inl v4)] → gT p l e R s m args below meth c E D H locs cells slots (some (.int q.1)) q.2 (F0 m 13 ls []) := by
  obtain ⟨hx, hb, hml, hown, hts, hKn, hRc, hRs, hc1, hc2, hRf, hRl, hr, hlk, hnm⟩ := id C
  intro n
  induction n with
  | zero =>
    intro t v1 v2 v4 G q h
    exact g_no h
  | succ n ih =>
    intro t v1 v2 v4 G q h H locs cells slots ls hS hl
    rw [fX1_play_b13] at h
    refine g_iload hx hb hl 3 rfl dX1_play_13 ?_
    refine g_iload_n hx hb hl 1 rfl dX1_play_15 ?_
    refine lv_icmp_ge (tgt := 52) hx hb dX1_play_16 (by decide) (fun c_16 => ?_) (fun c_16 => ?_)
    · have h := g_ift c_16 h
      refine g_aload_n hx hb hl 0 rfl dX1_play_52 ?_
      refine g_iload_n hx hb hl 1 rfl dX1_play_53 ?_
      refine g_ptI hx hb hown hts hKn hS h fd_1_1_26 (Or.inl (hts _ q623)) (fun _ z => z) (fun z => nomatch z) dX1_play_54 (fun G54 h H locs hS => ?_)
      refine lv_iconst (v := 0) hx hb dX1_play_57 (by decide) ?_
      refine g_istore (l1 := [(4, .inl 0), (0, .inr (.inr (some t))), (1, .inl v1), (2, .inr (.inl v2))]) hx hb hl (by decide) rfl dX1_play_58 (fun ls hl => ?_)
      exact sX1_play_b60 C gFU _ _ _ _ _ _ h _ _ _ _ _ hS (gls_sub hl [1, 2, 3, 0] rfl)
    · have h := g_iff c_16 h
      refine g_lload_n hx hb hl 2 rfl dX1_play_19 ?_
      refine lv_iconst (v := 4) hx hb dX1_play_20 (by decide) ?_
      refine g_iload hx hb hl 3 rfl dX1_play_21 ?_
      refine lv_imul hx hb dX1_play_23 ?_
      refine lv_lshr (v := (v2 >>> (Int32.toInt64 (4 * v4) &&& 63))) hx hb dX1_play_24 rfl ?_
      refine lv_ldc2 (v := 15) hx hb hown (hts _ q1785) dX1_play_25 ?_
      refine lv_land hx hb dX1_play_28 ?_
      refine g_aload_n hx hb hl 0 rfl dX1_play_29 ?_
      refine g_rdI hx hb hown hts hKn hS h fd_1_1_0 rfl (Or.inl (hts _ q597)) (fun _ z => z) dX1_play_30 (fun x30 h => ?_)
      refine lv_i2l (v := (Int32.toInt64 x30)) hx hb dX1_play_33 rfl ?_
      refine W.lcmp hx hb dX1_play_34 ?_
      refine lv_if_ge (tgt := 42) hx hb dX1_play_35 (by decide) (fun c_35 => ?_) (fun c_35 => ?_)
      · have h := g_ift c_35 h
        refine lv_iconst (v := 0) hx hb dX1_play_42 (by decide) ?_
        exact sX1_play_b43 C ih _ _ _ _ _ _ _ h _ _ _ _ _ hS (gls_sub hl [0, 1, 2, 3] rfl)
      · have h := g_iff c_35 h
        refine lv_iconst (v := 1) hx hb dX1_play_38 (by decide) ?_
        refine lv_goto (tgt := 43) hx hb dX1_play_39 (by decide) ?_
        exact sX1_play_b43 C ih _ _ _ _ _ _ _ h _ _ _ _ _ hS (gls_sub hl [0, 1, 2, 3] rfl)
theorem sX1_play (l : Launch) (E : g_E) (D : g_D) {t : Nat} {v1 : Int32} {v2 : Int64} {G : g_G} {q : Int32 × g_G} (h : fX1_play E t v1 v2 G = some q) : gMet l E D yX1_play (ws_ yX1_play cX1_play 5 (some .int)) 226 7511 [.inr (.inr (some t)), .inl v1, .inr (.inl v2)] G (some (.int q.1)) q.2 := by
  refine gMet.of (by decide +kernel) (Nat.le_of_ble_eq_true rfl) ?_
  intro p e R s m args below meth c C hS ls hl
  have C : gC p R s m args meth c cX1_play 5 RX1 "play" (some .int) 226 7511 E D := C
  obtain ⟨hx, hb, hml, hown, hts, hKn, hRc, hRs, hc1, hc2, hRf, hRl, hr, hlk, hnm⟩ := id C
  have hl : gls ls 5 [(0, .inr (.inr (some t))), (1, .inl v1), (2, .inr (.inl v2))] := hl
  generalize s.heap = H at hS ⊢
  unfold fX1_play at h
  refine g_iload_n hx hb hl 1 rfl dX1_play_0 ?_
  refine lv_iconst (v := 0) hx hb dX1_play_1 (by decide) ?_
  refine lv_bipush (v := 16) hx hb dX1_play_2 (by decide) ?_
  obtain ⟨z4, h4, h⟩ := g_bnd h
  refine g_callS (n := 3) (av := [.inl v1, .inl 0, .inl 16]) (rs := []) hx hb hml hown hts hKn hRc hRs hS hl (sX1_within l E D h4) (lw_S q713 q714 q113 q715) ⟨by decide, by decide, by decide +kernel⟩ ⟨by rw [hRf]; exact Nat.le_of_ble_eq_true rfl, by rw [hRl]; exact Nat.le_of_ble_eq_true rfl⟩ rfl rfl (Nat.le_of_ble_eq_true rfl) dX1_play_4 (fun H locs cells slots hS => ?_)
  obtain ⟨z7, h7, h⟩ := g_bnd h
  refine g_callS (n := 1) (av := [.inl z4.1]) (rs := []) hx hb hml hown hts hKn hRc hRs hS hl (sX1_right l E D h7) (lw_S q1093 q1094 q113 q1095) ⟨by decide, by decide, by decide +kernel⟩ ⟨by rw [hRf]; exact Nat.le_of_ble_eq_true rfl, by rw [hRl]; exact Nat.le_of_ble_eq_true rfl⟩ rfl rfl (Nat.le_of_ble_eq_true rfl) dX1_play_7 (fun H locs cells slots hS => ?_)
  refine lv_iconst (v := 0) hx hb dX1_play_10 (by decide) ?_
  refine g_istore (l1 := [(4, .inl 0), (0, .inr (.inr (some t))), (1, .inl v1), (2, .inr (.inl v2))]) hx hb hl (by decide) rfl dX1_play_11 (fun ls hl => ?_)
  exact sX1_play_b13 C gFU _ _ _ _ _ _ h _ _ _ _ _ hS (gls_sub hl [1, 2, 3, 0] rfl)
/-- SendHall.reached()I -/
def fX1_reached (E : g_E) (t : Nat) (G : g_G) : Option (Int32 × g_G) :=
  (gchk G 1 (some t)).bind fun b1 =>
  (fX1_finds E b1 G).bind fun z1 =>
  if z1.1 = 0 then (
    some ((-1), z1.2))
  else (
    (grI z1.2 1 1 (some t) 15).bind fun x8 =>
    some (x8, z1.2))
theorem sX1_reached (l : Launch) (E : g_E) (D : g_D) {t : Nat} {G : g_G} {q : Int32 × g_G} (h : fX1_reached E t G = some q) : gMet l E D yX1_reached (ws_ yX1_reached cX1_reached 1 (some .int)) 227 7531 [.inr (.inr (some t))] G (some (.int q.1)) q.2 := by
  refine gMet.of (by decide +kernel) (Nat.le_of_ble_eq_true rfl) ?_
  intro p e R s m args below meth c C hS ls hl
  have C : gC p R s m args meth c cX1_reached 1 RX1 "reached" (some .int) 227 7531 E D := C
  obtain ⟨hx, hb, hml, hown, hts, hKn, hRc, hRs, hc1, hc2, hRf, hRl, hr, hlk, hnm⟩ := id C
  have hl : gls ls 1 [(0, .inr (.inr (some t)))] := hl
  generalize s.heap = H at hS ⊢
  unfold fX1_reached at h
  refine g_aload_n hx hb hl 0 rfl dX1_reached_0 ?_
  obtain ⟨b1, hb1, h⟩ := g_bnd h
  obtain ⟨hr1, hk1⟩ := g_chk hb1
  obtain ⟨z1, h1, h⟩ := g_bnd h
  refine g_callV (n := 0) (b := b1) (av := []) (rs := []) hx hb hml hown hts hKn hRc hRs hS hl (sX1_finds l E D h1) (lw_V q720 q722 qs2 q113 q723) ⟨rfl, by decide, by decide, by decide +kernel⟩ ⟨by rw [hRf]; exact Nat.le_of_ble_eq_true rfl, by rw [hRl]; exact Nat.le_of_ble_eq_true rfl⟩ (g_recv hKn hS hk1 (by decide) (by decide)) rfl (by rw [hr1]; rfl) (Nat.le_of_ble_eq_true rfl) dX1_reached_1 (fun H locs cells slots hS => ?_)
  refine lv_if_eq (tgt := 14) hx hb dX1_reached_4 (by decide) (fun c_4 => ?_) (fun c_4 => ?_)
  · have h := g_ift c_4 h
    refine lv_iconst (v := (-1)) hx hb dX1_reached_14 (by decide) ?_
    exact g_iretG hx hb hr hlk hKn hRc hRs hS h dX1_reached_15
  · have h := g_iff c_4 h
    refine g_aload_n hx hb hl 0 rfl dX1_reached_7 ?_
    refine g_rdI hx hb hown hts hKn hS h fd_1_1_15 rfl (Or.inl (hts _ q612)) (fun _ z => z) dX1_reached_8 (fun x8 h => ?_)
    refine lv_goto (tgt := 15) hx hb dX1_reached_11 (by decide) ?_
    exact g_iretG hx hb hr hlk hKn hRc hRs hS h dX1_reached_15
/-- SendHallLaw.least(LSendHall;I[J)I -/
def fX0_least (E : g_E) (v0 : Option Nat) (v1 : Int32) (v2 : Option Nat) (G : g_G) : Option (Int32 × g_G) :=
  (gchk G 1 v0).bind fun b4 =>
  (fX1_least E b4 v1 G).bind fun z4 =>
  (gsaL E z4.2 v2 0 (Int32.toInt64 z4.1)).bind fun G8 =>
  some (0, G8)
theorem sX0_least (l : Launch) (E : g_E) (D : g_D) {v0 : Option Nat} {v1 : Int32} {v2 : Option Nat} {G : g_G} {q : Int32 × g_G} (h : fX0_least E v0 v1 v2 G = some q) : gMet l E D yX0_least (ws_ yX0_least cX0_least 4 (some .int)) 227 7533 [.inr (.inr v0), .inl v1, .inr (.inr v2)] G (some (.int q.1)) q.2 := by
  refine gMet.of (by decide +kernel) (Nat.le_of_ble_eq_true rfl) ?_
  intro p e R s m args below meth c C hS ls hl
  have C : gC p R s m args meth c cX0_least 4 RX0 "least" (some .int) 227 7533 E D := C
  obtain ⟨hx, hb, hml, hown, hts, hKn, hRc, hRs, hc1, hc2, hRf, hRl, hr, hlk, hnm⟩ := id C
  have hl : gls ls 4 [(0, .inr (.inr v0)), (1, .inl v1), (2, .inr (.inr v2))] := hl
  generalize s.heap = H at hS ⊢
  unfold fX0_least at h
  refine g_aload_n hx hb hl 2 rfl dX0_least_0 ?_
  refine lv_iconst (v := 0) hx hb dX0_least_1 (by decide) ?_
  refine g_aload_n hx hb hl 0 rfl dX0_least_2 ?_
  refine g_iload_n hx hb hl 1 rfl dX0_least_3 ?_
  obtain ⟨b4, hb4, h⟩ := g_bnd h
  obtain ⟨hr4, hk4⟩ := g_chk hb4
  obtain ⟨z4, h4, h⟩ := g_bnd h
  refine g_callV (n := 1) (b := b4) (av := [.inl v1]) (rs := [.inl 0, .inr (.inr v2)]) hx hb hml hown hts hKn hRc hRs hS hl (sX1_least l E D h4) (lw_V q1834 q1835 q1836 q113 q1837) ⟨rfl, by decide, by decide, by decide +kernel⟩ ⟨by rw [hRf]; exact Nat.le_of_ble_eq_true rfl, by rw [hRl]; exact Nat.le_of_ble_eq_true rfl⟩ (g_recv hKn hS hk4 (by decide) (by decide)) rfl (by rw [hr4]; rfl) (Nat.le_of_ble_eq_true rfl) dX0_least_4 (fun H locs cells slots hS => ?_)
  refine lv_i2l (v := (Int32.toInt64 z4.1)) hx hb dX0_least_7 rfl ?_
  refine g_lastoreG hx hb hKn hS h dX0_least_8 (fun G8 h H locs hS => ?_)
  refine lv_goto (tgt := 15) hx hb dX0_least_9 (by decide) ?_
  refine lv_iconst (v := 0) hx hb dX0_least_15 (by decide) ?_
  exact g_iretG hx hb hr hlk hKn hRc hRs hS h dX0_least_16
/-- SendHallLaw.play(LSendHall;IJ[J)I -/
def fX0_play (E : g_E) (v0 : Option Nat) (v1 : Int32) (v2 : Int64) (v4 : Option Nat) (G : g_G) : Option (Int32 × g_G) :=
  (gchk G 1 v0).bind fun b6 =>
  (fX1_play E b6 v1 v2 G).bind fun z6 =>
  (gsaL E z6.2 v4 0 (Int32.toInt64 z6.1)).bind fun G10 =>
  some (0, G10)
theorem sX0_play (l : Launch) (E : g_E) (D : g_D) {v0 : Option Nat} {v1 : Int32} {v2 : Int64} {v4 : Option Nat} {G : g_G} {q : Int32 × g_G} (h : fX0_play E v0 v1 v2 v4 G = some q) : gMet l E D yX0_play (ws_ yX0_play cX0_play 6 (some .int)) 227 7535 [.inr (.inr v0), .inl v1, .inr (.inl v2), .inr (.inr v4)] G (some (.int q.1)) q.2 := by
  refine gMet.of (by decide +kernel) (Nat.le_of_ble_eq_true rfl) ?_
  intro p e R s m args below meth c C hS ls hl
  have C : gC p R s m args meth c cX0_play 6 RX0 "play" (some .int) 227 7535 E D := C
  obtain ⟨hx, hb, hml, hown, hts, hKn, hRc, hRs, hc1, hc2, hRf, hRl, hr, hlk, hnm⟩ := id C
  have hl : gls ls 6 [(0, .inr (.inr v0)), (1, .inl v1), (2, .inr (.inl v2)), (4, .inr (.inr v4))] := hl
  generalize s.heap = H at hS ⊢
  unfold fX0_play at h
  refine g_aload hx hb hl 3 rfl dX0_play_0 ?_
  refine lv_iconst (v := 0) hx hb dX0_play_2 (by decide) ?_
  refine g_aload_n hx hb hl 0 rfl dX0_play_3 ?_
  refine g_iload_n hx hb hl 1 rfl dX0_play_4 ?_
  refine g_lload_n hx hb hl 2 rfl dX0_play_5 ?_
  obtain ⟨b6, hb6, h⟩ := g_bnd h
  obtain ⟨hr6, hk6⟩ := g_chk hb6
  obtain ⟨z6, h6, h⟩ := g_bnd h
  refine g_callV (n := 2) (b := b6) (av := [.inl v1, .inr (.inl v2)]) (rs := [.inl 0, .inr (.inr v4)]) hx hb hml hown hts hKn hRc hRs hS hl (sX1_play l E D h6) (lw_V q1781 q1782 q1783 q113 q1784) ⟨rfl, by decide, by decide, by decide +kernel⟩ ⟨by rw [hRf]; exact Nat.le_of_ble_eq_true rfl, by rw [hRl]; exact Nat.le_of_ble_eq_true rfl⟩ (g_recv hKn hS hk6 (by decide) (by decide)) rfl (by rw [hr6]; rfl) (Nat.le_of_ble_eq_true rfl) dX0_play_6 (fun H locs cells slots hS => ?_)
  refine lv_i2l (v := (Int32.toInt64 z6.1)) hx hb dX0_play_9 rfl ?_
  refine g_lastoreG hx hb hKn hS h dX0_play_10 (fun G10 h H locs hS => ?_)
  refine lv_goto (tgt := 18) hx hb dX0_play_11 (by decide) ?_
  refine lv_iconst (v := 0) hx hb dX0_play_18 (by decide) ?_
  exact g_iretG hx hb hr hlk hKn hRc hRs hS h dX0_play_19
