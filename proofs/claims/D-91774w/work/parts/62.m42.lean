set_option maxRecDepth 100000
/-- SendHall.plays(LSendHall$Life;II)V -/
def fX1_plays_b92 (E : g_E) (k54 : Nat → (Option Nat) → Int32 → Int32 → Int32 → g_G → Option (g_G)) (t : Nat) (v1 : Option Nat) (v2 : Int32) (v3 : Int32) (v4 : Int32) (G : g_G) : Option (g_G) :=
  k54 t v1 v2 v3 v4 G
def fX1_plays_b65 (E : g_E) (k54 : Nat → (Option Nat) → Int32 → Int32 → Int32 → g_G → Option (g_G)) : Nat → Nat → (Option Nat) → Int32 → Int32 → Int32 → Int32 → g_G → Option (g_G)
  | 0, _, _, _, _, _, _, _ => none
  | n + 1, t, v1, v2, v3, v4, v5, G =>
    if v2 ≤ v5 then (
      fX1_plays_b92 E k54 t v1 v2 v3 v4 G)
    else (
      if ¬ v4 = 0 then (
        fX1_plays_b92 E k54 t v1 v2 v3 v4 G)
      else (
        (gchk G 1 (some t)).bind fun b81 =>
        (fX1_goesOn E b81 v1 v5 v3 G).bind fun z81 =>
        fX1_plays_b65 E k54 n t v1 v2 v3 z81.1 (v5 + 1) z81.2))
def fX1_plays_b54 (E : g_E) : Nat → Nat → (Option Nat) → Int32 → Int32 → Int32 → g_G → Option (g_G)
  | 0, _, _, _, _, _, _ => none
  | n + 1, t, v1, v2, v3, v4, G =>
    if v4 = 0 then (
      some G)
    else (
      fX1_plays_b65 E (fX1_plays_b54 E n) gFU t v1 v2 v3 0 0 G)
def fX1_plays_b8 (E : g_E) : Nat → Nat → (Option Nat) → Int32 → Int32 → Int32 → g_G → Option (g_G)
  | 0, _, _, _, _, _, _ => none
  | n + 1, t, v1, v2, v3, v4, G =>
    if (8 : Int32) ≤ v4 then (
      (gchk G 1 (some t)).bind fun b48 =>
      (fX1_begins E b48 v1 v2 G).bind fun z48 =>
      fX1_plays_b54 E gFU t v1 v2 v3 1 z48)
    else (
      (grR G 1 1 (some t) 6).bind fun x16 =>
      (gsaI E G x16 v4 0).bind fun G22 =>
      (grR G22 1 1 (some t) 7).bind fun x24 =>
      (gsaI E G22 x24 v4 0).bind fun G30 =>
      (grR G30 1 1 (some t) 8).bind fun x32 =>
      (gsaI E G30 x32 v4 0).bind fun G38 =>
      fX1_plays_b8 E n t v1 v2 v3 (v4 + 1) G38)
def fX1_plays (E : g_E) (t : Nat) (v1 : Option Nat) (v2 : Int32) (v3 : Int32) (G : g_G) : Option (g_G) :=
  (gpI E G 1 1 (some t) 25 0).bind fun G2 =>
  fX1_plays_b8 E gFU t v1 v2 v3 0 G2
theorem sX1_plays_b92 {p : Program} {l : Launch} {e : Env} {R : Room} {s : State} {m : MethodId} {args : Array Value} {below : List Frame} {meth : Method} {c : Code} {E : g_E} {D : g_D} (C : gC p R s m args meth c cX1_plays 6 RX1 "plays" (none) 225 7486 E D) {k54 : Nat → (Option Nat) → Int32 → Int32 → Int32 → g_G → Option (g_G)} (hk54 : ∀ (t : Nat) (v1 : Option Nat) (v2 : Int32) (v3 : Int32) (v4 : Int32) (G : g_G) (q : g_G), k54 t v1 v2 v3 v4 G = some q → ∀ (H : Heap) (locs : List Loc) (cells slots : Nat) (ls : Array Slot), gSt E D G H locs → gls ls 6 [(0, .inr (.inr (some t))), (1, .inr (.inr v1)), (2, .inl v2), (3, .inl v3), (4, .inl v4)] → gT p l e R s m args below meth c E D H locs cells slots none q (F0 m 54 ls [])) : ∀ (t : Nat) (v1 : Option Nat) (v2 : Int32) (v3 : Int32) (v4 : Int32) (G : g_G) (q : g_G), fX1_plays_b92 E k54 t v1 v2 v3 v4 G = some q → ∀ (H : Heap) (locs : List Loc) (cells slots : Nat) (ls : Array Slot), gSt E D G H locs → gls ls 6 [(0, .inr (.inr (some t))), (1, .inr (.inr v1)), (2, .inl v2), (3, .inl v3), (4, .inl v4)] → gT p l e R s m args below meth c E D H locs cells slots none q (F0 m 92 ls []) := by
  obtain ⟨hx, hb, hml, hown, hts, hKn, hRc, hRs, hc1, hc2, hRf, hRl, hr, hlk, hnm⟩ := id C
  intro t v1 v2 v3 v4 G q h H locs cells slots ls hS hl
  unfold fX1_plays_b92 at h
  refine lv_goto (tgt := 54) hx hb dX1_plays_92 (by decide) ?_
  exact hk54 _ _ _ _ _ _ _ h _ _ _ _ _ hS (gls_sub hl [0, 1, 2, 3, 4] rfl)
theorem sX1_plays_b65 {p : Program} {l : Launch} {e : Env} {R : Room} {s : State} {m : MethodId} {args : Array Value} {below : List Frame} {meth : Method} {c : Code} {E : g_E} {D : g_D} (C : gC p R s m args meth c cX1_plays 6 RX1 "plays" (none) 225 7486 E D) {k54 : Nat → (Option Nat) → Int32 → Int32 → Int32 → g_G → Option (g_G)} (hk54 : ∀ (t : Nat) (v1 : Option Nat) (v2 : Int32) (v3 : Int32) (v4 : Int32) (G : g_G) (q : g_G), k54 t v1 v2 v3 v4 G = some q → ∀ (H : Heap) (locs : List Loc) (cells slots : Nat) (ls : Array Slot), gSt E D G H locs → gls ls 6 [(0, .inr (.inr (some t))), (1, .inr (.inr v1)), (2, .inl v2), (3, .inl v3), (4, .inl v4)] → gT p l e R s m args below meth c E D H locs cells slots none q (F0 m 54 ls [])) : ∀ (n : Nat) (t : Nat) (v1 : Option Nat) (v2 : Int32) (v3 : Int32) (v4 : Int32) (v5 : Int32) (G : g_G) (q : g_G), fX1_plays_b65 E k54 n t v1 v2 v3 v4 v5 G = some q → ∀ (H : Heap) (locs : List Loc) (cells slots : Nat) (ls : Array Slot), gSt E D G H locs → gls ls 6 [(0, .inr (.inr (some t))), (1, .inr (.inr v1)), (2, .inl v2), (3, .inl v3), (4, .inl v4), (5, .inl v5)] → gT p l e R s m args below meth c E D H locs cells slots none q (F0 m 65 ls []) := by
  obtain ⟨hx, hb, hml, hown, hts, hKn, hRc, hRs, hc1, hc2, hRf, hRl, hr, hlk, hnm⟩ := id C
  intro n
  induction n with
  | zero =>
    intro t v1 v2 v3 v4 v5 G q h
    exact g_no h
  | succ n ih =>
    intro t v1 v2 v3 v4 v5 G q h H locs cells slots ls hS hl
    rw [fX1_plays_b65] at h
    refine g_iload hx hb hl 5 rfl dX1_plays_65 ?_
    refine g_iload_n hx hb hl 2 rfl dX1_plays_67 ?_
    refine lv_icmp_ge (tgt := 92) hx hb dX1_plays_68 (by decide) (fun c_68 => ?_) (fun c_68 => ?_)
    · have h := g_ift c_68 h
      exact sX1_plays_b92 C hk54 _ _ _ _ _ _ _ h _ _ _ _ _ hS (gls_sub hl [0, 1, 2, 3, 4] rfl)
    · have h := g_iff c_68 h
      refine g_iload hx hb hl 4 rfl dX1_plays_71 ?_
      refine lv_if_ne (tgt := 92) hx hb dX1_plays_73 (by decide) (fun c_73 => ?_) (fun c_73 => ?_)
      · have h := g_ift c_73 h
        exact sX1_plays_b92 C hk54 _ _ _ _ _ _ _ h _ _ _ _ _ hS (gls_sub hl [0, 1, 2, 3, 4] rfl)
      · have h := g_iff (fun z => z c_73) h
        refine g_aload_n hx hb hl 0 rfl dX1_plays_76 ?_
        refine g_aload_n hx hb hl 1 rfl dX1_plays_77 ?_
        refine g_iload hx hb hl 5 rfl dX1_plays_78 ?_
        refine g_iload_n hx hb hl 3 rfl dX1_plays_80 ?_
        obtain ⟨b81, hb81, h⟩ := g_bnd h
        obtain ⟨hr81, hk81⟩ := g_chk hb81
        obtain ⟨z81, h81, h⟩ := g_bnd h
        refine g_callV (n := 3) (b := b81) (av := [.inr (.inr v1), .inl v5, .inl v3]) (rs := []) hx hb hml hown hts hKn hRc hRs hS hl (sX1_goesOn l E D h81) (lw_V q1790 q1792 qs44 q113 q1793) ⟨rfl, by decide, by decide, by decide +kernel⟩ ⟨by rw [hRf]; exact Nat.le_of_ble_eq_true rfl, by rw [hRl]; exact Nat.le_of_ble_eq_true rfl⟩ (g_recv hKn hS hk81 (by decide) (by decide)) rfl (by rw [hr81]; rfl) (Nat.le_of_ble_eq_true rfl) dX1_plays_81 (fun H locs cells slots hS => ?_)
        refine g_istore (l1 := [(4, .inl z81.1), (0, .inr (.inr (some t))), (1, .inr (.inr v1)), (2, .inl v2), (3, .inl v3), (5, .inl v5)]) hx hb hl (by decide) rfl dX1_plays_84 (fun ls hl => ?_)
        refine g_iinc (l1 := [(5, .inl (v5 + 1)), (4, .inl z81.1), (0, .inr (.inr (some t))), (1, .inr (.inr v1)), (2, .inl v2), (3, .inl v3)]) (v := (v5 + 1)) hx hb hl (k := 5) rfl (by rfl) (by decide) rfl dX1_plays_86 (fun ls hl => ?_)
        refine lv_goto (tgt := 65) hx hb dX1_plays_89 (by decide) ?_
        exact ih _ _ _ _ _ _ _ _ h _ _ _ _ _ hS (gls_sub hl [2, 3, 4, 5, 1, 0] rfl)
theorem sX1_plays_b54 {p : Program} {l : Launch} {e : Env} {R : Room} {s : State} {m : MethodId} {args : Array Value} {below : List Frame} {meth : Method} {c : Code} {E : g_E} {D : g_D} (C : gC p R s m args meth c cX1_plays 6 RX1 "plays" (none) 225 7486 E D) : ∀ (n : Nat) (t : Nat) (v1 : Option Nat) (v2 : Int32) (v3 : Int32) (v4 : Int32) (G : g_G) (q : g_G), fX1_plays_b54 E n t v1 v2 v3 v4 G = some q → ∀ (H : Heap) (locs : List Loc) (cells slots : Nat) (ls : Array Slot), gSt E D G H locs → gls ls 6 [(0, .inr (.inr (some t))), (1, .inr (.inr v1)), (2, .inl v2), (3, .inl v3), (4, .inl v4)] → gT p l e R s m args below meth c E D H locs cells slots none q (F0 m 54 ls []) := by
  obtain ⟨hx, hb, hml, hown, hts, hKn, hRc, hRs, hc1, hc2, hRf, hRl, hr, hlk, hnm⟩ := id C
  intro n
  induction n with
  | zero =>
    intro t v1 v2 v3 v4 G q h
    exact g_no h
  | succ n ih =>
    intro t v1 v2 v3 v4 G q h H locs cells slots ls hS hl
    rw [fX1_plays_b54] at h
    refine g_iload hx hb hl 4 rfl dX1_plays_54 ?_
    refine lv_if_eq (tgt := 95) hx hb dX1_plays_56 (by decide) (fun c_56 => ?_) (fun c_56 => ?_)
    · have h := g_ift c_56 h
      exact g_vretG hx hb hr hlk hKn hRc hRs hS h dX1_plays_95
    · have h := g_iff c_56 h
      refine lv_iconst (v := 0) hx hb dX1_plays_59 (by decide) ?_
      refine g_istore (l1 := [(4, .inl 0), (0, .inr (.inr (some t))), (1, .inr (.inr v1)), (2, .inl v2), (3, .inl v3)]) hx hb hl (by decide) rfl dX1_plays_60 (fun ls hl => ?_)
      refine lv_iconst (v := 0) hx hb dX1_plays_62 (by decide) ?_
      refine g_istore (l1 := [(5, .inl 0), (4, .inl 0), (0, .inr (.inr (some t))), (1, .inr (.inr v1)), (2, .inl v2), (3, .inl v3)]) hx hb hl (by decide) rfl dX1_plays_63 (fun ls hl => ?_)
      exact sX1_plays_b65 C ih gFU _ _ _ _ _ _ _ _ h _ _ _ _ _ hS (gls_sub hl [2, 3, 4, 5, 1, 0] rfl)
theorem sX1_plays_b8 {p : Program} {l : Launch} {e : Env} {R : Room} {s : State} {m : MethodId} {args : Array Value} {below : List Frame} {meth : Method} {c : Code} {E : g_E} {D : g_D} (C : gC p R s m args meth c cX1_plays 6 RX1 "plays" (none) 225 7486 E D) : ∀ (n : Nat) (t : Nat) (v1 : Option Nat) (v2 : Int32) (v3 : Int32) (v4 : Int32) (G : g_G) (q : g_G), fX1_plays_b8 E n t v1 v2 v3 v4 G = some q → ∀ (H : Heap) (locs : List Loc) (cells slots : Nat) (ls : Array Slot), gSt E D G H locs → gls ls 6 [(0, .inr (.inr (some t))), (1, .inr (.inr v1)), (2, .inl v2), (3, .inl v3), (4, .inl v4)] → gT p l e R s m args below meth c E D H locs cells slots none q (F0 m 8 ls []) := by
  obtain ⟨hx, hb, hml, hown, hts, hKn, hRc, hRs, hc1, hc2, hRf, hRl, hr, hlk, hnm⟩ := id C
  intro n
  induction n with
  | zero =>
    intro t v1 v2 v3 v4 G q h
    exact g_no h
  | succ n ih =>
    intro t v1 v2 v3 v4 G q h H locs cells slots ls hS hl
    rw [fX1_plays_b8] at h
    refine g_iload hx hb hl 4 rfl dX1_plays_8 ?_
    refine lv_bipush (v := 8) hx hb dX1_plays_10 (by decide) ?_
    refine lv_icmp_ge (tgt := 45) hx hb dX1_plays_12 (by decide) (fun c_12 => ?_) (fun c_12 => ?_)
    · have h := g_ift c_12 h
      refine g_aload_n hx hb hl 0 rfl dX1_plays_45 ?_
      refine g_aload_n hx hb hl 1 rfl dX1_plays_46 ?_
      refine g_iload_n hx hb hl 2 rfl dX1_plays_47 ?_
      obtain ⟨b48, hb48, h⟩ := g_bnd h
      obtain ⟨hr48, hk48⟩ := g_chk hb48
      obtain ⟨z48, h48, h⟩ := g_bnd h
      refine g_callV (n := 2) (b := b48) (av := [.inr (.inr v1), .inl v2]) (rs := []) hx hb hml hown hts hKn hRc hRs hS hl (sX1_begins l E D h48) (lw_V q728 q730 qs4 q113 q731) ⟨rfl, by decide, by decide, by decide +kernel⟩ ⟨by rw [hRf]; exact Nat.le_of_ble_eq_true rfl, by rw [hRl]; exact Nat.le_of_ble_eq_true rfl⟩ (g_recv hKn hS hk48 (by decide) (by decide)) rfl (by rw [hr48]; rfl) (Nat.le_of_ble_eq_true rfl) dX1_plays_48 (fun H locs cells slots hS => ?_)
      refine lv_iconst (v := 1) hx hb dX1_plays_51 (by decide) ?_
      refine g_istore (l1 := [(4, .inl 1), (0, .inr (.inr (some t))), (1, .inr (.inr v1)), (2, .inl v2), (3, .inl v3)]) hx hb hl (by decide) rfl dX1_plays_52 (fun ls hl => ?_)
      exact sX1_plays_b54 C gFU _ _ _ _ _ _ _ h _ _ _ _ _ hS (gls_sub hl [1, 2, 3, 4, 0] rfl)
    · have h := g_iff c_12 h
      refine g_aload_n hx hb hl 0 rfl dX1_plays_15 ?_
      refine g_rdR hx hb hown hts hKn hS h fd_1_1_6 rfl (Or.inl (hts _ q603)) (fun _ z => z) dX1_plays_16 (fun x16 h => ?_)
      refine g_iload hx hb hl 4 rfl dX1_plays_19 ?_
      refine lv_iconst (v := 0) hx hb dX1_plays_21 (by decide) ?_
      refine g_iastoreG hx hb hKn hS h dX1_plays_22 (fun G22 h H locs hS => ?_)
      refine g_aload_n hx hb hl 0 rfl dX1_plays_23 ?_
      refine g_rdR hx hb hown hts hKn hS h fd_1_1_7 rfl (Or.inl (hts _ q604)) (fun _ z => z) dX1_plays_24 (fun x24 h => ?_)
      refine g_iload hx hb hl 4 rfl dX1_plays_27 ?_
      refine lv_iconst (v := 0) hx hb dX1_plays_29 (by decide) ?_
      refine g_iastoreG hx hb hKn hS h dX1_plays_30 (fun G30 h H locs hS => ?_)
      refine g_aload_n hx hb hl 0 rfl dX1_plays_31 ?_
      refine g_rdR hx hb hown hts hKn hS h fd_1_1_8 rfl (Or.inl (hts _ q605)) (fun _ z => z) dX1_plays_32 (fun x32 h => ?_)
      refine g_iload hx hb hl 4 rfl dX1_plays_35 ?_
      refine lv_iconst (v := 0) hx hb dX1_plays_37 (by decide) ?_
      refine g_iastoreG hx hb hKn hS h dX1_plays_38 (fun G38 h H locs hS => ?_)
      refine g_iinc (l1 := [(4, .inl (v4 + 1)), (0, .inr (.inr (some t))), (1, .inr (.inr v1)), (2, .inl v2), (3, .inl v3)]) (v := (v4 + 1)) hx hb hl (k := 4) rfl (by rfl) (by decide) rfl dX1_plays_39 (fun ls hl => ?_)
      refine lv_goto (tgt := 8) hx hb dX1_plays_42 (by decide) ?_
      exact ih _ _ _ _ _ _ _ h _ _ _ _ _ hS (gls_sub hl [1, 2, 3, 4, 0] rfl)
theorem sX1_plays (l : Launch) (E : g_E) (D : g_D) {t : Nat} {v1 : Option Nat} {v2 : Int32} {v3 : Int32} {G : g_G} {q : g_G} (h : fX1_plays E t v1 v2 v3 G = some q) : gMet l E D yX1_plays (ws_ yX1_plays cX1_plays 6 (none)) 225 7486 [.inr (.inr (some t)), .inr (.inr v1), .inl v2, .inl v3] G none q := by
  refine gMet.of (by decide +kernel) (Nat.le_of_ble_eq_true rfl) ?_
  intro p e R s m args below meth c C hS ls hl
  have C : gC p R s m args meth c cX1_plays 6 RX1 "plays" (none) 225 7486 E D := C
  obtain ⟨hx, hb, hml, hown, hts, hKn, hRc, hRs, hc1, hc2, hRf, hRl, hr, hlk, hnm⟩ := id C
  have hl : gls ls 6 [(0, .inr (.inr (some t))), (1, .inr (.inr v1)), (2, .inl v2), (3, .inl v3)] := hl
  generalize s.heap = H at hS ⊢
  unfold fX1_plays at h
  refine g_aload_n hx hb hl 0 rfl dX1_plays_0 ?_
  refine lv_iconst (v := 0) hx hb dX1_plays_1 (by decide) ?_
  refine g_ptI hx hb hown hts hKn hS h fd_1_1_25 (Or.inl (hts _ q622)) (fun _ z => z) (fun z => nomatch z) dX1_plays_2 (fun G2 h H locs hS => ?_)
  refine lv_iconst (v := 0) hx hb dX1_plays_5 (by decide) ?_
  refine g_istore (l1 := [(4, .inl 0), (0, .inr (.inr (some t))), (1, .inr (.inr v1)), (2, .inl v2), (3, .inl v3)]) hx hb hl (by decide) rfl dX1_plays_6 (fun ls hl => ?_)
  exact sX1_plays_b8 C gFU _ _ _ _ _ _ _ h _ _ _ _ _ hS (gls_sub hl [1, 2, 3, 4, 0] rfl)
/-- SendHall$Reader.choice(I)LSendHall$Step; -/
def fX5_choice_b90 (E : g_E) (fS : g_E → Nat → g_G → Option ((Option Nat × g_G) ⊕ gX)) (t : Nat) (v2 : Option Nat) (v3 : Option Nat) (v4 : Option Nat) (G : g_G) : Option ((Option Nat × g_G) ⊕ gX) :=
  (grI G 5 5 (some t) 5).bind fun x92 =>
  (gpI E G 5 5 (some t) 5 (x92 - 1)).bind fun G97 =>
  (gchk G97 5 (some t)).bind fun b104 =>
  gcat (fX5_need E b104 (some (gA E 55)) G97) (fun z104 =>
    (grR z104 5 5 (some t) 11).bind fun x108 =>
    (gchk z104 17 x108).bind fun b112 =>
    (fJ2_add_2 E b112 v2 z104).bind fun z112 =>
    (grR z112.2 5 5 (some t) 12).bind fun x117 =>
    (gchk z112.2 17 x117).bind fun b121 =>
    (fJ2_add_2 E b121 v3 z112.2).bind fun z121 =>
    (grR z121.2 5 5 (some t) 13).bind fun x126 =>
    (gchk z121.2 17 x126).bind fun b131 =>
    (fJ2_add_2 E b131 v4 z121.2).bind fun z131 =>
    some (.inl (v2, z131.2)))
  (fun y => some (.inr y))
def fX5_choice (E : g_E) (fS : g_E → Nat → g_G → Option ((Option Nat × g_G) ⊕ gX)) (t : Nat) (v1 : Int32) (G : g_G) : Option ((Option Nat × g_G) ⊕ gX) :=
  (grR G 5 5 (some t) 10).bind fun x1 =>
  (grR G 2 2 x1 0).bind fun x4 =>
  (gchk G 17 x4).bind fun b8 =>
  (fJ2_add_2 E b8 none G).bind fun z8 =>
  (gnewO E z8.2 14 6).bind fun z12 =>
  (gchk z12.2 5 (some t)).bind fun b18 =>
  gcat (fR_expr 10 E b18 z12.2) (fun z18 =>
    (fX16_init E z12.1 v1 z18.1 z18.2).bind fun z21 =>
    (grR z21 5 5 (some t) 10).bind fun x26 =>
    (grR z21 2 2 x26 0).bind fun x29 =>
    (gchk z21 17 x29).bind fun b34 =>
    (fJ2_set E b34 v1 (some z12.1) z21).bind fun z34 =>
    (gchk z34.2 5 (some t)).bind fun b42 =>
    gcat (fX5_need E b42 (some (gA E 53)) z34.2) (fun z42 =>
      (grI z42 5 5 (some t) 5).bind fun x47 =>
      (gpI E z42 5 5 (some t) 5 (x47 + 1)).bind fun G52 =>
      (gchk G52 5 (some t)).bind fun b56 =>
      gcat (fS E b56 G52) (fun z56 =>
        (gnewO E z56.2 17 3).bind fun z60 =>
        (fJ2_init E z60.1 1 z60.2).bind fun z65 =>
        (gchk z65 5 (some t)).bind fun b74 =>
        (fX5_is E b74 (some (gA E 54)) z65).bind fun z74 =>
        if z74.1 = 0 then (
          fX5_choice_b90 E fS t (some z12.1) z56.1 (some z60.1) z74.2)
        else (
          (gchk z74.2 5 (some t)).bind fun b81 =>
          (fX5_go E b81 z74.2).bind fun z81 =>
          (gchk z81 5 (some t)).bind fun b85 =>
          gcat (fS E b85 z81) (fun z85 =>
            fX5_choice_b90 E fS t (some z12.1) z56.1 z85.1 z85.2)
          (fun y => some (.inr y))))
      (fun y => some (.inr y)))
    (fun y => some (.inr y)))
  (fun y => some (.inr y))
theorem sX5_choice_b90 {p : Program} {l : Launch} {e : Env} {R : Room} {s : State} {m : MethodId} {args : Array Value} {below : List Frame} {meth : Method} {c : Code} {E : g_E} {D : g_D} {fS : g_E → Nat → g_G → Option ((Option Nat × g_G) ⊕ gX)} {fF : Nat} {fL : Nat} (C : gC p R s m args meth c cX5_choice 5 RX5 "choice" (some (.object "SendHall$Step")) (fF + 2) (fL + 100) E D) (hlT : l.stackTraces = false) (htab : c.exceptionTable.toList = []) (hfS : ∀ (l : Launch) (E : g_E) (D : g_D), l.stackTraces = false → ∀ {t : Nat} {G : g_G} {q : (Option Nat × g_G) ⊕ gX}, fS E t G = some q → gMetX l E D yX5_steps (ws_ yX5_steps cX5_steps 3 (some (.object "java/util/ArrayList"))) fF fL [.inr (.inr (some t))] G gokA q) (hF : 200 ≤ fF) (hL : 12000 ≤ fL) : ∀ (t : Nat) (v2 : Option Nat) (v3 : Option Nat) (v4 : Option Nat) (G : g_G) (q : (Option Nat × g_G) ⊕ gX), fX5_choice_b90 E fS t v2 v3 v4 G = some q → ∀ (H : Heap) (locs : List Loc) (cells slots : Nat) (ls : Array Slot), gSt E D G H locs → gls ls 5 [(0, .inr (.inr (some t))), (2, .inr (.inr v2)), (3, .inr (.inr v3)), (4, .inr (.inr v4))] → gTX p l e R s m args below meth c E D H locs cells slots gokA q (F0 m 90 ls []) := by
  obtain ⟨hx, hb, hml, hown, hts, hKn, hRc, hRs, hc1, hc2, hRf, hRl, hr, hlk, hnm⟩ := id C
  intro t v2 v3 v4 G q h H locs cells slots ls hS hl
  unfold fX5_choice_b90 at h
  refine g_aload_n hx hb hl 0 rfl dX5_choice_90 ?_
  refine lv_dup hx hb dX5_choice_91 (by first | exact va_rf_cat _ | rfl | exact g_catA _) ?_
  refine g_rdI hx hb hown hts hKn hS h fd_5_5_5 rfl (Or.inl (hts _ q1238)) (fun _ z => z) dX5_choice_92 (fun x92 h => ?_)
  refine lv_iconst (v := 1) hx hb dX5_choice_95 (by decide) ?_
  refine lv_isub hx hb dX5_choice_96 ?_
  refine g_ptI hx hb hown hts hKn hS h fd_5_5_5 (Or.inl (hts _ q1238)) (fun _ z => z) (fun z => nomatch z) dX5_choice_97 (fun G97 h H locs hS => ?_)
  refine g_aload_n hx hb hl 0 rfl dX5_choice_100 ?_
  refine g_ldcwS (i := 55) hx hb hown hKn (List.mem_of_getElem? (i := 35) rfl) dX5_choice_101 ?_
  obtain ⟨b104, hb104, h⟩ := g_bnd h
  obtain ⟨hr104, hk104⟩ := g_chk hb104
  obtain ⟨o104, h104, ha104, hx104⟩ := g_catE h
  refine g_callVt (n := 1) (b := b104) (av := [.inr (.inr (some (gA E 55)))]) (rs := []) hx hb hml hown hts hKn hRc hRs hS hl (sX5_need l E D hlT h104) (lw_V q1554 q1556 qs37 q136 q1557) ⟨rfl, by decide, by decide, by decide +kernel⟩ ⟨by rw [hRf]; omega, by rw [hRl]; omega⟩ (g_recv hKn hS hk104 (by decide) (by decide)) rfl (by rw [hr104]; rfl) (Nat.le_of_ble_eq_true rfl) dX5_choice_104 (fun z104 e104 H locs cells slots hS => ?_) (fun k104 a104 G104 e104 n1 n2 nk nB H locs cells slots hS => ?_)
  · have h := ha104 _ e104
    refine g_aload_n hx hb hl 0 rfl dX5_choice_107 ?_
    refine g_rdR hx hb hown hts hKn hS h fd_5_5_11 rfl (Or.inl (hts _ q1244)) (fun _ z => z) dX5_choice_108 (fun x108 h => ?_)
    refine g_aload_n hx hb hl 1 rfl dX5_choice_111 ?_
    obtain ⟨b112, hb112, h⟩ := g_bnd h
    obtain ⟨hr112, hk112⟩ := g_chk hb112
    obtain ⟨z112, h112, h⟩ := g_bnd h
    refine g_callV (n := 1) (b := b112) (av := [.inr (.inr v2)]) (rs := []) hx hb hml hown hts hKn hRc hRs hS hl (sJ2_add_2 l E D h112) (lw_V q1462 q1463 q1464 q117 q1465) ⟨rfl, by decide, by decide, by decide +kernel⟩ ⟨by rw [hRf]; omega, by rw [hRl]; omega⟩ (g_recv hKn hS hk112 (by decide) (by decide)) rfl (by rw [hr112]; rfl) (Nat.le_of_ble_eq_true rfl) dX5_choice_112 (fun H locs cells slots hS => ?_)
    refine lv_pop hx hb dX5_choice_115 rfl ?_
    refine g_aload_n hx hb hl 0 rfl dX5_choice_116 ?_
    refine g_rdR hx hb hown hts hKn hS h fd_5_5_12 rfl (Or.inl (hts _ q1245)) (fun _ z => z) dX5_choice_117 (fun x117 h => ?_)
    refine g_aload_n hx hb hl 2 rfl dX5_choice_120 ?_
    obtain ⟨b121, hb121, h⟩ := g_bnd h
    obtain ⟨hr121, hk121⟩ := g_chk hb121
    obtain ⟨z121, h121, h⟩ := g_bnd h
    refine g_callV (n := 1) (b := b121) (av := [.inr (.inr v3)]) (rs := []) hx hb hml hown hts hKn hRc hRs hS hl (sJ2_add_2 l E D h121) (lw_V q1462 q1463 q1464 q117 q1465) ⟨rfl, by decide, by decide, by decide +kernel⟩ ⟨by rw [hRf]; omega, by rw [hRl]; omega⟩ (g_recv hKn hS hk121 (by decide) (by decide)) rfl (by rw [hr121]; rfl) (Nat.le_of_ble_eq_true rfl) dX5_choice_121 (fun H locs cells slots hS => ?_)
    refine lv_pop hx hb dX5_choice_124 rfl ?_
    refine g_aload_n hx hb hl 0 rfl dX5_choice_125 ?_
    refine g_rdR hx hb hown hts hKn hS h fd_5_5_13 rfl (Or.inl (hts _ q1246)) (fun _ z => z) dX5_choice_126 (fun x126 h => ?_)
    refine g_aload hx hb hl 3 rfl dX5_choice_129 ?_
    obtain ⟨b131, hb131, h⟩ := g_bnd h
    obtain ⟨hr131, hk131⟩ := g_chk hb131
    obtain ⟨z131, h131, h⟩ := g_bnd h
    refine g_callV (n := 1) (b := b131) (av := [.inr (.inr v4)]) (rs := []) hx hb hml hown hts hKn hRc hRs hS hl (sJ2_add_2 l E D h131) (lw_V q1462 q1463 q1464 q117 q1465) ⟨rfl, by decide, by decide, by decide +kernel⟩ ⟨by rw [hRf]; omega, by rw [hRl]; omega⟩ (g_recv hKn hS hk131 (by decide) (by decide)) rfl (by rw [hr131]; rfl) (Nat.le_of_ble_eq_true rfl) dX5_choice_131 (fun H locs cells slots hS => ?_)
    refine lv_pop hx hb dX5_choice_134 rfl ?_
    refine g_aload_n hx hb hl 1 rfl dX5_choice_135 ?_
    exact g_retX (g_aretG hx hb hr (by first | exact Or.inl ⟨_, rfl⟩ | exact Or.inr ⟨_, rfl⟩) hlk hKn hRc hRs hS (q := (v2, z131.2)) rfl dX5_choice_136) h rfl
  · have h := hx104 _ e104
    exact g_outX (by rw [htab]; decide) hlk hKn hRc hRs hS n1 n2 nB nk h
theorem sX5_choice (l : Launch) (E : g_E) (D : g_D) (hlT : l.stackTraces = false) {fS : g_E → Nat → g_G → Option ((Option Nat × g_G) ⊕ gX)} {fF : Nat} {fL : Nat} (hfS : ∀ (l : Launch) (E : g_E) (D : g_D), l.stackTraces = false → ∀ {t : Nat} {G : g_G} {q : (Option Nat × g_G) ⊕ gX}, fS E t G = some q → gMetX l E D yX5_steps (ws_ yX5_steps cX5_steps 3 (some (.object "java/util/ArrayList"))) fF fL [.inr (.inr (some t))] G gokA q) (hF : 200 ≤ fF) (hL : 12000 ≤ fL) {t : Nat} {v1 : Int32} {G : g_G} {q : (Option Nat × g_G) ⊕ gX} (h : fX5_choice E fS t v1 G = some q) : gMetX l E D yX5_choice (ws_ yX5_choice cX5_choice 5 (some (.object "SendHall$Step"))) (fF + 2) (fL + 100) [.inr (.inr (some t)), .inl v1] G gokA q := by
  refine gMetX.of (by decide +kernel) (Nat.le_of_ble_eq_true rfl) ?_
  intro p e R s m args below meth c C htab hS ls hl
  have C : gC p R s m args meth c cX5_choice 5 RX5 "choice" (some (.object "SendHall$Step")) (fF + 2) (fL + 100) E D := C
  obtain ⟨hx, hb, hml, hown, hts, hKn, hRc, hRs, hc1, hc2, hRf, hRl, hr, hlk, hnm⟩ := id C
  have hl : gls ls 5 [(0, .inr (.inr (some t))), (1, .inl v1)] := hl
  generalize hH0 : s.heap = H at hS ⊢
  unfold fX5_choice at h
  refine g_aload_n hx hb hl 0 rfl dX5_choice_0 ?_
  refine g_rdR hx hb hown hts hKn hS h fd_5_5_10 rfl (Or.inl (hts _ q1243)) (fun _ z => z) dX5_choice_1 (fun x1 h => ?_)
  refine g_rdR hx hb hown hts hKn hS h fd_2_2_0 rfl (Or.inr ⟨_, gNest_use rfl (hKn.2.2.2.2.1 _ (gNest_in q513 rfl))⟩) (fun _ z => z) dX5_choice_4 (fun x4 h => ?_)
  refine g_null hx hb dX5_choice_7 ?_
  obtain ⟨b8, hb8, h⟩ := g_bnd h
  obtain ⟨hr8, hk8⟩ := g_chk hb8
  obtain ⟨z8, h8, h⟩ := g_bnd h
  refine g_callV (n := 1) (b := b8) (av := [.inr (.inr none)]) (rs := []) hx hb hml hown hts hKn hRc hRs hS hl (sJ2_add_2 l E D h8) (lw_V q1462 q1463 q1464 q117 q1465) ⟨rfl, by decide, by decide, by decide +kernel⟩ ⟨by rw [hRf]; omega, by rw [hRl]; omega⟩ (g_recv hKn hS hk8 (by decide) (by decide)) rfl (by rw [hr8]; rfl) (Nat.le_of_ble_eq_true rfl) dX5_choice_8 (fun H locs cells slots hS => ?_)
  refine lv_pop hx hb dX5_choice_11 rfl ?_
  refine g_newG (k := 14) hx hb hown hts hKn hRc hRs hS h (by decide) (by decide) (hts _ q1652) (hts _ q1653) (hts _ q151) dX5_choice_12 (fun z12 h H locs cells slots hS => ?_)
  refine lv_dup hx hb dX5_choice_15 (by first | exact va_rf_cat _ | rfl | exact g_catA _) ?_
  refine g_iload_n hx hb hl 1 rfl dX5_choice_16 ?_
  refine g_aload_n hx hb hl 0 rfl dX5_choice_17 ?_
  obtain ⟨b18, hb18, h⟩ := g_bnd h
  obtain ⟨hr18, hk18⟩ := g_chk hb18
  obtain ⟨o18, h18, ha18, hx18⟩ := g_catE h
  refine g_callVt (n := 0) (b := b18) (av := []) (rs := [.inl v1, .inr (.inr (some z12.1)), .inr (.inr (some z12.1))]) hx hb hml hown hts hKn hRc hRs hS hl (sT_expr l E D hlT h18) (lw_V q1501 q1503 qs36 q136 q1504) ⟨rfl, by decide, by decide, by decide +kernel⟩ ⟨by rw [hRf]; omega, by rw [hRl]; omega⟩ (g_recv hKn hS hk18 (by decide) (by decide)) rfl (by rw [hr18]; rfl) (Nat.le_of_ble_eq_true rfl) dX5_choice_18 (fun z18 e18 H locs cells slots hS => ?_) (fun k18 a18 G18 e18 n1 n2 nk nB H locs cells slots hS => ?_)
  · have h := ha18 _ e18
    obtain ⟨z21, h21, h⟩ := g_bnd h
    refine g_callI (n := 2) (av := [.inl v1, .inr (.inr z18.1)]) (rs := [.inr (.inr (some z12.1))]) hx hb hml hown hts hKn hRc hRs hS hl (sX16_init l E D h21) (lw_meth q1656) (hts _ q151) (hts _ q1654) (hts _ q1655) rfl ⟨by decide, by decide, by decide +kernel⟩ ⟨by rw [hRf]; omega, by rw [hRl]; omega⟩ rfl rfl (Nat.le_of_ble_eq_true rfl) dX5_choice_21 (fun H locs cells slots hS => ?_)
    refine g_astore_n (l1 := [(2, .inr (.inr (some z12.1))), (0, .inr (.inr (some t))), (1, .inl v1)]) hx hb hl (by decide) rfl dX5_choice_24 (fun ls hl => ?_)
    refine g_aload_n hx hb hl 1 rfl dX5_choice_25 ?_
    refine g_rdR hx hb hown hts hKn hS h fd_5_5_10 rfl (Or.inl (hts _ q1243)) (fun _ z => z) dX5_choice_26 (fun x26 h => ?_)
    refine g_rdR hx hb hown hts hKn hS h fd_2_2_0 rfl (Or.inr ⟨_, gNest_use rfl (hKn.2.2.2.2.1 _ (gNest_in q513 rfl))⟩) (fun _ z => z) dX5_choice_29 (fun x29 h => ?_)
    refine g_iload_n hx hb hl 2 rfl dX5_choice_32 ?_
    refine g_aload_n hx hb hl 0 rfl dX5_choice_33 ?_
    obtain ⟨b34, hb34, h⟩ := g_bnd h
    obtain ⟨hr34, hk34⟩ := g_chk hb34
    obtain ⟨z34, h34, h⟩ := g_bnd h
    refine g_callV (n := 2) (b := b34) (av := [.inl v1, .inr (.inr (some z12.1))]) (rs := []) hx hb hml hown hts hKn hRc hRs hS hl (sJ2_set l E D h34) (lw_V q1673 q1674 q1675 q117 q1676) ⟨rfl, by decide, by decide, by decide +kernel⟩ ⟨by rw [hRf]; omega, by rw [hRl]; omega⟩ (g_recv hKn hS hk34 (by decide) (by decide)) rfl (by rw [hr34]; rfl) (Nat.le_of_ble_eq_true rfl) dX5_choice_34 (fun H locs cells slots hS => ?_)
    refine lv_pop hx hb dX5_choice_37 (by first | exact va_rf_cat _ | rfl | exact g_catA _) ?_
    refine g_aload_n hx hb hl 1 rfl dX5_choice_38 ?_
    refine g_ldcwS (i := 53) hx hb hown hKn (List.mem_of_getElem? (i := 33) rfl) dX5_choice_39 ?_
    obtain ⟨b42, hb42, h⟩ := g_bnd h
    obtain ⟨hr42, hk42⟩ := g_chk hb42
    obtain ⟨o42, h42, ha42, hx42⟩ := g_catE h
    refine g_callVt (n := 1) (b := b42) (av := [.inr (.inr (some (gA E 53)))]) (rs := []) hx hb hml hown hts hKn hRc hRs hS hl (sX5_need l E D hlT h42) (lw_V q1554 q1556 qs37 q136 q1557) ⟨rfl, by decide, by decide, by decide +kernel⟩ ⟨by rw [hRf]; omega, by rw [hRl]; omega⟩ (g_recv hKn hS hk42 (by decide) (by decide)) rfl (by rw [hr42]; rfl) (Nat.le_of_ble_eq_true rfl) dX5_choice_42 (fun z42 e42 H locs cells slots hS => ?_) (fun k42 a42 G42 e42 n1 n2 nk nB H locs cells slots hS => ?_)
    · have h := ha42 _ e42
      refine g_aload_n hx hb hl 1 rfl dX5_choice_45 ?_
      refine lv_dup hx hb dX5_choice_46 (by first | exact va_rf_cat _ | rfl | exact g_catA _) ?_
      refine g_rdI hx hb hown hts hKn hS h fd_5_5_5 rfl (Or.inl (hts _ q1238)) (fun _ z => z) dX5_choice_47 (fun x47 h => ?_)
      refine lv_iconst (v := 1) hx hb dX5_choice_50 (by decide) ?_
      refine lv_iadd hx hb dX5_choice_51 ?_
      refine g_ptI hx hb hown hts hKn hS h fd_5_5_5 (Or.inl (hts _ q1238)) (fun _ z => z) (fun z => nomatch z) dX5_choice_52 (fun G52 h H locs hS => ?_)
      refine g_aload_n hx hb hl 1 rfl dX5_choice_55 ?_
      obtain ⟨b56, hb56, h⟩ := g_bnd h
      obtain ⟨hr56, hk56⟩ := g_chk hb56
      obtain ⟨o56, h56, ha56, hx56⟩ := g_catE h
      refine g_callVt (n := 0) (b := b56) (av := []) (rs := []) hx hb hml hown hts hKn hRc hRs hS hl (hfS l E D hlT h56) (lw_V q1280 q1282 qs26 q136 q1283) ⟨rfl, by decide, by decide, by decide +kernel⟩ ⟨by rw [hRf]; omega, by rw [hRl]; omega⟩ (g_recv hKn hS hk56 (by decide) (by decide)) rfl (by rw [hr56]; rfl) (Nat.le_of_ble_eq_true rfl) dX5_choice_56 (fun z56 e56 H locs cells slots hS => ?_) (fun k56 a56 G56 e56 n1 n2 nk nB H locs cells slots hS => ?_)
      · have h := ha56 _ e56
        refine g_astore_n (l1 := [(3, .inr (.inr z56.1)), (2, .inr (.inr (some z12.1))), (0, .inr (.inr (some t))), (1, .inl v1)]) hx hb hl (by decide) rfl dX5_choice_59 (fun ls hl => ?_)
        refine g_newG (k := 17) hx hb hown hts hKn hRc hRs hS h (by decide) (by decide) (hts _ q1116) (hts _ q171) (hts _ q117) dX5_choice_60 (fun z60 h H locs cells slots hS => ?_)
        refine lv_dup hx hb dX5_choice_63 (by first | exact va_rf_cat _ | rfl | exact g_catA _) ?_
        refine lv_iconst (v := 1) hx hb dX5_choice_64 (by decide) ?_
        obtain ⟨z65, h65, h⟩ := g_bnd h
        refine g_callI (n := 1) (av := [.inl 1]) (rs := [.inr (.inr (some z60.1))]) hx hb hml hown hts hKn hRc hRs hS hl (sJ2_init l E D h65) (lw_meth q174) (hts _ q117) (hts _ q1117) (hts _ q173) rfl ⟨by decide, by decide, by decide +kernel⟩ ⟨by rw [hRf]; omega, by rw [hRl]; omega⟩ rfl rfl (Nat.le_of_ble_eq_true rfl) dX5_choice_65 (fun H locs cells slots hS => ?_)
        refine g_astore (l1 := [(4, .inr (.inr (some z60.1))), (3, .inr (.inr z56.1)), (2, .inr (.inr (some z12.1))), (0, .inr (.inr (some t))), (1, .inl v1)]) hx hb hl (by decide) rfl dX5_choice_68 (fun ls hl => ?_)
        refine g_aload_n hx hb hl 3 rfl dX5_choice_70 ?_
        refine g_ldcwS (i := 54) hx hb hown hKn (List.mem_of_getElem? (i := 34) rfl) dX5_choice_71 ?_
        obtain ⟨b74, hb74, h⟩ := g_bnd h
        obtain ⟨hr74, hk74⟩ := g_chk hb74
        obtain ⟨z74, h74, h⟩ := g_bnd h
        refine g_callV (n := 1) (b := b74) (av := [.inr (.inr (some (gA E 54)))]) (rs := []) hx hb hml hown hts hKn hRc hRs hS hl (sX5_is l E D h74) (lw_V q1483 q1485 qs34 q136 q1486) ⟨rfl, by decide, by decide, by decide +kernel⟩ ⟨by rw [hRf]; omega, by rw [hRl]; omega⟩ (g_recv hKn hS hk74 (by decide) (by decide)) rfl (by rw [hr74]; rfl) (Nat.le_of_ble_eq_true rfl) dX5_choice_74 (fun H locs cells slots hS => ?_)
        refine lv_if_eq (tgt := 90) hx hb dX5_choice_77 (by decide) (fun c_77 => ?_) (fun c_77 => ?_)
        · have h := g_ift c_77 h
          exact sX5_choice_b90 C hlT htab hfS hF hL _ _ _ _ _ _ h _ _ _ _ _ hS (gls_sub hl [3, 2, 1, 0] rfl)
        · have h := g_iff c_77 h
          refine g_aload_n hx hb hl 3 rfl dX5_choice_80 ?_
          obtain ⟨b81, hb81, h⟩ := g_bnd h
          obtain ⟨hr81, hk81⟩ := g_chk hb81
          obtain ⟨z81, h81, h⟩ := g_bnd h
          refine g_callV (n := 0) (b := b81) (av := []) (rs := []) hx hb hml hown hts hKn hRc hRs hS hl (sX5_go l E D h81) (lw_V q1118 q1120 qs24 q136 q1121) ⟨rfl, by decide, by decide, by decide +kernel⟩ ⟨by rw [hRf]; omega, by rw [hRl]; omega⟩ (g_recv hKn hS hk81 (by decide) (by decide)) rfl (by rw [hr81]; rfl) (Nat.le_of_ble_eq_true rfl) dX5_choice_81 (fun H locs cells slots hS => ?_)
          refine g_aload_n hx hb hl 3 rfl dX5_choice_84 ?_
          obtain ⟨b85, hb85, h⟩ := g_bnd h
          obtain ⟨hr85, hk85⟩ := g_chk hb85
          obtain ⟨o85, h85, ha85, hx85⟩ := g_catE h
          refine g_callVt (n := 0) (b := b85) (av := []) (rs := []) hx hb hml hown hts hKn hRc hRs hS hl (hfS l E D hlT h85) (lw_V q1280 q1282 qs26 q136 q1283) ⟨rfl, by decide, by decide, by decide +kernel⟩ ⟨by rw [hRf]; omega, by rw [hRl]; omega⟩ (g_recv hKn hS hk85 (by decide) (by decide)) rfl (by rw [hr85]; rfl) (Nat.le_of_ble_eq_true rfl) dX5_choice_85 (fun z85 e85 H locs cells slots hS => ?_) (fun k85 a85 G85 e85 n1 n2 nk nB H locs cells slots hS => ?_)
          · have h := ha85 _ e85
            refine g_astore (l1 := [(4, .inr (.inr z85.1)), (3, .inr (.inr z56.1)), (2, .inr (.inr (some z12.1))), (0, .inr (.inr (some t))), (1, .inl v1)]) hx hb hl (by decide) rfl dX5_choice_88 (fun ls hl => ?_)
            exact sX5_choice_b90 C hlT htab hfS hF hL _ _ _ _ _ _ h _ _ _ _ _ hS (gls_sub hl [3, 2, 1, 0] rfl)
          · have h := hx85 _ e85
            exact g_outX (by rw [htab]; decide) hlk hKn hRc hRs hS n1 n2 nB nk h
      · have h := hx56 _ e56
        exact g_outX (by rw [htab]; decide) hlk hKn hRc hRs hS n1 n2 nB nk h
    · have h := hx42 _ e42
      exact g_outX (by rw [htab]; decide) hlk hKn hRc hRs hS n1 n2 nB nk h
  · have h := hx18 _ e18
    exact g_outX (by rw [htab]; decide) hlk hKn hRc hRs hS n1 n2 nB nk h
