set_option maxRecDepth 100000
/-- SendHall.rounds()V -/
def fX1_rounds_b123 (E : g_E) : Nat → Nat → (Option Nat) → Int32 → Int32 → g_G → Option (g_G)
  | 0, _, _, _, _, _ => none
  | n + 1, t, v3, v4, v6, G =>
    if v4 ≤ v6 then (
      some G)
    else (
      (grR G 1 1 (some t) 24).bind fun x131 =>
      (grI G 1 1 (some t) 27).bind fun x135 =>
      (gaI G 100 v3 v6).bind fun x141 =>
      (gsaI E G x131 x135 x141).bind fun G142 =>
      (grI G142 1 1 (some t) 27).bind fun x145 =>
      (gpI E G142 1 1 (some t) 27 (x145 + 1)).bind fun G150 =>
      fX1_rounds_b123 E n t v3 v4 (v6 + 1) G150)
def fX1_rounds_b105 (E : g_E) : Nat → Nat → Int32 → (Option Nat) → Int32 → Int32 → g_G → Option (g_G)
  | 0, _, _, _, _, _, _ => none
  | n + 1, t, v2, v3, v4, v5, G =>
    (gaI G 100 v3 v5).bind fun x108 =>
    if x108 = v2 then (
      fX1_rounds_b123 E gFU t v3 v4 v5 G)
    else (
      fX1_rounds_b105 E n t v2 v3 v4 (v5 + 1) G)
def fX1_rounds_b96 (E : g_E) (t : Nat) (v2 : Int32) (v3 : Option Nat) (v4 : Int32) (G : g_G) : Option (g_G) :=
  if ¬ v2 = (-1 : Int32) then (
    fX1_rounds_b105 E gFU t v2 v3 v4 0 G)
  else (
    some G)
def fX1_rounds_b92 (E : g_E) (k40 : Nat → Int32 → Int32 → (Option Nat) → Int32 → g_G → Option (g_G)) (t : Nat) (v1 : Int32) (v3 : Option Nat) (v4 : Int32) (s0 : Int32) (G : g_G) : Option (g_G) :=
  k40 t v1 s0 v3 v4 G
def fX1_rounds_b40 (E : g_E) : Nat → Nat → Int32 → Int32 → (Option Nat) → Int32 → g_G → Option (g_G)
  | 0, _, _, _, _, _, _ => none
  | n + 1, t, v1, v2, v3, v4, G =>
    if v2 = (-1 : Int32) then (
      fX1_rounds_b96 E t v2 v3 v4 G)
    else (
      if ¬ ((v1 >>> (v2 &&& 31)) &&& 1) = 0 then (
        fX1_rounds_b96 E t v2 v3 v4 G)
      else (
        (gsaI E G v3 v4 v2).bind fun G63 =>
        (grR G63 1 1 (some t) 20).bind fun x69 =>
        (gchk G63 1 (some t)).bind fun b73 =>
        (fX1_waitsFor E b73 x69 v2 G63).bind fun z73 =>
        if ¬ z73.1 = 0 then (
          (fJ16_numberOfTrailingZeros E z73.1 z73.2).bind fun z89 =>
          fX1_rounds_b92 E (fX1_rounds_b40 E n) t (v1 ||| (1 <<< (v2 &&& 31))) v3 (v4 + 1) z89.1 z89.2)
        else (
          fX1_rounds_b92 E (fX1_rounds_b40 E n) t (v1 ||| (1 <<< (v2 &&& 31))) v3 (v4 + 1) (-1) z73.2)))
def fX1_rounds_b31 (E : g_E) (t : Nat) (v1 : Int32) (s0 : Int32) (G : g_G) : Option (g_G) :=
  (gnewA E G 100 8).bind fun z34 =>
  fX1_rounds_b40 E gFU t v1 s0 (some z34.1) 0 z34.2
def fX1_rounds (E : g_E) (t : Nat) (G : g_G) : Option (g_G) :=
  (gpI E G 1 1 (some t) 27 0).bind fun G2 =>
  (grR G2 1 1 (some t) 20).bind fun x8 =>
  (gchk G2 3 x8).bind fun b11 =>
  (fX3_bits E b11 G2).bind fun z11 =>
  if ¬ z11.1 = 0 then (
    (grR z11.2 1 1 (some t) 20).bind fun x22 =>
    (gchk z11.2 3 x22).bind fun b25 =>
    (fX3_bits E b25 z11.2).bind fun z25 =>
    (fJ16_numberOfTrailingZeros E z25.1 z25.2).bind fun z28 =>
    fX1_rounds_b31 E t 0 z28.1 z28.2)
  else (
    fX1_rounds_b31 E t 0 (-1) z11.2)
theorem sX1_rounds_b123 {p : Program} {l : Launch} {e : Env} {R : Room} {s : State} {m : MethodId} {args : Array Value} {below : List Frame} {meth : Method} {c : Code} {E : g_E} {D : g_D} (C : gC p R s m args meth c cX1_rounds 7 RX1 "rounds" (none) 220 7351 E D) : ∀ (n : Nat) (t : Nat) (v3 : Option Nat) (v4 : Int32) (v6 : Int32) (G : g_G) (q : g_G), fX1_rounds_b123 E n t v3 v4 v6 G = some q → ∀ (H : Heap) (locs : List Loc) (cells slots : Nat) (ls : Array Slot), gSt E D G H locs → gls ls 7 [(0, .inr (.inr (some t))), (3, .inr (.inr v3)), (4, .inl v4), (6, .inl v6)] → gT p l e R s m args below meth c E D H locs cells slots none q (F0 m 123 ls []) := by
  obtain ⟨hx, hb, hml, hown, hts, hKn, hRc, hRs, hc1, hc2, hRf, hRl, hr, hlk, hnm⟩ := id C
  intro n
  induction n with
  | zero =>
    intro t v3 v4 v6 G q h
    exact g_no h
  | succ n ih =>
    intro t v3 v4 v6 G q h H locs cells slots ls hS hl
    rw [fX1_rounds_b123] at h
    refine g_iload hx hb hl 3 rfl dX1_rounds_123 ?_
    refine g_iload hx hb hl 2 rfl dX1_rounds_125 ?_
    refine lv_icmp_ge (tgt := 159) hx hb dX1_rounds_127 (by decide) (fun c_127 => ?_) (fun c_127 => ?_)
    · have h := g_ift c_127 h
      exact g_vretG hx hb hr hlk hKn hRc hRs hS h dX1_rounds_159
    · have h := g_iff c_127 h
      refine g_aload_n hx hb hl 0 rfl dX1_rounds_130 ?_
      refine g_rdR hx hb hown hts hKn hS h fd_1_1_24 rfl (Or.inl (hts _ q621)) (fun _ z => z) dX1_rounds_131 (fun x131 h => ?_)
      refine g_aload_n hx hb hl 0 rfl dX1_rounds_134 ?_
      refine g_rdI hx hb hown hts hKn hS h fd_1_1_27 rfl (Or.inl (hts _ q624)) (fun _ z => z) dX1_rounds_135 (fun x135 h => ?_)
      refine g_aload_n hx hb hl 1 rfl dX1_rounds_138 ?_
      refine g_iload hx hb hl 3 rfl dX1_rounds_139 ?_
      refine g_ialoadG hx hb hKn hS h dX1_rounds_141 (fun x141 h => ?_)
      refine g_iastoreG hx hb hKn hS h dX1_rounds_142 (fun G142 h H locs hS => ?_)
      refine g_aload_n hx hb hl 0 rfl dX1_rounds_143 ?_
      refine lv_dup hx hb dX1_rounds_144 (by first | exact va_rf_cat _ | rfl | exact g_catA _) ?_
      refine g_rdI hx hb hown hts hKn hS h fd_1_1_27 rfl (Or.inl (hts _ q624)) (fun _ z => z) dX1_rounds_145 (fun x145 h => ?_)
      refine lv_iconst (v := 1) hx hb dX1_rounds_148 (by decide) ?_
      refine lv_iadd hx hb dX1_rounds_149 ?_
      refine g_ptI hx hb hown hts hKn hS h fd_1_1_27 (Or.inl (hts _ q624)) (fun _ z => z) (fun z => nomatch z) dX1_rounds_150 (fun G150 h H locs hS => ?_)
      refine g_iinc (l1 := [(6, .inl (v6 + 1)), (0, .inr (.inr (some t))), (3, .inr (.inr v3)), (4, .inl v4)]) (v := (v6 + 1)) hx hb hl (k := 3) rfl (by rfl) (by decide) rfl dX1_rounds_153 (fun ls hl => ?_)
      refine lv_goto (tgt := 123) hx hb dX1_rounds_156 (by decide) ?_
      exact ih _ _ _ _ _ _ h _ _ _ _ _ hS (gls_sub hl [1, 2, 3, 0] rfl)
theorem sX1_rounds_b105 {p : Program} {l : Launch} {e : Env} {R : Room} {s : State} {m : MethodId} {args : Array Value} {below : List Frame} {meth : Method} {c : Code} {E : g_E} {D : g_D} (C : gC p R s m args meth c cX1_rounds 7 RX1 "rounds" (none) 220 7351 E D) : ∀ (n : Nat) (t : Nat) (v2 : Int32) (v3 : Option Nat) (v4 : Int32) (v5 : Int32) (G : g_G) (q : g_G), fX1_rounds_b105 E n t v2 v3 v4 v5 G = some q → ∀ (H : Heap) (locs : List Loc) (cells slots : Nat) (ls : Array Slot), gSt E D G H locs → gls ls 7 [(0, .inr (.inr (some t))), (2, .inl v2), (3, .inr (.inr v3)), (4, .inl v4), (5, .inl v5)] → gT p l e R s m args below meth c E D H locs cells slots none q (F0 m 105 ls []) := by
  obtain ⟨hx, hb, hml, hown, hts, hKn, hRc, hRs, hc1, hc2, hRf, hRl, hr, hlk, hnm⟩ := id C
  intro n
  induction n with
  | zero =>
    intro t v2 v3 v4 v5 G q h
    exact g_no h
  | succ n ih =>
    intro t v2 v3 v4 v5 G q h H locs cells slots ls hS hl
    rw [fX1_rounds_b105] at h
    refine g_aload_n hx hb hl 2 rfl dX1_rounds_105 ?_
    refine g_iload hx hb hl 4 rfl dX1_rounds_106 ?_
    refine g_ialoadG hx hb hKn hS h dX1_rounds_108 (fun x108 h => ?_)
    refine g_iload_n hx hb hl 1 rfl dX1_rounds_109 ?_
    refine lv_icmp_eq (tgt := 119) hx hb dX1_rounds_110 (by decide) (fun c_110 => ?_) (fun c_110 => ?_)
    · have h := g_ift c_110 h
      refine g_iload hx hb hl 4 rfl dX1_rounds_119 ?_
      refine g_istore (l1 := [(6, .inl v5), (0, .inr (.inr (some t))), (2, .inl v2), (3, .inr (.inr v3)), (4, .inl v4), (5, .inl v5)]) hx hb hl (by decide) rfl dX1_rounds_121 (fun ls hl => ?_)
      exact sX1_rounds_b123 C gFU _ _ _ _ _ _ h _ _ _ _ _ hS (gls_sub hl [1, 3, 4, 0] rfl)
    · have h := g_iff c_110 h
      refine g_iinc (l1 := [(5, .inl (v5 + 1)), (0, .inr (.inr (some t))), (2, .inl v2), (3, .inr (.inr v3)), (4, .inl v4)]) (v := (v5 + 1)) hx hb hl (k := 4) rfl (by rfl) (by decide) rfl dX1_rounds_113 (fun ls hl => ?_)
      refine lv_goto (tgt := 105) hx hb dX1_rounds_116 (by decide) ?_
      exact ih _ _ _ _ _ _ _ h _ _ _ _ _ hS (gls_sub hl [1, 2, 3, 4, 0] rfl)
theorem sX1_rounds_b96 {p : Program} {l : Launch} {e : Env} {R : Room} {s : State} {m : MethodId} {args : Array Value} {below : List Frame} {meth : Method} {c : Code} {E : g_E} {D : g_D} (C : gC p R s m args meth c cX1_rounds 7 RX1 "rounds" (none) 220 7351 E D) : ∀ (t : Nat) (v2 : Int32) (v3 : Option Nat) (v4 : Int32) (G : g_G) (q : g_G), fX1_rounds_b96 E t v2 v3 v4 G = some q → ∀ (H : Heap) (locs : List Loc) (cells slots : Nat) (ls : Array Slot), gSt E D G H locs → gls ls 7 [(0, .inr (.inr (some t))), (2, .inl v2), (3, .inr (.inr v3)), (4, .inl v4)] → gT p l e R s m args below meth c E D H locs cells slots none q (F0 m 96 ls []) := by
  obtain ⟨hx, hb, hml, hown, hts, hKn, hRc, hRs, hc1, hc2, hRf, hRl, hr, hlk, hnm⟩ := id C
  intro t v2 v3 v4 G q h H locs cells slots ls hS hl
  unfold fX1_rounds_b96 at h
  refine g_iload_n hx hb hl 1 rfl dX1_rounds_96 ?_
  refine lv_iconst (v := (-1)) hx hb dX1_rounds_97 (by decide) ?_
  refine lv_icmp_ne (tgt := 102) hx hb dX1_rounds_98 (by decide) (fun c_98 => ?_) (fun c_98 => ?_)
  · have h := g_ift c_98 h
    refine lv_iconst (v := 0) hx hb dX1_rounds_102 (by decide) ?_
    refine g_istore (l1 := [(5, .inl 0), (0, .inr (.inr (some t))), (2, .inl v2), (3, .inr (.inr v3)), (4, .inl v4)]) hx hb hl (by decide) rfl dX1_rounds_103 (fun ls hl => ?_)
    exact sX1_rounds_b105 C gFU _ _ _ _ _ _ _ h _ _ _ _ _ hS (gls_sub hl [1, 2, 3, 4, 0] rfl)
  · have h := g_iff (fun z => z c_98) h
    exact g_vretG hx hb hr hlk hKn hRc hRs hS h dX1_rounds_101
theorem sX1_rounds_b92 {p : Program} {l : Launch} {e : Env} {R : Room} {s : State} {m : MethodId} {args : Array Value} {below : List Frame} {meth : Method} {c : Code} {E : g_E} {D : g_D} (C : gC p R s m args meth c cX1_rounds 7 RX1 "rounds" (none) 220 7351 E D) {k40 : Nat → Int32 → Int32 → (Option Nat) → Int32 → g_G → Option (g_G)} (hk40 : ∀ (t : Nat) (v1 : Int32) (v2 : Int32) (v3 : Option Nat) (v4 : Int32) (G : g_G) (q : g_G), k40 t v1 v2 v3 v4 G = some q → ∀ (H : Heap) (locs : List Loc) (cells slots : Nat) (ls : Array Slot), gSt E D G H locs → gls ls 7 [(0, .inr (.inr (some t))), (1, .inl v1), (2, .inl v2), (3, .inr (.inr v3)), (4, .inl v4)] → gT p l e R s m args below meth c E D H locs cells slots none q (F0 m 40 ls [])) : ∀ (t : Nat) (v1 : Int32) (v3 : Option Nat) (v4 : Int32) (s0 : Int32) (G : g_G) (q : g_G), fX1_rounds_b92 E k40 t v1 v3 v4 s0 G = some q → ∀ (H : Heap) (locs : List Loc) (cells slots : Nat) (ls : Array Slot), gSt E D G H locs → gls ls 7 [(0, .inr (.inr (some t))), (1, .inl v1), (3, .inr (.inr v3)), (4, .inl v4)] → gT p l e R s m args below meth c E D H locs cells slots none q (F0 m 92 ls [.int s0]) := by
  obtain ⟨hx, hb, hml, hown, hts, hKn, hRc, hRs, hc1, hc2, hRf, hRl, hr, hlk, hnm⟩ := id C
  intro t v1 v3 v4 s0 G q h H locs cells slots ls hS hl
  unfold fX1_rounds_b92 at h
  refine g_istore_n (l1 := [(2, .inl s0), (0, .inr (.inr (some t))), (1, .inl v1), (3, .inr (.inr v3)), (4, .inl v4)]) hx hb hl (by decide) rfl dX1_rounds_92 (fun ls hl => ?_)
  refine lv_goto (tgt := 40) hx hb dX1_rounds_93 (by decide) ?_
  exact hk40 _ _ _ _ _ _ _ h _ _ _ _ _ hS (gls_sub hl [1, 2, 0, 3, 4] rfl)
theorem sX1_rounds_b40 {p : Program} {l : Launch} {e : Env} {R : Room} {s : State} {m : MethodId} {args : Array Value} {below : List Frame} {meth : Method} {c : Code} {E : g_E} {D : g_D} (C : gC p R s m args meth c cX1_rounds 7 RX1 "rounds" (none) 220 7351 E D) : ∀ (n : Nat) (t : Nat) (v1 : Int32) (v2 : Int32) (v3 : Option Nat) (v4 : Int32) (G : g_G) (q : g_G), fX1_rounds_b40 E n t v1 v2 v3 v4 G = some q → ∀ (H : Heap) (locs : List Loc) (cells slots : Nat) (ls : Array Slot), gSt E D G H locs → gls ls 7 [(0, .inr (.inr (some t))), (1, .inl v1), (2, .inl v2), (3, .inr (.inr v3)), (4, .inl v4)] → gT p l e R s m args below meth c E D H locs cells slots none q (F0 m 40 ls []) := by
  obtain ⟨hx, hb, hml, hown, hts, hKn, hRc, hRs, hc1, hc2, hRf, hRl, hr, hlk, hnm⟩ := id C
  intro n
  induction n with
  | zero =>
    intro t v1 v2 v3 v4 G q h
    exact g_no h
  | succ n ih =>
    intro t v1 v2 v3 v4 G q h H locs cells slots ls hS hl
    rw [fX1_rounds_b40] at h
    refine g_iload_n hx hb hl 2 rfl dX1_rounds_40 ?_
    refine lv_iconst (v := (-1)) hx hb dX1_rounds_41 (by decide) ?_
    refine lv_icmp_eq (tgt := 96) hx hb dX1_rounds_42 (by decide) (fun c_42 => ?_) (fun c_42 => ?_)
    · have h := g_ift c_42 h
      exact sX1_rounds_b96 C _ _ _ _ _ _ h _ _ _ _ _ hS (gls_sub hl [0, 2, 3, 4] rfl)
    · have h := g_iff c_42 h
      refine g_iload_n hx hb hl 1 rfl dX1_rounds_45 ?_
      refine g_iload_n hx hb hl 2 rfl dX1_rounds_46 ?_
      refine lv_ishr hx hb dX1_rounds_47 ?_
      refine lv_iconst (v := 1) hx hb dX1_rounds_48 (by decide) ?_
      refine lv_iand hx hb dX1_rounds_49 ?_
      refine lv_if_ne (tgt := 96) hx hb dX1_rounds_50 (by decide) (fun c_50 => ?_) (fun c_50 => ?_)
      · have h := g_ift c_50 h
        exact sX1_rounds_b96 C _ _ _ _ _ _ h _ _ _ _ _ hS (gls_sub hl [0, 2, 3, 4] rfl)
      · have h := g_iff (fun z => z c_50) h
        refine g_iload_n hx hb hl 1 rfl dX1_rounds_53 ?_
        refine lv_iconst (v := 1) hx hb dX1_rounds_54 (by decide) ?_
        refine g_iload_n hx hb hl 2 rfl dX1_rounds_55 ?_
        refine lv_ishl hx hb dX1_rounds_56 ?_
        refine lv_ior hx hb dX1_rounds_57 ?_
        refine g_istore_n (l1 := [(1, .inl (v1 ||| (1 <<< (v2 &&& 31)))), (0, .inr (.inr (some t))), (2, .inl v2), (3, .inr (.inr v3)), (4, .inl v4)]) hx hb hl (by decide) rfl dX1_rounds_58 (fun ls hl => ?_)
        refine g_aload_n hx hb hl 3 rfl dX1_rounds_59 ?_
        refine g_iload hx hb hl 4 rfl dX1_rounds_60 ?_
        refine g_iload_n hx hb hl 2 rfl dX1_rounds_62 ?_
        refine g_iastoreG hx hb hKn hS h dX1_rounds_63 (fun G63 h H locs hS => ?_)
        refine g_iinc (l1 := [(4, .inl (v4 + 1)), (1, .inl (v1 ||| (1 <<< (v2 &&& 31)))), (0, .inr (.inr (some t))), (2, .inl v2), (3, .inr (.inr v3))]) (v := (v4 + 1)) hx hb hl (k := 4) rfl (by rfl) (by decide) rfl dX1_rounds_64 (fun ls hl => ?_)
        refine g_aload_n hx hb hl 2 rfl dX1_rounds_67 ?_
        refine g_aload_n hx hb hl 2 rfl dX1_rounds_68 ?_
        refine g_rdR hx hb hown hts hKn hS h fd_1_1_20 rfl (Or.inl (hts _ q617)) (fun _ z => z) dX1_rounds_69 (fun x69 h => ?_)
        refine g_iload_n hx hb hl 3 rfl dX1_rounds_72 ?_
        obtain ⟨b73, hb73, h⟩ := g_bnd h
        obtain ⟨hr73, hk73⟩ := g_chk hb73
        obtain ⟨z73, h73, h⟩ := g_bnd h
        refine g_callV (n := 2) (b := b73) (av := [.inr (.inr x69), .inl v2]) (rs := []) hx hb hml hown hts hKn hRc hRs hS hl (sX1_waitsFor l E D h73) (lw_V q1806 q1808 qs47 q113 q1809) ⟨rfl, by decide, by decide, by decide +kernel⟩ ⟨by rw [hRf]; exact Nat.le_of_ble_eq_true rfl, by rw [hRl]; exact Nat.le_of_ble_eq_true rfl⟩ (g_recv hKn hS hk73 (by decide) (by decide)) rfl (by rw [hr73]; rfl) (Nat.le_of_ble_eq_true rfl) dX1_rounds_73 (fun H locs cells slots hS => ?_)
        refine g_istore (l1 := [(5, .inl z73.1), (4, .inl (v4 + 1)), (1, .inl (v1 ||| (1 <<< (v2 &&& 31)))), (0, .inr (.inr (some t))), (2, .inl v2), (3, .inr (.inr v3))]) hx hb hl (by decide) rfl dX1_rounds_76 (fun ls hl => ?_)
        refine g_iload hx hb hl 0 rfl dX1_rounds_78 ?_
        refine lv_if_ne (tgt := 87) hx hb dX1_rounds_80 (by decide) (fun c_80 => ?_) (fun c_80 => ?_)
        · have h := g_ift c_80 h
          refine g_iload hx hb hl 0 rfl dX1_rounds_87 ?_
          obtain ⟨z89, h89, h⟩ := g_bnd h
          refine g_callS (n := 1) (av := [.inl z73.1]) (rs := []) hx hb hml hown hts hKn hRc hRs hS hl (sJ16_numberOfTrailingZeros l E D h89) (lw_S q1798 q1799 q133 q1800) ⟨by decide, by decide, by decide +kernel⟩ ⟨by rw [hRf]; exact Nat.le_of_ble_eq_true rfl, by rw [hRl]; exact Nat.le_of_ble_eq_true rfl⟩ rfl rfl (Nat.le_of_ble_eq_true rfl) dX1_rounds_89 (fun H locs cells slots hS => ?_)
          exact sX1_rounds_b92 C ih _ _ _ _ _ _ _ h _ _ _ _ _ hS (gls_sub hl [3, 2, 5, 1] rfl)
        · have h := g_iff (fun z => z c_80) h
          refine lv_iconst (v := (-1)) hx hb dX1_rounds_83 (by decide) ?_
          refine lv_goto (tgt := 92) hx hb dX1_rounds_84 (by decide) ?_
          exact sX1_rounds_b92 C ih _ _ _ _ _ _ _ h _ _ _ _ _ hS (gls_sub hl [3, 2, 5, 1] rfl)
theorem sX1_rounds_b31 {p : Program} {l : Launch} {e : Env} {R : Room} {s : State} {m : MethodId} {args : Array Value} {below : List Frame} {meth : Method} {c : Code} {E : g_E} {D : g_D} (C : gC p R s m args meth c cX1_rounds 7 RX1 "rounds" (none) 220 7351 E D) : ∀ (t : Nat) (v1 : Int32) (s0 : Int32) (G : g_G) (q : g_G), fX1_rounds_b31 E t v1 s0 G = some q → ∀ (H : Heap) (locs : List Loc) (cells slots : Nat) (ls : Array Slot), gSt E D G H locs → gls ls 7 [(0, .inr (.inr (some t))), (1, .inl v1)] → gT p l e R s m args below meth c E D H locs cells slots none q (F0 m 31 ls [.int s0]) := by
  obtain ⟨hx, hb, hml, hown, hts, hKn, hRc, hRs, hc1, hc2, hRf, hRl, hr, hlk, hnm⟩ := id C
  intro t v1 s0 G q h H locs cells slots ls hS hl
  unfold fX1_rounds_b31 at h
  refine g_istore_n (l1 := [(2, .inl s0), (0, .inr (.inr (some t))), (1, .inl v1)]) hx hb hl (by decide) rfl dX1_rounds_31 (fun ls hl => ?_)
  refine lv_bipush (v := 8) hx hb dX1_rounds_32 (by decide) ?_
  refine g_newaG (k := 100) (atype := .int) hx hb hKn hRc hRs hS h (by decide) rfl (hts _ q596) dX1_rounds_34 (fun z34 h H locs cells slots hS => ?_)
  refine g_astore_n (l1 := [(3, .inr (.inr (some z34.1))), (2, .inl s0), (0, .inr (.inr (some t))), (1, .inl v1)]) hx hb hl (by decide) rfl dX1_rounds_36 (fun ls hl => ?_)
  refine lv_iconst (v := 0) hx hb dX1_rounds_37 (by decide) ?_
  refine g_istore (l1 := [(4, .inl 0), (3, .inr (.inr (some z34.1))), (2, .inl s0), (0, .inr (.inr (some t))), (1, .inl v1)]) hx hb hl (by decide) rfl dX1_rounds_38 (fun ls hl => ?_)
  exact sX1_rounds_b40 C gFU _ _ _ _ _ _ _ h _ _ _ _ _ hS (gls_sub hl [3, 4, 2, 1, 0] rfl)
theorem sX1_rounds (l : Launch) (E : g_E) (D : g_D) {t : Nat} {G : g_G} {q : g_G} (h : fX1_rounds E t G = some q) : gMet l E D yX1_rounds (ws_ yX1_rounds cX1_rounds 7 (none)) 220 7351 [.inr (.inr (some t))] G none q := by
  refine gMet.of (by decide +kernel) (Nat.le_of_ble_eq_true rfl) ?_
  intro p e R s m args below meth c C hS ls hl
  have C : gC p R s m args meth c cX1_rounds 7 RX1 "rounds" (none) 220 7351 E D := C
  obtain ⟨hx, hb, hml, hown, hts, hKn, hRc, hRs, hc1, hc2, hRf, hRl, hr, hlk, hnm⟩ := id C
  have hl : gls ls 7 [(0, .inr (.inr (some t)))] := hl
  generalize s.heap = H at hS ⊢
  unfold fX1_rounds at h
  refine g_aload_n hx hb hl 0 rfl dX1_rounds_0 ?_
  refine lv_iconst (v := 0) hx hb dX1_rounds_1 (by decide) ?_
  refine g_ptI hx hb hown hts hKn hS h fd_1_1_27 (Or.inl (hts _ q624)) (fun _ z => z) (fun z => nomatch z) dX1_rounds_2 (fun G2 h H locs hS => ?_)
  refine lv_iconst (v := 0) hx hb dX1_rounds_5 (by decide) ?_
  refine g_istore_n (l1 := [(1, .inl 0), (0, .inr (.inr (some t)))]) hx hb hl (by decide) rfl dX1_rounds_6 (fun ls hl => ?_)
  refine g_aload_n hx hb hl 1 rfl dX1_rounds_7 ?_
  refine g_rdR hx hb hown hts hKn hS h fd_1_1_20 rfl (Or.inl (hts _ q617)) (fun _ z => z) dX1_rounds_8 (fun x8 h => ?_)
  obtain ⟨b11, hb11, h⟩ := g_bnd h
  obtain ⟨hr11, hk11⟩ := g_chk hb11
  obtain ⟨z11, h11, h⟩ := g_bnd h
  refine g_callV (n := 0) (b := b11) (av := []) (rs := []) hx hb hml hown hts hKn hRc hRs hS hl (sX3_bits l E D h11) (lw_V q994 q990 q991 q134 q992) ⟨rfl, by decide, by decide, by decide +kernel⟩ ⟨by rw [hRf]; exact Nat.le_of_ble_eq_true rfl, by rw [hRl]; exact Nat.le_of_ble_eq_true rfl⟩ (g_recv hKn hS hk11 (by decide) (by decide)) rfl (by rw [hr11]; rfl) (Nat.le_of_ble_eq_true rfl) dX1_rounds_11 (fun H locs cells slots hS => ?_)
  refine lv_if_ne (tgt := 21) hx hb dX1_rounds_14 (by decide) (fun c_14 => ?_) (fun c_14 => ?_)
  · have h := g_ift c_14 h
    refine g_aload_n hx hb hl 1 rfl dX1_rounds_21 ?_
    refine g_rdR hx hb hown hts hKn hS h fd_1_1_20 rfl (Or.inl (hts _ q617)) (fun _ z => z) dX1_rounds_22 (fun x22 h => ?_)
    obtain ⟨b25, hb25, h⟩ := g_bnd h
    obtain ⟨hr25, hk25⟩ := g_chk hb25
    obtain ⟨z25, h25, h⟩ := g_bnd h
    refine g_callV (n := 0) (b := b25) (av := []) (rs := []) hx hb hml hown hts hKn hRc hRs hS hl (sX3_bits l E D h25) (lw_V q994 q990 q991 q134 q992) ⟨rfl, by decide, by decide, by decide +kernel⟩ ⟨by rw [hRf]; exact Nat.le_of_ble_eq_true rfl, by rw [hRl]; exact Nat.le_of_ble_eq_true rfl⟩ (g_recv hKn hS hk25 (by decide) (by decide)) rfl (by rw [hr25]; rfl) (Nat.le_of_ble_eq_true rfl) dX1_rounds_25 (fun H locs cells slots hS => ?_)
    obtain ⟨z28, h28, h⟩ := g_bnd h
    refine g_callS (n := 1) (av := [.inl z25.1]) (rs := []) hx hb hml hown hts hKn hRc hRs hS hl (sJ16_numberOfTrailingZeros l E D h28) (lw_S q1798 q1799 q133 q1800) ⟨by decide, by decide, by decide +kernel⟩ ⟨by rw [hRf]; exact Nat.le_of_ble_eq_true rfl, by rw [hRl]; exact Nat.le_of_ble_eq_true rfl⟩ rfl rfl (Nat.le_of_ble_eq_true rfl) dX1_rounds_28 (fun H locs cells slots hS => ?_)
    exact sX1_rounds_b31 C _ _ _ _ _ h _ _ _ _ _ hS (gls_sub hl [1, 0] rfl)
  · have h := g_iff (fun z => z c_14) h
    refine lv_iconst (v := (-1)) hx hb dX1_rounds_17 (by decide) ?_
    refine lv_goto (tgt := 31) hx hb dX1_rounds_18 (by decide) ?_
    exact sX1_rounds_b31 C _ _ _ _ _ h _ _ _ _ _ hS (gls_sub hl [1, 0] rfl)
/-- SendHall.together(LSendHall$Life;I)V -/
def fX1_together_b132 (E : g_E) (k70 : Nat → (Option Nat) → Int32 → Int32 → Int32 → Int32 → g_G → Option (g_G)) (t : Nat) (v1 : Option Nat) (v2 : Int32) (v3 : Int32) (v4 : Int32) (v5 : Int32) (v6 : Option Nat) (G : g_G) : Option (g_G) :=
  (grR G 11 11 v6 2).bind fun x138 =>
  (gchk G 1 (some t)).bind fun b141 =>
  (fX1_goes E b141 v1 v5 x138 G).bind fun z141 =>
  k70 t v1 v2 v3 v4 (v5 + 1) z141
def fX1_together_b70 (E : g_E) : Nat → Nat → (Option Nat) → Int32 → Int32 → Int32 → Int32 → g_G → Option (g_G)
  | 0, _, _, _, _, _, _, _ => none
  | n + 1, t, v1, v2, v3, v4, v5, G =>
    (grI G 3 3 v1 0).bind fun x73 =>
    if x73 ≤ v5 then (
      some G)
    else (
      (grR G 3 3 v1 3).bind fun x80 =>
      (gaR G 122 x80 v5).bind fun x85 =>
      (gcast G 11 11 x85).bind fun x86 =>
      (gchk G 1 (some t)).bind fun b96 =>
      (fX1_clocks E b96 v5 v4 G).bind fun z96 =>
      (grR z96 1 1 (some t) 6).bind fun x100 =>
      (gaI z96 100 x100 v5).bind fun x106 =>
      (gsaI E z96 x100 v5 (x106 + 1)).bind fun G109 =>
      if ¬ v2 = (7 : Int32) then (
        fX1_together_b132 E (fX1_together_b70 E n) t v1 v2 v3 v4 v5 x86 G109)
      else (
        (grR G109 3 3 v1 5).bind fun x117 =>
        (grI G109 11 11 x86 4).bind fun x126 =>
        (gsaI E G109 x117 ((4 * v5) + x126) v3).bind fun G131 =>
        fX1_together_b132 E (fX1_together_b70 E n) t v1 v2 v3 v4 v5 x86 G131))
def fX1_together_b47 (E : g_E) (k8 : Nat → (Option Nat) → Int32 → Int32 → Int32 → Int32 → g_G → Option (g_G)) (t : Nat) (v1 : Option Nat) (v2 : Int32) (v3 : Int32) (v4 : Int32) (v5 : Int32) (G : g_G) : Option (g_G) :=
  (grR G 1 1 (some t) 6).bind fun x50 =>
  (gaI G 100 x50 v5).bind fun x55 =>
  k8 t v1 v2 v3 (if v4 < x55 then x55 else v4) (v5 + 1) G
def fX1_together_b8 (E : g_E) : Nat → Nat → (Option Nat) → Int32 → Int32 → Int32 → Int32 → g_G → Option (g_G)
  | 0, _, _, _, _, _, _, _ => none
  | n + 1, t, v1, v2, v3, v4, v5, G =>
    (grI G 3 3 v1 0).bind fun x11 =>
    if x11 ≤ v5 then (
      fX1_together_b70 E gFU t v1 v2 v3 v4 0 G)
    else (
      if ¬ v2 = (7 : Int32) then (
        fX1_together_b47 E (fX1_together_b8 E n) t v1 v2 v3 v4 v5 G)
      else (
        (grR G 3 3 v1 3).bind fun x25 =>
        (gaR G 122 x25 v5).bind fun x30 =>
        (gcast G 11 11 x30).bind fun x31 =>
        (grR G 11 11 x31 3).bind fun x34 =>
        (fI_value E gDP x34 v1 v5 G).bind fun z40 =>
        fX1_together_b47 E (fX1_together_b8 E n) t v1 v2 (v3 + z40.1) v4 v5 z40.2))
def fX1_together (E : g_E) (t : Nat) (v1 : Option Nat) (v2 : Int32) (G : g_G) : Option (g_G) :=
  fX1_together_b8 E gFU t v1 v2 0 0 0 G
theorem sX1_together_b132 {p : Program} {l : Launch} {e : Env} {R : Room} {s : State} {m : MethodId} {args : Array Value} {below : List Frame} {meth : Method} {c : Code} {E : g_E} {D : g_D} (C : gC p R s m args meth c cX1_together 7 RX1 "together" (none) 221 7381 E D) {k70 : Nat → (Option Nat) → Int32 → Int32 → Int32 → Int32 → g_G → Option (g_G)} (hk70 : ∀ (t : Nat) (v1 : Option Nat) (v2 : Int32) (v3 : Int32) (v4 : Int32) (v5 : Int32) (G : g_G) (q : g_G), k70 t v1 v2 v3 v4 v5 G = some q → ∀ (H : Heap) (locs : List Loc) (cells slots : Nat) (ls : Array Slot), gSt E D G H locs → gls ls 7 [(0, .inr (.inr (some t))), (1, .inr (.inr v1)), (2, .inl v2), (3, .inl v3), (4, .inl v4), (5, .inl v5)] → gT p l e R s m args below meth c E D H locs cells slots none q (F0 m 70 ls [])) : ∀ (t : Nat) (v1 : Option Nat) (v2 : Int32) (v3 : Int32) (v4 : Int32) (v5 : Int32) (v6 : Option Nat) (G : g_G) (q : g_G), fX1_together_b132 E k70 t v1 v2 v3 v4 v5 v6 G = some q → ∀ (H : Heap) (locs : List Loc) (cells slots : Nat) (ls : Array Slot), gSt E D G H locs → gls ls 7 [(0, .inr (.inr (some t))), (1, .inr (.inr v1)), (2, .inl v2), (3, .inl v3), (4, .inl v4), (5, .inl v5), (6, .inr (.inr v6))] → gT p l e R s m args below meth c E D H locs cells slots none q (F0 m 132 ls []) := by
  obtain ⟨hx, hb, hml, hown, hts, hKn, hRc, hRs, hc1, hc2, hRf, hRl, hr, hlk, hnm⟩ := id C
  intro t v1 v2 v3 v4 v5 v6 G q h H locs cells slots ls hS hl
  unfold fX1_together_b132 at h
  refine g_aload_n hx hb hl 0 rfl dX1_together_132 ?_
  refine g_aload_n hx hb hl 1 rfl dX1_together_133 ?_
  refine g_iload hx hb hl 5 rfl dX1_together_134 ?_
  refine g_aload hx hb hl 6 rfl dX1_together_136 ?_
  refine g_rdR hx hb hown hts hKn hS h fd_11_11_2 rfl (Or.inl (hts _ q1439)) (u_same (hts _ q1440)) dX1_together_138 (fun x138 h => ?_)
  obtain ⟨b141, hb141, h⟩ := g_bnd h
  obtain ⟨hr141, hk141⟩ := g_chk hb141
  obtain ⟨z141, h141, h⟩ := g_bnd h
  refine g_callV (n := 3) (b := b141) (av := [.inr (.inr v1), .inl v5, .inr (.inr x138)]) (rs := []) hx hb hml hown hts hKn hRc hRs hS hl (sX1_goes l E D h141) (lw_V q732 q734 qs5 q113 q735) ⟨rfl, by decide, by decide, by decide +kernel⟩ ⟨by rw [hRf]; exact Nat.le_of_ble_eq_true rfl, by rw [hRl]; exact Nat.le_of_ble_eq_true rfl⟩ (g_recv hKn hS hk141 (by decide) (by decide)) rfl (by rw [hr141]; rfl) (Nat.le_of_ble_eq_true rfl) dX1_together_141 (fun H locs cells slots hS => ?_)
  refine g_iinc (l1 := [(5, .inl (v5 + 1)), (0, .inr (.inr (some t))), (1, .inr (.inr v1)), (2, .inl v2), (3, .inl v3), (4, .inl v4), (6, .inr (.inr v6))]) (v := (v5 + 1)) hx hb hl (k := 5) rfl (by rfl) (by decide) rfl dX1_together_144 (fun ls hl => ?_)
  refine lv_goto (tgt := 70) hx hb dX1_together_147 (by decide) ?_
  exact hk70 _ _ _ _ _ _ _ _ h _ _ _ _ _ hS (gls_sub hl [1, 2, 3, 4, 5, 0] rfl)
theorem sX1_together_b70 {p : Program} {l : Launch} {e : Env} {R : Room} {s : State} {m : MethodId} {args : Array Value} {below : List Frame} {meth : Method} {c : Code} {E : g_E} {D : g_D} (C : gC p R s m args meth c cX1_together 7 RX1 "together" (none) 221 7381 E D) : ∀ (n : Nat) (t : Nat) (v1 : Option Nat) (v2 : Int32) (v3 : Int32) (v4 : Int32) (v5 : Int32) (G : g_G) (q : g_G), fX1_together_b70 E n t v1 v2 v3 v4 v5 G = some q → ∀ (H : Heap) (locs : List Loc) (cells slots : Nat) (ls : Array Slot), gSt E D G H locs → gls ls 7 [(0, .inr (.inr (some t))), (1, .inr (.inr v1)), (2, .inl v2), (3, .inl v3), (4, .inl v4), (5, .inl v5)] → gT p l e R s m args below meth c E D H locs cells slots none q (F0 m 70 ls []) := by
  obtain ⟨hx, hb, hml, hown, hts, hKn, hRc, hRs, hc1, hc2, hRf, hRl, hr, hlk, hnm⟩ := id C
  intro n
  induction n with
  | zero =>
    intro t v1 v2 v3 v4 v5 G q h
    exact g_no h
  | succ n ih =>
    intro t v1 v2 v3 v4 v5 G q h H locs cells slots ls hS hl
    rw [fX1_together_b70] at h
    refine g_iload hx hb hl 5 rfl dX1_together_70 ?_
    refine g_aload_n hx hb hl 1 rfl dX1_together_72 ?_
    refine g_rdI hx hb hown hts hKn hS h fd_3_3_0 rfl (Or.inr ⟨_, gNest_use rfl (hKn.2.2.2.2.1 _ (gNest_in q537 rfl))⟩) (fun _ z => z) dX1_together_73 (fun x73 h => ?_)
    refine lv_icmp_ge (tgt := 150) hx hb dX1_together_76 (by decide) (fun c_76 => ?_) (fun c_76 => ?_)
    · have h := g_ift c_76 h
      exact g_vretG hx hb hr hlk hKn hRc hRs hS h dX1_together_150
    · have h := g_iff c_76 h
      refine g_aload_n hx hb hl 1 rfl dX1_together_79 ?_
      refine g_rdR hx hb hown hts hKn hS h fd_3_3_3 rfl (Or.inr ⟨_, gNest_use rfl (hKn.2.2.2.2.1 _ (gNest_in q545 rfl))⟩) (fun _ z => z) dX1_together_80 (fun x80 h => ?_)
      refine g_iload hx hb hl 5 rfl dX1_together_83 ?_
      refine g_aaloadG hx hb hKn hS h (by decide) dX1_together_85 (fun x85 h => ?_)
      refine g_castS (k := 11) hx hb hown hKn hS h (by decide) (by decide) (hts _ q953) dX1_together_86 (fun x86 h => ?_)
      refine g_astore (l1 := [(6, .inr (.inr x86)), (0, .inr (.inr (some t))), (1, .inr (.inr v1)), (2, .inl v2), (3, .inl v3), (4, .inl v4), (5, .inl v5)]) hx hb hl (by decide) rfl dX1_together_89 (fun ls hl => ?_)
      refine g_aload_n hx hb hl 1 rfl dX1_together_91 ?_
      refine g_iload hx hb hl 6 rfl dX1_together_92 ?_
      refine g_iload hx hb hl 5 rfl dX1_together_94 ?_
      obtain ⟨b96, hb96, h⟩ := g_bnd h
      obtain ⟨hr96, hk96⟩ := g_chk hb96
      obtain ⟨z96, h96, h⟩ := g_bnd h
      refine g_callV (n := 2) (b := b96) (av := [.inl v5, .inl v4]) (rs := []) hx hb hml hown hts hKn hRc hRs hS hl (sX1_clocks l E D h96) (lw_V q933 q935 qs15 q113 q936) ⟨rfl, by decide, by decide, by decide +kernel⟩ ⟨by rw [hRf]; exact Nat.le_of_ble_eq_true rfl, by rw [hRl]; exact Nat.le_of_ble_eq_true rfl⟩ (g_recv hKn hS hk96 (by decide) (by decide)) rfl (by rw [hr96]; rfl) (Nat.le_of_ble_eq_true rfl) dX1_together_96 (fun H locs cells slots hS => ?_)
      refine g_aload_n hx hb hl 1 rfl dX1_together_99 ?_
      refine g_rdR hx hb hown hts hKn hS h fd_1_1_6 rfl (Or.inl (hts _ q603)) (fun _ z => z) dX1_together_100 (fun x100 h => ?_)
      refine g_iload hx hb hl 6 rfl dX1_together_103 ?_
      refine lv_dup2_11 hx hb dX1_together_105 rfl (by first | exact va_rf_cat _ | rfl | exact g_catA _) ?_
      refine g_ialoadG hx hb hKn hS h dX1_together_106 (fun x106 h => ?_)
      refine lv_iconst (v := 1) hx hb dX1_together_107 (by decide) ?_
      refine lv_iadd hx hb dX1_together_108 ?_
      refine g_iastoreG hx hb hKn hS h dX1_together_109 (fun G109 h H locs hS => ?_)
      refine g_iload_n hx hb hl 3 rfl dX1_together_110 ?_
      refine lv_bipush (v := 7) hx hb dX1_together_111 (by decide) ?_
      refine lv_icmp_ne (tgt := 132) hx hb dX1_together_113 (by decide) (fun c_113 => ?_) (fun c_113 => ?_)
      · have h := g_ift c_113 h
        exact sX1_together_b132 C ih _ _ _ _ _ _ _ _ _ h _ _ _ _ _ hS (gls_sub hl [1, 2, 3, 4, 5, 6, 0] rfl)
      · have h := g_iff (fun z => z c_113) h
        refine g_aload_n hx hb hl 2 rfl dX1_together_116 ?_
        refine g_rdR hx hb hown hts hKn hS h fd_3_3_5 rfl (Or.inr ⟨_, gNest_use rfl (hKn.2.2.2.2.1 _ (gNest_in q553 rfl))⟩) (fun _ z => z) dX1_together_117 (fun x117 h => ?_)
        refine lv_iconst (v := 4) hx hb dX1_together_120 (by decide) ?_
        refine g_iload hx hb hl 6 rfl dX1_together_121 ?_
        refine lv_imul hx hb dX1_together_123 ?_
        refine g_aload hx hb hl 0 rfl dX1_together_124 ?_
        refine g_rdI hx hb hown hts hKn hS h fd_11_11_4 rfl (Or.inr ⟨_, gNest_use rfl (hKn.2.2.2.2.1 _ (gNest_in q1688 rfl))⟩) (fun _ z => z) dX1_together_126 (fun x126 h => ?_)
        refine lv_iadd hx hb dX1_together_129 ?_
        refine g_iload_n hx hb hl 4 rfl dX1_together_130 ?_
        refine g_iastoreG hx hb hKn hS h dX1_together_131 (fun G131 h H locs hS => ?_)
        exact sX1_together_b132 C ih _ _ _ _ _ _ _ _ _ h _ _ _ _ _ hS (gls_sub hl [1, 2, 3, 4, 5, 6, 0] rfl)
theorem sX1_together_b47 {p : Program} {l : Launch} {e : Env} {R : Room} {s : State} {m : MethodId} {args : Array Value} {below : List Frame} {meth : Method} {c : Code} {E : g_E} {D : g_D} (C : gC p R s m args meth c cX1_together 7 RX1 "together" (none) 221 7381 E D) {k8 : Nat → (Option Nat) → Int32 → Int32 → Int32 → Int32 → g_G → Option (g_G)} (hk8 : ∀ (t : Nat) (v1 : Option Nat) (v2 : Int32) (v3 : Int32) (v4 : Int32) (v5 : Int32) (G : g_G) (q : g_G), k8 t v1 v2 v3 v4 v5 G = some q → ∀ (H : Heap) (locs : List Loc) (cells slots : Nat) (ls : Array Slot), gSt E D G H locs → gls ls 7 [(0, .inr (.inr (some t))), (1, .inr (.inr v1)), (2, .inl v2), (3, .inl v3), (4, .inl v4), (5, .inl v5)] → gT p l e R s m args below meth c E D H locs cells slots none q (F0 m 8 ls [])) : ∀ (t : Nat) (v1 : Option Nat) (v2 : Int32) (v3 : Int32) (v4 : Int32) (v5 : Int32) (G : g_G) (q : g_G), fX1_together_b47 E k8 t v1 v2 v3 v4 v5 G = some q → ∀ (H : Heap) (locs : List Loc) (cells slots : Nat) (ls : Array Slot), gSt E D G H locs → gls ls 7 [(0, .inr (.inr (some t))), (1, .inr (.inr v1)), (2, .inl v2), (3, .inl v3), (4, .inl v4), (5, .inl v5)] → gT p l e R s m args below meth c E D H locs cells slots none q (F0 m 47 ls []) := by
  obtain ⟨hx, hb, hml, hown, hts, hKn, hRc, hRs, hc1, hc2, hRf, hRl, hr, hlk, hnm⟩ := id C
  intro t v1 v2 v3 v4 v5 G q h H locs cells slots ls hS hl
  unfold fX1_together_b47 at h
  refine g_iload hx hb hl 4 rfl dX1_together_47 ?_
  refine g_aload_n hx hb hl 0 rfl dX1_together_49 ?_
  refine g_rdR hx hb hown hts hKn hS h fd_1_1_6 rfl (Or.inl (hts _ q603)) (fun _ z => z) dX1_together_50 (fun x50 h => ?_)
  refine g_iload hx hb hl 5 rfl dX1_together_53 ?_
  refine g_ialoadG hx hb hKn hS h dX1_together_55 (fun x55 h => ?_)
  refine g_mmax (rs := []) hx hb hml hown hRc hRs hS hl (hts _ q932) (hts _ q283) (hts _ q127) (hts _ q284) (by decide +kernel) rfl (Nat.le_of_ble_eq_true rfl) ⟨by rw [hRf]; exact Nat.le_of_ble_eq_true rfl, by rw [hRl]; exact Nat.le_of_ble_eq_true rfl⟩ dX1_together_56 (fun cells slots => ?_)
  refine g_istore (l1 := [(4, .inl (if v4 < x55 then x55 else v4)), (0, .inr (.inr (some t))), (1, .inr (.inr v1)), (2, .inl v2), (3, .inl v3), (5, .inl v5)]) hx hb hl (by decide) rfl dX1_together_59 (fun ls hl => ?_)
  refine g_iinc (l1 := [(5, .inl (v5 + 1)), (4, .inl (if v4 < x55 then x55 else v4)), (0, .inr (.inr (some t))), (1, .inr (.inr v1)), (2, .inl v2), (3, .inl v3)]) (v := (v5 + 1)) hx hb hl (k := 5) rfl (by rfl) (by decide) rfl dX1_together_61 (fun ls hl => ?_)
  refine lv_goto (tgt := 8) hx hb dX1_together_64 (by decide) ?_
  exact hk8 _ _ _ _ _ _ _ _ h _ _ _ _ _ hS (gls_sub hl [2, 3, 4, 5, 1, 0] rfl)
theorem sX1_together_b8 {p : Program} {l : Launch} {e : Env} {R : Room} {s : State} {m : MethodId} {args : Array Value} {below : List Frame} {meth : Method} {c : Code} {E : g_E} {D : g_D} (C : gC p R s m args meth c cX1_together 7 RX1 "together" (none) 221 7381 E D) : ∀ (n : Nat) (t : Nat) (v1 : Option Nat) (v2 : Int32) (v3 : Int32) (v4 : Int32) (v5 : Int32) (G : g_G) (q : g_G), fX1_together_b8 E n t v1 v2 v3 v4 v5 G = some q → ∀ (H : Heap) (locs : List Loc) (cells slots : Nat) (ls : Array Slot), gSt E D G H locs → gls ls 7 [(0, .inr (.inr (some t))), (1, .inr (.inr v1)), (2, .inl v2), (3, .inl v3), (4, .inl v4), (5, .inl v5)] → gT p l e R s m args below meth c E D H locs cells slots none q (F0 m 8 ls []) := by
  obtain ⟨hx, hb, hml, hown, hts, hKn, hRc, hRs, hc1, hc2, hRf, hRl, hr, hlk, hnm⟩ := id C
  intro n
  induction n with
  | zero =>
    intro t v1 v2 v3 v4 v5 G q h
    exact g_no h
  | succ n ih =>
    intro t v1 v2 v3 v4 v5 G q h H locs cells slots ls hS hl
    rw [fX1_together_b8] at h
    refine g_iload hx hb hl 5 rfl dX1_together_8 ?_
    refine g_aload_n hx hb hl 1 rfl dX1_together_10 ?_
    refine g_rdI hx hb hown hts hKn hS h fd_3_3_0 rfl (Or.inr ⟨_, gNest_use rfl (hKn.2.2.2.2.1 _ (gNest_in q537 rfl))⟩) (fun _ z => z) dX1_together_11 (fun x11 h => ?_)
    refine lv_icmp_ge (tgt := 67) hx hb dX1_together_14 (by decide) (fun c_14 => ?_) (fun c_14 => ?_)
    · have h := g_ift c_14 h
      refine lv_iconst (v := 0) hx hb dX1_together_67 (by decide) ?_
      refine g_istore (l1 := [(5, .inl 0), (0, .inr (.inr (some t))), (1, .inr (.inr v1)), (2, .inl v2), (3, .inl v3), (4, .inl v4)]) hx hb hl (by decide) rfl dX1_together_68 (fun ls hl => ?_)
      exact sX1_together_b70 C gFU _ _ _ _ _ _ _ _ h _ _ _ _ _ hS (gls_sub hl [1, 2, 3, 4, 5, 0] rfl)
    · have h := g_iff c_14 h
      refine g_iload_n hx hb hl 2 rfl dX1_together_17 ?_
      refine lv_bipush (v := 7) hx hb dX1_together_18 (by decide) ?_
      refine lv_icmp_ne (tgt := 47) hx hb dX1_together_20 (by decide) (fun c_20 => ?_) (fun c_20 => ?_)
      · have h := g_ift c_20 h
        exact sX1_together_b47 C ih _ _ _ _ _ _ _ _ h _ _ _ _ _ hS (gls_sub hl [0, 1, 2, 3, 4, 5] rfl)
      · have h := g_iff (fun z => z c_20) h
        refine g_iload_n hx hb hl 3 rfl dX1_together_23 ?_
        refine g_aload_n hx hb hl 1 rfl dX1_together_24 ?_
        refine g_rdR hx hb hown hts hKn hS h fd_3_3_3 rfl (Or.inr ⟨_, gNest_use rfl (hKn.2.2.2.2.1 _ (gNest_in q545 rfl))⟩) (fun _ z => z) dX1_together_25 (fun x25 h => ?_)
        refine g_iload hx hb hl 5 rfl dX1_together_28 ?_
        refine g_aaloadG hx hb hKn hS h (by decide) dX1_together_30 (fun x30 h => ?_)
        refine g_castS (k := 11) hx hb hown hKn hS h (by decide) (by decide) (hts _ q953) dX1_together_31 (fun x31 h => ?_)
        refine g_rdR hx hb hown hts hKn hS h fd_11_11_3 rfl (Or.inr ⟨_, gNest_use rfl (hKn.2.2.2.2.1 _ (gNest_in q1686 rfl))⟩) (fun _ z => z) dX1_together_34 (fun x34 h => ?_)
        refine g_aload_n hx hb hl 1 rfl dX1_together_37 ?_
        refine g_iload hx hb hl 5 rfl dX1_together_38 ?_
        obtain ⟨z40, h40, h⟩ := g_bnd h
        refine g_valueI (rs := [.inl v3]) hx hb hml hown hts hKn hRc hRs hS hl (gI_top l E D) h40 q927 ⟨by rw [hRf]; exact Nat.le_of_ble_eq_true rfl, by rw [hRl]; exact Nat.le_of_ble_eq_true rfl⟩ rfl (Nat.le_of_ble_eq_true rfl) dX1_together_40 (fun H locs cells slots hS => ?_)
        refine lv_iadd hx hb dX1_together_45 ?_
        refine g_istore_n (l1 := [(3, .inl (v3 + z40.1)), (0, .inr (.inr (some t))), (1, .inr (.inr v1)), (2, .inl v2), (4, .inl v4), (5, .inl v5)]) hx hb hl (by decide) rfl dX1_together_46 (fun ls hl => ?_)
        exact sX1_together_b47 C ih _ _ _ _ _ _ _ _ h _ _ _ _ _ hS (gls_sub hl [1, 2, 3, 0, 4, 5] rfl)
theorem sX1_together (l : Launch) (E : g_E) (D : g_D) {t : Nat} {v1 : Option Nat} {v2 : Int32} {G : g_G} {q : g_G} (h : fX1_together E t v1 v2 G = some q) : gMet l E D yX1_together (ws_ yX1_together cX1_together 7 (none)) 221 7381 [.inr (.inr (some t)), .inr (.inr v1), .inl v2] G none q := by
  refine gMet.of (by decide +kernel) (Nat.le_of_ble_eq_true rfl) ?_
  intro p e R s m args below meth c C hS ls hl
  have C : gC p R s m args meth c cX1_together 7 RX1 "together" (none) 221 7381 E D := C
  obtain ⟨hx, hb, hml, hown, hts, hKn, hRc, hRs, hc1, hc2, hRf, hRl, hr, hlk, hnm⟩ := id C
  have hl : gls ls 7 [(0, .inr (.inr (some t))), (1, .inr (.inr v1)), (2, .inl v2)] := hl
  generalize s.heap = H at hS ⊢
  unfold fX1_together at h
  refine lv_iconst (v := 0) hx hb dX1_together_0 (by decide) ?_
  refine g_istore_n (l1 := [(3, .inl 0), (0, .inr (.inr (some t))), (1, .inr (.inr v1)), (2, .inl v2)]) hx hb hl (by decide) rfl dX1_together_1 (fun ls hl => ?_)
  refine lv_iconst (v := 0) hx hb dX1_together_2 (by decide) ?_
  refine g_istore (l1 := [(4, .inl 0), (3, .inl 0), (0, .inr (.inr (some t))), (1, .inr (.inr v1)), (2, .inl v2)]) hx hb hl (by decide) rfl dX1_together_3 (fun ls hl => ?_)
  refine lv_iconst (v := 0) hx hb dX1_together_5 (by decide) ?_
  refine g_istore (l1 := [(5, .inl 0), (4, .inl 0), (3, .inl 0), (0, .inr (.inr (some t))), (1, .inr (.inr v1)), (2, .inl v2)]) hx hb hl (by decide) rfl dX1_together_6 (fun ls hl => ?_)
  exact sX1_together_b8 C gFU _ _ _ _ _ _ _ _ h _ _ _ _ _ hS (gls_sub hl [3, 4, 5, 2, 1, 0] rfl)
/-- SendHallModel.begin()V -/
def fX4_begin_b48 (E : g_E) (k24 : Nat → Int32 → g_G → Option (g_G)) (t : Nat) (v1 : Int32) (s0 : Option Nat) (s1 : Int32) (s2 : Int32) (G : g_G) : Option (g_G) :=
  (gchk G 4 s0).bind fun b48 =>
  (fX4_come E b48 s1 s2 G).bind fun z48 =>
  k24 t (v1 + 1) z48
def fX4_begin_b24 (E : g_E) : Nat → Nat → Int32 → g_G → Option (g_G)
  | 0, _, _, _ => none
  | n + 1, t, v1, G =>
    (grI G 4 4 (some t) 3).bind fun x26 =>
    if x26 ≤ v1 then (
      some G)
    else (
      (grR G 4 4 (some t) 22).bind fun x35 =>
      (gaI G 100 x35 0).bind fun x39 =>
      if ¬ x39 = 0 then (
        fX4_begin_b48 E (fX4_begin_b24 E n) t v1 (some t) v1 0 G)
      else (
        fX4_begin_b48 E (fX4_begin_b24 E n) t v1 (some t) v1 (-1) G))
def fX4_begin_b2 (E : g_E) : Nat → Nat → Int32 → g_G → Option (g_G)
  | 0, _, _, _ => none
  | n + 1, t, v1, G =>
    if (1985 : Int32) ≤ v1 then (
      fX4_begin_b24 E gFU t 0 G)
    else (
      (grR G 4 4 (some t) 33).bind fun x10 =>
      (gsaI E G x10 v1 0).bind fun G15 =>
      fX4_begin_b2 E n t (v1 + 1) G15)
def fX4_begin (E : g_E) (t : Nat) (G : g_G) : Option (g_G) :=
  fX4_begin_b2 E gFU t 0 G
theorem sX4_begin_b48 {p : Program} {l : Launch} {e : Env} {R : Room} {s : State} {m : MethodId} {args : Array Value} {below : List Frame} {meth : Method} {c : Code} {E : g_E} {D : g_D} (C : gC p R s m args meth c cX4_begin 2 RX4 "begin" (none) 6 183 E D) {k24 : Nat → Int32 → g_G → Option (g_G)} (hk24 : ∀ (t : Nat) (v1 : Int32) (G : g_G) (q : g_G), k24 t v1 G = some q → ∀ (H : Heap) (locs : List Loc) (cells slots : Nat) (ls : Array Slot), gSt E D G H locs → gls ls 2 [(0, .inr (.inr (some t))), (1, .inl v1)] → gT p l e R s m args below meth c E D H locs cells slots none q (F0 m 24 ls [])) : ∀ (t : Nat) (v1 : Int32) (s0 : Option Nat) (s1 : Int32) (s2 : Int32) (G : g_G) (q : g_G), fX4_begin_b48 E k24 t v1 s0 s1 s2 G = some q → ∀ (H : Heap) (locs : List Loc) (cells slots : Nat) (ls : Array Slot), gSt E D G H locs → gls ls 2 [(0, .inr (.inr (some t))), (1, .inl v1)] → gT p l e R s m args below meth c E D H locs cells slots none q (F0 m 48 ls [.int s2, .int s1, va_rf s0]) := by
  obtain ⟨hx, hb, hml, hown, hts, hKn, hRc, hRs, hc1, hc2, hRf, hRl, hr, hlk, hnm⟩ := id C
  intro t v1 s0 s1 s2 G q h H locs cells slots ls hS hl
  unfold fX4_begin_b48 at h
  obtain ⟨b48, hb48, h⟩ := g_bnd h
  obtain ⟨hr48, hk48⟩ := g_chk hb48
  obtain ⟨z48, h48, h⟩ := g_bnd h
  refine g_callV (n := 2) (b := b48) (av := [.inl s1, .inl s2]) (rs := []) hx hb hml hown hts hKn hRc hRs hS hl (sX4_come l E D h48) (lw_V q2229 q2231 qs73 q135 q2232) ⟨rfl, by decide, by decide, by decide +kernel⟩ ⟨by rw [hRf]; exact Nat.le_of_ble_eq_true rfl, by rw [hRl]; exact Nat.le_of_ble_eq_true rfl⟩ (g_recv hKn hS hk48 (by decide) (by decide)) rfl (by rw [hr48]; rfl) (Nat.le_of_ble_eq_true rfl) dX4_begin_48 (fun H locs cells slots hS => ?_)
  refine g_iinc (l1 := [(1, .inl (v1 + 1)), (0, .inr (.inr (some t)))]) (v := (v1 + 1)) hx hb hl (k := 1) rfl (by rfl) (by decide) rfl dX4_begin_51 (fun ls hl => ?_)
  refine lv_goto (tgt := 24) hx hb dX4_begin_54 (by decide) ?_
  exact hk24 _ _ _ _ h _ _ _ _ _ hS (gls_sub hl [1, 0] rfl)
theorem sX4_begin_b24 {p : Program} {l : Launch} {e : Env} {R : Room} {s : State} {m : MethodId} {args : Array Value} {below : List Frame} {meth : Method} {c : Code} {E : g_E} {D : g_D} (C : gC p R s m args meth c cX4_begin 2 RX4 "begin" (none) 6 183 E D) : ∀ (n : Nat) (t : Nat) (v1 : Int32) (G : g_G) (q : g_G), fX4_begin_b24 E n t v1 G = some q → ∀ (H : Heap) (locs : List Loc) (cells slots : Nat) (ls : Array Slot), gSt E D G H locs → gls ls 2 [(0, .inr (.inr (some t))), (1, .inl v1)] → gT p l e R s m args below meth c E D H locs cells slots none q (F0 m 24 ls []) := by
  obtain ⟨hx, hb, hml, hown, hts, hKn, hRc, hRs, hc1, hc2, hRf, hRl, hr, hlk, hnm⟩ := id C
  intro n
  induction n with
  | zero =>
    intro t v1 G q h
    exact g_no h
  | succ n ih =>
    intro t v1 G q h H locs cells slots ls hS hl
    rw [fX4_begin_b24] at h
    refine g_iload_n hx hb hl 1 rfl dX4_begin_24 ?_
    refine g_aload_n hx hb hl 0 rfl dX4_begin_25 ?_
    refine g_rdI hx hb hown hts hKn hS h fd_4_4_3 rfl (Or.inl (hts _ q1868)) (fun _ z => z) dX4_begin_26 (fun x26 h => ?_)
    refine lv_icmp_ge (tgt := 57) hx hb dX4_begin_29 (by decide) (fun c_29 => ?_) (fun c_29 => ?_)
    · have h := g_ift c_29 h
      exact g_vretG hx hb hr hlk hKn hRc hRs hS h dX4_begin_57
    · have h := g_iff c_29 h
      refine g_aload_n hx hb hl 0 rfl dX4_begin_32 ?_
      refine g_iload_n hx hb hl 1 rfl dX4_begin_33 ?_
      refine g_aload_n hx hb hl 0 rfl dX4_begin_34 ?_
      refine g_rdR hx hb hown hts hKn hS h fd_4_4_22 rfl (Or.inl (hts _ q1887)) (fun _ z => z) dX4_begin_35 (fun x35 h => ?_)
      refine lv_iconst (v := 0) hx hb dX4_begin_38 (by decide) ?_
      refine g_ialoadG hx hb hKn hS h dX4_begin_39 (fun x39 h => ?_)
      refine lv_if_ne (tgt := 47) hx hb dX4_begin_40 (by decide) (fun c_40 => ?_) (fun c_40 => ?_)
      · have h := g_ift c_40 h
        refine lv_iconst (v := 0) hx hb dX4_begin_47 (by decide) ?_
        exact sX4_begin_b48 C ih _ _ _ _ _ _ _ h _ _ _ _ _ hS (gls_sub hl [0, 1] rfl)
      · have h := g_iff (fun z => z c_40) h
        refine lv_iconst (v := (-1)) hx hb dX4_begin_43 (by decide) ?_
        refine lv_goto (tgt := 48) hx hb dX4_begin_44 (by decide) ?_
        exact sX4_begin_b48 C ih _ _ _ _ _ _ _ h _ _ _ _ _ hS (gls_sub hl [0, 1] rfl)
theorem sX4_begin_b2 {p : Program} {l : Launch} {e : Env} {R : Room} {s : State} {m : MethodId} {args : Array Value} {below : List Frame} {meth : Method} {c : Code} {E : g_E} {D : g_D} (C : gC p R s m args meth c cX4_begin 2 RX4 "begin" (none) 6 183 E D) : ∀ (n : Nat) (t : Nat) (v1 : Int32) (G : g_G) (q : g_G), fX4_begin_b2 E n t v1 G = some q → ∀ (H : Heap) (locs : List Loc) (cells slots : Nat) (ls : Array Slot), gSt E D G H locs → gls ls 2 [(0, .inr (.inr (some t))), (1, .inl v1)] → gT p l e R s m args below meth c E D H locs cells slots none q (F0 m 2 ls []) := by
  obtain ⟨hx, hb, hml, hown, hts, hKn, hRc, hRs, hc1, hc2, hRf, hRl, hr, hlk, hnm⟩ := id C
  intro n
  induction n with
  | zero =>
    intro t v1 G q h
    exact g_no h
  | succ n ih =>
    intro t v1 G q h H locs cells slots ls hS hl
    rw [fX4_begin_b2] at h
    refine g_iload_n hx hb hl 1 rfl dX4_begin_2 ?_
    refine lv_sipush (v := 1985) hx hb dX4_begin_3 (by decide) ?_
    refine lv_icmp_ge (tgt := 22) hx hb dX4_begin_6 (by decide) (fun c_6 => ?_) (fun c_6 => ?_)
    · have h := g_ift c_6 h
      refine lv_iconst (v := 0) hx hb dX4_begin_22 (by decide) ?_
      refine g_istore_n (l1 := [(1, .inl 0), (0, .inr (.inr (some t)))]) hx hb hl (by decide) rfl dX4_begin_23 (fun ls hl => ?_)
      exact sX4_begin_b24 C gFU _ _ _ _ h _ _ _ _ _ hS (gls_sub hl [1, 0] rfl)
    · have h := g_iff c_6 h
      refine g_aload_n hx hb hl 0 rfl dX4_begin_9 ?_
      refine g_rdR hx hb hown hts hKn hS h fd_4_4_33 rfl (Or.inl (hts _ q1898)) (fun _ z => z) dX4_begin_10 (fun x10 h => ?_)
      refine g_iload_n hx hb hl 1 rfl dX4_begin_13 ?_
      refine lv_iconst (v := 0) hx hb dX4_begin_14 (by decide) ?_
      refine g_iastoreG hx hb hKn hS h dX4_begin_15 (fun G15 h H locs hS => ?_)
      refine g_iinc (l1 := [(1, .inl (v1 + 1)), (0, .inr (.inr (some t)))]) (v := (v1 + 1)) hx hb hl (k := 1) rfl (by rfl) (by decide) rfl dX4_begin_16 (fun ls hl => ?_)
      refine lv_goto (tgt := 2) hx hb dX4_begin_19 (by decide) ?_
      exact ih _ _ _ _ h _ _ _ _ _ hS (gls_sub hl [1, 0] rfl)
theorem sX4_begin (l : Launch) (E : g_E) (D : g_D) {t : Nat} {G : g_G} {q : g_G} (h : fX4_begin E t G = some q) : gMet l E D yX4_begin (ws_ yX4_begin cX4_begin 2 (none)) 6 183 [.inr (.inr (some t))] G none q := by
  refine gMet.of (by decide +kernel) (Nat.le_of_ble_eq_true rfl) ?_
  intro p e R s m args below meth c C hS ls hl
  have C : gC p R s m args meth c cX4_begin 2 RX4 "begin" (none) 6 183 E D := C
  obtain ⟨hx, hb, hml, hown, hts, hKn, hRc, hRs, hc1, hc2, hRf, hRl, hr, hlk, hnm⟩ := id C
  have hl : gls ls 2 [(0, .inr (.inr (some t)))] := hl
  generalize s.heap = H at hS ⊢
  unfold fX4_begin at h
  refine lv_iconst (v := 0) hx hb dX4_begin_0 (by decide) ?_
  refine g_istore_n (l1 := [(1, .inl 0), (0, .inr (.inr (some t)))]) hx hb hl (by decide) rfl dX4_begin_1 (fun ls hl => ?_)
  exact sX4_begin_b2 C gFU _ _ _ _ h _ _ _ _ _ hS (gls_sub hl [1, 0] rfl)
