set_option maxRecDepth 100000
/-- SendHallModel.from(I)V -/
def fX4_from_b139 (E : g_E) (k9 : Nat → Int32 → Int32 → g_G → Option (g_G)) (t : Nat) (v1 : Int32) (v2 : Int32) (G : g_G) : Option (g_G) :=
  k9 t v1 (v2 + 1) G
def fX4_from_b133 (E : g_E) (k9 : Nat → Int32 → Int32 → g_G → Option (g_G)) (k39 : Nat → Int32 → Int32 → Int32 → Int32 → g_G → Option (g_G)) (t : Nat) (v1 : Int32) (v2 : Int32) (v3 : Int32) (v4 : Int32) (G : g_G) : Option (g_G) :=
  k39 t v1 v2 v3 (v4 + 1) G
def fX4_from_b129 (E : g_E) (k9 : Nat → Int32 → Int32 → g_G → Option (g_G)) (k39 : Nat → Int32 → Int32 → Int32 → Int32 → g_G → Option (g_G)) (t : Nat) (v1 : Int32) (v2 : Int32) (v3 : Int32) (v4 : Int32) (G : g_G) : Option (g_G) :=
  (gchk G 4 (some t)).bind fun b130 =>
  (fX4_keep E b130 G).bind fun z130 =>
  fX4_from_b133 E k9 k39 t v1 v2 v3 v4 z130
def fX4_from_b53 (E : g_E) (k9 : Nat → Int32 → Int32 → g_G → Option (g_G)) (k39 : Nat → Int32 → Int32 → Int32 → Int32 → g_G → Option (g_G)) (t : Nat) (v1 : Int32) (v2 : Int32) (v3 : Int32) (v4 : Int32) (s0 : Int32) (s1 : Int32) (G : g_G) : Option (g_G) :=
  if s1 ≤ s0 then (
    fX4_from_b139 E k9 t v1 v2 G)
  else (
    (grI G 4 4 (some t) 48).bind fun x57 =>
    if ¬ x57 = 0 then (
      fX4_from_b139 E k9 t v1 v2 G)
    else (
      (gchk G 4 (some t)).bind fun b65 =>
      (fX4_bring E b65 v1 G).bind fun z65 =>
      (gchk z65 4 (some t)).bind fun b72 =>
      (fX4_can E b72 v2 v4 z65).bind fun z72 =>
      if ¬ z72.1 = 0 then (
        (grR z72.2 4 4 (some t) 45).bind fun x82 =>
        (gsaZ E z72.2 x82 v1 0).bind fun G87 =>
        (gchk G87 4 (some t)).bind fun b92 =>
        (fX4_move E b92 v2 v4 G87).bind fun z92 =>
        (grI z92 4 4 (some t) 40).bind fun x96 =>
        if x96 = (-1 : Int32) then (
          fX4_from_b129 E k9 k39 t v1 v2 v3 v4 z92)
        else (
          (grR z92 4 4 (some t) 49).bind fun x104 =>
          (grI z92 4 4 (some t) 40).bind fun x110 =>
          (grI z92 4 4 (some t) 42).bind fun x115 =>
          (gaI z92 100 x104 ((40 * x110) + x115)).bind fun x120 =>
          (grI z92 4 4 (some t) 41).bind fun x123 =>
          (gsaI E z92 x104 ((40 * x110) + x115) (x120 ||| (1 <<< (x123 &&& 31)))).bind fun G128 =>
          fX4_from_b129 E k9 k39 t v1 v2 v3 v4 G128))
      else (
        fX4_from_b133 E k9 k39 t v1 v2 v3 v4 z72.2)))
def fX4_from_b39 (E : g_E) (k9 : Nat → Int32 → Int32 → g_G → Option (g_G)) : Nat → Nat → Int32 → Int32 → Int32 → Int32 → g_G → Option (g_G)
  | 0, _, _, _, _, _, _ => none
  | n + 1, t, v1, v2, v3, v4, G =>
    if v3 = 0 then (
      fX4_from_b53 E k9 (fX4_from_b39 E k9 n) t v1 v2 v3 v4 v4 1 G)
    else (
      (grI G 4 4 (some t) 3).bind fun x46 =>
      fX4_from_b53 E k9 (fX4_from_b39 E k9 n) t v1 v2 v3 v4 v4 x46 G)
def fX4_from_b9 (E : g_E) : Nat → Nat → Int32 → Int32 → g_G → Option (g_G)
  | 0, _, _, _, _ => none
  | n + 1, t, v1, v2, G =>
    (grI G 4 4 (some t) 3).bind fun x11 =>
    if x11 ≤ v2 then (
      some G)
    else (
      (grI G 4 4 (some t) 48).bind fun x18 =>
      if ¬ x18 = 0 then (
        some G)
      else (
        (gchk G 4 (some t)).bind fun b26 =>
        (fX4_bring E b26 v1 G).bind fun z26 =>
        (gchk z26 4 (some t)).bind fun b32 =>
        (fX4_isAt E b32 v2 4 z26).bind fun z32 =>
        fX4_from_b39 E (fX4_from_b9 E n) gFU t v1 v2 z32.1 0 z32.2))
def fX4_from (E : g_E) (t : Nat) (v1 : Int32) (G : g_G) : Option (g_G) :=
  (grR G 4 4 (some t) 45).bind fun x1 =>
  (gsaZ E G x1 v1 1).bind fun G6 =>
  fX4_from_b9 E gFU t v1 0 G6
theorem sX4_from_b139 {p : Program} {l : Launch} {e : Env} {R : Room} {s : State} {m : MethodId} {args : Array Value} {below : List Frame} {meth : Method} {c : Code} {E : g_E} {D : g_D} (C : gC p R s m args meth c cX4_from 5 RX4 "from" (none) 10 282 E D) {k9 : Nat → Int32 → Int32 → g_G → Option (g_G)} (hk9 : ∀ (t : Nat) (v1 : Int32) (v2 : Int32) (G : g_G) (q : g_G), k9 t v1 v2 G = some q → ∀ (H : Heap) (locs : List Loc) (cells slots : Nat) (ls : Array Slot), gSt E D G H locs → gls ls 5 [(0, .inr (.inr (some t))), (1, .inl v1), (2, .inl v2)] → gT p l e R s m args below meth c E D H locs cells slots none q (F0 m 9 ls [])) : ∀ (t : Nat) (v1 : Int32) (v2 : Int32) (G : g_G) (q : g_G), fX4_from_b139 E k9 t v1 v2 G = some q → ∀ (H : Heap) (locs : List Loc) (cells slots : Nat) (ls : Array Slot), gSt E D G H locs → gls ls 5 [(0, .inr (.inr (some t))), (1, .inl v1), (2, .inl v2)] → gT p l e R s m args below meth c E D H locs cells slots none q (F0 m 139 ls []) := by
  obtain ⟨hx, hb, hml, hown, hts, hKn, hRc, hRs, hc1, hc2, hRf, hRl, hr, hlk, hnm⟩ := id C
  intro t v1 v2 G q h H locs cells slots ls hS hl
  unfold fX4_from_b139 at h
  refine g_iinc (l1 := [(2, .inl (v2 + 1)), (0, .inr (.inr (some t))), (1, .inl v1)]) (v := (v2 + 1)) hx hb hl (k := 2) rfl (by rfl) (by decide) rfl dX4_from_139 (fun ls hl => ?_)
  refine lv_goto (tgt := 9) hx hb dX4_from_142 (by decide) ?_
  exact hk9 _ _ _ _ _ h _ _ _ _ _ hS (gls_sub hl [1, 2, 0] rfl)
theorem sX4_from_b133 {p : Program} {l : Launch} {e : Env} {R : Room} {s : State} {m : MethodId} {args : Array Value} {below : List Frame} {meth : Method} {c : Code} {E : g_E} {D : g_D} (C : gC p R s m args meth c cX4_from 5 RX4 "from" (none) 10 282 E D) {k9 : Nat → Int32 → Int32 → g_G → Option (g_G)} (hk9 : ∀ (t : Nat) (v1 : Int32) (v2 : Int32) (G : g_G) (q : g_G), k9 t v1 v2 G = some q → ∀ (H : Heap) (locs : List Loc) (cells slots : Nat) (ls : Array Slot), gSt E D G H locs → gls ls 5 [(0, .inr (.inr (some t))), (1, .inl v1), (2, .inl v2)] → gT p l e R s m args below meth c E D H locs cells slots none q (F0 m 9 ls [])) {k39 : Nat → Int32 → Int32 → Int32 → Int32 → g_G → Option (g_G)} (hk39 : ∀ (t : Nat) (v1 : Int32) (v2 : Int32) (v3 : Int32) (v4 : Int32) (G : g_G) (q : g_G), k39 t v1 v2 v3 v4 G = some q → ∀ (H : Heap) (locs : List Loc) (cells slots : Nat) (ls : Array Slot), gSt E D G H locs → gls ls 5 [(0, .inr (.inr (some t))), (1, .inl v1), (2, .inl v2), (3, .inl v3), (4, .inl v4)] → gT p l e R s m args below meth c E D H locs cells slots none q (F0 m 39 ls [])) : ∀ (t : Nat) (v1 : Int32) (v2 : Int32) (v3 : Int32) (v4 : Int32) (G : g_G) (q : g_G), fX4_from_b133 E k9 k39 t v1 v2 v3 v4 G = some q → ∀ (H : Heap) (locs : List Loc) (cells slots : Nat) (ls : Array Slot), gSt E D G H locs → gls ls 5 [(0, .inr (.inr (some t))), (1, .inl v1), (2, .inl v2), (3, .inl v3), (4, .inl v4)] → gT p l e R s m args below meth c E D H locs cells slots none q (F0 m 133 ls []) := by
  obtain ⟨hx, hb, hml, hown, hts, hKn, hRc, hRs, hc1, hc2, hRf, hRl, hr, hlk, hnm⟩ := id C
  intro t v1 v2 v3 v4 G q h H locs cells slots ls hS hl
  unfold fX4_from_b133 at h
  refine g_iinc (l1 := [(4, .inl (v4 + 1)), (0, .inr (.inr (some t))), (1, .inl v1), (2, .inl v2), (3, .inl v3)]) (v := (v4 + 1)) hx hb hl (k := 4) rfl (by rfl) (by decide) rfl dX4_from_133 (fun ls hl => ?_)
  refine lv_goto (tgt := 39) hx hb dX4_from_136 (by decide) ?_
  exact hk39 _ _ _ _ _ _ _ h _ _ _ _ _ hS (gls_sub hl [1, 2, 3, 4, 0] rfl)
theorem sX4_from_b129 {p : Program} {l : Launch} {e : Env} {R : Room} {s : State} {m : MethodId} {args : Array Value} {below : List Frame} {meth : Method} {c : Code} {E : g_E} {D : g_D} (C : gC p R s m args meth c cX4_from 5 RX4 "from" (none) 10 282 E D) {k9 : Nat → Int32 → Int32 → g_G → Option (g_G)} (hk9 : ∀ (t : Nat) (v1 : Int32) (v2 : Int32) (G : g_G) (q : g_G), k9 t v1 v2 G = some q → ∀ (H : Heap) (locs : List Loc) (cells slots : Nat) (ls : Array Slot), gSt E D G H locs → gls ls 5 [(0, .inr (.inr (some t))), (1, .inl v1), (2, .inl v2)] → gT p l e R s m args below meth c E D H locs cells slots none q (F0 m 9 ls [])) {k39 : Nat → Int32 → Int32 → Int32 → Int32 → g_G → Option (g_G)} (hk39 : ∀ (t : Nat) (v1 : Int32) (v2 : Int32) (v3 : Int32) (v4 : Int32) (G : g_G) (q : g_G), k39 t v1 v2 v3 v4 G = some q → ∀ (H : Heap) (locs : List Loc) (cells slots : Nat) (ls : Array Slot), gSt E D G H locs → gls ls 5 [(0, .inr (.inr (some t))), (1, .inl v1), (2, .inl v2), (3, .inl v3), (4, .inl v4)] → gT p l e R s m args below meth c E D H locs cells slots none q (F0 m 39 ls [])) : ∀ (t : Nat) (v1 : Int32) (v2 : Int32) (v3 : Int32) (v4 : Int32) (G : g_G) (q : g_G), fX4_from_b129 E k9 k39 t v1 v2 v3 v4 G = some q → ∀ (H : Heap) (locs : List Loc) (cells slots : Nat) (ls : Array Slot), gSt E D G H locs → gls ls 5 [(0, .inr (.inr (some t))), (1, .inl v1), (2, .inl v2), (3, .inl v3), (4, .inl v4)] → gT p l e R s m args below meth c E D H locs cells slots none q (F0 m 129 ls []) := by
  obtain ⟨hx, hb, hml, hown, hts, hKn, hRc, hRs, hc1, hc2, hRf, hRl, hr, hlk, hnm⟩ := id C
  intro t v1 v2 v3 v4 G q h H locs cells slots ls hS hl
  unfold fX4_from_b129 at h
  refine g_aload_n hx hb hl 0 rfl dX4_from_129 ?_
  obtain ⟨b130, hb130, h⟩ := g_bnd h
  obtain ⟨hr130, hk130⟩ := g_chk hb130
  obtain ⟨z130, h130, h⟩ := g_bnd h
  refine g_callV (n := 0) (b := b130) (av := []) (rs := []) hx hb hml hown hts hKn hRc hRs hS hl (sX4_keep l E D h130) (lw_V q2260 q2262 qs80 q135 q2263) ⟨rfl, by decide, by decide, by decide +kernel⟩ ⟨by rw [hRf]; exact Nat.le_of_ble_eq_true rfl, by rw [hRl]; exact Nat.le_of_ble_eq_true rfl⟩ (g_recv hKn hS hk130 (by decide) (by decide)) rfl (by rw [hr130]; rfl) (Nat.le_of_ble_eq_true rfl) dX4_from_130 (fun H locs cells slots hS => ?_)
  exact sX4_from_b133 C hk9 hk39 _ _ _ _ _ _ _ h _ _ _ _ _ hS (gls_sub hl [0, 1, 2, 3, 4] rfl)
theorem sX4_from_b53 {p : Program} {l : Launch} {e : Env} {R : Room} {s : State} {m : MethodId} {args : Array Value} {below : List Frame} {meth : Method} {c : Code} {E : g_E} {D : g_D} (C : gC p R s m args meth c cX4_from 5 RX4 "from" (none) 10 282 E D) {k9 : Nat → Int32 → Int32 → g_G → Option (g_G)} (hk9 : ∀ (t : Nat) (v1 : Int32) (v2 : Int32) (G : g_G) (q : g_G), k9 t v1 v2 G = some q → ∀ (H : Heap) (locs : List Loc) (cells slots : Nat) (ls : Array Slot), gSt E D G H locs → gls ls 5 [(0, .inr (.inr (some t))), (1, .inl v1), (2, .inl v2)] → gT p l e R s m args below meth c E D H locs cells slots none q (F0 m 9 ls [])) {k39 : Nat → Int32 → Int32 → Int32 → Int32 → g_G → Option (g_G)} (hk39 : ∀ (t : Nat) (v1 : Int32) (v2 : Int32) (v3 : Int32) (v4 : Int32) (G : g_G) (q : g_G), k39 t v1 v2 v3 v4 G = some q → ∀ (H : Heap) (locs : List Loc) (cells slots : Nat) (ls : Array Slot), gSt E D G H locs → gls ls 5 [(0, .inr (.inr (some t))), (1, .inl v1), (2, .inl v2), (3, .inl v3), (4, .inl v4)] → gT p l e R s m args below meth c E D H locs cells slots none q (F0 m 39 ls [])) : ∀ (t : Nat) (v1 : Int32) (v2 : Int32) (v3 : Int32) (v4 : Int32) (s0 : Int32) (s1 : Int32) (G : g_G) (q : g_G), fX4_from_b53 E k9 k39 t v1 v2 v3 v4 s0 s1 G = some q → ∀ (H : Heap) (locs : List Loc) (cells slots : Nat) (ls : Array Slot), gSt E D G H locs → gls ls 5 [(0, .inr (.inr (some t))), (1, .inl v1), (2, .inl v2), (3, .inl v3), (4, .inl v4)] → gT p l e R s m args below meth c E D H locs cells slots none q (F0 m 53 ls [.int s1, .int s0]) := by
  obtain ⟨hx, hb, hml, hown, hts, hKn, hRc, hRs, hc1, hc2, hRf, hRl, hr, hlk, hnm⟩ := id C
  intro t v1 v2 v3 v4 s0 s1 G q h H locs cells slots ls hS hl
  unfold fX4_from_b53 at h
  refine lv_icmp_ge (tgt := 139) hx hb dX4_from_53 (by decide) (fun c_53 => ?_) (fun c_53 => ?_)
  · have h := g_ift c_53 h
    exact sX4_from_b139 C hk9 _ _ _ _ _ h _ _ _ _ _ hS (gls_sub hl [0, 1, 2] rfl)
  · have h := g_iff c_53 h
    refine g_aload_n hx hb hl 0 rfl dX4_from_56 ?_
    refine g_rdI hx hb hown hts hKn hS h fd_4_4_48 rfl (Or.inl (hts _ q1913)) (fun _ z => z) dX4_from_57 (fun x57 h => ?_)
    refine lv_if_ne (tgt := 139) hx hb dX4_from_60 (by decide) (fun c_60 => ?_) (fun c_60 => ?_)
    · have h := g_ift c_60 h
      exact sX4_from_b139 C hk9 _ _ _ _ _ h _ _ _ _ _ hS (gls_sub hl [0, 1, 2] rfl)
    · have h := g_iff (fun z => z c_60) h
      refine g_aload_n hx hb hl 0 rfl dX4_from_63 ?_
      refine g_iload_n hx hb hl 1 rfl dX4_from_64 ?_
      obtain ⟨b65, hb65, h⟩ := g_bnd h
      obtain ⟨hr65, hk65⟩ := g_chk hb65
      obtain ⟨z65, h65, h⟩ := g_bnd h
      refine g_callV (n := 1) (b := b65) (av := [.inl v1]) (rs := []) hx hb hml hown hts hKn hRc hRs hS hl (sX4_bring l E D h65) (lw_V q2276 q2278 qs84 q135 q2279) ⟨rfl, by decide, by decide, by decide +kernel⟩ ⟨by rw [hRf]; exact Nat.le_of_ble_eq_true rfl, by rw [hRl]; exact Nat.le_of_ble_eq_true rfl⟩ (g_recv hKn hS hk65 (by decide) (by decide)) rfl (by rw [hr65]; rfl) (Nat.le_of_ble_eq_true rfl) dX4_from_65 (fun H locs cells slots hS => ?_)
      refine g_aload_n hx hb hl 0 rfl dX4_from_68 ?_
      refine g_iload_n hx hb hl 2 rfl dX4_from_69 ?_
      refine g_iload hx hb hl 4 rfl dX4_from_70 ?_
      obtain ⟨b72, hb72, h⟩ := g_bnd h
      obtain ⟨hr72, hk72⟩ := g_chk hb72
      obtain ⟨z72, h72, h⟩ := g_bnd h
      refine g_callV (n := 2) (b := b72) (av := [.inl v2, .inl v4]) (rs := []) hx hb hml hown hts hKn hRc hRs hS hl (sX4_can l E D h72) (lw_V q2284 q2286 qs86 q135 q2287) ⟨rfl, by decide, by decide, by decide +kernel⟩ ⟨by rw [hRf]; exact Nat.le_of_ble_eq_true rfl, by rw [hRl]; exact Nat.le_of_ble_eq_true rfl⟩ (g_recv hKn hS hk72 (by decide) (by decide)) rfl (by rw [hr72]; rfl) (Nat.le_of_ble_eq_true rfl) dX4_from_72 (fun H locs cells slots hS => ?_)
      refine lv_if_ne (tgt := 81) hx hb dX4_from_75 (by decide) (fun c_75 => ?_) (fun c_75 => ?_)
      · have h := g_ift c_75 h
        refine g_aload_n hx hb hl 0 rfl dX4_from_81 ?_
        refine g_rdR hx hb hown hts hKn hS h fd_4_4_45 rfl (Or.inl (hts _ q1910)) (fun _ z => z) dX4_from_82 (fun x82 h => ?_)
        refine g_iload_n hx hb hl 1 rfl dX4_from_85 ?_
        refine lv_iconst (v := 0) hx hb dX4_from_86 (by decide) ?_
        refine g_zastoreG hx hb hKn hS h dX4_from_87 (fun G87 h H locs hS => ?_)
        refine g_aload_n hx hb hl 0 rfl dX4_from_88 ?_
        refine g_iload_n hx hb hl 2 rfl dX4_from_89 ?_
        refine g_iload hx hb hl 4 rfl dX4_from_90 ?_
        obtain ⟨b92, hb92, h⟩ := g_bnd h
        obtain ⟨hr92, hk92⟩ := g_chk hb92
        obtain ⟨z92, h92, h⟩ := g_bnd h
        refine g_callV (n := 2) (b := b92) (av := [.inl v2, .inl v4]) (rs := []) hx hb hml hown hts hKn hRc hRs hS hl (sX4_move l E D h92) (lw_V q2311 q2313 qs92 q135 q2314) ⟨rfl, by decide, by decide, by decide +kernel⟩ ⟨by rw [hRf]; exact Nat.le_of_ble_eq_true rfl, by rw [hRl]; exact Nat.le_of_ble_eq_true rfl⟩ (g_recv hKn hS hk92 (by decide) (by decide)) rfl (by rw [hr92]; rfl) (Nat.le_of_ble_eq_true rfl) dX4_from_92 (fun H locs cells slots hS => ?_)
        refine g_aload_n hx hb hl 0 rfl dX4_from_95 ?_
        refine g_rdI hx hb hown hts hKn hS h fd_4_4_40 rfl (Or.inl (hts _ q1905)) (fun _ z => z) dX4_from_96 (fun x96 h => ?_)
        refine lv_iconst (v := (-1)) hx hb dX4_from_99 (by decide) ?_
        refine lv_icmp_eq (tgt := 129) hx hb dX4_from_100 (by decide) (fun c_100 => ?_) (fun c_100 => ?_)
        · have h := g_ift c_100 h
          exact sX4_from_b129 C hk9 hk39 _ _ _ _ _ _ _ h _ _ _ _ _ hS (gls_sub hl [0, 1, 2, 3, 4] rfl)
        · have h := g_iff c_100 h
          refine g_aload_n hx hb hl 0 rfl dX4_from_103 ?_
          refine g_rdR hx hb hown hts hKn hS h fd_4_4_49 rfl (Or.inl (hts _ q1914)) (fun _ z => z) dX4_from_104 (fun x104 h => ?_)
          refine lv_bipush (v := 40) hx hb dX4_from_107 (by decide) ?_
          refine g_aload_n hx hb hl 0 rfl dX4_from_109 ?_
          refine g_rdI hx hb hown hts hKn hS h fd_4_4_40 rfl (Or.inl (hts _ q1905)) (fun _ z => z) dX4_from_110 (fun x110 h => ?_)
          refine lv_imul hx hb dX4_from_113 ?_
          refine g_aload_n hx hb hl 0 rfl dX4_from_114 ?_
          refine g_rdI hx hb hown hts hKn hS h fd_4_4_42 rfl (Or.inl (hts _ q1907)) (fun _ z => z) dX4_from_115 (fun x115 h => ?_)
          refine lv_iadd hx hb dX4_from_118 ?_
          refine lv_dup2_11 hx hb dX4_from_119 rfl (by first | exact va_rf_cat _ | rfl | exact g_catA _) ?_
          refine g_ialoadG hx hb hKn hS h dX4_from_120 (fun x120 h => ?_)
          refine lv_iconst (v := 1) hx hb dX4_from_121 (by decide) ?_
          refine g_aload_n hx hb hl 0 rfl dX4_from_122 ?_
          refine g_rdI hx hb hown hts hKn hS h fd_4_4_41 rfl (Or.inl (hts _ q1906)) (fun _ z => z) dX4_from_123 (fun x123 h => ?_)
          refine lv_ishl hx hb dX4_from_126 ?_
          refine lv_ior hx hb dX4_from_127 ?_
          refine g_iastoreG hx hb hKn hS h dX4_from_128 (fun G128 h H locs hS => ?_)
          exact sX4_from_b129 C hk9 hk39 _ _ _ _ _ _ _ h _ _ _ _ _ hS (gls_sub hl [0, 1, 2, 3, 4] rfl)
      · have h := g_iff (fun z => z c_75) h
        refine lv_goto (tgt := 133) hx hb dX4_from_78 (by decide) ?_
        exact sX4_from_b133 C hk9 hk39 _ _ _ _ _ _ _ h _ _ _ _ _ hS (gls_sub hl [0, 1, 2, 3, 4] rfl)
theorem sX4_from_b39 {p : Program} {l : Launch} {e : Env} {R : Room} {s : State} {m : MethodId} {args : Array Value} {below : List Frame} {meth : Method} {c : Code} {E : g_E} {D : g_D} (C : gC p R s m args meth c cX4_from 5 RX4 "from" (none) 10 282 E D) {k9 : Nat → Int32 → Int32 → g_G → Option (g_G)} (hk9 : ∀ (t : Nat) (v1 : Int32) (v2 : Int32) (G : g_G) (q : g_G), k9 t v1 v2 G = some q → ∀ (H : Heap) (locs : List Loc) (cells slots : Nat) (ls : Array Slot), gSt E D G H locs → gls ls 5 [(0, .inr (.inr (some t))), (1, .inl v1), (2, .inl v2)] → gT p l e R s m args below meth c E D H locs cells slots none q (F0 m 9 ls [])) : ∀ (n : Nat) (t : Nat) (v1 : Int32) (v2 : Int32) (v3 : Int32) (v4 : Int32) (G : g_G) (q : g_G), fX4_from_b39 E k9 n t v1 v2 v3 v4 G = some q → ∀ (H : Heap) (locs : List Loc) (cells slots : Nat) (ls : Array Slot), gSt E D G H locs → gls ls 5 [(0, .inr (.inr (some t))), (1, .inl v1), (2, .inl v2), (3, .inl v3), (4, .inl v4)] → gT p l e R s m args below meth c E D H locs cells slots none q (F0 m 39 ls []) := by
  obtain ⟨hx, hb, hml, hown, hts, hKn, hRc, hRs, hc1, hc2, hRf, hRl, hr, hlk, hnm⟩ := id C
  intro n
  induction n with
  | zero =>
    intro t v1 v2 v3 v4 G q h
    exact g_no h
  | succ n ih =>
    intro t v1 v2 v3 v4 G q h H locs cells slots ls hS hl
    rw [fX4_from_b39] at h
    refine g_iload hx hb hl 4 rfl dX4_from_39 ?_
    refine g_iload_n hx hb hl 3 rfl dX4_from_41 ?_
    refine lv_if_eq (tgt := 52) hx hb dX4_from_42 (by decide) (fun c_42 => ?_) (fun c_42 => ?_)
    · have h := g_ift c_42 h
      refine lv_iconst (v := 1) hx hb dX4_from_52 (by decide) ?_
      exact sX4_from_b53 C hk9 ih _ _ _ _ _ _ _ _ _ h _ _ _ _ _ hS (gls_sub hl [0, 1, 2, 3, 4] rfl)
    · have h := g_iff c_42 h
      refine g_aload_n hx hb hl 0 rfl dX4_from_45 ?_
      refine g_rdI hx hb hown hts hKn hS h fd_4_4_3 rfl (Or.inl (hts _ q1868)) (fun _ z => z) dX4_from_46 (fun x46 h => ?_)
      refine lv_goto (tgt := 53) hx hb dX4_from_49 (by decide) ?_
      exact sX4_from_b53 C hk9 ih _ _ _ _ _ _ _ _ _ h _ _ _ _ _ hS (gls_sub hl [0, 1, 2, 3, 4] rfl)
theorem sX4_from_b9 {p : Program} {l : Launch} {e : Env} {R : Room} {s : State} {m : MethodId} {args : Array Value} {below : List Frame} {meth : Method} {c : Code} {E : g_E} {D : g_D} (C : gC p R s m args meth c cX4_from 5 RX4 "from" (none) 10 282 E D) : ∀ (n : Nat) (t : Nat) (v1 : Int32) (v2 : Int32) (G : g_G) (q : g_G), fX4_from_b9 E n t v1 v2 G = some q → ∀ (H : Heap) (locs : List Loc) (cells slots : Nat) (ls : Array Slot), gSt E D G H locs → gls ls 5 [(0, .inr (.inr (some t))), (1, .inl v1), (2, .inl v2)] → gT p l e R s m args below meth c E D H locs cells slots none q (F0 m 9 ls []) := by
  obtain ⟨hx, hb, hml, hown, hts, hKn, hRc, hRs, hc1, hc2, hRf, hRl, hr, hlk, hnm⟩ := id C
  intro n
  induction n with
  | zero =>
    intro t v1 v2 G q h
    exact g_no h
  | succ n ih =>
    intro t v1 v2 G q h H locs cells slots ls hS hl
    rw [fX4_from_b9] at h
    refine g_iload_n hx hb hl 2 rfl dX4_from_9 ?_
    refine g_aload_n hx hb hl 0 rfl dX4_from_10 ?_
    refine g_rdI hx hb hown hts hKn hS h fd_4_4_3 rfl (Or.inl (hts _ q1868)) (fun _ z => z) dX4_from_11 (fun x11 h => ?_)
    refine lv_icmp_ge (tgt := 145) hx hb dX4_from_14 (by decide) (fun c_14 => ?_) (fun c_14 => ?_)
    · have h := g_ift c_14 h
      exact g_vretG hx hb hr hlk hKn hRc hRs hS h dX4_from_145
    · have h := g_iff c_14 h
      refine g_aload_n hx hb hl 0 rfl dX4_from_17 ?_
      refine g_rdI hx hb hown hts hKn hS h fd_4_4_48 rfl (Or.inl (hts _ q1913)) (fun _ z => z) dX4_from_18 (fun x18 h => ?_)
      refine lv_if_ne (tgt := 145) hx hb dX4_from_21 (by decide) (fun c_21 => ?_) (fun c_21 => ?_)
      · have h := g_ift c_21 h
        exact g_vretG hx hb hr hlk hKn hRc hRs hS h dX4_from_145
      · have h := g_iff (fun z => z c_21) h
        refine g_aload_n hx hb hl 0 rfl dX4_from_24 ?_
        refine g_iload_n hx hb hl 1 rfl dX4_from_25 ?_
        obtain ⟨b26, hb26, h⟩ := g_bnd h
        obtain ⟨hr26, hk26⟩ := g_chk hb26
        obtain ⟨z26, h26, h⟩ := g_bnd h
        refine g_callV (n := 1) (b := b26) (av := [.inl v1]) (rs := []) hx hb hml hown hts hKn hRc hRs hS hl (sX4_bring l E D h26) (lw_V q2276 q2278 qs84 q135 q2279) ⟨rfl, by decide, by decide, by decide +kernel⟩ ⟨by rw [hRf]; exact Nat.le_of_ble_eq_true rfl, by rw [hRl]; exact Nat.le_of_ble_eq_true rfl⟩ (g_recv hKn hS hk26 (by decide) (by decide)) rfl (by rw [hr26]; rfl) (Nat.le_of_ble_eq_true rfl) dX4_from_26 (fun H locs cells slots hS => ?_)
        refine g_aload_n hx hb hl 0 rfl dX4_from_29 ?_
        refine g_iload_n hx hb hl 2 rfl dX4_from_30 ?_
        refine lv_iconst (v := 4) hx hb dX4_from_31 (by decide) ?_
        obtain ⟨b32, hb32, h⟩ := g_bnd h
        obtain ⟨hr32, hk32⟩ := g_chk hb32
        obtain ⟨z32, h32, h⟩ := g_bnd h
        refine g_callV (n := 2) (b := b32) (av := [.inl v2, .inl 4]) (rs := []) hx hb hml hown hts hKn hRc hRs hS hl (sX4_isAt l E D h32) (lw_V q2280 q2282 qs85 q135 q2283) ⟨rfl, by decide, by decide, by decide +kernel⟩ ⟨by rw [hRf]; exact Nat.le_of_ble_eq_true rfl, by rw [hRl]; exact Nat.le_of_ble_eq_true rfl⟩ (g_recv hKn hS hk32 (by decide) (by decide)) rfl (by rw [hr32]; rfl) (Nat.le_of_ble_eq_true rfl) dX4_from_32 (fun H locs cells slots hS => ?_)
        refine g_istore_n (l1 := [(3, .inl z32.1), (0, .inr (.inr (some t))), (1, .inl v1), (2, .inl v2)]) hx hb hl (by decide) rfl dX4_from_35 (fun ls hl => ?_)
        refine lv_iconst (v := 0) hx hb dX4_from_36 (by decide) ?_
        refine g_istore (l1 := [(4, .inl 0), (3, .inl z32.1), (0, .inr (.inr (some t))), (1, .inl v1), (2, .inl v2)]) hx hb hl (by decide) rfl dX4_from_37 (fun ls hl => ?_)
        exact sX4_from_b39 C ih gFU _ _ _ _ _ _ _ h _ _ _ _ _ hS (gls_sub hl [2, 3, 4, 1, 0] rfl)
theorem sX4_from (l : Launch) (E : g_E) (D : g_D) {t : Nat} {v1 : Int32} {G : g_G} {q : g_G} (h : fX4_from E t v1 G = some q) : gMet l E D yX4_from (ws_ yX4_from cX4_from 5 (none)) 10 282 [.inr (.inr (some t)), .inl v1] G none q := by
  refine gMet.of (by decide +kernel) (Nat.le_of_ble_eq_true rfl) ?_
  intro p e R s m args below meth c C hS ls hl
  have C : gC p R s m args meth c cX4_from 5 RX4 "from" (none) 10 282 E D := C
  obtain ⟨hx, hb, hml, hown, hts, hKn, hRc, hRs, hc1, hc2, hRf, hRl, hr, hlk, hnm⟩ := id C
  have hl : gls ls 5 [(0, .inr (.inr (some t))), (1, .inl v1)] := hl
  generalize s.heap = H at hS ⊢
  unfold fX4_from at h
  refine g_aload_n hx hb hl 0 rfl dX4_from_0 ?_
  refine g_rdR hx hb hown hts hKn hS h fd_4_4_45 rfl (Or.inl (hts _ q1910)) (fun _ z => z) dX4_from_1 (fun x1 h => ?_)
  refine g_iload_n hx hb hl 1 rfl dX4_from_4 ?_
  refine lv_iconst (v := 1) hx hb dX4_from_5 (by decide) ?_
  refine g_zastoreG hx hb hKn hS h dX4_from_6 (fun G6 h H locs hS => ?_)
  refine lv_iconst (v := 0) hx hb dX4_from_7 (by decide) ?_
  refine g_istore_n (l1 := [(2, .inl 0), (0, .inr (.inr (some t))), (1, .inl v1)]) hx hb hl (by decide) rfl dX4_from_8 (fun ls hl => ?_)
  exact sX4_from_b9 C gFU _ _ _ _ _ h _ _ _ _ _ hS (gls_sub hl [1, 2, 0] rfl)
/-- SendHallModel.go()Z -/
def fX4_go_b73 (E : g_E) (t : Nat) (G : g_G) : Option (Int32 × g_G) :=
  (grI G 4 4 (some t) 48).bind fun x74 =>
  if ¬ x74 = 0 then (
    if (0 : Int32) = 0 ∨ (0 : Int32) = 1 then some (0, G) else none)
  else (
    if (1 : Int32) = 0 ∨ (1 : Int32) = 1 then some (1, G) else none)
def fX4_go_b47 (E : g_E) : Nat → Nat → Int32 → g_G → Option (Int32 × g_G)
  | 0, _, _, _ => none
  | n + 1, t, v1, G =>
    (grI G 4 4 (some t) 46).bind fun x49 =>
    if x49 ≤ v1 then (
      fX4_go_b73 E t G)
    else (
      (grI G 4 4 (some t) 48).bind fun x56 =>
      if ¬ x56 = 0 then (
        fX4_go_b73 E t G)
      else (
        (gchk G 4 (some t)).bind fun b64 =>
        (fX4_from E b64 v1 G).bind fun z64 =>
        fX4_go_b47 E n t (v1 + 1) z64))
def fX4_go_b17 (E : g_E) : Nat → Nat → Int32 → g_G → Option (Int32 × g_G)
  | 0, _, _, _ => none
  | n + 1, t, v1, G =>
    if (320 : Int32) ≤ v1 then (
      (gchk G 4 (some t)).bind fun b38 =>
      (fX4_begin E b38 G).bind fun z38 =>
      (gchk z38 4 (some t)).bind fun b42 =>
      (fX4_keep E b42 z38).bind fun z42 =>
      fX4_go_b47 E gFU t 0 z42)
    else (
      (grR G 4 4 (some t) 49).bind fun x25 =>
      (gsaI E G x25 v1 0).bind fun G30 =>
      fX4_go_b17 E n t (v1 + 1) G30)
def fX4_go (E : g_E) (t : Nat) (G : g_G) : Option (Int32 × g_G) :=
  (gpI E G 4 4 (some t) 46 0).bind fun G2 =>
  (gpZ E G2 4 4 (some t) 48 0).bind fun G7 =>
  (gpI E G7 4 4 (some t) 35 (-1)).bind fun G12 =>
  fX4_go_b17 E gFU t 0 G12
theorem sX4_go_b73 {p : Program} {l : Launch} {e : Env} {R : Room} {s : State} {m : MethodId} {args : Array Value} {below : List Frame} {meth : Method} {c : Code} {E : g_E} {D : g_D} (C : gC p R s m args meth c cX4_go 2 RX4 "go" (some .boolean) 11 306 E D) : ∀ (t : Nat) (G : g_G) (q : Int32 × g_G), fX4_go_b73 E t G = some q → ∀ (H : Heap) (locs : List Loc) (cells slots : Nat) (ls : Array Slot), gSt E D G H locs → gls ls 2 [(0, .inr (.inr (some t)))] → gT p l e R s m args below meth c E D H locs cells slots (some (.int q.1)) q.2 (F0 m 73 ls []) := by
  obtain ⟨hx, hb, hml, hown, hts, hKn, hRc, hRs, hc1, hc2, hRf, hRl, hr, hlk, hnm⟩ := id C
  intro t G q h H locs cells slots ls hS hl
  unfold fX4_go_b73 at h
  refine g_aload_n hx hb hl 0 rfl dX4_go_73 ?_
  refine g_rdI hx hb hown hts hKn hS h fd_4_4_48 rfl (Or.inl (hts _ q1913)) (fun _ z => z) dX4_go_74 (fun x74 h => ?_)
  refine lv_if_ne (tgt := 84) hx hb dX4_go_77 (by decide) (fun c_77 => ?_) (fun c_77 => ?_)
  · have h := g_ift c_77 h
    refine lv_iconst (v := 0) hx hb dX4_go_84 (by decide) ?_
    exact g_zretG hx hb hr hlk hKn hRc hRs hS h dX4_go_85
  · have h := g_iff (fun z => z c_77) h
    refine lv_iconst (v := 1) hx hb dX4_go_80 (by decide) ?_
    refine lv_goto (tgt := 85) hx hb dX4_go_81 (by decide) ?_
    exact g_zretG hx hb hr hlk hKn hRc hRs hS h dX4_go_85
theorem sX4_go_b47 {p : Program} {l : Launch} {e : Env} {R : Room} {s : State} {m : MethodId} {args : Array Value} {below : List Frame} {meth : Method} {c : Code} {E : g_E} {D : g_D} (C : gC p R s m args meth c cX4_go 2 RX4 "go" (some .boolean) 11 306 E D) : ∀ (n : Nat) (t : Nat) (v1 : Int32) (G : g_G) (q : Int32 × g_G), fX4_go_b47 E n t v1 G = some q → ∀ (H : Heap) (locs : List Loc) (cells slots : Nat) (ls : Array Slot), gSt E D G H locs → gls ls 2 [(0, .inr (.inr (some t))), (1, .inl v1)] → gT p l e R s m args below meth c E D H locs cells slots (some (.int q.1)) q.2 (F0 m 47 ls []) := by
  obtain ⟨hx, hb, hml, hown, hts, hKn, hRc, hRs, hc1, hc2, hRf, hRl, hr, hlk, hnm⟩ := id C
  intro n
  induction n with
  | zero =>
    intro t v1 G q h
    exact g_no h
  | succ n ih =>
    intro t v1 G q h H locs cells slots ls hS hl
    rw [fX4_go_b47] at h
    refine g_iload_n hx hb hl 1 rfl dX4_go_47 ?_
    refine g_aload_n hx hb hl 0 rfl dX4_go_48 ?_
    refine g_rdI hx hb hown hts hKn hS h fd_4_4_46 rfl (Or.inl (hts _ q1911)) (fun _ z => z) dX4_go_49 (fun x49 h => ?_)
    refine lv_icmp_ge (tgt := 73) hx hb dX4_go_52 (by decide) (fun c_52 => ?_) (fun c_52 => ?_)
    · have h := g_ift c_52 h
      exact sX4_go_b73 C _ _ _ h _ _ _ _ _ hS (gls_sub hl [0] rfl)
    · have h := g_iff c_52 h
      refine g_aload_n hx hb hl 0 rfl dX4_go_55 ?_
      refine g_rdI hx hb hown hts hKn hS h fd_4_4_48 rfl (Or.inl (hts _ q1913)) (fun _ z => z) dX4_go_56 (fun x56 h => ?_)
      refine lv_if_ne (tgt := 73) hx hb dX4_go_59 (by decide) (fun c_59 => ?_) (fun c_59 => ?_)
      · have h := g_ift c_59 h
        exact sX4_go_b73 C _ _ _ h _ _ _ _ _ hS (gls_sub hl [0] rfl)
      · have h := g_iff (fun z => z c_59) h
        refine g_aload_n hx hb hl 0 rfl dX4_go_62 ?_
        refine g_iload_n hx hb hl 1 rfl dX4_go_63 ?_
        obtain ⟨b64, hb64, h⟩ := g_bnd h
        obtain ⟨hr64, hk64⟩ := g_chk hb64
        obtain ⟨z64, h64, h⟩ := g_bnd h
        refine g_callV (n := 1) (b := b64) (av := [.inl v1]) (rs := []) hx hb hml hown hts hKn hRc hRs hS hl (sX4_from l E D h64) (lw_V q2272 q2274 qs83 q135 q2275) ⟨rfl, by decide, by decide, by decide +kernel⟩ ⟨by rw [hRf]; exact Nat.le_of_ble_eq_true rfl, by rw [hRl]; exact Nat.le_of_ble_eq_true rfl⟩ (g_recv hKn hS hk64 (by decide) (by decide)) rfl (by rw [hr64]; rfl) (Nat.le_of_ble_eq_true rfl) dX4_go_64 (fun H locs cells slots hS => ?_)
        refine g_iinc (l1 := [(1, .inl (v1 + 1)), (0, .inr (.inr (some t)))]) (v := (v1 + 1)) hx hb hl (k := 1) rfl (by rfl) (by decide) rfl dX4_go_67 (fun ls hl => ?_)
        refine lv_goto (tgt := 47) hx hb dX4_go_70 (by decide) ?_
        exact ih _ _ _ _ h _ _ _ _ _ hS (gls_sub hl [1, 0] rfl)
theorem sX4_go_b17 {p : Program} {l : Launch} {e : Env} {R : Room} {s : State} {m : MethodId} {args : Array Value} {below : List Frame} {meth : Method} {c : Code} {E : g_E} {D : g_D} (C : gC p R s m args meth c cX4_go 2 RX4 "go" (some .boolean) 11 306 E D) : ∀ (n : Nat) (t : Nat) (v1 : Int32) (G : g_G) (q : Int32 × g_G), fX4_go_b17 E n t v1 G = some q → ∀ (H : Heap) (locs : List Loc) (cells slots : Nat) (ls : Array Slot), gSt E D G H locs → gls ls 2 [(0, .inr (.inr (some t))), (1, .inl v1)] → gT p l e R s m args below meth c E D H locs cells slots (some (.int q.1)) q.2 (F0 m 17 ls []) := by
  obtain ⟨hx, hb, hml, hown, hts, hKn, hRc, hRs, hc1, hc2, hRf, hRl, hr, hlk, hnm⟩ := id C
  intro n
  induction n with
  | zero =>
    intro t v1 G q h
    exact g_no h
  | succ n ih =>
    intro t v1 G q h H locs cells slots ls hS hl
    rw [fX4_go_b17] at h
    refine g_iload_n hx hb hl 1 rfl dX4_go_17 ?_
    refine lv_sipush (v := 320) hx hb dX4_go_18 (by decide) ?_
    refine lv_icmp_ge (tgt := 37) hx hb dX4_go_21 (by decide) (fun c_21 => ?_) (fun c_21 => ?_)
    · have h := g_ift c_21 h
      refine g_aload_n hx hb hl 0 rfl dX4_go_37 ?_
      obtain ⟨b38, hb38, h⟩ := g_bnd h
      obtain ⟨hr38, hk38⟩ := g_chk hb38
      obtain ⟨z38, h38, h⟩ := g_bnd h
      refine g_callV (n := 0) (b := b38) (av := []) (rs := []) hx hb hml hown hts hKn hRc hRs hS hl (sX4_begin l E D h38) (lw_V q2225 q2227 qs72 q135 q2228) ⟨rfl, by decide, by decide, by decide +kernel⟩ ⟨by rw [hRf]; exact Nat.le_of_ble_eq_true rfl, by rw [hRl]; exact Nat.le_of_ble_eq_true rfl⟩ (g_recv hKn hS hk38 (by decide) (by decide)) rfl (by rw [hr38]; rfl) (Nat.le_of_ble_eq_true rfl) dX4_go_38 (fun H locs cells slots hS => ?_)
      refine g_aload_n hx hb hl 0 rfl dX4_go_41 ?_
      obtain ⟨b42, hb42, h⟩ := g_bnd h
      obtain ⟨hr42, hk42⟩ := g_chk hb42
      obtain ⟨z42, h42, h⟩ := g_bnd h
      refine g_callV (n := 0) (b := b42) (av := []) (rs := []) hx hb hml hown hts hKn hRc hRs hS hl (sX4_keep l E D h42) (lw_V q2260 q2262 qs80 q135 q2263) ⟨rfl, by decide, by decide, by decide +kernel⟩ ⟨by rw [hRf]; exact Nat.le_of_ble_eq_true rfl, by rw [hRl]; exact Nat.le_of_ble_eq_true rfl⟩ (g_recv hKn hS hk42 (by decide) (by decide)) rfl (by rw [hr42]; rfl) (Nat.le_of_ble_eq_true rfl) dX4_go_42 (fun H locs cells slots hS => ?_)
      refine lv_iconst (v := 0) hx hb dX4_go_45 (by decide) ?_
      refine g_istore_n (l1 := [(1, .inl 0), (0, .inr (.inr (some t)))]) hx hb hl (by decide) rfl dX4_go_46 (fun ls hl => ?_)
      exact sX4_go_b47 C gFU _ _ _ _ h _ _ _ _ _ hS (gls_sub hl [1, 0] rfl)
    · have h := g_iff c_21 h
      refine g_aload_n hx hb hl 0 rfl dX4_go_24 ?_
      refine g_rdR hx hb hown hts hKn hS h fd_4_4_49 rfl (Or.inl (hts _ q1914)) (fun _ z => z) dX4_go_25 (fun x25 h => ?_)
      refine g_iload_n hx hb hl 1 rfl dX4_go_28 ?_
      refine lv_iconst (v := 0) hx hb dX4_go_29 (by decide) ?_
      refine g_iastoreG hx hb hKn hS h dX4_go_30 (fun G30 h H locs hS => ?_)
      refine g_iinc (l1 := [(1, .inl (v1 + 1)), (0, .inr (.inr (some t)))]) (v := (v1 + 1)) hx hb hl (k := 1) rfl (by rfl) (by decide) rfl dX4_go_31 (fun ls hl => ?_)
      refine lv_goto (tgt := 17) hx hb dX4_go_34 (by decide) ?_
      exact ih _ _ _ _ h _ _ _ _ _ hS (gls_sub hl [1, 0] rfl)
theorem sX4_go (l : Launch) (E : g_E) (D : g_D) {t : Nat} {G : g_G} {q : Int32 × g_G} (h : fX4_go E t G = some q) : gMet l E D yX4_go (ws_ yX4_go cX4_go 2 (some .boolean)) 11 306 [.inr (.inr (some t))] G (some (.int q.1)) q.2 := by
  refine gMet.of (by decide +kernel) (Nat.le_of_ble_eq_true rfl) ?_
  intro p e R s m args below meth c C hS ls hl
  have C : gC p R s m args meth c cX4_go 2 RX4 "go" (some .boolean) 11 306 E D := C
  obtain ⟨hx, hb, hml, hown, hts, hKn, hRc, hRs, hc1, hc2, hRf, hRl, hr, hlk, hnm⟩ := id C
  have hl : gls ls 2 [(0, .inr (.inr (some t)))] := hl
  generalize s.heap = H at hS ⊢
  unfold fX4_go at h
  refine g_aload_n hx hb hl 0 rfl dX4_go_0 ?_
  refine lv_iconst (v := 0) hx hb dX4_go_1 (by decide) ?_
  refine g_ptI hx hb hown hts hKn hS h fd_4_4_46 (Or.inl (hts _ q1911)) (fun _ z => z) (fun z => nomatch z) dX4_go_2 (fun G2 h H locs hS => ?_)
  refine g_aload_n hx hb hl 0 rfl dX4_go_5 ?_
  refine lv_iconst (v := 0) hx hb dX4_go_6 (by decide) ?_
  refine g_ptZ hx hb hown hts hKn hS h fd_4_4_48 (Or.inl (hts _ q1913)) (fun _ z => z) (fun z => nomatch z) dX4_go_7 (fun G7 h H locs hS => ?_)
  refine g_aload_n hx hb hl 0 rfl dX4_go_10 ?_
  refine lv_iconst (v := (-1)) hx hb dX4_go_11 (by decide) ?_
  refine g_ptI hx hb hown hts hKn hS h fd_4_4_35 (Or.inl (hts _ q1900)) (fun _ z => z) (fun z => nomatch z) dX4_go_12 (fun G12 h H locs hS => ?_)
  refine lv_iconst (v := 0) hx hb dX4_go_15 (by decide) ?_
  refine g_istore_n (l1 := [(1, .inl 0), (0, .inr (.inr (some t)))]) hx hb hl (by decide) rfl dX4_go_16 (fun ls hl => ?_)
  exact sX4_go_b17 C gFU _ _ _ _ h _ _ _ _ _ hS (gls_sub hl [1, 0] rfl)
/-- SendHallModel.least(I)I -/
def fX4_least_b90 (E : g_E) (t : Nat) (v2 : Int32) (v3 : Int32) (v4 : Int32) (G : g_G) : Option (Int32 × g_G) :=
  (gpI E G 4 4 (some t) 4 v2).bind fun G92 =>
  (gpI E G92 4 4 (some t) 3 v3).bind fun G97 =>
  some (v4, G97)
def fX4_least_b84 (E : g_E) (k51 : Nat → Int32 → Int32 → Int32 → Int32 → g_G → Option (Int32 × g_G)) (t : Nat) (v2 : Int32) (v3 : Int32) (v4 : Int32) (v5 : Int32) (G : g_G) : Option (Int32 × g_G) :=
  k51 t v2 v3 v4 (v5 + 1) G
def fX4_least_b51 (E : g_E) : Nat → Nat → Int32 → Int32 → Int32 → Int32 → g_G → Option (Int32 × g_G)
  | 0, _, _, _, _, _, _ => none
  | n + 1, t, v2, v3, v4, v5, G =>
    if (8 : Int32) < v5 then (
      fX4_least_b90 E t v2 v3 v4 G)
    else (
      if ¬ v4 = (-1 : Int32) then (
        fX4_least_b90 E t v2 v3 v4 G)
      else (
        (gpI E G 4 4 (some t) 3 v5).bind fun G67 =>
        (gchk G67 4 (some t)).bind fun b73 =>
        (fX4_run E b73 0 0 G67).bind fun z73 =>
        if ¬ z73.1 = (2 : Int32) then (
          fX4_least_b84 E (fX4_least_b51 E n) t v2 v3 v4 v5 z73.2)
        else (
          fX4_least_b84 E (fX4_least_b51 E n) t v2 v3 v5 v5 z73.2)))
def fX4_least (E : g_E) (t : Nat) (v1 : Int32) (G : g_G) : Option (Int32 × g_G) :=
  (gpI E G 4 4 (some t) 2 0).bind fun G2 =>
  (fX4_isIn E v1 0 3 G2).bind fun z8 =>
  if ¬ z8.1 = 0 then (
    (gchk z8.2 4 (some t)).bind fun b21 =>
    (fX4_anySteps E b21 z8.2).bind fun z21 =>
    if z21.1 ≤ 0 then (
      (grI z21.2 4 4 (some t) 4).bind fun x31 =>
      (grI z21.2 4 4 (some t) 3).bind fun x36 =>
      (gpI E z21.2 4 4 (some t) 4 v1).bind fun G42 =>
      fX4_least_b51 E gFU t x31 x36 (-1) 2 G42)
    else (
      some ((-2), z21.2)))
  else (
    (gchk z8.2 4 (some t)).bind fun b16 =>
    (fX4_fail E b16 1 z8.2).bind fun z16 =>
    some (z16.1, z16.2))
theorem sX4_least_b90 {p : Program} {l : Launch} {e : Env} {R : Room} {s : State} {m : MethodId} {args : Array Value} {below : List Frame} {meth : Method} {c : Code} {E : g_E} {D : g_D} (C : gC p R s m args meth c cX4_least 6 RX4 "least" (some .int) 11 310 E D) : ∀ (t : Nat) (v2 : Int32) (v3 : Int32) (v4 : Int32) (G : g_G) (q : Int32 × g_G), fX4_least_b90 E t v2 v3 v4 G = some q → ∀ (H : Heap) (locs : List Loc) (cells slots : Nat) (ls : Array Slot), gSt E D G H locs → gls ls 6 [(0, .inr (.inr (some t))), (2, .inl v2), (3, .inl v3), (4, .inl v4)] → gT p l e R s m args below meth c E D H locs cells slots (some (.int q.1)) q.2 (F0 m 90 ls []) := by
  obtain ⟨hx, hb, hml, hown, hts, hKn, hRc, hRs, hc1, hc2, hRf, hRl, hr, hlk, hnm⟩ := id C
  intro t v2 v3 v4 G q h H locs cells slots ls hS hl
  unfold fX4_least_b90 at h
  refine g_aload_n hx hb hl 0 rfl dX4_least_90 ?_
  refine g_iload_n hx hb hl 1 rfl dX4_least_91 ?_
  refine g_ptI hx hb hown hts hKn hS h fd_4_4_4 (Or.inl (hts _ q1869)) (fun _ z => z) (fun z => nomatch z) dX4_least_92 (fun G92 h H locs hS => ?_)
  refine g_aload_n hx hb hl 0 rfl dX4_least_95 ?_
  refine g_iload_n hx hb hl 2 rfl dX4_least_96 ?_
  refine g_ptI hx hb hown hts hKn hS h fd_4_4_3 (Or.inl (hts _ q1868)) (fun _ z => z) (fun z => nomatch z) dX4_least_97 (fun G97 h H locs hS => ?_)
  refine g_iload hx hb hl 3 rfl dX4_least_100 ?_
  exact g_iretG hx hb hr hlk hKn hRc hRs hS h dX4_least_102
theorem sX4_least_b84 {p : Program} {l : Launch} {e : Env} {R : Room} {s : State} {m : MethodId} {args : Array Value} {below : List Frame} {meth : Method} {c : Code} {E : g_E} {D : g_D} (C : gC p R s m args meth c cX4_least 6 RX4 "least" (some .int) 11 310 E D) {k51 : Nat → Int32 → Int32 → Int32 → Int32 → g_G → Option (Int32 × g_G)} (hk51 : ∀ (t : Nat) (v2 : Int32) (v3 : Int32) (v4 : Int32) (v5 : Int32) (G : g_G) (q : Int32 × g_G), k51 t v2 v3 v4 v5 G = some q → ∀ (H : Heap) (locs : List Loc) (cells slots : Nat) (ls : Array Slot), gSt E D G H locs → gls ls 6 [(0, .inr (.inr (some t))), (2, .inl v2), (3, .inl v3), (4, .inl v4), (5, .inl v5)] → gT p l e R s m args below meth c E D H locs cells slots (some (.int q.1)) q.2 (F0 m 51 ls [])) : ∀ (t : Nat) (v2 : Int32) (v3 : Int32) (v4 : Int32) (v5 : Int32) (G : g_G) (q : Int32 × g_G), fX4_least_b84 E k51 t v2 v3 v4 v5 G = some q → ∀ (H : Heap) (locs : List Loc) (cells slots : Nat) (ls : Array Slot), gSt E D G H locs → gls ls 6 [(0, .inr (.inr (some t))), (2, .inl v2), (3, .inl v3), (4, .inl v4), (5, .inl v5)] → gT p l e R s m args below meth c E D H locs cells slots (some (.int q.1)) q.2 (F0 m 84 ls []) := by
  obtain ⟨hx, hb, hml, hown, hts, hKn, hRc, hRs, hc1, hc2, hRf, hRl, hr, hlk, hnm⟩ := id C
  intro t v2 v3 v4 v5 G q h H locs cells slots ls hS hl
  unfold fX4_least_b84 at h
  refine g_iinc (l1 := [(5, .inl (v5 + 1)), (0, .inr (.inr (some t))), (2, .inl v2), (3, .inl v3), (4, .inl v4)]) (v := (v5 + 1)) hx hb hl (k := 4) rfl (by rfl) (by decide) rfl dX4_least_84 (fun ls hl => ?_)
  refine lv_goto (tgt := 51) hx hb dX4_least_87 (by decide) ?_
  exact hk51 _ _ _ _ _ _ _ h _ _ _ _ _ hS (gls_sub hl [1, 2, 3, 4, 0] rfl)
theorem sX4_least_b51 {p : Program} {l : Launch} {e : Env} {R : Room} {s : State} {m : MethodId} {args : Array Value} {below : List Frame} {meth : Method} {c : Code} {E : g_E} {D : g_D} (C : gC p R s m args meth c cX4_least 6 RX4 "least" (some .int) 11 310 E D) : ∀ (n : Nat) (t : Nat) (v2 : Int32) (v3 : Int32) (v4 : Int32) (v5 : Int32) (G : g_G) (q : Int32 × g_G), fX4_least_b51 E n t v2 v3 v4 v5 G = some q → ∀ (H : Heap) (locs : List Loc) (cells slots : Nat) (ls : Array Slot), gSt E D G H locs → gls ls 6 [(0, .inr (.inr (some t))), (2, .inl v2), (3, .inl v3), (4, .inl v4), (5, .inl v5)] → gT p l e R s m args below meth c E D H locs cells slots (some (.int q.1)) q.2 (F0 m 51 ls []) := by
  obtain ⟨hx, hb, hml, hown, hts, hKn, hRc, hRs, hc1, hc2, hRf, hRl, hr, hlk, hnm⟩ := id C
  intro n
  induction n with
  | zero =>
    intro t v2 v3 v4 v5 G q h
    exact g_no h
  | succ n ih =>
    intro t v2 v3 v4 v5 G q h H locs cells slots ls hS hl
    rw [fX4_least_b51] at h
    refine g_iload hx hb hl 4 rfl dX4_least_51 ?_
    refine lv_bipush (v := 8) hx hb dX4_least_53 (by decide) ?_
    refine lv_icmp_gt (tgt := 90) hx hb dX4_least_55 (by decide) (fun c_55 => ?_) (fun c_55 => ?_)
    · have h := g_ift c_55 h
      exact sX4_least_b90 C _ _ _ _ _ _ h _ _ _ _ _ hS (gls_sub hl [0, 1, 2, 3] rfl)
    · have h := g_iff c_55 h
      refine g_iload hx hb hl 3 rfl dX4_least_58 ?_
      refine lv_iconst (v := (-1)) hx hb dX4_least_60 (by decide) ?_
      refine lv_icmp_ne (tgt := 90) hx hb dX4_least_61 (by decide) (fun c_61 => ?_) (fun c_61 => ?_)
      · have h := g_ift c_61 h
        exact sX4_least_b90 C _ _ _ _ _ _ h _ _ _ _ _ hS (gls_sub hl [0, 1, 2, 3] rfl)
      · have h := g_iff (fun z => z c_61) h
        refine g_aload_n hx hb hl 0 rfl dX4_least_64 ?_
        refine g_iload hx hb hl 4 rfl dX4_least_65 ?_
        refine g_ptI hx hb hown hts hKn hS h fd_4_4_3 (Or.inl (hts _ q1868)) (fun _ z => z) (fun z => nomatch z) dX4_least_67 (fun G67 h H locs hS => ?_)
        refine g_aload_n hx hb hl 0 rfl dX4_least_70 ?_
        refine lv_iconst (v := 0) hx hb dX4_least_71 (by decide) ?_
        refine lv_lconst (v := 0) hx hb dX4_least_72 (by decide) ?_
        obtain ⟨b73, hb73, h⟩ := g_bnd h
        obtain ⟨hr73, hk73⟩ := g_chk hb73
        obtain ⟨z73, h73, h⟩ := g_bnd h
        refine g_callV (n := 2) (b := b73) (av := [.inl 0, .inr (.inl 0)]) (rs := []) hx hb hml hown hts hKn hRc hRs hS hl (sX4_run l E D h73) (lw_V q2412 q2414 qs108 q135 q2415) ⟨rfl, by decide, by decide, by decide +kernel⟩ ⟨by rw [hRf]; exact Nat.le_of_ble_eq_true rfl, by rw [hRl]; exact Nat.le_of_ble_eq_true rfl⟩ (g_recv hKn hS hk73 (by decide) (by decide)) rfl (by rw [hr73]; rfl) (Nat.le_of_ble_eq_true rfl) dX4_least_73 (fun H locs cells slots hS => ?_)
        refine lv_iconst (v := 2) hx hb dX4_least_76 (by decide) ?_
        refine lv_icmp_ne (tgt := 84) hx hb dX4_least_77 (by decide) (fun c_77 => ?_) (fun c_77 => ?_)
        · have h := g_ift c_77 h
          exact sX4_least_b84 C ih _ _ _ _ _ _ _ h _ _ _ _ _ hS (gls_sub hl [0, 1, 2, 3, 4] rfl)
        · have h := g_iff (fun z => z c_77) h
          refine g_iload hx hb hl 4 rfl dX4_least_80 ?_
          refine g_istore (l1 := [(4, .inl v5), (0, .inr (.inr (some t))), (2, .inl v2), (3, .inl v3), (5, .inl v5)]) hx hb hl (by decide) rfl dX4_least_82 (fun ls hl => ?_)
          exact sX4_least_b84 C ih _ _ _ _ _ _ _ h _ _ _ _ _ hS (gls_sub hl [1, 2, 3, 0, 4] rfl)
theorem sX4_least (l : Launch) (E : g_E) (D : g_D) {t : Nat} {v1 : Int32} {G : g_G} {q : Int32 × g_G} (h : fX4_least E t v1 G = some q) : gMet l E D yX4_least (ws_ yX4_least cX4_least 6 (some .int)) 11 310 [.inr (.inr (some t)), .inl v1] G (some (.int q.1)) q.2 := by
  refine gMet.of (by decide +kernel) (Nat.le_of_ble_eq_true rfl) ?_
  intro p e R s m args below meth c C hS ls hl
  have C : gC p R s m args meth c cX4_least 6 RX4 "least" (some .int) 11 310 E D := C
  obtain ⟨hx, hb, hml, hown, hts, hKn, hRc, hRs, hc1, hc2, hRf, hRl, hr, hlk, hnm⟩ := id C
  have hl : gls ls 6 [(0, .inr (.inr (some t))), (1, .inl v1)] := hl
  generalize s.heap = H at hS ⊢
  unfold fX4_least at h
  refine g_aload_n hx hb hl 0 rfl dX4_least_0 ?_
  refine lv_iconst (v := 0) hx hb dX4_least_1 (by decide) ?_
  refine g_ptI hx hb hown hts hKn hS h fd_4_4_2 (Or.inl (hts _ q1867)) (fun _ z => z) (fun z => nomatch z) dX4_least_2 (fun G2 h H locs hS => ?_)
  refine g_iload_n hx hb hl 1 rfl dX4_least_5 ?_
  refine lv_iconst (v := 0) hx hb dX4_least_6 (by decide) ?_
  refine lv_iconst (v := 3) hx hb dX4_least_7 (by decide) ?_
  obtain ⟨z8, h8, h⟩ := g_bnd h
  refine g_callS (n := 3) (av := [.inl v1, .inl 0, .inl 3]) (rs := []) hx hb hml hown hts hKn hRc hRs hS hl (sX4_isIn l E D h8) (lw_S q2180 q2181 q135 q2182) ⟨by decide, by decide, by decide +kernel⟩ ⟨by rw [hRf]; exact Nat.le_of_ble_eq_true rfl, by rw [hRl]; exact Nat.le_of_ble_eq_true rfl⟩ rfl rfl (Nat.le_of_ble_eq_true rfl) dX4_least_8 (fun H locs cells slots hS => ?_)
  refine lv_if_ne (tgt := 20) hx hb dX4_least_11 (by decide) (fun c_11 => ?_) (fun c_11 => ?_)
  · have h := g_ift c_11 h
    refine g_aload_n hx hb hl 0 rfl dX4_least_20 ?_
    obtain ⟨b21, hb21, h⟩ := g_bnd h
    obtain ⟨hr21, hk21⟩ := g_chk hb21
    obtain ⟨z21, h21, h⟩ := g_bnd h
    refine g_callV (n := 0) (b := b21) (av := []) (rs := []) hx hb hml hown hts hKn hRc hRs hS hl (sX4_anySteps l E D h21) (lw_V q2201 q2203 qs68 q135 q2204) ⟨rfl, by decide, by decide, by decide +kernel⟩ ⟨by rw [hRf]; exact Nat.le_of_ble_eq_true rfl, by rw [hRl]; exact Nat.le_of_ble_eq_true rfl⟩ (g_recv hKn hS hk21 (by decide) (by decide)) rfl (by rw [hr21]; rfl) (Nat.le_of_ble_eq_true rfl) dX4_least_21 (fun H locs cells slots hS => ?_)
    refine lv_if_le (tgt := 30) hx hb dX4_least_24 (by decide) (fun c_24 => ?_) (fun c_24 => ?_)
    · have h := g_ift c_24 h
      refine g_aload_n hx hb hl 0 rfl dX4_least_30 ?_
      refine g_rdI hx hb hown hts hKn hS h fd_4_4_4 rfl (Or.inl (hts _ q1869)) (fun _ z => z) dX4_least_31 (fun x31 h => ?_)
      refine g_istore_n (l1 := [(2, .inl x31), (0, .inr (.inr (some t))), (1, .inl v1)]) hx hb hl (by decide) rfl dX4_least_34 (fun ls hl => ?_)
      refine g_aload_n hx hb hl 1 rfl dX4_least_35 ?_
      refine g_rdI hx hb hown hts hKn hS h fd_4_4_3 rfl (Or.inl (hts _ q1868)) (fun _ z => z) dX4_least_36 (fun x36 h => ?_)
      refine g_istore_n (l1 := [(3, .inl x36), (2, .inl x31), (0, .inr (.inr (some t))), (1, .inl v1)]) hx hb hl (by decide) rfl dX4_least_39 (fun ls hl => ?_)
      refine g_aload_n hx hb hl 2 rfl dX4_least_40 ?_
      refine g_iload_n hx hb hl 3 rfl dX4_least_41 ?_
      refine g_ptI hx hb hown hts hKn hS h fd_4_4_4 (Or.inl (hts _ q1869)) (fun _ z => z) (fun z => nomatch z) dX4_least_42 (fun G42 h H locs hS => ?_)
      refine lv_iconst (v := (-1)) hx hb dX4_least_45 (by decide) ?_
      refine g_istore (l1 := [(4, .inl (-1)), (3, .inl x36), (2, .inl x31), (0, .inr (.inr (some t))), (1, .inl v1)]) hx hb hl (by decide) rfl dX4_least_46 (fun ls hl => ?_)
      refine lv_iconst (v := 2) hx hb dX4_least_48 (by decide) ?_
      refine g_istore (l1 := [(5, .inl 2), (4, .inl (-1)), (3, .inl x36), (2, .inl x31), (0, .inr (.inr (some t))), (1, .inl v1)]) hx hb hl (by decide) rfl dX4_least_49 (fun ls hl => ?_)
      exact sX4_least_b51 C gFU _ _ _ _ _ _ _ h _ _ _ _ _ hS (gls_sub hl [4, 3, 2, 1, 0] rfl)
    · have h := g_iff c_24 h
      refine lv_bipush (v := (-2)) hx hb dX4_least_27 (by decide) ?_
      exact g_iretG hx hb hr hlk hKn hRc hRs hS h dX4_least_29
  · have h := g_iff (fun z => z c_11) h
    refine g_aload_n hx hb hl 0 rfl dX4_least_14 ?_
    refine lv_iconst (v := 1) hx hb dX4_least_15 (by decide) ?_
    obtain ⟨b16, hb16, h⟩ := g_bnd h
    obtain ⟨hr16, hk16⟩ := g_chk hb16
    obtain ⟨z16, h16, h⟩ := g_bnd h
    refine g_callV (n := 1) (b := b16) (av := [.inl 1]) (rs := []) hx hb hml hown hts hKn hRc hRs hS hl (sX4_fail l E D h16) (lw_V q2088 q2090 qs48 q135 q2091) ⟨rfl, by decide, by decide, by decide +kernel⟩ ⟨by rw [hRf]; exact Nat.le_of_ble_eq_true rfl, by rw [hRl]; exact Nat.le_of_ble_eq_true rfl⟩ (g_recv hKn hS hk16 (by decide) (by decide)) rfl (by rw [hr16]; rfl) (Nat.le_of_ble_eq_true rfl) dX4_least_16 (fun H locs cells slots hS => ?_)
    exact g_iretG hx hb hr hlk hKn hRc hRs hS h dX4_least_19
