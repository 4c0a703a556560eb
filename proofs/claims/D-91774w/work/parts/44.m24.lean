set_option maxRecDepth 100000
/-- SendHallModel.readSum(I)V -/
def fX4_readSum_b37 (E : g_E) (fM : g_E → Nat → Int32 → g_G → Option (g_G)) (k5 : Nat → Int32 → g_G → Option (g_G)) (t : Nat) (v1 : Int32) (s0 : Int32) (G : g_G) : Option (g_G) :=
  (gchk G 4 (some t)).bind fun b39 =>
  (fX4_stepOn E b39 G).bind fun z39 =>
  (gchk z39 4 (some t)).bind fun b44 =>
  (fX4_readProduct E fM b44 v1 z39).bind fun z44 =>
  (gchk z44 4 (some t)).bind fun b49 =>
  (fX4_emit E b49 s0 z44).bind fun z49 =>
  k5 t v1 z49
def fX4_readSum_b23 (E : g_E) (fM : g_E → Nat → Int32 → g_G → Option (g_G)) (k5 : Nat → Int32 → g_G → Option (g_G)) (t : Nat) (v1 : Int32) (G : g_G) : Option (g_G) :=
  (gchk G 4 (some t)).bind fun b26 =>
  (fX4_isSign E b26 43 G).bind fun z26 =>
  if z26.1 = 0 then (
    fX4_readSum_b37 E fM k5 t v1 2 z26.2)
  else (
    fX4_readSum_b37 E fM k5 t v1 1 z26.2)
def fX4_readSum_b5 (E : g_E) (fM : g_E → Nat → Int32 → g_G → Option (g_G)) : Nat → Nat → Int32 → g_G → Option (g_G)
  | 0, _, _, _ => none
  | n + 1, t, v1, G =>
    (gchk G 4 (some t)).bind fun b8 =>
    (fX4_isSign E b8 43 G).bind fun z8 =>
    if ¬ z8.1 = 0 then (
      fX4_readSum_b23 E fM (fX4_readSum_b5 E fM n) t v1 z8.2)
    else (
      (gchk z8.2 4 (some t)).bind fun b17 =>
      (fX4_isSign E b17 45 z8.2).bind fun z17 =>
      if z17.1 = 0 then (
        some z17.2)
      else (
        fX4_readSum_b23 E fM (fX4_readSum_b5 E fM n) t v1 z17.2))
def fX4_readSum (E : g_E) (fM : g_E → Nat → Int32 → g_G → Option (g_G)) (t : Nat) (v1 : Int32) (G : g_G) : Option (g_G) :=
  (gchk G 4 (some t)).bind fun b2 =>
  (fX4_readProduct E fM b2 v1 G).bind fun z2 =>
  fX4_readSum_b5 E fM gFU t v1 z2
theorem sX4_readSum_b37 {p : Program} {l : Launch} {e : Env} {R : Room} {s : State} {m : MethodId} {args : Array Value} {below : List Frame} {meth : Method} {c : Code} {E : g_E} {D : g_D} {fM : g_E → Nat → Int32 → g_G → Option (g_G)} {fF : Nat} {fL : Nat} (C : gC p R s m args meth c cX4_readSum 3 RX4 "readSum" (none) (fF + 6) (fL + 300) E D) (hfM : ∀ (l : Launch) (E : g_E) (D : g_D), ∀ {t : Nat} {v1 : Int32} {G : g_G} {q : g_G}, fM E t v1 G = some q → gMet l E D yX4_readExpression (ws_ yX4_readExpression cX4_readExpression 4 (none)) fF fL [.inr (.inr (some t)), .inl v1] G none q) (hF : 60 ≤ fF) (hL : 3000 ≤ fL) {k5 : Nat → Int32 → g_G → Option (g_G)} (hk5 : ∀ (t : Nat) (v1 : Int32) (G : g_G) (q : g_G), k5 t v1 G = some q → ∀ (H : Heap) (locs : List Loc) (cells slots : Nat) (ls : Array Slot), gSt E D G H locs → gls ls 3 [(0, .inr (.inr (some t))), (1, .inl v1)] → gT p l e R s m args below meth c E D H locs cells slots none q (F0 m 5 ls [])) : ∀ (t : Nat) (v1 : Int32) (s0 : Int32) (G : g_G) (q : g_G), fX4_readSum_b37 E fM k5 t v1 s0 G = some q → ∀ (H : Heap) (locs : List Loc) (cells slots : Nat) (ls : Array Slot), gSt E D G H locs → gls ls 3 [(0, .inr (.inr (some t))), (1, .inl v1)] → gT p l e R s m args below meth c E D H locs cells slots none q (F0 m 37 ls [.int s0]) := by
  obtain ⟨hx, hb, hml, hown, hts, hKn, hRc, hRs, hc1, hc2, hRf, hRl, hr, hlk, hnm⟩ := id C
  intro t v1 s0 G q h H locs cells slots ls hS hl
  unfold fX4_readSum_b37 at h
  refine g_istore_n (l1 := [(2, .inl s0), (0, .inr (.inr (some t))), (1, .inl v1)]) hx hb hl (by decide) rfl dX4_readSum_37 (fun ls hl => ?_)
  refine g_aload_n hx hb hl 1 rfl dX4_readSum_38 ?_
  obtain ⟨b39, hb39, h⟩ := g_bnd h
  obtain ⟨hr39, hk39⟩ := g_chk hb39
  obtain ⟨z39, h39, h⟩ := g_bnd h
  refine g_callV (n := 0) (b := b39) (av := []) (rs := []) hx hb hml hown hts hKn hRc hRs hS hl (sX4_stepOn l E D h39) (lw_V q2092 q2094 qs49 q135 q2095) ⟨rfl, by decide, by decide, by decide +kernel⟩ ⟨by rw [hRf]; omega, by rw [hRl]; omega⟩ (g_recv hKn hS hk39 (by decide) (by decide)) rfl (by rw [hr39]; rfl) (Nat.le_of_ble_eq_true rfl) dX4_readSum_39 (fun H locs cells slots hS => ?_)
  refine g_aload_n hx hb hl 1 rfl dX4_readSum_42 ?_
  refine g_iload_n hx hb hl 2 rfl dX4_readSum_43 ?_
  obtain ⟨b44, hb44, h⟩ := g_bnd h
  obtain ⟨hr44, hk44⟩ := g_chk hb44
  obtain ⟨z44, h44, h⟩ := g_bnd h
  refine g_callV (n := 1) (b := b44) (av := [.inl v1]) (rs := []) hx hb hml hown hts hKn hRc hRs hS hl (sX4_readProduct l E D hfM hF hL h44) (lw_V q2148 q2150 qs60 q135 q2151) ⟨rfl, by decide, by decide, by decide +kernel⟩ ⟨by rw [hRf]; omega, by rw [hRl]; omega⟩ (g_recv hKn hS hk44 (by decide) (by decide)) rfl (by rw [hr44]; rfl) (Nat.le_of_ble_eq_true rfl) dX4_readSum_44 (fun H locs cells slots hS => ?_)
  refine g_aload_n hx hb hl 1 rfl dX4_readSum_47 ?_
  refine g_iload_n hx hb hl 0 rfl dX4_readSum_48 ?_
  obtain ⟨b49, hb49, h⟩ := g_bnd h
  obtain ⟨hr49, hk49⟩ := g_chk hb49
  obtain ⟨z49, h49, h⟩ := g_bnd h
  refine g_callV (n := 1) (b := b49) (av := [.inl s0]) (rs := []) hx hb hml hown hts hKn hRc hRs hS hl (sX4_emit l E D h49) (lw_V q2160 q2162 qs63 q135 q2163) ⟨rfl, by decide, by decide, by decide +kernel⟩ ⟨by rw [hRf]; omega, by rw [hRl]; omega⟩ (g_recv hKn hS hk49 (by decide) (by decide)) rfl (by rw [hr49]; rfl) (Nat.le_of_ble_eq_true rfl) dX4_readSum_49 (fun H locs cells slots hS => ?_)
  refine lv_goto (tgt := 5) hx hb dX4_readSum_52 (by decide) ?_
  exact hk5 _ _ _ _ h _ _ _ _ _ hS (gls_sub hl [1, 2] rfl)
theorem sX4_readSum_b23 {p : Program} {l : Launch} {e : Env} {R : Room} {s : State} {m : MethodId} {args : Array Value} {below : List Frame} {meth : Method} {c : Code} {E : g_E} {D : g_D} {fM : g_E → Nat → Int32 → g_G → Option (g_G)} {fF : Nat} {fL : Nat} (C : gC p R s m args meth c cX4_readSum 3 RX4 "readSum" (none) (fF + 6) (fL + 300) E D) (hfM : ∀ (l : Launch) (E : g_E) (D : g_D), ∀ {t : Nat} {v1 : Int32} {G : g_G} {q : g_G}, fM E t v1 G = some q → gMet l E D yX4_readExpression (ws_ yX4_readExpression cX4_readExpression 4 (none)) fF fL [.inr (.inr (some t)), .inl v1] G none q) (hF : 60 ≤ fF) (hL : 3000 ≤ fL) {k5 : Nat → Int32 → g_G → Option (g_G)} (hk5 : ∀ (t : Nat) (v1 : Int32) (G : g_G) (q : g_G), k5 t v1 G = some q → ∀ (H : Heap) (locs : List Loc) (cells slots : Nat) (ls : Array Slot), gSt E D G H locs → gls ls 3 [(0, .inr (.inr (some t))), (1, .inl v1)] → gT p l e R s m args below meth c E D H locs cells slots none q (F0 m 5 ls [])) : ∀ (t : Nat) (v1 : Int32) (G : g_G) (q : g_G), fX4_readSum_b23 E fM k5 t v1 G = some q → ∀ (H : Heap) (locs : List Loc) (cells slots : Nat) (ls : Array Slot), gSt E D G H locs → gls ls 3 [(0, .inr (.inr (some t))), (1, .inl v1)] → gT p l e R s m args below meth c E D H locs cells slots none q (F0 m 23 ls []) := by
  obtain ⟨hx, hb, hml, hown, hts, hKn, hRc, hRs, hc1, hc2, hRf, hRl, hr, hlk, hnm⟩ := id C
  intro t v1 G q h H locs cells slots ls hS hl
  unfold fX4_readSum_b23 at h
  refine g_aload_n hx hb hl 0 rfl dX4_readSum_23 ?_
  refine lv_bipush (v := 43) hx hb dX4_readSum_24 (by decide) ?_
  obtain ⟨b26, hb26, h⟩ := g_bnd h
  obtain ⟨hr26, hk26⟩ := g_chk hb26
  obtain ⟨z26, h26, h⟩ := g_bnd h
  refine g_callV (n := 1) (b := b26) (av := [.inl 43]) (rs := []) hx hb hml hown hts hKn hRc hRs hS hl (sX4_isSign l E D h26) (lw_V q2140 q2142 qs58 q135 q2143) ⟨rfl, by decide, by decide, by decide +kernel⟩ ⟨by rw [hRf]; omega, by rw [hRl]; omega⟩ (g_recv hKn hS hk26 (by decide) (by decide)) rfl (by rw [hr26]; rfl) (Nat.le_of_ble_eq_true rfl) dX4_readSum_26 (fun H locs cells slots hS => ?_)
  refine lv_if_eq (tgt := 36) hx hb dX4_readSum_29 (by decide) (fun c_29 => ?_) (fun c_29 => ?_)
  · have h := g_ift c_29 h
    refine lv_iconst (v := 2) hx hb dX4_readSum_36 (by decide) ?_
    exact sX4_readSum_b37 C hfM hF hL hk5 _ _ _ _ _ h _ _ _ _ _ hS (gls_sub hl [0, 1] rfl)
  · have h := g_iff c_29 h
    refine lv_iconst (v := 1) hx hb dX4_readSum_32 (by decide) ?_
    refine lv_goto (tgt := 37) hx hb dX4_readSum_33 (by decide) ?_
    exact sX4_readSum_b37 C hfM hF hL hk5 _ _ _ _ _ h _ _ _ _ _ hS (gls_sub hl [0, 1] rfl)
theorem sX4_readSum_b5 {p : Program} {l : Launch} {e : Env} {R : Room} {s : State} {m : MethodId} {args : Array Value} {below : List Frame} {meth : Method} {c : Code} {E : g_E} {D : g_D} {fM : g_E → Nat → Int32 → g_G → Option (g_G)} {fF : Nat} {fL : Nat} (C : gC p R s m args meth c cX4_readSum 3 RX4 "readSum" (none) (fF + 6) (fL + 300) E D) (hfM : ∀ (l : Launch) (E : g_E) (D : g_D), ∀ {t : Nat} {v1 : Int32} {G : g_G} {q : g_G}, fM E t v1 G = some q → gMet l E D yX4_readExpression (ws_ yX4_readExpression cX4_readExpression 4 (none)) fF fL [.inr (.inr (some t)), .inl v1] G none q) (hF : 60 ≤ fF) (hL : 3000 ≤ fL) : ∀ (n : Nat) (t : Nat) (v1 : Int32) (G : g_G) (q : g_G), fX4_readSum_b5 E fM n t v1 G = some q → ∀ (H : Heap) (locs : List Loc) (cells slots : Nat) (ls : Array Slot), gSt E D G H locs → gls ls 3 [(0, .inr (.inr (some t))), (1, .inl v1)] → gT p l e R s m args below meth c E D H locs cells slots none q (F0 m 5 ls []) := by
  obtain ⟨hx, hb, hml, hown, hts, hKn, hRc, hRs, hc1, hc2, hRf, hRl, hr, hlk, hnm⟩ := id C
  intro n
  induction n with
  | zero =>
    intro t v1 G q h
    exact g_no h
  | succ n ih =>
    intro t v1 G q h H locs cells slots ls hS hl
    rw [fX4_readSum_b5] at h
    refine g_aload_n hx hb hl 0 rfl dX4_readSum_5 ?_
    refine lv_bipush (v := 43) hx hb dX4_readSum_6 (by decide) ?_
    obtain ⟨b8, hb8, h⟩ := g_bnd h
    obtain ⟨hr8, hk8⟩ := g_chk hb8
    obtain ⟨z8, h8, h⟩ := g_bnd h
    refine g_callV (n := 1) (b := b8) (av := [.inl 43]) (rs := []) hx hb hml hown hts hKn hRc hRs hS hl (sX4_isSign l E D h8) (lw_V q2140 q2142 qs58 q135 q2143) ⟨rfl, by decide, by decide, by decide +kernel⟩ ⟨by rw [hRf]; omega, by rw [hRl]; omega⟩ (g_recv hKn hS hk8 (by decide) (by decide)) rfl (by rw [hr8]; rfl) (Nat.le_of_ble_eq_true rfl) dX4_readSum_8 (fun H locs cells slots hS => ?_)
    refine lv_if_ne (tgt := 23) hx hb dX4_readSum_11 (by decide) (fun c_11 => ?_) (fun c_11 => ?_)
    · have h := g_ift c_11 h
      exact sX4_readSum_b23 C hfM hF hL ih _ _ _ _ h _ _ _ _ _ hS (gls_sub hl [0, 1] rfl)
    · have h := g_iff (fun z => z c_11) h
      refine g_aload_n hx hb hl 0 rfl dX4_readSum_14 ?_
      refine lv_bipush (v := 45) hx hb dX4_readSum_15 (by decide) ?_
      obtain ⟨b17, hb17, h⟩ := g_bnd h
      obtain ⟨hr17, hk17⟩ := g_chk hb17
      obtain ⟨z17, h17, h⟩ := g_bnd h
      refine g_callV (n := 1) (b := b17) (av := [.inl 45]) (rs := []) hx hb hml hown hts hKn hRc hRs hS hl (sX4_isSign l E D h17) (lw_V q2140 q2142 qs58 q135 q2143) ⟨rfl, by decide, by decide, by decide +kernel⟩ ⟨by rw [hRf]; omega, by rw [hRl]; omega⟩ (g_recv hKn hS hk17 (by decide) (by decide)) rfl (by rw [hr17]; rfl) (Nat.le_of_ble_eq_true rfl) dX4_readSum_17 (fun H locs cells slots hS => ?_)
      refine lv_if_eq (tgt := 55) hx hb dX4_readSum_20 (by decide) (fun c_20 => ?_) (fun c_20 => ?_)
      · have h := g_ift c_20 h
        exact g_vretG hx hb hr hlk hKn hRc hRs hS h dX4_readSum_55
      · have h := g_iff c_20 h
        exact sX4_readSum_b23 C hfM hF hL ih _ _ _ _ h _ _ _ _ _ hS (gls_sub hl [0, 1] rfl)
theorem sX4_readSum (l : Launch) (E : g_E) (D : g_D) {fM : g_E → Nat → Int32 → g_G → Option (g_G)} {fF : Nat} {fL : Nat} (hfM : ∀ (l : Launch) (E : g_E) (D : g_D), ∀ {t : Nat} {v1 : Int32} {G : g_G} {q : g_G}, fM E t v1 G = some q → gMet l E D yX4_readExpression (ws_ yX4_readExpression cX4_readExpression 4 (none)) fF fL [.inr (.inr (some t)), .inl v1] G none q) (hF : 60 ≤ fF) (hL : 3000 ≤ fL) {t : Nat} {v1 : Int32} {G : g_G} {q : g_G} (h : fX4_readSum E fM t v1 G = some q) : gMet l E D yX4_readSum (ws_ yX4_readSum cX4_readSum 3 (none)) (fF + 6) (fL + 300) [.inr (.inr (some t)), .inl v1] G none q := by
  refine gMet.of (by decide +kernel) (Nat.le_of_ble_eq_true rfl) ?_
  intro p e R s m args below meth c C hS ls hl
  have C : gC p R s m args meth c cX4_readSum 3 RX4 "readSum" (none) (fF + 6) (fL + 300) E D := C
  obtain ⟨hx, hb, hml, hown, hts, hKn, hRc, hRs, hc1, hc2, hRf, hRl, hr, hlk, hnm⟩ := id C
  have hl : gls ls 3 [(0, .inr (.inr (some t))), (1, .inl v1)] := hl
  generalize s.heap = H at hS ⊢
  unfold fX4_readSum at h
  refine g_aload_n hx hb hl 0 rfl dX4_readSum_0 ?_
  refine g_iload_n hx hb hl 1 rfl dX4_readSum_1 ?_
  obtain ⟨b2, hb2, h⟩ := g_bnd h
  obtain ⟨hr2, hk2⟩ := g_chk hb2
  obtain ⟨z2, h2, h⟩ := g_bnd h
  refine g_callV (n := 1) (b := b2) (av := [.inl v1]) (rs := []) hx hb hml hown hts hKn hRc hRs hS hl (sX4_readProduct l E D hfM hF hL h2) (lw_V q2148 q2150 qs60 q135 q2151) ⟨rfl, by decide, by decide, by decide +kernel⟩ ⟨by rw [hRf]; omega, by rw [hRl]; omega⟩ (g_recv hKn hS hk2 (by decide) (by decide)) rfl (by rw [hr2]; rfl) (Nat.le_of_ble_eq_true rfl) dX4_readSum_2 (fun H locs cells slots hS => ?_)
  exact sX4_readSum_b5 C hfM hF hL gFU _ _ _ _ h _ _ _ _ _ hS (gls_sub hl [0, 1] rfl)
/-- SendHallModel.readVar()I -/
def fX4_readVar_b60 (E : g_E) (t : Nat) (v1 : Int32) (G : g_G) : Option (Int32 × g_G) :=
  (grI G 4 4 (some t) 18).bind fun x61 =>
  if ¬ x61 = 0 then (
    some (v1, G))
  else (
    (gchk G 4 (some t)).bind fun b68 =>
    (fX4_stepOn E b68 G).bind fun z68 =>
    some (v1, z68))
def fX4_readVar_b29 (E : g_E) (t : Nat) (s0 : Int32) (G : g_G) : Option (Int32 × g_G) :=
  (grI G 4 4 (some t) 13).bind fun x31 =>
  if x31 = (1 : Int32) then (
    (fX4_isIn E s0 0 3 G).bind fun z49 =>
    if ¬ z49.1 = 0 then (
      fX4_readVar_b60 E t s0 z49.2)
    else (
      (gchk z49.2 4 (some t)).bind fun b57 =>
      (fX4_wrong E b57 3 z49.2).bind fun z57 =>
      fX4_readVar_b60 E t s0 z57))
  else (
    (gchk G 4 (some t)).bind fun b40 =>
    (fX4_wrong E b40 1 G).bind fun z40 =>
    fX4_readVar_b60 E t s0 z40)
def fX4_readVar (E : g_E) (t : Nat) (G : g_G) : Option (Int32 × g_G) :=
  (grI G 4 4 (some t) 18).bind fun x1 =>
  if x1 = 0 then (
    (grI G 4 4 (some t) 13).bind fun x10 =>
    if ¬ x10 = (1 : Int32) then (
      fX4_readVar_b29 E t (-1) G)
    else (
      (grR G 4 4 (some t) 1).bind fun x19 =>
      (gchk G 4 (some t)).bind fun b22 =>
      (fX4_which E b22 x19 G).bind fun z22 =>
      fX4_readVar_b29 E t z22.1 z22.2))
  else (
    some (0, G))
theorem sX4_readVar_b60 {p : Program} {l : Launch} {e : Env} {R : Room} {s : State} {m : MethodId} {args : Array Value} {below : List Frame} {meth : Method} {c : Code} {E : g_E} {D : g_D} (C : gC p R s m args meth c cX4_readVar 2 RX4 "readVar" (some .int) 7 194 E D) : ∀ (t : Nat) (v1 : Int32) (G : g_G) (q : Int32 × g_G), fX4_readVar_b60 E t v1 G = some q → ∀ (H : Heap) (locs : List Loc) (cells slots : Nat) (ls : Array Slot), gSt E D G H locs → gls ls 2 [(0, .inr (.inr (some t))), (1, .inl v1)] → gT p l e R s m args below meth c E D H locs cells slots (some (.int q.1)) q.2 (F0 m 60 ls []) := by
  obtain ⟨hx, hb, hml, hown, hts, hKn, hRc, hRs, hc1, hc2, hRf, hRl, hr, hlk, hnm⟩ := id C
  intro t v1 G q h H locs cells slots ls hS hl
  unfold fX4_readVar_b60 at h
  refine g_aload_n hx hb hl 0 rfl dX4_readVar_60 ?_
  refine g_rdI hx hb hown hts hKn hS h fd_4_4_18 rfl (Or.inl (hts _ q1883)) (fun _ z => z) dX4_readVar_61 (fun x61 h => ?_)
  refine lv_if_ne (tgt := 71) hx hb dX4_readVar_64 (by decide) (fun c_64 => ?_) (fun c_64 => ?_)
  · have h := g_ift c_64 h
    refine g_iload_n hx hb hl 1 rfl dX4_readVar_71 ?_
    exact g_iretG hx hb hr hlk hKn hRc hRs hS h dX4_readVar_72
  · have h := g_iff (fun z => z c_64) h
    refine g_aload_n hx hb hl 0 rfl dX4_readVar_67 ?_
    obtain ⟨b68, hb68, h⟩ := g_bnd h
    obtain ⟨hr68, hk68⟩ := g_chk hb68
    obtain ⟨z68, h68, h⟩ := g_bnd h
    refine g_callV (n := 0) (b := b68) (av := []) (rs := []) hx hb hml hown hts hKn hRc hRs hS hl (sX4_stepOn l E D h68) (lw_V q2092 q2094 qs49 q135 q2095) ⟨rfl, by decide, by decide, by decide +kernel⟩ ⟨by rw [hRf]; exact Nat.le_of_ble_eq_true rfl, by rw [hRl]; exact Nat.le_of_ble_eq_true rfl⟩ (g_recv hKn hS hk68 (by decide) (by decide)) rfl (by rw [hr68]; rfl) (Nat.le_of_ble_eq_true rfl) dX4_readVar_68 (fun H locs cells slots hS => ?_)
    refine g_iload_n hx hb hl 1 rfl dX4_readVar_71 ?_
    exact g_iretG hx hb hr hlk hKn hRc hRs hS h dX4_readVar_72
theorem sX4_readVar_b29 {p : Program} {l : Launch} {e : Env} {R : Room} {s : State} {m : MethodId} {args : Array Value} {below : List Frame} {meth : Method} {c : Code} {E : g_E} {D : g_D} (C : gC p R s m args meth c cX4_readVar 2 RX4 "readVar" (some .int) 7 194 E D) : ∀ (t : Nat) (s0 : Int32) (G : g_G) (q : Int32 × g_G), fX4_readVar_b29 E t s0 G = some q → ∀ (H : Heap) (locs : List Loc) (cells slots : Nat) (ls : Array Slot), gSt E D G H locs → gls ls 2 [(0, .inr (.inr (some t)))] → gT p l e R s m args below meth c E D H locs cells slots (some (.int q.1)) q.2 (F0 m 29 ls [.int s0]) := by
  obtain ⟨hx, hb, hml, hown, hts, hKn, hRc, hRs, hc1, hc2, hRf, hRl, hr, hlk, hnm⟩ := id C
  intro t s0 G q h H locs cells slots ls hS hl
  unfold fX4_readVar_b29 at h
  refine g_istore_n (l1 := [(1, .inl s0), (0, .inr (.inr (some t)))]) hx hb hl (by decide) rfl dX4_readVar_29 (fun ls hl => ?_)
  refine g_aload_n hx hb hl 1 rfl dX4_readVar_30 ?_
  refine g_rdI hx hb hown hts hKn hS h fd_4_4_13 rfl (Or.inl (hts _ q1878)) (fun _ z => z) dX4_readVar_31 (fun x31 h => ?_)
  refine lv_iconst (v := 1) hx hb dX4_readVar_34 (by decide) ?_
  refine lv_icmp_eq (tgt := 46) hx hb dX4_readVar_35 (by decide) (fun c_35 => ?_) (fun c_35 => ?_)
  · have h := g_ift c_35 h
    refine g_iload_n hx hb hl 0 rfl dX4_readVar_46 ?_
    refine lv_iconst (v := 0) hx hb dX4_readVar_47 (by decide) ?_
    refine lv_iconst (v := 3) hx hb dX4_readVar_48 (by decide) ?_
    obtain ⟨z49, h49, h⟩ := g_bnd h
    refine g_callS (n := 3) (av := [.inl s0, .inl 0, .inl 3]) (rs := []) hx hb hml hown hts hKn hRc hRs hS hl (sX4_isIn l E D h49) (lw_S q2180 q2181 q135 q2182) ⟨by decide, by decide, by decide +kernel⟩ ⟨by rw [hRf]; exact Nat.le_of_ble_eq_true rfl, by rw [hRl]; exact Nat.le_of_ble_eq_true rfl⟩ rfl rfl (Nat.le_of_ble_eq_true rfl) dX4_readVar_49 (fun H locs cells slots hS => ?_)
    refine lv_if_ne (tgt := 60) hx hb dX4_readVar_52 (by decide) (fun c_52 => ?_) (fun c_52 => ?_)
    · have h := g_ift c_52 h
      exact sX4_readVar_b60 C _ _ _ _ h _ _ _ _ _ hS (gls_sub hl [1, 0] rfl)
    · have h := g_iff (fun z => z c_52) h
      refine g_aload_n hx hb hl 1 rfl dX4_readVar_55 ?_
      refine lv_iconst (v := 3) hx hb dX4_readVar_56 (by decide) ?_
      obtain ⟨b57, hb57, h⟩ := g_bnd h
      obtain ⟨hr57, hk57⟩ := g_chk hb57
      obtain ⟨z57, h57, h⟩ := g_bnd h
      refine g_callV (n := 1) (b := b57) (av := [.inl 3]) (rs := []) hx hb hml hown hts hKn hRc hRs hS hl (sX4_wrong l E D h57) (lw_V q2128 q2130 qs55 q135 q2131) ⟨rfl, by decide, by decide, by decide +kernel⟩ ⟨by rw [hRf]; exact Nat.le_of_ble_eq_true rfl, by rw [hRl]; exact Nat.le_of_ble_eq_true rfl⟩ (g_recv hKn hS hk57 (by decide) (by decide)) rfl (by rw [hr57]; rfl) (Nat.le_of_ble_eq_true rfl) dX4_readVar_57 (fun H locs cells slots hS => ?_)
      exact sX4_readVar_b60 C _ _ _ _ h _ _ _ _ _ hS (gls_sub hl [1, 0] rfl)
  · have h := g_iff c_35 h
    refine g_aload_n hx hb hl 1 rfl dX4_readVar_38 ?_
    refine lv_iconst (v := 1) hx hb dX4_readVar_39 (by decide) ?_
    obtain ⟨b40, hb40, h⟩ := g_bnd h
    obtain ⟨hr40, hk40⟩ := g_chk hb40
    obtain ⟨z40, h40, h⟩ := g_bnd h
    refine g_callV (n := 1) (b := b40) (av := [.inl 1]) (rs := []) hx hb hml hown hts hKn hRc hRs hS hl (sX4_wrong l E D h40) (lw_V q2128 q2130 qs55 q135 q2131) ⟨rfl, by decide, by decide, by decide +kernel⟩ ⟨by rw [hRf]; exact Nat.le_of_ble_eq_true rfl, by rw [hRl]; exact Nat.le_of_ble_eq_true rfl⟩ (g_recv hKn hS hk40 (by decide) (by decide)) rfl (by rw [hr40]; rfl) (Nat.le_of_ble_eq_true rfl) dX4_readVar_40 (fun H locs cells slots hS => ?_)
    refine lv_goto (tgt := 60) hx hb dX4_readVar_43 (by decide) ?_
    exact sX4_readVar_b60 C _ _ _ _ h _ _ _ _ _ hS (gls_sub hl [1, 0] rfl)
theorem sX4_readVar (l : Launch) (E : g_E) (D : g_D) {t : Nat} {G : g_G} {q : Int32 × g_G} (h : fX4_readVar E t G = some q) : gMet l E D yX4_readVar (ws_ yX4_readVar cX4_readVar 2 (some .int)) 7 194 [.inr (.inr (some t))] G (some (.int q.1)) q.2 := by
  refine gMet.of (by decide +kernel) (Nat.le_of_ble_eq_true rfl) ?_
  intro p e R s m args below meth c C hS ls hl
  have C : gC p R s m args meth c cX4_readVar 2 RX4 "readVar" (some .int) 7 194 E D := C
  obtain ⟨hx, hb, hml, hown, hts, hKn, hRc, hRs, hc1, hc2, hRf, hRl, hr, hlk, hnm⟩ := id C
  have hl : gls ls 2 [(0, .inr (.inr (some t)))] := hl
  generalize s.heap = H at hS ⊢
  unfold fX4_readVar at h
  refine g_aload_n hx hb hl 0 rfl dX4_readVar_0 ?_
  refine g_rdI hx hb hown hts hKn hS h fd_4_4_18 rfl (Or.inl (hts _ q1883)) (fun _ z => z) dX4_readVar_1 (fun x1 h => ?_)
  refine lv_if_eq (tgt := 9) hx hb dX4_readVar_4 (by decide) (fun c_4 => ?_) (fun c_4 => ?_)
  · have h := g_ift c_4 h
    refine g_aload_n hx hb hl 0 rfl dX4_readVar_9 ?_
    refine g_rdI hx hb hown hts hKn hS h fd_4_4_13 rfl (Or.inl (hts _ q1878)) (fun _ z => z) dX4_readVar_10 (fun x10 h => ?_)
    refine lv_iconst (v := 1) hx hb dX4_readVar_13 (by decide) ?_
    refine lv_icmp_ne (tgt := 28) hx hb dX4_readVar_14 (by decide) (fun c_14 => ?_) (fun c_14 => ?_)
    · have h := g_ift c_14 h
      refine lv_iconst (v := (-1)) hx hb dX4_readVar_28 (by decide) ?_
      exact sX4_readVar_b29 C _ _ _ _ h _ _ _ _ _ hS (gls_sub hl [0] rfl)
    · have h := g_iff (fun z => z c_14) h
      refine g_aload_n hx hb hl 0 rfl dX4_readVar_17 ?_
      refine g_aload_n hx hb hl 0 rfl dX4_readVar_18 ?_
      refine g_rdR hx hb hown hts hKn hS h fd_4_4_1 rfl (Or.inl (hts _ q1866)) (fun _ z => z) dX4_readVar_19 (fun x19 h => ?_)
      obtain ⟨b22, hb22, h⟩ := g_bnd h
      obtain ⟨hr22, hk22⟩ := g_chk hb22
      obtain ⟨z22, h22, h⟩ := g_bnd h
      refine g_callV (n := 1) (b := b22) (av := [.inr (.inr x19)]) (rs := []) hx hb hml hown hts hKn hRc hRs hS hl (sX4_which l E D h22) (lw_V q2124 q2126 qs54 q135 q2127) ⟨rfl, by decide, by decide, by decide +kernel⟩ ⟨by rw [hRf]; exact Nat.le_of_ble_eq_true rfl, by rw [hRl]; exact Nat.le_of_ble_eq_true rfl⟩ (g_recv hKn hS hk22 (by decide) (by decide)) rfl (by rw [hr22]; rfl) (Nat.le_of_ble_eq_true rfl) dX4_readVar_22 (fun H locs cells slots hS => ?_)
      refine lv_goto (tgt := 29) hx hb dX4_readVar_25 (by decide) ?_
      exact sX4_readVar_b29 C _ _ _ _ h _ _ _ _ _ hS (gls_sub hl [0] rfl)
  · have h := g_iff c_4 h
    refine lv_iconst (v := 0) hx hb dX4_readVar_7 (by decide) ?_
    exact g_iretG hx hb hr hlk hKn hRc hRs hS h dX4_readVar_8
/-- SendHallModel.take(III)V -/
def fX4_take_b95 (E : g_E) (t : Nat) (v1 : Int32) (v2 : Int32) (v3 : Int32) (v5 : Int32) (v6 : Int32) (G : g_G) : Option (g_G) :=
  (gchk G 4 (some t)).bind fun b97 =>
  (fX4_takeAway E b97 v3 G).bind fun z97 =>
  (gchk z97 4 (some t)).bind fun b107 =>
  (fX4_has E b107 v1 v2 v5 v6 z97).bind fun z107 =>
  some z107
def fX4_take_b46 (E : g_E) (t : Nat) (v1 : Int32) (v2 : Int32) (v3 : Int32) (v5 : Int32) (v6 : Int32) (s0 : Int32) (G : g_G) : Option (g_G) :=
  (grR G 4 4 (some t) 39).bind fun x51 =>
  (gaI G 100 x51 v3).bind fun x55 =>
  (gchk G 4 (some t)).bind fun b56 =>
  (fX4_upTo E b56 v1 x55 G).bind fun z56 =>
  (grR z56 4 4 (some t) 36).bind fun x60 =>
  (gaI z56 100 x60 v1).bind fun x65 =>
  (gsaI E z56 x60 v1 (x65 + 1)).bind fun G68 =>
  if s0 = 0 then (
    fX4_take_b95 E t v1 v2 v3 v5 v6 G68)
  else (
    (grR G68 4 4 (some t) 38).bind fun x75 =>
    (grR G68 4 4 (some t) 38).bind fun x80 =>
    (gaI G68 100 x80 v2).bind fun x84 =>
    (grR G68 4 4 (some t) 36).bind fun x86 =>
    (gaI G68 100 x86 v1).bind fun x90 =>
    (gsaI E G68 x75 v2 (if x84 < x90 then x90 else x84)).bind fun G94 =>
    fX4_take_b95 E t v1 v2 v3 v5 v6 G94)
def fX4_take (E : g_E) (t : Nat) (v1 : Int32) (v2 : Int32) (v3 : Int32) (G : g_G) : Option (g_G) :=
  (fX4_wordAt E v3 G).bind fun z1 =>
  (grR z1.2 4 4 (some t) 33).bind fun x7 =>
  (gaI z1.2 100 x7 (z1.1 + 3)).bind fun x14 =>
  (grR z1.2 4 4 (some t) 33).bind fun x18 =>
  (gaI z1.2 100 x18 (z1.1 + 4)).bind fun x25 =>
  (grR z1.2 4 4 (some t) 33).bind fun x29 =>
  (gaI z1.2 100 x29 (z1.1 + 5)).bind fun x36 =>
  if ¬ x36 = (1 : Int32) then (
    fX4_take_b46 E t v1 v2 v3 x14 x25 0 z1.2)
  else (
    fX4_take_b46 E t v1 v2 v3 x14 x25 1 z1.2)
theorem sX4_take_b95 {p : Program} {l : Launch} {e : Env} {R : Room} {s : State} {m : MethodId} {args : Array Value} {below : List Frame} {meth : Method} {c : Code} {E : g_E} {D : g_D} (C : gC p R s m args meth c cX4_take 8 RX4 "take" (none) 8 230 E D) : ∀ (t : Nat) (v1 : Int32) (v2 : Int32) (v3 : Int32) (v5 : Int32) (v6 : Int32) (G : g_G) (q : g_G), fX4_take_b95 E t v1 v2 v3 v5 v6 G = some q → ∀ (H : Heap) (locs : List Loc) (cells slots : Nat) (ls : Array Slot), gSt E D G H locs → gls ls 8 [(0, .inr (.inr (some t))), (1, .inl v1), (2, .inl v2), (3, .inl v3), (5, .inl v5), (6, .inl v6)] → gT p l e R s m args below meth c E D H locs cells slots none q (F0 m 95 ls []) := by
  obtain ⟨hx, hb, hml, hown, hts, hKn, hRc, hRs, hc1, hc2, hRf, hRl, hr, hlk, hnm⟩ := id C
  intro t v1 v2 v3 v5 v6 G q h H locs cells slots ls hS hl
  unfold fX4_take_b95 at h
  refine g_aload_n hx hb hl 0 rfl dX4_take_95 ?_
  refine g_iload_n hx hb hl 3 rfl dX4_take_96 ?_
  obtain ⟨b97, hb97, h⟩ := g_bnd h
  obtain ⟨hr97, hk97⟩ := g_chk hb97
  obtain ⟨z97, h97, h⟩ := g_bnd h
  refine g_callV (n := 1) (b := b97) (av := [.inl v3]) (rs := []) hx hb hml hown hts hKn hRc hRs hS hl (sX4_takeAway l E D h97) (lw_V q2349 q2351 qs101 q135 q2352) ⟨rfl, by decide, by decide, by decide +kernel⟩ ⟨by rw [hRf]; exact Nat.le_of_ble_eq_true rfl, by rw [hRl]; exact Nat.le_of_ble_eq_true rfl⟩ (g_recv hKn hS hk97 (by decide) (by decide)) rfl (by rw [hr97]; rfl) (Nat.le_of_ble_eq_true rfl) dX4_take_97 (fun H locs cells slots hS => ?_)
  refine g_aload_n hx hb hl 0 rfl dX4_take_100 ?_
  refine g_iload_n hx hb hl 1 rfl dX4_take_101 ?_
  refine g_iload_n hx hb hl 2 rfl dX4_take_102 ?_
  refine g_iload hx hb hl 4 rfl dX4_take_103 ?_
  refine g_iload hx hb hl 5 rfl dX4_take_105 ?_
  obtain ⟨b107, hb107, h⟩ := g_bnd h
  obtain ⟨hr107, hk107⟩ := g_chk hb107
  obtain ⟨z107, h107, h⟩ := g_bnd h
  refine g_callV (n := 4) (b := b107) (av := [.inl v1, .inl v2, .inl v5, .inl v6]) (rs := []) hx hb hml hown hts hKn hRc hRs hS hl (sX4_has l E D h107) (lw_V q2341 q2343 qs99 q135 q2344) ⟨rfl, by decide, by decide, by decide +kernel⟩ ⟨by rw [hRf]; exact Nat.le_of_ble_eq_true rfl, by rw [hRl]; exact Nat.le_of_ble_eq_true rfl⟩ (g_recv hKn hS hk107 (by decide) (by decide)) rfl (by rw [hr107]; rfl) (Nat.le_of_ble_eq_true rfl) dX4_take_107 (fun H locs cells slots hS => ?_)
  exact g_vretG hx hb hr hlk hKn hRc hRs hS h dX4_take_110
theorem sX4_take_b46 {p : Program} {l : Launch} {e : Env} {R : Room} {s : State} {m : MethodId} {args : Array Value} {below : List Frame} {meth : Method} {c : Code} {E : g_E} {D : g_D} (C : gC p R s m args meth c cX4_take 8 RX4 "take" (none) 8 230 E D) : ∀ (t : Nat) (v1 : Int32) (v2 : Int32) (v3 : Int32) (v5 : Int32) (v6 : Int32) (s0 : Int32) (G : g_G) (q : g_G), fX4_take_b46 E t v1 v2 v3 v5 v6 s0 G = some q → ∀ (H : Heap) (locs : List Loc) (cells slots : Nat) (ls : Array Slot), gSt E D G H locs → gls ls 8 [(0, .inr (.inr (some t))), (1, .inl v1), (2, .inl v2), (3, .inl v3), (5, .inl v5), (6, .inl v6)] → gT p l e R s m args below meth c E D H locs cells slots none q (F0 m 46 ls [.int s0]) := by
  obtain ⟨hx, hb, hml, hown, hts, hKn, hRc, hRs, hc1, hc2, hRf, hRl, hr, hlk, hnm⟩ := id C
  intro t v1 v2 v3 v5 v6 s0 G q h H locs cells slots ls hS hl
  unfold fX4_take_b46 at h
  refine g_istore (l1 := [(7, .inl s0), (0, .inr (.inr (some t))), (1, .inl v1), (2, .inl v2), (3, .inl v3), (5, .inl v5), (6, .inl v6)]) hx hb hl (by decide) rfl dX4_take_46 (fun ls hl => ?_)
  refine g_aload_n hx hb hl 1 rfl dX4_take_48 ?_
  refine g_iload_n hx hb hl 2 rfl dX4_take_49 ?_
  refine g_aload_n hx hb hl 1 rfl dX4_take_50 ?_
  refine g_rdR hx hb hown hts hKn hS h fd_4_4_39 rfl (Or.inl (hts _ q1904)) (fun _ z => z) dX4_take_51 (fun x51 h => ?_)
  refine g_iload_n hx hb hl 4 rfl dX4_take_54 ?_
  refine g_ialoadG hx hb hKn hS h dX4_take_55 (fun x55 h => ?_)
  obtain ⟨b56, hb56, h⟩ := g_bnd h
  obtain ⟨hr56, hk56⟩ := g_chk hb56
  obtain ⟨z56, h56, h⟩ := g_bnd h
  refine g_callV (n := 2) (b := b56) (av := [.inl v1, .inl x55]) (rs := []) hx hb hml hown hts hKn hRc hRs hS hl (sX4_upTo l E D h56) (lw_V q2333 q2335 qs97 q135 q2336) ⟨rfl, by decide, by decide, by decide +kernel⟩ ⟨by rw [hRf]; exact Nat.le_of_ble_eq_true rfl, by rw [hRl]; exact Nat.le_of_ble_eq_true rfl⟩ (g_recv hKn hS hk56 (by decide) (by decide)) rfl (by rw [hr56]; rfl) (Nat.le_of_ble_eq_true rfl) dX4_take_56 (fun H locs cells slots hS => ?_)
  refine g_aload_n hx hb hl 1 rfl dX4_take_59 ?_
  refine g_rdR hx hb hown hts hKn hS h fd_4_4_36 rfl (Or.inl (hts _ q1901)) (fun _ z => z) dX4_take_60 (fun x60 h => ?_)
  refine g_iload_n hx hb hl 2 rfl dX4_take_63 ?_
  refine lv_dup2_11 hx hb dX4_take_64 rfl (by first | exact va_rf_cat _ | rfl | exact g_catA _) ?_
  refine g_ialoadG hx hb hKn hS h dX4_take_65 (fun x65 h => ?_)
  refine lv_iconst (v := 1) hx hb dX4_take_66 (by decide) ?_
  refine lv_iadd hx hb dX4_take_67 ?_
  refine g_iastoreG hx hb hKn hS h dX4_take_68 (fun G68 h H locs hS => ?_)
  refine g_iload hx hb hl 0 rfl dX4_take_69 ?_
  refine lv_if_eq (tgt := 95) hx hb dX4_take_71 (by decide) (fun c_71 => ?_) (fun c_71 => ?_)
  · have h := g_ift c_71 h
    exact sX4_take_b95 C _ _ _ _ _ _ _ _ h _ _ _ _ _ hS (gls_sub hl [1, 2, 3, 4, 5, 6] rfl)
  · have h := g_iff c_71 h
    refine g_aload_n hx hb hl 1 rfl dX4_take_74 ?_
    refine g_rdR hx hb hown hts hKn hS h fd_4_4_38 rfl (Or.inl (hts _ q1903)) (fun _ z => z) dX4_take_75 (fun x75 h => ?_)
    refine g_iload_n hx hb hl 3 rfl dX4_take_78 ?_
    refine g_aload_n hx hb hl 1 rfl dX4_take_79 ?_
    refine g_rdR hx hb hown hts hKn hS h fd_4_4_38 rfl (Or.inl (hts _ q1903)) (fun _ z => z) dX4_take_80 (fun x80 h => ?_)
    refine g_iload_n hx hb hl 3 rfl dX4_take_83 ?_
    refine g_ialoadG hx hb hKn hS h dX4_take_84 (fun x84 h => ?_)
    refine g_aload_n hx hb hl 1 rfl dX4_take_85 ?_
    refine g_rdR hx hb hown hts hKn hS h fd_4_4_36 rfl (Or.inl (hts _ q1901)) (fun _ z => z) dX4_take_86 (fun x86 h => ?_)
    refine g_iload_n hx hb hl 2 rfl dX4_take_89 ?_
    refine g_ialoadG hx hb hKn hS h dX4_take_90 (fun x90 h => ?_)
    refine g_mmax (rs := [.inl v2, .inr (.inr x75)]) hx hb hml hown hRc hRs hS hl (hts _ q2332) (hts _ q283) (hts _ q127) (hts _ q284) (by decide +kernel) rfl (Nat.le_of_ble_eq_true rfl) ⟨by rw [hRf]; exact Nat.le_of_ble_eq_true rfl, by rw [hRl]; exact Nat.le_of_ble_eq_true rfl⟩ dX4_take_91 (fun cells slots => ?_)
    refine g_iastoreG hx hb hKn hS h dX4_take_94 (fun G94 h H locs hS => ?_)
    exact sX4_take_b95 C _ _ _ _ _ _ _ _ h _ _ _ _ _ hS (gls_sub hl [1, 2, 3, 4, 5, 6] rfl)
theorem sX4_take (l : Launch) (E : g_E) (D : g_D) {t : Nat} {v1 : Int32} {v2 : Int32} {v3 : Int32} {G : g_G} {q : g_G} (h : fX4_take E t v1 v2 v3 G = some q) : gMet l E D yX4_take (ws_ yX4_take cX4_take 8 (none)) 8 230 [.inr (.inr (some t)), .inl v1, .inl v2, .inl v3] G none q := by
  refine gMet.of (by decide +kernel) (Nat.le_of_ble_eq_true rfl) ?_
  intro p e R s m args below meth c C hS ls hl
  have C : gC p R s m args meth c cX4_take 8 RX4 "take" (none) 8 230 E D := C
  obtain ⟨hx, hb, hml, hown, hts, hKn, hRc, hRs, hc1, hc2, hRf, hRl, hr, hlk, hnm⟩ := id C
  have hl : gls ls 8 [(0, .inr (.inr (some t))), (1, .inl v1), (2, .inl v2), (3, .inl v3)] := hl
  generalize s.heap = H at hS ⊢
  unfold fX4_take at h
  refine g_iload_n hx hb hl 3 rfl dX4_take_0 ?_
  obtain ⟨z1, h1, h⟩ := g_bnd h
  refine g_callS (n := 1) (av := [.inl v3]) (rs := []) hx hb hml hown hts hKn hRc hRs hS hl (sX4_wordAt l E D h1) (lw_S q2292 q2293 q135 q2294) ⟨by decide, by decide, by decide +kernel⟩ ⟨by rw [hRf]; exact Nat.le_of_ble_eq_true rfl, by rw [hRl]; exact Nat.le_of_ble_eq_true rfl⟩ rfl rfl (Nat.le_of_ble_eq_true rfl) dX4_take_1 (fun H locs cells slots hS => ?_)
  refine g_istore (l1 := [(4, .inl z1.1), (0, .inr (.inr (some t))), (1, .inl v1), (2, .inl v2), (3, .inl v3)]) hx hb hl (by decide) rfl dX4_take_4 (fun ls hl => ?_)
  refine g_aload_n hx hb hl 1 rfl dX4_take_6 ?_
  refine g_rdR hx hb hown hts hKn hS h fd_4_4_33 rfl (Or.inl (hts _ q1898)) (fun _ z => z) dX4_take_7 (fun x7 h => ?_)
  refine g_iload hx hb hl 0 rfl dX4_take_10 ?_
  refine lv_iconst (v := 3) hx hb dX4_take_12 (by decide) ?_
  refine lv_iadd hx hb dX4_take_13 ?_
  refine g_ialoadG hx hb hKn hS h dX4_take_14 (fun x14 h => ?_)
  refine g_istore (l1 := [(5, .inl x14), (4, .inl z1.1), (0, .inr (.inr (some t))), (1, .inl v1), (2, .inl v2), (3, .inl v3)]) hx hb hl (by decide) rfl dX4_take_15 (fun ls hl => ?_)
  refine g_aload_n hx hb hl 2 rfl dX4_take_17 ?_
  refine g_rdR hx hb hown hts hKn hS h fd_4_4_33 rfl (Or.inl (hts _ q1898)) (fun _ z => z) dX4_take_18 (fun x18 h => ?_)
  refine g_iload hx hb hl 1 rfl dX4_take_21 ?_
  refine lv_iconst (v := 4) hx hb dX4_take_23 (by decide) ?_
  refine lv_iadd hx hb dX4_take_24 ?_
  refine g_ialoadG hx hb hKn hS h dX4_take_25 (fun x25 h => ?_)
  refine g_istore (l1 := [(6, .inl x25), (5, .inl x14), (4, .inl z1.1), (0, .inr (.inr (some t))), (1, .inl v1), (2, .inl v2), (3, .inl v3)]) hx hb hl (by decide) rfl dX4_take_26 (fun ls hl => ?_)
  refine g_aload_n hx hb hl 3 rfl dX4_take_28 ?_
  refine g_rdR hx hb hown hts hKn hS h fd_4_4_33 rfl (Or.inl (hts _ q1898)) (fun _ z => z) dX4_take_29 (fun x29 h => ?_)
  refine g_iload hx hb hl 2 rfl dX4_take_32 ?_
  refine lv_iconst (v := 5) hx hb dX4_take_34 (by decide) ?_
  refine lv_iadd hx hb dX4_take_35 ?_
  refine g_ialoadG hx hb hKn hS h dX4_take_36 (fun x36 h => ?_)
  refine lv_iconst (v := 1) hx hb dX4_take_37 (by decide) ?_
  refine lv_icmp_ne (tgt := 45) hx hb dX4_take_38 (by decide) (fun c_38 => ?_) (fun c_38 => ?_)
  · have h := g_ift c_38 h
    refine lv_iconst (v := 0) hx hb dX4_take_45 (by decide) ?_
    exact sX4_take_b46 C _ _ _ _ _ _ _ _ _ h _ _ _ _ _ hS (gls_sub hl [3, 4, 5, 6, 1, 0] rfl)
  · have h := g_iff (fun z => z c_38) h
    refine lv_iconst (v := 1) hx hb dX4_take_41 (by decide) ?_
    refine lv_goto (tgt := 46) hx hb dX4_take_42 (by decide) ?_
    exact sX4_take_b46 C _ _ _ _ _ _ _ _ _ h _ _ _ _ _ hS (gls_sub hl [3, 4, 5, 6, 1, 0] rfl)
/-- SendHallModel.together(I)V -/
def fX4_together_b120 (E : g_E) : Nat → Nat → Int32 → g_G → Option (g_G)
  | 0, _, _, _ => none
  | n + 1, t, v4, G =>
    (grI G 4 4 (some t) 3).bind fun x123 =>
    if x123 ≤ v4 then (
      some G)
    else (
      (gchk G 4 (some t)).bind fun b132 =>
      (fX4_goOn E b132 v4 G).bind fun z132 =>
      fX4_together_b120 E n t (v4 + 1) z132)
def fX4_together_b111 (E : g_E) (k57 : Nat → Int32 → Int32 → Int32 → Int32 → g_G → Option (g_G)) (t : Nat) (v1 : Int32) (v2 : Int32) (v3 : Int32) (v4 : Int32) (G : g_G) : Option (g_G) :=
  k57 t v1 v2 v3 (v4 + 1) G
def fX4_together_b57 (E : g_E) : Nat → Nat → Int32 → Int32 → Int32 → Int32 → g_G → Option (g_G)
  | 0, _, _, _, _, _, _ => none
  | n + 1, t, v1, v2, v3, v4, G =>
    (grI G 4 4 (some t) 3).bind fun x60 =>
    if x60 ≤ v4 then (
      fX4_together_b120 E gFU t 0 G)
    else (
      (gchk G 4 (some t)).bind fun b70 =>
      (fX4_upTo E b70 v4 v2 G).bind fun z70 =>
      (grR z70 4 4 (some t) 36).bind fun x74 =>
      (gaI z70 100 x74 v4).bind fun x80 =>
      (gsaI E z70 x74 v4 (x80 + 1)).bind fun G83 =>
      if ¬ v1 = (7 : Int32) then (
        fX4_together_b111 E (fX4_together_b57 E n) t v1 v2 v3 v4 G83)
      else (
        (grR G83 4 4 (some t) 27).bind fun x95 =>
        (gchk G83 4 (some t)).bind fun b102 =>
        (fX4_own E b102 v4 0 G83).bind fun z102 =>
        (gaI z102.2 100 x95 z102.1).bind fun x105 =>
        (gchk z102.2 4 (some t)).bind fun b108 =>
        (fX4_put E b108 v4 (2 + x105) v3 z102.2).bind fun z108 =>
        fX4_together_b111 E (fX4_together_b57 E n) t v1 v2 v3 v4 z108))
def fX4_together_b46 (E : g_E) (k7 : Nat → Int32 → Int32 → Int32 → Int32 → g_G → Option (g_G)) (t : Nat) (v1 : Int32) (v2 : Int32) (v4 : Int32) (s0 : Int32) (s1 : Int32) (G : g_G) : Option (g_G) :=
  k7 t v1 v2 (s0 + s1) (v4 + 1) G
def fX4_together_b7 (E : g_E) : Nat → Nat → Int32 → Int32 → Int32 → Int32 → g_G → Option (g_G)
  | 0, _, _, _, _, _, _ => none
  | n + 1, t, v1, v2, v3, v4, G =>
    (grI G 4 4 (some t) 3).bind fun x10 =>
    if x10 ≤ v4 then (
      fX4_together_b57 E gFU t v1 v2 v3 0 G)
    else (
      (grR G 4 4 (some t) 36).bind fun x18 =>
      (gaI G 100 x18 v4).bind fun x23 =>
      if ¬ v1 = (7 : Int32) then (
        fX4_together_b46 E (fX4_together_b7 E n) t v1 (if v2 < x23 then x23 else v2) v4 v3 0 G)
      else (
        (gchk G 4 (some t)).bind fun b39 =>
        (fX4_asked E b39 v4 0 G).bind fun z39 =>
        fX4_together_b46 E (fX4_together_b7 E n) t v1 (if v2 < x23 then x23 else v2) v4 v3 z39.1 z39.2))
def fX4_together (E : g_E) (t : Nat) (v1 : Int32) (G : g_G) : Option (g_G) :=
  fX4_together_b7 E gFU t v1 0 0 0 G
theorem sX4_together_b120 {p : Program} {l : Launch} {e : Env} {R : Room} {s : State} {m : MethodId} {args : Array Value} {below : List Frame} {meth : Method} {c : Code} {E : g_E} {D : g_D} (C : gC p R s m args meth c cX4_together 5 RX4 "together" (none) 7 205 E D) : ∀ (n : Nat) (t : Nat) (v4 : Int32) (G : g_G) (q : g_G), fX4_together_b120 E n t v4 G = some q → ∀ (H : Heap) (locs : List Loc) (cells slots : Nat) (ls : Array Slot), gSt E D G H locs → gls ls 5 [(0, .inr (.inr (some t))), (4, .inl v4)] → gT p l e R s m args below meth c E D H locs cells slots none q (F0 m 120 ls []) := by
  obtain ⟨hx, hb, hml, hown, hts, hKn, hRc, hRs, hc1, hc2, hRf, hRl, hr, hlk, hnm⟩ := id C
  intro n
  induction n with
  | zero =>
    intro t v4 G q h
    exact g_no h
  | succ n ih =>
    intro t v4 G q h H locs cells slots ls hS hl
    rw [fX4_together_b120] at h
    refine g_iload hx hb hl 1 rfl dX4_together_120 ?_
    refine g_aload_n hx hb hl 0 rfl dX4_together_122 ?_
    refine g_rdI hx hb hown hts hKn hS h fd_4_4_3 rfl (Or.inl (hts _ q1868)) (fun _ z => z) dX4_together_123 (fun x123 h => ?_)
    refine lv_icmp_ge (tgt := 141) hx hb dX4_together_126 (by decide) (fun c_126 => ?_) (fun c_126 => ?_)
    · have h := g_ift c_126 h
      exact g_vretG hx hb hr hlk hKn hRc hRs hS h dX4_together_141
    · have h := g_iff c_126 h
      refine g_aload_n hx hb hl 0 rfl dX4_together_129 ?_
      refine g_iload hx hb hl 1 rfl dX4_together_130 ?_
      obtain ⟨b132, hb132, h⟩ := g_bnd h
      obtain ⟨hr132, hk132⟩ := g_chk hb132
      obtain ⟨z132, h132, h⟩ := g_bnd h
      refine g_callV (n := 1) (b := b132) (av := [.inl v4]) (rs := []) hx hb hml hown hts hKn hRc hRs hS hl (sX4_goOn l E D h132) (lw_V q2324 q2326 qs95 q135 q2327) ⟨rfl, by decide, by decide, by decide +kernel⟩ ⟨by rw [hRf]; exact Nat.le_of_ble_eq_true rfl, by rw [hRl]; exact Nat.le_of_ble_eq_true rfl⟩ (g_recv hKn hS hk132 (by decide) (by decide)) rfl (by rw [hr132]; rfl) (Nat.le_of_ble_eq_true rfl) dX4_together_132 (fun H locs cells slots hS => ?_)
      refine g_iinc (l1 := [(4, .inl (v4 + 1)), (0, .inr (.inr (some t)))]) (v := (v4 + 1)) hx hb hl (k := 1) rfl (by rfl) (by decide) rfl dX4_together_135 (fun ls hl => ?_)
      refine lv_goto (tgt := 120) hx hb dX4_together_138 (by decide) ?_
      exact ih _ _ _ _ h _ _ _ _ _ hS (gls_sub hl [1, 0] rfl)
theorem sX4_together_b111 {p : Program} {l : Launch} {e : Env} {R : Room} {s : State} {m : MethodId} {args : Array Value} {below : List Frame} {meth : Method} {c : Code} {E : g_E} {D : g_D} (C : gC p R s m args meth c cX4_together 5 RX4 "together" (none) 7 205 E D) {k57 : Nat → Int32 → Int32 → Int32 → Int32 → g_G → Option (g_G)} (hk57 : ∀ (t : Nat) (v1 : Int32) (v2 : Int32) (v3 : Int32) (v4 : Int32) (G : g_G) (q : g_G), k57 t v1 v2 v3 v4 G = some q → ∀ (H : Heap) (locs : List Loc) (cells slots : Nat) (ls : Array Slot), gSt E D G H locs → gls ls 5 [(0, .inr (.inr (some t))), (1, .inl v1), (2, .inl v2), (3, .inl v3), (4, .inl v4)] → gT p l e R s m args below meth c E D H locs cells slots none q (F0 m 57 ls [])) : ∀ (t : Nat) (v1 : Int32) (v2 : Int32) (v3 : Int32) (v4 : Int32) (G : g_G) (q : g_G), fX4_together_b111 E k57 t v1 v2 v3 v4 G = some q → ∀ (H : Heap) (locs : List Loc) (cells slots : Nat) (ls : Array Slot), gSt E D G H locs → gls ls 5 [(0, .inr (.inr (some t))), (1, .inl v1), (2, .inl v2), (3, .inl v3), (4, .inl v4)] → gT p l e R s m args below meth c E D H locs cells slots none q (F0 m 111 ls []) := by
  obtain ⟨hx, hb, hml, hown, hts, hKn, hRc, hRs, hc1, hc2, hRf, hRl, hr, hlk, hnm⟩ := id C
  intro t v1 v2 v3 v4 G q h H locs cells slots ls hS hl
  unfold fX4_together_b111 at h
  refine g_iinc (l1 := [(4, .inl (v4 + 1)), (0, .inr (.inr (some t))), (1, .inl v1), (2, .inl v2), (3, .inl v3)]) (v := (v4 + 1)) hx hb hl (k := 4) rfl (by rfl) (by decide) rfl dX4_together_111 (fun ls hl => ?_)
  refine lv_goto (tgt := 57) hx hb dX4_together_114 (by decide) ?_
  exact hk57 _ _ _ _ _ _ _ h _ _ _ _ _ hS (gls_sub hl [1, 2, 3, 4, 0] rfl)
theorem sX4_together_b57 {p : Program} {l : Launch} {e : Env} {R : Room} {s : State} {m : MethodId} {args : Array Value} {below : List Frame} {meth : Method} {c : Code} {E : g_E} {D : g_D} (C : gC p R s m args meth c cX4_together 5 RX4 "together" (none) 7 205 E D) : ∀ (n : Nat) (t : Nat) (v1 : Int32) (v2 : Int32) (v3 : Int32) (v4 : Int32) (G : g_G) (q : g_G), fX4_together_b57 E n t v1 v2 v3 v4 G = some q → ∀ (H : Heap) (locs : List Loc) (cells slots : Nat) (ls : Array Slot), gSt E D G H locs → gls ls 5 [(0, .inr (.inr (some t))), (1, .inl v1), (2, .inl v2), (3, .inl v3), (4, .inl v4)] → gT p l e R s m args below meth c E D H locs cells slots none q (F0 m 57 ls []) := by
  obtain ⟨hx, hb, hml, hown, hts, hKn, hRc, hRs, hc1, hc2, hRf, hRl, hr, hlk, hnm⟩ := id C
  intro n
  induction n with
  | zero =>
    intro t v1 v2 v3 v4 G q h
    exact g_no h
  | succ n ih =>
    intro t v1 v2 v3 v4 G q h H locs cells slots ls hS hl
    rw [fX4_together_b57] at h
    refine g_iload hx hb hl 4 rfl dX4_together_57 ?_
    refine g_aload_n hx hb hl 0 rfl dX4_together_59 ?_
    refine g_rdI hx hb hown hts hKn hS h fd_4_4_3 rfl (Or.inl (hts _ q1868)) (fun _ z => z) dX4_together_60 (fun x60 h => ?_)
    refine lv_icmp_ge (tgt := 117) hx hb dX4_together_63 (by decide) (fun c_63 => ?_) (fun c_63 => ?_)
    · have h := g_ift c_63 h
      refine lv_iconst (v := 0) hx hb dX4_together_117 (by decide) ?_
      refine g_istore (l1 := [(4, .inl 0), (0, .inr (.inr (some t))), (1, .inl v1), (2, .inl v2), (3, .inl v3)]) hx hb hl (by decide) rfl dX4_together_118 (fun ls hl => ?_)
      exact sX4_together_b120 C gFU _ _ _ _ h _ _ _ _ _ hS (gls_sub hl [1, 0] rfl)
    · have h := g_iff c_63 h
      refine g_aload_n hx hb hl 0 rfl dX4_together_66 ?_
      refine g_iload hx hb hl 4 rfl dX4_together_67 ?_
      refine g_iload_n hx hb hl 2 rfl dX4_together_69 ?_
      obtain ⟨b70, hb70, h⟩ := g_bnd h
      obtain ⟨hr70, hk70⟩ := g_chk hb70
      obtain ⟨z70, h70, h⟩ := g_bnd h
      refine g_callV (n := 2) (b := b70) (av := [.inl v4, .inl v2]) (rs := []) hx hb hml hown hts hKn hRc hRs hS hl (sX4_upTo l E D h70) (lw_V q2333 q2335 qs97 q135 q2336) ⟨rfl, by decide, by decide, by decide +kernel⟩ ⟨by rw [hRf]; exact Nat.le_of_ble_eq_true rfl, by rw [hRl]; exact Nat.le_of_ble_eq_true rfl⟩ (g_recv hKn hS hk70 (by decide) (by decide)) rfl (by rw [hr70]; rfl) (Nat.le_of_ble_eq_true rfl) dX4_together_70 (fun H locs cells slots hS => ?_)
      refine g_aload_n hx hb hl 0 rfl dX4_together_73 ?_
      refine g_rdR hx hb hown hts hKn hS h fd_4_4_36 rfl (Or.inl (hts _ q1901)) (fun _ z => z) dX4_together_74 (fun x74 h => ?_)
      refine g_iload hx hb hl 4 rfl dX4_together_77 ?_
      refine lv_dup2_11 hx hb dX4_together_79 rfl (by first | exact va_rf_cat _ | rfl | exact g_catA _) ?_
      refine g_ialoadG hx hb hKn hS h dX4_together_80 (fun x80 h => ?_)
      refine lv_iconst (v := 1) hx hb dX4_together_81 (by decide) ?_
      refine lv_iadd hx hb dX4_together_82 ?_
      refine g_iastoreG hx hb hKn hS h dX4_together_83 (fun G83 h H locs hS => ?_)
      refine g_iload_n hx hb hl 1 rfl dX4_together_84 ?_
      refine lv_bipush (v := 7) hx hb dX4_together_85 (by decide) ?_
      refine lv_icmp_ne (tgt := 111) hx hb dX4_together_87 (by decide) (fun c_87 => ?_) (fun c_87 => ?_)
      · have h := g_ift c_87 h
        exact sX4_together_b111 C ih _ _ _ _ _ _ _ h _ _ _ _ _ hS (gls_sub hl [0, 1, 2, 3, 4] rfl)
      · have h := g_iff (fun z => z c_87) h
        refine g_aload_n hx hb hl 0 rfl dX4_together_90 ?_
        refine g_iload hx hb hl 4 rfl dX4_together_91 ?_
        refine lv_iconst (v := 2) hx hb dX4_together_93 (by decide) ?_
        refine g_aload_n hx hb hl 0 rfl dX4_together_94 ?_
        refine g_rdR hx hb hown hts hKn hS h fd_4_4_27 rfl (Or.inl (hts _ q1892)) (fun _ z => z) dX4_together_95 (fun x95 h => ?_)
        refine g_aload_n hx hb hl 0 rfl dX4_together_98 ?_
        refine g_iload hx hb hl 4 rfl dX4_together_99 ?_
        refine lv_iconst (v := 0) hx hb dX4_together_101 (by decide) ?_
        obtain ⟨b102, hb102, h⟩ := g_bnd h
        obtain ⟨hr102, hk102⟩ := g_chk hb102
        obtain ⟨z102, h102, h⟩ := g_bnd h
        refine g_callV (n := 2) (b := b102) (av := [.inl v4, .inl 0]) (rs := [.inr (.inr x95), .inl 2, .inl v4, .inr (.inr (some t))]) hx hb hml hown hts hKn hRc hRs hS hl (sX4_own l E D h102) (lw_V q2245 q2247 qs77 q135 q2248) ⟨rfl, by decide, by decide, by decide +kernel⟩ ⟨by rw [hRf]; exact Nat.le_of_ble_eq_true rfl, by rw [hRl]; exact Nat.le_of_ble_eq_true rfl⟩ (g_recv hKn hS hk102 (by decide) (by decide)) rfl (by rw [hr102]; rfl) (Nat.le_of_ble_eq_true rfl) dX4_together_102 (fun H locs cells slots hS => ?_)
        refine g_ialoadG hx hb hKn hS h dX4_together_105 (fun x105 h => ?_)
        refine lv_iadd hx hb dX4_together_106 ?_
        refine g_iload_n hx hb hl 3 rfl dX4_together_107 ?_
        obtain ⟨b108, hb108, h⟩ := g_bnd h
        obtain ⟨hr108, hk108⟩ := g_chk hb108
        obtain ⟨z108, h108, h⟩ := g_bnd h
        refine g_callV (n := 3) (b := b108) (av := [.inl v4, .inl (2 + x105), .inl v3]) (rs := []) hx hb hml hown hts hKn hRc hRs hS hl (sX4_put l E D h108) (lw_V q2233 q2235 qs74 q135 q2236) ⟨rfl, by decide, by decide, by decide +kernel⟩ ⟨by rw [hRf]; exact Nat.le_of_ble_eq_true rfl, by rw [hRl]; exact Nat.le_of_ble_eq_true rfl⟩ (g_recv hKn hS hk108 (by decide) (by decide)) rfl (by rw [hr108]; rfl) (Nat.le_of_ble_eq_true rfl) dX4_together_108 (fun H locs cells slots hS => ?_)
        exact sX4_together_b111 C ih _ _ _ _ _ _ _ h _ _ _ _ _ hS (gls_sub hl [0, 1, 2, 3, 4] rfl)
theorem sX4_together_b46 {p : Program} {l : Launch} {e : Env} {R : Room} {s : State} {m : MethodId} {args : Array Value} {below : List Frame} {meth : Method} {c : Code} {E : g_E} {D : g_D} (C : gC p R s m args meth c cX4_together 5 RX4 "together" (none) 7 205 E D) {k7 : Nat → Int32 → Int32 → Int32 → Int32 → g_G → Option (g_G)} (hk7 : ∀ (t : Nat) (v1 : Int32) (v2 : Int32) (v3 : Int32) (v4 : Int32) (G : g_G) (q : g_G), k7 t v1 v2 v3 v4 G = some q → ∀ (H : Heap) (locs : List Loc) (cells slots : Nat) (ls : Array Slot), gSt E D G H locs → gls ls 5 [(0, .inr (.inr (some t))), (1, .inl v1), (2, .inl v2), (3, .inl v3), (4, .inl v4)] → gT p l e R s m args below meth c E D H locs cells slots none q (F0 m 7 ls [])) : ∀ (t : Nat) (v1 : Int32) (v2 : Int32) (v4 : Int32) (s0 : Int32) (s1 : Int32) (G : g_G) (q : g_G), fX4_together_b46 E k7 t v1 v2 v4 s0 s1 G = some q → ∀ (H : Heap) (locs : List Loc) (cells slots : Nat) (ls : Array Slot), gSt E D G H locs → gls ls 5 [(0, .inr (.inr (some t))), (1, .inl v1), (2, .inl v2), (4, .inl v4)] → gT p l e R s m args below meth c E D H locs cells slots none q (F0 m 46 ls [.int s1, .int s0]) := by
  obtain ⟨hx, hb, hml, hown, hts, hKn, hRc, hRs, hc1, hc2, hRf, hRl, hr, hlk, hnm⟩ := id C
  intro t v1 v2 v4 s0 s1 G q h H locs cells slots ls hS hl
  unfold fX4_together_b46 at h
  refine lv_iadd hx hb dX4_together_46 ?_
  refine g_istore_n (l1 := [(3, .inl (s0 + s1)), (0, .inr (.inr (some t))), (1, .inl v1), (2, .inl v2), (4, .inl v4)]) hx hb hl (by decide) rfl dX4_together_47 (fun ls hl => ?_)
  refine g_iinc (l1 := [(4, .inl (v4 + 1)), (3, .inl (s0 + s1)), (0, .inr (.inr (some t))), (1, .inl v1), (2, .inl v2)]) (v := (v4 + 1)) hx hb hl (k := 4) rfl (by rfl) (by decide) rfl dX4_together_48 (fun ls hl => ?_)
  refine lv_goto (tgt := 7) hx hb dX4_together_51 (by decide) ?_
  exact hk7 _ _ _ _ _ _ _ h _ _ _ _ _ hS (gls_sub hl [2, 3, 4, 1, 0] rfl)
theorem sX4_together_b7 {p : Program} {l : Launch} {e : Env} {R : Room} {s : State} {m : MethodId} {args : Array Value} {below : List Frame} {meth : Method} {c : Code} {E : g_E} {D : g_D} (C : gC p R s m args meth c cX4_together 5 RX4 "together" (none) 7 205 E D) : ∀ (n : Nat) (t : Nat) (v1 : Int32) (v2 : Int32) (v3 : Int32) (v4 : Int32) (G : g_G) (q : g_G), fX4_together_b7 E n t v1 v2 v3 v4 G = some q → ∀ (H : Heap) (locs : List Loc) (cells slots : Nat) (ls : Array Slot), gSt E D G H locs → gls ls 5 [(0, .inr (.inr (some t))), (1, .inl v1), (2, .inl v2), (3, .inl v3), (4, .inl v4)] → gT p l e R s m args below meth c E D H locs cells slots none q (F0 m 7 ls []) := by
  obtain ⟨hx, hb, hml, hown, hts, hKn, hRc, hRs, hc1, hc2, hRf, hRl, hr, hlk, hnm⟩ := id C
  intro n
  induction n with
  | zero =>
    intro t v1 v2 v3 v4 G q h
    exact g_no h
  | succ n ih =>
    intro t v1 v2 v3 v4 G q h H locs cells slots ls hS hl
    rw [fX4_together_b7] at h
    refine g_iload hx hb hl 4 rfl dX4_together_7 ?_
    refine g_aload_n hx hb hl 0 rfl dX4_together_9 ?_
    refine g_rdI hx hb hown hts hKn hS h fd_4_4_3 rfl (Or.inl (hts _ q1868)) (fun _ z => z) dX4_together_10 (fun x10 h => ?_)
    refine lv_icmp_ge (tgt := 54) hx hb dX4_together_13 (by decide) (fun c_13 => ?_) (fun c_13 => ?_)
    · have h := g_ift c_13 h
      refine lv_iconst (v := 0) hx hb dX4_together_54 (by decide) ?_
      refine g_istore (l1 := [(4, .inl 0), (0, .inr (.inr (some t))), (1, .inl v1), (2, .inl v2), (3, .inl v3)]) hx hb hl (by decide) rfl dX4_together_55 (fun ls hl => ?_)
      exact sX4_together_b57 C gFU _ _ _ _ _ _ _ h _ _ _ _ _ hS (gls_sub hl [1, 2, 3, 4, 0] rfl)
    · have h := g_iff c_13 h
      refine g_iload_n hx hb hl 2 rfl dX4_together_16 ?_
      refine g_aload_n hx hb hl 0 rfl dX4_together_17 ?_
      refine g_rdR hx hb hown hts hKn hS h fd_4_4_36 rfl (Or.inl (hts _ q1901)) (fun _ z => z) dX4_together_18 (fun x18 h => ?_)
      refine g_iload hx hb hl 4 rfl dX4_together_21 ?_
      refine g_ialoadG hx hb hKn hS h dX4_together_23 (fun x23 h => ?_)
      refine g_mmax (rs := []) hx hb hml hown hRc hRs hS hl (hts _ q2332) (hts _ q283) (hts _ q127) (hts _ q284) (by decide +kernel) rfl (Nat.le_of_ble_eq_true rfl) ⟨by rw [hRf]; exact Nat.le_of_ble_eq_true rfl, by rw [hRl]; exact Nat.le_of_ble_eq_true rfl⟩ dX4_together_24 (fun cells slots => ?_)
      refine g_istore_n (l1 := [(2, .inl (if v2 < x23 then x23 else v2)), (0, .inr (.inr (some t))), (1, .inl v1), (3, .inl v3), (4, .inl v4)]) hx hb hl (by decide) rfl dX4_together_27 (fun ls hl => ?_)
      refine g_iload_n hx hb hl 3 rfl dX4_together_28 ?_
      refine g_iload_n hx hb hl 2 rfl dX4_together_29 ?_
      refine lv_bipush (v := 7) hx hb dX4_together_30 (by decide) ?_
      refine lv_icmp_ne (tgt := 45) hx hb dX4_together_32 (by decide) (fun c_32 => ?_) (fun c_32 => ?_)
      · have h := g_ift c_32 h
        refine lv_iconst (v := 0) hx hb dX4_together_45 (by decide) ?_
        exact sX4_together_b46 C ih _ _ _ _ _ _ _ _ h _ _ _ _ _ hS (gls_sub hl [1, 2, 0, 4] rfl)
      · have h := g_iff (fun z => z c_32) h
        refine g_aload_n hx hb hl 1 rfl dX4_together_35 ?_
        refine g_iload hx hb hl 4 rfl dX4_together_36 ?_
        refine lv_iconst (v := 0) hx hb dX4_together_38 (by decide) ?_
        obtain ⟨b39, hb39, h⟩ := g_bnd h
        obtain ⟨hr39, hk39⟩ := g_chk hb39
        obtain ⟨z39, h39, h⟩ := g_bnd h
        refine g_callV (n := 2) (b := b39) (av := [.inl v4, .inl 0]) (rs := [.inl v3]) hx hb hml hown hts hKn hRc hRs hS hl (sX4_asked l E D h39) (lw_V q2241 q2243 qs76 q135 q2244) ⟨rfl, by decide, by decide, by decide +kernel⟩ ⟨by rw [hRf]; exact Nat.le_of_ble_eq_true rfl, by rw [hRl]; exact Nat.le_of_ble_eq_true rfl⟩ (g_recv hKn hS hk39 (by decide) (by decide)) rfl (by rw [hr39]; rfl) (Nat.le_of_ble_eq_true rfl) dX4_together_39 (fun H locs cells slots hS => ?_)
        refine lv_goto (tgt := 46) hx hb dX4_together_42 (by decide) ?_
        exact sX4_together_b46 C ih _ _ _ _ _ _ _ _ h _ _ _ _ _ hS (gls_sub hl [1, 2, 0, 4] rfl)
theorem sX4_together (l : Launch) (E : g_E) (D : g_D) {t : Nat} {v1 : Int32} {G : g_G} {q : g_G} (h : fX4_together E t v1 G = some q) : gMet l E D yX4_together (ws_ yX4_together cX4_together 5 (none)) 7 205 [.inr (.inr (some t)), .inl v1] G none q := by
  refine gMet.of (by decide +kernel) (Nat.le_of_ble_eq_true rfl) ?_
  intro p e R s m args below meth c C hS ls hl
  have C : gC p R s m args meth c cX4_together 5 RX4 "together" (none) 7 205 E D := C
  obtain ⟨hx, hb, hml, hown, hts, hKn, hRc, hRs, hc1, hc2, hRf, hRl, hr, hlk, hnm⟩ := id C
  have hl : gls ls 5 [(0, .inr (.inr (some t))), (1, .inl v1)] := hl
  generalize s.heap = H at hS ⊢
  unfold fX4_together at h
  refine lv_iconst (v := 0) hx hb dX4_together_0 (by decide) ?_
  refine g_istore_n (l1 := [(2, .inl 0), (0, .inr (.inr (some t))), (1, .inl v1)]) hx hb hl (by decide) rfl dX4_together_1 (fun ls hl => ?_)
  refine lv_iconst (v := 0) hx hb dX4_together_2 (by decide) ?_
  refine g_istore_n (l1 := [(3, .inl 0), (2, .inl 0), (0, .inr (.inr (some t))), (1, .inl v1)]) hx hb hl (by decide) rfl dX4_together_3 (fun ls hl => ?_)
  refine lv_iconst (v := 0) hx hb dX4_together_4 (by decide) ?_
  refine g_istore (l1 := [(4, .inl 0), (3, .inl 0), (2, .inl 0), (0, .inr (.inr (some t))), (1, .inl v1)]) hx hb hl (by decide) rfl dX4_together_5 (fun ls hl => ?_)
  exact sX4_together_b7 C gFU _ _ _ _ _ _ _ h _ _ _ _ _ hS (gls_sub hl [3, 4, 2, 1, 0] rfl)
/-- SendHall$Send.comes(LSendHall$Life;I)LSendHall$Step; -/
def fX9_comes_b24 (E : g_E) (t : Nat) (v1 : Option Nat) (v2 : Int32) (s0 : Option Nat) (s1 : Int32) (s2 : Int32) (G : g_G) : Option (Option Nat × g_G) :=
  (gsaZ E G s0 s1 s2).bind fun G24 =>
  (gchk G24 15 (some t)).bind fun b28 =>
  (fX7_comes E b28 v1 v2 G24).bind fun z28 =>
  some (z28.1, z28.2)
def fX9_comes (E : g_E) (t : Nat) (v1 : Option Nat) (v2 : Int32) (G : g_G) : Option (Option Nat × g_G) :=
  (grR G 3 3 v1 4).bind fun x1 =>
  (gchk G 15 (some t)).bind fun b10 =>
  (fX9_to E b10 v1 v2 G).bind fun z10 =>
  (fX7_isOther E v1 v2 z10.1 z10.2).bind fun z13 =>
  if ¬ z13.1 = 0 then (
    fX9_comes_b24 E t v1 v2 x1 v2 0 z13.2)
  else (
    fX9_comes_b24 E t v1 v2 x1 v2 1 z13.2)
theorem sX9_comes_b24 {p : Program} {l : Launch} {e : Env} {R : Room} {s : State} {m : MethodId} {args : Array Value} {below : List Frame} {meth : Method} {c : Code} {E : g_E} {D : g_D} (C : gC p R s m args meth c cX9_comes 3 RX9 "comes" (some (.object "SendHall$Step")) 219 7326 E D) : ∀ (t : Nat) (v1 : Option Nat) (v2 : Int32) (s0 : Option Nat) (s1 : Int32) (s2 : Int32) (G : g_G) (q : Option Nat × g_G), fX9_comes_b24 E t v1 v2 s0 s1 s2 G = some q → ∀ (H : Heap) (locs : List Loc) (cells slots : Nat) (ls : Array Slot), gSt E D G H locs → gls ls 3 [(0, .inr (.inr (some t))), (1, .inr (.inr v1)), (2, .inl v2)] → gT p l e R s m args below meth c E D H locs cells slots (some (va_rf q.1)) q.2 (F0 m 24 ls [.int s2, .int s1, va_rf s0]) := by
  obtain ⟨hx, hb, hml, hown, hts, hKn, hRc, hRs, hc1, hc2, hRf, hRl, hr, hlk, hnm⟩ := id C
  intro t v1 v2 s0 s1 s2 G q h H locs cells slots ls hS hl
  unfold fX9_comes_b24 at h
  refine g_zastoreG hx hb hKn hS h dX9_comes_24 (fun G24 h H locs hS => ?_)
  refine g_aload_n hx hb hl 0 rfl dX9_comes_25 ?_
  refine g_aload_n hx hb hl 1 rfl dX9_comes_26 ?_
  refine g_iload_n hx hb hl 2 rfl dX9_comes_27 ?_
  obtain ⟨b28, hb28, h⟩ := g_bnd h
  obtain ⟨hr28, hk28⟩ := g_chk hb28
  obtain ⟨z28, h28, h⟩ := g_bnd h
  refine g_callSX (n := 2) (b := b28) (av := [.inr (.inr v1), .inl v2]) (rs := []) (up := "SendHall$Talk") hx hb hml hown hts hKn hRc hRs hS hl (C := "SendHall$Send") (hKn.obj (k := 15) (by decide) (by decide)).2 (sX7_comes l E D h28) (lw_meth q812) (hts _ q141) (hts _ q807) (hts _ q808) (hts _ q810) (hts _ q811) (hts _ q737) ⟨by decide, by decide +kernel⟩ ⟨by rw [hRf]; exact Nat.le_of_ble_eq_true rfl, by rw [hRl]; exact Nat.le_of_ble_eq_true rfl⟩ (g_recv hKn hS hk28 (by decide) (by decide)) rfl (by rw [hr28]; rfl) (Nat.le_of_ble_eq_true rfl) dX9_comes_28 (fun H locs cells slots hS => ?_)
  exact g_aretG hx hb hr (by first | exact Or.inl ⟨_, rfl⟩ | exact Or.inr ⟨_, rfl⟩) hlk hKn hRc hRs hS h dX9_comes_31
theorem sX9_comes (l : Launch) (E : g_E) (D : g_D) {t : Nat} {v1 : Option Nat} {v2 : Int32} {G : g_G} {q : Option Nat × g_G} (h : fX9_comes E t v1 v2 G = some q) : gMet l E D yX9_comes (ws_ yX9_comes cX9_comes 3 (some (.object "SendHall$Step"))) 219 7326 [.inr (.inr (some t)), .inr (.inr v1), .inl v2] G (some (va_rf q.1)) q.2 := by
  refine gMet.of (by decide +kernel) (Nat.le_of_ble_eq_true rfl) ?_
  intro p e R s m args below meth c C hS ls hl
  have C : gC p R s m args meth c cX9_comes 3 RX9 "comes" (some (.object "SendHall$Step")) 219 7326 E D := C
  obtain ⟨hx, hb, hml, hown, hts, hKn, hRc, hRs, hc1, hc2, hRf, hRl, hr, hlk, hnm⟩ := id C
  have hl : gls ls 3 [(0, .inr (.inr (some t))), (1, .inr (.inr v1)), (2, .inl v2)] := hl
  generalize s.heap = H at hS ⊢
  unfold fX9_comes at h
  refine g_aload_n hx hb hl 1 rfl dX9_comes_0 ?_
  refine g_rdR hx hb hown hts hKn hS h fd_3_3_4 rfl (Or.inr ⟨_, gNest_use rfl (hKn.2.2.2.2.1 _ (gNest_in q548 rfl))⟩) (fun _ z => z) dX9_comes_1 (fun x1 h => ?_)
  refine g_iload_n hx hb hl 2 rfl dX9_comes_4 ?_
  refine g_aload_n hx hb hl 1 rfl dX9_comes_5 ?_
  refine g_iload_n hx hb hl 2 rfl dX9_comes_6 ?_
  refine g_aload_n hx hb hl 0 rfl dX9_comes_7 ?_
  refine g_aload_n hx hb hl 1 rfl dX9_comes_8 ?_
  refine g_iload_n hx hb hl 2 rfl dX9_comes_9 ?_
  obtain ⟨b10, hb10, h⟩ := g_bnd h
  obtain ⟨hr10, hk10⟩ := g_chk hb10
  obtain ⟨z10, h10, h⟩ := g_bnd h
  refine g_callV (n := 2) (b := b10) (av := [.inr (.inr v1), .inl v2]) (rs := [.inl v2, .inr (.inr v1), .inl v2, .inr (.inr x1)]) hx hb hml hown hts hKn hRc hRs hS hl (sX9_to l E D h10) (lw_V q797 q798 q799 q143 q800) ⟨rfl, by decide, by decide, by decide +kernel⟩ ⟨by rw [hRf]; exact Nat.le_of_ble_eq_true rfl, by rw [hRl]; exact Nat.le_of_ble_eq_true rfl⟩ (g_recv hKn hS hk10 (by decide) (by decide)) rfl (by rw [hr10]; rfl) (Nat.le_of_ble_eq_true rfl) dX9_comes_10 (fun H locs cells slots hS => ?_)
  obtain ⟨z13, h13, h⟩ := g_bnd h
  refine g_callSS (n := 3) (av := [.inr (.inr v1), .inl v2, .inl z10.1]) (rs := [.inl v2, .inr (.inr x1)]) (sub := "SendHall$Send") hx hb hml hown hts hKn hRc hRs hS hl (sX7_isOther l E D h13) (lw_meth q806) (hts _ q141) (hts _ q803) (hts _ q804) (hts _ q805) ⟨by decide, by decide, by decide +kernel⟩ ⟨by rw [hRf]; exact Nat.le_of_ble_eq_true rfl, by rw [hRl]; exact Nat.le_of_ble_eq_true rfl⟩ rfl rfl (Nat.le_of_ble_eq_true rfl) dX9_comes_13 (fun H locs cells slots hS => ?_)
  refine lv_if_ne (tgt := 23) hx hb dX9_comes_16 (by decide) (fun c_16 => ?_) (fun c_16 => ?_)
  · have h := g_ift c_16 h
    refine lv_iconst (v := 0) hx hb dX9_comes_23 (by decide) ?_
    exact sX9_comes_b24 C _ _ _ _ _ _ _ _ h _ _ _ _ _ hS (gls_sub hl [0, 1, 2] rfl)
  · have h := g_iff (fun z => z c_16) h
    refine lv_iconst (v := 1) hx hb dX9_comes_19 (by decide) ?_
    refine lv_goto (tgt := 24) hx hb dX9_comes_20 (by decide) ?_
    exact sX9_comes_b24 C _ _ _ _ _ _ _ _ h _ _ _ _ _ hS (gls_sub hl [0, 1, 2] rfl)
