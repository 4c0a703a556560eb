set_option maxRecDepth 100000
/-- SendHall.endings(I)I -/
def fX1_endings_b60 (E : g_E) (k23 : Nat → Int32 → Int32 → Int32 → g_G → Option ((Int32 × g_G) ⊕ gX)) (t : Nat) (v1 : Int32) (v2 : Int32) (v3 : Int32) (G : g_G) : Option ((Int32 × g_G) ⊕ gX) :=
  k23 t v1 v2 (v3 + 1) G
def fX1_endings_b57 (E : g_E) (k23 : Nat → Int32 → Int32 → Int32 → g_G → Option ((Int32 × g_G) ⊕ gX)) (t : Nat) (v1 : Int32) (v2 : Int32) (v3 : Int32) (G : g_G) : Option ((Int32 × g_G) ⊕ gX) :=
  fX1_endings_b60 E k23 t v1 (v2 + 1) v3 G
def fX1_endings_b23 (E : g_E) : Nat → Nat → Int32 → Int32 → Int32 → g_G → Option ((Int32 × g_G) ⊕ gX)
  | 0, _, _, _, _, _ => none
  | n + 1, t, v1, v2, v3, G =>
    (grR G 1 1 (some t) 16).bind fun x25 =>
    (gchk G 17 x25).bind fun b28 =>
    (fJ2_size E b28 G).bind fun z28 =>
    if z28.1 ≤ v3 then (
      some (.inl (v2, z28.2)))
    else (
      if v1 = (-1 : Int32) then (
        fX1_endings_b57 E (fX1_endings_b23 E n) t v1 v2 v3 z28.2)
      else (
        (grR z28.2 1 1 (some t) 16).bind fun x40 =>
        (gchk z28.2 17 x40).bind fun b44 =>
        (fJ2_get E b44 v3 z28.2).bind fun z44 =>
        (gcast z44.2 7 7 z44.1).bind fun x47 =>
        (grI z44.2 7 7 x47 0).bind fun x50 =>
        if ¬ x50 = v1 then (
          fX1_endings_b60 E (fX1_endings_b23 E n) t v1 v2 v3 z44.2)
        else (
          fX1_endings_b57 E (fX1_endings_b23 E n) t v1 v2 v3 z44.2)))
def fX1_endings (E : g_E) (t : Nat) (v1 : Int32) (G : g_G) : Option ((Int32 × g_G) ⊕ gX) :=
  (fX1_within E v1 (-1) 2 G).bind fun z3 =>
  gcat (fX1_there E z3.1 z3.2) (fun z6 =>
    (gchk z6 1 (some t)).bind fun b10 =>
    (fX1_finds E b10 z6).bind fun z10 =>
    if ¬ z10.1 = 0 then (
      fX1_endings_b23 E gFU t v1 0 0 z10.2)
    else (
      some (.inl ((-2), z10.2))))
  (fun y => some (.inr y))
theorem sX1_endings_b60 {p : Program} {l : Launch} {e : Env} {R : Room} {s : State} {m : MethodId} {args : Array Value} {below : List Frame} {meth : Method} {c : Code} {E : g_E} {D : g_D} (C : gC p R s m args meth c cX1_endings 4 RX1 "endings" (some .int) 227 7531 E D) (hlT : l.stackTraces = false) (htab : c.exceptionTable.toList = []) {k23 : Nat → Int32 → Int32 → Int32 → g_G → Option ((Int32 × g_G) ⊕ gX)} (hk23 : ∀ (t : Nat) (v1 : Int32) (v2 : Int32) (v3 : Int32) (G : g_G) (q : (Int32 × g_G) ⊕ gX), k23 t v1 v2 v3 G = some q → ∀ (H : Heap) (locs : List Loc) (cells slots : Nat) (ls : Array Slot), gSt E D G H locs → gls ls 4 [(0, .inr (.inr (some t))), (1, .inl v1), (2, .inl v2), (3, .inl v3)] → gTX p l e R s m args below meth c E D H locs cells slots gokI q (F0 m 23 ls [])) : ∀ (t : Nat) (v1 : Int32) (v2 : Int32) (v3 : Int32) (G : g_G) (q : (Int32 × g_G) ⊕ gX), fX1_endings_b60 E k23 t v1 v2 v3 G = some q → ∀ (H : Heap) (locs : List Loc) (cells slots : Nat) (ls : Array Slot), gSt E D G H locs → gls ls 4 [(0, .inr (.inr (some t))), (1, .inl v1), (2, .inl v2), (3, .inl v3)] → gTX p l e R s m args below meth c E D H locs cells slots gokI q (F0 m 60 ls []) := by
  obtain ⟨hx, hb, hml, hown, hts, hKn, hRc, hRs, hc1, hc2, hRf, hRl, hr, hlk, hnm⟩ := id C
  intro t v1 v2 v3 G q h H locs cells slots ls hS hl
  unfold fX1_endings_b60 at h
  refine g_iinc (l1 := [(3, .inl (v3 + 1)), (0, .inr (.inr (some t))), (1, .inl v1), (2, .inl v2)]) (v := (v3 + 1)) hx hb hl (k := 3) rfl (by rfl) (by decide) rfl dX1_endings_60 (fun ls hl => ?_)
  refine lv_goto (tgt := 23) hx hb dX1_endings_63 (by decide) ?_
  exact hk23 _ _ _ _ _ _ h _ _ _ _ _ hS (gls_sub hl [1, 2, 3, 0] rfl)
theorem sX1_endings_b57 {p : Program} {l : Launch} {e : Env} {R : Room} {s : State} {m : MethodId} {args : Array Value} {below : List Frame} {meth : Method} {c : Code} {E : g_E} {D : g_D} (C : gC p R s m args meth c cX1_endings 4 RX1 "endings" (some .int) 227 7531 E D) (hlT : l.stackTraces = false) (htab : c.exceptionTable.toList = []) {k23 : Nat → Int32 → Int32 → Int32 → g_G → Option ((Int32 × g_G) ⊕ gX)} (hk23 : ∀ (t : Nat) (v1 : Int32) (v2 : Int32) (v3 : Int32) (G : g_G) (q : (Int32 × g_G) ⊕ gX), k23 t v1 v2 v3 G = some q → ∀ (H : Heap) (locs : List Loc) (cells slots : Nat) (ls : Array Slot), gSt E D G H locs → gls ls 4 [(0, .inr (.inr (some t))), (1, .inl v1), (2, .inl v2), (3, .inl v3)] → gTX p l e R s m args below meth c E D H locs cells slots gokI q (F0 m 23 ls [])) : ∀ (t : Nat) (v1 : Int32) (v2 : Int32) (v3 : Int32) (G : g_G) (q : (Int32 × g_G) ⊕ gX), fX1_endings_b57 E k23 t v1 v2 v3 G = some q → ∀ (H : Heap) (locs : List Loc) (cells slots : Nat) (ls : Array Slot), gSt E D G H locs → gls ls 4 [(0, .inr (.inr (some t))), (1, .inl v1), (2, .inl v2), (3, .inl v3)] → gTX p l e R s m args below meth c E D H locs cells slots gokI q (F0 m 57 ls []) := by
  obtain ⟨hx, hb, hml, hown, hts, hKn, hRc, hRs, hc1, hc2, hRf, hRl, hr, hlk, hnm⟩ := id C
  intro t v1 v2 v3 G q h H locs cells slots ls hS hl
  unfold fX1_endings_b57 at h
  refine g_iinc (l1 := [(2, .inl (v2 + 1)), (0, .inr (.inr (some t))), (1, .inl v1), (3, .inl v3)]) (v := (v2 + 1)) hx hb hl (k := 2) rfl (by rfl) (by decide) rfl dX1_endings_57 (fun ls hl => ?_)
  exact sX1_endings_b60 C hlT htab hk23 _ _ _ _ _ _ h _ _ _ _ _ hS (gls_sub hl [1, 2, 0, 3] rfl)
theorem sX1_endings_b23 {p : Program} {l : Launch} {e : Env} {R : Room} {s : State} {m : MethodId} {args : Array Value} {below : List Frame} {meth : Method} {c : Code} {E : g_E} {D : g_D} (C : gC p R s m args meth c cX1_endings 4 RX1 "endings" (some .int) 227 7531 E D) (hlT : l.stackTraces = false) (htab : c.exceptionTable.toList = []) : ∀ (n : Nat) (t : Nat) (v1 : Int32) (v2 : Int32) (v3 : Int32) (G : g_G) (q : (Int32 × g_G) ⊕ gX), fX1_endings_b23 E n t v1 v2 v3 G = some q → ∀ (H : Heap) (locs : List Loc) (cells slots : Nat) (ls : Array Slot), gSt E D G H locs → gls ls 4 [(0, .inr (.inr (some t))), (1, .inl v1), (2, .inl v2), (3, .inl v3)] → gTX p l e R s m args below meth c E D H locs cells slots gokI q (F0 m 23 ls []) := by
  obtain ⟨hx, hb, hml, hown, hts, hKn, hRc, hRs, hc1, hc2, hRf, hRl, hr, hlk, hnm⟩ := id C
  intro n
  induction n with
  | zero =>
    intro t v1 v2 v3 G q h
    exact g_no h
  | succ n ih =>
    intro t v1 v2 v3 G q h H locs cells slots ls hS hl
    rw [fX1_endings_b23] at h
    refine g_iload_n hx hb hl 3 rfl dX1_endings_23 ?_
    refine g_aload_n hx hb hl 0 rfl dX1_endings_24 ?_
    refine g_rdR hx hb hown hts hKn hS h fd_1_1_16 rfl (Or.inl (hts _ q613)) (fun _ z => z) dX1_endings_25 (fun x25 h => ?_)
    obtain ⟨b28, hb28, h⟩ := g_bnd h
    obtain ⟨hr28, hk28⟩ := g_chk hb28
    obtain ⟨z28, h28, h⟩ := g_bnd h
    refine g_callV (n := 0) (b := b28) (av := []) (rs := [.inl v3]) hx hb hml hown hts hKn hRc hRs hS hl (sJ2_size l E D h28) (lw_V q995 q782 q783 q117 q784) ⟨rfl, by decide, by decide, by decide +kernel⟩ ⟨by rw [hRf]; exact Nat.le_of_ble_eq_true rfl, by rw [hRl]; exact Nat.le_of_ble_eq_true rfl⟩ (g_recv hKn hS hk28 (by decide) (by decide)) rfl (by rw [hr28]; rfl) (Nat.le_of_ble_eq_true rfl) dX1_endings_28 (fun H locs cells slots hS => ?_)
    refine lv_icmp_ge (tgt := 66) hx hb dX1_endings_31 (by decide) (fun c_31 => ?_) (fun c_31 => ?_)
    · have h := g_ift c_31 h
      refine g_iload_n hx hb hl 2 rfl dX1_endings_66 ?_
      exact g_retX (g_iretG hx hb hr hlk hKn hRc hRs hS (q := (v2, z28.2)) rfl dX1_endings_67) h rfl
    · have h := g_iff c_31 h
      refine g_iload_n hx hb hl 1 rfl dX1_endings_34 ?_
      refine lv_iconst (v := (-1)) hx hb dX1_endings_35 (by decide) ?_
      refine lv_icmp_eq (tgt := 57) hx hb dX1_endings_36 (by decide) (fun c_36 => ?_) (fun c_36 => ?_)
      · have h := g_ift c_36 h
        exact sX1_endings_b57 C hlT htab ih _ _ _ _ _ _ h _ _ _ _ _ hS (gls_sub hl [0, 1, 2, 3] rfl)
      · have h := g_iff c_36 h
        refine g_aload_n hx hb hl 0 rfl dX1_endings_39 ?_
        refine g_rdR hx hb hown hts hKn hS h fd_1_1_16 rfl (Or.inl (hts _ q613)) (fun _ z => z) dX1_endings_40 (fun x40 h => ?_)
        refine g_iload_n hx hb hl 3 rfl dX1_endings_43 ?_
        obtain ⟨b44, hb44, h⟩ := g_bnd h
        obtain ⟨hr44, hk44⟩ := g_chk hb44
        obtain ⟨z44, h44, h⟩ := g_bnd h
        refine g_callV (n := 1) (b := b44) (av := [.inl v3]) (rs := []) hx hb hml hown hts hKn hRc hRs hS hl (sJ2_get l E D h44) (lw_V q996 q759 q760 q117 q761) ⟨rfl, by decide, by decide, by decide +kernel⟩ ⟨by rw [hRf]; exact Nat.le_of_ble_eq_true rfl, by rw [hRl]; exact Nat.le_of_ble_eq_true rfl⟩ (g_recv hKn hS hk44 (by decide) (by decide)) rfl (by rw [hr44]; rfl) (Nat.le_of_ble_eq_true rfl) dX1_endings_44 (fun H locs cells slots hS => ?_)
        refine g_castS (k := 7) hx hb hown hKn hS h (by decide) (by decide) (hts _ q962) dX1_endings_47 (fun x47 h => ?_)
        refine g_rdI hx hb hown hts hKn hS h fd_7_7_0 rfl (Or.inr ⟨_, gNest_use rfl (hKn.2.2.2.2.1 _ (gNest_in q969 rfl))⟩) (fun _ z => z) dX1_endings_50 (fun x50 h => ?_)
        refine g_iload_n hx hb hl 1 rfl dX1_endings_53 ?_
        refine lv_icmp_ne (tgt := 60) hx hb dX1_endings_54 (by decide) (fun c_54 => ?_) (fun c_54 => ?_)
        · have h := g_ift c_54 h
          exact sX1_endings_b60 C hlT htab ih _ _ _ _ _ _ h _ _ _ _ _ hS (gls_sub hl [0, 1, 2, 3] rfl)
        · have h := g_iff (fun z => z c_54) h
          exact sX1_endings_b57 C hlT htab ih _ _ _ _ _ _ h _ _ _ _ _ hS (gls_sub hl [0, 1, 2, 3] rfl)
theorem sX1_endings (l : Launch) (E : g_E) (D : g_D) (hlT : l.stackTraces = false) {t : Nat} {v1 : Int32} {G : g_G} {q : (Int32 × g_G) ⊕ gX} (h : fX1_endings E t v1 G = some q) : gMetX l E D yX1_endings (ws_ yX1_endings cX1_endings 4 (some .int)) 227 7531 [.inr (.inr (some t)), .inl v1] G gokI q := by
  refine gMetX.of (by decide +kernel) (Nat.le_of_ble_eq_true rfl) ?_
  intro p e R s m args below meth c C htab hS ls hl
  have C : gC p R s m args meth c cX1_endings 4 RX1 "endings" (some .int) 227 7531 E D := C
  obtain ⟨hx, hb, hml, hown, hts, hKn, hRc, hRs, hc1, hc2, hRf, hRl, hr, hlk, hnm⟩ := id C
  have hl : gls ls 4 [(0, .inr (.inr (some t))), (1, .inl v1)] := hl
  generalize hH0 : s.heap = H at hS ⊢
  unfold fX1_endings at h
  refine g_iload_n hx hb hl 1 rfl dX1_endings_0 ?_
  refine lv_iconst (v := (-1)) hx hb dX1_endings_1 (by decide) ?_
  refine lv_iconst (v := 2) hx hb dX1_endings_2 (by decide) ?_
  obtain ⟨z3, h3, h⟩ := g_bnd h
  refine g_callS (n := 3) (av := [.inl v1, .inl (-1), .inl 2]) (rs := []) hx hb hml hown hts hKn hRc hRs hS hl (sX1_within l E D h3) (lw_S q713 q714 q113 q715) ⟨by decide, by decide, by decide +kernel⟩ ⟨by rw [hRf]; exact Nat.le_of_ble_eq_true rfl, by rw [hRl]; exact Nat.le_of_ble_eq_true rfl⟩ rfl rfl (Nat.le_of_ble_eq_true rfl) dX1_endings_3 (fun H locs cells slots hS => ?_)
  obtain ⟨o6, h6, ha6, hx6⟩ := g_catE h
  refine g_callSt (n := 1) (av := [.inl z3.1]) (rs := []) hx hb hml hown hts hKn hRc hRs hS hl (sX1_there l E D hlT h6) (lw_S q1721 q1722 q113 q1723) ⟨by decide, by decide, by decide +kernel⟩ ⟨by rw [hRf]; exact Nat.le_of_ble_eq_true rfl, by rw [hRl]; exact Nat.le_of_ble_eq_true rfl⟩ rfl rfl (Nat.le_of_ble_eq_true rfl) dX1_endings_6 (fun z6 e6 H locs cells slots hS => ?_) (fun k6 a6 G6 e6 n1 n2 nk nB H locs cells slots hS => ?_)
  · have h := ha6 _ e6
    refine g_aload_n hx hb hl 0 rfl dX1_endings_9 ?_
    obtain ⟨b10, hb10, h⟩ := g_bnd h
    obtain ⟨hr10, hk10⟩ := g_chk hb10
    obtain ⟨z10, h10, h⟩ := g_bnd h
    refine g_callV (n := 0) (b := b10) (av := []) (rs := []) hx hb hml hown hts hKn hRc hRs hS hl (sX1_finds l E D h10) (lw_V q720 q722 qs2 q113 q723) ⟨rfl, by decide, by decide, by decide +kernel⟩ ⟨by rw [hRf]; exact Nat.le_of_ble_eq_true rfl, by rw [hRl]; exact Nat.le_of_ble_eq_true rfl⟩ (g_recv hKn hS hk10 (by decide) (by decide)) rfl (by rw [hr10]; rfl) (Nat.le_of_ble_eq_true rfl) dX1_endings_10 (fun H locs cells slots hS => ?_)
    refine lv_if_ne (tgt := 19) hx hb dX1_endings_13 (by decide) (fun c_13 => ?_) (fun c_13 => ?_)
    · have h := g_ift c_13 h
      refine lv_iconst (v := 0) hx hb dX1_endings_19 (by decide) ?_
      refine g_istore_n (l1 := [(2, .inl 0), (0, .inr (.inr (some t))), (1, .inl v1)]) hx hb hl (by decide) rfl dX1_endings_20 (fun ls hl => ?_)
      refine lv_iconst (v := 0) hx hb dX1_endings_21 (by decide) ?_
      refine g_istore_n (l1 := [(3, .inl 0), (2, .inl 0), (0, .inr (.inr (some t))), (1, .inl v1)]) hx hb hl (by decide) rfl dX1_endings_22 (fun ls hl => ?_)
      exact sX1_endings_b23 C hlT htab gFU _ _ _ _ _ _ h _ _ _ _ _ hS (gls_sub hl [2, 3, 1, 0] rfl)
    · have h := g_iff (fun z => z c_13) h
      refine lv_bipush (v := (-2)) hx hb dX1_endings_16 (by decide) ?_
      exact g_retX (g_iretG hx hb hr hlk hKn hRc hRs hS (q := ((-2), z10.2)) rfl dX1_endings_18) h rfl
  · have h := hx6 _ e6
    exact g_outX (by rw [htab]; decide) hlk hKn hRc hRs hS n1 n2 nB nk h
/-- SendHall.text(I)I -/
def fX1_text_b17 (E : g_E) (t : Nat) (v1 : Int32) (s0 : Int32) (G : g_G) : Option ((Int32 × g_G) ⊕ gX) :=
  gcat (fX1_right E s0 G) (fun z17 =>
    (gpI E z17 1 1 (some t) 10 0).bind fun G22 =>
    (gpI E G22 1 1 (some t) 11 (-1)).bind fun G27 =>
    (gnewO E G27 5 14).bind fun z31 =>
    (grR z31.2 1 1 (some t) 9).bind fun x36 =>
    (fX5_init E z31.1 x36 v1 z31.2).bind fun z40 =>
    (gchk z40 5 (some z31.1)).bind fun b43 =>
    gcat (fX5_read E b43 z40) (fun z43 =>
      (gpR E z43.2 1 1 (some t) 4 z43.1).bind fun G46 =>
      (gpZ E G46 1 1 (some t) 13 0).bind fun G51 =>
      (gpZ E G51 1 1 (some t) 18 0).bind fun G56 =>
      (gpZ E G56 1 1 (some t) 21 0).bind fun G61 =>
      some (.inl (0, G61)))
    (fun y => if y.1 = 6 then (
      (grI y.2.2 6 6 (some y.2.1) 7).bind fun x69 =>
      (gpI E y.2.2 1 1 (some t) 11 x69).bind fun G72 =>
      (grI G72 6 6 (some y.2.1) 6).bind fun x76 =>
      some (.inl (x76, G72))) else none))
  (fun y => some (.inr y))
def fX1_text_b16 (E : g_E) (t : Nat) (v1 : Int32) (G : g_G) : Option ((Int32 × g_G) ⊕ gX) :=
  fX1_text_b17 E t v1 0 G
def fX1_text (E : g_E) (t : Nat) (v1 : Int32) (G : g_G) : Option ((Int32 × g_G) ⊕ gX) :=
  if v1 < 0 then (
    fX1_text_b16 E t v1 G)
  else (
    (grI G 1 1 (some t) 10).bind fun x6 =>
    if x6 < v1 then (
      fX1_text_b16 E t v1 G)
    else (
      fX1_text_b17 E t v1 1 G))
theorem sX1_text_b17 {p : Program} {l : Launch} {e : Env} {R : Room} {s : State} {m : MethodId} {args : Array Value} {below : List Frame} {meth : Method} {c : Code} {E : g_E} {D : g_D} (C : gC p R s m args meth c cX1_text 3 RX1 "text" (some .int) 244 14143 E D) (hlT : l.stackTraces = false) (htab : c.exceptionTable.toList = tableOf [(30, 65, 66, 293)]) : ∀ (t : Nat) (v1 : Int32) (s0 : Int32) (G : g_G) (q : (Int32 × g_G) ⊕ gX), fX1_text_b17 E t v1 s0 G = some q → ∀ (H : Heap) (locs : List Loc) (cells slots : Nat) (ls : Array Slot), gSt E D G H locs → gls ls 3 [(0, .inr (.inr (some t))), (1, .inl v1)] → gTX p l e R s m args below meth c E D H locs cells slots gokI q (F0 m 17 ls [.int s0]) := by
  obtain ⟨hx, hb, hml, hown, hts, hKn, hRc, hRs, hc1, hc2, hRf, hRl, hr, hlk, hnm⟩ := id C
  intro t v1 s0 G q h H locs cells slots ls hS hl
  unfold fX1_text_b17 at h
  obtain ⟨o17, h17, ha17, hx17⟩ := g_catE h
  refine g_callSt (n := 1) (av := [.inl s0]) (rs := []) hx hb hml hown hts hKn hRc hRs hS hl (sX1_right l E D hlT h17) (lw_S q1093 q1094 q113 q1095) ⟨by decide, by decide, by decide +kernel⟩ ⟨by rw [hRf]; exact Nat.le_of_ble_eq_true rfl, by rw [hRl]; exact Nat.le_of_ble_eq_true rfl⟩ rfl rfl (Nat.le_of_ble_eq_true rfl) dX1_text_17 (fun z17 e17 H locs cells slots hS => ?_) (fun k17 a17 G17 e17 n1 n2 nk nB H locs cells slots hS => ?_)
  · have h := ha17 _ e17
    refine g_aload_n hx hb hl 0 rfl dX1_text_20 ?_
    refine lv_iconst (v := 0) hx hb dX1_text_21 (by decide) ?_
    refine g_ptI hx hb hown hts hKn hS h fd_1_1_10 (Or.inl (hts _ q607)) (fun _ z => z) (fun z => nomatch z) dX1_text_22 (fun G22 h H locs hS => ?_)
    refine g_aload_n hx hb hl 0 rfl dX1_text_25 ?_
    refine lv_iconst (v := (-1)) hx hb dX1_text_26 (by decide) ?_
    refine g_ptI hx hb hown hts hKn hS h fd_1_1_11 (Or.inl (hts _ q608)) (fun _ z => z) (fun z => nomatch z) dX1_text_27 (fun G27 h H locs hS => ?_)
    refine g_aload_n hx hb hl 0 rfl dX1_text_30 ?_
    refine g_newG (k := 5) hx hb hown hts hKn hRc hRs hS h (by decide) (by decide) (hts _ q1107) (hts _ q1108) (hts _ q136) dX1_text_31 (fun z31 h H locs cells slots hS => ?_)
    refine lv_dup hx hb dX1_text_34 (by first | exact va_rf_cat _ | rfl | exact g_catA _) ?_
    refine g_aload_n hx hb hl 0 rfl dX1_text_35 ?_
    refine g_rdR hx hb hown hts hKn hS h fd_1_1_9 rfl (Or.inl (hts _ q606)) (fun _ z => z) dX1_text_36 (fun x36 h => ?_)
    refine g_iload_n hx hb hl 1 rfl dX1_text_39 ?_
    obtain ⟨z40, h40, h⟩ := g_bnd h
    refine g_callI (n := 2) (av := [.inr (.inr x36), .inl v1]) (rs := [.inr (.inr (some z31.1)), .inr (.inr (some t))]) hx hb hml hown hts hKn hRc hRs hS hl (sX5_init l E D h40) (lw_meth q1111) (hts _ q136) (hts _ q1109) (hts _ q1110) rfl ⟨by decide, by decide, by decide +kernel⟩ ⟨by rw [hRf]; exact Nat.le_of_ble_eq_true rfl, by rw [hRl]; exact Nat.le_of_ble_eq_true rfl⟩ rfl rfl (Nat.le_of_ble_eq_true rfl) dX1_text_40 (fun H locs cells slots hS => ?_)
    obtain ⟨b43, hb43, h⟩ := g_bnd h
    obtain ⟨hr43, hk43⟩ := g_chk hb43
    obtain ⟨o43, h43, ha43, hx43⟩ := g_catE h
    refine g_callVt (n := 0) (b := b43) (av := []) (rs := [.inr (.inr (some t))]) hx hb hml hown hts hKn hRc hRs hS hl (sX5_read l E D hlT h43) (lw_V q1276 q1277 q1278 q136 q1279) ⟨rfl, by decide, by decide, by decide +kernel⟩ ⟨by rw [hRf]; exact Nat.le_of_ble_eq_true rfl, by rw [hRl]; exact Nat.le_of_ble_eq_true rfl⟩ (g_recv hKn hS hk43 (by decide) (by decide)) rfl (by rw [hr43]; rfl) (Nat.le_of_ble_eq_true rfl) dX1_text_43 (fun z43 e43 H locs cells slots hS => ?_) (fun k43 a43 G43 e43 n1 n2 nk nB H locs cells slots hS => ?_)
    · have h := ha43 _ e43
      refine g_ptR hx hb hown hts hKn hS h fd_1_1_4 rfl (Or.inl (hts _ q601)) (fun _ z => z) (fun z => nomatch z) dX1_text_46 (fun G46 h H locs hS => ?_)
      refine g_aload_n hx hb hl 0 rfl dX1_text_49 ?_
      refine lv_iconst (v := 0) hx hb dX1_text_50 (by decide) ?_
      refine g_ptZ hx hb hown hts hKn hS h fd_1_1_13 (Or.inl (hts _ q610)) (fun _ z => z) (fun z => nomatch z) dX1_text_51 (fun G51 h H locs hS => ?_)
      refine g_aload_n hx hb hl 0 rfl dX1_text_54 ?_
      refine lv_iconst (v := 0) hx hb dX1_text_55 (by decide) ?_
      refine g_ptZ hx hb hown hts hKn hS h fd_1_1_18 (Or.inl (hts _ q615)) (fun _ z => z) (fun z => nomatch z) dX1_text_56 (fun G56 h H locs hS => ?_)
      refine g_aload_n hx hb hl 0 rfl dX1_text_59 ?_
      refine lv_iconst (v := 0) hx hb dX1_text_60 (by decide) ?_
      refine g_ptZ hx hb hown hts hKn hS h fd_1_1_21 (Or.inl (hts _ q618)) (fun _ z => z) (fun z => nomatch z) dX1_text_61 (fun G61 h H locs hS => ?_)
      refine lv_iconst (v := 0) hx hb dX1_text_64 (by decide) ?_
      exact g_retX (g_iretG hx hb hr hlk hKn hRc hRs hS (q := (0, G61)) rfl dX1_text_65) h rfl
    · have h := hx43 _ e43
      by_cases hz43 : k43 = 6
      · subst hz43
        have h := g_ift rfl h
        refine g_catchX (hq := (30, 65, 66, 293)) hown hKn hS (by decide) (by decide) nB nk htab (by decide) (by decide) (hts _ q1092) q1369 ?_
        have y_1 : ∃ y : gX, y = (6, a43, G43) := ⟨_, rfl⟩
        refine g_astore_n (l1 := [(2, .inr (.inr (some a43))), (0, .inr (.inr (some t))), (1, .inl v1)]) hx hb hl (by decide) rfl dX1_text_66 (fun ls hl => ?_)
        refine g_aload_n hx hb hl 1 rfl dX1_text_67 ?_
        refine g_aload_n hx hb hl 0 rfl dX1_text_68 ?_
        refine g_rdI hx hb hown hts hKn hS h fd_6_6_7 rfl (Or.inr ⟨_, gNest_use rfl (hKn.2.2.2.2.1 _ (gNest_in q1383 rfl))⟩) (fun _ z => z) dX1_text_69 (fun x69 h => ?_)
        refine g_ptI hx hb hown hts hKn hS h fd_1_1_11 (Or.inl (hts _ q608)) (fun _ z => z) (fun z => nomatch z) dX1_text_72 (fun G72 h H locs hS => ?_)
        refine g_aload_n hx hb hl 0 rfl dX1_text_75 ?_
        refine g_rdI hx hb hown hts hKn hS h fd_6_6_6 rfl (Or.inr ⟨_, gNest_use rfl (hKn.2.2.2.2.1 _ (gNest_in q1381 rfl))⟩) (fun _ z => z) dX1_text_76 (fun x76 h => ?_)
        exact g_retX (g_iretG hx hb hr hlk hKn hRc hRs hS (q := (x76, G72)) rfl dX1_text_79) h rfl
      · exact g_no (g_iff hz43 h)
  · have h := hx17 _ e17
    exact g_outX (by rw [htab]; decide) hlk hKn hRc hRs hS n1 n2 nB nk h
theorem sX1_text_b16 {p : Program} {l : Launch} {e : Env} {R : Room} {s : State} {m : MethodId} {args : Array Value} {below : List Frame} {meth : Method} {c : Code} {E : g_E} {D : g_D} (C : gC p R s m args meth c cX1_text 3 RX1 "text" (some .int) 244 14143 E D) (hlT : l.stackTraces = false) (htab : c.exceptionTable.toList = tableOf [(30, 65, 66, 293)]) : ∀ (t : Nat) (v1 : Int32) (G : g_G) (q : (Int32 × g_G) ⊕ gX), fX1_text_b16 E t v1 G = some q → ∀ (H : Heap) (locs : List Loc) (cells slots : Nat) (ls : Array Slot), gSt E D G H locs → gls ls 3 [(0, .inr (.inr (some t))), (1, .inl v1)] → gTX p l e R s m args below meth c E D H locs cells slots gokI q (F0 m 16 ls []) := by
  obtain ⟨hx, hb, hml, hown, hts, hKn, hRc, hRs, hc1, hc2, hRf, hRl, hr, hlk, hnm⟩ := id C
  intro t v1 G q h H locs cells slots ls hS hl
  unfold fX1_text_b16 at h
  refine lv_iconst (v := 0) hx hb dX1_text_16 (by decide) ?_
  exact sX1_text_b17 C hlT htab _ _ _ _ _ h _ _ _ _ _ hS (gls_sub hl [0, 1] rfl)
theorem sX1_text (l : Launch) (E : g_E) (D : g_D) (hlT : l.stackTraces = false) {t : Nat} {v1 : Int32} {G : g_G} {q : (Int32 × g_G) ⊕ gX} (h : fX1_text E t v1 G = some q) : gMetX l E D yX1_text (wsW_ yX1_text cX1_text 3 (some .int) [(30, 65, 66, 293)]) 244 14143 [.inr (.inr (some t)), .inl v1] G gokI q := by
  refine gMetX.ofH (by decide +kernel) (Nat.le_of_ble_eq_true rfl) ?_
  intro p e R s m args below meth c C htab hS ls hl
  have C : gC p R s m args meth c cX1_text 3 RX1 "text" (some .int) 244 14143 E D := C
  obtain ⟨hx, hb, hml, hown, hts, hKn, hRc, hRs, hc1, hc2, hRf, hRl, hr, hlk, hnm⟩ := id C
  have hl : gls ls 3 [(0, .inr (.inr (some t))), (1, .inl v1)] := hl
  generalize hH0 : s.heap = H at hS ⊢
  unfold fX1_text at h
  refine g_iload_n hx hb hl 1 rfl dX1_text_0 ?_
  refine lv_if_lt (tgt := 16) hx hb dX1_text_1 (by decide) (fun c_1 => ?_) (fun c_1 => ?_)
  · have h := g_ift c_1 h
    exact sX1_text_b16 C hlT htab _ _ _ _ h _ _ _ _ _ hS (gls_sub hl [0, 1] rfl)
  · have h := g_iff c_1 h
    refine g_iload_n hx hb hl 1 rfl dX1_text_4 ?_
    refine g_aload_n hx hb hl 0 rfl dX1_text_5 ?_
    refine g_rdI hx hb hown hts hKn hS h fd_1_1_10 rfl (Or.inl (hts _ q607)) (fun _ z => z) dX1_text_6 (fun x6 h => ?_)
    refine lv_icmp_gt (tgt := 16) hx hb dX1_text_9 (by decide) (fun c_9 => ?_) (fun c_9 => ?_)
    · have h := g_ift c_9 h
      exact sX1_text_b16 C hlT htab _ _ _ _ h _ _ _ _ _ hS (gls_sub hl [0, 1] rfl)
    · have h := g_iff c_9 h
      refine lv_iconst (v := 1) hx hb dX1_text_12 (by decide) ?_
      refine lv_goto (tgt := 17) hx hb dX1_text_13 (by decide) ?_
      exact sX1_text_b17 C hlT htab _ _ _ _ _ h _ _ _ _ _ hS (gls_sub hl [0, 1] rfl)
/-- SendHallLaw.could(LSendHall;II[J)I -/
def fX0_could (E : g_E) (v0 : Option Nat) (v1 : Int32) (v2 : Int32) (v3 : Option Nat) (G : g_G) : Option ((Int32 × g_G) ⊕ gX) :=
  (gchk G 1 v0).bind fun b5 =>
  gcat (fX1_could E b5 v1 v2 G) (fun z5 =>
    (gsaL E z5.2 v3 0 (Int32.toInt64 z5.1)).bind fun G9 =>
    some (.inl (0, G9)))
  (fun y => if y.1 = 22 then (
    some (.inl (1, y.2.2))) else none)
theorem sX0_could (l : Launch) (E : g_E) (D : g_D) (hlT : l.stackTraces = false) {v0 : Option Nat} {v1 : Int32} {v2 : Int32} {v3 : Option Nat} {G : g_G} {q : (Int32 × g_G) ⊕ gX} (h : fX0_could E v0 v1 v2 v3 G = some q) : gMetX l E D yX0_could (wsW_ yX0_could cX0_could 5 (some .int) [(0, 10, 13, 18)]) 228 7553 [.inr (.inr v0), .inl v1, .inl v2, .inr (.inr v3)] G gokI q := by
  refine gMetX.ofH (by decide +kernel) (Nat.le_of_ble_eq_true rfl) ?_
  intro p e R s m args below meth c C htab hS ls hl
  have C : gC p R s m args meth c cX0_could 5 RX0 "could" (some .int) 228 7553 E D := C
  obtain ⟨hx, hb, hml, hown, hts, hKn, hRc, hRs, hc1, hc2, hRf, hRl, hr, hlk, hnm⟩ := id C
  have hl : gls ls 5 [(0, .inr (.inr v0)), (1, .inl v1), (2, .inl v2), (3, .inr (.inr v3))] := hl
  generalize hH0 : s.heap = H at hS ⊢
  unfold fX0_could at h
  refine g_aload_n hx hb hl 3 rfl dX0_could_0 ?_
  refine lv_iconst (v := 0) hx hb dX0_could_1 (by decide) ?_
  refine g_aload_n hx hb hl 0 rfl dX0_could_2 ?_
  refine g_iload_n hx hb hl 1 rfl dX0_could_3 ?_
  refine g_iload_n hx hb hl 2 rfl dX0_could_4 ?_
  obtain ⟨b5, hb5, h⟩ := g_bnd h
  obtain ⟨hr5, hk5⟩ := g_chk hb5
  obtain ⟨o5, h5, ha5, hx5⟩ := g_catE h
  refine g_callVt (n := 2) (b := b5) (av := [.inl v1, .inl v2]) (rs := [.inl 0, .inr (.inr v3)]) hx hb hml hown hts hKn hRc hRs hS hl (sX1_could l E D hlT h5) (lw_V q1767 q1768 q1769 q113 q1770) ⟨rfl, by decide, by decide, by decide +kernel⟩ ⟨by rw [hRf]; exact Nat.le_of_ble_eq_true rfl, by rw [hRl]; exact Nat.le_of_ble_eq_true rfl⟩ (g_recv hKn hS hk5 (by decide) (by decide)) rfl (by rw [hr5]; rfl) (Nat.le_of_ble_eq_true rfl) dX0_could_5 (fun z5 e5 H locs cells slots hS => ?_) (fun k5 a5 G5 e5 n1 n2 nk nB H locs cells slots hS => ?_)
  · have h := ha5 _ e5
    refine lv_i2l (v := (Int32.toInt64 z5.1)) hx hb dX0_could_8 rfl ?_
    refine g_lastoreG hx hb hKn hS h dX0_could_9 (fun G9 h H locs hS => ?_)
    refine lv_goto (tgt := 17) hx hb dX0_could_10 (by decide) ?_
    refine lv_iconst (v := 0) hx hb dX0_could_17 (by decide) ?_
    exact g_retX (g_iretG hx hb hr hlk hKn hRc hRs hS (q := (0, G9)) rfl dX0_could_18) h rfl
  · have h := hx5 _ e5
    by_cases hz5 : k5 = 22
    · subst hz5
      have h := g_ift rfl h
      refine g_catchX (hq := (0, 10, 13, 18)) hown hKn hS (by decide) (by decide) nB nk htab (by decide) (by decide) (hts _ q1716) q1726 ?_
      have y_1 : ∃ y : gX, y = (22, a5, G5) := ⟨_, rfl⟩
      refine g_astore (l1 := [(4, .inr (.inr (some a5))), (0, .inr (.inr v0)), (1, .inl v1), (2, .inl v2), (3, .inr (.inr v3))]) hx hb hl (by decide) rfl dX0_could_13 (fun ls hl => ?_)
      refine lv_iconst (v := 1) hx hb dX0_could_15 (by decide) ?_
      exact g_retX (g_iretG hx hb hr hlk hKn hRc hRs hS (q := (1, G5)) rfl dX0_could_16) h rfl
    · exact g_no (g_iff hz5 h)
/-- SendHallLaw.ending(LSendHall;II[J)I -/
def fX0_ending (E : g_E) (v0 : Option Nat) (v1 : Int32) (v2 : Int32) (v3 : Option Nat) (G : g_G) : Option ((Int32 × g_G) ⊕ gX) :=
  (gchk G 1 v0).bind fun b5 =>
  gcat (fX1_ending E b5 v1 v2 G) (fun z5 =>
    (gsaL E z5.2 v3 0 (Int32.toInt64 z5.1)).bind fun G9 =>
    some (.inl (0, G9)))
  (fun y => if y.1 = 22 then (
    some (.inl (1, y.2.2))) else none)
theorem sX0_ending (l : Launch) (E : g_E) (D : g_D) (hlT : l.stackTraces = false) {v0 : Option Nat} {v1 : Int32} {v2 : Int32} {v3 : Option Nat} {G : g_G} {q : (Int32 × g_G) ⊕ gX} (h : fX0_ending E v0 v1 v2 v3 G = some q) : gMetX l E D yX0_ending (wsW_ yX0_ending cX0_ending 5 (some .int) [(0, 10, 13, 18)]) 228 7554 [.inr (.inr v0), .inl v1, .inl v2, .inr (.inr v3)] G gokI q := by
  refine gMetX.ofH (by decide +kernel) (Nat.le_of_ble_eq_true rfl) ?_
  intro p e R s m args below meth c C htab hS ls hl
  have C : gC p R s m args meth c cX0_ending 5 RX0 "ending" (some .int) 228 7554 E D := C
  obtain ⟨hx, hb, hml, hown, hts, hKn, hRc, hRs, hc1, hc2, hRf, hRl, hr, hlk, hnm⟩ := id C
  have hl : gls ls 5 [(0, .inr (.inr v0)), (1, .inl v1), (2, .inl v2), (3, .inr (.inr v3))] := hl
  generalize hH0 : s.heap = H at hS ⊢
  unfold fX0_ending at h
  refine g_aload_n hx hb hl 3 rfl dX0_ending_0 ?_
  refine lv_iconst (v := 0) hx hb dX0_ending_1 (by decide) ?_
  refine g_aload_n hx hb hl 0 rfl dX0_ending_2 ?_
  refine g_iload_n hx hb hl 1 rfl dX0_ending_3 ?_
  refine g_iload_n hx hb hl 2 rfl dX0_ending_4 ?_
  obtain ⟨b5, hb5, h⟩ := g_bnd h
  obtain ⟨hr5, hk5⟩ := g_chk hb5
  obtain ⟨o5, h5, ha5, hx5⟩ := g_catE h
  refine g_callVt (n := 2) (b := b5) (av := [.inl v1, .inl v2]) (rs := [.inl 0, .inr (.inr v3)]) hx hb hml hown hts hKn hRc hRs hS hl (sX1_ending l E D hlT h5) (lw_V q1760 q1761 q1762 q113 q1763) ⟨rfl, by decide, by decide, by decide +kernel⟩ ⟨by rw [hRf]; exact Nat.le_of_ble_eq_true rfl, by rw [hRl]; exact Nat.le_of_ble_eq_true rfl⟩ (g_recv hKn hS hk5 (by decide) (by decide)) rfl (by rw [hr5]; rfl) (Nat.le_of_ble_eq_true rfl) dX0_ending_5 (fun z5 e5 H locs cells slots hS => ?_) (fun k5 a5 G5 e5 n1 n2 nk nB H locs cells slots hS => ?_)
  · have h := ha5 _ e5
    refine lv_i2l (v := (Int32.toInt64 z5.1)) hx hb dX0_ending_8 rfl ?_
    refine g_lastoreG hx hb hKn hS h dX0_ending_9 (fun G9 h H locs hS => ?_)
    refine lv_goto (tgt := 17) hx hb dX0_ending_10 (by decide) ?_
    refine lv_iconst (v := 0) hx hb dX0_ending_17 (by decide) ?_
    exact g_retX (g_iretG hx hb hr hlk hKn hRc hRs hS (q := (0, G9)) rfl dX0_ending_18) h rfl
  · have h := hx5 _ e5
    by_cases hz5 : k5 = 22
    · subst hz5
      have h := g_ift rfl h
      refine g_catchX (hq := (0, 10, 13, 18)) hown hKn hS (by decide) (by decide) nB nk htab (by decide) (by decide) (hts _ q1716) q1726 ?_
      have y_1 : ∃ y : gX, y = (22, a5, G5) := ⟨_, rfl⟩
      refine g_astore (l1 := [(4, .inr (.inr (some a5))), (0, .inr (.inr v0)), (1, .inl v1), (2, .inl v2), (3, .inr (.inr v3))]) hx hb hl (by decide) rfl dX0_ending_13 (fun ls hl => ?_)
      refine lv_iconst (v := 1) hx hb dX0_ending_15 (by decide) ?_
      exact g_retX (g_iretG hx hb hr hlk hKn hRc hRs hS (q := (1, G5)) rfl dX0_ending_16) h rfl
    · exact g_no (g_iff hz5 h)
/-- SendHallLaw.endings(LSendHall;I[J)I -/
def fX0_endings (E : g_E) (v0 : Option Nat) (v1 : Int32) (v2 : Option Nat) (G : g_G) : Option ((Int32 × g_G) ⊕ gX) :=
  (gchk G 1 v0).bind fun b4 =>
  gcat (fX1_endings E b4 v1 G) (fun z4 =>
    (gsaL E z4.2 v2 0 (Int32.toInt64 z4.1)).bind fun G8 =>
    some (.inl (0, G8)))
  (fun y => if y.1 = 22 then (
    some (.inl (1, y.2.2))) else none)
theorem sX0_endings (l : Launch) (E : g_E) (D : g_D) (hlT : l.stackTraces = false) {v0 : Option Nat} {v1 : Int32} {v2 : Option Nat} {G : g_G} {q : (Int32 × g_G) ⊕ gX} (h : fX0_endings E v0 v1 v2 G = some q) : gMetX l E D yX0_endings (wsW_ yX0_endings cX0_endings 4 (some .int) [(0, 9, 12, 18)]) 228 7554 [.inr (.inr v0), .inl v1, .inr (.inr v2)] G gokI q := by
  refine gMetX.ofH (by decide +kernel) (Nat.le_of_ble_eq_true rfl) ?_
  intro p e R s m args below meth c C htab hS ls hl
  have C : gC p R s m args meth c cX0_endings 4 RX0 "endings" (some .int) 228 7554 E D := C
  obtain ⟨hx, hb, hml, hown, hts, hKn, hRc, hRs, hc1, hc2, hRf, hRl, hr, hlk, hnm⟩ := id C
  have hl : gls ls 4 [(0, .inr (.inr v0)), (1, .inl v1), (2, .inr (.inr v2))] := hl
  generalize hH0 : s.heap = H at hS ⊢
  unfold fX0_endings at h
  refine g_aload_n hx hb hl 2 rfl dX0_endings_0 ?_
  refine lv_iconst (v := 0) hx hb dX0_endings_1 (by decide) ?_
  refine g_aload_n hx hb hl 0 rfl dX0_endings_2 ?_
  refine g_iload_n hx hb hl 1 rfl dX0_endings_3 ?_
  obtain ⟨b4, hb4, h⟩ := g_bnd h
  obtain ⟨hr4, hk4⟩ := g_chk hb4
  obtain ⟨o4, h4, ha4, hx4⟩ := g_catE h
  refine g_callVt (n := 1) (b := b4) (av := [.inl v1]) (rs := [.inl 0, .inr (.inr v2)]) hx hb hml hown hts hKn hRc hRs hS hl (sX1_endings l E D hlT h4) (lw_V q1753 q1754 q1755 q113 q1756) ⟨rfl, by decide, by decide, by decide +kernel⟩ ⟨by rw [hRf]; exact Nat.le_of_ble_eq_true rfl, by rw [hRl]; exact Nat.le_of_ble_eq_true rfl⟩ (g_recv hKn hS hk4 (by decide) (by decide)) rfl (by rw [hr4]; rfl) (Nat.le_of_ble_eq_true rfl) dX0_endings_4 (fun z4 e4 H locs cells slots hS => ?_) (fun k4 a4 G4 e4 n1 n2 nk nB H locs cells slots hS => ?_)
  · have h := ha4 _ e4
    refine lv_i2l (v := (Int32.toInt64 z4.1)) hx hb dX0_endings_7 rfl ?_
    refine g_lastoreG hx hb hKn hS h dX0_endings_8 (fun G8 h H locs hS => ?_)
    refine lv_goto (tgt := 15) hx hb dX0_endings_9 (by decide) ?_
    refine lv_iconst (v := 0) hx hb dX0_endings_15 (by decide) ?_
    exact g_retX (g_iretG hx hb hr hlk hKn hRc hRs hS (q := (0, G8)) rfl dX0_endings_16) h rfl
  · have h := hx4 _ e4
    by_cases hz4 : k4 = 22
    · subst hz4
      have h := g_ift rfl h
      refine g_catchX (hq := (0, 9, 12, 18)) hown hKn hS (by decide) (by decide) nB nk htab (by decide) (by decide) (hts _ q1716) q1726 ?_
      have y_1 : ∃ y : gX, y = (22, a4, G4) := ⟨_, rfl⟩
      refine g_astore_n (l1 := [(3, .inr (.inr (some a4))), (0, .inr (.inr v0)), (1, .inl v1), (2, .inr (.inr v2))]) hx hb hl (by decide) rfl dX0_endings_12 (fun ls hl => ?_)
      refine lv_iconst (v := 1) hx hb dX0_endings_13 (by decide) ?_
      exact g_retX (g_iretG hx hb hr hlk hKn hRc hRs hS (q := (1, G4)) rfl dX0_endings_14) h rfl
    · exact g_no (g_iff hz4 h)
/-- SendHallLaw.text(LSendHall;I[J)I -/
def fX0_text (E : g_E) (v0 : Option Nat) (v1 : Int32) (v2 : Option Nat) (G : g_G) : Option ((Int32 × g_G) ⊕ gX) :=
  (gchk G 1 v0).bind fun b4 =>
  gcat (fX1_text E b4 v1 G) (fun z4 =>
    (gsaL E z4.2 v2 0 (Int32.toInt64 z4.1)).bind fun G8 =>
    some (.inl (0, G8)))
  (fun y => if y.1 = 21 then (
    some (.inl (1, y.2.2))) else none)
theorem sX0_text (l : Launch) (E : g_E) (D : g_D) (hlT : l.stackTraces = false) {v0 : Option Nat} {v1 : Int32} {v2 : Option Nat} {G : g_G} {q : (Int32 × g_G) ⊕ gX} (h : fX0_text E v0 v1 v2 G = some q) : gMetX l E D yX0_text (wsW_ yX0_text cX0_text 4 (some .int) [(0, 9, 12, 13)]) 245 14165 [.inr (.inr v0), .inl v1, .inr (.inr v2)] G gokI q := by
  refine gMetX.ofH (by decide +kernel) (Nat.le_of_ble_eq_true rfl) ?_
  intro p e R s m args below meth c C htab hS ls hl
  have C : gC p R s m args meth c cX0_text 4 RX0 "text" (some .int) 245 14165 E D := C
  obtain ⟨hx, hb, hml, hown, hts, hKn, hRc, hRs, hc1, hc2, hRf, hRl, hr, hlk, hnm⟩ := id C
  have hl : gls ls 4 [(0, .inr (.inr v0)), (1, .inl v1), (2, .inr (.inr v2))] := hl
  generalize hH0 : s.heap = H at hS ⊢
  unfold fX0_text at h
  refine g_aload_n hx hb hl 2 rfl dX0_text_0 ?_
  refine lv_iconst (v := 0) hx hb dX0_text_1 (by decide) ?_
  refine g_aload_n hx hb hl 0 rfl dX0_text_2 ?_
  refine g_iload_n hx hb hl 1 rfl dX0_text_3 ?_
  obtain ⟨b4, hb4, h⟩ := g_bnd h
  obtain ⟨hr4, hk4⟩ := g_chk hb4
  obtain ⟨o4, h4, ha4, hx4⟩ := g_catE h
  refine g_callVh (n := 1) (b := b4) (av := [.inl v1]) (rs := [.inl 0, .inr (.inr v2)]) hx hb hml hown hts hKn hRc hRs hS hl (sX1_text l E D hlT h4) (lw_VW q1088 q1089 q1090 q113 q1091) ⟨rfl, by decide, by decide, by decide +kernel⟩ ⟨by rw [hRf]; exact Nat.le_of_ble_eq_true rfl, by rw [hRl]; exact Nat.le_of_ble_eq_true rfl⟩ (g_recv hKn hS hk4 (by decide) (by decide)) rfl (by rw [hr4]; rfl) (Nat.le_of_ble_eq_true rfl) dX0_text_4 (fun z4 e4 H locs cells slots hS => ?_) (fun k4 a4 G4 e4 n1 n2 nk nB H locs cells slots hS => ?_)
  · have h := ha4 _ e4
    refine lv_i2l (v := (Int32.toInt64 z4.1)) hx hb dX0_text_7 rfl ?_
    refine g_lastoreG hx hb hKn hS h dX0_text_8 (fun G8 h H locs hS => ?_)
    refine lv_goto (tgt := 15) hx hb dX0_text_9 (by decide) ?_
    refine lv_iconst (v := 0) hx hb dX0_text_15 (by decide) ?_
    exact g_retX (g_iretG hx hb hr hlk hKn hRc hRs hS (q := (0, G8)) rfl dX0_text_16) h rfl
  · have h := hx4 _ e4
    by_cases hz4 : k4 = 21
    · subst hz4
      have h := g_ift rfl h
      refine g_catchX (hq := (0, 9, 12, 13)) hown hKn hS (by decide) (by decide) nB nk htab (by decide) (by decide) (hts _ q1087) q188 ?_
      have y_1 : ∃ y : gX, y = (21, a4, G4) := ⟨_, rfl⟩
      refine g_astore_n (l1 := [(3, .inr (.inr (some a4))), (0, .inr (.inr v0)), (1, .inl v1), (2, .inr (.inr v2))]) hx hb hl (by decide) rfl dX0_text_12 (fun ls hl => ?_)
      refine lv_iconst (v := 1) hx hb dX0_text_13 (by decide) ?_
      exact g_retX (g_iretG hx hb hr hlk hKn hRc hRs hS (q := (1, G4)) rfl dX0_text_14) h rfl
    · exact g_no (g_iff hz4 h)
