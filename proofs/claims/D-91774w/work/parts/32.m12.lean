set_option maxRecDepth 100000
/-- SendHall.left(I)Z -/
def fX1_left_b20 (E : g_E) (t : Nat) (v1 : Int32) (s0 : Int32) (G : g_G) : Option ((Int32 × g_G) ⊕ gX) :=
  gcat (fX1_there E s0 G) (fun z20 =>
    (grR z20 1 1 (some t) 19).bind fun x24 =>
    (gaI z20 102 x24 v1).bind fun x28 =>
    if ¬ x28 = 0 then (
      if (0 : Int32) = 0 ∨ (0 : Int32) = 1 then some (.inl (0, z20)) else none)
    else (
      if (1 : Int32) = 0 ∨ (1 : Int32) = 1 then some (.inl (1, z20)) else none))
  (fun y => some (.inr y))
def fX1_left_b19 (E : g_E) (t : Nat) (v1 : Int32) (G : g_G) : Option ((Int32 × g_G) ⊕ gX) :=
  fX1_left_b20 E t v1 0 G
def fX1_left (E : g_E) (t : Nat) (v1 : Int32) (G : g_G) : Option ((Int32 × g_G) ⊕ gX) :=
  (gchk G 1 (some t)).bind fun b2 =>
  (fX1_isStep E b2 v1 G).bind fun z2 =>
  if z2.1 = 0 then (
    fX1_left_b19 E t v1 z2.2)
  else (
    (grI z2.2 1 1 (some t) 18).bind fun x9 =>
    if x9 = 0 then (
      fX1_left_b19 E t v1 z2.2)
    else (
      fX1_left_b20 E t v1 1 z2.2))
theorem sX1_left_b20 {p : Program} {l : Launch} {e : Env} {R : Room} {s : State} {m : MethodId} {args : Array Value} {below : List Frame} {meth : Method} {c : Code} {E : g_E} {D : g_D} (C : gC p R s m args meth c cX1_left 2 RX1 "left" (some .boolean) 9 140 E D) (hlT : l.stackTraces = false) (htab : c.exceptionTable.toList = []) : ∀ (t : Nat) (v1 : Int32) (s0 : Int32) (G : g_G) (q : (Int32 × g_G) ⊕ gX), fX1_left_b20 E t v1 s0 G = some q → ∀ (H : Heap) (locs : List Loc) (cells slots : Nat) (ls : Array Slot), gSt E D G H locs → gls ls 2 [(0, .inr (.inr (some t))), (1, .inl v1)] → gTX p l e R s m args below meth c E D H locs cells slots gokI q (F0 m 20 ls [.int s0]) := by
  obtain ⟨hx, hb, hml, hown, hts, hKn, hRc, hRs, hc1, hc2, hRf, hRl, hr, hlk, hnm⟩ := id C
  intro t v1 s0 G q h H locs cells slots ls hS hl
  unfold fX1_left_b20 at h
  obtain ⟨o20, h20, ha20, hx20⟩ := g_catE h
  refine g_callSt (n := 1) (av := [.inl s0]) (rs := []) hx hb hml hown hts hKn hRc hRs hS hl (sX1_there l E D hlT h20) (lw_S q1721 q1722 q113 q1723) ⟨by decide, by decide, by decide +kernel⟩ ⟨by rw [hRf]; exact Nat.le_of_ble_eq_true rfl, by rw [hRl]; exact Nat.le_of_ble_eq_true rfl⟩ rfl rfl (Nat.le_of_ble_eq_true rfl) dX1_left_20 (fun z20 e20 H locs cells slots hS => ?_) (fun k20 a20 G20 e20 n1 n2 nk nB H locs cells slots hS => ?_)
  · have h := ha20 _ e20
    refine g_aload_n hx hb hl 0 rfl dX1_left_23 ?_
    refine g_rdR hx hb hown hts hKn hS h fd_1_1_19 rfl (Or.inl (hts _ q616)) (fun _ z => z) dX1_left_24 (fun x24 h => ?_)
    refine g_iload_n hx hb hl 1 rfl dX1_left_27 ?_
    refine g_zaloadG hx hb hKn hS h dX1_left_28 (fun x28 h => ?_)
    refine lv_if_ne (tgt := 36) hx hb dX1_left_29 (by decide) (fun c_29 => ?_) (fun c_29 => ?_)
    · have h := g_ift c_29 h
      refine lv_iconst (v := 0) hx hb dX1_left_36 (by decide) ?_
      by_cases rz37 : (0 : Int32) = 0 ∨ (0 : Int32) = 1
      · exact g_retX (g_zretG hx hb hr hlk hKn hRc hRs hS (q := (0, z20)) (if_pos rz37) dX1_left_37) (g_ift rz37 h) rfl
      · exact g_no (g_iff rz37 h)
    · have h := g_iff (fun z => z c_29) h
      refine lv_iconst (v := 1) hx hb dX1_left_32 (by decide) ?_
      refine lv_goto (tgt := 37) hx hb dX1_left_33 (by decide) ?_
      by_cases rz37 : (1 : Int32) = 0 ∨ (1 : Int32) = 1
      · exact g_retX (g_zretG hx hb hr hlk hKn hRc hRs hS (q := (1, z20)) (if_pos rz37) dX1_left_37) (g_ift rz37 h) rfl
      · exact g_no (g_iff rz37 h)
  · have h := hx20 _ e20
    exact g_outX (by rw [htab]; decide) hlk hKn hRc hRs hS n1 n2 nB nk h
theorem sX1_left_b19 {p : Program} {l : Launch} {e : Env} {R : Room} {s : State} {m : MethodId} {args : Array Value} {below : List Frame} {meth : Method} {c : Code} {E : g_E} {D : g_D} (C : gC p R s m args meth c cX1_left 2 RX1 "left" (some .boolean) 9 140 E D) (hlT : l.stackTraces = false) (htab : c.exceptionTable.toList = []) : ∀ (t : Nat) (v1 : Int32) (G : g_G) (q : (Int32 × g_G) ⊕ gX), fX1_left_b19 E t v1 G = some q → ∀ (H : Heap) (locs : List Loc) (cells slots : Nat) (ls : Array Slot), gSt E D G H locs → gls ls 2 [(0, .inr (.inr (some t))), (1, .inl v1)] → gTX p l e R s m args below meth c E D H locs cells slots gokI q (F0 m 19 ls []) := by
  obtain ⟨hx, hb, hml, hown, hts, hKn, hRc, hRs, hc1, hc2, hRf, hRl, hr, hlk, hnm⟩ := id C
  intro t v1 G q h H locs cells slots ls hS hl
  unfold fX1_left_b19 at h
  refine lv_iconst (v := 0) hx hb dX1_left_19 (by decide) ?_
  exact sX1_left_b20 C hlT htab _ _ _ _ _ h _ _ _ _ _ hS (gls_sub hl [0, 1] rfl)
theorem sX1_left (l : Launch) (E : g_E) (D : g_D) (hlT : l.stackTraces = false) {t : Nat} {v1 : Int32} {G : g_G} {q : (Int32 × g_G) ⊕ gX} (h : fX1_left E t v1 G = some q) : gMetX l E D yX1_left (ws_ yX1_left cX1_left 2 (some .boolean)) 9 140 [.inr (.inr (some t)), .inl v1] G gokI q := by
  refine gMetX.of (by decide +kernel) (Nat.le_of_ble_eq_true rfl) ?_
  intro p e R s m args below meth c C htab hS ls hl
  have C : gC p R s m args meth c cX1_left 2 RX1 "left" (some .boolean) 9 140 E D := C
  obtain ⟨hx, hb, hml, hown, hts, hKn, hRc, hRs, hc1, hc2, hRf, hRl, hr, hlk, hnm⟩ := id C
  have hl : gls ls 2 [(0, .inr (.inr (some t))), (1, .inl v1)] := hl
  generalize hH0 : s.heap = H at hS ⊢
  unfold fX1_left at h
  refine g_aload_n hx hb hl 0 rfl dX1_left_0 ?_
  refine g_iload_n hx hb hl 1 rfl dX1_left_1 ?_
  obtain ⟨b2, hb2, h⟩ := g_bnd h
  obtain ⟨hr2, hk2⟩ := g_chk hb2
  obtain ⟨z2, h2, h⟩ := g_bnd h
  refine g_callV (n := 1) (b := b2) (av := [.inl v1]) (rs := []) hx hb hml hown hts hKn hRc hRs hS hl (sX1_isStep l E D h2) (lw_V q1746 q1748 qs42 q113 q1749) ⟨rfl, by decide, by decide, by decide +kernel⟩ ⟨by rw [hRf]; exact Nat.le_of_ble_eq_true rfl, by rw [hRl]; exact Nat.le_of_ble_eq_true rfl⟩ (g_recv hKn hS hk2 (by decide) (by decide)) rfl (by rw [hr2]; rfl) (Nat.le_of_ble_eq_true rfl) dX1_left_2 (fun H locs cells slots hS => ?_)
  refine lv_if_eq (tgt := 19) hx hb dX1_left_5 (by decide) (fun c_5 => ?_) (fun c_5 => ?_)
  · have h := g_ift c_5 h
    exact sX1_left_b19 C hlT htab _ _ _ _ h _ _ _ _ _ hS (gls_sub hl [0, 1] rfl)
  · have h := g_iff c_5 h
    refine g_aload_n hx hb hl 0 rfl dX1_left_8 ?_
    refine g_rdI hx hb hown hts hKn hS h fd_1_1_18 rfl (Or.inl (hts _ q615)) (fun _ z => z) dX1_left_9 (fun x9 h => ?_)
    refine lv_if_eq (tgt := 19) hx hb dX1_left_12 (by decide) (fun c_12 => ?_) (fun c_12 => ?_)
    · have h := g_ift c_12 h
      exact sX1_left_b19 C hlT htab _ _ _ _ h _ _ _ _ _ hS (gls_sub hl [0, 1] rfl)
    · have h := g_iff c_12 h
      refine lv_iconst (v := 1) hx hb dX1_left_15 (by decide) ?_
      refine lv_goto (tgt := 20) hx hb dX1_left_16 (by decide) ?_
      exact sX1_left_b20 C hlT htab _ _ _ _ _ h _ _ _ _ _ hS (gls_sub hl [0, 1] rfl)
/-- SendHall.ring(I)I -/
def fX1_ring_b25 (E : g_E) (t : Nat) (v1 : Int32) (s0 : Int32) (G : g_G) : Option ((Int32 × g_G) ⊕ gX) :=
  gcat (fX1_there E s0 G) (fun z25 =>
    if ¬ v1 = (-1 : Int32) then (
      (grR z25 1 1 (some t) 24).bind fun x41 =>
      (gaI z25 100 x41 v1).bind fun x45 =>
      some (.inl (x45, z25)))
    else (
      (grI z25 1 1 (some t) 27).bind fun x34 =>
      some (.inl (x34, z25))))
  (fun y => some (.inr y))
def fX1_ring_b24 (E : g_E) (t : Nat) (v1 : Int32) (G : g_G) : Option ((Int32 × g_G) ⊕ gX) :=
  fX1_ring_b25 E t v1 0 G
def fX1_ring (E : g_E) (t : Nat) (v1 : Int32) (G : g_G) : Option ((Int32 × g_G) ⊕ gX) :=
  (grI G 1 1 (some t) 21).bind fun x1 =>
  if x1 = 0 then (
    fX1_ring_b24 E t v1 G)
  else (
    if v1 < (-1 : Int32) then (
      fX1_ring_b24 E t v1 G)
    else (
      (grI G 1 1 (some t) 27).bind fun x14 =>
      if x14 ≤ v1 then (
        fX1_ring_b24 E t v1 G)
      else (
        fX1_ring_b25 E t v1 1 G)))
theorem sX1_ring_b25 {p : Program} {l : Launch} {e : Env} {R : Room} {s : State} {m : MethodId} {args : Array Value} {below : List Frame} {meth : Method} {c : Code} {E : g_E} {D : g_D} (C : gC p R s m args meth c cX1_ring 2 RX1 "ring" (some .int) 9 140 E D) (hlT : l.stackTraces = false) (htab : c.exceptionTable.toList = []) : ∀ (t : Nat) (v1 : Int32) (s0 : Int32) (G : g_G) (q : (Int32 × g_G) ⊕ gX), fX1_ring_b25 E t v1 s0 G = some q → ∀ (H : Heap) (locs : List Loc) (cells slots : Nat) (ls : Array Slot), gSt E D G H locs → gls ls 2 [(0, .inr (.inr (some t))), (1, .inl v1)] → gTX p l e R s m args below meth c E D H locs cells slots gokI q (F0 m 25 ls [.int s0]) := by
  obtain ⟨hx, hb, hml, hown, hts, hKn, hRc, hRs, hc1, hc2, hRf, hRl, hr, hlk, hnm⟩ := id C
  intro t v1 s0 G q h H locs cells slots ls hS hl
  unfold fX1_ring_b25 at h
  obtain ⟨o25, h25, ha25, hx25⟩ := g_catE h
  refine g_callSt (n := 1) (av := [.inl s0]) (rs := []) hx hb hml hown hts hKn hRc hRs hS hl (sX1_there l E D hlT h25) (lw_S q1721 q1722 q113 q1723) ⟨by decide, by decide, by decide +kernel⟩ ⟨by rw [hRf]; exact Nat.le_of_ble_eq_true rfl, by rw [hRl]; exact Nat.le_of_ble_eq_true rfl⟩ rfl rfl (Nat.le_of_ble_eq_true rfl) dX1_ring_25 (fun z25 e25 H locs cells slots hS => ?_) (fun k25 a25 G25 e25 n1 n2 nk nB H locs cells slots hS => ?_)
  · have h := ha25 _ e25
    refine g_iload_n hx hb hl 1 rfl dX1_ring_28 ?_
    refine lv_iconst (v := (-1)) hx hb dX1_ring_29 (by decide) ?_
    refine lv_icmp_ne (tgt := 40) hx hb dX1_ring_30 (by decide) (fun c_30 => ?_) (fun c_30 => ?_)
    · have h := g_ift c_30 h
      refine g_aload_n hx hb hl 0 rfl dX1_ring_40 ?_
      refine g_rdR hx hb hown hts hKn hS h fd_1_1_24 rfl (Or.inl (hts _ q621)) (fun _ z => z) dX1_ring_41 (fun x41 h => ?_)
      refine g_iload_n hx hb hl 1 rfl dX1_ring_44 ?_
      refine g_ialoadG hx hb hKn hS h dX1_ring_45 (fun x45 h => ?_)
      exact g_retX (g_iretG hx hb hr hlk hKn hRc hRs hS (q := (x45, z25)) rfl dX1_ring_46) h rfl
    · have h := g_iff (fun z => z c_30) h
      refine g_aload_n hx hb hl 0 rfl dX1_ring_33 ?_
      refine g_rdI hx hb hown hts hKn hS h fd_1_1_27 rfl (Or.inl (hts _ q624)) (fun _ z => z) dX1_ring_34 (fun x34 h => ?_)
      refine lv_goto (tgt := 46) hx hb dX1_ring_37 (by decide) ?_
      exact g_retX (g_iretG hx hb hr hlk hKn hRc hRs hS (q := (x34, z25)) rfl dX1_ring_46) h rfl
  · have h := hx25 _ e25
    exact g_outX (by rw [htab]; decide) hlk hKn hRc hRs hS n1 n2 nB nk h
theorem sX1_ring_b24 {p : Program} {l : Launch} {e : Env} {R : Room} {s : State} {m : MethodId} {args : Array Value} {below : List Frame} {meth : Method} {c : Code} {E : g_E} {D : g_D} (C : gC p R s m args meth c cX1_ring 2 RX1 "ring" (some .int) 9 140 E D) (hlT : l.stackTraces = false) (htab : c.exceptionTable.toList = []) : ∀ (t : Nat) (v1 : Int32) (G : g_G) (q : (Int32 × g_G) ⊕ gX), fX1_ring_b24 E t v1 G = some q → ∀ (H : Heap) (locs : List Loc) (cells slots : Nat) (ls : Array Slot), gSt E D G H locs → gls ls 2 [(0, .inr (.inr (some t))), (1, .inl v1)] → gTX p l e R s m args below meth c E D H locs cells slots gokI q (F0 m 24 ls []) := by
  obtain ⟨hx, hb, hml, hown, hts, hKn, hRc, hRs, hc1, hc2, hRf, hRl, hr, hlk, hnm⟩ := id C
  intro t v1 G q h H locs cells slots ls hS hl
  unfold fX1_ring_b24 at h
  refine lv_iconst (v := 0) hx hb dX1_ring_24 (by decide) ?_
  exact sX1_ring_b25 C hlT htab _ _ _ _ _ h _ _ _ _ _ hS (gls_sub hl [0, 1] rfl)
theorem sX1_ring (l : Launch) (E : g_E) (D : g_D) (hlT : l.stackTraces = false) {t : Nat} {v1 : Int32} {G : g_G} {q : (Int32 × g_G) ⊕ gX} (h : fX1_ring E t v1 G = some q) : gMetX l E D yX1_ring (ws_ yX1_ring cX1_ring 2 (some .int)) 9 140 [.inr (.inr (some t)), .inl v1] G gokI q := by
  refine gMetX.of (by decide +kernel) (Nat.le_of_ble_eq_true rfl) ?_
  intro p e R s m args below meth c C htab hS ls hl
  have C : gC p R s m args meth c cX1_ring 2 RX1 "ring" (some .int) 9 140 E D := C
  obtain ⟨hx, hb, hml, hown, hts, hKn, hRc, hRs, hc1, hc2, hRf, hRl, hr, hlk, hnm⟩ := id C
  have hl : gls ls 2 [(0, .inr (.inr (some t))), (1, .inl v1)] := hl
  generalize hH0 : s.heap = H at hS ⊢
  unfold fX1_ring at h
  refine g_aload_n hx hb hl 0 rfl dX1_ring_0 ?_
  refine g_rdI hx hb hown hts hKn hS h fd_1_1_21 rfl (Or.inl (hts _ q618)) (fun _ z => z) dX1_ring_1 (fun x1 h => ?_)
  refine lv_if_eq (tgt := 24) hx hb dX1_ring_4 (by decide) (fun c_4 => ?_) (fun c_4 => ?_)
  · have h := g_ift c_4 h
    exact sX1_ring_b24 C hlT htab _ _ _ _ h _ _ _ _ _ hS (gls_sub hl [0, 1] rfl)
  · have h := g_iff c_4 h
    refine g_iload_n hx hb hl 1 rfl dX1_ring_7 ?_
    refine lv_iconst (v := (-1)) hx hb dX1_ring_8 (by decide) ?_
    refine lv_icmp_lt (tgt := 24) hx hb dX1_ring_9 (by decide) (fun c_9 => ?_) (fun c_9 => ?_)
    · have h := g_ift c_9 h
      exact sX1_ring_b24 C hlT htab _ _ _ _ h _ _ _ _ _ hS (gls_sub hl [0, 1] rfl)
    · have h := g_iff c_9 h
      refine g_iload_n hx hb hl 1 rfl dX1_ring_12 ?_
      refine g_aload_n hx hb hl 0 rfl dX1_ring_13 ?_
      refine g_rdI hx hb hown hts hKn hS h fd_1_1_27 rfl (Or.inl (hts _ q624)) (fun _ z => z) dX1_ring_14 (fun x14 h => ?_)
      refine lv_icmp_ge (tgt := 24) hx hb dX1_ring_17 (by decide) (fun c_17 => ?_) (fun c_17 => ?_)
      · have h := g_ift c_17 h
        exact sX1_ring_b24 C hlT htab _ _ _ _ h _ _ _ _ _ hS (gls_sub hl [0, 1] rfl)
      · have h := g_iff c_17 h
        refine lv_iconst (v := 1) hx hb dX1_ring_20 (by decide) ?_
        refine lv_goto (tgt := 25) hx hb dX1_ring_21 (by decide) ?_
        exact sX1_ring_b25 C hlT htab _ _ _ _ _ h _ _ _ _ _ hS (gls_sub hl [0, 1] rfl)
/-- SendHall.step(I)I -/
def fX1_step (E : g_E) (t : Nat) (v1 : Int32) (G : g_G) : Option ((Int32 × g_G) ⊕ gX) :=
  (gchk G 1 (some t)).bind fun b2 =>
  (fX1_isStep E b2 v1 G).bind fun z2 =>
  gcat (fX1_there E z2.1 z2.2) (fun z5 =>
    (grR z5 1 1 (some t) 4).bind fun x9 =>
    (grR z5 2 2 x9 0).bind fun x12 =>
    (gchk z5 17 x12).bind fun b16 =>
    (fJ2_get E b16 v1 z5).bind fun z16 =>
    (gcast z16.2 11 16 z16.1).bind fun x19 =>
    (grI z16.2 11 16 x19 0).bind fun x22 =>
    some (.inl (x22, z16.2)))
  (fun y => some (.inr y))
theorem sX1_step (l : Launch) (E : g_E) (D : g_D) (hlT : l.stackTraces = false) {t : Nat} {v1 : Int32} {G : g_G} {q : (Int32 × g_G) ⊕ gX} (h : fX1_step E t v1 G = some q) : gMetX l E D yX1_step (ws_ yX1_step cX1_step 2 (some .int)) 9 140 [.inr (.inr (some t)), .inl v1] G gokI q := by
  refine gMetX.of (by decide +kernel) (Nat.le_of_ble_eq_true rfl) ?_
  intro p e R s m args below meth c C htab hS ls hl
  have C : gC p R s m args meth c cX1_step 2 RX1 "step" (some .int) 9 140 E D := C
  obtain ⟨hx, hb, hml, hown, hts, hKn, hRc, hRs, hc1, hc2, hRf, hRl, hr, hlk, hnm⟩ := id C
  have hl : gls ls 2 [(0, .inr (.inr (some t))), (1, .inl v1)] := hl
  generalize hH0 : s.heap = H at hS ⊢
  unfold fX1_step at h
  refine g_aload_n hx hb hl 0 rfl dX1_step_0 ?_
  refine g_iload_n hx hb hl 1 rfl dX1_step_1 ?_
  obtain ⟨b2, hb2, h⟩ := g_bnd h
  obtain ⟨hr2, hk2⟩ := g_chk hb2
  obtain ⟨z2, h2, h⟩ := g_bnd h
  refine g_callV (n := 1) (b := b2) (av := [.inl v1]) (rs := []) hx hb hml hown hts hKn hRc hRs hS hl (sX1_isStep l E D h2) (lw_V q1746 q1748 qs42 q113 q1749) ⟨rfl, by decide, by decide, by decide +kernel⟩ ⟨by rw [hRf]; exact Nat.le_of_ble_eq_true rfl, by rw [hRl]; exact Nat.le_of_ble_eq_true rfl⟩ (g_recv hKn hS hk2 (by decide) (by decide)) rfl (by rw [hr2]; rfl) (Nat.le_of_ble_eq_true rfl) dX1_step_2 (fun H locs cells slots hS => ?_)
  obtain ⟨o5, h5, ha5, hx5⟩ := g_catE h
  refine g_callSt (n := 1) (av := [.inl z2.1]) (rs := []) hx hb hml hown hts hKn hRc hRs hS hl (sX1_there l E D hlT h5) (lw_S q1721 q1722 q113 q1723) ⟨by decide, by decide, by decide +kernel⟩ ⟨by rw [hRf]; exact Nat.le_of_ble_eq_true rfl, by rw [hRl]; exact Nat.le_of_ble_eq_true rfl⟩ rfl rfl (Nat.le_of_ble_eq_true rfl) dX1_step_5 (fun z5 e5 H locs cells slots hS => ?_) (fun k5 a5 G5 e5 n1 n2 nk nB H locs cells slots hS => ?_)
  · have h := ha5 _ e5
    refine g_aload_n hx hb hl 0 rfl dX1_step_8 ?_
    refine g_rdR hx hb hown hts hKn hS h fd_1_1_4 rfl (Or.inl (hts _ q601)) (fun _ z => z) dX1_step_9 (fun x9 h => ?_)
    refine g_rdR hx hb hown hts hKn hS h fd_2_2_0 rfl (Or.inr ⟨_, gNest_use rfl (hKn.2.2.2.2.1 _ (gNest_in q514 rfl))⟩) (fun _ z => z) dX1_step_12 (fun x12 h => ?_)
    refine g_iload_n hx hb hl 1 rfl dX1_step_15 ?_
    obtain ⟨b16, hb16, h⟩ := g_bnd h
    obtain ⟨hr16, hk16⟩ := g_chk hb16
    obtain ⟨z16, h16, h⟩ := g_bnd h
    refine g_callV (n := 1) (b := b16) (av := [.inl v1]) (rs := []) hx hb hml hown hts hKn hRc hRs hS hl (sJ2_get l E D h16) (lw_V q996 q759 q760 q117 q761) ⟨rfl, by decide, by decide, by decide +kernel⟩ ⟨by rw [hRf]; exact Nat.le_of_ble_eq_true rfl, by rw [hRl]; exact Nat.le_of_ble_eq_true rfl⟩ (g_recv hKn hS hk16 (by decide) (by decide)) rfl (by rw [hr16]; rfl) (Nat.le_of_ble_eq_true rfl) dX1_step_16 (fun H locs cells slots hS => ?_)
    refine g_castY (lo := 11) (hi := 16) (C := "SendHall$Step") hx hb hown hKn hS h (by decide) (by decide) (hts _ q1083) ct_11_16 dX1_step_19 (fun x19 h => ?_)
    refine g_rdI hx hb hown hts hKn hS h fd_11_16_0 rfl (Or.inl (hts _ q1422)) (fun _ z => z) dX1_step_22 (fun x22 h => ?_)
    exact g_retX (g_iretG hx hb hr hlk hKn hRc hRs hS (q := (x22, z16.2)) rfl dX1_step_25) h rfl
  · have h := hx5 _ e5
    exact g_outX (by rw [htab]; decide) hlk hKn hRc hRs hS n1 n2 nB nk h
/-- SendHall$Life.bits()I -/
def fX3_bits_b26 (E : g_E) (k4 : Nat → Int32 → Int32 → g_G → Option (Int32 × g_G)) (t : Nat) (v1 : Int32) (v2 : Int32) (G : g_G) : Option (Int32 × g_G) :=
  k4 t v1 (v2 + 1) G
def fX3_bits_b4 (E : g_E) : Nat → Nat → Int32 → Int32 → g_G → Option (Int32 × g_G)
  | 0, _, _, _, _ => none
  | n + 1, t, v1, v2, G =>
    (grI G 3 3 (some t) 0).bind fun x6 =>
    if x6 ≤ v2 then (
      some (v1, G))
    else (
      (gchk G 3 (some t)).bind fun b14 =>
      (fX3_hasEnded E b14 v2 G).bind fun z14 =>
      if ¬ z14.1 = 0 then (
        fX3_bits_b26 E (fX3_bits_b4 E n) t v1 v2 z14.2)
      else (
        fX3_bits_b26 E (fX3_bits_b4 E n) t (v1 ||| (1 <<< (v2 &&& 31))) v2 z14.2))
def fX3_bits (E : g_E) (t : Nat) (G : g_G) : Option (Int32 × g_G) :=
  fX3_bits_b4 E gFU t 0 0 G
theorem sX3_bits_b26 {p : Program} {l : Launch} {e : Env} {R : Room} {s : State} {m : MethodId} {args : Array Value} {below : List Frame} {meth : Method} {c : Code} {E : g_E} {D : g_D} (C : gC p R s m args meth c cX3_bits 3 RX3 "bits" (some .int) 2 85 E D) {k4 : Nat → Int32 → Int32 → g_G → Option (Int32 × g_G)} (hk4 : ∀ (t : Nat) (v1 : Int32) (v2 : Int32) (G : g_G) (q : Int32 × g_G), k4 t v1 v2 G = some q → ∀ (H : Heap) (locs : List Loc) (cells slots : Nat) (ls : Array Slot), gSt E D G H locs → gls ls 3 [(0, .inr (.inr (some t))), (1, .inl v1), (2, .inl v2)] → gT p l e R s m args below meth c E D H locs cells slots (some (.int q.1)) q.2 (F0 m 4 ls [])) : ∀ (t : Nat) (v1 : Int32) (v2 : Int32) (G : g_G) (q : Int32 × g_G), fX3_bits_b26 E k4 t v1 v2 G = some q → ∀ (H : Heap) (locs : List Loc) (cells slots : Nat) (ls : Array Slot), gSt E D G H locs → gls ls 3 [(0, .inr (.inr (some t))), (1, .inl v1), (2, .inl v2)] → gT p l e R s m args below meth c E D H locs cells slots (some (.int q.1)) q.2 (F0 m 26 ls []) := by
  obtain ⟨hx, hb, hml, hown, hts, hKn, hRc, hRs, hc1, hc2, hRf, hRl, hr, hlk, hnm⟩ := id C
  intro t v1 v2 G q h H locs cells slots ls hS hl
  unfold fX3_bits_b26 at h
  refine g_iinc (l1 := [(2, .inl (v2 + 1)), (0, .inr (.inr (some t))), (1, .inl v1)]) (v := (v2 + 1)) hx hb hl (k := 2) rfl (by rfl) (by decide) rfl dX3_bits_26 (fun ls hl => ?_)
  refine lv_goto (tgt := 4) hx hb dX3_bits_29 (by decide) ?_
  exact hk4 _ _ _ _ _ h _ _ _ _ _ hS (gls_sub hl [1, 2, 0] rfl)
theorem sX3_bits_b4 {p : Program} {l : Launch} {e : Env} {R : Room} {s : State} {m : MethodId} {args : Array Value} {below : List Frame} {meth : Method} {c : Code} {E : g_E} {D : g_D} (C : gC p R s m args meth c cX3_bits 3 RX3 "bits" (some .int) 2 85 E D) : ∀ (n : Nat) (t : Nat) (v1 : Int32) (v2 : Int32) (G : g_G) (q : Int32 × g_G), fX3_bits_b4 E n t v1 v2 G = some q → ∀ (H : Heap) (locs : List Loc) (cells slots : Nat) (ls : Array Slot), gSt E D G H locs → gls ls 3 [(0, .inr (.inr (some t))), (1, .inl v1), (2, .inl v2)] → gT p l e R s m args below meth c E D H locs cells slots (some (.int q.1)) q.2 (F0 m 4 ls []) := by
  obtain ⟨hx, hb, hml, hown, hts, hKn, hRc, hRs, hc1, hc2, hRf, hRl, hr, hlk, hnm⟩ := id C
  intro n
  induction n with
  | zero =>
    intro t v1 v2 G q h
    exact g_no h
  | succ n ih =>
    intro t v1 v2 G q h H locs cells slots ls hS hl
    rw [fX3_bits_b4] at h
    refine g_iload_n hx hb hl 2 rfl dX3_bits_4 ?_
    refine g_aload_n hx hb hl 0 rfl dX3_bits_5 ?_
    refine g_rdI hx hb hown hts hKn hS h fd_3_3_0 rfl (Or.inl (hts _ q538)) (fun _ z => z) dX3_bits_6 (fun x6 h => ?_)
    refine lv_icmp_ge (tgt := 32) hx hb dX3_bits_9 (by decide) (fun c_9 => ?_) (fun c_9 => ?_)
    · have h := g_ift c_9 h
      refine g_iload_n hx hb hl 1 rfl dX3_bits_32 ?_
      exact g_iretG hx hb hr hlk hKn hRc hRs hS h dX3_bits_33
    · have h := g_iff c_9 h
      refine g_aload_n hx hb hl 0 rfl dX3_bits_12 ?_
      refine g_iload_n hx hb hl 2 rfl dX3_bits_13 ?_
      obtain ⟨b14, hb14, h⟩ := g_bnd h
      obtain ⟨hr14, hk14⟩ := g_chk hb14
      obtain ⟨z14, h14, h⟩ := g_bnd h
      refine g_callV (n := 1) (b := b14) (av := [.inl v2]) (rs := []) hx hb hml hown hts hKn hRc hRs hS hl (sX3_hasEnded l E D h14) (lw_V q993 q849 q850 q134 q851) ⟨rfl, by decide, by decide, by decide +kernel⟩ ⟨by rw [hRf]; exact Nat.le_of_ble_eq_true rfl, by rw [hRl]; exact Nat.le_of_ble_eq_true rfl⟩ (g_recv hKn hS hk14 (by decide) (by decide)) rfl (by rw [hr14]; rfl) (Nat.le_of_ble_eq_true rfl) dX3_bits_14 (fun H locs cells slots hS => ?_)
      refine lv_if_ne (tgt := 26) hx hb dX3_bits_17 (by decide) (fun c_17 => ?_) (fun c_17 => ?_)
      · have h := g_ift c_17 h
        exact sX3_bits_b26 C ih _ _ _ _ _ h _ _ _ _ _ hS (gls_sub hl [0, 1, 2] rfl)
      · have h := g_iff (fun z => z c_17) h
        refine g_iload_n hx hb hl 1 rfl dX3_bits_20 ?_
        refine lv_iconst (v := 1) hx hb dX3_bits_21 (by decide) ?_
        refine g_iload_n hx hb hl 2 rfl dX3_bits_22 ?_
        refine lv_ishl hx hb dX3_bits_23 ?_
        refine lv_ior hx hb dX3_bits_24 ?_
        refine g_istore_n (l1 := [(1, .inl (v1 ||| (1 <<< (v2 &&& 31)))), (0, .inr (.inr (some t))), (2, .inl v2)]) hx hb hl (by decide) rfl dX3_bits_25 (fun ls hl => ?_)
        exact sX3_bits_b26 C ih _ _ _ _ _ h _ _ _ _ _ hS (gls_sub hl [1, 0, 2] rfl)
theorem sX3_bits (l : Launch) (E : g_E) (D : g_D) {t : Nat} {G : g_G} {q : Int32 × g_G} (h : fX3_bits E t G = some q) : gMet l E D yX3_bits (ws_ yX3_bits cX3_bits 3 (some .int)) 2 85 [.inr (.inr (some t))] G (some (.int q.1)) q.2 := by
  refine gMet.of (by decide +kernel) (Nat.le_of_ble_eq_true rfl) ?_
  intro p e R s m args below meth c C hS ls hl
  have C : gC p R s m args meth c cX3_bits 3 RX3 "bits" (some .int) 2 85 E D := C
  obtain ⟨hx, hb, hml, hown, hts, hKn, hRc, hRs, hc1, hc2, hRf, hRl, hr, hlk, hnm⟩ := id C
  have hl : gls ls 3 [(0, .inr (.inr (some t)))] := hl
  generalize s.heap = H at hS ⊢
  unfold fX3_bits at h
  refine lv_iconst (v := 0) hx hb dX3_bits_0 (by decide) ?_
  refine g_istore_n (l1 := [(1, .inl 0), (0, .inr (.inr (some t)))]) hx hb hl (by decide) rfl dX3_bits_1 (fun ls hl => ?_)
  refine lv_iconst (v := 0) hx hb dX3_bits_2 (by decide) ?_
  refine g_istore_n (l1 := [(2, .inl 0), (1, .inl 0), (0, .inr (.inr (some t)))]) hx hb hl (by decide) rfl dX3_bits_3 (fun ls hl => ?_)
  exact sX3_bits_b4 C gFU _ _ _ _ _ h _ _ _ _ _ hS (gls_sub hl [2, 1, 0] rfl)
/-- SendHall$Life.copy(LSendHall$Life;)V -/
def fX3_copy_b115 (E : g_E) : Nat → Nat → (Option Nat) → Int32 → g_G → Option (g_G)
  | 0, _, _, _, _ => none
  | n + 1, t, v1, v2, G =>
    (grI G 3 3 (some t) 1).bind fun x117 =>
    if x117 ≤ v2 then (
      some G)
    else (
      (gchk G 3 (some t)).bind fun b127 =>
      (fX3_put E b127 v2 v1 v2 G).bind fun z127 =>
      fX3_copy_b115 E n t v1 (v2 + 1) z127)
def fX3_copy_b76 (E : g_E) (k18 : Nat → (Option Nat) → Int32 → g_G → Option (g_G)) : Nat → Nat → (Option Nat) → Int32 → Int32 → g_G → Option (g_G)
  | 0, _, _, _, _, _ => none
  | n + 1, t, v1, v2, v3, G =>
    if (4 : Int32) ≤ v3 then (
      k18 t v1 (v2 + 1) G)
    else (
      (grR G 3 3 (some t) 5).bind fun x82 =>
      (grR G 3 3 v1 5).bind fun x91 =>
      (gaI G 100 x91 ((4 * v2) + v3)).bind fun x99 =>
      (gsaI E G x82 ((4 * v2) + v3) x99).bind fun G100 =>
      fX3_copy_b76 E k18 n t v1 v2 (v3 + 1) G100)
def fX3_copy_b18 (E : g_E) : Nat → Nat → (Option Nat) → Int32 → g_G → Option (g_G)
  | 0, _, _, _, _ => none
  | n + 1, t, v1, v2, G =>
    (grI G 3 3 (some t) 0).bind fun x20 =>
    if x20 ≤ v2 then (
      fX3_copy_b115 E gFU t v1 0 G)
    else (
      (grR G 3 3 (some t) 3).bind fun x27 =>
      (grR G 3 3 v1 3).bind fun x32 =>
      (gaR G 122 x32 v2).bind fun x36 =>
      (gsaR E G 122 x27 v2 x36).bind fun G37 =>
      (grR G37 3 3 (some t) 4).bind fun x39 =>
      (grR G37 3 3 v1 4).bind fun x44 =>
      (gaI G37 102 x44 v2).bind fun x48 =>
      (gsaZ E G37 x39 v2 x48).bind fun G49 =>
      (grR G49 3 3 (some t) 6).bind fun x51 =>
      (grR G49 3 3 v1 6).bind fun x56 =>
      (gaI G49 100 x56 v2).bind fun x60 =>
      (gsaI E G49 x51 v2 x60).bind fun G61 =>
      (grR G61 3 3 (some t) 7).bind fun x63 =>
      (grR G61 3 3 v1 7).bind fun x68 =>
      (gaI G61 100 x68 v2).bind fun x72 =>
      (gsaI E G61 x63 v2 x72).bind fun G73 =>
      fX3_copy_b76 E (fX3_copy_b18 E n) gFU t v1 v2 0 G73)
def fX3_copy (E : g_E) (t : Nat) (v1 : Option Nat) (G : g_G) : Option (g_G) :=
  (grI G 3 3 v1 0).bind fun x2 =>
  (gpI E G 3 3 (some t) 0 x2).bind fun G5 =>
  (grI G5 3 3 v1 1).bind fun x10 =>
  (gpI E G5 3 3 (some t) 1 x10).bind fun G13 =>
  fX3_copy_b18 E gFU t v1 0 G13
theorem sX3_copy_b115 {p : Program} {l : Launch} {e : Env} {R : Room} {s : State} {m : MethodId} {args : Array Value} {below : List Frame} {meth : Method} {c : Code} {E : g_E} {D : g_D} (C : gC p R s m args meth c cX3_copy 4 RX3 "copy" (none) 2 87 E D) : ∀ (n : Nat) (t : Nat) (v1 : Option Nat) (v2 : Int32) (G : g_G) (q : g_G), fX3_copy_b115 E n t v1 v2 G = some q → ∀ (H : Heap) (locs : List Loc) (cells slots : Nat) (ls : Array Slot), gSt E D G H locs → gls ls 4 [(0, .inr (.inr (some t))), (1, .inr (.inr v1)), (2, .inl v2)] → gT p l e R s m args below meth c E D H locs cells slots none q (F0 m 115 ls []) := by
  obtain ⟨hx, hb, hml, hown, hts, hKn, hRc, hRs, hc1, hc2, hRf, hRl, hr, hlk, hnm⟩ := id C
  intro n
  induction n with
  | zero =>
    intro t v1 v2 G q h
    exact g_no h
  | succ n ih =>
    intro t v1 v2 G q h H locs cells slots ls hS hl
    rw [fX3_copy_b115] at h
    refine g_iload_n hx hb hl 2 rfl dX3_copy_115 ?_
    refine g_aload_n hx hb hl 0 rfl dX3_copy_116 ?_
    refine g_rdI hx hb hown hts hKn hS h fd_3_3_1 rfl (Or.inl (hts _ q542)) (fun _ z => z) dX3_copy_117 (fun x117 h => ?_)
    refine lv_icmp_ge (tgt := 136) hx hb dX3_copy_120 (by decide) (fun c_120 => ?_) (fun c_120 => ?_)
    · have h := g_ift c_120 h
      exact g_vretG hx hb hr hlk hKn hRc hRs hS h dX3_copy_136
    · have h := g_iff c_120 h
      refine g_aload_n hx hb hl 0 rfl dX3_copy_123 ?_
      refine g_iload_n hx hb hl 2 rfl dX3_copy_124 ?_
      refine g_aload_n hx hb hl 1 rfl dX3_copy_125 ?_
      refine g_iload_n hx hb hl 2 rfl dX3_copy_126 ?_
      obtain ⟨b127, hb127, h⟩ := g_bnd h
      obtain ⟨hr127, hk127⟩ := g_chk hb127
      obtain ⟨z127, h127, h⟩ := g_bnd h
      refine g_callV (n := 3) (b := b127) (av := [.inl v2, .inr (.inr v1), .inl v2]) (rs := []) hx hb hml hown hts hKn hRc hRs hS hl (sX3_put l E D h127) (lw_V q907 q909 qs11 q134 q910) ⟨rfl, by decide, by decide, by decide +kernel⟩ ⟨by rw [hRf]; exact Nat.le_of_ble_eq_true rfl, by rw [hRl]; exact Nat.le_of_ble_eq_true rfl⟩ (g_recv hKn hS hk127 (by decide) (by decide)) rfl (by rw [hr127]; rfl) (Nat.le_of_ble_eq_true rfl) dX3_copy_127 (fun H locs cells slots hS => ?_)
      refine g_iinc (l1 := [(2, .inl (v2 + 1)), (0, .inr (.inr (some t))), (1, .inr (.inr v1))]) (v := (v2 + 1)) hx hb hl (k := 2) rfl (by rfl) (by decide) rfl dX3_copy_130 (fun ls hl => ?_)
      refine lv_goto (tgt := 115) hx hb dX3_copy_133 (by decide) ?_
      exact ih _ _ _ _ _ h _ _ _ _ _ hS (gls_sub hl [1, 2, 0] rfl)
theorem sX3_copy_b76 {p : Program} {l : Launch} {e : Env} {R : Room} {s : State} {m : MethodId} {args : Array Value} {below : List Frame} {meth : Method} {c : Code} {E : g_E} {D : g_D} (C : gC p R s m args meth c cX3_copy 4 RX3 "copy" (none) 2 87 E D) {k18 : Nat → (Option Nat) → Int32 → g_G → Option (g_G)} (hk18 : ∀ (t : Nat) (v1 : Option Nat) (v2 : Int32) (G : g_G) (q : g_G), k18 t v1 v2 G = some q → ∀ (H : Heap) (locs : List Loc) (cells slots : Nat) (ls : Array Slot), gSt E D G H locs → gls ls 4 [(0, .inr (.inr (some t))), (1, .inr (.inr v1)), (2, .inl v2)] → gT p l e R s m args below meth c E D H locs cells slots none q (F0 m 18 ls [])) : ∀ (n : Nat) (t : Nat) (v1 : Option Nat) (v2 : Int32) (v3 : Int32) (G : g_G) (q : g_G), fX3_copy_b76 E k18 n t v1 v2 v3 G = some q → ∀ (H : Heap) (locs : List Loc) (cells slots : Nat) (ls : Array Slot), gSt E D G H locs → gls ls 4 [(0, .inr (.inr (some t))), (1, .inr (.inr v1)), (2, .inl v2), (3, .inl v3)] → gT p l e R s m args below meth c E D H locs cells slots none q (F0 m 76 ls []) := by
  obtain ⟨hx, hb, hml, hown, hts, hKn, hRc, hRs, hc1, hc2, hRf, hRl, hr, hlk, hnm⟩ := id C
  intro n
  induction n with
  | zero =>
    intro t v1 v2 v3 G q h
    exact g_no h
  | succ n ih =>
    intro t v1 v2 v3 G q h H locs cells slots ls hS hl
    rw [fX3_copy_b76] at h
    refine g_iload_n hx hb hl 3 rfl dX3_copy_76 ?_
    refine lv_iconst (v := 4) hx hb dX3_copy_77 (by decide) ?_
    refine lv_icmp_ge (tgt := 107) hx hb dX3_copy_78 (by decide) (fun c_78 => ?_) (fun c_78 => ?_)
    · have h := g_ift c_78 h
      refine g_iinc (l1 := [(2, .inl (v2 + 1)), (0, .inr (.inr (some t))), (1, .inr (.inr v1)), (3, .inl v3)]) (v := (v2 + 1)) hx hb hl (k := 2) rfl (by rfl) (by decide) rfl dX3_copy_107 (fun ls hl => ?_)
      refine lv_goto (tgt := 18) hx hb dX3_copy_110 (by decide) ?_
      exact hk18 _ _ _ _ _ h _ _ _ _ _ hS (gls_sub hl [1, 2, 0] rfl)
    · have h := g_iff c_78 h
      refine g_aload_n hx hb hl 0 rfl dX3_copy_81 ?_
      refine g_rdR hx hb hown hts hKn hS h fd_3_3_5 rfl (Or.inl (hts _ q550)) (fun _ z => z) dX3_copy_82 (fun x82 h => ?_)
      refine lv_iconst (v := 4) hx hb dX3_copy_85 (by decide) ?_
      refine g_iload_n hx hb hl 2 rfl dX3_copy_86 ?_
      refine lv_imul hx hb dX3_copy_87 ?_
      refine g_iload_n hx hb hl 3 rfl dX3_copy_88 ?_
      refine lv_iadd hx hb dX3_copy_89 ?_
      refine g_aload_n hx hb hl 1 rfl dX3_copy_90 ?_
      refine g_rdR hx hb hown hts hKn hS h fd_3_3_5 rfl (Or.inl (hts _ q550)) (fun _ z => z) dX3_copy_91 (fun x91 h => ?_)
      refine lv_iconst (v := 4) hx hb dX3_copy_94 (by decide) ?_
      refine g_iload_n hx hb hl 2 rfl dX3_copy_95 ?_
      refine lv_imul hx hb dX3_copy_96 ?_
      refine g_iload_n hx hb hl 3 rfl dX3_copy_97 ?_
      refine lv_iadd hx hb dX3_copy_98 ?_
      refine g_ialoadG hx hb hKn hS h dX3_copy_99 (fun x99 h => ?_)
      refine g_iastoreG hx hb hKn hS h dX3_copy_100 (fun G100 h H locs hS => ?_)
      refine g_iinc (l1 := [(3, .inl (v3 + 1)), (0, .inr (.inr (some t))), (1, .inr (.inr v1)), (2, .inl v2)]) (v := (v3 + 1)) hx hb hl (k := 3) rfl (by rfl) (by decide) rfl dX3_copy_101 (fun ls hl => ?_)
      refine lv_goto (tgt := 76) hx hb dX3_copy_104 (by decide) ?_
      exact ih _ _ _ _ _ _ h _ _ _ _ _ hS (gls_sub hl [1, 2, 3, 0] rfl)
theorem sX3_copy_b18 {p : Program} {l : Launch} {e : Env} {R : Room} {s : State} {m : MethodId} {args : Array Value} {below : List Frame} {meth : Method} {c : Code} {E : g_E} {D : g_D} (C : gC p R s m args meth c cX3_copy 4 RX3 "copy" (none) 2 87 E D) : ∀ (n : Nat) (t : Nat) (v1 : Option Nat) (v2 : Int32) (G : g_G) (q : g_G), fX3_copy_b18 E n t v1 v2 G = some q → ∀ (H : Heap) (locs : List Loc) (cells slots : Nat) (ls : Array Slot), gSt E D G H locs → gls ls 4 [(0, .inr (.inr (some t))), (1, .inr (.inr v1)), (2, .inl v2)] → gT p l e R s m args below meth c E D H locs cells slots none q (F0 m 18 ls []) := by
  obtain ⟨hx, hb, hml, hown, hts, hKn, hRc, hRs, hc1, hc2, hRf, hRl, hr, hlk, hnm⟩ := id C
  intro n
  induction n with
  | zero =>
    intro t v1 v2 G q h
    exact g_no h
  | succ n ih =>
    intro t v1 v2 G q h H locs cells slots ls hS hl
    rw [fX3_copy_b18] at h
    refine g_iload_n hx hb hl 2 rfl dX3_copy_18 ?_
    refine g_aload_n hx hb hl 0 rfl dX3_copy_19 ?_
    refine g_rdI hx hb hown hts hKn hS h fd_3_3_0 rfl (Or.inl (hts _ q538)) (fun _ z => z) dX3_copy_20 (fun x20 h => ?_)
    refine lv_icmp_ge (tgt := 113) hx hb dX3_copy_23 (by decide) (fun c_23 => ?_) (fun c_23 => ?_)
    · have h := g_ift c_23 h
      refine lv_iconst (v := 0) hx hb dX3_copy_113 (by decide) ?_
      refine g_istore_n (l1 := [(2, .inl 0), (0, .inr (.inr (some t))), (1, .inr (.inr v1))]) hx hb hl (by decide) rfl dX3_copy_114 (fun ls hl => ?_)
      exact sX3_copy_b115 C gFU _ _ _ _ _ h _ _ _ _ _ hS (gls_sub hl [1, 2, 0] rfl)
    · have h := g_iff c_23 h
      refine g_aload_n hx hb hl 0 rfl dX3_copy_26 ?_
      refine g_rdR hx hb hown hts hKn hS h fd_3_3_3 rfl (Or.inl (hts _ q544)) (fun _ z => z) dX3_copy_27 (fun x27 h => ?_)
      refine g_iload_n hx hb hl 2 rfl dX3_copy_30 ?_
      refine g_aload_n hx hb hl 1 rfl dX3_copy_31 ?_
      refine g_rdR hx hb hown hts hKn hS h fd_3_3_3 rfl (Or.inl (hts _ q544)) (fun _ z => z) dX3_copy_32 (fun x32 h => ?_)
      refine g_iload_n hx hb hl 2 rfl dX3_copy_35 ?_
      refine g_aaloadG hx hb hKn hS h (by decide) dX3_copy_36 (fun x36 h => ?_)
      refine g_aastoreG hx hb hKn hS h (by decide) dX3_copy_37 (fun G37 h H locs hS => ?_)
      refine g_aload_n hx hb hl 0 rfl dX3_copy_38 ?_
      refine g_rdR hx hb hown hts hKn hS h fd_3_3_4 rfl (Or.inl (hts _ q546)) (fun _ z => z) dX3_copy_39 (fun x39 h => ?_)
      refine g_iload_n hx hb hl 2 rfl dX3_copy_42 ?_
      refine g_aload_n hx hb hl 1 rfl dX3_copy_43 ?_
      refine g_rdR hx hb hown hts hKn hS h fd_3_3_4 rfl (Or.inl (hts _ q546)) (fun _ z => z) dX3_copy_44 (fun x44 h => ?_)
      refine g_iload_n hx hb hl 2 rfl dX3_copy_47 ?_
      refine g_zaloadG hx hb hKn hS h dX3_copy_48 (fun x48 h => ?_)
      refine g_zastoreG hx hb hKn hS h dX3_copy_49 (fun G49 h H locs hS => ?_)
      refine g_aload_n hx hb hl 0 rfl dX3_copy_50 ?_
      refine g_rdR hx hb hown hts hKn hS h fd_3_3_6 rfl (Or.inl (hts _ q554)) (fun _ z => z) dX3_copy_51 (fun x51 h => ?_)
      refine g_iload_n hx hb hl 2 rfl dX3_copy_54 ?_
      refine g_aload_n hx hb hl 1 rfl dX3_copy_55 ?_
      refine g_rdR hx hb hown hts hKn hS h fd_3_3_6 rfl (Or.inl (hts _ q554)) (fun _ z => z) dX3_copy_56 (fun x56 h => ?_)
      refine g_iload_n hx hb hl 2 rfl dX3_copy_59 ?_
      refine g_ialoadG hx hb hKn hS h dX3_copy_60 (fun x60 h => ?_)
      refine g_iastoreG hx hb hKn hS h dX3_copy_61 (fun G61 h H locs hS => ?_)
      refine g_aload_n hx hb hl 0 rfl dX3_copy_62 ?_
      refine g_rdR hx hb hown hts hKn hS h fd_3_3_7 rfl (Or.inl (hts _ q557)) (fun _ z => z) dX3_copy_63 (fun x63 h => ?_)
      refine g_iload_n hx hb hl 2 rfl dX3_copy_66 ?_
      refine g_aload_n hx hb hl 1 rfl dX3_copy_67 ?_
      refine g_rdR hx hb hown hts hKn hS h fd_3_3_7 rfl (Or.inl (hts _ q557)) (fun _ z => z) dX3_copy_68 (fun x68 h => ?_)
      refine g_iload_n hx hb hl 2 rfl dX3_copy_71 ?_
      refine g_ialoadG hx hb hKn hS h dX3_copy_72 (fun x72 h => ?_)
      refine g_iastoreG hx hb hKn hS h dX3_copy_73 (fun G73 h H locs hS => ?_)
      refine lv_iconst (v := 0) hx hb dX3_copy_74 (by decide) ?_
      refine g_istore_n (l1 := [(3, .inl 0), (0, .inr (.inr (some t))), (1, .inr (.inr v1)), (2, .inl v2)]) hx hb hl (by decide) rfl dX3_copy_75 (fun ls hl => ?_)
      exact sX3_copy_b76 C ih gFU _ _ _ _ _ _ h _ _ _ _ _ hS (gls_sub hl [1, 2, 3, 0] rfl)
theorem sX3_copy (l : Launch) (E : g_E) (D : g_D) {t : Nat} {v1 : Option Nat} {G : g_G} {q : g_G} (h : fX3_copy E t v1 G = some q) : gMet l E D yX3_copy (ws_ yX3_copy cX3_copy 4 (none)) 2 87 [.inr (.inr (some t)), .inr (.inr v1)] G none q := by
  refine gMet.of (by decide +kernel) (Nat.le_of_ble_eq_true rfl) ?_
  intro p e R s m args below meth c C hS ls hl
  have C : gC p R s m args meth c cX3_copy 4 RX3 "copy" (none) 2 87 E D := C
  obtain ⟨hx, hb, hml, hown, hts, hKn, hRc, hRs, hc1, hc2, hRf, hRl, hr, hlk, hnm⟩ := id C
  have hl : gls ls 4 [(0, .inr (.inr (some t))), (1, .inr (.inr v1))] := hl
  generalize s.heap = H at hS ⊢
  unfold fX3_copy at h
  refine g_aload_n hx hb hl 0 rfl dX3_copy_0 ?_
  refine g_aload_n hx hb hl 1 rfl dX3_copy_1 ?_
  refine g_rdI hx hb hown hts hKn hS h fd_3_3_0 rfl (Or.inl (hts _ q538)) (fun _ z => z) dX3_copy_2 (fun x2 h => ?_)
  refine g_ptI hx hb hown hts hKn hS h fd_3_3_0 (Or.inl (hts _ q538)) (fun _ z => z) (fun z => nomatch z) dX3_copy_5 (fun G5 h H locs hS => ?_)
  refine g_aload_n hx hb hl 0 rfl dX3_copy_8 ?_
  refine g_aload_n hx hb hl 1 rfl dX3_copy_9 ?_
  refine g_rdI hx hb hown hts hKn hS h fd_3_3_1 rfl (Or.inl (hts _ q542)) (fun _ z => z) dX3_copy_10 (fun x10 h => ?_)
  refine g_ptI hx hb hown hts hKn hS h fd_3_3_1 (Or.inl (hts _ q542)) (fun _ z => z) (fun z => nomatch z) dX3_copy_13 (fun G13 h H locs hS => ?_)
  refine lv_iconst (v := 0) hx hb dX3_copy_16 (by decide) ?_
  refine g_istore_n (l1 := [(2, .inl 0), (0, .inr (.inr (some t))), (1, .inr (.inr v1))]) hx hb hl (by decide) rfl dX3_copy_17 (fun ls hl => ?_)
  exact sX3_copy_b18 C gFU _ _ _ _ _ h _ _ _ _ _ hS (gls_sub hl [1, 2, 0] rfl)
/-- SendHall$Life.kind()I -/
def fX3_kind_b11 (E : g_E) : Nat → Nat → Int32 → g_G → Option (Int32 × g_G)
  | 0, _, _, _ => none
  | n + 1, t, v1, G =>
    (grI G 3 3 (some t) 0).bind fun x13 =>
    if x13 ≤ v1 then (
      some (2, G))
    else (
      (grR G 3 3 (some t) 4).bind fun x20 =>
      (gaI G 102 x20 v1).bind fun x24 =>
      if x24 = 0 then (
        fX3_kind_b11 E n t (v1 + 1) G)
      else (
        some (1, G)))
def fX3_kind (E : g_E) (t : Nat) (G : g_G) : Option (Int32 × g_G) :=
  (gchk G 3 (some t)).bind fun b1 =>
  (fX3_bits E b1 G).bind fun z1 =>
  if ¬ z1.1 = 0 then (
    fX3_kind_b11 E gFU t 0 z1.2)
  else (
    some (0, z1.2))
theorem sX3_kind_b11 {p : Program} {l : Launch} {e : Env} {R : Room} {s : State} {m : MethodId} {args : Array Value} {below : List Frame} {meth : Method} {c : Code} {E : g_E} {D : g_D} (C : gC p R s m args meth c cX3_kind 2 RX3 "kind" (some .int) 3 107 E D) : ∀ (n : Nat) (t : Nat) (v1 : Int32) (G : g_G) (q : Int32 × g_G), fX3_kind_b11 E n t v1 G = some q → ∀ (H : Heap) (locs : List Loc) (cells slots : Nat) (ls : Array Slot), gSt E D G H locs → gls ls 2 [(0, .inr (.inr (some t))), (1, .inl v1)] → gT p l e R s m args below meth c E D H locs cells slots (some (.int q.1)) q.2 (F0 m 11 ls []) := by
  obtain ⟨hx, hb, hml, hown, hts, hKn, hRc, hRs, hc1, hc2, hRf, hRl, hr, hlk, hnm⟩ := id C
  intro n
  induction n with
  | zero =>
    intro t v1 G q h
    exact g_no h
  | succ n ih =>
    intro t v1 G q h H locs cells slots ls hS hl
    rw [fX3_kind_b11] at h
    refine g_iload_n hx hb hl 1 rfl dX3_kind_11 ?_
    refine g_aload_n hx hb hl 0 rfl dX3_kind_12 ?_
    refine g_rdI hx hb hown hts hKn hS h fd_3_3_0 rfl (Or.inl (hts _ q538)) (fun _ z => z) dX3_kind_13 (fun x13 h => ?_)
    refine lv_icmp_ge (tgt := 36) hx hb dX3_kind_16 (by decide) (fun c_16 => ?_) (fun c_16 => ?_)
    · have h := g_ift c_16 h
      refine lv_iconst (v := 2) hx hb dX3_kind_36 (by decide) ?_
      exact g_iretG hx hb hr hlk hKn hRc hRs hS h dX3_kind_37
    · have h := g_iff c_16 h
      refine g_aload_n hx hb hl 0 rfl dX3_kind_19 ?_
      refine g_rdR hx hb hown hts hKn hS h fd_3_3_4 rfl (Or.inl (hts _ q546)) (fun _ z => z) dX3_kind_20 (fun x20 h => ?_)
      refine g_iload_n hx hb hl 1 rfl dX3_kind_23 ?_
      refine g_zaloadG hx hb hKn hS h dX3_kind_24 (fun x24 h => ?_)
      refine lv_if_eq (tgt := 30) hx hb dX3_kind_25 (by decide) (fun c_25 => ?_) (fun c_25 => ?_)
      · have h := g_ift c_25 h
        refine g_iinc (l1 := [(1, .inl (v1 + 1)), (0, .inr (.inr (some t)))]) (v := (v1 + 1)) hx hb hl (k := 1) rfl (by rfl) (by decide) rfl dX3_kind_30 (fun ls hl => ?_)
        refine lv_goto (tgt := 11) hx hb dX3_kind_33 (by decide) ?_
        exact ih _ _ _ _ h _ _ _ _ _ hS (gls_sub hl [1, 0] rfl)
      · have h := g_iff c_25 h
        refine lv_iconst (v := 1) hx hb dX3_kind_28 (by decide) ?_
        exact g_iretG hx hb hr hlk hKn hRc hRs hS h dX3_kind_29
theorem sX3_kind (l : Launch) (E : g_E) (D : g_D) {t : Nat} {G : g_G} {q : Int32 × g_G} (h : fX3_kind E t G = some q) : gMet l E D yX3_kind (ws_ yX3_kind cX3_kind 2 (some .int)) 3 107 [.inr (.inr (some t))] G (some (.int q.1)) q.2 := by
  refine gMet.of (by decide +kernel) (Nat.le_of_ble_eq_true rfl) ?_
  intro p e R s m args below meth c C hS ls hl
  have C : gC p R s m args meth c cX3_kind 2 RX3 "kind" (some .int) 3 107 E D := C
  obtain ⟨hx, hb, hml, hown, hts, hKn, hRc, hRs, hc1, hc2, hRf, hRl, hr, hlk, hnm⟩ := id C
  have hl : gls ls 2 [(0, .inr (.inr (some t)))] := hl
  generalize s.heap = H at hS ⊢
  unfold fX3_kind at h
  refine g_aload_n hx hb hl 0 rfl dX3_kind_0 ?_
  obtain ⟨b1, hb1, h⟩ := g_bnd h
  obtain ⟨hr1, hk1⟩ := g_chk hb1
  obtain ⟨z1, h1, h⟩ := g_bnd h
  refine g_callV (n := 0) (b := b1) (av := []) (rs := []) hx hb hml hown hts hKn hRc hRs hS hl (sX3_bits l E D h1) (lw_V q989 q990 q991 q134 q992) ⟨rfl, by decide, by decide, by decide +kernel⟩ ⟨by rw [hRf]; exact Nat.le_of_ble_eq_true rfl, by rw [hRl]; exact Nat.le_of_ble_eq_true rfl⟩ (g_recv hKn hS hk1 (by decide) (by decide)) rfl (by rw [hr1]; rfl) (Nat.le_of_ble_eq_true rfl) dX3_kind_1 (fun H locs cells slots hS => ?_)
  refine lv_if_ne (tgt := 9) hx hb dX3_kind_4 (by decide) (fun c_4 => ?_) (fun c_4 => ?_)
  · have h := g_ift c_4 h
    refine lv_iconst (v := 0) hx hb dX3_kind_9 (by decide) ?_
    refine g_istore_n (l1 := [(1, .inl 0), (0, .inr (.inr (some t)))]) hx hb hl (by decide) rfl dX3_kind_10 (fun ls hl => ?_)
    exact sX3_kind_b11 C gFU _ _ _ _ h _ _ _ _ _ hS (gls_sub hl [1, 0] rfl)
  · have h := g_iff (fun z => z c_4) h
    refine lv_iconst (v := 0) hx hb dX3_kind_7 (by decide) ?_
    exact g_iretG hx hb hr hlk hKn hRc hRs hS h dX3_kind_8
/-- SendHall$Life.lie(IIIIII)V -/
def fX3_lie_b50 (E : g_E) (t : Nat) (v3 : Int32) (v4 : Int32) (v5 : Int32) (v6 : Int32) (v7 : Int32) (v8 : Int32) (G : g_G) : Option (g_G) :=
  (grR G 3 3 (some t) 8).bind fun x51 =>
  (gsaI E G x51 v8 v7).bind fun G58 =>
  (grR G58 3 3 (some t) 9).bind fun x60 =>
  (gsaI E G58 x60 v8 v3).bind fun G66 =>
  (grR G66 3 3 (some t) 10).bind fun x68 =>
  (gsaI E G66 x68 v8 v4).bind fun G75 =>
  (grR G75 3 3 (some t) 11).bind fun x77 =>
  (gsaI E G75 x77 v8 v5).bind fun G84 =>
  (grR G84 3 3 (some t) 12).bind fun x86 =>
  (gsaI E G84 x86 v8 v6).bind fun G93 =>
  (grI G93 3 3 (some t) 1).bind fun x96 =>
  (gpI E G93 3 3 (some t) 1 (x96 + 1)).bind fun G101 =>
  some G101
def fX3_lie_b14 (E : g_E) : Nat → Nat → Int32 → Int32 → Int32 → Int32 → Int32 → Int32 → g_G → Option (g_G)
  | 0, _, _, _, _, _, _, _, _ => none
  | n + 1, t, v3, v4, v5, v6, v7, v8, G =>
    if v8 ≤ 0 then (
      fX3_lie_b50 E t v3 v4 v5 v6 v7 v8 G)
    else (
      (grR G 3 3 (some t) 8).bind fun x20 =>
      (gaI G 100 x20 (v8 - 1)).bind fun x27 =>
      if x27 ≤ v7 then (
        fX3_lie_b50 E t v3 v4 v5 v6 v7 v8 G)
      else (
        (gchk G 3 (some t)).bind fun b41 =>
        (fX3_put E b41 v8 (some t) (v8 - 1) G).bind fun z41 =>
        fX3_lie_b14 E n t v3 v4 v5 v6 v7 (v8 + (-1)) z41))
def fX3_lie (E : g_E) (t : Nat) (v1 : Int32) (v2 : Int32) (v3 : Int32) (v4 : Int32) (v5 : Int32) (v6 : Int32) (G : g_G) : Option (g_G) :=
  (grI G 3 3 (some t) 1).bind fun x9 =>
  fX3_lie_b14 E gFU t v3 v4 v5 v6 ((8 * v1) + v2) x9 G
theorem sX3_lie_b50 {p : Program} {l : Launch} {e : Env} {R : Room} {s : State} {m : MethodId} {args : Array Value} {below : List Frame} {meth : Method} {c : Code} {E : g_E} {D : g_D} (C : gC p R s m args meth c cX3_lie 9 RX3 "lie" (none) 2 87 E D) : ∀ (t : Nat) (v3 : Int32) (v4 : Int32) (v5 : Int32) (v6 : Int32) (v7 : Int32) (v8 : Int32) (G : g_G) (q : g_G), fX3_lie_b50 E t v3 v4 v5 v6 v7 v8 G = some q → ∀ (H : Heap) (locs : List Loc) (cells slots : Nat) (ls : Array Slot), gSt E D G H locs → gls ls 9 [(0, .inr (.inr (some t))), (3, .inl v3), (4, .inl v4), (5, .inl v5), (6, .inl v6), (7, .inl v7), (8, .inl v8)] → gT p l e R s m args below meth c E D H locs cells slots none q (F0 m 50 ls []) := by
  obtain ⟨hx, hb, hml, hown, hts, hKn, hRc, hRs, hc1, hc2, hRf, hRl, hr, hlk, hnm⟩ := id C
  intro t v3 v4 v5 v6 v7 v8 G q h H locs cells slots ls hS hl
  unfold fX3_lie_b50 at h
  refine g_aload_n hx hb hl 0 rfl dX3_lie_50 ?_
  refine g_rdR hx hb hown hts hKn hS h fd_3_3_8 rfl (Or.inl (hts _ q560)) (fun _ z => z) dX3_lie_51 (fun x51 h => ?_)
  refine g_iload hx hb hl 6 rfl dX3_lie_54 ?_
  refine g_iload hx hb hl 5 rfl dX3_lie_56 ?_
  refine g_iastoreG hx hb hKn hS h dX3_lie_58 (fun G58 h H locs hS => ?_)
  refine g_aload_n hx hb hl 0 rfl dX3_lie_59 ?_
  refine g_rdR hx hb hown hts hKn hS h fd_3_3_9 rfl (Or.inl (hts _ q561)) (fun _ z => z) dX3_lie_60 (fun x60 h => ?_)
  refine g_iload hx hb hl 6 rfl dX3_lie_63 ?_
  refine g_iload_n hx hb hl 1 rfl dX3_lie_65 ?_
  refine g_iastoreG hx hb hKn hS h dX3_lie_66 (fun G66 h H locs hS => ?_)
  refine g_aload_n hx hb hl 0 rfl dX3_lie_67 ?_
  refine g_rdR hx hb hown hts hKn hS h fd_3_3_10 rfl (Or.inl (hts _ q562)) (fun _ z => z) dX3_lie_68 (fun x68 h => ?_)
  refine g_iload hx hb hl 6 rfl dX3_lie_71 ?_
  refine g_iload hx hb hl 2 rfl dX3_lie_73 ?_
  refine g_iastoreG hx hb hKn hS h dX3_lie_75 (fun G75 h H locs hS => ?_)
  refine g_aload_n hx hb hl 0 rfl dX3_lie_76 ?_
  refine g_rdR hx hb hown hts hKn hS h fd_3_3_11 rfl (Or.inl (hts _ q564)) (fun _ z => z) dX3_lie_77 (fun x77 h => ?_)
  refine g_iload hx hb hl 6 rfl dX3_lie_80 ?_
  refine g_iload hx hb hl 3 rfl dX3_lie_82 ?_
  refine g_iastoreG hx hb hKn hS h dX3_lie_84 (fun G84 h H locs hS => ?_)
  refine g_aload_n hx hb hl 0 rfl dX3_lie_85 ?_
  refine g_rdR hx hb hown hts hKn hS h fd_3_3_12 rfl (Or.inl (hts _ q566)) (fun _ z => z) dX3_lie_86 (fun x86 h => ?_)
  refine g_iload hx hb hl 6 rfl dX3_lie_89 ?_
  refine g_iload hx hb hl 4 rfl dX3_lie_91 ?_
  refine g_iastoreG hx hb hKn hS h dX3_lie_93 (fun G93 h H locs hS => ?_)
  refine g_aload_n hx hb hl 0 rfl dX3_lie_94 ?_
  refine lv_dup hx hb dX3_lie_95 (by first | exact va_rf_cat _ | rfl | exact g_catA _) ?_
  refine g_rdI hx hb hown hts hKn hS h fd_3_3_1 rfl (Or.inl (hts _ q542)) (fun _ z => z) dX3_lie_96 (fun x96 h => ?_)
  refine lv_iconst (v := 1) hx hb dX3_lie_99 (by decide) ?_
  refine lv_iadd hx hb dX3_lie_100 ?_
  refine g_ptI hx hb hown hts hKn hS h fd_3_3_1 (Or.inl (hts _ q542)) (fun _ z => z) (fun z => nomatch z) dX3_lie_101 (fun G101 h H locs hS => ?_)
  exact g_vretG hx hb hr hlk hKn hRc hRs hS h dX3_lie_104
theorem sX3_lie_b14 {p : Program} {l : Launch} {e : Env} {R : Room} {s : State} {m : MethodId} {args : Array Value} {below : List Frame} {meth : Method} {c : Code} {E : g_E} {D : g_D} (C : gC p R s m args meth c cX3_lie 9 RX3 "lie" (none) 2 87 E D) : ∀ (n : Nat) (t : Nat) (v3 : Int32) (v4 : Int32) (v5 : Int32) (v6 : Int32) (v7 : Int32) (v8 : Int32) (G : g_G) (q : g_G), fX3_lie_b14 E n t v3 v4 v5 v6 v7 v8 G = some q → ∀ (H : Heap) (locs : List Loc) (cells slots : Nat) (ls : Array Slot), gSt E D G H locs → gls ls 9 [(0, .inr (.inr (some t))), (3, .inl v3), (4, .inl v4), (5, .inl v5), (6, .inl v6), (7, .inl v7), (8, .inl v8)] → gT p l e R s m args below meth c E D H locs cells slots none q (F0 m 14 ls []) := by
  obtain ⟨hx, hb, hml, hown, hts, hKn, hRc, hRs, hc1, hc2, hRf, hRl, hr, hlk, hnm⟩ := id C
  intro n
  induction n with
  | zero =>
    intro t v3 v4 v5 v6 v7 v8 G q h
    exact g_no h
  | succ n ih =>
    intro t v3 v4 v5 v6 v7 v8 G q h H locs cells slots ls hS hl
    rw [fX3_lie_b14] at h
    refine g_iload hx hb hl 6 rfl dX3_lie_14 ?_
    refine lv_if_le (tgt := 50) hx hb dX3_lie_16 (by decide) (fun c_16 => ?_) (fun c_16 => ?_)
    · have h := g_ift c_16 h
      exact sX3_lie_b50 C _ _ _ _ _ _ _ _ _ h _ _ _ _ _ hS (gls_sub hl [0, 1, 2, 3, 4, 5, 6] rfl)
    · have h := g_iff c_16 h
      refine g_aload_n hx hb hl 0 rfl dX3_lie_19 ?_
      refine g_rdR hx hb hown hts hKn hS h fd_3_3_8 rfl (Or.inl (hts _ q560)) (fun _ z => z) dX3_lie_20 (fun x20 h => ?_)
      refine g_iload hx hb hl 6 rfl dX3_lie_23 ?_
      refine lv_iconst (v := 1) hx hb dX3_lie_25 (by decide) ?_
      refine lv_isub hx hb dX3_lie_26 ?_
      refine g_ialoadG hx hb hKn hS h dX3_lie_27 (fun x27 h => ?_)
      refine g_iload hx hb hl 5 rfl dX3_lie_28 ?_
      refine lv_icmp_le (tgt := 50) hx hb dX3_lie_30 (by decide) (fun c_30 => ?_) (fun c_30 => ?_)
      · have h := g_ift c_30 h
        exact sX3_lie_b50 C _ _ _ _ _ _ _ _ _ h _ _ _ _ _ hS (gls_sub hl [0, 1, 2, 3, 4, 5, 6] rfl)
      · have h := g_iff c_30 h
        refine g_aload_n hx hb hl 0 rfl dX3_lie_33 ?_
        refine g_iload hx hb hl 6 rfl dX3_lie_34 ?_
        refine g_aload_n hx hb hl 0 rfl dX3_lie_36 ?_
        refine g_iload hx hb hl 6 rfl dX3_lie_37 ?_
        refine lv_iconst (v := 1) hx hb dX3_lie_39 (by decide) ?_
        refine lv_isub hx hb dX3_lie_40 ?_
        obtain ⟨b41, hb41, h⟩ := g_bnd h
        obtain ⟨hr41, hk41⟩ := g_chk hb41
        obtain ⟨z41, h41, h⟩ := g_bnd h
        refine g_callV (n := 3) (b := b41) (av := [.inl v8, .inr (.inr (some t)), .inl (v8 - 1)]) (rs := []) hx hb hml hown hts hKn hRc hRs hS hl (sX3_put l E D h41) (lw_V q907 q909 qs11 q134 q910) ⟨rfl, by decide, by decide, by decide +kernel⟩ ⟨by rw [hRf]; exact Nat.le_of_ble_eq_true rfl, by rw [hRl]; exact Nat.le_of_ble_eq_true rfl⟩ (g_recv hKn hS hk41 (by decide) (by decide)) rfl (by rw [hr41]; rfl) (Nat.le_of_ble_eq_true rfl) dX3_lie_41 (fun H locs cells slots hS => ?_)
        refine g_iinc (l1 := [(8, .inl (v8 + (-1))), (0, .inr (.inr (some t))), (3, .inl v3), (4, .inl v4), (5, .inl v5), (6, .inl v6), (7, .inl v7)]) (v := (v8 + (-1))) hx hb hl (k := 6) rfl (by rfl) (by decide) rfl dX3_lie_44 (fun ls hl => ?_)
        refine lv_goto (tgt := 14) hx hb dX3_lie_47 (by decide) ?_
        exact ih _ _ _ _ _ _ _ _ _ h _ _ _ _ _ hS (gls_sub hl [1, 2, 3, 4, 5, 6, 0] rfl)
theorem sX3_lie (l : Launch) (E : g_E) (D : g_D) {t : Nat} {v1 : Int32} {v2 : Int32} {v3 : Int32} {v4 : Int32} {v5 : Int32} {v6 : Int32} {G : g_G} {q : g_G} (h : fX3_lie E t v1 v2 v3 v4 v5 v6 G = some q) : gMet l E D yX3_lie (ws_ yX3_lie cX3_lie 9 (none)) 2 87 [.inr (.inr (some t)), .inl v1, .inl v2, .inl v3, .inl v4, .inl v5, .inl v6] G none q := by
  refine gMet.of (by decide +kernel) (Nat.le_of_ble_eq_true rfl) ?_
  intro p e R s m args below meth c C hS ls hl
  have C : gC p R s m args meth c cX3_lie 9 RX3 "lie" (none) 2 87 E D := C
  obtain ⟨hx, hb, hml, hown, hts, hKn, hRc, hRs, hc1, hc2, hRf, hRl, hr, hlk, hnm⟩ := id C
  have hl : gls ls 9 [(0, .inr (.inr (some t))), (1, .inl v1), (2, .inl v2), (3, .inl v3), (4, .inl v4), (5, .inl v5), (6, .inl v6)] := hl
  generalize s.heap = H at hS ⊢
  unfold fX3_lie at h
  refine lv_bipush (v := 8) hx hb dX3_lie_0 (by decide) ?_
  refine g_iload_n hx hb hl 1 rfl dX3_lie_2 ?_
  refine lv_imul hx hb dX3_lie_3 ?_
  refine g_iload_n hx hb hl 2 rfl dX3_lie_4 ?_
  refine lv_iadd hx hb dX3_lie_5 ?_
  refine g_istore (l1 := [(7, .inl ((8 * v1) + v2)), (0, .inr (.inr (some t))), (1, .inl v1), (2, .inl v2), (3, .inl v3), (4, .inl v4), (5, .inl v5), (6, .inl v6)]) hx hb hl (by decide) rfl dX3_lie_6 (fun ls hl => ?_)
  refine g_aload_n hx hb hl 1 rfl dX3_lie_8 ?_
  refine g_rdI hx hb hown hts hKn hS h fd_3_3_1 rfl (Or.inl (hts _ q542)) (fun _ z => z) dX3_lie_9 (fun x9 h => ?_)
  refine g_istore (l1 := [(8, .inl x9), (7, .inl ((8 * v1) + v2)), (0, .inr (.inr (some t))), (1, .inl v1), (2, .inl v2), (3, .inl v3), (4, .inl v4), (5, .inl v5), (6, .inl v6)]) hx hb hl (by decide) rfl dX3_lie_12 (fun ls hl => ?_)
  exact sX3_lie_b14 C gFU _ _ _ _ _ _ _ _ _ h _ _ _ _ _ hS (gls_sub hl [2, 5, 6, 7, 8, 1, 0] rfl)
