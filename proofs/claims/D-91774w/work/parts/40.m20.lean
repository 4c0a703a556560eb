set_option maxRecDepth 100000
/-- SendHallLaw.count(LSendHall;I[J)I -/
def fX0_count (E : g_E) (v0 : Option Nat) (v1 : Int32) (v2 : Option Nat) (G : g_G) : Option ((Int32 × g_G) ⊕ gX) :=
  (gchk G 1 v0).bind fun b4 =>
  gcat (fX1_count E b4 v1 G) (fun z4 =>
    (gsaL E z4.2 v2 0 (Int32.toInt64 z4.1)).bind fun G8 =>
    some (.inl (0, G8)))
  (fun y => if y.1 = 22 then (
    some (.inl (1, y.2.2))) else none)
theorem sX0_count (l : Launch) (E : g_E) (D : g_D) (hlT : l.stackTraces = false) {v0 : Option Nat} {v1 : Int32} {v2 : Option Nat} {G : g_G} {q : (Int32 × g_G) ⊕ gX} (h : fX0_count E v0 v1 v2 G = some q) : gMetX l E D yX0_count (wsW_ yX0_count cX0_count 4 (some .int) [(0, 9, 12, 18)]) 10 161 [.inr (.inr v0), .inl v1, .inr (.inr v2)] G gokI q := by
  refine gMetX.ofH (by decide +kernel) (Nat.le_of_ble_eq_true rfl) ?_
  intro p e R s m args below meth c C htab hS ls hl
  have C : gC p R s m args meth c cX0_count 4 RX0 "count" (some .int) 10 161 E D := C
  obtain ⟨hx, hb, hml, hown, hts, hKn, hRc, hRs, hc1, hc2, hRf, hRl, hr, hlk, hnm⟩ := id C
  have hl : gls ls 4 [(0, .inr (.inr v0)), (1, .inl v1), (2, .inr (.inr v2))] := hl
  generalize hH0 : s.heap = H at hS ⊢
  unfold fX0_count at h
  refine g_aload_n hx hb hl 2 rfl dX0_count_0 ?_
  refine lv_iconst (v := 0) hx hb dX0_count_1 (by decide) ?_
  refine g_aload_n hx hb hl 0 rfl dX0_count_2 ?_
  refine g_iload_n hx hb hl 1 rfl dX0_count_3 ?_
  obtain ⟨b4, hb4, h⟩ := g_bnd h
  obtain ⟨hr4, hk4⟩ := g_chk hb4
  obtain ⟨o4, h4, ha4, hx4⟩ := g_catE h
  refine g_callVt (n := 1) (b := b4) (av := [.inl v1]) (rs := [.inl 0, .inr (.inr v2)]) hx hb hml hown hts hKn hRc hRs hS hl (sX1_count l E D hlT h4) (lw_V q1717 q1718 q1719 q113 q1720) ⟨rfl, by decide, by decide, by decide +kernel⟩ ⟨by rw [hRf]; exact Nat.le_of_ble_eq_true rfl, by rw [hRl]; exact Nat.le_of_ble_eq_true rfl⟩ (g_recv hKn hS hk4 (by decide) (by decide)) rfl (by rw [hr4]; rfl) (Nat.le_of_ble_eq_true rfl) dX0_count_4 (fun z4 e4 H locs cells slots hS => ?_) (fun k4 a4 G4 e4 n1 n2 nk nB H locs cells slots hS => ?_)
  · have h := ha4 _ e4
    refine lv_i2l (v := (Int32.toInt64 z4.1)) hx hb dX0_count_7 rfl ?_
    refine g_lastoreG hx hb hKn hS h dX0_count_8 (fun G8 h H locs hS => ?_)
    refine lv_goto (tgt := 15) hx hb dX0_count_9 (by decide) ?_
    refine lv_iconst (v := 0) hx hb dX0_count_15 (by decide) ?_
    exact g_retX (g_iretG hx hb hr hlk hKn hRc hRs hS (q := (0, G8)) rfl dX0_count_16) h rfl
  · have h := hx4 _ e4
    by_cases hz4 : k4 = 22
    · subst hz4
      have h := g_ift rfl h
      refine g_catchX (hq := (0, 9, 12, 18)) hown hKn hS (by decide) (by decide) nB nk htab (by decide) (by decide) (hts _ q1716) q1726 ?_
      have y_1 : ∃ y : gX, y = (22, a4, G4) := ⟨_, rfl⟩
      refine g_astore_n (l1 := [(3, .inr (.inr (some a4))), (0, .inr (.inr v0)), (1, .inl v1), (2, .inr (.inr v2))]) hx hb hl (by decide) rfl dX0_count_12 (fun ls hl => ?_)
      refine lv_iconst (v := 1) hx hb dX0_count_13 (by decide) ?_
      exact g_retX (g_iretG hx hb hr hlk hKn hRc hRs hS (q := (1, G4)) rfl dX0_count_14) h rfl
    · exact g_no (g_iff hz4 h)
/-- SendHallLaw.left(LSendHall;I[J)I -/
def fX0_left_b15 (E : g_E) (s0 : Option Nat) (s1 : Int32) (s2 : Int64) (G : g_G) : Option ((Int32 × g_G) ⊕ gX) :=
  (gsaL E G s0 s1 s2).bind fun G15 =>
  some (.inl (0, G15))
def fX0_left (E : g_E) (v0 : Option Nat) (v1 : Int32) (v2 : Option Nat) (G : g_G) : Option ((Int32 × g_G) ⊕ gX) :=
  (gchk G 1 v0).bind fun b4 =>
  gcat (fX1_left E b4 v1 G) (fun z4 =>
    if z4.1 = 0 then (
      fX0_left_b15 E v2 0 0 z4.2)
    else (
      fX0_left_b15 E v2 0 1 z4.2))
  (fun y => if y.1 = 22 then (
    some (.inl (1, y.2.2))) else none)
theorem sX0_left_b15 {p : Program} {l : Launch} {e : Env} {R : Room} {s : State} {m : MethodId} {args : Array Value} {below : List Frame} {meth : Method} {c : Code} {E : g_E} {D : g_D} (C : gC p R s m args meth c cX0_left 4 RX0 "left" (some .int) 10 161 E D) (hlT : l.stackTraces = false) (htab : c.exceptionTable.toList = tableOf [(0, 16, 19, 18)]) : ∀ (s0 : Option Nat) (s1 : Int32) (s2 : Int64) (G : g_G) (q : (Int32 × g_G) ⊕ gX), fX0_left_b15 E s0 s1 s2 G = some q → ∀ (H : Heap) (locs : List Loc) (cells slots : Nat) (ls : Array Slot), gSt E D G H locs → gls ls 4 [] → gTX p l e R s m args below meth c E D H locs cells slots gokI q (F0 m 15 ls [.long s2, .int s1, va_rf s0]) := by
  obtain ⟨hx, hb, hml, hown, hts, hKn, hRc, hRs, hc1, hc2, hRf, hRl, hr, hlk, hnm⟩ := id C
  intro s0 s1 s2 G q h H locs cells slots ls hS hl
  unfold fX0_left_b15 at h
  refine g_lastoreG hx hb hKn hS h dX0_left_15 (fun G15 h H locs hS => ?_)
  refine lv_goto (tgt := 22) hx hb dX0_left_16 (by decide) ?_
  refine lv_iconst (v := 0) hx hb dX0_left_22 (by decide) ?_
  exact g_retX (g_iretG hx hb hr hlk hKn hRc hRs hS (q := (0, G15)) rfl dX0_left_23) h rfl
theorem sX0_left (l : Launch) (E : g_E) (D : g_D) (hlT : l.stackTraces = false) {v0 : Option Nat} {v1 : Int32} {v2 : Option Nat} {G : g_G} {q : (Int32 × g_G) ⊕ gX} (h : fX0_left E v0 v1 v2 G = some q) : gMetX l E D yX0_left (wsW_ yX0_left cX0_left 4 (some .int) [(0, 16, 19, 18)]) 10 161 [.inr (.inr v0), .inl v1, .inr (.inr v2)] G gokI q := by
  refine gMetX.ofH (by decide +kernel) (Nat.le_of_ble_eq_true rfl) ?_
  intro p e R s m args below meth c C htab hS ls hl
  have C : gC p R s m args meth c cX0_left 4 RX0 "left" (some .int) 10 161 E D := C
  obtain ⟨hx, hb, hml, hown, hts, hKn, hRc, hRs, hc1, hc2, hRf, hRl, hr, hlk, hnm⟩ := id C
  have hl : gls ls 4 [(0, .inr (.inr v0)), (1, .inl v1), (2, .inr (.inr v2))] := hl
  generalize hH0 : s.heap = H at hS ⊢
  unfold fX0_left at h
  refine g_aload_n hx hb hl 2 rfl dX0_left_0 ?_
  refine lv_iconst (v := 0) hx hb dX0_left_1 (by decide) ?_
  refine g_aload_n hx hb hl 0 rfl dX0_left_2 ?_
  refine g_iload_n hx hb hl 1 rfl dX0_left_3 ?_
  obtain ⟨b4, hb4, h⟩ := g_bnd h
  obtain ⟨hr4, hk4⟩ := g_chk hb4
  obtain ⟨o4, h4, ha4, hx4⟩ := g_catE h
  refine g_callVt (n := 1) (b := b4) (av := [.inl v1]) (rs := [.inl 0, .inr (.inr v2)]) hx hb hml hown hts hKn hRc hRs hS hl (sX1_left l E D hlT h4) (lw_V q1774 q1775 q1776 q113 q1777) ⟨rfl, by decide, by decide, by decide +kernel⟩ ⟨by rw [hRf]; exact Nat.le_of_ble_eq_true rfl, by rw [hRl]; exact Nat.le_of_ble_eq_true rfl⟩ (g_recv hKn hS hk4 (by decide) (by decide)) rfl (by rw [hr4]; rfl) (Nat.le_of_ble_eq_true rfl) dX0_left_4 (fun z4 e4 H locs cells slots hS => ?_) (fun k4 a4 G4 e4 n1 n2 nk nB H locs cells slots hS => ?_)
  · have h := ha4 _ e4
    refine lv_if_eq (tgt := 14) hx hb dX0_left_7 (by decide) (fun c_7 => ?_) (fun c_7 => ?_)
    · have h := g_ift c_7 h
      refine lv_lconst (v := 0) hx hb dX0_left_14 (by decide) ?_
      exact sX0_left_b15 C hlT htab _ _ _ _ _ h _ _ _ _ _ hS (gls_sub hl [] rfl)
    · have h := g_iff c_7 h
      refine lv_lconst (v := 1) hx hb dX0_left_10 (by decide) ?_
      refine lv_goto (tgt := 15) hx hb dX0_left_11 (by decide) ?_
      exact sX0_left_b15 C hlT htab _ _ _ _ _ h _ _ _ _ _ hS (gls_sub hl [] rfl)
  · have h := hx4 _ e4
    by_cases hz4 : k4 = 22
    · subst hz4
      have h := g_ift rfl h
      refine g_catchX (hq := (0, 16, 19, 18)) hown hKn hS (by decide) (by decide) nB nk htab (by decide) (by decide) (hts _ q1716) q1726 ?_
      have y_1 : ∃ y : gX, y = (22, a4, G4) := ⟨_, rfl⟩
      refine g_astore_n (l1 := [(3, .inr (.inr (some a4))), (0, .inr (.inr v0)), (1, .inl v1), (2, .inr (.inr v2))]) hx hb hl (by decide) rfl dX0_left_19 (fun ls hl => ?_)
      refine lv_iconst (v := 1) hx hb dX0_left_20 (by decide) ?_
      exact g_retX (g_iretG hx hb hr hlk hKn hRc hRs hS (q := (1, G4)) rfl dX0_left_21) h rfl
    · exact g_no (g_iff hz4 h)
/-- SendHallLaw.ring(LSendHall;I[J)I -/
def fX0_ring (E : g_E) (v0 : Option Nat) (v1 : Int32) (v2 : Option Nat) (G : g_G) : Option ((Int32 × g_G) ⊕ gX) :=
  (gchk G 1 v0).bind fun b4 =>
  gcat (fX1_ring E b4 v1 G) (fun z4 =>
    (gsaL E z4.2 v2 0 (Int32.toInt64 z4.1)).bind fun G8 =>
    some (.inl (0, G8)))
  (fun y => if y.1 = 22 then (
    some (.inl (1, y.2.2))) else none)
theorem sX0_ring (l : Launch) (E : g_E) (D : g_D) (hlT : l.stackTraces = false) {v0 : Option Nat} {v1 : Int32} {v2 : Option Nat} {G : g_G} {q : (Int32 × g_G) ⊕ gX} (h : fX0_ring E v0 v1 v2 G = some q) : gMetX l E D yX0_ring (wsW_ yX0_ring cX0_ring 4 (some .int) [(0, 9, 12, 18)]) 10 161 [.inr (.inr v0), .inl v1, .inr (.inr v2)] G gokI q := by
  refine gMetX.ofH (by decide +kernel) (Nat.le_of_ble_eq_true rfl) ?_
  intro p e R s m args below meth c C htab hS ls hl
  have C : gC p R s m args meth c cX0_ring 4 RX0 "ring" (some .int) 10 161 E D := C
  obtain ⟨hx, hb, hml, hown, hts, hKn, hRc, hRs, hc1, hc2, hRf, hRl, hr, hlk, hnm⟩ := id C
  have hl : gls ls 4 [(0, .inr (.inr v0)), (1, .inl v1), (2, .inr (.inr v2))] := hl
  generalize hH0 : s.heap = H at hS ⊢
  unfold fX0_ring at h
  refine g_aload_n hx hb hl 2 rfl dX0_ring_0 ?_
  refine lv_iconst (v := 0) hx hb dX0_ring_1 (by decide) ?_
  refine g_aload_n hx hb hl 0 rfl dX0_ring_2 ?_
  refine g_iload_n hx hb hl 1 rfl dX0_ring_3 ?_
  obtain ⟨b4, hb4, h⟩ := g_bnd h
  obtain ⟨hr4, hk4⟩ := g_chk hb4
  obtain ⟨o4, h4, ha4, hx4⟩ := g_catE h
  refine g_callVt (n := 1) (b := b4) (av := [.inl v1]) (rs := [.inl 0, .inr (.inr v2)]) hx hb hml hown hts hKn hRc hRs hS hl (sX1_ring l E D hlT h4) (lw_V q1820 q1821 q1822 q113 q1823) ⟨rfl, by decide, by decide, by decide +kernel⟩ ⟨by rw [hRf]; exact Nat.le_of_ble_eq_true rfl, by rw [hRl]; exact Nat.le_of_ble_eq_true rfl⟩ (g_recv hKn hS hk4 (by decide) (by decide)) rfl (by rw [hr4]; rfl) (Nat.le_of_ble_eq_true rfl) dX0_ring_4 (fun z4 e4 H locs cells slots hS => ?_) (fun k4 a4 G4 e4 n1 n2 nk nB H locs cells slots hS => ?_)
  · have h := ha4 _ e4
    refine lv_i2l (v := (Int32.toInt64 z4.1)) hx hb dX0_ring_7 rfl ?_
    refine g_lastoreG hx hb hKn hS h dX0_ring_8 (fun G8 h H locs hS => ?_)
    refine lv_goto (tgt := 15) hx hb dX0_ring_9 (by decide) ?_
    refine lv_iconst (v := 0) hx hb dX0_ring_15 (by decide) ?_
    exact g_retX (g_iretG hx hb hr hlk hKn hRc hRs hS (q := (0, G8)) rfl dX0_ring_16) h rfl
  · have h := hx4 _ e4
    by_cases hz4 : k4 = 22
    · subst hz4
      have h := g_ift rfl h
      refine g_catchX (hq := (0, 9, 12, 18)) hown hKn hS (by decide) (by decide) nB nk htab (by decide) (by decide) (hts _ q1716) q1726 ?_
      have y_1 : ∃ y : gX, y = (22, a4, G4) := ⟨_, rfl⟩
      refine g_astore_n (l1 := [(3, .inr (.inr (some a4))), (0, .inr (.inr v0)), (1, .inl v1), (2, .inr (.inr v2))]) hx hb hl (by decide) rfl dX0_ring_12 (fun ls hl => ?_)
      refine lv_iconst (v := 1) hx hb dX0_ring_13 (by decide) ?_
      exact g_retX (g_iretG hx hb hr hlk hKn hRc hRs hS (q := (1, G4)) rfl dX0_ring_14) h rfl
    · exact g_no (g_iff hz4 h)
/-- SendHallLaw.step(LSendHall;I[J)I -/
def fX0_step (E : g_E) (v0 : Option Nat) (v1 : Int32) (v2 : Option Nat) (G : g_G) : Option ((Int32 × g_G) ⊕ gX) :=
  (gchk G 1 v0).bind fun b4 =>
  gcat (fX1_step E b4 v1 G) (fun z4 =>
    (gsaL E z4.2 v2 0 (Int32.toInt64 z4.1)).bind fun G8 =>
    some (.inl (0, G8)))
  (fun y => if y.1 = 22 then (
    some (.inl (1, y.2.2))) else none)
theorem sX0_step (l : Launch) (E : g_E) (D : g_D) (hlT : l.stackTraces = false) {v0 : Option Nat} {v1 : Int32} {v2 : Option Nat} {G : g_G} {q : (Int32 × g_G) ⊕ gX} (h : fX0_step E v0 v1 v2 G = some q) : gMetX l E D yX0_step (wsW_ yX0_step cX0_step 4 (some .int) [(0, 9, 12, 18)]) 10 161 [.inr (.inr v0), .inl v1, .inr (.inr v2)] G gokI q := by
  refine gMetX.ofH (by decide +kernel) (Nat.le_of_ble_eq_true rfl) ?_
  intro p e R s m args below meth c C htab hS ls hl
  have C : gC p R s m args meth c cX0_step 4 RX0 "step" (some .int) 10 161 E D := C
  obtain ⟨hx, hb, hml, hown, hts, hKn, hRc, hRs, hc1, hc2, hRf, hRl, hr, hlk, hnm⟩ := id C
  have hl : gls ls 4 [(0, .inr (.inr v0)), (1, .inl v1), (2, .inr (.inr v2))] := hl
  generalize hH0 : s.heap = H at hS ⊢
  unfold fX0_step at h
  refine g_aload_n hx hb hl 2 rfl dX0_step_0 ?_
  refine lv_iconst (v := 0) hx hb dX0_step_1 (by decide) ?_
  refine g_aload_n hx hb hl 0 rfl dX0_step_2 ?_
  refine g_iload_n hx hb hl 1 rfl dX0_step_3 ?_
  obtain ⟨b4, hb4, h⟩ := g_bnd h
  obtain ⟨hr4, hk4⟩ := g_chk hb4
  obtain ⟨o4, h4, ha4, hx4⟩ := g_catE h
  refine g_callVt (n := 1) (b := b4) (av := [.inl v1]) (rs := [.inl 0, .inr (.inr v2)]) hx hb hml hown hts hKn hRc hRs hS hl (sX1_step l E D hlT h4) (lw_V q1742 q1743 q1744 q113 q1745) ⟨rfl, by decide, by decide, by decide +kernel⟩ ⟨by rw [hRf]; exact Nat.le_of_ble_eq_true rfl, by rw [hRl]; exact Nat.le_of_ble_eq_true rfl⟩ (g_recv hKn hS hk4 (by decide) (by decide)) rfl (by rw [hr4]; rfl) (Nat.le_of_ble_eq_true rfl) dX0_step_4 (fun z4 e4 H locs cells slots hS => ?_) (fun k4 a4 G4 e4 n1 n2 nk nB H locs cells slots hS => ?_)
  · have h := ha4 _ e4
    refine lv_i2l (v := (Int32.toInt64 z4.1)) hx hb dX0_step_7 rfl ?_
    refine g_lastoreG hx hb hKn hS h dX0_step_8 (fun G8 h H locs hS => ?_)
    refine lv_goto (tgt := 15) hx hb dX0_step_9 (by decide) ?_
    refine lv_iconst (v := 0) hx hb dX0_step_15 (by decide) ?_
    exact g_retX (g_iretG hx hb hr hlk hKn hRc hRs hS (q := (0, G8)) rfl dX0_step_16) h rfl
  · have h := hx4 _ e4
    by_cases hz4 : k4 = 22
    · subst hz4
      have h := g_ift rfl h
      refine g_catchX (hq := (0, 9, 12, 18)) hown hKn hS (by decide) (by decide) nB nk htab (by decide) (by decide) (hts _ q1716) q1726 ?_
      have y_1 : ∃ y : gX, y = (22, a4, G4) := ⟨_, rfl⟩
      refine g_astore_n (l1 := [(3, .inr (.inr (some a4))), (0, .inr (.inr v0)), (1, .inl v1), (2, .inr (.inr v2))]) hx hb hl (by decide) rfl dX0_step_12 (fun ls hl => ?_)
      refine lv_iconst (v := 1) hx hb dX0_step_13 (by decide) ?_
      exact g_retX (g_iretG hx hb hr hlk hKn hRc hRs hS (q := (1, G4)) rfl dX0_step_14) h rfl
    · exact g_no (g_iff hz4 h)
/-- SendHall$Wait.comes(LSendHall$Life;I)LSendHall$Step; -/
def fX13_comes_b31 (E : g_E) (t : Nat) (v1 : Option Nat) (v2 : Int32) (s0 : Option Nat) (s1 : Int32) (s2 : Int32) (G : g_G) : Option (Option Nat × g_G) :=
  (gsaZ E G s0 s1 s2).bind fun G31 =>
  (gchk G31 16 (some t)).bind fun b35 =>
  (fX7_comes E b35 v1 v2 G31).bind fun z35 =>
  some (z35.1, z35.2)
def fX13_comes_b30 (E : g_E) (t : Nat) (v1 : Option Nat) (v2 : Int32) (s0 : Option Nat) (s1 : Int32) (G : g_G) : Option (Option Nat × g_G) :=
  fX13_comes_b31 E t v1 v2 s0 s1 0 G
def fX13_comes (E : g_E) (t : Nat) (v1 : Option Nat) (v2 : Int32) (G : g_G) : Option (Option Nat × g_G) :=
  (grR G 3 3 v1 4).bind fun x1 =>
  (grR G 16 16 (some t) 4).bind fun x6 =>
  if x6 = none then (
    fX13_comes_b30 E t v1 v2 x1 v2 G)
  else (
    (gchk G 16 (some t)).bind fun b17 =>
    (fX13_of E b17 v1 v2 G).bind fun z17 =>
    (fX7_isOther E v1 v2 z17.1 z17.2).bind fun z20 =>
    if ¬ z20.1 = 0 then (
      fX13_comes_b30 E t v1 v2 x1 v2 z20.2)
    else (
      fX13_comes_b31 E t v1 v2 x1 v2 1 z20.2))
theorem sX13_comes_b31 {p : Program} {l : Launch} {e : Env} {R : Room} {s : State} {m : MethodId} {args : Array Value} {below : List Frame} {meth : Method} {c : Code} {E : g_E} {D : g_D} (C : gC p R s m args meth c cX13_comes 3 RX13 "comes" (some (.object "SendHall$Step")) 219 7326 E D) : ∀ (t : Nat) (v1 : Option Nat) (v2 : Int32) (s0 : Option Nat) (s1 : Int32) (s2 : Int32) (G : g_G) (q : Option Nat × g_G), fX13_comes_b31 E t v1 v2 s0 s1 s2 G = some q → ∀ (H : Heap) (locs : List Loc) (cells slots : Nat) (ls : Array Slot), gSt E D G H locs → gls ls 3 [(0, .inr (.inr (some t))), (1, .inr (.inr v1)), (2, .inl v2)] → gT p l e R s m args below meth c E D H locs cells slots (some (va_rf q.1)) q.2 (F0 m 31 ls [.int s2, .int s1, va_rf s0]) := by
  obtain ⟨hx, hb, hml, hown, hts, hKn, hRc, hRs, hc1, hc2, hRf, hRl, hr, hlk, hnm⟩ := id C
  intro t v1 v2 s0 s1 s2 G q h H locs cells slots ls hS hl
  unfold fX13_comes_b31 at h
  refine g_zastoreG hx hb hKn hS h dX13_comes_31 (fun G31 h H locs hS => ?_)
  refine g_aload_n hx hb hl 0 rfl dX13_comes_32 ?_
  refine g_aload_n hx hb hl 1 rfl dX13_comes_33 ?_
  refine g_iload_n hx hb hl 2 rfl dX13_comes_34 ?_
  obtain ⟨b35, hb35, h⟩ := g_bnd h
  obtain ⟨hr35, hk35⟩ := g_chk hb35
  obtain ⟨z35, h35, h⟩ := g_bnd h
  refine g_callSX (n := 2) (b := b35) (av := [.inr (.inr v1), .inl v2]) (rs := []) (up := "SendHall$Talk") hx hb hml hown hts hKn hRc hRs hS hl (C := "SendHall$Wait") (hKn.obj (k := 16) (by decide) (by decide)).2 (sX7_comes l E D h35) (lw_meth q812) (hts _ q141) (hts _ q834) (hts _ q808) (hts _ q835) (hts _ q811) (hts _ q737) ⟨by decide, by decide +kernel⟩ ⟨by rw [hRf]; exact Nat.le_of_ble_eq_true rfl, by rw [hRl]; exact Nat.le_of_ble_eq_true rfl⟩ (g_recv hKn hS hk35 (by decide) (by decide)) rfl (by rw [hr35]; rfl) (Nat.le_of_ble_eq_true rfl) dX13_comes_35 (fun H locs cells slots hS => ?_)
  exact g_aretG hx hb hr (by first | exact Or.inl ⟨_, rfl⟩ | exact Or.inr ⟨_, rfl⟩) hlk hKn hRc hRs hS h dX13_comes_38
theorem sX13_comes_b30 {p : Program} {l : Launch} {e : Env} {R : Room} {s : State} {m : MethodId} {args : Array Value} {below : List Frame} {meth : Method} {c : Code} {E : g_E} {D : g_D} (C : gC p R s m args meth c cX13_comes 3 RX13 "comes" (some (.object "SendHall$Step")) 219 7326 E D) : ∀ (t : Nat) (v1 : Option Nat) (v2 : Int32) (s0 : Option Nat) (s1 : Int32) (G : g_G) (q : Option Nat × g_G), fX13_comes_b30 E t v1 v2 s0 s1 G = some q → ∀ (H : Heap) (locs : List Loc) (cells slots : Nat) (ls : Array Slot), gSt E D G H locs → gls ls 3 [(0, .inr (.inr (some t))), (1, .inr (.inr v1)), (2, .inl v2)] → gT p l e R s m args below meth c E D H locs cells slots (some (va_rf q.1)) q.2 (F0 m 30 ls [.int s1, va_rf s0]) := by
  obtain ⟨hx, hb, hml, hown, hts, hKn, hRc, hRs, hc1, hc2, hRf, hRl, hr, hlk, hnm⟩ := id C
  intro t v1 v2 s0 s1 G q h H locs cells slots ls hS hl
  unfold fX13_comes_b30 at h
  refine lv_iconst (v := 0) hx hb dX13_comes_30 (by decide) ?_
  exact sX13_comes_b31 C _ _ _ _ _ _ _ _ h _ _ _ _ _ hS (gls_sub hl [0, 1, 2] rfl)
theorem sX13_comes (l : Launch) (E : g_E) (D : g_D) {t : Nat} {v1 : Option Nat} {v2 : Int32} {G : g_G} {q : Option Nat × g_G} (h : fX13_comes E t v1 v2 G = some q) : gMet l E D yX13_comes (ws_ yX13_comes cX13_comes 3 (some (.object "SendHall$Step"))) 219 7326 [.inr (.inr (some t)), .inr (.inr v1), .inl v2] G (some (va_rf q.1)) q.2 := by
  refine gMet.of (by decide +kernel) (Nat.le_of_ble_eq_true rfl) ?_
  intro p e R s m args below meth c C hS ls hl
  have C : gC p R s m args meth c cX13_comes 3 RX13 "comes" (some (.object "SendHall$Step")) 219 7326 E D := C
  obtain ⟨hx, hb, hml, hown, hts, hKn, hRc, hRs, hc1, hc2, hRf, hRl, hr, hlk, hnm⟩ := id C
  have hl : gls ls 3 [(0, .inr (.inr (some t))), (1, .inr (.inr v1)), (2, .inl v2)] := hl
  generalize s.heap = H at hS ⊢
  unfold fX13_comes at h
  refine g_aload_n hx hb hl 1 rfl dX13_comes_0 ?_
  refine g_rdR hx hb hown hts hKn hS h fd_3_3_4 rfl (Or.inr ⟨_, gNest_use rfl (hKn.2.2.2.2.1 _ (gNest_in q549 rfl))⟩) (fun _ z => z) dX13_comes_1 (fun x1 h => ?_)
  refine g_iload_n hx hb hl 2 rfl dX13_comes_4 ?_
  refine g_aload_n hx hb hl 0 rfl dX13_comes_5 ?_
  refine g_rdR hx hb hown hts hKn hS h fd_16_16_4 rfl (Or.inl (hts _ q1591)) (fun _ z => z) dX13_comes_6 (fun x6 h => ?_)
  refine g_ifnull (tgt := 30) hx hb dX13_comes_9 (by decide) (fun c_9 => ?_) (fun c_9 => ?_)
  · have h := g_ift c_9 h
    exact sX13_comes_b30 C _ _ _ _ _ _ _ h _ _ _ _ _ hS (gls_sub hl [0, 1, 2] rfl)
  · have h := g_iff c_9 h
    refine g_aload_n hx hb hl 1 rfl dX13_comes_12 ?_
    refine g_iload_n hx hb hl 2 rfl dX13_comes_13 ?_
    refine g_aload_n hx hb hl 0 rfl dX13_comes_14 ?_
    refine g_aload_n hx hb hl 1 rfl dX13_comes_15 ?_
    refine g_iload_n hx hb hl 2 rfl dX13_comes_16 ?_
    obtain ⟨b17, hb17, h⟩ := g_bnd h
    obtain ⟨hr17, hk17⟩ := g_chk hb17
    obtain ⟨z17, h17, h⟩ := g_bnd h
    refine g_callV (n := 2) (b := b17) (av := [.inr (.inr v1), .inl v2]) (rs := [.inl v2, .inr (.inr v1), .inl v2, .inr (.inr x1)]) hx hb hml hown hts hKn hRc hRs hS hl (sX13_of l E D h17) (lw_V q826 q827 q828 q148 q829) ⟨rfl, by decide, by decide, by decide +kernel⟩ ⟨by rw [hRf]; exact Nat.le_of_ble_eq_true rfl, by rw [hRl]; exact Nat.le_of_ble_eq_true rfl⟩ (g_recv hKn hS hk17 (by decide) (by decide)) rfl (by rw [hr17]; rfl) (Nat.le_of_ble_eq_true rfl) dX13_comes_17 (fun H locs cells slots hS => ?_)
    obtain ⟨z20, h20, h⟩ := g_bnd h
    refine g_callSS (n := 3) (av := [.inr (.inr v1), .inl v2, .inl z17.1]) (rs := [.inl v2, .inr (.inr x1)]) (sub := "SendHall$Wait") hx hb hml hown hts hKn hRc hRs hS hl (sX7_isOther l E D h20) (lw_meth q806) (hts _ q141) (hts _ q832) (hts _ q833) (hts _ q805) ⟨by decide, by decide, by decide +kernel⟩ ⟨by rw [hRf]; exact Nat.le_of_ble_eq_true rfl, by rw [hRl]; exact Nat.le_of_ble_eq_true rfl⟩ rfl rfl (Nat.le_of_ble_eq_true rfl) dX13_comes_20 (fun H locs cells slots hS => ?_)
    refine lv_if_ne (tgt := 30) hx hb dX13_comes_23 (by decide) (fun c_23 => ?_) (fun c_23 => ?_)
    · have h := g_ift c_23 h
      exact sX13_comes_b30 C _ _ _ _ _ _ _ h _ _ _ _ _ hS (gls_sub hl [0, 1, 2] rfl)
    · have h := g_iff (fun z => z c_23) h
      refine lv_iconst (v := 1) hx hb dX13_comes_26 (by decide) ?_
      refine lv_goto (tgt := 31) hx hb dX13_comes_27 (by decide) ?_
      exact sX13_comes_b31 C _ _ _ _ _ _ _ _ h _ _ _ _ _ hS (gls_sub hl [0, 1, 2] rfl)
/-- SendHall.handsOver(LSendHall$Life;I)Z -/
def fX1_handsOver_b48 (E : g_E) (v1 : Option Nat) (v2 : Int32) (v4 : Int32) (v5 : Int32) (G : g_G) : Option (Int32 × g_G) :=
  (grR G 3 3 v1 3).bind fun x49 =>
  (gaR G 122 x49 v4).bind fun x54 =>
  (gcast G 16 16 x54).bind fun x55 =>
  (gchk G 16 x55).bind fun b66 =>
  (fX13_takes E b66 v1 v4 v2 G).bind fun z66 =>
  if z66.1 = 0 then (
    if (0 : Int32) = 0 ∨ (0 : Int32) = 1 then some (0, z66.2) else none)
  else (
    (gchk z66.2 16 x55).bind fun b77 =>
    (fX8_mark E b77 v1 v4 z66.2).bind fun z77 =>
    if ¬ z77.1 = v5 then (
      if (0 : Int32) = 0 ∨ (0 : Int32) = 1 then some (0, z77.2) else none)
    else (
      (gchk z77.2 3 v1).bind fun b91 =>
      (fX3_first E b91 v2 v4 v5 z77.2).bind fun z91 =>
      if ¬ z91.1 = (-1 : Int32) then (
        if (0 : Int32) = 0 ∨ (0 : Int32) = 1 then some (0, z91.2) else none)
      else (
        if (1 : Int32) = 0 ∨ (1 : Int32) = 1 then some (1, z91.2) else none)))
def fX1_handsOver (E : g_E) (t : Nat) (v1 : Option Nat) (v2 : Int32) (G : g_G) : Option (Int32 × g_G) :=
  (grR G 3 3 v1 3).bind fun x1 =>
  (gaR G 122 x1 v2).bind fun x5 =>
  (gcast G 15 15 x5).bind fun x6 =>
  (gchk G 15 x6).bind fun b13 =>
  (fX9_to E b13 v1 v2 G).bind fun z13 =>
  (gchk z13.2 15 x6).bind fun b21 =>
  (fX8_mark E b21 v1 v2 z13.2).bind fun z21 =>
  (gchk z21.2 3 v1).bind fun b30 =>
  (fX3_isAt E b30 z13.1 3 z21.2).bind fun z30 =>
  if ¬ z30.1 = 0 then (
    fX1_handsOver_b48 E v1 v2 z13.1 z21.1 z30.2)
  else (
    (gchk z30.2 3 v1).bind fun b40 =>
    (fX3_isAt E b40 z13.1 4 z30.2).bind fun z40 =>
    if ¬ z40.1 = 0 then (
      fX1_handsOver_b48 E v1 v2 z13.1 z21.1 z40.2)
    else (
      if (0 : Int32) = 0 ∨ (0 : Int32) = 1 then some (0, z40.2) else none))
theorem sX1_handsOver_b48 {p : Program} {l : Launch} {e : Env} {R : Room} {s : State} {m : MethodId} {args : Array Value} {below : List Frame} {meth : Method} {c : Code} {E : g_E} {D : g_D} (C : gC p R s m args meth c cX1_handsOver 7 RX1 "handsOver" (some .boolean) 219 7327 E D) : ∀ (v1 : Option Nat) (v2 : Int32) (v4 : Int32) (v5 : Int32) (G : g_G) (q : Int32 × g_G), fX1_handsOver_b48 E v1 v2 v4 v5 G = some q → ∀ (H : Heap) (locs : List Loc) (cells slots : Nat) (ls : Array Slot), gSt E D G H locs → gls ls 7 [(1, .inr (.inr v1)), (2, .inl v2), (4, .inl v4), (5, .inl v5)] → gT p l e R s m args below meth c E D H locs cells slots (some (.int q.1)) q.2 (F0 m 48 ls []) := by
  obtain ⟨hx, hb, hml, hown, hts, hKn, hRc, hRs, hc1, hc2, hRf, hRl, hr, hlk, hnm⟩ := id C
  intro v1 v2 v4 v5 G q h H locs cells slots ls hS hl
  unfold fX1_handsOver_b48 at h
  refine g_aload_n hx hb hl 0 rfl dX1_handsOver_48 ?_
  refine g_rdR hx hb hown hts hKn hS h fd_3_3_3 rfl (Or.inr ⟨_, gNest_use rfl (hKn.2.2.2.2.1 _ (gNest_in q545 rfl))⟩) (fun _ z => z) dX1_handsOver_49 (fun x49 h => ?_)
  refine g_iload hx hb hl 2 rfl dX1_handsOver_52 ?_
  refine g_aaloadG hx hb hKn hS h (by decide) dX1_handsOver_54 (fun x54 h => ?_)
  refine g_castS (k := 16) hx hb hown hKn hS h (by decide) (by decide) (hts _ q878) dX1_handsOver_55 (fun x55 h => ?_)
  refine g_astore (l1 := [(6, .inr (.inr x55)), (1, .inr (.inr v1)), (2, .inl v2), (4, .inl v4), (5, .inl v5)]) hx hb hl (by decide) rfl dX1_handsOver_58 (fun ls hl => ?_)
  refine g_aload hx hb hl 0 rfl dX1_handsOver_60 ?_
  refine g_aload_n hx hb hl 1 rfl dX1_handsOver_62 ?_
  refine g_iload hx hb hl 3 rfl dX1_handsOver_63 ?_
  refine g_iload_n hx hb hl 2 rfl dX1_handsOver_65 ?_
  obtain ⟨b66, hb66, h⟩ := g_bnd h
  obtain ⟨hr66, hk66⟩ := g_chk hb66
  obtain ⟨z66, h66, h⟩ := g_bnd h
  refine g_callV (n := 3) (b := b66) (av := [.inr (.inr v1), .inl v4, .inl v2]) (rs := []) hx hb hml hown hts hKn hRc hRs hS hl (sX13_takes l E D h66) (lw_V q879 q880 q881 q148 q882) ⟨rfl, by decide, by decide, by decide +kernel⟩ ⟨by rw [hRf]; exact Nat.le_of_ble_eq_true rfl, by rw [hRl]; exact Nat.le_of_ble_eq_true rfl⟩ (g_recv hKn hS hk66 (by decide) (by decide)) rfl (by rw [hr66]; rfl) (Nat.le_of_ble_eq_true rfl) dX1_handsOver_66 (fun H locs cells slots hS => ?_)
  refine lv_if_eq (tgt := 102) hx hb dX1_handsOver_69 (by decide) (fun c_69 => ?_) (fun c_69 => ?_)
  · have h := g_ift c_69 h
    refine lv_iconst (v := 0) hx hb dX1_handsOver_102 (by decide) ?_
    exact g_zretG hx hb hr hlk hKn hRc hRs hS h dX1_handsOver_103
  · have h := g_iff c_69 h
    refine g_aload hx hb hl 0 rfl dX1_handsOver_72 ?_
    refine g_aload_n hx hb hl 1 rfl dX1_handsOver_74 ?_
    refine g_iload hx hb hl 3 rfl dX1_handsOver_75 ?_
    obtain ⟨b77, hb77, h⟩ := g_bnd h
    obtain ⟨hr77, hk77⟩ := g_chk hb77
    obtain ⟨z77, h77, h⟩ := g_bnd h
    refine g_callU (n := 2) (b := b77) (av := [.inr (.inr v1), .inl v4]) (rs := []) hx hb hml hown hts hKn hRc hRs hS hl (C := "SendHall$Wait") (owner := "SendHall$Talk") (x := ⟨"SendHall$Wait", "mark", "(LSendHall$Life;I)I"⟩) (sX8_mark l E D h77) (va_cwU 2 hts (lw_app (lw_in _ [883, 884, 885, 870, 142] (by decide +kernel) (by decide +kernel)) (lw_meth q871)) rfl rfl rfl rfl ⟨by decide, by decide, by decide +kernel⟩ ⟨by rw [hRf]; exact Nat.le_of_ble_eq_true rfl, by rw [hRl]; exact Nat.le_of_ble_eq_true rfl⟩) (g_recv hKn hS hk77 (by decide) (by decide)) rfl (by rw [hr77]; rfl) (Nat.le_of_ble_eq_true rfl) dX1_handsOver_77 (fun H locs cells slots hS => ?_)
    refine g_iload hx hb hl 4 rfl dX1_handsOver_80 ?_
    refine lv_icmp_ne (tgt := 102) hx hb dX1_handsOver_82 (by decide) (fun c_82 => ?_) (fun c_82 => ?_)
    · have h := g_ift c_82 h
      refine lv_iconst (v := 0) hx hb dX1_handsOver_102 (by decide) ?_
      exact g_zretG hx hb hr hlk hKn hRc hRs hS h dX1_handsOver_103
    · have h := g_iff (fun z => z c_82) h
      refine g_aload_n hx hb hl 1 rfl dX1_handsOver_85 ?_
      refine g_iload_n hx hb hl 2 rfl dX1_handsOver_86 ?_
      refine g_iload hx hb hl 3 rfl dX1_handsOver_87 ?_
      refine g_iload hx hb hl 4 rfl dX1_handsOver_89 ?_
      obtain ⟨b91, hb91, h⟩ := g_bnd h
      obtain ⟨hr91, hk91⟩ := g_chk hb91
      obtain ⟨z91, h91, h⟩ := g_bnd h
      refine g_callV (n := 3) (b := b91) (av := [.inl v2, .inl v4, .inl v5]) (rs := []) hx hb hml hown hts hKn hRc hRs hS hl (sX3_first l E D h91) (lw_V q886 q887 q888 q134 q889) ⟨rfl, by decide, by decide, by decide +kernel⟩ ⟨by rw [hRf]; exact Nat.le_of_ble_eq_true rfl, by rw [hRl]; exact Nat.le_of_ble_eq_true rfl⟩ (g_recv hKn hS hk91 (by decide) (by decide)) rfl (by rw [hr91]; rfl) (Nat.le_of_ble_eq_true rfl) dX1_handsOver_91 (fun H locs cells slots hS => ?_)
      refine lv_iconst (v := (-1)) hx hb dX1_handsOver_94 (by decide) ?_
      refine lv_icmp_ne (tgt := 102) hx hb dX1_handsOver_95 (by decide) (fun c_95 => ?_) (fun c_95 => ?_)
      · have h := g_ift c_95 h
        refine lv_iconst (v := 0) hx hb dX1_handsOver_102 (by decide) ?_
        exact g_zretG hx hb hr hlk hKn hRc hRs hS h dX1_handsOver_103
      · have h := g_iff (fun z => z c_95) h
        refine lv_iconst (v := 1) hx hb dX1_handsOver_98 (by decide) ?_
        refine lv_goto (tgt := 103) hx hb dX1_handsOver_99 (by decide) ?_
        exact g_zretG hx hb hr hlk hKn hRc hRs hS h dX1_handsOver_103
theorem sX1_handsOver (l : Launch) (E : g_E) (D : g_D) {t : Nat} {v1 : Option Nat} {v2 : Int32} {G : g_G} {q : Int32 × g_G} (h : fX1_handsOver E t v1 v2 G = some q) : gMet l E D yX1_handsOver (ws_ yX1_handsOver cX1_handsOver 7 (some .boolean)) 219 7327 [.inr (.inr (some t)), .inr (.inr v1), .inl v2] G (some (.int q.1)) q.2 := by
  refine gMet.of (by decide +kernel) (Nat.le_of_ble_eq_true rfl) ?_
  intro p e R s m args below meth c C hS ls hl
  have C : gC p R s m args meth c cX1_handsOver 7 RX1 "handsOver" (some .boolean) 219 7327 E D := C
  obtain ⟨hx, hb, hml, hown, hts, hKn, hRc, hRs, hc1, hc2, hRf, hRl, hr, hlk, hnm⟩ := id C
  have hl : gls ls 7 [(0, .inr (.inr (some t))), (1, .inr (.inr v1)), (2, .inl v2)] := hl
  generalize s.heap = H at hS ⊢
  unfold fX1_handsOver at h
  refine g_aload_n hx hb hl 1 rfl dX1_handsOver_0 ?_
  refine g_rdR hx hb hown hts hKn hS h fd_3_3_3 rfl (Or.inr ⟨_, gNest_use rfl (hKn.2.2.2.2.1 _ (gNest_in q545 rfl))⟩) (fun _ z => z) dX1_handsOver_1 (fun x1 h => ?_)
  refine g_iload_n hx hb hl 2 rfl dX1_handsOver_4 ?_
  refine g_aaloadG hx hb hKn hS h (by decide) dX1_handsOver_5 (fun x5 h => ?_)
  refine g_castS (k := 15) hx hb hown hKn hS h (by decide) (by decide) (hts _ q856) dX1_handsOver_6 (fun x6 h => ?_)
  refine g_astore_n (l1 := [(3, .inr (.inr x6)), (0, .inr (.inr (some t))), (1, .inr (.inr v1)), (2, .inl v2)]) hx hb hl (by decide) rfl dX1_handsOver_9 (fun ls hl => ?_)
  refine g_aload_n hx hb hl 0 rfl dX1_handsOver_10 ?_
  refine g_aload_n hx hb hl 2 rfl dX1_handsOver_11 ?_
  refine g_iload_n hx hb hl 3 rfl dX1_handsOver_12 ?_
  obtain ⟨b13, hb13, h⟩ := g_bnd h
  obtain ⟨hr13, hk13⟩ := g_chk hb13
  obtain ⟨z13, h13, h⟩ := g_bnd h
  refine g_callV (n := 2) (b := b13) (av := [.inr (.inr v1), .inl v2]) (rs := []) hx hb hml hown hts hKn hRc hRs hS hl (sX9_to l E D h13) (lw_V q857 q798 q799 q143 q800) ⟨rfl, by decide, by decide, by decide +kernel⟩ ⟨by rw [hRf]; exact Nat.le_of_ble_eq_true rfl, by rw [hRl]; exact Nat.le_of_ble_eq_true rfl⟩ (g_recv hKn hS hk13 (by decide) (by decide)) rfl (by rw [hr13]; rfl) (Nat.le_of_ble_eq_true rfl) dX1_handsOver_13 (fun H locs cells slots hS => ?_)
  refine g_istore (l1 := [(4, .inl z13.1), (3, .inr (.inr x6)), (0, .inr (.inr (some t))), (1, .inr (.inr v1)), (2, .inl v2)]) hx hb hl (by decide) rfl dX1_handsOver_16 (fun ls hl => ?_)
  refine g_aload_n hx hb hl 1 rfl dX1_handsOver_18 ?_
  refine g_aload_n hx hb hl 3 rfl dX1_handsOver_19 ?_
  refine g_iload_n hx hb hl 4 rfl dX1_handsOver_20 ?_
  obtain ⟨b21, hb21, h⟩ := g_bnd h
  obtain ⟨hr21, hk21⟩ := g_chk hb21
  obtain ⟨z21, h21, h⟩ := g_bnd h
  refine g_callU (n := 2) (b := b21) (av := [.inr (.inr v1), .inl v2]) (rs := []) hx hb hml hown hts hKn hRc hRs hS hl (C := "SendHall$Send") (owner := "SendHall$Talk") (x := ⟨"SendHall$Send", "mark", "(LSendHall$Life;I)I"⟩) (sX8_mark l E D h21) (va_cwU 2 hts (lw_app (lw_in _ [866, 867, 869, 870, 142] (by decide +kernel) (by decide +kernel)) (lw_meth q871)) rfl rfl rfl rfl ⟨by decide, by decide, by decide +kernel⟩ ⟨by rw [hRf]; exact Nat.le_of_ble_eq_true rfl, by rw [hRl]; exact Nat.le_of_ble_eq_true rfl⟩) (g_recv hKn hS hk21 (by decide) (by decide)) rfl (by rw [hr21]; rfl) (Nat.le_of_ble_eq_true rfl) dX1_handsOver_21 (fun H locs cells slots hS => ?_)
  refine g_istore (l1 := [(5, .inl z21.1), (4, .inl z13.1), (3, .inr (.inr x6)), (0, .inr (.inr (some t))), (1, .inr (.inr v1)), (2, .inl v2)]) hx hb hl (by decide) rfl dX1_handsOver_24 (fun ls hl => ?_)
  refine g_aload_n hx hb hl 4 rfl dX1_handsOver_26 ?_
  refine g_iload hx hb hl 1 rfl dX1_handsOver_27 ?_
  refine lv_iconst (v := 3) hx hb dX1_handsOver_29 (by decide) ?_
  obtain ⟨b30, hb30, h⟩ := g_bnd h
  obtain ⟨hr30, hk30⟩ := g_chk hb30
  obtain ⟨z30, h30, h⟩ := g_bnd h
  refine g_callV (n := 2) (b := b30) (av := [.inl z13.1, .inl 3]) (rs := []) hx hb hml hown hts hKn hRc hRs hS hl (sX3_isAt l E D h30) (lw_V q874 q875 q876 q134 q877) ⟨rfl, by decide, by decide, by decide +kernel⟩ ⟨by rw [hRf]; exact Nat.le_of_ble_eq_true rfl, by rw [hRl]; exact Nat.le_of_ble_eq_true rfl⟩ (g_recv hKn hS hk30 (by decide) (by decide)) rfl (by rw [hr30]; rfl) (Nat.le_of_ble_eq_true rfl) dX1_handsOver_30 (fun H locs cells slots hS => ?_)
  refine lv_if_ne (tgt := 48) hx hb dX1_handsOver_33 (by decide) (fun c_33 => ?_) (fun c_33 => ?_)
  · have h := g_ift c_33 h
    exact sX1_handsOver_b48 C _ _ _ _ _ _ h _ _ _ _ _ hS (gls_sub hl [4, 5, 1, 0] rfl)
  · have h := g_iff (fun z => z c_33) h
    refine g_aload_n hx hb hl 4 rfl dX1_handsOver_36 ?_
    refine g_iload hx hb hl 1 rfl dX1_handsOver_37 ?_
    refine lv_iconst (v := 4) hx hb dX1_handsOver_39 (by decide) ?_
    obtain ⟨b40, hb40, h⟩ := g_bnd h
    obtain ⟨hr40, hk40⟩ := g_chk hb40
    obtain ⟨z40, h40, h⟩ := g_bnd h
    refine g_callV (n := 2) (b := b40) (av := [.inl z13.1, .inl 4]) (rs := []) hx hb hml hown hts hKn hRc hRs hS hl (sX3_isAt l E D h40) (lw_V q874 q875 q876 q134 q877) ⟨rfl, by decide, by decide, by decide +kernel⟩ ⟨by rw [hRf]; exact Nat.le_of_ble_eq_true rfl, by rw [hRl]; exact Nat.le_of_ble_eq_true rfl⟩ (g_recv hKn hS hk40 (by decide) (by decide)) rfl (by rw [hr40]; rfl) (Nat.le_of_ble_eq_true rfl) dX1_handsOver_40 (fun H locs cells slots hS => ?_)
    refine lv_if_ne (tgt := 48) hx hb dX1_handsOver_43 (by decide) (fun c_43 => ?_) (fun c_43 => ?_)
    · have h := g_ift c_43 h
      exact sX1_handsOver_b48 C _ _ _ _ _ _ h _ _ _ _ _ hS (gls_sub hl [4, 5, 1, 0] rfl)
    · have h := g_iff (fun z => z c_43) h
      refine lv_iconst (v := 0) hx hb dX1_handsOver_46 (by decide) ?_
      exact g_zretG hx hb hr hlk hKn hRc hRs hS h dX1_handsOver_47
/-- SendHall.mayLie(LSendHall$Life;II)Z -/
def fX1_mayLie_b44 (E : g_E) (G : g_G) : Option (Int32 × g_G) :=
  if (1 : Int32) = 0 ∨ (1 : Int32) = 1 then some (1, G) else none
def fX1_mayLie (E : g_E) (t : Nat) (v1 : Option Nat) (v2 : Int32) (v3 : Int32) (G : g_G) : Option (Int32 × g_G) :=
  (grR G 3 3 v1 3).bind fun x1 =>
  (gaR G 122 x1 v2).bind fun x5 =>
  (gcast G 15 15 x5).bind fun x6 =>
  (grI G 15 15 x6 0).bind fun x13 =>
  if x13 = (2 : Int32) then (
    fX1_mayLie_b44 E G)
  else (
    (grI G 15 15 x6 0).bind fun x22 =>
    if ¬ x22 = 0 then (
      if (0 : Int32) = 0 ∨ (0 : Int32) = 1 then some (0, G) else none)
    else (
      (gchk G 15 x6).bind fun b34 =>
      (fX9_to E b34 v1 v2 G).bind fun z34 =>
      (gchk z34.2 3 v1).bind fun b37 =>
      (fX3_sent E b37 v2 z34.1 z34.2).bind fun z37 =>
      if v3 ≤ z37.1 then (
        if (0 : Int32) = 0 ∨ (0 : Int32) = 1 then some (0, z37.2) else none)
      else (
        fX1_mayLie_b44 E z37.2)))
theorem sX1_mayLie_b44 {p : Program} {l : Launch} {e : Env} {R : Room} {s : State} {m : MethodId} {args : Array Value} {below : List Frame} {meth : Method} {c : Code} {E : g_E} {D : g_D} (C : gC p R s m args meth c cX1_mayLie 5 RX1 "mayLie" (some .boolean) 219 7326 E D) : ∀ (G : g_G) (q : Int32 × g_G), fX1_mayLie_b44 E G = some q → ∀ (H : Heap) (locs : List Loc) (cells slots : Nat) (ls : Array Slot), gSt E D G H locs → gls ls 5 [] → gT p l e R s m args below meth c E D H locs cells slots (some (.int q.1)) q.2 (F0 m 44 ls []) := by
  obtain ⟨hx, hb, hml, hown, hts, hKn, hRc, hRs, hc1, hc2, hRf, hRl, hr, hlk, hnm⟩ := id C
  intro G q h H locs cells slots ls hS hl
  unfold fX1_mayLie_b44 at h
  refine lv_iconst (v := 1) hx hb dX1_mayLie_44 (by decide) ?_
  refine lv_goto (tgt := 49) hx hb dX1_mayLie_45 (by decide) ?_
  exact g_zretG hx hb hr hlk hKn hRc hRs hS h dX1_mayLie_49
theorem sX1_mayLie (l : Launch) (E : g_E) (D : g_D) {t : Nat} {v1 : Option Nat} {v2 : Int32} {v3 : Int32} {G : g_G} {q : Int32 × g_G} (h : fX1_mayLie E t v1 v2 v3 G = some q) : gMet l E D yX1_mayLie (ws_ yX1_mayLie cX1_mayLie 5 (some .boolean)) 219 7326 [.inr (.inr (some t)), .inr (.inr v1), .inl v2, .inl v3] G (some (.int q.1)) q.2 := by
  refine gMet.of (by decide +kernel) (Nat.le_of_ble_eq_true rfl) ?_
  intro p e R s m args below meth c C hS ls hl
  have C : gC p R s m args meth c cX1_mayLie 5 RX1 "mayLie" (some .boolean) 219 7326 E D := C
  obtain ⟨hx, hb, hml, hown, hts, hKn, hRc, hRs, hc1, hc2, hRf, hRl, hr, hlk, hnm⟩ := id C
  have hl : gls ls 5 [(0, .inr (.inr (some t))), (1, .inr (.inr v1)), (2, .inl v2), (3, .inl v3)] := hl
  generalize s.heap = H at hS ⊢
  unfold fX1_mayLie at h
  refine g_aload_n hx hb hl 1 rfl dX1_mayLie_0 ?_
  refine g_rdR hx hb hown hts hKn hS h fd_3_3_3 rfl (Or.inr ⟨_, gNest_use rfl (hKn.2.2.2.2.1 _ (gNest_in q545 rfl))⟩) (fun _ z => z) dX1_mayLie_1 (fun x1 h => ?_)
  refine g_iload_n hx hb hl 2 rfl dX1_mayLie_4 ?_
  refine g_aaloadG hx hb hKn hS h (by decide) dX1_mayLie_5 (fun x5 h => ?_)
  refine g_castS (k := 15) hx hb hown hKn hS h (by decide) (by decide) (hts _ q856) dX1_mayLie_6 (fun x6 h => ?_)
  refine g_astore (l1 := [(4, .inr (.inr x6)), (0, .inr (.inr (some t))), (1, .inr (.inr v1)), (2, .inl v2), (3, .inl v3)]) hx hb hl (by decide) rfl dX1_mayLie_9 (fun ls hl => ?_)
  refine g_aload hx hb hl 0 rfl dX1_mayLie_11 ?_
  refine g_rdI hx hb hown hts hKn hS h fd_15_15_0 rfl (Or.inl (hts _ q1419)) (u_same (hts _ q1420)) dX1_mayLie_13 (fun x13 h => ?_)
  refine lv_iconst (v := 2) hx hb dX1_mayLie_16 (by decide) ?_
  refine lv_icmp_eq (tgt := 44) hx hb dX1_mayLie_17 (by decide) (fun c_17 => ?_) (fun c_17 => ?_)
  · have h := g_ift c_17 h
    exact sX1_mayLie_b44 C _ _ h _ _ _ _ _ hS (gls_sub hl [] rfl)
  · have h := g_iff c_17 h
    refine g_aload hx hb hl 0 rfl dX1_mayLie_20 ?_
    refine g_rdI hx hb hown hts hKn hS h fd_15_15_0 rfl (Or.inl (hts _ q1419)) (u_same (hts _ q1420)) dX1_mayLie_22 (fun x22 h => ?_)
    refine lv_if_ne (tgt := 48) hx hb dX1_mayLie_25 (by decide) (fun c_25 => ?_) (fun c_25 => ?_)
    · have h := g_ift c_25 h
      refine lv_iconst (v := 0) hx hb dX1_mayLie_48 (by decide) ?_
      exact g_zretG hx hb hr hlk hKn hRc hRs hS h dX1_mayLie_49
    · have h := g_iff (fun z => z c_25) h
      refine g_aload_n hx hb hl 2 rfl dX1_mayLie_28 ?_
      refine g_iload_n hx hb hl 3 rfl dX1_mayLie_29 ?_
      refine g_aload hx hb hl 0 rfl dX1_mayLie_30 ?_
      refine g_aload_n hx hb hl 2 rfl dX1_mayLie_32 ?_
      refine g_iload_n hx hb hl 3 rfl dX1_mayLie_33 ?_
      obtain ⟨b34, hb34, h⟩ := g_bnd h
      obtain ⟨hr34, hk34⟩ := g_chk hb34
      obtain ⟨z34, h34, h⟩ := g_bnd h
      refine g_callV (n := 2) (b := b34) (av := [.inr (.inr v1), .inl v2]) (rs := [.inl v2, .inr (.inr v1)]) hx hb hml hown hts hKn hRc hRs hS hl (sX9_to l E D h34) (lw_V q857 q798 q799 q143 q800) ⟨rfl, by decide, by decide, by decide +kernel⟩ ⟨by rw [hRf]; exact Nat.le_of_ble_eq_true rfl, by rw [hRl]; exact Nat.le_of_ble_eq_true rfl⟩ (g_recv hKn hS hk34 (by decide) (by decide)) rfl (by rw [hr34]; rfl) (Nat.le_of_ble_eq_true rfl) dX1_mayLie_34 (fun H locs cells slots hS => ?_)
      obtain ⟨b37, hb37, h⟩ := g_bnd h
      obtain ⟨hr37, hk37⟩ := g_chk hb37
      obtain ⟨z37, h37, h⟩ := g_bnd h
      refine g_callV (n := 2) (b := b37) (av := [.inl v2, .inl z34.1]) (rs := []) hx hb hml hown hts hKn hRc hRs hS hl (sX3_sent l E D h37) (lw_V q858 q859 q860 q134 q861) ⟨rfl, by decide, by decide, by decide +kernel⟩ ⟨by rw [hRf]; exact Nat.le_of_ble_eq_true rfl, by rw [hRl]; exact Nat.le_of_ble_eq_true rfl⟩ (g_recv hKn hS hk37 (by decide) (by decide)) rfl (by rw [hr37]; rfl) (Nat.le_of_ble_eq_true rfl) dX1_mayLie_37 (fun H locs cells slots hS => ?_)
      refine g_iload_n hx hb hl 4 rfl dX1_mayLie_40 ?_
      refine lv_icmp_ge (tgt := 48) hx hb dX1_mayLie_41 (by decide) (fun c_41 => ?_) (fun c_41 => ?_)
      · have h := g_ift c_41 h
        refine lv_iconst (v := 0) hx hb dX1_mayLie_48 (by decide) ?_
        exact g_zretG hx hb hr hlk hKn hRc hRs hS h dX1_mayLie_49
      · have h := g_iff c_41 h
        exact sX1_mayLie_b44 C _ _ h _ _ _ _ _ hS (gls_sub hl [] rfl)
