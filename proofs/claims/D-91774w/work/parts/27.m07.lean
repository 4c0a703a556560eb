set_option maxRecDepth 100000
/-- SendHallModel.put(III)V -/
def fX4_put (E : g_E) (t : Nat) (v1 : Int32) (v2 : Int32) (v3 : Int32) (G : g_G) : Option (g_G) :=
  (grR G 4 4 (some t) 33).bind fun x1 =>
  (gsaI E G x1 ((8 * v1) + v2) v3).bind fun G11 =>
  some G11
theorem sX4_put (l : Launch) (E : g_E) (D : g_D) {t : Nat} {v1 : Int32} {v2 : Int32} {v3 : Int32} {G : g_G} {q : g_G} (h : fX4_put E t v1 v2 v3 G = some q) : gMet l E D yX4_put (ws_ yX4_put cX4_put 4 (none)) 1 64 [.inr (.inr (some t)), .inl v1, .inl v2, .inl v3] G none q := by
  refine gMet.of (by decide +kernel) (Nat.le_of_ble_eq_true rfl) ?_
  intro p e R s m args below meth c C hS ls hl
  have C : gC p R s m args meth c cX4_put 4 RX4 "put" (none) 1 64 E D := C
  obtain ⟨hx, hb, hml, hown, hts, hKn, hRc, hRs, hc1, hc2, hRf, hRl, hr, hlk, hnm⟩ := id C
  have hl : gls ls 4 [(0, .inr (.inr (some t))), (1, .inl v1), (2, .inl v2), (3, .inl v3)] := hl
  generalize s.heap = H at hS ⊢
  unfold fX4_put at h
  refine g_aload_n hx hb hl 0 rfl dX4_put_0 ?_
  refine g_rdR hx hb hown hts hKn hS h fd_4_4_33 rfl (Or.inl (hts _ q1898)) (fun _ z => z) dX4_put_1 (fun x1 h => ?_)
  refine lv_bipush (v := 8) hx hb dX4_put_4 (by decide) ?_
  refine g_iload_n hx hb hl 1 rfl dX4_put_6 ?_
  refine lv_imul hx hb dX4_put_7 ?_
  refine g_iload_n hx hb hl 2 rfl dX4_put_8 ?_
  refine lv_iadd hx hb dX4_put_9 ?_
  refine g_iload_n hx hb hl 3 rfl dX4_put_10 ?_
  refine g_iastoreG hx hb hKn hS h dX4_put_11 (fun G11 h H locs hS => ?_)
  exact g_vretG hx hb hr hlk hKn hRc hRs hS h dX4_put_12
/-- SendHallModel.refuse(I)Z -/
def fX4_refuse (E : g_E) (t : Nat) (v1 : Int32) (G : g_G) : Option (Int32 × g_G) :=
  (gpI E G 4 4 (some t) 2 v1).bind fun G2 =>
  if (0 : Int32) = 0 ∨ (0 : Int32) = 1 then some (0, G2) else none
theorem sX4_refuse (l : Launch) (E : g_E) (D : g_D) {t : Nat} {v1 : Int32} {G : g_G} {q : Int32 × g_G} (h : fX4_refuse E t v1 G = some q) : gMet l E D yX4_refuse (ws_ yX4_refuse cX4_refuse 2 (some .boolean)) 1 64 [.inr (.inr (some t)), .inl v1] G (some (.int q.1)) q.2 := by
  refine gMet.of (by decide +kernel) (Nat.le_of_ble_eq_true rfl) ?_
  intro p e R s m args below meth c C hS ls hl
  have C : gC p R s m args meth c cX4_refuse 2 RX4 "refuse" (some .boolean) 1 64 E D := C
  obtain ⟨hx, hb, hml, hown, hts, hKn, hRc, hRs, hc1, hc2, hRf, hRl, hr, hlk, hnm⟩ := id C
  have hl : gls ls 2 [(0, .inr (.inr (some t))), (1, .inl v1)] := hl
  generalize s.heap = H at hS ⊢
  unfold fX4_refuse at h
  refine g_aload_n hx hb hl 0 rfl dX4_refuse_0 ?_
  refine g_iload_n hx hb hl 1 rfl dX4_refuse_1 ?_
  refine g_ptI hx hb hown hts hKn hS h fd_4_4_2 (Or.inl (hts _ q1867)) (fun _ z => z) (fun z => nomatch z) dX4_refuse_2 (fun G2 h H locs hS => ?_)
  refine lv_iconst (v := 0) hx hb dX4_refuse_5 (by decide) ?_
  exact g_zretG hx hb hr hlk hKn hRc hRs hS h dX4_refuse_6
/-- SendHallModel.ring(I)I -/
def fX4_ring_b31 (E : g_E) (t : Nat) (G : g_G) : Option (Int32 × g_G) :=
  (gchk G 4 (some t)).bind fun b33 =>
  (fX4_fail E b33 1 G).bind fun z33 =>
  some (z33.1, z33.2)
def fX4_ring_b37 (E : g_E) (t : Nat) (v1 : Int32) (G : g_G) : Option (Int32 × g_G) :=
  if ¬ v1 = (-1 : Int32) then (
    (grR G 4 4 (some t) 63).bind fun x50 =>
    (gaI G 100 x50 v1).bind fun x54 =>
    some (x54, G))
  else (
    (grI G 4 4 (some t) 60).bind fun x43 =>
    some (x43, G))
def fX4_ring (E : g_E) (t : Nat) (v1 : Int32) (G : g_G) : Option (Int32 × g_G) :=
  (gpI E G 4 4 (some t) 2 0).bind fun G2 =>
  (gchk G2 4 (some t)).bind fun b6 =>
  (fX4_hasPlay E b6 G2).bind fun z6 =>
  if z6.1 = 0 then (
    fX4_ring_b31 E t z6.2)
  else (
    if v1 = (-1 : Int32) then (
      fX4_ring_b37 E t v1 z6.2)
    else (
      (grI z6.2 4 4 (some t) 60).bind fun x20 =>
      (fX4_isIn E v1 0 (x20 - 1) z6.2).bind fun z25 =>
      if ¬ z25.1 = 0 then (
        fX4_ring_b37 E t v1 z25.2)
      else (
        fX4_ring_b31 E t z25.2)))
theorem sX4_ring_b31 {p : Program} {l : Launch} {e : Env} {R : Room} {s : State} {m : MethodId} {args : Array Value} {below : List Frame} {meth : Method} {c : Code} {E : g_E} {D : g_D} (C : gC p R s m args meth c cX4_ring 2 RX4 "ring" (some .int) 2 86 E D) : ∀ (t : Nat) (G : g_G) (q : Int32 × g_G), fX4_ring_b31 E t G = some q → ∀ (H : Heap) (locs : List Loc) (cells slots : Nat) (ls : Array Slot), gSt E D G H locs → gls ls 2 [(0, .inr (.inr (some t)))] → gT p l e R s m args below meth c E D H locs cells slots (some (.int q.1)) q.2 (F0 m 31 ls []) := by
  obtain ⟨hx, hb, hml, hown, hts, hKn, hRc, hRs, hc1, hc2, hRf, hRl, hr, hlk, hnm⟩ := id C
  intro t G q h H locs cells slots ls hS hl
  unfold fX4_ring_b31 at h
  refine g_aload_n hx hb hl 0 rfl dX4_ring_31 ?_
  refine lv_iconst (v := 1) hx hb dX4_ring_32 (by decide) ?_
  obtain ⟨b33, hb33, h⟩ := g_bnd h
  obtain ⟨hr33, hk33⟩ := g_chk hb33
  obtain ⟨z33, h33, h⟩ := g_bnd h
  refine g_callV (n := 1) (b := b33) (av := [.inl 1]) (rs := []) hx hb hml hown hts hKn hRc hRs hS hl (sX4_fail l E D h33) (lw_V q2088 q2090 qs48 q135 q2091) ⟨rfl, by decide, by decide, by decide +kernel⟩ ⟨by rw [hRf]; exact Nat.le_of_ble_eq_true rfl, by rw [hRl]; exact Nat.le_of_ble_eq_true rfl⟩ (g_recv hKn hS hk33 (by decide) (by decide)) rfl (by rw [hr33]; rfl) (Nat.le_of_ble_eq_true rfl) dX4_ring_33 (fun H locs cells slots hS => ?_)
  exact g_iretG hx hb hr hlk hKn hRc hRs hS h dX4_ring_36
theorem sX4_ring_b37 {p : Program} {l : Launch} {e : Env} {R : Room} {s : State} {m : MethodId} {args : Array Value} {below : List Frame} {meth : Method} {c : Code} {E : g_E} {D : g_D} (C : gC p R s m args meth c cX4_ring 2 RX4 "ring" (some .int) 2 86 E D) : ∀ (t : Nat) (v1 : Int32) (G : g_G) (q : Int32 × g_G), fX4_ring_b37 E t v1 G = some q → ∀ (H : Heap) (locs : List Loc) (cells slots : Nat) (ls : Array Slot), gSt E D G H locs → gls ls 2 [(0, .inr (.inr (some t))), (1, .inl v1)] → gT p l e R s m args below meth c E D H locs cells slots (some (.int q.1)) q.2 (F0 m 37 ls []) := by
  obtain ⟨hx, hb, hml, hown, hts, hKn, hRc, hRs, hc1, hc2, hRf, hRl, hr, hlk, hnm⟩ := id C
  intro t v1 G q h H locs cells slots ls hS hl
  unfold fX4_ring_b37 at h
  refine g_iload_n hx hb hl 1 rfl dX4_ring_37 ?_
  refine lv_iconst (v := (-1)) hx hb dX4_ring_38 (by decide) ?_
  refine lv_icmp_ne (tgt := 49) hx hb dX4_ring_39 (by decide) (fun c_39 => ?_) (fun c_39 => ?_)
  · have h := g_ift c_39 h
    refine g_aload_n hx hb hl 0 rfl dX4_ring_49 ?_
    refine g_rdR hx hb hown hts hKn hS h fd_4_4_63 rfl (Or.inl (hts _ q1928)) (fun _ z => z) dX4_ring_50 (fun x50 h => ?_)
    refine g_iload_n hx hb hl 1 rfl dX4_ring_53 ?_
    refine g_ialoadG hx hb hKn hS h dX4_ring_54 (fun x54 h => ?_)
    exact g_iretG hx hb hr hlk hKn hRc hRs hS h dX4_ring_55
  · have h := g_iff (fun z => z c_39) h
    refine g_aload_n hx hb hl 0 rfl dX4_ring_42 ?_
    refine g_rdI hx hb hown hts hKn hS h fd_4_4_60 rfl (Or.inl (hts _ q1925)) (fun _ z => z) dX4_ring_43 (fun x43 h => ?_)
    refine lv_goto (tgt := 55) hx hb dX4_ring_46 (by decide) ?_
    exact g_iretG hx hb hr hlk hKn hRc hRs hS h dX4_ring_55
theorem sX4_ring (l : Launch) (E : g_E) (D : g_D) {t : Nat} {v1 : Int32} {G : g_G} {q : Int32 × g_G} (h : fX4_ring E t v1 G = some q) : gMet l E D yX4_ring (ws_ yX4_ring cX4_ring 2 (some .int)) 2 86 [.inr (.inr (some t)), .inl v1] G (some (.int q.1)) q.2 := by
  refine gMet.of (by decide +kernel) (Nat.le_of_ble_eq_true rfl) ?_
  intro p e R s m args below meth c C hS ls hl
  have C : gC p R s m args meth c cX4_ring 2 RX4 "ring" (some .int) 2 86 E D := C
  obtain ⟨hx, hb, hml, hown, hts, hKn, hRc, hRs, hc1, hc2, hRf, hRl, hr, hlk, hnm⟩ := id C
  have hl : gls ls 2 [(0, .inr (.inr (some t))), (1, .inl v1)] := hl
  generalize s.heap = H at hS ⊢
  unfold fX4_ring at h
  refine g_aload_n hx hb hl 0 rfl dX4_ring_0 ?_
  refine lv_iconst (v := 0) hx hb dX4_ring_1 (by decide) ?_
  refine g_ptI hx hb hown hts hKn hS h fd_4_4_2 (Or.inl (hts _ q1867)) (fun _ z => z) (fun z => nomatch z) dX4_ring_2 (fun G2 h H locs hS => ?_)
  refine g_aload_n hx hb hl 0 rfl dX4_ring_5 ?_
  obtain ⟨b6, hb6, h⟩ := g_bnd h
  obtain ⟨hr6, hk6⟩ := g_chk hb6
  obtain ⟨z6, h6, h⟩ := g_bnd h
  refine g_callV (n := 0) (b := b6) (av := []) (rs := []) hx hb hml hown hts hKn hRc hRs hS hl (sX4_hasPlay l E D h6) (lw_V q2428 q2430 qs111 q135 q2431) ⟨rfl, by decide, by decide, by decide +kernel⟩ ⟨by rw [hRf]; exact Nat.le_of_ble_eq_true rfl, by rw [hRl]; exact Nat.le_of_ble_eq_true rfl⟩ (g_recv hKn hS hk6 (by decide) (by decide)) rfl (by rw [hr6]; rfl) (Nat.le_of_ble_eq_true rfl) dX4_ring_6 (fun H locs cells slots hS => ?_)
  refine lv_if_eq (tgt := 31) hx hb dX4_ring_9 (by decide) (fun c_9 => ?_) (fun c_9 => ?_)
  · have h := g_ift c_9 h
    exact sX4_ring_b31 C _ _ _ h _ _ _ _ _ hS (gls_sub hl [0] rfl)
  · have h := g_iff c_9 h
    refine g_iload_n hx hb hl 1 rfl dX4_ring_12 ?_
    refine lv_iconst (v := (-1)) hx hb dX4_ring_13 (by decide) ?_
    refine lv_icmp_eq (tgt := 37) hx hb dX4_ring_14 (by decide) (fun c_14 => ?_) (fun c_14 => ?_)
    · have h := g_ift c_14 h
      exact sX4_ring_b37 C _ _ _ _ h _ _ _ _ _ hS (gls_sub hl [0, 1] rfl)
    · have h := g_iff c_14 h
      refine g_iload_n hx hb hl 1 rfl dX4_ring_17 ?_
      refine lv_iconst (v := 0) hx hb dX4_ring_18 (by decide) ?_
      refine g_aload_n hx hb hl 0 rfl dX4_ring_19 ?_
      refine g_rdI hx hb hown hts hKn hS h fd_4_4_60 rfl (Or.inl (hts _ q1925)) (fun _ z => z) dX4_ring_20 (fun x20 h => ?_)
      refine lv_iconst (v := 1) hx hb dX4_ring_23 (by decide) ?_
      refine lv_isub hx hb dX4_ring_24 ?_
      obtain ⟨z25, h25, h⟩ := g_bnd h
      refine g_callS (n := 3) (av := [.inl v1, .inl 0, .inl (x20 - 1)]) (rs := []) hx hb hml hown hts hKn hRc hRs hS hl (sX4_isIn l E D h25) (lw_S q2180 q2181 q135 q2182) ⟨by decide, by decide, by decide +kernel⟩ ⟨by rw [hRf]; exact Nat.le_of_ble_eq_true rfl, by rw [hRl]; exact Nat.le_of_ble_eq_true rfl⟩ rfl rfl (Nat.le_of_ble_eq_true rfl) dX4_ring_25 (fun H locs cells slots hS => ?_)
      refine lv_if_ne (tgt := 37) hx hb dX4_ring_28 (by decide) (fun c_28 => ?_) (fun c_28 => ?_)
      · have h := g_ift c_28 h
        exact sX4_ring_b37 C _ _ _ _ h _ _ _ _ _ hS (gls_sub hl [0, 1] rfl)
      · have h := g_iff (fun z => z c_28) h
        exact sX4_ring_b31 C _ _ _ h _ _ _ _ _ hS (gls_sub hl [0] rfl)
/-- SendHallModel.step(I)I -/
def fX4_step (E : g_E) (t : Nat) (v1 : Int32) (G : g_G) : Option (Int32 × g_G) :=
  (gpI E G 4 4 (some t) 2 0).bind fun G2 =>
  (gchk G2 4 (some t)).bind fun b7 =>
  (fX4_isStep E b7 v1 G2).bind fun z7 =>
  if z7.1 = 0 then (
    (gchk z7.2 4 (some t)).bind fun b24 =>
    (fX4_fail E b24 1 z7.2).bind fun z24 =>
    some (z24.1, z24.2))
  else (
    (grR z7.2 4 4 (some t) 24).bind fun x14 =>
    (gaI z7.2 100 x14 v1).bind fun x18 =>
    some (x18, z7.2))
theorem sX4_step (l : Launch) (E : g_E) (D : g_D) {t : Nat} {v1 : Int32} {G : g_G} {q : Int32 × g_G} (h : fX4_step E t v1 G = some q) : gMet l E D yX4_step (ws_ yX4_step cX4_step 2 (some .int)) 3 107 [.inr (.inr (some t)), .inl v1] G (some (.int q.1)) q.2 := by
  refine gMet.of (by decide +kernel) (Nat.le_of_ble_eq_true rfl) ?_
  intro p e R s m args below meth c C hS ls hl
  have C : gC p R s m args meth c cX4_step 2 RX4 "step" (some .int) 3 107 E D := C
  obtain ⟨hx, hb, hml, hown, hts, hKn, hRc, hRs, hc1, hc2, hRf, hRl, hr, hlk, hnm⟩ := id C
  have hl : gls ls 2 [(0, .inr (.inr (some t))), (1, .inl v1)] := hl
  generalize s.heap = H at hS ⊢
  unfold fX4_step at h
  refine g_aload_n hx hb hl 0 rfl dX4_step_0 ?_
  refine lv_iconst (v := 0) hx hb dX4_step_1 (by decide) ?_
  refine g_ptI hx hb hown hts hKn hS h fd_4_4_2 (Or.inl (hts _ q1867)) (fun _ z => z) (fun z => nomatch z) dX4_step_2 (fun G2 h H locs hS => ?_)
  refine g_aload_n hx hb hl 0 rfl dX4_step_5 ?_
  refine g_iload_n hx hb hl 1 rfl dX4_step_6 ?_
  obtain ⟨b7, hb7, h⟩ := g_bnd h
  obtain ⟨hr7, hk7⟩ := g_chk hb7
  obtain ⟨z7, h7, h⟩ := g_bnd h
  refine g_callV (n := 1) (b := b7) (av := [.inl v1]) (rs := []) hx hb hml hown hts hKn hRc hRs hS hl (sX4_isStep l E D h7) (lw_V q2209 q2211 qs69 q135 q2212) ⟨rfl, by decide, by decide, by decide +kernel⟩ ⟨by rw [hRf]; exact Nat.le_of_ble_eq_true rfl, by rw [hRl]; exact Nat.le_of_ble_eq_true rfl⟩ (g_recv hKn hS hk7 (by decide) (by decide)) rfl (by rw [hr7]; rfl) (Nat.le_of_ble_eq_true rfl) dX4_step_7 (fun H locs cells slots hS => ?_)
  refine lv_if_eq (tgt := 22) hx hb dX4_step_10 (by decide) (fun c_10 => ?_) (fun c_10 => ?_)
  · have h := g_ift c_10 h
    refine g_aload_n hx hb hl 0 rfl dX4_step_22 ?_
    refine lv_iconst (v := 1) hx hb dX4_step_23 (by decide) ?_
    obtain ⟨b24, hb24, h⟩ := g_bnd h
    obtain ⟨hr24, hk24⟩ := g_chk hb24
    obtain ⟨z24, h24, h⟩ := g_bnd h
    refine g_callV (n := 1) (b := b24) (av := [.inl 1]) (rs := []) hx hb hml hown hts hKn hRc hRs hS hl (sX4_fail l E D h24) (lw_V q2088 q2090 qs48 q135 q2091) ⟨rfl, by decide, by decide, by decide +kernel⟩ ⟨by rw [hRf]; exact Nat.le_of_ble_eq_true rfl, by rw [hRl]; exact Nat.le_of_ble_eq_true rfl⟩ (g_recv hKn hS hk24 (by decide) (by decide)) rfl (by rw [hr24]; rfl) (Nat.le_of_ble_eq_true rfl) dX4_step_24 (fun H locs cells slots hS => ?_)
    exact g_iretG hx hb hr hlk hKn hRc hRs hS h dX4_step_27
  · have h := g_iff c_10 h
    refine g_aload_n hx hb hl 0 rfl dX4_step_13 ?_
    refine g_rdR hx hb hown hts hKn hS h fd_4_4_24 rfl (Or.inl (hts _ q1889)) (fun _ z => z) dX4_step_14 (fun x14 h => ?_)
    refine g_iload_n hx hb hl 1 rfl dX4_step_17 ?_
    refine g_ialoadG hx hb hKn hS h dX4_step_18 (fun x18 h => ?_)
    refine lv_goto (tgt := 27) hx hb dX4_step_19 (by decide) ?_
    exact g_iretG hx hb hr hlk hKn hRc hRs hS h dX4_step_27
/-- SendHallModel.stepOn()V -/
def fX4_stepOn_b279 (E : g_E) (t : Nat) (G : g_G) : Option (g_G) :=
  (grI G 4 4 (some t) 11).bind fun x281 =>
  (gpI E G 4 4 (some t) 17 x281).bind fun G284 =>
  some G284
def fX4_stepOn_b271 (E : g_E) (t : Nat) (v1 : Int32) (s0 : Option Nat) (s1 : Int32) (G : g_G) : Option (g_G) :=
  (gpI E G 4 4 s0 13 s1).bind fun G271 =>
  (gpI E G271 4 4 (some t) 14 v1).bind fun G276 =>
  fX4_stepOn_b279 E t G276
def fX4_stepOn_b260 (E : g_E) (t : Nat) (v1 : Int32) (s0 : Int32) (G : g_G) : Option (g_G) :=
  if s0 = 0 then (
    fX4_stepOn_b271 E t v1 (some t) 4 G)
  else (
    fX4_stepOn_b271 E t v1 (some t) 3 G)
def fX4_stepOn_b255 (E : g_E) (t : Nat) (v1 : Int32) (G : g_G) : Option (g_G) :=
  fX4_stepOn_b260 E t v1 1 G
def fX4_stepOn_b128 (E : g_E) : Nat → Nat → g_G → Option (g_G)
  | 0, _, _ => none
  | n + 1, t, G =>
    (grI G 4 4 (some t) 11).bind fun x130 =>
    (gchk G 4 (some t)).bind fun b133 =>
    (fX4_byteAt E b133 x130 G).bind fun z133 =>
    (fX4_isDigit E z133.1 z133.2).bind fun z136 =>
    if z136.1 = 0 then (
      (gpI E z136.2 4 4 (some t) 13 2).bind fun G185 =>
      fX4_stepOn_b279 E t G185)
    else (
      (grI z136.2 4 4 (some t) 15).bind fun x148 =>
      (grI z136.2 4 4 (some t) 11).bind fun x154 =>
      (gchk z136.2 4 (some t)).bind fun b157 =>
      (fX4_byteAt E b157 x154 z136.2).bind fun z157 =>
      (gpI E z157.2 4 4 (some t) 15 (if (((10 * x148) + z157.1) - 48) < 100000 then (((10 * x148) + z157.1) - 48) else 100000)).bind fun G167 =>
      (grI G167 4 4 (some t) 11).bind fun x172 =>
      (gpI E G167 4 4 (some t) 11 (x172 + 1)).bind fun G177 =>
      fX4_stepOn_b128 E n t G177)
def fX4_stepOn_b81 (E : g_E) : Nat → Nat → g_G → Option (g_G)
  | 0, _, _ => none
  | n + 1, t, G =>
    (grI G 4 4 (some t) 11).bind fun x83 =>
    (gchk G 4 (some t)).bind fun b86 =>
    (fX4_byteAt E b86 x83 G).bind fun z86 =>
    (fX4_isLetter E z86.1 z86.2).bind fun z89 =>
    if z89.1 = 0 then (
      (gpI E z89.2 4 4 (some t) 13 1).bind fun G110 =>
      fX4_stepOn_b279 E t G110)
    else (
      (grI z89.2 4 4 (some t) 11).bind fun x97 =>
      (gpI E z89.2 4 4 (some t) 11 (x97 + 1)).bind fun G102 =>
      fX4_stepOn_b81 E n t G102)
def fX4_stepOn_b26 (E : g_E) (k0 : Nat → g_G → Option (g_G)) (t : Nat) (G : g_G) : Option (g_G) :=
  (grI G 4 4 (some t) 11).bind fun x28 =>
  (gpI E G 4 4 (some t) 11 (x28 + 1)).bind fun G33 =>
  k0 t G33
def fX4_stepOn_b0 (E : g_E) : Nat → Nat → g_G → Option (g_G)
  | 0, _, _ => none
  | n + 1, t, G =>
    (grI G 4 4 (some t) 11).bind fun x2 =>
    (gchk G 4 (some t)).bind fun b5 =>
    (fX4_byteAt E b5 x2 G).bind fun z5 =>
    if z5.1 = (32 : Int32) then (
      fX4_stepOn_b26 E (fX4_stepOn_b0 E n) t z5.2)
    else (
      (grI z5.2 4 4 (some t) 11).bind fun x15 =>
      (gchk z5.2 4 (some t)).bind fun b18 =>
      (fX4_byteAt E b18 x15 z5.2).bind fun z18 =>
      if ¬ z18.1 = (10 : Int32) then (
        (grI z18.2 4 4 (some t) 11).bind fun x41 =>
        (gpI E z18.2 4 4 (some t) 16 x41).bind fun G44 =>
        (gpI E G44 4 4 (some t) 14 0).bind fun G49 =>
        (grI G49 4 4 (some t) 11).bind fun x54 =>
        (gchk G49 4 (some t)).bind fun b57 =>
        (fX4_byteAt E b57 x54 G49).bind fun z57 =>
        if ¬ z57.1 = (-1 : Int32) then (
          (fX4_isLetter E z57.1 z57.2).bind fun z75 =>
          if z75.1 = 0 then (
            (fX4_isDigit E z57.1 z75.2).bind fun z117 =>
            if z117.1 = 0 then (
              (grI z117.2 4 4 (some t) 11).bind fun x193 =>
              (gpI E z117.2 4 4 (some t) 11 (x193 + 1)).bind fun G198 =>
              if z57.1 = (59 : Int32) then (
                fX4_stepOn_b255 E t z57.1 G198)
              else (
                if z57.1 = (40 : Int32) then (
                  fX4_stepOn_b255 E t z57.1 G198)
                else (
                  if z57.1 = (41 : Int32) then (
                    fX4_stepOn_b255 E t z57.1 G198)
                  else (
                    if z57.1 = (43 : Int32) then (
                      fX4_stepOn_b255 E t z57.1 G198)
                    else (
                      if z57.1 = (45 : Int32) then (
                        fX4_stepOn_b255 E t z57.1 G198)
                      else (
                        if z57.1 = (42 : Int32) then (
                          fX4_stepOn_b255 E t z57.1 G198)
                        else (
                          if z57.1 = (47 : Int32) then (
                            fX4_stepOn_b255 E t z57.1 G198)
                          else (
                            if z57.1 = (60 : Int32) then (
                              fX4_stepOn_b255 E t z57.1 G198)
                            else (
                              if ¬ z57.1 = (61 : Int32) then (
                                fX4_stepOn_b260 E t z57.1 0 G198)
                              else (
                                fX4_stepOn_b255 E t z57.1 G198))))))))))
            else (
              (gpI E z117.2 4 4 (some t) 15 0).bind fun G125 =>
              fX4_stepOn_b128 E gFU t G125))
          else (
            fX4_stepOn_b81 E gFU t z75.2))
        else (
          (gpI E z57.2 4 4 (some t) 13 0).bind fun G68 =>
          fX4_stepOn_b279 E t G68))
      else (
        fX4_stepOn_b26 E (fX4_stepOn_b0 E n) t z18.2))
def fX4_stepOn (E : g_E) (t : Nat) (G : g_G) : Option (g_G) :=
  fX4_stepOn_b0 E gFU t G
theorem sX4_stepOn_b279 {p : Program} {l : Launch} {e : Env} {R : Room} {s : State} {m : MethodId} {args : Array Value} {below : List Frame} {meth : Method} {c : Code} {E : g_E} {D : g_D} (C : gC p R s m args meth c cX4_stepOn 3 RX4 "stepOn" (none) 2 85 E D) : ∀ (t : Nat) (G : g_G) (q : g_G), fX4_stepOn_b279 E t G = some q → ∀ (H : Heap) (locs : List Loc) (cells slots : Nat) (ls : Array Slot), gSt E D G H locs → gls ls 3 [(0, .inr (.inr (some t)))] → gT p l e R s m args below meth c E D H locs cells slots none q (F0 m 279 ls []) := by
  obtain ⟨hx, hb, hml, hown, hts, hKn, hRc, hRs, hc1, hc2, hRf, hRl, hr, hlk, hnm⟩ := id C
  intro t G q h H locs cells slots ls hS hl
  unfold fX4_stepOn_b279 at h
  refine g_aload_n hx hb hl 0 rfl dX4_stepOn_279 ?_
  refine g_aload_n hx hb hl 0 rfl dX4_stepOn_280 ?_
  refine g_rdI hx hb hown hts hKn hS h fd_4_4_11 rfl (Or.inl (hts _ q1876)) (fun _ z => z) dX4_stepOn_281 (fun x281 h => ?_)
  refine g_ptI hx hb hown hts hKn hS h fd_4_4_17 (Or.inl (hts _ q1882)) (fun _ z => z) (fun z => nomatch z) dX4_stepOn_284 (fun G284 h H locs hS => ?_)
  exact g_vretG hx hb hr hlk hKn hRc hRs hS h dX4_stepOn_287
theorem sX4_stepOn_b271 {p : Program} {l : Launch} {e : Env} {R : Room} {s : State} {m : MethodId} {args : Array Value} {below : List Frame} {meth : Method} {c : Code} {E : g_E} {D : g_D} (C : gC p R s m args meth c cX4_stepOn 3 RX4 "stepOn" (none) 2 85 E D) : ∀ (t : Nat) (v1 : Int32) (s0 : Option Nat) (s1 : Int32) (G : g_G) (q : g_G), fX4_stepOn_b271 E t v1 s0 s1 G = some q → ∀ (H : Heap) (locs : List Loc) (cells slots : Nat) (ls : Array Slot), gSt E D G H locs → gls ls 3 [(0, .inr (.inr (some t))), (1, .inl v1)] → gT p l e R s m args below meth c E D H locs cells slots none q (F0 m 271 ls [.int s1, va_rf s0]) := by
  obtain ⟨hx, hb, hml, hown, hts, hKn, hRc, hRs, hc1, hc2, hRf, hRl, hr, hlk, hnm⟩ := id C
  intro t v1 s0 s1 G q h H locs cells slots ls hS hl
  unfold fX4_stepOn_b271 at h
  refine g_ptI hx hb hown hts hKn hS h fd_4_4_13 (Or.inl (hts _ q1878)) (fun _ z => z) (fun z => nomatch z) dX4_stepOn_271 (fun G271 h H locs hS => ?_)
  refine g_aload_n hx hb hl 0 rfl dX4_stepOn_274 ?_
  refine g_iload_n hx hb hl 1 rfl dX4_stepOn_275 ?_
  refine g_ptI hx hb hown hts hKn hS h fd_4_4_14 (Or.inl (hts _ q1879)) (fun _ z => z) (fun z => nomatch z) dX4_stepOn_276 (fun G276 h H locs hS => ?_)
  exact sX4_stepOn_b279 C _ _ _ h _ _ _ _ _ hS (gls_sub hl [0] rfl)
theorem sX4_stepOn_b260 {p : Program} {l : Launch} {e : Env} {R : Room} {s : State} {m : MethodId} {args : Array Value} {below : List Frame} {meth : Method} {c : Code} {E : g_E} {D : g_D} (C : gC p R s m args meth c cX4_stepOn 3 RX4 "stepOn" (none) 2 85 E D) : ∀ (t : Nat) (v1 : Int32) (s0 : Int32) (G : g_G) (q : g_G), fX4_stepOn_b260 E t v1 s0 G = some q → ∀ (H : Heap) (locs : List Loc) (cells slots : Nat) (ls : Array Slot), gSt E D G H locs → gls ls 3 [(0, .inr (.inr (some t))), (1, .inl v1)] → gT p l e R s m args below meth c E D H locs cells slots none q (F0 m 260 ls [.int s0]) := by
  obtain ⟨hx, hb, hml, hown, hts, hKn, hRc, hRs, hc1, hc2, hRf, hRl, hr, hlk, hnm⟩ := id C
  intro t v1 s0 G q h H locs cells slots ls hS hl
  unfold fX4_stepOn_b260 at h
  refine g_istore_n (l1 := [(2, .inl s0), (0, .inr (.inr (some t))), (1, .inl v1)]) hx hb hl (by decide) rfl dX4_stepOn_260 (fun ls hl => ?_)
  refine g_aload_n hx hb hl 1 rfl dX4_stepOn_261 ?_
  refine g_iload_n hx hb hl 0 rfl dX4_stepOn_262 ?_
  refine lv_if_eq (tgt := 270) hx hb dX4_stepOn_263 (by decide) (fun c_263 => ?_) (fun c_263 => ?_)
  · have h := g_ift c_263 h
    refine lv_iconst (v := 4) hx hb dX4_stepOn_270 (by decide) ?_
    exact sX4_stepOn_b271 C _ _ _ _ _ _ h _ _ _ _ _ hS (gls_sub hl [1, 2] rfl)
  · have h := g_iff c_263 h
    refine lv_iconst (v := 3) hx hb dX4_stepOn_266 (by decide) ?_
    refine lv_goto (tgt := 271) hx hb dX4_stepOn_267 (by decide) ?_
    exact sX4_stepOn_b271 C _ _ _ _ _ _ h _ _ _ _ _ hS (gls_sub hl [1, 2] rfl)
theorem sX4_stepOn_b255 {p : Program} {l : Launch} {e : Env} {R : Room} {s : State} {m : MethodId} {args : Array Value} {below : List Frame} {meth : Method} {c : Code} {E : g_E} {D : g_D} (C : gC p R s m args meth c cX4_stepOn 3 RX4 "stepOn" (none) 2 85 E D) : ∀ (t : Nat) (v1 : Int32) (G : g_G) (q : g_G), fX4_stepOn_b255 E t v1 G = some q → ∀ (H : Heap) (locs : List Loc) (cells slots : Nat) (ls : Array Slot), gSt E D G H locs → gls ls 3 [(0, .inr (.inr (some t))), (1, .inl v1)] → gT p l e R s m args below meth c E D H locs cells slots none q (F0 m 255 ls []) := by
  obtain ⟨hx, hb, hml, hown, hts, hKn, hRc, hRs, hc1, hc2, hRf, hRl, hr, hlk, hnm⟩ := id C
  intro t v1 G q h H locs cells slots ls hS hl
  unfold fX4_stepOn_b255 at h
  refine lv_iconst (v := 1) hx hb dX4_stepOn_255 (by decide) ?_
  refine lv_goto (tgt := 260) hx hb dX4_stepOn_256 (by decide) ?_
  exact sX4_stepOn_b260 C _ _ _ _ _ h _ _ _ _ _ hS (gls_sub hl [0, 1] rfl)
theorem sX4_stepOn_b128 {p : Program} {l : Launch} {e : Env} {R : Room} {s : State} {m : MethodId} {args : Array Value} {below : List Frame} {meth : Method} {c : Code} {E : g_E} {D : g_D} (C : gC p R s m args meth c cX4_stepOn 3 RX4 "stepOn" (none) 2 85 E D) : ∀ (n : Nat) (t : Nat) (G : g_G) (q : g_G), fX4_stepOn_b128 E n t G = some q → ∀ (H : Heap) (locs : List Loc) (cells slots : Nat) (ls : Array Slot), gSt E D G H locs → gls ls 3 [(0, .inr (.inr (some t)))] → gT p l e R s m args below meth c E D H locs cells slots none q (F0 m 128 ls []) := by
  obtain ⟨hx, hb, hml, hown, hts, hKn, hRc, hRs, hc1, hc2, hRf, hRl, hr, hlk, hnm⟩ := id C
  intro n
  induction n with
  | zero =>
    intro t G q h
    exact g_no h
  | succ n ih =>
    intro t G q h H locs cells slots ls hS hl
    rw [fX4_stepOn_b128] at h
    refine g_aload_n hx hb hl 0 rfl dX4_stepOn_128 ?_
    refine g_aload_n hx hb hl 0 rfl dX4_stepOn_129 ?_
    refine g_rdI hx hb hown hts hKn hS h fd_4_4_11 rfl (Or.inl (hts _ q1876)) (fun _ z => z) dX4_stepOn_130 (fun x130 h => ?_)
    obtain ⟨b133, hb133, h⟩ := g_bnd h
    obtain ⟨hr133, hk133⟩ := g_chk hb133
    obtain ⟨z133, h133, h⟩ := g_bnd h
    refine g_callV (n := 1) (b := b133) (av := [.inl x130]) (rs := []) hx hb hml hown hts hKn hRc hRs hS hl (sX4_byteAt l E D h133) (lw_V q2096 q2098 qs50 q135 q2099) ⟨rfl, by decide, by decide, by decide +kernel⟩ ⟨by rw [hRf]; exact Nat.le_of_ble_eq_true rfl, by rw [hRl]; exact Nat.le_of_ble_eq_true rfl⟩ (g_recv hKn hS hk133 (by decide) (by decide)) rfl (by rw [hr133]; rfl) (Nat.le_of_ble_eq_true rfl) dX4_stepOn_133 (fun H locs cells slots hS => ?_)
    obtain ⟨z136, h136, h⟩ := g_bnd h
    refine g_callS (n := 1) (av := [.inl z133.1]) (rs := []) hx hb hml hown hts hKn hRc hRs hS hl (sX4_isDigit l E D h136) (lw_S q2103 q2104 q135 q2105) ⟨by decide, by decide, by decide +kernel⟩ ⟨by rw [hRf]; exact Nat.le_of_ble_eq_true rfl, by rw [hRl]; exact Nat.le_of_ble_eq_true rfl⟩ rfl rfl (Nat.le_of_ble_eq_true rfl) dX4_stepOn_136 (fun H locs cells slots hS => ?_)
    refine lv_if_eq (tgt := 183) hx hb dX4_stepOn_139 (by decide) (fun c_139 => ?_) (fun c_139 => ?_)
    · have h := g_ift c_139 h
      refine g_aload_n hx hb hl 0 rfl dX4_stepOn_183 ?_
      refine lv_iconst (v := 2) hx hb dX4_stepOn_184 (by decide) ?_
      refine g_ptI hx hb hown hts hKn hS h fd_4_4_13 (Or.inl (hts _ q1878)) (fun _ z => z) (fun z => nomatch z) dX4_stepOn_185 (fun G185 h H locs hS => ?_)
      refine lv_goto (tgt := 279) hx hb dX4_stepOn_188 (by decide) ?_
      exact sX4_stepOn_b279 C _ _ _ h _ _ _ _ _ hS (gls_sub hl [0] rfl)
    · have h := g_iff c_139 h
      refine g_aload_n hx hb hl 0 rfl dX4_stepOn_142 ?_
      refine lv_ldc (v := 100000) hx hb hown (hts _ q2106) dX4_stepOn_143 ?_
      refine lv_bipush (v := 10) hx hb dX4_stepOn_145 (by decide) ?_
      refine g_aload_n hx hb hl 0 rfl dX4_stepOn_147 ?_
      refine g_rdI hx hb hown hts hKn hS h fd_4_4_15 rfl (Or.inl (hts _ q1880)) (fun _ z => z) dX4_stepOn_148 (fun x148 h => ?_)
      refine lv_imul hx hb dX4_stepOn_151 ?_
      refine g_aload_n hx hb hl 0 rfl dX4_stepOn_152 ?_
      refine g_aload_n hx hb hl 0 rfl dX4_stepOn_153 ?_
      refine g_rdI hx hb hown hts hKn hS h fd_4_4_11 rfl (Or.inl (hts _ q1876)) (fun _ z => z) dX4_stepOn_154 (fun x154 h => ?_)
      obtain ⟨b157, hb157, h⟩ := g_bnd h
      obtain ⟨hr157, hk157⟩ := g_chk hb157
      obtain ⟨z157, h157, h⟩ := g_bnd h
      refine g_callV (n := 1) (b := b157) (av := [.inl x154]) (rs := [.inl (10 * x148), .inl 100000, .inr (.inr (some t))]) hx hb hml hown hts hKn hRc hRs hS hl (sX4_byteAt l E D h157) (lw_V q2096 q2098 qs50 q135 q2099) ⟨rfl, by decide, by decide, by decide +kernel⟩ ⟨by rw [hRf]; exact Nat.le_of_ble_eq_true rfl, by rw [hRl]; exact Nat.le_of_ble_eq_true rfl⟩ (g_recv hKn hS hk157 (by decide) (by decide)) rfl (by rw [hr157]; rfl) (Nat.le_of_ble_eq_true rfl) dX4_stepOn_157 (fun H locs cells slots hS => ?_)
      refine lv_iadd hx hb dX4_stepOn_160 ?_
      refine lv_bipush (v := 48) hx hb dX4_stepOn_161 (by decide) ?_
      refine lv_isub hx hb dX4_stepOn_163 ?_
      refine g_mmin (rs := [.inr (.inr (some t))]) hx hb hml hown hRc hRs hS hl (hts _ q2107) (hts _ q301) (hts _ q127) (hts _ q302) (by decide +kernel) rfl (Nat.le_of_ble_eq_true rfl) ⟨by rw [hRf]; exact Nat.le_of_ble_eq_true rfl, by rw [hRl]; exact Nat.le_of_ble_eq_true rfl⟩ dX4_stepOn_164 (fun cells slots => ?_)
      refine g_ptI hx hb hown hts hKn hS h fd_4_4_15 (Or.inl (hts _ q1880)) (fun _ z => z) (fun z => nomatch z) dX4_stepOn_167 (fun G167 h H locs hS => ?_)
      refine g_aload_n hx hb hl 0 rfl dX4_stepOn_170 ?_
      refine lv_dup hx hb dX4_stepOn_171 (by first | exact va_rf_cat _ | rfl | exact g_catA _) ?_
      refine g_rdI hx hb hown hts hKn hS h fd_4_4_11 rfl (Or.inl (hts _ q1876)) (fun _ z => z) dX4_stepOn_172 (fun x172 h => ?_)
      refine lv_iconst (v := 1) hx hb dX4_stepOn_175 (by decide) ?_
      refine lv_iadd hx hb dX4_stepOn_176 ?_
      refine g_ptI hx hb hown hts hKn hS h fd_4_4_11 (Or.inl (hts _ q1876)) (fun _ z => z) (fun z => nomatch z) dX4_stepOn_177 (fun G177 h H locs hS => ?_)
      refine lv_goto (tgt := 128) hx hb dX4_stepOn_180 (by decide) ?_
      exact ih _ _ _ h _ _ _ _ _ hS (gls_sub hl [0] rfl)
theorem sX4_stepOn_b81 {p : Program} {l : Launch} {e : Env} {R : Room} {s : State} {m : MethodId} {args : Array Value} {below : List Frame} {meth : Method} {c : Code} {E : g_E} {D : g_D} (C : gC p R s m args meth c cX4_stepOn 3 RX4 "stepOn" (none) 2 85 E D) : ∀ (n : Nat) (t : Nat) (G : g_G) (q : g_G), fX4_stepOn_b81 E n t G = some q → ∀ (H : Heap) (locs : List Loc) (cells slots : Nat) (ls : Array Slot), gSt E D G H locs → gls ls 3 [(0, .inr (.inr (some t)))] → gT p l e R s m args below meth c E D H locs cells slots none q (F0 m 81 ls []) := by
  obtain ⟨hx, hb, hml, hown, hts, hKn, hRc, hRs, hc1, hc2, hRf, hRl, hr, hlk, hnm⟩ := id C
  intro n
  induction n with
  | zero =>
    intro t G q h
    exact g_no h
  | succ n ih =>
    intro t G q h H locs cells slots ls hS hl
    rw [fX4_stepOn_b81] at h
    refine g_aload_n hx hb hl 0 rfl dX4_stepOn_81 ?_
    refine g_aload_n hx hb hl 0 rfl dX4_stepOn_82 ?_
    refine g_rdI hx hb hown hts hKn hS h fd_4_4_11 rfl (Or.inl (hts _ q1876)) (fun _ z => z) dX4_stepOn_83 (fun x83 h => ?_)
    obtain ⟨b86, hb86, h⟩ := g_bnd h
    obtain ⟨hr86, hk86⟩ := g_chk hb86
    obtain ⟨z86, h86, h⟩ := g_bnd h
    refine g_callV (n := 1) (b := b86) (av := [.inl x83]) (rs := []) hx hb hml hown hts hKn hRc hRs hS hl (sX4_byteAt l E D h86) (lw_V q2096 q2098 qs50 q135 q2099) ⟨rfl, by decide, by decide, by decide +kernel⟩ ⟨by rw [hRf]; exact Nat.le_of_ble_eq_true rfl, by rw [hRl]; exact Nat.le_of_ble_eq_true rfl⟩ (g_recv hKn hS hk86 (by decide) (by decide)) rfl (by rw [hr86]; rfl) (Nat.le_of_ble_eq_true rfl) dX4_stepOn_86 (fun H locs cells slots hS => ?_)
    obtain ⟨z89, h89, h⟩ := g_bnd h
    refine g_callS (n := 1) (av := [.inl z86.1]) (rs := []) hx hb hml hown hts hKn hRc hRs hS hl (sX4_isLetter l E D h89) (lw_S q2100 q2101 q135 q2102) ⟨by decide, by decide, by decide +kernel⟩ ⟨by rw [hRf]; exact Nat.le_of_ble_eq_true rfl, by rw [hRl]; exact Nat.le_of_ble_eq_true rfl⟩ rfl rfl (Nat.le_of_ble_eq_true rfl) dX4_stepOn_89 (fun H locs cells slots hS => ?_)
    refine lv_if_eq (tgt := 108) hx hb dX4_stepOn_92 (by decide) (fun c_92 => ?_) (fun c_92 => ?_)
    · have h := g_ift c_92 h
      refine g_aload_n hx hb hl 0 rfl dX4_stepOn_108 ?_
      refine lv_iconst (v := 1) hx hb dX4_stepOn_109 (by decide) ?_
      refine g_ptI hx hb hown hts hKn hS h fd_4_4_13 (Or.inl (hts _ q1878)) (fun _ z => z) (fun z => nomatch z) dX4_stepOn_110 (fun G110 h H locs hS => ?_)
      refine lv_goto (tgt := 279) hx hb dX4_stepOn_113 (by decide) ?_
      exact sX4_stepOn_b279 C _ _ _ h _ _ _ _ _ hS (gls_sub hl [0] rfl)
    · have h := g_iff c_92 h
      refine g_aload_n hx hb hl 0 rfl dX4_stepOn_95 ?_
      refine lv_dup hx hb dX4_stepOn_96 (by first | exact va_rf_cat _ | rfl | exact g_catA _) ?_
      refine g_rdI hx hb hown hts hKn hS h fd_4_4_11 rfl (Or.inl (hts _ q1876)) (fun _ z => z) dX4_stepOn_97 (fun x97 h => ?_)
      refine lv_iconst (v := 1) hx hb dX4_stepOn_100 (by decide) ?_
      refine lv_iadd hx hb dX4_stepOn_101 ?_
      refine g_ptI hx hb hown hts hKn hS h fd_4_4_11 (Or.inl (hts _ q1876)) (fun _ z => z) (fun z => nomatch z) dX4_stepOn_102 (fun G102 h H locs hS => ?_)
      refine lv_goto (tgt := 81) hx hb dX4_stepOn_105 (by decide) ?_
      exact ih _ _ _ h _ _ _ _ _ hS (gls_sub hl [0] rfl)
theorem sX4_stepOn_b26 {p : Program} {l : Launch} {e : Env} {R : Room} {s : State} {m : MethodId} {args : Array Value} {below : List Frame} {meth : Method} {c : Code} {E : g_E} {D : g_D} (C : gC p R s m args meth c cX4_stepOn 3 RX4 "stepOn" (none) 2 85 E D) {k0 : Nat → g_G → Option (g_G)} (hk0 : ∀ (t : Nat) (G : g_G) (q : g_G), k0 t G = some q → ∀ (H : Heap) (locs : List Loc) (cells slots : Nat) (ls : Array Slot), gSt E D G H locs → gls ls 3 [(0, .inr (.inr (some t)))] → gT p l e R s m args below meth c E D H locs cells slots none q (F0 m 0 ls [])) : ∀ (t : Nat) (G : g_G) (q : g_G), fX4_stepOn_b26 E k0 t G = some q → ∀ (H : Heap) (locs : List Loc) (cells slots : Nat) (ls : Array Slot), gSt E D G H locs → gls ls 3 [(0, .inr (.inr (some t)))] → gT p l e R s m args below meth c E D H locs cells slots none q (F0 m 26 ls []) := by
  obtain ⟨hx, hb, hml, hown, hts, hKn, hRc, hRs, hc1, hc2, hRf, hRl, hr, hlk, hnm⟩ := id C
  intro t G q h H locs cells slots ls hS hl
  unfold fX4_stepOn_b26 at h
  refine g_aload_n hx hb hl 0 rfl dX4_stepOn_26 ?_
  refine lv_dup hx hb dX4_stepOn_27 (by first | exact va_rf_cat _ | rfl | exact g_catA _) ?_
  refine g_rdI hx hb hown hts hKn hS h fd_4_4_11 rfl (Or.inl (hts _ q1876)) (fun _ z => z) dX4_stepOn_28 (fun x28 h => ?_)
  refine lv_iconst (v := 1) hx hb dX4_stepOn_31 (by decide) ?_
  refine lv_iadd hx hb dX4_stepOn_32 ?_
  refine g_ptI hx hb hown hts hKn hS h fd_4_4_11 (Or.inl (hts _ q1876)) (fun _ z => z) (fun z => nomatch z) dX4_stepOn_33 (fun G33 h H locs hS => ?_)
  refine lv_goto (tgt := 0) hx hb dX4_stepOn_36 (by decide) ?_
  exact hk0 _ _ _ h _ _ _ _ _ hS (gls_sub hl [0] rfl)
theorem sX4_stepOn_b0 {p : Program} {l : Launch} {e : Env} {R : Room} {s : State} {m : MethodId} {args : Array Value} {below : List Frame} {meth : Method} {c : Code} {E : g_E} {D : g_D} (C : gC p R s m args meth c cX4_stepOn 3 RX4 "stepOn" (none) 2 85 E D) : ∀ (n : Nat) (t : Nat) (G : g_G) (q : g_G), fX4_stepOn_b0 E n t G = some q → ∀ (H : Heap) (locs : List Loc) (cells slots : Nat) (ls : Array Slot), gSt E D G H locs → gls ls 3 [(0, .inr (.inr (some t)))] → gT p l e R s m args below meth c E D H locs cells slots none q (F0 m 0 ls []) := by
  obtain ⟨hx, hb, hml, hown, hts, hKn, hRc, hRs, hc1, hc2, hRf, hRl, hr, hlk, hnm⟩ := id C
  intro n
  induction n with
  | zero =>
    intro t G q h
    exact g_no h
  | succ n ih =>
    intro t G q h H locs cells slots ls hS hl
    rw [fX4_stepOn_b0] at h
    refine g_aload_n hx hb hl 0 rfl dX4_stepOn_0 ?_
    refine g_aload_n hx hb hl 0 rfl dX4_stepOn_1 ?_
    refine g_rdI hx hb hown hts hKn hS h fd_4_4_11 rfl (Or.inl (hts _ q1876)) (fun _ z => z) dX4_stepOn_2 (fun x2 h => ?_)
    obtain ⟨b5, hb5, h⟩ := g_bnd h
    obtain ⟨hr5, hk5⟩ := g_chk hb5
    obtain ⟨z5, h5, h⟩ := g_bnd h
    refine g_callV (n := 1) (b := b5) (av := [.inl x2]) (rs := []) hx hb hml hown hts hKn hRc hRs hS hl (sX4_byteAt l E D h5) (lw_V q2096 q2098 qs50 q135 q2099) ⟨rfl, by decide, by decide, by decide +kernel⟩ ⟨by rw [hRf]; exact Nat.le_of_ble_eq_true rfl, by rw [hRl]; exact Nat.le_of_ble_eq_true rfl⟩ (g_recv hKn hS hk5 (by decide) (by decide)) rfl (by rw [hr5]; rfl) (Nat.le_of_ble_eq_true rfl) dX4_stepOn_5 (fun H locs cells slots hS => ?_)
    refine lv_bipush (v := 32) hx hb dX4_stepOn_8 (by decide) ?_
    refine lv_icmp_eq (tgt := 26) hx hb dX4_stepOn_10 (by decide) (fun c_10 => ?_) (fun c_10 => ?_)
    · have h := g_ift c_10 h
      exact sX4_stepOn_b26 C ih _ _ _ h _ _ _ _ _ hS (gls_sub hl [0] rfl)
    · have h := g_iff c_10 h
      refine g_aload_n hx hb hl 0 rfl dX4_stepOn_13 ?_
      refine g_aload_n hx hb hl 0 rfl dX4_stepOn_14 ?_
      refine g_rdI hx hb hown hts hKn hS h fd_4_4_11 rfl (Or.inl (hts _ q1876)) (fun _ z => z) dX4_stepOn_15 (fun x15 h => ?_)
      obtain ⟨b18, hb18, h⟩ := g_bnd h
      obtain ⟨hr18, hk18⟩ := g_chk hb18
      obtain ⟨z18, h18, h⟩ := g_bnd h
      refine g_callV (n := 1) (b := b18) (av := [.inl x15]) (rs := []) hx hb hml hown hts hKn hRc hRs hS hl (sX4_byteAt l E D h18) (lw_V q2096 q2098 qs50 q135 q2099) ⟨rfl, by decide, by decide, by decide +kernel⟩ ⟨by rw [hRf]; exact Nat.le_of_ble_eq_true rfl, by rw [hRl]; exact Nat.le_of_ble_eq_true rfl⟩ (g_recv hKn hS hk18 (by decide) (by decide)) rfl (by rw [hr18]; rfl) (Nat.le_of_ble_eq_true rfl) dX4_stepOn_18 (fun H locs cells slots hS => ?_)
      refine lv_bipush (v := 10) hx hb dX4_stepOn_21 (by decide) ?_
      refine lv_icmp_ne (tgt := 39) hx hb dX4_stepOn_23 (by decide) (fun c_23 => ?_) (fun c_23 => ?_)
      · have h := g_ift c_23 h
        refine g_aload_n hx hb hl 0 rfl dX4_stepOn_39 ?_
        refine g_aload_n hx hb hl 0 rfl dX4_stepOn_40 ?_
        refine g_rdI hx hb hown hts hKn hS h fd_4_4_11 rfl (Or.inl (hts _ q1876)) (fun _ z => z) dX4_stepOn_41 (fun x41 h => ?_)
        refine g_ptI hx hb hown hts hKn hS h fd_4_4_16 (Or.inl (hts _ q1881)) (fun _ z => z) (fun z => nomatch z) dX4_stepOn_44 (fun G44 h H locs hS => ?_)
        refine g_aload_n hx hb hl 0 rfl dX4_stepOn_47 ?_
        refine lv_iconst (v := 0) hx hb dX4_stepOn_48 (by decide) ?_
        refine g_ptI hx hb hown hts hKn hS h fd_4_4_14 (Or.inl (hts _ q1879)) (fun _ z => z) (fun z => nomatch z) dX4_stepOn_49 (fun G49 h H locs hS => ?_)
        refine g_aload_n hx hb hl 0 rfl dX4_stepOn_52 ?_
        refine g_aload_n hx hb hl 0 rfl dX4_stepOn_53 ?_
        refine g_rdI hx hb hown hts hKn hS h fd_4_4_11 rfl (Or.inl (hts _ q1876)) (fun _ z => z) dX4_stepOn_54 (fun x54 h => ?_)
        obtain ⟨b57, hb57, h⟩ := g_bnd h
        obtain ⟨hr57, hk57⟩ := g_chk hb57
        obtain ⟨z57, h57, h⟩ := g_bnd h
        refine g_callV (n := 1) (b := b57) (av := [.inl x54]) (rs := []) hx hb hml hown hts hKn hRc hRs hS hl (sX4_byteAt l E D h57) (lw_V q2096 q2098 qs50 q135 q2099) ⟨rfl, by decide, by decide, by decide +kernel⟩ ⟨by rw [hRf]; exact Nat.le_of_ble_eq_true rfl, by rw [hRl]; exact Nat.le_of_ble_eq_true rfl⟩ (g_recv hKn hS hk57 (by decide) (by decide)) rfl (by rw [hr57]; rfl) (Nat.le_of_ble_eq_true rfl) dX4_stepOn_57 (fun H locs cells slots hS => ?_)
        refine g_istore_n (l1 := [(1, .inl z57.1), (0, .inr (.inr (some t)))]) hx hb hl (by decide) rfl dX4_stepOn_60 (fun ls hl => ?_)
        refine g_iload_n hx hb hl 0 rfl dX4_stepOn_61 ?_
        refine lv_iconst (v := (-1)) hx hb dX4_stepOn_62 (by decide) ?_
        refine lv_icmp_ne (tgt := 74) hx hb dX4_stepOn_63 (by decide) (fun c_63 => ?_) (fun c_63 => ?_)
        · have h := g_ift c_63 h
          refine g_iload_n hx hb hl 0 rfl dX4_stepOn_74 ?_
          obtain ⟨z75, h75, h⟩ := g_bnd h
          refine g_callS (n := 1) (av := [.inl z57.1]) (rs := []) hx hb hml hown hts hKn hRc hRs hS hl (sX4_isLetter l E D h75) (lw_S q2100 q2101 q135 q2102) ⟨by decide, by decide, by decide +kernel⟩ ⟨by rw [hRf]; exact Nat.le_of_ble_eq_true rfl, by rw [hRl]; exact Nat.le_of_ble_eq_true rfl⟩ rfl rfl (Nat.le_of_ble_eq_true rfl) dX4_stepOn_75 (fun H locs cells slots hS => ?_)
          refine lv_if_eq (tgt := 116) hx hb dX4_stepOn_78 (by decide) (fun c_78 => ?_) (fun c_78 => ?_)
          · have h := g_ift c_78 h
            refine g_iload_n hx hb hl 0 rfl dX4_stepOn_116 ?_
            obtain ⟨z117, h117, h⟩ := g_bnd h
            refine g_callS (n := 1) (av := [.inl z57.1]) (rs := []) hx hb hml hown hts hKn hRc hRs hS hl (sX4_isDigit l E D h117) (lw_S q2103 q2104 q135 q2105) ⟨by decide, by decide, by decide +kernel⟩ ⟨by rw [hRf]; exact Nat.le_of_ble_eq_true rfl, by rw [hRl]; exact Nat.le_of_ble_eq_true rfl⟩ rfl rfl (Nat.le_of_ble_eq_true rfl) dX4_stepOn_117 (fun H locs cells slots hS => ?_)
            refine lv_if_eq (tgt := 191) hx hb dX4_stepOn_120 (by decide) (fun c_120 => ?_) (fun c_120 => ?_)
            · have h := g_ift c_120 h
              refine g_aload_n hx hb hl 1 rfl dX4_stepOn_191 ?_
              refine lv_dup hx hb dX4_stepOn_192 (by first | exact va_rf_cat _ | rfl | exact g_catA _) ?_
              refine g_rdI hx hb hown hts hKn hS h fd_4_4_11 rfl (Or.inl (hts _ q1876)) (fun _ z => z) dX4_stepOn_193 (fun x193 h => ?_)
              refine lv_iconst (v := 1) hx hb dX4_stepOn_196 (by decide) ?_
              refine lv_iadd hx hb dX4_stepOn_197 ?_
              refine g_ptI hx hb hown hts hKn hS h fd_4_4_11 (Or.inl (hts _ q1876)) (fun _ z => z) (fun z => nomatch z) dX4_stepOn_198 (fun G198 h H locs hS => ?_)
              refine g_iload_n hx hb hl 0 rfl dX4_stepOn_201 ?_
              refine lv_bipush (v := 59) hx hb dX4_stepOn_202 (by decide) ?_
              refine lv_icmp_eq (tgt := 255) hx hb dX4_stepOn_204 (by decide) (fun c_204 => ?_) (fun c_204 => ?_)
              · have h := g_ift c_204 h
                exact sX4_stepOn_b255 C _ _ _ _ h _ _ _ _ _ hS (gls_sub hl [1, 0] rfl)
              · have h := g_iff c_204 h
                refine g_iload_n hx hb hl 0 rfl dX4_stepOn_207 ?_
                refine lv_bipush (v := 40) hx hb dX4_stepOn_208 (by decide) ?_
                refine lv_icmp_eq (tgt := 255) hx hb dX4_stepOn_210 (by decide) (fun c_210 => ?_) (fun c_210 => ?_)
                · have h := g_ift c_210 h
                  exact sX4_stepOn_b255 C _ _ _ _ h _ _ _ _ _ hS (gls_sub hl [1, 0] rfl)
                · have h := g_iff c_210 h
                  refine g_iload_n hx hb hl 0 rfl dX4_stepOn_213 ?_
                  refine lv_bipush (v := 41) hx hb dX4_stepOn_214 (by decide) ?_
                  refine lv_icmp_eq (tgt := 255) hx hb dX4_stepOn_216 (by decide) (fun c_216 => ?_) (fun c_216 => ?_)
                  · have h := g_ift c_216 h
                    exact sX4_stepOn_b255 C _ _ _ _ h _ _ _ _ _ hS (gls_sub hl [1, 0] rfl)
                  · have h := g_iff c_216 h
                    refine g_iload_n hx hb hl 0 rfl dX4_stepOn_219 ?_
                    refine lv_bipush (v := 43) hx hb dX4_stepOn_220 (by decide) ?_
                    refine lv_icmp_eq (tgt := 255) hx hb dX4_stepOn_222 (by decide) (fun c_222 => ?_) (fun c_222 => ?_)
                    · have h := g_ift c_222 h
                      exact sX4_stepOn_b255 C _ _ _ _ h _ _ _ _ _ hS (gls_sub hl [1, 0] rfl)
                    · have h := g_iff c_222 h
                      refine g_iload_n hx hb hl 0 rfl dX4_stepOn_225 ?_
                      refine lv_bipush (v := 45) hx hb dX4_stepOn_226 (by decide) ?_
                      refine lv_icmp_eq (tgt := 255) hx hb dX4_stepOn_228 (by decide) (fun c_228 => ?_) (fun c_228 => ?_)
                      · have h := g_ift c_228 h
                        exact sX4_stepOn_b255 C _ _ _ _ h _ _ _ _ _ hS (gls_sub hl [1, 0] rfl)
                      · have h := g_iff c_228 h
                        refine g_iload_n hx hb hl 0 rfl dX4_stepOn_231 ?_
                        refine lv_bipush (v := 42) hx hb dX4_stepOn_232 (by decide) ?_
                        refine lv_icmp_eq (tgt := 255) hx hb dX4_stepOn_234 (by decide) (fun c_234 => ?_) (fun c_234 => ?_)
                        · have h := g_ift c_234 h
                          exact sX4_stepOn_b255 C _ _ _ _ h _ _ _ _ _ hS (gls_sub hl [1, 0] rfl)
                        · have h := g_iff c_234 h
                          refine g_iload_n hx hb hl 0 rfl dX4_stepOn_237 ?_
                          refine lv_bipush (v := 47) hx hb dX4_stepOn_238 (by decide) ?_
                          refine lv_icmp_eq (tgt := 255) hx hb dX4_stepOn_240 (by decide) (fun c_240 => ?_) (fun c_240 => ?_)
                          · have h := g_ift c_240 h
                            exact sX4_stepOn_b255 C _ _ _ _ h _ _ _ _ _ hS (gls_sub hl [1, 0] rfl)
                          · have h := g_iff c_240 h
                            refine g_iload_n hx hb hl 0 rfl dX4_stepOn_243 ?_
                            refine lv_bipush (v := 60) hx hb dX4_stepOn_244 (by decide) ?_
                            refine lv_icmp_eq (tgt := 255) hx hb dX4_stepOn_246 (by decide) (fun c_246 => ?_) (fun c_246 => ?_)
                            · have h := g_ift c_246 h
                              exact sX4_stepOn_b255 C _ _ _ _ h _ _ _ _ _ hS (gls_sub hl [1, 0] rfl)
                            · have h := g_iff c_246 h
                              refine g_iload_n hx hb hl 0 rfl dX4_stepOn_249 ?_
                              refine lv_bipush (v := 61) hx hb dX4_stepOn_250 (by decide) ?_
                              refine lv_icmp_ne (tgt := 259) hx hb dX4_stepOn_252 (by decide) (fun c_252 => ?_) (fun c_252 => ?_)
                              · have h := g_ift c_252 h
                                refine lv_iconst (v := 0) hx hb dX4_stepOn_259 (by decide) ?_
                                exact sX4_stepOn_b260 C _ _ _ _ _ h _ _ _ _ _ hS (gls_sub hl [1, 0] rfl)
                              · have h := g_iff (fun z => z c_252) h
                                exact sX4_stepOn_b255 C _ _ _ _ h _ _ _ _ _ hS (gls_sub hl [1, 0] rfl)
            · have h := g_iff c_120 h
              refine g_aload_n hx hb hl 1 rfl dX4_stepOn_123 ?_
              refine lv_iconst (v := 0) hx hb dX4_stepOn_124 (by decide) ?_
              refine g_ptI hx hb hown hts hKn hS h fd_4_4_15 (Or.inl (hts _ q1880)) (fun _ z => z) (fun z => nomatch z) dX4_stepOn_125 (fun G125 h H locs hS => ?_)
              exact sX4_stepOn_b128 C gFU _ _ _ h _ _ _ _ _ hS (gls_sub hl [1] rfl)
          · have h := g_iff c_78 h
            exact sX4_stepOn_b81 C gFU _ _ _ h _ _ _ _ _ hS (gls_sub hl [1] rfl)
        · have h := g_iff (fun z => z c_63) h
          refine g_aload_n hx hb hl 1 rfl dX4_stepOn_66 ?_
          refine lv_iconst (v := 0) hx hb dX4_stepOn_67 (by decide) ?_
          refine g_ptI hx hb hown hts hKn hS h fd_4_4_13 (Or.inl (hts _ q1878)) (fun _ z => z) (fun z => nomatch z) dX4_stepOn_68 (fun G68 h H locs hS => ?_)
          refine lv_goto (tgt := 279) hx hb dX4_stepOn_71 (by decide) ?_
          exact sX4_stepOn_b279 C _ _ _ h _ _ _ _ _ hS (gls_sub hl [1] rfl)
      · have h := g_iff (fun z => z c_23) h
        exact sX4_stepOn_b26 C ih _ _ _ h _ _ _ _ _ hS (gls_sub hl [0] rfl)
theorem sX4_stepOn (l : Launch) (E : g_E) (D : g_D) {t : Nat} {G : g_G} {q : g_G} (h : fX4_stepOn E t G = some q) : gMet l E D yX4_stepOn (ws_ yX4_stepOn cX4_stepOn 3 (none)) 2 85 [.inr (.inr (some t))] G none q := by
  refine gMet.of (by decide +kernel) (Nat.le_of_ble_eq_true rfl) ?_
  intro p e R s m args below meth c C hS ls hl
  have C : gC p R s m args meth c cX4_stepOn 3 RX4 "stepOn" (none) 2 85 E D := C
  obtain ⟨hx, hb, hml, hown, hts, hKn, hRc, hRs, hc1, hc2, hRf, hRl, hr, hlk, hnm⟩ := id C
  have hl : gls ls 3 [(0, .inr (.inr (some t)))] := hl
  generalize s.heap = H at hS ⊢
  unfold fX4_stepOn at h
  exact sX4_stepOn_b0 C gFU _ _ _ h _ _ _ _ _ hS (gls_sub hl [0] rfl)
