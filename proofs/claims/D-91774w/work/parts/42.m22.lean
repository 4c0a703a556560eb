set_option maxRecDepth 100000
/-- SendHallModel.goOn(I)V -/
def fX4_goOn (E : g_E) (t : Nat) (v1 : Int32) (G : g_G) : Option (g_G) :=
  (gchk G 4 (some t)).bind fun b4 =>
  (fX4_own E b4 v1 0 G).bind fun z4 =>
  (gchk z4.2 4 (some t)).bind fun b7 =>
  (fX4_following E b7 z4.1 z4.2).bind fun z7 =>
  (gchk z7.2 4 (some t)).bind fun b14 =>
  (fX4_come E b14 v1 z7.1 z7.2).bind fun z14 =>
  some z14
theorem sX4_goOn (l : Launch) (E : g_E) (D : g_D) {t : Nat} {v1 : Int32} {G : g_G} {q : g_G} (h : fX4_goOn E t v1 G = some q) : gMet l E D yX4_goOn (ws_ yX4_goOn cX4_goOn 3 (none)) 6 183 [.inr (.inr (some t)), .inl v1] G none q := by
  refine gMet.of (by decide +kernel) (Nat.le_of_ble_eq_true rfl) ?_
  intro p e R s m args below meth c C hS ls hl
  have C : gC p R s m args meth c cX4_goOn 3 RX4 "goOn" (none) 6 183 E D := C
  obtain ⟨hx, hb, hml, hown, hts, hKn, hRc, hRs, hc1, hc2, hRf, hRl, hr, hlk, hnm⟩ := id C
  have hl : gls ls 3 [(0, .inr (.inr (some t))), (1, .inl v1)] := hl
  generalize s.heap = H at hS ⊢
  unfold fX4_goOn at h
  refine g_aload_n hx hb hl 0 rfl dX4_goOn_0 ?_
  refine g_aload_n hx hb hl 0 rfl dX4_goOn_1 ?_
  refine g_iload_n hx hb hl 1 rfl dX4_goOn_2 ?_
  refine lv_iconst (v := 0) hx hb dX4_goOn_3 (by decide) ?_
  obtain ⟨b4, hb4, h⟩ := g_bnd h
  obtain ⟨hr4, hk4⟩ := g_chk hb4
  obtain ⟨z4, h4, h⟩ := g_bnd h
  refine g_callV (n := 2) (b := b4) (av := [.inl v1, .inl 0]) (rs := [.inr (.inr (some t))]) hx hb hml hown hts hKn hRc hRs hS hl (sX4_own l E D h4) (lw_V q2245 q2247 qs77 q135 q2248) ⟨rfl, by decide, by decide, by decide +kernel⟩ ⟨by rw [hRf]; exact Nat.le_of_ble_eq_true rfl, by rw [hRl]; exact Nat.le_of_ble_eq_true rfl⟩ (g_recv hKn hS hk4 (by decide) (by decide)) rfl (by rw [hr4]; rfl) (Nat.le_of_ble_eq_true rfl) dX4_goOn_4 (fun H locs cells slots hS => ?_)
  obtain ⟨b7, hb7, h⟩ := g_bnd h
  obtain ⟨hr7, hk7⟩ := g_chk hb7
  obtain ⟨z7, h7, h⟩ := g_bnd h
  refine g_callV (n := 1) (b := b7) (av := [.inl z4.1]) (rs := []) hx hb hml hown hts hKn hRc hRs hS hl (sX4_following l E D h7) (lw_V q2237 q2239 qs75 q135 q2240) ⟨rfl, by decide, by decide, by decide +kernel⟩ ⟨by rw [hRf]; exact Nat.le_of_ble_eq_true rfl, by rw [hRl]; exact Nat.le_of_ble_eq_true rfl⟩ (g_recv hKn hS hk7 (by decide) (by decide)) rfl (by rw [hr7]; rfl) (Nat.le_of_ble_eq_true rfl) dX4_goOn_7 (fun H locs cells slots hS => ?_)
  refine g_istore_n (l1 := [(2, .inl z7.1), (0, .inr (.inr (some t))), (1, .inl v1)]) hx hb hl (by decide) rfl dX4_goOn_10 (fun ls hl => ?_)
  refine g_aload_n hx hb hl 1 rfl dX4_goOn_11 ?_
  refine g_iload_n hx hb hl 2 rfl dX4_goOn_12 ?_
  refine g_iload_n hx hb hl 0 rfl dX4_goOn_13 ?_
  obtain ⟨b14, hb14, h⟩ := g_bnd h
  obtain ⟨hr14, hk14⟩ := g_chk hb14
  obtain ⟨z14, h14, h⟩ := g_bnd h
  refine g_callV (n := 2) (b := b14) (av := [.inl v1, .inl z7.1]) (rs := []) hx hb hml hown hts hKn hRc hRs hS hl (sX4_come l E D h14) (lw_V q2229 q2231 qs73 q135 q2232) ⟨rfl, by decide, by decide, by decide +kernel⟩ ⟨by rw [hRf]; exact Nat.le_of_ble_eq_true rfl, by rw [hRl]; exact Nat.le_of_ble_eq_true rfl⟩ (g_recv hKn hS hk14 (by decide) (by decide)) rfl (by rw [hr14]; rfl) (Nat.le_of_ble_eq_true rfl) dX4_goOn_14 (fun H locs cells slots hS => ?_)
  exact g_vretG hx hb hr hlk hKn hRc hRs hS h dX4_goOn_17
/-- SendHallModel.hands(I)Z -/
def fX4_hands_b63 (E : g_E) (t : Nat) (v1 : Int32) (v2 : Int32) (v3 : Int32) (s0 : Int32) (G : g_G) : Option (Int32 × g_G) :=
  if s0 = 0 then (
    if (0 : Int32) = 0 ∨ (0 : Int32) = 1 then some (0, G) else none)
  else (
    (gchk G 4 (some t)).bind fun b73 =>
    (fX4_asked E b73 v2 1 G).bind fun z73 =>
    if ¬ z73.1 = v3 then (
      if (0 : Int32) = 0 ∨ (0 : Int32) = 1 then some (0, z73.2) else none)
    else (
      (gchk z73.2 4 (some t)).bind fun b84 =>
      (fX4_lying E b84 v1 v2 v3 z73.2).bind fun z84 =>
      if ¬ z84.1 = (-1 : Int32) then (
        if (0 : Int32) = 0 ∨ (0 : Int32) = 1 then some (0, z84.2) else none)
      else (
        if (1 : Int32) = 0 ∨ (1 : Int32) = 1 then some (1, z84.2) else none)))
def fX4_hands_b62 (E : g_E) (t : Nat) (v1 : Int32) (v2 : Int32) (v3 : Int32) (G : g_G) : Option (Int32 × g_G) :=
  fX4_hands_b63 E t v1 v2 v3 0 G
def fX4_hands_b58 (E : g_E) (t : Nat) (v1 : Int32) (v2 : Int32) (v3 : Int32) (G : g_G) : Option (Int32 × g_G) :=
  fX4_hands_b63 E t v1 v2 v3 1 G
def fX4_hands_b33 (E : g_E) (t : Nat) (v1 : Int32) (v2 : Int32) (v3 : Int32) (G : g_G) : Option (Int32 × g_G) :=
  (gchk G 4 (some t)).bind fun b36 =>
  (fX4_isAt E b36 v2 4 G).bind fun z36 =>
  if z36.1 = 0 then (
    fX4_hands_b62 E t v1 v2 v3 z36.2)
  else (
    (grI z36.2 4 4 (some t) 35).bind fun x43 =>
    if x43 = (-1 : Int32) then (
      fX4_hands_b58 E t v1 v2 v3 z36.2)
    else (
      (grI z36.2 4 4 (some t) 35).bind fun x51 =>
      if ¬ x51 = v1 then (
        fX4_hands_b62 E t v1 v2 v3 z36.2)
      else (
        fX4_hands_b58 E t v1 v2 v3 z36.2)))
def fX4_hands (E : g_E) (t : Nat) (v1 : Int32) (G : g_G) : Option (Int32 × g_G) :=
  (gchk G 4 (some t)).bind fun b3 =>
  (fX4_asked E b3 v1 0 G).bind fun z3 =>
  (gchk z3.2 4 (some t)).bind fun b10 =>
  (fX4_asked E b10 v1 1 z3.2).bind fun z10 =>
  (gchk z10.2 4 (some t)).bind fun b17 =>
  (fX4_isAt E b17 z3.1 3 z10.2).bind fun z17 =>
  if z17.1 = 0 then (
    fX4_hands_b33 E t v1 z3.1 z10.1 z17.2)
  else (
    (gchk z17.2 4 (some t)).bind fun b26 =>
    (fX4_asked E b26 z3.1 0 z17.2).bind fun z26 =>
    if z26.1 = v1 then (
      fX4_hands_b58 E t v1 z3.1 z10.1 z26.2)
    else (
      fX4_hands_b33 E t v1 z3.1 z10.1 z26.2))
theorem sX4_hands_b63 {p : Program} {l : Launch} {e : Env} {R : Room} {s : State} {m : MethodId} {args : Array Value} {below : List Frame} {meth : Method} {c : Code} {E : g_E} {D : g_D} (C : gC p R s m args meth c cX4_hands 5 RX4 "hands" (some .boolean) 4 134 E D) : ∀ (t : Nat) (v1 : Int32) (v2 : Int32) (v3 : Int32) (s0 : Int32) (G : g_G) (q : Int32 × g_G), fX4_hands_b63 E t v1 v2 v3 s0 G = some q → ∀ (H : Heap) (locs : List Loc) (cells slots : Nat) (ls : Array Slot), gSt E D G H locs → gls ls 5 [(0, .inr (.inr (some t))), (1, .inl v1), (2, .inl v2), (3, .inl v3)] → gT p l e R s m args below meth c E D H locs cells slots (some (.int q.1)) q.2 (F0 m 63 ls [.int s0]) := by
  obtain ⟨hx, hb, hml, hown, hts, hKn, hRc, hRs, hc1, hc2, hRf, hRl, hr, hlk, hnm⟩ := id C
  intro t v1 v2 v3 s0 G q h H locs cells slots ls hS hl
  unfold fX4_hands_b63 at h
  refine g_istore (l1 := [(4, .inl s0), (0, .inr (.inr (some t))), (1, .inl v1), (2, .inl v2), (3, .inl v3)]) hx hb hl (by decide) rfl dX4_hands_63 (fun ls hl => ?_)
  refine g_iload hx hb hl 0 rfl dX4_hands_65 ?_
  refine lv_if_eq (tgt := 95) hx hb dX4_hands_67 (by decide) (fun c_67 => ?_) (fun c_67 => ?_)
  · have h := g_ift c_67 h
    refine lv_iconst (v := 0) hx hb dX4_hands_95 (by decide) ?_
    exact g_zretG hx hb hr hlk hKn hRc hRs hS h dX4_hands_96
  · have h := g_iff c_67 h
    refine g_aload_n hx hb hl 1 rfl dX4_hands_70 ?_
    refine g_iload_n hx hb hl 3 rfl dX4_hands_71 ?_
    refine lv_iconst (v := 1) hx hb dX4_hands_72 (by decide) ?_
    obtain ⟨b73, hb73, h⟩ := g_bnd h
    obtain ⟨hr73, hk73⟩ := g_chk hb73
    obtain ⟨z73, h73, h⟩ := g_bnd h
    refine g_callV (n := 2) (b := b73) (av := [.inl v2, .inl 1]) (rs := []) hx hb hml hown hts hKn hRc hRs hS hl (sX4_asked l E D h73) (lw_V q2241 q2243 qs76 q135 q2244) ⟨rfl, by decide, by decide, by decide +kernel⟩ ⟨by rw [hRf]; exact Nat.le_of_ble_eq_true rfl, by rw [hRl]; exact Nat.le_of_ble_eq_true rfl⟩ (g_recv hKn hS hk73 (by decide) (by decide)) rfl (by rw [hr73]; rfl) (Nat.le_of_ble_eq_true rfl) dX4_hands_73 (fun H locs cells slots hS => ?_)
    refine g_iload_n hx hb hl 4 rfl dX4_hands_76 ?_
    refine lv_icmp_ne (tgt := 95) hx hb dX4_hands_77 (by decide) (fun c_77 => ?_) (fun c_77 => ?_)
    · have h := g_ift c_77 h
      refine lv_iconst (v := 0) hx hb dX4_hands_95 (by decide) ?_
      exact g_zretG hx hb hr hlk hKn hRc hRs hS h dX4_hands_96
    · have h := g_iff (fun z => z c_77) h
      refine g_aload_n hx hb hl 1 rfl dX4_hands_80 ?_
      refine g_iload_n hx hb hl 2 rfl dX4_hands_81 ?_
      refine g_iload_n hx hb hl 3 rfl dX4_hands_82 ?_
      refine g_iload_n hx hb hl 4 rfl dX4_hands_83 ?_
      obtain ⟨b84, hb84, h⟩ := g_bnd h
      obtain ⟨hr84, hk84⟩ := g_chk hb84
      obtain ⟨z84, h84, h⟩ := g_bnd h
      refine g_callV (n := 3) (b := b84) (av := [.inl v1, .inl v2, .inl v3]) (rs := []) hx hb hml hown hts hKn hRc hRs hS hl (sX4_lying l E D h84) (lw_V q2299 q2301 qs89 q135 q2302) ⟨rfl, by decide, by decide, by decide +kernel⟩ ⟨by rw [hRf]; exact Nat.le_of_ble_eq_true rfl, by rw [hRl]; exact Nat.le_of_ble_eq_true rfl⟩ (g_recv hKn hS hk84 (by decide) (by decide)) rfl (by rw [hr84]; rfl) (Nat.le_of_ble_eq_true rfl) dX4_hands_84 (fun H locs cells slots hS => ?_)
      refine lv_iconst (v := (-1)) hx hb dX4_hands_87 (by decide) ?_
      refine lv_icmp_ne (tgt := 95) hx hb dX4_hands_88 (by decide) (fun c_88 => ?_) (fun c_88 => ?_)
      · have h := g_ift c_88 h
        refine lv_iconst (v := 0) hx hb dX4_hands_95 (by decide) ?_
        exact g_zretG hx hb hr hlk hKn hRc hRs hS h dX4_hands_96
      · have h := g_iff (fun z => z c_88) h
        refine lv_iconst (v := 1) hx hb dX4_hands_91 (by decide) ?_
        refine lv_goto (tgt := 96) hx hb dX4_hands_92 (by decide) ?_
        exact g_zretG hx hb hr hlk hKn hRc hRs hS h dX4_hands_96
theorem sX4_hands_b62 {p : Program} {l : Launch} {e : Env} {R : Room} {s : State} {m : MethodId} {args : Array Value} {below : List Frame} {meth : Method} {c : Code} {E : g_E} {D : g_D} (C : gC p R s m args meth c cX4_hands 5 RX4 "hands" (some .boolean) 4 134 E D) : ∀ (t : Nat) (v1 : Int32) (v2 : Int32) (v3 : Int32) (G : g_G) (q : Int32 × g_G), fX4_hands_b62 E t v1 v2 v3 G = some q → ∀ (H : Heap) (locs : List Loc) (cells slots : Nat) (ls : Array Slot), gSt E D G H locs → gls ls 5 [(0, .inr (.inr (some t))), (1, .inl v1), (2, .inl v2), (3, .inl v3)] → gT p l e R s m args below meth c E D H locs cells slots (some (.int q.1)) q.2 (F0 m 62 ls []) := by
  obtain ⟨hx, hb, hml, hown, hts, hKn, hRc, hRs, hc1, hc2, hRf, hRl, hr, hlk, hnm⟩ := id C
  intro t v1 v2 v3 G q h H locs cells slots ls hS hl
  unfold fX4_hands_b62 at h
  refine lv_iconst (v := 0) hx hb dX4_hands_62 (by decide) ?_
  exact sX4_hands_b63 C _ _ _ _ _ _ _ h _ _ _ _ _ hS (gls_sub hl [0, 1, 2, 3] rfl)
theorem sX4_hands_b58 {p : Program} {l : Launch} {e : Env} {R : Room} {s : State} {m : MethodId} {args : Array Value} {below : List Frame} {meth : Method} {c : Code} {E : g_E} {D : g_D} (C : gC p R s m args meth c cX4_hands 5 RX4 "hands" (some .boolean) 4 134 E D) : ∀ (t : Nat) (v1 : Int32) (v2 : Int32) (v3 : Int32) (G : g_G) (q : Int32 × g_G), fX4_hands_b58 E t v1 v2 v3 G = some q → ∀ (H : Heap) (locs : List Loc) (cells slots : Nat) (ls : Array Slot), gSt E D G H locs → gls ls 5 [(0, .inr (.inr (some t))), (1, .inl v1), (2, .inl v2), (3, .inl v3)] → gT p l e R s m args below meth c E D H locs cells slots (some (.int q.1)) q.2 (F0 m 58 ls []) := by
  obtain ⟨hx, hb, hml, hown, hts, hKn, hRc, hRs, hc1, hc2, hRf, hRl, hr, hlk, hnm⟩ := id C
  intro t v1 v2 v3 G q h H locs cells slots ls hS hl
  unfold fX4_hands_b58 at h
  refine lv_iconst (v := 1) hx hb dX4_hands_58 (by decide) ?_
  refine lv_goto (tgt := 63) hx hb dX4_hands_59 (by decide) ?_
  exact sX4_hands_b63 C _ _ _ _ _ _ _ h _ _ _ _ _ hS (gls_sub hl [0, 1, 2, 3] rfl)
theorem sX4_hands_b33 {p : Program} {l : Launch} {e : Env} {R : Room} {s : State} {m : MethodId} {args : Array Value} {below : List Frame} {meth : Method} {c : Code} {E : g_E} {D : g_D} (C : gC p R s m args meth c cX4_hands 5 RX4 "hands" (some .boolean) 4 134 E D) : ∀ (t : Nat) (v1 : Int32) (v2 : Int32) (v3 : Int32) (G : g_G) (q : Int32 × g_G), fX4_hands_b33 E t v1 v2 v3 G = some q → ∀ (H : Heap) (locs : List Loc) (cells slots : Nat) (ls : Array Slot), gSt E D G H locs → gls ls 5 [(0, .inr (.inr (some t))), (1, .inl v1), (2, .inl v2), (3, .inl v3)] → gT p l e R s m args below meth c E D H locs cells slots (some (.int q.1)) q.2 (F0 m 33 ls []) := by
  obtain ⟨hx, hb, hml, hown, hts, hKn, hRc, hRs, hc1, hc2, hRf, hRl, hr, hlk, hnm⟩ := id C
  intro t v1 v2 v3 G q h H locs cells slots ls hS hl
  unfold fX4_hands_b33 at h
  refine g_aload_n hx hb hl 0 rfl dX4_hands_33 ?_
  refine g_iload_n hx hb hl 2 rfl dX4_hands_34 ?_
  refine lv_iconst (v := 4) hx hb dX4_hands_35 (by decide) ?_
  obtain ⟨b36, hb36, h⟩ := g_bnd h
  obtain ⟨hr36, hk36⟩ := g_chk hb36
  obtain ⟨z36, h36, h⟩ := g_bnd h
  refine g_callV (n := 2) (b := b36) (av := [.inl v2, .inl 4]) (rs := []) hx hb hml hown hts hKn hRc hRs hS hl (sX4_isAt l E D h36) (lw_V q2280 q2282 qs85 q135 q2283) ⟨rfl, by decide, by decide, by decide +kernel⟩ ⟨by rw [hRf]; exact Nat.le_of_ble_eq_true rfl, by rw [hRl]; exact Nat.le_of_ble_eq_true rfl⟩ (g_recv hKn hS hk36 (by decide) (by decide)) rfl (by rw [hr36]; rfl) (Nat.le_of_ble_eq_true rfl) dX4_hands_36 (fun H locs cells slots hS => ?_)
  refine lv_if_eq (tgt := 62) hx hb dX4_hands_39 (by decide) (fun c_39 => ?_) (fun c_39 => ?_)
  · have h := g_ift c_39 h
    exact sX4_hands_b62 C _ _ _ _ _ _ h _ _ _ _ _ hS (gls_sub hl [0, 1, 2, 3] rfl)
  · have h := g_iff c_39 h
    refine g_aload_n hx hb hl 0 rfl dX4_hands_42 ?_
    refine g_rdI hx hb hown hts hKn hS h fd_4_4_35 rfl (Or.inl (hts _ q1900)) (fun _ z => z) dX4_hands_43 (fun x43 h => ?_)
    refine lv_iconst (v := (-1)) hx hb dX4_hands_46 (by decide) ?_
    refine lv_icmp_eq (tgt := 58) hx hb dX4_hands_47 (by decide) (fun c_47 => ?_) (fun c_47 => ?_)
    · have h := g_ift c_47 h
      exact sX4_hands_b58 C _ _ _ _ _ _ h _ _ _ _ _ hS (gls_sub hl [0, 1, 2, 3] rfl)
    · have h := g_iff c_47 h
      refine g_aload_n hx hb hl 0 rfl dX4_hands_50 ?_
      refine g_rdI hx hb hown hts hKn hS h fd_4_4_35 rfl (Or.inl (hts _ q1900)) (fun _ z => z) dX4_hands_51 (fun x51 h => ?_)
      refine g_iload_n hx hb hl 1 rfl dX4_hands_54 ?_
      refine lv_icmp_ne (tgt := 62) hx hb dX4_hands_55 (by decide) (fun c_55 => ?_) (fun c_55 => ?_)
      · have h := g_ift c_55 h
        exact sX4_hands_b62 C _ _ _ _ _ _ h _ _ _ _ _ hS (gls_sub hl [0, 1, 2, 3] rfl)
      · have h := g_iff (fun z => z c_55) h
        exact sX4_hands_b58 C _ _ _ _ _ _ h _ _ _ _ _ hS (gls_sub hl [0, 1, 2, 3] rfl)
theorem sX4_hands (l : Launch) (E : g_E) (D : g_D) {t : Nat} {v1 : Int32} {G : g_G} {q : Int32 × g_G} (h : fX4_hands E t v1 G = some q) : gMet l E D yX4_hands (ws_ yX4_hands cX4_hands 5 (some .boolean)) 4 134 [.inr (.inr (some t)), .inl v1] G (some (.int q.1)) q.2 := by
  refine gMet.of (by decide +kernel) (Nat.le_of_ble_eq_true rfl) ?_
  intro p e R s m args below meth c C hS ls hl
  have C : gC p R s m args meth c cX4_hands 5 RX4 "hands" (some .boolean) 4 134 E D := C
  obtain ⟨hx, hb, hml, hown, hts, hKn, hRc, hRs, hc1, hc2, hRf, hRl, hr, hlk, hnm⟩ := id C
  have hl : gls ls 5 [(0, .inr (.inr (some t))), (1, .inl v1)] := hl
  generalize s.heap = H at hS ⊢
  unfold fX4_hands at h
  refine g_aload_n hx hb hl 0 rfl dX4_hands_0 ?_
  refine g_iload_n hx hb hl 1 rfl dX4_hands_1 ?_
  refine lv_iconst (v := 0) hx hb dX4_hands_2 (by decide) ?_
  obtain ⟨b3, hb3, h⟩ := g_bnd h
  obtain ⟨hr3, hk3⟩ := g_chk hb3
  obtain ⟨z3, h3, h⟩ := g_bnd h
  refine g_callV (n := 2) (b := b3) (av := [.inl v1, .inl 0]) (rs := []) hx hb hml hown hts hKn hRc hRs hS hl (sX4_asked l E D h3) (lw_V q2241 q2243 qs76 q135 q2244) ⟨rfl, by decide, by decide, by decide +kernel⟩ ⟨by rw [hRf]; exact Nat.le_of_ble_eq_true rfl, by rw [hRl]; exact Nat.le_of_ble_eq_true rfl⟩ (g_recv hKn hS hk3 (by decide) (by decide)) rfl (by rw [hr3]; rfl) (Nat.le_of_ble_eq_true rfl) dX4_hands_3 (fun H locs cells slots hS => ?_)
  refine g_istore_n (l1 := [(2, .inl z3.1), (0, .inr (.inr (some t))), (1, .inl v1)]) hx hb hl (by decide) rfl dX4_hands_6 (fun ls hl => ?_)
  refine g_aload_n hx hb hl 1 rfl dX4_hands_7 ?_
  refine g_iload_n hx hb hl 2 rfl dX4_hands_8 ?_
  refine lv_iconst (v := 1) hx hb dX4_hands_9 (by decide) ?_
  obtain ⟨b10, hb10, h⟩ := g_bnd h
  obtain ⟨hr10, hk10⟩ := g_chk hb10
  obtain ⟨z10, h10, h⟩ := g_bnd h
  refine g_callV (n := 2) (b := b10) (av := [.inl v1, .inl 1]) (rs := []) hx hb hml hown hts hKn hRc hRs hS hl (sX4_asked l E D h10) (lw_V q2241 q2243 qs76 q135 q2244) ⟨rfl, by decide, by decide, by decide +kernel⟩ ⟨by rw [hRf]; exact Nat.le_of_ble_eq_true rfl, by rw [hRl]; exact Nat.le_of_ble_eq_true rfl⟩ (g_recv hKn hS hk10 (by decide) (by decide)) rfl (by rw [hr10]; rfl) (Nat.le_of_ble_eq_true rfl) dX4_hands_10 (fun H locs cells slots hS => ?_)
  refine g_istore_n (l1 := [(3, .inl z10.1), (2, .inl z3.1), (0, .inr (.inr (some t))), (1, .inl v1)]) hx hb hl (by decide) rfl dX4_hands_13 (fun ls hl => ?_)
  refine g_aload_n hx hb hl 2 rfl dX4_hands_14 ?_
  refine g_iload_n hx hb hl 1 rfl dX4_hands_15 ?_
  refine lv_iconst (v := 3) hx hb dX4_hands_16 (by decide) ?_
  obtain ⟨b17, hb17, h⟩ := g_bnd h
  obtain ⟨hr17, hk17⟩ := g_chk hb17
  obtain ⟨z17, h17, h⟩ := g_bnd h
  refine g_callV (n := 2) (b := b17) (av := [.inl z3.1, .inl 3]) (rs := []) hx hb hml hown hts hKn hRc hRs hS hl (sX4_isAt l E D h17) (lw_V q2280 q2282 qs85 q135 q2283) ⟨rfl, by decide, by decide, by decide +kernel⟩ ⟨by rw [hRf]; exact Nat.le_of_ble_eq_true rfl, by rw [hRl]; exact Nat.le_of_ble_eq_true rfl⟩ (g_recv hKn hS hk17 (by decide) (by decide)) rfl (by rw [hr17]; rfl) (Nat.le_of_ble_eq_true rfl) dX4_hands_17 (fun H locs cells slots hS => ?_)
  refine lv_if_eq (tgt := 33) hx hb dX4_hands_20 (by decide) (fun c_20 => ?_) (fun c_20 => ?_)
  · have h := g_ift c_20 h
    exact sX4_hands_b33 C _ _ _ _ _ _ h _ _ _ _ _ hS (gls_sub hl [2, 3, 1, 0] rfl)
  · have h := g_iff c_20 h
    refine g_aload_n hx hb hl 2 rfl dX4_hands_23 ?_
    refine g_iload_n hx hb hl 1 rfl dX4_hands_24 ?_
    refine lv_iconst (v := 0) hx hb dX4_hands_25 (by decide) ?_
    obtain ⟨b26, hb26, h⟩ := g_bnd h
    obtain ⟨hr26, hk26⟩ := g_chk hb26
    obtain ⟨z26, h26, h⟩ := g_bnd h
    refine g_callV (n := 2) (b := b26) (av := [.inl z3.1, .inl 0]) (rs := []) hx hb hml hown hts hKn hRc hRs hS hl (sX4_asked l E D h26) (lw_V q2241 q2243 qs76 q135 q2244) ⟨rfl, by decide, by decide, by decide +kernel⟩ ⟨by rw [hRf]; exact Nat.le_of_ble_eq_true rfl, by rw [hRl]; exact Nat.le_of_ble_eq_true rfl⟩ (g_recv hKn hS hk26 (by decide) (by decide)) rfl (by rw [hr26]; rfl) (Nat.le_of_ble_eq_true rfl) dX4_hands_26 (fun H locs cells slots hS => ?_)
    refine g_iload_n hx hb hl 3 rfl dX4_hands_29 ?_
    refine lv_icmp_eq (tgt := 58) hx hb dX4_hands_30 (by decide) (fun c_30 => ?_) (fun c_30 => ?_)
    · have h := g_ift c_30 h
      exact sX4_hands_b58 C _ _ _ _ _ _ h _ _ _ _ _ hS (gls_sub hl [2, 3, 1, 0] rfl)
    · have h := g_iff c_30 h
      exact sX4_hands_b33 C _ _ _ _ _ _ h _ _ _ _ _ hS (gls_sub hl [2, 3, 1, 0] rfl)
/-- SendHallModel.has(IIII)V -/
def fX4_has (E : g_E) (t : Nat) (v1 : Int32) (v2 : Int32) (v3 : Int32) (v4 : Int32) (G : g_G) : Option (g_G) :=
  (gchk G 4 (some t)).bind fun b3 =>
  (fX4_own E b3 v1 0 G).bind fun z3 =>
  (grR z3.2 4 4 (some t) 27).bind fun x12 =>
  (gaI z3.2 100 x12 z3.1).bind fun x17 =>
  (gchk z3.2 4 (some t)).bind fun b20 =>
  (fX4_put E b20 v1 (2 + x17) v3 z3.2).bind fun z20 =>
  (gchk z20 4 (some t)).bind fun b28 =>
  (fX4_put E b28 v1 6 v2 z20).bind fun z28 =>
  (grR z28 4 4 (some t) 28).bind fun x34 =>
  (gaI z28 100 x34 z3.1).bind fun x39 =>
  if v4 ≤ x39 then (
    (gchk z28 4 (some t)).bind fun b55 =>
    (fX4_goOn E b55 v1 z28).bind fun z55 =>
    some z55)
  else (
    (gchk z28 4 (some t)).bind fun b47 =>
    (fX4_put E b47 v1 1 1 z28).bind fun z47 =>
    some z47)
theorem sX4_has (l : Launch) (E : g_E) (D : g_D) {t : Nat} {v1 : Int32} {v2 : Int32} {v3 : Int32} {v4 : Int32} {G : g_G} {q : g_G} (h : fX4_has E t v1 v2 v3 v4 G = some q) : gMet l E D yX4_has (ws_ yX4_has cX4_has 6 (none)) 7 205 [.inr (.inr (some t)), .inl v1, .inl v2, .inl v3, .inl v4] G none q := by
  refine gMet.of (by decide +kernel) (Nat.le_of_ble_eq_true rfl) ?_
  intro p e R s m args below meth c C hS ls hl
  have C : gC p R s m args meth c cX4_has 6 RX4 "has" (none) 7 205 E D := C
  obtain ⟨hx, hb, hml, hown, hts, hKn, hRc, hRs, hc1, hc2, hRf, hRl, hr, hlk, hnm⟩ := id C
  have hl : gls ls 6 [(0, .inr (.inr (some t))), (1, .inl v1), (2, .inl v2), (3, .inl v3), (4, .inl v4)] := hl
  generalize s.heap = H at hS ⊢
  unfold fX4_has at h
  refine g_aload_n hx hb hl 0 rfl dX4_has_0 ?_
  refine g_iload_n hx hb hl 1 rfl dX4_has_1 ?_
  refine lv_iconst (v := 0) hx hb dX4_has_2 (by decide) ?_
  obtain ⟨b3, hb3, h⟩ := g_bnd h
  obtain ⟨hr3, hk3⟩ := g_chk hb3
  obtain ⟨z3, h3, h⟩ := g_bnd h
  refine g_callV (n := 2) (b := b3) (av := [.inl v1, .inl 0]) (rs := []) hx hb hml hown hts hKn hRc hRs hS hl (sX4_own l E D h3) (lw_V q2245 q2247 qs77 q135 q2248) ⟨rfl, by decide, by decide, by decide +kernel⟩ ⟨by rw [hRf]; exact Nat.le_of_ble_eq_true rfl, by rw [hRl]; exact Nat.le_of_ble_eq_true rfl⟩ (g_recv hKn hS hk3 (by decide) (by decide)) rfl (by rw [hr3]; rfl) (Nat.le_of_ble_eq_true rfl) dX4_has_3 (fun H locs cells slots hS => ?_)
  refine g_istore (l1 := [(5, .inl z3.1), (0, .inr (.inr (some t))), (1, .inl v1), (2, .inl v2), (3, .inl v3), (4, .inl v4)]) hx hb hl (by decide) rfl dX4_has_6 (fun ls hl => ?_)
  refine g_aload_n hx hb hl 1 rfl dX4_has_8 ?_
  refine g_iload_n hx hb hl 2 rfl dX4_has_9 ?_
  refine lv_iconst (v := 2) hx hb dX4_has_10 (by decide) ?_
  refine g_aload_n hx hb hl 1 rfl dX4_has_11 ?_
  refine g_rdR hx hb hown hts hKn hS h fd_4_4_27 rfl (Or.inl (hts _ q1892)) (fun _ z => z) dX4_has_12 (fun x12 h => ?_)
  refine g_iload hx hb hl 0 rfl dX4_has_15 ?_
  refine g_ialoadG hx hb hKn hS h dX4_has_17 (fun x17 h => ?_)
  refine lv_iadd hx hb dX4_has_18 ?_
  refine g_iload_n hx hb hl 4 rfl dX4_has_19 ?_
  obtain ⟨b20, hb20, h⟩ := g_bnd h
  obtain ⟨hr20, hk20⟩ := g_chk hb20
  obtain ⟨z20, h20, h⟩ := g_bnd h
  refine g_callV (n := 3) (b := b20) (av := [.inl v1, .inl (2 + x17), .inl v3]) (rs := []) hx hb hml hown hts hKn hRc hRs hS hl (sX4_put l E D h20) (lw_V q2233 q2235 qs74 q135 q2236) ⟨rfl, by decide, by decide, by decide +kernel⟩ ⟨by rw [hRf]; exact Nat.le_of_ble_eq_true rfl, by rw [hRl]; exact Nat.le_of_ble_eq_true rfl⟩ (g_recv hKn hS hk20 (by decide) (by decide)) rfl (by rw [hr20]; rfl) (Nat.le_of_ble_eq_true rfl) dX4_has_20 (fun H locs cells slots hS => ?_)
  refine g_aload_n hx hb hl 1 rfl dX4_has_23 ?_
  refine g_iload_n hx hb hl 2 rfl dX4_has_24 ?_
  refine lv_bipush (v := 6) hx hb dX4_has_25 (by decide) ?_
  refine g_iload_n hx hb hl 3 rfl dX4_has_27 ?_
  obtain ⟨b28, hb28, h⟩ := g_bnd h
  obtain ⟨hr28, hk28⟩ := g_chk hb28
  obtain ⟨z28, h28, h⟩ := g_bnd h
  refine g_callV (n := 3) (b := b28) (av := [.inl v1, .inl 6, .inl v2]) (rs := []) hx hb hml hown hts hKn hRc hRs hS hl (sX4_put l E D h28) (lw_V q2233 q2235 qs74 q135 q2236) ⟨rfl, by decide, by decide, by decide +kernel⟩ ⟨by rw [hRf]; exact Nat.le_of_ble_eq_true rfl, by rw [hRl]; exact Nat.le_of_ble_eq_true rfl⟩ (g_recv hKn hS hk28 (by decide) (by decide)) rfl (by rw [hr28]; rfl) (Nat.le_of_ble_eq_true rfl) dX4_has_28 (fun H locs cells slots hS => ?_)
  refine g_iload hx hb hl 5 rfl dX4_has_31 ?_
  refine g_aload_n hx hb hl 1 rfl dX4_has_33 ?_
  refine g_rdR hx hb hown hts hKn hS h fd_4_4_28 rfl (Or.inl (hts _ q1893)) (fun _ z => z) dX4_has_34 (fun x34 h => ?_)
  refine g_iload hx hb hl 0 rfl dX4_has_37 ?_
  refine g_ialoadG hx hb hKn hS h dX4_has_39 (fun x39 h => ?_)
  refine lv_icmp_le (tgt := 53) hx hb dX4_has_40 (by decide) (fun c_40 => ?_) (fun c_40 => ?_)
  · have h := g_ift c_40 h
    refine g_aload_n hx hb hl 1 rfl dX4_has_53 ?_
    refine g_iload_n hx hb hl 2 rfl dX4_has_54 ?_
    obtain ⟨b55, hb55, h⟩ := g_bnd h
    obtain ⟨hr55, hk55⟩ := g_chk hb55
    obtain ⟨z55, h55, h⟩ := g_bnd h
    refine g_callV (n := 1) (b := b55) (av := [.inl v1]) (rs := []) hx hb hml hown hts hKn hRc hRs hS hl (sX4_goOn l E D h55) (lw_V q2324 q2326 qs95 q135 q2327) ⟨rfl, by decide, by decide, by decide +kernel⟩ ⟨by rw [hRf]; exact Nat.le_of_ble_eq_true rfl, by rw [hRl]; exact Nat.le_of_ble_eq_true rfl⟩ (g_recv hKn hS hk55 (by decide) (by decide)) rfl (by rw [hr55]; rfl) (Nat.le_of_ble_eq_true rfl) dX4_has_55 (fun H locs cells slots hS => ?_)
    exact g_vretG hx hb hr hlk hKn hRc hRs hS h dX4_has_58
  · have h := g_iff c_40 h
    refine g_aload_n hx hb hl 1 rfl dX4_has_43 ?_
    refine g_iload_n hx hb hl 2 rfl dX4_has_44 ?_
    refine lv_iconst (v := 1) hx hb dX4_has_45 (by decide) ?_
    refine lv_iconst (v := 1) hx hb dX4_has_46 (by decide) ?_
    obtain ⟨b47, hb47, h⟩ := g_bnd h
    obtain ⟨hr47, hk47⟩ := g_chk hb47
    obtain ⟨z47, h47, h⟩ := g_bnd h
    refine g_callV (n := 3) (b := b47) (av := [.inl v1, .inl 1, .inl 1]) (rs := []) hx hb hml hown hts hKn hRc hRs hS hl (sX4_put l E D h47) (lw_V q2233 q2235 qs74 q135 q2236) ⟨rfl, by decide, by decide, by decide +kernel⟩ ⟨by rw [hRf]; exact Nat.le_of_ble_eq_true rfl, by rw [hRl]; exact Nat.le_of_ble_eq_true rfl⟩ (g_recv hKn hS hk47 (by decide) (by decide)) rfl (by rw [hr47]; rfl) (Nat.le_of_ble_eq_true rfl) dX4_has_47 (fun H locs cells slots hS => ?_)
    refine lv_goto (tgt := 58) hx hb dX4_has_50 (by decide) ?_
    exact g_vretG hx hb hr hlk hKn hRc hRs hS h dX4_has_58
/-- SendHallModel.readVar()I -/
def fX4_readVar_b60 (E : g_E) (t : Nat) (v1 : Int32) (G : g_G) : Option (Int32 × g_G) :=
  (grI G 4 4 (some t) 18).bind fun x61 =>
  if ¬ x61 = 0 then (
    some (v1, G))
  else (
    (gchk G 4 (some t)).bind fun b68 =>
    (fX4_stepOn E b68 G).bind fun z68 =>
    some (v1, z68))
def fX4_readVar_b29 (E : g_E) (t : Nat) (s0 : Int32) (G : g_G) : Option (Int32 × g_G) :=
  (grI G 4 4 (some t) 13).bind fun x31 =>
  if x31 = (1 : Int32) then (
    (fX4_isIn E s0 0 3 G).bind fun z49 =>
    if ¬ z49.1 = 0 then (
      fX4_readVar_b60 E t s0 z49.2)
    else (
      (gchk z49.2 4 (some t)).bind fun b57 =>
      (fX4_wrong E b57 3 z49.2).bind fun z57 =>
      fX4_readVar_b60 E t s0 z57))
  else (
    (gchk G 4 (some t)).bind fun b40 =>
    (fX4_wrong E b40 1 G).bind fun z40 =>
    fX4_readVar_b60 E t s0 z40)
def fX4_readVar (E : g_E) (t : Nat) (G : g_G) : Option (Int32 × g_G) :=
  (grI G 4 4 (some t) 18).bind fun x1 =>
  if x1 = 0 then (
    (grI G 4 4 (some t) 13).bind fun x10 =>
    if ¬ x10 = (1 : Int32) then (
      fX4_readVar_b29 E t (-1) G)
    else (
      (grR G 4 4 (some t) 1).bind fun x19 =>
      (gchk G 4 (some t)).bind fun b22 =>
      (fX4_which E b22 x19 G).bind fun z22 =>
      fX4_readVar_b29 E t z22.1 z22.2))
  else (
    some (0, G))
theorem sX4_readVar_b60 {p : Program} {l : Launch} {e : Env} {R : Room} {s : State} {m : MethodId} {args : Array Value} {below : List Frame} {meth : Method} {c : Code} {E : g_E} {D : g_D} (C : gC p R s m args meth c cX4_readVar 2 RX4 "readVar" (some .int) 7 194 E D) : ∀ (t : Nat) (v1 : Int32) (G : g_G) (q : Int32 × g_G), fX4_readVar_b60 E t v1 G = some q → ∀ (H : Heap) (locs : List Loc) (cells slots : Nat) (ls : Array Slot), gSt E D G H locs → gls ls 2 [(0, .inr (.inr (some t))), (1, .inl v1)] → gT p l e R s m args below meth c E D H locs cells slots (some (.int q.1)) q.2 (F0 m 60 ls []) := by
  obtain ⟨hx, hb, hml, hown, hts, hKn, hRc, hRs, hc1, hc2, hRf, hRl, hr, hlk, hnm⟩ := id C
  intro t v1 G q h H locs cells slots ls hS hl
  unfold fX4_readVar_b60 at h
  refine g_aload_n hx hb hl 0 rfl dX4_readVar_60 ?_
  refine g_rdI hx hb hown hts hKn hS h fd_4_4_18 rfl (Or.inl (hts _ q1883)) (fun _ z => z) dX4_readVar_61 (fun x61 h => ?_)
  refine lv_if_ne (tgt := 71) hx hb dX4_readVar_64 (by decide) (fun c_64 => ?_) (fun c_64 => ?_)
  · have h := g_ift c_64 h
    refine g_iload_n hx hb hl 1 rfl dX4_readVar_71 ?_
    exact g_iretG hx hb hr hlk hKn hRc hRs hS h dX4_readVar_72
  · have h := g_iff (fun z => z c_64) h
    refine g_aload_n hx hb hl 0 rfl dX4_readVar_67 ?_
    obtain ⟨b68, hb68, h⟩ := g_bnd h
    obtain ⟨hr68, hk68⟩ := g_chk hb68
    obtain ⟨z68, h68, h⟩ := g_bnd h
    refine g_callV (n := 0) (b := b68) (av := []) (rs := []) hx hb hml hown hts hKn hRc hRs hS hl (sX4_stepOn l E D h68) (lw_V q2092 q2094 qs49 q135 q2095) ⟨rfl, by decide, by decide, by decide +kernel⟩ ⟨by rw [hRf]; exact Nat.le_of_ble_eq_true rfl, by rw [hRl]; exact Nat.le_of_ble_eq_true rfl⟩ (g_recv hKn hS hk68 (by decide) (by decide)) rfl (by rw [hr68]; rfl) (Nat.le_of_ble_eq_true rfl) dX4_readVar_68 (fun H locs cells slots hS => ?_)
    refine g_iload_n hx hb hl 1 rfl dX4_readVar_71 ?_
    exact g_iretG hx hb hr hlk hKn hRc hRs hS h dX4_readVar_72
theorem sX4_readVar_b29 {p : Program} {l : Launch} {e : Env} {R : Room} {s : State} {m : MethodId} {args : Array Value} {below : List Frame} {meth : Method} {c : Code} {E : g_E} {D : g_D} (C : gC p R s m args meth c cX4_readVar 2 RX4 "readVar" (some .int) 7 194 E D) : ∀ (t : Nat) (s0 : Int32) (G : g_G) (q : Int32 × g_G), fX4_readVar_b29 E t s0 G = some q → ∀ (H : Heap) (locs : List Loc) (cells slots : Nat) (ls : Array Slot), gSt E D G H locs → gls ls 2 [(0, .inr (.inr (some t)))] → gT p l e R s m args below meth c E D H locs cells slots (some (.int q.1)) q.2 (F0 m 29 ls [.int s0]) := by
  obtain ⟨hx, hb, hml, hown, hts, hKn, hRc, hRs, hc1, hc2, hRf, hRl, hr, hlk, hnm⟩ := id C
  intro t s0 G q h H locs cells slots ls hS hl
  unfold fX4_readVar_b29 at h
  refine g_istore_n (l1 := [(1, .inl s0), (0, .inr (.inr (some t)))]) hx hb hl (by decide) rfl dX4_readVar_29 (fun ls hl => ?_)
  refine g_aload_n hx hb hl 1 rfl dX4_readVar_30 ?_
  refine g_rdI hx hb hown hts hKn hS h fd_4_4_13 rfl (Or.inl (hts _ q1878)) (fun _ z => z) dX4_readVar_31 (fun x31 h => ?_)
  refine lv_iconst (v := 1) hx hb dX4_readVar_34 (by decide) ?_
  refine lv_icmp_eq (tgt := 46) hx hb dX4_readVar_35 (by decide) (fun c_35 => ?_) (fun c_35 => ?_)
  · have h := g_ift c_35 h
    refine g_iload_n hx hb hl 0 rfl dX4_readVar_46 ?_
    refine lv_iconst (v := 0) hx hb dX4_readVar_47 (by decide) ?_
    refine lv_iconst (v := 3) hx hb dX4_readVar_48 (by decide) ?_
    obtain ⟨z49, h49, h⟩ := g_bnd h
    refine g_callS (n := 3) (av := [.inl s0, .inl 0, .inl 3]) (rs := []) hx hb hml hown hts hKn hRc hRs hS hl (sX4_isIn l E D h49) (lw_S q2180 q2181 q135 q2182) ⟨by decide, by decide, by decide +kernel⟩ ⟨by rw [hRf]; exact Nat.le_of_ble_eq_true rfl, by rw [hRl]; exact Nat.le_of_ble_eq_true rfl⟩ rfl rfl (Nat.le_of_ble_eq_true rfl) dX4_readVar_49 (fun H locs cells slots hS => ?_)
    refine lv_if_ne (tgt := 60) hx hb dX4_readVar_52 (by decide) (fun c_52 => ?_) (fun c_52 => ?_)
    · have h := g_ift c_52 h
      exact sX4_readVar_b60 C _ _ _ _ h _ _ _ _ _ hS (gls_sub hl [1, 0] rfl)
    · have h := g_iff (fun z => z c_52) h
      refine g_aload_n hx hb hl 1 rfl dX4_readVar_55 ?_
      refine lv_iconst (v := 3) hx hb dX4_readVar_56 (by decide) ?_
      obtain ⟨b57, hb57, h⟩ := g_bnd h
      obtain ⟨hr57, hk57⟩ := g_chk hb57
      obtain ⟨z57, h57, h⟩ := g_bnd h
      refine g_callV (n := 1) (b := b57) (av := [.inl 3]) (rs := []) hx hb hml hown hts hKn hRc hRs hS hl (sX4_wrong l E D h57) (lw_V q2128 q2130 qs55 q135 q2131) ⟨rfl, by decide, by decide, by decide +kernel⟩ ⟨by rw [hRf]; exact Nat.le_of_ble_eq_true rfl, by rw [hRl]; exact Nat.le_of_ble_eq_true rfl⟩ (g_recv hKn hS hk57 (by decide) (by decide)) rfl (by rw [hr57]; rfl) (Nat.le_of_ble_eq_true rfl) dX4_readVar_57 (fun H locs cells slots hS => ?_)
      exact sX4_readVar_b60 C _ _ _ _ h _ _ _ _ _ hS (gls_sub hl [1, 0] rfl)
  · have h := g_iff c_35 h
    refine g_aload_n hx hb hl 1 rfl dX4_readVar_38 ?_
    refine lv_iconst (v := 1) hx hb dX4_readVar_39 (by decide) ?_
    obtain ⟨b40, hb40, h⟩ := g_bnd h
    obtain ⟨hr40, hk40⟩ := g_chk hb40
    obtain ⟨z40, h40, h⟩ := g_bnd h
    refine g_callV (n := 1) (b := b40) (av := [.inl 1]) (rs := []) hx hb hml hown hts hKn hRc hRs hS hl (sX4_wrong l E D h40) (lw_V q2128 q2130 qs55 q135 q2131) ⟨rfl, by decide, by decide, by decide +kernel⟩ ⟨by rw [hRf]; exact Nat.le_of_ble_eq_true rfl, by rw [hRl]; exact Nat.le_of_ble_eq_true rfl⟩ (g_recv hKn hS hk40 (by decide) (by decide)) rfl (by rw [hr40]; rfl) (Nat.le_of_ble_eq_true rfl) dX4_readVar_40 (fun H locs cells slots hS => ?_)
    refine lv_goto (tgt := 60) hx hb dX4_readVar_43 (by decide) ?_
    exact sX4_readVar_b60 C _ _ _ _ h _ _ _ _ _ hS (gls_sub hl [1, 0] rfl)
theorem sX4_readVar (l : Launch) (E : g_E) (D : g_D) {t : Nat} {G : g_G} {q : Int32 × g_G} (h : fX4_readVar E t G = some q) : gMet l E D yX4_readVar (ws_ yX4_readVar cX4_readVar 2 (some .int)) 7 194 [.inr (.inr (some t))] G (some (.int q.1)) q.2 := by
  refine gMet.of (by decide +kernel) (Nat.le_of_ble_eq_true rfl) ?_
  intro p e R s m args below meth c C hS ls hl
  have C : gC p R s m args meth c cX4_readVar 2 RX4 "readVar" (some .int) 7 194 E D := C
  obtain ⟨hx, hb, hml, hown, hts, hKn, hRc, hRs, hc1, hc2, hRf, hRl, hr, hlk, hnm⟩ := id C
  have hl : gls ls 2 [(0, .inr (.inr (some t)))] := hl
  generalize s.heap = H at hS ⊢
  unfold fX4_readVar at h
  refine g_aload_n hx hb hl 0 rfl dX4_readVar_0 ?_
  refine g_rdI hx hb hown hts hKn hS h fd_4_4_18 rfl (Or.inl (hts _ q1883)) (fun _ z => z) dX4_readVar_1 (fun x1 h => ?_)
  refine lv_if_eq (tgt := 9) hx hb dX4_readVar_4 (by decide) (fun c_4 => ?_) (fun c_4 => ?_)
  · have h := g_ift c_4 h
    refine g_aload_n hx hb hl 0 rfl dX4_readVar_9 ?_
    refine g_rdI hx hb hown hts hKn hS h fd_4_4_13 rfl (Or.inl (hts _ q1878)) (fun _ z => z) dX4_readVar_10 (fun x10 h => ?_)
    refine lv_iconst (v := 1) hx hb dX4_readVar_13 (by decide) ?_
    refine lv_icmp_ne (tgt := 28) hx hb dX4_readVar_14 (by decide) (fun c_14 => ?_) (fun c_14 => ?_)
    · have h := g_ift c_14 h
      refine lv_iconst (v := (-1)) hx hb dX4_readVar_28 (by decide) ?_
      exact sX4_readVar_b29 C _ _ _ _ h _ _ _ _ _ hS (gls_sub hl [0] rfl)
    · have h := g_iff (fun z => z c_14) h
      refine g_aload_n hx hb hl 0 rfl dX4_readVar_17 ?_
      refine g_aload_n hx hb hl 0 rfl dX4_readVar_18 ?_
      refine g_rdR hx hb hown hts hKn hS h fd_4_4_1 rfl (Or.inl (hts _ q1866)) (fun _ z => z) dX4_readVar_19 (fun x19 h => ?_)
      obtain ⟨b22, hb22, h⟩ := g_bnd h
      obtain ⟨hr22, hk22⟩ := g_chk hb22
      obtain ⟨z22, h22, h⟩ := g_bnd h
      refine g_callV (n := 1) (b := b22) (av := [.inr (.inr x19)]) (rs := []) hx hb hml hown hts hKn hRc hRs hS hl (sX4_which l E D h22) (lw_V q2124 q2126 qs54 q135 q2127) ⟨rfl, by decide, by decide, by decide +kernel⟩ ⟨by rw [hRf]; exact Nat.le_of_ble_eq_true rfl, by rw [hRl]; exact Nat.le_of_ble_eq_true rfl⟩ (g_recv hKn hS hk22 (by decide) (by decide)) rfl (by rw [hr22]; rfl) (Nat.le_of_ble_eq_true rfl) dX4_readVar_22 (fun H locs cells slots hS => ?_)
      refine lv_goto (tgt := 29) hx hb dX4_readVar_25 (by decide) ?_
      exact sX4_readVar_b29 C _ _ _ _ h _ _ _ _ _ hS (gls_sub hl [0] rfl)
  · have h := g_iff c_4 h
    refine lv_iconst (v := 0) hx hb dX4_readVar_7 (by decide) ?_
    exact g_iretG hx hb hr hlk hKn hRc hRs hS h dX4_readVar_8
/-- SendHallModel.take(III)V -/
def fX4_take_b95 (E : g_E) (t : Nat) (v1 : Int32) (v2 : Int32) (v3 : Int32) (v5 : Int32) (v6 : Int32) (G : g_G) : Option (g_G) :=
  (gchk G 4 (some t)).bind fun b97 =>
  (fX4_takeAway E b97 v3 G).bind fun z97 =>
  (gchk z97 4 (some t)).bind fun b107 =>
  (fX4_has E b107 v1 v2 v5 v6 z97).bind fun z107 =>
  some z107
def fX4_take_b46 (E : g_E) (t : Nat) (v1 : Int32) (v2 : Int32) (v3 : Int32) (v5 : Int32) (v6 : Int32) (s0 : Int32) (G : g_G) : Option (g_G) :=
  (grR G 4 4 (some t) 39).bind fun x51 =>
  (gaI G 100 x51 v3).bind fun x55 =>
  (gchk G 4 (some t)).bind fun b56 =>
  (fX4_upTo E b56 v1 x55 G).bind fun z56 =>
  (grR z56 4 4 (some t) 36).bind fun x60 =>
  (gaI z56 100 x60 v1).bind fun x65 =>
  (gsaI E z56 x60 v1 (x65 + 1)).bind fun G68 =>
  if s0 = 0 then (
    fX4_take_b95 E t v1 v2 v3 v5 v6 G68)
  else (
    (grR G68 4 4 (some t) 38).bind fun x75 =>
    (grR G68 4 4 (some t) 38).bind fun x80 =>
    (gaI G68 100 x80 v2).bind fun x84 =>
    (grR G68 4 4 (some t) 36).bind fun x86 =>
    (gaI G68 100 x86 v1).bind fun x90 =>
    (gsaI E G68 x75 v2 (if x84 < x90 then x90 else x84)).bind fun G94 =>
    fX4_take_b95 E t v1 v2 v3 v5 v6 G94)
def fX4_take (E : g_E) (t : Nat) (v1 : Int32) (v2 : Int32) (v3 : Int32) (G : g_G) : Option (g_G) :=
  (fX4_wordAt E v3 G).bind fun z1 =>
  (grR z1.2 4 4 (some t) 33).bind fun x7 =>
  (gaI z1.2 100 x7 (z1.1 + 3)).bind fun x14 =>
  (grR z1.2 4 4 (some t) 33).bind fun x18 =>
  (gaI z1.2 100 x18 (z1.1 + 4)).bind fun x25 =>
  (grR z1.2 4 4 (some t) 33).bind fun x29 =>
  (gaI z1.2 100 x29 (z1.1 + 5)).bind fun x36 =>
  if ¬ x36 = (1 : Int32) then (
    fX4_take_b46 E t v1 v2 v3 x14 x25 0 z1.2)
  else (
    fX4_take_b46 E t v1 v2 v3 x14 x25 1 z1.2)
theorem sX4_take_b95 {p : Program} {l : Launch} {e : Env} {R : Room} {s : State} {m : MethodId} {args : Array Value} {below : List Frame} {meth : Method} {c : Code} {E : g_E} {D : g_D} (C : gC p R s m args meth c cX4_take 8 RX4 "take" (none) 8 230 E D) : ∀ (t : Nat) (v1 : Int32) (v2 : Int32) (v3 : Int32) (v5 : Int32) (v6 : Int32) (G : g_G) (q : g_G), fX4_take_b95 E t v1 v2 v3 v5 v6 G = some q → ∀ (H : Heap) (locs : List Loc) (cells slots : Nat) (ls : Array Slot), gSt E D G H locs → gls ls 8 [(0, .inr (.inr (some t))), (1, .inl v1), (2, .inl v2), (3, .inl v3), (5, .inl v5), (6, .inl v6)] → gT p l e R s m args below meth c E D H locs cells slots none q (F0 m 95 ls []) := by
  obtain ⟨hx, hb, hml, hown, hts, hKn, hRc, hRs, hc1, hc2, hRf, hRl, hr, hlk, hnm⟩ := id C
  intro t v1 v2 v3 v5 v6 G q h H locs cells slots ls hS hl
  unfold fX4_take_b95 at h
  refine g_aload_n hx hb hl 0 rfl dX4_take_95 ?_
  refine g_iload_n hx hb hl 3 rfl dX4_take_96 ?_
  obtain ⟨b97, hb97, h⟩ := g_bnd h
  obtain ⟨hr97, hk97⟩ := g_chk hb97
  obtain ⟨z97, h97, h⟩ := g_bnd h
  refine g_callV (n := 1) (b := b97) (av := [.inl v3]) (rs := []) hx hb hml hown hts hKn hRc hRs hS hl (sX4_takeAway l E D h97) (lw_V q2349 q2351 qs101 q135 q2352) ⟨rfl, by decide, by decide, by decide +kernel⟩ ⟨by rw [hRf]; exact Nat.le_of_ble_eq_true rfl, by rw [hRl]; exact Nat.le_of_ble_eq_true rfl⟩ (g_recv hKn hS hk97 (by decide) (by decide)) rfl (by rw [hr97]; rfl) (Nat.le_of_ble_eq_true rfl) dX4_take_97 (fun H locs cells slots hS => ?_)
  refine g_aload_n hx hb hl 0 rfl dX4_take_100 ?_
  refine g_iload_n hx hb hl 1 rfl dX4_take_101 ?_
  refine g_iload_n hx hb hl 2 rfl dX4_take_102 ?_
  refine g_iload hx hb hl 4 rfl dX4_take_103 ?_
  refine g_iload hx hb hl 5 rfl dX4_take_105 ?_
  obtain ⟨b107, hb107, h⟩ := g_bnd h
  obtain ⟨hr107, hk107⟩ := g_chk hb107
  obtain ⟨z107, h107, h⟩ := g_bnd h
  refine g_callV (n := 4) (b := b107) (av := [.inl v1, .inl v2, .inl v5, .inl v6]) (rs := []) hx hb hml hown hts hKn hRc hRs hS hl (sX4_has l E D h107) (lw_V q2341 q2343 qs99 q135 q2344) ⟨rfl, by decide, by decide, by decide +kernel⟩ ⟨by rw [hRf]; exact Nat.le_of_ble_eq_true rfl, by rw [hRl]; exact Nat.le_of_ble_eq_true rfl⟩ (g_recv hKn hS hk107 (by decide) (by decide)) rfl (by rw [hr107]; rfl) (Nat.le_of_ble_eq_true rfl) dX4_take_107 (fun H locs cells slots hS => ?_)
  exact g_vretG hx hb hr hlk hKn hRc hRs hS h dX4_take_110
theorem sX4_take_b46 {p : Program} {l : Launch} {e : Env} {R : Room} {s : State} {m : MethodId} {args : Array Value} {below : List Frame} {meth : Method} {c : Code} {E : g_E} {D : g_D} (C : gC p R s m args meth c cX4_take 8 RX4 "take" (none) 8 230 E D) : ∀ (t : Nat) (v1 : Int32) (v2 : Int32) (v3 : Int32) (v5 : Int32) (v6 : Int32) (s0 : Int32) (G : g_G) (q : g_G), fX4_take_b46 E t v1 v2 v3 v5 v6 s0 G = some q → ∀ (H : Heap) (locs : List Loc) (cells slots : Nat) (ls : Array Slot), gSt E D G H locs → gls ls 8 [(0, .inr (.inr (some t))), (1, .inl v1), (2, .inl v2), (3, .inl v3), (5, .inl v5), (6, .inl v6)] → gT p l e R s m args below meth c E D H locs cells slots none q (F0 m 46 ls [.int s0]) := by
  obtain ⟨hx, hb, hml, hown, hts, hKn, hRc, hRs, hc1, hc2, hRf, hRl, hr, hlk, hnm⟩ := id C
  intro t v1 v2 v3 v5 v6 s0 G q h H locs cells slots ls hS hl
  unfold fX4_take_b46 at h
  refine g_istore (l1 := [(7, .inl s0), (0, .inr (.inr (some t))), (1, .inl v1), (2, .inl v2), (3, .inl v3), (5, .inl v5), (6, .inl v6)]) hx hb hl (by decide) rfl dX4_take_46 (fun ls hl => ?_)
  refine g_aload_n hx hb hl 1 rfl dX4_take_48 ?_
  refine g_iload_n hx hb hl 2 rfl dX4_take_49 ?_
  refine g_aload_n hx hb hl 1 rfl dX4_take_50 ?_
  refine g_rdR hx hb hown hts hKn hS h fd_4_4_39 rfl (Or.inl (hts _ q1904)) (fun _ z => z) dX4_take_51 (fun x51 h => ?_)
  refine g_iload_n hx hb hl 4 rfl dX4_take_54 ?_
  refine g_ialoadG hx hb hKn hS h dX4_take_55 (fun x55 h => ?_)
  obtain ⟨b56, hb56, h⟩ := g_bnd h
  obtain ⟨hr56, hk56⟩ := g_chk hb56
  obtain ⟨z56, h56, h⟩ := g_bnd h
  refine g_callV (n := 2) (b := b56) (av := [.inl v1, .inl x55]) (rs := []) hx hb hml hown hts hKn hRc hRs hS hl (sX4_upTo l E D h56) (lw_V q2333 q2335 qs97 q135 q2336) ⟨rfl, by decide, by decide, by decide +kernel⟩ ⟨by rw [hRf]; exact Nat.le_of_ble_eq_true rfl, by rw [hRl]; exact Nat.le_of_ble_eq_true rfl⟩ (g_recv hKn hS hk56 (by decide) (by decide)) rfl (by rw [hr56]; rfl) (Nat.le_of_ble_eq_true rfl) dX4_take_56 (fun H locs cells slots hS => ?_)
  refine g_aload_n hx hb hl 1 rfl dX4_take_59 ?_
  refine g_rdR hx hb hown hts hKn hS h fd_4_4_36 rfl (Or.inl (hts _ q1901)) (fun _ z => z) dX4_take_60 (fun x60 h => ?_)
  refine g_iload_n hx hb hl 2 rfl dX4_take_63 ?_
  refine lv_dup2_11 hx hb dX4_take_64 rfl (by first | exact va_rf_cat _ | rfl | exact g_catA _) ?_
  refine g_ialoadG hx hb hKn hS h dX4_take_65 (fun x65 h => ?_)
  refine lv_iconst (v := 1) hx hb dX4_take_66 (by decide) ?_
  refine lv_iadd hx hb dX4_take_67 ?_
  refine g_iastoreG hx hb hKn hS h dX4_take_68 (fun G68 h H locs hS => ?_)
  refine g_iload hx hb hl 0 rfl dX4_take_69 ?_
  refine lv_if_eq (tgt := 95) hx hb dX4_take_71 (by decide) (fun c_71 => ?_) (fun c_71 => ?_)
  · have h := g_ift c_71 h
    exact sX4_take_b95 C _ _ _ _ _ _ _ _ h _ _ _ _ _ hS (gls_sub hl [1, 2, 3, 4, 5, 6] rfl)
  · have h := g_iff c_71 h
    refine g_aload_n hx hb hl 1 rfl dX4_take_74 ?_
    refine g_rdR hx hb hown hts hKn hS h fd_4_4_38 rfl (Or.inl (hts _ q1903)) (fun _ z => z) dX4_take_75 (fun x75 h => ?_)
    refine g_iload_n hx hb hl 3 rfl dX4_take_78 ?_
    refine g_aload_n hx hb hl 1 rfl dX4_take_79 ?_
    refine g_rdR hx hb hown hts hKn hS h fd_4_4_38 rfl (Or.inl (hts _ q1903)) (fun _ z => z) dX4_take_80 (fun x80 h => ?_)
    refine g_iload_n hx hb hl 3 rfl dX4_take_83 ?_
    refine g_ialoadG hx hb hKn hS h dX4_take_84 (fun x84 h => ?_)
    refine g_aload_n hx hb hl 1 rfl dX4_take_85 ?_
    refine g_rdR hx hb hown hts hKn hS h fd_4_4_36 rfl (Or.inl (hts _ q1901)) (fun _ z => z) dX4_take_86 (fun x86 h => ?_)
    refine g_iload_n hx hb hl 2 rfl dX4_take_89 ?_
    refine g_ialoadG hx hb hKn hS h dX4_take_90 (fun x90 h => ?_)
    refine g_mmax (rs := [.inl v2, .inr (.inr x75)]) hx hb hml hown hRc hRs hS hl (hts _ q2332) (hts _ q283) (hts _ q127) (hts _ q284) (by decide +kernel) rfl (Nat.le_of_ble_eq_true rfl) ⟨by rw [hRf]; exact Nat.le_of_ble_eq_true rfl, by rw [hRl]; exact Nat.le_of_ble_eq_true rfl⟩ dX4_take_91 (fun cells slots => ?_)
    refine g_iastoreG hx hb hKn hS h dX4_take_94 (fun G94 h H locs hS => ?_)
    exact sX4_take_b95 C _ _ _ _ _ _ _ _ h _ _ _ _ _ hS (gls_sub hl [1, 2, 3, 4, 5, 6] rfl)
theorem sX4_take (l : Launch) (E : g_E) (D : g_D) {t : Nat} {v1 : Int32} {v2 : Int32} {v3 : Int32} {G : g_G} {q : g_G} (h : fX4_take E t v1 v2 v3 G = some q) : gMet l E D yX4_take (ws_ yX4_take cX4_take 8 (none)) 8 230 [.inr (.inr (some t)), .inl v1, .inl v2, .inl v3] G none q := by
  refine gMet.of (by decide +kernel) (Nat.le_of_ble_eq_true rfl) ?_
  intro p e R s m args below meth c C hS ls hl
  have C : gC p R s m args meth c cX4_take 8 RX4 "take" (none) 8 230 E D := C
  obtain ⟨hx, hb, hml, hown, hts, hKn, hRc, hRs, hc1, hc2, hRf, hRl, hr, hlk, hnm⟩ := id C
  have hl : gls ls 8 [(0, .inr (.inr (some t))), (1, .inl v1), (2, .inl v2), (3, .inl v3)] := hl
  generalize s.heap = H at hS ⊢
  unfold fX4_take at h
  refine g_iload_n hx hb hl 3 rfl dX4_take_0 ?_
  obtain ⟨z1, h1, h⟩ := g_bnd h
  refine g_callS (n := 1) (av := [.inl v3]) (rs := []) hx hb hml hown hts hKn hRc hRs hS hl (sX4_wordAt l E D h1) (lw_S q2292 q2293 q135 q2294) ⟨by decide, by decide, by decide +kernel⟩ ⟨by rw [hRf]; exact Nat.le_of_ble_eq_true rfl, by rw [hRl]; exact Nat.le_of_ble_eq_true rfl⟩ rfl rfl (Nat.le_of_ble_eq_true rfl) dX4_take_1 (fun H locs cells slots hS => ?_)
  refine g_istore (l1 := [(4, .inl z1.1), (0, .inr (.inr (some t))), (1, .inl v1), (2, .inl v2), (3, .inl v3)]) hx hb hl (by decide) rfl dX4_take_4 (fun ls hl => ?_)
  refine g_aload_n hx hb hl 1 rfl dX4_take_6 ?_
  refine g_rdR hx hb hown hts hKn hS h fd_4_4_33 rfl (Or.inl (hts _ q1898)) (fun _ z => z) dX4_take_7 (fun x7 h => ?_)
  refine g_iload hx hb hl 0 rfl dX4_take_10 ?_
  refine lv_iconst (v := 3) hx hb dX4_take_12 (by decide) ?_
  refine lv_iadd hx hb dX4_take_13 ?_
  refine g_ialoadG hx hb hKn hS h dX4_take_14 (fun x14 h => ?_)
  refine g_istore (l1 := [(5, .inl x14), (4, .inl z1.1), (0, .inr (.inr (some t))), (1, .inl v1), (2, .inl v2), (3, .inl v3)]) hx hb hl (by decide) rfl dX4_take_15 (fun ls hl => ?_)
  refine g_aload_n hx hb hl 2 rfl dX4_take_17 ?_
  refine g_rdR hx hb hown hts hKn hS h fd_4_4_33 rfl (Or.inl (hts _ q1898)) (fun _ z => z) dX4_take_18 (fun x18 h => ?_)
  refine g_iload hx hb hl 1 rfl dX4_take_21 ?_
  refine lv_iconst (v := 4) hx hb dX4_take_23 (by decide) ?_
  refine lv_iadd hx hb dX4_take_24 ?_
  refine g_ialoadG hx hb hKn hS h dX4_take_25 (fun x25 h => ?_)
  refine g_istore (l1 := [(6, .inl x25), (5, .inl x14), (4, .inl z1.1), (0, .inr (.inr (some t))), (1, .inl v1), (2, .inl v2), (3, .inl v3)]) hx hb hl (by decide) rfl dX4_take_26 (fun ls hl => ?_)
  refine g_aload_n hx hb hl 3 rfl dX4_take_28 ?_
  refine g_rdR hx hb hown hts hKn hS h fd_4_4_33 rfl (Or.inl (hts _ q1898)) (fun _ z => z) dX4_take_29 (fun x29 h => ?_)
  refine g_iload hx hb hl 2 rfl dX4_take_32 ?_
  refine lv_iconst (v := 5) hx hb dX4_take_34 (by decide) ?_
  refine lv_iadd hx hb dX4_take_35 ?_
  refine g_ialoadG hx hb hKn hS h dX4_take_36 (fun x36 h => ?_)
  refine lv_iconst (v := 1) hx hb dX4_take_37 (by decide) ?_
  refine lv_icmp_ne (tgt := 45) hx hb dX4_take_38 (by decide) (fun c_38 => ?_) (fun c_38 => ?_)
  · have h := g_ift c_38 h
    refine lv_iconst (v := 0) hx hb dX4_take_45 (by decide) ?_
    exact sX4_take_b46 C _ _ _ _ _ _ _ _ _ h _ _ _ _ _ hS (gls_sub hl [3, 4, 5, 6, 1, 0] rfl)
  · have h := g_iff (fun z => z c_38) h
    refine lv_iconst (v := 1) hx hb dX4_take_41 (by decide) ?_
    refine lv_goto (tgt := 46) hx hb dX4_take_42 (by decide) ?_
    exact sX4_take_b46 C _ _ _ _ _ _ _ _ _ h _ _ _ _ _ hS (gls_sub hl [3, 4, 5, 6, 1, 0] rfl)
