set_option maxRecDepth 100000
/-- SendHallModel.goOn(I)V -/
def fX4_goOn (E : g_E) (t : Nat) (v1 : Int32) (G : g_G) : Option (g_G) :=
  (gchk G 4 (some t)).bind fun b4 =>
  (fX4_own E b4 v1 0 G).bind fun z4 =>
  (gchk z4.2 4 (some t)).bind fun b7 =>
  (fX4_following E b7 z4.1 z4.2).bind fun z7 =>
  (gchk z7.2 4 (some t)).bind fun b14 =>
  (fX4_come E b14 v1 z7.1 z7.2).bind fun z14 =>
  some z14
theorem sX4_goOn (l : Launch) (E : g_E) (D : g_D) {t : Nat} {v1 : Int32} {G : g_G} {q : g_G} (h : fX4_goOn E t v1 G = some q) : gMet l E D yX4_goOn (ws_ yX4_goOn cX4_goOn 3 (none)) 6 183 [.inr (.inr (some t)), .inl v1] G none q := by
  refine gMet.of (by decide +kernel) (Nat.le_of_ble_eq_true rfl) ?_
  intro p e R s m args below meth c C hS ls hl
  have C : gC p R s m args meth c cX4_goOn 3 RX4 "goOn" (none) 6 183 E D := C
  obtain ⟨hx, hb, hml, hown, hts, hKn, hRc, hRs, hc1, hc2, hRf, hRl, hr, hlk, hnm⟩ := id C
  have hl : gls ls 3 [(0, .inr (.inr (some t))), (1, .inl v1)] := hl
  generalize s.heap = H at hS ⊢
  unfold fX4_goOn at h
  refine g_aload_n hx hb hl 0 rfl dX4_goOn_0 ?_
  refine g_aload_n hx hb hl 0 rfl dX4_goOn_1 ?_
  refine g_iload_n hx hb hl 1 rfl dX4_goOn_2 ?_
  refine lv_iconst (v := 0) hx hb dX4_goOn_3 (by decide) ?_
  obtain ⟨b4, hb4, h⟩ := g_bnd h
  obtain ⟨hr4, hk4⟩ := g_chk hb4
  obtain ⟨z4, h4, h⟩ := g_bnd h
  refine g_callV (n := 2) (b := b4) (av := [.inl v1, .inl 0]) (rs := [.inr (.inr (some t))]) hx hb hml hown hts hKn hRc hRs hS hl (sX4_own l E D h4) (lw_V q2245 q2247 qs77 q135 q2248) ⟨rfl, by decide, by decide, by decide +kernel⟩ ⟨by rw [hRf]; exact Nat.le_of_ble_eq_true rfl, by rw [hRl]; exact Nat.le_of_ble_eq_true rfl⟩ (g_recv hKn hS hk4 (by decide) (by decide)) rfl (by rw [hr4]; rfl) (Nat.le_of_ble_eq_true rfl) dX4_goOn_4 (fun H locs cells slots hS => ?_)
  obtain ⟨b7, hb7, h⟩ := g_bnd h
  obtain ⟨hr7, hk7⟩ := g_chk hb7
  obtain ⟨z7, h7, h⟩ := g_bnd h
  refine g_callV (n := 1) (b := b7) (av := [.inl z4.1]) (rs := []) hx hb hml hown hts hKn hRc hRs hS hl (sX4_following l E D h7) (lw_V q2237 q2239 qs75 q135 q2240) ⟨rfl, by decide, by decide, by decide +kernel⟩ ⟨by rw [hRf]; exact Nat.le_of_ble_eq_true rfl, by rw [hRl]; exact Nat.le_of_ble_eq_true rfl⟩ (g_recv hKn hS hk7 (by decide) (by decide)) rfl (by rw [hr7]; rfl) (Nat.le_of_ble_eq_true rfl) dX4_goOn_7 (fun H locs cells slots hS => ?_)
  refine g_istore_n (l1 := [(2, .inl z7.1), (0, .inr (.inr (some t))), (1, .inl v1)]) hx hb hl (by decide) rfl dX4_goOn_10 (fun ls hl => ?_)
  refine g_aload_n hx hb hl 1 rfl dX4_goOn_11 ?_
  refine g_iload_n hx hb hl 2 rfl dX4_goOn_12 ?_
  refine g_iload_n hx hb hl 0 rfl dX4_goOn_13 ?_
  obtain ⟨b14, hb14, h⟩ := g_bnd h
  obtain ⟨hr14, hk14⟩ := g_chk hb14
  obtain ⟨z14, h14, h⟩ := g_bnd h
  refine g_callV (n := 2) (b := b14) (av := [.inl v1, .inl z7.1]) (rs := []) hx hb hml hown hts hKn hRc hRs hS hl (sX4_come l E D h14) (lw_V q2229 q2231 qs73 q135 q2232) ⟨rfl, by decide, by decide, by decide +kernel⟩ ⟨by rw [hRf]; exact Nat.le_of_ble_eq_true rfl, by rw [hRl]; exact Nat.le_of_ble_eq_true rfl⟩ (g_recv hKn hS hk14 (by decide) (by decide)) rfl (by rw [hr14]; rfl) (Nat.le_of_ble_eq_true rfl) dX4_goOn_14 (fun H locs cells slots hS => ?_)
  exact g_vretG hx hb hr hlk hKn hRc hRs hS h dX4_goOn_17
/-- SendHallModel.hands(I)Z -/
def fX4_hands_b63 (E : g_E) (t : Nat) (v1 : Int32) (v2 : Int32) (v3 : Int32) (s0 : Int32) (G : g_G) : Option (Int32 × g_G) :=
  if s0 = 0 then (
    if (0 : Int32) = 0 ∨ (0 : Int32) = 1 then some (0, G) else none)
  else (
    (gchk G 4 (some t)).bind fun b73 =>
    (fX4_asked E b73 v2 1 G).bind fun z73 =>
    if ¬ z73.1 = v3 then (
      if (0 : Int32) = 0 ∨ (0 : Int32) = 1 then some (0, z73.2) else none)
    else (
      (gchk z73.2 4 (some t)).bind fun b84 =>
      (fX4_lying E b84 v1 v2 v3 z73.2).bind fun z84 =>
      if ¬ z84.1 = (-1 : Int32) then (
        if (0 : Int32) = 0 ∨ (0 : Int32) = 1 then some (0, z84.2) else none)
      else (
        if (1 : Int32) = 0 ∨ (1 : Int32) = 1 then some (1, z84.2) else none)))
def fX4_hands_b62 (E : g_E) (t : Nat) (v1 : Int32) (v2 : Int32) (v3 : Int32) (G : g_G) : Option (Int32 × g_G) :=
  fX4_hands_b63 E t v1 v2 v3 0 G
def fX4_hands_b58 (E : g_E) (t : Nat) (v1 : Int32) (v2 : Int32) (v3 : Int32) (G : g_G) : Option (Int32 × g_G) :=
  fX4_hands_b63 E t v1 v2 v3 1 G
def fX4_hands_b33 (E : g_E) (t : Nat) (v1 : Int32) (v2 : Int32) (v3 : Int32) (G : g_G) : Option (Int32 × g_G) :=
  (gchk G 4 (some t)).bind fun b36 =>
  (fX4_isAt E b36 v2 4 G).bind fun z36 =>
  if z36.1 = 0 then (
    fX4_hands_b62 E t v1 v2 v3 z36.2)
  else (
    (grI z36.2 4 4 (some t) 35).bind fun x43 =>
    if x43 = (-1 : Int32) then (
      fX4_hands_b58 E t v1 v2 v3 z36.2)
    else (
      (grI z36.2 4 4 (some t) 35).bind fun x51 =>
      if ¬ x51 = v1 then (
        fX4_hands_b62 E t v1 v2 v3 z36.2)
      else (
        fX4_hands_b58 E t v1 v2 v3 z36.2)))
def fX4_hands (E : g_E) (t : Nat) (v1 : Int32) (G : g_G) : Option (Int32 × g_G) :=
  (gchk G 4 (some t)).bind fun b3 =>
  (fX4_asked E b3 v1 0 G).bind fun z3 =>
  (gchk z3.2 4 (some t)).bind fun b10 =>
  (fX4_asked E b10 v1 1 z3.2).bind fun z10 =>
  (gchk z10.2 4 (some t)).bind fun b17 =>
  (fX4_isAt E b17 z3.1 3 z10.2).bind fun z17 =>
  if z17.1 = 0 then (
    fX4_hands_b33 E t v1 z3.1 z10.1 z17.2)
  else (
    (gchk z17.2 4 (some t)).bind fun b26 =>
    (fX4_asked E b26 z3.1 0 z17.2).bind fun z26 =>
    if z26.1 = v1 then (
      fX4_hands_b58 E t v1 z3.1 z10.1 z26.2)
    else (
      fX4_hands_b33 E t v1 z3.1 z10.1 z26.2))
theorem sX4_hands_b63 {p : Program} {l : Launch} {e : Env} {R : Room} {s : State} {m : MethodId} {args : Array Value} {below : List Frame} {meth : Method} {c : Code} {E : g_E} {D : g_D} (C : gC p R s m args meth c cX4_hands 5 RX4 "hands" (some .boolean) 4 134 E D) : ∀ (t : Nat) (v1 : Int32) (v2 : Int32) (v3 : Int32) (s0 : Int32) (G : g_G) (q : Int32 × g_G), fX4_hands_b63 E t v1 v2 v3 s0 G = some q → ∀ (H : Heap) (locs : List Loc) (cells slots : Nat) (ls : Array Slot), gSt E D G H locs → gls ls 5 [(0, .inr (.inr (some t))), (1, .inl v1), (2, .inl v2), (3, .inl v3)] → gT p l e R s m args below meth c E D H locs cells slots (some (.int q.1)) q.2 (F0 m 63 ls [.int s0]) := by
  obtain ⟨hx, hb, hml, hown, hts, hKn, hRc, hRs, hc1, hc2, hRf, hRl, hr, hlk, hnm⟩ := id C
  intro t v1 v2 v3 s0 G q h H locs cells slots ls hS hl
  unfold fX4_hands_b63 at h
  refine g_istore (l1 := [(4, .inl s0), (0, .inr (.inr (some t))), (1, .inl v1), (2, .inl v2), (3, .inl v3)]) hx hb hl (by decide) rfl dX4_hands_63 (fun ls hl => ?_)
  refine g_iload hx hb hl 0 rfl dX4_hands_65 ?_
  refine lv_if_eq (tgt := 95) hx hb dX4_hands_67 (by decide) (fun c_67 => ?_) (fun c_67 => ?_)
  · have h := g_ift c_67 h
    refine lv_iconst (v := 0) hx hb dX4_hands_95 (by decide) ?_
    exact g_zretG hx hb hr hlk hKn hRc hRs hS h dX4_hands_96
  · have h := g_iff c_67 h
    refine g_aload_n hx hb hl 1 rfl dX4_hands_70 ?_
    refine g_iload_n hx hb hl 3 rfl dX4_hands_71 ?_
    refine lv_iconst (v := 1) hx hb dX4_hands_72 (by decide) ?_
    obtain ⟨b73, hb73, h⟩ := g_bnd h
    obtain ⟨hr73, hk73⟩ := g_chk hb73
    obtain ⟨z73, h73, h⟩ := g_bnd h
    refine g_callV (n := 2) (b := b73) (av := [.inl v2, .inl 1]) (rs := []) hx hb hml hown hts hKn hRc hRs hS hl (sX4_asked l E D h73) (lw_V q2241 q2243 qs76 q135 q2244) ⟨rfl, by decide, by decide, by decide +kernel⟩ ⟨by rw [hRf]; exact Nat.le_of_ble_eq_true rfl, by rw [hRl]; exact Nat.le_of_ble_eq_true rfl⟩ (g_recv hKn hS hk73 (by decide) (by decide)) rfl (by rw [hr73]; rfl) (Nat.le_of_ble_eq_true rfl) dX4_hands_73 (fun H locs cells slots hS => ?_)
    refine g_iload_n hx hb hl 4 rfl dX4_hands_76 ?_
    refine lv_icmp_ne (tgt := 95) hx hb dX4_hands_77 (by decide) (fun c_77 => ?_) (fun c_77 => ?_)
    · have h := g_ift c_77 h
      refine lv_iconst (v := 0) hx hb dX4_hands_95 (by decide) ?_
      exact g_zretG hx hb hr hlk hKn hRc hRs hS h dX4_hands_96
    · have h := g_iff (fun z => z c_77) h
      refine g_aload_n hx hb hl 1 rfl dX4_hands_80 ?_
      refine g_iload_n hx hb hl 2 rfl dX4_hands_81 ?_
      refine g_iload_n hx hb hl 3 rfl dX4_hands_82 ?_
      refine g_iload_n hx hb hl 4 rfl dX4_hands_83 ?_
      obtain ⟨b84, hb84, h⟩ := g_bnd h
      obtain ⟨hr84, hk84⟩ := g_chk hb84
      obtain ⟨z84, h84, h⟩ := g_bnd h
      refine g_callV (n := 3) (b := b84) (av := [.inl v1, .inl v2, .inl v3]) (rs := []) hx hb hml hown hts hKn hRc hRs hS hl (sX4_lying l E D h84) (lw_V q2299 q2301 qs89 q135 q2302) ⟨rfl, by decide, by decide, by decide +kernel⟩ ⟨by rw [hRf]; exact Nat.le_of_ble_eq_true rfl, by rw [hRl]; exact Nat.le_of_ble_eq_true rfl⟩ (g_recv hKn hS hk84 (by decide) (by decide)) rfl (by rw [hr84]; rfl) (Nat.le_of_ble_eq_true rfl) dX4_hands_84 (fun H locs cells slots hS => ?_)
      refine lv_iconst (v := (-1)) hx hb dX4_hands_87 (by decide) ?_
      refine lv_icmp_ne (tgt := 95) hx hb dX4_hands_88 (by decide) (fun c_88 => ?_) (fun c_88 => ?_)
      · have h := g_ift c_88 h
        refine lv_iconst (v := 0) hx hb dX4_hands_95 (by decide) ?_
        exact g_zretG hx hb hr hlk hKn hRc hRs hS h dX4_hands_96
      · have h := g_iff (fun z => z c_88) h
        refine lv_iconst (v := 1) hx hb dX4_hands_91 (by decide) ?_
        refine lv_goto (tgt := 96) hx hb dX4_hands_92 (by decide) ?_
        exact g_zretG hx hb hr hlk hKn hRc hRs hS h dX4_hands_96
theorem sX4_hands_b62 {p : Program} {l : Launch} {e : Env} {R : Room} {s : State} {m : MethodId} {args : Array Value} {below : List Frame} {meth : Method} {c : Code} {E : g_E} {D : g_D} (C : gC p R s m args meth c cX4_hands 5 RX4 "hands" (some .boolean) 4 134 E D) : ∀ (t : Nat) (v1 : Int32) (v2 : Int32) (v3 : Int32) (G : g_G) (q : Int32 × g_G), fX4_hands_b62 E t v1 v2 v3 G = some q → ∀ (H : Heap) (locs : List Loc) (cells slots : Nat) (ls : Array Slot), gSt E D G H locs → gls ls 5 [(0, .inr (.inr (some t))), (1, .inl v1), (2, .inl v2), (3, .inl v3)] → gT p l e R s m args below meth c E D H locs cells slots (some (.int q.1)) q.2 (F0 m 62 ls []) := by
  obtain ⟨hx, hb, hml, hown, hts, hKn, hRc, hRs, hc1, hc2, hRf, hRl, hr, hlk, hnm⟩ := id C
  intro t v1 v2 v3 G q h H locs cells slots ls hS hl
  unfold fX4_hands_b62 at h
  refine lv_iconst (v := 0) hx hb dX4_hands_62 (by decide) ?_
  exact sX4_hands_b63 C _ _ _ _ _ _ _ h _ _ _ _ _ hS (gls_sub hl [0, 1, 2, 3] rfl)
theorem sX4_hands_b58 {p : Program} {l : Launch} {e : Env} {R : Room} {s : State} {m : MethodId} {args : Array Value} {below : List Frame} {meth : Method} {c : Code} {E : g_E} {D : g_D} (C : gC p R s m args meth c cX4_hands 5 RX4 "hands" (some .boolean) 4 134 E D) : ∀ (t : Nat) (v1 : Int32) (v2 : Int32) (v3 : Int32) (G : g_G) (q : Int32 × g_G), fX4_hands_b58 E t v1 v2 v3 G = some q → ∀ (H : Heap) (locs : List Loc) (cells slots : Nat) (ls : Array Slot), gSt E D G H locs → gls ls 5 [(0, .inr (.inr (some t))), (1, .inl v1), (2, .inl v2), (3, .inl v3)] → gT p l e R s m args below meth c E D H locs cells slots (some (.int q.1)) q.2 (F0 m 58 ls []) := by
  obtain ⟨hx, hb, hml, hown, hts, hKn, hRc, hRs, hc1, hc2, hRf, hRl, hr, hlk, hnm⟩ := id C
  intro t v1 v2 v3 G q h H locs cells slots ls hS hl
  unfold fX4_hands_b58 at h
  refine lv_iconst (v := 1) hx hb dX4_hands_58 (by decide) ?_
  refine lv_goto (tgt := 63) hx hb dX4_hands_59 (by decide) ?_
  exact sX4_hands_b63 C _ _ _ _ _ _ _ h _ _ _ _ _ hS (gls_sub hl [0, 1, 2, 3] rfl)
theorem sX4_hands_b33 {p : Program} {l : Launch} {e : Env} {R : Room} {s : State} {m : MethodId} {args : Array Value} {below : List Frame} {meth : Method} {c : Code} {E : g_E} {D : g_D} (C : gC p R s m args meth c cX4_hands 5 RX4 "hands" (some .boolean) 4 134 E D) : ∀ (t : Nat) (v1 : Int32) (v2 : Int32) (v3 : Int32) (G : g_G) (q : Int32 × g_G), fX4_hands_b33 E t v1 v2 v3 G = some q → ∀ (H : Heap) (locs : List Loc) (cells slots : Nat) (ls : Array Slot), gSt E D G H locs → gls ls 5 [(0, .inr (.inr (some t))), (1, .inl v1), (2, .inl v2), (3, .inl v3)] → gT p l e R s m args below meth c E D H locs cells slots (some (.int q.1)) q.2 (F0 m 33 ls []) := by
  obtain ⟨hx, hb, hml, hown, hts, hKn, hRc, hRs, hc1, hc2, hRf, hRl, hr, hlk, hnm⟩ := id C
  intro t v1 v2 v3 G q h H locs cells slots ls hS hl
  unfold fX4_hands_b33 at h
  refine g_aload_n hx hb hl 0 rfl dX4_hands_33 ?_
  refine g_iload_n hx hb hl 2 rfl dX4_hands_34 ?_
  refine lv_iconst (v := 4) hx hb dX4_hands_35 (by decide) ?_
  obtain ⟨b36, hb36, h⟩ := g_bnd h
  obtain ⟨hr36, hk36⟩ := g_chk hb36
  obtain ⟨z36, h36, h⟩ := g_bnd h
  refine g_callV (n := 2) (b := b36) (av := [.inl v2, .inl 4]) (rs := []) hx hb hml hown hts hKn hRc hRs hS hl (sX4_isAt l E D h36) (lw_V q2280 q2282 qs85 q135 q2283) ⟨rfl, by decide, by decide, by decide +kernel⟩ ⟨by rw [hRf]; exact Nat.le_of_ble_eq_true rfl, by rw [hRl]; exact Nat.le_of_ble_eq_true rfl⟩ (g_recv hKn hS hk36 (by decide) (by decide)) rfl (by rw [hr36]; rfl) (Nat.le_of_ble_eq_true rfl) dX4_hands_36 (fun H locs cells slots hS => ?_)
  refine lv_if_eq (tgt := 62) hx hb dX4_hands_39 (by decide) (fun c_39 => ?_) (fun c_39 => ?_)
  · have h := g_ift c_39 h
    exact sX4_hands_b62 C _ _ _ _ _ _ h _ _ _ _ _ hS (gls_sub hl [0, 1, 2, 3] rfl)
  · have h := g_iff c_39 h
    refine g_aload_n hx hb hl 0 rfl dX4_hands_42 ?_
    refine g_rdI hx hb hown hts hKn hS h fd_4_4_35 rfl (Or.inl (hts _ q1900)) (fun _ z => z) dX4_hands_43 (fun x43 h => ?_)
    refine lv_iconst (v := (-1)) hx hb dX4_hands_46 (by decide) ?_
    refine lv_icmp_eq (tgt := 58) hx hb dX4_hands_47 (by decide) (fun c_47 => ?_) (fun c_47 => ?_)
    · have h := g_ift c_47 h
      exact sX4_hands_b58 C _ _ _ _ _ _ h _ _ _ _ _ hS (gls_sub hl [0, 1, 2, 3] rfl)
    · have h := g_iff c_47 h
      refine g_aload_n hx hb hl 0 rfl dX4_hands_50 ?_
      refine g_rdI hx hb hown hts hKn hS h fd_4_4_35 rfl (Or.inl (hts _ q1900)) (fun _ z => z) dX4_hands_51 (fun x51 h => ?_)
      refine g_iload_n hx hb hl 1 rfl dX4_hands_54 ?_
      refine lv_icmp_ne (tgt := 62) hx hb dX4_hands_55 (by decide) (fun c_55 => ?_) (fun c_55 => ?_)
      · have h := g_ift c_55 h
        exact sX4_hands_b62 C _ _ _ _ _ _ h _ _ _ _ _ hS (gls_sub hl [0, 1, 2, 3] rfl)
      · have h := g_iff (fun z => z c_55) h
        exact sX4_hands_b58 C _ _ _ _ _ _ h _ _ _ _ _ hS (gls_sub hl [0, 1, 2, 3] rfl)
theorem sX4_hands (l : Launch) (E : g_E) (D : g_D) {t : Nat} {v1 : Int32} {G : g_G} {q : Int32 × g_G} (h : fX4_hands E t v1 G = some q) : gMet l E D yX4_hands (ws_ yX4_hands cX4_hands 5 (some .boolean)) 4 134 [.inr (.inr (some t)), .inl v1] G (some (.int q.1)) q.2 := by
  refine gMet.of (by decide +kernel) (Nat.le_of_ble_eq_true rfl) ?_
  intro p e R s m args below meth c C hS ls hl
  have C : gC p R s m args meth c cX4_hands 5 RX4 "hands" (some .boolean) 4 134 E D := C
  obtain ⟨hx, hb, hml, hown, hts, hKn, hRc, hRs, hc1, hc2, hRf, hRl, hr, hlk, hnm⟩ := id C
  have hl : gls ls 5 [(0, .inr (.inr (some t))), (1, .inl v1)] := hl
  generalize s.heap = H at hS ⊢
  unfold fX4_hands at h
  refine g_aload_n hx hb hl 0 rfl dX4_hands_0 ?_
  refine g_iload_n hx hb hl 1 rfl dX4_hands_1 ?_
  refine lv_iconst (v := 0) hx hb dX4_hands_2 (by decide) ?_
  obtain ⟨b3, hb3, h⟩ := g_bnd h
  obtain ⟨hr3, hk3⟩ := g_chk hb3
  obtain ⟨z3, h3, h⟩ := g_bnd h
  refine g_callV (n := 2) (b := b3) (av := [.inl v1, .inl 0]) (rs := []) hx hb hml hown hts hKn hRc hRs hS hl (sX4_asked l E D h3) (lw_V q2241 q2243 qs76 q135 q2244) ⟨rfl, by decide, by decide, by decide +kernel⟩ ⟨by rw [hRf]; exact Nat.le_of_ble_eq_true rfl, by rw [hRl]; exact Nat.le_of_ble_eq_true rfl⟩ (g_recv hKn hS hk3 (by decide) (by decide)) rfl (by rw [hr3]; rfl) (Nat.le_of_ble_eq_true rfl) dX4_hands_3 (fun H locs cells slots hS => ?_)
  refine g_istore_n (l1 := [(2, .inl z3.1), (0, .inr (.inr (some t))), (1, .inl v1)]) hx hb hl (by decide) rfl dX4_hands_6 (fun ls hl => ?_)
  refine g_aload_n hx hb hl 1 rfl dX4_hands_7 ?_
  refine g_iload_n hx hb hl 2 rfl dX4_hands_8 ?_
  refine lv_iconst (v := 1) hx hb dX4_hands_9 (by decide) ?_
  obtain ⟨b10, hb10, h⟩ := g_bnd h
  obtain ⟨hr10, hk10⟩ := g_chk hb10
  obtain ⟨z10, h10, h⟩ := g_bnd h
  refine g_callV (n := 2) (b := b10) (av := [.inl v1, .inl 1]) (rs := []) hx hb hml hown hts hKn hRc hRs hS hl (sX4_asked l E D h10) (lw_V q2241 q2243 qs76 q135 q2244) ⟨rfl, by decide, by decide, by decide +kernel⟩ ⟨by rw [hRf]; exact Nat.le_of_ble_eq_true rfl, by rw [hRl]; exact Nat.le_of_ble_eq_true rfl⟩ (g_recv hKn hS hk10 (by decide) (by decide)) rfl (by rw [hr10]; rfl) (Nat.le_of_ble_eq_true rfl) dX4_hands_10 (fun H locs cells slots hS => ?_)
  refine g_istore_n (l1 := [(3, .inl z10.1), (2, .inl z3.1), (0, .inr (.inr (some t))), (1, .inl v1)]) hx hb hl (by decide) rfl dX4_hands_13 (fun ls hl => ?_)
  refine g_aload_n hx hb hl 2 rfl dX4_hands_14 ?_
  refine g_iload_n hx hb hl 1 rfl dX4_hands_15 ?_
  refine lv_iconst (v := 3) hx hb dX4_hands_16 (by decide) ?_
  obtain ⟨b17, hb17, h⟩ := g_bnd h
  obtain ⟨hr17, hk17⟩ := g_chk hb17
  obtain ⟨z17, h17, h⟩ := g_bnd h
  refine g_callV (n := 2) (b := b17) (av := [.inl z3.1, .inl 3]) (rs := []) hx hb hml hown hts hKn hRc hRs hS hl (sX4_isAt l E D h17) (lw_V q2280 q2282 qs85 q135 q2283) ⟨rfl, by decide, by decide, by decide +kernel⟩ ⟨by rw [hRf]; exact Nat.le_of_ble_eq_true rfl, by rw [hRl]; exact Nat.le_of_ble_eq_true rfl⟩ (g_recv hKn hS hk17 (by decide) (by decide)) rfl (by rw [hr17]; rfl) (Nat.le_of_ble_eq_true rfl) dX4_hands_17 (fun H locs cells slots hS => ?_)
  refine lv_if_eq (tgt := 33) hx hb dX4_hands_20 (by decide) (fun c_20 => ?_) (fun c_20 => ?_)
  · have h := g_ift c_20 h
    exact sX4_hands_b33 C _ _ _ _ _ _ h _ _ _ _ _ hS (gls_sub hl [2, 3, 1, 0] rfl)
  · have h := g_iff c_20 h
    refine g_aload_n hx hb hl 2 rfl dX4_hands_23 ?_
    refine g_iload_n hx hb hl 1 rfl dX4_hands_24 ?_
    refine lv_iconst (v := 0) hx hb dX4_hands_25 (by decide) ?_
    obtain ⟨b26, hb26, h⟩ := g_bnd h
    obtain ⟨hr26, hk26⟩ := g_chk hb26
    obtain ⟨z26, h26, h⟩ := g_bnd h
    refine g_callV (n := 2) (b := b26) (av := [.inl z3.1, .inl 0]) (rs := []) hx hb hml hown hts hKn hRc hRs hS hl (sX4_asked l E D h26) (lw_V q2241 q2243 qs76 q135 q2244) ⟨rfl, by decide, by decide, by decide +kernel⟩ ⟨by rw [hRf]; exact Nat.le_of_ble_eq_true rfl, by rw [hRl]; exact Nat.le_of_ble_eq_true rfl⟩ (g_recv hKn hS hk26 (by decide) (by decide)) rfl (by rw [hr26]; rfl) (Nat.le_of_ble_eq_true rfl) dX4_hands_26 (fun H locs cells slots hS => ?_)
    refine g_iload_n hx hb hl 3 rfl dX4_hands_29 ?_
    refine lv_icmp_eq (tgt := 58) hx hb dX4_hands_30 (by decide) (fun c_30 => ?_) (fun c_30 => ?_)
    · have h := g_ift c_30 h
      exact sX4_hands_b58 C _ _ _ _ _ _ h _ _ _ _ _ hS (gls_sub hl [2, 3, 1, 0] rfl)
    · have h := g_iff c_30 h
      exact sX4_hands_b33 C _ _ _ _ _ _ h _ _ _ _ _ hS (gls_sub hl [2, 3, 1, 0] rfl)
/-- SendHallModel.has(IIII)V -/
def fX4_has (E : g_E) (t : Nat) (v1 : Int32) (v2 : Int32) (v3 : Int32) (v4 : Int32) (G : g_G) : Option (g_G) :=
  (gchk G 4 (some t)).bind fun b3 =>
  (fX4_own E b3 v1 0 G).bind fun z3 =>
  (grR z3.2 4 4 (some t) 27).bind fun x12 =>
  (gaI z3.2 100 x12 z3.1).bind fun x17 =>
  (gchk z3.2 4 (some t)).bind fun b20 =>
  (fX4_put E b20 v1 (2 + x17) v3 z3.2).bind fun z20 =>
  (gchk z20 4 (some t)).bind fun b28 =>
  (fX4_put E b28 v1 6 v2 z20).bind fun z28 =>
  (grR z28 4 4 (some t) 28).bind fun x34 =>
  (gaI z28 100 x34 z3.1).bind fun x39 =>
  if v4 ≤ x39 then (
    (gchk z28 4 (some t)).bind fun b55 =>
    (fX4_goOn E b55 v1 z28).bind fun z55 =>
    some z55)
  else (
    (gchk z28 4 (some t)).bind fun b47 =>
    (fX4_put E b47 v1 1 1 z28).bind fun z47 =>
    some z47)
theorem sX4_has (l : Launch) (E : g_E) (D : g_D) {t : Nat} {v1 : Int32} {v2 : Int32} {v3 : Int32} {v4 : Int32} {G : g_G} {q : g_G} (h : fX4_has E t v1 v2 v3 v4 G = some q) : gMet l E D yX4_has (ws_ yX4_has cX4_has 6 (none)) 7 205 [.inr (.inr (some t)), .inl v1, .inl v2, .inl v3, .inl v4] G none q := by
  refine gMet.of (by decide +kernel) (Nat.le_of_ble_eq_true rfl) ?_
  intro p e R s m args below meth c C hS ls hl
  have C : gC p R s m args meth c cX4_has 6 RX4 "has" (none) 7 205 E D := C
  obtain ⟨hx, hb, hml, hown, hts, hKn, hRc, hRs, hc1, hc2, hRf, hRl, hr, hlk, hnm⟩ := id C
  have hl : gls ls 6 [(0, .inr (.inr (some t))), (1, .inl v1), (2, .inl v2), (3, .inl v3), (4, .inl v4)] := hl
  generalize s.heap = H at hS ⊢
  unfold fX4_has at h
  refine g_aload_n hx hb hl 0 rfl dX4_has_0 ?_
  refine g_iload_n hx hb hl 1 rfl dX4_has_1 ?_
  refine lv_iconst (v := 0) hx hb dX4_has_2 (by decide) ?_
  obtain ⟨b3, hb3, h⟩ := g_bnd h
  obtain ⟨hr3, hk3⟩ := g_chk hb3
  obtain ⟨z3, h3, h⟩ := g_bnd h
  refine g_callV (n := 2) (b := b3) (av := [.inl v1, .inl 0]) (rs := []) hx hb hml hown hts hKn hRc hRs hS hl (sX4_own l E D h3) (lw_V q2245 q2247 qs77 q135 q2248) ⟨rfl, by decide, by decide, by decide +kernel⟩ ⟨by rw [hRf]; exact Nat.le_of_ble_eq_true rfl, by rw [hRl]; exact Nat.le_of_ble_eq_true rfl⟩ (g_recv hKn hS hk3 (by decide) (by decide)) rfl (by rw [hr3]; rfl) (Nat.le_of_ble_eq_true rfl) dX4_has_3 (fun H locs cells slots hS => ?_)
  refine g_istore (l1 := [(5, .inl z3.1), (0, .inr (.inr (some t))), (1, .inl v1), (2, .inl v2), (3, .inl v3), (4, .inl v4)]) hx hb hl (by decide) rfl dX4_has_6 (fun ls hl => ?_)
  refine g_aload_n hx hb hl 1 rfl dX4_has_8 ?_
  refine g_iload_n hx hb hl 2 rfl dX4_has_9 ?_
  refine lv_iconst (v := 2) hx hb dX4_has_10 (by decide) ?_
  refine g_aload_n hx hb hl 1 rfl dX4_has_11 ?_
  refine g_rdR hx hb hown hts hKn hS h fd_4_4_27 rfl (Or.inl (hts _ q1892)) (fun _ z => z) dX4_has_12 (fun x12 h => ?_)
  refine g_iload hx hb hl 0 rfl dX4_has_15 ?_
  refine g_ialoadG hx hb hKn hS h dX4_has_17 (fun x17 h => ?_)
  refine lv_iadd hx hb dX4_has_18 ?_
  refine g_iload_n hx hb hl 4 rfl dX4_has_19 ?_
  obtain ⟨b20, hb20, h⟩ := g_bnd h
  obtain ⟨hr20, hk20⟩ := g_chk hb20
  obtain ⟨z20, h20, h⟩ := g_bnd h
  refine g_callV (n := 3) (b := b20) (av := [.inl v1, .inl (2 + x17), .inl v3]) (rs := []) hx hb hml hown hts hKn hRc hRs hS hl (sX4_put l E D h20) (lw_V q2233 q2235 qs74 q135 q2236) ⟨rfl, by decide, by decide, by decide +kernel⟩ ⟨by rw [hRf]; exact Nat.le_of_ble_eq_true rfl, by rw [hRl]; exact Nat.le_of_ble_eq_true rfl⟩ (g_recv hKn hS hk20 (by decide) (by decide)) rfl (by rw [hr20]; rfl) (Nat.le_of_ble_eq_true rfl) dX4_has_20 (fun H locs cells slots hS => ?_)
  refine g_aload_n hx hb hl 1 rfl dX4_has_23 ?_
  refine g_iload_n hx hb hl 2 rfl dX4_has_24 ?_
  refine lv_bipush (v := 6) hx hb dX4_has_25 (by decide) ?_
  refine g_iload_n hx hb hl 3 rfl dX4_has_27 ?_
  obtain ⟨b28, hb28, h⟩ := g_bnd h
  obtain ⟨hr28, hk28⟩ := g_chk hb28
  obtain ⟨z28, h28, h⟩ := g_bnd h
  refine g_callV (n := 3) (b := b28) (av := [.inl v1, .inl 6, .inl v2]) (rs := []) hx hb hml hown hts hKn hRc hRs hS hl (sX4_put l E D h28) (lw_V q2233 q2235 qs74 q135 q2236) ⟨rfl, by decide, by decide, by decide +kernel⟩ ⟨by rw [hRf]; exact Nat.le_of_ble_eq_true rfl, by rw [hRl]; exact Nat.le_of_ble_eq_true rfl⟩ (g_recv hKn hS hk28 (by decide) (by decide)) rfl (by rw [hr28]; rfl) (Nat.le_of_ble_eq_true rfl) dX4_has_28 (fun H locs cells slots hS => ?_)
  refine g_iload hx hb hl 5 rfl dX4_has_31 ?_
  refine g_aload_n hx hb hl 1 rfl dX4_has_33 ?_
  refine g_rdR hx hb hown hts hKn hS h fd_4_4_28 rfl (Or.inl (hts _ q1893)) (fun _ z => z) dX4_has_34 (fun x34 h => ?_)
  refine g_iload hx hb hl 0 rfl dX4_has_37 ?_
  refine g_ialoadG hx hb hKn hS h dX4_has_39 (fun x39 h => ?_)
  refine lv_icmp_le (tgt := 53) hx hb dX4_has_40 (by decide) (fun c_40 => ?_) (fun c_40 => ?_)
  · have h := g_ift c_40 h
    refine g_aload_n hx hb hl 1 rfl dX4_has_53 ?_
    refine g_iload_n hx hb hl 2 rfl dX4_has_54 ?_
    obtain ⟨b55, hb55, h⟩ := g_bnd h
    obtain ⟨hr55, hk55⟩ := g_chk hb55
    obtain ⟨z55, h55, h⟩ := g_bnd h
    refine g_callV (n := 1) (b := b55) (av := [.inl v1]) (rs := []) hx hb hml hown hts hKn hRc hRs hS hl (sX4_goOn l E D h55) (lw_V q2324 q2326 qs95 q135 q2327) ⟨rfl, by decide, by decide, by decide +kernel⟩ ⟨by rw [hRf]; exact Nat.le_of_ble_eq_true rfl, by rw [hRl]; exact Nat.le_of_ble_eq_true rfl⟩ (g_recv hKn hS hk55 (by decide) (by decide)) rfl (by rw [hr55]; rfl) (Nat.le_of_ble_eq_true rfl) dX4_has_55 (fun H locs cells slots hS => ?_)
    exact g_vretG hx hb hr hlk hKn hRc hRs hS h dX4_has_58
  · have h := g_iff c_40 h
    refine g_aload_n hx hb hl 1 rfl dX4_has_43 ?_
    refine g_iload_n hx hb hl 2 rfl dX4_has_44 ?_
    refine lv_iconst (v := 1) hx hb dX4_has_45 (by decide) ?_
    refine lv_iconst (v := 1) hx hb dX4_has_46 (by decide) ?_
    obtain ⟨b47, hb47, h⟩ := g_bnd h
    obtain ⟨hr47, hk47⟩ := g_chk hb47
    obtain ⟨z47, h47, h⟩ := g_bnd h
    refine g_callV (n := 3) (b := b47) (av := [.inl v1, .inl 1, .inl 1]) (rs := []) hx hb hml hown hts hKn hRc hRs hS hl (sX4_put l E D h47) (lw_V q2233 q2235 qs74 q135 q2236) ⟨rfl, by decide, by decide, by decide +kernel⟩ ⟨by rw [hRf]; exact Nat.le_of_ble_eq_true rfl, by rw [hRl]; exact Nat.le_of_ble_eq_true rfl⟩ (g_recv hKn hS hk47 (by decide) (by decide)) rfl (by rw [hr47]; rfl) (Nat.le_of_ble_eq_true rfl) dX4_has_47 (fun H locs cells slots hS => ?_)
    refine lv_goto (tgt := 58) hx hb dX4_has_50 (by decide) ?_
    exact g_vretG hx hb hr hlk hKn hRc hRs hS h dX4_has_58
/-- SendHallModel.readPart(I)V -/
def fX4_readPart_b84 (E : g_E) (fM : g_E → Nat → Int32 → g_G → Option (g_G)) (G : g_G) : Option (g_G) :=
  some G
def fX4_readPart_b65 (E : g_E) (fM : g_E → Nat → Int32 → g_G → Option (g_G)) (t : Nat) (v2 : Int32) (G : g_G) : Option (g_G) :=
  (gchk G 4 (some t)).bind fun b70 =>
  (fX4_emit E b70 (20 + v2) G).bind fun z70 =>
  (grI z70 4 4 (some t) 18).bind fun x74 =>
  if ¬ x74 = 0 then (
    fX4_readPart_b84 E fM z70)
  else (
    (gchk z70 4 (some t)).bind fun b81 =>
    (fX4_stepOn E b81 z70).bind fun z81 =>
    fX4_readPart_b84 E fM z81)
def fX4_readPart (E : g_E) (fM : g_E → Nat → Int32 → g_G → Option (g_G)) (t : Nat) (v1 : Int32) (G : g_G) : Option (g_G) :=
  (grI G 4 4 (some t) 18).bind fun x1 =>
  if x1 = 0 then (
    (grI G 4 4 (some t) 13).bind fun x9 =>
    if ¬ x9 = (2 : Int32) then (
      (grI G 4 4 (some t) 13).bind fun x39 =>
      if ¬ x39 = (1 : Int32) then (
        (gchk G 4 (some t)).bind fun b90 =>
        (fX4_isSign E b90 40 G).bind fun z90 =>
        if z90.1 = 0 then (
          (gchk z90.2 4 (some t)).bind fun b118 =>
          (fX4_wrong E b118 1 z90.2).bind fun z118 =>
          some z118)
        else (
          (gchk z90.2 4 (some t)).bind fun b97 =>
          (fX4_stepOn E b97 z90.2).bind fun z97 =>
          (gchk z97 4 (some t)).bind fun b104 =>
          (fM E b104 (v1 + 1) z97).bind fun z104 =>
          (gchk z104 4 (some t)).bind fun b110 =>
          (fX4_need E b110 41 z104).bind fun z110 =>
          some z110))
      else (
        (grR G 4 4 (some t) 1).bind fun x48 =>
        (gchk G 4 (some t)).bind fun b51 =>
        (fX4_which E b51 x48 G).bind fun z51 =>
        if ¬ z51.1 = (-1 : Int32) then (
          fX4_readPart_b65 E fM t z51.1 z51.2)
        else (
          (gchk z51.2 4 (some t)).bind fun b62 =>
          (fX4_wrong E b62 3 z51.2).bind fun z62 =>
          fX4_readPart_b65 E fM t z51.1 z62)))
    else (
      (gchk G 4 (some t)).bind fun b21 =>
      (fX4_readNumber E b21 0 9999 G).bind fun z21 =>
      (gchk z21.2 4 (some t)).bind fun b27 =>
      (fX4_emit E b27 0 z21.2).bind fun z27 =>
      (gchk z27 4 (some t)).bind fun b32 =>
      (fX4_emit E b32 z21.1 z27).bind fun z32 =>
      some z32))
  else (
    some G)
theorem sX4_readPart_b84 {p : Program} {l : Launch} {e : Env} {R : Room} {s : State} {m : MethodId} {args : Array Value} {below : List Frame} {meth : Method} {c : Code} {E : g_E} {D : g_D} {fM : g_E → Nat → Int32 → g_G → Option (g_G)} {fF : Nat} {fL : Nat} (C : gC p R s m args meth c cX4_readPart 3 RX4 "readPart" (none) (fF + 2) (fL + 100) E D) (hfM : ∀ (l : Launch) (E : g_E) (D : g_D), ∀ {t : Nat} {v1 : Int32} {G : g_G} {q : g_G}, fM E t v1 G = some q → gMet l E D yX4_readExpression (ws_ yX4_readExpression cX4_readExpression 4 (none)) fF fL [.inr (.inr (some t)), .inl v1] G none q) (hF : 60 ≤ fF) (hL : 3000 ≤ fL) : ∀ (G : g_G) (q : g_G), fX4_readPart_b84 E fM G = some q → ∀ (H : Heap) (locs : List Loc) (cells slots : Nat) (ls : Array Slot), gSt E D G H locs → gls ls 3 [] → gT p l e R s m args below meth c E D H locs cells slots none q (F0 m 84 ls []) := by
  obtain ⟨hx, hb, hml, hown, hts, hKn, hRc, hRs, hc1, hc2, hRf, hRl, hr, hlk, hnm⟩ := id C
  intro G q h H locs cells slots ls hS hl
  unfold fX4_readPart_b84 at h
  refine lv_goto (tgt := 121) hx hb dX4_readPart_84 (by decide) ?_
  exact g_vretG hx hb hr hlk hKn hRc hRs hS h dX4_readPart_121
theorem sX4_readPart_b65 {p : Program} {l : Launch} {e : Env} {R : Room} {s : State} {m : MethodId} {args : Array Value} {below : List Frame} {meth : Method} {c : Code} {E : g_E} {D : g_D} {fM : g_E → Nat → Int32 → g_G → Option (g_G)} {fF : Nat} {fL : Nat} (C : gC p R s m args meth c cX4_readPart 3 RX4 "readPart" (none) (fF + 2) (fL + 100) E D) (hfM : ∀ (l : Launch) (E : g_E) (D : g_D), ∀ {t : Nat} {v1 : Int32} {G : g_G} {q : g_G}, fM E t v1 G = some q → gMet l E D yX4_readExpression (ws_ yX4_readExpression cX4_readExpression 4 (none)) fF fL [.inr (.inr (some t)), .inl v1] G none q) (hF : 60 ≤ fF) (hL : 3000 ≤ fL) : ∀ (t : Nat) (v2 : Int32) (G : g_G) (q : g_G), fX4_readPart_b65 E fM t v2 G = some q → ∀ (H : Heap) (locs : List Loc) (cells slots : Nat) (ls : Array Slot), gSt E D G H locs → gls ls 3 [(0, .inr (.inr (some t))), (2, .inl v2)] → gT p l e R s m args below meth c E D H locs cells slots none q (F0 m 65 ls []) := by
  obtain ⟨hx, hb, hml, hown, hts, hKn, hRc, hRs, hc1, hc2, hRf, hRl, hr, hlk, hnm⟩ := id C
  intro t v2 G q h H locs cells slots ls hS hl
  unfold fX4_readPart_b65 at h
  refine g_aload_n hx hb hl 0 rfl dX4_readPart_65 ?_
  refine lv_bipush (v := 20) hx hb dX4_readPart_66 (by decide) ?_
  refine g_iload_n hx hb hl 1 rfl dX4_readPart_68 ?_
  refine lv_iadd hx hb dX4_readPart_69 ?_
  obtain ⟨b70, hb70, h⟩ := g_bnd h
  obtain ⟨hr70, hk70⟩ := g_chk hb70
  obtain ⟨z70, h70, h⟩ := g_bnd h
  refine g_callV (n := 1) (b := b70) (av := [.inl (20 + v2)]) (rs := []) hx hb hml hown hts hKn hRc hRs hS hl (sX4_emit l E D h70) (lw_V q2160 q2162 qs63 q135 q2163) ⟨rfl, by decide, by decide, by decide +kernel⟩ ⟨by rw [hRf]; omega, by rw [hRl]; omega⟩ (g_recv hKn hS hk70 (by decide) (by decide)) rfl (by rw [hr70]; rfl) (Nat.le_of_ble_eq_true rfl) dX4_readPart_70 (fun H locs cells slots hS => ?_)
  refine g_aload_n hx hb hl 0 rfl dX4_readPart_73 ?_
  refine g_rdI hx hb hown hts hKn hS h fd_4_4_18 rfl (Or.inl (hts _ q1883)) (fun _ z => z) dX4_readPart_74 (fun x74 h => ?_)
  refine lv_if_ne (tgt := 84) hx hb dX4_readPart_77 (by decide) (fun c_77 => ?_) (fun c_77 => ?_)
  · have h := g_ift c_77 h
    exact sX4_readPart_b84 C hfM hF hL _ _ h _ _ _ _ _ hS (gls_sub hl [] rfl)
  · have h := g_iff (fun z => z c_77) h
    refine g_aload_n hx hb hl 0 rfl dX4_readPart_80 ?_
    obtain ⟨b81, hb81, h⟩ := g_bnd h
    obtain ⟨hr81, hk81⟩ := g_chk hb81
    obtain ⟨z81, h81, h⟩ := g_bnd h
    refine g_callV (n := 0) (b := b81) (av := []) (rs := []) hx hb hml hown hts hKn hRc hRs hS hl (sX4_stepOn l E D h81) (lw_V q2092 q2094 qs49 q135 q2095) ⟨rfl, by decide, by decide, by decide +kernel⟩ ⟨by rw [hRf]; omega, by rw [hRl]; omega⟩ (g_recv hKn hS hk81 (by decide) (by decide)) rfl (by rw [hr81]; rfl) (Nat.le_of_ble_eq_true rfl) dX4_readPart_81 (fun H locs cells slots hS => ?_)
    exact sX4_readPart_b84 C hfM hF hL _ _ h _ _ _ _ _ hS (gls_sub hl [] rfl)
theorem sX4_readPart (l : Launch) (E : g_E) (D : g_D) {fM : g_E → Nat → Int32 → g_G → Option (g_G)} {fF : Nat} {fL : Nat} (hfM : ∀ (l : Launch) (E : g_E) (D : g_D), ∀ {t : Nat} {v1 : Int32} {G : g_G} {q : g_G}, fM E t v1 G = some q → gMet l E D yX4_readExpression (ws_ yX4_readExpression cX4_readExpression 4 (none)) fF fL [.inr (.inr (some t)), .inl v1] G none q) (hF : 60 ≤ fF) (hL : 3000 ≤ fL) {t : Nat} {v1 : Int32} {G : g_G} {q : g_G} (h : fX4_readPart E fM t v1 G = some q) : gMet l E D yX4_readPart (ws_ yX4_readPart cX4_readPart 3 (none)) (fF + 2) (fL + 100) [.inr (.inr (some t)), .inl v1] G none q := by
  refine gMet.of (by decide +kernel) (Nat.le_of_ble_eq_true rfl) ?_
  intro p e R s m args below meth c C hS ls hl
  have C : gC p R s m args meth c cX4_readPart 3 RX4 "readPart" (none) (fF + 2) (fL + 100) E D := C
  obtain ⟨hx, hb, hml, hown, hts, hKn, hRc, hRs, hc1, hc2, hRf, hRl, hr, hlk, hnm⟩ := id C
  have hl : gls ls 3 [(0, .inr (.inr (some t))), (1, .inl v1)] := hl
  generalize s.heap = H at hS ⊢
  unfold fX4_readPart at h
  refine g_aload_n hx hb hl 0 rfl dX4_readPart_0 ?_
  refine g_rdI hx hb hown hts hKn hS h fd_4_4_18 rfl (Or.inl (hts _ q1883)) (fun _ z => z) dX4_readPart_1 (fun x1 h => ?_)
  refine lv_if_eq (tgt := 8) hx hb dX4_readPart_4 (by decide) (fun c_4 => ?_) (fun c_4 => ?_)
  · have h := g_ift c_4 h
    refine g_aload_n hx hb hl 0 rfl dX4_readPart_8 ?_
    refine g_rdI hx hb hown hts hKn hS h fd_4_4_13 rfl (Or.inl (hts _ q1878)) (fun _ z => z) dX4_readPart_9 (fun x9 h => ?_)
    refine lv_iconst (v := 2) hx hb dX4_readPart_12 (by decide) ?_
    refine lv_icmp_ne (tgt := 38) hx hb dX4_readPart_13 (by decide) (fun c_13 => ?_) (fun c_13 => ?_)
    · have h := g_ift c_13 h
      refine g_aload_n hx hb hl 0 rfl dX4_readPart_38 ?_
      refine g_rdI hx hb hown hts hKn hS h fd_4_4_13 rfl (Or.inl (hts _ q1878)) (fun _ z => z) dX4_readPart_39 (fun x39 h => ?_)
      refine lv_iconst (v := 1) hx hb dX4_readPart_42 (by decide) ?_
      refine lv_icmp_ne (tgt := 87) hx hb dX4_readPart_43 (by decide) (fun c_43 => ?_) (fun c_43 => ?_)
      · have h := g_ift c_43 h
        refine g_aload_n hx hb hl 0 rfl dX4_readPart_87 ?_
        refine lv_bipush (v := 40) hx hb dX4_readPart_88 (by decide) ?_
        obtain ⟨b90, hb90, h⟩ := g_bnd h
        obtain ⟨hr90, hk90⟩ := g_chk hb90
        obtain ⟨z90, h90, h⟩ := g_bnd h
        refine g_callV (n := 1) (b := b90) (av := [.inl 40]) (rs := []) hx hb hml hown hts hKn hRc hRs hS hl (sX4_isSign l E D h90) (lw_V q2140 q2142 qs58 q135 q2143) ⟨rfl, by decide, by decide, by decide +kernel⟩ ⟨by rw [hRf]; omega, by rw [hRl]; omega⟩ (g_recv hKn hS hk90 (by decide) (by decide)) rfl (by rw [hr90]; rfl) (Nat.le_of_ble_eq_true rfl) dX4_readPart_90 (fun H locs cells slots hS => ?_)
        refine lv_if_eq (tgt := 116) hx hb dX4_readPart_93 (by decide) (fun c_93 => ?_) (fun c_93 => ?_)
        · have h := g_ift c_93 h
          refine g_aload_n hx hb hl 0 rfl dX4_readPart_116 ?_
          refine lv_iconst (v := 1) hx hb dX4_readPart_117 (by decide) ?_
          obtain ⟨b118, hb118, h⟩ := g_bnd h
          obtain ⟨hr118, hk118⟩ := g_chk hb118
          obtain ⟨z118, h118, h⟩ := g_bnd h
          refine g_callV (n := 1) (b := b118) (av := [.inl 1]) (rs := []) hx hb hml hown hts hKn hRc hRs hS hl (sX4_wrong l E D h118) (lw_V q2128 q2130 qs55 q135 q2131) ⟨rfl, by decide, by decide, by decide +kernel⟩ ⟨by rw [hRf]; omega, by rw [hRl]; omega⟩ (g_recv hKn hS hk118 (by decide) (by decide)) rfl (by rw [hr118]; rfl) (Nat.le_of_ble_eq_true rfl) dX4_readPart_118 (fun H locs cells slots hS => ?_)
          exact g_vretG hx hb hr hlk hKn hRc hRs hS h dX4_readPart_121
        · have h := g_iff c_93 h
          refine g_aload_n hx hb hl 0 rfl dX4_readPart_96 ?_
          obtain ⟨b97, hb97, h⟩ := g_bnd h
          obtain ⟨hr97, hk97⟩ := g_chk hb97
          obtain ⟨z97, h97, h⟩ := g_bnd h
          refine g_callV (n := 0) (b := b97) (av := []) (rs := []) hx hb hml hown hts hKn hRc hRs hS hl (sX4_stepOn l E D h97) (lw_V q2092 q2094 qs49 q135 q2095) ⟨rfl, by decide, by decide, by decide +kernel⟩ ⟨by rw [hRf]; omega, by rw [hRl]; omega⟩ (g_recv hKn hS hk97 (by decide) (by decide)) rfl (by rw [hr97]; rfl) (Nat.le_of_ble_eq_true rfl) dX4_readPart_97 (fun H locs cells slots hS => ?_)
          refine g_aload_n hx hb hl 0 rfl dX4_readPart_100 ?_
          refine g_iload_n hx hb hl 1 rfl dX4_readPart_101 ?_
          refine lv_iconst (v := 1) hx hb dX4_readPart_102 (by decide) ?_
          refine lv_iadd hx hb dX4_readPart_103 ?_
          obtain ⟨b104, hb104, h⟩ := g_bnd h
          obtain ⟨hr104, hk104⟩ := g_chk hb104
          obtain ⟨z104, h104, h⟩ := g_bnd h
          refine g_callV (n := 1) (b := b104) (av := [.inl (v1 + 1)]) (rs := []) hx hb hml hown hts hKn hRc hRs hS hl (hfM l E D h104) (lw_V q2136 q2138 qs57 q135 q2139) ⟨rfl, by decide, by decide, by decide +kernel⟩ ⟨by rw [hRf]; omega, by rw [hRl]; omega⟩ (g_recv hKn hS hk104 (by decide) (by decide)) rfl (by rw [hr104]; rfl) (Nat.le_of_ble_eq_true rfl) dX4_readPart_104 (fun H locs cells slots hS => ?_)
          refine g_aload_n hx hb hl 0 rfl dX4_readPart_107 ?_
          refine lv_bipush (v := 41) hx hb dX4_readPart_108 (by decide) ?_
          obtain ⟨b110, hb110, h⟩ := g_bnd h
          obtain ⟨hr110, hk110⟩ := g_chk hb110
          obtain ⟨z110, h110, h⟩ := g_bnd h
          refine g_callV (n := 1) (b := b110) (av := [.inl 41]) (rs := []) hx hb hml hown hts hKn hRc hRs hS hl (sX4_need l E D h110) (lw_V q2164 q2166 qs64 q135 q2167) ⟨rfl, by decide, by decide, by decide +kernel⟩ ⟨by rw [hRf]; omega, by rw [hRl]; omega⟩ (g_recv hKn hS hk110 (by decide) (by decide)) rfl (by rw [hr110]; rfl) (Nat.le_of_ble_eq_true rfl) dX4_readPart_110 (fun H locs cells slots hS => ?_)
          refine lv_goto (tgt := 121) hx hb dX4_readPart_113 (by decide) ?_
          exact g_vretG hx hb hr hlk hKn hRc hRs hS h dX4_readPart_121
      · have h := g_iff (fun z => z c_43) h
        refine g_aload_n hx hb hl 0 rfl dX4_readPart_46 ?_
        refine g_aload_n hx hb hl 0 rfl dX4_readPart_47 ?_
        refine g_rdR hx hb hown hts hKn hS h fd_4_4_1 rfl (Or.inl (hts _ q1866)) (fun _ z => z) dX4_readPart_48 (fun x48 h => ?_)
        obtain ⟨b51, hb51, h⟩ := g_bnd h
        obtain ⟨hr51, hk51⟩ := g_chk hb51
        obtain ⟨z51, h51, h⟩ := g_bnd h
        refine g_callV (n := 1) (b := b51) (av := [.inr (.inr x48)]) (rs := []) hx hb hml hown hts hKn hRc hRs hS hl (sX4_which l E D h51) (lw_V q2124 q2126 qs54 q135 q2127) ⟨rfl, by decide, by decide, by decide +kernel⟩ ⟨by rw [hRf]; omega, by rw [hRl]; omega⟩ (g_recv hKn hS hk51 (by decide) (by decide)) rfl (by rw [hr51]; rfl) (Nat.le_of_ble_eq_true rfl) dX4_readPart_51 (fun H locs cells slots hS => ?_)
        refine g_istore_n (l1 := [(2, .inl z51.1), (0, .inr (.inr (some t))), (1, .inl v1)]) hx hb hl (by decide) rfl dX4_readPart_54 (fun ls hl => ?_)
        refine g_iload_n hx hb hl 0 rfl dX4_readPart_55 ?_
        refine lv_iconst (v := (-1)) hx hb dX4_readPart_56 (by decide) ?_
        refine lv_icmp_ne (tgt := 65) hx hb dX4_readPart_57 (by decide) (fun c_57 => ?_) (fun c_57 => ?_)
        · have h := g_ift c_57 h
          exact sX4_readPart_b65 C hfM hF hL _ _ _ _ h _ _ _ _ _ hS (gls_sub hl [1, 0] rfl)
        · have h := g_iff (fun z => z c_57) h
          refine g_aload_n hx hb hl 1 rfl dX4_readPart_60 ?_
          refine lv_iconst (v := 3) hx hb dX4_readPart_61 (by decide) ?_
          obtain ⟨b62, hb62, h⟩ := g_bnd h
          obtain ⟨hr62, hk62⟩ := g_chk hb62
          obtain ⟨z62, h62, h⟩ := g_bnd h
          refine g_callV (n := 1) (b := b62) (av := [.inl 3]) (rs := []) hx hb hml hown hts hKn hRc hRs hS hl (sX4_wrong l E D h62) (lw_V q2128 q2130 qs55 q135 q2131) ⟨rfl, by decide, by decide, by decide +kernel⟩ ⟨by rw [hRf]; omega, by rw [hRl]; omega⟩ (g_recv hKn hS hk62 (by decide) (by decide)) rfl (by rw [hr62]; rfl) (Nat.le_of_ble_eq_true rfl) dX4_readPart_62 (fun H locs cells slots hS => ?_)
          exact sX4_readPart_b65 C hfM hF hL _ _ _ _ h _ _ _ _ _ hS (gls_sub hl [1, 0] rfl)
    · have h := g_iff (fun z => z c_13) h
      refine g_aload_n hx hb hl 0 rfl dX4_readPart_16 ?_
      refine lv_iconst (v := 0) hx hb dX4_readPart_17 (by decide) ?_
      refine lv_sipush (v := 9999) hx hb dX4_readPart_18 (by decide) ?_
      obtain ⟨b21, hb21, h⟩ := g_bnd h
      obtain ⟨hr21, hk21⟩ := g_chk hb21
      obtain ⟨z21, h21, h⟩ := g_bnd h
      refine g_callV (n := 2) (b := b21) (av := [.inl 0, .inl 9999]) (rs := []) hx hb hml hown hts hKn hRc hRs hS hl (sX4_readNumber l E D h21) (lw_V q2156 q2158 qs62 q135 q2159) ⟨rfl, by decide, by decide, by decide +kernel⟩ ⟨by rw [hRf]; omega, by rw [hRl]; omega⟩ (g_recv hKn hS hk21 (by decide) (by decide)) rfl (by rw [hr21]; rfl) (Nat.le_of_ble_eq_true rfl) dX4_readPart_21 (fun H locs cells slots hS => ?_)
      refine g_istore_n (l1 := [(2, .inl z21.1), (0, .inr (.inr (some t))), (1, .inl v1)]) hx hb hl (by decide) rfl dX4_readPart_24 (fun ls hl => ?_)
      refine g_aload_n hx hb hl 1 rfl dX4_readPart_25 ?_
      refine lv_iconst (v := 0) hx hb dX4_readPart_26 (by decide) ?_
      obtain ⟨b27, hb27, h⟩ := g_bnd h
      obtain ⟨hr27, hk27⟩ := g_chk hb27
      obtain ⟨z27, h27, h⟩ := g_bnd h
      refine g_callV (n := 1) (b := b27) (av := [.inl 0]) (rs := []) hx hb hml hown hts hKn hRc hRs hS hl (sX4_emit l E D h27) (lw_V q2160 q2162 qs63 q135 q2163) ⟨rfl, by decide, by decide, by decide +kernel⟩ ⟨by rw [hRf]; omega, by rw [hRl]; omega⟩ (g_recv hKn hS hk27 (by decide) (by decide)) rfl (by rw [hr27]; rfl) (Nat.le_of_ble_eq_true rfl) dX4_readPart_27 (fun H locs cells slots hS => ?_)
      refine g_aload_n hx hb hl 1 rfl dX4_readPart_30 ?_
      refine g_iload_n hx hb hl 0 rfl dX4_readPart_31 ?_
      obtain ⟨b32, hb32, h⟩ := g_bnd h
      obtain ⟨hr32, hk32⟩ := g_chk hb32
      obtain ⟨z32, h32, h⟩ := g_bnd h
      refine g_callV (n := 1) (b := b32) (av := [.inl z21.1]) (rs := []) hx hb hml hown hts hKn hRc hRs hS hl (sX4_emit l E D h32) (lw_V q2160 q2162 qs63 q135 q2163) ⟨rfl, by decide, by decide, by decide +kernel⟩ ⟨by rw [hRf]; omega, by rw [hRl]; omega⟩ (g_recv hKn hS hk32 (by decide) (by decide)) rfl (by rw [hr32]; rfl) (Nat.le_of_ble_eq_true rfl) dX4_readPart_32 (fun H locs cells slots hS => ?_)
      refine lv_goto (tgt := 121) hx hb dX4_readPart_35 (by decide) ?_
      exact g_vretG hx hb hr hlk hKn hRc hRs hS h dX4_readPart_121
  · have h := g_iff c_4 h
    exact g_vretG hx hb hr hlk hKn hRc hRs hS h dX4_readPart_7
/-- SendHallModel.readProduct(I)V -/
def fX4_readProduct_b37 (E : g_E) (fM : g_E → Nat → Int32 → g_G → Option (g_G)) (k5 : Nat → Int32 → g_G → Option (g_G)) (t : Nat) (v1 : Int32) (s0 : Int32) (G : g_G) : Option (g_G) :=
  (gchk G 4 (some t)).bind fun b39 =>
  (fX4_stepOn E b39 G).bind fun z39 =>
  (gchk z39 4 (some t)).bind fun b44 =>
  (fX4_readPart E fM b44 v1 z39).bind fun z44 =>
  (gchk z44 4 (some t)).bind fun b49 =>
  (fX4_emit E b49 s0 z44).bind fun z49 =>
  k5 t v1 z49
def fX4_readProduct_b23 (E : g_E) (fM : g_E → Nat → Int32 → g_G → Option (g_G)) (k5 : Nat → Int32 → g_G → Option (g_G)) (t : Nat) (v1 : Int32) (G : g_G) : Option (g_G) :=
  (gchk G 4 (some t)).bind fun b26 =>
  (fX4_isSign E b26 42 G).bind fun z26 =>
  if z26.1 = 0 then (
    fX4_readProduct_b37 E fM k5 t v1 4 z26.2)
  else (
    fX4_readProduct_b37 E fM k5 t v1 3 z26.2)
def fX4_readProduct_b5 (E : g_E) (fM : g_E → Nat → Int32 → g_G → Option (g_G)) : Nat → Nat → Int32 → g_G → Option (g_G)
  | 0, _, _, _ => none
  | n + 1, t, v1, G =>
    (gchk G 4 (some t)).bind fun b8 =>
    (fX4_isSign E b8 42 G).bind fun z8 =>
    if ¬ z8.1 = 0 then (
      fX4_readProduct_b23 E fM (fX4_readProduct_b5 E fM n) t v1 z8.2)
    else (
      (gchk z8.2 4 (some t)).bind fun b17 =>
      (fX4_isSign E b17 47 z8.2).bind fun z17 =>
      if z17.1 = 0 then (
        some z17.2)
      else (
        fX4_readProduct_b23 E fM (fX4_readProduct_b5 E fM n) t v1 z17.2))
def fX4_readProduct (E : g_E) (fM : g_E → Nat → Int32 → g_G → Option (g_G)) (t : Nat) (v1 : Int32) (G : g_G) : Option (g_G) :=
  (gchk G 4 (some t)).bind fun b2 =>
  (fX4_readPart E fM b2 v1 G).bind fun z2 =>
  fX4_readProduct_b5 E fM gFU t v1 z2
theorem sX4_readProduct_b37 {p : Program} {l : Launch} {e : Env} {R : Room} {s : State} {m : MethodId} {args : Array Value} {below : List Frame} {meth : Method} {c : Code} {E : g_E} {D : g_D} {fM : g_E → Nat → Int32 → g_G → Option (g_G)} {fF : Nat} {fL : Nat} (C : gC p R s m args meth c cX4_readProduct 3 RX4 "readProduct" (none) (fF + 4) (fL + 200) E D) (hfM : ∀ (l : Launch) (E : g_E) (D : g_D), ∀ {t : Nat} {v1 : Int32} {G : g_G} {q : g_G}, fM E t v1 G = some q → gMet l E D yX4_readExpression (ws_ yX4_readExpression cX4_readExpression 4 (none)) fF fL [.inr (.inr (some t)), .inl v1] G none q) (hF : 60 ≤ fF) (hL : 3000 ≤ fL) {k5 : Nat → Int32 → g_G → Option (g_G)} (hk5 : ∀ (t : Nat) (v1 : Int32) (G : g_G) (q : g_G), k5 t v1 G = some q → ∀ (H : Heap) (locs : List Loc) (cells slots : Nat) (ls : Array Slot), gSt E D G H locs → gls ls 3 [(0, .inr (.inr (some t))), (1, .inl v1)] → gT p l e R s m args below meth c E D H locs cells slots none q (F0 m 5 ls [])) : ∀ (t : Nat) (v1 : Int32) (s0 : Int32) (G : g_G) (q : g_G), fX4_readProduct_b37 E fM k5 t v1 s0 G = some q → ∀ (H : Heap) (locs : List Loc) (cells slots : Nat) (ls : Array Slot), gSt E D G H locs → gls ls 3 [(0, .inr (.inr (some t))), (1, .inl v1)] → gT p l e R s m args below meth c E D H locs cells slots none q (F0 m 37 ls [.int s0]) := by
  obtain ⟨hx, hb, hml, hown, hts, hKn, hRc, hRs, hc1, hc2, hRf, hRl, hr, hlk, hnm⟩ := id C
  intro t v1 s0 G q h H locs cells slots ls hS hl
  unfold fX4_readProduct_b37 at h
  refine g_istore_n (l1 := [(2, .inl s0), (0, .inr (.inr (some t))), (1, .inl v1)]) hx hb hl (by decide) rfl dX4_readProduct_37 (fun ls hl => ?_)
  refine g_aload_n hx hb hl 1 rfl dX4_readProduct_38 ?_
  obtain ⟨b39, hb39, h⟩ := g_bnd h
  obtain ⟨hr39, hk39⟩ := g_chk hb39
  obtain ⟨z39, h39, h⟩ := g_bnd h
  refine g_callV (n := 0) (b := b39) (av := []) (rs := []) hx hb hml hown hts hKn hRc hRs hS hl (sX4_stepOn l E D h39) (lw_V q2092 q2094 qs49 q135 q2095) ⟨rfl, by decide, by decide, by decide +kernel⟩ ⟨by rw [hRf]; omega, by rw [hRl]; omega⟩ (g_recv hKn hS hk39 (by decide) (by decide)) rfl (by rw [hr39]; rfl) (Nat.le_of_ble_eq_true rfl) dX4_readProduct_39 (fun H locs cells slots hS => ?_)
  refine g_aload_n hx hb hl 1 rfl dX4_readProduct_42 ?_
  refine g_iload_n hx hb hl 2 rfl dX4_readProduct_43 ?_
  obtain ⟨b44, hb44, h⟩ := g_bnd h
  obtain ⟨hr44, hk44⟩ := g_chk hb44
  obtain ⟨z44, h44, h⟩ := g_bnd h
  refine g_callV (n := 1) (b := b44) (av := [.inl v1]) (rs := []) hx hb hml hown hts hKn hRc hRs hS hl (sX4_readPart l E D hfM hF hL h44) (lw_V q2152 q2154 qs61 q135 q2155) ⟨rfl, by decide, by decide, by decide +kernel⟩ ⟨by rw [hRf]; omega, by rw [hRl]; omega⟩ (g_recv hKn hS hk44 (by decide) (by decide)) rfl (by rw [hr44]; rfl) (Nat.le_of_ble_eq_true rfl) dX4_readProduct_44 (fun H locs cells slots hS => ?_)
  refine g_aload_n hx hb hl 1 rfl dX4_readProduct_47 ?_
  refine g_iload_n hx hb hl 0 rfl dX4_readProduct_48 ?_
  obtain ⟨b49, hb49, h⟩ := g_bnd h
  obtain ⟨hr49, hk49⟩ := g_chk hb49
  obtain ⟨z49, h49, h⟩ := g_bnd h
  refine g_callV (n := 1) (b := b49) (av := [.inl s0]) (rs := []) hx hb hml hown hts hKn hRc hRs hS hl (sX4_emit l E D h49) (lw_V q2160 q2162 qs63 q135 q2163) ⟨rfl, by decide, by decide, by decide +kernel⟩ ⟨by rw [hRf]; omega, by rw [hRl]; omega⟩ (g_recv hKn hS hk49 (by decide) (by decide)) rfl (by rw [hr49]; rfl) (Nat.le_of_ble_eq_true rfl) dX4_readProduct_49 (fun H locs cells slots hS => ?_)
  refine lv_goto (tgt := 5) hx hb dX4_readProduct_52 (by decide) ?_
  exact hk5 _ _ _ _ h _ _ _ _ _ hS (gls_sub hl [1, 2] rfl)
theorem sX4_readProduct_b23 {p : Program} {l : Launch} {e : Env} {R : Room} {s : State} {m : MethodId} {args : Array Value} {below : List Frame} {meth : Method} {c : Code} {E : g_E} {D : g_D} {fM : g_E → Nat → Int32 → g_G → Option (g_G)} {fF : Nat} {fL : Nat} (C : gC p R s m args meth c cX4_readProduct 3 RX4 "readProduct" (none) (fF + 4) (fL + 200) E D) (hfM : ∀ (l : Launch) (E : g_E) (D : g_D), ∀ {t : Nat} {v1 : Int32} {G : g_G} {q : g_G}, fM E t v1 G = some q → gMet l E D yX4_readExpression (ws_ yX4_readExpression cX4_readExpression 4 (none)) fF fL [.inr (.inr (some t)), .inl v1] G none q) (hF : 60 ≤ fF) (hL : 3000 ≤ fL) {k5 : Nat → Int32 → g_G → Option (g_G)} (hk5 : ∀ (t : Nat) (v1 : Int32) (G : g_G) (q : g_G), k5 t v1 G = some q → ∀ (H : Heap) (locs : List Loc) (cells slots : Nat) (ls : Array Slot), gSt E D G H locs → gls ls 3 [(0, .inr (.inr (some t))), (1, .inl v1)] → gT p l e R s m args below meth c E D H locs cells slots none q (F0 m 5 ls [])) : ∀ (t : Nat) (v1 : Int32) (G : g_G) (q : g_G), fX4_readProduct_b23 E fM k5 t v1 G = some q → ∀ (H : Heap) (locs : List Loc) (cells slots : Nat) (ls : Array Slot), gSt E D G H locs → gls ls 3 [(0, .inr (.inr (some t))), (1, .inl v1)] → gT p l e R s m args below meth c E D H locs cells slots none q (F0 m 23 ls []) := by
  obtain ⟨hx, hb, hml, hown, hts, hKn, hRc, hRs, hc1, hc2, hRf, hRl, hr, hlk, hnm⟩ := id C
  intro t v1 G q h H locs cells slots ls hS hl
  unfold fX4_readProduct_b23 at h
  refine g_aload_n hx hb hl 0 rfl dX4_readProduct_23 ?_
  refine lv_bipush (v := 42) hx hb dX4_readProduct_24 (by decide) ?_
  obtain ⟨b26, hb26, h⟩ := g_bnd h
  obtain ⟨hr26, hk26⟩ := g_chk hb26
  obtain ⟨z26, h26, h⟩ := g_bnd h
  refine g_callV (n := 1) (b := b26) (av := [.inl 42]) (rs := []) hx hb hml hown hts hKn hRc hRs hS hl (sX4_isSign l E D h26) (lw_V q2140 q2142 qs58 q135 q2143) ⟨rfl, by decide, by decide, by decide +kernel⟩ ⟨by rw [hRf]; omega, by rw [hRl]; omega⟩ (g_recv hKn hS hk26 (by decide) (by decide)) rfl (by rw [hr26]; rfl) (Nat.le_of_ble_eq_true rfl) dX4_readProduct_26 (fun H locs cells slots hS => ?_)
  refine lv_if_eq (tgt := 36) hx hb dX4_readProduct_29 (by decide) (fun c_29 => ?_) (fun c_29 => ?_)
  · have h := g_ift c_29 h
    refine lv_iconst (v := 4) hx hb dX4_readProduct_36 (by decide) ?_
    exact sX4_readProduct_b37 C hfM hF hL hk5 _ _ _ _ _ h _ _ _ _ _ hS (gls_sub hl [0, 1] rfl)
  · have h := g_iff c_29 h
    refine lv_iconst (v := 3) hx hb dX4_readProduct_32 (by decide) ?_
    refine lv_goto (tgt := 37) hx hb dX4_readProduct_33 (by decide) ?_
    exact sX4_readProduct_b37 C hfM hF hL hk5 _ _ _ _ _ h _ _ _ _ _ hS (gls_sub hl [0, 1] rfl)
theorem sX4_readProduct_b5 {p : Program} {l : Launch} {e : Env} {R : Room} {s : State} {m : MethodId} {args : Array Value} {below : List Frame} {meth : Method} {c : Code} {E : g_E} {D : g_D} {fM : g_E → Nat → Int32 → g_G → Option (g_G)} {fF : Nat} {fL : Nat} (C : gC p R s m args meth c cX4_readProduct 3 RX4 "readProduct" (none) (fF + 4) (fL + 200) E D) (hfM : ∀ (l : Launch) (E : g_E) (D : g_D), ∀ {t : Nat} {v1 : Int32} {G : g_G} {q : g_G}, fM E t v1 G = some q → gMet l E D yX4_readExpression (ws_ yX4_readExpression cX4_readExpression 4 (none)) fF fL [.inr (.inr (some t)), .inl v1] G none q) (hF : 60 ≤ fF) (hL : 3000 ≤ fL) : ∀ (n : Nat) (t : Nat) (v1 : Int32) (G : g_G) (q : g_G), fX4_readProduct_b5 E fM n t v1 G = some q → ∀ (H : Heap) (locs : List Loc) (cells slots : Nat) (ls : Array Slot), gSt E D G H locs → gls ls 3 [(0, .inr (.inr (some t))), (1, .inl v1)] → gT p l e R s m args below meth c E D H locs cells slots none q (F0 m 5 ls []) := by
  obtain ⟨hx, hb, hml, hown, hts, hKn, hRc, hRs, hc1, hc2, hRf, hRl, hr, hlk, hnm⟩ := id C
  intro n
  induction n with
  | zero =>
    intro t v1 G q h
    exact g_no h
  | succ n ih =>
    intro t v1 G q h H locs cells slots ls hS hl
    rw [fX4_readProduct_b5] at h
    refine g_aload_n hx hb hl 0 rfl dX4_readProduct_5 ?_
    refine lv_bipush (v := 42) hx hb dX4_readProduct_6 (by decide) ?_
    obtain ⟨b8, hb8, h⟩ := g_bnd h
    obtain ⟨hr8, hk8⟩ := g_chk hb8
    obtain ⟨z8, h8, h⟩ := g_bnd h
    refine g_callV (n := 1) (b := b8) (av := [.inl 42]) (rs := []) hx hb hml hown hts hKn hRc hRs hS hl (sX4_isSign l E D h8) (lw_V q2140 q2142 qs58 q135 q2143) ⟨rfl, by decide, by decide, by decide +kernel⟩ ⟨by rw [hRf]; omega, by rw [hRl]; omega⟩ (g_recv hKn hS hk8 (by decide) (by decide)) rfl (by rw [hr8]; rfl) (Nat.le_of_ble_eq_true rfl) dX4_readProduct_8 (fun H locs cells slots hS => ?_)
    refine lv_if_ne (tgt := 23) hx hb dX4_readProduct_11 (by decide) (fun c_11 => ?_) (fun c_11 => ?_)
    · have h := g_ift c_11 h
      exact sX4_readProduct_b23 C hfM hF hL ih _ _ _ _ h _ _ _ _ _ hS (gls_sub hl [0, 1] rfl)
    · have h := g_iff (fun z => z c_11) h
      refine g_aload_n hx hb hl 0 rfl dX4_readProduct_14 ?_
      refine lv_bipush (v := 47) hx hb dX4_readProduct_15 (by decide) ?_
      obtain ⟨b17, hb17, h⟩ := g_bnd h
      obtain ⟨hr17, hk17⟩ := g_chk hb17
      obtain ⟨z17, h17, h⟩ := g_bnd h
      refine g_callV (n := 1) (b := b17) (av := [.inl 47]) (rs := []) hx hb hml hown hts hKn hRc hRs hS hl (sX4_isSign l E D h17) (lw_V q2140 q2142 qs58 q135 q2143) ⟨rfl, by decide, by decide, by decide +kernel⟩ ⟨by rw [hRf]; omega, by rw [hRl]; omega⟩ (g_recv hKn hS hk17 (by decide) (by decide)) rfl (by rw [hr17]; rfl) (Nat.le_of_ble_eq_true rfl) dX4_readProduct_17 (fun H locs cells slots hS => ?_)
      refine lv_if_eq (tgt := 55) hx hb dX4_readProduct_20 (by decide) (fun c_20 => ?_) (fun c_20 => ?_)
      · have h := g_ift c_20 h
        exact g_vretG hx hb hr hlk hKn hRc hRs hS h dX4_readProduct_55
      · have h := g_iff c_20 h
        exact sX4_readProduct_b23 C hfM hF hL ih _ _ _ _ h _ _ _ _ _ hS (gls_sub hl [0, 1] rfl)
theorem sX4_readProduct (l : Launch) (E : g_E) (D : g_D) {fM : g_E → Nat → Int32 → g_G → Option (g_G)} {fF : Nat} {fL : Nat} (hfM : ∀ (l : Launch) (E : g_E) (D : g_D), ∀ {t : Nat} {v1 : Int32} {G : g_G} {q : g_G}, fM E t v1 G = some q → gMet l E D yX4_readExpression (ws_ yX4_readExpression cX4_readExpression 4 (none)) fF fL [.inr (.inr (some t)), .inl v1] G none q) (hF : 60 ≤ fF) (hL : 3000 ≤ fL) {t : Nat} {v1 : Int32} {G : g_G} {q : g_G} (h : fX4_readProduct E fM t v1 G = some q) : gMet l E D yX4_readProduct (ws_ yX4_readProduct cX4_readProduct 3 (none)) (fF + 4) (fL + 200) [.inr (.inr (some t)), .inl v1] G none q := by
  refine gMet.of (by decide +kernel) (Nat.le_of_ble_eq_true rfl) ?_
  intro p e R s m args below meth c C hS ls hl
  have C : gC p R s m args meth c cX4_readProduct 3 RX4 "readProduct" (none) (fF + 4) (fL + 200) E D := C
  obtain ⟨hx, hb, hml, hown, hts, hKn, hRc, hRs, hc1, hc2, hRf, hRl, hr, hlk, hnm⟩ := id C
  have hl : gls ls 3 [(0, .inr (.inr (some t))), (1, .inl v1)] := hl
  generalize s.heap = H at hS ⊢
  unfold fX4_readProduct at h
  refine g_aload_n hx hb hl 0 rfl dX4_readProduct_0 ?_
  refine g_iload_n hx hb hl 1 rfl dX4_readProduct_1 ?_
  obtain ⟨b2, hb2, h⟩ := g_bnd h
  obtain ⟨hr2, hk2⟩ := g_chk hb2
  obtain ⟨z2, h2, h⟩ := g_bnd h
  refine g_callV (n := 1) (b := b2) (av := [.inl v1]) (rs := []) hx hb hml hown hts hKn hRc hRs hS hl (sX4_readPart l E D hfM hF hL h2) (lw_V q2152 q2154 qs61 q135 q2155) ⟨rfl, by decide, by decide, by decide +kernel⟩ ⟨by rw [hRf]; omega, by rw [hRl]; omega⟩ (g_recv hKn hS hk2 (by decide) (by decide)) rfl (by rw [hr2]; rfl) (Nat.le_of_ble_eq_true rfl) dX4_readProduct_2 (fun H locs cells slots hS => ?_)
  exact sX4_readProduct_b5 C hfM hF hL gFU _ _ _ _ h _ _ _ _ _ hS (gls_sub hl [0, 1] rfl)
