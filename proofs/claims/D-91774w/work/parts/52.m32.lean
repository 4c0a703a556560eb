set_option maxRecDepth 100000
/-- SendHallModel.go()Z -/
def fX4_go_b73 (E : g_E) (t : Nat) (G : g_G) : Option (Int32 × g_G) :=
  (grI G 4 4 (some t) 48).bind fun x74 =>
  if ¬ x74 = 0 then (
    if (0 : Int32) = 0 ∨ (0 : Int32) = 1 then some (0, G) else none)
  else (
    if (1 : Int32) = 0 ∨ (1 : Int32) = 1 then some (1, G) else none)
def fX4_go_b47 (E : g_E) : Nat → Nat → Int32 → g_G → Option (Int32 × g_G)
  | 0, _, _, _ => none
  | n + 1, t, v1, G =>
    (grI G 4 4 (some t) 46).bind fun x49 =>
    if x49 ≤ v1 then (
      fX4_go_b73 E t G)
    else (
      (grI G 4 4 (some t) 48).bind fun x56 =>
      if ¬ x56 = 0 then (
        fX4_go_b73 E t G)
      else (
        (gchk G 4 (some t)).bind fun b64 =>
        (fX4_from E b64 v1 G).bind fun z64 =>
        fX4_go_b47 E n t (v1 + 1) z64))
def fX4_go_b17 (E : g_E) : Nat → Nat → Int32 → g_G → Option (Int32 × g_G)
  | 0, _, _, _ => none
  | n + 1, t, v1, G =>
    if (320 : Int32) ≤ v1 then (
      (gchk G 4 (some t)).bind fun b38 =>
      (fX4_begin E b38 G).bind fun z38 =>
      (gchk z38 4 (some t)).bind fun b42 =>
      (fX4_keep E b42 z38).bind fun z42 =>
      fX4_go_b47 E gFU t 0 z42)
    else (
      (grR G 4 4 (some t) 49).bind fun x25 =>
      (gsaI E G x25 v1 0).bind fun G30 =>
      fX4_go_b17 E n t (v1 + 1) G30)
def fX4_go (E : g_E) (t : Nat) (G : g_G) : Option (Int32 × g_G) :=
  (gpI E G 4 4 (some t) 46 0).bind fun G2 =>
  (gpZ E G2 4 4 (some t) 48 0).bind fun G7 =>
  (gpI E G7 4 4 (some t) 35 (-1)).bind fun G12 =>
  fX4_go_b17 E gFU t 0 G12
theorem sX4_go_b73 {p : Program} {l : Launch} {e : Env} {R : Room} {s : State} {m : MethodId} {args : Array Value} {below : List Frame} {meth : Method} {c : Code} {E : g_E} {D : g_D} (C : gC p R s m args meth c cX4_go 2 RX4 "go" (some .boolean) 11 306 E D) : ∀ (t : Nat) (G : g_G) (q : Int32 × g_G), fX4_go_b73 E t G = some q → ∀ (H : Heap) (locs : List Loc) (cells slots : Nat) (ls : Array Slot), gSt E D G H locs → gls ls 2 [(0, .inr (.inr (some t)))] → gT p l e R s m args below meth c E D H locs cells slots (some (.int q.1)) q.2 (F0 m 73 ls []) := by
  obtain ⟨hx, hb, hml, hown, hts, hKn, hRc, hRs, hc1, hc2, hRf, hRl, hr, hlk, hnm⟩ := id C
  intro t G q h H locs cells slots ls hS hl
  unfold fX4_go_b73 at h
  refine g_aload_n hx hb hl 0 rfl dX4_go_73 ?_
  refine g_rdI hx hb hown hts hKn hS h fd_4_4_48 rfl (Or.inl (hts _ q1913)) (fun _ z => z) dX4_go_74 (fun x74 h => ?_)
  refine lv_if_ne (tgt := 84) hx hb dX4_go_77 (by decide) (fun c_77 => ?_) (fun c_77 => ?_)
  · have h := g_ift c_77 h
    refine lv_iconst (v := 0) hx hb dX4_go_84 (by decide) ?_
    exact g_zretG hx hb hr hlk hKn hRc hRs hS h dX4_go_85
  · have h := g_iff (fun z => z c_77) h
    refine lv_iconst (v := 1) hx hb dX4_go_80 (by decide) ?_
    refine lv_goto (tgt := 85) hx hb dX4_go_81 (by decide) ?_
    exact g_zretG hx hb hr hlk hKn hRc hRs hS h dX4_go_85
theorem sX4_go_b47 {p : Program} {l : Launch} {e : Env} {R : Room} {s : State} {m : MethodId} {args : Array Value} {below : List Frame} {meth : Method} {c : Code} {E : g_E} {D : g_D} (C : gC p R s m args meth c cX4_go 2 RX4 "go" (some .boolean) 11 306 E D) : ∀ (n : Nat) (t : Nat) (v1 : Int32) (G : g_G) (q : Int32 × g_G), fX4_go_b47 E n t v1 G = some q → ∀ (H : Heap) (locs : List Loc) (cells slots : Nat) (ls : Array Slot), gSt E D G H locs → gls ls 2 [(0, .inr (.inr (some t))), (1, .inl v1)] → gT p l e R s m args below meth c E D H locs cells slots (some (.int q.1)) q.2 (F0 m 47 ls []) := by
  obtain ⟨hx, hb, hml, hown, hts, hKn, hRc, hRs, hc1, hc2, hRf, hRl, hr, hlk, hnm⟩ := id C
  intro n
  induction n with
  | zero =>
    intro t v1 G q h
    exact g_no h
  | succ n ih =>
    intro t v1 G q h H locs cells slots ls hS hl
    rw [fX4_go_b47] at h
    refine g_iload_n hx hb hl 1 rfl dX4_go_47 ?_
    refine g_aload_n hx hb hl 0 rfl dX4_go_48 ?_
    refine g_rdI hx hb hown hts hKn hS h fd_4_4_46 rfl (Or.inl (hts _ q1911)) (fun _ z => z) dX4_go_49 (fun x49 h => ?_)
    refine lv_icmp_ge (tgt := 73) hx hb dX4_go_52 (by decide) (fun c_52 => ?_) (fun c_52 => ?_)
    · have h := g_ift c_52 h
      exact sX4_go_b73 C _ _ _ h _ _ _ _ _ hS (gls_sub hl [0] rfl)
    · have h := g_iff c_52 h
      refine g_aload_n hx hb hl 0 rfl dX4_go_55 ?_
      refine g_rdI hx hb hown hts hKn hS h fd_4_4_48 rfl (Or.inl (hts _ q1913)) (fun _ z => z) dX4_go_56 (fun x56 h => ?_)
      refine lv_if_ne (tgt := 73) hx hb dX4_go_59 (by decide) (fun c_59 => ?_) (fun c_59 => ?_)
      · have h := g_ift c_59 h
        exact sX4_go_b73 C _ _ _ h _ _ _ _ _ hS (gls_sub hl [0] rfl)
      · have h := g_iff (fun z => z c_59) h
        refine g_aload_n hx hb hl 0 rfl dX4_go_62 ?_
        refine g_iload_n hx hb hl 1 rfl dX4_go_63 ?_
        obtain ⟨b64, hb64, h⟩ := g_bnd h
        obtain ⟨hr64, hk64⟩ := g_chk hb64
        obtain ⟨z64, h64, h⟩ := g_bnd h
        refine g_callV (n := 1) (b := b64) (av := [.inl v1]) (rs := []) hx hb hml hown hts hKn hRc hRs hS hl (sX4_from l E D h64) (lw_V q2272 q2274 qs83 q135 q2275) ⟨rfl, by decide, by decide, by decide +kernel⟩ ⟨by rw [hRf]; exact Nat.le_of_ble_eq_true rfl, by rw [hRl]; exact Nat.le_of_ble_eq_true rfl⟩ (g_recv hKn hS hk64 (by decide) (by decide)) rfl (by rw [hr64]; rfl) (Nat.le_of_ble_eq_true rfl) dX4_go_64 (fun H locs cells slots hS => ?_)
        refine g_iinc (l1 := [(1, .inl (v1 + 1)), (0, .inr (.inr (some t)))]) (v := (v1 + 1)) hx hb hl (k := 1) rfl (by rfl) (by decide) rfl dX4_go_67 (fun ls hl => ?_)
        refine lv_goto (tgt := 47) hx hb dX4_go_70 (by decide) ?_
        exact ih _ _ _ _ h _ _ _ _ _ hS (gls_sub hl [1, 0] rfl)
theorem sX4_go_b17 {p : Program} {l : Launch} {e : Env} {R : Room} {s : State} {m : MethodId} {args : Array Value} {below : List Frame} {meth : Method} {c : Code} {E : g_E} {D : g_D} (C : gC p R s m args meth c cX4_go 2 RX4 "go" (some .boolean) 11 306 E D) : ∀ (n : Nat) (t : Nat) (v1 : Int32) (G : g_G) (q : Int32 × g_G), fX4_go_b17 E n t v1 G = some q → ∀ (H : Heap) (locs : List Loc) (cells slots : Nat) (ls : Array Slot), gSt E D G H locs → gls ls 2 [(0, .inr (.inr (some t))), (1, .inl v1)] → gT p l e R s m args below meth c E D H locs cells slots (some (.int q.1)) q.2 (F0 m 17 ls []) := by
  obtain ⟨hx, hb, hml, hown, hts, hKn, hRc, hRs, hc1, hc2, hRf, hRl, hr, hlk, hnm⟩ := id C
  intro n
  induction n with
  | zero =>
    intro t v1 G q h
    exact g_no h
  | succ n ih =>
    intro t v1 G q h H locs cells slots ls hS hl
    rw [fX4_go_b17] at h
    refine g_iload_n hx hb hl 1 rfl dX4_go_17 ?_
    refine lv_sipush (v := 320) hx hb dX4_go_18 (by decide) ?_
    refine lv_icmp_ge (tgt := 37) hx hb dX4_go_21 (by decide) (fun c_21 => ?_) (fun c_21 => ?_)
    · have h := g_ift c_21 h
      refine g_aload_n hx hb hl 0 rfl dX4_go_37 ?_
      obtain ⟨b38, hb38, h⟩ := g_bnd h
      obtain ⟨hr38, hk38⟩ := g_chk hb38
      obtain ⟨z38, h38, h⟩ := g_bnd h
      refine g_callV (n := 0) (b := b38) (av := []) (rs := []) hx hb hml hown hts hKn hRc hRs hS hl (sX4_begin l E D h38) (lw_V q2225 q2227 qs72 q135 q2228) ⟨rfl, by decide, by decide, by decide +kernel⟩ ⟨by rw [hRf]; exact Nat.le_of_ble_eq_true rfl, by rw [hRl]; exact Nat.le_of_ble_eq_true rfl⟩ (g_recv hKn hS hk38 (by decide) (by decide)) rfl (by rw [hr38]; rfl) (Nat.le_of_ble_eq_true rfl) dX4_go_38 (fun H locs cells slots hS => ?_)
      refine g_aload_n hx hb hl 0 rfl dX4_go_41 ?_
      obtain ⟨b42, hb42, h⟩ := g_bnd h
      obtain ⟨hr42, hk42⟩ := g_chk hb42
      obtain ⟨z42, h42, h⟩ := g_bnd h
      refine g_callV (n := 0) (b := b42) (av := []) (rs := []) hx hb hml hown hts hKn hRc hRs hS hl (sX4_keep l E D h42) (lw_V q2260 q2262 qs80 q135 q2263) ⟨rfl, by decide, by decide, by decide +kernel⟩ ⟨by rw [hRf]; exact Nat.le_of_ble_eq_true rfl, by rw [hRl]; exact Nat.le_of_ble_eq_true rfl⟩ (g_recv hKn hS hk42 (by decide) (by decide)) rfl (by rw [hr42]; rfl) (Nat.le_of_ble_eq_true rfl) dX4_go_42 (fun H locs cells slots hS => ?_)
      refine lv_iconst (v := 0) hx hb dX4_go_45 (by decide) ?_
      refine g_istore_n (l1 := [(1, .inl 0), (0, .inr (.inr (some t)))]) hx hb hl (by decide) rfl dX4_go_46 (fun ls hl => ?_)
      exact sX4_go_b47 C gFU _ _ _ _ h _ _ _ _ _ hS (gls_sub hl [1, 0] rfl)
    · have h := g_iff c_21 h
      refine g_aload_n hx hb hl 0 rfl dX4_go_24 ?_
      refine g_rdR hx hb hown hts hKn hS h fd_4_4_49 rfl (Or.inl (hts _ q1914)) (fun _ z => z) dX4_go_25 (fun x25 h => ?_)
      refine g_iload_n hx hb hl 1 rfl dX4_go_28 ?_
      refine lv_iconst (v := 0) hx hb dX4_go_29 (by decide) ?_
      refine g_iastoreG hx hb hKn hS h dX4_go_30 (fun G30 h H locs hS => ?_)
      refine g_iinc (l1 := [(1, .inl (v1 + 1)), (0, .inr (.inr (some t)))]) (v := (v1 + 1)) hx hb hl (k := 1) rfl (by rfl) (by decide) rfl dX4_go_31 (fun ls hl => ?_)
      refine lv_goto (tgt := 17) hx hb dX4_go_34 (by decide) ?_
      exact ih _ _ _ _ h _ _ _ _ _ hS (gls_sub hl [1, 0] rfl)
theorem sX4_go (l : Launch) (E : g_E) (D : g_D) {t : Nat} {G : g_G} {q : Int32 × g_G} (h : fX4_go E t G = some q) : gMet l E D yX4_go (ws_ yX4_go cX4_go 2 (some .boolean)) 11 306 [.inr (.inr (some t))] G (some (.int q.1)) q.2 := by
  refine gMet.of (by decide +kernel) (Nat.le_of_ble_eq_true rfl) ?_
  intro p e R s m args below meth c C hS ls hl
  have C : gC p R s m args meth c cX4_go 2 RX4 "go" (some .boolean) 11 306 E D := C
  obtain ⟨hx, hb, hml, hown, hts, hKn, hRc, hRs, hc1, hc2, hRf, hRl, hr, hlk, hnm⟩ := id C
  have hl : gls ls 2 [(0, .inr (.inr (some t)))] := hl
  generalize s.heap = H at hS ⊢
  unfold fX4_go at h
  refine g_aload_n hx hb hl 0 rfl dX4_go_0 ?_
  refine lv_iconst (v := 0) hx hb dX4_go_1 (by decide) ?_
  refine g_ptI hx hb hown hts hKn hS h fd_4_4_46 (Or.inl (hts _ q1911)) (fun _ z => z) (fun z => nomatch z) dX4_go_2 (fun G2 h H locs hS => ?_)
  refine g_aload_n hx hb hl 0 rfl dX4_go_5 ?_
  refine lv_iconst (v := 0) hx hb dX4_go_6 (by decide) ?_
  refine g_ptZ hx hb hown hts hKn hS h fd_4_4_48 (Or.inl (hts _ q1913)) (fun _ z => z) (fun z => nomatch z) dX4_go_7 (fun G7 h H locs hS => ?_)
  refine g_aload_n hx hb hl 0 rfl dX4_go_10 ?_
  refine lv_iconst (v := (-1)) hx hb dX4_go_11 (by decide) ?_
  refine g_ptI hx hb hown hts hKn hS h fd_4_4_35 (Or.inl (hts _ q1900)) (fun _ z => z) (fun z => nomatch z) dX4_go_12 (fun G12 h H locs hS => ?_)
  refine lv_iconst (v := 0) hx hb dX4_go_15 (by decide) ?_
  refine g_istore_n (l1 := [(1, .inl 0), (0, .inr (.inr (some t)))]) hx hb hl (by decide) rfl dX4_go_16 (fun ls hl => ?_)
  exact sX4_go_b17 C gFU _ _ _ _ h _ _ _ _ _ hS (gls_sub hl [1, 0] rfl)
/-- SendHallModel.least(I)I -/
def fX4_least_b90 (E : g_E) (t : Nat) (v2 : Int32) (v3 : Int32) (v4 : Int32) (G : g_G) : Option (Int32 × g_G) :=
  (gpI E G 4 4 (some t) 4 v2).bind fun G92 =>
  (gpI E G92 4 4 (some t) 3 v3).bind fun G97 =>
  some (v4, G97)
def fX4_least_b84 (E : g_E) (k51 : Nat → Int32 → Int32 → Int32 → Int32 → g_G → Option (Int32 × g_G)) (t : Nat) (v2 : Int32) (v3 : Int32) (v4 : Int32) (v5 : Int32) (G : g_G) : Option (Int32 × g_G) :=
  k51 t v2 v3 v4 (v5 + 1) G
def fX4_least_b51 (E : g_E) : Nat → Nat → Int32 → Int32 → Int32 → Int32 → g_G → Option (Int32 × g_G)
  | 0, _, _, _, _, _, _ => none
  | n + 1, t, v2, v3, v4, v5, G =>
    if (8 : Int32) < v5 then (
      fX4_least_b90 E t v2 v3 v4 G)
    else (
      if ¬ v4 = (-1 : Int32) then (
        fX4_least_b90 E t v2 v3 v4 G)
      else (
        (gpI E G 4 4 (some t) 3 v5).bind fun G67 =>
        (gchk G67 4 (some t)).bind fun b73 =>
        (fX4_run E b73 0 0 G67).bind fun z73 =>
        if ¬ z73.1 = (2 : Int32) then (
          fX4_least_b84 E (fX4_least_b51 E n) t v2 v3 v4 v5 z73.2)
        else (
          fX4_least_b84 E (fX4_least_b51 E n) t v2 v3 v5 v5 z73.2)))
def fX4_least (E : g_E) (t : Nat) (v1 : Int32) (G : g_G) : Option (Int32 × g_G) :=
  (gpI E G 4 4 (some t) 2 0).bind fun G2 =>
  (fX4_isIn E v1 0 3 G2).bind fun z8 =>
  if ¬ z8.1 = 0 then (
    (gchk z8.2 4 (some t)).bind fun b21 =>
    (fX4_anySteps E b21 z8.2).bind fun z21 =>
    if z21.1 ≤ 0 then (
      (grI z21.2 4 4 (some t) 4).bind fun x31 =>
      (grI z21.2 4 4 (some t) 3).bind fun x36 =>
      (gpI E z21.2 4 4 (some t) 4 v1).bind fun G42 =>
      fX4_least_b51 E gFU t x31 x36 (-1) 2 G42)
    else (
      some ((-2), z21.2)))
  else (
    (gchk z8.2 4 (some t)).bind fun b16 =>
    (fX4_fail E b16 1 z8.2).bind fun z16 =>
    some (z16.1, z16.2))
theorem sX4_least_b90 {p : Program} {l : Launch} {e : Env} {R : Room} {s : State} {m : MethodId} {args : Array Value} {below : List Frame} {meth : Method} {c : Code} {E : g_E} {D : g_D} (C : gC p R s m args meth c cX4_least 6 RX4 "least" (some .int) 11 310 E D) : ∀ (t : Nat) (v2 : Int32) (v3 : Int32) (v4 : Int32) (G : g_G) (q : Int32 × g_G), fX4_least_b90 E t v2 v3 v4 G = some q → ∀ (H : Heap) (locs : List Loc) (cells slots : Nat) (ls : Array Slot), gSt E D G H locs → gls ls 6 [(0, .inr (.inr (some t))), (2, .inl v2), (3, .inl v3), (4, .inl v4)] → gT p l e R s m args below meth c E D H locs cells slots (some (.int q.1)) q.2 (F0 m 90 ls []) := by
  obtain ⟨hx, hb, hml, hown, hts, hKn, hRc, hRs, hc1, hc2, hRf, hRl, hr, hlk, hnm⟩ := id C
  intro t v2 v3 v4 G q h H locs cells slots ls hS hl
  unfold fX4_least_b90 at h
  refine g_aload_n hx hb hl 0 rfl dX4_least_90 ?_
  refine g_iload_n hx hb hl 1 rfl dX4_least_91 ?_
  refine g_ptI hx hb hown hts hKn hS h fd_4_4_4 (Or.inl (hts _ q1869)) (fun _ z => z) (fun z => nomatch z) dX4_least_92 (fun G92 h H locs hS => ?_)
  refine g_aload_n hx hb hl 0 rfl dX4_least_95 ?_
  refine g_iload_n hx hb hl 2 rfl dX4_least_96 ?_
  refine g_ptI hx hb hown hts hKn hS h fd_4_4_3 (Or.inl (hts _ q1868)) (fun _ z => z) (fun z => nomatch z) dX4_least_97 (fun G97 h H locs hS => ?_)
  refine g_iload hx hb hl 3 rfl dX4_least_100 ?_
  exact g_iretG hx hb hr hlk hKn hRc hRs hS h dX4_least_102
theorem sX4_least_b84 {p : Program} {l : Launch} {e : Env} {R : Room} {s : State} {m : MethodId} {args : Array Value} {below : List Frame} {meth : Method} {c : Code} {E : g_E} {D : g_D} (C : gC p R s m args meth c cX4_least 6 RX4 "least" (some .int) 11 310 E D) {k51 : Nat → Int32 → Int32 → Int32 → Int32 → g_G → Option (Int32 × g_G)} (hk51 : ∀ (t : Nat) (v2 : Int32) (v3 : Int32) (v4 : Int32) (v5 : Int32) (G : g_G) (q : Int32 × g_G), k51 t v2 v3 v4 v5 G = some q → ∀ (H : Heap) (locs : List Loc) (cells slots : Nat) (ls : Array Slot), gSt E D G H locs → gls ls 6 [(0, .inr (.inr (some t))), (2, .inl v2), (3, .inl v3), (4, .inl v4), (5, .inl v5)] → gT p l e R s m args below meth c E D H locs cells slots (some (.int q.1)) q.2 (F0 m 51 ls [])) : ∀ (t : Nat) (v2 : Int32) (v3 : Int32) (v4 : Int32) (v5 : Int32) (G : g_G) (q : Int32 × g_G), fX4_least_b84 E k51 t v2 v3 v4 v5 G = some q → ∀ (H : Heap) (locs : List Loc) (cells slots : Nat) (ls : Array Slot), gSt E D G H locs → gls ls 6 [(0, .inr (.inr (some t))), (2, .inl v2), (3, .inl v3), (4, .inl v4), (5, .inl v5)] → gT p l e R s m args below meth c E D H locs cells slots (some (.int q.1)) q.2 (F0 m 84 ls []) := by
  obtain ⟨hx, hb, hml, hown, hts, hKn, hRc, hRs, hc1, hc2, hRf, hRl, hr, hlk, hnm⟩ := id C
  intro t v2 v3 v4 v5 G q h H locs cells slots ls hS hl
  unfold fX4_least_b84 at h
  refine g_iinc (l1 := [(5, .inl (v5 + 1)), (0, .inr (.inr (some t))), (2, .inl v2), (3, .inl v3), (4, .inl v4)]) (v := (v5 + 1)) hx hb hl (k := 4) rfl (by rfl) (by decide) rfl dX4_least_84 (fun ls hl => ?_)
  refine lv_goto (tgt := 51) hx hb dX4_least_87 (by decide) ?_
  exact hk51 _ _ _ _ _ _ _ h _ _ _ _ _ hS (gls_sub hl [1, 2, 3, 4, 0] rfl)
theorem sX4_least_b51 {p : Program} {l : Launch} {e : Env} {R : Room} {s : State} {m : MethodId} {args : Array Value} {below : List Frame} {meth : Method} {c : Code} {E : g_E} {D : g_D} (C : gC p R s m args meth c cX4_least 6 RX4 "least" (some .int) 11 310 E D) : ∀ (n : Nat) (t : Nat) (v2 : Int32) (v3 : Int32) (v4 : Int32) (v5 : Int32) (G : g_G) (q : Int32 × g_G), fX4_least_b51 E n t v2 v3 v4 v5 G = some q → ∀ (H : Heap) (locs : List Loc) (cells slots : Nat) (ls : Array Slot), gSt E D G H locs → gls ls 6 [(0, .inr (.inr (some t))), (2, .inl v2), (3, .inl v3), (4, .inl v4), (5, .inl v5)] → gT p l e R s m args below meth c E D H locs cells slots (some (.int q.1)) q.2 (F0 m 51 ls []) := by
  obtain ⟨hx, hb, hml, hown, hts, hKn, hRc, hRs, hc1, hc2, hRf, hRl, hr, hlk, hnm⟩ := id C
  intro n
  induction n with
  | zero =>
    intro t v2 v3 v4 v5 G q h
    exact g_no h
  | succ n ih =>
    intro t v2 v3 v4 v5 G q h H locs cells slots ls hS hl
    rw [fX4_least_b51] at h
    refine g_iload hx hb hl 4 rfl dX4_least_51 ?_
    refine lv_bipush (v := 8) hx hb dX4_least_53 (by decide) ?_
    refine lv_icmp_gt (tgt := 90) hx hb dX4_least_55 (by decide) (fun c_55 => ?_) (fun c_55 => ?_)
    · have h := g_ift c_55 h
      exact sX4_least_b90 C _ _ _ _ _ _ h _ _ _ _ _ hS (gls_sub hl [0, 1, 2, 3] rfl)
    · have h := g_iff c_55 h
      refine g_iload hx hb hl 3 rfl dX4_least_58 ?_
      refine lv_iconst (v := (-1)) hx hb dX4_least_60 (by decide) ?_
      refine lv_icmp_ne (tgt := 90) hx hb dX4_least_61 (by decide) (fun c_61 => ?_) (fun c_61 => ?_)
      · have h := g_ift c_61 h
        exact sX4_least_b90 C _ _ _ _ _ _ h _ _ _ _ _ hS (gls_sub hl [0, 1, 2, 3] rfl)
      · have h := g_iff (fun z => z c_61) h
        refine g_aload_n hx hb hl 0 rfl dX4_least_64 ?_
        refine g_iload hx hb hl 4 rfl dX4_least_65 ?_
        refine g_ptI hx hb hown hts hKn hS h fd_4_4_3 (Or.inl (hts _ q1868)) (fun _ z => z) (fun z => nomatch z) dX4_least_67 (fun G67 h H locs hS => ?_)
        refine g_aload_n hx hb hl 0 rfl dX4_least_70 ?_
        refine lv_iconst (v := 0) hx hb dX4_least_71 (by decide) ?_
        refine lv_lconst (v := 0) hx hb dX4_least_72 (by decide) ?_
        obtain ⟨b73, hb73, h⟩ := g_bnd h
        obtain ⟨hr73, hk73⟩ := g_chk hb73
        obtain ⟨z73, h73, h⟩ := g_bnd h
        refine g_callV (n := 2) (b := b73) (av := [.inl 0, .inr (.inl 0)]) (rs := []) hx hb hml hown hts hKn hRc hRs hS hl (sX4_run l E D h73) (lw_V q2412 q2414 qs108 q135 q2415) ⟨rfl, by decide, by decide, by decide +kernel⟩ ⟨by rw [hRf]; exact Nat.le_of_ble_eq_true rfl, by rw [hRl]; exact Nat.le_of_ble_eq_true rfl⟩ (g_recv hKn hS hk73 (by decide) (by decide)) rfl (by rw [hr73]; rfl) (Nat.le_of_ble_eq_true rfl) dX4_least_73 (fun H locs cells slots hS => ?_)
        refine lv_iconst (v := 2) hx hb dX4_least_76 (by decide) ?_
        refine lv_icmp_ne (tgt := 84) hx hb dX4_least_77 (by decide) (fun c_77 => ?_) (fun c_77 => ?_)
        · have h := g_ift c_77 h
          exact sX4_least_b84 C ih _ _ _ _ _ _ _ h _ _ _ _ _ hS (gls_sub hl [0, 1, 2, 3, 4] rfl)
        · have h := g_iff (fun z => z c_77) h
          refine g_iload hx hb hl 4 rfl dX4_least_80 ?_
          refine g_istore (l1 := [(4, .inl v5), (0, .inr (.inr (some t))), (2, .inl v2), (3, .inl v3), (5, .inl v5)]) hx hb hl (by decide) rfl dX4_least_82 (fun ls hl => ?_)
          exact sX4_least_b84 C ih _ _ _ _ _ _ _ h _ _ _ _ _ hS (gls_sub hl [1, 2, 3, 0, 4] rfl)
theorem sX4_least (l : Launch) (E : g_E) (D : g_D) {t : Nat} {v1 : Int32} {G : g_G} {q : Int32 × g_G} (h : fX4_least E t v1 G = some q) : gMet l E D yX4_least (ws_ yX4_least cX4_least 6 (some .int)) 11 310 [.inr (.inr (some t)), .inl v1] G (some (.int q.1)) q.2 := by
  refine gMet.of (by decide +kernel) (Nat.le_of_ble_eq_true rfl) ?_
  intro p e R s m args below meth c C hS ls hl
  have C : gC p R s m args meth c cX4_least 6 RX4 "least" (some .int) 11 310 E D := C
  obtain ⟨hx, hb, hml, hown, hts, hKn, hRc, hRs, hc1, hc2, hRf, hRl, hr, hlk, hnm⟩ := id C
  have hl : gls ls 6 [(0, .inr (.inr (some t))), (1, .inl v1)] := hl
  generalize s.heap = H at hS ⊢
  unfold fX4_least at h
  refine g_aload_n hx hb hl 0 rfl dX4_least_0 ?_
  refine lv_iconst (v := 0) hx hb dX4_least_1 (by decide) ?_
  refine g_ptI hx hb hown hts hKn hS h fd_4_4_2 (Or.inl (hts _ q1867)) (fun _ z => z) (fun z => nomatch z) dX4_least_2 (fun G2 h H locs hS => ?_)
  refine g_iload_n hx hb hl 1 rfl dX4_least_5 ?_
  refine lv_iconst (v := 0) hx hb dX4_least_6 (by decide) ?_
  refine lv_iconst (v := 3) hx hb dX4_least_7 (by decide) ?_
  obtain ⟨z8, h8, h⟩ := g_bnd h
  refine g_callS (n := 3) (av := [.inl v1, .inl 0, .inl 3]) (rs := []) hx hb hml hown hts hKn hRc hRs hS hl (sX4_isIn l E D h8) (lw_S q2180 q2181 q135 q2182) ⟨by decide, by decide, by decide +kernel⟩ ⟨by rw [hRf]; exact Nat.le_of_ble_eq_true rfl, by rw [hRl]; exact Nat.le_of_ble_eq_true rfl⟩ rfl rfl (Nat.le_of_ble_eq_true rfl) dX4_least_8 (fun H locs cells slots hS => ?_)
  refine lv_if_ne (tgt := 20) hx hb dX4_least_11 (by decide) (fun c_11 => ?_) (fun c_11 => ?_)
  · have h := g_ift c_11 h
    refine g_aload_n hx hb hl 0 rfl dX4_least_20 ?_
    obtain ⟨b21, hb21, h⟩ := g_bnd h
    obtain ⟨hr21, hk21⟩ := g_chk hb21
    obtain ⟨z21, h21, h⟩ := g_bnd h
    refine g_callV (n := 0) (b := b21) (av := []) (rs := []) hx hb hml hown hts hKn hRc hRs hS hl (sX4_anySteps l E D h21) (lw_V q2201 q2203 qs68 q135 q2204) ⟨rfl, by decide, by decide, by decide +kernel⟩ ⟨by rw [hRf]; exact Nat.le_of_ble_eq_true rfl, by rw [hRl]; exact Nat.le_of_ble_eq_true rfl⟩ (g_recv hKn hS hk21 (by decide) (by decide)) rfl (by rw [hr21]; rfl) (Nat.le_of_ble_eq_true rfl) dX4_least_21 (fun H locs cells slots hS => ?_)
    refine lv_if_le (tgt := 30) hx hb dX4_least_24 (by decide) (fun c_24 => ?_) (fun c_24 => ?_)
    · have h := g_ift c_24 h
      refine g_aload_n hx hb hl 0 rfl dX4_least_30 ?_
      refine g_rdI hx hb hown hts hKn hS h fd_4_4_4 rfl (Or.inl (hts _ q1869)) (fun _ z => z) dX4_least_31 (fun x31 h => ?_)
      refine g_istore_n (l1 := [(2, .inl x31), (0, .inr (.inr (some t))), (1, .inl v1)]) hx hb hl (by decide) rfl dX4_least_34 (fun ls hl => ?_)
      refine g_aload_n hx hb hl 1 rfl dX4_least_35 ?_
      refine g_rdI hx hb hown hts hKn hS h fd_4_4_3 rfl (Or.inl (hts _ q1868)) (fun _ z => z) dX4_least_36 (fun x36 h => ?_)
      refine g_istore_n (l1 := [(3, .inl x36), (2, .inl x31), (0, .inr (.inr (some t))), (1, .inl v1)]) hx hb hl (by decide) rfl dX4_least_39 (fun ls hl => ?_)
      refine g_aload_n hx hb hl 2 rfl dX4_least_40 ?_
      refine g_iload_n hx hb hl 3 rfl dX4_least_41 ?_
      refine g_ptI hx hb hown hts hKn hS h fd_4_4_4 (Or.inl (hts _ q1869)) (fun _ z => z) (fun z => nomatch z) dX4_least_42 (fun G42 h H locs hS => ?_)
      refine lv_iconst (v := (-1)) hx hb dX4_least_45 (by decide) ?_
      refine g_istore (l1 := [(4, .inl (-1)), (3, .inl x36), (2, .inl x31), (0, .inr (.inr (some t))), (1, .inl v1)]) hx hb hl (by decide) rfl dX4_least_46 (fun ls hl => ?_)
      refine lv_iconst (v := 2) hx hb dX4_least_48 (by decide) ?_
      refine g_istore (l1 := [(5, .inl 2), (4, .inl (-1)), (3, .inl x36), (2, .inl x31), (0, .inr (.inr (some t))), (1, .inl v1)]) hx hb hl (by decide) rfl dX4_least_49 (fun ls hl => ?_)
      exact sX4_least_b51 C gFU _ _ _ _ _ _ _ h _ _ _ _ _ hS (gls_sub hl [4, 3, 2, 1, 0] rfl)
    · have h := g_iff c_24 h
      refine lv_bipush (v := (-2)) hx hb dX4_least_27 (by decide) ?_
      exact g_iretG hx hb hr hlk hKn hRc hRs hS h dX4_least_29
  · have h := g_iff (fun z => z c_11) h
    refine g_aload_n hx hb hl 0 rfl dX4_least_14 ?_
    refine lv_iconst (v := 1) hx hb dX4_least_15 (by decide) ?_
    obtain ⟨b16, hb16, h⟩ := g_bnd h
    obtain ⟨hr16, hk16⟩ := g_chk hb16
    obtain ⟨z16, h16, h⟩ := g_bnd h
    refine g_callV (n := 1) (b := b16) (av := [.inl 1]) (rs := []) hx hb hml hown hts hKn hRc hRs hS hl (sX4_fail l E D h16) (lw_V q2088 q2090 qs48 q135 q2091) ⟨rfl, by decide, by decide, by decide +kernel⟩ ⟨by rw [hRf]; exact Nat.le_of_ble_eq_true rfl, by rw [hRl]; exact Nat.le_of_ble_eq_true rfl⟩ (g_recv hKn hS hk16 (by decide) (by decide)) rfl (by rw [hr16]; rfl) (Nat.le_of_ble_eq_true rfl) dX4_least_16 (fun H locs cells slots hS => ?_)
    exact g_iretG hx hb hr hlk hKn hRc hRs hS h dX4_least_19
/-- SendHallModel.needs()I -/
def fX4_needs_b75 (E : g_E) (t : Nat) (v1 : Int32) (v2 : Int32) (G : g_G) : Option (Int32 × g_G) :=
  (gpI E G 4 4 (some t) 4 v1).bind fun G77 =>
  some (v2, G77)
def fX4_needs_b69 (E : g_E) (k17 : Nat → Int32 → Int32 → Int32 → Int32 → g_G → Option (Int32 × g_G)) (t : Nat) (v1 : Int32) (v2 : Int32) (v3 : Int32) (v4 : Int32) (G : g_G) : Option (Int32 × g_G) :=
  k17 t v1 v2 v3 (v4 + 1) G
def fX4_needs_b56 (E : g_E) (k17 : Nat → Int32 → Int32 → Int32 → Int32 → g_G → Option (Int32 × g_G)) (t : Nat) (v1 : Int32) (v2 : Int32) (v4 : Int32) (v5 : Int32) (s0 : Int32) (G : g_G) : Option (Int32 × g_G) :=
  if v5 = 0 then (
    fX4_needs_b69 E k17 t v1 v2 s0 v4 G)
  else (
    if ¬ s0 = 0 then (
      fX4_needs_b69 E k17 t v1 v2 s0 v4 G)
    else (
      fX4_needs_b69 E k17 t v1 v4 s0 v4 G))
def fX4_needs_b55 (E : g_E) (k17 : Nat → Int32 → Int32 → Int32 → Int32 → g_G → Option (Int32 × g_G)) (t : Nat) (v1 : Int32) (v2 : Int32) (v4 : Int32) (v5 : Int32) (G : g_G) : Option (Int32 × g_G) :=
  fX4_needs_b56 E k17 t v1 v2 v4 v5 0 G
def fX4_needs_b17 (E : g_E) : Nat → Nat → Int32 → Int32 → Int32 → Int32 → g_G → Option (Int32 × g_G)
  | 0, _, _, _, _, _, _ => none
  | n + 1, t, v1, v2, v3, v4, G =>
    if (3 : Int32) < v4 then (
      fX4_needs_b75 E t v1 v2 G)
    else (
      if v3 = 0 then (
        fX4_needs_b75 E t v1 v2 G)
      else (
        (gpI E G 4 4 (some t) 4 v4).bind fun G30 =>
        (gchk G30 4 (some t)).bind fun b34 =>
        (fX4_go E b34 G30).bind fun z34 =>
        if z34.1 = 0 then (
          fX4_needs_b55 E (fX4_needs_b17 E n) t v1 v2 v4 z34.1 z34.2)
        else (
          (gchk z34.2 4 (some t)).bind fun b45 =>
          (fX4_someLocks E b45 z34.2).bind fun z45 =>
          if z45.1 = 0 then (
            fX4_needs_b55 E (fX4_needs_b17 E n) t v1 v2 v4 z34.1 z45.2)
          else (
            fX4_needs_b56 E (fX4_needs_b17 E n) t v1 v2 v4 z34.1 1 z45.2))))
def fX4_needs (E : g_E) (t : Nat) (G : g_G) : Option (Int32 × g_G) :=
  (gpI E G 4 4 (some t) 2 0).bind fun G2 =>
  (grI G2 4 4 (some t) 4).bind fun x6 =>
  fX4_needs_b17 E gFU t x6 (-1) 1 0 G2
theorem sX4_needs_b75 {p : Program} {l : Launch} {e : Env} {R : Room} {s : State} {m : MethodId} {args : Array Value} {below : List Frame} {meth : Method} {c : Code} {E : g_E} {D : g_D} (C : gC p R s m args meth c cX4_needs 6 RX4 "needs" (some .int) 12 327 E D) : ∀ (t : Nat) (v1 : Int32) (v2 : Int32) (G : g_G) (q : Int32 × g_G), fX4_needs_b75 E t v1 v2 G = some q → ∀ (H : Heap) (locs : List Loc) (cells slots : Nat) (ls : Array Slot), gSt E D G H locs → gls ls 6 [(0, .inr (.inr (some t))), (1, .inl v1), (2, .inl v2)] → gT p l e R s m args below meth c E D H locs cells slots (some (.int q.1)) q.2 (F0 m 75 ls []) := by
  obtain ⟨hx, hb, hml, hown, hts, hKn, hRc, hRs, hc1, hc2, hRf, hRl, hr, hlk, hnm⟩ := id C
  intro t v1 v2 G q h H locs cells slots ls hS hl
  unfold fX4_needs_b75 at h
  refine g_aload_n hx hb hl 0 rfl dX4_needs_75 ?_
  refine g_iload_n hx hb hl 1 rfl dX4_needs_76 ?_
  refine g_ptI hx hb hown hts hKn hS h fd_4_4_4 (Or.inl (hts _ q1869)) (fun _ z => z) (fun z => nomatch z) dX4_needs_77 (fun G77 h H locs hS => ?_)
  refine g_iload_n hx hb hl 2 rfl dX4_needs_80 ?_
  exact g_iretG hx hb hr hlk hKn hRc hRs hS h dX4_needs_81
theorem sX4_needs_b69 {p : Program} {l : Launch} {e : Env} {R : Room} {s : State} {m : MethodId} {args : Array Value} {below : List Frame} {meth : Method} {c : Code} {E : g_E} {D : g_D} (C : gC p R s m args meth c cX4_needs 6 RX4 "needs" (some .int) 12 327 E D) {k17 : Nat → Int32 → Int32 → Int32 → Int32 → g_G → Option (Int32 × g_G)} (hk17 : ∀ (t : Nat) (v1 : Int32) (v2 : Int32) (v3 : Int32) (v4 : Int32) (G : g_G) (q : Int32 × g_G), k17 t v1 v2 v3 v4 G = some q → ∀ (H : Heap) (locs : List Loc) (cells slots : Nat) (ls : Array Slot), gSt E D G H locs → gls ls 6 [(0, .inr (.inr (some t))), (1, .inl v1), (2, .inl v2), (3, .inl v3), (4, .inl v4)] → gT p l e R s m args below meth c E D H locs cells slots (some (.int q.1)) q.2 (F0 m 17 ls [])) : ∀ (t : Nat) (v1 : Int32) (v2 : Int32) (v3 : Int32) (v4 : Int32) (G : g_G) (q : Int32 × g_G), fX4_needs_b69 E k17 t v1 v2 v3 v4 G = some q → ∀ (H : Heap) (locs : List Loc) (cells slots : Nat) (ls : Array Slot), gSt E D G H locs → gls ls 6 [(0, .inr (.inr (some t))), (1, .inl v1), (2, .inl v2), (3, .inl v3), (4, .inl v4)] → gT p l e R s m args below meth c E D H locs cells slots (some (.int q.1)) q.2 (F0 m 69 ls []) := by
  obtain ⟨hx, hb, hml, hown, hts, hKn, hRc, hRs, hc1, hc2, hRf, hRl, hr, hlk, hnm⟩ := id C
  intro t v1 v2 v3 v4 G q h H locs cells slots ls hS hl
  unfold fX4_needs_b69 at h
  refine g_iinc (l1 := [(4, .inl (v4 + 1)), (0, .inr (.inr (some t))), (1, .inl v1), (2, .inl v2), (3, .inl v3)]) (v := (v4 + 1)) hx hb hl (k := 4) rfl (by rfl) (by decide) rfl dX4_needs_69 (fun ls hl => ?_)
  refine lv_goto (tgt := 17) hx hb dX4_needs_72 (by decide) ?_
  exact hk17 _ _ _ _ _ _ _ h _ _ _ _ _ hS (gls_sub hl [1, 2, 3, 4, 0] rfl)
theorem sX4_needs_b56 {p : Program} {l : Launch} {e : Env} {R : Room} {s : State} {m : MethodId} {args : Array Value} {below : List Frame} {meth : Method} {c : Code} {E : g_E} {D : g_D} (C : gC p R s m args meth c cX4_needs 6 RX4 "needs" (some .int) 12 327 E D) {k17 : Nat → Int32 → Int32 → Int32 → Int32 → g_G → Option (Int32 × g_G)} (hk17 : ∀ (t : Nat) (v1 : Int32) (v2 : Int32) (v3 : Int32) (v4 : Int32) (G : g_G) (q : Int32 × g_G), k17 t v1 v2 v3 v4 G = some q → ∀ (H : Heap) (locs : List Loc) (cells slots : Nat) (ls : Array Slot), gSt E D G H locs → gls ls 6 [(0, .inr (.inr (some t))), (1, .inl v1), (2, .inl v2), (3, .inl v3), (4, .inl v4)] → gT p l e R s m args below meth c E D H locs cells slots (some (.int q.1)) q.2 (F0 m 17 ls [])) : ∀ (t : Nat) (v1 : Int32) (v2 : Int32) (v4 : Int32) (v5 : Int32) (s0 : Int32) (G : g_G) (q : Int32 × g_G), fX4_needs_b56 E k17 t v1 v2 v4 v5 s0 G = some q → ∀ (H : Heap) (locs : List Loc) (cells slots : Nat) (ls : Array Slot), gSt E D G H locs → gls ls 6 [(0, .inr (.inr (some t))), (1, .inl v1), (2, .inl v2), (4, .inl v4), (5, .inl v5)] → gT p l e R s m args below meth c E D H locs cells slots (some (.int q.1)) q.2 (F0 m 56 ls [.int s0]) := by
  obtain ⟨hx, hb, hml, hown, hts, hKn, hRc, hRs, hc1, hc2, hRf, hRl, hr, hlk, hnm⟩ := id C
  intro t v1 v2 v4 v5 s0 G q h H locs cells slots ls hS hl
  unfold fX4_needs_b56 at h
  refine g_istore_n (l1 := [(3, .inl s0), (0, .inr (.inr (some t))), (1, .inl v1), (2, .inl v2), (4, .inl v4), (5, .inl v5)]) hx hb hl (by decide) rfl dX4_needs_56 (fun ls hl => ?_)
  refine g_iload hx hb hl 5 rfl dX4_needs_57 ?_
  refine lv_if_eq (tgt := 69) hx hb dX4_needs_59 (by decide) (fun c_59 => ?_) (fun c_59 => ?_)
  · have h := g_ift c_59 h
    exact sX4_needs_b69 C hk17 _ _ _ _ _ _ _ h _ _ _ _ _ hS (gls_sub hl [1, 2, 3, 0, 4] rfl)
  · have h := g_iff c_59 h
    refine g_iload_n hx hb hl 0 rfl dX4_needs_62 ?_
    refine lv_if_ne (tgt := 69) hx hb dX4_needs_63 (by decide) (fun c_63 => ?_) (fun c_63 => ?_)
    · have h := g_ift c_63 h
      exact sX4_needs_b69 C hk17 _ _ _ _ _ _ _ h _ _ _ _ _ hS (gls_sub hl [1, 2, 3, 0, 4] rfl)
    · have h := g_iff (fun z => z c_63) h
      refine g_iload hx hb hl 4 rfl dX4_needs_66 ?_
      refine g_istore_n (l1 := [(2, .inl v4), (3, .inl s0), (0, .inr (.inr (some t))), (1, .inl v1), (4, .inl v4), (5, .inl v5)]) hx hb hl (by decide) rfl dX4_needs_68 (fun ls hl => ?_)
      exact sX4_needs_b69 C hk17 _ _ _ _ _ _ _ h _ _ _ _ _ hS (gls_sub hl [2, 3, 0, 1, 4] rfl)
theorem sX4_needs_b55 {p : Program} {l : Launch} {e : Env} {R : Room} {s : State} {m : MethodId} {args : Array Value} {below : List Frame} {meth : Method} {c : Code} {E : g_E} {D : g_D} (C : gC p R s m args meth c cX4_needs 6 RX4 "needs" (some .int) 12 327 E D) {k17 : Nat → Int32 → Int32 → Int32 → Int32 → g_G → Option (Int32 × g_G)} (hk17 : ∀ (t : Nat) (v1 : Int32) (v2 : Int32) (v3 : Int32) (v4 : Int32) (G : g_G) (q : Int32 × g_G), k17 t v1 v2 v3 v4 G = some q → ∀ (H : Heap) (locs : List Loc) (cells slots : Nat) (ls : Array Slot), gSt E D G H locs → gls ls 6 [(0, .inr (.inr (some t))), (1, .inl v1), (2, .inl v2), (3, .inl v3), (4, .inl v4)] → gT p l e R s m args below meth c E D H locs cells slots (some (.int q.1)) q.2 (F0 m 17 ls [])) : ∀ (t : Nat) (v1 : Int32) (v2 : Int32) (v4 : Int32) (v5 : Int32) (G : g_G) (q : Int32 × g_G), fX4_needs_b55 E k17 t v1 v2 v4 v5 G = some q → ∀ (H : Heap) (locs : List Loc) (cells slots : Nat) (ls : Array Slot), gSt E D G H locs → gls ls 6 [(0, .inr (.inr (some t))), (1, .inl v1), (2, .inl v2), (4, .inl v4), (5, .inl v5)] → gT p l e R s m args below meth c E D H locs cells slots (some (.int q.1)) q.2 (F0 m 55 ls []) := by
  obtain ⟨hx, hb, hml, hown, hts, hKn, hRc, hRs, hc1, hc2, hRf, hRl, hr, hlk, hnm⟩ := id C
  intro t v1 v2 v4 v5 G q h H locs cells slots ls hS hl
  unfold fX4_needs_b55 at h
  refine lv_iconst (v := 0) hx hb dX4_needs_55 (by decide) ?_
  exact sX4_needs_b56 C hk17 _ _ _ _ _ _ _ _ h _ _ _ _ _ hS (gls_sub hl [0, 1, 2, 3, 4] rfl)
theorem sX4_needs_b17 {p : Program} {l : Launch} {e : Env} {R : Room} {s : State} {m : MethodId} {args : Array Value} {below : List Frame} {meth : Method} {c : Code} {E : g_E} {D : g_D} (C : gC p R s m args meth c cX4_needs 6 RX4 "needs" (some .int) 12 327 E D) : ∀ (n : Nat) (t : Nat) (v1 : Int32) (v2 : Int32) (v3 : Int32) (v4 : Int32) (G : g_G) (q : Int32 × g_G), fX4_needs_b17 E n t v1 v2 v3 v4 G = some q → ∀ (H : Heap) (locs : List Loc) (cells slots : Nat) (ls : Array Slot), gSt E D G H locs → gls ls 6 [(0, .inr (.inr (some t))), (1, .inl v1), (2, .inl v2), (3, .inl v3), (4, .inl v4)] → gT p l e R s m args below meth c E D H locs cells slots (some (.int q.1)) q.2 (F0 m 17 ls []) := by
  obtain ⟨hx, hb, hml, hown, hts, hKn, hRc, hRs, hc1, hc2, hRf, hRl, hr, hlk, hnm⟩ := id C
  intro n
  induction n with
  | zero =>
    intro t v1 v2 v3 v4 G q h
    exact g_no h
  | succ n ih =>
    intro t v1 v2 v3 v4 G q h H locs cells slots ls hS hl
    rw [fX4_needs_b17] at h
    refine g_iload hx hb hl 4 rfl dX4_needs_17 ?_
    refine lv_iconst (v := 3) hx hb dX4_needs_19 (by decide) ?_
    refine lv_icmp_gt (tgt := 75) hx hb dX4_needs_20 (by decide) (fun c_20 => ?_) (fun c_20 => ?_)
    · have h := g_ift c_20 h
      exact sX4_needs_b75 C _ _ _ _ _ h _ _ _ _ _ hS (gls_sub hl [0, 1, 2] rfl)
    · have h := g_iff c_20 h
      refine g_iload_n hx hb hl 3 rfl dX4_needs_23 ?_
      refine lv_if_eq (tgt := 75) hx hb dX4_needs_24 (by decide) (fun c_24 => ?_) (fun c_24 => ?_)
      · have h := g_ift c_24 h
        exact sX4_needs_b75 C _ _ _ _ _ h _ _ _ _ _ hS (gls_sub hl [0, 1, 2] rfl)
      · have h := g_iff c_24 h
        refine g_aload_n hx hb hl 0 rfl dX4_needs_27 ?_
        refine g_iload hx hb hl 4 rfl dX4_needs_28 ?_
        refine g_ptI hx hb hown hts hKn hS h fd_4_4_4 (Or.inl (hts _ q1869)) (fun _ z => z) (fun z => nomatch z) dX4_needs_30 (fun G30 h H locs hS => ?_)
        refine g_aload_n hx hb hl 0 rfl dX4_needs_33 ?_
        obtain ⟨b34, hb34, h⟩ := g_bnd h
        obtain ⟨hr34, hk34⟩ := g_chk hb34
        obtain ⟨z34, h34, h⟩ := g_bnd h
        refine g_callV (n := 0) (b := b34) (av := []) (rs := []) hx hb hml hown hts hKn hRc hRs hS hl (sX4_go l E D h34) (lw_V q2221 q2223 qs71 q135 q2224) ⟨rfl, by decide, by decide, by decide +kernel⟩ ⟨by rw [hRf]; exact Nat.le_of_ble_eq_true rfl, by rw [hRl]; exact Nat.le_of_ble_eq_true rfl⟩ (g_recv hKn hS hk34 (by decide) (by decide)) rfl (by rw [hr34]; rfl) (Nat.le_of_ble_eq_true rfl) dX4_needs_34 (fun H locs cells slots hS => ?_)
        refine g_istore (l1 := [(5, .inl z34.1), (0, .inr (.inr (some t))), (1, .inl v1), (2, .inl v2), (3, .inl v3), (4, .inl v4)]) hx hb hl (by decide) rfl dX4_needs_37 (fun ls hl => ?_)
        refine g_iload hx hb hl 0 rfl dX4_needs_39 ?_
        refine lv_if_eq (tgt := 55) hx hb dX4_needs_41 (by decide) (fun c_41 => ?_) (fun c_41 => ?_)
        · have h := g_ift c_41 h
          exact sX4_needs_b55 C ih _ _ _ _ _ _ _ h _ _ _ _ _ hS (gls_sub hl [1, 2, 3, 5, 0] rfl)
        · have h := g_iff c_41 h
          refine g_aload_n hx hb hl 1 rfl dX4_needs_44 ?_
          obtain ⟨b45, hb45, h⟩ := g_bnd h
          obtain ⟨hr45, hk45⟩ := g_chk hb45
          obtain ⟨z45, h45, h⟩ := g_bnd h
          refine g_callV (n := 0) (b := b45) (av := []) (rs := []) hx hb hml hown hts hKn hRc hRs hS hl (sX4_someLocks l E D h45) (lw_V q2392 q2394 qs106 q135 q2395) ⟨rfl, by decide, by decide, by decide +kernel⟩ ⟨by rw [hRf]; exact Nat.le_of_ble_eq_true rfl, by rw [hRl]; exact Nat.le_of_ble_eq_true rfl⟩ (g_recv hKn hS hk45 (by decide) (by decide)) rfl (by rw [hr45]; rfl) (Nat.le_of_ble_eq_true rfl) dX4_needs_45 (fun H locs cells slots hS => ?_)
          refine lv_if_eq (tgt := 55) hx hb dX4_needs_48 (by decide) (fun c_48 => ?_) (fun c_48 => ?_)
          · have h := g_ift c_48 h
            exact sX4_needs_b55 C ih _ _ _ _ _ _ _ h _ _ _ _ _ hS (gls_sub hl [1, 2, 3, 5, 0] rfl)
          · have h := g_iff c_48 h
            refine lv_iconst (v := 1) hx hb dX4_needs_51 (by decide) ?_
            refine lv_goto (tgt := 56) hx hb dX4_needs_52 (by decide) ?_
            exact sX4_needs_b56 C ih _ _ _ _ _ _ _ _ h _ _ _ _ _ hS (gls_sub hl [1, 2, 3, 5, 0] rfl)
theorem sX4_needs (l : Launch) (E : g_E) (D : g_D) {t : Nat} {G : g_G} {q : Int32 × g_G} (h : fX4_needs E t G = some q) : gMet l E D yX4_needs (ws_ yX4_needs cX4_needs 6 (some .int)) 12 327 [.inr (.inr (some t))] G (some (.int q.1)) q.2 := by
  refine gMet.of (by decide +kernel) (Nat.le_of_ble_eq_true rfl) ?_
  intro p e R s m args below meth c C hS ls hl
  have C : gC p R s m args meth c cX4_needs 6 RX4 "needs" (some .int) 12 327 E D := C
  obtain ⟨hx, hb, hml, hown, hts, hKn, hRc, hRs, hc1, hc2, hRf, hRl, hr, hlk, hnm⟩ := id C
  have hl : gls ls 6 [(0, .inr (.inr (some t)))] := hl
  generalize s.heap = H at hS ⊢
  unfold fX4_needs at h
  refine g_aload_n hx hb hl 0 rfl dX4_needs_0 ?_
  refine lv_iconst (v := 0) hx hb dX4_needs_1 (by decide) ?_
  refine g_ptI hx hb hown hts hKn hS h fd_4_4_2 (Or.inl (hts _ q1867)) (fun _ z => z) (fun z => nomatch z) dX4_needs_2 (fun G2 h H locs hS => ?_)
  refine g_aload_n hx hb hl 0 rfl dX4_needs_5 ?_
  refine g_rdI hx hb hown hts hKn hS h fd_4_4_4 rfl (Or.inl (hts _ q1869)) (fun _ z => z) dX4_needs_6 (fun x6 h => ?_)
  refine g_istore_n (l1 := [(1, .inl x6), (0, .inr (.inr (some t)))]) hx hb hl (by decide) rfl dX4_needs_9 (fun ls hl => ?_)
  refine lv_iconst (v := (-1)) hx hb dX4_needs_10 (by decide) ?_
  refine g_istore_n (l1 := [(2, .inl (-1)), (1, .inl x6), (0, .inr (.inr (some t)))]) hx hb hl (by decide) rfl dX4_needs_11 (fun ls hl => ?_)
  refine lv_iconst (v := 1) hx hb dX4_needs_12 (by decide) ?_
  refine g_istore_n (l1 := [(3, .inl 1), (2, .inl (-1)), (1, .inl x6), (0, .inr (.inr (some t)))]) hx hb hl (by decide) rfl dX4_needs_13 (fun ls hl => ?_)
  refine lv_iconst (v := 0) hx hb dX4_needs_14 (by decide) ?_
  refine g_istore (l1 := [(4, .inl 0), (3, .inl 1), (2, .inl (-1)), (1, .inl x6), (0, .inr (.inr (some t)))]) hx hb hl (by decide) rfl dX4_needs_15 (fun ls hl => ?_)
  exact sX4_needs_b17 C gFU _ _ _ _ _ _ _ h _ _ _ _ _ hS (gls_sub hl [4, 3, 2, 1, 0] rfl)
/-- SendHallModel.play(IJ)I -/
def fX4_play_b171 (E : g_E) : Nat → Nat → Int32 → Int32 → g_G → Option (Int32 × g_G)
  | 0, _, _, _, _ => none
  | n + 1, t, v4, v5, G =>
    (grI G 4 4 (some t) 59).bind fun x174 =>
    if x174 ≤ v5 then (
      (grI G 4 4 (some t) 3).bind fun x202 =>
      (gpI E G 4 4 (some t) 57 x202).bind fun G205 =>
      (grI G205 4 4 (some t) 8).bind fun x210 =>
      (gpI E G205 4 4 (some t) 58 x210).bind fun G213 =>
      some (v4, G213))
    else (
      (grR G 4 4 (some t) 69).bind fun x181 =>
      (grR G 4 4 (some t) 62).bind fun x187 =>
      (gaI G 100 x187 v5).bind fun x192 =>
      (gsaI E G x181 v5 x192).bind fun G193 =>
      fX4_play_b171 E n t v4 (v5 + 1) G193)
def fX4_play_b133 (E : g_E) : Nat → Nat → Int32 → Int32 → g_G → Option (Int32 × g_G)
  | 0, _, _, _, _ => none
  | n + 1, t, v4, v5, G =>
    if (64 : Int32) ≤ v5 then (
      (grI G 4 4 (some t) 59).bind fun x162 =>
      (gpI E G 4 4 (some t) 68 x162).bind fun G165 =>
      fX4_play_b171 E gFU t v4 0 G165)
    else (
      (grR G 4 4 (some t) 61).bind fun x141 =>
      (grR G 4 4 (some t) 33).bind fun x147 =>
      (gaI G 100 x147 v5).bind fun x152 =>
      (gsaI E G x141 v5 x152).bind fun G153 =>
      fX4_play_b133 E n t v4 (v5 + 1) G153)
def fX4_play_b70 (E : g_E) : Nat → Nat → Int32 → Int32 → g_G → Option (Int32 × g_G)
  | 0, _, _, _, _ => none
  | n + 1, t, v4, v5, G =>
    (grI G 4 4 (some t) 3).bind fun x73 =>
    if x73 ≤ v5 then (
      (gchk G 4 (some t)).bind fun b127 =>
      (fX4_tellRing E b127 G).bind fun z127 =>
      fX4_play_b133 E gFU t v4 0 z127)
    else (
      (grR G 4 4 (some t) 64).bind fun x80 =>
      (gchk G 4 (some t)).bind fun b88 =>
      (fX4_waitsFor E b88 v5 G).bind fun z88 =>
      (gsaI E z88.2 x80 v5 z88.1).bind fun G91 =>
      (grR G91 4 4 (some t) 66).bind fun x93 =>
      (grR G91 4 4 (some t) 36).bind fun x99 =>
      (gaI G91 100 x99 v5).bind fun x104 =>
      (gsaI E G91 x93 v5 x104).bind fun G105 =>
      (grR G105 4 4 (some t) 67).bind fun x107 =>
      (grR G105 4 4 (some t) 37).bind fun x113 =>
      (gaI G105 100 x113 v5).bind fun x118 =>
      (gsaI E G105 x107 v5 x118).bind fun G119 =>
      fX4_play_b70 E n t v4 (v5 + 1) G119)
def fX4_play_b24 (E : g_E) : Nat → Nat → Int32 → Int64 → Int32 → g_G → Option (Int32 × g_G)
  | 0, _, _, _, _, _ => none
  | n + 1, t, v1, v2, v4, G =>
    if v1 ≤ v4 then (
      (gchk G 4 (some t)).bind fun b62 =>
      (fX4_run E b62 v1 v2 G).bind fun z62 =>
      fX4_play_b70 E gFU t z62.1 0 z62.2)
    else (
      (grI G 4 4 (some t) 3).bind fun x41 =>
      if ((Int64.toInt32 (v2 >>> (Int32.toInt64 (4 * v4) &&& 63))) &&& 15) < x41 then (
        fX4_play_b24 E n t v1 v2 (v4 + 1) G)
      else (
        (gchk G 4 (some t)).bind fun b49 =>
        (fX4_fail E b49 1 G).bind fun z49 =>
        some (z49.1, z49.2)))
def fX4_play (E : g_E) (t : Nat) (v1 : Int32) (v2 : Int64) (G : g_G) : Option (Int32 × g_G) :=
  (gpI E G 4 4 (some t) 2 0).bind fun G2 =>
  (fX4_isIn E v1 0 16 G2).bind fun z9 =>
  if ¬ z9.1 = 0 then (
    fX4_play_b24 E gFU t v1 v2 0 z9.2)
  else (
    (gchk z9.2 4 (some t)).bind fun b17 =>
    (fX4_fail E b17 1 z9.2).bind fun z17 =>
    some (z17.1, z17.2))
theorem sX4_play_b171 {p : Program} {l : Launch} {e : Env} {R : Room} {s : State} {m : MethodId} {args : Array Value} {below : List Frame} {meth : Method} {c : Code} {E : g_E} {D : g_D} (C : gC p R s m args meth c cX4_play 6 RX4 "play" (some .int) 11 310 E D) : ∀ (n : Nat) (t : Nat) (v4 : Int32) (v5 : Int32) (G : g_G) (q : Int32 × g_G), fX4_play_b171 E n t v4 v5 G = some q → ∀ (H : Heap) (locs : List Loc) (cells slots : Nat) (ls : Array Slot), gSt E D G H locs → gls ls 6 [(0, .inr (.inr (some t))), (4, .inl v4), (5, .inl v5)] → gT p l e R s m args below meth c E D H locs cells slots (some (.int q.1)) q.2 (F0 m 171 ls []) := by
  obtain ⟨hx, hb, hml, hown, hts, hKn, hRc, hRs, hc1, hc2, hRf, hRl, hr, hlk, hnm⟩ := id C
  intro n
  induction n with
  | zero =>
    intro t v4 v5 G q h
    exact g_no h
  | succ n ih =>
    intro t v4 v5 G q h H locs cells slots ls hS hl
    rw [fX4_play_b171] at h
    refine g_iload hx hb hl 2 rfl dX4_play_171 ?_
    refine g_aload_n hx hb hl 0 rfl dX4_play_173 ?_
    refine g_rdI hx hb hown hts hKn hS h fd_4_4_59 rfl (Or.inl (hts _ q1924)) (fun _ z => z) dX4_play_174 (fun x174 h => ?_)
    refine lv_icmp_ge (tgt := 200) hx hb dX4_play_177 (by decide) (fun c_177 => ?_) (fun c_177 => ?_)
    · have h := g_ift c_177 h
      refine g_aload_n hx hb hl 0 rfl dX4_play_200 ?_
      refine g_aload_n hx hb hl 0 rfl dX4_play_201 ?_
      refine g_rdI hx hb hown hts hKn hS h fd_4_4_3 rfl (Or.inl (hts _ q1868)) (fun _ z => z) dX4_play_202 (fun x202 h => ?_)
      refine g_ptI hx hb hown hts hKn hS h fd_4_4_57 (Or.inl (hts _ q1922)) (fun _ z => z) (fun z => nomatch z) dX4_play_205 (fun G205 h H locs hS => ?_)
      refine g_aload_n hx hb hl 0 rfl dX4_play_208 ?_
      refine g_aload_n hx hb hl 0 rfl dX4_play_209 ?_
      refine g_rdI hx hb hown hts hKn hS h fd_4_4_8 rfl (Or.inl (hts _ q1873)) (fun _ z => z) dX4_play_210 (fun x210 h => ?_)
      refine g_ptI hx hb hown hts hKn hS h fd_4_4_58 (Or.inl (hts _ q1923)) (fun _ z => z) (fun z => nomatch z) dX4_play_213 (fun G213 h H locs hS => ?_)
      refine g_iload hx hb hl 1 rfl dX4_play_216 ?_
      exact g_iretG hx hb hr hlk hKn hRc hRs hS h dX4_play_218
    · have h := g_iff c_177 h
      refine g_aload_n hx hb hl 0 rfl dX4_play_180 ?_
      refine g_rdR hx hb hown hts hKn hS h fd_4_4_69 rfl (Or.inl (hts _ q1934)) (fun _ z => z) dX4_play_181 (fun x181 h => ?_)
      refine g_iload hx hb hl 2 rfl dX4_play_184 ?_
      refine g_aload_n hx hb hl 0 rfl dX4_play_186 ?_
      refine g_rdR hx hb hown hts hKn hS h fd_4_4_62 rfl (Or.inl (hts _ q1927)) (fun _ z => z) dX4_play_187 (fun x187 h => ?_)
      refine g_iload hx hb hl 2 rfl dX4_play_190 ?_
      refine g_ialoadG hx hb hKn hS h dX4_play_192 (fun x192 h => ?_)
      refine g_iastoreG hx hb hKn hS h dX4_play_193 (fun G193 h H locs hS => ?_)
      refine g_iinc (l1 := [(5, .inl (v5 + 1)), (0, .inr (.inr (some t))), (4, .inl v4)]) (v := (v5 + 1)) hx hb hl (k := 2) rfl (by rfl) (by decide) rfl dX4_play_194 (fun ls hl => ?_)
      refine lv_goto (tgt := 171) hx hb dX4_play_197 (by decide) ?_
      exact ih _ _ _ _ _ h _ _ _ _ _ hS (gls_sub hl [1, 2, 0] rfl)
theorem sX4_play_b133 {p : Program} {l : Launch} {e : Env} {R : Room} {s : State} {m : MethodId} {args : Array Value} {below : List Frame} {meth : Method} {c : Code} {E : g_E} {D : g_D} (C : gC p R s m args meth c cX4_play 6 RX4 "play" (some .int) 11 310 E D) : ∀ (n : Nat) (t : Nat) (v4 : Int32) (v5 : Int32) (G : g_G) (q : Int32 × g_G), fX4_play_b133 E n t v4 v5 G = some q → ∀ (H : Heap) (locs : List Loc) (cells slots : Nat) (ls : Array Slot), gSt E D G H locs → gls ls 6 [(0, .inr (.inr (some t))), (4, .inl v4), (5, .inl v5)] → gT p l e R s m args below meth c E D H locs cells slots (some (.int q.1)) q.2 (F0 m 133 ls []) := by
  obtain ⟨hx, hb, hml, hown, hts, hKn, hRc, hRs, hc1, hc2, hRf, hRl, hr, hlk, hnm⟩ := id C
  intro n
  induction n with
  | zero =>
    intro t v4 v5 G q h
    exact g_no h
  | succ n ih =>
    intro t v4 v5 G q h H locs cells slots ls hS hl
    rw [fX4_play_b133] at h
    refine g_iload hx hb hl 2 rfl dX4_play_133 ?_
    refine lv_bipush (v := 64) hx hb dX4_play_135 (by decide) ?_
    refine lv_icmp_ge (tgt := 160) hx hb dX4_play_137 (by decide) (fun c_137 => ?_) (fun c_137 => ?_)
    · have h := g_ift c_137 h
      refine g_aload_n hx hb hl 0 rfl dX4_play_160 ?_
      refine g_aload_n hx hb hl 0 rfl dX4_play_161 ?_
      refine g_rdI hx hb hown hts hKn hS h fd_4_4_59 rfl (Or.inl (hts _ q1924)) (fun _ z => z) dX4_play_162 (fun x162 h => ?_)
      refine g_ptI hx hb hown hts hKn hS h fd_4_4_68 (Or.inl (hts _ q1933)) (fun _ z => z) (fun z => nomatch z) dX4_play_165 (fun G165 h H locs hS => ?_)
      refine lv_iconst (v := 0) hx hb dX4_play_168 (by decide) ?_
      refine g_istore (l1 := [(5, .inl 0), (0, .inr (.inr (some t))), (4, .inl v4)]) hx hb hl (by decide) rfl dX4_play_169 (fun ls hl => ?_)
      exact sX4_play_b171 C gFU _ _ _ _ _ h _ _ _ _ _ hS (gls_sub hl [1, 2, 0] rfl)
    · have h := g_iff c_137 h
      refine g_aload_n hx hb hl 0 rfl dX4_play_140 ?_
      refine g_rdR hx hb hown hts hKn hS h fd_4_4_61 rfl (Or.inl (hts _ q1926)) (fun _ z => z) dX4_play_141 (fun x141 h => ?_)
      refine g_iload hx hb hl 2 rfl dX4_play_144 ?_
      refine g_aload_n hx hb hl 0 rfl dX4_play_146 ?_
      refine g_rdR hx hb hown hts hKn hS h fd_4_4_33 rfl (Or.inl (hts _ q1898)) (fun _ z => z) dX4_play_147 (fun x147 h => ?_)
      refine g_iload hx hb hl 2 rfl dX4_play_150 ?_
      refine g_ialoadG hx hb hKn hS h dX4_play_152 (fun x152 h => ?_)
      refine g_iastoreG hx hb hKn hS h dX4_play_153 (fun G153 h H locs hS => ?_)
      refine g_iinc (l1 := [(5, .inl (v5 + 1)), (0, .inr (.inr (some t))), (4, .inl v4)]) (v := (v5 + 1)) hx hb hl (k := 2) rfl (by rfl) (by decide) rfl dX4_play_154 (fun ls hl => ?_)
      refine lv_goto (tgt := 133) hx hb dX4_play_157 (by decide) ?_
      exact ih _ _ _ _ _ h _ _ _ _ _ hS (gls_sub hl [1, 2, 0] rfl)
theorem sX4_play_b70 {p : Program} {l : Launch} {e : Env} {R : Room} {s : State} {m : MethodId} {args : Array Value} {below : List Frame} {meth : Method} {c : Code} {E : g_E} {D : g_D} (C : gC p R s m args meth c cX4_play 6 RX4 "play" (some .int) 11 310 E D) : ∀ (n : Nat) (t : Nat) (v4 : Int32) (v5 : Int32) (G : g_G) (q : Int32 × g_G), fX4_play_b70 E n t v4 v5 G = some q → ∀ (H : Heap) (locs : List Loc) (cells slots : Nat) (ls : Array Slot), gSt E D G H locs → gls ls 6 [(0, .inr (.inr (some t))), (4, .inl v4), (5, .inl v5)] → gT p l e R s m args below meth c E D H locs cells slots (some (.int q.1)) q.2 (F0 m 70 ls []) := by
  obtain ⟨hx, hb, hml, hown, hts, hKn, hRc, hRs, hc1, hc2, hRf, hRl, hr, hlk, hnm⟩ := id C
  intro n
  induction n with
  | zero =>
    intro t v4 v5 G q h
    exact g_no h
  | succ n ih =>
    intro t v4 v5 G q h H locs cells slots ls hS hl
    rw [fX4_play_b70] at h
    refine g_iload hx hb hl 2 rfl dX4_play_70 ?_
    refine g_aload_n hx hb hl 0 rfl dX4_play_72 ?_
    refine g_rdI hx hb hown hts hKn hS h fd_4_4_3 rfl (Or.inl (hts _ q1868)) (fun _ z => z) dX4_play_73 (fun x73 h => ?_)
    refine lv_icmp_ge (tgt := 126) hx hb dX4_play_76 (by decide) (fun c_76 => ?_) (fun c_76 => ?_)
    · have h := g_ift c_76 h
      refine g_aload_n hx hb hl 0 rfl dX4_play_126 ?_
      obtain ⟨b127, hb127, h⟩ := g_bnd h
      obtain ⟨hr127, hk127⟩ := g_chk hb127
      obtain ⟨z127, h127, h⟩ := g_bnd h
      refine g_callV (n := 0) (b := b127) (av := []) (rs := []) hx hb hml hown hts hKn hRc hRs hS hl (sX4_tellRing l E D h127) (lw_V q2420 q2422 qs110 q135 q2423) ⟨rfl, by decide, by decide, by decide +kernel⟩ ⟨by rw [hRf]; exact Nat.le_of_ble_eq_true rfl, by rw [hRl]; exact Nat.le_of_ble_eq_true rfl⟩ (g_recv hKn hS hk127 (by decide) (by decide)) rfl (by rw [hr127]; rfl) (Nat.le_of_ble_eq_true rfl) dX4_play_127 (fun H locs cells slots hS => ?_)
      refine lv_iconst (v := 0) hx hb dX4_play_130 (by decide) ?_
      refine g_istore (l1 := [(5, .inl 0), (0, .inr (.inr (some t))), (4, .inl v4)]) hx hb hl (by decide) rfl dX4_play_131 (fun ls hl => ?_)
      exact sX4_play_b133 C gFU _ _ _ _ _ h _ _ _ _ _ hS (gls_sub hl [1, 2, 0] rfl)
    · have h := g_iff c_76 h
      refine g_aload_n hx hb hl 0 rfl dX4_play_79 ?_
      refine g_rdR hx hb hown hts hKn hS h fd_4_4_64 rfl (Or.inl (hts _ q1929)) (fun _ z => z) dX4_play_80 (fun x80 h => ?_)
      refine g_iload hx hb hl 2 rfl dX4_play_83 ?_
      refine g_aload_n hx hb hl 0 rfl dX4_play_85 ?_
      refine g_iload hx hb hl 2 rfl dX4_play_86 ?_
      obtain ⟨b88, hb88, h⟩ := g_bnd h
      obtain ⟨hr88, hk88⟩ := g_chk hb88
      obtain ⟨z88, h88, h⟩ := g_bnd h
      refine g_callV (n := 1) (b := b88) (av := [.inl v5]) (rs := [.inl v5, .inr (.inr x80)]) hx hb hml hown hts hKn hRc hRs hS hl (sX4_waitsFor l E D h88) (lw_V q2416 q2418 qs109 q135 q2419) ⟨rfl, by decide, by decide, by decide +kernel⟩ ⟨by rw [hRf]; exact Nat.le_of_ble_eq_true rfl, by rw [hRl]; exact Nat.le_of_ble_eq_true rfl⟩ (g_recv hKn hS hk88 (by decide) (by decide)) rfl (by rw [hr88]; rfl) (Nat.le_of_ble_eq_true rfl) dX4_play_88 (fun H locs cells slots hS => ?_)
      refine g_iastoreG hx hb hKn hS h dX4_play_91 (fun G91 h H locs hS => ?_)
      refine g_aload_n hx hb hl 0 rfl dX4_play_92 ?_
      refine g_rdR hx hb hown hts hKn hS h fd_4_4_66 rfl (Or.inl (hts _ q1931)) (fun _ z => z) dX4_play_93 (fun x93 h => ?_)
      refine g_iload hx hb hl 2 rfl dX4_play_96 ?_
      refine g_aload_n hx hb hl 0 rfl dX4_play_98 ?_
      refine g_rdR hx hb hown hts hKn hS h fd_4_4_36 rfl (Or.inl (hts _ q1901)) (fun _ z => z) dX4_play_99 (fun x99 h => ?_)
      refine g_iload hx hb hl 2 rfl dX4_play_102 ?_
      refine g_ialoadG hx hb hKn hS h dX4_play_104 (fun x104 h => ?_)
      refine g_iastoreG hx hb hKn hS h dX4_play_105 (fun G105 h H locs hS => ?_)
      refine g_aload_n hx hb hl 0 rfl dX4_play_106 ?_
      refine g_rdR hx hb hown hts hKn hS h fd_4_4_67 rfl (Or.inl (hts _ q1932)) (fun _ z => z) dX4_play_107 (fun x107 h => ?_)
      refine g_iload hx hb hl 2 rfl dX4_play_110 ?_
      refine g_aload_n hx hb hl 0 rfl dX4_play_112 ?_
      refine g_rdR hx hb hown hts hKn hS h fd_4_4_37 rfl (Or.inl (hts _ q1902)) (fun _ z => z) dX4_play_113 (fun x113 h => ?_)
      refine g_iload hx hb hl 2 rfl dX4_play_116 ?_
      refine g_ialoadG hx hb hKn hS h dX4_play_118 (fun x118 h => ?_)
      refine g_iastoreG hx hb hKn hS h dX4_play_119 (fun G119 h H locs hS => ?_)
      refine g_iinc (l1 := [(5, .inl (v5 + 1)), (0, .inr (.inr (some t))), (4, .inl v4)]) (v := (v5 + 1)) hx hb hl (k := 2) rfl (by rfl) (by decide) rfl dX4_play_120 (fun ls hl => ?_)
      refine lv_goto (tgt := 70) hx hb dX4_play_123 (by decide) ?_
      exact ih _ _ _ _ _ h _ _ _ _ _ hS (gls_sub hl [1, 2, 0] rfl)
theorem sX4_play_b24 {p : Program} {l : Launch} {e : Env} {R : Room} {s : State} {m : MethodId} {args : Array Value} {below : List Frame} {meth : Method} {c : Code} {E : g_E} {D : g_D} (C : gC p R s m args meth c cX4_play 6 RX4 "play" (some .int) 11 310 E D) : ∀ (n : Nat) (t : Nat) (v1 : Int32) (v2 : Int64) (v4 : Int32) (G : g_G) (q : Int32 × g_G), fX4_play_b24 E n t v1 v2 v4 G = some q → ∀ (H : Heap) (locs : List Loc) (cells slots : Nat) (ls : Array Slot), gSt E D G H locs → gls ls 6 [(0, .inr (.inr (some t))), (1, .inl v1), (2, .inr (.inl v2)), (4, .inl v4)] → gT p l e R s m args below meth c E D H locs cells slots (some (.int q.1)) q.2 (F0 m 24 ls []) := by
  obtain ⟨hx, hb, hml, hown, hts, hKn, hRc, hRs, hc1, hc2, hRf, hRl, hr, hlk, hnm⟩ := id C
  intro n
  induction n with
  | zero =>
    intro t v1 v2 v4 G q h
    exact g_no h
  | succ n ih =>
    intro t v1 v2 v4 G q h H locs cells slots ls hS hl
    rw [fX4_play_b24] at h
    refine g_iload hx hb hl 3 rfl dX4_play_24 ?_
    refine g_iload_n hx hb hl 1 rfl dX4_play_26 ?_
    refine lv_icmp_ge (tgt := 59) hx hb dX4_play_27 (by decide) (fun c_27 => ?_) (fun c_27 => ?_)
    · have h := g_ift c_27 h
      refine g_aload_n hx hb hl 0 rfl dX4_play_59 ?_
      refine g_iload_n hx hb hl 1 rfl dX4_play_60 ?_
      refine g_lload_n hx hb hl 2 rfl dX4_play_61 ?_
      obtain ⟨b62, hb62, h⟩ := g_bnd h
      obtain ⟨hr62, hk62⟩ := g_chk hb62
      obtain ⟨z62, h62, h⟩ := g_bnd h
      refine g_callV (n := 2) (b := b62) (av := [.inl v1, .inr (.inl v2)]) (rs := []) hx hb hml hown hts hKn hRc hRs hS hl (sX4_run l E D h62) (lw_V q2412 q2414 qs108 q135 q2415) ⟨rfl, by decide, by decide, by decide +kernel⟩ ⟨by rw [hRf]; exact Nat.le_of_ble_eq_true rfl, by rw [hRl]; exact Nat.le_of_ble_eq_true rfl⟩ (g_recv hKn hS hk62 (by decide) (by decide)) rfl (by rw [hr62]; rfl) (Nat.le_of_ble_eq_true rfl) dX4_play_62 (fun H locs cells slots hS => ?_)
      refine g_istore (l1 := [(4, .inl z62.1), (0, .inr (.inr (some t))), (1, .inl v1), (2, .inr (.inl v2))]) hx hb hl (by decide) rfl dX4_play_65 (fun ls hl => ?_)
      refine lv_iconst (v := 0) hx hb dX4_play_67 (by decide) ?_
      refine g_istore (l1 := [(5, .inl 0), (4, .inl z62.1), (0, .inr (.inr (some t))), (1, .inl v1), (2, .inr (.inl v2))]) hx hb hl (by decide) rfl dX4_play_68 (fun ls hl => ?_)
      exact sX4_play_b70 C gFU _ _ _ _ _ h _ _ _ _ _ hS (gls_sub hl [2, 1, 0] rfl)
    · have h := g_iff c_27 h
      refine g_lload_n hx hb hl 2 rfl dX4_play_30 ?_
      refine lv_iconst (v := 4) hx hb dX4_play_31 (by decide) ?_
      refine g_iload hx hb hl 3 rfl dX4_play_32 ?_
      refine lv_imul hx hb dX4_play_34 ?_
      refine lv_lshr (v := (v2 >>> (Int32.toInt64 (4 * v4) &&& 63))) hx hb dX4_play_35 rfl ?_
      refine lv_l2i (v := (Int64.toInt32 (v2 >>> (Int32.toInt64 (4 * v4) &&& 63)))) hx hb dX4_play_36 rfl ?_
      refine lv_bipush (v := 15) hx hb dX4_play_37 (by decide) ?_
      refine lv_iand hx hb dX4_play_39 ?_
      refine g_aload_n hx hb hl 0 rfl dX4_play_40 ?_
      refine g_rdI hx hb hown hts hKn hS h fd_4_4_3 rfl (Or.inl (hts _ q1868)) (fun _ z => z) dX4_play_41 (fun x41 h => ?_)
      refine lv_icmp_lt (tgt := 53) hx hb dX4_play_44 (by decide) (fun c_44 => ?_) (fun c_44 => ?_)
      · have h := g_ift c_44 h
        refine g_iinc (l1 := [(4, .inl (v4 + 1)), (0, .inr (.inr (some t))), (1, .inl v1), (2, .inr (.inl v2))]) (v := (v4 + 1)) hx hb hl (k := 3) rfl (by rfl) (by decide) rfl dX4_play_53 (fun ls hl => ?_)
        refine lv_goto (tgt := 24) hx hb dX4_play_56 (by decide) ?_
        exact ih _ _ _ _ _ _ h _ _ _ _ _ hS (gls_sub hl [1, 2, 3, 0] rfl)
      · have h := g_iff c_44 h
        refine g_aload_n hx hb hl 0 rfl dX4_play_47 ?_
        refine lv_iconst (v := 1) hx hb dX4_play_48 (by decide) ?_
        obtain ⟨b49, hb49, h⟩ := g_bnd h
        obtain ⟨hr49, hk49⟩ := g_chk hb49
        obtain ⟨z49, h49, h⟩ := g_bnd h
        refine g_callV (n := 1) (b := b49) (av := [.inl 1]) (rs := []) hx hb hml hown hts hKn hRc hRs hS hl (sX4_fail l E D h49) (lw_V q2088 q2090 qs48 q135 q2091) ⟨rfl, by decide, by decide, by decide +kernel⟩ ⟨by rw [hRf]; exact Nat.le_of_ble_eq_true rfl, by rw [hRl]; exact Nat.le_of_ble_eq_true rfl⟩ (g_recv hKn hS hk49 (by decide) (by decide)) rfl (by rw [hr49]; rfl) (Nat.le_of_ble_eq_true rfl) dX4_play_49 (fun H locs cells slots hS => ?_)
        exact g_iretG hx hb hr hlk hKn hRc hRs hS h dX4_play_52
theorem sX4_play (l : Launch) (E : g_E) (D : g_D) {t : Nat} {v1 : Int32} {v2 : Int64} {G : g_G} {q : Int32 × g_G} (h : fX4_play E t v1 v2 G = some q) : gMet l E D yX4_play (ws_ yX4_play cX4_play 6 (some .int)) 11 310 [.inr (.inr (some t)), .inl v1, .inr (.inl v2)] G (some (.int q.1)) q.2 := by
  refine gMet.of (by decide +kernel) (Nat.le_of_ble_eq_true rfl) ?_
  intro p e R s m args below meth c C hS ls hl
  have C : gC p R s m args meth c cX4_play 6 RX4 "play" (some .int) 11 310 E D := C
  obtain ⟨hx, hb, hml, hown, hts, hKn, hRc, hRs, hc1, hc2, hRf, hRl, hr, hlk, hnm⟩ := id C
  have hl : gls ls 6 [(0, .inr (.inr (some t))), (1, .inl v1), (2, .inr (.inl v2))] := hl
  generalize s.heap = H at hS ⊢
  unfold fX4_play at h
  refine g_aload_n hx hb hl 0 rfl dX4_play_0 ?_
  refine lv_iconst (v := 0) hx hb dX4_play_1 (by decide) ?_
  refine g_ptI hx hb hown hts hKn hS h fd_4_4_2 (Or.inl (hts _ q1867)) (fun _ z => z) (fun z => nomatch z) dX4_play_2 (fun G2 h H locs hS => ?_)
  refine g_iload_n hx hb hl 1 rfl dX4_play_5 ?_
  refine lv_iconst (v := 0) hx hb dX4_play_6 (by decide) ?_
  refine lv_bipush (v := 16) hx hb dX4_play_7 (by decide) ?_
  obtain ⟨z9, h9, h⟩ := g_bnd h
  refine g_callS (n := 3) (av := [.inl v1, .inl 0, .inl 16]) (rs := []) hx hb hml hown hts hKn hRc hRs hS hl (sX4_isIn l E D h9) (lw_S q2180 q2181 q135 q2182) ⟨by decide, by decide, by decide +kernel⟩ ⟨by rw [hRf]; exact Nat.le_of_ble_eq_true rfl, by rw [hRl]; exact Nat.le_of_ble_eq_true rfl⟩ rfl rfl (Nat.le_of_ble_eq_true rfl) dX4_play_9 (fun H locs cells slots hS => ?_)
  refine lv_if_ne (tgt := 21) hx hb dX4_play_12 (by decide) (fun c_12 => ?_) (fun c_12 => ?_)
  · have h := g_ift c_12 h
    refine lv_iconst (v := 0) hx hb dX4_play_21 (by decide) ?_
    refine g_istore (l1 := [(4, .inl 0), (0, .inr (.inr (some t))), (1, .inl v1), (2, .inr (.inl v2))]) hx hb hl (by decide) rfl dX4_play_22 (fun ls hl => ?_)
    exact sX4_play_b24 C gFU _ _ _ _ _ _ h _ _ _ _ _ hS (gls_sub hl [1, 2, 3, 0] rfl)
  · have h := g_iff (fun z => z c_12) h
    refine g_aload_n hx hb hl 0 rfl dX4_play_15 ?_
    refine lv_iconst (v := 1) hx hb dX4_play_16 (by decide) ?_
    obtain ⟨b17, hb17, h⟩ := g_bnd h
    obtain ⟨hr17, hk17⟩ := g_chk hb17
    obtain ⟨z17, h17, h⟩ := g_bnd h
    refine g_callV (n := 1) (b := b17) (av := [.inl 1]) (rs := []) hx hb hml hown hts hKn hRc hRs hS hl (sX4_fail l E D h17) (lw_V q2088 q2090 qs48 q135 q2091) ⟨rfl, by decide, by decide, by decide +kernel⟩ ⟨by rw [hRf]; exact Nat.le_of_ble_eq_true rfl, by rw [hRl]; exact Nat.le_of_ble_eq_true rfl⟩ (g_recv hKn hS hk17 (by decide) (by decide)) rfl (by rw [hr17]; rfl) (Nat.le_of_ble_eq_true rfl) dX4_play_17 (fun H locs cells slots hS => ?_)
    exact g_iretG hx hb hr hlk hKn hRc hRs hS h dX4_play_20
