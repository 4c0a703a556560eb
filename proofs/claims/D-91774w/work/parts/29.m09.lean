set_option maxRecDepth 100000
/-- SendHall$Reader.is(Ljava/lang/String;)Z -/
def fX5_is_b20 (E : g_E) (t : Nat) (v1 : Option Nat) (G : g_G) : Option (Int32 × g_G) :=
  (grR G 5 5 (some t) 9).bind fun x21 =>
  (gchk G 19 x21).bind fun b25 =>
  (fJ9_equals E b25 v1 G).bind fun z25 =>
  if z25.1 = 0 then (
    if (0 : Int32) = 0 ∨ (0 : Int32) = 1 then some (0, z25.2) else none)
  else (
    if (1 : Int32) = 0 ∨ (1 : Int32) = 1 then some (1, z25.2) else none)
def fX5_is (E : g_E) (t : Nat) (v1 : Option Nat) (G : g_G) : Option (Int32 × g_G) :=
  (grR G 5 5 (some t) 8).bind fun x1 =>
  if x1 = (some (gA E 1)) then (
    fX5_is_b20 E t v1 G)
  else (
    (grR G 5 5 (some t) 8).bind fun x11 =>
    if ¬ x11 = (some (gA E 3)) then (
      if (0 : Int32) = 0 ∨ (0 : Int32) = 1 then some (0, G) else none)
    else (
      fX5_is_b20 E t v1 G))
theorem sX5_is_b20 {p : Program} {l : Launch} {e : Env} {R : Room} {s : State} {m : MethodId} {args : Array Value} {below : List Frame} {meth : Method} {c : Code} {E : g_E} {D : g_D} (C : gC p R s m args meth c cX5_is 2 RX5 "is" (some .boolean) 3 108 E D) : ∀ (t : Nat) (v1 : Option Nat) (G : g_G) (q : Int32 × g_G), fX5_is_b20 E t v1 G = some q → ∀ (H : Heap) (locs : List Loc) (cells slots : Nat) (ls : Array Slot), gSt E D G H locs → gls ls 2 [(0, .inr (.inr (some t))), (1, .inr (.inr v1))] → gT p l e R s m args below meth c E D H locs cells slots (some (.int q.1)) q.2 (F0 m 20 ls []) := by
  obtain ⟨hx, hb, hml, hown, hts, hKn, hRc, hRs, hc1, hc2, hRf, hRl, hr, hlk, hnm⟩ := id C
  intro t v1 G q h H locs cells slots ls hS hl
  unfold fX5_is_b20 at h
  refine g_aload_n hx hb hl 0 rfl dX5_is_20 ?_
  refine g_rdR hx hb hown hts hKn hS h fd_5_5_9 rfl (Or.inl (hts _ q1242)) (fun _ z => z) dX5_is_21 (fun x21 h => ?_)
  refine g_aload_n hx hb hl 1 rfl dX5_is_24 ?_
  obtain ⟨b25, hb25, h⟩ := g_bnd h
  obtain ⟨hr25, hk25⟩ := g_chk hb25
  obtain ⟨z25, h25, h⟩ := g_bnd h
  refine g_callV (n := 1) (b := b25) (av := [.inr (.inr v1)]) (rs := []) hx hb hml hown hts hKn hRc hRs hS hl (sJ9_equals l E D h25) (lw_V q1345 q1346 q1347 q124 q1348) ⟨rfl, by decide, by decide, by decide +kernel⟩ ⟨by rw [hRf]; exact Nat.le_of_ble_eq_true rfl, by rw [hRl]; exact Nat.le_of_ble_eq_true rfl⟩ (g_recv hKn hS hk25 (by decide) (by decide)) rfl (by rw [hr25]; rfl) (Nat.le_of_ble_eq_true rfl) dX5_is_25 (fun H locs cells slots hS => ?_)
  refine lv_if_eq (tgt := 35) hx hb dX5_is_28 (by decide) (fun c_28 => ?_) (fun c_28 => ?_)
  · have h := g_ift c_28 h
    refine lv_iconst (v := 0) hx hb dX5_is_35 (by decide) ?_
    exact g_zretG hx hb hr hlk hKn hRc hRs hS h dX5_is_36
  · have h := g_iff c_28 h
    refine lv_iconst (v := 1) hx hb dX5_is_31 (by decide) ?_
    refine lv_goto (tgt := 36) hx hb dX5_is_32 (by decide) ?_
    exact g_zretG hx hb hr hlk hKn hRc hRs hS h dX5_is_36
theorem sX5_is (l : Launch) (E : g_E) (D : g_D) {t : Nat} {v1 : Option Nat} {G : g_G} {q : Int32 × g_G} (h : fX5_is E t v1 G = some q) : gMet l E D yX5_is (ws_ yX5_is cX5_is 2 (some .boolean)) 3 108 [.inr (.inr (some t)), .inr (.inr v1)] G (some (.int q.1)) q.2 := by
  refine gMet.of (by decide +kernel) (Nat.le_of_ble_eq_true rfl) ?_
  intro p e R s m args below meth c C hS ls hl
  have C : gC p R s m args meth c cX5_is 2 RX5 "is" (some .boolean) 3 108 E D := C
  obtain ⟨hx, hb, hml, hown, hts, hKn, hRc, hRs, hc1, hc2, hRf, hRl, hr, hlk, hnm⟩ := id C
  have hl : gls ls 2 [(0, .inr (.inr (some t))), (1, .inr (.inr v1))] := hl
  generalize s.heap = H at hS ⊢
  unfold fX5_is at h
  refine g_aload_n hx hb hl 0 rfl dX5_is_0 ?_
  refine g_rdR hx hb hown hts hKn hS h fd_5_5_8 rfl (Or.inl (hts _ q1241)) (fun _ z => z) dX5_is_1 (fun x1 h => ?_)
  refine g_getsZ (C := "SendHall$Sort") (n := "WORD") (d := "LSendHall$Sort;") (v := va_rf (some (gA E 1))) hx hb hown (hKn.2.2.2.2.2.2.1 _ (List.mem_of_getElem? (i := 0) rfl)) hS (hts _ q1157) (fun _ z => z) dX5_is_4 ?_
  refine lv_acmp_eq (tgt := 20) hx hb dX5_is_7 (by decide) (fun c_7 => ?_) (fun c_7 => ?_)
  · have h := g_ift c_7 h
    exact sX5_is_b20 C _ _ _ _ h _ _ _ _ _ hS (gls_sub hl [0, 1] rfl)
  · have h := g_iff c_7 h
    refine g_aload_n hx hb hl 0 rfl dX5_is_10 ?_
    refine g_rdR hx hb hown hts hKn hS h fd_5_5_8 rfl (Or.inl (hts _ q1241)) (fun _ z => z) dX5_is_11 (fun x11 h => ?_)
    refine g_getsZ (C := "SendHall$Sort") (n := "SIGN") (d := "LSendHall$Sort;") (v := va_rf (some (gA E 3))) hx hb hown (hKn.2.2.2.2.2.2.1 _ (List.mem_of_getElem? (i := 2) rfl)) hS (hts _ q1215) (fun _ z => z) dX5_is_14 ?_
    refine lv_acmp_ne (tgt := 35) hx hb dX5_is_17 (by decide) (fun c_17 => ?_) (fun c_17 => ?_)
    · have h := g_ift c_17 h
      refine lv_iconst (v := 0) hx hb dX5_is_35 (by decide) ?_
      exact g_zretG hx hb hr hlk hKn hRc hRs hS h dX5_is_36
    · have h := g_iff (fun z => z c_17) h
      exact sX5_is_b20 C _ _ _ _ h _ _ _ _ _ hS (gls_sub hl [0, 1] rfl)
/-- SendHall$Reader.isDigit(I)Z -/
def fX5_isDigit (E : g_E) (v0 : Int32) (G : g_G) : Option (Int32 × g_G) :=
  if v0 < (48 : Int32) then (
    if (0 : Int32) = 0 ∨ (0 : Int32) = 1 then some (0, G) else none)
  else (
    if (57 : Int32) < v0 then (
      if (0 : Int32) = 0 ∨ (0 : Int32) = 1 then some (0, G) else none)
    else (
      if (1 : Int32) = 0 ∨ (1 : Int32) = 1 then some (1, G) else none))
theorem sX5_isDigit (l : Launch) (E : g_E) (D : g_D) {v0 : Int32} {G : g_G} {q : Int32 × g_G} (h : fX5_isDigit E v0 G = some q) : gMet l E D yX5_isDigit (ws_ yX5_isDigit cX5_isDigit 1 (some .boolean)) 1 64 [.inl v0] G (some (.int q.1)) q.2 := by
  refine gMet.of (by decide +kernel) (Nat.le_of_ble_eq_true rfl) ?_
  intro p e R s m args below meth c C hS ls hl
  have C : gC p R s m args meth c cX5_isDigit 1 RX5 "isDigit" (some .boolean) 1 64 E D := C
  obtain ⟨hx, hb, hml, hown, hts, hKn, hRc, hRs, hc1, hc2, hRf, hRl, hr, hlk, hnm⟩ := id C
  have hl : gls ls 1 [(0, .inl v0)] := hl
  generalize s.heap = H at hS ⊢
  unfold fX5_isDigit at h
  refine g_iload_n hx hb hl 0 rfl dX5_isDigit_0 ?_
  refine lv_bipush (v := 48) hx hb dX5_isDigit_1 (by decide) ?_
  refine lv_icmp_lt (tgt := 16) hx hb dX5_isDigit_3 (by decide) (fun c_3 => ?_) (fun c_3 => ?_)
  · have h := g_ift c_3 h
    refine lv_iconst (v := 0) hx hb dX5_isDigit_16 (by decide) ?_
    exact g_zretG hx hb hr hlk hKn hRc hRs hS h dX5_isDigit_17
  · have h := g_iff c_3 h
    refine g_iload_n hx hb hl 0 rfl dX5_isDigit_6 ?_
    refine lv_bipush (v := 57) hx hb dX5_isDigit_7 (by decide) ?_
    refine lv_icmp_gt (tgt := 16) hx hb dX5_isDigit_9 (by decide) (fun c_9 => ?_) (fun c_9 => ?_)
    · have h := g_ift c_9 h
      refine lv_iconst (v := 0) hx hb dX5_isDigit_16 (by decide) ?_
      exact g_zretG hx hb hr hlk hKn hRc hRs hS h dX5_isDigit_17
    · have h := g_iff c_9 h
      refine lv_iconst (v := 1) hx hb dX5_isDigit_12 (by decide) ?_
      refine lv_goto (tgt := 17) hx hb dX5_isDigit_13 (by decide) ?_
      exact g_zretG hx hb hr hlk hKn hRc hRs hS h dX5_isDigit_17
/-- SendHall$Reader.isLetter(I)Z -/
def fX5_isLetter (E : g_E) (v0 : Int32) (G : g_G) : Option (Int32 × g_G) :=
  if v0 < (97 : Int32) then (
    if (0 : Int32) = 0 ∨ (0 : Int32) = 1 then some (0, G) else none)
  else (
    if (122 : Int32) < v0 then (
      if (0 : Int32) = 0 ∨ (0 : Int32) = 1 then some (0, G) else none)
    else (
      if (1 : Int32) = 0 ∨ (1 : Int32) = 1 then some (1, G) else none))
theorem sX5_isLetter (l : Launch) (E : g_E) (D : g_D) {v0 : Int32} {G : g_G} {q : Int32 × g_G} (h : fX5_isLetter E v0 G = some q) : gMet l E D yX5_isLetter (ws_ yX5_isLetter cX5_isLetter 1 (some .boolean)) 1 64 [.inl v0] G (some (.int q.1)) q.2 := by
  refine gMet.of (by decide +kernel) (Nat.le_of_ble_eq_true rfl) ?_
  intro p e R s m args below meth c C hS ls hl
  have C : gC p R s m args meth c cX5_isLetter 1 RX5 "isLetter" (some .boolean) 1 64 E D := C
  obtain ⟨hx, hb, hml, hown, hts, hKn, hRc, hRs, hc1, hc2, hRf, hRl, hr, hlk, hnm⟩ := id C
  have hl : gls ls 1 [(0, .inl v0)] := hl
  generalize s.heap = H at hS ⊢
  unfold fX5_isLetter at h
  refine g_iload_n hx hb hl 0 rfl dX5_isLetter_0 ?_
  refine lv_bipush (v := 97) hx hb dX5_isLetter_1 (by decide) ?_
  refine lv_icmp_lt (tgt := 16) hx hb dX5_isLetter_3 (by decide) (fun c_3 => ?_) (fun c_3 => ?_)
  · have h := g_ift c_3 h
    refine lv_iconst (v := 0) hx hb dX5_isLetter_16 (by decide) ?_
    exact g_zretG hx hb hr hlk hKn hRc hRs hS h dX5_isLetter_17
  · have h := g_iff c_3 h
    refine g_iload_n hx hb hl 0 rfl dX5_isLetter_6 ?_
    refine lv_bipush (v := 122) hx hb dX5_isLetter_7 (by decide) ?_
    refine lv_icmp_gt (tgt := 16) hx hb dX5_isLetter_9 (by decide) (fun c_9 => ?_) (fun c_9 => ?_)
    · have h := g_ift c_9 h
      refine lv_iconst (v := 0) hx hb dX5_isLetter_16 (by decide) ?_
      exact g_zretG hx hb hr hlk hKn hRc hRs hS h dX5_isLetter_17
    · have h := g_iff c_9 h
      refine lv_iconst (v := 1) hx hb dX5_isLetter_12 (by decide) ?_
      refine lv_goto (tgt := 17) hx hb dX5_isLetter_13 (by decide) ?_
      exact g_zretG hx hb hr hlk hKn hRc hRs hS h dX5_isLetter_17
/-- SendHall$Reader.links(Ljava/util/ArrayList;LSendHall$Step;)LSendHall$Step; -/
def fX5_links_b42 (E : g_E) (k2 : (Option Nat) → (Option Nat) → Int32 → g_G → Option (Option Nat × g_G)) (v0 : Option Nat) (v1 : Option Nat) (v2 : Int32) (s0 : Option Nat) (s1 : Option Nat) (G : g_G) : Option (Option Nat × g_G) :=
  (gpR E G 11 16 s0 2 s1).bind fun G42 =>
  k2 v0 v1 (v2 + 1) G42
def fX5_links_b2 (E : g_E) : Nat → (Option Nat) → (Option Nat) → Int32 → g_G → Option (Option Nat × g_G)
  | 0, _, _, _, _ => none
  | n + 1, v0, v1, v2, G =>
    (gchk G 17 v0).bind fun b4 =>
    (fJ2_size E b4 G).bind fun z4 =>
    if z4.1 ≤ v2 then (
      (gchk z4.2 17 v0).bind fun b52 =>
      (fJ2_isEmpty E b52 z4.2).bind fun z52 =>
      if z52.1 = 0 then (
        (gchk z52.2 17 v0).bind fun b64 =>
        (fJ2_get E b64 0 z52.2).bind fun z64 =>
        (gcast z64.2 11 16 z64.1).bind fun x67 =>
        some (x67, z64.2))
      else (
        some (v1, z52.2)))
    else (
      (gchk z4.2 17 v0).bind fun b12 =>
      (fJ2_get E b12 v2 z4.2).bind fun z12 =>
      (gcast z12.2 11 16 z12.1).bind fun x15 =>
      (gchk z12.2 17 v0).bind fun b22 =>
      (fJ2_size E b22 z12.2).bind fun z22 =>
      if z22.1 ≤ (v2 + 1) then (
        fX5_links_b42 E (fX5_links_b2 E n) v0 v1 v2 x15 v1 z22.2)
      else (
        (gchk z22.2 17 v0).bind fun b32 =>
        (fJ2_get E b32 (v2 + 1) z22.2).bind fun z32 =>
        (gcast z32.2 11 16 z32.1).bind fun x35 =>
        fX5_links_b42 E (fX5_links_b2 E n) v0 v1 v2 x15 x35 z32.2))
def fX5_links (E : g_E) (v0 : Option Nat) (v1 : Option Nat) (G : g_G) : Option (Option Nat × g_G) :=
  fX5_links_b2 E gFU v0 v1 0 G
theorem sX5_links_b42 {p : Program} {l : Launch} {e : Env} {R : Room} {s : State} {m : MethodId} {args : Array Value} {below : List Frame} {meth : Method} {c : Code} {E : g_E} {D : g_D} (C : gC p R s m args meth c cX5_links 3 RX5 "links" (some (.object "SendHall$Step")) 4 128 E D) {k2 : (Option Nat) → (Option Nat) → Int32 → g_G → Option (Option Nat × g_G)} (hk2 : ∀ (v0 : Option Nat) (v1 : Option Nat) (v2 : Int32) (G : g_G) (q : Option Nat × g_G), k2 v0 v1 v2 G = some q → ∀ (H : Heap) (locs : List Loc) (cells slots : Nat) (ls : Array Slot), gSt E D G H locs → gls ls 3 [(0, .inr (.inr v0)), (1, .inr (.inr v1)), (2, .inl v2)] → gT p l e R s m args below meth c E D H locs cells slots (some (va_rf q.1)) q.2 (F0 m 2 ls [])) : ∀ (v0 : Option Nat) (v1 : Option Nat) (v2 : Int32) (s0 : Option Nat) (s1 : Option Nat) (G : g_G) (q : Option Nat × g_G), fX5_links_b42 E k2 v0 v1 v2 s0 s1 G = some q → ∀ (H : Heap) (locs : List Loc) (cells slots : Nat) (ls : Array Slot), gSt E D G H locs → gls ls 3 [(0, .inr (.inr v0)), (1, .inr (.inr v1)), (2, .inl v2)] → gT p l e R s m args below meth c E D H locs cells slots (some (va_rf q.1)) q.2 (F0 m 42 ls [va_rf s1, va_rf s0]) := by
  obtain ⟨hx, hb, hml, hown, hts, hKn, hRc, hRs, hc1, hc2, hRf, hRl, hr, hlk, hnm⟩ := id C
  intro v0 v1 v2 s0 s1 G q h H locs cells slots ls hS hl
  unfold fX5_links_b42 at h
  refine g_ptR hx hb hown hts hKn hS h fd_11_16_2 rfl (Or.inl (hts _ q1441)) (fun _ z => z) (fun z => nomatch z) dX5_links_42 (fun G42 h H locs hS => ?_)
  refine g_iinc (l1 := [(2, .inl (v2 + 1)), (0, .inr (.inr v0)), (1, .inr (.inr v1))]) (v := (v2 + 1)) hx hb hl (k := 2) rfl (by rfl) (by decide) rfl dX5_links_45 (fun ls hl => ?_)
  refine lv_goto (tgt := 2) hx hb dX5_links_48 (by decide) ?_
  exact hk2 _ _ _ _ _ h _ _ _ _ _ hS (gls_sub hl [1, 2, 0] rfl)
theorem sX5_links_b2 {p : Program} {l : Launch} {e : Env} {R : Room} {s : State} {m : MethodId} {args : Array Value} {below : List Frame} {meth : Method} {c : Code} {E : g_E} {D : g_D} (C : gC p R s m args meth c cX5_links 3 RX5 "links" (some (.object "SendHall$Step")) 4 128 E D) : ∀ (n : Nat) (v0 : Option Nat) (v1 : Option Nat) (v2 : Int32) (G : g_G) (q : Option Nat × g_G), fX5_links_b2 E n v0 v1 v2 G = some q → ∀ (H : Heap) (locs : List Loc) (cells slots : Nat) (ls : Array Slot), gSt E D G H locs → gls ls 3 [(0, .inr (.inr v0)), (1, .inr (.inr v1)), (2, .inl v2)] → gT p l e R s m args below meth c E D H locs cells slots (some (va_rf q.1)) q.2 (F0 m 2 ls []) := by
  obtain ⟨hx, hb, hml, hown, hts, hKn, hRc, hRs, hc1, hc2, hRf, hRl, hr, hlk, hnm⟩ := id C
  intro n
  induction n with
  | zero =>
    intro v0 v1 v2 G q h
    exact g_no h
  | succ n ih =>
    intro v0 v1 v2 G q h H locs cells slots ls hS hl
    rw [fX5_links_b2] at h
    refine g_iload_n hx hb hl 2 rfl dX5_links_2 ?_
    refine g_aload_n hx hb hl 0 rfl dX5_links_3 ?_
    obtain ⟨b4, hb4, h⟩ := g_bnd h
    obtain ⟨hr4, hk4⟩ := g_chk hb4
    obtain ⟨z4, h4, h⟩ := g_bnd h
    refine g_callV (n := 0) (b := b4) (av := []) (rs := [.inl v2]) hx hb hml hown hts hKn hRc hRs hS hl (sJ2_size l E D h4) (lw_V q1362 q782 q783 q117 q784) ⟨rfl, by decide, by decide, by decide +kernel⟩ ⟨by rw [hRf]; exact Nat.le_of_ble_eq_true rfl, by rw [hRl]; exact Nat.le_of_ble_eq_true rfl⟩ (g_recv hKn hS hk4 (by decide) (by decide)) rfl (by rw [hr4]; rfl) (Nat.le_of_ble_eq_true rfl) dX5_links_4 (fun H locs cells slots hS => ?_)
    refine lv_icmp_ge (tgt := 51) hx hb dX5_links_7 (by decide) (fun c_7 => ?_) (fun c_7 => ?_)
    · have h := g_ift c_7 h
      refine g_aload_n hx hb hl 0 rfl dX5_links_51 ?_
      obtain ⟨b52, hb52, h⟩ := g_bnd h
      obtain ⟨hr52, hk52⟩ := g_chk hb52
      obtain ⟨z52, h52, h⟩ := g_bnd h
      refine g_callV (n := 0) (b := b52) (av := []) (rs := []) hx hb hml hown hts hKn hRc hRs hS hl (sJ2_isEmpty l E D h52) (lw_V q1708 q1076 q1077 q117 q1078) ⟨rfl, by decide, by decide, by decide +kernel⟩ ⟨by rw [hRf]; exact Nat.le_of_ble_eq_true rfl, by rw [hRl]; exact Nat.le_of_ble_eq_true rfl⟩ (g_recv hKn hS hk52 (by decide) (by decide)) rfl (by rw [hr52]; rfl) (Nat.le_of_ble_eq_true rfl) dX5_links_52 (fun H locs cells slots hS => ?_)
      refine lv_if_eq (tgt := 62) hx hb dX5_links_55 (by decide) (fun c_55 => ?_) (fun c_55 => ?_)
      · have h := g_ift c_55 h
        refine g_aload_n hx hb hl 0 rfl dX5_links_62 ?_
        refine lv_iconst (v := 0) hx hb dX5_links_63 (by decide) ?_
        obtain ⟨b64, hb64, h⟩ := g_bnd h
        obtain ⟨hr64, hk64⟩ := g_chk hb64
        obtain ⟨z64, h64, h⟩ := g_bnd h
        refine g_callV (n := 1) (b := b64) (av := [.inl 0]) (rs := []) hx hb hml hown hts hKn hRc hRs hS hl (sJ2_get l E D h64) (lw_V q1706 q759 q760 q117 q761) ⟨rfl, by decide, by decide, by decide +kernel⟩ ⟨by rw [hRf]; exact Nat.le_of_ble_eq_true rfl, by rw [hRl]; exact Nat.le_of_ble_eq_true rfl⟩ (g_recv hKn hS hk64 (by decide) (by decide)) rfl (by rw [hr64]; rfl) (Nat.le_of_ble_eq_true rfl) dX5_links_64 (fun H locs cells slots hS => ?_)
        refine g_castY (lo := 11) (hi := 16) (C := "SendHall$Step") hx hb hown hKn hS h (by decide) (by decide) (hts _ q1707) ct_11_16 dX5_links_67 (fun x67 h => ?_)
        exact g_aretG hx hb hr (by first | exact Or.inl ⟨_, rfl⟩ | exact Or.inr ⟨_, rfl⟩) hlk hKn hRc hRs hS h dX5_links_70
      · have h := g_iff c_55 h
        refine g_aload_n hx hb hl 1 rfl dX5_links_58 ?_
        refine lv_goto (tgt := 70) hx hb dX5_links_59 (by decide) ?_
        exact g_aretG hx hb hr (by first | exact Or.inl ⟨_, rfl⟩ | exact Or.inr ⟨_, rfl⟩) hlk hKn hRc hRs hS h dX5_links_70
    · have h := g_iff c_7 h
      refine g_aload_n hx hb hl 0 rfl dX5_links_10 ?_
      refine g_iload_n hx hb hl 2 rfl dX5_links_11 ?_
      obtain ⟨b12, hb12, h⟩ := g_bnd h
      obtain ⟨hr12, hk12⟩ := g_chk hb12
      obtain ⟨z12, h12, h⟩ := g_bnd h
      refine g_callV (n := 1) (b := b12) (av := [.inl v2]) (rs := []) hx hb hml hown hts hKn hRc hRs hS hl (sJ2_get l E D h12) (lw_V q1706 q759 q760 q117 q761) ⟨rfl, by decide, by decide, by decide +kernel⟩ ⟨by rw [hRf]; exact Nat.le_of_ble_eq_true rfl, by rw [hRl]; exact Nat.le_of_ble_eq_true rfl⟩ (g_recv hKn hS hk12 (by decide) (by decide)) rfl (by rw [hr12]; rfl) (Nat.le_of_ble_eq_true rfl) dX5_links_12 (fun H locs cells slots hS => ?_)
      refine g_castY (lo := 11) (hi := 16) (C := "SendHall$Step") hx hb hown hKn hS h (by decide) (by decide) (hts _ q1707) ct_11_16 dX5_links_15 (fun x15 h => ?_)
      refine g_iload_n hx hb hl 2 rfl dX5_links_18 ?_
      refine lv_iconst (v := 1) hx hb dX5_links_19 (by decide) ?_
      refine lv_iadd hx hb dX5_links_20 ?_
      refine g_aload_n hx hb hl 0 rfl dX5_links_21 ?_
      obtain ⟨b22, hb22, h⟩ := g_bnd h
      obtain ⟨hr22, hk22⟩ := g_chk hb22
      obtain ⟨z22, h22, h⟩ := g_bnd h
      refine g_callV (n := 0) (b := b22) (av := []) (rs := [.inl (v2 + 1), .inr (.inr x15)]) hx hb hml hown hts hKn hRc hRs hS hl (sJ2_size l E D h22) (lw_V q1362 q782 q783 q117 q784) ⟨rfl, by decide, by decide, by decide +kernel⟩ ⟨by rw [hRf]; exact Nat.le_of_ble_eq_true rfl, by rw [hRl]; exact Nat.le_of_ble_eq_true rfl⟩ (g_recv hKn hS hk22 (by decide) (by decide)) rfl (by rw [hr22]; rfl) (Nat.le_of_ble_eq_true rfl) dX5_links_22 (fun H locs cells slots hS => ?_)
      refine lv_icmp_ge (tgt := 41) hx hb dX5_links_25 (by decide) (fun c_25 => ?_) (fun c_25 => ?_)
      · have h := g_ift c_25 h
        refine g_aload_n hx hb hl 1 rfl dX5_links_41 ?_
        exact sX5_links_b42 C ih _ _ _ _ _ _ _ h _ _ _ _ _ hS (gls_sub hl [0, 1, 2] rfl)
      · have h := g_iff c_25 h
        refine g_aload_n hx hb hl 0 rfl dX5_links_28 ?_
        refine g_iload_n hx hb hl 2 rfl dX5_links_29 ?_
        refine lv_iconst (v := 1) hx hb dX5_links_30 (by decide) ?_
        refine lv_iadd hx hb dX5_links_31 ?_
        obtain ⟨b32, hb32, h⟩ := g_bnd h
        obtain ⟨hr32, hk32⟩ := g_chk hb32
        obtain ⟨z32, h32, h⟩ := g_bnd h
        refine g_callV (n := 1) (b := b32) (av := [.inl (v2 + 1)]) (rs := [.inr (.inr x15)]) hx hb hml hown hts hKn hRc hRs hS hl (sJ2_get l E D h32) (lw_V q1706 q759 q760 q117 q761) ⟨rfl, by decide, by decide, by decide +kernel⟩ ⟨by rw [hRf]; exact Nat.le_of_ble_eq_true rfl, by rw [hRl]; exact Nat.le_of_ble_eq_true rfl⟩ (g_recv hKn hS hk32 (by decide) (by decide)) rfl (by rw [hr32]; rfl) (Nat.le_of_ble_eq_true rfl) dX5_links_32 (fun H locs cells slots hS => ?_)
        refine g_castY (lo := 11) (hi := 16) (C := "SendHall$Step") hx hb hown hKn hS h (by decide) (by decide) (hts _ q1707) ct_11_16 dX5_links_35 (fun x35 h => ?_)
        refine lv_goto (tgt := 42) hx hb dX5_links_38 (by decide) ?_
        exact sX5_links_b42 C ih _ _ _ _ _ _ _ h _ _ _ _ _ hS (gls_sub hl [0, 1, 2] rfl)
theorem sX5_links (l : Launch) (E : g_E) (D : g_D) {v0 : Option Nat} {v1 : Option Nat} {G : g_G} {q : Option Nat × g_G} (h : fX5_links E v0 v1 G = some q) : gMet l E D yX5_links (ws_ yX5_links cX5_links 3 (some (.object "SendHall$Step"))) 4 128 [.inr (.inr v0), .inr (.inr v1)] G (some (va_rf q.1)) q.2 := by
  refine gMet.of (by decide +kernel) (Nat.le_of_ble_eq_true rfl) ?_
  intro p e R s m args below meth c C hS ls hl
  have C : gC p R s m args meth c cX5_links 3 RX5 "links" (some (.object "SendHall$Step")) 4 128 E D := C
  obtain ⟨hx, hb, hml, hown, hts, hKn, hRc, hRs, hc1, hc2, hRf, hRl, hr, hlk, hnm⟩ := id C
  have hl : gls ls 3 [(0, .inr (.inr v0)), (1, .inr (.inr v1))] := hl
  generalize s.heap = H at hS ⊢
  unfold fX5_links at h
  refine lv_iconst (v := 0) hx hb dX5_links_0 (by decide) ?_
  refine g_istore_n (l1 := [(2, .inl 0), (0, .inr (.inr v0)), (1, .inr (.inr v1))]) hx hb hl (by decide) rfl dX5_links_1 (fun ls hl => ?_)
  exact sX5_links_b2 C gFU _ _ _ _ _ h _ _ _ _ _ hS (gls_sub hl [1, 2, 0] rfl)
/-- SendHall$Fault.<init>(II)V -/
def fX6_init (E : g_E) (t : Nat) (v1 : Int32) (v2 : Int32) (G : g_G) : Option (g_G) :=
  none
theorem sX6_init (l : Launch) (E : g_E) (D : g_D) (hlT : l.stackTraces = false) {t : Nat} {v1 : Int32} {v2 : Int32} {G : g_G} {q : g_G} (h : fX6_init E t v1 v2 G = some q) : gMet l E D yX6_init (ws_ yX6_init cX6_init 3 (none)) 1 64 [.inr (.inr (some t)), .inl v1, .inl v2] G none q := by
  refine gMet.of (by decide +kernel) (Nat.le_of_ble_eq_true rfl) ?_
  intro p e R s m args below meth c C hS ls hl
  have C : gC p R s m args meth c cX6_init 3 RX6 "<init>" (none) 1 64 E D := C
  obtain ⟨hx, hb, hml, hown, hts, hKn, hRc, hRs, hc1, hc2, hRf, hRl, hr, hlk, hnm⟩ := id C
  have hl : gls ls 3 [(0, .inr (.inr (some t))), (1, .inl v1), (2, .inl v2)] := hl
  generalize hH0 : s.heap = H at hS ⊢
  unfold fX6_init at h
  refine g_aload_n hx hb hl 0 rfl dX6_init_0 ?_
  exact g_no h
/-- SendHall$Step.comes(LSendHall$Life;I)LSendHall$Step; -/
def fX7_comes (E : g_E) (t : Nat) (v1 : Option Nat) (v2 : Int32) (G : g_G) : Option (Option Nat × g_G) :=
  some ((some t), G)
theorem sX7_comes (l : Launch) (E : g_E) (D : g_D) {t : Nat} {v1 : Option Nat} {v2 : Int32} {G : g_G} {q : Option Nat × g_G} (h : fX7_comes E t v1 v2 G = some q) : gMet l E D yX7_comes (ws_ yX7_comes cX7_comes 3 (some (.object "SendHall$Step"))) 1 64 [.inr (.inr (some t)), .inr (.inr v1), .inl v2] G (some (va_rf q.1)) q.2 := by
  refine gMet.of (by decide +kernel) (Nat.le_of_ble_eq_true rfl) ?_
  intro p e R s m args below meth c C hS ls hl
  have C : gC p R s m args meth c cX7_comes 3 RX7 "comes" (some (.object "SendHall$Step")) 1 64 E D := C
  obtain ⟨hx, hb, hml, hown, hts, hKn, hRc, hRs, hc1, hc2, hRf, hRl, hr, hlk, hnm⟩ := id C
  have hl : gls ls 3 [(0, .inr (.inr (some t))), (1, .inr (.inr v1)), (2, .inl v2)] := hl
  generalize s.heap = H at hS ⊢
  unfold fX7_comes at h
  refine g_aload_n hx hb hl 0 rfl dX7_comes_0 ?_
  exact g_aretG hx hb hr (by first | exact Or.inl ⟨_, rfl⟩ | exact Or.inr ⟨_, rfl⟩) hlk hKn hRc hRs hS h dX7_comes_1
/-- SendHall$Step.<init>(II)V -/
def fX7_init (E : g_E) (t : Nat) (v1 : Int32) (v2 : Int32) (G : g_G) : Option (g_G) :=
  (gpI E G 11 16 (some t) 0 v1).bind fun G6 =>
  (gpI E G6 11 16 (some t) 1 v2).bind fun G11 =>
  some G11
theorem sX7_init (l : Launch) (E : g_E) (D : g_D) {t : Nat} {v1 : Int32} {v2 : Int32} {G : g_G} {q : g_G} (h : fX7_init E t v1 v2 G = some q) : gMet l E D yX7_init (ws_ yX7_init cX7_init 3 (none)) 1 64 [.inr (.inr (some t)), .inl v1, .inl v2] G none q := by
  refine gMet.of (by decide +kernel) (Nat.le_of_ble_eq_true rfl) ?_
  intro p e R s m args below meth c C hS ls hl
  have C : gC p R s m args meth c cX7_init 3 RX7 "<init>" (none) 1 64 E D := C
  obtain ⟨hx, hb, hml, hown, hts, hKn, hRc, hRs, hc1, hc2, hRf, hRl, hr, hlk, hnm⟩ := id C
  have hl : gls ls 3 [(0, .inr (.inr (some t))), (1, .inl v1), (2, .inl v2)] := hl
  generalize s.heap = H at hS ⊢
  unfold fX7_init at h
  refine g_aload_n hx hb hl 0 rfl dX7_init_0 ?_
  refine g_objInit (rs := []) hx hb hml hown hl (hts _ q1405) (hts _ q162) (hts _ q163) rfl dX7_init_1 ⟨by rw [hRf]; exact Nat.le_of_ble_eq_true rfl, by rw [hRl]; exact Nat.le_of_ble_eq_true rfl⟩ ?_
  refine g_aload_n hx hb hl 0 rfl dX7_init_4 ?_
  refine g_iload_n hx hb hl 1 rfl dX7_init_5 ?_
  refine g_ptI hx hb hown hts hKn hS h fd_11_16_0 (Or.inl (hts _ q1418)) (fun _ z => z) (fun _ => ⟨hnm, rfl⟩) dX7_init_6 (fun G6 h H locs hS => ?_)
  refine g_aload_n hx hb hl 0 rfl dX7_init_9 ?_
  refine g_iload_n hx hb hl 2 rfl dX7_init_10 ?_
  refine g_ptI hx hb hown hts hKn hS h fd_11_16_1 (Or.inl (hts _ q1427)) (fun _ z => z) (fun _ => ⟨hnm, rfl⟩) dX7_init_11 (fun G11 h H locs hS => ?_)
  exact g_vretG hx hb hr hlk hKn hRc hRs hS h dX7_init_14
/-- SendHall$Step.isOther(LSendHall$Life;II)Z -/
def fX7_isOther (E : g_E) (v0 : Option Nat) (v1 : Int32) (v2 : Int32) (G : g_G) : Option (Int32 × g_G) :=
  if v2 < 0 then (
    if (0 : Int32) = 0 ∨ (0 : Int32) = 1 then some (0, G) else none)
  else (
    (grI G 3 3 v0 0).bind fun x6 =>
    if x6 ≤ v2 then (
      if (0 : Int32) = 0 ∨ (0 : Int32) = 1 then some (0, G) else none)
    else (
      if v2 = v1 then (
        if (0 : Int32) = 0 ∨ (0 : Int32) = 1 then some (0, G) else none)
      else (
        if (1 : Int32) = 0 ∨ (1 : Int32) = 1 then some (1, G) else none)))
theorem sX7_isOther (l : Launch) (E : g_E) (D : g_D) {v0 : Option Nat} {v1 : Int32} {v2 : Int32} {G : g_G} {q : Int32 × g_G} (h : fX7_isOther E v0 v1 v2 G = some q) : gMet l E D yX7_isOther (ws_ yX7_isOther cX7_isOther 3 (some .boolean)) 1 64 [.inr (.inr v0), .inl v1, .inl v2] G (some (.int q.1)) q.2 := by
  refine gMet.of (by decide +kernel) (Nat.le_of_ble_eq_true rfl) ?_
  intro p e R s m args below meth c C hS ls hl
  have C : gC p R s m args meth c cX7_isOther 3 RX7 "isOther" (some .boolean) 1 64 E D := C
  obtain ⟨hx, hb, hml, hown, hts, hKn, hRc, hRs, hc1, hc2, hRf, hRl, hr, hlk, hnm⟩ := id C
  have hl : gls ls 3 [(0, .inr (.inr v0)), (1, .inl v1), (2, .inl v2)] := hl
  generalize s.heap = H at hS ⊢
  unfold fX7_isOther at h
  refine g_iload_n hx hb hl 2 rfl dX7_isOther_0 ?_
  refine lv_if_lt (tgt := 21) hx hb dX7_isOther_1 (by decide) (fun c_1 => ?_) (fun c_1 => ?_)
  · have h := g_ift c_1 h
    refine lv_iconst (v := 0) hx hb dX7_isOther_21 (by decide) ?_
    exact g_zretG hx hb hr hlk hKn hRc hRs hS h dX7_isOther_22
  · have h := g_iff c_1 h
    refine g_iload_n hx hb hl 2 rfl dX7_isOther_4 ?_
    refine g_aload_n hx hb hl 0 rfl dX7_isOther_5 ?_
    refine g_rdI hx hb hown hts hKn hS h fd_3_3_0 rfl (Or.inr ⟨_, gNest_use rfl (hKn.2.2.2.2.1 _ (gNest_in q540 rfl))⟩) (fun _ z => z) dX7_isOther_6 (fun x6 h => ?_)
    refine lv_icmp_ge (tgt := 21) hx hb dX7_isOther_9 (by decide) (fun c_9 => ?_) (fun c_9 => ?_)
    · have h := g_ift c_9 h
      refine lv_iconst (v := 0) hx hb dX7_isOther_21 (by decide) ?_
      exact g_zretG hx hb hr hlk hKn hRc hRs hS h dX7_isOther_22
    · have h := g_iff c_9 h
      refine g_iload_n hx hb hl 2 rfl dX7_isOther_12 ?_
      refine g_iload_n hx hb hl 1 rfl dX7_isOther_13 ?_
      refine lv_icmp_eq (tgt := 21) hx hb dX7_isOther_14 (by decide) (fun c_14 => ?_) (fun c_14 => ?_)
      · have h := g_ift c_14 h
        refine lv_iconst (v := 0) hx hb dX7_isOther_21 (by decide) ?_
        exact g_zretG hx hb hr hlk hKn hRc hRs hS h dX7_isOther_22
      · have h := g_iff c_14 h
        refine lv_iconst (v := 1) hx hb dX7_isOther_17 (by decide) ?_
        refine lv_goto (tgt := 22) hx hb dX7_isOther_18 (by decide) ?_
        exact g_zretG hx hb hr hlk hKn hRc hRs hS h dX7_isOther_22
/-- SendHall$Talk.<init>(II)V -/
def fX8_init (E : g_E) (t : Nat) (v1 : Int32) (v2 : Int32) (G : g_G) : Option (g_G) :=
  (fX7_init E t v1 v2 G).bind fun z3 =>
  some z3
theorem sX8_init (l : Launch) (E : g_E) (D : g_D) {t : Nat} {v1 : Int32} {v2 : Int32} {G : g_G} {q : g_G} (h : fX8_init E t v1 v2 G = some q) : gMet l E D yX8_init (ws_ yX8_init cX8_init 3 (none)) 2 86 [.inr (.inr (some t)), .inl v1, .inl v2] G none q := by
  refine gMet.of (by decide +kernel) (Nat.le_of_ble_eq_true rfl) ?_
  intro p e R s m args below meth c C hS ls hl
  have C : gC p R s m args meth c cX8_init 3 RX8 "<init>" (none) 2 86 E D := C
  obtain ⟨hx, hb, hml, hown, hts, hKn, hRc, hRs, hc1, hc2, hRf, hRl, hr, hlk, hnm⟩ := id C
  have hl : gls ls 3 [(0, .inr (.inr (some t))), (1, .inl v1), (2, .inl v2)] := hl
  generalize s.heap = H at hS ⊢
  unfold fX8_init at h
  refine g_aload_n hx hb hl 0 rfl dX8_init_0 ?_
  refine g_iload_n hx hb hl 1 rfl dX8_init_1 ?_
  refine g_iload_n hx hb hl 2 rfl dX8_init_2 ?_
  obtain ⟨z3, h3, h⟩ := g_bnd h
  refine g_callI (n := 2) (av := [.inl v1, .inl v2]) (rs := []) hx hb hml hown hts hKn hRc hRs hS hl (sX7_init l E D h3) (lw_meth q1404) (hts _ q141) (hts _ q1402) (hts _ q1403) rfl ⟨by decide, by decide, by decide +kernel⟩ ⟨by rw [hRf]; exact Nat.le_of_ble_eq_true rfl, by rw [hRl]; exact Nat.le_of_ble_eq_true rfl⟩ rfl rfl (Nat.le_of_ble_eq_true rfl) dX8_init_3 (fun H locs cells slots hS => ?_)
  exact g_vretG hx hb hr hlk hKn hRc hRs hS h dX8_init_6
/-- SendHall$Send.<init>(II)V -/
def fX9_init (E : g_E) (t : Nat) (v1 : Int32) (v2 : Int32) (G : g_G) : Option (g_G) :=
  (fX8_init E t v1 v2 G).bind fun z3 =>
  (gpI E z3 15 15 (some t) 6 1).bind fun G8 =>
  some G8
theorem sX9_init (l : Launch) (E : g_E) (D : g_D) {t : Nat} {v1 : Int32} {v2 : Int32} {G : g_G} {q : g_G} (h : fX9_init E t v1 v2 G = some q) : gMet l E D yX9_init (ws_ yX9_init cX9_init 3 (none)) 3 108 [.inr (.inr (some t)), .inl v1, .inl v2] G none q := by
  refine gMet.of (by decide +kernel) (Nat.le_of_ble_eq_true rfl) ?_
  intro p e R s m args below meth c C hS ls hl
  have C : gC p R s m args meth c cX9_init 3 RX9 "<init>" (none) 3 108 E D := C
  obtain ⟨hx, hb, hml, hown, hts, hKn, hRc, hRs, hc1, hc2, hRf, hRl, hr, hlk, hnm⟩ := id C
  have hl : gls ls 3 [(0, .inr (.inr (some t))), (1, .inl v1), (2, .inl v2)] := hl
  generalize s.heap = H at hS ⊢
  unfold fX9_init at h
  refine g_aload_n hx hb hl 0 rfl dX9_init_0 ?_
  refine g_iload_n hx hb hl 1 rfl dX9_init_1 ?_
  refine g_iload_n hx hb hl 2 rfl dX9_init_2 ?_
  obtain ⟨z3, h3, h⟩ := g_bnd h
  refine g_callI (n := 2) (av := [.inl v1, .inl v2]) (rs := []) hx hb hml hown hts hKn hRc hRs hS hl (sX8_init l E D h3) (lw_meth q1401) (hts _ q142) (hts _ q1399) (hts _ q1400) rfl ⟨by decide, by decide, by decide +kernel⟩ ⟨by rw [hRf]; exact Nat.le_of_ble_eq_true rfl, by rw [hRl]; exact Nat.le_of_ble_eq_true rfl⟩ rfl rfl (Nat.le_of_ble_eq_true rfl) dX9_init_3 (fun H locs cells slots hS => ?_)
  refine g_aload_n hx hb hl 0 rfl dX9_init_6 ?_
  refine lv_iconst (v := 1) hx hb dX9_init_7 (by decide) ?_
  refine g_ptI hx hb hown hts hKn hS h fd_15_15_6 (Or.inl (hts _ q1410)) (fun _ z => z) (fun z => nomatch z) dX9_init_8 (fun G8 h H locs hS => ?_)
  exact g_vretG hx hb hr hlk hKn hRc hRs hS h dX9_init_11
/-- java/util/Arrays.copyOfRange([BII)[B -/
def fJ13_copyOfRange_b10 (E : g_E) (v0 : Option Nat) (v1 : Int32) (v2 : Int32) (G : g_G) : Option (Option Nat × g_G) :=
  (fJ13_copyOfRangeByte E v0 v1 v2 G).bind fun z13 =>
  some (z13.1, z13.2)
def fJ13_copyOfRange (E : g_E) (v0 : Option Nat) (v1 : Int32) (v2 : Int32) (G : g_G) : Option (Option Nat × g_G) :=
  if ¬ v1 = 0 then (
    fJ13_copyOfRange_b10 E v0 v1 v2 G)
  else (
    (galen G v0).bind fun x6 =>
    if v2 = x6 then (
      (gclone E G v0).bind fun z18 =>
      (gcast z18.2 101 101 (some z18.1)).bind fun x21 =>
      some (x21, z18.2))
    else (
      fJ13_copyOfRange_b10 E v0 v1 v2 G))
theorem sJ13_copyOfRange_b10 {p : Program} {l : Launch} {e : Env} {R : Room} {s : State} {m : MethodId} {args : Array Value} {below : List Frame} {meth : Method} {c : Code} {E : g_E} {D : g_D} (C : gC p R s m args meth c cJ13_copyOfRange 3 RJ13 "copyOfRange" (some (.array .byte)) 3 109 E D) : ∀ (v0 : Option Nat) (v1 : Int32) (v2 : Int32) (G : g_G) (q : Option Nat × g_G), fJ13_copyOfRange_b10 E v0 v1 v2 G = some q → ∀ (H : Heap) (locs : List Loc) (cells slots : Nat) (ls : Array Slot), gSt E D G H locs → gls ls 3 [(0, .inr (.inr v0)), (1, .inl v1), (2, .inl v2)] → gT p l e R s m args below meth c E D H locs cells slots (some (va_rf q.1)) q.2 (F0 m 10 ls []) := by
  obtain ⟨hx, hb, hml, hown, hts, hKn, hRc, hRs, hc1, hc2, hRf, hRl, hr, hlk, hnm⟩ := id C
  intro v0 v1 v2 G q h H locs cells slots ls hS hl
  unfold fJ13_copyOfRange_b10 at h
  refine g_aload_n hx hb hl 0 rfl dJ13_copyOfRange_10 ?_
  refine g_iload_n hx hb hl 1 rfl dJ13_copyOfRange_11 ?_
  refine g_iload_n hx hb hl 2 rfl dJ13_copyOfRange_12 ?_
  obtain ⟨z13, h13, h⟩ := g_bnd h
  refine g_callS (n := 3) (av := [.inr (.inr v0), .inl v1, .inl v2]) (rs := []) hx hb hml hown hts hKn hRc hRs hS hl (sJ13_copyOfRangeByte l E D h13) (lw_S q435 q436 q128 q437) ⟨by decide, by decide, by decide +kernel⟩ ⟨by rw [hRf]; exact Nat.le_of_ble_eq_true rfl, by rw [hRl]; exact Nat.le_of_ble_eq_true rfl⟩ rfl rfl (Nat.le_of_ble_eq_true rfl) dJ13_copyOfRange_13 (fun H locs cells slots hS => ?_)
  exact g_aretG hx hb hr (by first | exact Or.inl ⟨_, rfl⟩ | exact Or.inr ⟨_, rfl⟩) hlk hKn hRc hRs hS h dJ13_copyOfRange_16
theorem sJ13_copyOfRange (l : Launch) (E : g_E) (D : g_D) {v0 : Option Nat} {v1 : Int32} {v2 : Int32} {G : g_G} {q : Option Nat × g_G} (h : fJ13_copyOfRange E v0 v1 v2 G = some q) : gMet l E D yJ13_copyOfRange (ws_ yJ13_copyOfRange cJ13_copyOfRange 3 (some (.array .byte))) 3 109 [.inr (.inr v0), .inl v1, .inl v2] G (some (va_rf q.1)) q.2 := by
  refine gMet.of (by decide +kernel) (Nat.le_of_ble_eq_true rfl) ?_
  intro p e R s m args below meth c C hS ls hl
  have C : gC p R s m args meth c cJ13_copyOfRange 3 RJ13 "copyOfRange" (some (.array .byte)) 3 109 E D := C
  obtain ⟨hx, hb, hml, hown, hts, hKn, hRc, hRs, hc1, hc2, hRf, hRl, hr, hlk, hnm⟩ := id C
  have hl : gls ls 3 [(0, .inr (.inr v0)), (1, .inl v1), (2, .inl v2)] := hl
  generalize s.heap = H at hS ⊢
  unfold fJ13_copyOfRange at h
  refine g_iload_n hx hb hl 1 rfl dJ13_copyOfRange_0 ?_
  refine lv_if_ne (tgt := 10) hx hb dJ13_copyOfRange_1 (by decide) (fun c_1 => ?_) (fun c_1 => ?_)
  · have h := g_ift c_1 h
    exact sJ13_copyOfRange_b10 C _ _ _ _ _ h _ _ _ _ _ hS (gls_sub hl [0, 1, 2] rfl)
  · have h := g_iff (fun z => z c_1) h
    refine g_iload_n hx hb hl 2 rfl dJ13_copyOfRange_4 ?_
    refine g_aload_n hx hb hl 0 rfl dJ13_copyOfRange_5 ?_
    refine g_alen hx hb hKn hS h dJ13_copyOfRange_6 (fun x6 h => ?_)
    refine lv_icmp_eq (tgt := 17) hx hb dJ13_copyOfRange_7 (by decide) (fun c_7 => ?_) (fun c_7 => ?_)
    · have h := g_ift c_7 h
      refine g_aload_n hx hb hl 0 rfl dJ13_copyOfRange_17 ?_
      refine g_cloneG (rs := []) hx hb hml hown hts hKn hRc hRs hS hl h (hts _ q293) (hts _ q294) (hts _ q295) (hts _ q296) (hts _ q297) q298 rfl (Nat.le_of_ble_eq_true rfl) ⟨by rw [hRf]; exact Nat.le_of_ble_eq_true rfl, by rw [hRl]; exact Nat.le_of_ble_eq_true rfl⟩ dJ13_copyOfRange_18 (fun z18 h H locs cells slots hS => ?_)
      refine g_castA (k := 101) (C := "[B") hx hb hown hKn hS h (by decide) (by decide +kernel) (hts _ q299) dJ13_copyOfRange_21 (fun x21 h => ?_)
      exact g_aretG hx hb hr (by first | exact Or.inl ⟨_, rfl⟩ | exact Or.inr ⟨_, rfl⟩) hlk hKn hRc hRs hS h dJ13_copyOfRange_24
    · have h := g_iff c_7 h
      exact sJ13_copyOfRange_b10 C _ _ _ _ _ h _ _ _ _ _ hS (gls_sub hl [0, 1, 2] rfl)
/-- java/util/Arrays.copyOf([Ljava/lang/Object;I)[Ljava/lang/Object; -/
def fJ13_copyOf_2 (E : g_E) (v0 : Option Nat) (v1 : Int32) (G : g_G) : Option (Option Nat × g_G) :=
  (gchk G 120 v0).bind fun b3 =>
  (fJ13_copyOf_3 E v0 v1 (some (gA E 7)) G).bind fun z6 =>
  some (z6.1, z6.2)
theorem sJ13_copyOf_2 (l : Launch) (E : g_E) (D : g_D) {v0 : Option Nat} {v1 : Int32} {G : g_G} {q : Option Nat × g_G} (h : fJ13_copyOf_2 E v0 v1 G = some q) : gMet l E D yJ13_copyOf_2 (ws_ yJ13_copyOf_2 cJ13_copyOf_2 2 (some (.array (.object "java/lang/Object")))) 2 103 [.inr (.inr v0), .inl v1] G (some (va_rf q.1)) q.2 := by
  refine gMet.of (by decide +kernel) (Nat.le_of_ble_eq_true rfl) ?_
  intro p e R s m args below meth c C hS ls hl
  have C : gC p R s m args meth c cJ13_copyOf_2 2 RJ13 "copyOf" (some (.array (.object "java/lang/Object"))) 2 103 E D := C
  obtain ⟨hx, hb, hml, hown, hts, hKn, hRc, hRs, hc1, hc2, hRf, hRl, hr, hlk, hnm⟩ := id C
  have hl : gls ls 2 [(0, .inr (.inr v0)), (1, .inl v1)] := hl
  generalize s.heap = H at hS ⊢
  unfold fJ13_copyOf_2 at h
  refine g_aload_n hx hb hl 0 rfl dJ13_copyOf_2_0 ?_
  refine g_iload_n hx hb hl 1 rfl dJ13_copyOf_2_1 ?_
  refine g_aload_n hx hb hl 0 rfl dJ13_copyOf_2_2 ?_
  obtain ⟨b3, hb3, h⟩ := g_bnd h
  obtain ⟨hr3, hk3⟩ := g_chk hb3
  refine g_getC (rs := [.inl v1, .inr (.inr v0)]) hx hb hml hown hKn hS hl hr3 hk3 (hts _ q1028) (hts _ q2491) (hts _ q1029) (hts _ q1055) rfl (Nat.le_of_ble_eq_true rfl) ⟨by rw [hRf]; exact Nat.le_of_ble_eq_true rfl, by rw [hRl]; exact Nat.le_of_ble_eq_true rfl⟩ dJ13_copyOf_2_3 ?_
  obtain ⟨z6, h6, h⟩ := g_bnd h
  refine g_callS (n := 3) (av := [.inr (.inr v0), .inl v1, .inr (.inr (some (gA E 7)))]) (rs := []) hx hb hml hown hts hKn hRc hRs hS hl (sJ13_copyOf_3 l E D h6) (lw_S q1056 q1057 q128 q1058) ⟨by decide, by decide, by decide +kernel⟩ ⟨by rw [hRf]; exact Nat.le_of_ble_eq_true rfl, by rw [hRl]; exact Nat.le_of_ble_eq_true rfl⟩ rfl rfl (Nat.le_of_ble_eq_true rfl) dJ13_copyOf_2_6 (fun H locs cells slots hS => ?_)
  exact g_aretG hx hb hr (by first | exact Or.inl ⟨_, rfl⟩ | exact Or.inr ⟨_, rfl⟩) hlk hKn hRc hRs hS h dJ13_copyOf_2_9
/-- java/lang/StringLatin1.charAt([BI)C -/
def fJ15_charAt (E : g_E) (v0 : Option Nat) (v1 : Int32) (G : g_G) : Option (Int32 × g_G) :=
  (galen G v0).bind fun x2 =>
  (fJ9_checkIndex E v1 x2 G).bind fun z3 =>
  (gaI z3 101 v0 v1).bind fun x8 =>
  if (Int32.toUInt32 (UInt32.toInt32 (Int32.toUInt32 (x8 &&& 255) % 65536))).toUInt16.toUInt32.toInt32 = (UInt32.toInt32 (Int32.toUInt32 (x8 &&& 255) % 65536)) then some ((UInt32.toInt32 (Int32.toUInt32 (x8 &&& 255) % 65536)), z3) else none
theorem sJ15_charAt (l : Launch) (E : g_E) (D : g_D) {v0 : Option Nat} {v1 : Int32} {G : g_G} {q : Int32 × g_G} (h : fJ15_charAt E v0 v1 G = some q) : gMet l E D yJ15_charAt (ws_ yJ15_charAt cJ15_charAt 2 (some .char)) 3 107 [.inr (.inr v0), .inl v1] G (some (.int q.1)) q.2 := by
  refine gMet.of (by decide +kernel) (Nat.le_of_ble_eq_true rfl) ?_
  intro p e R s m args below meth c C hS ls hl
  have C : gC p R s m args meth c cJ15_charAt 2 RJ15 "charAt" (some .char) 3 107 E D := C
  obtain ⟨hx, hb, hml, hown, hts, hKn, hRc, hRs, hc1, hc2, hRf, hRl, hr, hlk, hnm⟩ := id C
  have hl : gls ls 2 [(0, .inr (.inr v0)), (1, .inl v1)] := hl
  generalize s.heap = H at hS ⊢
  unfold fJ15_charAt at h
  refine g_iload_n hx hb hl 1 rfl dJ15_charAt_0 ?_
  refine g_aload_n hx hb hl 0 rfl dJ15_charAt_1 ?_
  refine g_alen hx hb hKn hS h dJ15_charAt_2 (fun x2 h => ?_)
  obtain ⟨z3, h3, h⟩ := g_bnd h
  refine g_callS (n := 2) (av := [.inl v1, .inl x2]) (rs := []) hx hb hml hown hts hKn hRc hRs hS hl (sJ9_checkIndex l E D h3) (lw_S q1530 q1153 q124 q1154) ⟨by decide, by decide, by decide +kernel⟩ ⟨by rw [hRf]; exact Nat.le_of_ble_eq_true rfl, by rw [hRl]; exact Nat.le_of_ble_eq_true rfl⟩ rfl rfl (Nat.le_of_ble_eq_true rfl) dJ15_charAt_3 (fun H locs cells slots hS => ?_)
  refine g_aload_n hx hb hl 0 rfl dJ15_charAt_6 ?_
  refine g_iload_n hx hb hl 1 rfl dJ15_charAt_7 ?_
  refine g_baloadG hx hb hKn hS h dJ15_charAt_8 (fun x8 h => ?_)
  refine lv_sipush (v := 255) hx hb dJ15_charAt_9 (by decide) ?_
  refine lv_iand hx hb dJ15_charAt_12 ?_
  refine lv_i2c (v := (UInt32.toInt32 (Int32.toUInt32 (x8 &&& 255) % 65536))) hx hb dJ15_charAt_13 rfl ?_
  exact g_cretG hx hb hr hlk hKn hRc hRs hS h dJ15_charAt_14
/-- java/lang/StringLatin1.indexOf([BIII)I -/
def fJ15_indexOf (E : g_E) (v0 : Option Nat) (v1 : Int32) (v2 : Int32) (v3 : Int32) (G : g_G) : Option (Int32 × g_G) :=
  (fJ15_canEncode_2 E v1 G).bind fun z1 =>
  if ¬ z1.1 = 0 then (
    (galen z1.2 v0).bind fun x17 =>
    if (if v2 < 0 then 0 else v2) < (if x17 < v3 then x17 else v3) then (
      (fJ15_indexOfChar E v0 v1 (if v2 < 0 then 0 else v2) (if x17 < v3 then x17 else v3) z1.2).bind fun z33 =>
      some (z33.1, z33.2))
    else (
      some ((-1), z1.2)))
  else (
    some ((-1), z1.2))
theorem sJ15_indexOf (l : Launch) (E : g_E) (D : g_D) {v0 : Option Nat} {v1 : Int32} {v2 : Int32} {v3 : Int32} {G : g_G} {q : Int32 × g_G} (h : fJ15_indexOf E v0 v1 v2 v3 G = some q) : gMet l E D yJ15_indexOf (ws_ yJ15_indexOf cJ15_indexOf 4 (some .int)) 2 89 [.inr (.inr v0), .inl v1, .inl v2, .inl v3] G (some (.int q.1)) q.2 := by
  refine gMet.of (by decide +kernel) (Nat.le_of_ble_eq_true rfl) ?_
  intro p e R s m args below meth c C hS ls hl
  have C : gC p R s m args meth c cJ15_indexOf 4 RJ15 "indexOf" (some .int) 2 89 E D := C
  obtain ⟨hx, hb, hml, hown, hts, hKn, hRc, hRs, hc1, hc2, hRf, hRl, hr, hlk, hnm⟩ := id C
  have hl : gls ls 4 [(0, .inr (.inr v0)), (1, .inl v1), (2, .inl v2), (3, .inl v3)] := hl
  generalize s.heap = H at hS ⊢
  unfold fJ15_indexOf at h
  refine g_iload_n hx hb hl 1 rfl dJ15_indexOf_0 ?_
  obtain ⟨z1, h1, h⟩ := g_bnd h
  refine g_callS (n := 1) (av := [.inl v1]) (rs := []) hx hb hml hown hts hKn hRc hRs hS hl (sJ15_canEncode_2 l E D h1) (lw_S q1181 q1182 q131 q1183) ⟨by decide, by decide, by decide +kernel⟩ ⟨by rw [hRf]; exact Nat.le_of_ble_eq_true rfl, by rw [hRl]; exact Nat.le_of_ble_eq_true rfl⟩ rfl rfl (Nat.le_of_ble_eq_true rfl) dJ15_indexOf_1 (fun H locs cells slots hS => ?_)
  refine lv_if_ne (tgt := 9) hx hb dJ15_indexOf_4 (by decide) (fun c_4 => ?_) (fun c_4 => ?_)
  · have h := g_ift c_4 h
    refine g_iload_n hx hb hl 2 rfl dJ15_indexOf_9 ?_
    refine lv_iconst (v := 0) hx hb dJ15_indexOf_10 (by decide) ?_
    refine g_mmax (rs := []) hx hb hml hown hRc hRs hS hl (hts _ q1184) (hts _ q283) (hts _ q127) (hts _ q284) (by decide +kernel) rfl (Nat.le_of_ble_eq_true rfl) ⟨by rw [hRf]; exact Nat.le_of_ble_eq_true rfl, by rw [hRl]; exact Nat.le_of_ble_eq_true rfl⟩ dJ15_indexOf_11 (fun cells slots => ?_)
    refine g_istore_n (l1 := [(2, .inl (if v2 < 0 then 0 else v2)), (0, .inr (.inr v0)), (1, .inl v1), (3, .inl v3)]) hx hb hl (by decide) rfl dJ15_indexOf_14 (fun ls hl => ?_)
    refine g_iload_n hx hb hl 3 rfl dJ15_indexOf_15 ?_
    refine g_aload_n hx hb hl 1 rfl dJ15_indexOf_16 ?_
    refine g_alen hx hb hKn hS h dJ15_indexOf_17 (fun x17 h => ?_)
    refine g_mmin (rs := []) hx hb hml hown hRc hRs hS hl (hts _ q1185) (hts _ q301) (hts _ q127) (hts _ q302) (by decide +kernel) rfl (Nat.le_of_ble_eq_true rfl) ⟨by rw [hRf]; exact Nat.le_of_ble_eq_true rfl, by rw [hRl]; exact Nat.le_of_ble_eq_true rfl⟩ dJ15_indexOf_18 (fun cells slots => ?_)
    refine g_istore_n (l1 := [(3, .inl (if x17 < v3 then x17 else v3)), (2, .inl (if v2 < 0 then 0 else v2)), (0, .inr (.inr v0)), (1, .inl v1)]) hx hb hl (by decide) rfl dJ15_indexOf_21 (fun ls hl => ?_)
    refine g_iload_n hx hb hl 1 rfl dJ15_indexOf_22 ?_
    refine g_iload_n hx hb hl 0 rfl dJ15_indexOf_23 ?_
    refine lv_icmp_lt (tgt := 29) hx hb dJ15_indexOf_24 (by decide) (fun c_24 => ?_) (fun c_24 => ?_)
    · have h := g_ift c_24 h
      refine g_aload_n hx hb hl 2 rfl dJ15_indexOf_29 ?_
      refine g_iload_n hx hb hl 3 rfl dJ15_indexOf_30 ?_
      refine g_iload_n hx hb hl 1 rfl dJ15_indexOf_31 ?_
      refine g_iload_n hx hb hl 0 rfl dJ15_indexOf_32 ?_
      obtain ⟨z33, h33, h⟩ := g_bnd h
      refine g_callS (n := 4) (av := [.inr (.inr v0), .inl v1, .inl (if v2 < 0 then 0 else v2), .inl (if x17 < v3 then x17 else v3)]) (rs := []) hx hb hml hown hts hKn hRc hRs hS hl (sJ15_indexOfChar l E D h33) (lw_S q1186 q1187 q131 q1188) ⟨by decide, by decide, by decide +kernel⟩ ⟨by rw [hRf]; exact Nat.le_of_ble_eq_true rfl, by rw [hRl]; exact Nat.le_of_ble_eq_true rfl⟩ rfl rfl (Nat.le_of_ble_eq_true rfl) dJ15_indexOf_33 (fun H locs cells slots hS => ?_)
      exact g_iretG hx hb hr hlk hKn hRc hRs hS h dJ15_indexOf_36
    · have h := g_iff c_24 h
      refine lv_iconst (v := (-1)) hx hb dJ15_indexOf_27 (by decide) ?_
      exact g_iretG hx hb hr hlk hKn hRc hRs hS h dJ15_indexOf_28
  · have h := g_iff (fun z => z c_4) h
    refine lv_iconst (v := (-1)) hx hb dJ15_indexOf_7 (by decide) ?_
    exact g_iretG hx hb hr hlk hKn hRc hRs hS h dJ15_indexOf_8
/-- java/util/ArrayList.grow(I)[Ljava/lang/Object; -/
def fJ2_grow_2 (E : g_E) (t : Nat) (v1 : Int32) (G : g_G) : Option (Option Nat × g_G) :=
  (grR G 17 17 (some t) 1).bind fun x1 =>
  (galen G x1).bind fun x4 =>
  if 0 < x4 then (
    (fJ11_newLength E x4 (v1 - x4) (x4 >>> (1 &&& 31)) G).bind fun z27 =>
    (grR z27.2 17 17 (some t) 1).bind fun x33 =>
    (fJ13_copyOf_2 E x33 z27.1 z27.2).bind fun z37 =>
    (gpR E z37.2 17 17 (some t) 1 z37.1).bind fun G41 =>
    some (z37.1, G41))
  else (
    (grR G 17 17 (some t) 1).bind fun x11 =>
    none)
theorem sJ2_grow_2 (l : Launch) (E : g_E) (D : g_D) {t : Nat} {v1 : Int32} {G : g_G} {q : Option Nat × g_G} (h : fJ2_grow_2 E t v1 G = some q) : gMet l E D yJ2_grow_2 (ws_ yJ2_grow_2 cJ2_grow_2 4 (some (.array (.object "java/lang/Object")))) 3 124 [.inr (.inr (some t)), .inl v1] G (some (va_rf q.1)) q.2 := by
  refine gMet.of (by decide +kernel) (Nat.le_of_ble_eq_true rfl) ?_
  intro p e R s m args below meth c C hS ls hl
  have C : gC p R s m args meth c cJ2_grow_2 4 RJ2 "grow" (some (.array (.object "java/lang/Object"))) 3 124 E D := C
  obtain ⟨hx, hb, hml, hown, hts, hKn, hRc, hRs, hc1, hc2, hRf, hRl, hr, hlk, hnm⟩ := id C
  have hl : gls ls 4 [(0, .inr (.inr (some t))), (1, .inl v1)] := hl
  generalize s.heap = H at hS ⊢
  unfold fJ2_grow_2 at h
  refine g_aload_n hx hb hl 0 rfl dJ2_grow_2_0 ?_
  refine g_rdR hx hb hown hts hKn hS h fd_17_17_1 rfl (Or.inl (hts _ q500)) (fun _ z => z) dJ2_grow_2_1 (fun x1 h => ?_)
  refine g_alen hx hb hKn hS h dJ2_grow_2_4 (fun x4 h => ?_)
  refine g_istore_n (l1 := [(2, .inl x4), (0, .inr (.inr (some t))), (1, .inl v1)]) hx hb hl (by decide) rfl dJ2_grow_2_5 (fun ls hl => ?_)
  refine g_iload_n hx hb hl 0 rfl dJ2_grow_2_6 ?_
  refine lv_if_gt (tgt := 20) hx hb dJ2_grow_2_7 (by decide) (fun c_7 => ?_) (fun c_7 => ?_)
  · have h := g_ift c_7 h
    refine g_iload_n hx hb hl 0 rfl dJ2_grow_2_20 ?_
    refine g_iload_n hx hb hl 2 rfl dJ2_grow_2_21 ?_
    refine g_iload_n hx hb hl 0 rfl dJ2_grow_2_22 ?_
    refine lv_isub hx hb dJ2_grow_2_23 ?_
    refine g_iload_n hx hb hl 0 rfl dJ2_grow_2_24 ?_
    refine lv_iconst (v := 1) hx hb dJ2_grow_2_25 (by decide) ?_
    refine lv_ishr hx hb dJ2_grow_2_26 ?_
    obtain ⟨z27, h27, h⟩ := g_bnd h
    refine g_callS (n := 3) (av := [.inl x4, .inl (v1 - x4), .inl (x4 >>> (1 &&& 31))]) (rs := []) hx hb hml hown hts hKn hRc hRs hS hl (sJ11_newLength l E D h27) (lw_S q1024 q280 q126 q281) ⟨by decide, by decide, by decide +kernel⟩ ⟨by rw [hRf]; exact Nat.le_of_ble_eq_true rfl, by rw [hRl]; exact Nat.le_of_ble_eq_true rfl⟩ rfl rfl (Nat.le_of_ble_eq_true rfl) dJ2_grow_2_27 (fun H locs cells slots hS => ?_)
    refine g_istore_n (l1 := [(3, .inl z27.1), (2, .inl x4), (0, .inr (.inr (some t))), (1, .inl v1)]) hx hb hl (by decide) rfl dJ2_grow_2_30 (fun ls hl => ?_)
    refine g_aload_n hx hb hl 2 rfl dJ2_grow_2_31 ?_
    refine g_aload_n hx hb hl 2 rfl dJ2_grow_2_32 ?_
    refine g_rdR hx hb hown hts hKn hS h fd_17_17_1 rfl (Or.inl (hts _ q500)) (fun _ z => z) dJ2_grow_2_33 (fun x33 h => ?_)
    refine g_iload_n hx hb hl 0 rfl dJ2_grow_2_36 ?_
    obtain ⟨z37, h37, h⟩ := g_bnd h
    refine g_callS (n := 2) (av := [.inr (.inr x33), .inl z27.1]) (rs := [.inr (.inr (some t))]) hx hb hml hown hts hKn hRc hRs hS hl (sJ13_copyOf_2 l E D h37) (lw_S q1025 q1026 q128 q1027) ⟨by decide, by decide, by decide +kernel⟩ ⟨by rw [hRf]; exact Nat.le_of_ble_eq_true rfl, by rw [hRl]; exact Nat.le_of_ble_eq_true rfl⟩ rfl rfl (Nat.le_of_ble_eq_true rfl) dJ2_grow_2_37 (fun H locs cells slots hS => ?_)
    refine lv_dup_x1 hx hb dJ2_grow_2_40 (by first | exact va_rf_cat _ | rfl | exact g_catA _) (by first | exact va_rf_cat _ | rfl | exact g_catA _) ?_
    refine g_ptR hx hb hown hts hKn hS h fd_17_17_1 rfl (Or.inl (hts _ q500)) (fun _ z => z) (fun z => nomatch z) dJ2_grow_2_41 (fun G41 h H locs hS => ?_)
    exact g_aretG hx hb hr (by first | exact Or.inl ⟨_, rfl⟩ | exact Or.inr ⟨_, rfl⟩) hlk hKn hRc hRs hS h dJ2_grow_2_44
  · have h := g_iff c_7 h
    refine g_aload_n hx hb hl 1 rfl dJ2_grow_2_10 ?_
    refine g_rdR hx hb hown hts hKn hS h fd_17_17_1 rfl (Or.inl (hts _ q500)) (fun _ z => z) dJ2_grow_2_11 (fun x11 h => ?_)
    exact g_no h
/-- java/lang/AbstractStringBuilder.append(Ljava/lang/String;)Ljava/lang/AbstractStringBuilder; -/
def fJ7_append (E : g_E) (t : Nat) (v1 : Option Nat) (G : g_G) : Option (Option Nat × g_G) :=
  if ¬ v1 = none then (
    (gchk G 19 v1).bind fun b10 =>
    (fJ9_length E b10 G).bind fun z10 =>
    (grI z10.2 18 18 (some t) 3).bind fun x16 =>
    (gchk z10.2 18 (some t)).bind fun b21 =>
    (fJ7_ensureCapacityInternal E b21 (x16 + z10.1) z10.2).bind fun z21 =>
    (grI z21 18 18 (some t) 3).bind fun x26 =>
    none)
  else (
    none)
theorem sJ7_append (l : Launch) (E : g_E) (D : g_D) {t : Nat} {v1 : Option Nat} {G : g_G} {q : Option Nat × g_G} (h : fJ7_append E t v1 G = some q) : gMet l E D yJ7_append (ws_ yJ7_append cJ7_append 3 (some (.object "java/lang/AbstractStringBuilder"))) 3 104 [.inr (.inr (some t)), .inr (.inr v1)] G (some (va_rf q.1)) q.2 := by
  refine gMet.of (by decide +kernel) (Nat.le_of_ble_eq_true rfl) ?_
  intro p e R s m args below meth c C hS ls hl
  have C : gC p R s m args meth c cJ7_append 3 RJ7 "append" (some (.object "java/lang/AbstractStringBuilder")) 3 104 E D := C
  obtain ⟨hx, hb, hml, hown, hts, hKn, hRc, hRs, hc1, hc2, hRf, hRl, hr, hlk, hnm⟩ := id C
  have hl : gls ls 3 [(0, .inr (.inr (some t))), (1, .inr (.inr v1))] := hl
  generalize s.heap = H at hS ⊢
  unfold fJ7_append at h
  refine g_aload_n hx hb hl 1 rfl dJ7_append_0 ?_
  refine g_ifnonnull (tgt := 9) hx hb dJ7_append_1 (by decide) (fun c_1 => ?_) (fun c_1 => ?_)
  · have h := g_ift c_1 h
    refine g_aload_n hx hb hl 1 rfl dJ7_append_9 ?_
    obtain ⟨b10, hb10, h⟩ := g_bnd h
    obtain ⟨hr10, hk10⟩ := g_chk hb10
    obtain ⟨z10, h10, h⟩ := g_bnd h
    refine g_callV (n := 0) (b := b10) (av := []) (rs := []) hx hb hml hown hts hKn hRc hRs hS hl (sJ9_length l E D h10) (lw_V q337 q338 q339 q124 q340) ⟨rfl, by decide, by decide, by decide +kernel⟩ ⟨by rw [hRf]; exact Nat.le_of_ble_eq_true rfl, by rw [hRl]; exact Nat.le_of_ble_eq_true rfl⟩ (g_recv hKn hS hk10 (by decide) (by decide)) rfl (by rw [hr10]; rfl) (Nat.le_of_ble_eq_true rfl) dJ7_append_10 (fun H locs cells slots hS => ?_)
    refine g_istore_n (l1 := [(2, .inl z10.1), (0, .inr (.inr (some t))), (1, .inr (.inr v1))]) hx hb hl (by decide) rfl dJ7_append_13 (fun ls hl => ?_)
    refine g_aload_n hx hb hl 1 rfl dJ7_append_14 ?_
    refine g_aload_n hx hb hl 1 rfl dJ7_append_15 ?_
    refine g_rdI hx hb hown hts hKn hS h fd_18_18_3 rfl (Or.inl (hts _ q248)) (fun _ z => z) dJ7_append_16 (fun x16 h => ?_)
    refine g_iload_n hx hb hl 0 rfl dJ7_append_19 ?_
    refine lv_iadd hx hb dJ7_append_20 ?_
    obtain ⟨b21, hb21, h⟩ := g_bnd h
    obtain ⟨hr21, hk21⟩ := g_chk hb21
    obtain ⟨z21, h21, h⟩ := g_bnd h
    refine g_callU (n := 1) (b := b21) (av := [.inl (x16 + z10.1)]) (rs := []) hx hb hml hown hts hKn hRc hRs hS hl (C := "java/lang/StringBuilder") (owner := "java/lang/AbstractStringBuilder") (x := ⟨"java/lang/AbstractStringBuilder", "ensureCapacityInternal", "(I)V"⟩) (sJ7_ensureCapacityInternal l E D h21) (g_cwUP 1 hts (lw_meth q274) (hts _ q271) (hts _ q2449) (va_any rfl (hKn.2.2.2.2.2.2.2.2.2.2.2.2.1 _ (List.mem_cons_self))) (hts _ q273) (hts _ q122) rfl rfl ⟨by decide, by decide, by decide +kernel⟩ ⟨by rw [hRf]; exact Nat.le_of_ble_eq_true rfl, by rw [hRl]; exact Nat.le_of_ble_eq_true rfl⟩) (g_recv hKn hS hk21 (by decide) (by decide)) rfl (by rw [hr21]; rfl) (Nat.le_of_ble_eq_true rfl) dJ7_append_21 (fun H locs cells slots hS => ?_)
    refine g_aload_n hx hb hl 1 rfl dJ7_append_24 ?_
    refine g_aload_n hx hb hl 1 rfl dJ7_append_25 ?_
    refine g_rdI hx hb hown hts hKn hS h fd_18_18_3 rfl (Or.inl (hts _ q248)) (fun _ z => z) dJ7_append_26 (fun x26 h => ?_)
    refine g_aload_n hx hb hl 2 rfl dJ7_append_29 ?_
    exact g_no h
  · have h := g_iff (fun z => z c_1) h
    refine g_aload_n hx hb hl 0 rfl dJ7_append_4 ?_
    exact g_no h
