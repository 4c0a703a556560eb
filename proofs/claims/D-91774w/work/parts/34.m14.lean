set_option maxRecDepth 100000
/-- SendHallModel.is(Ljava/lang/String;)Z -/
def fX4_is_b75 (E : g_E) (k39 : Nat → (Option Nat) → Int32 → Int32 → g_G → Option (Int32 × g_G)) (t : Nat) (v1 : Option Nat) (v3 : Int32) (s0 : Int32) (G : g_G) : Option (Int32 × g_G) :=
  k39 t v1 s0 (v3 + 1) G
def fX4_is_b39 (E : g_E) : Nat → Nat → (Option Nat) → Int32 → Int32 → g_G → Option (Int32 × g_G)
  | 0, _, _, _, _, _ => none
  | n + 1, t, v1, v2, v3, G =>
    if v2 = 0 then (
      if v2 = 0 ∨ v2 = 1 then some (v2, G) else none)
    else (
      (gchk G 19 v1).bind fun b45 =>
      (fJ9_length E b45 G).bind fun z45 =>
      if z45.1 ≤ v3 then (
        if v2 = 0 ∨ v2 = 1 then some (v2, z45.2) else none)
      else (
        (gchk z45.2 19 v1).bind fun b53 =>
        (fJ9_charAt E b53 v3 z45.2).bind fun z53 =>
        (grR z53.2 4 4 (some t) 9).bind fun x57 =>
        (grI z53.2 4 4 (some t) 16).bind fun x61 =>
        (gaI z53.2 100 x57 (x61 + v3)).bind fun x66 =>
        if ¬ z53.1 = x66 then (
          fX4_is_b75 E (fX4_is_b39 E n) t v1 v3 0 z53.2)
        else (
          fX4_is_b75 E (fX4_is_b39 E n) t v1 v3 1 z53.2)))
def fX4_is_b36 (E : g_E) (t : Nat) (v1 : Option Nat) (s0 : Int32) (G : g_G) : Option (Int32 × g_G) :=
  fX4_is_b39 E gFU t v1 s0 0 G
def fX4_is_b35 (E : g_E) (t : Nat) (v1 : Option Nat) (G : g_G) : Option (Int32 × g_G) :=
  fX4_is_b36 E t v1 0 G
def fX4_is (E : g_E) (t : Nat) (v1 : Option Nat) (G : g_G) : Option (Int32 × g_G) :=
  (grI G 4 4 (some t) 18).bind fun x1 =>
  if ¬ x1 = 0 then (
    fX4_is_b35 E t v1 G)
  else (
    (grI G 4 4 (some t) 13).bind fun x8 =>
    if ¬ x8 = (1 : Int32) then (
      fX4_is_b35 E t v1 G)
    else (
      (gchk G 19 v1).bind fun b16 =>
      (fJ9_length E b16 G).bind fun z16 =>
      (grI z16.2 4 4 (some t) 17).bind fun x20 =>
      (grI z16.2 4 4 (some t) 16).bind fun x24 =>
      if ¬ z16.1 = (x20 - x24) then (
        fX4_is_b35 E t v1 z16.2)
      else (
        fX4_is_b36 E t v1 1 z16.2)))
theorem sX4_is_b75 {p : Program} {l : Launch} {e : Env} {R : Room} {s : State} {m : MethodId} {args : Array Value} {below : List Frame} {meth : Method} {c : Code} {E : g_E} {D : g_D} (C : gC p R s m args meth c cX4_is 4 RX4 "is" (some .boolean) 5 149 E D) {k39 : Nat → (Option Nat) → Int32 → Int32 → g_G → Option (Int32 × g_G)} (hk39 : ∀ (t : Nat) (v1 : Option Nat) (v2 : Int32) (v3 : Int32) (G : g_G) (q : Int32 × g_G), k39 t v1 v2 v3 G = some q → ∀ (H : Heap) (locs : List Loc) (cells slots : Nat) (ls : Array Slot), gSt E D G H locs → gls ls 4 [(0, .inr (.inr (some t))), (1, .inr (.inr v1)), (2, .inl v2), (3, .inl v3)] → gT p l e R s m args below meth c E D H locs cells slots (some (.int q.1)) q.2 (F0 m 39 ls [])) : ∀ (t : Nat) (v1 : Option Nat) (v3 : Int32) (s0 : Int32) (G : g_G) (q : Int32 × g_G), fX4_is_b75 E k39 t v1 v3 s0 G = some q → ∀ (H : Heap) (locs : List Loc) (cells slots : Nat) (ls : Array Slot), gSt E D G H locs → gls ls 4 [(0, .inr (.inr (some t))), (1, .inr (.inr v1)), (3, .inl v3)] → gT p l e R s m args below meth c E D H locs cells slots (some (.int q.1)) q.2 (F0 m 75 ls [.int s0]) := by
  obtain ⟨hx, hb, hml, hown, hts, hKn, hRc, hRs, hc1, hc2, hRf, hRl, hr, hlk, hnm⟩ := id C
  intro t v1 v3 s0 G q h H locs cells slots ls hS hl
  unfold fX4_is_b75 at h
  refine g_istore_n (l1 := [(2, .inl s0), (0, .inr (.inr (some t))), (1, .inr (.inr v1)), (3, .inl v3)]) hx hb hl (by decide) rfl dX4_is_75 (fun ls hl => ?_)
  refine g_iinc (l1 := [(3, .inl (v3 + 1)), (2, .inl s0), (0, .inr (.inr (some t))), (1, .inr (.inr v1))]) (v := (v3 + 1)) hx hb hl (k := 3) rfl (by rfl) (by decide) rfl dX4_is_76 (fun ls hl => ?_)
  refine lv_goto (tgt := 39) hx hb dX4_is_79 (by decide) ?_
  exact hk39 _ _ _ _ _ _ h _ _ _ _ _ hS (gls_sub hl [2, 3, 1, 0] rfl)
theorem sX4_is_b39 {p : Program} {l : Launch} {e : Env} {R : Room} {s : State} {m : MethodId} {args : Array Value} {below : List Frame} {meth : Method} {c : Code} {E : g_E} {D : g_D} (C : gC p R s m args meth c cX4_is 4 RX4 "is" (some .boolean) 5 149 E D) : ∀ (n : Nat) (t : Nat) (v1 : Option Nat) (v2 : Int32) (v3 : Int32) (G : g_G) (q : Int32 × g_G), fX4_is_b39 E n t v1 v2 v3 G = some q → ∀ (H : Heap) (locs : List Loc) (cells slots : Nat) (ls : Array Slot), gSt E D G H locs → gls ls 4 [(0, .inr (.inr (some t))), (1, .inr (.inr v1)), (2, .inl v2), (3, .inl v3)] → gT p l e R s m args below meth c E D H locs cells slots (some (.int q.1)) q.2 (F0 m 39 ls []) := by
  obtain ⟨hx, hb, hml, hown, hts, hKn, hRc, hRs, hc1, hc2, hRf, hRl, hr, hlk, hnm⟩ := id C
  intro n
  induction n with
  | zero =>
    intro t v1 v2 v3 G q h
    exact g_no h
  | succ n ih =>
    intro t v1 v2 v3 G q h H locs cells slots ls hS hl
    rw [fX4_is_b39] at h
    refine g_iload_n hx hb hl 2 rfl dX4_is_39 ?_
    refine lv_if_eq (tgt := 82) hx hb dX4_is_40 (by decide) (fun c_40 => ?_) (fun c_40 => ?_)
    · have h := g_ift c_40 h
      refine g_iload_n hx hb hl 2 rfl dX4_is_82 ?_
      exact g_zretG hx hb hr hlk hKn hRc hRs hS h dX4_is_83
    · have h := g_iff c_40 h
      refine g_iload_n hx hb hl 3 rfl dX4_is_43 ?_
      refine g_aload_n hx hb hl 1 rfl dX4_is_44 ?_
      obtain ⟨b45, hb45, h⟩ := g_bnd h
      obtain ⟨hr45, hk45⟩ := g_chk hb45
      obtain ⟨z45, h45, h⟩ := g_bnd h
      refine g_callV (n := 0) (b := b45) (av := []) (rs := [.inl v3]) hx hb hml hown hts hKn hRc hRs hS hl (sJ9_length l E D h45) (lw_V q2117 q338 q339 q124 q340) ⟨rfl, by decide, by decide, by decide +kernel⟩ ⟨by rw [hRf]; exact Nat.le_of_ble_eq_true rfl, by rw [hRl]; exact Nat.le_of_ble_eq_true rfl⟩ (g_recv hKn hS hk45 (by decide) (by decide)) rfl (by rw [hr45]; rfl) (Nat.le_of_ble_eq_true rfl) dX4_is_45 (fun H locs cells slots hS => ?_)
      refine lv_icmp_ge (tgt := 82) hx hb dX4_is_48 (by decide) (fun c_48 => ?_) (fun c_48 => ?_)
      · have h := g_ift c_48 h
        refine g_iload_n hx hb hl 2 rfl dX4_is_82 ?_
        exact g_zretG hx hb hr hlk hKn hRc hRs hS h dX4_is_83
      · have h := g_iff c_48 h
        refine g_aload_n hx hb hl 1 rfl dX4_is_51 ?_
        refine g_iload_n hx hb hl 3 rfl dX4_is_52 ?_
        obtain ⟨b53, hb53, h⟩ := g_bnd h
        obtain ⟨hr53, hk53⟩ := g_chk hb53
        obtain ⟨z53, h53, h⟩ := g_bnd h
        refine g_callV (n := 1) (b := b53) (av := [.inl v3]) (rs := []) hx hb hml hown hts hKn hRc hRs hS hl (sJ9_charAt l E D h53) (lw_V q2118 q1524 q1525 q124 q1526) ⟨rfl, by decide, by decide, by decide +kernel⟩ ⟨by rw [hRf]; exact Nat.le_of_ble_eq_true rfl, by rw [hRl]; exact Nat.le_of_ble_eq_true rfl⟩ (g_recv hKn hS hk53 (by decide) (by decide)) rfl (by rw [hr53]; rfl) (Nat.le_of_ble_eq_true rfl) dX4_is_53 (fun H locs cells slots hS => ?_)
        refine g_aload_n hx hb hl 0 rfl dX4_is_56 ?_
        refine g_rdR hx hb hown hts hKn hS h fd_4_4_9 rfl (Or.inl (hts _ q1874)) (fun _ z => z) dX4_is_57 (fun x57 h => ?_)
        refine g_aload_n hx hb hl 0 rfl dX4_is_60 ?_
        refine g_rdI hx hb hown hts hKn hS h fd_4_4_16 rfl (Or.inl (hts _ q1881)) (fun _ z => z) dX4_is_61 (fun x61 h => ?_)
        refine g_iload_n hx hb hl 3 rfl dX4_is_64 ?_
        refine lv_iadd hx hb dX4_is_65 ?_
        refine g_ialoadG hx hb hKn hS h dX4_is_66 (fun x66 h => ?_)
        refine lv_icmp_ne (tgt := 74) hx hb dX4_is_67 (by decide) (fun c_67 => ?_) (fun c_67 => ?_)
        · have h := g_ift c_67 h
          refine lv_iconst (v := 0) hx hb dX4_is_74 (by decide) ?_
          exact sX4_is_b75 C ih _ _ _ _ _ _ h _ _ _ _ _ hS (gls_sub hl [0, 1, 3] rfl)
        · have h := g_iff (fun z => z c_67) h
          refine lv_iconst (v := 1) hx hb dX4_is_70 (by decide) ?_
          refine lv_goto (tgt := 75) hx hb dX4_is_71 (by decide) ?_
          exact sX4_is_b75 C ih _ _ _ _ _ _ h _ _ _ _ _ hS (gls_sub hl [0, 1, 3] rfl)
theorem sX4_is_b36 {p : Program} {l : Launch} {e : Env} {R : Room} {s : State} {m : MethodId} {args : Array Value} {below : List Frame} {meth : Method} {c : Code} {E : g_E} {D : g_D} (C : gC p R s m args meth c cX4_is 4 RX4 "is" (some .boolean) 5 149 E D) : ∀ (t : Nat) (v1 : Option Nat) (s0 : Int32) (G : g_G) (q : Int32 × g_G), fX4_is_b36 E t v1 s0 G = some q → ∀ (H : Heap) (locs : List Loc) (cells slots : Nat) (ls : Array Slot), gSt E D G H locs → gls ls 4 [(0, .inr (.inr (some t))), (1, .inr (.inr v1))] → gT p l e R s m args below meth c E D H locs cells slots (some (.int q.1)) q.2 (F0 m 36 ls [.int s0]) := by
  obtain ⟨hx, hb, hml, hown, hts, hKn, hRc, hRs, hc1, hc2, hRf, hRl, hr, hlk, hnm⟩ := id C
  intro t v1 s0 G q h H locs cells slots ls hS hl
  unfold fX4_is_b36 at h
  refine g_istore_n (l1 := [(2, .inl s0), (0, .inr (.inr (some t))), (1, .inr (.inr v1))]) hx hb hl (by decide) rfl dX4_is_36 (fun ls hl => ?_)
  refine lv_iconst (v := 0) hx hb dX4_is_37 (by decide) ?_
  refine g_istore_n (l1 := [(3, .inl 0), (2, .inl s0), (0, .inr (.inr (some t))), (1, .inr (.inr v1))]) hx hb hl (by decide) rfl dX4_is_38 (fun ls hl => ?_)
  exact sX4_is_b39 C gFU _ _ _ _ _ _ h _ _ _ _ _ hS (gls_sub hl [2, 3, 1, 0] rfl)
theorem sX4_is_b35 {p : Program} {l : Launch} {e : Env} {R : Room} {s : State} {m : MethodId} {args : Array Value} {below : List Frame} {meth : Method} {c : Code} {E : g_E} {D : g_D} (C : gC p R s m args meth c cX4_is 4 RX4 "is" (some .boolean) 5 149 E D) : ∀ (t : Nat) (v1 : Option Nat) (G : g_G) (q : Int32 × g_G), fX4_is_b35 E t v1 G = some q → ∀ (H : Heap) (locs : List Loc) (cells slots : Nat) (ls : Array Slot), gSt E D G H locs → gls ls 4 [(0, .inr (.inr (some t))), (1, .inr (.inr v1))] → gT p l e R s m args below meth c E D H locs cells slots (some (.int q.1)) q.2 (F0 m 35 ls []) := by
  obtain ⟨hx, hb, hml, hown, hts, hKn, hRc, hRs, hc1, hc2, hRf, hRl, hr, hlk, hnm⟩ := id C
  intro t v1 G q h H locs cells slots ls hS hl
  unfold fX4_is_b35 at h
  refine lv_iconst (v := 0) hx hb dX4_is_35 (by decide) ?_
  exact sX4_is_b36 C _ _ _ _ _ h _ _ _ _ _ hS (gls_sub hl [0, 1] rfl)
theorem sX4_is (l : Launch) (E : g_E) (D : g_D) {t : Nat} {v1 : Option Nat} {G : g_G} {q : Int32 × g_G} (h : fX4_is E t v1 G = some q) : gMet l E D yX4_is (ws_ yX4_is cX4_is 4 (some .boolean)) 5 149 [.inr (.inr (some t)), .inr (.inr v1)] G (some (.int q.1)) q.2 := by
  refine gMet.of (by decide +kernel) (Nat.le_of_ble_eq_true rfl) ?_
  intro p e R s m args below meth c C hS ls hl
  have C : gC p R s m args meth c cX4_is 4 RX4 "is" (some .boolean) 5 149 E D := C
  obtain ⟨hx, hb, hml, hown, hts, hKn, hRc, hRs, hc1, hc2, hRf, hRl, hr, hlk, hnm⟩ := id C
  have hl : gls ls 4 [(0, .inr (.inr (some t))), (1, .inr (.inr v1))] := hl
  generalize s.heap = H at hS ⊢
  unfold fX4_is at h
  refine g_aload_n hx hb hl 0 rfl dX4_is_0 ?_
  refine g_rdI hx hb hown hts hKn hS h fd_4_4_18 rfl (Or.inl (hts _ q1883)) (fun _ z => z) dX4_is_1 (fun x1 h => ?_)
  refine lv_if_ne (tgt := 35) hx hb dX4_is_4 (by decide) (fun c_4 => ?_) (fun c_4 => ?_)
  · have h := g_ift c_4 h
    exact sX4_is_b35 C _ _ _ _ h _ _ _ _ _ hS (gls_sub hl [0, 1] rfl)
  · have h := g_iff (fun z => z c_4) h
    refine g_aload_n hx hb hl 0 rfl dX4_is_7 ?_
    refine g_rdI hx hb hown hts hKn hS h fd_4_4_13 rfl (Or.inl (hts _ q1878)) (fun _ z => z) dX4_is_8 (fun x8 h => ?_)
    refine lv_iconst (v := 1) hx hb dX4_is_11 (by decide) ?_
    refine lv_icmp_ne (tgt := 35) hx hb dX4_is_12 (by decide) (fun c_12 => ?_) (fun c_12 => ?_)
    · have h := g_ift c_12 h
      exact sX4_is_b35 C _ _ _ _ h _ _ _ _ _ hS (gls_sub hl [0, 1] rfl)
    · have h := g_iff (fun z => z c_12) h
      refine g_aload_n hx hb hl 1 rfl dX4_is_15 ?_
      obtain ⟨b16, hb16, h⟩ := g_bnd h
      obtain ⟨hr16, hk16⟩ := g_chk hb16
      obtain ⟨z16, h16, h⟩ := g_bnd h
      refine g_callV (n := 0) (b := b16) (av := []) (rs := []) hx hb hml hown hts hKn hRc hRs hS hl (sJ9_length l E D h16) (lw_V q2117 q338 q339 q124 q340) ⟨rfl, by decide, by decide, by decide +kernel⟩ ⟨by rw [hRf]; exact Nat.le_of_ble_eq_true rfl, by rw [hRl]; exact Nat.le_of_ble_eq_true rfl⟩ (g_recv hKn hS hk16 (by decide) (by decide)) rfl (by rw [hr16]; rfl) (Nat.le_of_ble_eq_true rfl) dX4_is_16 (fun H locs cells slots hS => ?_)
      refine g_aload_n hx hb hl 0 rfl dX4_is_19 ?_
      refine g_rdI hx hb hown hts hKn hS h fd_4_4_17 rfl (Or.inl (hts _ q1882)) (fun _ z => z) dX4_is_20 (fun x20 h => ?_)
      refine g_aload_n hx hb hl 0 rfl dX4_is_23 ?_
      refine g_rdI hx hb hown hts hKn hS h fd_4_4_16 rfl (Or.inl (hts _ q1881)) (fun _ z => z) dX4_is_24 (fun x24 h => ?_)
      refine lv_isub hx hb dX4_is_27 ?_
      refine lv_icmp_ne (tgt := 35) hx hb dX4_is_28 (by decide) (fun c_28 => ?_) (fun c_28 => ?_)
      · have h := g_ift c_28 h
        exact sX4_is_b35 C _ _ _ _ h _ _ _ _ _ hS (gls_sub hl [0, 1] rfl)
      · have h := g_iff (fun z => z c_28) h
        refine lv_iconst (v := 1) hx hb dX4_is_31 (by decide) ?_
        refine lv_goto (tgt := 36) hx hb dX4_is_32 (by decide) ?_
        exact sX4_is_b36 C _ _ _ _ _ h _ _ _ _ _ hS (gls_sub hl [0, 1] rfl)
/-- SendHallModel.isAt(II)Z -/
def fX4_isAt (E : g_E) (t : Nat) (v1 : Int32) (v2 : Int32) (G : g_G) : Option (Int32 × g_G) :=
  (gchk G 4 (some t)).bind fun b3 =>
  (fX4_own E b3 v1 0 G).bind fun z3 =>
  if z3.1 = (-1 : Int32) then (
    if (0 : Int32) = 0 ∨ (0 : Int32) = 1 then some (0, z3.2) else none)
  else (
    (gchk z3.2 4 (some t)).bind fun b15 =>
    (fX4_own E b15 v1 1 z3.2).bind fun z15 =>
    if ¬ z15.1 = 0 then (
      if (0 : Int32) = 0 ∨ (0 : Int32) = 1 then some (0, z15.2) else none)
    else (
      (grR z15.2 4 4 (some t) 24).bind fun x22 =>
      (gaI z15.2 100 x22 z3.1).bind fun x26 =>
      if ¬ x26 = v2 then (
        if (0 : Int32) = 0 ∨ (0 : Int32) = 1 then some (0, z15.2) else none)
      else (
        if (1 : Int32) = 0 ∨ (1 : Int32) = 1 then some (1, z15.2) else none)))
theorem sX4_isAt (l : Launch) (E : g_E) (D : g_D) {t : Nat} {v1 : Int32} {v2 : Int32} {G : g_G} {q : Int32 × g_G} (h : fX4_isAt E t v1 v2 G = some q) : gMet l E D yX4_isAt (ws_ yX4_isAt cX4_isAt 4 (some .boolean)) 2 86 [.inr (.inr (some t)), .inl v1, .inl v2] G (some (.int q.1)) q.2 := by
  refine gMet.of (by decide +kernel) (Nat.le_of_ble_eq_true rfl) ?_
  intro p e R s m args below meth c C hS ls hl
  have C : gC p R s m args meth c cX4_isAt 4 RX4 "isAt" (some .boolean) 2 86 E D := C
  obtain ⟨hx, hb, hml, hown, hts, hKn, hRc, hRs, hc1, hc2, hRf, hRl, hr, hlk, hnm⟩ := id C
  have hl : gls ls 4 [(0, .inr (.inr (some t))), (1, .inl v1), (2, .inl v2)] := hl
  generalize s.heap = H at hS ⊢
  unfold fX4_isAt at h
  refine g_aload_n hx hb hl 0 rfl dX4_isAt_0 ?_
  refine g_iload_n hx hb hl 1 rfl dX4_isAt_1 ?_
  refine lv_iconst (v := 0) hx hb dX4_isAt_2 (by decide) ?_
  obtain ⟨b3, hb3, h⟩ := g_bnd h
  obtain ⟨hr3, hk3⟩ := g_chk hb3
  obtain ⟨z3, h3, h⟩ := g_bnd h
  refine g_callV (n := 2) (b := b3) (av := [.inl v1, .inl 0]) (rs := []) hx hb hml hown hts hKn hRc hRs hS hl (sX4_own l E D h3) (lw_V q2245 q2247 qs77 q135 q2248) ⟨rfl, by decide, by decide, by decide +kernel⟩ ⟨by rw [hRf]; exact Nat.le_of_ble_eq_true rfl, by rw [hRl]; exact Nat.le_of_ble_eq_true rfl⟩ (g_recv hKn hS hk3 (by decide) (by decide)) rfl (by rw [hr3]; rfl) (Nat.le_of_ble_eq_true rfl) dX4_isAt_3 (fun H locs cells slots hS => ?_)
  refine g_istore_n (l1 := [(3, .inl z3.1), (0, .inr (.inr (some t))), (1, .inl v1), (2, .inl v2)]) hx hb hl (by decide) rfl dX4_isAt_6 (fun ls hl => ?_)
  refine g_iload_n hx hb hl 0 rfl dX4_isAt_7 ?_
  refine lv_iconst (v := (-1)) hx hb dX4_isAt_8 (by decide) ?_
  refine lv_icmp_eq (tgt := 35) hx hb dX4_isAt_9 (by decide) (fun c_9 => ?_) (fun c_9 => ?_)
  · have h := g_ift c_9 h
    refine lv_iconst (v := 0) hx hb dX4_isAt_35 (by decide) ?_
    exact g_zretG hx hb hr hlk hKn hRc hRs hS h dX4_isAt_36
  · have h := g_iff c_9 h
    refine g_aload_n hx hb hl 1 rfl dX4_isAt_12 ?_
    refine g_iload_n hx hb hl 2 rfl dX4_isAt_13 ?_
    refine lv_iconst (v := 1) hx hb dX4_isAt_14 (by decide) ?_
    obtain ⟨b15, hb15, h⟩ := g_bnd h
    obtain ⟨hr15, hk15⟩ := g_chk hb15
    obtain ⟨z15, h15, h⟩ := g_bnd h
    refine g_callV (n := 2) (b := b15) (av := [.inl v1, .inl 1]) (rs := []) hx hb hml hown hts hKn hRc hRs hS hl (sX4_own l E D h15) (lw_V q2245 q2247 qs77 q135 q2248) ⟨rfl, by decide, by decide, by decide +kernel⟩ ⟨by rw [hRf]; exact Nat.le_of_ble_eq_true rfl, by rw [hRl]; exact Nat.le_of_ble_eq_true rfl⟩ (g_recv hKn hS hk15 (by decide) (by decide)) rfl (by rw [hr15]; rfl) (Nat.le_of_ble_eq_true rfl) dX4_isAt_15 (fun H locs cells slots hS => ?_)
    refine lv_if_ne (tgt := 35) hx hb dX4_isAt_18 (by decide) (fun c_18 => ?_) (fun c_18 => ?_)
    · have h := g_ift c_18 h
      refine lv_iconst (v := 0) hx hb dX4_isAt_35 (by decide) ?_
      exact g_zretG hx hb hr hlk hKn hRc hRs hS h dX4_isAt_36
    · have h := g_iff (fun z => z c_18) h
      refine g_aload_n hx hb hl 1 rfl dX4_isAt_21 ?_
      refine g_rdR hx hb hown hts hKn hS h fd_4_4_24 rfl (Or.inl (hts _ q1889)) (fun _ z => z) dX4_isAt_22 (fun x22 h => ?_)
      refine g_iload_n hx hb hl 0 rfl dX4_isAt_25 ?_
      refine g_ialoadG hx hb hKn hS h dX4_isAt_26 (fun x26 h => ?_)
      refine g_iload_n hx hb hl 3 rfl dX4_isAt_27 ?_
      refine lv_icmp_ne (tgt := 35) hx hb dX4_isAt_28 (by decide) (fun c_28 => ?_) (fun c_28 => ?_)
      · have h := g_ift c_28 h
        refine lv_iconst (v := 0) hx hb dX4_isAt_35 (by decide) ?_
        exact g_zretG hx hb hr hlk hKn hRc hRs hS h dX4_isAt_36
      · have h := g_iff (fun z => z c_28) h
        refine lv_iconst (v := 1) hx hb dX4_isAt_31 (by decide) ?_
        refine lv_goto (tgt := 36) hx hb dX4_isAt_32 (by decide) ?_
        exact g_zretG hx hb hr hlk hKn hRc hRs hS h dX4_isAt_36
/-- SendHallModel.isHand(I)Z -/
def fX4_isHand (E : g_E) (t : Nat) (v1 : Int32) (G : g_G) : Option (Int32 × g_G) :=
  (grI G 4 4 (some t) 3).bind fun x3 =>
  (fX4_isIn E v1 0 (x3 - 1) G).bind fun z8 =>
  if z8.1 = 0 ∨ z8.1 = 1 then some (z8.1, z8.2) else none
theorem sX4_isHand (l : Launch) (E : g_E) (D : g_D) {t : Nat} {v1 : Int32} {G : g_G} {q : Int32 × g_G} (h : fX4_isHand E t v1 G = some q) : gMet l E D yX4_isHand (ws_ yX4_isHand cX4_isHand 2 (some .boolean)) 2 86 [.inr (.inr (some t)), .inl v1] G (some (.int q.1)) q.2 := by
  refine gMet.of (by decide +kernel) (Nat.le_of_ble_eq_true rfl) ?_
  intro p e R s m args below meth c C hS ls hl
  have C : gC p R s m args meth c cX4_isHand 2 RX4 "isHand" (some .boolean) 2 86 E D := C
  obtain ⟨hx, hb, hml, hown, hts, hKn, hRc, hRs, hc1, hc2, hRf, hRl, hr, hlk, hnm⟩ := id C
  have hl : gls ls 2 [(0, .inr (.inr (some t))), (1, .inl v1)] := hl
  generalize s.heap = H at hS ⊢
  unfold fX4_isHand at h
  refine g_iload_n hx hb hl 1 rfl dX4_isHand_0 ?_
  refine lv_iconst (v := 0) hx hb dX4_isHand_1 (by decide) ?_
  refine g_aload_n hx hb hl 0 rfl dX4_isHand_2 ?_
  refine g_rdI hx hb hown hts hKn hS h fd_4_4_3 rfl (Or.inl (hts _ q1868)) (fun _ z => z) dX4_isHand_3 (fun x3 h => ?_)
  refine lv_iconst (v := 1) hx hb dX4_isHand_6 (by decide) ?_
  refine lv_isub hx hb dX4_isHand_7 ?_
  obtain ⟨z8, h8, h⟩ := g_bnd h
  refine g_callS (n := 3) (av := [.inl v1, .inl 0, .inl (x3 - 1)]) (rs := []) hx hb hml hown hts hKn hRc hRs hS hl (sX4_isIn l E D h8) (lw_S q2180 q2181 q135 q2182) ⟨by decide, by decide, by decide +kernel⟩ ⟨by rw [hRf]; exact Nat.le_of_ble_eq_true rfl, by rw [hRl]; exact Nat.le_of_ble_eq_true rfl⟩ rfl rfl (Nat.le_of_ble_eq_true rfl) dX4_isHand_8 (fun H locs cells slots hS => ?_)
  exact g_zretG hx hb hr hlk hKn hRc hRs hS h dX4_isHand_11
/-- SendHallModel.keep()V -/
def fX4_keep_b154 (E : g_E) : Nat → Nat → Int32 → Int32 → Int32 → g_G → Option (g_G)
  | 0, _, _, _, _, _ => none
  | n + 1, t, v1, v2, v3, G =>
    if v1 ≤ v3 then (
      (grR G 4 4 (some t) 44).bind fun x187 =>
      (grI G 4 4 (some t) 46).bind fun x191 =>
      (gsaI E G x187 x191 v2).bind fun G195 =>
      (grI G195 4 4 (some t) 46).bind fun x198 =>
      (gpI E G195 4 4 (some t) 46 (x198 + 1)).bind fun G203 =>
      some G203)
    else (
      (grR G 4 4 (some t) 43).bind fun x160 =>
      (grI G 4 4 (some t) 46).bind fun x167 =>
      (grR G 4 4 (some t) 33).bind fun x174 =>
      (gaI G 100 x174 v3).bind fun x178 =>
      (gsaI E G x160 ((1985 * x167) + v3) x178).bind fun G179 =>
      fX4_keep_b154 E n t v1 v2 (v3 + 1) G179)
def fX4_keep_b130 (E : g_E) (k41 : Nat → Int32 → Int32 → Int32 → g_G → Option (g_G)) (t : Nat) (v1 : Int32) (v2 : Int32) (v3 : Int32) (G : g_G) : Option (g_G) :=
  k41 t v1 v2 (v3 + 1) G
def fX4_keep_b124 (E : g_E) (k41 : Nat → Int32 → Int32 → Int32 → g_G → Option (g_G)) (t : Nat) (v1 : Int32) (v2 : Int32) (v3 : Int32) (v4 : Int32) (G : g_G) : Option (g_G) :=
  if v4 = 0 then (
    fX4_keep_b130 E k41 t v1 v2 v3 G)
  else (
    some G)
def fX4_keep_b116 (E : g_E) (k41 : Nat → Int32 → Int32 → Int32 → g_G → Option (g_G)) (k77 : Nat → Int32 → Int32 → Int32 → Int32 → Int32 → g_G → Option (g_G)) (t : Nat) (v1 : Int32) (v2 : Int32) (v3 : Int32) (v5 : Int32) (s0 : Int32) (G : g_G) : Option (g_G) :=
  k77 t v1 v2 v3 s0 (v5 + 1) G
def fX4_keep_b77 (E : g_E) (k41 : Nat → Int32 → Int32 → Int32 → g_G → Option (g_G)) : Nat → Nat → Int32 → Int32 → Int32 → Int32 → Int32 → g_G → Option (g_G)
  | 0, _, _, _, _, _, _, _ => none
  | n + 1, t, v1, v2, v3, v4, v5, G =>
    if v1 ≤ v5 then (
      fX4_keep_b124 E k41 t v1 v2 v3 v4 G)
    else (
      if v4 = 0 then (
        fX4_keep_b124 E k41 t v1 v2 v3 v4 G)
      else (
        (grR G 4 4 (some t) 43).bind fun x89 =>
        (gaI G 100 x89 ((1985 * v3) + v5)).bind fun x100 =>
        (grR G 4 4 (some t) 33).bind fun x102 =>
        (gaI G 100 x102 v5).bind fun x107 =>
        if ¬ x100 = x107 then (
          fX4_keep_b116 E k41 (fX4_keep_b77 E k41 n) t v1 v2 v3 v5 0 G)
        else (
          fX4_keep_b116 E k41 (fX4_keep_b77 E k41 n) t v1 v2 v3 v5 1 G)))
def fX4_keep_b41 (E : g_E) : Nat → Nat → Int32 → Int32 → Int32 → g_G → Option (g_G)
  | 0, _, _, _, _, _ => none
  | n + 1, t, v1, v2, v3, G =>
    (grI G 4 4 (some t) 46).bind fun x43 =>
    if x43 ≤ v3 then (
      (grI G 4 4 (some t) 46).bind fun x137 =>
      if ¬ x137 = (200 : Int32) then (
        fX4_keep_b154 E gFU t v1 v2 0 G)
      else (
        (gpZ E G 4 4 (some t) 48 1).bind fun G148 =>
        some G148))
    else (
      (grR G 4 4 (some t) 44).bind fun x50 =>
      (gaI G 100 x50 v3).bind fun x54 =>
      if ¬ x54 = v2 then (
        fX4_keep_b130 E (fX4_keep_b41 E n) t v1 v2 v3 G)
      else (
        (gchk G 4 (some t)).bind fun b61 =>
        (fX4_used E b61 v3 G).bind fun z61 =>
        if z61.1 = v1 then (
          fX4_keep_b77 E (fX4_keep_b41 E n) gFU t v1 v2 v3 1 0 z61.2)
        else (
          fX4_keep_b130 E (fX4_keep_b41 E n) t v1 v2 v3 z61.2)))
def fX4_keep_b16 (E : g_E) : Nat → Nat → Int32 → Int32 → Int32 → g_G → Option (g_G)
  | 0, _, _, _, _, _ => none
  | n + 1, t, v1, v2, v3, G =>
    if v1 ≤ v3 then (
      fX4_keep_b41 E gFU t v1 v2 0 G)
    else (
      (grR G 4 4 (some t) 33).bind fun x26 =>
      (gaI G 100 x26 v3).bind fun x30 =>
      fX4_keep_b16 E n t v1 ((31 * v2) + x30) (v3 + 1) G)
def fX4_keep (E : g_E) (t : Nat) (G : g_G) : Option (g_G) :=
  (gchk G 4 (some t)).bind fun b5 =>
  (fX4_words E b5 G).bind fun z5 =>
  fX4_keep_b16 E gFU t (65 + (6 * z5.1)) 7 0 z5.2
theorem sX4_keep_b154 {p : Program} {l : Launch} {e : Env} {R : Room} {s : State} {m : MethodId} {args : Array Value} {below : List Frame} {meth : Method} {c : Code} {E : g_E} {D : g_D} (C : gC p R s m args meth c cX4_keep 6 RX4 "keep" (none) 2 85 E D) : ∀ (n : Nat) (t : Nat) (v1 : Int32) (v2 : Int32) (v3 : Int32) (G : g_G) (q : g_G), fX4_keep_b154 E n t v1 v2 v3 G = some q → ∀ (H : Heap) (locs : List Loc) (cells slots : Nat) (ls : Array Slot), gSt E D G H locs → gls ls 6 [(0, .inr (.inr (some t))), (1, .inl v1), (2, .inl v2), (3, .inl v3)] → gT p l e R s m args below meth c E D H locs cells slots none q (F0 m 154 ls []) := by
  obtain ⟨hx, hb, hml, hown, hts, hKn, hRc, hRs, hc1, hc2, hRf, hRl, hr, hlk, hnm⟩ := id C
  intro n
  induction n with
  | zero =>
    intro t v1 v2 v3 G q h
    exact g_no h
  | succ n ih =>
    intro t v1 v2 v3 G q h H locs cells slots ls hS hl
    rw [fX4_keep_b154] at h
    refine g_iload_n hx hb hl 3 rfl dX4_keep_154 ?_
    refine g_iload_n hx hb hl 1 rfl dX4_keep_155 ?_
    refine lv_icmp_ge (tgt := 186) hx hb dX4_keep_156 (by decide) (fun c_156 => ?_) (fun c_156 => ?_)
    · have h := g_ift c_156 h
      refine g_aload_n hx hb hl 0 rfl dX4_keep_186 ?_
      refine g_rdR hx hb hown hts hKn hS h fd_4_4_44 rfl (Or.inl (hts _ q1909)) (fun _ z => z) dX4_keep_187 (fun x187 h => ?_)
      refine g_aload_n hx hb hl 0 rfl dX4_keep_190 ?_
      refine g_rdI hx hb hown hts hKn hS h fd_4_4_46 rfl (Or.inl (hts _ q1911)) (fun _ z => z) dX4_keep_191 (fun x191 h => ?_)
      refine g_iload_n hx hb hl 2 rfl dX4_keep_194 ?_
      refine g_iastoreG hx hb hKn hS h dX4_keep_195 (fun G195 h H locs hS => ?_)
      refine g_aload_n hx hb hl 0 rfl dX4_keep_196 ?_
      refine lv_dup hx hb dX4_keep_197 (by first | exact va_rf_cat _ | rfl | exact g_catA _) ?_
      refine g_rdI hx hb hown hts hKn hS h fd_4_4_46 rfl (Or.inl (hts _ q1911)) (fun _ z => z) dX4_keep_198 (fun x198 h => ?_)
      refine lv_iconst (v := 1) hx hb dX4_keep_201 (by decide) ?_
      refine lv_iadd hx hb dX4_keep_202 ?_
      refine g_ptI hx hb hown hts hKn hS h fd_4_4_46 (Or.inl (hts _ q1911)) (fun _ z => z) (fun z => nomatch z) dX4_keep_203 (fun G203 h H locs hS => ?_)
      exact g_vretG hx hb hr hlk hKn hRc hRs hS h dX4_keep_206
    · have h := g_iff c_156 h
      refine g_aload_n hx hb hl 0 rfl dX4_keep_159 ?_
      refine g_rdR hx hb hown hts hKn hS h fd_4_4_43 rfl (Or.inl (hts _ q1908)) (fun _ z => z) dX4_keep_160 (fun x160 h => ?_)
      refine lv_sipush (v := 1985) hx hb dX4_keep_163 (by decide) ?_
      refine g_aload_n hx hb hl 0 rfl dX4_keep_166 ?_
      refine g_rdI hx hb hown hts hKn hS h fd_4_4_46 rfl (Or.inl (hts _ q1911)) (fun _ z => z) dX4_keep_167 (fun x167 h => ?_)
      refine lv_imul hx hb dX4_keep_170 ?_
      refine g_iload_n hx hb hl 3 rfl dX4_keep_171 ?_
      refine lv_iadd hx hb dX4_keep_172 ?_
      refine g_aload_n hx hb hl 0 rfl dX4_keep_173 ?_
      refine g_rdR hx hb hown hts hKn hS h fd_4_4_33 rfl (Or.inl (hts _ q1898)) (fun _ z => z) dX4_keep_174 (fun x174 h => ?_)
      refine g_iload_n hx hb hl 3 rfl dX4_keep_177 ?_
      refine g_ialoadG hx hb hKn hS h dX4_keep_178 (fun x178 h => ?_)
      refine g_iastoreG hx hb hKn hS h dX4_keep_179 (fun G179 h H locs hS => ?_)
      refine g_iinc (l1 := [(3, .inl (v3 + 1)), (0, .inr (.inr (some t))), (1, .inl v1), (2, .inl v2)]) (v := (v3 + 1)) hx hb hl (k := 3) rfl (by rfl) (by decide) rfl dX4_keep_180 (fun ls hl => ?_)
      refine lv_goto (tgt := 154) hx hb dX4_keep_183 (by decide) ?_
      exact ih _ _ _ _ _ _ h _ _ _ _ _ hS (gls_sub hl [1, 2, 3, 0] rfl)
theorem sX4_keep_b130 {p : Program} {l : Launch} {e : Env} {R : Room} {s : State} {m : MethodId} {args : Array Value} {below : List Frame} {meth : Method} {c : Code} {E : g_E} {D : g_D} (C : gC p R s m args meth c cX4_keep 6 RX4 "keep" (none) 2 85 E D) {k41 : Nat → Int32 → Int32 → Int32 → g_G → Option (g_G)} (hk41 : ∀ (t : Nat) (v1 : Int32) (v2 : Int32) (v3 : Int32) (G : g_G) (q : g_G), k41 t v1 v2 v3 G = some q → ∀ (H : Heap) (locs : List Loc) (cells slots : Nat) (ls : Array Slot), gSt E D G H locs → gls ls 6 [(0, .inr (.inr (some t))), (1, .inl v1), (2, .inl v2), (3, .inl v3)] → gT p l e R s m args below meth c E D H locs cells slots none q (F0 m 41 ls [])) : ∀ (t : Nat) (v1 : Int32) (v2 : Int32) (v3 : Int32) (G : g_G) (q : g_G), fX4_keep_b130 E k41 t v1 v2 v3 G = some q → ∀ (H : Heap) (locs : List Loc) (cells slots : Nat) (ls : Array Slot), gSt E D G H locs → gls ls 6 [(0, .inr (.inr (some t))), (1, .inl v1), (2, .inl v2), (3, .inl v3)] → gT p l e R s m args below meth c E D H locs cells slots none q (F0 m 130 ls []) := by
  obtain ⟨hx, hb, hml, hown, hts, hKn, hRc, hRs, hc1, hc2, hRf, hRl, hr, hlk, hnm⟩ := id C
  intro t v1 v2 v3 G q h H locs cells slots ls hS hl
  unfold fX4_keep_b130 at h
  refine g_iinc (l1 := [(3, .inl (v3 + 1)), (0, .inr (.inr (some t))), (1, .inl v1), (2, .inl v2)]) (v := (v3 + 1)) hx hb hl (k := 3) rfl (by rfl) (by decide) rfl dX4_keep_130 (fun ls hl => ?_)
  refine lv_goto (tgt := 41) hx hb dX4_keep_133 (by decide) ?_
  exact hk41 _ _ _ _ _ _ h _ _ _ _ _ hS (gls_sub hl [1, 2, 3, 0] rfl)
theorem sX4_keep_b124 {p : Program} {l : Launch} {e : Env} {R : Room} {s : State} {m : MethodId} {args : Array Value} {below : List Frame} {meth : Method} {c : Code} {E : g_E} {D : g_D} (C : gC p R s m args meth c cX4_keep 6 RX4 "keep" (none) 2 85 E D) {k41 : Nat → Int32 → Int32 → Int32 → g_G → Option (g_G)} (hk41 : ∀ (t : Nat) (v1 : Int32) (v2 : Int32) (v3 : Int32) (G : g_G) (q : g_G), k41 t v1 v2 v3 G = some q → ∀ (H : Heap) (locs : List Loc) (cells slots : Nat) (ls : Array Slot), gSt E D G H locs → gls ls 6 [(0, .inr (.inr (some t))), (1, .inl v1), (2, .inl v2), (3, .inl v3)] → gT p l e R s m args below meth c E D H locs cells slots none q (F0 m 41 ls [])) : ∀ (t : Nat) (v1 : Int32) (v2 : Int32) (v3 : Int32) (v4 : Int32) (G : g_G) (q : g_G), fX4_keep_b124 E k41 t v1 v2 v3 v4 G = some q → ∀ (H : Heap) (locs : List Loc) (cells slots : Nat) (ls : Array Slot), gSt E D G H locs → gls ls 6 [(0, .inr (.inr (some t))), (1, .inl v1), (2, .inl v2), (3, .inl v3), (4, .inl v4)] → gT p l e R s m args below meth c E D H locs cells slots none q (F0 m 124 ls []) := by
  obtain ⟨hx, hb, hml, hown, hts, hKn, hRc, hRs, hc1, hc2, hRf, hRl, hr, hlk, hnm⟩ := id C
  intro t v1 v2 v3 v4 G q h H locs cells slots ls hS hl
  unfold fX4_keep_b124 at h
  refine g_iload hx hb hl 4 rfl dX4_keep_124 ?_
  refine lv_if_eq (tgt := 130) hx hb dX4_keep_126 (by decide) (fun c_126 => ?_) (fun c_126 => ?_)
  · have h := g_ift c_126 h
    exact sX4_keep_b130 C hk41 _ _ _ _ _ _ h _ _ _ _ _ hS (gls_sub hl [0, 1, 2, 3] rfl)
  · have h := g_iff c_126 h
    exact g_vretG hx hb hr hlk hKn hRc hRs hS h dX4_keep_129
theorem sX4_keep_b116 {p : Program} {l : Launch} {e : Env} {R : Room} {s : State} {m : MethodId} {args : Array Value} {below : List Frame} {meth : Method} {c : Code} {E : g_E} {D : g_D} (C : gC p R s m args meth c cX4_keep 6 RX4 "keep" (none) 2 85 E D) {k41 : Nat → Int32 → Int32 → Int32 → g_G → Option (g_G)} (hk41 : ∀ (t : Nat) (v1 : Int32) (v2 : Int32) (v3 : Int32) (G : g_G) (q : g_G), k41 t v1 v2 v3 G = some q → ∀ (H : Heap) (locs : List Loc) (cells slots : Nat) (ls : Array Slot), gSt E D G H locs → gls ls 6 [(0, .inr (.inr (some t))), (1, .inl v1), (2, .inl v2), (3, .inl v3)] → gT p l e R s m args below meth c E D H locs cells slots none q (F0 m 41 ls [])) {k77 : Nat → Int32 → Int32 → Int32 → Int32 → Int32 → g_G → Option (g_G)} (hk77 : ∀ (t : Nat) (v1 : Int32) (v2 : Int32) (v3 : Int32) (v4 : Int32) (v5 : Int32) (G : g_G) (q : g_G), k77 t v1 v2 v3 v4 v5 G = some q → ∀ (H : Heap) (locs : List Loc) (cells slots : Nat) (ls : Array Slot), gSt E D G H locs → gls ls 6 [(0, .inr (.inr (some t))), (1, .inl v1), (2, .inl v2), (3, .inl v3), (4, .inl v4), (5, .inl v5)] → gT p l e R s m args below meth c E D H locs cells slots none q (F0 m 77 ls [])) : ∀ (t : Nat) (v1 : Int32) (v2 : Int32) (v3 : Int32) (v5 : Int32) (s0 : Int32) (G : g_G) (q : g_G), fX4_keep_b116 E k41 k77 t v1 v2 v3 v5 s0 G = some q → ∀ (H : Heap) (locs : List Loc) (cells slots : Nat) (ls : Array Slot), gSt E D G H locs → gls ls 6 [(0, .inr (.inr (some t))), (1, .inl v1), (2, .inl v2), (3, .inl v3), (5, .inl v5)] → gT p l e R s m args below meth c E D H locs cells slots none q (F0 m 116 ls [.int s0]) := by
  obtain ⟨hx, hb, hml, hown, hts, hKn, hRc, hRs, hc1, hc2, hRf, hRl, hr, hlk, hnm⟩ := id C
  intro t v1 v2 v3 v5 s0 G q h H locs cells slots ls hS hl
  unfold fX4_keep_b116 at h
  refine g_istore (l1 := [(4, .inl s0), (0, .inr (.inr (some t))), (1, .inl v1), (2, .inl v2), (3, .inl v3), (5, .inl v5)]) hx hb hl (by decide) rfl dX4_keep_116 (fun ls hl => ?_)
  refine g_iinc (l1 := [(5, .inl (v5 + 1)), (4, .inl s0), (0, .inr (.inr (some t))), (1, .inl v1), (2, .inl v2), (3, .inl v3)]) (v := (v5 + 1)) hx hb hl (k := 5) rfl (by rfl) (by decide) rfl dX4_keep_118 (fun ls hl => ?_)
  refine lv_goto (tgt := 77) hx hb dX4_keep_121 (by decide) ?_
  exact hk77 _ _ _ _ _ _ _ _ h _ _ _ _ _ hS (gls_sub hl [2, 3, 4, 5, 1, 0] rfl)
theorem sX4_keep_b77 {p : Program} {l : Launch} {e : Env} {R : Room} {s : State} {m : MethodId} {args : Array Value} {below : List Frame} {meth : Method} {c : Code} {E : g_E} {D : g_D} (C : gC p R s m args meth c cX4_keep 6 RX4 "keep" (none) 2 85 E D) {k41 : Nat → Int32 → Int32 → Int32 → g_G → Option (g_G)} (hk41 : ∀ (t : Nat) (v1 : Int32) (v2 : Int32) (v3 : Int32) (G : g_G) (q : g_G), k41 t v1 v2 v3 G = some q → ∀ (H : Heap) (locs : List Loc) (cells slots : Nat) (ls : Array Slot), gSt E D G H locs → gls ls 6 [(0, .inr (.inr (some t))), (1, .inl v1), (2, .inl v2), (3, .inl v3)] → gT p l e R s m args below meth c E D H locs cells slots none q (F0 m 41 ls [])) : ∀ (n : Nat) (t : Nat) (v1 : Int32) (v2 : Int32) (v3 : Int32) (v4 : Int32) (v5 : Int32) (G : g_G) (q : g_G), fX4_keep_b77 E k41 n t v1 v2 v3 v4 v5 G = some q → ∀ (H : Heap) (locs : List Loc) (cells slots : Nat) (ls : Array Slot), gSt E D G H locs → gls ls 6 [(0, .inr (.inr (some t))), (1, .inl v1), (2, .inl v2), (3, .inl v3), (4, .inl v4), (5, .inl v5)] → gT p l e R s m args below meth c E D H locs cells slots none q (F0 m 77 ls []) := by
  obtain ⟨hx, hb, hml, hown, hts, hKn, hRc, hRs, hc1, hc2, hRf, hRl, hr, hlk, hnm⟩ := id C
  intro n
  induction n with
  | zero =>
    intro t v1 v2 v3 v4 v5 G q h
    exact g_no h
  | succ n ih =>
    intro t v1 v2 v3 v4 v5 G q h H locs cells slots ls hS hl
    rw [fX4_keep_b77] at h
    refine g_iload hx hb hl 5 rfl dX4_keep_77 ?_
    refine g_iload_n hx hb hl 1 rfl dX4_keep_79 ?_
    refine lv_icmp_ge (tgt := 124) hx hb dX4_keep_80 (by decide) (fun c_80 => ?_) (fun c_80 => ?_)
    · have h := g_ift c_80 h
      exact sX4_keep_b124 C hk41 _ _ _ _ _ _ _ h _ _ _ _ _ hS (gls_sub hl [0, 1, 2, 3, 4] rfl)
    · have h := g_iff c_80 h
      refine g_iload hx hb hl 4 rfl dX4_keep_83 ?_
      refine lv_if_eq (tgt := 124) hx hb dX4_keep_85 (by decide) (fun c_85 => ?_) (fun c_85 => ?_)
      · have h := g_ift c_85 h
        exact sX4_keep_b124 C hk41 _ _ _ _ _ _ _ h _ _ _ _ _ hS (gls_sub hl [0, 1, 2, 3, 4] rfl)
      · have h := g_iff c_85 h
        refine g_aload_n hx hb hl 0 rfl dX4_keep_88 ?_
        refine g_rdR hx hb hown hts hKn hS h fd_4_4_43 rfl (Or.inl (hts _ q1908)) (fun _ z => z) dX4_keep_89 (fun x89 h => ?_)
        refine lv_sipush (v := 1985) hx hb dX4_keep_92 (by decide) ?_
        refine g_iload_n hx hb hl 3 rfl dX4_keep_95 ?_
        refine lv_imul hx hb dX4_keep_96 ?_
        refine g_iload hx hb hl 5 rfl dX4_keep_97 ?_
        refine lv_iadd hx hb dX4_keep_99 ?_
        refine g_ialoadG hx hb hKn hS h dX4_keep_100 (fun x100 h => ?_)
        refine g_aload_n hx hb hl 0 rfl dX4_keep_101 ?_
        refine g_rdR hx hb hown hts hKn hS h fd_4_4_33 rfl (Or.inl (hts _ q1898)) (fun _ z => z) dX4_keep_102 (fun x102 h => ?_)
        refine g_iload hx hb hl 5 rfl dX4_keep_105 ?_
        refine g_ialoadG hx hb hKn hS h dX4_keep_107 (fun x107 h => ?_)
        refine lv_icmp_ne (tgt := 115) hx hb dX4_keep_108 (by decide) (fun c_108 => ?_) (fun c_108 => ?_)
        · have h := g_ift c_108 h
          refine lv_iconst (v := 0) hx hb dX4_keep_115 (by decide) ?_
          exact sX4_keep_b116 C hk41 ih _ _ _ _ _ _ _ _ h _ _ _ _ _ hS (gls_sub hl [0, 1, 2, 3, 5] rfl)
        · have h := g_iff (fun z => z c_108) h
          refine lv_iconst (v := 1) hx hb dX4_keep_111 (by decide) ?_
          refine lv_goto (tgt := 116) hx hb dX4_keep_112 (by decide) ?_
          exact sX4_keep_b116 C hk41 ih _ _ _ _ _ _ _ _ h _ _ _ _ _ hS (gls_sub hl [0, 1, 2, 3, 5] rfl)
theorem sX4_keep_b41 {p : Program} {l : Launch} {e : Env} {R : Room} {s : State} {m : MethodId} {args : Array Value} {below : List Frame} {meth : Method} {c : Code} {E : g_E} {D : g_D} (C : gC p R s m args meth c cX4_keep 6 RX4 "keep" (none) 2 85 E D) : ∀ (n : Nat) (t : Nat) (v1 : Int32) (v2 : Int32) (v3 : Int32) (G : g_G) (q : g_G), fX4_keep_b41 E n t v1 v2 v3 G = some q → ∀ (H : Heap) (locs : List Loc) (cells slots : Nat) (ls : Array Slot), gSt E D G H locs → gls ls 6 [(0, .inr (.inr (some t))), (1, .inl v1), (2, .inl v2), (3, .inl v3)] → gT p l e R s m args below meth c E D H locs cells slots none q (F0 m 41 ls []) := by
  obtain ⟨hx, hb, hml, hown, hts, hKn, hRc, hRs, hc1, hc2, hRf, hRl, hr, hlk, hnm⟩ := id C
  intro n
  induction n with
  | zero =>
    intro t v1 v2 v3 G q h
    exact g_no h
  | succ n ih =>
    intro t v1 v2 v3 G q h H locs cells slots ls hS hl
    rw [fX4_keep_b41] at h
    refine g_iload_n hx hb hl 3 rfl dX4_keep_41 ?_
    refine g_aload_n hx hb hl 0 rfl dX4_keep_42 ?_
    refine g_rdI hx hb hown hts hKn hS h fd_4_4_46 rfl (Or.inl (hts _ q1911)) (fun _ z => z) dX4_keep_43 (fun x43 h => ?_)
    refine lv_icmp_ge (tgt := 136) hx hb dX4_keep_46 (by decide) (fun c_46 => ?_) (fun c_46 => ?_)
    · have h := g_ift c_46 h
      refine g_aload_n hx hb hl 0 rfl dX4_keep_136 ?_
      refine g_rdI hx hb hown hts hKn hS h fd_4_4_46 rfl (Or.inl (hts _ q1911)) (fun _ z => z) dX4_keep_137 (fun x137 h => ?_)
      refine lv_sipush (v := 200) hx hb dX4_keep_140 (by decide) ?_
      refine lv_icmp_ne (tgt := 152) hx hb dX4_keep_143 (by decide) (fun c_143 => ?_) (fun c_143 => ?_)
      · have h := g_ift c_143 h
        refine lv_iconst (v := 0) hx hb dX4_keep_152 (by decide) ?_
        refine g_istore_n (l1 := [(3, .inl 0), (0, .inr (.inr (some t))), (1, .inl v1), (2, .inl v2)]) hx hb hl (by decide) rfl dX4_keep_153 (fun ls hl => ?_)
        exact sX4_keep_b154 C gFU _ _ _ _ _ _ h _ _ _ _ _ hS (gls_sub hl [1, 2, 3, 0] rfl)
      · have h := g_iff (fun z => z c_143) h
        refine g_aload_n hx hb hl 0 rfl dX4_keep_146 ?_
        refine lv_iconst (v := 1) hx hb dX4_keep_147 (by decide) ?_
        refine g_ptZ hx hb hown hts hKn hS h fd_4_4_48 (Or.inl (hts _ q1913)) (fun _ z => z) (fun z => nomatch z) dX4_keep_148 (fun G148 h H locs hS => ?_)
        exact g_vretG hx hb hr hlk hKn hRc hRs hS h dX4_keep_151
    · have h := g_iff c_46 h
      refine g_aload_n hx hb hl 0 rfl dX4_keep_49 ?_
      refine g_rdR hx hb hown hts hKn hS h fd_4_4_44 rfl (Or.inl (hts _ q1909)) (fun _ z => z) dX4_keep_50 (fun x50 h => ?_)
      refine g_iload_n hx hb hl 3 rfl dX4_keep_53 ?_
      refine g_ialoadG hx hb hKn hS h dX4_keep_54 (fun x54 h => ?_)
      refine g_iload_n hx hb hl 2 rfl dX4_keep_55 ?_
      refine lv_icmp_ne (tgt := 130) hx hb dX4_keep_56 (by decide) (fun c_56 => ?_) (fun c_56 => ?_)
      · have h := g_ift c_56 h
        exact sX4_keep_b130 C ih _ _ _ _ _ _ h _ _ _ _ _ hS (gls_sub hl [0, 1, 2, 3] rfl)
      · have h := g_iff (fun z => z c_56) h
        refine g_aload_n hx hb hl 0 rfl dX4_keep_59 ?_
        refine g_iload_n hx hb hl 3 rfl dX4_keep_60 ?_
        obtain ⟨b61, hb61, h⟩ := g_bnd h
        obtain ⟨hr61, hk61⟩ := g_chk hb61
        obtain ⟨z61, h61, h⟩ := g_bnd h
        refine g_callV (n := 1) (b := b61) (av := [.inl v3]) (rs := []) hx hb hml hown hts hKn hRc hRs hS hl (sX4_used l E D h61) (lw_V q2268 q2270 qs82 q135 q2271) ⟨rfl, by decide, by decide, by decide +kernel⟩ ⟨by rw [hRf]; exact Nat.le_of_ble_eq_true rfl, by rw [hRl]; exact Nat.le_of_ble_eq_true rfl⟩ (g_recv hKn hS hk61 (by decide) (by decide)) rfl (by rw [hr61]; rfl) (Nat.le_of_ble_eq_true rfl) dX4_keep_61 (fun H locs cells slots hS => ?_)
        refine g_iload_n hx hb hl 1 rfl dX4_keep_64 ?_
        refine lv_icmp_eq (tgt := 71) hx hb dX4_keep_65 (by decide) (fun c_65 => ?_) (fun c_65 => ?_)
        · have h := g_ift c_65 h
          refine lv_iconst (v := 1) hx hb dX4_keep_71 (by decide) ?_
          refine g_istore (l1 := [(4, .inl 1), (0, .inr (.inr (some t))), (1, .inl v1), (2, .inl v2), (3, .inl v3)]) hx hb hl (by decide) rfl dX4_keep_72 (fun ls hl => ?_)
          refine lv_iconst (v := 0) hx hb dX4_keep_74 (by decide) ?_
          refine g_istore (l1 := [(5, .inl 0), (4, .inl 1), (0, .inr (.inr (some t))), (1, .inl v1), (2, .inl v2), (3, .inl v3)]) hx hb hl (by decide) rfl dX4_keep_75 (fun ls hl => ?_)
          exact sX4_keep_b77 C ih gFU _ _ _ _ _ _ _ _ h _ _ _ _ _ hS (gls_sub hl [2, 3, 4, 5, 1, 0] rfl)
        · have h := g_iff c_65 h
          refine lv_goto (tgt := 130) hx hb dX4_keep_68 (by decide) ?_
          exact sX4_keep_b130 C ih _ _ _ _ _ _ h _ _ _ _ _ hS (gls_sub hl [0, 1, 2, 3] rfl)
theorem sX4_keep_b16 {p : Program} {l : Launch} {e : Env} {R : Room} {s : State} {m : MethodId} {args : Array Value} {below : List Frame} {meth : Method} {c : Code} {E : g_E} {D : g_D} (C : gC p R s m args meth c cX4_keep 6 RX4 "keep" (none) 2 85 E D) : ∀ (n : Nat) (t : Nat) (v1 : Int32) (v2 : Int32) (v3 : Int32) (G : g_G) (q : g_G), fX4_keep_b16 E n t v1 v2 v3 G = some q → ∀ (H : Heap) (locs : List Loc) (cells slots : Nat) (ls : Array Slot), gSt E D G H locs → gls ls 6 [(0, .inr (.inr (some t))), (1, .inl v1), (2, .inl v2), (3, .inl v3)] → gT p l e R s m args below meth c E D H locs cells slots none q (F0 m 16 ls []) := by
  obtain ⟨hx, hb, hml, hown, hts, hKn, hRc, hRs, hc1, hc2, hRf, hRl, hr, hlk, hnm⟩ := id C
  intro n
  induction n with
  | zero =>
    intro t v1 v2 v3 G q h
    exact g_no h
  | succ n ih =>
    intro t v1 v2 v3 G q h H locs cells slots ls hS hl
    rw [fX4_keep_b16] at h
    refine g_iload_n hx hb hl 3 rfl dX4_keep_16 ?_
    refine g_iload_n hx hb hl 1 rfl dX4_keep_17 ?_
    refine lv_icmp_ge (tgt := 39) hx hb dX4_keep_18 (by decide) (fun c_18 => ?_) (fun c_18 => ?_)
    · have h := g_ift c_18 h
      refine lv_iconst (v := 0) hx hb dX4_keep_39 (by decide) ?_
      refine g_istore_n (l1 := [(3, .inl 0), (0, .inr (.inr (some t))), (1, .inl v1), (2, .inl v2)]) hx hb hl (by decide) rfl dX4_keep_40 (fun ls hl => ?_)
      exact sX4_keep_b41 C gFU _ _ _ _ _ _ h _ _ _ _ _ hS (gls_sub hl [1, 2, 3, 0] rfl)
    · have h := g_iff c_18 h
      refine lv_bipush (v := 31) hx hb dX4_keep_21 (by decide) ?_
      refine g_iload_n hx hb hl 2 rfl dX4_keep_23 ?_
      refine lv_imul hx hb dX4_keep_24 ?_
      refine g_aload_n hx hb hl 0 rfl dX4_keep_25 ?_
      refine g_rdR hx hb hown hts hKn hS h fd_4_4_33 rfl (Or.inl (hts _ q1898)) (fun _ z => z) dX4_keep_26 (fun x26 h => ?_)
      refine g_iload_n hx hb hl 3 rfl dX4_keep_29 ?_
      refine g_ialoadG hx hb hKn hS h dX4_keep_30 (fun x30 h => ?_)
      refine lv_iadd hx hb dX4_keep_31 ?_
      refine g_istore_n (l1 := [(2, .inl ((31 * v2) + x30)), (0, .inr (.inr (some t))), (1, .inl v1), (3, .inl v3)]) hx hb hl (by decide) rfl dX4_keep_32 (fun ls hl => ?_)
      refine g_iinc (l1 := [(3, .inl (v3 + 1)), (2, .inl ((31 * v2) + x30)), (0, .inr (.inr (some t))), (1, .inl v1)]) (v := (v3 + 1)) hx hb hl (k := 3) rfl (by rfl) (by decide) rfl dX4_keep_33 (fun ls hl => ?_)
      refine lv_goto (tgt := 16) hx hb dX4_keep_36 (by decide) ?_
      exact ih _ _ _ _ _ _ h _ _ _ _ _ hS (gls_sub hl [2, 3, 1, 0] rfl)
theorem sX4_keep (l : Launch) (E : g_E) (D : g_D) {t : Nat} {G : g_G} {q : g_G} (h : fX4_keep E t G = some q) : gMet l E D yX4_keep (ws_ yX4_keep cX4_keep 6 (none)) 2 85 [.inr (.inr (some t))] G none q := by
  refine gMet.of (by decide +kernel) (Nat.le_of_ble_eq_true rfl) ?_
  intro p e R s m args below meth c C hS ls hl
  have C : gC p R s m args meth c cX4_keep 6 RX4 "keep" (none) 2 85 E D := C
  obtain ⟨hx, hb, hml, hown, hts, hKn, hRc, hRs, hc1, hc2, hRf, hRl, hr, hlk, hnm⟩ := id C
  have hl : gls ls 6 [(0, .inr (.inr (some t)))] := hl
  generalize s.heap = H at hS ⊢
  unfold fX4_keep at h
  refine lv_bipush (v := 65) hx hb dX4_keep_0 (by decide) ?_
  refine lv_bipush (v := 6) hx hb dX4_keep_2 (by decide) ?_
  refine g_aload_n hx hb hl 0 rfl dX4_keep_4 ?_
  obtain ⟨b5, hb5, h⟩ := g_bnd h
  obtain ⟨hr5, hk5⟩ := g_chk hb5
  obtain ⟨z5, h5, h⟩ := g_bnd h
  refine g_callV (n := 0) (b := b5) (av := []) (rs := [.inl 6, .inl 65]) hx hb hml hown hts hKn hRc hRs hS hl (sX4_words l E D h5) (lw_V q2264 q2266 qs81 q135 q2267) ⟨rfl, by decide, by decide, by decide +kernel⟩ ⟨by rw [hRf]; exact Nat.le_of_ble_eq_true rfl, by rw [hRl]; exact Nat.le_of_ble_eq_true rfl⟩ (g_recv hKn hS hk5 (by decide) (by decide)) rfl (by rw [hr5]; rfl) (Nat.le_of_ble_eq_true rfl) dX4_keep_5 (fun H locs cells slots hS => ?_)
  refine lv_imul hx hb dX4_keep_8 ?_
  refine lv_iadd hx hb dX4_keep_9 ?_
  refine g_istore_n (l1 := [(1, .inl (65 + (6 * z5.1))), (0, .inr (.inr (some t)))]) hx hb hl (by decide) rfl dX4_keep_10 (fun ls hl => ?_)
  refine lv_bipush (v := 7) hx hb dX4_keep_11 (by decide) ?_
  refine g_istore_n (l1 := [(2, .inl 7), (1, .inl (65 + (6 * z5.1))), (0, .inr (.inr (some t)))]) hx hb hl (by decide) rfl dX4_keep_13 (fun ls hl => ?_)
  refine lv_iconst (v := 0) hx hb dX4_keep_14 (by decide) ?_
  refine g_istore_n (l1 := [(3, .inl 0), (2, .inl 7), (1, .inl (65 + (6 * z5.1))), (0, .inr (.inr (some t)))]) hx hb hl (by decide) rfl dX4_keep_15 (fun ls hl => ?_)
  exact sX4_keep_b16 C gFU _ _ _ _ _ _ h _ _ _ _ _ hS (gls_sub hl [3, 2, 1, 0] rfl)
/-- SendHallModel.kindNow()I -/
def fX4_kindNow_b53 (E : g_E) (k6 : Nat → Int32 → Int32 → Int32 → g_G → Option (Int32 × g_G)) (t : Nat) (v1 : Int32) (v3 : Int32) (s0 : Int32) (G : g_G) : Option (Int32 × g_G) :=
  k6 t v1 s0 (v3 + 1) G
def fX4_kindNow_b48 (E : g_E) (k6 : Nat → Int32 → Int32 → Int32 → g_G → Option (Int32 × g_G)) (t : Nat) (v1 : Int32) (v3 : Int32) (G : g_G) : Option (Int32 × g_G) :=
  fX4_kindNow_b53 E k6 t v1 v3 1 G
def fX4_kindNow_b33 (E : g_E) (k6 : Nat → Int32 → Int32 → Int32 → g_G → Option (Int32 × g_G)) (t : Nat) (v2 : Int32) (v3 : Int32) (s0 : Int32) (G : g_G) : Option (Int32 × g_G) :=
  if ¬ v2 = 0 then (
    fX4_kindNow_b48 E k6 t s0 v3 G)
  else (
    (gchk G 4 (some t)).bind fun b41 =>
    (fX4_own E b41 v3 1 G).bind fun z41 =>
    if ¬ z41.1 = (1 : Int32) then (
      fX4_kindNow_b53 E k6 t s0 v3 0 z41.2)
    else (
      fX4_kindNow_b48 E k6 t s0 v3 z41.2))
def fX4_kindNow_b32 (E : g_E) (k6 : Nat → Int32 → Int32 → Int32 → g_G → Option (Int32 × g_G)) (t : Nat) (v2 : Int32) (v3 : Int32) (G : g_G) : Option (Int32 × g_G) :=
  fX4_kindNow_b33 E k6 t v2 v3 0 G
def fX4_kindNow_b6 (E : g_E) : Nat → Nat → Int32 → Int32 → Int32 → g_G → Option (Int32 × g_G)
  | 0, _, _, _, _, _ => none
  | n + 1, t, v1, v2, v3, G =>
    (grI G 4 4 (some t) 3).bind fun x8 =>
    if x8 ≤ v3 then (
      if v1 = 0 then (
        if v2 = 0 then (
          some (2, G))
        else (
          some (1, G)))
      else (
        some (0, G)))
    else (
      if v1 = 0 then (
        fX4_kindNow_b32 E (fX4_kindNow_b6 E n) t v2 v3 G)
      else (
        (gchk G 4 (some t)).bind fun b21 =>
        (fX4_own E b21 v3 0 G).bind fun z21 =>
        if ¬ z21.1 = (-1 : Int32) then (
          fX4_kindNow_b32 E (fX4_kindNow_b6 E n) t v2 v3 z21.2)
        else (
          fX4_kindNow_b33 E (fX4_kindNow_b6 E n) t v2 v3 1 z21.2)))
def fX4_kindNow (E : g_E) (t : Nat) (G : g_G) : Option (Int32 × g_G) :=
  fX4_kindNow_b6 E gFU t 1 0 0 G
theorem sX4_kindNow_b53 {p : Program} {l : Launch} {e : Env} {R : Room} {s : State} {m : MethodId} {args : Array Value} {below : List Frame} {meth : Method} {c : Code} {E : g_E} {D : g_D} (C : gC p R s m args meth c cX4_kindNow 4 RX4 "kindNow" (some .int) 2 86 E D) {k6 : Nat → Int32 → Int32 → Int32 → g_G → Option (Int32 × g_G)} (hk6 : ∀ (t : Nat) (v1 : Int32) (v2 : Int32) (v3 : Int32) (G : g_G) (q : Int32 × g_G), k6 t v1 v2 v3 G = some q → ∀ (H : Heap) (locs : List Loc) (cells slots : Nat) (ls : Array Slot), gSt E D G H locs → gls ls 4 [(0, .inr (.inr (some t))), (1, .inl v1), (2, .inl v2), (3, .inl v3)] → gT p l e R s m args below meth c E D H locs cells slots (some (.int q.1)) q.2 (F0 m 6 ls [])) : ∀ (t : Nat) (v1 : Int32) (v3 : Int32) (s0 : Int32) (G : g_G) (q : Int32 × g_G), fX4_kindNow_b53 E k6 t v1 v3 s0 G = some q → ∀ (H : Heap) (locs : List Loc) (cells slots : Nat) (ls : Array Slot), gSt E D G H locs → gls ls 4 [(0, .inr (.inr (some t))), (1, .inl v1), (3, .inl v3)] → gT p l e R s m args below meth c E D H locs cells slots (some (.int q.1)) q.2 (F0 m 53 ls [.int s0]) := by
  obtain ⟨hx, hb, hml, hown, hts, hKn, hRc, hRs, hc1, hc2, hRf, hRl, hr, hlk, hnm⟩ := id C
  intro t v1 v3 s0 G q h H locs cells slots ls hS hl
  unfold fX4_kindNow_b53 at h
  refine g_istore_n (l1 := [(2, .inl s0), (0, .inr (.inr (some t))), (1, .inl v1), (3, .inl v3)]) hx hb hl (by decide) rfl dX4_kindNow_53 (fun ls hl => ?_)
  refine g_iinc (l1 := [(3, .inl (v3 + 1)), (2, .inl s0), (0, .inr (.inr (some t))), (1, .inl v1)]) (v := (v3 + 1)) hx hb hl (k := 3) rfl (by rfl) (by decide) rfl dX4_kindNow_54 (fun ls hl => ?_)
  refine lv_goto (tgt := 6) hx hb dX4_kindNow_57 (by decide) ?_
  exact hk6 _ _ _ _ _ _ h _ _ _ _ _ hS (gls_sub hl [2, 3, 1, 0] rfl)
theorem sX4_kindNow_b48 {p : Program} {l : Launch} {e : Env} {R : Room} {s : State} {m : MethodId} {args : Array Value} {below : List Frame} {meth : Method} {c : Code} {E : g_E} {D : g_D} (C : gC p R s m args meth c cX4_kindNow 4 RX4 "kindNow" (some .int) 2 86 E D) {k6 : Nat → Int32 → Int32 → Int32 → g_G → Option (Int32 × g_G)} (hk6 : ∀ (t : Nat) (v1 : Int32) (v2 : Int32) (v3 : Int32) (G : g_G) (q : Int32 × g_G), k6 t v1 v2 v3 G = some q → ∀ (H : Heap) (locs : List Loc) (cells slots : Nat) (ls : Array Slot), gSt E D G H locs → gls ls 4 [(0, .inr (.inr (some t))), (1, .inl v1), (2, .inl v2), (3, .inl v3)] → gT p l e R s m args below meth c E D H locs cells slots (some (.int q.1)) q.2 (F0 m 6 ls [])) : ∀ (t : Nat) (v1 : Int32) (v3 : Int32) (G : g_G) (q : Int32 × g_G), fX4_kindNow_b48 E k6 t v1 v3 G = some q → ∀ (H : Heap) (locs : List Loc) (cells slots : Nat) (ls : Array Slot), gSt E D G H locs → gls ls 4 [(0, .inr (.inr (some t))), (1, .inl v1), (3, .inl v3)] → gT p l e R s m args below meth c E D H locs cells slots (some (.int q.1)) q.2 (F0 m 48 ls []) := by
  obtain ⟨hx, hb, hml, hown, hts, hKn, hRc, hRs, hc1, hc2, hRf, hRl, hr, hlk, hnm⟩ := id C
  intro t v1 v3 G q h H locs cells slots ls hS hl
  unfold fX4_kindNow_b48 at h
  refine lv_iconst (v := 1) hx hb dX4_kindNow_48 (by decide) ?_
  refine lv_goto (tgt := 53) hx hb dX4_kindNow_49 (by decide) ?_
  exact sX4_kindNow_b53 C hk6 _ _ _ _ _ _ h _ _ _ _ _ hS (gls_sub hl [0, 1, 2] rfl)
theorem sX4_kindNow_b33 {p : Program} {l : Launch} {e : Env} {R : Room} {s : State} {m : MethodId} {args : Array Value} {below : List Frame} {meth : Method} {c : Code} {E : g_E} {D : g_D} (C : gC p R s m args meth c cX4_kindNow 4 RX4 "kindNow" (some .int) 2 86 E D) {k6 : Nat → Int32 → Int32 → Int32 → g_G → Option (Int32 × g_G)} (hk6 : ∀ (t : Nat) (v1 : Int32) (v2 : Int32) (v3 : Int32) (G : g_G) (q : Int32 × g_G), k6 t v1 v2 v3 G = some q → ∀ (H : Heap) (locs : List Loc) (cells slots : Nat) (ls : Array Slot), gSt E D G H locs → gls ls 4 [(0, .inr (.inr (some t))), (1, .inl v1), (2, .inl v2), (3, .inl v3)] → gT p l e R s m args below meth c E D H locs cells slots (some (.int q.1)) q.2 (F0 m 6 ls [])) : ∀ (t : Nat) (v2 : Int32) (v3 : Int32) (s0 : Int32) (G : g_G) (q : Int32 × g_G), fX4_kindNow_b33 E k6 t v2 v3 s0 G = some q → ∀ (H : Heap) (locs : List Loc) (cells slots : Nat) (ls : Array Slot), gSt E D G H locs → gls ls 4 [(0, .inr (.inr (some t))), (2, .inl v2), (3, .inl v3)] → gT p l e R s m args below meth c E D H locs cells slots (some (.int q.1)) q.2 (F0 m 33 ls [.int s0]) := by
  obtain ⟨hx, hb, hml, hown, hts, hKn, hRc, hRs, hc1, hc2, hRf, hRl, hr, hlk, hnm⟩ := id C
  intro t v2 v3 s0 G q h H locs cells slots ls hS hl
  unfold fX4_kindNow_b33 at h
  refine g_istore_n (l1 := [(1, .inl s0), (0, .inr (.inr (some t))), (2, .inl v2), (3, .inl v3)]) hx hb hl (by decide) rfl dX4_kindNow_33 (fun ls hl => ?_)
  refine g_iload_n hx hb hl 2 rfl dX4_kindNow_34 ?_
  refine lv_if_ne (tgt := 48) hx hb dX4_kindNow_35 (by decide) (fun c_35 => ?_) (fun c_35 => ?_)
  · have h := g_ift c_35 h
    exact sX4_kindNow_b48 C hk6 _ _ _ _ _ h _ _ _ _ _ hS (gls_sub hl [1, 0, 3] rfl)
  · have h := g_iff (fun z => z c_35) h
    refine g_aload_n hx hb hl 1 rfl dX4_kindNow_38 ?_
    refine g_iload_n hx hb hl 3 rfl dX4_kindNow_39 ?_
    refine lv_iconst (v := 1) hx hb dX4_kindNow_40 (by decide) ?_
    obtain ⟨b41, hb41, h⟩ := g_bnd h
    obtain ⟨hr41, hk41⟩ := g_chk hb41
    obtain ⟨z41, h41, h⟩ := g_bnd h
    refine g_callV (n := 2) (b := b41) (av := [.inl v3, .inl 1]) (rs := []) hx hb hml hown hts hKn hRc hRs hS hl (sX4_own l E D h41) (lw_V q2245 q2247 qs77 q135 q2248) ⟨rfl, by decide, by decide, by decide +kernel⟩ ⟨by rw [hRf]; exact Nat.le_of_ble_eq_true rfl, by rw [hRl]; exact Nat.le_of_ble_eq_true rfl⟩ (g_recv hKn hS hk41 (by decide) (by decide)) rfl (by rw [hr41]; rfl) (Nat.le_of_ble_eq_true rfl) dX4_kindNow_41 (fun H locs cells slots hS => ?_)
    refine lv_iconst (v := 1) hx hb dX4_kindNow_44 (by decide) ?_
    refine lv_icmp_ne (tgt := 52) hx hb dX4_kindNow_45 (by decide) (fun c_45 => ?_) (fun c_45 => ?_)
    · have h := g_ift c_45 h
      refine lv_iconst (v := 0) hx hb dX4_kindNow_52 (by decide) ?_
      exact sX4_kindNow_b53 C hk6 _ _ _ _ _ _ h _ _ _ _ _ hS (gls_sub hl [1, 0, 3] rfl)
    · have h := g_iff (fun z => z c_45) h
      exact sX4_kindNow_b48 C hk6 _ _ _ _ _ h _ _ _ _ _ hS (gls_sub hl [1, 0, 3] rfl)
theorem sX4_kindNow_b32 {p : Program} {l : Launch} {e : Env} {R : Room} {s : State} {m : MethodId} {args : Array Value} {below : List Frame} {meth : Method} {c : Code} {E : g_E} {D : g_D} (C : gC p R s m args meth c cX4_kindNow 4 RX4 "kindNow" (some .int) 2 86 E D) {k6 : Nat → Int32 → Int32 → Int32 → g_G → Option (Int32 × g_G)} (hk6 : ∀ (t : Nat) (v1 : Int32) (v2 : Int32) (v3 : Int32) (G : g_G) (q : Int32 × g_G), k6 t v1 v2 v3 G = some q → ∀ (H : Heap) (locs : List Loc) (cells slots : Nat) (ls : Array Slot), gSt E D G H locs → gls ls 4 [(0, .inr (.inr (some t))), (1, .inl v1), (2, .inl v2), (3, .inl v3)] → gT p l e R s m args below meth c E D H locs cells slots (some (.int q.1)) q.2 (F0 m 6 ls [])) : ∀ (t : Nat) (v2 : Int32) (v3 : Int32) (G : g_G) (q : Int32 × g_G), fX4_kindNow_b32 E k6 t v2 v3 G = some q → ∀ (H : Heap) (locs : List Loc) (cells slots : Nat) (ls : Array Slot), gSt E D G H locs → gls ls 4 [(0, .inr (.inr (some t))), (2, .inl v2), (3, .inl v3)] → gT p l e R s m args below meth c E D H locs cells slots (some (.int q.1)) q.2 (F0 m 32 ls []) := by
  obtain ⟨hx, hb, hml, hown, hts, hKn, hRc, hRs, hc1, hc2, hRf, hRl, hr, hlk, hnm⟩ := id C
  intro t v2 v3 G q h H locs cells slots ls hS hl
  unfold fX4_kindNow_b32 at h
  refine lv_iconst (v := 0) hx hb dX4_kindNow_32 (by decide) ?_
  exact sX4_kindNow_b33 C hk6 _ _ _ _ _ _ h _ _ _ _ _ hS (gls_sub hl [0, 1, 2] rfl)
theorem sX4_kindNow_b6 {p : Program} {l : Launch} {e : Env} {R : Room} {s : State} {m : MethodId} {args : Array Value} {below : List Frame} {meth : Method} {c : Code} {E : g_E} {D : g_D} (C : gC p R s m args meth c cX4_kindNow 4 RX4 "kindNow" (some .int) 2 86 E D) : ∀ (n : Nat) (t : Nat) (v1 : Int32) (v2 : Int32) (v3 : Int32) (G : g_G) (q : Int32 × g_G), fX4_kindNow_b6 E n t v1 v2 v3 G = some q → ∀ (H : Heap) (locs : List Loc) (cells slots : Nat) (ls : Array Slot), gSt E D G H locs → gls ls 4 [(0, .inr (.inr (some t))), (1, .inl v1), (2, .inl v2), (3, .inl v3)] → gT p l e R s m args below meth c E D H locs cells slots (some (.int q.1)) q.2 (F0 m 6 ls []) := by
  obtain ⟨hx, hb, hml, hown, hts, hKn, hRc, hRs, hc1, hc2, hRf, hRl, hr, hlk, hnm⟩ := id C
  intro n
  induction n with
  | zero =>
    intro t v1 v2 v3 G q h
    exact g_no h
  | succ n ih =>
    intro t v1 v2 v3 G q h H locs cells slots ls hS hl
    rw [fX4_kindNow_b6] at h
    refine g_iload_n hx hb hl 3 rfl dX4_kindNow_6 ?_
    refine g_aload_n hx hb hl 0 rfl dX4_kindNow_7 ?_
    refine g_rdI hx hb hown hts hKn hS h fd_4_4_3 rfl (Or.inl (hts _ q1868)) (fun _ z => z) dX4_kindNow_8 (fun x8 h => ?_)
    refine lv_icmp_ge (tgt := 60) hx hb dX4_kindNow_11 (by decide) (fun c_11 => ?_) (fun c_11 => ?_)
    · have h := g_ift c_11 h
      refine g_iload_n hx hb hl 1 rfl dX4_kindNow_60 ?_
      refine lv_if_eq (tgt := 68) hx hb dX4_kindNow_61 (by decide) (fun c_61 => ?_) (fun c_61 => ?_)
      · have h := g_ift c_61 h
        refine g_iload_n hx hb hl 2 rfl dX4_kindNow_68 ?_
        refine lv_if_eq (tgt := 76) hx hb dX4_kindNow_69 (by decide) (fun c_69 => ?_) (fun c_69 => ?_)
        · have h := g_ift c_69 h
          refine lv_iconst (v := 2) hx hb dX4_kindNow_76 (by decide) ?_
          exact g_iretG hx hb hr hlk hKn hRc hRs hS h dX4_kindNow_77
        · have h := g_iff c_69 h
          refine lv_iconst (v := 1) hx hb dX4_kindNow_72 (by decide) ?_
          refine lv_goto (tgt := 77) hx hb dX4_kindNow_73 (by decide) ?_
          exact g_iretG hx hb hr hlk hKn hRc hRs hS h dX4_kindNow_77
      · have h := g_iff c_61 h
        refine lv_iconst (v := 0) hx hb dX4_kindNow_64 (by decide) ?_
        refine lv_goto (tgt := 77) hx hb dX4_kindNow_65 (by decide) ?_
        exact g_iretG hx hb hr hlk hKn hRc hRs hS h dX4_kindNow_77
    · have h := g_iff c_11 h
      refine g_iload_n hx hb hl 1 rfl dX4_kindNow_14 ?_
      refine lv_if_eq (tgt := 32) hx hb dX4_kindNow_15 (by decide) (fun c_15 => ?_) (fun c_15 => ?_)
      · have h := g_ift c_15 h
        exact sX4_kindNow_b32 C ih _ _ _ _ _ h _ _ _ _ _ hS (gls_sub hl [0, 2, 3] rfl)
      · have h := g_iff c_15 h
        refine g_aload_n hx hb hl 0 rfl dX4_kindNow_18 ?_
        refine g_iload_n hx hb hl 3 rfl dX4_kindNow_19 ?_
        refine lv_iconst (v := 0) hx hb dX4_kindNow_20 (by decide) ?_
        obtain ⟨b21, hb21, h⟩ := g_bnd h
        obtain ⟨hr21, hk21⟩ := g_chk hb21
        obtain ⟨z21, h21, h⟩ := g_bnd h
        refine g_callV (n := 2) (b := b21) (av := [.inl v3, .inl 0]) (rs := []) hx hb hml hown hts hKn hRc hRs hS hl (sX4_own l E D h21) (lw_V q2245 q2247 qs77 q135 q2248) ⟨rfl, by decide, by decide, by decide +kernel⟩ ⟨by rw [hRf]; exact Nat.le_of_ble_eq_true rfl, by rw [hRl]; exact Nat.le_of_ble_eq_true rfl⟩ (g_recv hKn hS hk21 (by decide) (by decide)) rfl (by rw [hr21]; rfl) (Nat.le_of_ble_eq_true rfl) dX4_kindNow_21 (fun H locs cells slots hS => ?_)
        refine lv_iconst (v := (-1)) hx hb dX4_kindNow_24 (by decide) ?_
        refine lv_icmp_ne (tgt := 32) hx hb dX4_kindNow_25 (by decide) (fun c_25 => ?_) (fun c_25 => ?_)
        · have h := g_ift c_25 h
          exact sX4_kindNow_b32 C ih _ _ _ _ _ h _ _ _ _ _ hS (gls_sub hl [0, 2, 3] rfl)
        · have h := g_iff (fun z => z c_25) h
          refine lv_iconst (v := 1) hx hb dX4_kindNow_28 (by decide) ?_
          refine lv_goto (tgt := 33) hx hb dX4_kindNow_29 (by decide) ?_
          exact sX4_kindNow_b33 C ih _ _ _ _ _ _ h _ _ _ _ _ hS (gls_sub hl [0, 2, 3] rfl)
theorem sX4_kindNow (l : Launch) (E : g_E) (D : g_D) {t : Nat} {G : g_G} {q : Int32 × g_G} (h : fX4_kindNow E t G = some q) : gMet l E D yX4_kindNow (ws_ yX4_kindNow cX4_kindNow 4 (some .int)) 2 86 [.inr (.inr (some t))] G (some (.int q.1)) q.2 := by
  refine gMet.of (by decide +kernel) (Nat.le_of_ble_eq_true rfl) ?_
  intro p e R s m args below meth c C hS ls hl
  have C : gC p R s m args meth c cX4_kindNow 4 RX4 "kindNow" (some .int) 2 86 E D := C
  obtain ⟨hx, hb, hml, hown, hts, hKn, hRc, hRs, hc1, hc2, hRf, hRl, hr, hlk, hnm⟩ := id C
  have hl : gls ls 4 [(0, .inr (.inr (some t)))] := hl
  generalize s.heap = H at hS ⊢
  unfold fX4_kindNow at h
  refine lv_iconst (v := 1) hx hb dX4_kindNow_0 (by decide) ?_
  refine g_istore_n (l1 := [(1, .inl 1), (0, .inr (.inr (some t)))]) hx hb hl (by decide) rfl dX4_kindNow_1 (fun ls hl => ?_)
  refine lv_iconst (v := 0) hx hb dX4_kindNow_2 (by decide) ?_
  refine g_istore_n (l1 := [(2, .inl 0), (1, .inl 1), (0, .inr (.inr (some t)))]) hx hb hl (by decide) rfl dX4_kindNow_3 (fun ls hl => ?_)
  refine lv_iconst (v := 0) hx hb dX4_kindNow_4 (by decide) ?_
  refine g_istore_n (l1 := [(3, .inl 0), (2, .inl 0), (1, .inl 1), (0, .inr (.inr (some t)))]) hx hb hl (by decide) rfl dX4_kindNow_5 (fun ls hl => ?_)
  exact sX4_kindNow_b6 C gFU _ _ _ _ _ _ h _ _ _ _ _ hS (gls_sub hl [3, 2, 1, 0] rfl)
