set_option maxRecDepth 100000
/-- SendHallModel.begin()V -/
def fX4_begin_b48 (E : g_E) (k24 : Nat → Int32 → g_G → Option (g_G)) (t : Nat) (v1 : Int32) (s0 : Option Nat) (s1 : Int32) (s2 : Int32) (G : g_G) : Option (g_G) :=
  (gchk G 4 s0).bind fun b48 =>
  (fX4_come E b48 s1 s2 G).bind fun z48 =>
  k24 t (v1 + 1) z48
def fX4_begin_b24 (E : g_E) : Nat → Nat → Int32 → g_G → Option (g_G)
  | 0, _, _, _ => none
  | n + 1, t, v1, G =>
    (grI G 4 4 (some t) 3).bind fun x26 =>
    if x26 ≤ v1 then (
      some G)
    else (
      (grR G 4 4 (some t) 22).bind fun x35 =>
      (gaI G 100 x35 0).bind fun x39 =>
      if ¬ x39 = 0 then (
        fX4_begin_b48 E (fX4_begin_b24 E n) t v1 (some t) v1 0 G)
      else (
        fX4_begin_b48 E (fX4_begin_b24 E n) t v1 (some t) v1 (-1) G))
def fX4_begin_b2 (E : g_E) : Nat → Nat → Int32 → g_G → Option (g_G)
  | 0, _, _, _ => none
  | n + 1, t, v1, G =>
    if (1985 : Int32) ≤ v1 then (
      fX4_begin_b24 E gFU t 0 G)
    else (
      (grR G 4 4 (some t) 33).bind fun x10 =>
      (gsaI E G x10 v1 0).bind fun G15 =>
      fX4_begin_b2 E n t (v1 + 1) G15)
def fX4_begin (E : g_E) (t : Nat) (G : g_G) : Option (g_G) :=
  fX4_begin_b2 E gFU t 0 G
theorem sX4_begin_b48 {p : Program} {l : Launch} {e : Env} {R : Room} {s : State} {m : MethodId} {args : Array Value} {below : List Frame} {meth : Method} {c : Code} {E : g_E} {D : g_D} (C : gC p R s m args meth c cX4_begin 2 RX4 "begin" (none) 6 183 E D) {k24 : Nat → Int32 → g_G → Option (g_G)} (hk24 : ∀ (t : Nat) (v1 : Int32) (G : g_G) (q : g_G), k24 t v1 G = some q → ∀ (H : Heap) (locs : List Loc) (cells slots : Nat) (ls : Array Slot), gSt E D G H locs → gls ls 2 [(0, .inr (.inr (some t))), (1, .inl v1)] → gT p l e R s m args below meth c E D H locs cells slots none q (F0 m 24 ls [])) : ∀ (t : Nat) (v1 : Int32) (s0 : Option Nat) (s1 : Int32) (s2 : Int32) (G : g_G) (q : g_G), fX4_begin_b48 E k24 t v1 s0 s1 s2 G = some q → ∀ (H : Heap) (locs : List Loc) (cells slots : Nat) (ls : Array Slot), gSt E D G H locs → gls ls 2 [(0, .inr (.inr (some t))), (1, .inl v1)] → gT p l e R s m args below meth c E D H locs cells slots none q (F0 m 48 ls [.int s2, .int s1, va_rf s0]) := by
  obtain ⟨hx, hb, hml, hown, hts, hKn, hRc, hRs, hc1, hc2, hRf, hRl, hr, hlk, hnm⟩ := id C
  intro t v1 s0 s1 s2 G q h H locs cells slots ls hS hl
  unfold fX4_begin_b48 at h
  obtain ⟨b48, hb48, h⟩ := g_bnd h
  obtain ⟨hr48, hk48⟩ := g_chk hb48
  obtain ⟨z48, h48, h⟩ := g_bnd h
  refine g_callV (n := 2) (b := b48) (av := [.inl s1, .inl s2]) (rs := []) hx hb hml hown hts hKn hRc hRs hS hl (sX4_come l E D h48) (lw_V q2229 q2231 qs73 q135 q2232) ⟨rfl, by decide, by decide, by decide +kernel⟩ ⟨by rw [hRf]; exact Nat.le_of_ble_eq_true rfl, by rw [hRl]; exact Nat.le_of_ble_eq_true rfl⟩ (g_recv hKn hS hk48 (by decide) (by decide)) rfl (by rw [hr48]; rfl) (Nat.le_of_ble_eq_true rfl) dX4_begin_48 (fun H locs cells slots hS => ?_)
  refine g_iinc (l1 := [(1, .inl (v1 + 1)), (0, .inr (.inr (some t)))]) (v := (v1 + 1)) hx hb hl (k := 1) rfl (by rfl) (by decide) rfl dX4_begin_51 (fun ls hl => ?_)
  refine lv_goto (tgt := 24) hx hb dX4_begin_54 (by decide) ?_
  exact hk24 _ _ _ _ h _ _ _ _ _ hS (gls_sub hl [1, 0] rfl)
theorem sX4_begin_b24 {p : Program} {l : Launch} {e : Env} {R : Room} {s : State} {m : MethodId} {args : Array Value} {below : List Frame} {meth : Method} {c : Code} {E : g_E} {D : g_D} (C : gC p R s m args meth c cX4_begin 2 RX4 "begin" (none) 6 183 E D) : ∀ (n : Nat) (t : Nat) (v1 : Int32) (G : g_G) (q : g_G), fX4_begin_b24 E n t v1 G = some q → ∀ (H : Heap) (locs : List Loc) (cells slots : Nat) (ls : Array Slot), gSt E D G H locs → gls ls 2 [(0, .inr (.inr (some t))), (1, .inl v1)] → gT p l e R s m args below meth c E D H locs cells slots none q (F0 m 24 ls []) := by
  obtain ⟨hx, hb, hml, hown, hts, hKn, hRc, hRs, hc1, hc2, hRf, hRl, hr, hlk, hnm⟩ := id C
  intro n
  induction n with
  | zero =>
    intro t v1 G q h
    exact g_no h
  | succ n ih =>
    intro t v1 G q h H locs cells slots ls hS hl
    rw [fX4_begin_b24] at h
    refine g_iload_n hx hb hl 1 rfl dX4_begin_24 ?_
    refine g_aload_n hx hb hl 0 rfl dX4_begin_25 ?_
    refine g_rdI hx hb hown hts hKn hS h fd_4_4_3 rfl (Or.inl (hts _ q1868)) (fun _ z => z) dX4_begin_26 (fun x26 h => ?_)
    refine lv_icmp_ge (tgt := 57) hx hb dX4_begin_29 (by decide) (fun c_29 => ?_) (fun c_29 => ?_)
    · have h := g_ift c_29 h
      exact g_vretG hx hb hr hlk hKn hRc hRs hS h dX4_begin_57
    · have h := g_iff c_29 h
      refine g_aload_n hx hb hl 0 rfl dX4_begin_32 ?_
      refine g_iload_n hx hb hl 1 rfl dX4_begin_33 ?_
      refine g_aload_n hx hb hl 0 rfl dX4_begin_34 ?_
      refine g_rdR hx hb hown hts hKn hS h fd_4_4_22 rfl (Or.inl (hts _ q1887)) (fun _ z => z) dX4_begin_35 (fun x35 h => ?_)
      refine lv_iconst (v := 0) hx hb dX4_begin_38 (by decide) ?_
      refine g_ialoadG hx hb hKn hS h dX4_begin_39 (fun x39 h => ?_)
      refine lv_if_ne (tgt := 47) hx hb dX4_begin_40 (by decide) (fun c_40 => ?_) (fun c_40 => ?_)
      · have h := g_ift c_40 h
        refine lv_iconst (v := 0) hx hb dX4_begin_47 (by decide) ?_
        exact sX4_begin_b48 C ih _ _ _ _ _ _ _ h _ _ _ _ _ hS (gls_sub hl [0, 1] rfl)
      · have h := g_iff (fun z => z c_40) h
        refine lv_iconst (v := (-1)) hx hb dX4_begin_43 (by decide) ?_
        refine lv_goto (tgt := 48) hx hb dX4_begin_44 (by decide) ?_
        exact sX4_begin_b48 C ih _ _ _ _ _ _ _ h _ _ _ _ _ hS (gls_sub hl [0, 1] rfl)
theorem sX4_begin_b2 {p : Program} {l : Launch} {e : Env} {R : Room} {s : State} {m : MethodId} {args : Array Value} {below : List Frame} {meth : Method} {c : Code} {E : g_E} {D : g_D} (C : gC p R s m args meth c cX4_begin 2 RX4 "begin" (none) 6 183 E D) : ∀ (n : Nat) (t : Nat) (v1 : Int32) (G : g_G) (q : g_G), fX4_begin_b2 E n t v1 G = some q → ∀ (H : Heap) (locs : List Loc) (cells slots : Nat) (ls : Array Slot), gSt E D G H locs → gls ls 2 [(0, .inr (.inr (some t))), (1, .inl v1)] → gT p l e R s m args below meth c E D H locs cells slots none q (F0 m 2 ls []) := by
  obtain ⟨hx, hb, hml, hown, hts, hKn, hRc, hRs, hc1, hc2, hRf, hRl, hr, hlk, hnm⟩ := id C
  intro n
  induction n with
  | zero =>
    intro t v1 G q h
    exact g_no h
  | succ n ih =>
    intro t v1 G q h H locs cells slots ls hS hl
    rw [fX4_begin_b2] at h
    refine g_iload_n hx hb hl 1 rfl dX4_begin_2 ?_
    refine lv_sipush (v := 1985) hx hb dX4_begin_3 (by decide) ?_
    refine lv_icmp_ge (tgt := 22) hx hb dX4_begin_6 (by decide) (fun c_6 => ?_) (fun c_6 => ?_)
    · have h := g_ift c_6 h
      refine lv_iconst (v := 0) hx hb dX4_begin_22 (by decide) ?_
      refine g_istore_n (l1 := [(1, .inl 0), (0, .inr (.inr (some t)))]) hx hb hl (by decide) rfl dX4_begin_23 (fun ls hl => ?_)
      exact sX4_begin_b24 C gFU _ _ _ _ h _ _ _ _ _ hS (gls_sub hl [1, 0] rfl)
    · have h := g_iff c_6 h
      refine g_aload_n hx hb hl 0 rfl dX4_begin_9 ?_
      refine g_rdR hx hb hown hts hKn hS h fd_4_4_33 rfl (Or.inl (hts _ q1898)) (fun _ z => z) dX4_begin_10 (fun x10 h => ?_)
      refine g_iload_n hx hb hl 1 rfl dX4_begin_13 ?_
      refine lv_iconst (v := 0) hx hb dX4_begin_14 (by decide) ?_
      refine g_iastoreG hx hb hKn hS h dX4_begin_15 (fun G15 h H locs hS => ?_)
      refine g_iinc (l1 := [(1, .inl (v1 + 1)), (0, .inr (.inr (some t)))]) (v := (v1 + 1)) hx hb hl (k := 1) rfl (by rfl) (by decide) rfl dX4_begin_16 (fun ls hl => ?_)
      refine lv_goto (tgt := 2) hx hb dX4_begin_19 (by decide) ?_
      exact ih _ _ _ _ h _ _ _ _ _ hS (gls_sub hl [1, 0] rfl)
theorem sX4_begin (l : Launch) (E : g_E) (D : g_D) {t : Nat} {G : g_G} {q : g_G} (h : fX4_begin E t G = some q) : gMet l E D yX4_begin (ws_ yX4_begin cX4_begin 2 (none)) 6 183 [.inr (.inr (some t))] G none q := by
  refine gMet.of (by decide +kernel) (Nat.le_of_ble_eq_true rfl) ?_
  intro p e R s m args below meth c C hS ls hl
  have C : gC p R s m args meth c cX4_begin 2 RX4 "begin" (none) 6 183 E D := C
  obtain ⟨hx, hb, hml, hown, hts, hKn, hRc, hRs, hc1, hc2, hRf, hRl, hr, hlk, hnm⟩ := id C
  have hl : gls ls 2 [(0, .inr (.inr (some t)))] := hl
  generalize s.heap = H at hS ⊢
  unfold fX4_begin at h
  refine lv_iconst (v := 0) hx hb dX4_begin_0 (by decide) ?_
  refine g_istore_n (l1 := [(1, .inl 0), (0, .inr (.inr (some t)))]) hx hb hl (by decide) rfl dX4_begin_1 (fun ls hl => ?_)
  exact sX4_begin_b2 C gFU _ _ _ _ h _ _ _ _ _ hS (gls_sub hl [1, 0] rfl)
/-- SendHallModel.can(II)Z -/
def fX4_can_b104 (E : g_E) (G : g_G) : Option (Int32 × g_G) :=
  if (1 : Int32) = 0 ∨ (1 : Int32) = 1 then some (1, G) else none
def fX4_can_b164 (E : g_E) (t : Nat) (v1 : Int32) (v2 : Int32) (G : g_G) : Option (Int32 × g_G) :=
  (gchk G 4 (some t)).bind fun b170 =>
  (fX4_asked E b170 v1 1 G).bind fun z170 =>
  (gchk z170.2 4 (some t)).bind fun b173 =>
  (fX4_lying E b173 v2 v1 z170.1 z170.2).bind fun z173 =>
  if z173.1 = (-1 : Int32) then (
    if (0 : Int32) = 0 ∨ (0 : Int32) = 1 then some (0, z173.2) else none)
  else (
    if (1 : Int32) = 0 ∨ (1 : Int32) = 1 then some (1, z173.2) else none)
def fX4_can (E : g_E) (t : Nat) (v1 : Int32) (v2 : Int32) (G : g_G) : Option (Int32 × g_G) :=
  (gchk G 4 (some t)).bind fun b3 =>
  (fX4_own E b3 v1 0 G).bind fun z3 =>
  if z3.1 = (-1 : Int32) then (
    if (0 : Int32) = 0 ∨ (0 : Int32) = 1 then some (0, z3.2) else none)
  else (
    (gchk z3.2 4 (some t)).bind fun b15 =>
    (fX4_own E b15 v1 1 z3.2).bind fun z15 =>
    if ¬ z15.1 = (1 : Int32) then (
      (grR z15.2 4 4 (some t) 24).bind fun x25 =>
      (gaI z15.2 100 x25 z3.1).bind fun x29 =>
      if x29 = 0 then (
        (gchk z15.2 4 (some t)).bind fun b83 =>
        (fX4_asked E b83 v1 0 z15.2).bind fun z83 =>
        (gchk z83.2 4 (some t)).bind fun b86 =>
        (fX4_sent E b86 v1 z83.1 z83.2).bind fun z86 =>
        (grI z86.2 4 4 (some t) 4).bind fun x90 =>
        if z86.1 < x90 then (
          fX4_can_b104 E z86.2)
        else (
          (gchk z86.2 4 (some t)).bind fun b98 =>
          (fX4_hands E b98 v1 z86.2).bind fun z98 =>
          if z98.1 = 0 then (
            if (0 : Int32) = 0 ∨ (0 : Int32) = 1 then some (0, z98.2) else none)
          else (
            fX4_can_b104 E z98.2)))
      else
      if x29 = 1 then (
        (gchk z15.2 4 (some t)).bind fun b112 =>
        (fX4_hands E b112 v1 z15.2).bind fun z112 =>
        if z112.1 = 0 ∨ z112.1 = 1 then some (z112.1, z112.2) else none)
      else
      if x29 = 2 then (
        if (1 : Int32) = 0 ∨ (1 : Int32) = 1 then some (1, z15.2) else none)
      else
      if x29 = 3 then (
        (gchk z15.2 4 (some t)).bind fun b120 =>
        (fX4_asked E b120 v1 0 z15.2).bind fun z120 =>
        (gchk z120.2 4 (some t)).bind fun b127 =>
        (fX4_asked E b127 v1 1 z120.2).bind fun z127 =>
        (gchk z127.2 4 (some t)).bind fun b130 =>
        (fX4_lying E b130 z120.1 v1 z127.1 z127.2).bind fun z130 =>
        if z130.1 = (-1 : Int32) then (
          if (0 : Int32) = 0 ∨ (0 : Int32) = 1 then some (0, z130.2) else none)
        else (
          if (1 : Int32) = 0 ∨ (1 : Int32) = 1 then some (1, z130.2) else none))
      else
      if x29 = 4 then (
        if v2 = v1 then (
          if (0 : Int32) = 0 ∨ (0 : Int32) = 1 then some (0, z15.2) else none)
        else (
          (grI z15.2 4 4 (some t) 35).bind fun x149 =>
          if x149 = (-1 : Int32) then (
            fX4_can_b164 E t v1 v2 z15.2)
          else (
            (grI z15.2 4 4 (some t) 35).bind fun x157 =>
            if ¬ x157 = v2 then (
              if (0 : Int32) = 0 ∨ (0 : Int32) = 1 then some (0, z15.2) else none)
            else (
              fX4_can_b164 E t v1 v2 z15.2))))
      else
      if x29 = 5 then (
        (gchk z15.2 4 (some t)).bind fun b188 =>
        (fX4_begun E b188 v1 z15.2).bind fun z188 =>
        if ¬ z188.1 = 0 then (
          if (0 : Int32) = 0 ∨ (0 : Int32) = 1 then some (0, z188.2) else none)
        else (
          if (1 : Int32) = 0 ∨ (1 : Int32) = 1 then some (1, z188.2) else none))
      else
      if x29 = 6 then (
        if ¬ v1 = 0 then (
          if (0 : Int32) = 0 ∨ (0 : Int32) = 1 then some (0, z15.2) else none)
        else (
          (grR z15.2 4 4 (some t) 24).bind fun x206 =>
          (gaI z15.2 100 x206 z3.1).bind fun x210 =>
          (gchk z15.2 4 (some t)).bind fun b211 =>
          (fX4_areAll E b211 x210 z15.2).bind fun z211 =>
          if z211.1 = 0 then (
            if (0 : Int32) = 0 ∨ (0 : Int32) = 1 then some (0, z211.2) else none)
          else (
            if (1 : Int32) = 0 ∨ (1 : Int32) = 1 then some (1, z211.2) else none)))
      else
      if x29 = 7 then (
        if ¬ v1 = 0 then (
          if (0 : Int32) = 0 ∨ (0 : Int32) = 1 then some (0, z15.2) else none)
        else (
          (grR z15.2 4 4 (some t) 24).bind fun x206 =>
          (gaI z15.2 100 x206 z3.1).bind fun x210 =>
          (gchk z15.2 4 (some t)).bind fun b211 =>
          (fX4_areAll E b211 x210 z15.2).bind fun z211 =>
          if z211.1 = 0 then (
            if (0 : Int32) = 0 ∨ (0 : Int32) = 1 then some (0, z211.2) else none)
          else (
            if (1 : Int32) = 0 ∨ (1 : Int32) = 1 then some (1, z211.2) else none)))
      else
      (
        if (0 : Int32) = 0 ∨ (0 : Int32) = 1 then some (0, z15.2) else none))
    else (
      if (0 : Int32) = 0 ∨ (0 : Int32) = 1 then some (0, z15.2) else none))
theorem sX4_can_b104 {p : Program} {l : Launch} {e : Env} {R : Room} {s : State} {m : MethodId} {args : Array Value} {below : List Frame} {meth : Method} {c : Code} {E : g_E} {D : g_D} (C : gC p R s m args meth c cX4_can 4 RX4 "can" (some .boolean) 5 158 E D) : ∀ (G : g_G) (q : Int32 × g_G), fX4_can_b104 E G = some q → ∀ (H : Heap) (locs : List Loc) (cells slots : Nat) (ls : Array Slot), gSt E D G H locs → gls ls 4 [] → gT p l e R s m args below meth c E D H locs cells slots (some (.int q.1)) q.2 (F0 m 104 ls []) := by
  obtain ⟨hx, hb, hml, hown, hts, hKn, hRc, hRs, hc1, hc2, hRf, hRl, hr, hlk, hnm⟩ := id C
  intro G q h H locs cells slots ls hS hl
  unfold fX4_can_b104 at h
  refine lv_iconst (v := 1) hx hb dX4_can_104 (by decide) ?_
  refine lv_goto (tgt := 109) hx hb dX4_can_105 (by decide) ?_
  exact g_zretG hx hb hr hlk hKn hRc hRs hS h dX4_can_109
theorem sX4_can_b164 {p : Program} {l : Launch} {e : Env} {R : Room} {s : State} {m : MethodId} {args : Array Value} {below : List Frame} {meth : Method} {c : Code} {E : g_E} {D : g_D} (C : gC p R s m args meth c cX4_can 4 RX4 "can" (some .boolean) 5 158 E D) : ∀ (t : Nat) (v1 : Int32) (v2 : Int32) (G : g_G) (q : Int32 × g_G), fX4_can_b164 E t v1 v2 G = some q → ∀ (H : Heap) (locs : List Loc) (cells slots : Nat) (ls : Array Slot), gSt E D G H locs → gls ls 4 [(0, .inr (.inr (some t))), (1, .inl v1), (2, .inl v2)] → gT p l e R s m args below meth c E D H locs cells slots (some (.int q.1)) q.2 (F0 m 164 ls []) := by
  obtain ⟨hx, hb, hml, hown, hts, hKn, hRc, hRs, hc1, hc2, hRf, hRl, hr, hlk, hnm⟩ := id C
  intro t v1 v2 G q h H locs cells slots ls hS hl
  unfold fX4_can_b164 at h
  refine g_aload_n hx hb hl 0 rfl dX4_can_164 ?_
  refine g_iload_n hx hb hl 2 rfl dX4_can_165 ?_
  refine g_iload_n hx hb hl 1 rfl dX4_can_166 ?_
  refine g_aload_n hx hb hl 0 rfl dX4_can_167 ?_
  refine g_iload_n hx hb hl 1 rfl dX4_can_168 ?_
  refine lv_iconst (v := 1) hx hb dX4_can_169 (by decide) ?_
  obtain ⟨b170, hb170, h⟩ := g_bnd h
  obtain ⟨hr170, hk170⟩ := g_chk hb170
  obtain ⟨z170, h170, h⟩ := g_bnd h
  refine g_callV (n := 2) (b := b170) (av := [.inl v1, .inl 1]) (rs := [.inl v1, .inl v2, .inr (.inr (some t))]) hx hb hml hown hts hKn hRc hRs hS hl (sX4_asked l E D h170) (lw_V q2241 q2243 qs76 q135 q2244) ⟨rfl, by decide, by decide, by decide +kernel⟩ ⟨by rw [hRf]; exact Nat.le_of_ble_eq_true rfl, by rw [hRl]; exact Nat.le_of_ble_eq_true rfl⟩ (g_recv hKn hS hk170 (by decide) (by decide)) rfl (by rw [hr170]; rfl) (Nat.le_of_ble_eq_true rfl) dX4_can_170 (fun H locs cells slots hS => ?_)
  obtain ⟨b173, hb173, h⟩ := g_bnd h
  obtain ⟨hr173, hk173⟩ := g_chk hb173
  obtain ⟨z173, h173, h⟩ := g_bnd h
  refine g_callV (n := 3) (b := b173) (av := [.inl v2, .inl v1, .inl z170.1]) (rs := []) hx hb hml hown hts hKn hRc hRs hS hl (sX4_lying l E D h173) (lw_V q2299 q2301 qs89 q135 q2302) ⟨rfl, by decide, by decide, by decide +kernel⟩ ⟨by rw [hRf]; exact Nat.le_of_ble_eq_true rfl, by rw [hRl]; exact Nat.le_of_ble_eq_true rfl⟩ (g_recv hKn hS hk173 (by decide) (by decide)) rfl (by rw [hr173]; rfl) (Nat.le_of_ble_eq_true rfl) dX4_can_173 (fun H locs cells slots hS => ?_)
  refine lv_iconst (v := (-1)) hx hb dX4_can_176 (by decide) ?_
  refine lv_icmp_eq (tgt := 184) hx hb dX4_can_177 (by decide) (fun c_177 => ?_) (fun c_177 => ?_)
  · have h := g_ift c_177 h
    refine lv_iconst (v := 0) hx hb dX4_can_184 (by decide) ?_
    exact g_zretG hx hb hr hlk hKn hRc hRs hS h dX4_can_185
  · have h := g_iff c_177 h
    refine lv_iconst (v := 1) hx hb dX4_can_180 (by decide) ?_
    refine lv_goto (tgt := 185) hx hb dX4_can_181 (by decide) ?_
    exact g_zretG hx hb hr hlk hKn hRc hRs hS h dX4_can_185
theorem sX4_can (l : Launch) (E : g_E) (D : g_D) {t : Nat} {v1 : Int32} {v2 : Int32} {G : g_G} {q : Int32 × g_G} (h : fX4_can E t v1 v2 G = some q) : gMet l E D yX4_can (ws_ yX4_can cX4_can 4 (some .boolean)) 5 158 [.inr (.inr (some t)), .inl v1, .inl v2] G (some (.int q.1)) q.2 := by
  refine gMet.of (by decide +kernel) (Nat.le_of_ble_eq_true rfl) ?_
  intro p e R s m args below meth c C hS ls hl
  have C : gC p R s m args meth c cX4_can 4 RX4 "can" (some .boolean) 5 158 E D := C
  obtain ⟨hx, hb, hml, hown, hts, hKn, hRc, hRs, hc1, hc2, hRf, hRl, hr, hlk, hnm⟩ := id C
  have hl : gls ls 4 [(0, .inr (.inr (some t))), (1, .inl v1), (2, .inl v2)] := hl
  generalize s.heap = H at hS ⊢
  unfold fX4_can at h
  refine g_aload_n hx hb hl 0 rfl dX4_can_0 ?_
  refine g_iload_n hx hb hl 1 rfl dX4_can_1 ?_
  refine lv_iconst (v := 0) hx hb dX4_can_2 (by decide) ?_
  obtain ⟨b3, hb3, h⟩ := g_bnd h
  obtain ⟨hr3, hk3⟩ := g_chk hb3
  obtain ⟨z3, h3, h⟩ := g_bnd h
  refine g_callV (n := 2) (b := b3) (av := [.inl v1, .inl 0]) (rs := []) hx hb hml hown hts hKn hRc hRs hS hl (sX4_own l E D h3) (lw_V q2245 q2247 qs77 q135 q2248) ⟨rfl, by decide, by decide, by decide +kernel⟩ ⟨by rw [hRf]; exact Nat.le_of_ble_eq_true rfl, by rw [hRl]; exact Nat.le_of_ble_eq_true rfl⟩ (g_recv hKn hS hk3 (by decide) (by decide)) rfl (by rw [hr3]; rfl) (Nat.le_of_ble_eq_true rfl) dX4_can_3 (fun H locs cells slots hS => ?_)
  refine g_istore_n (l1 := [(3, .inl z3.1), (0, .inr (.inr (some t))), (1, .inl v1), (2, .inl v2)]) hx hb hl (by decide) rfl dX4_can_6 (fun ls hl => ?_)
  refine g_iload_n hx hb hl 0 rfl dX4_can_7 ?_
  refine lv_iconst (v := (-1)) hx hb dX4_can_8 (by decide) ?_
  refine lv_icmp_eq (tgt := 22) hx hb dX4_can_9 (by decide) (fun c_9 => ?_) (fun c_9 => ?_)
  · have h := g_ift c_9 h
    refine lv_iconst (v := 0) hx hb dX4_can_22 (by decide) ?_
    exact g_zretG hx hb hr hlk hKn hRc hRs hS h dX4_can_23
  · have h := g_iff c_9 h
    refine g_aload_n hx hb hl 1 rfl dX4_can_12 ?_
    refine g_iload_n hx hb hl 2 rfl dX4_can_13 ?_
    refine lv_iconst (v := 1) hx hb dX4_can_14 (by decide) ?_
    obtain ⟨b15, hb15, h⟩ := g_bnd h
    obtain ⟨hr15, hk15⟩ := g_chk hb15
    obtain ⟨z15, h15, h⟩ := g_bnd h
    refine g_callV (n := 2) (b := b15) (av := [.inl v1, .inl 1]) (rs := []) hx hb hml hown hts hKn hRc hRs hS hl (sX4_own l E D h15) (lw_V q2245 q2247 qs77 q135 q2248) ⟨rfl, by decide, by decide, by decide +kernel⟩ ⟨by rw [hRf]; exact Nat.le_of_ble_eq_true rfl, by rw [hRl]; exact Nat.le_of_ble_eq_true rfl⟩ (g_recv hKn hS hk15 (by decide) (by decide)) rfl (by rw [hr15]; rfl) (Nat.le_of_ble_eq_true rfl) dX4_can_15 (fun H locs cells slots hS => ?_)
    refine lv_iconst (v := 1) hx hb dX4_can_18 (by decide) ?_
    refine lv_icmp_ne (tgt := 24) hx hb dX4_can_19 (by decide) (fun c_19 => ?_) (fun c_19 => ?_)
    · have h := g_ift c_19 h
      refine g_aload_n hx hb hl 1 rfl dX4_can_24 ?_
      refine g_rdR hx hb hown hts hKn hS h fd_4_4_24 rfl (Or.inl (hts _ q1889)) (fun _ z => z) dX4_can_25 (fun x25 h => ?_)
      refine g_iload_n hx hb hl 0 rfl dX4_can_28 ?_
      refine g_ialoadG hx hb hKn hS h dX4_can_29 (fun x29 h => ?_)
      by_cases w30_0 : x29 = 0
      · refine lv_tableIn (tgt := 78) (off := 48) hx hb dX4_can_30 (by rw [w30_0]; decide) (by rw [w30_0]; decide) (by rw [w30_0]; decide) (by decide) ?_
        have h := g_ift w30_0 h
        refine g_aload_n hx hb hl 1 rfl dX4_can_78 ?_
        refine g_iload_n hx hb hl 2 rfl dX4_can_79 ?_
        refine g_aload_n hx hb hl 1 rfl dX4_can_80 ?_
        refine g_iload_n hx hb hl 2 rfl dX4_can_81 ?_
        refine lv_iconst (v := 0) hx hb dX4_can_82 (by decide) ?_
        obtain ⟨b83, hb83, h⟩ := g_bnd h
        obtain ⟨hr83, hk83⟩ := g_chk hb83
        obtain ⟨z83, h83, h⟩ := g_bnd h
        refine g_callV (n := 2) (b := b83) (av := [.inl v1, .inl 0]) (rs := [.inl v1, .inr (.inr (some t))]) hx hb hml hown hts hKn hRc hRs hS hl (sX4_asked l E D h83) (lw_V q2241 q2243 qs76 q135 q2244) ⟨rfl, by decide, by decide, by decide +kernel⟩ ⟨by rw [hRf]; exact Nat.le_of_ble_eq_true rfl, by rw [hRl]; exact Nat.le_of_ble_eq_true rfl⟩ (g_recv hKn hS hk83 (by decide) (by decide)) rfl (by rw [hr83]; rfl) (Nat.le_of_ble_eq_true rfl) dX4_can_83 (fun H locs cells slots hS => ?_)
        obtain ⟨b86, hb86, h⟩ := g_bnd h
        obtain ⟨hr86, hk86⟩ := g_chk hb86
        obtain ⟨z86, h86, h⟩ := g_bnd h
        refine g_callV (n := 2) (b := b86) (av := [.inl v1, .inl z83.1]) (rs := []) hx hb hml hown hts hKn hRc hRs hS hl (sX4_sent l E D h86) (lw_V q2288 q2290 qs87 q135 q2291) ⟨rfl, by decide, by decide, by decide +kernel⟩ ⟨by rw [hRf]; exact Nat.le_of_ble_eq_true rfl, by rw [hRl]; exact Nat.le_of_ble_eq_true rfl⟩ (g_recv hKn hS hk86 (by decide) (by decide)) rfl (by rw [hr86]; rfl) (Nat.le_of_ble_eq_true rfl) dX4_can_86 (fun H locs cells slots hS => ?_)
        refine g_aload_n hx hb hl 1 rfl dX4_can_89 ?_
        refine g_rdI hx hb hown hts hKn hS h fd_4_4_4 rfl (Or.inl (hts _ q1869)) (fun _ z => z) dX4_can_90 (fun x90 h => ?_)
        refine lv_icmp_lt (tgt := 104) hx hb dX4_can_93 (by decide) (fun c_93 => ?_) (fun c_93 => ?_)
        · have h := g_ift c_93 h
          exact sX4_can_b104 C _ _ h _ _ _ _ _ hS (gls_sub hl [] rfl)
        · have h := g_iff c_93 h
          refine g_aload_n hx hb hl 1 rfl dX4_can_96 ?_
          refine g_iload_n hx hb hl 2 rfl dX4_can_97 ?_
          obtain ⟨b98, hb98, h⟩ := g_bnd h
          obtain ⟨hr98, hk98⟩ := g_chk hb98
          obtain ⟨z98, h98, h⟩ := g_bnd h
          refine g_callV (n := 1) (b := b98) (av := [.inl v1]) (rs := []) hx hb hml hown hts hKn hRc hRs hS hl (sX4_hands l E D h98) (lw_V q2295 q2297 qs88 q135 q2298) ⟨rfl, by decide, by decide, by decide +kernel⟩ ⟨by rw [hRf]; exact Nat.le_of_ble_eq_true rfl, by rw [hRl]; exact Nat.le_of_ble_eq_true rfl⟩ (g_recv hKn hS hk98 (by decide) (by decide)) rfl (by rw [hr98]; rfl) (Nat.le_of_ble_eq_true rfl) dX4_can_98 (fun H locs cells slots hS => ?_)
          refine lv_if_eq (tgt := 108) hx hb dX4_can_101 (by decide) (fun c_101 => ?_) (fun c_101 => ?_)
          · have h := g_ift c_101 h
            refine lv_iconst (v := 0) hx hb dX4_can_108 (by decide) ?_
            exact g_zretG hx hb hr hlk hKn hRc hRs hS h dX4_can_109
          · have h := g_iff c_101 h
            exact sX4_can_b104 C _ _ h _ _ _ _ _ hS (gls_sub hl [] rfl)
      have h := g_iff w30_0 h
      by_cases w30_1 : x29 = 1
      · refine lv_tableIn (tgt := 110) (off := 80) hx hb dX4_can_30 (by rw [w30_1]; decide) (by rw [w30_1]; decide) (by rw [w30_1]; decide) (by decide) ?_
        have h := g_ift w30_1 h
        refine g_aload_n hx hb hl 1 rfl dX4_can_110 ?_
        refine g_iload_n hx hb hl 2 rfl dX4_can_111 ?_
        obtain ⟨b112, hb112, h⟩ := g_bnd h
        obtain ⟨hr112, hk112⟩ := g_chk hb112
        obtain ⟨z112, h112, h⟩ := g_bnd h
        refine g_callV (n := 1) (b := b112) (av := [.inl v1]) (rs := []) hx hb hml hown hts hKn hRc hRs hS hl (sX4_hands l E D h112) (lw_V q2295 q2297 qs88 q135 q2298) ⟨rfl, by decide, by decide, by decide +kernel⟩ ⟨by rw [hRf]; exact Nat.le_of_ble_eq_true rfl, by rw [hRl]; exact Nat.le_of_ble_eq_true rfl⟩ (g_recv hKn hS hk112 (by decide) (by decide)) rfl (by rw [hr112]; rfl) (Nat.le_of_ble_eq_true rfl) dX4_can_112 (fun H locs cells slots hS => ?_)
        exact g_zretG hx hb hr hlk hKn hRc hRs hS h dX4_can_115
      have h := g_iff w30_1 h
      by_cases w30_2 : x29 = 2
      · refine lv_tableIn (tgt := 76) (off := 46) hx hb dX4_can_30 (by rw [w30_2]; decide) (by rw [w30_2]; decide) (by rw [w30_2]; decide) (by decide) ?_
        have h := g_ift w30_2 h
        refine lv_iconst (v := 1) hx hb dX4_can_76 (by decide) ?_
        exact g_zretG hx hb hr hlk hKn hRc hRs hS h dX4_can_77
      have h := g_iff w30_2 h
      by_cases w30_3 : x29 = 3
      · refine lv_tableIn (tgt := 116) (off := 86) hx hb dX4_can_30 (by rw [w30_3]; decide) (by rw [w30_3]; decide) (by rw [w30_3]; decide) (by decide) ?_
        have h := g_ift w30_3 h
        refine g_aload_n hx hb hl 1 rfl dX4_can_116 ?_
        refine g_aload_n hx hb hl 1 rfl dX4_can_117 ?_
        refine g_iload_n hx hb hl 2 rfl dX4_can_118 ?_
        refine lv_iconst (v := 0) hx hb dX4_can_119 (by decide) ?_
        obtain ⟨b120, hb120, h⟩ := g_bnd h
        obtain ⟨hr120, hk120⟩ := g_chk hb120
        obtain ⟨z120, h120, h⟩ := g_bnd h
        refine g_callV (n := 2) (b := b120) (av := [.inl v1, .inl 0]) (rs := [.inr (.inr (some t))]) hx hb hml hown hts hKn hRc hRs hS hl (sX4_asked l E D h120) (lw_V q2241 q2243 qs76 q135 q2244) ⟨rfl, by decide, by decide, by decide +kernel⟩ ⟨by rw [hRf]; exact Nat.le_of_ble_eq_true rfl, by rw [hRl]; exact Nat.le_of_ble_eq_true rfl⟩ (g_recv hKn hS hk120 (by decide) (by decide)) rfl (by rw [hr120]; rfl) (Nat.le_of_ble_eq_true rfl) dX4_can_120 (fun H locs cells slots hS => ?_)
        refine g_iload_n hx hb hl 2 rfl dX4_can_123 ?_
        refine g_aload_n hx hb hl 1 rfl dX4_can_124 ?_
        refine g_iload_n hx hb hl 2 rfl dX4_can_125 ?_
        refine lv_iconst (v := 1) hx hb dX4_can_126 (by decide) ?_
        obtain ⟨b127, hb127, h⟩ := g_bnd h
        obtain ⟨hr127, hk127⟩ := g_chk hb127
        obtain ⟨z127, h127, h⟩ := g_bnd h
        refine g_callV (n := 2) (b := b127) (av := [.inl v1, .inl 1]) (rs := [.inl v1, .inl z120.1, .inr (.inr (some t))]) hx hb hml hown hts hKn hRc hRs hS hl (sX4_asked l E D h127) (lw_V q2241 q2243 qs76 q135 q2244) ⟨rfl, by decide, by decide, by decide +kernel⟩ ⟨by rw [hRf]; exact Nat.le_of_ble_eq_true rfl, by rw [hRl]; exact Nat.le_of_ble_eq_true rfl⟩ (g_recv hKn hS hk127 (by decide) (by decide)) rfl (by rw [hr127]; rfl) (Nat.le_of_ble_eq_true rfl) dX4_can_127 (fun H locs cells slots hS => ?_)
        obtain ⟨b130, hb130, h⟩ := g_bnd h
        obtain ⟨hr130, hk130⟩ := g_chk hb130
        obtain ⟨z130, h130, h⟩ := g_bnd h
        refine g_callV (n := 3) (b := b130) (av := [.inl z120.1, .inl v1, .inl z127.1]) (rs := []) hx hb hml hown hts hKn hRc hRs hS hl (sX4_lying l E D h130) (lw_V q2299 q2301 qs89 q135 q2302) ⟨rfl, by decide, by decide, by decide +kernel⟩ ⟨by rw [hRf]; exact Nat.le_of_ble_eq_true rfl, by rw [hRl]; exact Nat.le_of_ble_eq_true rfl⟩ (g_recv hKn hS hk130 (by decide) (by decide)) rfl (by rw [hr130]; rfl) (Nat.le_of_ble_eq_true rfl) dX4_can_130 (fun H locs cells slots hS => ?_)
        refine lv_iconst (v := (-1)) hx hb dX4_can_133 (by decide) ?_
        refine lv_icmp_eq (tgt := 141) hx hb dX4_can_134 (by decide) (fun c_134 => ?_) (fun c_134 => ?_)
        · have h := g_ift c_134 h
          refine lv_iconst (v := 0) hx hb dX4_can_141 (by decide) ?_
          exact g_zretG hx hb hr hlk hKn hRc hRs hS h dX4_can_142
        · have h := g_iff c_134 h
          refine lv_iconst (v := 1) hx hb dX4_can_137 (by decide) ?_
          refine lv_goto (tgt := 142) hx hb dX4_can_138 (by decide) ?_
          exact g_zretG hx hb hr hlk hKn hRc hRs hS h dX4_can_142
      have h := g_iff w30_3 h
      by_cases w30_4 : x29 = 4
      · refine lv_tableIn (tgt := 143) (off := 113) hx hb dX4_can_30 (by rw [w30_4]; decide) (by rw [w30_4]; decide) (by rw [w30_4]; decide) (by decide) ?_
        have h := g_ift w30_4 h
        refine g_iload_n hx hb hl 3 rfl dX4_can_143 ?_
        refine g_iload_n hx hb hl 2 rfl dX4_can_144 ?_
        refine lv_icmp_eq (tgt := 184) hx hb dX4_can_145 (by decide) (fun c_145 => ?_) (fun c_145 => ?_)
        · have h := g_ift c_145 h
          refine lv_iconst (v := 0) hx hb dX4_can_184 (by decide) ?_
          exact g_zretG hx hb hr hlk hKn hRc hRs hS h dX4_can_185
        · have h := g_iff c_145 h
          refine g_aload_n hx hb hl 1 rfl dX4_can_148 ?_
          refine g_rdI hx hb hown hts hKn hS h fd_4_4_35 rfl (Or.inl (hts _ q1900)) (fun _ z => z) dX4_can_149 (fun x149 h => ?_)
          refine lv_iconst (v := (-1)) hx hb dX4_can_152 (by decide) ?_
          refine lv_icmp_eq (tgt := 164) hx hb dX4_can_153 (by decide) (fun c_153 => ?_) (fun c_153 => ?_)
          · have h := g_ift c_153 h
            exact sX4_can_b164 C _ _ _ _ _ h _ _ _ _ _ hS (gls_sub hl [1, 2, 3] rfl)
          · have h := g_iff c_153 h
            refine g_aload_n hx hb hl 1 rfl dX4_can_156 ?_
            refine g_rdI hx hb hown hts hKn hS h fd_4_4_35 rfl (Or.inl (hts _ q1900)) (fun _ z => z) dX4_can_157 (fun x157 h => ?_)
            refine g_iload_n hx hb hl 3 rfl dX4_can_160 ?_
            refine lv_icmp_ne (tgt := 184) hx hb dX4_can_161 (by decide) (fun c_161 => ?_) (fun c_161 => ?_)
            · have h := g_ift c_161 h
              refine lv_iconst (v := 0) hx hb dX4_can_184 (by decide) ?_
              exact g_zretG hx hb hr hlk hKn hRc hRs hS h dX4_can_185
            · have h := g_iff (fun z => z c_161) h
              exact sX4_can_b164 C _ _ _ _ _ h _ _ _ _ _ hS (gls_sub hl [1, 2, 3] rfl)
      have h := g_iff w30_4 h
      by_cases w30_5 : x29 = 5
      · refine lv_tableIn (tgt := 186) (off := 156) hx hb dX4_can_30 (by rw [w30_5]; decide) (by rw [w30_5]; decide) (by rw [w30_5]; decide) (by decide) ?_
        have h := g_ift w30_5 h
        refine g_aload_n hx hb hl 1 rfl dX4_can_186 ?_
        refine g_iload_n hx hb hl 2 rfl dX4_can_187 ?_
        obtain ⟨b188, hb188, h⟩ := g_bnd h
        obtain ⟨hr188, hk188⟩ := g_chk hb188
        obtain ⟨z188, h188, h⟩ := g_bnd h
        refine g_callV (n := 1) (b := b188) (av := [.inl v1]) (rs := []) hx hb hml hown hts hKn hRc hRs hS hl (sX4_begun l E D h188) (lw_V q2303 q2305 qs90 q135 q2306) ⟨rfl, by decide, by decide, by decide +kernel⟩ ⟨by rw [hRf]; exact Nat.le_of_ble_eq_true rfl, by rw [hRl]; exact Nat.le_of_ble_eq_true rfl⟩ (g_recv hKn hS hk188 (by decide) (by decide)) rfl (by rw [hr188]; rfl) (Nat.le_of_ble_eq_true rfl) dX4_can_188 (fun H locs cells slots hS => ?_)
        refine lv_if_ne (tgt := 198) hx hb dX4_can_191 (by decide) (fun c_191 => ?_) (fun c_191 => ?_)
        · have h := g_ift c_191 h
          refine lv_iconst (v := 0) hx hb dX4_can_198 (by decide) ?_
          exact g_zretG hx hb hr hlk hKn hRc hRs hS h dX4_can_199
        · have h := g_iff (fun z => z c_191) h
          refine lv_iconst (v := 1) hx hb dX4_can_194 (by decide) ?_
          refine lv_goto (tgt := 199) hx hb dX4_can_195 (by decide) ?_
          exact g_zretG hx hb hr hlk hKn hRc hRs hS h dX4_can_199
      have h := g_iff w30_5 h
      by_cases w30_6 : x29 = 6
      · refine lv_tableIn (tgt := 200) (off := 170) hx hb dX4_can_30 (by rw [w30_6]; decide) (by rw [w30_6]; decide) (by rw [w30_6]; decide) (by decide) ?_
        have h := g_ift w30_6 h
        refine g_iload_n hx hb hl 2 rfl dX4_can_200 ?_
        refine lv_if_ne (tgt := 221) hx hb dX4_can_201 (by decide) (fun c_201 => ?_) (fun c_201 => ?_)
        · have h := g_ift c_201 h
          refine lv_iconst (v := 0) hx hb dX4_can_221 (by decide) ?_
          exact g_zretG hx hb hr hlk hKn hRc hRs hS h dX4_can_222
        · have h := g_iff (fun z => z c_201) h
          refine g_aload_n hx hb hl 1 rfl dX4_can_204 ?_
          refine g_aload_n hx hb hl 1 rfl dX4_can_205 ?_
          refine g_rdR hx hb hown hts hKn hS h fd_4_4_24 rfl (Or.inl (hts _ q1889)) (fun _ z => z) dX4_can_206 (fun x206 h => ?_)
          refine g_iload_n hx hb hl 0 rfl dX4_can_209 ?_
          refine g_ialoadG hx hb hKn hS h dX4_can_210 (fun x210 h => ?_)
          obtain ⟨b211, hb211, h⟩ := g_bnd h
          obtain ⟨hr211, hk211⟩ := g_chk hb211
          obtain ⟨z211, h211, h⟩ := g_bnd h
          refine g_callV (n := 1) (b := b211) (av := [.inl x210]) (rs := []) hx hb hml hown hts hKn hRc hRs hS hl (sX4_areAll l E D h211) (lw_V q2307 q2309 qs91 q135 q2310) ⟨rfl, by decide, by decide, by decide +kernel⟩ ⟨by rw [hRf]; exact Nat.le_of_ble_eq_true rfl, by rw [hRl]; exact Nat.le_of_ble_eq_true rfl⟩ (g_recv hKn hS hk211 (by decide) (by decide)) rfl (by rw [hr211]; rfl) (Nat.le_of_ble_eq_true rfl) dX4_can_211 (fun H locs cells slots hS => ?_)
          refine lv_if_eq (tgt := 221) hx hb dX4_can_214 (by decide) (fun c_214 => ?_) (fun c_214 => ?_)
          · have h := g_ift c_214 h
            refine lv_iconst (v := 0) hx hb dX4_can_221 (by decide) ?_
            exact g_zretG hx hb hr hlk hKn hRc hRs hS h dX4_can_222
          · have h := g_iff c_214 h
            refine lv_iconst (v := 1) hx hb dX4_can_217 (by decide) ?_
            refine lv_goto (tgt := 222) hx hb dX4_can_218 (by decide) ?_
            exact g_zretG hx hb hr hlk hKn hRc hRs hS h dX4_can_222
      have h := g_iff w30_6 h
      by_cases w30_7 : x29 = 7
      · refine lv_tableIn (tgt := 200) (off := 170) hx hb dX4_can_30 (by rw [w30_7]; decide) (by rw [w30_7]; decide) (by rw [w30_7]; decide) (by decide) ?_
        have h := g_ift w30_7 h
        refine g_iload_n hx hb hl 2 rfl dX4_can_200 ?_
        refine lv_if_ne (tgt := 221) hx hb dX4_can_201 (by decide) (fun c_201 => ?_) (fun c_201 => ?_)
        · have h := g_ift c_201 h
          refine lv_iconst (v := 0) hx hb dX4_can_221 (by decide) ?_
          exact g_zretG hx hb hr hlk hKn hRc hRs hS h dX4_can_222
        · have h := g_iff (fun z => z c_201) h
          refine g_aload_n hx hb hl 1 rfl dX4_can_204 ?_
          refine g_aload_n hx hb hl 1 rfl dX4_can_205 ?_
          refine g_rdR hx hb hown hts hKn hS h fd_4_4_24 rfl (Or.inl (hts _ q1889)) (fun _ z => z) dX4_can_206 (fun x206 h => ?_)
          refine g_iload_n hx hb hl 0 rfl dX4_can_209 ?_
          refine g_ialoadG hx hb hKn hS h dX4_can_210 (fun x210 h => ?_)
          obtain ⟨b211, hb211, h⟩ := g_bnd h
          obtain ⟨hr211, hk211⟩ := g_chk hb211
          obtain ⟨z211, h211, h⟩ := g_bnd h
          refine g_callV (n := 1) (b := b211) (av := [.inl x210]) (rs := []) hx hb hml hown hts hKn hRc hRs hS hl (sX4_areAll l E D h211) (lw_V q2307 q2309 qs91 q135 q2310) ⟨rfl, by decide, by decide, by decide +kernel⟩ ⟨by rw [hRf]; exact Nat.le_of_ble_eq_true rfl, by rw [hRl]; exact Nat.le_of_ble_eq_true rfl⟩ (g_recv hKn hS hk211 (by decide) (by decide)) rfl (by rw [hr211]; rfl) (Nat.le_of_ble_eq_true rfl) dX4_can_211 (fun H locs cells slots hS => ?_)
          refine lv_if_eq (tgt := 221) hx hb dX4_can_214 (by decide) (fun c_214 => ?_) (fun c_214 => ?_)
          · have h := g_ift c_214 h
            refine lv_iconst (v := 0) hx hb dX4_can_221 (by decide) ?_
            exact g_zretG hx hb hr hlk hKn hRc hRs hS h dX4_can_222
          · have h := g_iff c_214 h
            refine lv_iconst (v := 1) hx hb dX4_can_217 (by decide) ?_
            refine lv_goto (tgt := 222) hx hb dX4_can_218 (by decide) ?_
            exact g_zretG hx hb hr hlk hKn hRc hRs hS h dX4_can_222
      have h := g_iff w30_7 h
      refine g_tableD (tgt := 223) hx hb dX4_can_30 (by decide) [0, 1, 2, 3, 4, 5, 6, 7] (by decide) (fun k hk => ?_) ?_
      · simp only [List.mem_cons, List.not_mem_nil, or_false] at hk
        rcases hk with rfl | rfl | rfl | rfl | rfl | rfl | rfl | rfl
        · exact w30_0
        · exact w30_1
        · exact w30_2
        · exact w30_3
        · exact w30_4
        · exact w30_5
        · exact w30_6
        · exact w30_7
      refine lv_iconst (v := 0) hx hb dX4_can_223 (by decide) ?_
      exact g_zretG hx hb hr hlk hKn hRc hRs hS h dX4_can_224
    · have h := g_iff (fun z => z c_19) h
      refine lv_iconst (v := 0) hx hb dX4_can_22 (by decide) ?_
      exact g_zretG hx hb hr hlk hKn hRc hRs hS h dX4_can_23
/-- SendHallModel.handOver(I)V -/
def fX4_handOver_b102 (E : g_E) (t : Nat) (v1 : Int32) (v2 : Int32) (v3 : Int32) (v4 : Int32) (G : g_G) : Option (g_G) :=
  (gchk G 4 (some t)).bind fun b104 =>
  (fX4_goOn E b104 v1 G).bind fun z104 =>
  (gchk z104 4 (some t)).bind fun b113 =>
  (fX4_has E b113 v2 v1 v3 v4 z104).bind fun z113 =>
  some z113
def fX4_handOver (E : g_E) (t : Nat) (v1 : Int32) (G : g_G) : Option (g_G) :=
  (gchk G 4 (some t)).bind fun b3 =>
  (fX4_asked E b3 v1 0 G).bind fun z3 =>
  (gchk z3.2 4 (some t)).bind fun b10 =>
  (fX4_asked E b10 v1 2 z3.2).bind fun z10 =>
  (grR z10.2 4 4 (some t) 28).bind fun x15 =>
  (gchk z10.2 4 (some t)).bind fun b21 =>
  (fX4_own E b21 v1 0 z10.2).bind fun z21 =>
  (gaI z21.2 100 x15 z21.1).bind fun x24 =>
  (grR z21.2 4 4 (some t) 36).bind fun x28 =>
  (gaI z21.2 100 x28 v1).bind fun x32 =>
  (grR z21.2 4 4 (some t) 36).bind fun x34 =>
  (gaI z21.2 100 x34 z3.1).bind fun x38 =>
  (gchk z21.2 4 (some t)).bind fun b48 =>
  (fX4_upTo E b48 v1 (if x32 < x38 then x38 else x32) z21.2).bind fun z48 =>
  (gchk z48 4 (some t)).bind fun b55 =>
  (fX4_upTo E b55 z3.1 (if x32 < x38 then x38 else x32) z48).bind fun z55 =>
  (grR z55 4 4 (some t) 36).bind fun x59 =>
  (gaI z55 100 x59 v1).bind fun x64 =>
  (gchk z55 4 (some t)).bind fun b69 =>
  (fX4_farOf E b69 v1 z3.1 z55).bind fun z69 =>
  (gsaI E z69.2 x59 v1 (x64 + (1 + z69.1))).bind fun G74 =>
  (grR G74 4 4 (some t) 36).bind fun x76 =>
  (grR G74 4 4 (some t) 36).bind fun x81 =>
  (gaI G74 100 x81 v1).bind fun x85 =>
  (gsaI E G74 x76 z3.1 x85).bind fun G86 =>
  (gchk G86 4 (some t)).bind fun b90 =>
  (fX4_isAt E b90 z3.1 4 G86).bind fun z90 =>
  if z90.1 = 0 then (
    fX4_handOver_b102 E t v1 z3.1 z10.1 x24 z90.2)
  else (
    (gchk z90.2 4 (some t)).bind fun b99 =>
    (fX4_noteAny E b99 z3.1 v1 z90.2).bind fun z99 =>
    fX4_handOver_b102 E t v1 z3.1 z10.1 x24 z99)
theorem sX4_handOver_b102 {p : Program} {l : Launch} {e : Env} {R : Room} {s : State} {m : MethodId} {args : Array Value} {below : List Frame} {meth : Method} {c : Code} {E : g_E} {D : g_D} (C : gC p R s m args meth c cX4_handOver 6 RX4 "handOver" (none) 8 230 E D) : ∀ (t : Nat) (v1 : Int32) (v2 : Int32) (v3 : Int32) (v4 : Int32) (G : g_G) (q : g_G), fX4_handOver_b102 E t v1 v2 v3 v4 G = some q → ∀ (H : Heap) (locs : List Loc) (cells slots : Nat) (ls : Array Slot), gSt E D G H locs → gls ls 6 [(0, .inr (.inr (some t))), (1, .inl v1), (2, .inl v2), (3, .inl v3), (4, .inl v4)] → gT p l e R s m args below meth c E D H locs cells slots none q (F0 m 102 ls []) := by
  obtain ⟨hx, hb, hml, hown, hts, hKn, hRc, hRs, hc1, hc2, hRf, hRl, hr, hlk, hnm⟩ := id C
  intro t v1 v2 v3 v4 G q h H locs cells slots ls hS hl
  unfold fX4_handOver_b102 at h
  refine g_aload_n hx hb hl 0 rfl dX4_handOver_102 ?_
  refine g_iload_n hx hb hl 1 rfl dX4_handOver_103 ?_
  obtain ⟨b104, hb104, h⟩ := g_bnd h
  obtain ⟨hr104, hk104⟩ := g_chk hb104
  obtain ⟨z104, h104, h⟩ := g_bnd h
  refine g_callV (n := 1) (b := b104) (av := [.inl v1]) (rs := []) hx hb hml hown hts hKn hRc hRs hS hl (sX4_goOn l E D h104) (lw_V q2324 q2326 qs95 q135 q2327) ⟨rfl, by decide, by decide, by decide +kernel⟩ ⟨by rw [hRf]; exact Nat.le_of_ble_eq_true rfl, by rw [hRl]; exact Nat.le_of_ble_eq_true rfl⟩ (g_recv hKn hS hk104 (by decide) (by decide)) rfl (by rw [hr104]; rfl) (Nat.le_of_ble_eq_true rfl) dX4_handOver_104 (fun H locs cells slots hS => ?_)
  refine g_aload_n hx hb hl 0 rfl dX4_handOver_107 ?_
  refine g_iload_n hx hb hl 2 rfl dX4_handOver_108 ?_
  refine g_iload_n hx hb hl 1 rfl dX4_handOver_109 ?_
  refine g_iload_n hx hb hl 3 rfl dX4_handOver_110 ?_
  refine g_iload hx hb hl 4 rfl dX4_handOver_111 ?_
  obtain ⟨b113, hb113, h⟩ := g_bnd h
  obtain ⟨hr113, hk113⟩ := g_chk hb113
  obtain ⟨z113, h113, h⟩ := g_bnd h
  refine g_callV (n := 4) (b := b113) (av := [.inl v2, .inl v1, .inl v3, .inl v4]) (rs := []) hx hb hml hown hts hKn hRc hRs hS hl (sX4_has l E D h113) (lw_V q2341 q2343 qs99 q135 q2344) ⟨rfl, by decide, by decide, by decide +kernel⟩ ⟨by rw [hRf]; exact Nat.le_of_ble_eq_true rfl, by rw [hRl]; exact Nat.le_of_ble_eq_true rfl⟩ (g_recv hKn hS hk113 (by decide) (by decide)) rfl (by rw [hr113]; rfl) (Nat.le_of_ble_eq_true rfl) dX4_handOver_113 (fun H locs cells slots hS => ?_)
  exact g_vretG hx hb hr hlk hKn hRc hRs hS h dX4_handOver_116
theorem sX4_handOver (l : Launch) (E : g_E) (D : g_D) {t : Nat} {v1 : Int32} {G : g_G} {q : g_G} (h : fX4_handOver E t v1 G = some q) : gMet l E D yX4_handOver (ws_ yX4_handOver cX4_handOver 6 (none)) 8 230 [.inr (.inr (some t)), .inl v1] G none q := by
  refine gMet.of (by decide +kernel) (Nat.le_of_ble_eq_true rfl) ?_
  intro p e R s m args below meth c C hS ls hl
  have C : gC p R s m args meth c cX4_handOver 6 RX4 "handOver" (none) 8 230 E D := C
  obtain ⟨hx, hb, hml, hown, hts, hKn, hRc, hRs, hc1, hc2, hRf, hRl, hr, hlk, hnm⟩ := id C
  have hl : gls ls 6 [(0, .inr (.inr (some t))), (1, .inl v1)] := hl
  generalize s.heap = H at hS ⊢
  unfold fX4_handOver at h
  refine g_aload_n hx hb hl 0 rfl dX4_handOver_0 ?_
  refine g_iload_n hx hb hl 1 rfl dX4_handOver_1 ?_
  refine lv_iconst (v := 0) hx hb dX4_handOver_2 (by decide) ?_
  obtain ⟨b3, hb3, h⟩ := g_bnd h
  obtain ⟨hr3, hk3⟩ := g_chk hb3
  obtain ⟨z3, h3, h⟩ := g_bnd h
  refine g_callV (n := 2) (b := b3) (av := [.inl v1, .inl 0]) (rs := []) hx hb hml hown hts hKn hRc hRs hS hl (sX4_asked l E D h3) (lw_V q2241 q2243 qs76 q135 q2244) ⟨rfl, by decide, by decide, by decide +kernel⟩ ⟨by rw [hRf]; exact Nat.le_of_ble_eq_true rfl, by rw [hRl]; exact Nat.le_of_ble_eq_true rfl⟩ (g_recv hKn hS hk3 (by decide) (by decide)) rfl (by rw [hr3]; rfl) (Nat.le_of_ble_eq_true rfl) dX4_handOver_3 (fun H locs cells slots hS => ?_)
  refine g_istore_n (l1 := [(2, .inl z3.1), (0, .inr (.inr (some t))), (1, .inl v1)]) hx hb hl (by decide) rfl dX4_handOver_6 (fun ls hl => ?_)
  refine g_aload_n hx hb hl 1 rfl dX4_handOver_7 ?_
  refine g_iload_n hx hb hl 2 rfl dX4_handOver_8 ?_
  refine lv_iconst (v := 2) hx hb dX4_handOver_9 (by decide) ?_
  obtain ⟨b10, hb10, h⟩ := g_bnd h
  obtain ⟨hr10, hk10⟩ := g_chk hb10
  obtain ⟨z10, h10, h⟩ := g_bnd h
  refine g_callV (n := 2) (b := b10) (av := [.inl v1, .inl 2]) (rs := []) hx hb hml hown hts hKn hRc hRs hS hl (sX4_asked l E D h10) (lw_V q2241 q2243 qs76 q135 q2244) ⟨rfl, by decide, by decide, by decide +kernel⟩ ⟨by rw [hRf]; exact Nat.le_of_ble_eq_true rfl, by rw [hRl]; exact Nat.le_of_ble_eq_true rfl⟩ (g_recv hKn hS hk10 (by decide) (by decide)) rfl (by rw [hr10]; rfl) (Nat.le_of_ble_eq_true rfl) dX4_handOver_10 (fun H locs cells slots hS => ?_)
  refine g_istore_n (l1 := [(3, .inl z10.1), (2, .inl z3.1), (0, .inr (.inr (some t))), (1, .inl v1)]) hx hb hl (by decide) rfl dX4_handOver_13 (fun ls hl => ?_)
  refine g_aload_n hx hb hl 2 rfl dX4_handOver_14 ?_
  refine g_rdR hx hb hown hts hKn hS h fd_4_4_28 rfl (Or.inl (hts _ q1893)) (fun _ z => z) dX4_handOver_15 (fun x15 h => ?_)
  refine g_aload_n hx hb hl 2 rfl dX4_handOver_18 ?_
  refine g_iload_n hx hb hl 3 rfl dX4_handOver_19 ?_
  refine lv_iconst (v := 0) hx hb dX4_handOver_20 (by decide) ?_
  obtain ⟨b21, hb21, h⟩ := g_bnd h
  obtain ⟨hr21, hk21⟩ := g_chk hb21
  obtain ⟨z21, h21, h⟩ := g_bnd h
  refine g_callV (n := 2) (b := b21) (av := [.inl v1, .inl 0]) (rs := [.inr (.inr x15)]) hx hb hml hown hts hKn hRc hRs hS hl (sX4_own l E D h21) (lw_V q2245 q2247 qs77 q135 q2248) ⟨rfl, by decide, by decide, by decide +kernel⟩ ⟨by rw [hRf]; exact Nat.le_of_ble_eq_true rfl, by rw [hRl]; exact Nat.le_of_ble_eq_true rfl⟩ (g_recv hKn hS hk21 (by decide) (by decide)) rfl (by rw [hr21]; rfl) (Nat.le_of_ble_eq_true rfl) dX4_handOver_21 (fun H locs cells slots hS => ?_)
  refine g_ialoadG hx hb hKn hS h dX4_handOver_24 (fun x24 h => ?_)
  refine g_istore (l1 := [(4, .inl x24), (3, .inl z10.1), (2, .inl z3.1), (0, .inr (.inr (some t))), (1, .inl v1)]) hx hb hl (by decide) rfl dX4_handOver_25 (fun ls hl => ?_)
  refine g_aload_n hx hb hl 3 rfl dX4_handOver_27 ?_
  refine g_rdR hx hb hown hts hKn hS h fd_4_4_36 rfl (Or.inl (hts _ q1901)) (fun _ z => z) dX4_handOver_28 (fun x28 h => ?_)
  refine g_iload_n hx hb hl 4 rfl dX4_handOver_31 ?_
  refine g_ialoadG hx hb hKn hS h dX4_handOver_32 (fun x32 h => ?_)
  refine g_aload_n hx hb hl 3 rfl dX4_handOver_33 ?_
  refine g_rdR hx hb hown hts hKn hS h fd_4_4_36 rfl (Or.inl (hts _ q1901)) (fun _ z => z) dX4_handOver_34 (fun x34 h => ?_)
  refine g_iload_n hx hb hl 2 rfl dX4_handOver_37 ?_
  refine g_ialoadG hx hb hKn hS h dX4_handOver_38 (fun x38 h => ?_)
  refine g_mmax (rs := []) hx hb hml hown hRc hRs hS hl (hts _ q2332) (hts _ q283) (hts _ q127) (hts _ q284) (by decide +kernel) rfl (Nat.le_of_ble_eq_true rfl) ⟨by rw [hRf]; exact Nat.le_of_ble_eq_true rfl, by rw [hRl]; exact Nat.le_of_ble_eq_true rfl⟩ dX4_handOver_39 (fun cells slots => ?_)
  refine g_istore (l1 := [(5, .inl (if x32 < x38 then x38 else x32)), (4, .inl x24), (3, .inl z10.1), (2, .inl z3.1), (0, .inr (.inr (some t))), (1, .inl v1)]) hx hb hl (by decide) rfl dX4_handOver_42 (fun ls hl => ?_)
  refine g_aload_n hx hb hl 4 rfl dX4_handOver_44 ?_
  refine g_iload_n hx hb hl 5 rfl dX4_handOver_45 ?_
  refine g_iload hx hb hl 0 rfl dX4_handOver_46 ?_
  obtain ⟨b48, hb48, h⟩ := g_bnd h
  obtain ⟨hr48, hk48⟩ := g_chk hb48
  obtain ⟨z48, h48, h⟩ := g_bnd h
  refine g_callV (n := 2) (b := b48) (av := [.inl v1, .inl (if x32 < x38 then x38 else x32)]) (rs := []) hx hb hml hown hts hKn hRc hRs hS hl (sX4_upTo l E D h48) (lw_V q2333 q2335 qs97 q135 q2336) ⟨rfl, by decide, by decide, by decide +kernel⟩ ⟨by rw [hRf]; exact Nat.le_of_ble_eq_true rfl, by rw [hRl]; exact Nat.le_of_ble_eq_true rfl⟩ (g_recv hKn hS hk48 (by decide) (by decide)) rfl (by rw [hr48]; rfl) (Nat.le_of_ble_eq_true rfl) dX4_handOver_48 (fun H locs cells slots hS => ?_)
  refine g_aload_n hx hb hl 4 rfl dX4_handOver_51 ?_
  refine g_iload_n hx hb hl 3 rfl dX4_handOver_52 ?_
  refine g_iload hx hb hl 0 rfl dX4_handOver_53 ?_
  obtain ⟨b55, hb55, h⟩ := g_bnd h
  obtain ⟨hr55, hk55⟩ := g_chk hb55
  obtain ⟨z55, h55, h⟩ := g_bnd h
  refine g_callV (n := 2) (b := b55) (av := [.inl z3.1, .inl (if x32 < x38 then x38 else x32)]) (rs := []) hx hb hml hown hts hKn hRc hRs hS hl (sX4_upTo l E D h55) (lw_V q2333 q2335 qs97 q135 q2336) ⟨rfl, by decide, by decide, by decide +kernel⟩ ⟨by rw [hRf]; exact Nat.le_of_ble_eq_true rfl, by rw [hRl]; exact Nat.le_of_ble_eq_true rfl⟩ (g_recv hKn hS hk55 (by decide) (by decide)) rfl (by rw [hr55]; rfl) (Nat.le_of_ble_eq_true rfl) dX4_handOver_55 (fun H locs cells slots hS => ?_)
  refine g_aload_n hx hb hl 4 rfl dX4_handOver_58 ?_
  refine g_rdR hx hb hown hts hKn hS h fd_4_4_36 rfl (Or.inl (hts _ q1901)) (fun _ z => z) dX4_handOver_59 (fun x59 h => ?_)
  refine g_iload_n hx hb hl 5 rfl dX4_handOver_62 ?_
  refine lv_dup2_11 hx hb dX4_handOver_63 rfl (by first | exact va_rf_cat _ | rfl | exact g_catA _) ?_
  refine g_ialoadG hx hb hKn hS h dX4_handOver_64 (fun x64 h => ?_)
  refine lv_iconst (v := 1) hx hb dX4_handOver_65 (by decide) ?_
  refine g_aload_n hx hb hl 4 rfl dX4_handOver_66 ?_
  refine g_iload_n hx hb hl 5 rfl dX4_handOver_67 ?_
  refine g_iload_n hx hb hl 3 rfl dX4_handOver_68 ?_
  obtain ⟨b69, hb69, h⟩ := g_bnd h
  obtain ⟨hr69, hk69⟩ := g_chk hb69
  obtain ⟨z69, h69, h⟩ := g_bnd h
  refine g_callV (n := 2) (b := b69) (av := [.inl v1, .inl z3.1]) (rs := [.inl 1, .inl x64, .inl v1, .inr (.inr x59)]) hx hb hml hown hts hKn hRc hRs hS hl (sX4_farOf l E D h69) (lw_V q2319 q2321 qs94 q135 q2322) ⟨rfl, by decide, by decide, by decide +kernel⟩ ⟨by rw [hRf]; exact Nat.le_of_ble_eq_true rfl, by rw [hRl]; exact Nat.le_of_ble_eq_true rfl⟩ (g_recv hKn hS hk69 (by decide) (by decide)) rfl (by rw [hr69]; rfl) (Nat.le_of_ble_eq_true rfl) dX4_handOver_69 (fun H locs cells slots hS => ?_)
  refine lv_iadd hx hb dX4_handOver_72 ?_
  refine lv_iadd hx hb dX4_handOver_73 ?_
  refine g_iastoreG hx hb hKn hS h dX4_handOver_74 (fun G74 h H locs hS => ?_)
  refine g_aload_n hx hb hl 4 rfl dX4_handOver_75 ?_
  refine g_rdR hx hb hown hts hKn hS h fd_4_4_36 rfl (Or.inl (hts _ q1901)) (fun _ z => z) dX4_handOver_76 (fun x76 h => ?_)
  refine g_iload_n hx hb hl 3 rfl dX4_handOver_79 ?_
  refine g_aload_n hx hb hl 4 rfl dX4_handOver_80 ?_
  refine g_rdR hx hb hown hts hKn hS h fd_4_4_36 rfl (Or.inl (hts _ q1901)) (fun _ z => z) dX4_handOver_81 (fun x81 h => ?_)
  refine g_iload_n hx hb hl 5 rfl dX4_handOver_84 ?_
  refine g_ialoadG hx hb hKn hS h dX4_handOver_85 (fun x85 h => ?_)
  refine g_iastoreG hx hb hKn hS h dX4_handOver_86 (fun G86 h H locs hS => ?_)
  refine g_aload_n hx hb hl 4 rfl dX4_handOver_87 ?_
  refine g_iload_n hx hb hl 3 rfl dX4_handOver_88 ?_
  refine lv_iconst (v := 4) hx hb dX4_handOver_89 (by decide) ?_
  obtain ⟨b90, hb90, h⟩ := g_bnd h
  obtain ⟨hr90, hk90⟩ := g_chk hb90
  obtain ⟨z90, h90, h⟩ := g_bnd h
  refine g_callV (n := 2) (b := b90) (av := [.inl z3.1, .inl 4]) (rs := []) hx hb hml hown hts hKn hRc hRs hS hl (sX4_isAt l E D h90) (lw_V q2280 q2282 qs85 q135 q2283) ⟨rfl, by decide, by decide, by decide +kernel⟩ ⟨by rw [hRf]; exact Nat.le_of_ble_eq_true rfl, by rw [hRl]; exact Nat.le_of_ble_eq_true rfl⟩ (g_recv hKn hS hk90 (by decide) (by decide)) rfl (by rw [hr90]; rfl) (Nat.le_of_ble_eq_true rfl) dX4_handOver_90 (fun H locs cells slots hS => ?_)
  refine lv_if_eq (tgt := 102) hx hb dX4_handOver_93 (by decide) (fun c_93 => ?_) (fun c_93 => ?_)
  · have h := g_ift c_93 h
    exact sX4_handOver_b102 C _ _ _ _ _ _ _ h _ _ _ _ _ hS (gls_sub hl [4, 5, 3, 2, 1] rfl)
  · have h := g_iff c_93 h
    refine g_aload_n hx hb hl 4 rfl dX4_handOver_96 ?_
    refine g_iload_n hx hb hl 3 rfl dX4_handOver_97 ?_
    refine g_iload_n hx hb hl 5 rfl dX4_handOver_98 ?_
    obtain ⟨b99, hb99, h⟩ := g_bnd h
    obtain ⟨hr99, hk99⟩ := g_chk hb99
    obtain ⟨z99, h99, h⟩ := g_bnd h
    refine g_callV (n := 2) (b := b99) (av := [.inl z3.1, .inl v1]) (rs := []) hx hb hml hown hts hKn hRc hRs hS hl (sX4_noteAny l E D h99) (lw_V q2337 q2339 qs98 q135 q2340) ⟨rfl, by decide, by decide, by decide +kernel⟩ ⟨by rw [hRf]; exact Nat.le_of_ble_eq_true rfl, by rw [hRl]; exact Nat.le_of_ble_eq_true rfl⟩ (g_recv hKn hS hk99 (by decide) (by decide)) rfl (by rw [hr99]; rfl) (Nat.le_of_ble_eq_true rfl) dX4_handOver_99 (fun H locs cells slots hS => ?_)
    exact sX4_handOver_b102 C _ _ _ _ _ _ _ h _ _ _ _ _ hS (gls_sub hl [4, 5, 3, 2, 1] rfl)
