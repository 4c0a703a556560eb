set_option maxRecDepth 100000
/-- SendHall$Reader.go()V -/
def fX5_go_b332 (E : g_E) (t : Nat) (G : g_G) : Option (g_G) :=
  (grI G 5 5 (some t) 2).bind fun x334 =>
  (gpI E G 5 5 (some t) 2 (x334 + 1)).bind fun G339 =>
  some G339
def fX5_go_b310 (E : g_E) (t : Nat) (v1 : Int32) (s0 : Option Nat) (s1 : Option Nat) (G : g_G) : Option (g_G) :=
  (gpR E G 5 5 s0 8 s1).bind fun G310 =>
  (grR G310 5 5 (some t) 8).bind fun x314 =>
  if ¬ x314 = (some (gA E 3)) then (
    fX5_go_b332 E t G310)
  else (
    (fJ9_valueOf E (UInt32.toInt32 (Int32.toUInt32 v1 % 65536)) G310).bind fun z326 =>
    (gpR E z326.2 5 5 (some t) 9 z326.1).bind fun G329 =>
    fX5_go_b332 E t G329)
def fX5_go_b278 (E : g_E) (t : Nat) (s0 : Option Nat) (s1 : Int32) (G : g_G) : Option (g_G) :=
  (gpZ E G 5 5 s0 7 s1).bind fun G278 =>
  (gpR E G278 5 5 (some t) 8 (some (gA E 2))).bind fun G285 =>
  some G285
def fX5_go_b246 (E : g_E) (k196 : Nat → g_G → Option (g_G)) (t : Nat) (G : g_G) : Option (g_G) :=
  (grI G 5 5 (some t) 2).bind fun x248 =>
  (gpI E G 5 5 (some t) 2 (x248 + 1)).bind fun G253 =>
  k196 t G253
def fX5_go_b196 (E : g_E) : Nat → Nat → g_G → Option (g_G)
  | 0, _, _ => none
  | n + 1, t, G =>
    (grI G 5 5 (some t) 2).bind fun x198 =>
    (gchk G 5 (some t)).bind fun b201 =>
    (fX5_byteAt E b201 x198 G).bind fun z201 =>
    (fX5_isDigit E z201.1 z201.2).bind fun z204 =>
    if z204.1 = 0 then (
      (grI z204.2 5 5 (some t) 2).bind fun x261 =>
      (grI z204.2 5 5 (some t) 3).bind fun x265 =>
      if (x261 - x265) ≤ (4 : Int32) then (
        fX5_go_b278 E t (some t) 0 z204.2)
      else (
        fX5_go_b278 E t (some t) 1 z204.2))
    else (
      (grI z204.2 5 5 (some t) 2).bind fun x211 =>
      (grI z204.2 5 5 (some t) 3).bind fun x215 =>
      if (4 : Int32) ≤ (x211 - x215) then (
        fX5_go_b246 E (fX5_go_b196 E n) t z204.2)
      else (
        (grI z204.2 5 5 (some t) 4).bind fun x227 =>
        (grI z204.2 5 5 (some t) 2).bind fun x233 =>
        (gchk z204.2 5 (some t)).bind fun b236 =>
        (fX5_byteAt E b236 x233 z204.2).bind fun z236 =>
        (gpI E z236.2 5 5 (some t) 4 (((10 * x227) + z236.1) - 48)).bind fun G243 =>
        fX5_go_b246 E (fX5_go_b196 E n) t G243))
def fX5_go_b153 (E : g_E) (k116 : Nat → (Option Nat) → g_G → Option (g_G)) (t : Nat) (v2 : Option Nat) (G : g_G) : Option (g_G) :=
  (grI G 5 5 (some t) 2).bind fun x155 =>
  (gpI E G 5 5 (some t) 2 (x155 + 1)).bind fun G160 =>
  k116 t v2 G160
def fX5_go_b116 (E : g_E) : Nat → Nat → (Option Nat) → g_G → Option (g_G)
  | 0, _, _, _ => none
  | n + 1, t, v2, G =>
    (grI G 5 5 (some t) 2).bind fun x118 =>
    (gchk G 5 (some t)).bind fun b121 =>
    (fX5_byteAt E b121 x118 G).bind fun z121 =>
    (fX5_isLetter E z121.1 z121.2).bind fun z124 =>
    if z124.1 = 0 then (
      (gchk z124.2 18 v2).bind fun b168 =>
      (fJ8_toString E b168 z124.2).bind fun z168 =>
      (gpR E z168.2 5 5 (some t) 9 z168.1).bind fun G171 =>
      (gpR E G171 5 5 (some t) 8 (some (gA E 1))).bind fun G178 =>
      some G178)
    else (
      (gchk z124.2 18 v2).bind fun b131 =>
      (fJ8_length E b131 z124.2).bind fun z131 =>
      if (6 : Int32) ≤ z131.1 then (
        fX5_go_b153 E (fX5_go_b116 E n) t v2 z131.2)
      else (
        (grI z131.2 5 5 (some t) 2).bind fun x142 =>
        (gchk z131.2 5 (some t)).bind fun b145 =>
        (fX5_byteAt E b145 x142 z131.2).bind fun z145 =>
        (gchk z145.2 18 v2).bind fun b149 =>
        (fJ8_append_3 E b149 (UInt32.toInt32 (Int32.toUInt32 z145.1 % 65536)) z145.2).bind fun z149 =>
        fX5_go_b153 E (fX5_go_b116 E n) t v2 z149.2))
def fX5_go_b50 (E : g_E) (t : Nat) (G : g_G) : Option (g_G) :=
  (grI G 5 5 (some t) 2).bind fun x52 =>
  (gpI E G 5 5 (some t) 3 x52).bind fun G55 =>
  (gpR E G55 5 5 (some t) 9 (some (gA E 20))).bind fun G61 =>
  (gpZ E G61 5 5 (some t) 7 0).bind fun G66 =>
  (grI G66 5 5 (some t) 2).bind fun x71 =>
  (gchk G66 5 (some t)).bind fun b74 =>
  (fX5_byteAt E b74 x71 G66).bind fun z74 =>
  (grI z74.2 5 5 (some t) 2).bind fun x79 =>
  (grI z74.2 5 5 (some t) 1).bind fun x83 =>
  if x79 < x83 then (
    (fX5_isLetter E z74.1 z74.2).bind fun z100 =>
    if z100.1 = 0 then (
      (fX5_isDigit E z74.1 z100.2).bind fun z185 =>
      if z185.1 = 0 then (
        (gchk z185.2 19 (some (gA E 21))).bind fun b295 =>
        (fJ9_indexOf E b295 z74.1 z185.2).bind fun z295 =>
        if z295.1 < 0 then (
          fX5_go_b310 E t z74.1 (some t) (some (gA E 4)) z295.2)
        else (
          fX5_go_b310 E t z74.1 (some t) (some (gA E 3)) z295.2))
      else (
        (gpI E z185.2 5 5 (some t) 4 0).bind fun G193 =>
        fX5_go_b196 E gFU t G193))
    else (
      (gnewO E z100.2 18 4).bind fun z106 =>
      (fJ8_init_2 E z106.1 6 z106.2).bind fun z112 =>
      fX5_go_b116 E gFU t (some z106.1) z112))
  else (
    (gpR E z74.2 5 5 (some t) 8 (some (gA E 5))).bind fun G93 =>
    some G93)
def fX5_go_b37 (E : g_E) (k0 : Nat → g_G → Option (g_G)) (t : Nat) (G : g_G) : Option (g_G) :=
  (grI G 5 5 (some t) 2).bind fun x39 =>
  (gpI E G 5 5 (some t) 2 (x39 + 1)).bind fun G44 =>
  k0 t G44
def fX5_go_b0 (E : g_E) : Nat → Nat → g_G → Option (g_G)
  | 0, _, _ => none
  | n + 1, t, G =>
    (grI G 5 5 (some t) 2).bind fun x1 =>
    (grI G 5 5 (some t) 1).bind fun x5 =>
    if x5 ≤ x1 then (
      fX5_go_b50 E t G)
    else (
      (grI G 5 5 (some t) 2).bind fun x13 =>
      (gchk G 5 (some t)).bind fun b16 =>
      (fX5_byteAt E b16 x13 G).bind fun z16 =>
      if z16.1 = (32 : Int32) then (
        fX5_go_b37 E (fX5_go_b0 E n) t z16.2)
      else (
        (grI z16.2 5 5 (some t) 2).bind fun x26 =>
        (gchk z16.2 5 (some t)).bind fun b29 =>
        (fX5_byteAt E b29 x26 z16.2).bind fun z29 =>
        if ¬ z29.1 = (10 : Int32) then (
          fX5_go_b50 E t z29.2)
        else (
          fX5_go_b37 E (fX5_go_b0 E n) t z29.2)))
def fX5_go (E : g_E) (t : Nat) (G : g_G) : Option (g_G) :=
  fX5_go_b0 E gFU t G
theorem sX5_go_b332 {p : Program} {l : Launch} {e : Env} {R : Room} {s : State} {m : MethodId} {args : Array Value} {below : List Frame} {meth : Method} {c : Code} {E : g_E} {D : g_D} (C : gC p R s m args meth c cX5_go 3 RX5 "go" (none) 7 196 E D) : ∀ (t : Nat) (G : g_G) (q : g_G), fX5_go_b332 E t G = some q → ∀ (H : Heap) (locs : List Loc) (cells slots : Nat) (ls : Array Slot), gSt E D G H locs → gls ls 3 [(0, .inr (.inr (some t)))] → gT p l e R s m args below meth c E D H locs cells slots none q (F0 m 332 ls []) := by
  obtain ⟨hx, hb, hml, hown, hts, hKn, hRc, hRs, hc1, hc2, hRf, hRl, hr, hlk, hnm⟩ := id C
  intro t G q h H locs cells slots ls hS hl
  unfold fX5_go_b332 at h
  refine g_aload_n hx hb hl 0 rfl dX5_go_332 ?_
  refine lv_dup hx hb dX5_go_333 (by first | exact va_rf_cat _ | rfl | exact g_catA _) ?_
  refine g_rdI hx hb hown hts hKn hS h fd_5_5_2 rfl (Or.inl (hts _ q1235)) (fun _ z => z) dX5_go_334 (fun x334 h => ?_)
  refine lv_iconst (v := 1) hx hb dX5_go_337 (by decide) ?_
  refine lv_iadd hx hb dX5_go_338 ?_
  refine g_ptI hx hb hown hts hKn hS h fd_5_5_2 (Or.inl (hts _ q1235)) (fun _ z => z) (fun z => nomatch z) dX5_go_339 (fun G339 h H locs hS => ?_)
  exact g_vretG hx hb hr hlk hKn hRc hRs hS h dX5_go_342
theorem sX5_go_b310 {p : Program} {l : Launch} {e : Env} {R : Room} {s : State} {m : MethodId} {args : Array Value} {below : List Frame} {meth : Method} {c : Code} {E : g_E} {D : g_D} (C : gC p R s m args meth c cX5_go 3 RX5 "go" (none) 7 196 E D) : ∀ (t : Nat) (v1 : Int32) (s0 : Option Nat) (s1 : Option Nat) (G : g_G) (q : g_G), fX5_go_b310 E t v1 s0 s1 G = some q → ∀ (H : Heap) (locs : List Loc) (cells slots : Nat) (ls : Array Slot), gSt E D G H locs → gls ls 3 [(0, .inr (.inr (some t))), (1, .inl v1)] → gT p l e R s m args below meth c E D H locs cells slots none q (F0 m 310 ls [va_rf s1, va_rf s0]) := by
  obtain ⟨hx, hb, hml, hown, hts, hKn, hRc, hRs, hc1, hc2, hRf, hRl, hr, hlk, hnm⟩ := id C
  intro t v1 s0 s1 G q h H locs cells slots ls hS hl
  unfold fX5_go_b310 at h
  refine g_ptR hx hb hown hts hKn hS h fd_5_5_8 rfl (Or.inl (hts _ q1241)) (fun _ z => z) (fun z => nomatch z) dX5_go_310 (fun G310 h H locs hS => ?_)
  refine g_aload_n hx hb hl 0 rfl dX5_go_313 ?_
  refine g_rdR hx hb hown hts hKn hS h fd_5_5_8 rfl (Or.inl (hts _ q1241)) (fun _ z => z) dX5_go_314 (fun x314 h => ?_)
  refine g_getsZ (C := "SendHall$Sort") (n := "SIGN") (d := "LSendHall$Sort;") (v := va_rf (some (gA E 3))) hx hb hown (hKn.2.2.2.2.2.2.1 _ (List.mem_of_getElem? (i := 2) rfl)) hS (hts _ q1215) (fun _ z => z) dX5_go_317 ?_
  refine lv_acmp_ne (tgt := 332) hx hb dX5_go_320 (by decide) (fun c_320 => ?_) (fun c_320 => ?_)
  · have h := g_ift c_320 h
    exact sX5_go_b332 C _ _ _ h _ _ _ _ _ hS (gls_sub hl [0] rfl)
  · have h := g_iff (fun z => z c_320) h
    refine g_aload_n hx hb hl 0 rfl dX5_go_323 ?_
    refine g_iload_n hx hb hl 1 rfl dX5_go_324 ?_
    refine lv_i2c (v := (UInt32.toInt32 (Int32.toUInt32 v1 % 65536))) hx hb dX5_go_325 rfl ?_
    obtain ⟨z326, h326, h⟩ := g_bnd h
    refine g_callS (n := 1) (av := [.inl (UInt32.toInt32 (Int32.toUInt32 v1 % 65536))]) (rs := [.inr (.inr (some t))]) hx hb hml hown hts hKn hRc hRs hS hl (sJ9_valueOf l E D h326) (lw_S q1219 q1220 q124 q1221) ⟨by decide, by decide, by decide +kernel⟩ ⟨by rw [hRf]; exact Nat.le_of_ble_eq_true rfl, by rw [hRl]; exact Nat.le_of_ble_eq_true rfl⟩ rfl rfl (Nat.le_of_ble_eq_true rfl) dX5_go_326 (fun H locs cells slots hS => ?_)
    refine g_ptR hx hb hown hts hKn hS h fd_5_5_9 rfl (Or.inl (hts _ q1242)) (fun _ z => z) (fun z => nomatch z) dX5_go_329 (fun G329 h H locs hS => ?_)
    exact sX5_go_b332 C _ _ _ h _ _ _ _ _ hS (gls_sub hl [0] rfl)
theorem sX5_go_b278 {p : Program} {l : Launch} {e : Env} {R : Room} {s : State} {m : MethodId} {args : Array Value} {below : List Frame} {meth : Method} {c : Code} {E : g_E} {D : g_D} (C : gC p R s m args meth c cX5_go 3 RX5 "go" (none) 7 196 E D) : ∀ (t : Nat) (s0 : Option Nat) (s1 : Int32) (G : g_G) (q : g_G), fX5_go_b278 E t s0 s1 G = some q → ∀ (H : Heap) (locs : List Loc) (cells slots : Nat) (ls : Array Slot), gSt E D G H locs → gls ls 3 [(0, .inr (.inr (some t)))] → gT p l e R s m args below meth c E D H locs cells slots none q (F0 m 278 ls [.int s1, va_rf s0]) := by
  obtain ⟨hx, hb, hml, hown, hts, hKn, hRc, hRs, hc1, hc2, hRf, hRl, hr, hlk, hnm⟩ := id C
  intro t s0 s1 G q h H locs cells slots ls hS hl
  unfold fX5_go_b278 at h
  refine g_ptZ hx hb hown hts hKn hS h fd_5_5_7 (Or.inl (hts _ q1240)) (fun _ z => z) (fun z => nomatch z) dX5_go_278 (fun G278 h H locs hS => ?_)
  refine g_aload_n hx hb hl 0 rfl dX5_go_281 ?_
  refine g_getsZ (C := "SendHall$Sort") (n := "NUMBER") (d := "LSendHall$Sort;") (v := va_rf (some (gA E 2))) hx hb hown (hKn.2.2.2.2.2.2.1 _ (List.mem_of_getElem? (i := 1) rfl)) hS (hts _ q1162) (fun _ z => z) dX5_go_282 ?_
  refine g_ptR hx hb hown hts hKn hS h fd_5_5_8 rfl (Or.inl (hts _ q1241)) (fun _ z => z) (fun z => nomatch z) dX5_go_285 (fun G285 h H locs hS => ?_)
  refine lv_goto (tgt := 342) hx hb dX5_go_288 (by decide) ?_
  exact g_vretG hx hb hr hlk hKn hRc hRs hS h dX5_go_342
theorem sX5_go_b246 {p : Program} {l : Launch} {e : Env} {R : Room} {s : State} {m : MethodId} {args : Array Value} {below : List Frame} {meth : Method} {c : Code} {E : g_E} {D : g_D} (C : gC p R s m args meth c cX5_go 3 RX5 "go" (none) 7 196 E D) {k196 : Nat → g_G → Option (g_G)} (hk196 : ∀ (t : Nat) (G : g_G) (q : g_G), k196 t G = some q → ∀ (H : Heap) (locs : List Loc) (cells slots : Nat) (ls : Array Slot), gSt E D G H locs → gls ls 3 [(0, .inr (.inr (some t)))] → gT p l e R s m args below meth c E D H locs cells slots none q (F0 m 196 ls [])) : ∀ (t : Nat) (G : g_G) (q : g_G), fX5_go_b246 E k196 t G = some q → ∀ (H : Heap) (locs : List Loc) (cells slots : Nat) (ls : Array Slot), gSt E D G H locs → gls ls 3 [(0, .inr (.inr (some t)))] → gT p l e R s m args below meth c E D H locs cells slots none q (F0 m 246 ls []) := by
  obtain ⟨hx, hb, hml, hown, hts, hKn, hRc, hRs, hc1, hc2, hRf, hRl, hr, hlk, hnm⟩ := id C
  intro t G q h H locs cells slots ls hS hl
  unfold fX5_go_b246 at h
  refine g_aload_n hx hb hl 0 rfl dX5_go_246 ?_
  refine lv_dup hx hb dX5_go_247 (by first | exact va_rf_cat _ | rfl | exact g_catA _) ?_
  refine g_rdI hx hb hown hts hKn hS h fd_5_5_2 rfl (Or.inl (hts _ q1235)) (fun _ z => z) dX5_go_248 (fun x248 h => ?_)
  refine lv_iconst (v := 1) hx hb dX5_go_251 (by decide) ?_
  refine lv_iadd hx hb dX5_go_252 ?_
  refine g_ptI hx hb hown hts hKn hS h fd_5_5_2 (Or.inl (hts _ q1235)) (fun _ z => z) (fun z => nomatch z) dX5_go_253 (fun G253 h H locs hS => ?_)
  refine lv_goto (tgt := 196) hx hb dX5_go_256 (by decide) ?_
  exact hk196 _ _ _ h _ _ _ _ _ hS (gls_sub hl [0] rfl)
theorem sX5_go_b196 {p : Program} {l : Launch} {e : Env} {R : Room} {s : State} {m : MethodId} {args : Array Value} {below : List Frame} {meth : Method} {c : Code} {E : g_E} {D : g_D} (C : gC p R s m args meth c cX5_go 3 RX5 "go" (none) 7 196 E D) : ∀ (n : Nat) (t : Nat) (G : g_G) (q : g_G), fX5_go_b196 E n t G = some q → ∀ (H : Heap) (locs : List Loc) (cells slots : Nat) (ls : Array Slot), gSt E D G H locs → gls ls 3 [(0, .inr (.inr (some t)))] → gT p l e R s m args below meth c E D H locs cells slots none q (F0 m 196 ls []) := by
  obtain ⟨hx, hb, hml, hown, hts, hKn, hRc, hRs, hc1, hc2, hRf, hRl, hr, hlk, hnm⟩ := id C
  intro n
  induction n with
  | zero =>
    intro t G q h
    exact g_no h
  | succ n ih =>
    intro t G q h H locs cells slots ls hS hl
    rw [fX5_go_b196] at h
    refine g_aload_n hx hb hl 0 rfl dX5_go_196 ?_
    refine g_aload_n hx hb hl 0 rfl dX5_go_197 ?_
    refine g_rdI hx hb hown hts hKn hS h fd_5_5_2 rfl (Or.inl (hts _ q1235)) (fun _ z => z) dX5_go_198 (fun x198 h => ?_)
    obtain ⟨b201, hb201, h⟩ := g_bnd h
    obtain ⟨hr201, hk201⟩ := g_chk hb201
    obtain ⟨z201, h201, h⟩ := g_bnd h
    refine g_callV (n := 1) (b := b201) (av := [.inl x198]) (rs := []) hx hb hml hown hts hKn hRc hRs hS hl (sX5_byteAt l E D h201) (lw_V q1122 q1124 qs25 q136 q1125) ⟨rfl, by decide, by decide, by decide +kernel⟩ ⟨by rw [hRf]; exact Nat.le_of_ble_eq_true rfl, by rw [hRl]; exact Nat.le_of_ble_eq_true rfl⟩ (g_recv hKn hS hk201 (by decide) (by decide)) rfl (by rw [hr201]; rfl) (Nat.le_of_ble_eq_true rfl) dX5_go_201 (fun H locs cells slots hS => ?_)
    obtain ⟨z204, h204, h⟩ := g_bnd h
    refine g_callS (n := 1) (av := [.inl z201.1]) (rs := []) hx hb hml hown hts hKn hRc hRs hS hl (sX5_isDigit l E D h204) (lw_S q1159 q1160 q136 q1161) ⟨by decide, by decide, by decide +kernel⟩ ⟨by rw [hRf]; exact Nat.le_of_ble_eq_true rfl, by rw [hRl]; exact Nat.le_of_ble_eq_true rfl⟩ rfl rfl (Nat.le_of_ble_eq_true rfl) dX5_go_204 (fun H locs cells slots hS => ?_)
    refine lv_if_eq (tgt := 259) hx hb dX5_go_207 (by decide) (fun c_207 => ?_) (fun c_207 => ?_)
    · have h := g_ift c_207 h
      refine g_aload_n hx hb hl 0 rfl dX5_go_259 ?_
      refine g_aload_n hx hb hl 0 rfl dX5_go_260 ?_
      refine g_rdI hx hb hown hts hKn hS h fd_5_5_2 rfl (Or.inl (hts _ q1235)) (fun _ z => z) dX5_go_261 (fun x261 h => ?_)
      refine g_aload_n hx hb hl 0 rfl dX5_go_264 ?_
      refine g_rdI hx hb hown hts hKn hS h fd_5_5_3 rfl (Or.inl (hts _ q1236)) (fun _ z => z) dX5_go_265 (fun x265 h => ?_)
      refine lv_isub hx hb dX5_go_268 ?_
      refine lv_iconst (v := 4) hx hb dX5_go_269 (by decide) ?_
      refine lv_icmp_le (tgt := 277) hx hb dX5_go_270 (by decide) (fun c_270 => ?_) (fun c_270 => ?_)
      · have h := g_ift c_270 h
        refine lv_iconst (v := 0) hx hb dX5_go_277 (by decide) ?_
        exact sX5_go_b278 C _ _ _ _ _ h _ _ _ _ _ hS (gls_sub hl [0] rfl)
      · have h := g_iff c_270 h
        refine lv_iconst (v := 1) hx hb dX5_go_273 (by decide) ?_
        refine lv_goto (tgt := 278) hx hb dX5_go_274 (by decide) ?_
        exact sX5_go_b278 C _ _ _ _ _ h _ _ _ _ _ hS (gls_sub hl [0] rfl)
    · have h := g_iff c_207 h
      refine g_aload_n hx hb hl 0 rfl dX5_go_210 ?_
      refine g_rdI hx hb hown hts hKn hS h fd_5_5_2 rfl (Or.inl (hts _ q1235)) (fun _ z => z) dX5_go_211 (fun x211 h => ?_)
      refine g_aload_n hx hb hl 0 rfl dX5_go_214 ?_
      refine g_rdI hx hb hown hts hKn hS h fd_5_5_3 rfl (Or.inl (hts _ q1236)) (fun _ z => z) dX5_go_215 (fun x215 h => ?_)
      refine lv_isub hx hb dX5_go_218 ?_
      refine lv_iconst (v := 4) hx hb dX5_go_219 (by decide) ?_
      refine lv_icmp_ge (tgt := 246) hx hb dX5_go_220 (by decide) (fun c_220 => ?_) (fun c_220 => ?_)
      · have h := g_ift c_220 h
        exact sX5_go_b246 C ih _ _ _ h _ _ _ _ _ hS (gls_sub hl [0] rfl)
      · have h := g_iff c_220 h
        refine g_aload_n hx hb hl 0 rfl dX5_go_223 ?_
        refine lv_bipush (v := 10) hx hb dX5_go_224 (by decide) ?_
        refine g_aload_n hx hb hl 0 rfl dX5_go_226 ?_
        refine g_rdI hx hb hown hts hKn hS h fd_5_5_4 rfl (Or.inl (hts _ q1237)) (fun _ z => z) dX5_go_227 (fun x227 h => ?_)
        refine lv_imul hx hb dX5_go_230 ?_
        refine g_aload_n hx hb hl 0 rfl dX5_go_231 ?_
        refine g_aload_n hx hb hl 0 rfl dX5_go_232 ?_
        refine g_rdI hx hb hown hts hKn hS h fd_5_5_2 rfl (Or.inl (hts _ q1235)) (fun _ z => z) dX5_go_233 (fun x233 h => ?_)
        obtain ⟨b236, hb236, h⟩ := g_bnd h
        obtain ⟨hr236, hk236⟩ := g_chk hb236
        obtain ⟨z236, h236, h⟩ := g_bnd h
        refine g_callV (n := 1) (b := b236) (av := [.inl x233]) (rs := [.inl (10 * x227), .inr (.inr (some t))]) hx hb hml hown hts hKn hRc hRs hS hl (sX5_byteAt l E D h236) (lw_V q1122 q1124 qs25 q136 q1125) ⟨rfl, by decide, by decide, by decide +kernel⟩ ⟨by rw [hRf]; exact Nat.le_of_ble_eq_true rfl, by rw [hRl]; exact Nat.le_of_ble_eq_true rfl⟩ (g_recv hKn hS hk236 (by decide) (by decide)) rfl (by rw [hr236]; rfl) (Nat.le_of_ble_eq_true rfl) dX5_go_236 (fun H locs cells slots hS => ?_)
        refine lv_iadd hx hb dX5_go_239 ?_
        refine lv_bipush (v := 48) hx hb dX5_go_240 (by decide) ?_
        refine lv_isub hx hb dX5_go_242 ?_
        refine g_ptI hx hb hown hts hKn hS h fd_5_5_4 (Or.inl (hts _ q1237)) (fun _ z => z) (fun z => nomatch z) dX5_go_243 (fun G243 h H locs hS => ?_)
        exact sX5_go_b246 C ih _ _ _ h _ _ _ _ _ hS (gls_sub hl [0] rfl)
theorem sX5_go_b153 {p : Program} {l : Launch} {e : Env} {R : Room} {s : State} {m : MethodId} {args : Array Value} {below : List Frame} {meth : Method} {c : Code} {E : g_E} {D : g_D} (C : gC p R s m args meth c cX5_go 3 RX5 "go" (none) 7 196 E D) {k116 : Nat → (Option Nat) → g_G → Option (g_G)} (hk116 : ∀ (t : Nat) (v2 : Option Nat) (G : g_G) (q : g_G), k116 t v2 G = some q → ∀ (H : Heap) (locs : List Loc) (cells slots : Nat) (ls : Array Slot), gSt E D G H locs → gls ls 3 [(0, .inr (.inr (some t))), (2, .inr (.inr v2))] → gT p l e R s m args below meth c E D H locs cells slots none q (F0 m 116 ls [])) : ∀ (t : Nat) (v2 : Option Nat) (G : g_G) (q : g_G), fX5_go_b153 E k116 t v2 G = some q → ∀ (H : Heap) (locs : List Loc) (cells slots : Nat) (ls : Array Slot), gSt E D G H locs → gls ls 3 [(0, .inr (.inr (some t))), (2, .inr (.inr v2))] → gT p l e R s m args below meth c E D H locs cells slots none q (F0 m 153 ls []) := by
  obtain ⟨hx, hb, hml, hown, hts, hKn, hRc, hRs, hc1, hc2, hRf, hRl, hr, hlk, hnm⟩ := id C
  intro t v2 G q h H locs cells slots ls hS hl
  unfold fX5_go_b153 at h
  refine g_aload_n hx hb hl 0 rfl dX5_go_153 ?_
  refine lv_dup hx hb dX5_go_154 (by first | exact va_rf_cat _ | rfl | exact g_catA _) ?_
  refine g_rdI hx hb hown hts hKn hS h fd_5_5_2 rfl (Or.inl (hts _ q1235)) (fun _ z => z) dX5_go_155 (fun x155 h => ?_)
  refine lv_iconst (v := 1) hx hb dX5_go_158 (by decide) ?_
  refine lv_iadd hx hb dX5_go_159 ?_
  refine g_ptI hx hb hown hts hKn hS h fd_5_5_2 (Or.inl (hts _ q1235)) (fun _ z => z) (fun z => nomatch z) dX5_go_160 (fun G160 h H locs hS => ?_)
  refine lv_goto (tgt := 116) hx hb dX5_go_163 (by decide) ?_
  exact hk116 _ _ _ _ h _ _ _ _ _ hS (gls_sub hl [0, 1] rfl)
theorem sX5_go_b116 {p : Program} {l : Launch} {e : Env} {R : Room} {s : State} {m : MethodId} {args : Array Value} {below : List Frame} {meth : Method} {c : Code} {E : g_E} {D : g_D} (C : gC p R s m args meth c cX5_go 3 RX5 "go" (none) 7 196 E D) : ∀ (n : Nat) (t : Nat) (v2 : Option Nat) (G : g_G) (q : g_G), fX5_go_b116 E n t v2 G = some q → ∀ (H : Heap) (locs : List Loc) (cells slots : Nat) (ls : Array Slot), gSt E D G H locs → gls ls 3 [(0, .inr (.inr (some t))), (2, .inr (.inr v2))] → gT p l e R s m args below meth c E D H locs cells slots none q (F0 m 116 ls []) := by
  obtain ⟨hx, hb, hml, hown, hts, hKn, hRc, hRs, hc1, hc2, hRf, hRl, hr, hlk, hnm⟩ := id C
  intro n
  induction n with
  | zero =>
    intro t v2 G q h
    exact g_no h
  | succ n ih =>
    intro t v2 G q h H locs cells slots ls hS hl
    rw [fX5_go_b116] at h
    refine g_aload_n hx hb hl 0 rfl dX5_go_116 ?_
    refine g_aload_n hx hb hl 0 rfl dX5_go_117 ?_
    refine g_rdI hx hb hown hts hKn hS h fd_5_5_2 rfl (Or.inl (hts _ q1235)) (fun _ z => z) dX5_go_118 (fun x118 h => ?_)
    obtain ⟨b121, hb121, h⟩ := g_bnd h
    obtain ⟨hr121, hk121⟩ := g_chk hb121
    obtain ⟨z121, h121, h⟩ := g_bnd h
    refine g_callV (n := 1) (b := b121) (av := [.inl x118]) (rs := []) hx hb hml hown hts hKn hRc hRs hS hl (sX5_byteAt l E D h121) (lw_V q1122 q1124 qs25 q136 q1125) ⟨rfl, by decide, by decide, by decide +kernel⟩ ⟨by rw [hRf]; exact Nat.le_of_ble_eq_true rfl, by rw [hRl]; exact Nat.le_of_ble_eq_true rfl⟩ (g_recv hKn hS hk121 (by decide) (by decide)) rfl (by rw [hr121]; rfl) (Nat.le_of_ble_eq_true rfl) dX5_go_121 (fun H locs cells slots hS => ?_)
    obtain ⟨z124, h124, h⟩ := g_bnd h
    refine g_callS (n := 1) (av := [.inl z121.1]) (rs := []) hx hb hml hown hts hKn hRc hRs hS hl (sX5_isLetter l E D h124) (lw_S q1128 q1129 q136 q1130) ⟨by decide, by decide, by decide +kernel⟩ ⟨by rw [hRf]; exact Nat.le_of_ble_eq_true rfl, by rw [hRl]; exact Nat.le_of_ble_eq_true rfl⟩ rfl rfl (Nat.le_of_ble_eq_true rfl) dX5_go_124 (fun H locs cells slots hS => ?_)
    refine lv_if_eq (tgt := 166) hx hb dX5_go_127 (by decide) (fun c_127 => ?_) (fun c_127 => ?_)
    · have h := g_ift c_127 h
      refine g_aload_n hx hb hl 0 rfl dX5_go_166 ?_
      refine g_aload_n hx hb hl 1 rfl dX5_go_167 ?_
      obtain ⟨b168, hb168, h⟩ := g_bnd h
      obtain ⟨hr168, hk168⟩ := g_chk hb168
      obtain ⟨z168, h168, h⟩ := g_bnd h
      refine g_callV (n := 0) (b := b168) (av := []) (rs := [.inr (.inr (some t))]) hx hb hml hown hts hKn hRc hRs hS hl (sJ8_toString l E D h168) (lw_V q1156 q406 q407 q123 q408) ⟨rfl, by decide, by decide, by decide +kernel⟩ ⟨by rw [hRf]; exact Nat.le_of_ble_eq_true rfl, by rw [hRl]; exact Nat.le_of_ble_eq_true rfl⟩ (g_recv hKn hS hk168 (by decide) (by decide)) rfl (by rw [hr168]; rfl) (Nat.le_of_ble_eq_true rfl) dX5_go_168 (fun H locs cells slots hS => ?_)
      refine g_ptR hx hb hown hts hKn hS h fd_5_5_9 rfl (Or.inl (hts _ q1242)) (fun _ z => z) (fun z => nomatch z) dX5_go_171 (fun G171 h H locs hS => ?_)
      refine g_aload_n hx hb hl 0 rfl dX5_go_174 ?_
      refine g_getsZ (C := "SendHall$Sort") (n := "WORD") (d := "LSendHall$Sort;") (v := va_rf (some (gA E 1))) hx hb hown (hKn.2.2.2.2.2.2.1 _ (List.mem_of_getElem? (i := 0) rfl)) hS (hts _ q1157) (fun _ z => z) dX5_go_175 ?_
      refine g_ptR hx hb hown hts hKn hS h fd_5_5_8 rfl (Or.inl (hts _ q1241)) (fun _ z => z) (fun z => nomatch z) dX5_go_178 (fun G178 h H locs hS => ?_)
      refine lv_goto (tgt := 342) hx hb dX5_go_181 (by decide) ?_
      exact g_vretG hx hb hr hlk hKn hRc hRs hS h dX5_go_342
    · have h := g_iff c_127 h
      refine g_aload_n hx hb hl 1 rfl dX5_go_130 ?_
      obtain ⟨b131, hb131, h⟩ := g_bnd h
      obtain ⟨hr131, hk131⟩ := g_chk hb131
      obtain ⟨z131, h131, h⟩ := g_bnd h
      refine g_callV (n := 0) (b := b131) (av := []) (rs := []) hx hb hml hown hts hKn hRc hRs hS hl (sJ8_length l E D h131) (lw_V q1135 q427 q2455 q123 q428) ⟨rfl, by decide, by decide, by decide +kernel⟩ ⟨by rw [hRf]; exact Nat.le_of_ble_eq_true rfl, by rw [hRl]; exact Nat.le_of_ble_eq_true rfl⟩ (g_recv hKn hS hk131 (by decide) (by decide)) rfl (by rw [hr131]; rfl) (Nat.le_of_ble_eq_true rfl) dX5_go_131 (fun H locs cells slots hS => ?_)
      refine lv_bipush (v := 6) hx hb dX5_go_134 (by decide) ?_
      refine lv_icmp_ge (tgt := 153) hx hb dX5_go_136 (by decide) (fun c_136 => ?_) (fun c_136 => ?_)
      · have h := g_ift c_136 h
        exact sX5_go_b153 C ih _ _ _ _ h _ _ _ _ _ hS (gls_sub hl [0, 1] rfl)
      · have h := g_iff c_136 h
        refine g_aload_n hx hb hl 1 rfl dX5_go_139 ?_
        refine g_aload_n hx hb hl 0 rfl dX5_go_140 ?_
        refine g_aload_n hx hb hl 0 rfl dX5_go_141 ?_
        refine g_rdI hx hb hown hts hKn hS h fd_5_5_2 rfl (Or.inl (hts _ q1235)) (fun _ z => z) dX5_go_142 (fun x142 h => ?_)
        obtain ⟨b145, hb145, h⟩ := g_bnd h
        obtain ⟨hr145, hk145⟩ := g_chk hb145
        obtain ⟨z145, h145, h⟩ := g_bnd h
        refine g_callV (n := 1) (b := b145) (av := [.inl x142]) (rs := [.inr (.inr v2)]) hx hb hml hown hts hKn hRc hRs hS hl (sX5_byteAt l E D h145) (lw_V q1122 q1124 qs25 q136 q1125) ⟨rfl, by decide, by decide, by decide +kernel⟩ ⟨by rw [hRf]; exact Nat.le_of_ble_eq_true rfl, by rw [hRl]; exact Nat.le_of_ble_eq_true rfl⟩ (g_recv hKn hS hk145 (by decide) (by decide)) rfl (by rw [hr145]; rfl) (Nat.le_of_ble_eq_true rfl) dX5_go_145 (fun H locs cells slots hS => ?_)
        refine lv_i2c (v := (UInt32.toInt32 (Int32.toUInt32 z145.1 % 65536))) hx hb dX5_go_148 rfl ?_
        obtain ⟨b149, hb149, h⟩ := g_bnd h
        obtain ⟨hr149, hk149⟩ := g_chk hb149
        obtain ⟨z149, h149, h⟩ := g_bnd h
        refine g_callV (n := 1) (b := b149) (av := [.inl (UInt32.toInt32 (Int32.toUInt32 z145.1 % 65536))]) (rs := []) hx hb hml hown hts hKn hRc hRs hS hl (sJ8_append_3 l E D h149) (lw_V q1136 q1137 q1138 q123 q1139) ⟨rfl, by decide, by decide, by decide +kernel⟩ ⟨by rw [hRf]; exact Nat.le_of_ble_eq_true rfl, by rw [hRl]; exact Nat.le_of_ble_eq_true rfl⟩ (g_recv hKn hS hk149 (by decide) (by decide)) rfl (by rw [hr149]; rfl) (Nat.le_of_ble_eq_true rfl) dX5_go_149 (fun H locs cells slots hS => ?_)
        refine lv_pop hx hb dX5_go_152 (by first | exact va_rf_cat _ | rfl | exact g_catA _) ?_
        exact sX5_go_b153 C ih _ _ _ _ h _ _ _ _ _ hS (gls_sub hl [0, 1] rfl)
theorem sX5_go_b50 {p : Program} {l : Launch} {e : Env} {R : Room} {s : State} {m : MethodId} {args : Array Value} {below : List Frame} {meth : Method} {c : Code} {E : g_E} {D : g_D} (C : gC p R s m args meth c cX5_go 3 RX5 "go" (none) 7 196 E D) : ∀ (t : Nat) (G : g_G) (q : g_G), fX5_go_b50 E t G = some q → ∀ (H : Heap) (locs : List Loc) (cells slots : Nat) (ls : Array Slot), gSt E D G H locs → gls ls 3 [(0, .inr (.inr (some t)))] → gT p l e R s m args below meth c E D H locs cells slots none q (F0 m 50 ls []) := by
  obtain ⟨hx, hb, hml, hown, hts, hKn, hRc, hRs, hc1, hc2, hRf, hRl, hr, hlk, hnm⟩ := id C
  intro t G q h H locs cells slots ls hS hl
  unfold fX5_go_b50 at h
  refine g_aload_n hx hb hl 0 rfl dX5_go_50 ?_
  refine g_aload_n hx hb hl 0 rfl dX5_go_51 ?_
  refine g_rdI hx hb hown hts hKn hS h fd_5_5_2 rfl (Or.inl (hts _ q1235)) (fun _ z => z) dX5_go_52 (fun x52 h => ?_)
  refine g_ptI hx hb hown hts hKn hS h fd_5_5_3 (Or.inl (hts _ q1236)) (fun _ z => z) (fun z => nomatch z) dX5_go_55 (fun G55 h H locs hS => ?_)
  refine g_aload_n hx hb hl 0 rfl dX5_go_58 ?_
  refine g_ldcS (i := 20) hx hb hown hKn (List.mem_of_getElem? (i := 0) rfl) dX5_go_59 ?_
  refine g_ptR hx hb hown hts hKn hS h fd_5_5_9 rfl (Or.inl (hts _ q1242)) (fun _ z => z) (fun z => nomatch z) dX5_go_61 (fun G61 h H locs hS => ?_)
  refine g_aload_n hx hb hl 0 rfl dX5_go_64 ?_
  refine lv_iconst (v := 0) hx hb dX5_go_65 (by decide) ?_
  refine g_ptZ hx hb hown hts hKn hS h fd_5_5_7 (Or.inl (hts _ q1240)) (fun _ z => z) (fun z => nomatch z) dX5_go_66 (fun G66 h H locs hS => ?_)
  refine g_aload_n hx hb hl 0 rfl dX5_go_69 ?_
  refine g_aload_n hx hb hl 0 rfl dX5_go_70 ?_
  refine g_rdI hx hb hown hts hKn hS h fd_5_5_2 rfl (Or.inl (hts _ q1235)) (fun _ z => z) dX5_go_71 (fun x71 h => ?_)
  obtain ⟨b74, hb74, h⟩ := g_bnd h
  obtain ⟨hr74, hk74⟩ := g_chk hb74
  obtain ⟨z74, h74, h⟩ := g_bnd h
  refine g_callV (n := 1) (b := b74) (av := [.inl x71]) (rs := []) hx hb hml hown hts hKn hRc hRs hS hl (sX5_byteAt l E D h74) (lw_V q1122 q1124 qs25 q136 q1125) ⟨rfl, by decide, by decide, by decide +kernel⟩ ⟨by rw [hRf]; exact Nat.le_of_ble_eq_true rfl, by rw [hRl]; exact Nat.le_of_ble_eq_true rfl⟩ (g_recv hKn hS hk74 (by decide) (by decide)) rfl (by rw [hr74]; rfl) (Nat.le_of_ble_eq_true rfl) dX5_go_74 (fun H locs cells slots hS => ?_)
  refine g_istore_n (l1 := [(1, .inl z74.1), (0, .inr (.inr (some t)))]) hx hb hl (by decide) rfl dX5_go_77 (fun ls hl => ?_)
  refine g_aload_n hx hb hl 1 rfl dX5_go_78 ?_
  refine g_rdI hx hb hown hts hKn hS h fd_5_5_2 rfl (Or.inl (hts _ q1235)) (fun _ z => z) dX5_go_79 (fun x79 h => ?_)
  refine g_aload_n hx hb hl 1 rfl dX5_go_82 ?_
  refine g_rdI hx hb hown hts hKn hS h fd_5_5_1 rfl (Or.inl (hts _ q1234)) (fun _ z => z) dX5_go_83 (fun x83 h => ?_)
  refine lv_icmp_lt (tgt := 99) hx hb dX5_go_86 (by decide) (fun c_86 => ?_) (fun c_86 => ?_)
  · have h := g_ift c_86 h
    refine g_iload_n hx hb hl 0 rfl dX5_go_99 ?_
    obtain ⟨z100, h100, h⟩ := g_bnd h
    refine g_callS (n := 1) (av := [.inl z74.1]) (rs := []) hx hb hml hown hts hKn hRc hRs hS hl (sX5_isLetter l E D h100) (lw_S q1128 q1129 q136 q1130) ⟨by decide, by decide, by decide +kernel⟩ ⟨by rw [hRf]; exact Nat.le_of_ble_eq_true rfl, by rw [hRl]; exact Nat.le_of_ble_eq_true rfl⟩ rfl rfl (Nat.le_of_ble_eq_true rfl) dX5_go_100 (fun H locs cells slots hS => ?_)
    refine lv_if_eq (tgt := 184) hx hb dX5_go_103 (by decide) (fun c_103 => ?_) (fun c_103 => ?_)
    · have h := g_ift c_103 h
      refine g_iload_n hx hb hl 0 rfl dX5_go_184 ?_
      obtain ⟨z185, h185, h⟩ := g_bnd h
      refine g_callS (n := 1) (av := [.inl z74.1]) (rs := []) hx hb hml hown hts hKn hRc hRs hS hl (sX5_isDigit l E D h185) (lw_S q1159 q1160 q136 q1161) ⟨by decide, by decide, by decide +kernel⟩ ⟨by rw [hRf]; exact Nat.le_of_ble_eq_true rfl, by rw [hRl]; exact Nat.le_of_ble_eq_true rfl⟩ rfl rfl (Nat.le_of_ble_eq_true rfl) dX5_go_185 (fun H locs cells slots hS => ?_)
      refine lv_if_eq (tgt := 291) hx hb dX5_go_188 (by decide) (fun c_188 => ?_) (fun c_188 => ?_)
      · have h := g_ift c_188 h
        refine g_aload_n hx hb hl 1 rfl dX5_go_291 ?_
        refine g_ldcS (i := 21) hx hb hown hKn (List.mem_of_getElem? (i := 1) rfl) dX5_go_292 ?_
        refine g_iload_n hx hb hl 0 rfl dX5_go_294 ?_
        obtain ⟨b295, hb295, h⟩ := g_bnd h
        obtain ⟨hr295, hk295⟩ := g_chk hb295
        obtain ⟨z295, h295, h⟩ := g_bnd h
        refine g_callV (n := 1) (b := b295) (av := [.inl z74.1]) (rs := [.inr (.inr (some t))]) hx hb hml hown hts hKn hRc hRs hS hl (sJ9_indexOf l E D h295) (lw_V q1165 q1166 q1167 q124 q1168) ⟨rfl, by decide, by decide, by decide +kernel⟩ ⟨by rw [hRf]; exact Nat.le_of_ble_eq_true rfl, by rw [hRl]; exact Nat.le_of_ble_eq_true rfl⟩ (g_recv hKn hS hk295 (by decide) (by decide)) rfl (by rw [hr295]; rfl) (Nat.le_of_ble_eq_true rfl) dX5_go_295 (fun H locs cells slots hS => ?_)
        refine lv_if_lt (tgt := 307) hx hb dX5_go_298 (by decide) (fun c_298 => ?_) (fun c_298 => ?_)
        · have h := g_ift c_298 h
          refine g_getsZ (C := "SendHall$Sort") (n := "BAD") (d := "LSendHall$Sort;") (v := va_rf (some (gA E 4))) hx hb hown (hKn.2.2.2.2.2.2.1 _ (List.mem_of_getElem? (i := 3) rfl)) hS (hts _ q1217) (fun _ z => z) dX5_go_307 ?_
          exact sX5_go_b310 C _ _ _ _ _ _ h _ _ _ _ _ hS (gls_sub hl [1, 0] rfl)
        · have h := g_iff c_298 h
          refine g_getsZ (C := "SendHall$Sort") (n := "SIGN") (d := "LSendHall$Sort;") (v := va_rf (some (gA E 3))) hx hb hown (hKn.2.2.2.2.2.2.1 _ (List.mem_of_getElem? (i := 2) rfl)) hS (hts _ q1215) (fun _ z => z) dX5_go_301 ?_
          refine lv_goto (tgt := 310) hx hb dX5_go_304 (by decide) ?_
          exact sX5_go_b310 C _ _ _ _ _ _ h _ _ _ _ _ hS (gls_sub hl [1, 0] rfl)
      · have h := g_iff c_188 h
        refine g_aload_n hx hb hl 1 rfl dX5_go_191 ?_
        refine lv_iconst (v := 0) hx hb dX5_go_192 (by decide) ?_
        refine g_ptI hx hb hown hts hKn hS h fd_5_5_4 (Or.inl (hts _ q1237)) (fun _ z => z) (fun z => nomatch z) dX5_go_193 (fun G193 h H locs hS => ?_)
        exact sX5_go_b196 C gFU _ _ _ h _ _ _ _ _ hS (gls_sub hl [1] rfl)
    · have h := g_iff c_103 h
      refine g_newG (k := 18) hx hb hown hts hKn hRc hRs hS h (by decide) (by decide) (hts _ q1131) (hts _ q228) (hts _ q123) dX5_go_106 (fun z106 h H locs cells slots hS => ?_)
      refine lv_dup hx hb dX5_go_109 (by first | exact va_rf_cat _ | rfl | exact g_catA _) ?_
      refine lv_bipush (v := 6) hx hb dX5_go_110 (by decide) ?_
      obtain ⟨z112, h112, h⟩ := g_bnd h
      refine g_callI (n := 1) (av := [.inl 6]) (rs := [.inr (.inr (some z106.1))]) hx hb hml hown hts hKn hRc hRs hS hl (sJ8_init_2 l E D h112) (lw_meth q1134) (hts _ q123) (hts _ q1132) (hts _ q1133) rfl ⟨by decide, by decide, by decide +kernel⟩ ⟨by rw [hRf]; exact Nat.le_of_ble_eq_true rfl, by rw [hRl]; exact Nat.le_of_ble_eq_true rfl⟩ rfl rfl (Nat.le_of_ble_eq_true rfl) dX5_go_112 (fun H locs cells slots hS => ?_)
      refine g_astore_n (l1 := [(2, .inr (.inr (some z106.1))), (1, .inl z74.1), (0, .inr (.inr (some t)))]) hx hb hl (by decide) rfl dX5_go_115 (fun ls hl => ?_)
      exact sX5_go_b116 C gFU _ _ _ _ h _ _ _ _ _ hS (gls_sub hl [2, 0] rfl)
  · have h := g_iff c_86 h
    refine g_aload_n hx hb hl 1 rfl dX5_go_89 ?_
    refine g_getsZ (C := "SendHall$Sort") (n := "END") (d := "LSendHall$Sort;") (v := va_rf (some (gA E 5))) hx hb hown (hKn.2.2.2.2.2.2.1 _ (List.mem_of_getElem? (i := 4) rfl)) hS (hts _ q1126) (fun _ z => z) dX5_go_90 ?_
    refine g_ptR hx hb hown hts hKn hS h fd_5_5_8 rfl (Or.inl (hts _ q1241)) (fun _ z => z) (fun z => nomatch z) dX5_go_93 (fun G93 h H locs hS => ?_)
    refine lv_goto (tgt := 342) hx hb dX5_go_96 (by decide) ?_
    exact g_vretG hx hb hr hlk hKn hRc hRs hS h dX5_go_342
theorem sX5_go_b37 {p : Program} {l : Launch} {e : Env} {R : Room} {s : State} {m : MethodId} {args : Array Value} {below : List Frame} {meth : Method} {c : Code} {E : g_E} {D : g_D} (C : gC p R s m args meth c cX5_go 3 RX5 "go" (none) 7 196 E D) {k0 : Nat → g_G → Option (g_G)} (hk0 : ∀ (t : Nat) (G : g_G) (q : g_G), k0 t G = some q → ∀ (H : Heap) (locs : List Loc) (cells slots : Nat) (ls : Array Slot), gSt E D G H locs → gls ls 3 [(0, .inr (.inr (some t)))] → gT p l e R s m args below meth c E D H locs cells slots none q (F0 m 0 ls [])) : ∀ (t : Nat) (G : g_G) (q : g_G), fX5_go_b37 E k0 t G = some q → ∀ (H : Heap) (locs : List Loc) (cells slots : Nat) (ls : Array Slot), gSt E D G H locs → gls ls 3 [(0, .inr (.inr (some t)))] → gT p l e R s m args below meth c E D H locs cells slots none q (F0 m 37 ls []) := by
  obtain ⟨hx, hb, hml, hown, hts, hKn, hRc, hRs, hc1, hc2, hRf, hRl, hr, hlk, hnm⟩ := id C
  intro t G q h H locs cells slots ls hS hl
  unfold fX5_go_b37 at h
  refine g_aload_n hx hb hl 0 rfl dX5_go_37 ?_
  refine lv_dup hx hb dX5_go_38 (by first | exact va_rf_cat _ | rfl | exact g_catA _) ?_
  refine g_rdI hx hb hown hts hKn hS h fd_5_5_2 rfl (Or.inl (hts _ q1235)) (fun _ z => z) dX5_go_39 (fun x39 h => ?_)
  refine lv_iconst (v := 1) hx hb dX5_go_42 (by decide) ?_
  refine lv_iadd hx hb dX5_go_43 ?_
  refine g_ptI hx hb hown hts hKn hS h fd_5_5_2 (Or.inl (hts _ q1235)) (fun _ z => z) (fun z => nomatch z) dX5_go_44 (fun G44 h H locs hS => ?_)
  refine lv_goto (tgt := 0) hx hb dX5_go_47 (by decide) ?_
  exact hk0 _ _ _ h _ _ _ _ _ hS (gls_sub hl [0] rfl)
theorem sX5_go_b0 {p : Program} {l : Launch} {e : Env} {R : Room} {s : State} {m : MethodId} {args : Array Value} {below : List Frame} {meth : Method} {c : Code} {E : g_E} {D : g_D} (C : gC p R s m args meth c cX5_go 3 RX5 "go" (none) 7 196 E D) : ∀ (n : Nat) (t : Nat) (G : g_G) (q : g_G), fX5_go_b0 E n t G = some q → ∀ (H : Heap) (locs : List Loc) (cells slots : Nat) (ls : Array Slot), gSt E D G H locs → gls ls 3 [(0, .inr (.inr (some t)))] → gT p l e R s m args below meth c E D H locs cells slots none q (F0 m 0 ls []) := by
  obtain ⟨hx, hb, hml, hown, hts, hKn, hRc, hRs, hc1, hc2, hRf, hRl, hr, hlk, hnm⟩ := id C
  intro n
  induction n with
  | zero =>
    intro t G q h
    exact g_no h
  | succ n ih =>
    intro t G q h H locs cells slots ls hS hl
    rw [fX5_go_b0] at h
    refine g_aload_n hx hb hl 0 rfl dX5_go_0 ?_
    refine g_rdI hx hb hown hts hKn hS h fd_5_5_2 rfl (Or.inl (hts _ q1235)) (fun _ z => z) dX5_go_1 (fun x1 h => ?_)
    refine g_aload_n hx hb hl 0 rfl dX5_go_4 ?_
    refine g_rdI hx hb hown hts hKn hS h fd_5_5_1 rfl (Or.inl (hts _ q1234)) (fun _ z => z) dX5_go_5 (fun x5 h => ?_)
    refine lv_icmp_ge (tgt := 50) hx hb dX5_go_8 (by decide) (fun c_8 => ?_) (fun c_8 => ?_)
    · have h := g_ift c_8 h
      exact sX5_go_b50 C _ _ _ h _ _ _ _ _ hS (gls_sub hl [0] rfl)
    · have h := g_iff c_8 h
      refine g_aload_n hx hb hl 0 rfl dX5_go_11 ?_
      refine g_aload_n hx hb hl 0 rfl dX5_go_12 ?_
      refine g_rdI hx hb hown hts hKn hS h fd_5_5_2 rfl (Or.inl (hts _ q1235)) (fun _ z => z) dX5_go_13 (fun x13 h => ?_)
      obtain ⟨b16, hb16, h⟩ := g_bnd h
      obtain ⟨hr16, hk16⟩ := g_chk hb16
      obtain ⟨z16, h16, h⟩ := g_bnd h
      refine g_callV (n := 1) (b := b16) (av := [.inl x13]) (rs := []) hx hb hml hown hts hKn hRc hRs hS hl (sX5_byteAt l E D h16) (lw_V q1122 q1124 qs25 q136 q1125) ⟨rfl, by decide, by decide, by decide +kernel⟩ ⟨by rw [hRf]; exact Nat.le_of_ble_eq_true rfl, by rw [hRl]; exact Nat.le_of_ble_eq_true rfl⟩ (g_recv hKn hS hk16 (by decide) (by decide)) rfl (by rw [hr16]; rfl) (Nat.le_of_ble_eq_true rfl) dX5_go_16 (fun H locs cells slots hS => ?_)
      refine lv_bipush (v := 32) hx hb dX5_go_19 (by decide) ?_
      refine lv_icmp_eq (tgt := 37) hx hb dX5_go_21 (by decide) (fun c_21 => ?_) (fun c_21 => ?_)
      · have h := g_ift c_21 h
        exact sX5_go_b37 C ih _ _ _ h _ _ _ _ _ hS (gls_sub hl [0] rfl)
      · have h := g_iff c_21 h
        refine g_aload_n hx hb hl 0 rfl dX5_go_24 ?_
        refine g_aload_n hx hb hl 0 rfl dX5_go_25 ?_
        refine g_rdI hx hb hown hts hKn hS h fd_5_5_2 rfl (Or.inl (hts _ q1235)) (fun _ z => z) dX5_go_26 (fun x26 h => ?_)
        obtain ⟨b29, hb29, h⟩ := g_bnd h
        obtain ⟨hr29, hk29⟩ := g_chk hb29
        obtain ⟨z29, h29, h⟩ := g_bnd h
        refine g_callV (n := 1) (b := b29) (av := [.inl x26]) (rs := []) hx hb hml hown hts hKn hRc hRs hS hl (sX5_byteAt l E D h29) (lw_V q1122 q1124 qs25 q136 q1125) ⟨rfl, by decide, by decide, by decide +kernel⟩ ⟨by rw [hRf]; exact Nat.le_of_ble_eq_true rfl, by rw [hRl]; exact Nat.le_of_ble_eq_true rfl⟩ (g_recv hKn hS hk29 (by decide) (by decide)) rfl (by rw [hr29]; rfl) (Nat.le_of_ble_eq_true rfl) dX5_go_29 (fun H locs cells slots hS => ?_)
        refine lv_bipush (v := 10) hx hb dX5_go_32 (by decide) ?_
        refine lv_icmp_ne (tgt := 50) hx hb dX5_go_34 (by decide) (fun c_34 => ?_) (fun c_34 => ?_)
        · have h := g_ift c_34 h
          exact sX5_go_b50 C _ _ _ h _ _ _ _ _ hS (gls_sub hl [0] rfl)
        · have h := g_iff (fun z => z c_34) h
          exact sX5_go_b37 C ih _ _ _ h _ _ _ _ _ hS (gls_sub hl [0] rfl)
theorem sX5_go (l : Launch) (E : g_E) (D : g_D) {t : Nat} {G : g_G} {q : g_G} (h : fX5_go E t G = some q) : gMet l E D yX5_go (ws_ yX5_go cX5_go 3 (none)) 7 196 [.inr (.inr (some t))] G none q := by
  refine gMet.of (by decide +kernel) (Nat.le_of_ble_eq_true rfl) ?_
  intro p e R s m args below meth c C hS ls hl
  have C : gC p R s m args meth c cX5_go 3 RX5 "go" (none) 7 196 E D := C
  obtain ⟨hx, hb, hml, hown, hts, hKn, hRc, hRs, hc1, hc2, hRf, hRl, hr, hlk, hnm⟩ := id C
  have hl : gls ls 3 [(0, .inr (.inr (some t)))] := hl
  generalize s.heap = H at hS ⊢
  unfold fX5_go at h
  exact sX5_go_b0 C gFU _ _ _ h _ _ _ _ _ hS (gls_sub hl [0] rfl)
/-- SendHall$Reader.<init>([BI)V -/
def fX5_init (E : g_E) (t : Nat) (v1 : Option Nat) (v2 : Int32) (G : g_G) : Option (g_G) :=
  (gpR E G 5 5 (some t) 9 (some (gA E 20))).bind fun G7 =>
  (gnewO E G7 2 3).bind fun z11 =>
  (fX2_init E z11.1 z11.2).bind fun z15 =>
  (gpR E z15 5 5 (some t) 10 (some z11.1)).bind fun G18 =>
  (gnewO E G18 17 3).bind fun z22 =>
  (fJ2_init E z22.1 1 z22.2).bind fun z27 =>
  (gpR E z27 5 5 (some t) 11 (some z22.1)).bind fun G30 =>
  (gnewO E G30 17 3).bind fun z34 =>
  (fJ2_init E z34.1 1 z34.2).bind fun z39 =>
  (gpR E z39 5 5 (some t) 12 (some z34.1)).bind fun G42 =>
  (gnewO E G42 17 3).bind fun z46 =>
  (fJ2_init E z46.1 1 z46.2).bind fun z51 =>
  (gpR E z51 5 5 (some t) 13 (some z46.1)).bind fun G54 =>
  (gpR E G54 5 5 (some t) 0 v1).bind fun G59 =>
  (gpI E G59 5 5 (some t) 1 v2).bind fun G64 =>
  (gchk G64 5 (some t)).bind fun b68 =>
  (fX5_go E b68 G64).bind fun z68 =>
  some z68
theorem sX5_init (l : Launch) (E : g_E) (D : g_D) {t : Nat} {v1 : Option Nat} {v2 : Int32} {G : g_G} {q : g_G} (h : fX5_init E t v1 v2 G = some q) : gMet l E D yX5_init (ws_ yX5_init cX5_init 3 (none)) 8 218 [.inr (.inr (some t)), .inr (.inr v1), .inl v2] G none q := by
  refine gMet.of (by decide +kernel) (Nat.le_of_ble_eq_true rfl) ?_
  intro p e R s m args below meth c C hS ls hl
  have C : gC p R s m args meth c cX5_init 3 RX5 "<init>" (none) 8 218 E D := C
  obtain ⟨hx, hb, hml, hown, hts, hKn, hRc, hRs, hc1, hc2, hRf, hRl, hr, hlk, hnm⟩ := id C
  have hl : gls ls 3 [(0, .inr (.inr (some t))), (1, .inr (.inr v1)), (2, .inl v2)] := hl
  generalize s.heap = H at hS ⊢
  unfold fX5_init at h
  refine g_aload_n hx hb hl 0 rfl dX5_init_0 ?_
  refine g_objInit (rs := []) hx hb hml hown hl (hts _ q1112) (hts _ q162) (hts _ q163) rfl dX5_init_1 ⟨by rw [hRf]; exact Nat.le_of_ble_eq_true rfl, by rw [hRl]; exact Nat.le_of_ble_eq_true rfl⟩ ?_
  refine g_aload_n hx hb hl 0 rfl dX5_init_4 ?_
  refine g_ldcS (i := 20) hx hb hown hKn (List.mem_of_getElem? (i := 0) rfl) dX5_init_5 ?_
  refine g_ptR hx hb hown hts hKn hS h fd_5_5_9 rfl (Or.inl (hts _ q1242)) (fun _ z => z) (fun z => nomatch z) dX5_init_7 (fun G7 h H locs hS => ?_)
  refine g_aload_n hx hb hl 0 rfl dX5_init_10 ?_
  refine g_newG (k := 2) hx hb hown hts hKn hRc hRs hS h (by decide) (by decide) (hts _ q1114) (hts _ q165) (hts _ q114) dX5_init_11 (fun z11 h H locs cells slots hS => ?_)
  refine lv_dup hx hb dX5_init_14 (by first | exact va_rf_cat _ | rfl | exact g_catA _) ?_
  obtain ⟨z15, h15, h⟩ := g_bnd h
  refine g_callIN (n := 0) (av := []) (rs := [.inr (.inr (some z11.1)), .inr (.inr (some t))]) hx hb hml hown hts hKn hRc hRs hS hl (sX2_init l E D h15) (lw_meth q168) (hts _ q114) q1115 (hts _ q167) rfl ⟨by decide, by decide, by decide +kernel⟩ ⟨by rw [hRf]; exact Nat.le_of_ble_eq_true rfl, by rw [hRl]; exact Nat.le_of_ble_eq_true rfl⟩ rfl rfl (Nat.le_of_ble_eq_true rfl) dX5_init_15 (fun H locs cells slots hS => ?_)
  refine g_ptR hx hb hown hts hKn hS h fd_5_5_10 rfl (Or.inl (hts _ q1243)) (fun _ z => z) (fun _ => ⟨hnm, rfl⟩) dX5_init_18 (fun G18 h H locs hS => ?_)
  refine g_aload_n hx hb hl 0 rfl dX5_init_21 ?_
  refine g_newG (k := 17) hx hb hown hts hKn hRc hRs hS h (by decide) (by decide) (hts _ q1116) (hts _ q171) (hts _ q117) dX5_init_22 (fun z22 h H locs cells slots hS => ?_)
  refine lv_dup hx hb dX5_init_25 (by first | exact va_rf_cat _ | rfl | exact g_catA _) ?_
  refine lv_iconst (v := 1) hx hb dX5_init_26 (by decide) ?_
  obtain ⟨z27, h27, h⟩ := g_bnd h
  refine g_callI (n := 1) (av := [.inl 1]) (rs := [.inr (.inr (some z22.1)), .inr (.inr (some t))]) hx hb hml hown hts hKn hRc hRs hS hl (sJ2_init l E D h27) (lw_meth q174) (hts _ q117) (hts _ q1117) (hts _ q173) rfl ⟨by decide, by decide, by decide +kernel⟩ ⟨by rw [hRf]; exact Nat.le_of_ble_eq_true rfl, by rw [hRl]; exact Nat.le_of_ble_eq_true rfl⟩ rfl rfl (Nat.le_of_ble_eq_true rfl) dX5_init_27 (fun H locs cells slots hS => ?_)
  refine g_ptR hx hb hown hts hKn hS h fd_5_5_11 rfl (Or.inl (hts _ q1244)) (fun _ z => z) (fun _ => ⟨hnm, rfl⟩) dX5_init_30 (fun G30 h H locs hS => ?_)
  refine g_aload_n hx hb hl 0 rfl dX5_init_33 ?_
  refine g_newG (k := 17) hx hb hown hts hKn hRc hRs hS h (by decide) (by decide) (hts _ q1116) (hts _ q171) (hts _ q117) dX5_init_34 (fun z34 h H locs cells slots hS => ?_)
  refine lv_dup hx hb dX5_init_37 (by first | exact va_rf_cat _ | rfl | exact g_catA _) ?_
  refine lv_iconst (v := 1) hx hb dX5_init_38 (by decide) ?_
  obtain ⟨z39, h39, h⟩ := g_bnd h
  refine g_callI (n := 1) (av := [.inl 1]) (rs := [.inr (.inr (some z34.1)), .inr (.inr (some t))]) hx hb hml hown hts hKn hRc hRs hS hl (sJ2_init l E D h39) (lw_meth q174) (hts _ q117) (hts _ q1117) (hts _ q173) rfl ⟨by decide, by decide, by decide +kernel⟩ ⟨by rw [hRf]; exact Nat.le_of_ble_eq_true rfl, by rw [hRl]; exact Nat.le_of_ble_eq_true rfl⟩ rfl rfl (Nat.le_of_ble_eq_true rfl) dX5_init_39 (fun H locs cells slots hS => ?_)
  refine g_ptR hx hb hown hts hKn hS h fd_5_5_12 rfl (Or.inl (hts _ q1245)) (fun _ z => z) (fun _ => ⟨hnm, rfl⟩) dX5_init_42 (fun G42 h H locs hS => ?_)
  refine g_aload_n hx hb hl 0 rfl dX5_init_45 ?_
  refine g_newG (k := 17) hx hb hown hts hKn hRc hRs hS h (by decide) (by decide) (hts _ q1116) (hts _ q171) (hts _ q117) dX5_init_46 (fun z46 h H locs cells slots hS => ?_)
  refine lv_dup hx hb dX5_init_49 (by first | exact va_rf_cat _ | rfl | exact g_catA _) ?_
  refine lv_iconst (v := 1) hx hb dX5_init_50 (by decide) ?_
  obtain ⟨z51, h51, h⟩ := g_bnd h
  refine g_callI (n := 1) (av := [.inl 1]) (rs := [.inr (.inr (some z46.1)), .inr (.inr (some t))]) hx hb hml hown hts hKn hRc hRs hS hl (sJ2_init l E D h51) (lw_meth q174) (hts _ q117) (hts _ q1117) (hts _ q173) rfl ⟨by decide, by decide, by decide +kernel⟩ ⟨by rw [hRf]; exact Nat.le_of_ble_eq_true rfl, by rw [hRl]; exact Nat.le_of_ble_eq_true rfl⟩ rfl rfl (Nat.le_of_ble_eq_true rfl) dX5_init_51 (fun H locs cells slots hS => ?_)
  refine g_ptR hx hb hown hts hKn hS h fd_5_5_13 rfl (Or.inl (hts _ q1246)) (fun _ z => z) (fun _ => ⟨hnm, rfl⟩) dX5_init_54 (fun G54 h H locs hS => ?_)
  refine g_aload_n hx hb hl 0 rfl dX5_init_57 ?_
  refine g_aload_n hx hb hl 1 rfl dX5_init_58 ?_
  refine g_ptR hx hb hown hts hKn hS h fd_5_5_0 rfl (Or.inl (hts _ q1233)) (fun _ z => z) (fun _ => ⟨hnm, rfl⟩) dX5_init_59 (fun G59 h H locs hS => ?_)
  refine g_aload_n hx hb hl 0 rfl dX5_init_62 ?_
  refine g_iload_n hx hb hl 2 rfl dX5_init_63 ?_
  refine g_ptI hx hb hown hts hKn hS h fd_5_5_1 (Or.inl (hts _ q1234)) (fun _ z => z) (fun _ => ⟨hnm, rfl⟩) dX5_init_64 (fun G64 h H locs hS => ?_)
  refine g_aload_n hx hb hl 0 rfl dX5_init_67 ?_
  obtain ⟨b68, hb68, h⟩ := g_bnd h
  obtain ⟨hr68, hk68⟩ := g_chk hb68
  obtain ⟨z68, h68, h⟩ := g_bnd h
  refine g_callV (n := 0) (b := b68) (av := []) (rs := []) hx hb hml hown hts hKn hRc hRs hS hl (sX5_go l E D h68) (lw_V q1118 q1120 qs24 q136 q1121) ⟨rfl, by decide, by decide, by decide +kernel⟩ ⟨by rw [hRf]; exact Nat.le_of_ble_eq_true rfl, by rw [hRl]; exact Nat.le_of_ble_eq_true rfl⟩ (g_recv hKn hS hk68 (by decide) (by decide)) rfl (by rw [hr68]; rfl) (Nat.le_of_ble_eq_true rfl) dX5_init_68 (fun H locs cells slots hS => ?_)
  exact g_vretG hx hb hr hlk hKn hRc hRs hS h dX5_init_71
/-- SendHall$Reader.need(Ljava/lang/String;)V -/
def fX5_need (E : g_E) (t : Nat) (v1 : Option Nat) (G : g_G) : Option ((g_G) ⊕ gX) :=
  (gchk G 5 (some t)).bind fun b3 =>
  (fX5_is E b3 v1 G).bind fun z3 =>
  (gchk z3.2 5 (some t)).bind fun b7 =>
  gcat (fX5_check E b7 z3.1 1 z3.2) (fun z7 =>
    (gchk z7 5 (some t)).bind fun b11 =>
    (fX5_go E b11 z7).bind fun z11 =>
    some (.inl z11))
  (fun y => some (.inr y))
theorem sX5_need (l : Launch) (E : g_E) (D : g_D) (hlT : l.stackTraces = false) {t : Nat} {v1 : Option Nat} {G : g_G} {q : (g_G) ⊕ gX} (h : fX5_need E t v1 G = some q) : gMetX l E D yX5_need (ws_ yX5_need cX5_need 2 (none)) 8 218 [.inr (.inr (some t)), .inr (.inr v1)] G gokV q := by
  refine gMetX.of (by decide +kernel) (Nat.le_of_ble_eq_true rfl) ?_
  intro p e R s m args below meth c C htab hS ls hl
  have C : gC p R s m args meth c cX5_need 2 RX5 "need" (none) 8 218 E D := C
  obtain ⟨hx, hb, hml, hown, hts, hKn, hRc, hRs, hc1, hc2, hRf, hRl, hr, hlk, hnm⟩ := id C
  have hl : gls ls 2 [(0, .inr (.inr (some t))), (1, .inr (.inr v1))] := hl
  generalize hH0 : s.heap = H at hS ⊢
  unfold fX5_need at h
  refine g_aload_n hx hb hl 0 rfl dX5_need_0 ?_
  refine g_aload_n hx hb hl 0 rfl dX5_need_1 ?_
  refine g_aload_n hx hb hl 1 rfl dX5_need_2 ?_
  obtain ⟨b3, hb3, h⟩ := g_bnd h
  obtain ⟨hr3, hk3⟩ := g_chk hb3
  obtain ⟨z3, h3, h⟩ := g_bnd h
  refine g_callV (n := 1) (b := b3) (av := [.inr (.inr v1)]) (rs := [.inr (.inr (some t))]) hx hb hml hown hts hKn hRc hRs hS hl (sX5_is l E D h3) (lw_V q1483 q1485 qs34 q136 q1486) ⟨rfl, by decide, by decide, by decide +kernel⟩ ⟨by rw [hRf]; exact Nat.le_of_ble_eq_true rfl, by rw [hRl]; exact Nat.le_of_ble_eq_true rfl⟩ (g_recv hKn hS hk3 (by decide) (by decide)) rfl (by rw [hr3]; rfl) (Nat.le_of_ble_eq_true rfl) dX5_need_3 (fun H locs cells slots hS => ?_)
  refine lv_iconst (v := 1) hx hb dX5_need_6 (by decide) ?_
  obtain ⟨b7, hb7, h⟩ := g_bnd h
  obtain ⟨hr7, hk7⟩ := g_chk hb7
  obtain ⟨o7, h7, ha7, hx7⟩ := g_catE h
  refine g_callVt (n := 2) (b := b7) (av := [.inl z3.1, .inl 1]) (rs := []) hx hb hml hown hts hKn hRc hRs hS hl (sX5_check l E D hlT h7) (lw_V q1363 q1365 qs27 q136 q1366) ⟨rfl, by decide, by decide, by decide +kernel⟩ ⟨by rw [hRf]; exact Nat.le_of_ble_eq_true rfl, by rw [hRl]; exact Nat.le_of_ble_eq_true rfl⟩ (g_recv hKn hS hk7 (by decide) (by decide)) rfl (by rw [hr7]; rfl) (Nat.le_of_ble_eq_true rfl) dX5_need_7 (fun z7 e7 H locs cells slots hS => ?_) (fun k7 a7 G7 e7 n1 n2 nk nB H locs cells slots hS => ?_)
  · have h := ha7 _ e7
    refine g_aload_n hx hb hl 0 rfl dX5_need_10 ?_
    obtain ⟨b11, hb11, h⟩ := g_bnd h
    obtain ⟨hr11, hk11⟩ := g_chk hb11
    obtain ⟨z11, h11, h⟩ := g_bnd h
    refine g_callV (n := 0) (b := b11) (av := []) (rs := []) hx hb hml hown hts hKn hRc hRs hS hl (sX5_go l E D h11) (lw_V q1118 q1120 qs24 q136 q1121) ⟨rfl, by decide, by decide, by decide +kernel⟩ ⟨by rw [hRf]; exact Nat.le_of_ble_eq_true rfl, by rw [hRl]; exact Nat.le_of_ble_eq_true rfl⟩ (g_recv hKn hS hk11 (by decide) (by decide)) rfl (by rw [hr11]; rfl) (Nat.le_of_ble_eq_true rfl) dX5_need_11 (fun H locs cells slots hS => ?_)
    exact g_retX (g_vretG hx hb hr hlk hKn hRc hRs hS rfl dX5_need_14) h rfl
  · have h := hx7 _ e7
    exact g_outX (by rw [htab]; decide) hlk hKn hRc hRs hS n1 n2 nB nk h
