set_option maxRecDepth 100000
/-- SendHallModel.showEnding()V -/
def fX4_showEnding_b274 (E : g_E) : Nat → Nat → Int32 → g_G → Option (g_G)
  | 0, _, _, _ => none
  | n + 1, t, v5, G =>
    (grI G 4 4 (some t) 51).bind fun x279 =>
    if (11 * x279) ≤ v5 then (
      some G)
    else (
      (grR G 4 4 (some t) 50).bind fun x287 =>
      (grR G 4 4 (some t) 50).bind fun x293 =>
      (gaI G 100 x293 (v5 + 11)).bind fun x301 =>
      (gsaI E G x287 v5 x301).bind fun G302 =>
      fX4_showEnding_b274 E n t (v5 + 1) G302)
def fX4_showEnding_b250 (E : g_E) (t : Nat) (v3 : Int32) (s0 : Int32) (G : g_G) : Option (g_G) :=
  if ¬ s0 = 0 then (
    fX4_showEnding_b274 E gFU t (11 * v3) G)
  else (
    (grI G 4 4 (some t) 51).bind fun x259 =>
    (gpI E G 4 4 (some t) 51 (x259 + 1)).bind fun G264 =>
    some G264)
def fX4_showEnding_b249 (E : g_E) (t : Nat) (v3 : Int32) (G : g_G) : Option (g_G) :=
  fX4_showEnding_b250 E t v3 0 G
def fX4_showEnding_b221 (E : g_E) (t : Nat) (v3 : Int32) (G : g_G) : Option (g_G) :=
  if v3 ≤ 0 then (
    fX4_showEnding_b249 E t v3 G)
  else (
    (grR G 4 4 (some t) 50).bind fun x226 =>
    (fX4_compare E x226 (11 * (v3 - 1)) (11 * v3) G).bind fun z239 =>
    if ¬ z239.1 = 0 then (
      fX4_showEnding_b249 E t v3 z239.2)
    else (
      fX4_showEnding_b250 E t v3 1 z239.2))
def fX4_showEnding_b146 (E : g_E) (k119 : Nat → Int32 → g_G → Option (g_G)) : Nat → Nat → Int32 → Int32 → g_G → Option (g_G)
  | 0, _, _, _, _ => none
  | n + 1, t, v3, v4, G =>
    if (11 : Int32) ≤ v4 then (
      k119 t (v3 + (-1)) G)
    else (
      (grR G 4 4 (some t) 50).bind fun x154 =>
      (gaI G 100 x154 ((11 * v3) + v4)).bind fun x164 =>
      (grR G 4 4 (some t) 50).bind fun x168 =>
      (grR G 4 4 (some t) 50).bind fun x179 =>
      (gaI G 100 x179 ((11 * (v3 - 1)) + v4)).bind fun x191 =>
      (gsaI E G x168 ((11 * v3) + v4) x191).bind fun G192 =>
      (grR G192 4 4 (some t) 50).bind fun x194 =>
      (gsaI E G192 x194 ((11 * (v3 - 1)) + v4) x164).bind fun G208 =>
      fX4_showEnding_b146 E k119 n t v3 (v4 + 1) G208)
def fX4_showEnding_b119 (E : g_E) : Nat → Nat → Int32 → g_G → Option (g_G)
  | 0, _, _, _ => none
  | n + 1, t, v3, G =>
    if v3 ≤ 0 then (
      fX4_showEnding_b221 E t v3 G)
    else (
      (grR G 4 4 (some t) 50).bind fun x124 =>
      (fX4_compare E x124 (11 * (v3 - 1)) (11 * v3) G).bind fun z137 =>
      if z137.1 ≤ 0 then (
        fX4_showEnding_b221 E t v3 z137.2)
      else (
        fX4_showEnding_b146 E (fX4_showEnding_b119 E n) gFU t v3 0 z137.2))
def fX4_showEnding_b83 (E : g_E) (k22 : Nat → Int32 → Int32 → Int32 → g_G → Option (g_G)) (t : Nat) (v1 : Int32) (v3 : Int32) (s0 : Int32) (s1 : Int32) (G : g_G) : Option (g_G) :=
  k22 t v1 (s0 ||| s1) (v3 + 1) G
def fX4_showEnding_b82 (E : g_E) (k22 : Nat → Int32 → Int32 → Int32 → g_G → Option (g_G)) (t : Nat) (v1 : Int32) (v3 : Int32) (s0 : Int32) (G : g_G) : Option (g_G) :=
  fX4_showEnding_b83 E k22 t v1 v3 s0 0 G
def fX4_showEnding_b56 (E : g_E) (k22 : Nat → Int32 → Int32 → Int32 → g_G → Option (g_G)) (t : Nat) (v1 : Int32) (v2 : Int32) (v3 : Int32) (s0 : Option Nat) (s1 : Int32) (s2 : Int32) (G : g_G) : Option (g_G) :=
  (gsaI E G s0 s1 s2).bind fun G56 =>
  (grI G56 4 4 (some t) 3).bind fun x60 =>
  if x60 ≤ v3 then (
    fX4_showEnding_b82 E k22 t v1 v3 v2 G56)
  else (
    (gchk G56 4 (some t)).bind fun b69 =>
    (fX4_own E b69 v3 0 G56).bind fun z69 =>
    if z69.1 = (-1 : Int32) then (
      fX4_showEnding_b82 E k22 t v1 v3 v2 z69.2)
    else (
      fX4_showEnding_b83 E k22 t v1 v3 v2 (1 <<< (v3 &&& 31)) z69.2))
def fX4_showEnding_b22 (E : g_E) : Nat → Nat → Int32 → Int32 → Int32 → g_G → Option (g_G)
  | 0, _, _, _, _, _ => none
  | n + 1, t, v1, v2, v3, G =>
    if (8 : Int32) ≤ v3 then (
      (grR G 4 4 (some t) 50).bind fun x92 =>
      (gchk G 4 (some t)).bind fun b100 =>
      (fX4_words E b100 G).bind fun z100 =>
      (gsaI E z100.2 x92 (v1 + 9) z100.1).bind fun G103 =>
      (grR G103 4 4 (some t) 50).bind fun x105 =>
      (gsaI E G103 x105 (v1 + 10) v2).bind fun G113 =>
      (grI G113 4 4 (some t) 51).bind fun x115 =>
      fX4_showEnding_b119 E gFU t x115 G113)
    else (
      (grR G 4 4 (some t) 50).bind fun x29 =>
      (grI G 4 4 (some t) 3).bind fun x39 =>
      if x39 ≤ v3 then (
        fX4_showEnding_b56 E (fX4_showEnding_b22 E n) t v1 v2 v3 x29 ((v1 + 1) + v3) 0 G)
      else (
        (gchk G 4 (some t)).bind fun b49 =>
        (fX4_own E b49 v3 7 G).bind fun z49 =>
        fX4_showEnding_b56 E (fX4_showEnding_b22 E n) t v1 v2 v3 x29 ((v1 + 1) + v3) z49.1 z49.2))
def fX4_showEnding (E : g_E) (t : Nat) (G : g_G) : Option (g_G) :=
  (grI G 4 4 (some t) 51).bind fun x3 =>
  (grR G 4 4 (some t) 50).bind fun x9 =>
  (gchk G 4 (some t)).bind fun b14 =>
  (fX4_kindNow E b14 G).bind fun z14 =>
  (gsaI E z14.2 x9 (11 * x3) z14.1).bind fun G17 =>
  fX4_showEnding_b22 E gFU t (11 * x3) 0 0 G17
theorem sX4_showEnding_b274 {p : Program} {l : Launch} {e : Env} {R : Room} {s : State} {m : MethodId} {args : Array Value} {below : List Frame} {meth : Method} {c : Code} {E : g_E} {D : g_D} (C : gC p R s m args meth c cX4_showEnding 6 RX4 "showEnding" (none) 3 109 E D) : ∀ (n : Nat) (t : Nat) (v5 : Int32) (G : g_G) (q : g_G), fX4_showEnding_b274 E n t v5 G = some q → ∀ (H : Heap) (locs : List Loc) (cells slots : Nat) (ls : Array Slot), gSt E D G H locs → gls ls 6 [(0, .inr (.inr (some t))), (5, .inl v5)] → gT p l e R s m args below meth c E D H locs cells slots none q (F0 m 274 ls []) := by
  obtain ⟨hx, hb, hml, hown, hts, hKn, hRc, hRs, hc1, hc2, hRf, hRl, hr, hlk, hnm⟩ := id C
  intro n
  induction n with
  | zero =>
    intro t v5 G q h
    exact g_no h
  | succ n ih =>
    intro t v5 G q h H locs cells slots ls hS hl
    rw [fX4_showEnding_b274] at h
    refine g_iload hx hb hl 1 rfl dX4_showEnding_274 ?_
    refine lv_bipush (v := 11) hx hb dX4_showEnding_276 (by decide) ?_
    refine g_aload_n hx hb hl 0 rfl dX4_showEnding_278 ?_
    refine g_rdI hx hb hown hts hKn hS h fd_4_4_51 rfl (Or.inl (hts _ q1916)) (fun _ z => z) dX4_showEnding_279 (fun x279 h => ?_)
    refine lv_imul hx hb dX4_showEnding_282 ?_
    refine lv_icmp_ge (tgt := 309) hx hb dX4_showEnding_283 (by decide) (fun c_283 => ?_) (fun c_283 => ?_)
    · have h := g_ift c_283 h
      exact g_vretG hx hb hr hlk hKn hRc hRs hS h dX4_showEnding_309
    · have h := g_iff c_283 h
      refine g_aload_n hx hb hl 0 rfl dX4_showEnding_286 ?_
      refine g_rdR hx hb hown hts hKn hS h fd_4_4_50 rfl (Or.inl (hts _ q1915)) (fun _ z => z) dX4_showEnding_287 (fun x287 h => ?_)
      refine g_iload hx hb hl 1 rfl dX4_showEnding_290 ?_
      refine g_aload_n hx hb hl 0 rfl dX4_showEnding_292 ?_
      refine g_rdR hx hb hown hts hKn hS h fd_4_4_50 rfl (Or.inl (hts _ q1915)) (fun _ z => z) dX4_showEnding_293 (fun x293 h => ?_)
      refine g_iload hx hb hl 1 rfl dX4_showEnding_296 ?_
      refine lv_bipush (v := 11) hx hb dX4_showEnding_298 (by decide) ?_
      refine lv_iadd hx hb dX4_showEnding_300 ?_
      refine g_ialoadG hx hb hKn hS h dX4_showEnding_301 (fun x301 h => ?_)
      refine g_iastoreG hx hb hKn hS h dX4_showEnding_302 (fun G302 h H locs hS => ?_)
      refine g_iinc (l1 := [(5, .inl (v5 + 1)), (0, .inr (.inr (some t)))]) (v := (v5 + 1)) hx hb hl (k := 1) rfl (by rfl) (by decide) rfl dX4_showEnding_303 (fun ls hl => ?_)
      refine lv_goto (tgt := 274) hx hb dX4_showEnding_306 (by decide) ?_
      exact ih _ _ _ _ h _ _ _ _ _ hS (gls_sub hl [1, 0] rfl)
theorem sX4_showEnding_b250 {p : Program} {l : Launch} {e : Env} {R : Room} {s : State} {m : MethodId} {args : Array Value} {below : List Frame} {meth : Method} {c : Code} {E : g_E} {D : g_D} (C : gC p R s m args meth c cX4_showEnding 6 RX4 "showEnding" (none) 3 109 E D) : ∀ (t : Nat) (v3 : Int32) (s0 : Int32) (G : g_G) (q : g_G), fX4_showEnding_b250 E t v3 s0 G = some q → ∀ (H : Heap) (locs : List Loc) (cells slots : Nat) (ls : Array Slot), gSt E D G H locs → gls ls 6 [(0, .inr (.inr (some t))), (3, .inl v3)] → gT p l e R s m args below meth c E D H locs cells slots none q (F0 m 250 ls [.int s0]) := by
  obtain ⟨hx, hb, hml, hown, hts, hKn, hRc, hRs, hc1, hc2, hRf, hRl, hr, hlk, hnm⟩ := id C
  intro t v3 s0 G q h H locs cells slots ls hS hl
  unfold fX4_showEnding_b250 at h
  refine g_istore (l1 := [(4, .inl s0), (0, .inr (.inr (some t))), (3, .inl v3)]) hx hb hl (by decide) rfl dX4_showEnding_250 (fun ls hl => ?_)
  refine g_iload hx hb hl 0 rfl dX4_showEnding_252 ?_
  refine lv_if_ne (tgt := 268) hx hb dX4_showEnding_254 (by decide) (fun c_254 => ?_) (fun c_254 => ?_)
  · have h := g_ift c_254 h
    refine lv_bipush (v := 11) hx hb dX4_showEnding_268 (by decide) ?_
    refine g_iload_n hx hb hl 2 rfl dX4_showEnding_270 ?_
    refine lv_imul hx hb dX4_showEnding_271 ?_
    refine g_istore (l1 := [(5, .inl (11 * v3)), (4, .inl s0), (0, .inr (.inr (some t))), (3, .inl v3)]) hx hb hl (by decide) rfl dX4_showEnding_272 (fun ls hl => ?_)
    exact sX4_showEnding_b274 C gFU _ _ _ _ h _ _ _ _ _ hS (gls_sub hl [2, 0] rfl)
  · have h := g_iff (fun z => z c_254) h
    refine g_aload_n hx hb hl 1 rfl dX4_showEnding_257 ?_
    refine lv_dup hx hb dX4_showEnding_258 (by first | exact va_rf_cat _ | rfl | exact g_catA _) ?_
    refine g_rdI hx hb hown hts hKn hS h fd_4_4_51 rfl (Or.inl (hts _ q1916)) (fun _ z => z) dX4_showEnding_259 (fun x259 h => ?_)
    refine lv_iconst (v := 1) hx hb dX4_showEnding_262 (by decide) ?_
    refine lv_iadd hx hb dX4_showEnding_263 ?_
    refine g_ptI hx hb hown hts hKn hS h fd_4_4_51 (Or.inl (hts _ q1916)) (fun _ z => z) (fun z => nomatch z) dX4_showEnding_264 (fun G264 h H locs hS => ?_)
    exact g_vretG hx hb hr hlk hKn hRc hRs hS h dX4_showEnding_267
theorem sX4_showEnding_b249 {p : Program} {l : Launch} {e : Env} {R : Room} {s : State} {m : MethodId} {args : Array Value} {below : List Frame} {meth : Method} {c : Code} {E : g_E} {D : g_D} (C : gC p R s m args meth c cX4_showEnding 6 RX4 "showEnding" (none) 3 109 E D) : ∀ (t : Nat) (v3 : Int32) (G : g_G) (q : g_G), fX4_showEnding_b249 E t v3 G = some q → ∀ (H : Heap) (locs : List Loc) (cells slots : Nat) (ls : Array Slot), gSt E D G H locs → gls ls 6 [(0, .inr (.inr (some t))), (3, .inl v3)] → gT p l e R s m args below meth c E D H locs cells slots none q (F0 m 249 ls []) := by
  obtain ⟨hx, hb, hml, hown, hts, hKn, hRc, hRs, hc1, hc2, hRf, hRl, hr, hlk, hnm⟩ := id C
  intro t v3 G q h H locs cells slots ls hS hl
  unfold fX4_showEnding_b249 at h
  refine lv_iconst (v := 0) hx hb dX4_showEnding_249 (by decide) ?_
  exact sX4_showEnding_b250 C _ _ _ _ _ h _ _ _ _ _ hS (gls_sub hl [0, 1] rfl)
theorem sX4_showEnding_b221 {p : Program} {l : Launch} {e : Env} {R : Room} {s : State} {m : MethodId} {args : Array Value} {below : List Frame} {meth : Method} {c : Code} {E : g_E} {D : g_D} (C : gC p R s m args meth c cX4_showEnding 6 RX4 "showEnding" (none) 3 109 E D) : ∀ (t : Nat) (v3 : Int32) (G : g_G) (q : g_G), fX4_showEnding_b221 E t v3 G = some q → ∀ (H : Heap) (locs : List Loc) (cells slots : Nat) (ls : Array Slot), gSt E D G H locs → gls ls 6 [(0, .inr (.inr (some t))), (3, .inl v3)] → gT p l e R s m args below meth c E D H locs cells slots none q (F0 m 221 ls []) := by
  obtain ⟨hx, hb, hml, hown, hts, hKn, hRc, hRs, hc1, hc2, hRf, hRl, hr, hlk, hnm⟩ := id C
  intro t v3 G q h H locs cells slots ls hS hl
  unfold fX4_showEnding_b221 at h
  refine g_iload_n hx hb hl 1 rfl dX4_showEnding_221 ?_
  refine lv_if_le (tgt := 249) hx hb dX4_showEnding_222 (by decide) (fun c_222 => ?_) (fun c_222 => ?_)
  · have h := g_ift c_222 h
    exact sX4_showEnding_b249 C _ _ _ _ h _ _ _ _ _ hS (gls_sub hl [0, 1] rfl)
  · have h := g_iff c_222 h
    refine g_aload_n hx hb hl 0 rfl dX4_showEnding_225 ?_
    refine g_rdR hx hb hown hts hKn hS h fd_4_4_50 rfl (Or.inl (hts _ q1915)) (fun _ z => z) dX4_showEnding_226 (fun x226 h => ?_)
    refine lv_bipush (v := 11) hx hb dX4_showEnding_229 (by decide) ?_
    refine g_iload_n hx hb hl 1 rfl dX4_showEnding_231 ?_
    refine lv_iconst (v := 1) hx hb dX4_showEnding_232 (by decide) ?_
    refine lv_isub hx hb dX4_showEnding_233 ?_
    refine lv_imul hx hb dX4_showEnding_234 ?_
    refine lv_bipush (v := 11) hx hb dX4_showEnding_235 (by decide) ?_
    refine g_iload_n hx hb hl 1 rfl dX4_showEnding_237 ?_
    refine lv_imul hx hb dX4_showEnding_238 ?_
    obtain ⟨z239, h239, h⟩ := g_bnd h
    refine g_callS (n := 3) (av := [.inr (.inr x226), .inl (11 * (v3 - 1)), .inl (11 * v3)]) (rs := []) hx hb hml hown hts hKn hRc hRs hS hl (sX4_compare l E D h239) (lw_S q2365 q2366 q135 q2367) ⟨by decide, by decide, by decide +kernel⟩ ⟨by rw [hRf]; exact Nat.le_of_ble_eq_true rfl, by rw [hRl]; exact Nat.le_of_ble_eq_true rfl⟩ rfl rfl (Nat.le_of_ble_eq_true rfl) dX4_showEnding_239 (fun H locs cells slots hS => ?_)
    refine lv_if_ne (tgt := 249) hx hb dX4_showEnding_242 (by decide) (fun c_242 => ?_) (fun c_242 => ?_)
    · have h := g_ift c_242 h
      exact sX4_showEnding_b249 C _ _ _ _ h _ _ _ _ _ hS (gls_sub hl [0, 1] rfl)
    · have h := g_iff (fun z => z c_242) h
      refine lv_iconst (v := 1) hx hb dX4_showEnding_245 (by decide) ?_
      refine lv_goto (tgt := 250) hx hb dX4_showEnding_246 (by decide) ?_
      exact sX4_showEnding_b250 C _ _ _ _ _ h _ _ _ _ _ hS (gls_sub hl [0, 1] rfl)
theorem sX4_showEnding_b146 {p : Program} {l : Launch} {e : Env} {R : Room} {s : State} {m : MethodId} {args : Array Value} {below : List Frame} {meth : Method} {c : Code} {E : g_E} {D : g_D} (C : gC p R s m args meth c cX4_showEnding 6 RX4 "showEnding" (none) 3 109 E D) {k119 : Nat → Int32 → g_G → Option (g_G)} (hk119 : ∀ (t : Nat) (v3 : Int32) (G : g_G) (q : g_G), k119 t v3 G = some q → ∀ (H : Heap) (locs : List Loc) (cells slots : Nat) (ls : Array Slot), gSt E D G H locs → gls ls 6 [(0, .inr (.inr (some t))), (3, .inl v3)] → gT p l e R s m args below meth c E D H locs cells slots none q (F0 m 119 ls [])) : ∀ (n : Nat) (t : Nat) (v3 : Int32) (v4 : Int32) (G : g_G) (q : g_G), fX4_showEnding_b146 E k119 n t v3 v4 G = some q → ∀ (H : Heap) (locs : List Loc) (cells slots : Nat) (ls : Array Slot), gSt E D G H locs → gls ls 6 [(0, .inr (.inr (some t))), (3, .inl v3), (4, .inl v4)] → gT p l e R s m args below meth c E D H locs cells slots none q (F0 m 146 ls []) := by
  obtain ⟨hx, hb, hml, hown, hts, hKn, hRc, hRs, hc1, hc2, hRf, hRl, hr, hlk, hnm⟩ := id C
  intro n
  induction n with
  | zero =>
    intro t v3 v4 G q h
    exact g_no h
  | succ n ih =>
    intro t v3 v4 G q h H locs cells slots ls hS hl
    rw [fX4_showEnding_b146] at h
    refine g_iload hx hb hl 2 rfl dX4_showEnding_146 ?_
    refine lv_bipush (v := 11) hx hb dX4_showEnding_148 (by decide) ?_
    refine lv_icmp_ge (tgt := 215) hx hb dX4_showEnding_150 (by decide) (fun c_150 => ?_) (fun c_150 => ?_)
    · have h := g_ift c_150 h
      refine g_iinc (l1 := [(3, .inl (v3 + (-1))), (0, .inr (.inr (some t))), (4, .inl v4)]) (v := (v3 + (-1))) hx hb hl (k := 1) rfl (by rfl) (by decide) rfl dX4_showEnding_215 (fun ls hl => ?_)
      refine lv_goto (tgt := 119) hx hb dX4_showEnding_218 (by decide) ?_
      exact hk119 _ _ _ _ h _ _ _ _ _ hS (gls_sub hl [1, 0] rfl)
    · have h := g_iff c_150 h
      refine g_aload_n hx hb hl 0 rfl dX4_showEnding_153 ?_
      refine g_rdR hx hb hown hts hKn hS h fd_4_4_50 rfl (Or.inl (hts _ q1915)) (fun _ z => z) dX4_showEnding_154 (fun x154 h => ?_)
      refine lv_bipush (v := 11) hx hb dX4_showEnding_157 (by decide) ?_
      refine g_iload_n hx hb hl 1 rfl dX4_showEnding_159 ?_
      refine lv_imul hx hb dX4_showEnding_160 ?_
      refine g_iload hx hb hl 2 rfl dX4_showEnding_161 ?_
      refine lv_iadd hx hb dX4_showEnding_163 ?_
      refine g_ialoadG hx hb hKn hS h dX4_showEnding_164 (fun x164 h => ?_)
      refine g_istore (l1 := [(5, .inl x164), (0, .inr (.inr (some t))), (3, .inl v3), (4, .inl v4)]) hx hb hl (by decide) rfl dX4_showEnding_165 (fun ls hl => ?_)
      refine g_aload_n hx hb hl 1 rfl dX4_showEnding_167 ?_
      refine g_rdR hx hb hown hts hKn hS h fd_4_4_50 rfl (Or.inl (hts _ q1915)) (fun _ z => z) dX4_showEnding_168 (fun x168 h => ?_)
      refine lv_bipush (v := 11) hx hb dX4_showEnding_171 (by decide) ?_
      refine g_iload_n hx hb hl 2 rfl dX4_showEnding_173 ?_
      refine lv_imul hx hb dX4_showEnding_174 ?_
      refine g_iload hx hb hl 3 rfl dX4_showEnding_175 ?_
      refine lv_iadd hx hb dX4_showEnding_177 ?_
      refine g_aload_n hx hb hl 1 rfl dX4_showEnding_178 ?_
      refine g_rdR hx hb hown hts hKn hS h fd_4_4_50 rfl (Or.inl (hts _ q1915)) (fun _ z => z) dX4_showEnding_179 (fun x179 h => ?_)
      refine lv_bipush (v := 11) hx hb dX4_showEnding_182 (by decide) ?_
      refine g_iload_n hx hb hl 2 rfl dX4_showEnding_184 ?_
      refine lv_iconst (v := 1) hx hb dX4_showEnding_185 (by decide) ?_
      refine lv_isub hx hb dX4_showEnding_186 ?_
      refine lv_imul hx hb dX4_showEnding_187 ?_
      refine g_iload hx hb hl 3 rfl dX4_showEnding_188 ?_
      refine lv_iadd hx hb dX4_showEnding_190 ?_
      refine g_ialoadG hx hb hKn hS h dX4_showEnding_191 (fun x191 h => ?_)
      refine g_iastoreG hx hb hKn hS h dX4_showEnding_192 (fun G192 h H locs hS => ?_)
      refine g_aload_n hx hb hl 1 rfl dX4_showEnding_193 ?_
      refine g_rdR hx hb hown hts hKn hS h fd_4_4_50 rfl (Or.inl (hts _ q1915)) (fun _ z => z) dX4_showEnding_194 (fun x194 h => ?_)
      refine lv_bipush (v := 11) hx hb dX4_showEnding_197 (by decide) ?_
      refine g_iload_n hx hb hl 2 rfl dX4_showEnding_199 ?_
      refine lv_iconst (v := 1) hx hb dX4_showEnding_200 (by decide) ?_
      refine lv_isub hx hb dX4_showEnding_201 ?_
      refine lv_imul hx hb dX4_showEnding_202 ?_
      refine g_iload hx hb hl 3 rfl dX4_showEnding_203 ?_
      refine lv_iadd hx hb dX4_showEnding_205 ?_
      refine g_iload hx hb hl 0 rfl dX4_showEnding_206 ?_
      refine g_iastoreG hx hb hKn hS h dX4_showEnding_208 (fun G208 h H locs hS => ?_)
      refine g_iinc (l1 := [(4, .inl (v4 + 1)), (5, .inl x164), (0, .inr (.inr (some t))), (3, .inl v3)]) (v := (v4 + 1)) hx hb hl (k := 3) rfl (by rfl) (by decide) rfl dX4_showEnding_209 (fun ls hl => ?_)
      refine lv_goto (tgt := 146) hx hb dX4_showEnding_212 (by decide) ?_
      exact ih _ _ _ _ _ h _ _ _ _ _ hS (gls_sub hl [2, 3, 0] rfl)
theorem sX4_showEnding_b119 {p : Program} {l : Launch} {e : Env} {R : Room} {s : State} {m : MethodId} {args : Array Value} {below : List Frame} {meth : Method} {c : Code} {E : g_E} {D : g_D} (C : gC p R s m args meth c cX4_showEnding 6 RX4 "showEnding" (none) 3 109 E D) : ∀ (n : Nat) (t : Nat) (v3 : Int32) (G : g_G) (q : g_G), fX4_showEnding_b119 E n t v3 G = some q → ∀ (H : Heap) (locs : List Loc) (cells slots : Nat) (ls : Array Slot), gSt E D G H locs → gls ls 6 [(0, .inr (.inr (some t))), (3, .inl v3)] → gT p l e R s m args below meth c E D H locs cells slots none q (F0 m 119 ls []) := by
  obtain ⟨hx, hb, hml, hown, hts, hKn, hRc, hRs, hc1, hc2, hRf, hRl, hr, hlk, hnm⟩ := id C
  intro n
  induction n with
  | zero =>
    intro t v3 G q h
    exact g_no h
  | succ n ih =>
    intro t v3 G q h H locs cells slots ls hS hl
    rw [fX4_showEnding_b119] at h
    refine g_iload_n hx hb hl 1 rfl dX4_showEnding_119 ?_
    refine lv_if_le (tgt := 221) hx hb dX4_showEnding_120 (by decide) (fun c_120 => ?_) (fun c_120 => ?_)
    · have h := g_ift c_120 h
      exact sX4_showEnding_b221 C _ _ _ _ h _ _ _ _ _ hS (gls_sub hl [0, 1] rfl)
    · have h := g_iff c_120 h
      refine g_aload_n hx hb hl 0 rfl dX4_showEnding_123 ?_
      refine g_rdR hx hb hown hts hKn hS h fd_4_4_50 rfl (Or.inl (hts _ q1915)) (fun _ z => z) dX4_showEnding_124 (fun x124 h => ?_)
      refine lv_bipush (v := 11) hx hb dX4_showEnding_127 (by decide) ?_
      refine g_iload_n hx hb hl 1 rfl dX4_showEnding_129 ?_
      refine lv_iconst (v := 1) hx hb dX4_showEnding_130 (by decide) ?_
      refine lv_isub hx hb dX4_showEnding_131 ?_
      refine lv_imul hx hb dX4_showEnding_132 ?_
      refine lv_bipush (v := 11) hx hb dX4_showEnding_133 (by decide) ?_
      refine g_iload_n hx hb hl 1 rfl dX4_showEnding_135 ?_
      refine lv_imul hx hb dX4_showEnding_136 ?_
      obtain ⟨z137, h137, h⟩ := g_bnd h
      refine g_callS (n := 3) (av := [.inr (.inr x124), .inl (11 * (v3 - 1)), .inl (11 * v3)]) (rs := []) hx hb hml hown hts hKn hRc hRs hS hl (sX4_compare l E D h137) (lw_S q2365 q2366 q135 q2367) ⟨by decide, by decide, by decide +kernel⟩ ⟨by rw [hRf]; exact Nat.le_of_ble_eq_true rfl, by rw [hRl]; exact Nat.le_of_ble_eq_true rfl⟩ rfl rfl (Nat.le_of_ble_eq_true rfl) dX4_showEnding_137 (fun H locs cells slots hS => ?_)
      refine lv_if_le (tgt := 221) hx hb dX4_showEnding_140 (by decide) (fun c_140 => ?_) (fun c_140 => ?_)
      · have h := g_ift c_140 h
        exact sX4_showEnding_b221 C _ _ _ _ h _ _ _ _ _ hS (gls_sub hl [0, 1] rfl)
      · have h := g_iff c_140 h
        refine lv_iconst (v := 0) hx hb dX4_showEnding_143 (by decide) ?_
        refine g_istore (l1 := [(4, .inl 0), (0, .inr (.inr (some t))), (3, .inl v3)]) hx hb hl (by decide) rfl dX4_showEnding_144 (fun ls hl => ?_)
        exact sX4_showEnding_b146 C ih gFU _ _ _ _ _ h _ _ _ _ _ hS (gls_sub hl [1, 2, 0] rfl)
theorem sX4_showEnding_b83 {p : Program} {l : Launch} {e : Env} {R : Room} {s : State} {m : MethodId} {args : Array Value} {below : List Frame} {meth : Method} {c : Code} {E : g_E} {D : g_D} (C : gC p R s m args meth c cX4_showEnding 6 RX4 "showEnding" (none) 3 109 E D) {k22 : Nat → Int32 → Int32 → Int32 → g_G → Option (g_G)} (hk22 : ∀ (t : Nat) (v1 : Int32) (v2 : Int32) (v3 : Int32) (G : g_G) (q : g_G), k22 t v1 v2 v3 G = some q → ∀ (H : Heap) (locs : List Loc) (cells slots : Nat) (ls : Array Slot), gSt E D G H locs → gls ls 6 [(0, .inr (.inr (some t))), (1, .inl v1), (2, .inl v2), (3, .inl v3)] → gT p l e R s m args below meth c E D H locs cells slots none q (F0 m 22 ls [])) : ∀ (t : Nat) (v1 : Int32) (v3 : Int32) (s0 : Int32) (s1 : Int32) (G : g_G) (q : g_G), fX4_showEnding_b83 E k22 t v1 v3 s0 s1 G = some q → ∀ (H : Heap) (locs : List Loc) (cells slots : Nat) (ls : Array Slot), gSt E D G H locs → gls ls 6 [(0, .inr (.inr (some t))), (1, .inl v1), (3, .inl v3)] → gT p l e R s m args below meth c E D H locs cells slots none q (F0 m 83 ls [.int s1, .int s0]) := by
  obtain ⟨hx, hb, hml, hown, hts, hKn, hRc, hRs, hc1, hc2, hRf, hRl, hr, hlk, hnm⟩ := id C
  intro t v1 v3 s0 s1 G q h H locs cells slots ls hS hl
  unfold fX4_showEnding_b83 at h
  refine lv_ior hx hb dX4_showEnding_83 ?_
  refine g_istore_n (l1 := [(2, .inl (s0 ||| s1)), (0, .inr (.inr (some t))), (1, .inl v1), (3, .inl v3)]) hx hb hl (by decide) rfl dX4_showEnding_84 (fun ls hl => ?_)
  refine g_iinc (l1 := [(3, .inl (v3 + 1)), (2, .inl (s0 ||| s1)), (0, .inr (.inr (some t))), (1, .inl v1)]) (v := (v3 + 1)) hx hb hl (k := 3) rfl (by rfl) (by decide) rfl dX4_showEnding_85 (fun ls hl => ?_)
  refine lv_goto (tgt := 22) hx hb dX4_showEnding_88 (by decide) ?_
  exact hk22 _ _ _ _ _ _ h _ _ _ _ _ hS (gls_sub hl [2, 3, 1, 0] rfl)
theorem sX4_showEnding_b82 {p : Program} {l : Launch} {e : Env} {R : Room} {s : State} {m : MethodId} {args : Array Value} {below : List Frame} {meth : Method} {c : Code} {E : g_E} {D : g_D} (C : gC p R s m args meth c cX4_showEnding 6 RX4 "showEnding" (none) 3 109 E D) {k22 : Nat → Int32 → Int32 → Int32 → g_G → Option (g_G)} (hk22 : ∀ (t : Nat) (v1 : Int32) (v2 : Int32) (v3 : Int32) (G : g_G) (q : g_G), k22 t v1 v2 v3 G = some q → ∀ (H : Heap) (locs : List Loc) (cells slots : Nat) (ls : Array Slot), gSt E D G H locs → gls ls 6 [(0, .inr (.inr (some t))), (1, .inl v1), (2, .inl v2), (3, .inl v3)] → gT p l e R s m args below meth c E D H locs cells slots none q (F0 m 22 ls [])) : ∀ (t : Nat) (v1 : Int32) (v3 : Int32) (s0 : Int32) (G : g_G) (q : g_G), fX4_showEnding_b82 E k22 t v1 v3 s0 G = some q → ∀ (H : Heap) (locs : List Loc) (cells slots : Nat) (ls : Array Slot), gSt E D G H locs → gls ls 6 [(0, .inr (.inr (some t))), (1, .inl v1), (3, .inl v3)] → gT p l e R s m args below meth c E D H locs cells slots none q (F0 m 82 ls [.int s0]) := by
  obtain ⟨hx, hb, hml, hown, hts, hKn, hRc, hRs, hc1, hc2, hRf, hRl, hr, hlk, hnm⟩ := id C
  intro t v1 v3 s0 G q h H locs cells slots ls hS hl
  unfold fX4_showEnding_b82 at h
  refine lv_iconst (v := 0) hx hb dX4_showEnding_82 (by decide) ?_
  exact sX4_showEnding_b83 C hk22 _ _ _ _ _ _ _ h _ _ _ _ _ hS (gls_sub hl [0, 1, 2] rfl)
theorem sX4_showEnding_b56 {p : Program} {l : Launch} {e : Env} {R : Room} {s : State} {m : MethodId} {args : Array Value} {below : List Frame} {meth : Method} {c : Code} {E : g_E} {D : g_D} (C : gC p R s m args meth c cX4_showEnding 6 RX4 "showEnding" (none) 3 109 E D) {k22 : Nat → Int32 → Int32 → Int32 → g_G → Option (g_G)} (hk22 : ∀ (t : Nat) (v1 : Int32) (v2 : Int32) (v3 : Int32) (G : g_G) (q : g_G), k22 t v1 v2 v3 G = some q → ∀ (H : Heap) (locs : List Loc) (cells slots : Nat) (ls : Array Slot), gSt E D G H locs → gls ls 6 [(0, .inr (.inr (some t))), (1, .inl v1), (2, .inl v2), (3, .inl v3)] → gT p l e R s m args below meth c E D H locs cells slots none q (F0 m 22 ls [])) : ∀ (t : Nat) (v1 : Int32) (v2 : Int32) (v3 : Int32) (s0 : Option Nat) (s1 : Int32) (s2 : Int32) (G : g_G) (q : g_G), fX4_showEnding_b56 E k22 t v1 v2 v3 s0 s1 s2 G = some q → ∀ (H : Heap) (locs : List Loc) (cells slots : Nat) (ls : Array Slot), gSt E D G H locs → gls ls 6 [(0, .inr (.inr (some t))), (1, .inl v1), (2, .inl v2), (3, .inl v3)] → gT p l e R s m args below meth c E D H locs cells slots none q (F0 m 56 ls [.int s2, .int s1, va_rf s0]) := by
  obtain ⟨hx, hb, hml, hown, hts, hKn, hRc, hRs, hc1, hc2, hRf, hRl, hr, hlk, hnm⟩ := id C
  intro t v1 v2 v3 s0 s1 s2 G q h H locs cells slots ls hS hl
  unfold fX4_showEnding_b56 at h
  refine g_iastoreG hx hb hKn hS h dX4_showEnding_56 (fun G56 h H locs hS => ?_)
  refine g_iload_n hx hb hl 2 rfl dX4_showEnding_57 ?_
  refine g_iload_n hx hb hl 3 rfl dX4_showEnding_58 ?_
  refine g_aload_n hx hb hl 0 rfl dX4_showEnding_59 ?_
  refine g_rdI hx hb hown hts hKn hS h fd_4_4_3 rfl (Or.inl (hts _ q1868)) (fun _ z => z) dX4_showEnding_60 (fun x60 h => ?_)
  refine lv_icmp_ge (tgt := 82) hx hb dX4_showEnding_63 (by decide) (fun c_63 => ?_) (fun c_63 => ?_)
  · have h := g_ift c_63 h
    exact sX4_showEnding_b82 C hk22 _ _ _ _ _ _ h _ _ _ _ _ hS (gls_sub hl [0, 1, 3] rfl)
  · have h := g_iff c_63 h
    refine g_aload_n hx hb hl 0 rfl dX4_showEnding_66 ?_
    refine g_iload_n hx hb hl 3 rfl dX4_showEnding_67 ?_
    refine lv_iconst (v := 0) hx hb dX4_showEnding_68 (by decide) ?_
    obtain ⟨b69, hb69, h⟩ := g_bnd h
    obtain ⟨hr69, hk69⟩ := g_chk hb69
    obtain ⟨z69, h69, h⟩ := g_bnd h
    refine g_callV (n := 2) (b := b69) (av := [.inl v3, .inl 0]) (rs := [.inl v2]) hx hb hml hown hts hKn hRc hRs hS hl (sX4_own l E D h69) (lw_V q2245 q2247 qs77 q135 q2248) ⟨rfl, by decide, by decide, by decide +kernel⟩ ⟨by rw [hRf]; exact Nat.le_of_ble_eq_true rfl, by rw [hRl]; exact Nat.le_of_ble_eq_true rfl⟩ (g_recv hKn hS hk69 (by decide) (by decide)) rfl (by rw [hr69]; rfl) (Nat.le_of_ble_eq_true rfl) dX4_showEnding_69 (fun H locs cells slots hS => ?_)
    refine lv_iconst (v := (-1)) hx hb dX4_showEnding_72 (by decide) ?_
    refine lv_icmp_eq (tgt := 82) hx hb dX4_showEnding_73 (by decide) (fun c_73 => ?_) (fun c_73 => ?_)
    · have h := g_ift c_73 h
      exact sX4_showEnding_b82 C hk22 _ _ _ _ _ _ h _ _ _ _ _ hS (gls_sub hl [0, 1, 3] rfl)
    · have h := g_iff c_73 h
      refine lv_iconst (v := 1) hx hb dX4_showEnding_76 (by decide) ?_
      refine g_iload_n hx hb hl 3 rfl dX4_showEnding_77 ?_
      refine lv_ishl hx hb dX4_showEnding_78 ?_
      refine lv_goto (tgt := 83) hx hb dX4_showEnding_79 (by decide) ?_
      exact sX4_showEnding_b83 C hk22 _ _ _ _ _ _ _ h _ _ _ _ _ hS (gls_sub hl [0, 1, 3] rfl)
theorem sX4_showEnding_b22 {p : Program} {l : Launch} {e : Env} {R : Room} {s : State} {m : MethodId} {args : Array Value} {below : List Frame} {meth : Method} {c : Code} {E : g_E} {D : g_D} (C : gC p R s m args meth c cX4_showEnding 6 RX4 "showEnding" (none) 3 109 E D) : ∀ (n : Nat) (t : Nat) (v1 : Int32) (v2 : Int32) (v3 : Int32) (G : g_G) (q : g_G), fX4_showEnding_b22 E n t v1 v2 v3 G = some q → ∀ (H : Heap) (locs : List Loc) (cells slots : Nat) (ls : Array Slot), gSt E D G H locs → gls ls 6 [(0, .inr (.inr (some t))), (1, .inl v1), (2, .inl v2), (3, .inl v3)] → gT p l e R s m args below meth c E D H locs cells slots none q (F0 m 22 ls []) := by
  obtain ⟨hx, hb, hml, hown, hts, hKn, hRc, hRs, hc1, hc2, hRf, hRl, hr, hlk, hnm⟩ := id C
  intro n
  induction n with
  | zero =>
    intro t v1 v2 v3 G q h
    exact g_no h
  | succ n ih =>
    intro t v1 v2 v3 G q h H locs cells slots ls hS hl
    rw [fX4_showEnding_b22] at h
    refine g_iload_n hx hb hl 3 rfl dX4_showEnding_22 ?_
    refine lv_bipush (v := 8) hx hb dX4_showEnding_23 (by decide) ?_
    refine lv_icmp_ge (tgt := 91) hx hb dX4_showEnding_25 (by decide) (fun c_25 => ?_) (fun c_25 => ?_)
    · have h := g_ift c_25 h
      refine g_aload_n hx hb hl 0 rfl dX4_showEnding_91 ?_
      refine g_rdR hx hb hown hts hKn hS h fd_4_4_50 rfl (Or.inl (hts _ q1915)) (fun _ z => z) dX4_showEnding_92 (fun x92 h => ?_)
      refine g_iload_n hx hb hl 1 rfl dX4_showEnding_95 ?_
      refine lv_bipush (v := 9) hx hb dX4_showEnding_96 (by decide) ?_
      refine lv_iadd hx hb dX4_showEnding_98 ?_
      refine g_aload_n hx hb hl 0 rfl dX4_showEnding_99 ?_
      obtain ⟨b100, hb100, h⟩ := g_bnd h
      obtain ⟨hr100, hk100⟩ := g_chk hb100
      obtain ⟨z100, h100, h⟩ := g_bnd h
      refine g_callV (n := 0) (b := b100) (av := []) (rs := [.inl (v1 + 9), .inr (.inr x92)]) hx hb hml hown hts hKn hRc hRs hS hl (sX4_words l E D h100) (lw_V q2264 q2266 qs81 q135 q2267) ⟨rfl, by decide, by decide, by decide +kernel⟩ ⟨by rw [hRf]; exact Nat.le_of_ble_eq_true rfl, by rw [hRl]; exact Nat.le_of_ble_eq_true rfl⟩ (g_recv hKn hS hk100 (by decide) (by decide)) rfl (by rw [hr100]; rfl) (Nat.le_of_ble_eq_true rfl) dX4_showEnding_100 (fun H locs cells slots hS => ?_)
      refine g_iastoreG hx hb hKn hS h dX4_showEnding_103 (fun G103 h H locs hS => ?_)
      refine g_aload_n hx hb hl 0 rfl dX4_showEnding_104 ?_
      refine g_rdR hx hb hown hts hKn hS h fd_4_4_50 rfl (Or.inl (hts _ q1915)) (fun _ z => z) dX4_showEnding_105 (fun x105 h => ?_)
      refine g_iload_n hx hb hl 1 rfl dX4_showEnding_108 ?_
      refine lv_bipush (v := 10) hx hb dX4_showEnding_109 (by decide) ?_
      refine lv_iadd hx hb dX4_showEnding_111 ?_
      refine g_iload_n hx hb hl 2 rfl dX4_showEnding_112 ?_
      refine g_iastoreG hx hb hKn hS h dX4_showEnding_113 (fun G113 h H locs hS => ?_)
      refine g_aload_n hx hb hl 0 rfl dX4_showEnding_114 ?_
      refine g_rdI hx hb hown hts hKn hS h fd_4_4_51 rfl (Or.inl (hts _ q1916)) (fun _ z => z) dX4_showEnding_115 (fun x115 h => ?_)
      refine g_istore_n (l1 := [(3, .inl x115), (0, .inr (.inr (some t))), (1, .inl v1), (2, .inl v2)]) hx hb hl (by decide) rfl dX4_showEnding_118 (fun ls hl => ?_)
      exact sX4_showEnding_b119 C gFU _ _ _ _ h _ _ _ _ _ hS (gls_sub hl [1, 0] rfl)
    · have h := g_iff c_25 h
      refine g_aload_n hx hb hl 0 rfl dX4_showEnding_28 ?_
      refine g_rdR hx hb hown hts hKn hS h fd_4_4_50 rfl (Or.inl (hts _ q1915)) (fun _ z => z) dX4_showEnding_29 (fun x29 h => ?_)
      refine g_iload_n hx hb hl 1 rfl dX4_showEnding_32 ?_
      refine lv_iconst (v := 1) hx hb dX4_showEnding_33 (by decide) ?_
      refine lv_iadd hx hb dX4_showEnding_34 ?_
      refine g_iload_n hx hb hl 3 rfl dX4_showEnding_35 ?_
      refine lv_iadd hx hb dX4_showEnding_36 ?_
      refine g_iload_n hx hb hl 3 rfl dX4_showEnding_37 ?_
      refine g_aload_n hx hb hl 0 rfl dX4_showEnding_38 ?_
      refine g_rdI hx hb hown hts hKn hS h fd_4_4_3 rfl (Or.inl (hts _ q1868)) (fun _ z => z) dX4_showEnding_39 (fun x39 h => ?_)
      refine lv_icmp_ge (tgt := 55) hx hb dX4_showEnding_42 (by decide) (fun c_42 => ?_) (fun c_42 => ?_)
      · have h := g_ift c_42 h
        refine lv_iconst (v := 0) hx hb dX4_showEnding_55 (by decide) ?_
        exact sX4_showEnding_b56 C ih _ _ _ _ _ _ _ _ _ h _ _ _ _ _ hS (gls_sub hl [0, 1, 2, 3] rfl)
      · have h := g_iff c_42 h
        refine g_aload_n hx hb hl 0 rfl dX4_showEnding_45 ?_
        refine g_iload_n hx hb hl 3 rfl dX4_showEnding_46 ?_
        refine lv_bipush (v := 7) hx hb dX4_showEnding_47 (by decide) ?_
        obtain ⟨b49, hb49, h⟩ := g_bnd h
        obtain ⟨hr49, hk49⟩ := g_chk hb49
        obtain ⟨z49, h49, h⟩ := g_bnd h
        refine g_callV (n := 2) (b := b49) (av := [.inl v3, .inl 7]) (rs := [.inl ((v1 + 1) + v3), .inr (.inr x29)]) hx hb hml hown hts hKn hRc hRs hS hl (sX4_own l E D h49) (lw_V q2245 q2247 qs77 q135 q2248) ⟨rfl, by decide, by decide, by decide +kernel⟩ ⟨by rw [hRf]; exact Nat.le_of_ble_eq_true rfl, by rw [hRl]; exact Nat.le_of_ble_eq_true rfl⟩ (g_recv hKn hS hk49 (by decide) (by decide)) rfl (by rw [hr49]; rfl) (Nat.le_of_ble_eq_true rfl) dX4_showEnding_49 (fun H locs cells slots hS => ?_)
        refine lv_goto (tgt := 56) hx hb dX4_showEnding_52 (by decide) ?_
        exact sX4_showEnding_b56 C ih _ _ _ _ _ _ _ _ _ h _ _ _ _ _ hS (gls_sub hl [0, 1, 2, 3] rfl)
theorem sX4_showEnding (l : Launch) (E : g_E) (D : g_D) {t : Nat} {G : g_G} {q : g_G} (h : fX4_showEnding E t G = some q) : gMet l E D yX4_showEnding (ws_ yX4_showEnding cX4_showEnding 6 (none)) 3 109 [.inr (.inr (some t))] G none q := by
  refine gMet.of (by decide +kernel) (Nat.le_of_ble_eq_true rfl) ?_
  intro p e R s m args below meth c C hS ls hl
  have C : gC p R s m args meth c cX4_showEnding 6 RX4 "showEnding" (none) 3 109 E D := C
  obtain ⟨hx, hb, hml, hown, hts, hKn, hRc, hRs, hc1, hc2, hRf, hRl, hr, hlk, hnm⟩ := id C
  have hl : gls ls 6 [(0, .inr (.inr (some t)))] := hl
  generalize s.heap = H at hS ⊢
  unfold fX4_showEnding at h
  refine lv_bipush (v := 11) hx hb dX4_showEnding_0 (by decide) ?_
  refine g_aload_n hx hb hl 0 rfl dX4_showEnding_2 ?_
  refine g_rdI hx hb hown hts hKn hS h fd_4_4_51 rfl (Or.inl (hts _ q1916)) (fun _ z => z) dX4_showEnding_3 (fun x3 h => ?_)
  refine lv_imul hx hb dX4_showEnding_6 ?_
  refine g_istore_n (l1 := [(1, .inl (11 * x3)), (0, .inr (.inr (some t)))]) hx hb hl (by decide) rfl dX4_showEnding_7 (fun ls hl => ?_)
  refine g_aload_n hx hb hl 1 rfl dX4_showEnding_8 ?_
  refine g_rdR hx hb hown hts hKn hS h fd_4_4_50 rfl (Or.inl (hts _ q1915)) (fun _ z => z) dX4_showEnding_9 (fun x9 h => ?_)
  refine g_iload_n hx hb hl 0 rfl dX4_showEnding_12 ?_
  refine g_aload_n hx hb hl 1 rfl dX4_showEnding_13 ?_
  obtain ⟨b14, hb14, h⟩ := g_bnd h
  obtain ⟨hr14, hk14⟩ := g_chk hb14
  obtain ⟨z14, h14, h⟩ := g_bnd h
  refine g_callV (n := 0) (b := b14) (av := []) (rs := [.inl (11 * x3), .inr (.inr x9)]) hx hb hml hown hts hKn hRc hRs hS hl (sX4_kindNow l E D h14) (lw_V q2361 q2363 qs104 q135 q2364) ⟨rfl, by decide, by decide, by decide +kernel⟩ ⟨by rw [hRf]; exact Nat.le_of_ble_eq_true rfl, by rw [hRl]; exact Nat.le_of_ble_eq_true rfl⟩ (g_recv hKn hS hk14 (by decide) (by decide)) rfl (by rw [hr14]; rfl) (Nat.le_of_ble_eq_true rfl) dX4_showEnding_14 (fun H locs cells slots hS => ?_)
  refine g_iastoreG hx hb hKn hS h dX4_showEnding_17 (fun G17 h H locs hS => ?_)
  refine lv_iconst (v := 0) hx hb dX4_showEnding_18 (by decide) ?_
  refine g_istore_n (l1 := [(2, .inl 0), (1, .inl (11 * x3)), (0, .inr (.inr (some t)))]) hx hb hl (by decide) rfl dX4_showEnding_19 (fun ls hl => ?_)
  refine lv_iconst (v := 0) hx hb dX4_showEnding_20 (by decide) ?_
  refine g_istore_n (l1 := [(3, .inl 0), (2, .inl 0), (1, .inl (11 * x3)), (0, .inr (.inr (some t)))]) hx hb hl (by decide) rfl dX4_showEnding_21 (fun ls hl => ?_)
  exact sX4_showEnding_b22 C gFU _ _ _ _ _ _ h _ _ _ _ _ hS (gls_sub hl [3, 2, 1, 0] rfl)
/-- SendHallModel.someLocks()Z -/
def fX4_someLocks_b37 (E : g_E) (k2 : Nat → Int32 → g_G → Option (Int32 × g_G)) (t : Nat) (v1 : Int32) (G : g_G) : Option (Int32 × g_G) :=
  k2 t (v1 + 1) G
def fX4_someLocks_b2 (E : g_E) : Nat → Nat → Int32 → g_G → Option (Int32 × g_G)
  | 0, _, _, _ => none
  | n + 1, t, v1, G =>
    (grI G 4 4 (some t) 46).bind fun x4 =>
    if x4 ≤ v1 then (
      if (0 : Int32) = 0 ∨ (0 : Int32) = 1 then some (0, G) else none)
    else (
      (grR G 4 4 (some t) 45).bind fun x11 =>
      (gaI G 102 x11 v1).bind fun x15 =>
      if ¬ x15 = 0 then (
        (gchk G 4 (some t)).bind fun b24 =>
        (fX4_bring E b24 v1 G).bind fun z24 =>
        (gchk z24 4 (some t)).bind fun b28 =>
        (fX4_kindNow E b28 z24).bind fun z28 =>
        if ¬ z28.1 = (2 : Int32) then (
          fX4_someLocks_b37 E (fX4_someLocks_b2 E n) t v1 z28.2)
        else (
          if (1 : Int32) = 0 ∨ (1 : Int32) = 1 then some (1, z28.2) else none))
      else (
        fX4_someLocks_b37 E (fX4_someLocks_b2 E n) t v1 G))
def fX4_someLocks (E : g_E) (t : Nat) (G : g_G) : Option (Int32 × g_G) :=
  fX4_someLocks_b2 E gFU t 0 G
theorem sX4_someLocks_b37 {p : Program} {l : Launch} {e : Env} {R : Room} {s : State} {m : MethodId} {args : Array Value} {below : List Frame} {meth : Method} {c : Code} {E : g_E} {D : g_D} (C : gC p R s m args meth c cX4_someLocks 2 RX4 "someLocks" (some .boolean) 3 109 E D) {k2 : Nat → Int32 → g_G → Option (Int32 × g_G)} (hk2 : ∀ (t : Nat) (v1 : Int32) (G : g_G) (q : Int32 × g_G), k2 t v1 G = some q → ∀ (H : Heap) (locs : List Loc) (cells slots : Nat) (ls : Array Slot), gSt E D G H locs → gls ls 2 [(0, .inr (.inr (some t))), (1, .inl v1)] → gT p l e R s m args below meth c E D H locs cells slots (some (.int q.1)) q.2 (F0 m 2 ls [])) : ∀ (t : Nat) (v1 : Int32) (G : g_G) (q : Int32 × g_G), fX4_someLocks_b37 E k2 t v1 G = some q → ∀ (H : Heap) (locs : List Loc) (cells slots : Nat) (ls : Array Slot), gSt E D G H locs → gls ls 2 [(0, .inr (.inr (some t))), (1, .inl v1)] → gT p l e R s m args below meth c E D H locs cells slots (some (.int q.1)) q.2 (F0 m 37 ls []) := by
  obtain ⟨hx, hb, hml, hown, hts, hKn, hRc, hRs, hc1, hc2, hRf, hRl, hr, hlk, hnm⟩ := id C
  intro t v1 G q h H locs cells slots ls hS hl
  unfold fX4_someLocks_b37 at h
  refine g_iinc (l1 := [(1, .inl (v1 + 1)), (0, .inr (.inr (some t)))]) (v := (v1 + 1)) hx hb hl (k := 1) rfl (by rfl) (by decide) rfl dX4_someLocks_37 (fun ls hl => ?_)
  refine lv_goto (tgt := 2) hx hb dX4_someLocks_40 (by decide) ?_
  exact hk2 _ _ _ _ h _ _ _ _ _ hS (gls_sub hl [1, 0] rfl)
theorem sX4_someLocks_b2 {p : Program} {l : Launch} {e : Env} {R : Room} {s : State} {m : MethodId} {args : Array Value} {below : List Frame} {meth : Method} {c : Code} {E : g_E} {D : g_D} (C : gC p R s m args meth c cX4_someLocks 2 RX4 "someLocks" (some .boolean) 3 109 E D) : ∀ (n : Nat) (t : Nat) (v1 : Int32) (G : g_G) (q : Int32 × g_G), fX4_someLocks_b2 E n t v1 G = some q → ∀ (H : Heap) (locs : List Loc) (cells slots : Nat) (ls : Array Slot), gSt E D G H locs → gls ls 2 [(0, .inr (.inr (some t))), (1, .inl v1)] → gT p l e R s m args below meth c E D H locs cells slots (some (.int q.1)) q.2 (F0 m 2 ls []) := by
  obtain ⟨hx, hb, hml, hown, hts, hKn, hRc, hRs, hc1, hc2, hRf, hRl, hr, hlk, hnm⟩ := id C
  intro n
  induction n with
  | zero =>
    intro t v1 G q h
    exact g_no h
  | succ n ih =>
    intro t v1 G q h H locs cells slots ls hS hl
    rw [fX4_someLocks_b2] at h
    refine g_iload_n hx hb hl 1 rfl dX4_someLocks_2 ?_
    refine g_aload_n hx hb hl 0 rfl dX4_someLocks_3 ?_
    refine g_rdI hx hb hown hts hKn hS h fd_4_4_46 rfl (Or.inl (hts _ q1911)) (fun _ z => z) dX4_someLocks_4 (fun x4 h => ?_)
    refine lv_icmp_ge (tgt := 43) hx hb dX4_someLocks_7 (by decide) (fun c_7 => ?_) (fun c_7 => ?_)
    · have h := g_ift c_7 h
      refine lv_iconst (v := 0) hx hb dX4_someLocks_43 (by decide) ?_
      exact g_zretG hx hb hr hlk hKn hRc hRs hS h dX4_someLocks_44
    · have h := g_iff c_7 h
      refine g_aload_n hx hb hl 0 rfl dX4_someLocks_10 ?_
      refine g_rdR hx hb hown hts hKn hS h fd_4_4_45 rfl (Or.inl (hts _ q1910)) (fun _ z => z) dX4_someLocks_11 (fun x11 h => ?_)
      refine g_iload_n hx hb hl 1 rfl dX4_someLocks_14 ?_
      refine g_zaloadG hx hb hKn hS h dX4_someLocks_15 (fun x15 h => ?_)
      refine lv_if_ne (tgt := 22) hx hb dX4_someLocks_16 (by decide) (fun c_16 => ?_) (fun c_16 => ?_)
      · have h := g_ift c_16 h
        refine g_aload_n hx hb hl 0 rfl dX4_someLocks_22 ?_
        refine g_iload_n hx hb hl 1 rfl dX4_someLocks_23 ?_
        obtain ⟨b24, hb24, h⟩ := g_bnd h
        obtain ⟨hr24, hk24⟩ := g_chk hb24
        obtain ⟨z24, h24, h⟩ := g_bnd h
        refine g_callV (n := 1) (b := b24) (av := [.inl v1]) (rs := []) hx hb hml hown hts hKn hRc hRs hS hl (sX4_bring l E D h24) (lw_V q2276 q2278 qs84 q135 q2279) ⟨rfl, by decide, by decide, by decide +kernel⟩ ⟨by rw [hRf]; exact Nat.le_of_ble_eq_true rfl, by rw [hRl]; exact Nat.le_of_ble_eq_true rfl⟩ (g_recv hKn hS hk24 (by decide) (by decide)) rfl (by rw [hr24]; rfl) (Nat.le_of_ble_eq_true rfl) dX4_someLocks_24 (fun H locs cells slots hS => ?_)
        refine g_aload_n hx hb hl 0 rfl dX4_someLocks_27 ?_
        obtain ⟨b28, hb28, h⟩ := g_bnd h
        obtain ⟨hr28, hk28⟩ := g_chk hb28
        obtain ⟨z28, h28, h⟩ := g_bnd h
        refine g_callV (n := 0) (b := b28) (av := []) (rs := []) hx hb hml hown hts hKn hRc hRs hS hl (sX4_kindNow l E D h28) (lw_V q2361 q2363 qs104 q135 q2364) ⟨rfl, by decide, by decide, by decide +kernel⟩ ⟨by rw [hRf]; exact Nat.le_of_ble_eq_true rfl, by rw [hRl]; exact Nat.le_of_ble_eq_true rfl⟩ (g_recv hKn hS hk28 (by decide) (by decide)) rfl (by rw [hr28]; rfl) (Nat.le_of_ble_eq_true rfl) dX4_someLocks_28 (fun H locs cells slots hS => ?_)
        refine lv_iconst (v := 2) hx hb dX4_someLocks_31 (by decide) ?_
        refine lv_icmp_ne (tgt := 37) hx hb dX4_someLocks_32 (by decide) (fun c_32 => ?_) (fun c_32 => ?_)
        · have h := g_ift c_32 h
          exact sX4_someLocks_b37 C ih _ _ _ _ h _ _ _ _ _ hS (gls_sub hl [0, 1] rfl)
        · have h := g_iff (fun z => z c_32) h
          refine lv_iconst (v := 1) hx hb dX4_someLocks_35 (by decide) ?_
          exact g_zretG hx hb hr hlk hKn hRc hRs hS h dX4_someLocks_36
      · have h := g_iff (fun z => z c_16) h
        refine lv_goto (tgt := 37) hx hb dX4_someLocks_19 (by decide) ?_
        exact sX4_someLocks_b37 C ih _ _ _ _ h _ _ _ _ _ hS (gls_sub hl [0, 1] rfl)
theorem sX4_someLocks (l : Launch) (E : g_E) (D : g_D) {t : Nat} {G : g_G} {q : Int32 × g_G} (h : fX4_someLocks E t G = some q) : gMet l E D yX4_someLocks (ws_ yX4_someLocks cX4_someLocks 2 (some .boolean)) 3 109 [.inr (.inr (some t))] G (some (.int q.1)) q.2 := by
  refine gMet.of (by decide +kernel) (Nat.le_of_ble_eq_true rfl) ?_
  intro p e R s m args below meth c C hS ls hl
  have C : gC p R s m args meth c cX4_someLocks 2 RX4 "someLocks" (some .boolean) 3 109 E D := C
  obtain ⟨hx, hb, hml, hown, hts, hKn, hRc, hRs, hc1, hc2, hRf, hRl, hr, hlk, hnm⟩ := id C
  have hl : gls ls 2 [(0, .inr (.inr (some t)))] := hl
  generalize s.heap = H at hS ⊢
  unfold fX4_someLocks at h
  refine lv_iconst (v := 0) hx hb dX4_someLocks_0 (by decide) ?_
  refine g_istore_n (l1 := [(1, .inl 0), (0, .inr (.inr (some t)))]) hx hb hl (by decide) rfl dX4_someLocks_1 (fun ls hl => ?_)
  exact sX4_someLocks_b2 C gFU _ _ _ _ h _ _ _ _ _ hS (gls_sub hl [1, 0] rfl)
/-- SendHallModel.takeAway(I)V -/
def fX4_takeAway_b95 (E : g_E) : Nat → Nat → Int32 → Int32 → g_G → Option (g_G)
  | 0, _, _, _, _ => none
  | n + 1, t, v2, v3, G =>
    if (6 : Int32) ≤ v3 then (
      some G)
    else (
      (grR G 4 4 (some t) 33).bind fun x102 =>
      (gsaI E G x102 (v2 + v3) 0).bind fun G109 =>
      fX4_takeAway_b95 E n t v2 (v3 + 1) G109)
def fX4_takeAway_b20 (E : g_E) (k2 : Nat → Int32 → g_G → Option (g_G)) : Nat → Nat → Int32 → Int32 → Int32 → g_G → Option (g_G)
  | 0, _, _, _, _, _ => none
  | n + 1, t, v2, v3, v4, G =>
    if (6 : Int32) ≤ v4 then (
      (grR G 4 4 (some t) 39).bind fun x55 =>
      (grR G 4 4 (some t) 39).bind fun x60 =>
      (gaI G 100 x60 (v2 + 1)).bind fun x66 =>
      (gsaI E G x55 v2 x66).bind fun G67 =>
      k2 t (v2 + 1) G67)
    else (
      (grR G 4 4 (some t) 33).bind fun x28 =>
      (grR G 4 4 (some t) 33).bind fun x36 =>
      (gaI G 100 x36 ((v3 + 6) + v4)).bind fun x46 =>
      (gsaI E G x28 (v3 + v4) x46).bind fun G47 =>
      fX4_takeAway_b20 E k2 n t v2 v3 (v4 + 1) G47)
def fX4_takeAway_b2 (E : g_E) : Nat → Nat → Int32 → g_G → Option (g_G)
  | 0, _, _, _ => none
  | n + 1, t, v2, G =>
    (gchk G 4 (some t)).bind fun b6 =>
    (fX4_words E b6 G).bind fun z6 =>
    if z6.1 ≤ (v2 + 1) then (
      (grR z6.2 4 4 (some t) 33).bind fun x75 =>
      (gaI z6.2 100 x75 64).bind fun x81 =>
      (gsaI E z6.2 x75 64 (x81 - 1)).bind fun G84 =>
      (gchk G84 4 (some t)).bind fun b86 =>
      (fX4_words E b86 G84).bind fun z86 =>
      (fX4_wordAt E z86.1 z86.2).bind fun z89 =>
      fX4_takeAway_b95 E gFU t z89.1 0 z89.2)
    else (
      (fX4_wordAt E v2 z6.2).bind fun z13 =>
      fX4_takeAway_b20 E (fX4_takeAway_b2 E n) gFU t v2 z13.1 0 z13.2)
def fX4_takeAway (E : g_E) (t : Nat) (v1 : Int32) (G : g_G) : Option (g_G) :=
  fX4_takeAway_b2 E gFU t v1 G
theorem sX4_takeAway_b95 {p : Program} {l : Launch} {e : Env} {R : Room} {s : State} {m : MethodId} {args : Array Value} {below : List Frame} {meth : Method} {c : Code} {E : g_E} {D : g_D} (C : gC p R s m args meth c cX4_takeAway 5 RX4 "takeAway" (none) 2 84 E D) : ∀ (n : Nat) (t : Nat) (v2 : Int32) (v3 : Int32) (G : g_G) (q : g_G), fX4_takeAway_b95 E n t v2 v3 G = some q → ∀ (H : Heap) (locs : List Loc) (cells slots : Nat) (ls : Array Slot), gSt E D G H locs → gls ls 5 [(0, .inr (.inr (some t))), (2, .inl v2), (3, .inl v3)] → gT p l e R s m args below meth c E D H locs cells slots none q (F0 m 95 ls []) := by
  obtain ⟨hx, hb, hml, hown, hts, hKn, hRc, hRs, hc1, hc2, hRf, hRl, hr, hlk, hnm⟩ := id C
  intro n
  induction n with
  | zero =>
    intro t v2 v3 G q h
    exact g_no h
  | succ n ih =>
    intro t v2 v3 G q h H locs cells slots ls hS hl
    rw [fX4_takeAway_b95] at h
    refine g_iload_n hx hb hl 2 rfl dX4_takeAway_95 ?_
    refine lv_bipush (v := 6) hx hb dX4_takeAway_96 (by decide) ?_
    refine lv_icmp_ge (tgt := 116) hx hb dX4_takeAway_98 (by decide) (fun c_98 => ?_) (fun c_98 => ?_)
    · have h := g_ift c_98 h
      exact g_vretG hx hb hr hlk hKn hRc hRs hS h dX4_takeAway_116
    · have h := g_iff c_98 h
      refine g_aload_n hx hb hl 0 rfl dX4_takeAway_101 ?_
      refine g_rdR hx hb hown hts hKn hS h fd_4_4_33 rfl (Or.inl (hts _ q1898)) (fun _ z => z) dX4_takeAway_102 (fun x102 h => ?_)
      refine g_iload_n hx hb hl 1 rfl dX4_takeAway_105 ?_
      refine g_iload_n hx hb hl 2 rfl dX4_takeAway_106 ?_
      refine lv_iadd hx hb dX4_takeAway_107 ?_
      refine lv_iconst (v := 0) hx hb dX4_takeAway_108 (by decide) ?_
      refine g_iastoreG hx hb hKn hS h dX4_takeAway_109 (fun G109 h H locs hS => ?_)
      refine g_iinc (l1 := [(3, .inl (v3 + 1)), (0, .inr (.inr (some t))), (2, .inl v2)]) (v := (v3 + 1)) hx hb hl (k := 2) rfl (by rfl) (by decide) rfl dX4_takeAway_110 (fun ls hl => ?_)
      refine lv_goto (tgt := 95) hx hb dX4_takeAway_113 (by decide) ?_
      exact ih _ _ _ _ _ h _ _ _ _ _ hS (gls_sub hl [1, 2, 0] rfl)
theorem sX4_takeAway_b20 {p : Program} {l : Launch} {e : Env} {R : Room} {s : State} {m : MethodId} {args : Array Value} {below : List Frame} {meth : Method} {c : Code} {E : g_E} {D : g_D} (C : gC p R s m args meth c cX4_takeAway 5 RX4 "takeAway" (none) 2 84 E D) {k2 : Nat → Int32 → g_G → Option (g_G)} (hk2 : ∀ (t : Nat) (v2 : Int32) (G : g_G) (q : g_G), k2 t v2 G = some q → ∀ (H : Heap) (locs : List Loc) (cells slots : Nat) (ls : Array Slot), gSt E D G H locs → gls ls 5 [(0, .inr (.inr (some t))), (2, .inl v2)] → gT p l e R s m args below meth c E D H locs cells slots none q (F0 m 2 ls [])) : ∀ (n : Nat) (t : Nat) (v2 : Int32) (v3 : Int32) (v4 : Int32) (G : g_G) (q : g_G), fX4_takeAway_b20 E k2 n t v2 v3 v4 G = some q → ∀ (H : Heap) (locs : List Loc) (cells slots : Nat) (ls : Array Slot), gSt E D G H locs → gls ls 5 [(0, .inr (.inr (some t))), (2, .inl v2), (3, .inl v3), (4, .inl v4)] → gT p l e R s m args below meth c E D H locs cells slots none q (F0 m 20 ls []) := by
  obtain ⟨hx, hb, hml, hown, hts, hKn, hRc, hRs, hc1, hc2, hRf, hRl, hr, hlk, hnm⟩ := id C
  intro n
  induction n with
  | zero =>
    intro t v2 v3 v4 G q h
    exact g_no h
  | succ n ih =>
    intro t v2 v3 v4 G q h H locs cells slots ls hS hl
    rw [fX4_takeAway_b20] at h
    refine g_iload hx hb hl 3 rfl dX4_takeAway_20 ?_
    refine lv_bipush (v := 6) hx hb dX4_takeAway_22 (by decide) ?_
    refine lv_icmp_ge (tgt := 54) hx hb dX4_takeAway_24 (by decide) (fun c_24 => ?_) (fun c_24 => ?_)
    · have h := g_ift c_24 h
      refine g_aload_n hx hb hl 0 rfl dX4_takeAway_54 ?_
      refine g_rdR hx hb hown hts hKn hS h fd_4_4_39 rfl (Or.inl (hts _ q1904)) (fun _ z => z) dX4_takeAway_55 (fun x55 h => ?_)
      refine g_iload_n hx hb hl 1 rfl dX4_takeAway_58 ?_
      refine g_aload_n hx hb hl 0 rfl dX4_takeAway_59 ?_
      refine g_rdR hx hb hown hts hKn hS h fd_4_4_39 rfl (Or.inl (hts _ q1904)) (fun _ z => z) dX4_takeAway_60 (fun x60 h => ?_)
      refine g_iload_n hx hb hl 1 rfl dX4_takeAway_63 ?_
      refine lv_iconst (v := 1) hx hb dX4_takeAway_64 (by decide) ?_
      refine lv_iadd hx hb dX4_takeAway_65 ?_
      refine g_ialoadG hx hb hKn hS h dX4_takeAway_66 (fun x66 h => ?_)
      refine g_iastoreG hx hb hKn hS h dX4_takeAway_67 (fun G67 h H locs hS => ?_)
      refine g_iinc (l1 := [(2, .inl (v2 + 1)), (0, .inr (.inr (some t))), (3, .inl v3), (4, .inl v4)]) (v := (v2 + 1)) hx hb hl (k := 1) rfl (by rfl) (by decide) rfl dX4_takeAway_68 (fun ls hl => ?_)
      refine lv_goto (tgt := 2) hx hb dX4_takeAway_71 (by decide) ?_
      exact hk2 _ _ _ _ h _ _ _ _ _ hS (gls_sub hl [1, 0] rfl)
    · have h := g_iff c_24 h
      refine g_aload_n hx hb hl 0 rfl dX4_takeAway_27 ?_
      refine g_rdR hx hb hown hts hKn hS h fd_4_4_33 rfl (Or.inl (hts _ q1898)) (fun _ z => z) dX4_takeAway_28 (fun x28 h => ?_)
      refine g_iload_n hx hb hl 2 rfl dX4_takeAway_31 ?_
      refine g_iload hx hb hl 3 rfl dX4_takeAway_32 ?_
      refine lv_iadd hx hb dX4_takeAway_34 ?_
      refine g_aload_n hx hb hl 0 rfl dX4_takeAway_35 ?_
      refine g_rdR hx hb hown hts hKn hS h fd_4_4_33 rfl (Or.inl (hts _ q1898)) (fun _ z => z) dX4_takeAway_36 (fun x36 h => ?_)
      refine g_iload_n hx hb hl 2 rfl dX4_takeAway_39 ?_
      refine lv_bipush (v := 6) hx hb dX4_takeAway_40 (by decide) ?_
      refine lv_iadd hx hb dX4_takeAway_42 ?_
      refine g_iload hx hb hl 3 rfl dX4_takeAway_43 ?_
      refine lv_iadd hx hb dX4_takeAway_45 ?_
      refine g_ialoadG hx hb hKn hS h dX4_takeAway_46 (fun x46 h => ?_)
      refine g_iastoreG hx hb hKn hS h dX4_takeAway_47 (fun G47 h H locs hS => ?_)
      refine g_iinc (l1 := [(4, .inl (v4 + 1)), (0, .inr (.inr (some t))), (2, .inl v2), (3, .inl v3)]) (v := (v4 + 1)) hx hb hl (k := 3) rfl (by rfl) (by decide) rfl dX4_takeAway_48 (fun ls hl => ?_)
      refine lv_goto (tgt := 20) hx hb dX4_takeAway_51 (by decide) ?_
      exact ih _ _ _ _ _ _ h _ _ _ _ _ hS (gls_sub hl [1, 2, 3, 0] rfl)
theorem sX4_takeAway_b2 {p : Program} {l : Launch} {e : Env} {R : Room} {s : State} {m : MethodId} {args : Array Value} {below : List Frame} {meth : Method} {c : Code} {E : g_E} {D : g_D} (C : gC p R s m args meth c cX4_takeAway 5 RX4 "takeAway" (none) 2 84 E D) : ∀ (n : Nat) (t : Nat) (v2 : Int32) (G : g_G) (q : g_G), fX4_takeAway_b2 E n t v2 G = some q → ∀ (H : Heap) (locs : List Loc) (cells slots : Nat) (ls : Array Slot), gSt E D G H locs → gls ls 5 [(0, .inr (.inr (some t))), (2, .inl v2)] → gT p l e R s m args below meth c E D H locs cells slots none q (F0 m 2 ls []) := by
  obtain ⟨hx, hb, hml, hown, hts, hKn, hRc, hRs, hc1, hc2, hRf, hRl, hr, hlk, hnm⟩ := id C
  intro n
  induction n with
  | zero =>
    intro t v2 G q h
    exact g_no h
  | succ n ih =>
    intro t v2 G q h H locs cells slots ls hS hl
    rw [fX4_takeAway_b2] at h
    refine g_iload_n hx hb hl 1 rfl dX4_takeAway_2 ?_
    refine lv_iconst (v := 1) hx hb dX4_takeAway_3 (by decide) ?_
    refine lv_iadd hx hb dX4_takeAway_4 ?_
    refine g_aload_n hx hb hl 0 rfl dX4_takeAway_5 ?_
    obtain ⟨b6, hb6, h⟩ := g_bnd h
    obtain ⟨hr6, hk6⟩ := g_chk hb6
    obtain ⟨z6, h6, h⟩ := g_bnd h
    refine g_callV (n := 0) (b := b6) (av := []) (rs := [.inl (v2 + 1)]) hx hb hml hown hts hKn hRc hRs hS hl (sX4_words l E D h6) (lw_V q2264 q2266 qs81 q135 q2267) ⟨rfl, by decide, by decide, by decide +kernel⟩ ⟨by rw [hRf]; exact Nat.le_of_ble_eq_true rfl, by rw [hRl]; exact Nat.le_of_ble_eq_true rfl⟩ (g_recv hKn hS hk6 (by decide) (by decide)) rfl (by rw [hr6]; rfl) (Nat.le_of_ble_eq_true rfl) dX4_takeAway_6 (fun H locs cells slots hS => ?_)
    refine lv_icmp_ge (tgt := 74) hx hb dX4_takeAway_9 (by decide) (fun c_9 => ?_) (fun c_9 => ?_)
    · have h := g_ift c_9 h
      refine g_aload_n hx hb hl 0 rfl dX4_takeAway_74 ?_
      refine g_rdR hx hb hown hts hKn hS h fd_4_4_33 rfl (Or.inl (hts _ q1898)) (fun _ z => z) dX4_takeAway_75 (fun x75 h => ?_)
      refine lv_bipush (v := 64) hx hb dX4_takeAway_78 (by decide) ?_
      refine lv_dup2_11 hx hb dX4_takeAway_80 rfl (by first | exact va_rf_cat _ | rfl | exact g_catA _) ?_
      refine g_ialoadG hx hb hKn hS h dX4_takeAway_81 (fun x81 h => ?_)
      refine lv_iconst (v := 1) hx hb dX4_takeAway_82 (by decide) ?_
      refine lv_isub hx hb dX4_takeAway_83 ?_
      refine g_iastoreG hx hb hKn hS h dX4_takeAway_84 (fun G84 h H locs hS => ?_)
      refine g_aload_n hx hb hl 0 rfl dX4_takeAway_85 ?_
      obtain ⟨b86, hb86, h⟩ := g_bnd h
      obtain ⟨hr86, hk86⟩ := g_chk hb86
      obtain ⟨z86, h86, h⟩ := g_bnd h
      refine g_callV (n := 0) (b := b86) (av := []) (rs := []) hx hb hml hown hts hKn hRc hRs hS hl (sX4_words l E D h86) (lw_V q2264 q2266 qs81 q135 q2267) ⟨rfl, by decide, by decide, by decide +kernel⟩ ⟨by rw [hRf]; exact Nat.le_of_ble_eq_true rfl, by rw [hRl]; exact Nat.le_of_ble_eq_true rfl⟩ (g_recv hKn hS hk86 (by decide) (by decide)) rfl (by rw [hr86]; rfl) (Nat.le_of_ble_eq_true rfl) dX4_takeAway_86 (fun H locs cells slots hS => ?_)
      obtain ⟨z89, h89, h⟩ := g_bnd h
      refine g_callS (n := 1) (av := [.inl z86.1]) (rs := []) hx hb hml hown hts hKn hRc hRs hS hl (sX4_wordAt l E D h89) (lw_S q2292 q2293 q135 q2294) ⟨by decide, by decide, by decide +kernel⟩ ⟨by rw [hRf]; exact Nat.le_of_ble_eq_true rfl, by rw [hRl]; exact Nat.le_of_ble_eq_true rfl⟩ rfl rfl (Nat.le_of_ble_eq_true rfl) dX4_takeAway_89 (fun H locs cells slots hS => ?_)
      refine g_istore_n (l1 := [(2, .inl z89.1), (0, .inr (.inr (some t)))]) hx hb hl (by decide) rfl dX4_takeAway_92 (fun ls hl => ?_)
      refine lv_iconst (v := 0) hx hb dX4_takeAway_93 (by decide) ?_
      refine g_istore_n (l1 := [(3, .inl 0), (2, .inl z89.1), (0, .inr (.inr (some t)))]) hx hb hl (by decide) rfl dX4_takeAway_94 (fun ls hl => ?_)
      exact sX4_takeAway_b95 C gFU _ _ _ _ _ h _ _ _ _ _ hS (gls_sub hl [2, 1, 0] rfl)
    · have h := g_iff c_9 h
      refine g_iload_n hx hb hl 1 rfl dX4_takeAway_12 ?_
      obtain ⟨z13, h13, h⟩ := g_bnd h
      refine g_callS (n := 1) (av := [.inl v2]) (rs := []) hx hb hml hown hts hKn hRc hRs hS hl (sX4_wordAt l E D h13) (lw_S q2292 q2293 q135 q2294) ⟨by decide, by decide, by decide +kernel⟩ ⟨by rw [hRf]; exact Nat.le_of_ble_eq_true rfl, by rw [hRl]; exact Nat.le_of_ble_eq_true rfl⟩ rfl rfl (Nat.le_of_ble_eq_true rfl) dX4_takeAway_13 (fun H locs cells slots hS => ?_)
      refine g_istore_n (l1 := [(3, .inl z13.1), (0, .inr (.inr (some t))), (2, .inl v2)]) hx hb hl (by decide) rfl dX4_takeAway_16 (fun ls hl => ?_)
      refine lv_iconst (v := 0) hx hb dX4_takeAway_17 (by decide) ?_
      refine g_istore (l1 := [(4, .inl 0), (3, .inl z13.1), (0, .inr (.inr (some t))), (2, .inl v2)]) hx hb hl (by decide) rfl dX4_takeAway_18 (fun ls hl => ?_)
      exact sX4_takeAway_b20 C ih gFU _ _ _ _ _ _ h _ _ _ _ _ hS (gls_sub hl [2, 3, 1, 0] rfl)
theorem sX4_takeAway (l : Launch) (E : g_E) (D : g_D) {t : Nat} {v1 : Int32} {G : g_G} {q : g_G} (h : fX4_takeAway E t v1 G = some q) : gMet l E D yX4_takeAway (ws_ yX4_takeAway cX4_takeAway 5 (none)) 2 84 [.inr (.inr (some t)), .inl v1] G none q := by
  refine gMet.of (by decide +kernel) (Nat.le_of_ble_eq_true rfl) ?_
  intro p e R s m args below meth c C hS ls hl
  have C : gC p R s m args meth c cX4_takeAway 5 RX4 "takeAway" (none) 2 84 E D := C
  obtain ⟨hx, hb, hml, hown, hts, hKn, hRc, hRs, hc1, hc2, hRf, hRl, hr, hlk, hnm⟩ := id C
  have hl : gls ls 5 [(0, .inr (.inr (some t))), (1, .inl v1)] := hl
  generalize s.heap = H at hS ⊢
  unfold fX4_takeAway at h
  refine g_iload_n hx hb hl 1 rfl dX4_takeAway_0 ?_
  refine g_istore_n (l1 := [(2, .inl v1), (0, .inr (.inr (some t))), (1, .inl v1)]) hx hb hl (by decide) rfl dX4_takeAway_1 (fun ls hl => ?_)
  exact sX4_takeAway_b2 C gFU _ _ _ _ h _ _ _ _ _ hS (gls_sub hl [1, 0] rfl)
