set_option maxRecDepth 100000
/-- SendHallModel.run(IJ)I -/
def fX4_run_b213 (E : g_E) (k55 : Nat → Int32 → Int64 → Int32 → Int32 → g_G → Option (Int32 × g_G)) (t : Nat) (v1 : Int32) (v2 : Int64) (v4 : Int32) (v5 : Int32) (G : g_G) : Option (Int32 × g_G) :=
  k55 t v1 v2 v4 v5 G
def fX4_run_b207 (E : g_E) (k55 : Nat → Int32 → Int64 → Int32 → Int32 → g_G → Option (Int32 × g_G)) (k90 : Nat → Int32 → Int64 → Int32 → Int32 → Int32 → g_G → Option (Int32 × g_G)) (t : Nat) (v1 : Int32) (v2 : Int64) (v4 : Int32) (v5 : Int32) (v6 : Int32) (G : g_G) : Option (Int32 × g_G) :=
  k90 t v1 v2 v4 v5 (v6 + 1) G
def fX4_run_b201 (E : g_E) (k55 : Nat → Int32 → Int64 → Int32 → Int32 → g_G → Option (Int32 × g_G)) (k90 : Nat → Int32 → Int64 → Int32 → Int32 → Int32 → g_G → Option (Int32 × g_G)) (k116 : Nat → Int32 → Int64 → Int32 → Int32 → Int32 → Int32 → Int32 → g_G → Option (Int32 × g_G)) (t : Nat) (v1 : Int32) (v2 : Int64) (v4 : Int32) (v5 : Int32) (v6 : Int32) (v7 : Int32) (v8 : Int32) (G : g_G) : Option (Int32 × g_G) :=
  k116 t v1 v2 v4 v5 v6 v7 (v8 + 1) G
def fX4_run_b131 (E : g_E) (k55 : Nat → Int32 → Int64 → Int32 → Int32 → g_G → Option (Int32 × g_G)) (k90 : Nat → Int32 → Int64 → Int32 → Int32 → Int32 → g_G → Option (Int32 × g_G)) (k116 : Nat → Int32 → Int64 → Int32 → Int32 → Int32 → Int32 → Int32 → g_G → Option (Int32 × g_G)) (t : Nat) (v1 : Int32) (v2 : Int64) (v4 : Int32) (v5 : Int32) (v6 : Int32) (v7 : Int32) (v8 : Int32) (s0 : Int32) (s1 : Int32) (G : g_G) : Option (Int32 × g_G) :=
  if s1 ≤ s0 then (
    fX4_run_b207 E k55 k90 t v1 v2 v4 v5 v6 G)
  else (
    if ¬ v5 = 0 then (
      fX4_run_b207 E k55 k90 t v1 v2 v4 v5 v6 G)
    else (
      (gchk G 4 (some t)).bind fun b144 =>
      (fX4_can E b144 v6 v8 G).bind fun z144 =>
      if ¬ z144.1 = 0 then (
        (gchk z144.2 4 (some t)).bind fun b161 =>
        (fX4_move E b161 v6 v8 z144.2).bind fun z161 =>
        (grI z161 4 4 (some t) 40).bind fun x165 =>
        if ¬ x165 = (-1 : Int32) then (
          (grR z161 4 4 (some t) 62).bind fun x176 =>
          (grI z161 4 4 (some t) 59).bind fun x180 =>
          (grI z161 4 4 (some t) 41).bind fun x184 =>
          (gsaI E z161 x176 x180 x184).bind fun G187 =>
          (grI G187 4 4 (some t) 59).bind fun x190 =>
          (gpI E G187 4 4 (some t) 59 (x190 + 1)).bind fun G195 =>
          fX4_run_b201 E k55 k90 k116 t v1 v2 (v4 + 1) 1 v6 v7 v8 G195)
        else (
          fX4_run_b201 E k55 k90 k116 t v1 v2 v4 1 v6 v7 v8 z161))
      else (
        fX4_run_b201 E k55 k90 k116 t v1 v2 v4 v5 v6 v7 v8 z144.2)))
def fX4_run_b116 (E : g_E) (k55 : Nat → Int32 → Int64 → Int32 → Int32 → g_G → Option (Int32 × g_G)) (k90 : Nat → Int32 → Int64 → Int32 → Int32 → Int32 → g_G → Option (Int32 × g_G)) : Nat → Nat → Int32 → Int64 → Int32 → Int32 → Int32 → Int32 → Int32 → g_G → Option (Int32 × g_G)
  | 0, _, _, _, _, _, _, _, _, _ => none
  | n + 1, t, v1, v2, v4, v5, v6, v7, v8, G =>
    if v7 = 0 then (
      fX4_run_b131 E k55 k90 (fX4_run_b116 E k55 k90 n) t v1 v2 v4 v5 v6 v7 v8 v8 1 G)
    else (
      (grI G 4 4 (some t) 3).bind fun x124 =>
      fX4_run_b131 E k55 k90 (fX4_run_b116 E k55 k90 n) t v1 v2 v4 v5 v6 v7 v8 v8 x124 G)
def fX4_run_b90 (E : g_E) (k55 : Nat → Int32 → Int64 → Int32 → Int32 → g_G → Option (Int32 × g_G)) : Nat → Nat → Int32 → Int64 → Int32 → Int32 → Int32 → g_G → Option (Int32 × g_G)
  | 0, _, _, _, _, _, _, _ => none
  | n + 1, t, v1, v2, v4, v5, v6, G =>
    (grI G 4 4 (some t) 3).bind fun x93 =>
    if x93 ≤ v6 then (
      fX4_run_b213 E k55 t v1 v2 v4 v5 G)
    else (
      if ¬ v5 = 0 then (
        fX4_run_b213 E k55 t v1 v2 v4 v5 G)
      else (
        (gchk G 4 (some t)).bind fun b108 =>
        (fX4_isAt E b108 v6 4 G).bind fun z108 =>
        fX4_run_b116 E k55 (fX4_run_b90 E k55 n) gFU t v1 v2 v4 v5 v6 z108.1 0 z108.2))
def fX4_run_b81 (E : g_E) (k55 : Nat → Int32 → Int64 → Int32 → Int32 → g_G → Option (Int32 × g_G)) (t : Nat) (v1 : Int32) (v2 : Int64) (v4 : Int32) (s0 : Option Nat) (s1 : Int32) (G : g_G) : Option (Int32 × g_G) :=
  (gpI E G 4 4 s0 35 s1).bind fun G81 =>
  fX4_run_b90 E k55 gFU t v1 v2 v4 0 0 G81
def fX4_run_b55 (E : g_E) : Nat → Nat → Int32 → Int64 → Int32 → Int32 → g_G → Option (Int32 × g_G)
  | 0, _, _, _, _, _, _ => none
  | n + 1, t, v1, v2, v4, v5, G =>
    if v5 = 0 then (
      (gpI E G 4 4 (some t) 35 (-1)).bind fun G218 =>
      (gchk G218 4 (some t)).bind fun b222 =>
      (fX4_kindNow E b222 G218).bind fun z222 =>
      some (z222.1, z222.2))
    else (
      if v1 ≤ v4 then (
        fX4_run_b81 E (fX4_run_b55 E n) t v1 v2 v4 (some t) (-1) G)
      else (
        fX4_run_b81 E (fX4_run_b55 E n) t v1 v2 v4 (some t) ((Int64.toInt32 (v2 >>> (Int32.toInt64 (4 * v4) &&& 63))) &&& 15) G))
def fX4_run_b3 (E : g_E) : Nat → Nat → Int32 → Int64 → Int32 → g_G → Option (Int32 × g_G)
  | 0, _, _, _, _, _ => none
  | n + 1, t, v1, v2, v4, G =>
    if (8 : Int32) ≤ v4 then (
      (gchk G 4 (some t)).bind fun b41 =>
      (fX4_begin E b41 G).bind fun z41 =>
      (gpI E z41 4 4 (some t) 59 0).bind fun G49 =>
      fX4_run_b55 E gFU t v1 v2 0 1 G49)
    else (
      (grR G 4 4 (some t) 36).bind fun x11 =>
      (gsaI E G x11 v4 0).bind fun G17 =>
      (grR G17 4 4 (some t) 37).bind fun x19 =>
      (gsaI E G17 x19 v4 0).bind fun G25 =>
      (grR G25 4 4 (some t) 38).bind fun x27 =>
      (gsaI E G25 x27 v4 0).bind fun G33 =>
      fX4_run_b3 E n t v1 v2 (v4 + 1) G33)
def fX4_run (E : g_E) (t : Nat) (v1 : Int32) (v2 : Int64) (G : g_G) : Option (Int32 × g_G) :=
  fX4_run_b3 E gFU t v1 v2 0 G
theorem sX4_run_b213 {p : Program} {l : Launch} {e : Env} {R : Room} {s : State} {m : MethodId} {args : Array Value} {below : List Frame} {meth : Method} {c : Code} {E : g_E} {D : g_D} (C : gC p R s m args meth c cX4_run 9 RX4 "run" (some .int) 10 282 E D) {k55 : Nat → Int32 → Int64 → Int32 → Int32 → g_G → Option (Int32 × g_G)} (hk55 : ∀ (t : Nat) (v1 : Int32) (v2 : Int64) (v4 : Int32) (v5 : Int32) (G : g_G) (q : Int32 × g_G), k55 t v1 v2 v4 v5 G = some q → ∀ (H : Heap) (locs : List Loc) (cells slots : Nat) (ls : Array Slot), gSt E D G H locs → gls ls 9 [(0, .inr (.inr (some t))), (1, .inl v1), (2, .inr (.inl v2)), (4, .inl v4), (5, .inl v5)] → gT p l e R s m args below meth c E D H locs cells slots (some (.int q.1)) q.2 (F0 m 55 ls [])) : ∀ (t : Nat) (v1 : Int32) (v2 : Int64) (v4 : Int32) (v5 : Int32) (G : g_G) (q : Int32 × g_G), fX4_run_b213 E k55 t v1 v2 v4 v5 G = some q → ∀ (H : Heap) (locs : List Loc) (cells slots : Nat) (ls : Array Slot), gSt E D G H locs → gls ls 9 [(0, .inr (.inr (some t))), (1, .inl v1), (2, .inr (.inl v2)), (4, .inl v4), (5, .inl v5)] → gT p l e R s m args below meth c E D H locs cells slots (some (.int q.1)) q.2 (F0 m 213 ls []) := by
  obtain ⟨hx, hb, hml, hown, hts, hKn, hRc, hRs, hc1, hc2, hRf, hRl, hr, hlk, hnm⟩ := id C
  intro t v1 v2 v4 v5 G q h H locs cells slots ls hS hl
  unfold fX4_run_b213 at h
  refine lv_goto (tgt := 55) hx hb dX4_run_213 (by decide) ?_
  exact hk55 _ _ _ _ _ _ _ h _ _ _ _ _ hS (gls_sub hl [0, 1, 2, 3, 4] rfl)
theorem sX4_run_b207 {p : Program} {l : Launch} {e : Env} {R : Room} {s : State} {m : MethodId} {args : Array Value} {below : List Frame} {meth : Method} {c : Code} {E : g_E} {D : g_D} (C : gC p R s m args meth c cX4_run 9 RX4 "run" (some .int) 10 282 E D) {k55 : Nat → Int32 → Int64 → Int32 → Int32 → g_G → Option (Int32 × g_G)} (hk55 : ∀ (t : Nat) (v1 : Int32) (v2 : Int64) (v4 : Int32) (v5 : Int32) (G : g_G) (q : Int32 × g_G), k55 t v1 v2 v4 v5 G = some q → ∀ (H : Heap) (locs : List Loc) (cells slots : Nat) (ls : Array Slot), gSt E D G H locs → gls ls 9 [(0, .inr (.inr (some t))), (1, .inl v1), (2, .inr (.inl v2)), (4, .inl v4), (5, .inl v5)] → gT p l e R s m args below meth c E D H locs cells slots (some (.int q.1)) q.2 (F0 m 55 ls [])) {k90 : Nat → Int32 → Int64 → Int32 → Int32 → Int32 → g_G → Option (Int32 × g_G)} (hk90 : ∀ (t : Nat) (v1 : Int32) (v2 : Int64) (v4 : Int32) (v5 : Int32) (v6 : Int32) (G : g_G) (q : Int32 × g_G), k90 t v1 v2 v4 v5 v6 G = some q → ∀ (H : Heap) (locs : List Loc) (cells slots : Nat) (ls : Array Slot), gSt E D G H locs → gls ls 9 [(0, .inr (.inr (some t))), (1, .inl v1), (2, .inr (.inl v2)), (4, .inl v4), (5, .inl v5), (6, .inl v6)] → gT p l e R s m args below meth c E D H locs cells slots (some (.int q.1)) q.2 (F0 m 90 ls [])) : ∀ (t : Nat) (v1 : Int32) (v2 : Int64) (v4 : Int32) (v5 : Int32) (v6 : Int32) (G : g_G) (q : Int32 × g_G), fX4_run_b207 E k55 k90 t v1 v2 v4 v5 v6 G = some q → ∀ (H : Heap) (locs : List Loc) (cells slots : Nat) (ls : Array Slot), gSt E D G H locs → gls ls 9 [(0, .inr (.inr (some t))), (1, .inl v1), (2, .inr (.inl v2)), (4, .inl v4), (5, .inl v5), (6, .inl v6)] → gT p l e R s m args below meth c E D H locs cells slots (some (.int q.1)) q.2 (F0 m 207 ls []) := by
  obtain ⟨hx, hb, hml, hown, hts, hKn, hRc, hRs, hc1, hc2, hRf, hRl, hr, hlk, hnm⟩ := id C
  intro t v1 v2 v4 v5 v6 G q h H locs cells slots ls hS hl
  unfold fX4_run_b207 at h
  refine g_iinc (l1 := [(6, .inl (v6 + 1)), (0, .inr (.inr (some t))), (1, .inl v1), (2, .inr (.inl v2)), (4, .inl v4), (5, .inl v5)]) (v := (v6 + 1)) hx hb hl (k := 5) rfl (by rfl) (by decide) rfl dX4_run_207 (fun ls hl => ?_)
  refine lv_goto (tgt := 90) hx hb dX4_run_210 (by decide) ?_
  exact hk90 _ _ _ _ _ _ _ _ h _ _ _ _ _ hS (gls_sub hl [1, 2, 3, 4, 5, 0] rfl)
theorem sX4_run_b201 {p : Program} {l : Launch} {e : Env} {R : Room} {s : State} {m : MethodId} {args : Array Value} {below : List Frame} {meth : Method} {c : Code} {E : g_E} {D : g_D} (C : gC p R s m args meth c cX4_run 9 RX4 "run" (some .int) 10 282 E D) {k55 : Nat → Int32 → Int64 → Int32 → Int32 → g_G → Option (Int32 × g_G)} (hk55 : ∀ (t : Nat) (v1 : Int32) (v2 : Int64) (v4 : Int32) (v5 : Int32) (G : g_G) (q : Int32 × g_G), k55 t v1 v2 v4 v5 G = some q → ∀ (H : Heap) (locs : List Loc) (cells slots : Nat) (ls : Array Slot), gSt E D G H locs → gls ls 9 [(0, .inr (.inr (some t))), (1, .inl v1), (2, .inr (.inl v2)), (4, .inl v4), (5, .inl v5)] → gT p l e R s m args below meth c E D H locs cells slots (some (.int q.1)) q.2 (F0 m 55 ls [])) {k90 : Nat → Int32 → Int64 → Int32 → Int32 → Int32 → g_G → Option (Int32 × g_G)} (hk90 : ∀ (t : Nat) (v1 : Int32) (v2 : Int64) (v4 : Int32) (v5 : Int32) (v6 : Int32) (G : g_G) (q : Int32 × g_G), k90 t v1 v2 v4 v5 v6 G = some q → ∀ (H : Heap) (locs : List Loc) (cells slots : Nat) (ls : Array Slot), gSt E D G H locs → gls ls 9 [(0, .inr (.inr (some t))), (1, .inl v1), (2, .inr (.inl v2)), (4, .inl v4), (5, .inl v5), (6, .inl v6)] → gT p l e R s m args below meth c E D H locs cells slots (some (.int q.1)) q.2 (F0 m 90 ls [])) {k116 : Nat → Int32 → Int64 → Int32 → Int32 → Int32 → Int32 → Int32 → g_G → Option (Int32 × g_G)} (hk116 : ∀ (t : Nat) (v1 : Int32) (v2 : Int64) (v4 : Int32) (v5 : Int32) (v6 : Int32) (v7 : Int32) (v8 : Int32) (G : g_G) (q : Int32 × g_G), k116 t v1 v2 v4 v5 v6 v7 v8 G = some q → ∀ (H : Heap) (locs : List Loc) (cells slots : Nat) (ls : Array Slot), gSt E D G H locs → gls ls 9 [(0, .inr (.inr (some t))), (1, .inl v1), (2, .inr (.inl v2)), (4, .inl v4), (5, .inl v5), (6, .inl v6), (7, .inl v7), (8, .inl v8)] → gT p l e R s m args below meth c E D H locs cells slots (some (.int q.1)) q.2 (F0 m 116 ls [])) : ∀ (t : Nat) (v1 : Int32) (v2 : Int64) (v4 : Int32) (v5 : Int32) (v6 : Int32) (v7 : Int32) (v8 : Int32) (G : g_G) (q : Int32 × g_G), fX4_run_b201 E k55 k90 k116 t v1 v2 v4 v5 v6 v7 v8 G = some q → ∀ (H : Heap) (locs : List Loc) (cells slots : Nat) (ls : Array Slot), gSt E D G H locs → gls ls 9 [(0, .inr (.inr (some t))), (1, .inl v1), (2, .inr (.inl v2)), (4, .inl v4), (5, .inl v5), (6, .inl v6), (7, .inl v7), (8, .inl v8)] → gT p l e R s m args below meth c E D H locs cells slots (some (.int q.1)) q.2 (F0 m 201 ls []) := by
  obtain ⟨hx, hb, hml, hown, hts, hKn, hRc, hRs, hc1, hc2, hRf, hRl, hr, hlk, hnm⟩ := id C
  intro t v1 v2 v4 v5 v6 v7 v8 G q h H locs cells slots ls hS hl
  unfold fX4_run_b201 at h
  refine g_iinc (l1 := [(8, .inl (v8 + 1)), (0, .inr (.inr (some t))), (1, .inl v1), (2, .inr (.inl v2)), (4, .inl v4), (5, .inl v5), (6, .inl v6), (7, .inl v7)]) (v := (v8 + 1)) hx hb hl (k := 7) rfl (by rfl) (by decide) rfl dX4_run_201 (fun ls hl => ?_)
  refine lv_goto (tgt := 116) hx hb dX4_run_204 (by decide) ?_
  exact hk116 _ _ _ _ _ _ _ _ _ _ h _ _ _ _ _ hS (gls_sub hl [1, 2, 3, 4, 5, 6, 7, 0] rfl)
theorem sX4_run_b131 {p : Program} {l : Launch} {e : Env} {R : Room} {s : State} {m : MethodId} {args : Array Value} {below : List Frame} {meth : Method} {c : Code} {E : g_E} {D : g_D} (C : gC p R s m args meth c cX4_run 9 RX4 "run" (some .int) 10 282 E D) {k55 : Nat → Int32 → Int64 → Int32 → Int32 → g_G → Option (Int32 × g_G)} (hk55 : ∀ (t : Nat) (v1 : Int32) (v2 : Int64) (v4 : Int32) (v5 : Int32) (G : g_G) (q : Int32 × g_G), k55 t v1 v2 v4 v5 G = some q → ∀ (H : Heap) (locs : List Loc) (cells slots : Nat) (ls : Array Slot), gSt E D G H locs → gls ls 9 [(0, .inr (.inr (some t))), (1, .inl v1), (2, .inr (.inl v2)), (4, .inl v4), (5, .inl v5)] → gT p l e R s m args below meth c E D H locs cells slots (some (.int q.1)) q.2 (F0 m 55 ls [])) {k90 : Nat → Int32 → Int64 → Int32 → Int32 → Int32 → g_G → Option (Int32 × g_G)} (hk90 : ∀ (t : Nat) (v1 : Int32) (v2 : Int64) (v4 : Int32) (v5 : Int32) (v6 : Int32) (G : g_G) (q : Int32 × g_G), k90 t v1 v2 v4 v5 v6 G = some q → ∀ (H : Heap) (locs : List Loc) (cells slots : Nat) (ls : Array Slot), gSt E D G H locs → gls ls 9 [(0, .inr (.inr (some t))), (1, .inl v1), (2, .inr (.inl v2)), (4, .inl v4), (5, .inl v5), (6, .inl v6)] → gT p l e R s m args below meth c E D H locs cells slots (some (.int q.1)) q.2 (F0 m 90 ls [])) {k116 : Nat → Int32 → Int64 → Int32 → Int32 → Int32 → Int32 → Int32 → g_G → Option (Int32 × g_G)} (hk116 : ∀ (t : Nat) (v1 : Int32) (v2 : Int64) (v4 : Int32) (v5 : Int32) (v6 : Int32) (v7 : Int32) (v8 : Int32) (G : g_G) (q : Int32 × g_G), k116 t v1 v2 v4 v5 v6 v7 v8 G = some q → ∀ (H : Heap) (locs : List Loc) (cells slots : Nat) (ls : Array Slot), gSt E D G H locs → gls ls 9 [(0, .inr (.inr (some t))), (1, .inl v1), (2, .inr (.inl v2)), (4, .inl v4), (5, .inl v5), (6, .inl v6), (7, .inl v7), (8, .inl v8)] → gT p l e R s m args below meth c E D H locs cells slots (some (.int q.1)) q.2 (F0 m 116 ls [])) : ∀ (t : Nat) (v1 : Int32) (v2 : Int64) (v4 : Int32) (v5 : Int32) (v6 : Int32) (v7 : Int32) (v8 : Int32) (s0 : Int32) (s1 : Int32) (G : g_G) (q : Int32 × g_G), fX4_run_b131 E k55 k90 k116 t v1 v2 v4 v5 v6 v7 v8 s0 s1 G = some q → ∀ (H : Heap) (locs : List Loc) (cells slots : Nat) (ls : Array Slot), gSt E D G H locs → gls ls 9 [(0, .inr (.inr (some t))), (1, .inl v1), (2, .inr (.inl v2)), (4, .inl v4), (5, .inl v5), (6, .inl v6), (7, .inl v7), (8, .inl v8)] → gT p l e R s m args below meth c E D H locs cells slots (some (.int q.1)) q.2 (F0 m 131 ls [.int s1, .int s0]) := by
  obtain ⟨hx, hb, hml, hown, hts, hKn, hRc, hRs, hc1, hc2, hRf, hRl, hr, hlk, hnm⟩ := id C
  intro t v1 v2 v4 v5 v6 v7 v8 s0 s1 G q h H locs cells slots ls hS hl
  unfold fX4_run_b131 at h
  refine lv_icmp_ge (tgt := 207) hx hb dX4_run_131 (by decide) (fun c_131 => ?_) (fun c_131 => ?_)
  · have h := g_ift c_131 h
    exact sX4_run_b207 C hk55 hk90 _ _ _ _ _ _ _ _ h _ _ _ _ _ hS (gls_sub hl [0, 1, 2, 3, 4, 5] rfl)
  · have h := g_iff c_131 h
    refine g_iload hx hb hl 4 rfl dX4_run_134 ?_
    refine lv_if_ne (tgt := 207) hx hb dX4_run_136 (by decide) (fun c_136 => ?_) (fun c_136 => ?_)
    · have h := g_ift c_136 h
      exact sX4_run_b207 C hk55 hk90 _ _ _ _ _ _ _ _ h _ _ _ _ _ hS (gls_sub hl [0, 1, 2, 3, 4, 5] rfl)
    · have h := g_iff (fun z => z c_136) h
      refine g_aload_n hx hb hl 0 rfl dX4_run_139 ?_
      refine g_iload hx hb hl 5 rfl dX4_run_140 ?_
      refine g_iload hx hb hl 7 rfl dX4_run_142 ?_
      obtain ⟨b144, hb144, h⟩ := g_bnd h
      obtain ⟨hr144, hk144⟩ := g_chk hb144
      obtain ⟨z144, h144, h⟩ := g_bnd h
      refine g_callV (n := 2) (b := b144) (av := [.inl v6, .inl v8]) (rs := []) hx hb hml hown hts hKn hRc hRs hS hl (sX4_can l E D h144) (lw_V q2284 q2286 qs86 q135 q2287) ⟨rfl, by decide, by decide, by decide +kernel⟩ ⟨by rw [hRf]; exact Nat.le_of_ble_eq_true rfl, by rw [hRl]; exact Nat.le_of_ble_eq_true rfl⟩ (g_recv hKn hS hk144 (by decide) (by decide)) rfl (by rw [hr144]; rfl) (Nat.le_of_ble_eq_true rfl) dX4_run_144 (fun H locs cells slots hS => ?_)
      refine lv_if_ne (tgt := 153) hx hb dX4_run_147 (by decide) (fun c_147 => ?_) (fun c_147 => ?_)
      · have h := g_ift c_147 h
        refine lv_iconst (v := 1) hx hb dX4_run_153 (by decide) ?_
        refine g_istore (l1 := [(5, .inl 1), (0, .inr (.inr (some t))), (1, .inl v1), (2, .inr (.inl v2)), (4, .inl v4), (6, .inl v6), (7, .inl v7), (8, .inl v8)]) hx hb hl (by decide) rfl dX4_run_154 (fun ls hl => ?_)
        refine g_aload_n hx hb hl 1 rfl dX4_run_156 ?_
        refine g_iload hx hb hl 5 rfl dX4_run_157 ?_
        refine g_iload hx hb hl 7 rfl dX4_run_159 ?_
        obtain ⟨b161, hb161, h⟩ := g_bnd h
        obtain ⟨hr161, hk161⟩ := g_chk hb161
        obtain ⟨z161, h161, h⟩ := g_bnd h
        refine g_callV (n := 2) (b := b161) (av := [.inl v6, .inl v8]) (rs := []) hx hb hml hown hts hKn hRc hRs hS hl (sX4_move l E D h161) (lw_V q2311 q2313 qs92 q135 q2314) ⟨rfl, by decide, by decide, by decide +kernel⟩ ⟨by rw [hRf]; exact Nat.le_of_ble_eq_true rfl, by rw [hRl]; exact Nat.le_of_ble_eq_true rfl⟩ (g_recv hKn hS hk161 (by decide) (by decide)) rfl (by rw [hr161]; rfl) (Nat.le_of_ble_eq_true rfl) dX4_run_161 (fun H locs cells slots hS => ?_)
        refine g_aload_n hx hb hl 1 rfl dX4_run_164 ?_
        refine g_rdI hx hb hown hts hKn hS h fd_4_4_40 rfl (Or.inl (hts _ q1905)) (fun _ z => z) dX4_run_165 (fun x165 h => ?_)
        refine lv_iconst (v := (-1)) hx hb dX4_run_168 (by decide) ?_
        refine lv_icmp_ne (tgt := 175) hx hb dX4_run_169 (by decide) (fun c_169 => ?_) (fun c_169 => ?_)
        · have h := g_ift c_169 h
          refine g_aload_n hx hb hl 1 rfl dX4_run_175 ?_
          refine g_rdR hx hb hown hts hKn hS h fd_4_4_62 rfl (Or.inl (hts _ q1927)) (fun _ z => z) dX4_run_176 (fun x176 h => ?_)
          refine g_aload_n hx hb hl 1 rfl dX4_run_179 ?_
          refine g_rdI hx hb hown hts hKn hS h fd_4_4_59 rfl (Or.inl (hts _ q1924)) (fun _ z => z) dX4_run_180 (fun x180 h => ?_)
          refine g_aload_n hx hb hl 1 rfl dX4_run_183 ?_
          refine g_rdI hx hb hown hts hKn hS h fd_4_4_41 rfl (Or.inl (hts _ q1906)) (fun _ z => z) dX4_run_184 (fun x184 h => ?_)
          refine g_iastoreG hx hb hKn hS h dX4_run_187 (fun G187 h H locs hS => ?_)
          refine g_aload_n hx hb hl 1 rfl dX4_run_188 ?_
          refine lv_dup hx hb dX4_run_189 (by first | exact va_rf_cat _ | rfl | exact g_catA _) ?_
          refine g_rdI hx hb hown hts hKn hS h fd_4_4_59 rfl (Or.inl (hts _ q1924)) (fun _ z => z) dX4_run_190 (fun x190 h => ?_)
          refine lv_iconst (v := 1) hx hb dX4_run_193 (by decide) ?_
          refine lv_iadd hx hb dX4_run_194 ?_
          refine g_ptI hx hb hown hts hKn hS h fd_4_4_59 (Or.inl (hts _ q1924)) (fun _ z => z) (fun z => nomatch z) dX4_run_195 (fun G195 h H locs hS => ?_)
          refine g_iinc (l1 := [(4, .inl (v4 + 1)), (5, .inl 1), (0, .inr (.inr (some t))), (1, .inl v1), (2, .inr (.inl v2)), (6, .inl v6), (7, .inl v7), (8, .inl v8)]) (v := (v4 + 1)) hx hb hl (k := 4) rfl (by rfl) (by decide) rfl dX4_run_198 (fun ls hl => ?_)
          exact sX4_run_b201 C hk55 hk90 hk116 _ _ _ _ _ _ _ _ _ _ h _ _ _ _ _ hS (gls_sub hl [2, 3, 4, 0, 1, 5, 6, 7] rfl)
        · have h := g_iff (fun z => z c_169) h
          refine lv_goto (tgt := 201) hx hb dX4_run_172 (by decide) ?_
          exact sX4_run_b201 C hk55 hk90 hk116 _ _ _ _ _ _ _ _ _ _ h _ _ _ _ _ hS (gls_sub hl [1, 2, 3, 4, 0, 5, 6, 7] rfl)
      · have h := g_iff (fun z => z c_147) h
        refine lv_goto (tgt := 201) hx hb dX4_run_150 (by decide) ?_
        exact sX4_run_b201 C hk55 hk90 hk116 _ _ _ _ _ _ _ _ _ _ h _ _ _ _ _ hS (gls_sub hl [0, 1, 2, 3, 4, 5, 6, 7] rfl)
theorem sX4_run_b116 {p : Program} {l : Launch} {e : Env} {R : Room} {s : State} {m : MethodId} {args : Array Value} {below : List Frame} {meth : Method} {c : Code} {E : g_E} {D : g_D} (C : gC p R s m args meth c cX4_run 9 RX4 "run" (some .int) 10 282 E D) {k55 : Nat → Int32 → Int64 → Int32 → Int32 → g_G → Option (Int32 × g_G)} (hk55 : ∀ (t : Nat) (v1 : Int32) (v2 : Int64) (v4 : Int32) (v5 : Int32) (G : g_G) (q : Int32 × g_G), k55 t v1 v2 v4 v5 G = some q → ∀ (H : Heap) (locs : List Loc) (cells slots : Nat) (ls : Array Slot), gSt E D G H locs → gls ls 9 [(0, .inr (.inr (some t))), (1, .inl v1), (2, .inr (.inl v2)), (4, .inl v4), (5, .inl v5)] → gT p l e R s m args below meth c E D H locs cells slots (some (.int q.1)) q.2 (F0 m 55 ls [])) {k90 : Nat → Int32 → Int64 → Int32 → Int32 → Int32 → g_G → Option (Int32 × g_G)} (hk90 : ∀ (t : Nat) (v1 : Int32) (v2 : Int64) (v4 : Int32) (v5 : Int32) (v6 : Int32) (G : g_G) (q : Int32 × g_G), k90 t v1 v2 v4 v5 v6 G = some q → ∀ (H : Heap) (locs : List Loc) (cells slots : Nat) (ls : Array Slot), gSt E D G H locs → gls ls 9 [(0, .inr (.inr (some t))), (1, .inl v1), (2, .inr (.inl v2)), (4, .inl v4), (5, .inl v5), (6, .inl v6)] → gT p l e R s m args below meth c E D H locs cells slots (some (.int q.1)) q.2 (F0 m 90 ls [])) : ∀ (n : Nat) (t : Nat) (v1 : Int32) (v2 : Int64) (v4 : Int32) (v5 : Int32) (v6 : Int32) (v7 : Int32) (v8 : Int32) (G : g_G) (q : Int32 × g_G), fX4_run_b116 E k55 k90 n t v1 v2 v4 v5 v6 v7 v8 G = some q → ∀ (H : Heap) (locs : List Loc) (cells slots : Nat) (ls : Array Slot), gSt E D G H locs → gls ls 9 [(0, .inr (.inr (some t))), (1, .inl v1), (2, .inr (.inl v2)), (4, .inl v4), (5, .inl v5), (6, .inl v6), (7, .inl v7), (8, .inl v8)] → gT p l e R s m args below meth c E D H locs cells slots (some (.int q.1)) q.2 (F0 m 116 ls []) := by
  obtain ⟨hx, hb, hml, hown, hts, hKn, hRc, hRs, hc1, hc2, hRf, hRl, hr, hlk, hnm⟩ := id C
  intro n
  induction n with
  | zero =>
    intro t v1 v2 v4 v5 v6 v7 v8 G q h
    exact g_no h
  | succ n ih =>
    intro t v1 v2 v4 v5 v6 v7 v8 G q h H locs cells slots ls hS hl
    rw [fX4_run_b116] at h
    refine g_iload hx hb hl 7 rfl dX4_run_116 ?_
    refine g_iload hx hb hl 6 rfl dX4_run_118 ?_
    refine lv_if_eq (tgt := 130) hx hb dX4_run_120 (by decide) (fun c_120 => ?_) (fun c_120 => ?_)
    · have h := g_ift c_120 h
      refine lv_iconst (v := 1) hx hb dX4_run_130 (by decide) ?_
      exact sX4_run_b131 C hk55 hk90 ih _ _ _ _ _ _ _ _ _ _ _ _ h _ _ _ _ _ hS (gls_sub hl [0, 1, 2, 3, 4, 5, 6, 7] rfl)
    · have h := g_iff c_120 h
      refine g_aload_n hx hb hl 0 rfl dX4_run_123 ?_
      refine g_rdI hx hb hown hts hKn hS h fd_4_4_3 rfl (Or.inl (hts _ q1868)) (fun _ z => z) dX4_run_124 (fun x124 h => ?_)
      refine lv_goto (tgt := 131) hx hb dX4_run_127 (by decide) ?_
      exact sX4_run_b131 C hk55 hk90 ih _ _ _ _ _ _ _ _ _ _ _ _ h _ _ _ _ _ hS (gls_sub hl [0, 1, 2, 3, 4, 5, 6, 7] rfl)
theorem sX4_run_b90 {p : Program} {l : Launch} {e : Env} {R : Room} {s : State} {m : MethodId} {args : Array Value} {below : List Frame} {meth : Method} {c : Code} {E : g_E} {D : g_D} (C : gC p R s m args meth c cX4_run 9 RX4 "run" (some .int) 10 282 E D) {k55 : Nat → Int32 → Int64 → Int32 → Int32 → g_G → Option (Int32 × g_G)} (hk55 : ∀ (t : Nat) (v1 : Int32) (v2 : Int64) (v4 : Int32) (v5 : Int32) (G : g_G) (q : Int32 × g_G), k55 t v1 v2 v4 v5 G = some q → ∀ (H : Heap) (locs : List Loc) (cells slots : Nat) (ls : Array Slot), gSt E D G H locs → gls ls 9 [(0, .inr (.inr (some t))), (1, .inl v1), (2, .inr (.inl v2)), (4, .inl v4), (5, .inl v5)] → gT p l e R s m args below meth c E D H locs cells slots (some (.int q.1)) q.2 (F0 m 55 ls [])) : ∀ (n : Nat) (t : Nat) (v1 : Int32) (v2 : Int64) (v4 : Int32) (v5 : Int32) (v6 : Int32) (G : g_G) (q : Int32 × g_G), fX4_run_b90 E k55 n t v1 v2 v4 v5 v6 G = some q → ∀ (H : Heap) (locs : List Loc) (cells slots : Nat) (ls : Array Slot), gSt E D G H locs → gls ls 9 [(0, .inr (.inr (some t))), (1, .inl v1), (2, .inr (.inl v2)), (4, .inl v4), (5, .inl v5), (6, .inl v6)] → gT p l e R s m args below meth c E D H locs cells slots (some (.int q.1)) q.2 (F0 m 90 ls []) := by
  obtain ⟨hx, hb, hml, hown, hts, hKn, hRc, hRs, hc1, hc2, hRf, hRl, hr, hlk, hnm⟩ := id C
  intro n
  induction n with
  | zero =>
    intro t v1 v2 v4 v5 v6 G q h
    exact g_no h
  | succ n ih =>
    intro t v1 v2 v4 v5 v6 G q h H locs cells slots ls hS hl
    rw [fX4_run_b90] at h
    refine g_iload hx hb hl 5 rfl dX4_run_90 ?_
    refine g_aload_n hx hb hl 0 rfl dX4_run_92 ?_
    refine g_rdI hx hb hown hts hKn hS h fd_4_4_3 rfl (Or.inl (hts _ q1868)) (fun _ z => z) dX4_run_93 (fun x93 h => ?_)
    refine lv_icmp_ge (tgt := 213) hx hb dX4_run_96 (by decide) (fun c_96 => ?_) (fun c_96 => ?_)
    · have h := g_ift c_96 h
      exact sX4_run_b213 C hk55 _ _ _ _ _ _ _ h _ _ _ _ _ hS (gls_sub hl [0, 1, 2, 3, 4] rfl)
    · have h := g_iff c_96 h
      refine g_iload hx hb hl 4 rfl dX4_run_99 ?_
      refine lv_if_ne (tgt := 213) hx hb dX4_run_101 (by decide) (fun c_101 => ?_) (fun c_101 => ?_)
      · have h := g_ift c_101 h
        exact sX4_run_b213 C hk55 _ _ _ _ _ _ _ h _ _ _ _ _ hS (gls_sub hl [0, 1, 2, 3, 4] rfl)
      · have h := g_iff (fun z => z c_101) h
        refine g_aload_n hx hb hl 0 rfl dX4_run_104 ?_
        refine g_iload hx hb hl 5 rfl dX4_run_105 ?_
        refine lv_iconst (v := 4) hx hb dX4_run_107 (by decide) ?_
        obtain ⟨b108, hb108, h⟩ := g_bnd h
        obtain ⟨hr108, hk108⟩ := g_chk hb108
        obtain ⟨z108, h108, h⟩ := g_bnd h
        refine g_callV (n := 2) (b := b108) (av := [.inl v6, .inl 4]) (rs := []) hx hb hml hown hts hKn hRc hRs hS hl (sX4_isAt l E D h108) (lw_V q2280 q2282 qs85 q135 q2283) ⟨rfl, by decide, by decide, by decide +kernel⟩ ⟨by rw [hRf]; exact Nat.le_of_ble_eq_true rfl, by rw [hRl]; exact Nat.le_of_ble_eq_true rfl⟩ (g_recv hKn hS hk108 (by decide) (by decide)) rfl (by rw [hr108]; rfl) (Nat.le_of_ble_eq_true rfl) dX4_run_108 (fun H locs cells slots hS => ?_)
        refine g_istore (l1 := [(7, .inl z108.1), (0, .inr (.inr (some t))), (1, .inl v1), (2, .inr (.inl v2)), (4, .inl v4), (5, .inl v5), (6, .inl v6)]) hx hb hl (by decide) rfl dX4_run_111 (fun ls hl => ?_)
        refine lv_iconst (v := 0) hx hb dX4_run_113 (by decide) ?_
        refine g_istore (l1 := [(8, .inl 0), (7, .inl z108.1), (0, .inr (.inr (some t))), (1, .inl v1), (2, .inr (.inl v2)), (4, .inl v4), (5, .inl v5), (6, .inl v6)]) hx hb hl (by decide) rfl dX4_run_114 (fun ls hl => ?_)
        exact sX4_run_b116 C hk55 ih gFU _ _ _ _ _ _ _ _ _ _ h _ _ _ _ _ hS (gls_sub hl [2, 3, 4, 5, 6, 7, 1, 0] rfl)
theorem sX4_run_b81 {p : Program} {l : Launch} {e : Env} {R : Room} {s : State} {m : MethodId} {args : Array Value} {below : List Frame} {meth : Method} {c : Code} {E : g_E} {D : g_D} (C : gC p R s m args meth c cX4_run 9 RX4 "run" (some .int) 10 282 E D) {k55 : Nat → Int32 → Int64 → Int32 → Int32 → g_G → Option (Int32 × g_G)} (hk55 : ∀ (t : Nat) (v1 : Int32) (v2 : Int64) (v4 : Int32) (v5 : Int32) (G : g_G) (q : Int32 × g_G), k55 t v1 v2 v4 v5 G = some q → ∀ (H : Heap) (locs : List Loc) (cells slots : Nat) (ls : Array Slot), gSt E D G H locs → gls ls 9 [(0, .inr (.inr (some t))), (1, .inl v1), (2, .inr (.inl v2)), (4, .inl v4), (5, .inl v5)] → gT p l e R s m args below meth c E D H locs cells slots (some (.int q.1)) q.2 (F0 m 55 ls [])) : ∀ (t : Nat) (v1 : Int32) (v2 : Int64) (v4 : Int32) (s0 : Option Nat) (s1 : Int32) (G : g_G) (q : Int32 × g_G), fX4_run_b81 E k55 t v1 v2 v4 s0 s1 G = some q → ∀ (H : Heap) (locs : List Loc) (cells slots : Nat) (ls : Array Slot), gSt E D G H locs → gls ls 9 [(0, .inr (.inr (some t))), (1, .inl v1), (2, .inr (.inl v2)), (4, .inl v4)] → gT p l e R s m args below meth c E D H locs cells slots (some (.int q.1)) q.2 (F0 m 81 ls [.int s1, va_rf s0]) := by
  obtain ⟨hx, hb, hml, hown, hts, hKn, hRc, hRs, hc1, hc2, hRf, hRl, hr, hlk, hnm⟩ := id C
  intro t v1 v2 v4 s0 s1 G q h H locs cells slots ls hS hl
  unfold fX4_run_b81 at h
  refine g_ptI hx hb hown hts hKn hS h fd_4_4_35 (Or.inl (hts _ q1900)) (fun _ z => z) (fun z => nomatch z) dX4_run_81 (fun G81 h H locs hS => ?_)
  refine lv_iconst (v := 0) hx hb dX4_run_84 (by decide) ?_
  refine g_istore (l1 := [(5, .inl 0), (0, .inr (.inr (some t))), (1, .inl v1), (2, .inr (.inl v2)), (4, .inl v4)]) hx hb hl (by decide) rfl dX4_run_85 (fun ls hl => ?_)
  refine lv_iconst (v := 0) hx hb dX4_run_87 (by decide) ?_
  refine g_istore (l1 := [(6, .inl 0), (5, .inl 0), (0, .inr (.inr (some t))), (1, .inl v1), (2, .inr (.inl v2)), (4, .inl v4)]) hx hb hl (by decide) rfl dX4_run_88 (fun ls hl => ?_)
  exact sX4_run_b90 C hk55 gFU _ _ _ _ _ _ _ _ h _ _ _ _ _ hS (gls_sub hl [2, 3, 4, 5, 1, 0] rfl)
theorem sX4_run_b55 {p : Program} {l : Launch} {e : Env} {R : Room} {s : State} {m : MethodId} {args : Array Value} {below : List Frame} {meth : Method} {c : Code} {E : g_E} {D : g_D} (C : gC p R s m args meth c cX4_run 9 RX4 "run" (some .int) 10 282 E D) : ∀ (n : Nat) (t : Nat) (v1 : Int32) (v2 : Int64) (v4 : Int32) (v5 : Int32) (G : g_G) (q : Int32 × g_G), fX4_run_b55 E n t v1 v2 v4 v5 G = some q → ∀ (H : Heap) (locs : List Loc) (cells slots : Nat) (ls : Array Slot), gSt E D G H locs → gls ls 9 [(0, .inr (.inr (some t))), (1, .inl v1), (2, .inr (.inl v2)), (4, .inl v4), (5, .inl v5)] → gT p l e R s m args below meth c E D H locs cells slots (some (.int q.1)) q.2 (F0 m 55 ls []) := by
  obtain ⟨hx, hb, hml, hown, hts, hKn, hRc, hRs, hc1, hc2, hRf, hRl, hr, hlk, hnm⟩ := id C
  intro n
  induction n with
  | zero =>
    intro t v1 v2 v4 v5 G q h
    exact g_no h
  | succ n ih =>
    intro t v1 v2 v4 v5 G q h H locs cells slots ls hS hl
    rw [fX4_run_b55] at h
    refine g_iload hx hb hl 4 rfl dX4_run_55 ?_
    refine lv_if_eq (tgt := 216) hx hb dX4_run_57 (by decide) (fun c_57 => ?_) (fun c_57 => ?_)
    · have h := g_ift c_57 h
      refine g_aload_n hx hb hl 0 rfl dX4_run_216 ?_
      refine lv_iconst (v := (-1)) hx hb dX4_run_217 (by decide) ?_
      refine g_ptI hx hb hown hts hKn hS h fd_4_4_35 (Or.inl (hts _ q1900)) (fun _ z => z) (fun z => nomatch z) dX4_run_218 (fun G218 h H locs hS => ?_)
      refine g_aload_n hx hb hl 0 rfl dX4_run_221 ?_
      obtain ⟨b222, hb222, h⟩ := g_bnd h
      obtain ⟨hr222, hk222⟩ := g_chk hb222
      obtain ⟨z222, h222, h⟩ := g_bnd h
      refine g_callV (n := 0) (b := b222) (av := []) (rs := []) hx hb hml hown hts hKn hRc hRs hS hl (sX4_kindNow l E D h222) (lw_V q2361 q2363 qs104 q135 q2364) ⟨rfl, by decide, by decide, by decide +kernel⟩ ⟨by rw [hRf]; exact Nat.le_of_ble_eq_true rfl, by rw [hRl]; exact Nat.le_of_ble_eq_true rfl⟩ (g_recv hKn hS hk222 (by decide) (by decide)) rfl (by rw [hr222]; rfl) (Nat.le_of_ble_eq_true rfl) dX4_run_222 (fun H locs cells slots hS => ?_)
      exact g_iretG hx hb hr hlk hKn hRc hRs hS h dX4_run_225
    · have h := g_iff c_57 h
      refine g_aload_n hx hb hl 0 rfl dX4_run_60 ?_
      refine g_iload hx hb hl 3 rfl dX4_run_61 ?_
      refine g_iload_n hx hb hl 1 rfl dX4_run_63 ?_
      refine lv_icmp_ge (tgt := 80) hx hb dX4_run_64 (by decide) (fun c_64 => ?_) (fun c_64 => ?_)
      · have h := g_ift c_64 h
        refine lv_iconst (v := (-1)) hx hb dX4_run_80 (by decide) ?_
        exact sX4_run_b81 C ih _ _ _ _ _ _ _ _ h _ _ _ _ _ hS (gls_sub hl [0, 1, 2, 3] rfl)
      · have h := g_iff c_64 h
        refine g_lload_n hx hb hl 2 rfl dX4_run_67 ?_
        refine lv_iconst (v := 4) hx hb dX4_run_68 (by decide) ?_
        refine g_iload hx hb hl 3 rfl dX4_run_69 ?_
        refine lv_imul hx hb dX4_run_71 ?_
        refine lv_lshr (v := (v2 >>> (Int32.toInt64 (4 * v4) &&& 63))) hx hb dX4_run_72 rfl ?_
        refine lv_l2i (v := (Int64.toInt32 (v2 >>> (Int32.toInt64 (4 * v4) &&& 63)))) hx hb dX4_run_73 rfl ?_
        refine lv_bipush (v := 15) hx hb dX4_run_74 (by decide) ?_
        refine lv_iand hx hb dX4_run_76 ?_
        refine lv_goto (tgt := 81) hx hb dX4_run_77 (by decide) ?_
        exact sX4_run_b81 C ih _ _ _ _ _ _ _ _ h _ _ _ _ _ hS (gls_sub hl [0, 1, 2, 3] rfl)
theorem sX4_run_b3 {p : Program} {l : Launch} {e : Env} {R : Room} {s : State} {m : MethodId} {args : Array Value} {below : List Frame} {meth : Method} {c : Code} {E : g_E} {D : g_D} (C : gC p R s m args meth c cX4_run 9 RX4 "run" (some .int) 10 282 E D) : ∀ (n : Nat) (t : Nat) (v1 : Int32) (v2 : Int64) (v4 : Int32) (G : g_G) (q : Int32 × g_G), fX4_run_b3 E n t v1 v2 v4 G = some q → ∀ (H : Heap) (locs : List Loc) (cells slots : Nat) (ls : Array Slot), gSt E D G H locs → gls ls 9 [(0, .inr (.inr (some t))), (1, .inl v1), (2, .inr (.inl v2)), (4, .inl v4)] → gT p l e R s m args below meth c E D H locs cells slots (some (.int q.1)) q.2 (F0 m 3 ls []) := by
  obtain ⟨hx, hb, hml, hown, hts, hKn, hRc, hRs, hc1, hc2, hRf, hRl, hr, hlk, hnm⟩ := id C
  intro n
  induction n with
  | zero =>
    intro t v1 v2 v4 G q h
    exact g_no h
  | succ n ih =>
    intro t v1 v2 v4 G q h H locs cells slots ls hS hl
    rw [fX4_run_b3] at h
    refine g_iload hx hb hl 3 rfl dX4_run_3 ?_
    refine lv_bipush (v := 8) hx hb dX4_run_5 (by decide) ?_
    refine lv_icmp_ge (tgt := 40) hx hb dX4_run_7 (by decide) (fun c_7 => ?_) (fun c_7 => ?_)
    · have h := g_ift c_7 h
      refine g_aload_n hx hb hl 0 rfl dX4_run_40 ?_
      obtain ⟨b41, hb41, h⟩ := g_bnd h
      obtain ⟨hr41, hk41⟩ := g_chk hb41
      obtain ⟨z41, h41, h⟩ := g_bnd h
      refine g_callV (n := 0) (b := b41) (av := []) (rs := []) hx hb hml hown hts hKn hRc hRs hS hl (sX4_begin l E D h41) (lw_V q2225 q2227 qs72 q135 q2228) ⟨rfl, by decide, by decide, by decide +kernel⟩ ⟨by rw [hRf]; exact Nat.le_of_ble_eq_true rfl, by rw [hRl]; exact Nat.le_of_ble_eq_true rfl⟩ (g_recv hKn hS hk41 (by decide) (by decide)) rfl (by rw [hr41]; rfl) (Nat.le_of_ble_eq_true rfl) dX4_run_41 (fun H locs cells slots hS => ?_)
      refine lv_iconst (v := 0) hx hb dX4_run_44 (by decide) ?_
      refine g_istore (l1 := [(4, .inl 0), (0, .inr (.inr (some t))), (1, .inl v1), (2, .inr (.inl v2))]) hx hb hl (by decide) rfl dX4_run_45 (fun ls hl => ?_)
      refine g_aload_n hx hb hl 1 rfl dX4_run_47 ?_
      refine lv_iconst (v := 0) hx hb dX4_run_48 (by decide) ?_
      refine g_ptI hx hb hown hts hKn hS h fd_4_4_59 (Or.inl (hts _ q1924)) (fun _ z => z) (fun z => nomatch z) dX4_run_49 (fun G49 h H locs hS => ?_)
      refine lv_iconst (v := 1) hx hb dX4_run_52 (by decide) ?_
      refine g_istore (l1 := [(5, .inl 1), (4, .inl 0), (0, .inr (.inr (some t))), (1, .inl v1), (2, .inr (.inl v2))]) hx hb hl (by decide) rfl dX4_run_53 (fun ls hl => ?_)
      exact sX4_run_b55 C gFU _ _ _ _ _ _ _ h _ _ _ _ _ hS (gls_sub hl [2, 3, 4, 1, 0] rfl)
    · have h := g_iff c_7 h
      refine g_aload_n hx hb hl 0 rfl dX4_run_10 ?_
      refine g_rdR hx hb hown hts hKn hS h fd_4_4_36 rfl (Or.inl (hts _ q1901)) (fun _ z => z) dX4_run_11 (fun x11 h => ?_)
      refine g_iload hx hb hl 3 rfl dX4_run_14 ?_
      refine lv_iconst (v := 0) hx hb dX4_run_16 (by decide) ?_
      refine g_iastoreG hx hb hKn hS h dX4_run_17 (fun G17 h H locs hS => ?_)
      refine g_aload_n hx hb hl 0 rfl dX4_run_18 ?_
      refine g_rdR hx hb hown hts hKn hS h fd_4_4_37 rfl (Or.inl (hts _ q1902)) (fun _ z => z) dX4_run_19 (fun x19 h => ?_)
      refine g_iload hx hb hl 3 rfl dX4_run_22 ?_
      refine lv_iconst (v := 0) hx hb dX4_run_24 (by decide) ?_
      refine g_iastoreG hx hb hKn hS h dX4_run_25 (fun G25 h H locs hS => ?_)
      refine g_aload_n hx hb hl 0 rfl dX4_run_26 ?_
      refine g_rdR hx hb hown hts hKn hS h fd_4_4_38 rfl (Or.inl (hts _ q1903)) (fun _ z => z) dX4_run_27 (fun x27 h => ?_)
      refine g_iload hx hb hl 3 rfl dX4_run_30 ?_
      refine lv_iconst (v := 0) hx hb dX4_run_32 (by decide) ?_
      refine g_iastoreG hx hb hKn hS h dX4_run_33 (fun G33 h H locs hS => ?_)
      refine g_iinc (l1 := [(4, .inl (v4 + 1)), (0, .inr (.inr (some t))), (1, .inl v1), (2, .inr (.inl v2))]) (v := (v4 + 1)) hx hb hl (k := 3) rfl (by rfl) (by decide) rfl dX4_run_34 (fun ls hl => ?_)
      refine lv_goto (tgt := 3) hx hb dX4_run_37 (by decide) ?_
      exact ih _ _ _ _ _ _ h _ _ _ _ _ hS (gls_sub hl [1, 2, 3, 0] rfl)
theorem sX4_run (l : Launch) (E : g_E) (D : g_D) {t : Nat} {v1 : Int32} {v2 : Int64} {G : g_G} {q : Int32 × g_G} (h : fX4_run E t v1 v2 G = some q) : gMet l E D yX4_run (ws_ yX4_run cX4_run 9 (some .int)) 10 282 [.inr (.inr (some t)), .inl v1, .inr (.inl v2)] G (some (.int q.1)) q.2 := by
  refine gMet.of (by decide +kernel) (Nat.le_of_ble_eq_true rfl) ?_
  intro p e R s m args below meth c C hS ls hl
  have C : gC p R s m args meth c cX4_run 9 RX4 "run" (some .int) 10 282 E D := C
  obtain ⟨hx, hb, hml, hown, hts, hKn, hRc, hRs, hc1, hc2, hRf, hRl, hr, hlk, hnm⟩ := id C
  have hl : gls ls 9 [(0, .inr (.inr (some t))), (1, .inl v1), (2, .inr (.inl v2))] := hl
  generalize s.heap = H at hS ⊢
  unfold fX4_run at h
  refine lv_iconst (v := 0) hx hb dX4_run_0 (by decide) ?_
  refine g_istore (l1 := [(4, .inl 0), (0, .inr (.inr (some t))), (1, .inl v1), (2, .inr (.inl v2))]) hx hb hl (by decide) rfl dX4_run_1 (fun ls hl => ?_)
  exact sX4_run_b3 C gFU _ _ _ _ _ _ h _ _ _ _ _ hS (gls_sub hl [1, 2, 3, 0] rfl)
