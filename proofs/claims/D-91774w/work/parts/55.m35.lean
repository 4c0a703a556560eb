set_option maxRecDepth 100000
/-- SendHallModel.readStep(I)V -/
def fX4_readStep_b475 (E : g_E) (fN : g_E → Nat → Int32 → Int32 → g_G → Option (Int32 × g_G)) (t : Nat) (G : g_G) : Option (g_G) :=
  (gchk G 4 (some t)).bind fun b478 =>
  (fX4_need E b478 59 G).bind fun z478 =>
  some z478
def fX4_readStep_b336 (E : g_E) (fN : g_E → Nat → Int32 → Int32 → g_G → Option (Int32 × g_G)) (t : Nat) (v3 : Int32) (G : g_G) : Option (g_G) :=
  (gchk G 4 (some t)).bind fun b340 =>
  (fX4_word E b340 (some (gA E 48)) G).bind fun z340 =>
  (gchk z340 4 (some t)).bind fun b347 =>
  (fX4_readInto E b347 v3 1 0 z340).bind fun z347 =>
  (gchk z347 4 (some t)).bind fun b354 =>
  (fX4_word E b354 (some (gA E 51)) z347).bind fun z354 =>
  (grR z354 4 4 (some t) 27).bind fun x358 =>
  (gchk z354 4 (some t)).bind fun b366 =>
  (fX4_readVar E b366 z354).bind fun z366 =>
  (gsaI E z366.2 x358 (40 + v3) z366.1).bind fun G369 =>
  (gchk G369 4 (some t)).bind fun b374 =>
  (fX4_is E b374 (some (gA E 52)) G369).bind fun z374 =>
  if z374.1 = 0 then (
    fX4_readStep_b475 E fN t z374.2)
  else (
    (gchk z374.2 4 (some t)).bind fun b381 =>
    (fX4_stepOn E b381 z374.2).bind fun z381 =>
    (grR z381 4 4 (some t) 28).bind fun x385 =>
    (gchk z381 4 (some t)).bind fun b396 =>
    (fX4_readNumber E b396 1 99 z381).bind fun z396 =>
    (gsaI E z396.2 x385 (40 + v3) z396.1).bind fun G399 =>
    fX4_readStep_b475 E fN t G399)
def fX4_readStep_b152 (E : g_E) (fN : g_E → Nat → Int32 → Int32 → g_G → Option (Int32 × g_G)) : Nat → Nat → Int32 → Int32 → Int32 → Int32 → g_G → Option (g_G)
  | 0, _, _, _, _, _, _ => none
  | n + 1, t, v1, v2, v3, v4, G =>
    if (3 : Int32) ≤ v4 then (
      (gchk G 4 (some t)).bind fun b195 =>
      (fX4_stepOn E b195 G).bind fun z195 =>
      if v2 = 0 then (
        (gchk z195 4 (some t)).bind fun b260 =>
        (fX4_readInto E b260 v3 0 0 z195).bind fun z260 =>
        (gchk z260 4 (some t)).bind fun b267 =>
        (fX4_word E b267 (some (gA E 48)) z260).bind fun z267 =>
        (gchk z267 4 (some t)).bind fun b274 =>
        (fX4_readInto E b274 v3 1 0 z267).bind fun z274 =>
        (gchk z274 4 (some t)).bind fun b281 =>
        (fX4_word E b281 (some (gA E 49)) z274).bind fun z281 =>
        (gchk z281 4 (some t)).bind fun b288 =>
        (fX4_readInto E b288 v3 2 0 z281).bind fun z288 =>
        (gchk z288 4 (some t)).bind fun b295 =>
        (fX4_is E b295 (some (gA E 50)) z288).bind fun z295 =>
        if z295.1 = 0 then (
          fX4_readStep_b475 E fN t z295.2)
        else (
          (gchk z295.2 4 (some t)).bind fun b302 =>
          (fX4_stepOn E b302 z295.2).bind fun z302 =>
          (grR z302 4 4 (some t) 28).bind fun x306 =>
          (gchk z302 4 (some t)).bind fun b317 =>
          (fX4_readNumber E b317 1 99 z302).bind fun z317 =>
          (gsaI E z317.2 x306 (40 + v3) z317.1).bind fun G320 =>
          fX4_readStep_b475 E fN t G320))
      else
      if v2 = 1 then (
        (gchk z195 4 (some t)).bind fun b260 =>
        (fX4_readInto E b260 v3 0 0 z195).bind fun z260 =>
        (gchk z260 4 (some t)).bind fun b267 =>
        (fX4_word E b267 (some (gA E 48)) z260).bind fun z267 =>
        (gchk z267 4 (some t)).bind fun b274 =>
        (fX4_readInto E b274 v3 1 0 z267).bind fun z274 =>
        (gchk z274 4 (some t)).bind fun b281 =>
        (fX4_word E b281 (some (gA E 49)) z274).bind fun z281 =>
        (gchk z281 4 (some t)).bind fun b288 =>
        (fX4_readInto E b288 v3 2 0 z281).bind fun z288 =>
        (gchk z288 4 (some t)).bind fun b295 =>
        (fX4_is E b295 (some (gA E 50)) z288).bind fun z295 =>
        if z295.1 = 0 then (
          fX4_readStep_b475 E fN t z295.2)
        else (
          (gchk z295.2 4 (some t)).bind fun b302 =>
          (fX4_stepOn E b302 z295.2).bind fun z302 =>
          (grR z302 4 4 (some t) 28).bind fun x306 =>
          (gchk z302 4 (some t)).bind fun b317 =>
          (fX4_readNumber E b317 1 99 z302).bind fun z317 =>
          (gsaI E z317.2 x306 (40 + v3) z317.1).bind fun G320 =>
          fX4_readStep_b475 E fN t G320))
      else
      if v2 = 2 then (
        (gchk z195 4 (some t)).bind fun b260 =>
        (fX4_readInto E b260 v3 0 0 z195).bind fun z260 =>
        (gchk z260 4 (some t)).bind fun b267 =>
        (fX4_word E b267 (some (gA E 48)) z260).bind fun z267 =>
        (gchk z267 4 (some t)).bind fun b274 =>
        (fX4_readInto E b274 v3 1 0 z267).bind fun z274 =>
        (gchk z274 4 (some t)).bind fun b281 =>
        (fX4_word E b281 (some (gA E 49)) z274).bind fun z281 =>
        (gchk z281 4 (some t)).bind fun b288 =>
        (fX4_readInto E b288 v3 2 0 z281).bind fun z288 =>
        (gchk z288 4 (some t)).bind fun b295 =>
        (fX4_is E b295 (some (gA E 50)) z288).bind fun z295 =>
        if z295.1 = 0 then (
          fX4_readStep_b475 E fN t z295.2)
        else (
          (gchk z295.2 4 (some t)).bind fun b302 =>
          (fX4_stepOn E b302 z295.2).bind fun z302 =>
          (grR z302 4 4 (some t) 28).bind fun x306 =>
          (gchk z302 4 (some t)).bind fun b317 =>
          (fX4_readNumber E b317 1 99 z302).bind fun z317 =>
          (gsaI E z317.2 x306 (40 + v3) z317.1).bind fun G320 =>
          fX4_readStep_b475 E fN t G320))
      else
      if v2 = 3 then (
        if ¬ v2 = (3 : Int32) then (
          fX4_readStep_b336 E fN t v3 z195)
        else (
          (gchk z195 4 (some t)).bind fun b333 =>
          (fX4_readInto E b333 v3 0 0 z195).bind fun z333 =>
          fX4_readStep_b336 E fN t v3 z333))
      else
      if v2 = 4 then (
        if ¬ v2 = (3 : Int32) then (
          fX4_readStep_b336 E fN t v3 z195)
        else (
          (gchk z195 4 (some t)).bind fun b333 =>
          (fX4_readInto E b333 v3 0 0 z195).bind fun z333 =>
          fX4_readStep_b336 E fN t v3 z333))
      else
      if v2 = 7 then (
        (gchk z195 4 (some t)).bind fun b407 =>
        (fX4_readInto E b407 v3 0 0 z195).bind fun z407 =>
        (gchk z407 4 (some t)).bind fun b414 =>
        (fX4_word E b414 (some (gA E 51)) z407).bind fun z414 =>
        (grR z414 4 4 (some t) 27).bind fun x418 =>
        (gchk z414 4 (some t)).bind fun b426 =>
        (fX4_readVar E b426 z414).bind fun z426 =>
        (gsaI E z426.2 x418 (40 + v3) z426.1).bind fun G429 =>
        fX4_readStep_b475 E fN t G429)
      else
      if v2 = 8 then (
        (grR z195 4 4 (some t) 27).bind fun x434 =>
        (gchk z195 4 (some t)).bind fun b442 =>
        (fX4_readVar E b442 z195).bind fun z442 =>
        (gsaI E z442.2 x434 (40 + v3) z442.1).bind fun G445 =>
        (gchk G445 4 (some t)).bind fun b450 =>
        (fX4_readInto E b450 v3 0 1 G445).bind fun z450 =>
        fX4_readStep_b475 E fN t z450)
      else
      if v2 = 9 then (
        (gchk z195 4 (some t)).bind fun b460 =>
        (fX4_readInto E b460 v3 0 1 z195).bind fun z460 =>
        fX4_readStep_b475 E fN t z460)
      else
      if v2 = 10 then (
        (gchk z195 4 (some t)).bind fun b469 =>
        (fX4_readBranches E fN b469 v3 v1 z195).bind fun z469 =>
        fX4_readStep_b475 E fN t z469)
      else
      (
        fX4_readStep_b475 E fN t z195))
    else (
      (grR G 4 4 (some t) 25).bind fun x159 =>
      (gsaI E G x159 ((3 * (40 + v3)) + v4) 0).bind fun G172 =>
      (grR G172 4 4 (some t) 26).bind fun x174 =>
      (gsaI E G172 x174 ((3 * (40 + v3)) + v4) 0).bind fun G187 =>
      fX4_readStep_b152 E fN n t v1 v2 v3 (v4 + 1) G187)
def fX4_readStep_b108 (E : g_E) (fN : g_E → Nat → Int32 → Int32 → g_G → Option (Int32 × g_G)) (t : Nat) (v1 : Int32) (v2 : Int32) (v3 : Int32) (s0 : Option Nat) (s1 : Int32) (s2 : Int32) (G : g_G) : Option (g_G) :=
  (gsaI E G s0 s1 s2).bind fun G108 =>
  (grR G108 4 4 (some t) 27).bind fun x110 =>
  (gsaI E G108 x110 (40 + v3) 0).bind fun G118 =>
  (grR G118 4 4 (some t) 30).bind fun x120 =>
  (gsaI E G118 x120 (40 + v3) (-1)).bind fun G128 =>
  (grR G128 4 4 (some t) 31).bind fun x130 =>
  (gsaI E G128 x130 (40 + v3) (-1)).bind fun G138 =>
  (grR G138 4 4 (some t) 29).bind fun x140 =>
  (gsaI E G138 x140 (40 + v3) (-1)).bind fun G148 =>
  fX4_readStep_b152 E fN gFU t v1 v2 v3 0 G148
def fX4_readStep_b102 (E : g_E) (fN : g_E → Nat → Int32 → Int32 → g_G → Option (Int32 × g_G)) (t : Nat) (v1 : Int32) (v2 : Int32) (v3 : Int32) (s0 : Option Nat) (s1 : Int32) (G : g_G) : Option (g_G) :=
  fX4_readStep_b108 E fN t v1 v2 v3 s0 s1 99 G
def fX4_readStep_b49 (E : g_E) (fN : g_E → Nat → Int32 → Int32 → g_G → Option (Int32 × g_G)) (t : Nat) (v1 : Int32) (v2 : Int32) (G : g_G) : Option (g_G) :=
  (grI G 4 4 (some t) 18).bind fun x50 =>
  if x50 = 0 then (
    (grR G 4 4 (some t) 22).bind fun x58 =>
    (gaI G 100 x58 1).bind fun x62 =>
    (grR G 4 4 (some t) 22).bind fun x65 =>
    (gaI G 100 x65 1).bind fun x70 =>
    (gsaI E G x65 1 (x70 + 1)).bind fun G73 =>
    (grR G73 4 4 (some t) 24).bind fun x75 =>
    (gsaI E G73 x75 (40 + x62) v2).bind fun G83 =>
    (grR G83 4 4 (some t) 28).bind fun x85 =>
    if v2 = (3 : Int32) then (
      fX4_readStep_b102 E fN t v1 v2 x62 x85 (40 + x62) G83)
    else (
      if ¬ v2 = (4 : Int32) then (
        fX4_readStep_b108 E fN t v1 v2 x62 x85 (40 + x62) 1 G83)
      else (
        fX4_readStep_b102 E fN t v1 v2 x62 x85 (40 + x62) G83)))
  else (
    some G)
def fX4_readStep_b44 (E : g_E) (fN : g_E → Nat → Int32 → Int32 → g_G → Option (Int32 × g_G)) (t : Nat) (v1 : Int32) (v2 : Int32) (G : g_G) : Option (g_G) :=
  (gchk G 4 (some t)).bind fun b46 =>
  (fX4_wrong E b46 2 G).bind fun z46 =>
  fX4_readStep_b49 E fN t v1 v2 z46
def fX4_readStep (E : g_E) (fN : g_E → Nat → Int32 → Int32 → g_G → Option (Int32 × g_G)) (t : Nat) (v1 : Int32) (G : g_G) : Option (g_G) :=
  (grR G 4 4 (some t) 0).bind fun x2 =>
  (gchk G 4 (some t)).bind fun b5 =>
  (fX4_which E b5 x2 G).bind fun z5 =>
  if ¬ z5.1 = (-1 : Int32) then (
    (grR z5.2 4 4 (some t) 22).bind fun x23 =>
    (gaI z5.2 100 x23 1).bind fun x27 =>
    if x27 = (40 : Int32) then (
      fX4_readStep_b44 E fN t v1 z5.1 z5.2)
    else (
      if ¬ z5.1 = (10 : Int32) then (
        fX4_readStep_b49 E fN t v1 z5.1 z5.2)
      else (
        if ¬ v1 = (4 : Int32) then (
          fX4_readStep_b49 E fN t v1 z5.1 z5.2)
        else (
          fX4_readStep_b44 E fN t v1 z5.1 z5.2))))
  else (
    (gchk z5.2 4 (some t)).bind fun b16 =>
    (fX4_wrong E b16 1 z5.2).bind fun z16 =>
    fX4_readStep_b49 E fN t v1 z5.1 z16)
theorem sX4_readStep_b475 {p : Program} {l : Launch} {e : Env} {R : Room} {s : State} {m : MethodId} {args : Array Value} {below : List Frame} {meth : Method} {c : Code} {E : g_E} {D : g_D} {fN : g_E → Nat → Int32 → Int32 → g_G → Option (Int32 × g_G)} {fF : Nat} {fL : Nat} (C : gC p R s m args meth c cX4_readStep 5 RX4 "readStep" (none) (fF + 4) (fL + 200) E D) (hfN : ∀ (l : Launch) (E : g_E) (D : g_D), ∀ {t : Nat} {v1 : Int32} {v2 : Int32} {G : g_G} {q : Int32 × g_G}, fN E t v1 v2 G = some q → gMet l E D yX4_readSteps (ws_ yX4_readSteps cX4_readSteps 6 (some .int)) fF fL [.inr (.inr (some t)), .inl v1, .inl v2] G (some (.int q.1)) q.2) (hF : 200 ≤ fF) (hL : 12000 ≤ fL) : ∀ (t : Nat) (G : g_G) (q : g_G), fX4_readStep_b475 E fN t G = some q → ∀ (H : Heap) (locs : List Loc) (cells slots : Nat) (ls : Array Slot), gSt E D G H locs → gls ls 5 [(0, .inr (.inr (some t)))] → gT p l e R s m args below meth c E D H locs cells slots none q (F0 m 475 ls []) := by
  obtain ⟨hx, hb, hml, hown, hts, hKn, hRc, hRs, hc1, hc2, hRf, hRl, hr, hlk, hnm⟩ := id C
  intro t G q h H locs cells slots ls hS hl
  unfold fX4_readStep_b475 at h
  refine g_aload_n hx hb hl 0 rfl dX4_readStep_475 ?_
  refine lv_bipush (v := 59) hx hb dX4_readStep_476 (by decide) ?_
  obtain ⟨b478, hb478, h⟩ := g_bnd h
  obtain ⟨hr478, hk478⟩ := g_chk hb478
  obtain ⟨z478, h478, h⟩ := g_bnd h
  refine g_callV (n := 1) (b := b478) (av := [.inl 59]) (rs := []) hx hb hml hown hts hKn hRc hRs hS hl (sX4_need l E D h478) (lw_V q2164 q2166 qs64 q135 q2167) ⟨rfl, by decide, by decide, by decide +kernel⟩ ⟨by rw [hRf]; omega, by rw [hRl]; omega⟩ (g_recv hKn hS hk478 (by decide) (by decide)) rfl (by rw [hr478]; rfl) (Nat.le_of_ble_eq_true rfl) dX4_readStep_478 (fun H locs cells slots hS => ?_)
  exact g_vretG hx hb hr hlk hKn hRc hRs hS h dX4_readStep_481
theorem sX4_readStep_b336 {p : Program} {l : Launch} {e : Env} {R : Room} {s : State} {m : MethodId} {args : Array Value} {below : List Frame} {meth : Method} {c : Code} {E : g_E} {D : g_D} {fN : g_E → Nat → Int32 → Int32 → g_G → Option (Int32 × g_G)} {fF : Nat} {fL : Nat} (C : gC p R s m args meth c cX4_readStep 5 RX4 "readStep" (none) (fF + 4) (fL + 200) E D) (hfN : ∀ (l : Launch) (E : g_E) (D : g_D), ∀ {t : Nat} {v1 : Int32} {v2 : Int32} {G : g_G} {q : Int32 × g_G}, fN E t v1 v2 G = some q → gMet l E D yX4_readSteps (ws_ yX4_readSteps cX4_readSteps 6 (some .int)) fF fL [.inr (.inr (some t)), .inl v1, .inl v2] G (some (.int q.1)) q.2) (hF : 200 ≤ fF) (hL : 12000 ≤ fL) : ∀ (t : Nat) (v3 : Int32) (G : g_G) (q : g_G), fX4_readStep_b336 E fN t v3 G = some q → ∀ (H : Heap) (locs : List Loc) (cells slots : Nat) (ls : Array Slot), gSt E D G H locs → gls ls 5 [(0, .inr (.inr (some t))), (3, .inl v3)] → gT p l e R s m args below meth c E D H locs cells slots none q (F0 m 336 ls []) := by
  obtain ⟨hx, hb, hml, hown, hts, hKn, hRc, hRs, hc1, hc2, hRf, hRl, hr, hlk, hnm⟩ := id C
  intro t v3 G q h H locs cells slots ls hS hl
  unfold fX4_readStep_b336 at h
  refine g_aload_n hx hb hl 0 rfl dX4_readStep_336 ?_
  refine g_ldcwS (i := 48) hx hb hown hKn (List.mem_of_getElem? (i := 57) rfl) dX4_readStep_337 ?_
  obtain ⟨b340, hb340, h⟩ := g_bnd h
  obtain ⟨hr340, hk340⟩ := g_chk hb340
  obtain ⟨z340, h340, h⟩ := g_bnd h
  refine g_callV (n := 1) (b := b340) (av := [.inr (.inr (some (gA E 48)))]) (rs := []) hx hb hml hown hts hKn hRc hRs hS hl (sX4_word l E D h340) (lw_V q2169 q2171 qs65 q135 q2172) ⟨rfl, by decide, by decide, by decide +kernel⟩ ⟨by rw [hRf]; omega, by rw [hRl]; omega⟩ (g_recv hKn hS hk340 (by decide) (by decide)) rfl (by rw [hr340]; rfl) (Nat.le_of_ble_eq_true rfl) dX4_readStep_340 (fun H locs cells slots hS => ?_)
  refine g_aload_n hx hb hl 0 rfl dX4_readStep_343 ?_
  refine g_iload_n hx hb hl 1 rfl dX4_readStep_344 ?_
  refine lv_iconst (v := 1) hx hb dX4_readStep_345 (by decide) ?_
  refine lv_iconst (v := 0) hx hb dX4_readStep_346 (by decide) ?_
  obtain ⟨b347, hb347, h⟩ := g_bnd h
  obtain ⟨hr347, hk347⟩ := g_chk hb347
  obtain ⟨z347, h347, h⟩ := g_bnd h
  refine g_callV (n := 3) (b := b347) (av := [.inl v3, .inl 1, .inl 0]) (rs := []) hx hb hml hown hts hKn hRc hRs hS hl (sX4_readInto l E D h347) (lw_V q2132 q2134 qs56 q135 q2135) ⟨rfl, by decide, by decide, by decide +kernel⟩ ⟨by rw [hRf]; omega, by rw [hRl]; omega⟩ (g_recv hKn hS hk347 (by decide) (by decide)) rfl (by rw [hr347]; rfl) (Nat.le_of_ble_eq_true rfl) dX4_readStep_347 (fun H locs cells slots hS => ?_)
  refine g_aload_n hx hb hl 0 rfl dX4_readStep_350 ?_
  refine g_ldcwS (i := 51) hx hb hown hKn (List.mem_of_getElem? (i := 60) rfl) dX4_readStep_351 ?_
  obtain ⟨b354, hb354, h⟩ := g_bnd h
  obtain ⟨hr354, hk354⟩ := g_chk hb354
  obtain ⟨z354, h354, h⟩ := g_bnd h
  refine g_callV (n := 1) (b := b354) (av := [.inr (.inr (some (gA E 51)))]) (rs := []) hx hb hml hown hts hKn hRc hRs hS hl (sX4_word l E D h354) (lw_V q2169 q2171 qs65 q135 q2172) ⟨rfl, by decide, by decide, by decide +kernel⟩ ⟨by rw [hRf]; omega, by rw [hRl]; omega⟩ (g_recv hKn hS hk354 (by decide) (by decide)) rfl (by rw [hr354]; rfl) (Nat.le_of_ble_eq_true rfl) dX4_readStep_354 (fun H locs cells slots hS => ?_)
  refine g_aload_n hx hb hl 0 rfl dX4_readStep_357 ?_
  refine g_rdR hx hb hown hts hKn hS h fd_4_4_27 rfl (Or.inl (hts _ q1892)) (fun _ z => z) dX4_readStep_358 (fun x358 h => ?_)
  refine lv_bipush (v := 40) hx hb dX4_readStep_361 (by decide) ?_
  refine g_iload_n hx hb hl 1 rfl dX4_readStep_363 ?_
  refine lv_iadd hx hb dX4_readStep_364 ?_
  refine g_aload_n hx hb hl 0 rfl dX4_readStep_365 ?_
  obtain ⟨b366, hb366, h⟩ := g_bnd h
  obtain ⟨hr366, hk366⟩ := g_chk hb366
  obtain ⟨z366, h366, h⟩ := g_bnd h
  refine g_callV (n := 0) (b := b366) (av := []) (rs := [.inl (40 + v3), .inr (.inr x358)]) hx hb hml hown hts hKn hRc hRs hS hl (sX4_readVar l E D h366) (lw_V q2176 q2178 qs66 q135 q2179) ⟨rfl, by decide, by decide, by decide +kernel⟩ ⟨by rw [hRf]; omega, by rw [hRl]; omega⟩ (g_recv hKn hS hk366 (by decide) (by decide)) rfl (by rw [hr366]; rfl) (Nat.le_of_ble_eq_true rfl) dX4_readStep_366 (fun H locs cells slots hS => ?_)
  refine g_iastoreG hx hb hKn hS h dX4_readStep_369 (fun G369 h H locs hS => ?_)
  refine g_aload_n hx hb hl 0 rfl dX4_readStep_370 ?_
  refine g_ldcwS (i := 52) hx hb hown hKn (List.mem_of_getElem? (i := 61) rfl) dX4_readStep_371 ?_
  obtain ⟨b374, hb374, h⟩ := g_bnd h
  obtain ⟨hr374, hk374⟩ := g_chk hb374
  obtain ⟨z374, h374, h⟩ := g_bnd h
  refine g_callV (n := 1) (b := b374) (av := [.inr (.inr (some (gA E 52)))]) (rs := []) hx hb hml hown hts hKn hRc hRs hS hl (sX4_is l E D h374) (lw_V q2113 q2115 qs52 q135 q2116) ⟨rfl, by decide, by decide, by decide +kernel⟩ ⟨by rw [hRf]; omega, by rw [hRl]; omega⟩ (g_recv hKn hS hk374 (by decide) (by decide)) rfl (by rw [hr374]; rfl) (Nat.le_of_ble_eq_true rfl) dX4_readStep_374 (fun H locs cells slots hS => ?_)
  refine lv_if_eq (tgt := 475) hx hb dX4_readStep_377 (by decide) (fun c_377 => ?_) (fun c_377 => ?_)
  · have h := g_ift c_377 h
    exact sX4_readStep_b475 C hfN hF hL _ _ _ h _ _ _ _ _ hS (gls_sub hl [0] rfl)
  · have h := g_iff c_377 h
    refine g_aload_n hx hb hl 0 rfl dX4_readStep_380 ?_
    obtain ⟨b381, hb381, h⟩ := g_bnd h
    obtain ⟨hr381, hk381⟩ := g_chk hb381
    obtain ⟨z381, h381, h⟩ := g_bnd h
    refine g_callV (n := 0) (b := b381) (av := []) (rs := []) hx hb hml hown hts hKn hRc hRs hS hl (sX4_stepOn l E D h381) (lw_V q2092 q2094 qs49 q135 q2095) ⟨rfl, by decide, by decide, by decide +kernel⟩ ⟨by rw [hRf]; omega, by rw [hRl]; omega⟩ (g_recv hKn hS hk381 (by decide) (by decide)) rfl (by rw [hr381]; rfl) (Nat.le_of_ble_eq_true rfl) dX4_readStep_381 (fun H locs cells slots hS => ?_)
    refine g_aload_n hx hb hl 0 rfl dX4_readStep_384 ?_
    refine g_rdR hx hb hown hts hKn hS h fd_4_4_28 rfl (Or.inl (hts _ q1893)) (fun _ z => z) dX4_readStep_385 (fun x385 h => ?_)
    refine lv_bipush (v := 40) hx hb dX4_readStep_388 (by decide) ?_
    refine g_iload_n hx hb hl 1 rfl dX4_readStep_390 ?_
    refine lv_iadd hx hb dX4_readStep_391 ?_
    refine g_aload_n hx hb hl 0 rfl dX4_readStep_392 ?_
    refine lv_iconst (v := 1) hx hb dX4_readStep_393 (by decide) ?_
    refine lv_bipush (v := 99) hx hb dX4_readStep_394 (by decide) ?_
    obtain ⟨b396, hb396, h⟩ := g_bnd h
    obtain ⟨hr396, hk396⟩ := g_chk hb396
    obtain ⟨z396, h396, h⟩ := g_bnd h
    refine g_callV (n := 2) (b := b396) (av := [.inl 1, .inl 99]) (rs := [.inl (40 + v3), .inr (.inr x385)]) hx hb hml hown hts hKn hRc hRs hS hl (sX4_readNumber l E D h396) (lw_V q2156 q2158 qs62 q135 q2159) ⟨rfl, by decide, by decide, by decide +kernel⟩ ⟨by rw [hRf]; omega, by rw [hRl]; omega⟩ (g_recv hKn hS hk396 (by decide) (by decide)) rfl (by rw [hr396]; rfl) (Nat.le_of_ble_eq_true rfl) dX4_readStep_396 (fun H locs cells slots hS => ?_)
    refine g_iastoreG hx hb hKn hS h dX4_readStep_399 (fun G399 h H locs hS => ?_)
    refine lv_goto (tgt := 475) hx hb dX4_readStep_400 (by decide) ?_
    exact sX4_readStep_b475 C hfN hF hL _ _ _ h _ _ _ _ _ hS (gls_sub hl [0] rfl)
theorem sX4_readStep_b152 {p : Program} {l : Launch} {e : Env} {R : Room} {s : State} {m : MethodId} {args : Array Value} {below : List Frame} {meth : Method} {c : Code} {E : g_E} {D : g_D} {fN : g_E → Nat → Int32 → Int32 → g_G → Option (Int32 × g_G)} {fF : Nat} {fL : Nat} (C : gC p R s m args meth c cX4_readStep 5 RX4 "readStep" (none) (fF + 4) (fL + 200) E D) (hfN : ∀ (l : Launch) (E : g_E) (D : g_D), ∀ {t : Nat} {v1 : Int32} {v2 : Int32} {G : g_G} {q : Int32 × g_G}, fN E t v1 v2 G = some q → gMet l E D yX4_readSteps (ws_ yX4_readSteps cX4_readSteps 6 (some .int)) fF fL [.inr (.inr (some t)), .inl v1, .inl v2] G (some (.int q.1)) q.2) (hF : 200 ≤ fF) (hL : 12000 ≤ fL) : ∀ (n : Nat) (t : Nat) (v1 : Int32) (v2 : Int32) (v3 : Int32) (v4 : Int32) (G : g_G) (q : g_G), fX4_readStep_b152 E fN n t v1 v2 v3 v4 G = some q → ∀ (H : Heap) (locs : List Loc) (cells slots : Nat) (ls : Array Slot), gSt E D G H locs → gls ls 5 [(0, .inr (.inr (some t))), (1, .inl v1), (2, .inl v2), (3, .inl v3), (4, .inl v4)] → gT p l e R s m args below meth c E D H locs cells slots none q (F0 m 152 ls []) := by
  obtain ⟨hx, hb, hml, hown, hts, hKn, hRc, hRs, hc1, hc2, hRf, hRl, hr, hlk, hnm⟩ := id C
  intro n
  induction n with
  | zero =>
    intro t v1 v2 v3 v4 G q h
    exact g_no h
  | succ n ih =>
    intro t v1 v2 v3 v4 G q h H locs cells slots ls hS hl
    rw [fX4_readStep_b152] at h
    refine g_iload hx hb hl 4 rfl dX4_readStep_152 ?_
    refine lv_iconst (v := 3) hx hb dX4_readStep_154 (by decide) ?_
    refine lv_icmp_ge (tgt := 194) hx hb dX4_readStep_155 (by decide) (fun c_155 => ?_) (fun c_155 => ?_)
    · have h := g_ift c_155 h
      refine g_aload_n hx hb hl 0 rfl dX4_readStep_194 ?_
      obtain ⟨b195, hb195, h⟩ := g_bnd h
      obtain ⟨hr195, hk195⟩ := g_chk hb195
      obtain ⟨z195, h195, h⟩ := g_bnd h
      refine g_callV (n := 0) (b := b195) (av := []) (rs := []) hx hb hml hown hts hKn hRc hRs hS hl (sX4_stepOn l E D h195) (lw_V q2092 q2094 qs49 q135 q2095) ⟨rfl, by decide, by decide, by decide +kernel⟩ ⟨by rw [hRf]; omega, by rw [hRl]; omega⟩ (g_recv hKn hS hk195 (by decide) (by decide)) rfl (by rw [hr195]; rfl) (Nat.le_of_ble_eq_true rfl) dX4_readStep_195 (fun H locs cells slots hS => ?_)
      refine g_iload_n hx hb hl 2 rfl dX4_readStep_198 ?_
      by_cases w199_0 : v2 = 0
      · refine lv_tableIn (tgt := 256) (off := 57) hx hb dX4_readStep_199 (by rw [w199_0]; decide) (by rw [w199_0]; decide) (by rw [w199_0]; decide) (by decide) ?_
        have h := g_ift w199_0 h
        refine g_aload_n hx hb hl 0 rfl dX4_readStep_256 ?_
        refine g_iload_n hx hb hl 3 rfl dX4_readStep_257 ?_
        refine lv_iconst (v := 0) hx hb dX4_readStep_258 (by decide) ?_
        refine lv_iconst (v := 0) hx hb dX4_readStep_259 (by decide) ?_
        obtain ⟨b260, hb260, h⟩ := g_bnd h
        obtain ⟨hr260, hk260⟩ := g_chk hb260
        obtain ⟨z260, h260, h⟩ := g_bnd h
        refine g_callV (n := 3) (b := b260) (av := [.inl v3, .inl 0, .inl 0]) (rs := []) hx hb hml hown hts hKn hRc hRs hS hl (sX4_readInto l E D h260) (lw_V q2132 q2134 qs56 q135 q2135) ⟨rfl, by decide, by decide, by decide +kernel⟩ ⟨by rw [hRf]; omega, by rw [hRl]; omega⟩ (g_recv hKn hS hk260 (by decide) (by decide)) rfl (by rw [hr260]; rfl) (Nat.le_of_ble_eq_true rfl) dX4_readStep_260 (fun H locs cells slots hS => ?_)
        refine g_aload_n hx hb hl 0 rfl dX4_readStep_263 ?_
        refine g_ldcwS (i := 48) hx hb hown hKn (List.mem_of_getElem? (i := 57) rfl) dX4_readStep_264 ?_
        obtain ⟨b267, hb267, h⟩ := g_bnd h
        obtain ⟨hr267, hk267⟩ := g_chk hb267
        obtain ⟨z267, h267, h⟩ := g_bnd h
        refine g_callV (n := 1) (b := b267) (av := [.inr (.inr (some (gA E 48)))]) (rs := []) hx hb hml hown hts hKn hRc hRs hS hl (sX4_word l E D h267) (lw_V q2169 q2171 qs65 q135 q2172) ⟨rfl, by decide, by decide, by decide +kernel⟩ ⟨by rw [hRf]; omega, by rw [hRl]; omega⟩ (g_recv hKn hS hk267 (by decide) (by decide)) rfl (by rw [hr267]; rfl) (Nat.le_of_ble_eq_true rfl) dX4_readStep_267 (fun H locs cells slots hS => ?_)
        refine g_aload_n hx hb hl 0 rfl dX4_readStep_270 ?_
        refine g_iload_n hx hb hl 3 rfl dX4_readStep_271 ?_
        refine lv_iconst (v := 1) hx hb dX4_readStep_272 (by decide) ?_
        refine lv_iconst (v := 0) hx hb dX4_readStep_273 (by decide) ?_
        obtain ⟨b274, hb274, h⟩ := g_bnd h
        obtain ⟨hr274, hk274⟩ := g_chk hb274
        obtain ⟨z274, h274, h⟩ := g_bnd h
        refine g_callV (n := 3) (b := b274) (av := [.inl v3, .inl 1, .inl 0]) (rs := []) hx hb hml hown hts hKn hRc hRs hS hl (sX4_readInto l E D h274) (lw_V q2132 q2134 qs56 q135 q2135) ⟨rfl, by decide, by decide, by decide +kernel⟩ ⟨by rw [hRf]; omega, by rw [hRl]; omega⟩ (g_recv hKn hS hk274 (by decide) (by decide)) rfl (by rw [hr274]; rfl) (Nat.le_of_ble_eq_true rfl) dX4_readStep_274 (fun H locs cells slots hS => ?_)
        refine g_aload_n hx hb hl 0 rfl dX4_readStep_277 ?_
        refine g_ldcwS (i := 49) hx hb hown hKn (List.mem_of_getElem? (i := 58) rfl) dX4_readStep_278 ?_
        obtain ⟨b281, hb281, h⟩ := g_bnd h
        obtain ⟨hr281, hk281⟩ := g_chk hb281
        obtain ⟨z281, h281, h⟩ := g_bnd h
        refine g_callV (n := 1) (b := b281) (av := [.inr (.inr (some (gA E 49)))]) (rs := []) hx hb hml hown hts hKn hRc hRs hS hl (sX4_word l E D h281) (lw_V q2169 q2171 qs65 q135 q2172) ⟨rfl, by decide, by decide, by decide +kernel⟩ ⟨by rw [hRf]; omega, by rw [hRl]; omega⟩ (g_recv hKn hS hk281 (by decide) (by decide)) rfl (by rw [hr281]; rfl) (Nat.le_of_ble_eq_true rfl) dX4_readStep_281 (fun H locs cells slots hS => ?_)
        refine g_aload_n hx hb hl 0 rfl dX4_readStep_284 ?_
        refine g_iload_n hx hb hl 3 rfl dX4_readStep_285 ?_
        refine lv_iconst (v := 2) hx hb dX4_readStep_286 (by decide) ?_
        refine lv_iconst (v := 0) hx hb dX4_readStep_287 (by decide) ?_
        obtain ⟨b288, hb288, h⟩ := g_bnd h
        obtain ⟨hr288, hk288⟩ := g_chk hb288
        obtain ⟨z288, h288, h⟩ := g_bnd h
        refine g_callV (n := 3) (b := b288) (av := [.inl v3, .inl 2, .inl 0]) (rs := []) hx hb hml hown hts hKn hRc hRs hS hl (sX4_readInto l E D h288) (lw_V q2132 q2134 qs56 q135 q2135) ⟨rfl, by decide, by decide, by decide +kernel⟩ ⟨by rw [hRf]; omega, by rw [hRl]; omega⟩ (g_recv hKn hS hk288 (by decide) (by decide)) rfl (by rw [hr288]; rfl) (Nat.le_of_ble_eq_true rfl) dX4_readStep_288 (fun H locs cells slots hS => ?_)
        refine g_aload_n hx hb hl 0 rfl dX4_readStep_291 ?_
        refine g_ldcwS (i := 50) hx hb hown hKn (List.mem_of_getElem? (i := 59) rfl) dX4_readStep_292 ?_
        obtain ⟨b295, hb295, h⟩ := g_bnd h
        obtain ⟨hr295, hk295⟩ := g_chk hb295
        obtain ⟨z295, h295, h⟩ := g_bnd h
        refine g_callV (n := 1) (b := b295) (av := [.inr (.inr (some (gA E 50)))]) (rs := []) hx hb hml hown hts hKn hRc hRs hS hl (sX4_is l E D h295) (lw_V q2113 q2115 qs52 q135 q2116) ⟨rfl, by decide, by decide, by decide +kernel⟩ ⟨by rw [hRf]; omega, by rw [hRl]; omega⟩ (g_recv hKn hS hk295 (by decide) (by decide)) rfl (by rw [hr295]; rfl) (Nat.le_of_ble_eq_true rfl) dX4_readStep_295 (fun H locs cells slots hS => ?_)
        refine lv_if_eq (tgt := 475) hx hb dX4_readStep_298 (by decide) (fun c_298 => ?_) (fun c_298 => ?_)
        · have h := g_ift c_298 h
          exact sX4_readStep_b475 C hfN hF hL _ _ _ h _ _ _ _ _ hS (gls_sub hl [0] rfl)
        · have h := g_iff c_298 h
          refine g_aload_n hx hb hl 0 rfl dX4_readStep_301 ?_
          obtain ⟨b302, hb302, h⟩ := g_bnd h
          obtain ⟨hr302, hk302⟩ := g_chk hb302
          obtain ⟨z302, h302, h⟩ := g_bnd h
          refine g_callV (n := 0) (b := b302) (av := []) (rs := []) hx hb hml hown hts hKn hRc hRs hS hl (sX4_stepOn l E D h302) (lw_V q2092 q2094 qs49 q135 q2095) ⟨rfl, by decide, by decide, by decide +kernel⟩ ⟨by rw [hRf]; omega, by rw [hRl]; omega⟩ (g_recv hKn hS hk302 (by decide) (by decide)) rfl (by rw [hr302]; rfl) (Nat.le_of_ble_eq_true rfl) dX4_readStep_302 (fun H locs cells slots hS => ?_)
          refine g_aload_n hx hb hl 0 rfl dX4_readStep_305 ?_
          refine g_rdR hx hb hown hts hKn hS h fd_4_4_28 rfl (Or.inl (hts _ q1893)) (fun _ z => z) dX4_readStep_306 (fun x306 h => ?_)
          refine lv_bipush (v := 40) hx hb dX4_readStep_309 (by decide) ?_
          refine g_iload_n hx hb hl 3 rfl dX4_readStep_311 ?_
          refine lv_iadd hx hb dX4_readStep_312 ?_
          refine g_aload_n hx hb hl 0 rfl dX4_readStep_313 ?_
          refine lv_iconst (v := 1) hx hb dX4_readStep_314 (by decide) ?_
          refine lv_bipush (v := 99) hx hb dX4_readStep_315 (by decide) ?_
          obtain ⟨b317, hb317, h⟩ := g_bnd h
          obtain ⟨hr317, hk317⟩ := g_chk hb317
          obtain ⟨z317, h317, h⟩ := g_bnd h
          refine g_callV (n := 2) (b := b317) (av := [.inl 1, .inl 99]) (rs := [.inl (40 + v3), .inr (.inr x306)]) hx hb hml hown hts hKn hRc hRs hS hl (sX4_readNumber l E D h317) (lw_V q2156 q2158 qs62 q135 q2159) ⟨rfl, by decide, by decide, by decide +kernel⟩ ⟨by rw [hRf]; omega, by rw [hRl]; omega⟩ (g_recv hKn hS hk317 (by decide) (by decide)) rfl (by rw [hr317]; rfl) (Nat.le_of_ble_eq_true rfl) dX4_readStep_317 (fun H locs cells slots hS => ?_)
          refine g_iastoreG hx hb hKn hS h dX4_readStep_320 (fun G320 h H locs hS => ?_)
          refine lv_goto (tgt := 475) hx hb dX4_readStep_321 (by decide) ?_
          exact sX4_readStep_b475 C hfN hF hL _ _ _ h _ _ _ _ _ hS (gls_sub hl [0] rfl)
      have h := g_iff w199_0 h
      by_cases w199_1 : v2 = 1
      · refine lv_tableIn (tgt := 256) (off := 57) hx hb dX4_readStep_199 (by rw [w199_1]; decide) (by rw [w199_1]; decide) (by rw [w199_1]; decide) (by decide) ?_
        have h := g_ift w199_1 h
        refine g_aload_n hx hb hl 0 rfl dX4_readStep_256 ?_
        refine g_iload_n hx hb hl 3 rfl dX4_readStep_257 ?_
        refine lv_iconst (v := 0) hx hb dX4_readStep_258 (by decide) ?_
        refine lv_iconst (v := 0) hx hb dX4_readStep_259 (by decide) ?_
        obtain ⟨b260, hb260, h⟩ := g_bnd h
        obtain ⟨hr260, hk260⟩ := g_chk hb260
        obtain ⟨z260, h260, h⟩ := g_bnd h
        refine g_callV (n := 3) (b := b260) (av := [.inl v3, .inl 0, .inl 0]) (rs := []) hx hb hml hown hts hKn hRc hRs hS hl (sX4_readInto l E D h260) (lw_V q2132 q2134 qs56 q135 q2135) ⟨rfl, by decide, by decide, by decide +kernel⟩ ⟨by rw [hRf]; omega, by rw [hRl]; omega⟩ (g_recv hKn hS hk260 (by decide) (by decide)) rfl (by rw [hr260]; rfl) (Nat.le_of_ble_eq_true rfl) dX4_readStep_260 (fun H locs cells slots hS => ?_)
        refine g_aload_n hx hb hl 0 rfl dX4_readStep_263 ?_
        refine g_ldcwS (i := 48) hx hb hown hKn (List.mem_of_getElem? (i := 57) rfl) dX4_readStep_264 ?_
        obtain ⟨b267, hb267, h⟩ := g_bnd h
        obtain ⟨hr267, hk267⟩ := g_chk hb267
        obtain ⟨z267, h267, h⟩ := g_bnd h
        refine g_callV (n := 1) (b := b267) (av := [.inr (.inr (some (gA E 48)))]) (rs := []) hx hb hml hown hts hKn hRc hRs hS hl (sX4_word l E D h267) (lw_V q2169 q2171 qs65 q135 q2172) ⟨rfl, by decide, by decide, by decide +kernel⟩ ⟨by rw [hRf]; omega, by rw [hRl]; omega⟩ (g_recv hKn hS hk267 (by decide) (by decide)) rfl (by rw [hr267]; rfl) (Nat.le_of_ble_eq_true rfl) dX4_readStep_267 (fun H locs cells slots hS => ?_)
        refine g_aload_n hx hb hl 0 rfl dX4_readStep_270 ?_
        refine g_iload_n hx hb hl 3 rfl dX4_readStep_271 ?_
        refine lv_iconst (v := 1) hx hb dX4_readStep_272 (by decide) ?_
        refine lv_iconst (v := 0) hx hb dX4_readStep_273 (by decide) ?_
        obtain ⟨b274, hb274, h⟩ := g_bnd h
        obtain ⟨hr274, hk274⟩ := g_chk hb274
        obtain ⟨z274, h274, h⟩ := g_bnd h
        refine g_callV (n := 3) (b := b274) (av := [.inl v3, .inl 1, .inl 0]) (rs := []) hx hb hml hown hts hKn hRc hRs hS hl (sX4_readInto l E D h274) (lw_V q2132 q2134 qs56 q135 q2135) ⟨rfl, by decide, by decide, by decide +kernel⟩ ⟨by rw [hRf]; omega, by rw [hRl]; omega⟩ (g_recv hKn hS hk274 (by decide) (by decide)) rfl (by rw [hr274]; rfl) (Nat.le_of_ble_eq_true rfl) dX4_readStep_274 (fun H locs cells slots hS => ?_)
        refine g_aload_n hx hb hl 0 rfl dX4_readStep_277 ?_
        refine g_ldcwS (i := 49) hx hb hown hKn (List.mem_of_getElem? (i := 58) rfl) dX4_readStep_278 ?_
        obtain ⟨b281, hb281, h⟩ := g_bnd h
        obtain ⟨hr281, hk281⟩ := g_chk hb281
        obtain ⟨z281, h281, h⟩ := g_bnd h
        refine g_callV (n := 1) (b := b281) (av := [.inr (.inr (some (gA E 49)))]) (rs := []) hx hb hml hown hts hKn hRc hRs hS hl (sX4_word l E D h281) (lw_V q2169 q2171 qs65 q135 q2172) ⟨rfl, by decide, by decide, by decide +kernel⟩ ⟨by rw [hRf]; omega, by rw [hRl]; omega⟩ (g_recv hKn hS hk281 (by decide) (by decide)) rfl (by rw [hr281]; rfl) (Nat.le_of_ble_eq_true rfl) dX4_readStep_281 (fun H locs cells slots hS => ?_)
        refine g_aload_n hx hb hl 0 rfl dX4_readStep_284 ?_
        refine g_iload_n hx hb hl 3 rfl dX4_readStep_285 ?_
        refine lv_iconst (v := 2) hx hb dX4_readStep_286 (by decide) ?_
        refine lv_iconst (v := 0) hx hb dX4_readStep_287 (by decide) ?_
        obtain ⟨b288, hb288, h⟩ := g_bnd h
        obtain ⟨hr288, hk288⟩ := g_chk hb288
        obtain ⟨z288, h288, h⟩ := g_bnd h
        refine g_callV (n := 3) (b := b288) (av := [.inl v3, .inl 2, .inl 0]) (rs := []) hx hb hml hown hts hKn hRc hRs hS hl (sX4_readInto l E D h288) (lw_V q2132 q2134 qs56 q135 q2135) ⟨rfl, by decide, by decide, by decide +kernel⟩ ⟨by rw [hRf]; omega, by rw [hRl]; omega⟩ (g_recv hKn hS hk288 (by decide) (by decide)) rfl (by rw [hr288]; rfl) (Nat.le_of_ble_eq_true rfl) dX4_readStep_288 (fun H locs cells slots hS => ?_)
        refine g_aload_n hx hb hl 0 rfl dX4_readStep_291 ?_
        refine g_ldcwS (i := 50) hx hb hown hKn (List.mem_of_getElem? (i := 59) rfl) dX4_readStep_292 ?_
        obtain ⟨b295, hb295, h⟩ := g_bnd h
        obtain ⟨hr295, hk295⟩ := g_chk hb295
        obtain ⟨z295, h295, h⟩ := g_bnd h
        refine g_callV (n := 1) (b := b295) (av := [.inr (.inr (some (gA E 50)))]) (rs := []) hx hb hml hown hts hKn hRc hRs hS hl (sX4_is l E D h295) (lw_V q2113 q2115 qs52 q135 q2116) ⟨rfl, by decide, by decide, by decide +kernel⟩ ⟨by rw [hRf]; omega, by rw [hRl]; omega⟩ (g_recv hKn hS hk295 (by decide) (by decide)) rfl (by rw [hr295]; rfl) (Nat.le_of_ble_eq_true rfl) dX4_readStep_295 (fun H locs cells slots hS => ?_)
        refine lv_if_eq (tgt := 475) hx hb dX4_readStep_298 (by decide) (fun c_298 => ?_) (fun c_298 => ?_)
        · have h := g_ift c_298 h
          exact sX4_readStep_b475 C hfN hF hL _ _ _ h _ _ _ _ _ hS (gls_sub hl [0] rfl)
        · have h := g_iff c_298 h
          refine g_aload_n hx hb hl 0 rfl dX4_readStep_301 ?_
          obtain ⟨b302, hb302, h⟩ := g_bnd h
          obtain ⟨hr302, hk302⟩ := g_chk hb302
          obtain ⟨z302, h302, h⟩ := g_bnd h
          refine g_callV (n := 0) (b := b302) (av := []) (rs := []) hx hb hml hown hts hKn hRc hRs hS hl (sX4_stepOn l E D h302) (lw_V q2092 q2094 qs49 q135 q2095) ⟨rfl, by decide, by decide, by decide +kernel⟩ ⟨by rw [hRf]; omega, by rw [hRl]; omega⟩ (g_recv hKn hS hk302 (by decide) (by decide)) rfl (by rw [hr302]; rfl) (Nat.le_of_ble_eq_true rfl) dX4_readStep_302 (fun H locs cells slots hS => ?_)
          refine g_aload_n hx hb hl 0 rfl dX4_readStep_305 ?_
          refine g_rdR hx hb hown hts hKn hS h fd_4_4_28 rfl (Or.inl (hts _ q1893)) (fun _ z => z) dX4_readStep_306 (fun x306 h => ?_)
          refine lv_bipush (v := 40) hx hb dX4_readStep_309 (by decide) ?_
          refine g_iload_n hx hb hl 3 rfl dX4_readStep_311 ?_
          refine lv_iadd hx hb dX4_readStep_312 ?_
          refine g_aload_n hx hb hl 0 rfl dX4_readStep_313 ?_
          refine lv_iconst (v := 1) hx hb dX4_readStep_314 (by decide) ?_
          refine lv_bipush (v := 99) hx hb dX4_readStep_315 (by decide) ?_
          obtain ⟨b317, hb317, h⟩ := g_bnd h
          obtain ⟨hr317, hk317⟩ := g_chk hb317
          obtain ⟨z317, h317, h⟩ := g_bnd h
          refine g_callV (n := 2) (b := b317) (av := [.inl 1, .inl 99]) (rs := [.inl (40 + v3), .inr (.inr x306)]) hx hb hml hown hts hKn hRc hRs hS hl (sX4_readNumber l E D h317) (lw_V q2156 q2158 qs62 q135 q2159) ⟨rfl, by decide, by decide, by decide +kernel⟩ ⟨by rw [hRf]; omega, by rw [hRl]; omega⟩ (g_recv hKn hS hk317 (by decide) (by decide)) rfl (by rw [hr317]; rfl) (Nat.le_of_ble_eq_true rfl) dX4_readStep_317 (fun H locs cells slots hS => ?_)
          refine g_iastoreG hx hb hKn hS h dX4_readStep_320 (fun G320 h H locs hS => ?_)
          refine lv_goto (tgt := 475) hx hb dX4_readStep_321 (by decide) ?_
          exact sX4_readStep_b475 C hfN hF hL _ _ _ h _ _ _ _ _ hS (gls_sub hl [0] rfl)
      have h := g_iff w199_1 h
      by_cases w199_2 : v2 = 2
      · refine lv_tableIn (tgt := 256) (off := 57) hx hb dX4_readStep_199 (by rw [w199_2]; decide) (by rw [w199_2]; decide) (by rw [w199_2]; decide) (by decide) ?_
        have h := g_ift w199_2 h
        refine g_aload_n hx hb hl 0 rfl dX4_readStep_256 ?_
        refine g_iload_n hx hb hl 3 rfl dX4_readStep_257 ?_
        refine lv_iconst (v := 0) hx hb dX4_readStep_258 (by decide) ?_
        refine lv_iconst (v := 0) hx hb dX4_readStep_259 (by decide) ?_
        obtain ⟨b260, hb260, h⟩ := g_bnd h
        obtain ⟨hr260, hk260⟩ := g_chk hb260
        obtain ⟨z260, h260, h⟩ := g_bnd h
        refine g_callV (n := 3) (b := b260) (av := [.inl v3, .inl 0, .inl 0]) (rs := []) hx hb hml hown hts hKn hRc hRs hS hl (sX4_readInto l E D h260) (lw_V q2132 q2134 qs56 q135 q2135) ⟨rfl, by decide, by decide, by decide +kernel⟩ ⟨by rw [hRf]; omega, by rw [hRl]; omega⟩ (g_recv hKn hS hk260 (by decide) (by decide)) rfl (by rw [hr260]; rfl) (Nat.le_of_ble_eq_true rfl) dX4_readStep_260 (fun H locs cells slots hS => ?_)
        refine g_aload_n hx hb hl 0 rfl dX4_readStep_263 ?_
        refine g_ldcwS (i := 48) hx hb hown hKn (List.mem_of_getElem? (i := 57) rfl) dX4_readStep_264 ?_
        obtain ⟨b267, hb267, h⟩ := g_bnd h
        obtain ⟨hr267, hk267⟩ := g_chk hb267
        obtain ⟨z267, h267, h⟩ := g_bnd h
        refine g_callV (n := 1) (b := b267) (av := [.inr (.inr (some (gA E 48)))]) (rs := []) hx hb hml hown hts hKn hRc hRs hS hl (sX4_word l E D h267) (lw_V q2169 q2171 qs65 q135 q2172) ⟨rfl, by decide, by decide, by decide +kernel⟩ ⟨by rw [hRf]; omega, by rw [hRl]; omega⟩ (g_recv hKn hS hk267 (by decide) (by decide)) rfl (by rw [hr267]; rfl) (Nat.le_of_ble_eq_true rfl) dX4_readStep_267 (fun H locs cells slots hS => ?_)
        refine g_aload_n hx hb hl 0 rfl dX4_readStep_270 ?_
        refine g_iload_n hx hb hl 3 rfl dX4_readStep_271 ?_
        refine lv_iconst (v := 1) hx hb dX4_readStep_272 (by decide) ?_
        refine lv_iconst (v := 0) hx hb dX4_readStep_273 (by decide) ?_
        obtain ⟨b274, hb274, h⟩ := g_bnd h
        obtain ⟨hr274, hk274⟩ := g_chk hb274
        obtain ⟨z274, h274, h⟩ := g_bnd h
        refine g_callV (n := 3) (b := b274) (av := [.inl v3, .inl 1, .inl 0]) (rs := []) hx hb hml hown hts hKn hRc hRs hS hl (sX4_readInto l E D h274) (lw_V q2132 q2134 qs56 q135 q2135) ⟨rfl, by decide, by decide, by decide +kernel⟩ ⟨by rw [hRf]; omega, by rw [hRl]; omega⟩ (g_recv hKn hS hk274 (by decide) (by decide)) rfl (by rw [hr274]; rfl) (Nat.le_of_ble_eq_true rfl) dX4_readStep_274 (fun H locs cells slots hS => ?_)
        refine g_aload_n hx hb hl 0 rfl dX4_readStep_277 ?_
        refine g_ldcwS (i := 49) hx hb hown hKn (List.mem_of_getElem? (i := 58) rfl) dX4_readStep_278 ?_
        obtain ⟨b281, hb281, h⟩ := g_bnd h
        obtain ⟨hr281, hk281⟩ := g_chk hb281
        obtain ⟨z281, h281, h⟩ := g_bnd h
        refine g_callV (n := 1) (b := b281) (av := [.inr (.inr (some (gA E 49)))]) (rs := []) hx hb hml hown hts hKn hRc hRs hS hl (sX4_word l E D h281) (lw_V q2169 q2171 qs65 q135 q2172) ⟨rfl, by decide, by decide, by decide +kernel⟩ ⟨by rw [hRf]; omega, by rw [hRl]; omega⟩ (g_recv hKn hS hk281 (by decide) (by decide)) rfl (by rw [hr281]; rfl) (Nat.le_of_ble_eq_true rfl) dX4_readStep_281 (fun H locs cells slots hS => ?_)
        refine g_aload_n hx hb hl 0 rfl dX4_readStep_284 ?_
        refine g_iload_n hx hb hl 3 rfl dX4_readStep_285 ?_
        refine lv_iconst (v := 2) hx hb dX4_readStep_286 (by decide) ?_
        refine lv_iconst (v := 0) hx hb dX4_readStep_287 (by decide) ?_
        obtain ⟨b288, hb288, h⟩ := g_bnd h
        obtain ⟨hr288, hk288⟩ := g_chk hb288
        obtain ⟨z288, h288, h⟩ := g_bnd h
        refine g_callV (n := 3) (b := b288) (av := [.inl v3, .inl 2, .inl 0]) (rs := []) hx hb hml hown hts hKn hRc hRs hS hl (sX4_readInto l E D h288) (lw_V q2132 q2134 qs56 q135 q2135) ⟨rfl, by decide, by decide, by decide +kernel⟩ ⟨by rw [hRf]; omega, by rw [hRl]; omega⟩ (g_recv hKn hS hk288 (by decide) (by decide)) rfl (by rw [hr288]; rfl) (Nat.le_of_ble_eq_true rfl) dX4_readStep_288 (fun H locs cells slots hS => ?_)
        refine g_aload_n hx hb hl 0 rfl dX4_readStep_291 ?_
        refine g_ldcwS (i := 50) hx hb hown hKn (List.mem_of_getElem? (i := 59) rfl) dX4_readStep_292 ?_
        obtain ⟨b295, hb295, h⟩ := g_bnd h
        obtain ⟨hr295, hk295⟩ := g_chk hb295
        obtain ⟨z295, h295, h⟩ := g_bnd h
        refine g_callV (n := 1) (b := b295) (av := [.inr (.inr (some (gA E 50)))]) (rs := []) hx hb hml hown hts hKn hRc hRs hS hl (sX4_is l E D h295) (lw_V q2113 q2115 qs52 q135 q2116) ⟨rfl, by decide, by decide, by decide +kernel⟩ ⟨by rw [hRf]; omega, by rw [hRl]; omega⟩ (g_recv hKn hS hk295 (by decide) (by decide)) rfl (by rw [hr295]; rfl) (Nat.le_of_ble_eq_true rfl) dX4_readStep_295 (fun H locs cells slots hS => ?_)
        refine lv_if_eq (tgt := 475) hx hb dX4_readStep_298 (by decide) (fun c_298 => ?_) (fun c_298 => ?_)
        · have h := g_ift c_298 h
          exact sX4_readStep_b475 C hfN hF hL _ _ _ h _ _ _ _ _ hS (gls_sub hl [0] rfl)
        · have h := g_iff c_298 h
          refine g_aload_n hx hb hl 0 rfl dX4_readStep_301 ?_
          obtain ⟨b302, hb302, h⟩ := g_bnd h
          obtain ⟨hr302, hk302⟩ := g_chk hb302
          obtain ⟨z302, h302, h⟩ := g_bnd h
          refine g_callV (n := 0) (b := b302) (av := []) (rs := []) hx hb hml hown hts hKn hRc hRs hS hl (sX4_stepOn l E D h302) (lw_V q2092 q2094 qs49 q135 q2095) ⟨rfl, by decide, by decide, by decide +kernel⟩ ⟨by rw [hRf]; omega, by rw [hRl]; omega⟩ (g_recv hKn hS hk302 (by decide) (by decide)) rfl (by rw [hr302]; rfl) (Nat.le_of_ble_eq_true rfl) dX4_readStep_302 (fun H locs cells slots hS => ?_)
          refine g_aload_n hx hb hl 0 rfl dX4_readStep_305 ?_
          refine g_rdR hx hb hown hts hKn hS h fd_4_4_28 rfl (Or.inl (hts _ q1893)) (fun _ z => z) dX4_readStep_306 (fun x306 h => ?_)
          refine lv_bipush (v := 40) hx hb dX4_readStep_309 (by decide) ?_
          refine g_iload_n hx hb hl 3 rfl dX4_readStep_311 ?_
          refine lv_iadd hx hb dX4_readStep_312 ?_
          refine g_aload_n hx hb hl 0 rfl dX4_readStep_313 ?_
          refine lv_iconst (v := 1) hx hb dX4_readStep_314 (by decide) ?_
          refine lv_bipush (v := 99) hx hb dX4_readStep_315 (by decide) ?_
          obtain ⟨b317, hb317, h⟩ := g_bnd h
          obtain ⟨hr317, hk317⟩ := g_chk hb317
          obtain ⟨z317, h317, h⟩ := g_bnd h
          refine g_callV (n := 2) (b := b317) (av := [.inl 1, .inl 99]) (rs := [.inl (40 + v3), .inr (.inr x306)]) hx hb hml hown hts hKn hRc hRs hS hl (sX4_readNumber l E D h317) (lw_V q2156 q2158 qs62 q135 q2159) ⟨rfl, by decide, by decide, by decide +kernel⟩ ⟨by rw [hRf]; omega, by rw [hRl]; omega⟩ (g_recv hKn hS hk317 (by decide) (by decide)) rfl (by rw [hr317]; rfl) (Nat.le_of_ble_eq_true rfl) dX4_readStep_317 (fun H locs cells slots hS => ?_)
          refine g_iastoreG hx hb hKn hS h dX4_readStep_320 (fun G320 h H locs hS => ?_)
          refine lv_goto (tgt := 475) hx hb dX4_readStep_321 (by decide) ?_
          exact sX4_readStep_b475 C hfN hF hL _ _ _ h _ _ _ _ _ hS (gls_sub hl [0] rfl)
      have h := g_iff w199_2 h
      by_cases w199_3 : v2 = 3
      · refine lv_tableIn (tgt := 324) (off := 125) hx hb dX4_readStep_199 (by rw [w199_3]; decide) (by rw [w199_3]; decide) (by rw [w199_3]; decide) (by decide) ?_
        have h := g_ift w199_3 h
        refine g_iload_n hx hb hl 2 rfl dX4_readStep_324 ?_
        refine lv_iconst (v := 3) hx hb dX4_readStep_325 (by decide) ?_
        refine lv_icmp_ne (tgt := 336) hx hb dX4_readStep_326 (by decide) (fun c_326 => ?_) (fun c_326 => ?_)
        · have h := g_ift c_326 h
          exact sX4_readStep_b336 C hfN hF hL _ _ _ _ h _ _ _ _ _ hS (gls_sub hl [0, 3] rfl)
        · have h := g_iff (fun z => z c_326) h
          refine g_aload_n hx hb hl 0 rfl dX4_readStep_329 ?_
          refine g_iload_n hx hb hl 3 rfl dX4_readStep_330 ?_
          refine lv_iconst (v := 0) hx hb dX4_readStep_331 (by decide) ?_
          refine lv_iconst (v := 0) hx hb dX4_readStep_332 (by decide) ?_
          obtain ⟨b333, hb333, h⟩ := g_bnd h
          obtain ⟨hr333, hk333⟩ := g_chk hb333
          obtain ⟨z333, h333, h⟩ := g_bnd h
          refine g_callV (n := 3) (b := b333) (av := [.inl v3, .inl 0, .inl 0]) (rs := []) hx hb hml hown hts hKn hRc hRs hS hl (sX4_readInto l E D h333) (lw_V q2132 q2134 qs56 q135 q2135) ⟨rfl, by decide, by decide, by decide +kernel⟩ ⟨by rw [hRf]; omega, by rw [hRl]; omega⟩ (g_recv hKn hS hk333 (by decide) (by decide)) rfl (by rw [hr333]; rfl) (Nat.le_of_ble_eq_true rfl) dX4_readStep_333 (fun H locs cells slots hS => ?_)
          exact sX4_readStep_b336 C hfN hF hL _ _ _ _ h _ _ _ _ _ hS (gls_sub hl [0, 3] rfl)
      have h := g_iff w199_3 h
      by_cases w199_4 : v2 = 4
      · refine lv_tableIn (tgt := 324) (off := 125) hx hb dX4_readStep_199 (by rw [w199_4]; decide) (by rw [w199_4]; decide) (by rw [w199_4]; decide) (by decide) ?_
        have h := g_ift w199_4 h
        refine g_iload_n hx hb hl 2 rfl dX4_readStep_324 ?_
        refine lv_iconst (v := 3) hx hb dX4_readStep_325 (by decide) ?_
        refine lv_icmp_ne (tgt := 336) hx hb dX4_readStep_326 (by decide) (fun c_326 => ?_) (fun c_326 => ?_)
        · have h := g_ift c_326 h
          exact sX4_readStep_b336 C hfN hF hL _ _ _ _ h _ _ _ _ _ hS (gls_sub hl [0, 3] rfl)
        · have h := g_iff (fun z => z c_326) h
          refine g_aload_n hx hb hl 0 rfl dX4_readStep_329 ?_
          refine g_iload_n hx hb hl 3 rfl dX4_readStep_330 ?_
          refine lv_iconst (v := 0) hx hb dX4_readStep_331 (by decide) ?_
          refine lv_iconst (v := 0) hx hb dX4_readStep_332 (by decide) ?_
          obtain ⟨b333, hb333, h⟩ := g_bnd h
          obtain ⟨hr333, hk333⟩ := g_chk hb333
          obtain ⟨z333, h333, h⟩ := g_bnd h
          refine g_callV (n := 3) (b := b333) (av := [.inl v3, .inl 0, .inl 0]) (rs := []) hx hb hml hown hts hKn hRc hRs hS hl (sX4_readInto l E D h333) (lw_V q2132 q2134 qs56 q135 q2135) ⟨rfl, by decide, by decide, by decide +kernel⟩ ⟨by rw [hRf]; omega, by rw [hRl]; omega⟩ (g_recv hKn hS hk333 (by decide) (by decide)) rfl (by rw [hr333]; rfl) (Nat.le_of_ble_eq_true rfl) dX4_readStep_333 (fun H locs cells slots hS => ?_)
          exact sX4_readStep_b336 C hfN hF hL _ _ _ _ h _ _ _ _ _ hS (gls_sub hl [0, 3] rfl)
      have h := g_iff w199_4 h
      by_cases w199_5 : v2 = 7
      · refine lv_tableIn (tgt := 403) (off := 204) hx hb dX4_readStep_199 (by rw [w199_5]; decide) (by rw [w199_5]; decide) (by rw [w199_5]; decide) (by decide) ?_
        have h := g_ift w199_5 h
        refine g_aload_n hx hb hl 0 rfl dX4_readStep_403 ?_
        refine g_iload_n hx hb hl 3 rfl dX4_readStep_404 ?_
        refine lv_iconst (v := 0) hx hb dX4_readStep_405 (by decide) ?_
        refine lv_iconst (v := 0) hx hb dX4_readStep_406 (by decide) ?_
        obtain ⟨b407, hb407, h⟩ := g_bnd h
        obtain ⟨hr407, hk407⟩ := g_chk hb407
        obtain ⟨z407, h407, h⟩ := g_bnd h
        refine g_callV (n := 3) (b := b407) (av := [.inl v3, .inl 0, .inl 0]) (rs := []) hx hb hml hown hts hKn hRc hRs hS hl (sX4_readInto l E D h407) (lw_V q2132 q2134 qs56 q135 q2135) ⟨rfl, by decide, by decide, by decide +kernel⟩ ⟨by rw [hRf]; omega, by rw [hRl]; omega⟩ (g_recv hKn hS hk407 (by decide) (by decide)) rfl (by rw [hr407]; rfl) (Nat.le_of_ble_eq_true rfl) dX4_readStep_407 (fun H locs cells slots hS => ?_)
        refine g_aload_n hx hb hl 0 rfl dX4_readStep_410 ?_
        refine g_ldcwS (i := 51) hx hb hown hKn (List.mem_of_getElem? (i := 60) rfl) dX4_readStep_411 ?_
        obtain ⟨b414, hb414, h⟩ := g_bnd h
        obtain ⟨hr414, hk414⟩ := g_chk hb414
        obtain ⟨z414, h414, h⟩ := g_bnd h
        refine g_callV (n := 1) (b := b414) (av := [.inr (.inr (some (gA E 51)))]) (rs := []) hx hb hml hown hts hKn hRc hRs hS hl (sX4_word l E D h414) (lw_V q2169 q2171 qs65 q135 q2172) ⟨rfl, by decide, by decide, by decide +kernel⟩ ⟨by rw [hRf]; omega, by rw [hRl]; omega⟩ (g_recv hKn hS hk414 (by decide) (by decide)) rfl (by rw [hr414]; rfl) (Nat.le_of_ble_eq_true rfl) dX4_readStep_414 (fun H locs cells slots hS => ?_)
        refine g_aload_n hx hb hl 0 rfl dX4_readStep_417 ?_
        refine g_rdR hx hb hown hts hKn hS h fd_4_4_27 rfl (Or.inl (hts _ q1892)) (fun _ z => z) dX4_readStep_418 (fun x418 h => ?_)
        refine lv_bipush (v := 40) hx hb dX4_readStep_421 (by decide) ?_
        refine g_iload_n hx hb hl 3 rfl dX4_readStep_423 ?_
        refine lv_iadd hx hb dX4_readStep_424 ?_
        refine g_aload_n hx hb hl 0 rfl dX4_readStep_425 ?_
        obtain ⟨b426, hb426, h⟩ := g_bnd h
        obtain ⟨hr426, hk426⟩ := g_chk hb426
        obtain ⟨z426, h426, h⟩ := g_bnd h
        refine g_callV (n := 0) (b := b426) (av := []) (rs := [.inl (40 + v3), .inr (.inr x418)]) hx hb hml hown hts hKn hRc hRs hS hl (sX4_readVar l E D h426) (lw_V q2176 q2178 qs66 q135 q2179) ⟨rfl, by decide, by decide, by decide +kernel⟩ ⟨by rw [hRf]; omega, by rw [hRl]; omega⟩ (g_recv hKn hS hk426 (by decide) (by decide)) rfl (by rw [hr426]; rfl) (Nat.le_of_ble_eq_true rfl) dX4_readStep_426 (fun H locs cells slots hS => ?_)
        refine g_iastoreG hx hb hKn hS h dX4_readStep_429 (fun G429 h H locs hS => ?_)
        refine lv_goto (tgt := 475) hx hb dX4_readStep_430 (by decide) ?_
        exact sX4_readStep_b475 C hfN hF hL _ _ _ h _ _ _ _ _ hS (gls_sub hl [0] rfl)
      have h := g_iff w199_5 h
      by_cases w199_6 : v2 = 8
      · refine lv_tableIn (tgt := 433) (off := 234) hx hb dX4_readStep_199 (by rw [w199_6]; decide) (by rw [w199_6]; decide) (by rw [w199_6]; decide) (by decide) ?_
        have h := g_ift w199_6 h
        refine g_aload_n hx hb hl 0 rfl dX4_readStep_433 ?_
        refine g_rdR hx hb hown hts hKn hS h fd_4_4_27 rfl (Or.inl (hts _ q1892)) (fun _ z => z) dX4_readStep_434 (fun x434 h => ?_)
        refine lv_bipush (v := 40) hx hb dX4_readStep_437 (by decide) ?_
        refine g_iload_n hx hb hl 3 rfl dX4_readStep_439 ?_
        refine lv_iadd hx hb dX4_readStep_440 ?_
        refine g_aload_n hx hb hl 0 rfl dX4_readStep_441 ?_
        obtain ⟨b442, hb442, h⟩ := g_bnd h
        obtain ⟨hr442, hk442⟩ := g_chk hb442
        obtain ⟨z442, h442, h⟩ := g_bnd h
        refine g_callV (n := 0) (b := b442) (av := []) (rs := [.inl (40 + v3), .inr (.inr x434)]) hx hb hml hown hts hKn hRc hRs hS hl (sX4_readVar l E D h442) (lw_V q2176 q2178 qs66 q135 q2179) ⟨rfl, by decide, by decide, by decide +kernel⟩ ⟨by rw [hRf]; omega, by rw [hRl]; omega⟩ (g_recv hKn hS hk442 (by decide) (by decide)) rfl (by rw [hr442]; rfl) (Nat.le_of_ble_eq_true rfl) dX4_readStep_442 (fun H locs cells slots hS => ?_)
        refine g_iastoreG hx hb hKn hS h dX4_readStep_445 (fun G445 h H locs hS => ?_)
        refine g_aload_n hx hb hl 0 rfl dX4_readStep_446 ?_
        refine g_iload_n hx hb hl 3 rfl dX4_readStep_447 ?_
        refine lv_iconst (v := 0) hx hb dX4_readStep_448 (by decide) ?_
        refine lv_iconst (v := 1) hx hb dX4_readStep_449 (by decide) ?_
        obtain ⟨b450, hb450, h⟩ := g_bnd h
        obtain ⟨hr450, hk450⟩ := g_chk hb450
        obtain ⟨z450, h450, h⟩ := g_bnd h
        refine g_callV (n := 3) (b := b450) (av := [.inl v3, .inl 0, .inl 1]) (rs := []) hx hb hml hown hts hKn hRc hRs hS hl (sX4_readInto l E D h450) (lw_V q2132 q2134 qs56 q135 q2135) ⟨rfl, by decide, by decide, by decide +kernel⟩ ⟨by rw [hRf]; omega, by rw [hRl]; omega⟩ (g_recv hKn hS hk450 (by decide) (by decide)) rfl (by rw [hr450]; rfl) (Nat.le_of_ble_eq_true rfl) dX4_readStep_450 (fun H locs cells slots hS => ?_)
        refine lv_goto (tgt := 475) hx hb dX4_readStep_453 (by decide) ?_
        exact sX4_readStep_b475 C hfN hF hL _ _ _ h _ _ _ _ _ hS (gls_sub hl [0] rfl)
      have h := g_iff w199_6 h
      by_cases w199_7 : v2 = 9
      · refine lv_tableIn (tgt := 456) (off := 257) hx hb dX4_readStep_199 (by rw [w199_7]; decide) (by rw [w199_7]; decide) (by rw [w199_7]; decide) (by decide) ?_
        have h := g_ift w199_7 h
        refine g_aload_n hx hb hl 0 rfl dX4_readStep_456 ?_
        refine g_iload_n hx hb hl 3 rfl dX4_readStep_457 ?_
        refine lv_iconst (v := 0) hx hb dX4_readStep_458 (by decide) ?_
        refine lv_iconst (v := 1) hx hb dX4_readStep_459 (by decide) ?_
        obtain ⟨b460, hb460, h⟩ := g_bnd h
        obtain ⟨hr460, hk460⟩ := g_chk hb460
        obtain ⟨z460, h460, h⟩ := g_bnd h
        refine g_callV (n := 3) (b := b460) (av := [.inl v3, .inl 0, .inl 1]) (rs := []) hx hb hml hown hts hKn hRc hRs hS hl (sX4_readInto l E D h460) (lw_V q2132 q2134 qs56 q135 q2135) ⟨rfl, by decide, by decide, by decide +kernel⟩ ⟨by rw [hRf]; omega, by rw [hRl]; omega⟩ (g_recv hKn hS hk460 (by decide) (by decide)) rfl (by rw [hr460]; rfl) (Nat.le_of_ble_eq_true rfl) dX4_readStep_460 (fun H locs cells slots hS => ?_)
        refine lv_goto (tgt := 475) hx hb dX4_readStep_463 (by decide) ?_
        exact sX4_readStep_b475 C hfN hF hL _ _ _ h _ _ _ _ _ hS (gls_sub hl [0] rfl)
      have h := g_iff w199_7 h
      by_cases w199_8 : v2 = 10
      · refine lv_tableIn (tgt := 466) (off := 267) hx hb dX4_readStep_199 (by rw [w199_8]; decide) (by rw [w199_8]; decide) (by rw [w199_8]; decide) (by decide) ?_
        have h := g_ift w199_8 h
        refine g_aload_n hx hb hl 0 rfl dX4_readStep_466 ?_
        refine g_iload_n hx hb hl 3 rfl dX4_readStep_467 ?_
        refine g_iload_n hx hb hl 1 rfl dX4_readStep_468 ?_
        obtain ⟨b469, hb469, h⟩ := g_bnd h
        obtain ⟨hr469, hk469⟩ := g_chk hb469
        obtain ⟨z469, h469, h⟩ := g_bnd h
        refine g_callV (n := 2) (b := b469) (av := [.inl v3, .inl v1]) (rs := []) hx hb hml hown hts hKn hRc hRs hS hl (sX4_readBranches l E D hfN hF hL h469) (lw_V q2184 q2186 qs67 q135 q2187) ⟨rfl, by decide, by decide, by decide +kernel⟩ ⟨by rw [hRf]; omega, by rw [hRl]; omega⟩ (g_recv hKn hS hk469 (by decide) (by decide)) rfl (by rw [hr469]; rfl) (Nat.le_of_ble_eq_true rfl) dX4_readStep_469 (fun H locs cells slots hS => ?_)
        refine lv_goto (tgt := 475) hx hb dX4_readStep_472 (by decide) ?_
        exact sX4_readStep_b475 C hfN hF hL _ _ _ h _ _ _ _ _ hS (gls_sub hl [0] rfl)
      have h := g_iff w199_8 h
      refine g_tableD (tgt := 475) hx hb dX4_readStep_199 (by decide) [0, 1, 2, 3, 4, 7, 8, 9, 10] (by decide) (fun k hk => ?_) ?_
      · simp only [List.mem_cons, List.not_mem_nil, or_false] at hk
        rcases hk with rfl | rfl | rfl | rfl | rfl | rfl | rfl | rfl | rfl
        · exact w199_0
        · exact w199_1
        · exact w199_2
        · exact w199_3
        · exact w199_4
        · exact w199_5
        · exact w199_6
        · exact w199_7
        · exact w199_8
      exact sX4_readStep_b475 C hfN hF hL _ _ _ h _ _ _ _ _ hS (gls_sub hl [0] rfl)
    · have h := g_iff c_155 h
      refine g_aload_n hx hb hl 0 rfl dX4_readStep_158 ?_
      refine g_rdR hx hb hown hts hKn hS h fd_4_4_25 rfl (Or.inl (hts _ q1890)) (fun _ z => z) dX4_readStep_159 (fun x159 h => ?_)
      refine lv_iconst (v := 3) hx hb dX4_readStep_162 (by decide) ?_
      refine lv_bipush (v := 40) hx hb dX4_readStep_163 (by decide) ?_
      refine g_iload_n hx hb hl 3 rfl dX4_readStep_165 ?_
      refine lv_iadd hx hb dX4_readStep_166 ?_
      refine lv_imul hx hb dX4_readStep_167 ?_
      refine g_iload hx hb hl 4 rfl dX4_readStep_168 ?_
      refine lv_iadd hx hb dX4_readStep_170 ?_
      refine lv_iconst (v := 0) hx hb dX4_readStep_171 (by decide) ?_
      refine g_iastoreG hx hb hKn hS h dX4_readStep_172 (fun G172 h H locs hS => ?_)
      refine g_aload_n hx hb hl 0 rfl dX4_readStep_173 ?_
      refine g_rdR hx hb hown hts hKn hS h fd_4_4_26 rfl (Or.inl (hts _ q1891)) (fun _ z => z) dX4_readStep_174 (fun x174 h => ?_)
      refine lv_iconst (v := 3) hx hb dX4_readStep_177 (by decide) ?_
      refine lv_bipush (v := 40) hx hb dX4_readStep_178 (by decide) ?_
      refine g_iload_n hx hb hl 3 rfl dX4_readStep_180 ?_
      refine lv_iadd hx hb dX4_readStep_181 ?_
      refine lv_imul hx hb dX4_readStep_182 ?_
      refine g_iload hx hb hl 4 rfl dX4_readStep_183 ?_
      refine lv_iadd hx hb dX4_readStep_185 ?_
      refine lv_iconst (v := 0) hx hb dX4_readStep_186 (by decide) ?_
      refine g_iastoreG hx hb hKn hS h dX4_readStep_187 (fun G187 h H locs hS => ?_)
      refine g_iinc (l1 := [(4, .inl (v4 + 1)), (0, .inr (.inr (some t))), (1, .inl v1), (2, .inl v2), (3, .inl v3)]) (v := (v4 + 1)) hx hb hl (k := 4) rfl (by rfl) (by decide) rfl dX4_readStep_188 (fun ls hl => ?_)
      refine lv_goto (tgt := 152) hx hb dX4_readStep_191 (by decide) ?_
      exact ih _ _ _ _ _ _ _ h _ _ _ _ _ hS (gls_sub hl [1, 2, 3, 4, 0] rfl)
theorem sX4_readStep_b108 {p : Program} {l : Launch} {e : Env} {R : Room} {s : State} {m : MethodId} {args : Array Value} {below : List Frame} {meth : Method} {c : Code} {E : g_E} {D : g_D} {fN : g_E → Nat → Int32 → Int32 → g_G → Option (Int32 × g_G)} {fF : Nat} {fL : Nat} (C : gC p R s m args meth c cX4_readStep 5 RX4 "readStep" (none) (fF + 4) (fL + 200) E D) (hfN : ∀ (l : Launch) (E : g_E) (D : g_D), ∀ {t : Nat} {v1 : Int32} {v2 : Int32} {G : g_G} {q : Int32 × g_G}, fN E t v1 v2 G = some q → gMet l E D yX4_readSteps (ws_ yX4_readSteps cX4_readSteps 6 (some .int)) fF fL [.inr (.inr (some t)), .inl v1, .inl v2] G (some (.int q.1)) q.2) (hF : 200 ≤ fF) (hL : 12000 ≤ fL) : ∀ (t : Nat) (v1 : Int32) (v2 : Int32) (v3 : Int32) (s0 : Option Nat) (s1 : Int32) (s2 : Int32) (G : g_G) (q : g_G), fX4_readStep_b108 E fN t v1 v2 v3 s0 s1 s2 G = some q → ∀ (H : Heap) (locs : List Loc) (cells slots : Nat) (ls : Array Slot), gSt E D G H locs → gls ls 5 [(0, .inr (.inr (some t))), (1, .inl v1), (2, .inl v2), (3, .inl v3)] → gT p l e R s m args below meth c E D H locs cells slots none q (F0 m 108 ls [.int s2, .int s1, va_rf s0]) := by
  obtain ⟨hx, hb, hml, hown, hts, hKn, hRc, hRs, hc1, hc2, hRf, hRl, hr, hlk, hnm⟩ := id C
  intro t v1 v2 v3 s0 s1 s2 G q h H locs cells slots ls hS hl
  unfold fX4_readStep_b108 at h
  refine g_iastoreG hx hb hKn hS h dX4_readStep_108 (fun G108 h H locs hS => ?_)
  refine g_aload_n hx hb hl 0 rfl dX4_readStep_109 ?_
  refine g_rdR hx hb hown hts hKn hS h fd_4_4_27 rfl (Or.inl (hts _ q1892)) (fun _ z => z) dX4_readStep_110 (fun x110 h => ?_)
  refine lv_bipush (v := 40) hx hb dX4_readStep_113 (by decide) ?_
  refine g_iload_n hx hb hl 3 rfl dX4_readStep_115 ?_
  refine lv_iadd hx hb dX4_readStep_116 ?_
  refine lv_iconst (v := 0) hx hb dX4_readStep_117 (by decide) ?_
  refine g_iastoreG hx hb hKn hS h dX4_readStep_118 (fun G118 h H locs hS => ?_)
  refine g_aload_n hx hb hl 0 rfl dX4_readStep_119 ?_
  refine g_rdR hx hb hown hts hKn hS h fd_4_4_30 rfl (Or.inl (hts _ q1895)) (fun _ z => z) dX4_readStep_120 (fun x120 h => ?_)
  refine lv_bipush (v := 40) hx hb dX4_readStep_123 (by decide) ?_
  refine g_iload_n hx hb hl 3 rfl dX4_readStep_125 ?_
  refine lv_iadd hx hb dX4_readStep_126 ?_
  refine lv_iconst (v := (-1)) hx hb dX4_readStep_127 (by decide) ?_
  refine g_iastoreG hx hb hKn hS h dX4_readStep_128 (fun G128 h H locs hS => ?_)
  refine g_aload_n hx hb hl 0 rfl dX4_readStep_129 ?_
  refine g_rdR hx hb hown hts hKn hS h fd_4_4_31 rfl (Or.inl (hts _ q1896)) (fun _ z => z) dX4_readStep_130 (fun x130 h => ?_)
  refine lv_bipush (v := 40) hx hb dX4_readStep_133 (by decide) ?_
  refine g_iload_n hx hb hl 3 rfl dX4_readStep_135 ?_
  refine lv_iadd hx hb dX4_readStep_136 ?_
  refine lv_iconst (v := (-1)) hx hb dX4_readStep_137 (by decide) ?_
  refine g_iastoreG hx hb hKn hS h dX4_readStep_138 (fun G138 h H locs hS => ?_)
  refine g_aload_n hx hb hl 0 rfl dX4_readStep_139 ?_
  refine g_rdR hx hb hown hts hKn hS h fd_4_4_29 rfl (Or.inl (hts _ q1894)) (fun _ z => z) dX4_readStep_140 (fun x140 h => ?_)
  refine lv_bipush (v := 40) hx hb dX4_readStep_143 (by decide) ?_
  refine g_iload_n hx hb hl 3 rfl dX4_readStep_145 ?_
  refine lv_iadd hx hb dX4_readStep_146 ?_
  refine lv_iconst (v := (-1)) hx hb dX4_readStep_147 (by decide) ?_
  refine g_iastoreG hx hb hKn hS h dX4_readStep_148 (fun G148 h H locs hS => ?_)
  refine lv_iconst (v := 0) hx hb dX4_readStep_149 (by decide) ?_
  refine g_istore (l1 := [(4, .inl 0), (0, .inr (.inr (some t))), (1, .inl v1), (2, .inl v2), (3, .inl v3)]) hx hb hl (by decide) rfl dX4_readStep_150 (fun ls hl => ?_)
  exact sX4_readStep_b152 C hfN hF hL gFU _ _ _ _ _ _ _ h _ _ _ _ _ hS (gls_sub hl [1, 2, 3, 4, 0] rfl)
theorem sX4_readStep_b102 {p : Program} {l : Launch} {e : Env} {R : Room} {s : State} {m : MethodId} {args : Array Value} {below : List Frame} {meth : Method} {c : Code} {E : g_E} {D : g_D} {fN : g_E → Nat → Int32 → Int32 → g_G → Option (Int32 × g_G)} {fF : Nat} {fL : Nat} (C : gC p R s m args meth c cX4_readStep 5 RX4 "readStep" (none) (fF + 4) (fL + 200) E D) (hfN : ∀ (l : Launch) (E : g_E) (D : g_D), ∀ {t : Nat} {v1 : Int32} {v2 : Int32} {G : g_G} {q : Int32 × g_G}, fN E t v1 v2 G = some q → gMet l E D yX4_readSteps (ws_ yX4_readSteps cX4_readSteps 6 (some .int)) fF fL [.inr (.inr (some t)), .inl v1, .inl v2] G (some (.int q.1)) q.2) (hF : 200 ≤ fF) (hL : 12000 ≤ fL) : ∀ (t : Nat) (v1 : Int32) (v2 : Int32) (v3 : Int32) (s0 : Option Nat) (s1 : Int32) (G : g_G) (q : g_G), fX4_readStep_b102 E fN t v1 v2 v3 s0 s1 G = some q → ∀ (H : Heap) (locs : List Loc) (cells slots : Nat) (ls : Array Slot), gSt E D G H locs → gls ls 5 [(0, .inr (.inr (some t))), (1, .inl v1), (2, .inl v2), (3, .inl v3)] → gT p l e R s m args below meth c E D H locs cells slots none q (F0 m 102 ls [.int s1, va_rf s0]) := by
  obtain ⟨hx, hb, hml, hown, hts, hKn, hRc, hRs, hc1, hc2, hRf, hRl, hr, hlk, hnm⟩ := id C
  intro t v1 v2 v3 s0 s1 G q h H locs cells slots ls hS hl
  unfold fX4_readStep_b102 at h
  refine lv_bipush (v := 99) hx hb dX4_readStep_102 (by decide) ?_
  refine lv_goto (tgt := 108) hx hb dX4_readStep_104 (by decide) ?_
  exact sX4_readStep_b108 C hfN hF hL _ _ _ _ _ _ _ _ _ h _ _ _ _ _ hS (gls_sub hl [0, 1, 2, 3] rfl)
theorem sX4_readStep_b49 {p : Program} {l : Launch} {e : Env} {R : Room} {s : State} {m : MethodId} {args : Array Value} {below : List Frame} {meth : Method} {c : Code} {E : g_E} {D : g_D} {fN : g_E → Nat → Int32 → Int32 → g_G → Option (Int32 × g_G)} {fF : Nat} {fL : Nat} (C : gC p R s m args meth c cX4_readStep 5 RX4 "readStep" (none) (fF + 4) (fL + 200) E D) (hfN : ∀ (l : Launch) (E : g_E) (D : g_D), ∀ {t : Nat} {v1 : Int32} {v2 : Int32} {G : g_G} {q : Int32 × g_G}, fN E t v1 v2 G = some q → gMet l E D yX4_readSteps (ws_ yX4_readSteps cX4_readSteps 6 (some .int)) fF fL [.inr (.inr (some t)), .inl v1, .inl v2] G (some (.int q.1)) q.2) (hF : 200 ≤ fF) (hL : 12000 ≤ fL) : ∀ (t : Nat) (v1 : Int32) (v2 : Int32) (G : g_G) (q : g_G), fX4_readStep_b49 E fN t v1 v2 G = some q → ∀ (H : Heap) (locs : List Loc) (cells slots : Nat) (ls : Array Slot), gSt E D G H locs → gls ls 5 [(0, .inr (.inr (some t))), (1, .inl v1), (2, .inl v2)] → gT p l e R s m args below meth c E D H locs cells slots none q (F0 m 49 ls []) := by
  obtain ⟨hx, hb, hml, hown, hts, hKn, hRc, hRs, hc1, hc2, hRf, hRl, hr, hlk, hnm⟩ := id C
  intro t v1 v2 G q h H locs cells slots ls hS hl
  unfold fX4_readStep_b49 at h
  refine g_aload_n hx hb hl 0 rfl dX4_readStep_49 ?_
  refine g_rdI hx hb hown hts hKn hS h fd_4_4_18 rfl (Or.inl (hts _ q1883)) (fun _ z => z) dX4_readStep_50 (fun x50 h => ?_)
  refine lv_if_eq (tgt := 57) hx hb dX4_readStep_53 (by decide) (fun c_53 => ?_) (fun c_53 => ?_)
  · have h := g_ift c_53 h
    refine g_aload_n hx hb hl 0 rfl dX4_readStep_57 ?_
    refine g_rdR hx hb hown hts hKn hS h fd_4_4_22 rfl (Or.inl (hts _ q1887)) (fun _ z => z) dX4_readStep_58 (fun x58 h => ?_)
    refine lv_iconst (v := 1) hx hb dX4_readStep_61 (by decide) ?_
    refine g_ialoadG hx hb hKn hS h dX4_readStep_62 (fun x62 h => ?_)
    refine g_istore_n (l1 := [(3, .inl x62), (0, .inr (.inr (some t))), (1, .inl v1), (2, .inl v2)]) hx hb hl (by decide) rfl dX4_readStep_63 (fun ls hl => ?_)
    refine g_aload_n hx hb hl 1 rfl dX4_readStep_64 ?_
    refine g_rdR hx hb hown hts hKn hS h fd_4_4_22 rfl (Or.inl (hts _ q1887)) (fun _ z => z) dX4_readStep_65 (fun x65 h => ?_)
    refine lv_iconst (v := 1) hx hb dX4_readStep_68 (by decide) ?_
    refine lv_dup2_11 hx hb dX4_readStep_69 rfl (by first | exact va_rf_cat _ | rfl | exact g_catA _) ?_
    refine g_ialoadG hx hb hKn hS h dX4_readStep_70 (fun x70 h => ?_)
    refine lv_iconst (v := 1) hx hb dX4_readStep_71 (by decide) ?_
    refine lv_iadd hx hb dX4_readStep_72 ?_
    refine g_iastoreG hx hb hKn hS h dX4_readStep_73 (fun G73 h H locs hS => ?_)
    refine g_aload_n hx hb hl 1 rfl dX4_readStep_74 ?_
    refine g_rdR hx hb hown hts hKn hS h fd_4_4_24 rfl (Or.inl (hts _ q1889)) (fun _ z => z) dX4_readStep_75 (fun x75 h => ?_)
    refine lv_bipush (v := 40) hx hb dX4_readStep_78 (by decide) ?_
    refine g_iload_n hx hb hl 0 rfl dX4_readStep_80 ?_
    refine lv_iadd hx hb dX4_readStep_81 ?_
    refine g_iload_n hx hb hl 3 rfl dX4_readStep_82 ?_
    refine g_iastoreG hx hb hKn hS h dX4_readStep_83 (fun G83 h H locs hS => ?_)
    refine g_aload_n hx hb hl 1 rfl dX4_readStep_84 ?_
    refine g_rdR hx hb hown hts hKn hS h fd_4_4_28 rfl (Or.inl (hts _ q1893)) (fun _ z => z) dX4_readStep_85 (fun x85 h => ?_)
    refine lv_bipush (v := 40) hx hb dX4_readStep_88 (by decide) ?_
    refine g_iload_n hx hb hl 0 rfl dX4_readStep_90 ?_
    refine lv_iadd hx hb dX4_readStep_91 ?_
    refine g_iload_n hx hb hl 3 rfl dX4_readStep_92 ?_
    refine lv_iconst (v := 3) hx hb dX4_readStep_93 (by decide) ?_
    refine lv_icmp_eq (tgt := 102) hx hb dX4_readStep_94 (by decide) (fun c_94 => ?_) (fun c_94 => ?_)
    · have h := g_ift c_94 h
      exact sX4_readStep_b102 C hfN hF hL _ _ _ _ _ _ _ _ h _ _ _ _ _ hS (gls_sub hl [1, 2, 3, 0] rfl)
    · have h := g_iff c_94 h
      refine g_iload_n hx hb hl 3 rfl dX4_readStep_97 ?_
      refine lv_iconst (v := 4) hx hb dX4_readStep_98 (by decide) ?_
      refine lv_icmp_ne (tgt := 107) hx hb dX4_readStep_99 (by decide) (fun c_99 => ?_) (fun c_99 => ?_)
      · have h := g_ift c_99 h
        refine lv_iconst (v := 1) hx hb dX4_readStep_107 (by decide) ?_
        exact sX4_readStep_b108 C hfN hF hL _ _ _ _ _ _ _ _ _ h _ _ _ _ _ hS (gls_sub hl [1, 2, 3, 0] rfl)
      · have h := g_iff (fun z => z c_99) h
        exact sX4_readStep_b102 C hfN hF hL _ _ _ _ _ _ _ _ h _ _ _ _ _ hS (gls_sub hl [1, 2, 3, 0] rfl)
  · have h := g_iff c_53 h
    exact g_vretG hx hb hr hlk hKn hRc hRs hS h dX4_readStep_56
theorem sX4_readStep_b44 {p : Program} {l : Launch} {e : Env} {R : Room} {s : State} {m : MethodId} {args : Array Value} {below : List Frame} {meth : Method} {c : Code} {E : g_E} {D : g_D} {fN : g_E → Nat → Int32 → Int32 → g_G → Option (Int32 × g_G)} {fF : Nat} {fL : Nat} (C : gC p R s m args meth c cX4_readStep 5 RX4 "readStep" (none) (fF + 4) (fL + 200) E D) (hfN : ∀ (l : Launch) (E : g_E) (D : g_D), ∀ {t : Nat} {v1 : Int32} {v2 : Int32} {G : g_G} {q : Int32 × g_G}, fN E t v1 v2 G = some q → gMet l E D yX4_readSteps (ws_ yX4_readSteps cX4_readSteps 6 (some .int)) fF fL [.inr (.inr (some t)), .inl v1, .inl v2] G (some (.int q.1)) q.2) (hF : 200 ≤ fF) (hL : 12000 ≤ fL) : ∀ (t : Nat) (v1 : Int32) (v2 : Int32) (G : g_G) (q : g_G), fX4_readStep_b44 E fN t v1 v2 G = some q → ∀ (H : Heap) (locs : List Loc) (cells slots : Nat) (ls : Array Slot), gSt E D G H locs → gls ls 5 [(0, .inr (.inr (some t))), (1, .inl v1), (2, .inl v2)] → gT p l e R s m args below meth c E D H locs cells slots none q (F0 m 44 ls []) := by
  obtain ⟨hx, hb, hml, hown, hts, hKn, hRc, hRs, hc1, hc2, hRf, hRl, hr, hlk, hnm⟩ := id C
  intro t v1 v2 G q h H locs cells slots ls hS hl
  unfold fX4_readStep_b44 at h
  refine g_aload_n hx hb hl 0 rfl dX4_readStep_44 ?_
  refine lv_iconst (v := 2) hx hb dX4_readStep_45 (by decide) ?_
  obtain ⟨b46, hb46, h⟩ := g_bnd h
  obtain ⟨hr46, hk46⟩ := g_chk hb46
  obtain ⟨z46, h46, h⟩ := g_bnd h
  refine g_callV (n := 1) (b := b46) (av := [.inl 2]) (rs := []) hx hb hml hown hts hKn hRc hRs hS hl (sX4_wrong l E D h46) (lw_V q2128 q2130 qs55 q135 q2131) ⟨rfl, by decide, by decide, by decide +kernel⟩ ⟨by rw [hRf]; omega, by rw [hRl]; omega⟩ (g_recv hKn hS hk46 (by decide) (by decide)) rfl (by rw [hr46]; rfl) (Nat.le_of_ble_eq_true rfl) dX4_readStep_46 (fun H locs cells slots hS => ?_)
  exact sX4_readStep_b49 C hfN hF hL _ _ _ _ _ h _ _ _ _ _ hS (gls_sub hl [0, 1, 2] rfl)
theorem sX4_readStep (l : Launch) (E : g_E) (D : g_D) {fN : g_E → Nat → Int32 → Int32 → g_G → Option (Int32 × g_G)} {fF : Nat} {fL : Nat} (hfN : ∀ (l : Launch) (E : g_E) (D : g_D), ∀ {t : Nat} {v1 : Int32} {v2 : Int32} {G : g_G} {q : Int32 × g_G}, fN E t v1 v2 G = some q → gMet l E D yX4_readSteps (ws_ yX4_readSteps cX4_readSteps 6 (some .int)) fF fL [.inr (.inr (some t)), .inl v1, .inl v2] G (some (.int q.1)) q.2) (hF : 200 ≤ fF) (hL : 12000 ≤ fL) {t : Nat} {v1 : Int32} {G : g_G} {q : g_G} (h : fX4_readStep E fN t v1 G = some q) : gMet l E D yX4_readStep (ws_ yX4_readStep cX4_readStep 5 (none)) (fF + 4) (fL + 200) [.inr (.inr (some t)), .inl v1] G none q := by
  refine gMet.of (by decide +kernel) (Nat.le_of_ble_eq_true rfl) ?_
  intro p e R s m args below meth c C hS ls hl
  have C : gC p R s m args meth c cX4_readStep 5 RX4 "readStep" (none) (fF + 4) (fL + 200) E D := C
  obtain ⟨hx, hb, hml, hown, hts, hKn, hRc, hRs, hc1, hc2, hRf, hRl, hr, hlk, hnm⟩ := id C
  have hl : gls ls 5 [(0, .inr (.inr (some t))), (1, .inl v1)] := hl
  generalize s.heap = H at hS ⊢
  unfold fX4_readStep at h
  refine g_aload_n hx hb hl 0 rfl dX4_readStep_0 ?_
  refine g_aload_n hx hb hl 0 rfl dX4_readStep_1 ?_
  refine g_rdR hx hb hown hts hKn hS h fd_4_4_0 rfl (Or.inl (hts _ q1865)) (fun _ z => z) dX4_readStep_2 (fun x2 h => ?_)
  obtain ⟨b5, hb5, h⟩ := g_bnd h
  obtain ⟨hr5, hk5⟩ := g_chk hb5
  obtain ⟨z5, h5, h⟩ := g_bnd h
  refine g_callV (n := 1) (b := b5) (av := [.inr (.inr x2)]) (rs := []) hx hb hml hown hts hKn hRc hRs hS hl (sX4_which l E D h5) (lw_V q2124 q2126 qs54 q135 q2127) ⟨rfl, by decide, by decide, by decide +kernel⟩ ⟨by rw [hRf]; omega, by rw [hRl]; omega⟩ (g_recv hKn hS hk5 (by decide) (by decide)) rfl (by rw [hr5]; rfl) (Nat.le_of_ble_eq_true rfl) dX4_readStep_5 (fun H locs cells slots hS => ?_)
  refine g_istore_n (l1 := [(2, .inl z5.1), (0, .inr (.inr (some t))), (1, .inl v1)]) hx hb hl (by decide) rfl dX4_readStep_8 (fun ls hl => ?_)
  refine g_iload_n hx hb hl 0 rfl dX4_readStep_9 ?_
  refine lv_iconst (v := (-1)) hx hb dX4_readStep_10 (by decide) ?_
  refine lv_icmp_ne (tgt := 22) hx hb dX4_readStep_11 (by decide) (fun c_11 => ?_) (fun c_11 => ?_)
  · have h := g_ift c_11 h
    refine g_aload_n hx hb hl 1 rfl dX4_readStep_22 ?_
    refine g_rdR hx hb hown hts hKn hS h fd_4_4_22 rfl (Or.inl (hts _ q1887)) (fun _ z => z) dX4_readStep_23 (fun x23 h => ?_)
    refine lv_iconst (v := 1) hx hb dX4_readStep_26 (by decide) ?_
    refine g_ialoadG hx hb hKn hS h dX4_readStep_27 (fun x27 h => ?_)
    refine lv_bipush (v := 40) hx hb dX4_readStep_28 (by decide) ?_
    refine lv_icmp_eq (tgt := 44) hx hb dX4_readStep_30 (by decide) (fun c_30 => ?_) (fun c_30 => ?_)
    · have h := g_ift c_30 h
      exact sX4_readStep_b44 C hfN hF hL _ _ _ _ _ h _ _ _ _ _ hS (gls_sub hl [1, 2, 0] rfl)
    · have h := g_iff c_30 h
      refine g_iload_n hx hb hl 0 rfl dX4_readStep_33 ?_
      refine lv_bipush (v := 10) hx hb dX4_readStep_34 (by decide) ?_
      refine lv_icmp_ne (tgt := 49) hx hb dX4_readStep_36 (by decide) (fun c_36 => ?_) (fun c_36 => ?_)
      · have h := g_ift c_36 h
        exact sX4_readStep_b49 C hfN hF hL _ _ _ _ _ h _ _ _ _ _ hS (gls_sub hl [1, 2, 0] rfl)
      · have h := g_iff (fun z => z c_36) h
        refine g_iload_n hx hb hl 2 rfl dX4_readStep_39 ?_
        refine lv_iconst (v := 4) hx hb dX4_readStep_40 (by decide) ?_
        refine lv_icmp_ne (tgt := 49) hx hb dX4_readStep_41 (by decide) (fun c_41 => ?_) (fun c_41 => ?_)
        · have h := g_ift c_41 h
          exact sX4_readStep_b49 C hfN hF hL _ _ _ _ _ h _ _ _ _ _ hS (gls_sub hl [1, 2, 0] rfl)
        · have h := g_iff (fun z => z c_41) h
          exact sX4_readStep_b44 C hfN hF hL _ _ _ _ _ h _ _ _ _ _ hS (gls_sub hl [1, 2, 0] rfl)
  · have h := g_iff (fun z => z c_11) h
    refine g_aload_n hx hb hl 1 rfl dX4_readStep_14 ?_
    refine lv_iconst (v := 1) hx hb dX4_readStep_15 (by decide) ?_
    obtain ⟨b16, hb16, h⟩ := g_bnd h
    obtain ⟨hr16, hk16⟩ := g_chk hb16
    obtain ⟨z16, h16, h⟩ := g_bnd h
    refine g_callV (n := 1) (b := b16) (av := [.inl 1]) (rs := []) hx hb hml hown hts hKn hRc hRs hS hl (sX4_wrong l E D h16) (lw_V q2128 q2130 qs55 q135 q2131) ⟨rfl, by decide, by decide, by decide +kernel⟩ ⟨by rw [hRf]; omega, by rw [hRl]; omega⟩ (g_recv hKn hS hk16 (by decide) (by decide)) rfl (by rw [hr16]; rfl) (Nat.le_of_ble_eq_true rfl) dX4_readStep_16 (fun H locs cells slots hS => ?_)
    refine lv_goto (tgt := 49) hx hb dX4_readStep_19 (by decide) ?_
    exact sX4_readStep_b49 C hfN hF hL _ _ _ _ _ h _ _ _ _ _ hS (gls_sub hl [1, 2, 0] rfl)
