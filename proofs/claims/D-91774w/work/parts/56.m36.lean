set_option maxRecDepth 100000
/-- SendHallModel.readSteps(II)I -/
def fX4_readSteps_b125 (E : g_E) (fN : g_E → Nat → Int32 → Int32 → g_G → Option (Int32 × g_G)) (v3 : Int32) (s0 : Option Nat) (s1 : Int32) (s2 : Int32) (G : g_G) : Option (Int32 × g_G) :=
  (gsaI E G s0 s1 s2).bind fun G125 =>
  some (v3, G125)
def fX4_readSteps_b97 (E : g_E) (fN : g_E → Nat → Int32 → Int32 → g_G → Option (Int32 × g_G)) (t : Nat) (v2 : Int32) (v3 : Int32) (v4 : Int32) (G : g_G) : Option (Int32 × g_G) :=
  if v4 = (-1 : Int32) then (
    some (v3, G))
  else (
    (grR G 4 4 (some t) 29).bind fun x104 =>
    if ¬ v2 = (-1 : Int32) then (
      fX4_readSteps_b125 E fN v3 x104 (40 + v4) ((-2) - v2) G)
    else (
      fX4_readSteps_b125 E fN v3 x104 (40 + v4) (-1) G))
def fX4_readSteps_b90 (E : g_E) (fN : g_E → Nat → Int32 → Int32 → g_G → Option (Int32 × g_G)) (k5 : Nat → Int32 → Int32 → Int32 → Int32 → g_G → Option (Int32 × g_G)) (t : Nat) (v1 : Int32) (v2 : Int32) (v3 : Int32) (v5 : Int32) (G : g_G) : Option (Int32 × g_G) :=
  k5 t v1 v2 v3 v5 G
def fX4_readSteps_b44 (E : g_E) (fN : g_E → Nat → Int32 → Int32 → g_G → Option (Int32 × g_G)) (k5 : Nat → Int32 → Int32 → Int32 → Int32 → g_G → Option (Int32 × g_G)) (t : Nat) (v1 : Int32) (v2 : Int32) (v3 : Int32) (v4 : Int32) (G : g_G) : Option (Int32 × g_G) :=
  (grR G 4 4 (some t) 22).bind fun x45 =>
  (gaI G 100 x45 1).bind fun x49 =>
  (gchk G 4 (some t)).bind fun b54 =>
  (fX4_readStep E fN b54 v1 G).bind fun z54 =>
  (grI z54 4 4 (some t) 18).bind fun x58 =>
  if x58 = 0 then (
    if ¬ v4 = (-1 : Int32) then (
      (grR z54 4 4 (some t) 29).bind fun x79 =>
      (gsaI E z54 x79 (40 + v4) x49).bind fun G89 =>
      fX4_readSteps_b90 E fN k5 t v1 v2 v3 x49 G89)
    else (
      fX4_readSteps_b90 E fN k5 t v1 v2 x49 x49 z54))
  else (
    some ((-1), z54))
def fX4_readSteps_b5 (E : g_E) (fN : g_E → Nat → Int32 → Int32 → g_G → Option (Int32 × g_G)) : Nat → Nat → Int32 → Int32 → Int32 → Int32 → g_G → Option (Int32 × g_G)
  | 0, _, _, _, _, _, _ => none
  | n + 1, t, v1, v2, v3, v4, G =>
    (grI G 4 4 (some t) 18).bind fun x6 =>
    if ¬ x6 = 0 then (
      fX4_readSteps_b97 E fN t v2 v3 v4 G)
    else (
      (grI G 4 4 (some t) 13).bind fun x13 =>
      if x13 = 0 then (
        fX4_readSteps_b97 E fN t v2 v3 v4 G)
      else (
        if v2 = (-1 : Int32) then (
          fX4_readSteps_b44 E fN (fX4_readSteps_b5 E fN n) t v1 v2 v3 v4 G)
        else (
          (gchk G 4 (some t)).bind fun b28 =>
          (fX4_is E b28 (some (gA E 54)) G).bind fun z28 =>
          if ¬ z28.1 = 0 then (
            fX4_readSteps_b97 E fN t v2 v3 v4 z28.2)
          else (
            (gchk z28.2 4 (some t)).bind fun b38 =>
            (fX4_is E b38 (some (gA E 55)) z28.2).bind fun z38 =>
            if ¬ z38.1 = 0 then (
              fX4_readSteps_b97 E fN t v2 v3 v4 z38.2)
            else (
              fX4_readSteps_b44 E fN (fX4_readSteps_b5 E fN n) t v1 v2 v3 v4 z38.2)))))
def fX4_readSteps (E : g_E) (fN : g_E → Nat → Int32 → Int32 → g_G → Option (Int32 × g_G)) (t : Nat) (v1 : Int32) (v2 : Int32) (G : g_G) : Option (Int32 × g_G) :=
  fX4_readSteps_b5 E fN gFU t v1 v2 (-1) (-1) G
theorem sX4_readSteps_b125 {p : Program} {l : Launch} {e : Env} {R : Room} {s : State} {m : MethodId} {args : Array Value} {below : List Frame} {meth : Method} {c : Code} {E : g_E} {D : g_D} {fN : g_E → Nat → Int32 → Int32 → g_G → Option (Int32 × g_G)} {fF : Nat} {fL : Nat} (C : gC p R s m args meth c cX4_readSteps 6 RX4 "readSteps" (some .int) (fF + 6) (fL + 300) E D) (hfN : ∀ (l : Launch) (E : g_E) (D : g_D), ∀ {t : Nat} {v1 : Int32} {v2 : Int32} {G : g_G} {q : Int32 × g_G}, fN E t v1 v2 G = some q → gMet l E D yX4_readSteps (ws_ yX4_readSteps cX4_readSteps 6 (some .int)) fF fL [.inr (.inr (some t)), .inl v1, .inl v2] G (some (.int q.1)) q.2) (hF : 200 ≤ fF) (hL : 12000 ≤ fL) : ∀ (v3 : Int32) (s0 : Option Nat) (s1 : Int32) (s2 : Int32) (G : g_G) (q : Int32 × g_G), fX4_readSteps_b125 E fN v3 s0 s1 s2 G = some q → ∀ (H : Heap) (locs : List Loc) (cells slots : Nat) (ls : Array Slot), gSt E D G H locs → gls ls 6 [(3, .inl v3)] → gT p l e R s m args below meth c E D H locs cells slots (some (.int q.1)) q.2 (F0 m 125 ls [.int s2, .int s1, va_rf s0]) := by
  obtain ⟨hx, hb, hml, hown, hts, hKn, hRc, hRs, hc1, hc2, hRf, hRl, hr, hlk, hnm⟩ := id C
  intro v3 s0 s1 s2 G q h H locs cells slots ls hS hl
  unfold fX4_readSteps_b125 at h
  refine g_iastoreG hx hb hKn hS h dX4_readSteps_125 (fun G125 h H locs hS => ?_)
  refine g_iload_n hx hb hl 0 rfl dX4_readSteps_126 ?_
  exact g_iretG hx hb hr hlk hKn hRc hRs hS h dX4_readSteps_127
theorem sX4_readSteps_b97 {p : Program} {l : Launch} {e : Env} {R : Room} {s : State} {m : MethodId} {args : Array Value} {below : List Frame} {meth : Method} {c : Code} {E : g_E} {D : g_D} {fN : g_E → Nat → Int32 → Int32 → g_G → Option (Int32 × g_G)} {fF : Nat} {fL : Nat} (C : gC p R s m args meth c cX4_readSteps 6 RX4 "readSteps" (some .int) (fF + 6) (fL + 300) E D) (hfN : ∀ (l : Launch) (E : g_E) (D : g_D), ∀ {t : Nat} {v1 : Int32} {v2 : Int32} {G : g_G} {q : Int32 × g_G}, fN E t v1 v2 G = some q → gMet l E D yX4_readSteps (ws_ yX4_readSteps cX4_readSteps 6 (some .int)) fF fL [.inr (.inr (some t)), .inl v1, .inl v2] G (some (.int q.1)) q.2) (hF : 200 ≤ fF) (hL : 12000 ≤ fL) : ∀ (t : Nat) (v2 : Int32) (v3 : Int32) (v4 : Int32) (G : g_G) (q : Int32 × g_G), fX4_readSteps_b97 E fN t v2 v3 v4 G = some q → ∀ (H : Heap) (locs : List Loc) (cells slots : Nat) (ls : Array Slot), gSt E D G H locs → gls ls 6 [(0, .inr (.inr (some t))), (2, .inl v2), (3, .inl v3), (4, .inl v4)] → gT p l e R s m args below meth c E D H locs cells slots (some (.int q.1)) q.2 (F0 m 97 ls []) := by
  obtain ⟨hx, hb, hml, hown, hts, hKn, hRc, hRs, hc1, hc2, hRf, hRl, hr, hlk, hnm⟩ := id C
  intro t v2 v3 v4 G q h H locs cells slots ls hS hl
  unfold fX4_readSteps_b97 at h
  refine g_iload hx hb hl 3 rfl dX4_readSteps_97 ?_
  refine lv_iconst (v := (-1)) hx hb dX4_readSteps_99 (by decide) ?_
  refine lv_icmp_eq (tgt := 126) hx hb dX4_readSteps_100 (by decide) (fun c_100 => ?_) (fun c_100 => ?_)
  · have h := g_ift c_100 h
    refine g_iload_n hx hb hl 2 rfl dX4_readSteps_126 ?_
    exact g_iretG hx hb hr hlk hKn hRc hRs hS h dX4_readSteps_127
  · have h := g_iff c_100 h
    refine g_aload_n hx hb hl 0 rfl dX4_readSteps_103 ?_
    refine g_rdR hx hb hown hts hKn hS h fd_4_4_29 rfl (Or.inl (hts _ q1894)) (fun _ z => z) dX4_readSteps_104 (fun x104 h => ?_)
    refine lv_bipush (v := 40) hx hb dX4_readSteps_107 (by decide) ?_
    refine g_iload hx hb hl 3 rfl dX4_readSteps_109 ?_
    refine lv_iadd hx hb dX4_readSteps_111 ?_
    refine g_iload_n hx hb hl 1 rfl dX4_readSteps_112 ?_
    refine lv_iconst (v := (-1)) hx hb dX4_readSteps_113 (by decide) ?_
    refine lv_icmp_ne (tgt := 121) hx hb dX4_readSteps_114 (by decide) (fun c_114 => ?_) (fun c_114 => ?_)
    · have h := g_ift c_114 h
      refine lv_bipush (v := (-2)) hx hb dX4_readSteps_121 (by decide) ?_
      refine g_iload_n hx hb hl 1 rfl dX4_readSteps_123 ?_
      refine lv_isub hx hb dX4_readSteps_124 ?_
      exact sX4_readSteps_b125 C hfN hF hL _ _ _ _ _ _ h _ _ _ _ _ hS (gls_sub hl [2] rfl)
    · have h := g_iff (fun z => z c_114) h
      refine lv_iconst (v := (-1)) hx hb dX4_readSteps_117 (by decide) ?_
      refine lv_goto (tgt := 125) hx hb dX4_readSteps_118 (by decide) ?_
      exact sX4_readSteps_b125 C hfN hF hL _ _ _ _ _ _ h _ _ _ _ _ hS (gls_sub hl [2] rfl)
theorem sX4_readSteps_b90 {p : Program} {l : Launch} {e : Env} {R : Room} {s : State} {m : MethodId} {args : Array Value} {below : List Frame} {meth : Method} {c : Code} {E : g_E} {D : g_D} {fN : g_E → Nat → Int32 → Int32 → g_G → Option (Int32 × g_G)} {fF : Nat} {fL : Nat} (C : gC p R s m args meth c cX4_readSteps 6 RX4 "readSteps" (some .int) (fF + 6) (fL + 300) E D) (hfN : ∀ (l : Launch) (E : g_E) (D : g_D), ∀ {t : Nat} {v1 : Int32} {v2 : Int32} {G : g_G} {q : Int32 × g_G}, fN E t v1 v2 G = some q → gMet l E D yX4_readSteps (ws_ yX4_readSteps cX4_readSteps 6 (some .int)) fF fL [.inr (.inr (some t)), .inl v1, .inl v2] G (some (.int q.1)) q.2) (hF : 200 ≤ fF) (hL : 12000 ≤ fL) {k5 : Nat → Int32 → Int32 → Int32 → Int32 → g_G → Option (Int32 × g_G)} (hk5 : ∀ (t : Nat) (v1 : Int32) (v2 : Int32) (v3 : Int32) (v4 : Int32) (G : g_G) (q : Int32 × g_G), k5 t v1 v2 v3 v4 G = some q → ∀ (H : Heap) (locs : List Loc) (cells slots : Nat) (ls : Array Slot), gSt E D G H locs → gls ls 6 [(0, .inr (.inr (some t))), (1, .inl v1), (2, .inl v2), (3, .inl v3), (4, .inl v4)] → gT p l e R s m args below meth c E D H locs cells slots (some (.int q.1)) q.2 (F0 m 5 ls [])) : ∀ (t : Nat) (v1 : Int32) (v2 : Int32) (v3 : Int32) (v5 : Int32) (G : g_G) (q : Int32 × g_G), fX4_readSteps_b90 E fN k5 t v1 v2 v3 v5 G = some q → ∀ (H : Heap) (locs : List Loc) (cells slots : Nat) (ls : Array Slot), gSt E D G H locs → gls ls 6 [(0, .inr (.inr (some t))), (1, .inl v1), (2, .inl v2), (3, .inl v3), (5, .inl v5)] → gT p l e R s m args below meth c E D H locs cells slots (some (.int q.1)) q.2 (F0 m 90 ls []) := by
  obtain ⟨hx, hb, hml, hown, hts, hKn, hRc, hRs, hc1, hc2, hRf, hRl, hr, hlk, hnm⟩ := id C
  intro t v1 v2 v3 v5 G q h H locs cells slots ls hS hl
  unfold fX4_readSteps_b90 at h
  refine g_iload hx hb hl 4 rfl dX4_readSteps_90 ?_
  refine g_istore (l1 := [(4, .inl v5), (0, .inr (.inr (some t))), (1, .inl v1), (2, .inl v2), (3, .inl v3), (5, .inl v5)]) hx hb hl (by decide) rfl dX4_readSteps_92 (fun ls hl => ?_)
  refine lv_goto (tgt := 5) hx hb dX4_readSteps_94 (by decide) ?_
  exact hk5 _ _ _ _ _ _ _ h _ _ _ _ _ hS (gls_sub hl [1, 2, 3, 4, 0] rfl)
theorem sX4_readSteps_b44 {p : Program} {l : Launch} {e : Env} {R : Room} {s : State} {m : MethodId} {args : Array Value} {below : List Frame} {meth : Method} {c : Code} {E : g_E} {D : g_D} {fN : g_E → Nat → Int32 → Int32 → g_G → Option (Int32 × g_G)} {fF : Nat} {fL : Nat} (C : gC p R s m args meth c cX4_readSteps 6 RX4 "readSteps" (some .int) (fF + 6) (fL + 300) E D) (hfN : ∀ (l : Launch) (E : g_E) (D : g_D), ∀ {t : Nat} {v1 : Int32} {v2 : Int32} {G : g_G} {q : Int32 × g_G}, fN E t v1 v2 G = some q → gMet l E D yX4_readSteps (ws_ yX4_readSteps cX4_readSteps 6 (some .int)) fF fL [.inr (.inr (some t)), .inl v1, .inl v2] G (some (.int q.1)) q.2) (hF : 200 ≤ fF) (hL : 12000 ≤ fL) {k5 : Nat → Int32 → Int32 → Int32 → Int32 → g_G → Option (Int32 × g_G)} (hk5 : ∀ (t : Nat) (v1 : Int32) (v2 : Int32) (v3 : Int32) (v4 : Int32) (G : g_G) (q : Int32 × g_G), k5 t v1 v2 v3 v4 G = some q → ∀ (H : Heap) (locs : List Loc) (cells slots : Nat) (ls : Array Slot), gSt E D G H locs → gls ls 6 [(0, .inr (.inr (some t))), (1, .inl v1), (2, .inl v2), (3, .inl v3), (4, .inl v4)] → gT p l e R s m args below meth c E D H locs cells slots (some (.int q.1)) q.2 (F0 m 5 ls [])) : ∀ (t : Nat) (v1 : Int32) (v2 : Int32) (v3 : Int32) (v4 : Int32) (G : g_G) (q : Int32 × g_G), fX4_readSteps_b44 E fN k5 t v1 v2 v3 v4 G = some q → ∀ (H : Heap) (locs : List Loc) (cells slots : Nat) (ls : Array Slot), gSt E D G H locs → gls ls 6 [(0, .inr (.inr (some t))), (1, .inl v1), (2, .inl v2), (3, .inl v3), (4, .inl v4)] → gT p l e R s m args below meth c E D H locs cells slots (some (.int q.1)) q.2 (F0 m 44 ls []) := by
  obtain ⟨hx, hb, hml, hown, hts, hKn, hRc, hRs, hc1, hc2, hRf, hRl, hr, hlk, hnm⟩ := id C
  intro t v1 v2 v3 v4 G q h H locs cells slots ls hS hl
  unfold fX4_readSteps_b44 at h
  refine g_aload_n hx hb hl 0 rfl dX4_readSteps_44 ?_
  refine g_rdR hx hb hown hts hKn hS h fd_4_4_22 rfl (Or.inl (hts _ q1887)) (fun _ z => z) dX4_readSteps_45 (fun x45 h => ?_)
  refine lv_iconst (v := 1) hx hb dX4_readSteps_48 (by decide) ?_
  refine g_ialoadG hx hb hKn hS h dX4_readSteps_49 (fun x49 h => ?_)
  refine g_istore (l1 := [(5, .inl x49), (0, .inr (.inr (some t))), (1, .inl v1), (2, .inl v2), (3, .inl v3), (4, .inl v4)]) hx hb hl (by decide) rfl dX4_readSteps_50 (fun ls hl => ?_)
  refine g_aload_n hx hb hl 1 rfl dX4_readSteps_52 ?_
  refine g_iload_n hx hb hl 2 rfl dX4_readSteps_53 ?_
  obtain ⟨b54, hb54, h⟩ := g_bnd h
  obtain ⟨hr54, hk54⟩ := g_chk hb54
  obtain ⟨z54, h54, h⟩ := g_bnd h
  refine g_callV (n := 1) (b := b54) (av := [.inl v1]) (rs := []) hx hb hml hown hts hKn hRc hRs hS hl (sX4_readStep l E D hfN hF hL h54) (lw_V q2120 q2122 qs53 q135 q2123) ⟨rfl, by decide, by decide, by decide +kernel⟩ ⟨by rw [hRf]; omega, by rw [hRl]; omega⟩ (g_recv hKn hS hk54 (by decide) (by decide)) rfl (by rw [hr54]; rfl) (Nat.le_of_ble_eq_true rfl) dX4_readSteps_54 (fun H locs cells slots hS => ?_)
  refine g_aload_n hx hb hl 1 rfl dX4_readSteps_57 ?_
  refine g_rdI hx hb hown hts hKn hS h fd_4_4_18 rfl (Or.inl (hts _ q1883)) (fun _ z => z) dX4_readSteps_58 (fun x58 h => ?_)
  refine lv_if_eq (tgt := 66) hx hb dX4_readSteps_61 (by decide) (fun c_61 => ?_) (fun c_61 => ?_)
  · have h := g_ift c_61 h
    refine g_iload hx hb hl 5 rfl dX4_readSteps_66 ?_
    refine lv_iconst (v := (-1)) hx hb dX4_readSteps_68 (by decide) ?_
    refine lv_icmp_ne (tgt := 78) hx hb dX4_readSteps_69 (by decide) (fun c_69 => ?_) (fun c_69 => ?_)
    · have h := g_ift c_69 h
      refine g_aload_n hx hb hl 1 rfl dX4_readSteps_78 ?_
      refine g_rdR hx hb hown hts hKn hS h fd_4_4_29 rfl (Or.inl (hts _ q1894)) (fun _ z => z) dX4_readSteps_79 (fun x79 h => ?_)
      refine lv_bipush (v := 40) hx hb dX4_readSteps_82 (by decide) ?_
      refine g_iload hx hb hl 5 rfl dX4_readSteps_84 ?_
      refine lv_iadd hx hb dX4_readSteps_86 ?_
      refine g_iload hx hb hl 0 rfl dX4_readSteps_87 ?_
      refine g_iastoreG hx hb hKn hS h dX4_readSteps_89 (fun G89 h H locs hS => ?_)
      exact sX4_readSteps_b90 C hfN hF hL hk5 _ _ _ _ _ _ _ h _ _ _ _ _ hS (gls_sub hl [1, 2, 3, 4, 0] rfl)
    · have h := g_iff (fun z => z c_69) h
      refine g_iload hx hb hl 0 rfl dX4_readSteps_72 ?_
      refine g_istore_n (l1 := [(3, .inl x49), (5, .inl x49), (0, .inr (.inr (some t))), (1, .inl v1), (2, .inl v2), (4, .inl v4)]) hx hb hl (by decide) rfl dX4_readSteps_74 (fun ls hl => ?_)
      refine lv_goto (tgt := 90) hx hb dX4_readSteps_75 (by decide) ?_
      exact sX4_readSteps_b90 C hfN hF hL hk5 _ _ _ _ _ _ _ h _ _ _ _ _ hS (gls_sub hl [2, 3, 4, 0, 1] rfl)
  · have h := g_iff c_61 h
    refine lv_iconst (v := (-1)) hx hb dX4_readSteps_64 (by decide) ?_
    exact g_iretG hx hb hr hlk hKn hRc hRs hS h dX4_readSteps_65
theorem sX4_readSteps_b5 {p : Program} {l : Launch} {e : Env} {R : Room} {s : State} {m : MethodId} {args : Array Value} {below : List Frame} {meth : Method} {c : Code} {E : g_E} {D : g_D} {fN : g_E → Nat → Int32 → Int32 → g_G → Option (Int32 × g_G)} {fF : Nat} {fL : Nat} (C : gC p R s m args meth c cX4_readSteps 6 RX4 "readSteps" (some .int) (fF + 6) (fL + 300) E D) (hfN : ∀ (l : Launch) (E : g_E) (D : g_D), ∀ {t : Nat} {v1 : Int32} {v2 : Int32} {G : g_G} {q : Int32 × g_G}, fN E t v1 v2 G = some q → gMet l E D yX4_readSteps (ws_ yX4_readSteps cX4_readSteps 6 (some .int)) fF fL [.inr (.inr (some t)), .inl v1, .inl v2] G (some (.int q.1)) q.2) (hF : 200 ≤ fF) (hL : 12000 ≤ fL) : ∀ (n : Nat) (t : Nat) (v1 : Int32) (v2 : Int32) (v3 : Int32) (v4 : Int32) (G : g_G) (q : Int32 × g_G), fX4_readSteps_b5 E fN n t v1 v2 v3 v4 G = some q → ∀ (H : Heap) (locs : List Loc) (cells slots : Nat) (ls : Array Slot), gSt E D G H locs → gls ls 6 [(0, .inr (.inr (some t))), (1, .inl v1), (2, .inl v2), (3, .inl v3), (4, .inl v4)] → gT p l e R s m args below meth c E D H locs cells slots (some (.int q.1)) q.2 (F0 m 5 ls []) := by
  obtain ⟨hx, hb, hml, hown, hts, hKn, hRc, hRs, hc1, hc2, hRf, hRl, hr, hlk, hnm⟩ := id C
  intro n
  induction n with
  | zero =>
    intro t v1 v2 v3 v4 G q h
    exact g_no h
  | succ n ih =>
    intro t v1 v2 v3 v4 G q h H locs cells slots ls hS hl
    rw [fX4_readSteps_b5] at h
    refine g_aload_n hx hb hl 0 rfl dX4_readSteps_5 ?_
    refine g_rdI hx hb hown hts hKn hS h fd_4_4_18 rfl (Or.inl (hts _ q1883)) (fun _ z => z) dX4_readSteps_6 (fun x6 h => ?_)
    refine lv_if_ne (tgt := 97) hx hb dX4_readSteps_9 (by decide) (fun c_9 => ?_) (fun c_9 => ?_)
    · have h := g_ift c_9 h
      exact sX4_readSteps_b97 C hfN hF hL _ _ _ _ _ _ h _ _ _ _ _ hS (gls_sub hl [0, 2, 3, 4] rfl)
    · have h := g_iff (fun z => z c_9) h
      refine g_aload_n hx hb hl 0 rfl dX4_readSteps_12 ?_
      refine g_rdI hx hb hown hts hKn hS h fd_4_4_13 rfl (Or.inl (hts _ q1878)) (fun _ z => z) dX4_readSteps_13 (fun x13 h => ?_)
      refine lv_if_eq (tgt := 97) hx hb dX4_readSteps_16 (by decide) (fun c_16 => ?_) (fun c_16 => ?_)
      · have h := g_ift c_16 h
        exact sX4_readSteps_b97 C hfN hF hL _ _ _ _ _ _ h _ _ _ _ _ hS (gls_sub hl [0, 2, 3, 4] rfl)
      · have h := g_iff c_16 h
        refine g_iload_n hx hb hl 2 rfl dX4_readSteps_19 ?_
        refine lv_iconst (v := (-1)) hx hb dX4_readSteps_20 (by decide) ?_
        refine lv_icmp_eq (tgt := 44) hx hb dX4_readSteps_21 (by decide) (fun c_21 => ?_) (fun c_21 => ?_)
        · have h := g_ift c_21 h
          exact sX4_readSteps_b44 C hfN hF hL ih _ _ _ _ _ _ _ h _ _ _ _ _ hS (gls_sub hl [0, 1, 2, 3, 4] rfl)
        · have h := g_iff c_21 h
          refine g_aload_n hx hb hl 0 rfl dX4_readSteps_24 ?_
          refine g_ldcwS (i := 54) hx hb hown hKn (List.mem_of_getElem? (i := 55) rfl) dX4_readSteps_25 ?_
          obtain ⟨b28, hb28, h⟩ := g_bnd h
          obtain ⟨hr28, hk28⟩ := g_chk hb28
          obtain ⟨z28, h28, h⟩ := g_bnd h
          refine g_callV (n := 1) (b := b28) (av := [.inr (.inr (some (gA E 54)))]) (rs := []) hx hb hml hown hts hKn hRc hRs hS hl (sX4_is l E D h28) (lw_V q2113 q2115 qs52 q135 q2116) ⟨rfl, by decide, by decide, by decide +kernel⟩ ⟨by rw [hRf]; omega, by rw [hRl]; omega⟩ (g_recv hKn hS hk28 (by decide) (by decide)) rfl (by rw [hr28]; rfl) (Nat.le_of_ble_eq_true rfl) dX4_readSteps_28 (fun H locs cells slots hS => ?_)
          refine lv_if_ne (tgt := 97) hx hb dX4_readSteps_31 (by decide) (fun c_31 => ?_) (fun c_31 => ?_)
          · have h := g_ift c_31 h
            exact sX4_readSteps_b97 C hfN hF hL _ _ _ _ _ _ h _ _ _ _ _ hS (gls_sub hl [0, 2, 3, 4] rfl)
          · have h := g_iff (fun z => z c_31) h
            refine g_aload_n hx hb hl 0 rfl dX4_readSteps_34 ?_
            refine g_ldcwS (i := 55) hx hb hown hKn (List.mem_of_getElem? (i := 56) rfl) dX4_readSteps_35 ?_
            obtain ⟨b38, hb38, h⟩ := g_bnd h
            obtain ⟨hr38, hk38⟩ := g_chk hb38
            obtain ⟨z38, h38, h⟩ := g_bnd h
            refine g_callV (n := 1) (b := b38) (av := [.inr (.inr (some (gA E 55)))]) (rs := []) hx hb hml hown hts hKn hRc hRs hS hl (sX4_is l E D h38) (lw_V q2113 q2115 qs52 q135 q2116) ⟨rfl, by decide, by decide, by decide +kernel⟩ ⟨by rw [hRf]; omega, by rw [hRl]; omega⟩ (g_recv hKn hS hk38 (by decide) (by decide)) rfl (by rw [hr38]; rfl) (Nat.le_of_ble_eq_true rfl) dX4_readSteps_38 (fun H locs cells slots hS => ?_)
            refine lv_if_ne (tgt := 97) hx hb dX4_readSteps_41 (by decide) (fun c_41 => ?_) (fun c_41 => ?_)
            · have h := g_ift c_41 h
              exact sX4_readSteps_b97 C hfN hF hL _ _ _ _ _ _ h _ _ _ _ _ hS (gls_sub hl [0, 2, 3, 4] rfl)
            · have h := g_iff (fun z => z c_41) h
              exact sX4_readSteps_b44 C hfN hF hL ih _ _ _ _ _ _ _ h _ _ _ _ _ hS (gls_sub hl [0, 1, 2, 3, 4] rfl)
theorem sX4_readSteps (l : Launch) (E : g_E) (D : g_D) {fN : g_E → Nat → Int32 → Int32 → g_G → Option (Int32 × g_G)} {fF : Nat} {fL : Nat} (hfN : ∀ (l : Launch) (E : g_E) (D : g_D), ∀ {t : Nat} {v1 : Int32} {v2 : Int32} {G : g_G} {q : Int32 × g_G}, fN E t v1 v2 G = some q → gMet l E D yX4_readSteps (ws_ yX4_readSteps cX4_readSteps 6 (some .int)) fF fL [.inr (.inr (some t)), .inl v1, .inl v2] G (some (.int q.1)) q.2) (hF : 200 ≤ fF) (hL : 12000 ≤ fL) {t : Nat} {v1 : Int32} {v2 : Int32} {G : g_G} {q : Int32 × g_G} (h : fX4_readSteps E fN t v1 v2 G = some q) : gMet l E D yX4_readSteps (ws_ yX4_readSteps cX4_readSteps 6 (some .int)) (fF + 6) (fL + 300) [.inr (.inr (some t)), .inl v1, .inl v2] G (some (.int q.1)) q.2 := by
  refine gMet.of (by decide +kernel) (Nat.le_of_ble_eq_true rfl) ?_
  intro p e R s m args below meth c C hS ls hl
  have C : gC p R s m args meth c cX4_readSteps 6 RX4 "readSteps" (some .int) (fF + 6) (fL + 300) E D := C
  obtain ⟨hx, hb, hml, hown, hts, hKn, hRc, hRs, hc1, hc2, hRf, hRl, hr, hlk, hnm⟩ := id C
  have hl : gls ls 6 [(0, .inr (.inr (some t))), (1, .inl v1), (2, .inl v2)] := hl
  generalize s.heap = H at hS ⊢
  unfold fX4_readSteps at h
  refine lv_iconst (v := (-1)) hx hb dX4_readSteps_0 (by decide) ?_
  refine g_istore_n (l1 := [(3, .inl (-1)), (0, .inr (.inr (some t))), (1, .inl v1), (2, .inl v2)]) hx hb hl (by decide) rfl dX4_readSteps_1 (fun ls hl => ?_)
  refine lv_iconst (v := (-1)) hx hb dX4_readSteps_2 (by decide) ?_
  refine g_istore (l1 := [(4, .inl (-1)), (3, .inl (-1)), (0, .inr (.inr (some t))), (1, .inl v1), (2, .inl v2)]) hx hb hl (by decide) rfl dX4_readSteps_3 (fun ls hl => ?_)
  exact sX4_readSteps_b5 C hfN hF hL gFU _ _ _ _ _ _ _ h _ _ _ _ _ hS (gls_sub hl [2, 3, 4, 1, 0] rfl)
/-- tied: calls may lie d deep in one another -/
def gF_msteps : Nat → Nat
  | 0 => 200
  | d + 1 => gF_msteps d + 6
def gL_msteps : Nat → Nat
  | 0 => 12000
  | d + 1 => gL_msteps d + 300
theorem gF_msteps_ge : ∀ d, 200 ≤ gF_msteps d
  | 0 => Nat.le_refl _
  | d + 1 => Nat.le_trans (gF_msteps_ge d) (Nat.le_add_right _ _)
theorem gL_msteps_ge : ∀ d, 12000 ≤ gL_msteps d
  | 0 => Nat.le_refl _
  | d + 1 => Nat.le_trans (gL_msteps_ge d) (Nat.le_add_right _ _)
def fR_msteps : Nat → g_E → Nat → Int32 → Int32 → g_G → Option (Int32 × g_G)
  | 0 => fun _ _ _ _ _ => none
  | d + 1 => fun E t v1 v2 G => fX4_readSteps E (fR_msteps d) t v1 v2 G
theorem sR_msteps : ∀ (d : Nat) (l : Launch) (E : g_E) (D : g_D), ∀ {t : Nat} {v1 : Int32} {v2 : Int32} {G : g_G} {q : Int32 × g_G}, fR_msteps d E t v1 v2 G = some q → gMet l E D yX4_readSteps (ws_ yX4_readSteps cX4_readSteps 6 (some .int)) (gF_msteps d) (gL_msteps d) [.inr (.inr (some t)), .inl v1, .inl v2] G (some (.int q.1)) q.2
  | 0 => by
    intro l E D t v1 v2 G q h
    exact g_no h
  | d + 1 => by
    intro l E D t v1 v2 G q h
    exact sX4_readSteps l E D (sR_msteps d) (gF_msteps_ge d) (gL_msteps_ge d) h
theorem sT_msteps (l : Launch) (E : g_E) (D : g_D) {t : Nat} {v1 : Int32} {v2 : Int32} {G : g_G} {q : Int32 × g_G} (h : fR_msteps 7 E t v1 v2 G = some q) : gMet l E D yX4_readSteps (ws_ yX4_readSteps cX4_readSteps 6 (some .int)) 242 14100 [.inr (.inr (some t)), .inl v1, .inl v2] G (some (.int q.1)) q.2 := sR_msteps 7 l E D h
/-- SendHallModel.tell()Z -/
def fX4_tell_b116 (E : g_E) (t : Nat) (G : g_G) : Option (Int32 × g_G) :=
  (grI G 4 4 (some t) 52).bind fun x117 =>
  if ¬ x117 = 0 then (
    if (0 : Int32) = 0 ∨ (0 : Int32) = 1 then some (0, G) else none)
  else (
    if (1 : Int32) = 0 ∨ (1 : Int32) = 1 then some (1, G) else none)
def fX4_tell_b91 (E : g_E) : Nat → Nat → Int32 → g_G → Option (Int32 × g_G)
  | 0, _, _, _ => none
  | n + 1, t, v1, G =>
    if (320 : Int32) ≤ v1 then (
      fX4_tell_b116 E t G)
    else (
      (grR G 4 4 (some t) 54).bind fun x99 =>
      (grR G 4 4 (some t) 49).bind fun x104 =>
      (gaI G 100 x104 v1).bind fun x108 =>
      (gsaI E G x99 v1 x108).bind fun G109 =>
      fX4_tell_b91 E n t (v1 + 1) G109)
def fX4_tell_b73 (E : g_E) (t : Nat) (G : g_G) : Option (Int32 × g_G) :=
  (grI G 4 4 (some t) 48).bind fun x75 =>
  (gpZ E G 4 4 (some t) 52 x75).bind fun G78 =>
  (grI G78 4 4 (some t) 46).bind fun x83 =>
  (gpI E G78 4 4 (some t) 53 x83).bind fun G86 =>
  fX4_tell_b91 E gFU t 0 G86
def fX4_tell_b67 (E : g_E) (k31 : Nat → Int32 → g_G → Option (Int32 × g_G)) (t : Nat) (v1 : Int32) (G : g_G) : Option (Int32 × g_G) :=
  k31 t (v1 + 1) G
def fX4_tell_b31 (E : g_E) : Nat → Nat → Int32 → g_G → Option (Int32 × g_G)
  | 0, _, _, _ => none
  | n + 1, t, v1, G =>
    (grI G 4 4 (some t) 46).bind fun x33 =>
    if x33 ≤ v1 then (
      fX4_tell_b73 E t G)
    else (
      (grI G 4 4 (some t) 48).bind fun x40 =>
      if ¬ x40 = 0 then (
        fX4_tell_b73 E t G)
      else (
        (grR G 4 4 (some t) 45).bind fun x47 =>
        (gaI G 102 x47 v1).bind fun x51 =>
        if ¬ x51 = 0 then (
          (gchk G 4 (some t)).bind fun b60 =>
          (fX4_bring E b60 v1 G).bind fun z60 =>
          (gchk z60 4 (some t)).bind fun b64 =>
          (fX4_showEnding E b64 z60).bind fun z64 =>
          fX4_tell_b67 E (fX4_tell_b31 E n) t v1 z64)
        else (
          fX4_tell_b67 E (fX4_tell_b31 E n) t v1 G)))
def fX4_tell (E : g_E) (t : Nat) (G : g_G) : Option (Int32 × g_G) :=
  (grI G 4 4 (some t) 47).bind fun x1 =>
  (grI G 4 4 (some t) 7).bind fun x5 =>
  if x1 = x5 then (
    fX4_tell_b116 E t G)
  else (
    (grI G 4 4 (some t) 7).bind fun x13 =>
    (gpI E G 4 4 (some t) 47 x13).bind fun G16 =>
    (gchk G16 4 (some t)).bind fun b20 =>
    (fX4_go E b20 G16).bind fun z20 =>
    (gpI E z20.2 4 4 (some t) 51 0).bind fun G26 =>
    fX4_tell_b31 E gFU t 0 G26)
theorem sX4_tell_b116 {p : Program} {l : Launch} {e : Env} {R : Room} {s : State} {m : MethodId} {args : Array Value} {below : List Frame} {meth : Method} {c : Code} {E : g_E} {D : g_D} (C : gC p R s m args meth c cX4_tell 2 RX4 "tell" (some .boolean) 12 327 E D) : ∀ (t : Nat) (G : g_G) (q : Int32 × g_G), fX4_tell_b116 E t G = some q → ∀ (H : Heap) (locs : List Loc) (cells slots : Nat) (ls : Array Slot), gSt E D G H locs → gls ls 2 [(0, .inr (.inr (some t)))] → gT p l e R s m args below meth c E D H locs cells slots (some (.int q.1)) q.2 (F0 m 116 ls []) := by
  obtain ⟨hx, hb, hml, hown, hts, hKn, hRc, hRs, hc1, hc2, hRf, hRl, hr, hlk, hnm⟩ := id C
  intro t G q h H locs cells slots ls hS hl
  unfold fX4_tell_b116 at h
  refine g_aload_n hx hb hl 0 rfl dX4_tell_116 ?_
  refine g_rdI hx hb hown hts hKn hS h fd_4_4_52 rfl (Or.inl (hts _ q1917)) (fun _ z => z) dX4_tell_117 (fun x117 h => ?_)
  refine lv_if_ne (tgt := 127) hx hb dX4_tell_120 (by decide) (fun c_120 => ?_) (fun c_120 => ?_)
  · have h := g_ift c_120 h
    refine lv_iconst (v := 0) hx hb dX4_tell_127 (by decide) ?_
    exact g_zretG hx hb hr hlk hKn hRc hRs hS h dX4_tell_128
  · have h := g_iff (fun z => z c_120) h
    refine lv_iconst (v := 1) hx hb dX4_tell_123 (by decide) ?_
    refine lv_goto (tgt := 128) hx hb dX4_tell_124 (by decide) ?_
    exact g_zretG hx hb hr hlk hKn hRc hRs hS h dX4_tell_128
theorem sX4_tell_b91 {p : Program} {l : Launch} {e : Env} {R : Room} {s : State} {m : MethodId} {args : Array Value} {below : List Frame} {meth : Method} {c : Code} {E : g_E} {D : g_D} (C : gC p R s m args meth c cX4_tell 2 RX4 "tell" (some .boolean) 12 327 E D) : ∀ (n : Nat) (t : Nat) (v1 : Int32) (G : g_G) (q : Int32 × g_G), fX4_tell_b91 E n t v1 G = some q → ∀ (H : Heap) (locs : List Loc) (cells slots : Nat) (ls : Array Slot), gSt E D G H locs → gls ls 2 [(0, .inr (.inr (some t))), (1, .inl v1)] → gT p l e R s m args below meth c E D H locs cells slots (some (.int q.1)) q.2 (F0 m 91 ls []) := by
  obtain ⟨hx, hb, hml, hown, hts, hKn, hRc, hRs, hc1, hc2, hRf, hRl, hr, hlk, hnm⟩ := id C
  intro n
  induction n with
  | zero =>
    intro t v1 G q h
    exact g_no h
  | succ n ih =>
    intro t v1 G q h H locs cells slots ls hS hl
    rw [fX4_tell_b91] at h
    refine g_iload_n hx hb hl 1 rfl dX4_tell_91 ?_
    refine lv_sipush (v := 320) hx hb dX4_tell_92 (by decide) ?_
    refine lv_icmp_ge (tgt := 116) hx hb dX4_tell_95 (by decide) (fun c_95 => ?_) (fun c_95 => ?_)
    · have h := g_ift c_95 h
      exact sX4_tell_b116 C _ _ _ h _ _ _ _ _ hS (gls_sub hl [0] rfl)
    · have h := g_iff c_95 h
      refine g_aload_n hx hb hl 0 rfl dX4_tell_98 ?_
      refine g_rdR hx hb hown hts hKn hS h fd_4_4_54 rfl (Or.inl (hts _ q1919)) (fun _ z => z) dX4_tell_99 (fun x99 h => ?_)
      refine g_iload_n hx hb hl 1 rfl dX4_tell_102 ?_
      refine g_aload_n hx hb hl 0 rfl dX4_tell_103 ?_
      refine g_rdR hx hb hown hts hKn hS h fd_4_4_49 rfl (Or.inl (hts _ q1914)) (fun _ z => z) dX4_tell_104 (fun x104 h => ?_)
      refine g_iload_n hx hb hl 1 rfl dX4_tell_107 ?_
      refine g_ialoadG hx hb hKn hS h dX4_tell_108 (fun x108 h => ?_)
      refine g_iastoreG hx hb hKn hS h dX4_tell_109 (fun G109 h H locs hS => ?_)
      refine g_iinc (l1 := [(1, .inl (v1 + 1)), (0, .inr (.inr (some t)))]) (v := (v1 + 1)) hx hb hl (k := 1) rfl (by rfl) (by decide) rfl dX4_tell_110 (fun ls hl => ?_)
      refine lv_goto (tgt := 91) hx hb dX4_tell_113 (by decide) ?_
      exact ih _ _ _ _ h _ _ _ _ _ hS (gls_sub hl [1, 0] rfl)
theorem sX4_tell_b73 {p : Program} {l : Launch} {e : Env} {R : Room} {s : State} {m : MethodId} {args : Array Value} {below : List Frame} {meth : Method} {c : Code} {E : g_E} {D : g_D} (C : gC p R s m args meth c cX4_tell 2 RX4 "tell" (some .boolean) 12 327 E D) : ∀ (t : Nat) (G : g_G) (q : Int32 × g_G), fX4_tell_b73 E t G = some q → ∀ (H : Heap) (locs : List Loc) (cells slots : Nat) (ls : Array Slot), gSt E D G H locs → gls ls 2 [(0, .inr (.inr (some t)))] → gT p l e R s m args below meth c E D H locs cells slots (some (.int q.1)) q.2 (F0 m 73 ls []) := by
  obtain ⟨hx, hb, hml, hown, hts, hKn, hRc, hRs, hc1, hc2, hRf, hRl, hr, hlk, hnm⟩ := id C
  intro t G q h H locs cells slots ls hS hl
  unfold fX4_tell_b73 at h
  refine g_aload_n hx hb hl 0 rfl dX4_tell_73 ?_
  refine g_aload_n hx hb hl 0 rfl dX4_tell_74 ?_
  refine g_rdI hx hb hown hts hKn hS h fd_4_4_48 rfl (Or.inl (hts _ q1913)) (fun _ z => z) dX4_tell_75 (fun x75 h => ?_)
  refine g_ptZ hx hb hown hts hKn hS h fd_4_4_52 (Or.inl (hts _ q1917)) (fun _ z => z) (fun z => nomatch z) dX4_tell_78 (fun G78 h H locs hS => ?_)
  refine g_aload_n hx hb hl 0 rfl dX4_tell_81 ?_
  refine g_aload_n hx hb hl 0 rfl dX4_tell_82 ?_
  refine g_rdI hx hb hown hts hKn hS h fd_4_4_46 rfl (Or.inl (hts _ q1911)) (fun _ z => z) dX4_tell_83 (fun x83 h => ?_)
  refine g_ptI hx hb hown hts hKn hS h fd_4_4_53 (Or.inl (hts _ q1918)) (fun _ z => z) (fun z => nomatch z) dX4_tell_86 (fun G86 h H locs hS => ?_)
  refine lv_iconst (v := 0) hx hb dX4_tell_89 (by decide) ?_
  refine g_istore_n (l1 := [(1, .inl 0), (0, .inr (.inr (some t)))]) hx hb hl (by decide) rfl dX4_tell_90 (fun ls hl => ?_)
  exact sX4_tell_b91 C gFU _ _ _ _ h _ _ _ _ _ hS (gls_sub hl [1, 0] rfl)
theorem sX4_tell_b67 {p : Program} {l : Launch} {e : Env} {R : Room} {s : State} {m : MethodId} {args : Array Value} {below : List Frame} {meth : Method} {c : Code} {E : g_E} {D : g_D} (C : gC p R s m args meth c cX4_tell 2 RX4 "tell" (some .boolean) 12 327 E D) {k31 : Nat → Int32 → g_G → Option (Int32 × g_G)} (hk31 : ∀ (t : Nat) (v1 : Int32) (G : g_G) (q : Int32 × g_G), k31 t v1 G = some q → ∀ (H : Heap) (locs : List Loc) (cells slots : Nat) (ls : Array Slot), gSt E D G H locs → gls ls 2 [(0, .inr (.inr (some t))), (1, .inl v1)] → gT p l e R s m args below meth c E D H locs cells slots (some (.int q.1)) q.2 (F0 m 31 ls [])) : ∀ (t : Nat) (v1 : Int32) (G : g_G) (q : Int32 × g_G), fX4_tell_b67 E k31 t v1 G = some q → ∀ (H : Heap) (locs : List Loc) (cells slots : Nat) (ls : Array Slot), gSt E D G H locs → gls ls 2 [(0, .inr (.inr (some t))), (1, .inl v1)] → gT p l e R s m args below meth c E D H locs cells slots (some (.int q.1)) q.2 (F0 m 67 ls []) := by
  obtain ⟨hx, hb, hml, hown, hts, hKn, hRc, hRs, hc1, hc2, hRf, hRl, hr, hlk, hnm⟩ := id C
  intro t v1 G q h H locs cells slots ls hS hl
  unfold fX4_tell_b67 at h
  refine g_iinc (l1 := [(1, .inl (v1 + 1)), (0, .inr (.inr (some t)))]) (v := (v1 + 1)) hx hb hl (k := 1) rfl (by rfl) (by decide) rfl dX4_tell_67 (fun ls hl => ?_)
  refine lv_goto (tgt := 31) hx hb dX4_tell_70 (by decide) ?_
  exact hk31 _ _ _ _ h _ _ _ _ _ hS (gls_sub hl [1, 0] rfl)
theorem sX4_tell_b31 {p : Program} {l : Launch} {e : Env} {R : Room} {s : State} {m : MethodId} {args : Array Value} {below : List Frame} {meth : Method} {c : Code} {E : g_E} {D : g_D} (C : gC p R s m args meth c cX4_tell 2 RX4 "tell" (some .boolean) 12 327 E D) : ∀ (n : Nat) (t : Nat) (v1 : Int32) (G : g_G) (q : Int32 × g_G), fX4_tell_b31 E n t v1 G = some q → ∀ (H : Heap) (locs : List Loc) (cells slots : Nat) (ls : Array Slot), gSt E D G H locs → gls ls 2 [(0, .inr (.inr (some t))), (1, .inl v1)] → gT p l e R s m args below meth c E D H locs cells slots (some (.int q.1)) q.2 (F0 m 31 ls []) := by
  obtain ⟨hx, hb, hml, hown, hts, hKn, hRc, hRs, hc1, hc2, hRf, hRl, hr, hlk, hnm⟩ := id C
  intro n
  induction n with
  | zero =>
    intro t v1 G q h
    exact g_no h
  | succ n ih =>
    intro t v1 G q h H locs cells slots ls hS hl
    rw [fX4_tell_b31] at h
    refine g_iload_n hx hb hl 1 rfl dX4_tell_31 ?_
    refine g_aload_n hx hb hl 0 rfl dX4_tell_32 ?_
    refine g_rdI hx hb hown hts hKn hS h fd_4_4_46 rfl (Or.inl (hts _ q1911)) (fun _ z => z) dX4_tell_33 (fun x33 h => ?_)
    refine lv_icmp_ge (tgt := 73) hx hb dX4_tell_36 (by decide) (fun c_36 => ?_) (fun c_36 => ?_)
    · have h := g_ift c_36 h
      exact sX4_tell_b73 C _ _ _ h _ _ _ _ _ hS (gls_sub hl [0] rfl)
    · have h := g_iff c_36 h
      refine g_aload_n hx hb hl 0 rfl dX4_tell_39 ?_
      refine g_rdI hx hb hown hts hKn hS h fd_4_4_48 rfl (Or.inl (hts _ q1913)) (fun _ z => z) dX4_tell_40 (fun x40 h => ?_)
      refine lv_if_ne (tgt := 73) hx hb dX4_tell_43 (by decide) (fun c_43 => ?_) (fun c_43 => ?_)
      · have h := g_ift c_43 h
        exact sX4_tell_b73 C _ _ _ h _ _ _ _ _ hS (gls_sub hl [0] rfl)
      · have h := g_iff (fun z => z c_43) h
        refine g_aload_n hx hb hl 0 rfl dX4_tell_46 ?_
        refine g_rdR hx hb hown hts hKn hS h fd_4_4_45 rfl (Or.inl (hts _ q1910)) (fun _ z => z) dX4_tell_47 (fun x47 h => ?_)
        refine g_iload_n hx hb hl 1 rfl dX4_tell_50 ?_
        refine g_zaloadG hx hb hKn hS h dX4_tell_51 (fun x51 h => ?_)
        refine lv_if_ne (tgt := 58) hx hb dX4_tell_52 (by decide) (fun c_52 => ?_) (fun c_52 => ?_)
        · have h := g_ift c_52 h
          refine g_aload_n hx hb hl 0 rfl dX4_tell_58 ?_
          refine g_iload_n hx hb hl 1 rfl dX4_tell_59 ?_
          obtain ⟨b60, hb60, h⟩ := g_bnd h
          obtain ⟨hr60, hk60⟩ := g_chk hb60
          obtain ⟨z60, h60, h⟩ := g_bnd h
          refine g_callV (n := 1) (b := b60) (av := [.inl v1]) (rs := []) hx hb hml hown hts hKn hRc hRs hS hl (sX4_bring l E D h60) (lw_V q2276 q2278 qs84 q135 q2279) ⟨rfl, by decide, by decide, by decide +kernel⟩ ⟨by rw [hRf]; exact Nat.le_of_ble_eq_true rfl, by rw [hRl]; exact Nat.le_of_ble_eq_true rfl⟩ (g_recv hKn hS hk60 (by decide) (by decide)) rfl (by rw [hr60]; rfl) (Nat.le_of_ble_eq_true rfl) dX4_tell_60 (fun H locs cells slots hS => ?_)
          refine g_aload_n hx hb hl 0 rfl dX4_tell_63 ?_
          obtain ⟨b64, hb64, h⟩ := g_bnd h
          obtain ⟨hr64, hk64⟩ := g_chk hb64
          obtain ⟨z64, h64, h⟩ := g_bnd h
          refine g_callV (n := 0) (b := b64) (av := []) (rs := []) hx hb hml hown hts hKn hRc hRs hS hl (sX4_showEnding l E D h64) (lw_V q2357 q2359 qs103 q135 q2360) ⟨rfl, by decide, by decide, by decide +kernel⟩ ⟨by rw [hRf]; exact Nat.le_of_ble_eq_true rfl, by rw [hRl]; exact Nat.le_of_ble_eq_true rfl⟩ (g_recv hKn hS hk64 (by decide) (by decide)) rfl (by rw [hr64]; rfl) (Nat.le_of_ble_eq_true rfl) dX4_tell_64 (fun H locs cells slots hS => ?_)
          exact sX4_tell_b67 C ih _ _ _ _ h _ _ _ _ _ hS (gls_sub hl [0, 1] rfl)
        · have h := g_iff (fun z => z c_52) h
          refine lv_goto (tgt := 67) hx hb dX4_tell_55 (by decide) ?_
          exact sX4_tell_b67 C ih _ _ _ _ h _ _ _ _ _ hS (gls_sub hl [0, 1] rfl)
theorem sX4_tell (l : Launch) (E : g_E) (D : g_D) {t : Nat} {G : g_G} {q : Int32 × g_G} (h : fX4_tell E t G = some q) : gMet l E D yX4_tell (ws_ yX4_tell cX4_tell 2 (some .boolean)) 12 327 [.inr (.inr (some t))] G (some (.int q.1)) q.2 := by
  refine gMet.of (by decide +kernel) (Nat.le_of_ble_eq_true rfl) ?_
  intro p e R s m args below meth c C hS ls hl
  have C : gC p R s m args meth c cX4_tell 2 RX4 "tell" (some .boolean) 12 327 E D := C
  obtain ⟨hx, hb, hml, hown, hts, hKn, hRc, hRs, hc1, hc2, hRf, hRl, hr, hlk, hnm⟩ := id C
  have hl : gls ls 2 [(0, .inr (.inr (some t)))] := hl
  generalize s.heap = H at hS ⊢
  unfold fX4_tell at h
  refine g_aload_n hx hb hl 0 rfl dX4_tell_0 ?_
  refine g_rdI hx hb hown hts hKn hS h fd_4_4_47 rfl (Or.inl (hts _ q1912)) (fun _ z => z) dX4_tell_1 (fun x1 h => ?_)
  refine g_aload_n hx hb hl 0 rfl dX4_tell_4 ?_
  refine g_rdI hx hb hown hts hKn hS h fd_4_4_7 rfl (Or.inl (hts _ q1872)) (fun _ z => z) dX4_tell_5 (fun x5 h => ?_)
  refine lv_icmp_eq (tgt := 116) hx hb dX4_tell_8 (by decide) (fun c_8 => ?_) (fun c_8 => ?_)
  · have h := g_ift c_8 h
    exact sX4_tell_b116 C _ _ _ h _ _ _ _ _ hS (gls_sub hl [0] rfl)
  · have h := g_iff c_8 h
    refine g_aload_n hx hb hl 0 rfl dX4_tell_11 ?_
    refine g_aload_n hx hb hl 0 rfl dX4_tell_12 ?_
    refine g_rdI hx hb hown hts hKn hS h fd_4_4_7 rfl (Or.inl (hts _ q1872)) (fun _ z => z) dX4_tell_13 (fun x13 h => ?_)
    refine g_ptI hx hb hown hts hKn hS h fd_4_4_47 (Or.inl (hts _ q1912)) (fun _ z => z) (fun z => nomatch z) dX4_tell_16 (fun G16 h H locs hS => ?_)
    refine g_aload_n hx hb hl 0 rfl dX4_tell_19 ?_
    obtain ⟨b20, hb20, h⟩ := g_bnd h
    obtain ⟨hr20, hk20⟩ := g_chk hb20
    obtain ⟨z20, h20, h⟩ := g_bnd h
    refine g_callV (n := 0) (b := b20) (av := []) (rs := []) hx hb hml hown hts hKn hRc hRs hS hl (sX4_go l E D h20) (lw_V q2221 q2223 qs71 q135 q2224) ⟨rfl, by decide, by decide, by decide +kernel⟩ ⟨by rw [hRf]; exact Nat.le_of_ble_eq_true rfl, by rw [hRl]; exact Nat.le_of_ble_eq_true rfl⟩ (g_recv hKn hS hk20 (by decide) (by decide)) rfl (by rw [hr20]; rfl) (Nat.le_of_ble_eq_true rfl) dX4_tell_20 (fun H locs cells slots hS => ?_)
    refine lv_pop hx hb dX4_tell_23 rfl ?_
    refine g_aload_n hx hb hl 0 rfl dX4_tell_24 ?_
    refine lv_iconst (v := 0) hx hb dX4_tell_25 (by decide) ?_
    refine g_ptI hx hb hown hts hKn hS h fd_4_4_51 (Or.inl (hts _ q1916)) (fun _ z => z) (fun z => nomatch z) dX4_tell_26 (fun G26 h H locs hS => ?_)
    refine lv_iconst (v := 0) hx hb dX4_tell_29 (by decide) ?_
    refine g_istore_n (l1 := [(1, .inl 0), (0, .inr (.inr (some t)))]) hx hb hl (by decide) rfl dX4_tell_30 (fun ls hl => ?_)
    exact sX4_tell_b31 C gFU _ _ _ _ h _ _ _ _ _ hS (gls_sub hl [1, 0] rfl)
