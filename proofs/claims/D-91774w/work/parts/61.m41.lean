set_option maxRecDepth 100000
/-- SendHall.goesOn(LSendHall$Life;II)Z -/
def fX1_goesOn_b146 (E : g_E) (t : Nat) (v1 : Option Nat) (v2 : Int32) (v3 : Int32) (v6 : Int32) (v7 : Int32) (G : g_G) : Option (Int32 × g_G) :=
  (gchk G 1 (some t)).bind fun b152 =>
  (fX1_move E b152 v1 v2 v6 v3 G).bind fun z152 =>
  if v7 = (-1 : Int32) then (
    if (1 : Int32) = 0 ∨ (1 : Int32) = 1 then some (1, z152) else none)
  else (
    (grR z152 1 1 (some t) 22).bind fun x162 =>
    (grI z152 1 1 (some t) 25).bind fun x166 =>
    (gsaI E z152 x162 x166 v7).bind fun G171 =>
    (grI G171 1 1 (some t) 25).bind fun x174 =>
    (gpI E G171 1 1 (some t) 25 (x174 + 1)).bind fun G179 =>
    if (1 : Int32) = 0 ∨ (1 : Int32) = 1 then some (1, G179) else none)
def fX1_goesOn_b76 (E : g_E) (t : Nat) (v1 : Option Nat) (v2 : Int32) (v3 : Int32) (v6 : Int32) (G : g_G) : Option (Int32 × g_G) :=
  fX1_goesOn_b146 E t v1 v2 v3 v6 v6 G
def fX1_goesOn_b63 (E : g_E) (t : Nat) (v1 : Option Nat) (v2 : Int32) (v3 : Int32) (v4 : Int32) (v6 : Int32) (G : g_G) : Option (Int32 × g_G) :=
  if ¬ v6 = (-1 : Int32) then (
    fX1_goesOn_b76 E t v1 v2 v3 v6 G)
  else (
    (fJ16_numberOfTrailingZeros E v4 G).bind fun z71 =>
    fX1_goesOn_b76 E t v1 v2 v3 z71.1 z71.2)
def fX1_goesOn_b143 (E : g_E) (t : Nat) (v1 : Option Nat) (v2 : Int32) (v3 : Int32) (v6 : Int32) (G : g_G) : Option (Int32 × g_G) :=
  fX1_goesOn_b146 E t v1 v2 v3 v6 v2 G
def fX1_goesOn (E : g_E) (t : Nat) (v1 : Option Nat) (v2 : Int32) (v3 : Int32) (G : g_G) : Option (Int32 × g_G) :=
  (gchk G 1 (some t)).bind fun b4 =>
  (fX1_moves E b4 v1 v2 v3 G).bind fun z4 =>
  if ¬ z4.1 = 0 then (
    (grR z4.2 3 3 v1 3).bind fun x17 =>
    (gaR z4.2 122 x17 v2).bind fun x21 =>
    (grI z4.2 11 16 x21 0).bind fun x22 =>
    if ¬ x22 = (4 : Int32) then (
      if (2 : Int32) < x22 then (
        fX1_goesOn_b146 E t v1 v2 v3 v2 (-1) z4.2)
      else (
        (gchk z4.2 1 (some t)).bind fun b93 =>
        (fX1_mayLie E b93 v1 v2 v3 z4.2).bind fun z93 =>
        if ¬ z93.1 = 0 then (
          fX1_goesOn_b146 E t v1 v2 v3 v2 (-1) z93.2)
        else (
          (grR z93.2 3 3 v1 3).bind fun x100 =>
          (grR z93.2 3 3 v1 3).bind fun x104 =>
          (gaR z93.2 122 x104 v2).bind fun x108 =>
          (gcast z93.2 15 15 x108).bind fun x109 =>
          (gchk z93.2 15 x109).bind fun b114 =>
          (fX9_to E b114 v1 v2 z93.2).bind fun z114 =>
          (gaR z114.2 122 x100 z114.1).bind fun x117 =>
          (grI z114.2 11 16 x117 0).bind fun x118 =>
          if ¬ x118 = (4 : Int32) then (
            fX1_goesOn_b146 E t v1 v2 v3 v2 (-1) z114.2)
          else (
            (gchk z114.2 1 (some t)).bind fun b126 =>
            (fX1_nextChoice E b126 z114.2).bind fun z126 =>
            if z126.1 = (-1 : Int32) then (
              fX1_goesOn_b143 E t v1 v2 v3 v2 z126.2)
            else (
              (gchk z126.2 1 (some t)).bind fun b134 =>
              (fX1_nextChoice E b134 z126.2).bind fun z134 =>
              if z134.1 = v2 then (
                fX1_goesOn_b143 E t v1 v2 v3 v2 z134.2)
              else (
                if (0 : Int32) = 0 ∨ (0 : Int32) = 1 then some (0, z134.2) else none))))))
    else (
      (gchk z4.2 1 (some t)).bind fun b40 =>
      (fX1_nextChoice E b40 z4.2).bind fun z40 =>
      if z40.1 = (-1 : Int32) then (
        fX1_goesOn_b63 E t v1 v2 v3 z4.1 z40.1 z40.2)
      else (
        if ¬ ((z4.1 >>> (z40.1 &&& 31)) &&& 1) = 0 then (
          fX1_goesOn_b63 E t v1 v2 v3 z4.1 z40.1 z40.2)
        else (
          if (0 : Int32) = 0 ∨ (0 : Int32) = 1 then some (0, z40.2) else none))))
  else (
    if (0 : Int32) = 0 ∨ (0 : Int32) = 1 then some (0, z4.2) else none)
theorem sX1_goesOn_b146 {p : Program} {l : Launch} {e : Env} {R : Room} {s : State} {m : MethodId} {args : Array Value} {below : List Frame} {meth : Method} {c : Code} {E : g_E} {D : g_D} (C : gC p R s m args meth c cX1_goesOn 8 RX1 "goesOn" (some .boolean) 224 7459 E D) : ∀ (t : Nat) (v1 : Option Nat) (v2 : Int32) (v3 : Int32) (v6 : Int32) (v7 : Int32) (G : g_G) (q : Int32 × g_G), fX1_goesOn_b146 E t v1 v2 v3 v6 v7 G = some q → ∀ (H : Heap) (locs : List Loc) (cells slots : Nat) (ls : Array Slot), gSt E D G H locs → gls ls 8 [(0, .inr (.inr (some t))), (1, .inr (.inr v1)), (2, .inl v2), (3, .inl v3), (6, .inl v6), (7, .inl v7)] → gT p l e R s m args below meth c E D H locs cells slots (some (.int q.1)) q.2 (F0 m 146 ls []) := by
  obtain ⟨hx, hb, hml, hown, hts, hKn, hRc, hRs, hc1, hc2, hRf, hRl, hr, hlk, hnm⟩ := id C
  intro t v1 v2 v3 v6 v7 G q h H locs cells slots ls hS hl
  unfold fX1_goesOn_b146 at h
  refine g_aload_n hx hb hl 0 rfl dX1_goesOn_146 ?_
  refine g_aload_n hx hb hl 1 rfl dX1_goesOn_147 ?_
  refine g_iload_n hx hb hl 2 rfl dX1_goesOn_148 ?_
  refine g_iload hx hb hl 4 rfl dX1_goesOn_149 ?_
  refine g_iload_n hx hb hl 3 rfl dX1_goesOn_151 ?_
  obtain ⟨b152, hb152, h⟩ := g_bnd h
  obtain ⟨hr152, hk152⟩ := g_chk hb152
  obtain ⟨z152, h152, h⟩ := g_bnd h
  refine g_callV (n := 4) (b := b152) (av := [.inr (.inr v1), .inl v2, .inl v6, .inl v3]) (rs := []) hx hb hml hown hts hKn hRc hRs hS hl (sX1_move l E D h152) (lw_V q915 q917 qs13 q113 q918) ⟨rfl, by decide, by decide, by decide +kernel⟩ ⟨by rw [hRf]; exact Nat.le_of_ble_eq_true rfl, by rw [hRl]; exact Nat.le_of_ble_eq_true rfl⟩ (g_recv hKn hS hk152 (by decide) (by decide)) rfl (by rw [hr152]; rfl) (Nat.le_of_ble_eq_true rfl) dX1_goesOn_152 (fun H locs cells slots hS => ?_)
  refine g_iload hx hb hl 5 rfl dX1_goesOn_155 ?_
  refine lv_iconst (v := (-1)) hx hb dX1_goesOn_157 (by decide) ?_
  refine lv_icmp_eq (tgt := 182) hx hb dX1_goesOn_158 (by decide) (fun c_158 => ?_) (fun c_158 => ?_)
  · have h := g_ift c_158 h
    refine lv_iconst (v := 1) hx hb dX1_goesOn_182 (by decide) ?_
    exact g_zretG hx hb hr hlk hKn hRc hRs hS h dX1_goesOn_183
  · have h := g_iff c_158 h
    refine g_aload_n hx hb hl 0 rfl dX1_goesOn_161 ?_
    refine g_rdR hx hb hown hts hKn hS h fd_1_1_22 rfl (Or.inl (hts _ q619)) (fun _ z => z) dX1_goesOn_162 (fun x162 h => ?_)
    refine g_aload_n hx hb hl 0 rfl dX1_goesOn_165 ?_
    refine g_rdI hx hb hown hts hKn hS h fd_1_1_25 rfl (Or.inl (hts _ q622)) (fun _ z => z) dX1_goesOn_166 (fun x166 h => ?_)
    refine g_iload hx hb hl 5 rfl dX1_goesOn_169 ?_
    refine g_iastoreG hx hb hKn hS h dX1_goesOn_171 (fun G171 h H locs hS => ?_)
    refine g_aload_n hx hb hl 0 rfl dX1_goesOn_172 ?_
    refine lv_dup hx hb dX1_goesOn_173 (by first | exact va_rf_cat _ | rfl | exact g_catA _) ?_
    refine g_rdI hx hb hown hts hKn hS h fd_1_1_25 rfl (Or.inl (hts _ q622)) (fun _ z => z) dX1_goesOn_174 (fun x174 h => ?_)
    refine lv_iconst (v := 1) hx hb dX1_goesOn_177 (by decide) ?_
    refine lv_iadd hx hb dX1_goesOn_178 ?_
    refine g_ptI hx hb hown hts hKn hS h fd_1_1_25 (Or.inl (hts _ q622)) (fun _ z => z) (fun z => nomatch z) dX1_goesOn_179 (fun G179 h H locs hS => ?_)
    refine lv_iconst (v := 1) hx hb dX1_goesOn_182 (by decide) ?_
    exact g_zretG hx hb hr hlk hKn hRc hRs hS h dX1_goesOn_183
theorem sX1_goesOn_b76 {p : Program} {l : Launch} {e : Env} {R : Room} {s : State} {m : MethodId} {args : Array Value} {below : List Frame} {meth : Method} {c : Code} {E : g_E} {D : g_D} (C : gC p R s m args meth c cX1_goesOn 8 RX1 "goesOn" (some .boolean) 224 7459 E D) : ∀ (t : Nat) (v1 : Option Nat) (v2 : Int32) (v3 : Int32) (v6 : Int32) (G : g_G) (q : Int32 × g_G), fX1_goesOn_b76 E t v1 v2 v3 v6 G = some q → ∀ (H : Heap) (locs : List Loc) (cells slots : Nat) (ls : Array Slot), gSt E D G H locs → gls ls 8 [(0, .inr (.inr (some t))), (1, .inr (.inr v1)), (2, .inl v2), (3, .inl v3), (6, .inl v6)] → gT p l e R s m args below meth c E D H locs cells slots (some (.int q.1)) q.2 (F0 m 76 ls []) := by
  obtain ⟨hx, hb, hml, hown, hts, hKn, hRc, hRs, hc1, hc2, hRf, hRl, hr, hlk, hnm⟩ := id C
  intro t v1 v2 v3 v6 G q h H locs cells slots ls hS hl
  unfold fX1_goesOn_b76 at h
  refine g_iload hx hb hl 4 rfl dX1_goesOn_76 ?_
  refine g_istore (l1 := [(7, .inl v6), (0, .inr (.inr (some t))), (1, .inr (.inr v1)), (2, .inl v2), (3, .inl v3), (6, .inl v6)]) hx hb hl (by decide) rfl dX1_goesOn_78 (fun ls hl => ?_)
  refine lv_goto (tgt := 146) hx hb dX1_goesOn_80 (by decide) ?_
  exact sX1_goesOn_b146 C _ _ _ _ _ _ _ _ h _ _ _ _ _ hS (gls_sub hl [1, 2, 3, 4, 5, 0] rfl)
theorem sX1_goesOn_b63 {p : Program} {l : Launch} {e : Env} {R : Room} {s : State} {m : MethodId} {args : Array Value} {below : List Frame} {meth : Method} {c : Code} {E : g_E} {D : g_D} (C : gC p R s m args meth c cX1_goesOn 8 RX1 "goesOn" (some .boolean) 224 7459 E D) : ∀ (t : Nat) (v1 : Option Nat) (v2 : Int32) (v3 : Int32) (v4 : Int32) (v6 : Int32) (G : g_G) (q : Int32 × g_G), fX1_goesOn_b63 E t v1 v2 v3 v4 v6 G = some q → ∀ (H : Heap) (locs : List Loc) (cells slots : Nat) (ls : Array Slot), gSt E D G H locs → gls ls 8 [(0, .inr (.inr (some t))), (1, .inr (.inr v1)), (2, .inl v2), (3, .inl v3), (4, .inl v4), (6, .inl v6)] → gT p l e R s m args below meth c E D H locs cells slots (some (.int q.1)) q.2 (F0 m 63 ls []) := by
  obtain ⟨hx, hb, hml, hown, hts, hKn, hRc, hRs, hc1, hc2, hRf, hRl, hr, hlk, hnm⟩ := id C
  intro t v1 v2 v3 v4 v6 G q h H locs cells slots ls hS hl
  unfold fX1_goesOn_b63 at h
  refine g_iload hx hb hl 5 rfl dX1_goesOn_63 ?_
  refine lv_iconst (v := (-1)) hx hb dX1_goesOn_65 (by decide) ?_
  refine lv_icmp_ne (tgt := 76) hx hb dX1_goesOn_66 (by decide) (fun c_66 => ?_) (fun c_66 => ?_)
  · have h := g_ift c_66 h
    exact sX1_goesOn_b76 C _ _ _ _ _ _ _ h _ _ _ _ _ hS (gls_sub hl [0, 1, 2, 3, 5] rfl)
  · have h := g_iff (fun z => z c_66) h
    refine g_iload hx hb hl 4 rfl dX1_goesOn_69 ?_
    obtain ⟨z71, h71, h⟩ := g_bnd h
    refine g_callS (n := 1) (av := [.inl v4]) (rs := []) hx hb hml hown hts hKn hRc hRs hS hl (sJ16_numberOfTrailingZeros l E D h71) (lw_S q1798 q1799 q133 q1800) ⟨by decide, by decide, by decide +kernel⟩ ⟨by rw [hRf]; exact Nat.le_of_ble_eq_true rfl, by rw [hRl]; exact Nat.le_of_ble_eq_true rfl⟩ rfl rfl (Nat.le_of_ble_eq_true rfl) dX1_goesOn_71 (fun H locs cells slots hS => ?_)
    refine g_istore (l1 := [(6, .inl z71.1), (0, .inr (.inr (some t))), (1, .inr (.inr v1)), (2, .inl v2), (3, .inl v3), (4, .inl v4)]) hx hb hl (by decide) rfl dX1_goesOn_74 (fun ls hl => ?_)
    exact sX1_goesOn_b76 C _ _ _ _ _ _ _ h _ _ _ _ _ hS (gls_sub hl [1, 2, 3, 4, 0] rfl)
theorem sX1_goesOn_b143 {p : Program} {l : Launch} {e : Env} {R : Room} {s : State} {m : MethodId} {args : Array Value} {below : List Frame} {meth : Method} {c : Code} {E : g_E} {D : g_D} (C : gC p R s m args meth c cX1_goesOn 8 RX1 "goesOn" (some .boolean) 224 7459 E D) : ∀ (t : Nat) (v1 : Option Nat) (v2 : Int32) (v3 : Int32) (v6 : Int32) (G : g_G) (q : Int32 × g_G), fX1_goesOn_b143 E t v1 v2 v3 v6 G = some q → ∀ (H : Heap) (locs : List Loc) (cells slots : Nat) (ls : Array Slot), gSt E D G H locs → gls ls 8 [(0, .inr (.inr (some t))), (1, .inr (.inr v1)), (2, .inl v2), (3, .inl v3), (6, .inl v6)] → gT p l e R s m args below meth c E D H locs cells slots (some (.int q.1)) q.2 (F0 m 143 ls []) := by
  obtain ⟨hx, hb, hml, hown, hts, hKn, hRc, hRs, hc1, hc2, hRf, hRl, hr, hlk, hnm⟩ := id C
  intro t v1 v2 v3 v6 G q h H locs cells slots ls hS hl
  unfold fX1_goesOn_b143 at h
  refine g_iload_n hx hb hl 2 rfl dX1_goesOn_143 ?_
  refine g_istore (l1 := [(7, .inl v2), (0, .inr (.inr (some t))), (1, .inr (.inr v1)), (2, .inl v2), (3, .inl v3), (6, .inl v6)]) hx hb hl (by decide) rfl dX1_goesOn_144 (fun ls hl => ?_)
  exact sX1_goesOn_b146 C _ _ _ _ _ _ _ _ h _ _ _ _ _ hS (gls_sub hl [1, 2, 3, 4, 5, 0] rfl)
theorem sX1_goesOn (l : Launch) (E : g_E) (D : g_D) {t : Nat} {v1 : Option Nat} {v2 : Int32} {v3 : Int32} {G : g_G} {q : Int32 × g_G} (h : fX1_goesOn E t v1 v2 v3 G = some q) : gMet l E D yX1_goesOn (ws_ yX1_goesOn cX1_goesOn 8 (some .boolean)) 224 7459 [.inr (.inr (some t)), .inr (.inr v1), .inl v2, .inl v3] G (some (.int q.1)) q.2 := by
  refine gMet.of (by decide +kernel) (Nat.le_of_ble_eq_true rfl) ?_
  intro p e R s m args below meth c C hS ls hl
  have C : gC p R s m args meth c cX1_goesOn 8 RX1 "goesOn" (some .boolean) 224 7459 E D := C
  obtain ⟨hx, hb, hml, hown, hts, hKn, hRc, hRs, hc1, hc2, hRf, hRl, hr, hlk, hnm⟩ := id C
  have hl : gls ls 8 [(0, .inr (.inr (some t))), (1, .inr (.inr v1)), (2, .inl v2), (3, .inl v3)] := hl
  generalize s.heap = H at hS ⊢
  unfold fX1_goesOn at h
  refine g_aload_n hx hb hl 0 rfl dX1_goesOn_0 ?_
  refine g_aload_n hx hb hl 1 rfl dX1_goesOn_1 ?_
  refine g_iload_n hx hb hl 2 rfl dX1_goesOn_2 ?_
  refine g_iload_n hx hb hl 3 rfl dX1_goesOn_3 ?_
  obtain ⟨b4, hb4, h⟩ := g_bnd h
  obtain ⟨hr4, hk4⟩ := g_chk hb4
  obtain ⟨z4, h4, h⟩ := g_bnd h
  refine g_callV (n := 3) (b := b4) (av := [.inr (.inr v1), .inl v2, .inl v3]) (rs := []) hx hb hml hown hts hKn hRc hRs hS hl (sX1_moves l E D h4) (lw_V q844 q846 qs6 q113 q847) ⟨rfl, by decide, by decide, by decide +kernel⟩ ⟨by rw [hRf]; exact Nat.le_of_ble_eq_true rfl, by rw [hRl]; exact Nat.le_of_ble_eq_true rfl⟩ (g_recv hKn hS hk4 (by decide) (by decide)) rfl (by rw [hr4]; rfl) (Nat.le_of_ble_eq_true rfl) dX1_goesOn_4 (fun H locs cells slots hS => ?_)
  refine g_istore (l1 := [(4, .inl z4.1), (0, .inr (.inr (some t))), (1, .inr (.inr v1)), (2, .inl v2), (3, .inl v3)]) hx hb hl (by decide) rfl dX1_goesOn_7 (fun ls hl => ?_)
  refine g_iload hx hb hl 0 rfl dX1_goesOn_9 ?_
  refine lv_if_ne (tgt := 16) hx hb dX1_goesOn_11 (by decide) (fun c_11 => ?_) (fun c_11 => ?_)
  · have h := g_ift c_11 h
    refine g_aload_n hx hb hl 2 rfl dX1_goesOn_16 ?_
    refine g_rdR hx hb hown hts hKn hS h fd_3_3_3 rfl (Or.inr ⟨_, gNest_use rfl (hKn.2.2.2.2.1 _ (gNest_in q545 rfl))⟩) (fun _ z => z) dX1_goesOn_17 (fun x17 h => ?_)
    refine g_iload_n hx hb hl 3 rfl dX1_goesOn_20 ?_
    refine g_aaloadG hx hb hKn hS h (by decide) dX1_goesOn_21 (fun x21 h => ?_)
    refine g_rdI hx hb hown hts hKn hS h fd_11_16_0 rfl (Or.inl (hts _ q1422)) (fun _ z => z) dX1_goesOn_22 (fun x22 h => ?_)
    refine g_istore (l1 := [(5, .inl x22), (4, .inl z4.1), (0, .inr (.inr (some t))), (1, .inr (.inr v1)), (2, .inl v2), (3, .inl v3)]) hx hb hl (by decide) rfl dX1_goesOn_25 (fun ls hl => ?_)
    refine g_iload_n hx hb hl 4 rfl dX1_goesOn_27 ?_
    refine g_istore (l1 := [(6, .inl v2), (5, .inl x22), (4, .inl z4.1), (0, .inr (.inr (some t))), (1, .inr (.inr v1)), (2, .inl v2), (3, .inl v3)]) hx hb hl (by decide) rfl dX1_goesOn_28 (fun ls hl => ?_)
    refine lv_iconst (v := (-1)) hx hb dX1_goesOn_30 (by decide) ?_
    refine g_istore (l1 := [(7, .inl (-1)), (6, .inl v2), (5, .inl x22), (4, .inl z4.1), (0, .inr (.inr (some t))), (1, .inr (.inr v1)), (2, .inl v2), (3, .inl v3)]) hx hb hl (by decide) rfl dX1_goesOn_31 (fun ls hl => ?_)
    refine g_iload hx hb hl 2 rfl dX1_goesOn_33 ?_
    refine lv_iconst (v := 4) hx hb dX1_goesOn_35 (by decide) ?_
    refine lv_icmp_ne (tgt := 83) hx hb dX1_goesOn_36 (by decide) (fun c_36 => ?_) (fun c_36 => ?_)
    · have h := g_ift c_36 h
      refine g_iload hx hb hl 2 rfl dX1_goesOn_83 ?_
      refine lv_iconst (v := 2) hx hb dX1_goesOn_85 (by decide) ?_
      refine lv_icmp_gt (tgt := 146) hx hb dX1_goesOn_86 (by decide) (fun c_86 => ?_) (fun c_86 => ?_)
      · have h := g_ift c_86 h
        exact sX1_goesOn_b146 C _ _ _ _ _ _ _ _ h _ _ _ _ _ hS (gls_sub hl [4, 5, 6, 7, 1, 0] rfl)
      · have h := g_iff c_86 h
        refine g_aload_n hx hb hl 4 rfl dX1_goesOn_89 ?_
        refine g_aload_n hx hb hl 5 rfl dX1_goesOn_90 ?_
        refine g_iload_n hx hb hl 6 rfl dX1_goesOn_91 ?_
        refine g_iload_n hx hb hl 7 rfl dX1_goesOn_92 ?_
        obtain ⟨b93, hb93, h⟩ := g_bnd h
        obtain ⟨hr93, hk93⟩ := g_chk hb93
        obtain ⟨z93, h93, h⟩ := g_bnd h
        refine g_callV (n := 3) (b := b93) (av := [.inr (.inr v1), .inl v2, .inl v3]) (rs := []) hx hb hml hown hts hKn hRc hRs hS hl (sX1_mayLie l E D h93) (lw_V q852 q854 qs7 q113 q855) ⟨rfl, by decide, by decide, by decide +kernel⟩ ⟨by rw [hRf]; exact Nat.le_of_ble_eq_true rfl, by rw [hRl]; exact Nat.le_of_ble_eq_true rfl⟩ (g_recv hKn hS hk93 (by decide) (by decide)) rfl (by rw [hr93]; rfl) (Nat.le_of_ble_eq_true rfl) dX1_goesOn_93 (fun H locs cells slots hS => ?_)
        refine lv_if_ne (tgt := 146) hx hb dX1_goesOn_96 (by decide) (fun c_96 => ?_) (fun c_96 => ?_)
        · have h := g_ift c_96 h
          exact sX1_goesOn_b146 C _ _ _ _ _ _ _ _ h _ _ _ _ _ hS (gls_sub hl [4, 5, 6, 7, 1, 0] rfl)
        · have h := g_iff (fun z => z c_96) h
          refine g_aload_n hx hb hl 5 rfl dX1_goesOn_99 ?_
          refine g_rdR hx hb hown hts hKn hS h fd_3_3_3 rfl (Or.inr ⟨_, gNest_use rfl (hKn.2.2.2.2.1 _ (gNest_in q545 rfl))⟩) (fun _ z => z) dX1_goesOn_100 (fun x100 h => ?_)
          refine g_aload_n hx hb hl 5 rfl dX1_goesOn_103 ?_
          refine g_rdR hx hb hown hts hKn hS h fd_3_3_3 rfl (Or.inr ⟨_, gNest_use rfl (hKn.2.2.2.2.1 _ (gNest_in q545 rfl))⟩) (fun _ z => z) dX1_goesOn_104 (fun x104 h => ?_)
          refine g_iload_n hx hb hl 6 rfl dX1_goesOn_107 ?_
          refine g_aaloadG hx hb hKn hS h (by decide) dX1_goesOn_108 (fun x108 h => ?_)
          refine g_castS (k := 15) hx hb hown hKn hS h (by decide) (by decide) (hts _ q856) dX1_goesOn_109 (fun x109 h => ?_)
          refine g_aload_n hx hb hl 5 rfl dX1_goesOn_112 ?_
          refine g_iload_n hx hb hl 6 rfl dX1_goesOn_113 ?_
          obtain ⟨b114, hb114, h⟩ := g_bnd h
          obtain ⟨hr114, hk114⟩ := g_chk hb114
          obtain ⟨z114, h114, h⟩ := g_bnd h
          refine g_callV (n := 2) (b := b114) (av := [.inr (.inr v1), .inl v2]) (rs := [.inr (.inr x100)]) hx hb hml hown hts hKn hRc hRs hS hl (sX9_to l E D h114) (lw_V q857 q798 q799 q143 q800) ⟨rfl, by decide, by decide, by decide +kernel⟩ ⟨by rw [hRf]; exact Nat.le_of_ble_eq_true rfl, by rw [hRl]; exact Nat.le_of_ble_eq_true rfl⟩ (g_recv hKn hS hk114 (by decide) (by decide)) rfl (by rw [hr114]; rfl) (Nat.le_of_ble_eq_true rfl) dX1_goesOn_114 (fun H locs cells slots hS => ?_)
          refine g_aaloadG hx hb hKn hS h (by decide) dX1_goesOn_117 (fun x117 h => ?_)
          refine g_rdI hx hb hown hts hKn hS h fd_11_16_0 rfl (Or.inl (hts _ q1422)) (fun _ z => z) dX1_goesOn_118 (fun x118 h => ?_)
          refine lv_iconst (v := 4) hx hb dX1_goesOn_121 (by decide) ?_
          refine lv_icmp_ne (tgt := 146) hx hb dX1_goesOn_122 (by decide) (fun c_122 => ?_) (fun c_122 => ?_)
          · have h := g_ift c_122 h
            exact sX1_goesOn_b146 C _ _ _ _ _ _ _ _ h _ _ _ _ _ hS (gls_sub hl [4, 5, 6, 7, 1, 0] rfl)
          · have h := g_iff (fun z => z c_122) h
            refine g_aload_n hx hb hl 4 rfl dX1_goesOn_125 ?_
            obtain ⟨b126, hb126, h⟩ := g_bnd h
            obtain ⟨hr126, hk126⟩ := g_chk hb126
            obtain ⟨z126, h126, h⟩ := g_bnd h
            refine g_callV (n := 0) (b := b126) (av := []) (rs := []) hx hb hml hown hts hKn hRc hRs hS hl (sX1_nextChoice l E D h126) (lw_V q1794 q1796 qs45 q113 q1797) ⟨rfl, by decide, by decide, by decide +kernel⟩ ⟨by rw [hRf]; exact Nat.le_of_ble_eq_true rfl, by rw [hRl]; exact Nat.le_of_ble_eq_true rfl⟩ (g_recv hKn hS hk126 (by decide) (by decide)) rfl (by rw [hr126]; rfl) (Nat.le_of_ble_eq_true rfl) dX1_goesOn_126 (fun H locs cells slots hS => ?_)
            refine lv_iconst (v := (-1)) hx hb dX1_goesOn_129 (by decide) ?_
            refine lv_icmp_eq (tgt := 143) hx hb dX1_goesOn_130 (by decide) (fun c_130 => ?_) (fun c_130 => ?_)
            · have h := g_ift c_130 h
              exact sX1_goesOn_b143 C _ _ _ _ _ _ _ h _ _ _ _ _ hS (gls_sub hl [4, 5, 6, 7, 1] rfl)
            · have h := g_iff c_130 h
              refine g_aload_n hx hb hl 4 rfl dX1_goesOn_133 ?_
              obtain ⟨b134, hb134, h⟩ := g_bnd h
              obtain ⟨hr134, hk134⟩ := g_chk hb134
              obtain ⟨z134, h134, h⟩ := g_bnd h
              refine g_callV (n := 0) (b := b134) (av := []) (rs := []) hx hb hml hown hts hKn hRc hRs hS hl (sX1_nextChoice l E D h134) (lw_V q1794 q1796 qs45 q113 q1797) ⟨rfl, by decide, by decide, by decide +kernel⟩ ⟨by rw [hRf]; exact Nat.le_of_ble_eq_true rfl, by rw [hRl]; exact Nat.le_of_ble_eq_true rfl⟩ (g_recv hKn hS hk134 (by decide) (by decide)) rfl (by rw [hr134]; rfl) (Nat.le_of_ble_eq_true rfl) dX1_goesOn_134 (fun H locs cells slots hS => ?_)
              refine g_iload_n hx hb hl 6 rfl dX1_goesOn_137 ?_
              refine lv_icmp_eq (tgt := 143) hx hb dX1_goesOn_138 (by decide) (fun c_138 => ?_) (fun c_138 => ?_)
              · have h := g_ift c_138 h
                exact sX1_goesOn_b143 C _ _ _ _ _ _ _ h _ _ _ _ _ hS (gls_sub hl [4, 5, 6, 7, 1] rfl)
              · have h := g_iff c_138 h
                refine lv_iconst (v := 0) hx hb dX1_goesOn_141 (by decide) ?_
                exact g_zretG hx hb hr hlk hKn hRc hRs hS h dX1_goesOn_142
    · have h := g_iff (fun z => z c_36) h
      refine g_aload_n hx hb hl 4 rfl dX1_goesOn_39 ?_
      obtain ⟨b40, hb40, h⟩ := g_bnd h
      obtain ⟨hr40, hk40⟩ := g_chk hb40
      obtain ⟨z40, h40, h⟩ := g_bnd h
      refine g_callV (n := 0) (b := b40) (av := []) (rs := []) hx hb hml hown hts hKn hRc hRs hS hl (sX1_nextChoice l E D h40) (lw_V q1794 q1796 qs45 q113 q1797) ⟨rfl, by decide, by decide, by decide +kernel⟩ ⟨by rw [hRf]; exact Nat.le_of_ble_eq_true rfl, by rw [hRl]; exact Nat.le_of_ble_eq_true rfl⟩ (g_recv hKn hS hk40 (by decide) (by decide)) rfl (by rw [hr40]; rfl) (Nat.le_of_ble_eq_true rfl) dX1_goesOn_40 (fun H locs cells slots hS => ?_)
      refine g_istore (l1 := [(6, .inl z40.1), (7, .inl (-1)), (5, .inl x22), (4, .inl z4.1), (0, .inr (.inr (some t))), (1, .inr (.inr v1)), (2, .inl v2), (3, .inl v3)]) hx hb hl (by decide) rfl dX1_goesOn_43 (fun ls hl => ?_)
      refine g_iload hx hb hl 0 rfl dX1_goesOn_45 ?_
      refine lv_iconst (v := (-1)) hx hb dX1_goesOn_47 (by decide) ?_
      refine lv_icmp_eq (tgt := 63) hx hb dX1_goesOn_48 (by decide) (fun c_48 => ?_) (fun c_48 => ?_)
      · have h := g_ift c_48 h
        exact sX1_goesOn_b63 C _ _ _ _ _ _ _ _ h _ _ _ _ _ hS (gls_sub hl [4, 5, 6, 7, 3, 0] rfl)
      · have h := g_iff c_48 h
        refine g_iload hx hb hl 3 rfl dX1_goesOn_51 ?_
        refine g_iload hx hb hl 0 rfl dX1_goesOn_53 ?_
        refine lv_ishr hx hb dX1_goesOn_55 ?_
        refine lv_iconst (v := 1) hx hb dX1_goesOn_56 (by decide) ?_
        refine lv_iand hx hb dX1_goesOn_57 ?_
        refine lv_if_ne (tgt := 63) hx hb dX1_goesOn_58 (by decide) (fun c_58 => ?_) (fun c_58 => ?_)
        · have h := g_ift c_58 h
          exact sX1_goesOn_b63 C _ _ _ _ _ _ _ _ h _ _ _ _ _ hS (gls_sub hl [4, 5, 6, 7, 3, 0] rfl)
        · have h := g_iff (fun z => z c_58) h
          refine lv_iconst (v := 0) hx hb dX1_goesOn_61 (by decide) ?_
          exact g_zretG hx hb hr hlk hKn hRc hRs hS h dX1_goesOn_62
  · have h := g_iff (fun z => z c_11) h
    refine lv_iconst (v := 0) hx hb dX1_goesOn_14 (by decide) ?_
    exact g_zretG hx hb hr hlk hKn hRc hRs hS h dX1_goesOn_15
/-- SendHall.goesThrough(I)Z -/
def fX1_goesThrough_b164 (E : g_E) (k59 : Nat → Int32 → Int32 → g_G → Option (Int32 × g_G)) (t : Nat) (v1 : Int32) (v2 : Int32) (G : g_G) : Option (Int32 × g_G) :=
  k59 t v1 (v2 + 1) G
def fX1_goesThrough_b138 (E : g_E) (k59 : Nat → Int32 → Int32 → g_G → Option (Int32 × g_G)) (k72 : Nat → Int32 → Int32 → Int32 → Int32 → g_G → Option (Int32 × g_G)) (k99 : Nat → Int32 → Int32 → Int32 → Int32 → Int32 → Int32 → g_G → Option (Int32 × g_G)) (t : Nat) (v1 : Int32) (v2 : Int32) (v3 : Int32) (v4 : Int32) (v5 : Int32) (v6 : Int32) (G : g_G) : Option (Int32 × g_G) :=
  k99 t v1 v2 v3 v4 v5 (v6 + 1) G
def fX1_goesThrough_b99 (E : g_E) (k59 : Nat → Int32 → Int32 → g_G → Option (Int32 × g_G)) (k72 : Nat → Int32 → Int32 → Int32 → Int32 → g_G → Option (Int32 × g_G)) : Nat → Nat → Int32 → Int32 → Int32 → Int32 → Int32 → Int32 → g_G → Option (Int32 × g_G)
  | 0, _, _, _, _, _, _, _, _ => none
  | n + 1, t, v1, v2, v3, v4, v5, v6, G =>
    (grI G 1 1 (some t) 0).bind fun x102 =>
    if x102 ≤ v6 then (
      k72 t v1 v2 v3 (v4 + 1) G)
    else (
      if ¬ ((v5 >>> (v6 &&& 31)) &&& 1) = 0 then (
        (gchk G 1 (some t)).bind fun b130 =>
        (fX1_tries E b130 v2 v4 v6 v1 G).bind fun z130 =>
        if ¬ z130.1 = 0 then (
          fX1_goesThrough_b138 E k59 k72 (fX1_goesThrough_b99 E k59 k72 n) t v1 v2 0 v4 v5 v6 z130.2)
        else (
          if (0 : Int32) = 0 ∨ (0 : Int32) = 1 then some (0, z130.2) else none))
      else (
        fX1_goesThrough_b138 E k59 k72 (fX1_goesThrough_b99 E k59 k72 n) t v1 v2 v3 v4 v5 v6 G))
def fX1_goesThrough_b72 (E : g_E) (k59 : Nat → Int32 → Int32 → g_G → Option (Int32 × g_G)) : Nat → Nat → Int32 → Int32 → Int32 → Int32 → g_G → Option (Int32 × g_G)
  | 0, _, _, _, _, _, _ => none
  | n + 1, t, v1, v2, v3, v4, G =>
    (grI G 1 1 (some t) 0).bind fun x75 =>
    if x75 ≤ v4 then (
      if v3 = 0 then (
        fX1_goesThrough_b164 E k59 t v1 v2 G)
      else (
        (grR G 1 1 (some t) 12).bind fun x156 =>
        (gaR G 121 x156 v2).bind fun x160 =>
        (gchk G 1 (some t)).bind fun b161 =>
        (fX1_endsWith E b161 x160 G).bind fun z161 =>
        fX1_goesThrough_b164 E k59 t v1 v2 z161))
    else (
      (grR G 1 1 (some t) 12).bind fun x83 =>
      (gaR G 121 x83 v2).bind fun x87 =>
      (gchk G 1 (some t)).bind fun b91 =>
      (fX1_moves E b91 x87 v4 v1 G).bind fun z91 =>
      fX1_goesThrough_b99 E k59 (fX1_goesThrough_b72 E k59 n) gFU t v1 v2 v3 v4 z91.1 0 z91.2)
def fX1_goesThrough_b59 (E : g_E) : Nat → Nat → Int32 → Int32 → g_G → Option (Int32 × g_G)
  | 0, _, _, _, _ => none
  | n + 1, t, v1, v2, G =>
    (grI G 1 1 (some t) 15).bind fun x61 =>
    if x61 ≤ v2 then (
      if (1 : Int32) = 0 ∨ (1 : Int32) = 1 then some (1, G) else none)
    else (
      fX1_goesThrough_b72 E (fX1_goesThrough_b59 E n) gFU t v1 v2 1 0 G)
def fX1_goesThrough_b37 (E : g_E) : Nat → Nat → Int32 → Int32 → g_G → Option (Int32 × g_G)
  | 0, _, _, _, _ => none
  | n + 1, t, v1, v2, G =>
    if (320 : Int32) ≤ v2 then (
      fX1_goesThrough_b59 E gFU t v1 0 G)
    else (
      (grR G 1 1 (some t) 17).bind fun x45 =>
      (gsaI E G x45 v2 0).bind fun G50 =>
      fX1_goesThrough_b37 E n t v1 (v2 + 1) G50)
def fX1_goesThrough (E : g_E) (t : Nat) (v1 : Int32) (G : g_G) : Option (Int32 × g_G) :=
  (grR G 1 1 (some t) 12).bind fun x2 =>
  (gaR G 121 x2 0).bind fun x6 =>
  (grI G 1 1 (some t) 0).bind fun x8 =>
  (gchk G 1 (some t)).bind fun b11 =>
  (fX1_begins E b11 x6 x8 G).bind fun z11 =>
  (grR z11 1 1 (some t) 12).bind fun x15 =>
  (gaR z11 121 x15 0).bind fun x19 =>
  (gchk z11 3 x19).bind fun b20 =>
  (fX3_hashes E b20 z11).bind fun z20 =>
  (gpI E z20 1 1 (some t) 15 1).bind fun G25 =>
  (grR G25 1 1 (some t) 16).bind fun x29 =>
  (gchk G25 17 x29).bind fun b32 =>
  (fJ2_clear E b32 G25).bind fun z32 =>
  fX1_goesThrough_b37 E gFU t v1 0 z32
theorem sX1_goesThrough_b164 {p : Program} {l : Launch} {e : Env} {R : Room} {s : State} {m : MethodId} {args : Array Value} {below : List Frame} {meth : Method} {c : Code} {E : g_E} {D : g_D} (C : gC p R s m args meth c cX1_goesThrough 7 RX1 "goesThrough" (some .boolean) 225 7485 E D) {k59 : Nat → Int32 → Int32 → g_G → Option (Int32 × g_G)} (hk59 : ∀ (t : Nat) (v1 : Int32) (v2 : Int32) (G : g_G) (q : Int32 × g_G), k59 t v1 v2 G = some q → ∀ (H : Heap) (locs : List Loc) (cells slots : Nat) (ls : Array Slot), gSt E D G H locs → gls ls 7 [(0, .inr (.inr (some t))), (1, .inl v1), (2, .inl v2)] → gT p l e R s m args below meth c E D H locs cells slots (some (.int q.1)) q.2 (F0 m 59 ls [])) : ∀ (t : Nat) (v1 : Int32) (v2 : Int32) (G : g_G) (q : Int32 × g_G), fX1_goesThrough_b164 E k59 t v1 v2 G = some q → ∀ (H : Heap) (locs : List Loc) (cells slots : Nat) (ls : Array Slot), gSt E D G H locs → gls ls 7 [(0, .inr (.inr (some t))), (1, .inl v1), (2, .inl v2)] → gT p l e R s m args below meth c E D H locs cells slots (some (.int q.1)) q.2 (F0 m 164 ls []) := by
  obtain ⟨hx, hb, hml, hown, hts, hKn, hRc, hRs, hc1, hc2, hRf, hRl, hr, hlk, hnm⟩ := id C
  intro t v1 v2 G q h H locs cells slots ls hS hl
  unfold fX1_goesThrough_b164 at h
  refine g_iinc (l1 := [(2, .inl (v2 + 1)), (0, .inr (.inr (some t))), (1, .inl v1)]) (v := (v2 + 1)) hx hb hl (k := 2) rfl (by rfl) (by decide) rfl dX1_goesThrough_164 (fun ls hl => ?_)
  refine lv_goto (tgt := 59) hx hb dX1_goesThrough_167 (by decide) ?_
  exact hk59 _ _ _ _ _ h _ _ _ _ _ hS (gls_sub hl [1, 2, 0] rfl)
theorem sX1_goesThrough_b138 {p : Program} {l : Launch} {e : Env} {R : Room} {s : State} {m : MethodId} {args : Array Value} {below : List Frame} {meth : Method} {c : Code} {E : g_E} {D : g_D} (C : gC p R s m args meth c cX1_goesThrough 7 RX1 "goesThrough" (some .boolean) 225 7485 E D) {k59 : Nat → Int32 → Int32 → g_G → Option (Int32 × g_G)} (hk59 : ∀ (t : Nat) (v1 : Int32) (v2 : Int32) (G : g_G) (q : Int32 × g_G), k59 t v1 v2 G = some q → ∀ (H : Heap) (locs : List Loc) (cells slots : Nat) (ls : Array Slot), gSt E D G H locs → gls ls 7 [(0, .inr (.inr (some t))), (1, .inl v1), (2, .inl v2)] → gT p l e R s m args below meth c E D H locs cells slots (some (.int q.1)) q.2 (F0 m 59 ls [])) {k72 : Nat → Int32 → Int32 → Int32 → Int32 → g_G → Option (Int32 × g_G)} (hk72 : ∀ (t : Nat) (v1 : Int32) (v2 : Int32) (v3 : Int32) (v4 : Int32) (G : g_G) (q : Int32 × g_G), k72 t v1 v2 v3 v4 G = some q → ∀ (H : Heap) (locs : List Loc) (cells slots : Nat) (ls : Array Slot), gSt E D G H locs → gls ls 7 [(0, .inr (.inr (some t))), (1, .inl v1), (2, .inl v2), (3, .inl v3), (4, .inl v4)] → gT p l e R s m args below meth c E D H locs cells slots (some (.int q.1)) q.2 (F0 m 72 ls [])) {k99 : Nat → Int32 → Int32 → Int32 → Int32 → Int32 → Int32 → g_G → Option (Int32 × g_G)} (hk99 : ∀ (t : Nat) (v1 : Int32) (v2 : Int32) (v3 : Int32) (v4 : Int32) (v5 : Int32) (v6 : Int32) (G : g_G) (q : Int32 × g_G), k99 t v1 v2 v3 v4 v5 v6 G = some q → ∀ (H : Heap) (locs : List Loc) (cells slots : Nat) (ls : Array Slot), gSt E D G H locs → gls ls 7 [(0, .inr (.inr (some t))), (1, .inl v1), (2, .inl v2), (3, .inl v3), (4, .inl v4), (5, .inl v5), (6, .inl v6)] → gT p l e R s m args below meth c E D H locs cells slots (some (.int q.1)) q.2 (F0 m 99 ls [])) : ∀ (t : Nat) (v1 : Int32) (v2 : Int32) (v3 : Int32) (v4 : Int32) (v5 : Int32) (v6 : Int32) (G : g_G) (q : Int32 × g_G), fX1_goesThrough_b138 E k59 k72 k99 t v1 v2 v3 v4 v5 v6 G = some q → ∀ (H : Heap) (locs : List Loc) (cells slots : Nat) (ls : Array Slot), gSt E D G H locs → gls ls 7 [(0, .inr (.inr (some t))), (1, .inl v1), (2, .inl v2), (3, .inl v3), (4, .inl v4), (5, .inl v5), (6, .inl v6)] → gT p l e R s m args below meth c E D H locs cells slots (some (.int q.1)) q.2 (F0 m 138 ls []) := by
  obtain ⟨hx, hb, hml, hown, hts, hKn, hRc, hRs, hc1, hc2, hRf, hRl, hr, hlk, hnm⟩ := id C
  intro t v1 v2 v3 v4 v5 v6 G q h H locs cells slots ls hS hl
  unfold fX1_goesThrough_b138 at h
  refine g_iinc (l1 := [(6, .inl (v6 + 1)), (0, .inr (.inr (some t))), (1, .inl v1), (2, .inl v2), (3, .inl v3), (4, .inl v4), (5, .inl v5)]) (v := (v6 + 1)) hx hb hl (k := 6) rfl (by rfl) (by decide) rfl dX1_goesThrough_138 (fun ls hl => ?_)
  refine lv_goto (tgt := 99) hx hb dX1_goesThrough_141 (by decide) ?_
  exact hk99 _ _ _ _ _ _ _ _ _ h _ _ _ _ _ hS (gls_sub hl [1, 2, 3, 4, 5, 6, 0] rfl)
theorem sX1_goesThrough_b99 {p : Program} {l : Launch} {e : Env} {R : Room} {s : State} {m : MethodId} {args : Array Value} {below : List Frame} {meth : Method} {c : Code} {E : g_E} {D : g_D} (C : gC p R s m args meth c cX1_goesThrough 7 RX1 "goesThrough" (some .boolean) 225 7485 E D) {k59 : Nat → Int32 → Int32 → g_G → Option (Int32 × g_G)} (hk59 : ∀ (t : Nat) (v1 : Int32) (v2 : Int32) (G : g_G) (q : Int32 × g_G), k59 t v1 v2 G = some q → ∀ (H : Heap) (locs : List Loc) (cells slots : Nat) (ls : Array Slot), gSt E D G H locs → gls ls 7 [(0, .inr (.inr (some t))), (1, .inl v1), (2, .inl v2)] → gT p l e R s m args below meth c E D H locs cells slots (some (.int q.1)) q.2 (F0 m 59 ls [])) {k72 : Nat → Int32 → Int32 → Int32 → Int32 → g_G → Option (Int32 × g_G)} (hk72 : ∀ (t : Nat) (v1 : Int32) (v2 : Int32) (v3 : Int32) (v4 : Int32) (G : g_G) (q : Int32 × g_G), k72 t v1 v2 v3 v4 G = some q → ∀ (H : Heap) (locs : List Loc) (cells slots : Nat) (ls : Array Slot), gSt E D G H locs → gls ls 7 [(0, .inr (.inr (some t))), (1, .inl v1), (2, .inl v2), (3, .inl v3), (4, .inl v4)] → gT p l e R s m args below meth c E D H locs cells slots (some (.int q.1)) q.2 (F0 m 72 ls [])) : ∀ (n : Nat) (t : Nat) (v1 : Int32) (v2 : Int32) (v3 : Int32) (v4 : Int32) (v5 : Int32) (v6 : Int32) (G : g_G) (q : Int32 × g_G), fX1_goesThrough_b99 E k59 k72 n t v1 v2 v3 v4 v5 v6 G = some q → ∀ (H : Heap) (locs : List Loc) (cells slots : Nat) (ls : Array Slot), gSt E D G H locs → gls ls 7 [(0, .inr (.inr (some t))), (1, .inl v1), (2, .inl v2), (3, .inl v3), (4, .inl v4), (5, .inl v5), (6, .inl v6)] → gT p l e R s m args below meth c E D H locs cells slots (some (.int q.1)) q.2 (F0 m 99 ls []) := by
  obtain ⟨hx, hb, hml, hown, hts, hKn, hRc, hRs, hc1, hc2, hRf, hRl, hr, hlk, hnm⟩ := id C
  intro n
  induction n with
  | zero =>
    intro t v1 v2 v3 v4 v5 v6 G q h
    exact g_no h
  | succ n ih =>
    intro t v1 v2 v3 v4 v5 v6 G q h H locs cells slots ls hS hl
    rw [fX1_goesThrough_b99] at h
    refine g_iload hx hb hl 6 rfl dX1_goesThrough_99 ?_
    refine g_aload_n hx hb hl 0 rfl dX1_goesThrough_101 ?_
    refine g_rdI hx hb hown hts hKn hS h fd_1_1_0 rfl (Or.inl (hts _ q597)) (fun _ z => z) dX1_goesThrough_102 (fun x102 h => ?_)
    refine lv_icmp_ge (tgt := 144) hx hb dX1_goesThrough_105 (by decide) (fun c_105 => ?_) (fun c_105 => ?_)
    · have h := g_ift c_105 h
      refine g_iinc (l1 := [(4, .inl (v4 + 1)), (0, .inr (.inr (some t))), (1, .inl v1), (2, .inl v2), (3, .inl v3), (5, .inl v5), (6, .inl v6)]) (v := (v4 + 1)) hx hb hl (k := 4) rfl (by rfl) (by decide) rfl dX1_goesThrough_144 (fun ls hl => ?_)
      refine lv_goto (tgt := 72) hx hb dX1_goesThrough_147 (by decide) ?_
      exact hk72 _ _ _ _ _ _ _ h _ _ _ _ _ hS (gls_sub hl [1, 2, 3, 4, 0] rfl)
    · have h := g_iff c_105 h
      refine g_iload hx hb hl 5 rfl dX1_goesThrough_108 ?_
      refine g_iload hx hb hl 6 rfl dX1_goesThrough_110 ?_
      refine lv_ishr hx hb dX1_goesThrough_112 ?_
      refine lv_iconst (v := 1) hx hb dX1_goesThrough_113 (by decide) ?_
      refine lv_iand hx hb dX1_goesThrough_114 ?_
      refine lv_if_ne (tgt := 121) hx hb dX1_goesThrough_115 (by decide) (fun c_115 => ?_) (fun c_115 => ?_)
      · have h := g_ift c_115 h
        refine lv_iconst (v := 0) hx hb dX1_goesThrough_121 (by decide) ?_
        refine g_istore_n (l1 := [(3, .inl 0), (0, .inr (.inr (some t))), (1, .inl v1), (2, .inl v2), (4, .inl v4), (5, .inl v5), (6, .inl v6)]) hx hb hl (by decide) rfl dX1_goesThrough_122 (fun ls hl => ?_)
        refine g_aload_n hx hb hl 1 rfl dX1_goesThrough_123 ?_
        refine g_iload_n hx hb hl 3 rfl dX1_goesThrough_124 ?_
        refine g_iload hx hb hl 4 rfl dX1_goesThrough_125 ?_
        refine g_iload hx hb hl 6 rfl dX1_goesThrough_127 ?_
        refine g_iload_n hx hb hl 2 rfl dX1_goesThrough_129 ?_
        obtain ⟨b130, hb130, h⟩ := g_bnd h
        obtain ⟨hr130, hk130⟩ := g_chk hb130
        obtain ⟨z130, h130, h⟩ := g_bnd h
        refine g_callV (n := 4) (b := b130) (av := [.inl v2, .inl v4, .inl v6, .inl v1]) (rs := []) hx hb hml hown hts hKn hRc hRs hS hl (sX1_tries l E D h130) (lw_V q899 q901 qs10 q113 q902) ⟨rfl, by decide, by decide, by decide +kernel⟩ ⟨by rw [hRf]; exact Nat.le_of_ble_eq_true rfl, by rw [hRl]; exact Nat.le_of_ble_eq_true rfl⟩ (g_recv hKn hS hk130 (by decide) (by decide)) rfl (by rw [hr130]; rfl) (Nat.le_of_ble_eq_true rfl) dX1_goesThrough_130 (fun H locs cells slots hS => ?_)
        refine lv_if_ne (tgt := 138) hx hb dX1_goesThrough_133 (by decide) (fun c_133 => ?_) (fun c_133 => ?_)
        · have h := g_ift c_133 h
          exact sX1_goesThrough_b138 C hk59 hk72 ih _ _ _ _ _ _ _ _ _ h _ _ _ _ _ hS (gls_sub hl [1, 2, 3, 0, 4, 5, 6] rfl)
        · have h := g_iff (fun z => z c_133) h
          refine lv_iconst (v := 0) hx hb dX1_goesThrough_136 (by decide) ?_
          exact g_zretG hx hb hr hlk hKn hRc hRs hS h dX1_goesThrough_137
      · have h := g_iff (fun z => z c_115) h
        refine lv_goto (tgt := 138) hx hb dX1_goesThrough_118 (by decide) ?_
        exact sX1_goesThrough_b138 C hk59 hk72 ih _ _ _ _ _ _ _ _ _ h _ _ _ _ _ hS (gls_sub hl [0, 1, 2, 3, 4, 5, 6] rfl)
theorem sX1_goesThrough_b72 {p : Program} {l : Launch} {e : Env} {R : Room} {s : State} {m : MethodId} {args : Array Value} {below : List Frame} {meth : Method} {c : Code} {E : g_E} {D : g_D} (C : gC p R s m args meth c cX1_goesThrough 7 RX1 "goesThrough" (some .boolean) 225 7485 E D) {k59 : Nat → Int32 → Int32 → g_G → Option (Int32 × g_G)} (hk59 : ∀ (t : Nat) (v1 : Int32) (v2 : Int32) (G : g_G) (q : Int32 × g_G), k59 t v1 v2 G = some q → ∀ (H : Heap) (locs : List Loc) (cells slots : Nat) (ls : Array Slot), gSt E D G H locs → gls ls 7 [(0, .inr (.inr (some t))), (1, .inl v1), (2, .inl v2)] → gT p l e R s m args below meth c E D H locs cells slots (some (.int q.1)) q.2 (F0 m 59 ls [])) : ∀ (n : Nat) (t : Nat) (v1 : Int32) (v2 : Int32) (v3 : Int32) (v4 : Int32) (G : g_G) (q : Int32 × g_G), fX1_goesThrough_b72 E k59 n t v1 v2 v3 v4 G = some q → ∀ (H : Heap) (locs : List Loc) (cells slots : Nat) (ls : Array Slot), gSt E D G H locs → gls ls 7 [(0, .inr (.inr (some t))), (1, .inl v1), (2, .inl v2), (3, .inl v3), (4, .inl v4)] → gT p l e R s m args below meth c E D H locs cells slots (some (.int q.1)) q.2 (F0 m 72 ls []) := by
  obtain ⟨hx, hb, hml, hown, hts, hKn, hRc, hRs, hc1, hc2, hRf, hRl, hr, hlk, hnm⟩ := id C
  intro n
  induction n with
  | zero =>
    intro t v1 v2 v3 v4 G q h
    exact g_no h
  | succ n ih =>
    intro t v1 v2 v3 v4 G q h H locs cells slots ls hS hl
    rw [fX1_goesThrough_b72] at h
    refine g_iload hx hb hl 4 rfl dX1_goesThrough_72 ?_
    refine g_aload_n hx hb hl 0 rfl dX1_goesThrough_74 ?_
    refine g_rdI hx hb hown hts hKn hS h fd_1_1_0 rfl (Or.inl (hts _ q597)) (fun _ z => z) dX1_goesThrough_75 (fun x75 h => ?_)
    refine lv_icmp_ge (tgt := 150) hx hb dX1_goesThrough_78 (by decide) (fun c_78 => ?_) (fun c_78 => ?_)
    · have h := g_ift c_78 h
      refine g_iload_n hx hb hl 3 rfl dX1_goesThrough_150 ?_
      refine lv_if_eq (tgt := 164) hx hb dX1_goesThrough_151 (by decide) (fun c_151 => ?_) (fun c_151 => ?_)
      · have h := g_ift c_151 h
        exact sX1_goesThrough_b164 C hk59 _ _ _ _ _ h _ _ _ _ _ hS (gls_sub hl [0, 1, 2] rfl)
      · have h := g_iff c_151 h
        refine g_aload_n hx hb hl 0 rfl dX1_goesThrough_154 ?_
        refine g_aload_n hx hb hl 0 rfl dX1_goesThrough_155 ?_
        refine g_rdR hx hb hown hts hKn hS h fd_1_1_12 rfl (Or.inl (hts _ q609)) (fun _ z => z) dX1_goesThrough_156 (fun x156 h => ?_)
        refine g_iload_n hx hb hl 2 rfl dX1_goesThrough_159 ?_
        refine g_aaloadG hx hb hKn hS h (by decide) dX1_goesThrough_160 (fun x160 h => ?_)
        obtain ⟨b161, hb161, h⟩ := g_bnd h
        obtain ⟨hr161, hk161⟩ := g_chk hb161
        obtain ⟨z161, h161, h⟩ := g_bnd h
        refine g_callV (n := 1) (b := b161) (av := [.inr (.inr x160)]) (rs := []) hx hb hml hown hts hKn hRc hRs hS hl (sX1_endsWith l E D h161) (lw_V q958 q960 qs19 q113 q961) ⟨rfl, by decide, by decide, by decide +kernel⟩ ⟨by rw [hRf]; exact Nat.le_of_ble_eq_true rfl, by rw [hRl]; exact Nat.le_of_ble_eq_true rfl⟩ (g_recv hKn hS hk161 (by decide) (by decide)) rfl (by rw [hr161]; rfl) (Nat.le_of_ble_eq_true rfl) dX1_goesThrough_161 (fun H locs cells slots hS => ?_)
        exact sX1_goesThrough_b164 C hk59 _ _ _ _ _ h _ _ _ _ _ hS (gls_sub hl [0, 1, 2] rfl)
    · have h := g_iff c_78 h
      refine g_aload_n hx hb hl 0 rfl dX1_goesThrough_81 ?_
      refine g_aload_n hx hb hl 0 rfl dX1_goesThrough_82 ?_
      refine g_rdR hx hb hown hts hKn hS h fd_1_1_12 rfl (Or.inl (hts _ q609)) (fun _ z => z) dX1_goesThrough_83 (fun x83 h => ?_)
      refine g_iload_n hx hb hl 2 rfl dX1_goesThrough_86 ?_
      refine g_aaloadG hx hb hKn hS h (by decide) dX1_goesThrough_87 (fun x87 h => ?_)
      refine g_iload hx hb hl 4 rfl dX1_goesThrough_88 ?_
      refine g_iload_n hx hb hl 1 rfl dX1_goesThrough_90 ?_
      obtain ⟨b91, hb91, h⟩ := g_bnd h
      obtain ⟨hr91, hk91⟩ := g_chk hb91
      obtain ⟨z91, h91, h⟩ := g_bnd h
      refine g_callV (n := 3) (b := b91) (av := [.inr (.inr x87), .inl v4, .inl v1]) (rs := []) hx hb hml hown hts hKn hRc hRs hS hl (sX1_moves l E D h91) (lw_V q844 q846 qs6 q113 q847) ⟨rfl, by decide, by decide, by decide +kernel⟩ ⟨by rw [hRf]; exact Nat.le_of_ble_eq_true rfl, by rw [hRl]; exact Nat.le_of_ble_eq_true rfl⟩ (g_recv hKn hS hk91 (by decide) (by decide)) rfl (by rw [hr91]; rfl) (Nat.le_of_ble_eq_true rfl) dX1_goesThrough_91 (fun H locs cells slots hS => ?_)
      refine g_istore (l1 := [(5, .inl z91.1), (0, .inr (.inr (some t))), (1, .inl v1), (2, .inl v2), (3, .inl v3), (4, .inl v4)]) hx hb hl (by decide) rfl dX1_goesThrough_94 (fun ls hl => ?_)
      refine lv_iconst (v := 0) hx hb dX1_goesThrough_96 (by decide) ?_
      refine g_istore (l1 := [(6, .inl 0), (5, .inl z91.1), (0, .inr (.inr (some t))), (1, .inl v1), (2, .inl v2), (3, .inl v3), (4, .inl v4)]) hx hb hl (by decide) rfl dX1_goesThrough_97 (fun ls hl => ?_)
      exact sX1_goesThrough_b99 C hk59 ih gFU _ _ _ _ _ _ _ _ _ h _ _ _ _ _ hS (gls_sub hl [2, 3, 4, 5, 6, 1, 0] rfl)
theorem sX1_goesThrough_b59 {p : Program} {l : Launch} {e : Env} {R : Room} {s : State} {m : MethodId} {args : Array Value} {below : List Frame} {meth : Method} {c : Code} {E : g_E} {D : g_D} (C : gC p R s m args meth c cX1_goesThrough 7 RX1 "goesThrough" (some .boolean) 225 7485 E D) : ∀ (n : Nat) (t : Nat) (v1 : Int32) (v2 : Int32) (G : g_G) (q : Int32 × g_G), fX1_goesThrough_b59 E n t v1 v2 G = some q → ∀ (H : Heap) (locs : List Loc) (cells slots : Nat) (ls : Array Slot), gSt E D G H locs → gls ls 7 [(0, .inr (.inr (some t))), (1, .inl v1), (2, .inl v2)] → gT p l e R s m args below meth c E D H locs cells slots (some (.int q.1)) q.2 (F0 m 59 ls []) := by
  obtain ⟨hx, hb, hml, hown, hts, hKn, hRc, hRs, hc1, hc2, hRf, hRl, hr, hlk, hnm⟩ := id C
  intro n
  induction n with
  | zero =>
    intro t v1 v2 G q h
    exact g_no h
  | succ n ih =>
    intro t v1 v2 G q h H locs cells slots ls hS hl
    rw [fX1_goesThrough_b59] at h
    refine g_iload_n hx hb hl 2 rfl dX1_goesThrough_59 ?_
    refine g_aload_n hx hb hl 0 rfl dX1_goesThrough_60 ?_
    refine g_rdI hx hb hown hts hKn hS h fd_1_1_15 rfl (Or.inl (hts _ q612)) (fun _ z => z) dX1_goesThrough_61 (fun x61 h => ?_)
    refine lv_icmp_ge (tgt := 170) hx hb dX1_goesThrough_64 (by decide) (fun c_64 => ?_) (fun c_64 => ?_)
    · have h := g_ift c_64 h
      refine lv_iconst (v := 1) hx hb dX1_goesThrough_170 (by decide) ?_
      exact g_zretG hx hb hr hlk hKn hRc hRs hS h dX1_goesThrough_171
    · have h := g_iff c_64 h
      refine lv_iconst (v := 1) hx hb dX1_goesThrough_67 (by decide) ?_
      refine g_istore_n (l1 := [(3, .inl 1), (0, .inr (.inr (some t))), (1, .inl v1), (2, .inl v2)]) hx hb hl (by decide) rfl dX1_goesThrough_68 (fun ls hl => ?_)
      refine lv_iconst (v := 0) hx hb dX1_goesThrough_69 (by decide) ?_
      refine g_istore (l1 := [(4, .inl 0), (3, .inl 1), (0, .inr (.inr (some t))), (1, .inl v1), (2, .inl v2)]) hx hb hl (by decide) rfl dX1_goesThrough_70 (fun ls hl => ?_)
      exact sX1_goesThrough_b72 C ih gFU _ _ _ _ _ _ _ h _ _ _ _ _ hS (gls_sub hl [2, 3, 4, 1, 0] rfl)
theorem sX1_goesThrough_b37 {p : Program} {l : Launch} {e : Env} {R : Room} {s : State} {m : MethodId} {args : Array Value} {below : List Frame} {meth : Method} {c : Code} {E : g_E} {D : g_D} (C : gC p R s m args meth c cX1_goesThrough 7 RX1 "goesThrough" (some .boolean) 225 7485 E D) : ∀ (n : Nat) (t : Nat) (v1 : Int32) (v2 : Int32) (G : g_G) (q : Int32 × g_G), fX1_goesThrough_b37 E n t v1 v2 G = some q → ∀ (H : Heap) (locs : List Loc) (cells slots : Nat) (ls : Array Slot), gSt E D G H locs → gls ls 7 [(0, .inr (.inr (some t))), (1, .inl v1), (2, .inl v2)] → gT p l e R s m args below meth c E D H locs cells slots (some (.int q.1)) q.2 (F0 m 37 ls []) := by
  obtain ⟨hx, hb, hml, hown, hts, hKn, hRc, hRs, hc1, hc2, hRf, hRl, hr, hlk, hnm⟩ := id C
  intro n
  induction n with
  | zero =>
    intro t v1 v2 G q h
    exact g_no h
  | succ n ih =>
    intro t v1 v2 G q h H locs cells slots ls hS hl
    rw [fX1_goesThrough_b37] at h
    refine g_iload_n hx hb hl 2 rfl dX1_goesThrough_37 ?_
    refine lv_sipush (v := 320) hx hb dX1_goesThrough_38 (by decide) ?_
    refine lv_icmp_ge (tgt := 57) hx hb dX1_goesThrough_41 (by decide) (fun c_41 => ?_) (fun c_41 => ?_)
    · have h := g_ift c_41 h
      refine lv_iconst (v := 0) hx hb dX1_goesThrough_57 (by decide) ?_
      refine g_istore_n (l1 := [(2, .inl 0), (0, .inr (.inr (some t))), (1, .inl v1)]) hx hb hl (by decide) rfl dX1_goesThrough_58 (fun ls hl => ?_)
      exact sX1_goesThrough_b59 C gFU _ _ _ _ _ h _ _ _ _ _ hS (gls_sub hl [1, 2, 0] rfl)
    · have h := g_iff c_41 h
      refine g_aload_n hx hb hl 0 rfl dX1_goesThrough_44 ?_
      refine g_rdR hx hb hown hts hKn hS h fd_1_1_17 rfl (Or.inl (hts _ q614)) (fun _ z => z) dX1_goesThrough_45 (fun x45 h => ?_)
      refine g_iload_n hx hb hl 2 rfl dX1_goesThrough_48 ?_
      refine lv_iconst (v := 0) hx hb dX1_goesThrough_49 (by decide) ?_
      refine g_iastoreG hx hb hKn hS h dX1_goesThrough_50 (fun G50 h H locs hS => ?_)
      refine g_iinc (l1 := [(2, .inl (v2 + 1)), (0, .inr (.inr (some t))), (1, .inl v1)]) (v := (v2 + 1)) hx hb hl (k := 2) rfl (by rfl) (by decide) rfl dX1_goesThrough_51 (fun ls hl => ?_)
      refine lv_goto (tgt := 37) hx hb dX1_goesThrough_54 (by decide) ?_
      exact ih _ _ _ _ _ h _ _ _ _ _ hS (gls_sub hl [1, 2, 0] rfl)
theorem sX1_goesThrough (l : Launch) (E : g_E) (D : g_D) {t : Nat} {v1 : Int32} {G : g_G} {q : Int32 × g_G} (h : fX1_goesThrough E t v1 G = some q) : gMet l E D yX1_goesThrough (ws_ yX1_goesThrough cX1_goesThrough 7 (some .boolean)) 225 7485 [.inr (.inr (some t)), .inl v1] G (some (.int q.1)) q.2 := by
  refine gMet.of (by decide +kernel) (Nat.le_of_ble_eq_true rfl) ?_
  intro p e R s m args below meth c C hS ls hl
  have C : gC p R s m args meth c cX1_goesThrough 7 RX1 "goesThrough" (some .boolean) 225 7485 E D := C
  obtain ⟨hx, hb, hml, hown, hts, hKn, hRc, hRs, hc1, hc2, hRf, hRl, hr, hlk, hnm⟩ := id C
  have hl : gls ls 7 [(0, .inr (.inr (some t))), (1, .inl v1)] := hl
  generalize s.heap = H at hS ⊢
  unfold fX1_goesThrough at h
  refine g_aload_n hx hb hl 0 rfl dX1_goesThrough_0 ?_
  refine g_aload_n hx hb hl 0 rfl dX1_goesThrough_1 ?_
  refine g_rdR hx hb hown hts hKn hS h fd_1_1_12 rfl (Or.inl (hts _ q609)) (fun _ z => z) dX1_goesThrough_2 (fun x2 h => ?_)
  refine lv_iconst (v := 0) hx hb dX1_goesThrough_5 (by decide) ?_
  refine g_aaloadG hx hb hKn hS h (by decide) dX1_goesThrough_6 (fun x6 h => ?_)
  refine g_aload_n hx hb hl 0 rfl dX1_goesThrough_7 ?_
  refine g_rdI hx hb hown hts hKn hS h fd_1_1_0 rfl (Or.inl (hts _ q597)) (fun _ z => z) dX1_goesThrough_8 (fun x8 h => ?_)
  obtain ⟨b11, hb11, h⟩ := g_bnd h
  obtain ⟨hr11, hk11⟩ := g_chk hb11
  obtain ⟨z11, h11, h⟩ := g_bnd h
  refine g_callV (n := 2) (b := b11) (av := [.inr (.inr x6), .inl x8]) (rs := []) hx hb hml hown hts hKn hRc hRs hS hl (sX1_begins l E D h11) (lw_V q728 q730 qs4 q113 q731) ⟨rfl, by decide, by decide, by decide +kernel⟩ ⟨by rw [hRf]; exact Nat.le_of_ble_eq_true rfl, by rw [hRl]; exact Nat.le_of_ble_eq_true rfl⟩ (g_recv hKn hS hk11 (by decide) (by decide)) rfl (by rw [hr11]; rfl) (Nat.le_of_ble_eq_true rfl) dX1_goesThrough_11 (fun H locs cells slots hS => ?_)
  refine g_aload_n hx hb hl 0 rfl dX1_goesThrough_14 ?_
  refine g_rdR hx hb hown hts hKn hS h fd_1_1_12 rfl (Or.inl (hts _ q609)) (fun _ z => z) dX1_goesThrough_15 (fun x15 h => ?_)
  refine lv_iconst (v := 0) hx hb dX1_goesThrough_18 (by decide) ?_
  refine g_aaloadG hx hb hKn hS h (by decide) dX1_goesThrough_19 (fun x19 h => ?_)
  obtain ⟨b20, hb20, h⟩ := g_bnd h
  obtain ⟨hr20, hk20⟩ := g_chk hb20
  obtain ⟨z20, h20, h⟩ := g_bnd h
  refine g_callV (n := 0) (b := b20) (av := []) (rs := []) hx hb hml hown hts hKn hRc hRs hS hl (sX3_hashes l E D h20) (lw_V q836 q837 q838 q134 q839) ⟨rfl, by decide, by decide, by decide +kernel⟩ ⟨by rw [hRf]; exact Nat.le_of_ble_eq_true rfl, by rw [hRl]; exact Nat.le_of_ble_eq_true rfl⟩ (g_recv hKn hS hk20 (by decide) (by decide)) rfl (by rw [hr20]; rfl) (Nat.le_of_ble_eq_true rfl) dX1_goesThrough_20 (fun H locs cells slots hS => ?_)
  refine g_aload_n hx hb hl 0 rfl dX1_goesThrough_23 ?_
  refine lv_iconst (v := 1) hx hb dX1_goesThrough_24 (by decide) ?_
  refine g_ptI hx hb hown hts hKn hS h fd_1_1_15 (Or.inl (hts _ q612)) (fun _ z => z) (fun z => nomatch z) dX1_goesThrough_25 (fun G25 h H locs hS => ?_)
  refine g_aload_n hx hb hl 0 rfl dX1_goesThrough_28 ?_
  refine g_rdR hx hb hown hts hKn hS h fd_1_1_16 rfl (Or.inl (hts _ q613)) (fun _ z => z) dX1_goesThrough_29 (fun x29 h => ?_)
  obtain ⟨b32, hb32, h⟩ := g_bnd h
  obtain ⟨hr32, hk32⟩ := g_chk hb32
  obtain ⟨z32, h32, h⟩ := g_bnd h
  refine g_callV (n := 0) (b := b32) (av := []) (rs := []) hx hb hml hown hts hKn hRc hRs hS hl (sJ2_clear l E D h32) (lw_V q840 q841 q842 q117 q843) ⟨rfl, by decide, by decide, by decide +kernel⟩ ⟨by rw [hRf]; exact Nat.le_of_ble_eq_true rfl, by rw [hRl]; exact Nat.le_of_ble_eq_true rfl⟩ (g_recv hKn hS hk32 (by decide) (by decide)) rfl (by rw [hr32]; rfl) (Nat.le_of_ble_eq_true rfl) dX1_goesThrough_32 (fun H locs cells slots hS => ?_)
  refine lv_iconst (v := 0) hx hb dX1_goesThrough_35 (by decide) ?_
  refine g_istore_n (l1 := [(2, .inl 0), (0, .inr (.inr (some t))), (1, .inl v1)]) hx hb hl (by decide) rfl dX1_goesThrough_36 (fun ls hl => ?_)
  exact sX1_goesThrough_b37 C gFU _ _ _ _ _ h _ _ _ _ _ hS (gls_sub hl [1, 2, 0] rfl)
/-- SendHall.needs()I -/
def fX1_needs_b7 (E : g_E) : Nat → Nat → Int32 → g_G → Option (Int32 × g_G)
  | 0, _, _, _ => none
  | n + 1, t, v1, G =>
    if (3 : Int32) < v1 then (
      some ((-1), G))
    else (
      (gchk G 1 (some t)).bind fun b14 =>
      (fX1_goesThrough E b14 v1 G).bind fun z14 =>
      if ¬ z14.1 = 0 then (
        (gchk z14.2 1 (some t)).bind fun b23 =>
        (fX1_hasLocked E b23 z14.2).bind fun z23 =>
        if ¬ z23.1 = 0 then (
          fX1_needs_b7 E n t (v1 + 1) z23.2)
        else (
          some (v1, z23.2)))
      else (
        some ((-1), z14.2)))
def fX1_needs (E : g_E) (t : Nat) (G : g_G) : Option (Int32 × g_G) :=
  (gpZ E G 1 1 (some t) 13 0).bind fun G2 =>
  fX1_needs_b7 E gFU t 0 G2
theorem sX1_needs_b7 {p : Program} {l : Launch} {e : Env} {R : Room} {s : State} {m : MethodId} {args : Array Value} {below : List Frame} {meth : Method} {c : Code} {E : g_E} {D : g_D} (C : gC p R s m args meth c cX1_needs 2 RX1 "needs" (some .int) 226 7511 E D) : ∀ (n : Nat) (t : Nat) (v1 : Int32) (G : g_G) (q : Int32 × g_G), fX1_needs_b7 E n t v1 G = some q → ∀ (H : Heap) (locs : List Loc) (cells slots : Nat) (ls : Array Slot), gSt E D G H locs → gls ls 2 [(0, .inr (.inr (some t))), (1, .inl v1)] → gT p l e R s m args below meth c E D H locs cells slots (some (.int q.1)) q.2 (F0 m 7 ls []) := by
  obtain ⟨hx, hb, hml, hown, hts, hKn, hRc, hRs, hc1, hc2, hRf, hRl, hr, hlk, hnm⟩ := id C
  intro n
  induction n with
  | zero =>
    intro t v1 G q h
    exact g_no h
  | succ n ih =>
    intro t v1 G q h H locs cells slots ls hS hl
    rw [fX1_needs_b7] at h
    refine g_iload_n hx hb hl 1 rfl dX1_needs_7 ?_
    refine lv_iconst (v := 3) hx hb dX1_needs_8 (by decide) ?_
    refine lv_icmp_gt (tgt := 37) hx hb dX1_needs_9 (by decide) (fun c_9 => ?_) (fun c_9 => ?_)
    · have h := g_ift c_9 h
      refine lv_iconst (v := (-1)) hx hb dX1_needs_37 (by decide) ?_
      exact g_iretG hx hb hr hlk hKn hRc hRs hS h dX1_needs_38
    · have h := g_iff c_9 h
      refine g_aload_n hx hb hl 0 rfl dX1_needs_12 ?_
      refine g_iload_n hx hb hl 1 rfl dX1_needs_13 ?_
      obtain ⟨b14, hb14, h⟩ := g_bnd h
      obtain ⟨hr14, hk14⟩ := g_chk hb14
      obtain ⟨z14, h14, h⟩ := g_bnd h
      refine g_callV (n := 1) (b := b14) (av := [.inl v1]) (rs := []) hx hb hml hown hts hKn hRc hRs hS hl (sX1_goesThrough l E D h14) (lw_V q724 q726 qs3 q113 q727) ⟨rfl, by decide, by decide, by decide +kernel⟩ ⟨by rw [hRf]; exact Nat.le_of_ble_eq_true rfl, by rw [hRl]; exact Nat.le_of_ble_eq_true rfl⟩ (g_recv hKn hS hk14 (by decide) (by decide)) rfl (by rw [hr14]; rfl) (Nat.le_of_ble_eq_true rfl) dX1_needs_14 (fun H locs cells slots hS => ?_)
      refine lv_if_ne (tgt := 22) hx hb dX1_needs_17 (by decide) (fun c_17 => ?_) (fun c_17 => ?_)
      · have h := g_ift c_17 h
        refine g_aload_n hx hb hl 0 rfl dX1_needs_22 ?_
        obtain ⟨b23, hb23, h⟩ := g_bnd h
        obtain ⟨hr23, hk23⟩ := g_chk hb23
        obtain ⟨z23, h23, h⟩ := g_bnd h
        refine g_callV (n := 0) (b := b23) (av := []) (rs := []) hx hb hml hown hts hKn hRc hRs hS hl (sX1_hasLocked l E D h23) (lw_V q1071 q1073 qs23 q113 q1074) ⟨rfl, by decide, by decide, by decide +kernel⟩ ⟨by rw [hRf]; exact Nat.le_of_ble_eq_true rfl, by rw [hRl]; exact Nat.le_of_ble_eq_true rfl⟩ (g_recv hKn hS hk23 (by decide) (by decide)) rfl (by rw [hr23]; rfl) (Nat.le_of_ble_eq_true rfl) dX1_needs_23 (fun H locs cells slots hS => ?_)
        refine lv_if_ne (tgt := 31) hx hb dX1_needs_26 (by decide) (fun c_26 => ?_) (fun c_26 => ?_)
        · have h := g_ift c_26 h
          refine g_iinc (l1 := [(1, .inl (v1 + 1)), (0, .inr (.inr (some t)))]) (v := (v1 + 1)) hx hb hl (k := 1) rfl (by rfl) (by decide) rfl dX1_needs_31 (fun ls hl => ?_)
          refine lv_goto (tgt := 7) hx hb dX1_needs_34 (by decide) ?_
          exact ih _ _ _ _ h _ _ _ _ _ hS (gls_sub hl [1, 0] rfl)
        · have h := g_iff (fun z => z c_26) h
          refine g_iload_n hx hb hl 1 rfl dX1_needs_29 ?_
          exact g_iretG hx hb hr hlk hKn hRc hRs hS h dX1_needs_30
      · have h := g_iff (fun z => z c_17) h
        refine lv_iconst (v := (-1)) hx hb dX1_needs_20 (by decide) ?_
        exact g_iretG hx hb hr hlk hKn hRc hRs hS h dX1_needs_21
theorem sX1_needs (l : Launch) (E : g_E) (D : g_D) {t : Nat} {G : g_G} {q : Int32 × g_G} (h : fX1_needs E t G = some q) : gMet l E D yX1_needs (ws_ yX1_needs cX1_needs 2 (some .int)) 226 7511 [.inr (.inr (some t))] G (some (.int q.1)) q.2 := by
  refine gMet.of (by decide +kernel) (Nat.le_of_ble_eq_true rfl) ?_
  intro p e R s m args below meth c C hS ls hl
  have C : gC p R s m args meth c cX1_needs 2 RX1 "needs" (some .int) 226 7511 E D := C
  obtain ⟨hx, hb, hml, hown, hts, hKn, hRc, hRs, hc1, hc2, hRf, hRl, hr, hlk, hnm⟩ := id C
  have hl : gls ls 2 [(0, .inr (.inr (some t)))] := hl
  generalize s.heap = H at hS ⊢
  unfold fX1_needs at h
  refine g_aload_n hx hb hl 0 rfl dX1_needs_0 ?_
  refine lv_iconst (v := 0) hx hb dX1_needs_1 (by decide) ?_
  refine g_ptZ hx hb hown hts hKn hS h fd_1_1_13 (Or.inl (hts _ q610)) (fun _ z => z) (fun z => nomatch z) dX1_needs_2 (fun G2 h H locs hS => ?_)
  refine lv_iconst (v := 0) hx hb dX1_needs_5 (by decide) ?_
  refine g_istore_n (l1 := [(1, .inl 0), (0, .inr (.inr (some t)))]) hx hb hl (by decide) rfl dX1_needs_6 (fun ls hl => ?_)
  exact sX1_needs_b7 C gFU _ _ _ _ h _ _ _ _ _ hS (gls_sub hl [1, 0] rfl)
