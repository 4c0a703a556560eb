set_option maxRecDepth 100000
/-- SendHallModel.stepOn()V -/
def fX4_stepOn_b279 (E : g_E) (t : Nat) (G : g_G) : Option (g_G) :=
  (grI G 4 4 (some t) 11).bind fun x281 =>
  (gpI E G 4 4 (some t) 17 x281).bind fun G284 =>
  some G284
def fX4_stepOn_b271 (E : g_E) (t : Nat) (v1 : Int32) (s0 : Option Nat) (s1 : Int32) (G : g_G) : Option (g_G) :=
  (gpI E G 4 4 s0 13 s1).bind fun G271 =>
  (gpI E G271 4 4 (some t) 14 v1).bind fun G276 =>
  fX4_stepOn_b279 E t G276
def fX4_stepOn_b260 (E : g_E) (t : Nat) (v1 : Int32) (s0 : Int32) (G : g_G) : Option (g_G) :=
  if s0 = 0 then (
    fX4_stepOn_b271 E t v1 (some t) 4 G)
  else (
    fX4_stepOn_b271 E t v1 (some t) 3 G)
def fX4_stepOn_b255 (E : g_E) (t : Nat) (v1 : Int32) (G : g_G) : Option (g_G) :=
  fX4_stepOn_b260 E t v1 1 G
def fX4_stepOn_b128 (E : g_E) : Nat → Nat → g_G → Option (g_G)
  | 0, _, _ => none
  | n + 1, t, G =>
    (grI G 4 4 (some t) 11).bind fun x130 =>
    (gchk G 4 (some t)).bind fun b133 =>
    (fX4_byteAt E b133 x130 G).bind fun z133 =>
    (fX4_isDigit E z133.1 z133.2).bind fun z136 =>
    if z136.1 = 0 then (
      (gpI E z136.2 4 4 (some t) 13 2).bind fun G185 =>
      fX4_stepOn_b279 E t G185)
    else (
      (grI z136.2 4 4 (some t) 15).bind fun x148 =>
      (grI z136.2 4 4 (some t) 11).bind fun x154 =>
      (gchk z136.2 4 (some t)).bind fun b157 =>
      (fX4_byteAt E b157 x154 z136.2).bind fun z157 =>
      (gpI E z157.2 4 4 (some t) 15 (if (((10 * x148) + z157.1) - 48) < 100000 then (((10 * x148) + z157.1) - 48) else 100000)).bind fun G167 =>
      (grI G167 4 4 (some t) 11).bind fun x172 =>
      (gpI E G167 4 4 (some t) 11 (x172 + 1)).bind fun G177 =>
      fX4_stepOn_b128 E n t G177)
def fX4_stepOn_b81 (E : g_E) : Nat → Nat → g_G → Option (g_G)
  | 0, _, _ => none
  | n + 1, t, G =>
    (grI G 4 4 (some t) 11).bind fun x83 =>
    (gchk G 4 (some t)).bind fun b86 =>
    (fX4_byteAt E b86 x83 G).bind fun z86 =>
    (fX4_isLetter E z86.1 z86.2).bind fun z89 =>
    if z89.1 = 0 then (
      (gpI E z89.2 4 4 (some t) 13 1).bind fun G110 =>
      fX4_stepOn_b279 E t G110)
    else (
      (grI z89.2 4 4 (some t) 11).bind fun x97 =>
      (gpI E z89.2 4 4 (some t) 11 (x97 + 1)).bind fun G102 =>
      fX4_stepOn_b81 E n t G102)
def fX4_stepOn_b26 (E : g_E) (k0 : Nat → g_G → Option (g_G)) (t : Nat) (G : g_G) : Option (g_G) :=
  (grI G 4 4 (some t) 11).bind fun x28 =>
  (gpI E G 4 4 (some t) 11 (x28 + 1)).bind fun G33 =>
  k0 t G33
def fX4_stepOn_b0 (E : g_E) : Nat → Nat → g_G → Option (g_G)
  | 0, _, _ => none
  | n + 1, t, G =>
    (grI G 4 4 (some t) 11).bind fun x2 =>
    (gchk G 4 (some t)).bind fun b5 =>
    (fX4_byteAt E b5 x2 G).bind fun z5 =>
    if z5.1 = (32 : Int32) then (
      fX4_stepOn_b26 E (fX4_stepOn_b0 E n) t z5.2)
    else (
      (grI z5.2 4 4 (some t) 11).bind fun x15 =>
      (gchk z5.2 4 (some t)).bind fun b18 =>
      (fX4_byteAt E b18 x15 z5.2).bind fun z18 =>
      if ¬ z18.1 = (10 : Int32) then (
        (grI z18.2 4 4 (some t) 11).bind fun x41 =>
        (gpI E z18.2 4 4 (some t) 16 x41).bind fun G44 =>
        (gpI E G44 4 4 (some t) 14 0).bind fun G49 =>
        (grI G49 4 4 (some t) 11).bind fun x54 =>
        (gchk G49 4 (some t)).bind fun b57 =>
        (fX4_byteAt E b57 x54 G49).bind fun z57 =>
        if ¬ z57.1 = (-1 : Int32) then (
          (fX4_isLetter E z57.1 z57.2).bind fun z75 =>
          if z75.1 = 0 then (
            (fX4_isDigit E z57.1 z75.2).bind fun z117 =>
            if z117.1 = 0 then (
              (grI z117.2 4 4 (some t) 11).bind fun x193 =>
              (gpI E z117.2 4 4 (some t) 11 (x193 + 1)).bind fun G198 =>
              if z57.1 = (59 : Int32) then (
                fX4_stepOn_b255 E t z57.1 G198)
              else (
                if z57.1 = (40 : Int32) then (
                  fX4_stepOn_b255 E t z57.1 G198)
                else (
                  if z57.1 = (41 : Int32) then (
                    fX4_stepOn_b255 E t z57.1 G198)
                  else (
                    if z57.1 = (43 : Int32) then (
                      fX4_stepOn_b255 E t z57.1 G198)
                    else (
                      if z57.1 = (45 : Int32) then (
                        fX4_stepOn_b255 E t z57.1 G198)
                      else (
                        if z57.1 = (42 : Int32) then (
                          fX4_stepOn_b255 E t z57.1 G198)
                        else (
                          if z57.1 = (47 : Int32) then (
                            fX4_stepOn_b255 E t z57.1 G198)
                          else (
                            if z57.1 = (60 : Int32) then (
                              fX4_stepOn_b255 E t z57.1 G198)
                            else (
                              if ¬ z57.1 = (61 : Int32) then (
                                fX4_stepOn_b260 E t z57.1 0 G198)
                              else (
                                fX4_stepOn_b255 E t z57.1 G198))))))))))
            else (
              (gpI E z117.2 4 4 (some t) 15 0).bind fun G125 =>
              fX4_stepOn_b128 E gFU t G125))
          else (
            fX4_stepOn_b81 E gFU t z75.2))
        else (
          (gpI E z57.2 4 4 (some t) 13 0).bind fun G68 =>
          fX4_stepOn_b279 E t G68))
      else (
        fX4_stepOn_b26 E (fX4_stepOn_b0 E n) t z18.2))
def fX4_stepOn (E : g_E) (t : Nat) (G : g_G) : Option (g_G) :=
  fX4_stepOn_b0 E gFU t G
theorem sX4_stepOn_b279 {p : Program} {l : Launch} {e : Env} {R : Room} {s : State} {m : MethodId} {args : Array Value} {below : List Frame} {meth : Method} {c : Code} {E : g_E} {D : g_D} (C : gC p R s m args meth c cX4_stepOn 3 RX4 "stepOn" (none) 2 85 E D) : ∀ (t : Nat) (G : g_G) (q : g_G), fX4_stepOn_b279 E t G = some q → ∀ (H : Heap) (locs : List Loc) (cells slots : Nat) (ls : Array Slot), gSt E D G H locs → gls ls 3 [(0, .inr (.inr (some t)))] → gT p l e R s m args below meth c E D H locs cells slots none q (F0 m 279 ls []) := by
  obtain ⟨hx, hb, hml, hown, hts, hKn, hRc, hRs, hc1, hc2, hRf, hRl, hr, hlk, hnm⟩ := id C
  intro t G q h H locs cells slots ls hS hl
  unfold fX4_stepOn_b279 at h
  refine g_aload_n hx hb hl 0 rfl dX4_stepOn_279 ?_
  refine g_aload_n hx hb hl 0 rfl dX4_stepOn_280 ?_
  refine g_rdI hx hb hown hts hKn hS h fd_4_4_11 rfl (Or.inl (hts _ q1876)) (fun _ z => z) dX4_stepOn_281 (fun x281 h => ?_)
  refine g_ptI hx hb hown hts hKn hS h fd_4_4_17 (Or.inl (hts _ q1882)) (fun _ z => z) (fun z => nomatch z) dX4_stepOn_284 (fun G284 h H locs hS => ?_)
  exact g_vretG hx hb hr hlk hKn hRc hRs hS h dX4_stepOn_287
theorem sX4_stepOn_b271 {p : Program} {l : Launch} {e : Env} {R : Room} {s : State} {m : MethodId} {args : Array Value} {below : List Frame} {meth : Method} {c : Code} {E : g_E} {D : g_D} (C : gC p R s m args meth c cX4_stepOn 3 RX4 "stepOn" (none) 2 85 E D) : ∀ (t : Nat) (v1 : Int32) (s0 : Option Nat) (s1 : Int32) (G : g_G) (q : g_G), fX4_stepOn_b271 E t v1 s0 s1 G = some q → ∀ (H : Heap) (locs : List Loc) (cells slots : Nat) (ls : Array Slot), gSt E D G H locs → gls ls 3 [(0, .inr (.inr (some t))), (1, .inl v1)] → gT p l e R s m args below meth c E D H locs cells slots none q (F0 m 271 ls [.int s1, va_rf s0]) := by
  obtain ⟨hx, hb, hml, hown, hts, hKn, hRc, hRs, hc1, hc2, hRf, hRl, hr, hlk, hnm⟩ := id C
  intro t v1 s0 s1 G q h H locs cells slots ls hS hl
  unfold fX4_stepOn_b271 at h
  refine g_ptI hx hb hown hts hKn hS h fd_4_4_13 (Or.inl (hts _ q1878)) (fun _ z => z) (fun z => nomatch z) dX4_stepOn_271 (fun G271 h H locs hS => ?_)
  refine g_aload_n hx hb hl 0 rfl dX4_stepOn_274 ?_
  refine g_iload_n hx hb hl 1 rfl dX4_stepOn_275 ?_
  refine g_ptI hx hb hown hts hKn hS h fd_4_4_14 (Or.inl (hts _ q1879)) (fun _ z => z) (fun z => nomatch z) dX4_stepOn_276 (fun G276 h H locs hS => ?_)
  exact sX4_stepOn_b279 C _ _ _ h _ _ _ _ _ hS (gls_sub hl [0] rfl)
theorem sX4_stepOn_b260 {p : Program} {l : Launch} {e : Env} {R : Room} {s : State} {m : MethodId} {args : Array Value} {below : List Frame} {meth : Method} {c : Code} {E : g_E} {D : g_D} (C : gC p R s m args meth c cX4_stepOn 3 RX4 "stepOn" (none) 2 85 E D) : ∀ (t : Nat) (v1 : Int32) (s0 : Int32) (G : g_G) (q : g_G), fX4_stepOn_b260 E t v1 s0 G = some q → ∀ (H : Heap) (locs : List Loc) (cells slots : Nat) (ls : Array Slot), gSt E D G H locs → gls ls 3 [(0, .inr (.inr (some t))), (1, .inl v1)] → gT p l e R s m args below meth c E D H locs cells slots none q (F0 m 260 ls [.int s0]) := by
  obtain ⟨hx, hb, hml, hown, hts, hKn, hRc, hRs, hc1, hc2, hRf, hRl, hr, hlk, hnm⟩ := id C
  intro t v1 s0 G q h H locs cells slots ls hS hl
  unfold fX4_stepOn_b260 at h
  refine g_istore_n (l1 := [(2, .inl s0), (0, .inr (.inr (some t))), (1, .inl v1)]) hx hb hl (by decide) rfl dX4_stepOn_260 (fun ls hl => ?_)
  refine g_aload_n hx hb hl 1 rfl dX4_stepOn_261 ?_
  refine g_iload_n hx hb hl 0 rfl dX4_stepOn_262 ?_
  refine lv_if_eq (tgt := 270) hx hb dX4_stepOn_263 (by decide) (fun c_263 => ?_) (fun c_263 => ?_)
  · have h := g_ift c_263 h
    refine lv_iconst (v := 4) hx hb dX4_stepOn_270 (by decide) ?_
    exact sX4_stepOn_b271 C _ _ _ _ _ _ h _ _ _ _ _ hS (gls_sub hl [1, 2] rfl)
  · have h := g_iff c_263 h
    refine lv_iconst (v := 3) hx hb dX4_stepOn_266 (by decide) ?_
    refine lv_goto (tgt := 271) hx hb dX4_stepOn_267 (by decide) ?_
    exact sX4_stepOn_b271 C _ _ _ _ _ _ h _ _ _ _ _ hS (gls_sub hl [1, 2] rfl)
theorem sX4_stepOn_b255 {p : Program} {l : Launch} {e : Env} {R : Room} {s : State} {m : MethodId} {args : Array Value} {below : List Frame} {meth : Method} {c : Code} {E : g_E} {D : g_D} (C : gC p R s m args meth c cX4_stepOn 3 RX4 "stepOn" (none) 2 85 E D) : ∀ (t : Nat) (v1 : Int32) (G : g_G) (q : g_G), fX4_stepOn_b255 E t v1 G = some q → ∀ (H : Heap) (locs : List Loc) (cells slots : Nat) (ls : Array Slot), gSt E D G H locs → gls ls 3 [(0, .inr (.inr (some t))), (1, .inl v1)] → gT p l e R s m args below meth c E D H locs cells slots none q (F0 m 255 ls []) := by
  obtain ⟨hx, hb, hml, hown, hts, hKn, hRc, hRs, hc1, hc2, hRf, hRl, hr, hlk, hnm⟩ := id C
  intro t v1 G q h H locs cells slots ls hS hl
  unfold fX4_stepOn_b255 at h
  refine lv_iconst (v := 1) hx hb dX4_stepOn_255 (by decide) ?_
  refine lv_goto (tgt := 260) hx hb dX4_stepOn_256 (by decide) ?_
  exact sX4_stepOn_b260 C _ _ _ _ _ h _ _ _ _ _ hS (gls_sub hl [0, 1] rfl)
theorem sX4_stepOn_b128 {p : Program} {l : Launch} {e : Env} {R : Room} {s : State} {m : MethodId} {args : Array Value} {below : List Frame} {meth : Method} {c : Code} {E : g_E} {D : g_D} (C : gC p R s m args meth c cX4_stepOn 3 RX4 "stepOn" (none) 2 85 E D) : ∀ (n : Nat) (t : Nat) (G : g_G) (q : g_G), fX4_stepOn_b128 E n t G = some q → ∀ (H : Heap) (locs : List Loc) (cells slots : Nat) (ls : Array Slot), gSt E D G H locs → gls ls 3 [(0, .inr (.inr (some t)))] → gT p l e R s m args below meth c E D H locs cells slots none q (F0 m 128 ls []) := by
  obtain ⟨hx, hb, hml, hown, hts, hKn, hRc, hRs, hc1, hc2, hRf, hRl, hr, hlk, hnm⟩ := id C
  intro n
  induction n with
  | zero =>
    intro t G q h
    exact g_no h
  | succ n ih =>
    intro t G q h H locs cells slots ls hS hl
    rw [fX4_stepOn_b128] at h
    refine g_aload_n hx hb hl 0 rfl dX4_stepOn_128 ?_
    refine g_aload_n hx hb hl 0 rfl dX4_stepOn_129 ?_
    refine g_rdI hx hb hown hts hKn hS h fd_4_4_11 rfl (Or.inl (hts _ q1876)) (fun _ z => z) dX4_stepOn_130 (fun x130 h => ?_)
    obtain ⟨b133, hb133, h⟩ := g_bnd h
    obtain ⟨hr133, hk133⟩ := g_chk hb133
    obtain ⟨z133, h133, h⟩ := g_bnd h
    refine g_callV (n := 1) (b := b133) (av := [.inl x130]) (rs := []) hx hb hml hown hts hKn hRc hRs hS hl (sX4_byteAt l E D h133) (lw_V q2096 q2098 qs50 q135 q2099) ⟨rfl, by decide, by decide, by decide +kernel⟩ ⟨by rw [hRf]; exact Nat.le_of_ble_eq_true rfl, by rw [hRl]; exact Nat.le_of_ble_eq_true rfl⟩ (g_recv hKn hS hk133 (by decide) (by decide)) rfl (by rw [hr133]; rfl) (Nat.le_of_ble_eq_true rfl) dX4_stepOn_133 (fun H locs cells slots hS => ?_)
    obtain ⟨z136, h136, h⟩ := g_bnd h
    refine g_callS (n := 1) (av := [.inl z133.1]) (rs := []) hx hb hml hown hts hKn hRc hRs hS hl (sX4_isDigit l E D h136) (lw_S q2103 q2104 q135 q2105) ⟨by decide, by decide, by decide +kernel⟩ ⟨by rw [hRf]; exact Nat.le_of_ble_eq_true rfl, by rw [hRl]; exact Nat.le_of_ble_eq_true rfl⟩ rfl rfl (Nat.le_of_ble_eq_true rfl) dX4_stepOn_136 (fun H locs cells slots hS => ?_)
    refine lv_if_eq (tgt := 183) hx hb dX4_stepOn_139 (by decide) (fun c_139 => ?_) (fun c_139 => ?_)
    · have h := g_ift c_139 h
      refine g_aload_n hx hb hl 0 rfl dX4_stepOn_183 ?_
      refine lv_iconst (v := 2) hx hb dX4_stepOn_184 (by decide) ?_
      refine g_ptI hx hb hown hts hKn hS h fd_4_4_13 (Or.inl (hts _ q1878)) (fun _ z => z) (fun z => nomatch z) dX4_stepOn_185 (fun G185 h H locs hS => ?_)
      refine lv_goto (tgt := 279) hx hb dX4_stepOn_188 (by decide) ?_
      exact sX4_stepOn_b279 C _ _ _ h _ _ _ _ _ hS (gls_sub hl [0] rfl)
    · have h := g_iff c_139 h
      refine g_aload_n hx hb hl 0 rfl dX4_stepOn_142 ?_
      refine lv_ldc (v := 100000) hx hb hown (hts _ q2106) dX4_stepOn_143 ?_
      refine lv_bipush (v := 10) hx hb dX4_stepOn_145 (by decide) ?_
      refine g_aload_n hx hb hl 0 rfl dX4_stepOn_147 ?_
      refine g_rdI hx hb hown hts hKn hS h fd_4_4_15 rfl (Or.inl (hts _ q1880)) (fun _ z => z) dX4_stepOn_148 (fun x148 h => ?_)
      refine lv_imul hx hb dX4_stepOn_151 ?_
      refine g_aload_n hx hb hl 0 rfl dX4_stepOn_152 ?_
      refine g_aload_n hx hb hl 0 rfl dX4_stepOn_153 ?_
      refine g_rdI hx hb hown hts hKn hS h fd_4_4_11 rfl (Or.inl (hts _ q1876)) (fun _ z => z) dX4_stepOn_154 (fun x154 h => ?_)
      obtain ⟨b157, hb157, h⟩ := g_bnd h
      obtain ⟨hr157, hk157⟩ := g_chk hb157
      obtain ⟨z157, h157, h⟩ := g_bnd h
      refine g_callV (n := 1) (b := b157) (av := [.inl x154]) (rs := [.inl (10 * x148), .inl 100000, .inr (.inr (some t))]) hx hb hml hown hts hKn hRc hRs hS hl (sX4_byteAt l E D h157) (lw_V q2096 q2098 qs50 q135 q2099) ⟨rfl, by decide, by decide, by decide +kernel⟩ ⟨by rw [hRf]; exact Nat.le_of_ble_eq_true rfl, by rw [hRl]; exact Nat.le_of_ble_eq_true rfl⟩ (g_recv hKn hS hk157 (by decide) (by decide)) rfl (by rw [hr157]; rfl) (Nat.le_of_ble_eq_true rfl) dX4_stepOn_157 (fun H locs cells slots hS => ?_)
      refine lv_iadd hx hb dX4_stepOn_160 ?_
      refine lv_bipush (v := 48) hx hb dX4_stepOn_161 (by decide) ?_
      refine lv_isub hx hb dX4_stepOn_163 ?_
      refine g_mmin (rs := [.inr (.inr (some t))]) hx hb hml hown hRc hRs hS hl (hts _ q2107) (hts _ q301) (hts _ q127) (hts _ q302) (by decide +kernel) rfl (Nat.le_of_ble_eq_true rfl) ⟨by rw [hRf]; exact Nat.le_of_ble_eq_true rfl, by rw [hRl]; exact Nat.le_of_ble_eq_true rfl⟩ dX4_stepOn_164 (fun cells slots => ?_)
      refine g_ptI hx hb hown hts hKn hS h fd_4_4_15 (Or.inl (hts _ q1880)) (fun _ z => z) (fun z => nomatch z) dX4_stepOn_167 (fun G167 h H locs hS => ?_)
      refine g_aload_n hx hb hl 0 rfl dX4_stepOn_170 ?_
      refine lv_dup hx hb dX4_stepOn_171 (by first | exact va_rf_cat _ | rfl | exact g_catA _) ?_
      refine g_rdI hx hb hown hts hKn hS h fd_4_4_11 rfl (Or.inl (hts _ q1876)) (fun _ z => z) dX4_stepOn_172 (fun x172 h => ?_)
      refine lv_iconst (v := 1) hx hb dX4_stepOn_175 (by decide) ?_
      refine lv_iadd hx hb dX4_stepOn_176 ?_
      refine g_ptI hx hb hown hts hKn hS h fd_4_4_11 (Or.inl (hts _ q1876)) (fun _ z => z) (fun z => nomatch z) dX4_stepOn_177 (fun G177 h H locs hS => ?_)
      refine lv_goto (tgt := 128) hx hb dX4_stepOn_180 (by decide) ?_
      exact ih _ _ _ h _ _ _ _ _ hS (gls_sub hl [0] rfl)
theorem sX4_stepOn_b81 {p : Program} {l : Launch} {e : Env} {R : Room} {s : State} {m : MethodId} {args : Array Value} {below : List Frame} {meth : Method} {c : Code} {E : g_E} {D : g_D} (C : gC p R s m args meth c cX4_stepOn 3 RX4 "stepOn" (none) 2 85 E D) : ∀ (n : Nat) (t : Nat) (G : g_G) (q : g_G), fX4_stepOn_b81 E n t G = some q → ∀ (H : Heap) (locs : List Loc) (cells slots : Nat) (ls : Array Slot), gSt E D G H locs → gls ls 3 [(0, .inr (.inr (some t)))] → gT p l e R s m args below meth c E D H locs cells slots none q (F0 m 81 ls []) := by
  obtain ⟨hx, hb, hml, hown, hts, hKn, hRc, hRs, hc1, hc2, hRf, hRl, hr, hlk, hnm⟩ := id C
  intro n
  induction n with
  | zero =>
    intro t G q h
    exact g_no h
  | succ n ih =>
    intro t G q h H locs cells slots ls hS hl
    rw [fX4_stepOn_b81] at h
    refine g_aload_n hx hb hl 0 rfl dX4_stepOn_81 ?_
    refine g_aload_n hx hb hl 0 rfl dX4_stepOn_82 ?_
    refine g_rdI hx hb hown hts hKn hS h fd_4_4_11 rfl (Or.inl (hts _ q1876)) (fun _ z => z) dX4_stepOn_83 (fun x83 h => ?_)
    obtain ⟨b86, hb86, h⟩ := g_bnd h
    obtain ⟨hr86, hk86⟩ := g_chk hb86
    obtain ⟨z86, h86, h⟩ := g_bnd h
    refine g_callV (n := 1) (b := b86) (av := [.inl x83]) (rs := []) hx hb hml hown hts hKn hRc hRs hS hl (sX4_byteAt l E D h86) (lw_V q2096 q2098 qs50 q135 q2099) ⟨rfl, by decide, by decide, by decide +kernel⟩ ⟨by rw [hRf]; exact Nat.le_of_ble_eq_true rfl, by rw [hRl]; exact Nat.le_of_ble_eq_true rfl⟩ (g_recv hKn hS hk86 (by decide) (by decide)) rfl (by rw [hr86]; rfl) (Nat.le_of_ble_eq_true rfl) dX4_stepOn_86 (fun H locs cells slots hS => ?_)
    obtain ⟨z89, h89, h⟩ := g_bnd h
    refine g_callS (n := 1) (av := [.inl z86.1]) (rs := []) hx hb hml hown hts hKn hRc hRs hS hl (sX4_isLetter l E D h89) (lw_S q2100 q2101 q135 q2102) ⟨by decide, by decide, by decide +kernel⟩ ⟨by rw [hRf]; exact Nat.le_of_ble_eq_true rfl, by rw [hRl]; exact Nat.le_of_ble_eq_true rfl⟩ rfl rfl (Nat.le_of_ble_eq_true rfl) dX4_stepOn_89 (fun H locs cells slots hS => ?_)
    refine lv_if_eq (tgt := 108) hx hb dX4_stepOn_92 (by decide) (fun c_92 => ?_) (fun c_92 => ?_)
    · have h := g_ift c_92 h
      refine g_aload_n hx hb hl 0 rfl dX4_stepOn_108 ?_
      refine lv_iconst (v := 1) hx hb dX4_stepOn_109 (by decide) ?_
      refine g_ptI hx hb hown hts hKn hS h fd_4_4_13 (Or.inl (hts _ q1878)) (fun _ z => z) (fun z => nomatch z) dX4_stepOn_110 (fun G110 h H locs hS => ?_)
      refine lv_goto (tgt := 279) hx hb dX4_stepOn_113 (by decide) ?_
      exact sX4_stepOn_b279 C _ _ _ h _ _ _ _ _ hS (gls_sub hl [0] rfl)
    · have h := g_iff c_92 h
      refine g_aload_n hx hb hl 0 rfl dX4_stepOn_95 ?_
      refine lv_dup hx hb dX4_stepOn_96 (by first | exact va_rf_cat _ | rfl | exact g_catA _) ?_
      refine g_rdI hx hb hown hts hKn hS h fd_4_4_11 rfl (Or.inl (hts _ q1876)) (fun _ z => z) dX4_stepOn_97 (fun x97 h => ?_)
      refine lv_iconst (v := 1) hx hb dX4_stepOn_100 (by decide) ?_
      refine lv_iadd hx hb dX4_stepOn_101 ?_
      refine g_ptI hx hb hown hts hKn hS h fd_4_4_11 (Or.inl (hts _ q1876)) (fun _ z => z) (fun z => nomatch z) dX4_stepOn_102 (fun G102 h H locs hS => ?_)
      refine lv_goto (tgt := 81) hx hb dX4_stepOn_105 (by decide) ?_
      exact ih _ _ _ h _ _ _ _ _ hS (gls_sub hl [0] rfl)
theorem sX4_stepOn_b26 {p : Program} {l : Launch} {e : Env} {R : Room} {s : State} {m : MethodId} {args : Array Value} {below : List Frame} {meth : Method} {c : Code} {E : g_E} {D : g_D} (C : gC p R s m args meth c cX4_stepOn 3 RX4 "stepOn" (none) 2 85 E D) {k0 : Nat → g_G → Option (g_G)} (hk0 : ∀ (t : Nat) (G : g_G) (q : g_G), k0 t G = some q → ∀ (H : Heap) (locs : List Loc) (cells slots : Nat) (ls : Array Slot), gSt E D G H locs → gls ls 3 [(0, .inr (.inr (some t)))] → gT p l e R s m args below meth c E D H locs cells slots none q (F0 m 0 ls [])) : ∀ (t : Nat) (G : g_G) (q : g_G), fX4_stepOn_b26 E k0 t G = some q → ∀ (H : Heap) (locs : List Loc) (cells slots : Nat) (ls : Array Slot), gSt E D G H locs → gls ls 3 [(0, .inr (.inr (some t)))] → gT p l e R s m args below meth c E D H locs cells slots none q (F0 m 26 ls []) := by
  obtain ⟨hx, hb, hml, hown, hts, hKn, hRc, hRs, hc1, hc2, hRf, hRl, hr, hlk, hnm⟩ := id C
  intro t G q h H locs cells slots ls hS hl
  unfold fX4_stepOn_b26 at h
  refine g_aload_n hx hb hl 0 rfl dX4_stepOn_26 ?_
  refine lv_dup hx hb dX4_stepOn_27 (by first | exact va_rf_cat _ | rfl | exact g_catA _) ?_
  refine g_rdI hx hb hown hts hKn hS h fd_4_4_11 rfl (Or.inl (hts _ q1876)) (fun _ z => z) dX4_stepOn_28 (fun x28 h => ?_)
  refine lv_iconst (v := 1) hx hb dX4_stepOn_31 (by decide) ?_
  refine lv_iadd hx hb dX4_stepOn_32 ?_
  refine g_ptI hx hb hown hts hKn hS h fd_4_4_11 (Or.inl (hts _ q1876)) (fun _ z => z) (fun z => nomatch z) dX4_stepOn_33 (fun G33 h H locs hS => ?_)
  refine lv_goto (tgt := 0) hx hb dX4_stepOn_36 (by decide) ?_
  exact hk0 _ _ _ h _ _ _ _ _ hS (gls_sub hl [0] rfl)
theorem sX4_stepOn_b0 {p : Program} {l : Launch} {e : Env} {R : Room} {s : State} {m : MethodId} {args : Array Value} {below : List Frame} {meth : Method} {c : Code} {E : g_E} {D : g_D} (C : gC p R s m args meth c cX4_stepOn 3 RX4 "stepOn" (none) 2 85 E D) : ∀ (n : Nat) (t : Nat) (G : g_G) (q : g_G), fX4_stepOn_b0 E n t G = some q → ∀ (H : Heap) (locs : List Loc) (cells slots : Nat) (ls : Array Slot), gSt E D G H locs → gls ls 3 [(0, .inr (.inr (some t)))] → gT p l e R s m args below meth c E D H locs cells slots none q (F0 m 0 ls []) := by
  obtain ⟨hx, hb, hml, hown, hts, hKn, hRc, hRs, hc1, hc2, hRf, hRl, hr, hlk, hnm⟩ := id C
  intro n
  induction n with
  | zero =>
    intro t G q h
    exact g_no h
  | succ n ih =>
    intro t G q h H locs cells slots ls hS hl
    rw [fX4_stepOn_b0] at h
    refine g_aload_n hx hb hl 0 rfl dX4_stepOn_0 ?_
    refine g_aload_n hx hb hl 0 rfl dX4_stepOn_1 ?_
    refine g_rdI hx hb hown hts hKn hS h fd_4_4_11 rfl (Or.inl (hts _ q1876)) (fun _ z => z) dX4_stepOn_2 (fun x2 h => ?_)
    obtain ⟨b5, hb5, h⟩ := g_bnd h
    obtain ⟨hr5, hk5⟩ := g_chk hb5
    obtain ⟨z5, h5, h⟩ := g_bnd h
    refine g_callV (n := 1) (b := b5) (av := [.inl x2]) (rs := []) hx hb hml hown hts hKn hRc hRs hS hl (sX4_byteAt l E D h5) (lw_V q2096 q2098 qs50 q135 q2099) ⟨rfl, by decide, by decide, by decide +kernel⟩ ⟨by rw [hRf]; exact Nat.le_of_ble_eq_true rfl, by rw [hRl]; exact Nat.le_of_ble_eq_true rfl⟩ (g_recv hKn hS hk5 (by decide) (by decide)) rfl (by rw [hr5]; rfl) (Nat.le_of_ble_eq_true rfl) dX4_stepOn_5 (fun H locs cells slots hS => ?_)
    refine lv_bipush (v := 32) hx hb dX4_stepOn_8 (by decide) ?_
    refine lv_icmp_eq (tgt := 26) hx hb dX4_stepOn_10 (by decide) (fun c_10 => ?_) (fun c_10 => ?_)
    · have h := g_ift c_10 h
      exact sX4_stepOn_b26 C ih _ _ _ h _ _ _ _ _ hS (gls_sub hl [0] rfl)
    · have h := g_iff c_10 h
      refine g_aload_n hx hb hl 0 rfl dX4_stepOn_13 ?_
      refine g_aload_n hx hb hl 0 rfl dX4_stepOn_14 ?_
      refine g_rdI hx hb hown hts hKn hS h fd_4_4_11 rfl (Or.inl (hts _ q1876)) (fun _ z => z) dX4_stepOn_15 (fun x15 h => ?_)
      obtain ⟨b18, hb18, h⟩ := g_bnd h
      obtain ⟨hr18, hk18⟩ := g_chk hb18
      obtain ⟨z18, h18, h⟩ := g_bnd h
      refine g_callV (n := 1) (b := b18) (av := [.inl x15]) (rs := []) hx hb hml hown hts hKn hRc hRs hS hl (sX4_byteAt l E D h18) (lw_V q2096 q2098 qs50 q135 q2099) ⟨rfl, by decide, by decide, by decide +kernel⟩ ⟨by rw [hRf]; exact Nat.le_of_ble_eq_true rfl, by rw [hRl]; exact Nat.le_of_ble_eq_true rfl⟩ (g_recv hKn hS hk18 (by decide) (by decide)) rfl (by rw [hr18]; rfl) (Nat.le_of_ble_eq_true rfl) dX4_stepOn_18 (fun H locs cells slots hS => ?_)
      refine lv_bipush (v := 10) hx hb dX4_stepOn_21 (by decide) ?_
      refine lv_icmp_ne (tgt := 39) hx hb dX4_stepOn_23 (by decide) (fun c_23 => ?_) (fun c_23 => ?_)
      · have h := g_ift c_23 h
        refine g_aload_n hx hb hl 0 rfl dX4_stepOn_39 ?_
        refine g_aload_n hx hb hl 0 rfl dX4_stepOn_40 ?_
        refine g_rdI hx hb hown hts hKn hS h fd_4_4_11 rfl (Or.inl (hts _ q1876)) (fun _ z => z) dX4_stepOn_41 (fun x41 h => ?_)
        refine g_ptI hx hb hown hts hKn hS h fd_4_4_16 (Or.inl (hts _ q1881)) (fun _ z => z) (fun z => nomatch z) dX4_stepOn_44 (fun G44 h H locs hS => ?_)
        refine g_aload_n hx hb hl 0 rfl dX4_stepOn_47 ?_
        refine lv_iconst (v := 0) hx hb dX4_stepOn_48 (by decide) ?_
        refine g_ptI hx hb hown hts hKn hS h fd_4_4_14 (Or.inl (hts _ q1879)) (fun _ z => z) (fun z => nomatch z) dX4_stepOn_49 (fun G49 h H locs hS => ?_)
        refine g_aload_n hx hb hl 0 rfl dX4_stepOn_52 ?_
        refine g_aload_n hx hb hl 0 rfl dX4_stepOn_53 ?_
        refine g_rdI hx hb hown hts hKn hS h fd_4_4_11 rfl (Or.inl (hts _ q1876)) (fun _ z => z) dX4_stepOn_54 (fun x54 h => ?_)
        obtain ⟨b57, hb57, h⟩ := g_bnd h
        obtain ⟨hr57, hk57⟩ := g_chk hb57
        obtain ⟨z57, h57, h⟩ := g_bnd h
        refine g_callV (n := 1) (b := b57) (av := [.inl x54]) (rs := []) hx hb hml hown hts hKn hRc hRs hS hl (sX4_byteAt l E D h57) (lw_V q2096 q2098 qs50 q135 q2099) ⟨rfl, by decide, by decide, by decide +kernel⟩ ⟨by rw [hRf]; exact Nat.le_of_ble_eq_true rfl, by rw [hRl]; exact Nat.le_of_ble_eq_true rfl⟩ (g_recv hKn hS hk57 (by decide) (by decide)) rfl (by rw [hr57]; rfl) (Nat.le_of_ble_eq_true rfl) dX4_stepOn_57 (fun H locs cells slots hS => ?_)
        refine g_istore_n (l1 := [(1, .inl z57.1), (0, .inr (.inr (some t)))]) hx hb hl (by decide) rfl dX4_stepOn_60 (fun ls hl => ?_)
        refine g_iload_n hx hb hl 0 rfl dX4_stepOn_61 ?_
        refine lv_iconst (v := (-1)) hx hb dX4_stepOn_62 (by decide) ?_
        refine lv_icmp_ne (tgt := 74) hx hb dX4_stepOn_63 (by decide) (fun c_63 => ?_) (fun c_63 => ?_)
        · have h := g_ift c_63 h
          refine g_iload_n hx hb hl 0 rfl dX4_stepOn_74 ?_
          obtain ⟨z75, h75, h⟩ := g_bnd h
          refine g_callS (n := 1) (av := [.inl z57.1]) (rs := []) hx hb hml hown hts hKn hRc hRs hS hl (sX4_isLetter l E D h75) (lw_S q2100 q2101 q135 q2102) ⟨by decide, by decide, by decide +kernel⟩ ⟨by rw [hRf]; exact Nat.le_of_ble_eq_true rfl, by rw [hRl]; exact Nat.le_of_ble_eq_true rfl⟩ rfl rfl (Nat.le_of_ble_eq_true rfl) dX4_stepOn_75 (fun H locs cells slots hS => ?_)
          refine lv_if_eq (tgt := 116) hx hb dX4_stepOn_78 (by decide) (fun c_78 => ?_) (fun c_78 => ?_)
          · have h := g_ift c_78 h
            refine g_iload_n hx hb hl 0 rfl dX4_stepOn_116 ?_
            obtain ⟨z117, h117, h⟩ := g_bnd h
            refine g_callS (n := 1) (av := [.inl z57.1]) (rs := []) hx hb hml hown hts hKn hRc hRs hS hl (sX4_isDigit l E D h117) (lw_S q2103 q2104 q135 q2105) ⟨by decide, by decide, by decide +kernel⟩ ⟨by rw [hRf]; exact Nat.le_of_ble_eq_true rfl, by rw [hRl]; exact Nat.le_of_ble_eq_true rfl⟩ rfl rfl (Nat.le_of_ble_eq_true rfl) dX4_stepOn_117 (fun H locs cells slots hS => ?_)
            refine lv_if_eq (tgt := 191) hx hb dX4_stepOn_120 (by decide) (fun c_120 => ?_) (fun c_120 => ?_)
            · have h := g_ift c_120 h
              refine g_aload_n hx hb hl 1 rfl dX4_stepOn_191 ?_
              refine lv_dup hx hb dX4_stepOn_192 (by first | exact va_rf_cat _ | rfl | exact g_catA _) ?_
              refine g_rdI hx hb hown hts hKn hS h fd_4_4_11 rfl (Or.inl (hts _ q1876)) (fun _ z => z) dX4_stepOn_193 (fun x193 h => ?_)
              refine lv_iconst (v := 1) hx hb dX4_stepOn_196 (by decide) ?_
              refine lv_iadd hx hb dX4_stepOn_197 ?_
              refine g_ptI hx hb hown hts hKn hS h fd_4_4_11 (Or.inl (hts _ q1876)) (fun _ z => z) (fun z => nomatch z) dX4_stepOn_198 (fun G198 h H locs hS => ?_)
              refine g_iload_n hx hb hl 0 rfl dX4_stepOn_201 ?_
              refine lv_bipush (v := 59) hx hb dX4_stepOn_202 (by decide) ?_
              refine lv_icmp_eq (tgt := 255) hx hb dX4_stepOn_204 (by decide) (fun c_204 => ?_) (fun c_204 => ?_)
              · have h := g_ift c_204 h
                exact sX4_stepOn_b255 C _ _ _ _ h _ _ _ _ _ hS (gls_sub hl [1, 0] rfl)
              · have h := g_iff c_204 h
                refine g_iload_n hx hb hl 0 rfl dX4_stepOn_207 ?_
                refine lv_bipush (v := 40) hx hb dX4_stepOn_208 (by decide) ?_
                refine lv_icmp_eq (tgt := 255) hx hb dX4_stepOn_210 (by decide) (fun c_210 => ?_) (fun c_210 => ?_)
                · have h := g_ift c_210 h
                  exact sX4_stepOn_b255 C _ _ _ _ h _ _ _ _ _ hS (gls_sub hl [1, 0] rfl)
                · have h := g_iff c_210 h
                  refine g_iload_n hx hb hl 0 rfl dX4_stepOn_213 ?_
                  refine lv_bipush (v := 41) hx hb dX4_stepOn_214 (by decide) ?_
                  refine lv_icmp_eq (tgt := 255) hx hb dX4_stepOn_216 (by decide) (fun c_216 => ?_) (fun c_216 => ?_)
                  · have h := g_ift c_216 h
                    exact sX4_stepOn_b255 C _ _ _ _ h _ _ _ _ _ hS (gls_sub hl [1, 0] rfl)
                  · have h := g_iff c_216 h
                    refine g_iload_n hx hb hl 0 rfl dX4_stepOn_219 ?_
                    refine lv_bipush (v := 43) hx hb dX4_stepOn_220 (by decide) ?_
                    refine lv_icmp_eq (tgt := 255) hx hb dX4_stepOn_222 (by decide) (fun c_222 => ?_) (fun c_222 => ?_)
                    · have h := g_ift c_222 h
                      exact sX4_stepOn_b255 C _ _ _ _ h _ _ _ _ _ hS (gls_sub hl [1, 0] rfl)
                    · have h := g_iff c_222 h
                      refine g_iload_n hx hb hl 0 rfl dX4_stepOn_225 ?_
                      refine lv_bipush (v := 45) hx hb dX4_stepOn_226 (by decide) ?_
                      refine lv_icmp_eq (tgt := 255) hx hb dX4_stepOn_228 (by decide) (fun c_228 => ?_) (fun c_228 => ?_)
                      · have h := g_ift c_228 h
                        exact sX4_stepOn_b255 C _ _ _ _ h _ _ _ _ _ hS (gls_sub hl [1, 0] rfl)
                      · have h := g_iff c_228 h
                        refine g_iload_n hx hb hl 0 rfl dX4_stepOn_231 ?_
                        refine lv_bipush (v := 42) hx hb dX4_stepOn_232 (by decide) ?_
                        refine lv_icmp_eq (tgt := 255) hx hb dX4_stepOn_234 (by decide) (fun c_234 => ?_) (fun c_234 => ?_)
                        · have h := g_ift c_234 h
                          exact sX4_stepOn_b255 C _ _ _ _ h _ _ _ _ _ hS (gls_sub hl [1, 0] rfl)
                        · have h := g_iff c_234 h
                          refine g_iload_n hx hb hl 0 rfl dX4_stepOn_237 ?_
                          refine lv_bipush (v := 47) hx hb dX4_stepOn_238 (by decide) ?_
                          refine lv_icmp_eq (tgt := 255) hx hb dX4_stepOn_240 (by decide) (fun c_240 => ?_) (fun c_240 => ?_)
                          · have h := g_ift c_240 h
                            exact sX4_stepOn_b255 C _ _ _ _ h _ _ _ _ _ hS (gls_sub hl [1, 0] rfl)
                          · have h := g_iff c_240 h
                            refine g_iload_n hx hb hl 0 rfl dX4_stepOn_243 ?_
                            refine lv_bipush (v := 60) hx hb dX4_stepOn_244 (by decide) ?_
                            refine lv_icmp_eq (tgt := 255) hx hb dX4_stepOn_246 (by decide) (fun c_246 => ?_) (fun c_246 => ?_)
                            · have h := g_ift c_246 h
                              exact sX4_stepOn_b255 C _ _ _ _ h _ _ _ _ _ hS (gls_sub hl [1, 0] rfl)
                            · have h := g_iff c_246 h
                              refine g_iload_n hx hb hl 0 rfl dX4_stepOn_249 ?_
                              refine lv_bipush (v := 61) hx hb dX4_stepOn_250 (by decide) ?_
                              refine lv_icmp_ne (tgt := 259) hx hb dX4_stepOn_252 (by decide) (fun c_252 => ?_) (fun c_252 => ?_)
                              · have h := g_ift c_252 h
                                refine lv_iconst (v := 0) hx hb dX4_stepOn_259 (by decide) ?_
                                exact sX4_stepOn_b260 C _ _ _ _ _ h _ _ _ _ _ hS (gls_sub hl [1, 0] rfl)
                              · have h := g_iff (fun z => z c_252) h
                                exact sX4_stepOn_b255 C _ _ _ _ h _ _ _ _ _ hS (gls_sub hl [1, 0] rfl)
            · have h := g_iff c_120 h
              refine g_aload_n hx hb hl 1 rfl dX4_stepOn_123 ?_
              refine lv_iconst (v := 0) hx hb dX4_stepOn_124 (by decide) ?_
              refine g_ptI hx hb hown hts hKn hS h fd_4_4_15 (Or.inl (hts _ q1880)) (fun _ z => z) (fun z => nomatch z) dX4_stepOn_125 (fun G125 h H locs hS => ?_)
              exact sX4_stepOn_b128 C gFU _ _ _ h _ _ _ _ _ hS (gls_sub hl [1] rfl)
          · have h := g_iff c_78 h
            exact sX4_stepOn_b81 C gFU _ _ _ h _ _ _ _ _ hS (gls_sub hl [1] rfl)
        · have h := g_iff (fun z => z c_63) h
          refine g_aload_n hx hb hl 1 rfl dX4_stepOn_66 ?_
          refine lv_iconst (v := 0) hx hb dX4_stepOn_67 (by decide) ?_
          refine g_ptI hx hb hown hts hKn hS h fd_4_4_13 (Or.inl (hts _ q1878)) (fun _ z => z) (fun z => nomatch z) dX4_stepOn_68 (fun G68 h H locs hS => ?_)
          refine lv_goto (tgt := 279) hx hb dX4_stepOn_71 (by decide) ?_
          exact sX4_stepOn_b279 C _ _ _ h _ _ _ _ _ hS (gls_sub hl [1] rfl)
      · have h := g_iff (fun z => z c_23) h
        exact sX4_stepOn_b26 C ih _ _ _ h _ _ _ _ _ hS (gls_sub hl [0] rfl)
theorem sX4_stepOn (l : Launch) (E : g_E) (D : g_D) {t : Nat} {G : g_G} {q : g_G} (h : fX4_stepOn E t G = some q) : gMet l E D yX4_stepOn (ws_ yX4_stepOn cX4_stepOn 3 (none)) 2 85 [.inr (.inr (some t))] G none q := by
  refine gMet.of (by decide +kernel) (Nat.le_of_ble_eq_true rfl) ?_
  intro p e R s m args below meth c C hS ls hl
  have C : gC p R s m args meth c cX4_stepOn 3 RX4 "stepOn" (none) 2 85 E D := C
  obtain ⟨hx, hb, hml, hown, hts, hKn, hRc, hRs, hc1, hc2, hRf, hRl, hr, hlk, hnm⟩ := id C
  have hl : gls ls 3 [(0, .inr (.inr (some t)))] := hl
  generalize s.heap = H at hS ⊢
  unfold fX4_stepOn at h
  exact sX4_stepOn_b0 C gFU _ _ _ h _ _ _ _ _ hS (gls_sub hl [0] rfl)
/-- SendHallModel.tellRing()V -/
def fX4_tellRing_b179 (E : g_E) : Nat → Nat → Int32 → Int32 → g_G → Option (g_G)
  | 0, _, _, _, _ => none
  | n + 1, t, v3, v4, G =>
    (grI G 4 4 (some t) 60).bind fun x182 =>
    if x182 ≤ v4 then (
      some G)
    else (
      (grR G 4 4 (some t) 63).bind fun x189 =>
      (grR G 4 4 (some t) 63).bind fun x195 =>
      (gaI G 100 x195 (v3 + v4)).bind fun x202 =>
      (gsaI E G x189 v4 x202).bind fun G203 =>
      fX4_tellRing_b179 E n t v3 (v4 + 1) G203)
def fX4_tellRing_b134 (E : g_E) (t : Nat) (v1 : Int32) (v2 : Int32) (G : g_G) : Option (g_G) :=
  (grI G 4 4 (some t) 3).bind fun x136 =>
  if x136 ≤ v1 then (
    some G)
  else (
    (gchk G 4 (some t)).bind fun b145 =>
    (fX4_own E b145 v1 0 G).bind fun z145 =>
    if z145.1 = (-1 : Int32) then (
      some z145.2)
    else (
      (grR z145.2 4 4 (some t) 64).bind fun x153 =>
      (gaI z145.2 100 x153 v1).bind fun x157 =>
      if ¬ x157 = 0 then (
        (grR z145.2 4 4 (some t) 65).bind fun x163 =>
        (gaI z145.2 100 x163 v1).bind fun x167 =>
        (gpI E z145.2 4 4 (some t) 60 (v2 - x167)).bind fun G173 =>
        fX4_tellRing_b179 E gFU t x167 0 G173)
      else (
        some z145.2)))
def fX4_tellRing_b110 (E : g_E) (k54 : Nat → Int32 → Int32 → g_G → Option (g_G)) : Nat → Nat → Int32 → Int32 → Int32 → g_G → Option (g_G)
  | 0, _, _, _, _, _ => none
  | n + 1, t, v1, v2, v3, G =>
    (grR G 4 4 (some t) 64).bind fun x111 =>
    (gaI G 100 x111 v1).bind fun x115 =>
    if ¬ ((x115 >>> (v3 &&& 31)) &&& 1) = 0 then (
      k54 t v3 v2 G)
    else (
      fX4_tellRing_b110 E k54 n t v1 v2 (v3 + 1) G)
def fX4_tellRing_b54 (E : g_E) : Nat → Nat → Int32 → Int32 → g_G → Option (g_G)
  | 0, _, _, _, _ => none
  | n + 1, t, v1, v2, G =>
    (grI G 4 4 (some t) 3).bind fun x56 =>
    if x56 ≤ v1 then (
      fX4_tellRing_b134 E t v1 v2 G)
    else (
      (gchk G 4 (some t)).bind fun b65 =>
      (fX4_own E b65 v1 0 G).bind fun z65 =>
      if z65.1 = (-1 : Int32) then (
        fX4_tellRing_b134 E t v1 v2 z65.2)
      else (
        (grR z65.2 4 4 (some t) 64).bind fun x73 =>
        (gaI z65.2 100 x73 v1).bind fun x77 =>
        if x77 = 0 then (
          fX4_tellRing_b134 E t v1 v2 z65.2)
        else (
          (grR z65.2 4 4 (some t) 65).bind fun x82 =>
          (gaI z65.2 100 x82 v1).bind fun x86 =>
          if ¬ x86 = (-1 : Int32) then (
            fX4_tellRing_b134 E t v1 v2 z65.2)
          else (
            (grR z65.2 4 4 (some t) 65).bind fun x92 =>
            (gsaI E z65.2 x92 v1 v2).bind fun G97 =>
            (grR G97 4 4 (some t) 63).bind fun x99 =>
            (gsaI E G97 x99 v2 v1).bind fun G104 =>
            fX4_tellRing_b110 E (fX4_tellRing_b54 E n) gFU t v1 (v2 + 1) 0 G104))))
def fX4_tellRing_b33 (E : g_E) : Nat → Nat → Int32 → Int32 → g_G → Option (g_G)
  | 0, _, _, _, _ => none
  | n + 1, t, v1, v2, G =>
    if (8 : Int32) ≤ v2 then (
      fX4_tellRing_b54 E gFU t v1 0 G)
    else (
      (grR G 4 4 (some t) 65).bind fun x40 =>
      (gsaI E G x40 v2 (-1)).bind fun G45 =>
      fX4_tellRing_b33 E n t v1 (v2 + 1) G45)
def fX4_tellRing_b31 (E : g_E) (t : Nat) (v1 : Int32) (G : g_G) : Option (g_G) :=
  fX4_tellRing_b33 E gFU t v1 0 G
def fX4_tellRing_b7 (E : g_E) : Nat → Nat → Int32 → g_G → Option (g_G)
  | 0, _, _, _ => none
  | n + 1, t, v1, G =>
    (grI G 4 4 (some t) 3).bind fun x9 =>
    if x9 ≤ v1 then (
      fX4_tellRing_b31 E t v1 G)
    else (
      (gchk G 4 (some t)).bind fun b18 =>
      (fX4_own E b18 v1 0 G).bind fun z18 =>
      if ¬ z18.1 = (-1 : Int32) then (
        fX4_tellRing_b31 E t v1 z18.2)
      else (
        fX4_tellRing_b7 E n t (v1 + 1) z18.2))
def fX4_tellRing (E : g_E) (t : Nat) (G : g_G) : Option (g_G) :=
  (gpI E G 4 4 (some t) 60 0).bind fun G2 =>
  fX4_tellRing_b7 E gFU t 0 G2
theorem sX4_tellRing_b179 {p : Program} {l : Launch} {e : Env} {R : Room} {s : State} {m : MethodId} {args : Array Value} {below : List Frame} {meth : Method} {c : Code} {E : g_E} {D : g_D} (C : gC p R s m args meth c cX4_tellRing 5 RX4 "tellRing" (none) 2 86 E D) : ∀ (n : Nat) (t : Nat) (v3 : Int32) (v4 : Int32) (G : g_G) (q : g_G), fX4_tellRing_b179 E n t v3 v4 G = some q → ∀ (H : Heap) (locs : List Loc) (cells slots : Nat) (ls : Array Slot), gSt E D G H locs → gls ls 5 [(0, .inr (.inr (some t))), (3, .inl v3), (4, .inl v4)] → gT p l e R s m args below meth c E D H locs cells slots none q (F0 m 179 ls []) := by
  obtain ⟨hx, hb, hml, hown, hts, hKn, hRc, hRs, hc1, hc2, hRf, hRl, hr, hlk, hnm⟩ := id C
  intro n
  induction n with
  | zero =>
    intro t v3 v4 G q h
    exact g_no h
  | succ n ih =>
    intro t v3 v4 G q h H locs cells slots ls hS hl
    rw [fX4_tellRing_b179] at h
    refine g_iload hx hb hl 2 rfl dX4_tellRing_179 ?_
    refine g_aload_n hx hb hl 0 rfl dX4_tellRing_181 ?_
    refine g_rdI hx hb hown hts hKn hS h fd_4_4_60 rfl (Or.inl (hts _ q1925)) (fun _ z => z) dX4_tellRing_182 (fun x182 h => ?_)
    refine lv_icmp_ge (tgt := 210) hx hb dX4_tellRing_185 (by decide) (fun c_185 => ?_) (fun c_185 => ?_)
    · have h := g_ift c_185 h
      exact g_vretG hx hb hr hlk hKn hRc hRs hS h dX4_tellRing_210
    · have h := g_iff c_185 h
      refine g_aload_n hx hb hl 0 rfl dX4_tellRing_188 ?_
      refine g_rdR hx hb hown hts hKn hS h fd_4_4_63 rfl (Or.inl (hts _ q1928)) (fun _ z => z) dX4_tellRing_189 (fun x189 h => ?_)
      refine g_iload hx hb hl 2 rfl dX4_tellRing_192 ?_
      refine g_aload_n hx hb hl 0 rfl dX4_tellRing_194 ?_
      refine g_rdR hx hb hown hts hKn hS h fd_4_4_63 rfl (Or.inl (hts _ q1928)) (fun _ z => z) dX4_tellRing_195 (fun x195 h => ?_)
      refine g_iload_n hx hb hl 1 rfl dX4_tellRing_198 ?_
      refine g_iload hx hb hl 2 rfl dX4_tellRing_199 ?_
      refine lv_iadd hx hb dX4_tellRing_201 ?_
      refine g_ialoadG hx hb hKn hS h dX4_tellRing_202 (fun x202 h => ?_)
      refine g_iastoreG hx hb hKn hS h dX4_tellRing_203 (fun G203 h H locs hS => ?_)
      refine g_iinc (l1 := [(4, .inl (v4 + 1)), (0, .inr (.inr (some t))), (3, .inl v3)]) (v := (v4 + 1)) hx hb hl (k := 2) rfl (by rfl) (by decide) rfl dX4_tellRing_204 (fun ls hl => ?_)
      refine lv_goto (tgt := 179) hx hb dX4_tellRing_207 (by decide) ?_
      exact ih _ _ _ _ _ h _ _ _ _ _ hS (gls_sub hl [1, 2, 0] rfl)
theorem sX4_tellRing_b134 {p : Program} {l : Launch} {e : Env} {R : Room} {s : State} {m : MethodId} {args : Array Value} {below : List Frame} {meth : Method} {c : Code} {E : g_E} {D : g_D} (C : gC p R s m args meth c cX4_tellRing 5 RX4 "tellRing" (none) 2 86 E D) : ∀ (t : Nat) (v1 : Int32) (v2 : Int32) (G : g_G) (q : g_G), fX4_tellRing_b134 E t v1 v2 G = some q → ∀ (H : Heap) (locs : List Loc) (cells slots : Nat) (ls : Array Slot), gSt E D G H locs → gls ls 5 [(0, .inr (.inr (some t))), (1, .inl v1), (2, .inl v2)] → gT p l e R s m args below meth c E D H locs cells slots none q (F0 m 134 ls []) := by
  obtain ⟨hx, hb, hml, hown, hts, hKn, hRc, hRs, hc1, hc2, hRf, hRl, hr, hlk, hnm⟩ := id C
  intro t v1 v2 G q h H locs cells slots ls hS hl
  unfold fX4_tellRing_b134 at h
  refine g_iload_n hx hb hl 1 rfl dX4_tellRing_134 ?_
  refine g_aload_n hx hb hl 0 rfl dX4_tellRing_135 ?_
  refine g_rdI hx hb hown hts hKn hS h fd_4_4_3 rfl (Or.inl (hts _ q1868)) (fun _ z => z) dX4_tellRing_136 (fun x136 h => ?_)
  refine lv_icmp_ge (tgt := 161) hx hb dX4_tellRing_139 (by decide) (fun c_139 => ?_) (fun c_139 => ?_)
  · have h := g_ift c_139 h
    exact g_vretG hx hb hr hlk hKn hRc hRs hS h dX4_tellRing_161
  · have h := g_iff c_139 h
    refine g_aload_n hx hb hl 0 rfl dX4_tellRing_142 ?_
    refine g_iload_n hx hb hl 1 rfl dX4_tellRing_143 ?_
    refine lv_iconst (v := 0) hx hb dX4_tellRing_144 (by decide) ?_
    obtain ⟨b145, hb145, h⟩ := g_bnd h
    obtain ⟨hr145, hk145⟩ := g_chk hb145
    obtain ⟨z145, h145, h⟩ := g_bnd h
    refine g_callV (n := 2) (b := b145) (av := [.inl v1, .inl 0]) (rs := []) hx hb hml hown hts hKn hRc hRs hS hl (sX4_own l E D h145) (lw_V q2245 q2247 qs77 q135 q2248) ⟨rfl, by decide, by decide, by decide +kernel⟩ ⟨by rw [hRf]; exact Nat.le_of_ble_eq_true rfl, by rw [hRl]; exact Nat.le_of_ble_eq_true rfl⟩ (g_recv hKn hS hk145 (by decide) (by decide)) rfl (by rw [hr145]; rfl) (Nat.le_of_ble_eq_true rfl) dX4_tellRing_145 (fun H locs cells slots hS => ?_)
    refine lv_iconst (v := (-1)) hx hb dX4_tellRing_148 (by decide) ?_
    refine lv_icmp_eq (tgt := 161) hx hb dX4_tellRing_149 (by decide) (fun c_149 => ?_) (fun c_149 => ?_)
    · have h := g_ift c_149 h
      exact g_vretG hx hb hr hlk hKn hRc hRs hS h dX4_tellRing_161
    · have h := g_iff c_149 h
      refine g_aload_n hx hb hl 0 rfl dX4_tellRing_152 ?_
      refine g_rdR hx hb hown hts hKn hS h fd_4_4_64 rfl (Or.inl (hts _ q1929)) (fun _ z => z) dX4_tellRing_153 (fun x153 h => ?_)
      refine g_iload_n hx hb hl 1 rfl dX4_tellRing_156 ?_
      refine g_ialoadG hx hb hKn hS h dX4_tellRing_157 (fun x157 h => ?_)
      refine lv_if_ne (tgt := 162) hx hb dX4_tellRing_158 (by decide) (fun c_158 => ?_) (fun c_158 => ?_)
      · have h := g_ift c_158 h
        refine g_aload_n hx hb hl 0 rfl dX4_tellRing_162 ?_
        refine g_rdR hx hb hown hts hKn hS h fd_4_4_65 rfl (Or.inl (hts _ q1930)) (fun _ z => z) dX4_tellRing_163 (fun x163 h => ?_)
        refine g_iload_n hx hb hl 1 rfl dX4_tellRing_166 ?_
        refine g_ialoadG hx hb hKn hS h dX4_tellRing_167 (fun x167 h => ?_)
        refine g_istore_n (l1 := [(3, .inl x167), (0, .inr (.inr (some t))), (1, .inl v1), (2, .inl v2)]) hx hb hl (by decide) rfl dX4_tellRing_168 (fun ls hl => ?_)
        refine g_aload_n hx hb hl 1 rfl dX4_tellRing_169 ?_
        refine g_iload_n hx hb hl 3 rfl dX4_tellRing_170 ?_
        refine g_iload_n hx hb hl 0 rfl dX4_tellRing_171 ?_
        refine lv_isub hx hb dX4_tellRing_172 ?_
        refine g_ptI hx hb hown hts hKn hS h fd_4_4_60 (Or.inl (hts _ q1925)) (fun _ z => z) (fun z => nomatch z) dX4_tellRing_173 (fun G173 h H locs hS => ?_)
        refine lv_iconst (v := 0) hx hb dX4_tellRing_176 (by decide) ?_
        refine g_istore (l1 := [(4, .inl 0), (3, .inl x167), (0, .inr (.inr (some t))), (1, .inl v1), (2, .inl v2)]) hx hb hl (by decide) rfl dX4_tellRing_177 (fun ls hl => ?_)
        exact sX4_tellRing_b179 C gFU _ _ _ _ _ h _ _ _ _ _ hS (gls_sub hl [2, 1, 0] rfl)
      · have h := g_iff (fun z => z c_158) h
        exact g_vretG hx hb hr hlk hKn hRc hRs hS h dX4_tellRing_161
theorem sX4_tellRing_b110 {p : Program} {l : Launch} {e : Env} {R : Room} {s : State} {m : MethodId} {args : Array Value} {below : List Frame} {meth : Method} {c : Code} {E : g_E} {D : g_D} (C : gC p R s m args meth c cX4_tellRing 5 RX4 "tellRing" (none) 2 86 E D) {k54 : Nat → Int32 → Int32 → g_G → Option (g_G)} (hk54 : ∀ (t : Nat) (v1 : Int32) (v2 : Int32) (G : g_G) (q : g_G), k54 t v1 v2 G = some q → ∀ (H : Heap) (locs : List Loc) (cells slots : Nat) (ls : Array Slot), gSt E D G H locs → gls ls 5 [(0, .inr (.inr (some t))), (1, .inl v1), (2, .inl v2)] → gT p l e R s m args below meth c E D H locs cells slots none q (F0 m 54 ls [])) : ∀ (n : Nat) (t : Nat) (v1 : Int32) (v2 : Int32) (v3 : Int32) (G : g_G) (q : g_G), fX4_tellRing_b110 E k54 n t v1 v2 v3 G = some q → ∀ (H : Heap) (locs : List Loc) (cells slots : Nat) (ls : Array Slot), gSt E D G H locs → gls ls 5 [(0, .inr (.inr (some t))), (1, .inl v1), (2, .inl v2), (3, .inl v3)] → gT p l e R s m args below meth c E D H locs cells slots none q (F0 m 110 ls []) := by
  obtain ⟨hx, hb, hml, hown, hts, hKn, hRc, hRs, hc1, hc2, hRf, hRl, hr, hlk, hnm⟩ := id C
  intro n
  induction n with
  | zero =>
    intro t v1 v2 v3 G q h
    exact g_no h
  | succ n ih =>
    intro t v1 v2 v3 G q h H locs cells slots ls hS hl
    rw [fX4_tellRing_b110] at h
    refine g_aload_n hx hb hl 0 rfl dX4_tellRing_110 ?_
    refine g_rdR hx hb hown hts hKn hS h fd_4_4_64 rfl (Or.inl (hts _ q1929)) (fun _ z => z) dX4_tellRing_111 (fun x111 h => ?_)
    refine g_iload_n hx hb hl 1 rfl dX4_tellRing_114 ?_
    refine g_ialoadG hx hb hKn hS h dX4_tellRing_115 (fun x115 h => ?_)
    refine g_iload_n hx hb hl 3 rfl dX4_tellRing_116 ?_
    refine lv_ishr hx hb dX4_tellRing_117 ?_
    refine lv_iconst (v := 1) hx hb dX4_tellRing_118 (by decide) ?_
    refine lv_iand hx hb dX4_tellRing_119 ?_
    refine lv_if_ne (tgt := 129) hx hb dX4_tellRing_120 (by decide) (fun c_120 => ?_) (fun c_120 => ?_)
    · have h := g_ift c_120 h
      refine g_iload_n hx hb hl 3 rfl dX4_tellRing_129 ?_
      refine g_istore_n (l1 := [(1, .inl v3), (0, .inr (.inr (some t))), (2, .inl v2), (3, .inl v3)]) hx hb hl (by decide) rfl dX4_tellRing_130 (fun ls hl => ?_)
      refine lv_goto (tgt := 54) hx hb dX4_tellRing_131 (by decide) ?_
      exact hk54 _ _ _ _ _ h _ _ _ _ _ hS (gls_sub hl [1, 0, 2] rfl)
    · have h := g_iff (fun z => z c_120) h
      refine g_iinc (l1 := [(3, .inl (v3 + 1)), (0, .inr (.inr (some t))), (1, .inl v1), (2, .inl v2)]) (v := (v3 + 1)) hx hb hl (k := 3) rfl (by rfl) (by decide) rfl dX4_tellRing_123 (fun ls hl => ?_)
      refine lv_goto (tgt := 110) hx hb dX4_tellRing_126 (by decide) ?_
      exact ih _ _ _ _ _ _ h _ _ _ _ _ hS (gls_sub hl [1, 2, 3, 0] rfl)
theorem sX4_tellRing_b54 {p : Program} {l : Launch} {e : Env} {R : Room} {s : State} {m : MethodId} {args : Array Value} {below : List Frame} {meth : Method} {c : Code} {E : g_E} {D : g_D} (C : gC p R s m args meth c cX4_tellRing 5 RX4 "tellRing" (none) 2 86 E D) : ∀ (n : Nat) (t : Nat) (v1 : Int32) (v2 : Int32) (G : g_G) (q : g_G), fX4_tellRing_b54 E n t v1 v2 G = some q → ∀ (H : Heap) (locs : List Loc) (cells slots : Nat) (ls : Array Slot), gSt E D G H locs → gls ls 5 [(0, .inr (.inr (some t))), (1, .inl v1), (2, .inl v2)] → gT p l e R s m args below meth c E D H locs cells slots none q (F0 m 54 ls []) := by
  obtain ⟨hx, hb, hml, hown, hts, hKn, hRc, hRs, hc1, hc2, hRf, hRl, hr, hlk, hnm⟩ := id C
  intro n
  induction n with
  | zero =>
    intro t v1 v2 G q h
    exact g_no h
  | succ n ih =>
    intro t v1 v2 G q h H locs cells slots ls hS hl
    rw [fX4_tellRing_b54] at h
    refine g_iload_n hx hb hl 1 rfl dX4_tellRing_54 ?_
    refine g_aload_n hx hb hl 0 rfl dX4_tellRing_55 ?_
    refine g_rdI hx hb hown hts hKn hS h fd_4_4_3 rfl (Or.inl (hts _ q1868)) (fun _ z => z) dX4_tellRing_56 (fun x56 h => ?_)
    refine lv_icmp_ge (tgt := 134) hx hb dX4_tellRing_59 (by decide) (fun c_59 => ?_) (fun c_59 => ?_)
    · have h := g_ift c_59 h
      exact sX4_tellRing_b134 C _ _ _ _ _ h _ _ _ _ _ hS (gls_sub hl [0, 1, 2] rfl)
    · have h := g_iff c_59 h
      refine g_aload_n hx hb hl 0 rfl dX4_tellRing_62 ?_
      refine g_iload_n hx hb hl 1 rfl dX4_tellRing_63 ?_
      refine lv_iconst (v := 0) hx hb dX4_tellRing_64 (by decide) ?_
      obtain ⟨b65, hb65, h⟩ := g_bnd h
      obtain ⟨hr65, hk65⟩ := g_chk hb65
      obtain ⟨z65, h65, h⟩ := g_bnd h
      refine g_callV (n := 2) (b := b65) (av := [.inl v1, .inl 0]) (rs := []) hx hb hml hown hts hKn hRc hRs hS hl (sX4_own l E D h65) (lw_V q2245 q2247 qs77 q135 q2248) ⟨rfl, by decide, by decide, by decide +kernel⟩ ⟨by rw [hRf]; exact Nat.le_of_ble_eq_true rfl, by rw [hRl]; exact Nat.le_of_ble_eq_true rfl⟩ (g_recv hKn hS hk65 (by decide) (by decide)) rfl (by rw [hr65]; rfl) (Nat.le_of_ble_eq_true rfl) dX4_tellRing_65 (fun H locs cells slots hS => ?_)
      refine lv_iconst (v := (-1)) hx hb dX4_tellRing_68 (by decide) ?_
      refine lv_icmp_eq (tgt := 134) hx hb dX4_tellRing_69 (by decide) (fun c_69 => ?_) (fun c_69 => ?_)
      · have h := g_ift c_69 h
        exact sX4_tellRing_b134 C _ _ _ _ _ h _ _ _ _ _ hS (gls_sub hl [0, 1, 2] rfl)
      · have h := g_iff c_69 h
        refine g_aload_n hx hb hl 0 rfl dX4_tellRing_72 ?_
        refine g_rdR hx hb hown hts hKn hS h fd_4_4_64 rfl (Or.inl (hts _ q1929)) (fun _ z => z) dX4_tellRing_73 (fun x73 h => ?_)
        refine g_iload_n hx hb hl 1 rfl dX4_tellRing_76 ?_
        refine g_ialoadG hx hb hKn hS h dX4_tellRing_77 (fun x77 h => ?_)
        refine lv_if_eq (tgt := 134) hx hb dX4_tellRing_78 (by decide) (fun c_78 => ?_) (fun c_78 => ?_)
        · have h := g_ift c_78 h
          exact sX4_tellRing_b134 C _ _ _ _ _ h _ _ _ _ _ hS (gls_sub hl [0, 1, 2] rfl)
        · have h := g_iff c_78 h
          refine g_aload_n hx hb hl 0 rfl dX4_tellRing_81 ?_
          refine g_rdR hx hb hown hts hKn hS h fd_4_4_65 rfl (Or.inl (hts _ q1930)) (fun _ z => z) dX4_tellRing_82 (fun x82 h => ?_)
          refine g_iload_n hx hb hl 1 rfl dX4_tellRing_85 ?_
          refine g_ialoadG hx hb hKn hS h dX4_tellRing_86 (fun x86 h => ?_)
          refine lv_iconst (v := (-1)) hx hb dX4_tellRing_87 (by decide) ?_
          refine lv_icmp_ne (tgt := 134) hx hb dX4_tellRing_88 (by decide) (fun c_88 => ?_) (fun c_88 => ?_)
          · have h := g_ift c_88 h
            exact sX4_tellRing_b134 C _ _ _ _ _ h _ _ _ _ _ hS (gls_sub hl [0, 1, 2] rfl)
          · have h := g_iff (fun z => z c_88) h
            refine g_aload_n hx hb hl 0 rfl dX4_tellRing_91 ?_
            refine g_rdR hx hb hown hts hKn hS h fd_4_4_65 rfl (Or.inl (hts _ q1930)) (fun _ z => z) dX4_tellRing_92 (fun x92 h => ?_)
            refine g_iload_n hx hb hl 1 rfl dX4_tellRing_95 ?_
            refine g_iload_n hx hb hl 2 rfl dX4_tellRing_96 ?_
            refine g_iastoreG hx hb hKn hS h dX4_tellRing_97 (fun G97 h H locs hS => ?_)
            refine g_aload_n hx hb hl 0 rfl dX4_tellRing_98 ?_
            refine g_rdR hx hb hown hts hKn hS h fd_4_4_63 rfl (Or.inl (hts _ q1928)) (fun _ z => z) dX4_tellRing_99 (fun x99 h => ?_)
            refine g_iload_n hx hb hl 2 rfl dX4_tellRing_102 ?_
            refine g_iload_n hx hb hl 1 rfl dX4_tellRing_103 ?_
            refine g_iastoreG hx hb hKn hS h dX4_tellRing_104 (fun G104 h H locs hS => ?_)
            refine g_iinc (l1 := [(2, .inl (v2 + 1)), (0, .inr (.inr (some t))), (1, .inl v1)]) (v := (v2 + 1)) hx hb hl (k := 2) rfl (by rfl) (by decide) rfl dX4_tellRing_105 (fun ls hl => ?_)
            refine lv_iconst (v := 0) hx hb dX4_tellRing_108 (by decide) ?_
            refine g_istore_n (l1 := [(3, .inl 0), (2, .inl (v2 + 1)), (0, .inr (.inr (some t))), (1, .inl v1)]) hx hb hl (by decide) rfl dX4_tellRing_109 (fun ls hl => ?_)
            exact sX4_tellRing_b110 C ih gFU _ _ _ _ _ _ h _ _ _ _ _ hS (gls_sub hl [2, 3, 1, 0] rfl)
theorem sX4_tellRing_b33 {p : Program} {l : Launch} {e : Env} {R : Room} {s : State} {m : MethodId} {args : Array Value} {below : List Frame} {meth : Method} {c : Code} {E : g_E} {D : g_D} (C : gC p R s m args meth c cX4_tellRing 5 RX4 "tellRing" (none) 2 86 E D) : ∀ (n : Nat) (t : Nat) (v1 : Int32) (v2 : Int32) (G : g_G) (q : g_G), fX4_tellRing_b33 E n t v1 v2 G = some q → ∀ (H : Heap) (locs : List Loc) (cells slots : Nat) (ls : Array Slot), gSt E D G H locs → gls ls 5 [(0, .inr (.inr (some t))), (1, .inl v1), (2, .inl v2)] → gT p l e R s m args below meth c E D H locs cells slots none q (F0 m 33 ls []) := by
  obtain ⟨hx, hb, hml, hown, hts, hKn, hRc, hRs, hc1, hc2, hRf, hRl, hr, hlk, hnm⟩ := id C
  intro n
  induction n with
  | zero =>
    intro t v1 v2 G q h
    exact g_no h
  | succ n ih =>
    intro t v1 v2 G q h H locs cells slots ls hS hl
    rw [fX4_tellRing_b33] at h
    refine g_iload_n hx hb hl 2 rfl dX4_tellRing_33 ?_
    refine lv_bipush (v := 8) hx hb dX4_tellRing_34 (by decide) ?_
    refine lv_icmp_ge (tgt := 52) hx hb dX4_tellRing_36 (by decide) (fun c_36 => ?_) (fun c_36 => ?_)
    · have h := g_ift c_36 h
      refine lv_iconst (v := 0) hx hb dX4_tellRing_52 (by decide) ?_
      refine g_istore_n (l1 := [(2, .inl 0), (0, .inr (.inr (some t))), (1, .inl v1)]) hx hb hl (by decide) rfl dX4_tellRing_53 (fun ls hl => ?_)
      exact sX4_tellRing_b54 C gFU _ _ _ _ _ h _ _ _ _ _ hS (gls_sub hl [1, 2, 0] rfl)
    · have h := g_iff c_36 h
      refine g_aload_n hx hb hl 0 rfl dX4_tellRing_39 ?_
      refine g_rdR hx hb hown hts hKn hS h fd_4_4_65 rfl (Or.inl (hts _ q1930)) (fun _ z => z) dX4_tellRing_40 (fun x40 h => ?_)
      refine g_iload_n hx hb hl 2 rfl dX4_tellRing_43 ?_
      refine lv_iconst (v := (-1)) hx hb dX4_tellRing_44 (by decide) ?_
      refine g_iastoreG hx hb hKn hS h dX4_tellRing_45 (fun G45 h H locs hS => ?_)
      refine g_iinc (l1 := [(2, .inl (v2 + 1)), (0, .inr (.inr (some t))), (1, .inl v1)]) (v := (v2 + 1)) hx hb hl (k := 2) rfl (by rfl) (by decide) rfl dX4_tellRing_46 (fun ls hl => ?_)
      refine lv_goto (tgt := 33) hx hb dX4_tellRing_49 (by decide) ?_
      exact ih _ _ _ _ _ h _ _ _ _ _ hS (gls_sub hl [1, 2, 0] rfl)
theorem sX4_tellRing_b31 {p : Program} {l : Launch} {e : Env} {R : Room} {s : State} {m : MethodId} {args : Array Value} {below : List Frame} {meth : Method} {c : Code} {E : g_E} {D : g_D} (C : gC p R s m args meth c cX4_tellRing 5 RX4 "tellRing" (none) 2 86 E D) : ∀ (t : Nat) (v1 : Int32) (G : g_G) (q : g_G), fX4_tellRing_b31 E t v1 G = some q → ∀ (H : Heap) (locs : List Loc) (cells slots : Nat) (ls : Array Slot), gSt E D G H locs → gls ls 5 [(0, .inr (.inr (some t))), (1, .inl v1)] → gT p l e R s m args below meth c E D H locs cells slots none q (F0 m 31 ls []) := by
  obtain ⟨hx, hb, hml, hown, hts, hKn, hRc, hRs, hc1, hc2, hRf, hRl, hr, hlk, hnm⟩ := id C
  intro t v1 G q h H locs cells slots ls hS hl
  unfold fX4_tellRing_b31 at h
  refine lv_iconst (v := 0) hx hb dX4_tellRing_31 (by decide) ?_
  refine g_istore_n (l1 := [(2, .inl 0), (0, .inr (.inr (some t))), (1, .inl v1)]) hx hb hl (by decide) rfl dX4_tellRing_32 (fun ls hl => ?_)
  exact sX4_tellRing_b33 C gFU _ _ _ _ _ h _ _ _ _ _ hS (gls_sub hl [1, 2, 0] rfl)
theorem sX4_tellRing_b7 {p : Program} {l : Launch} {e : Env} {R : Room} {s : State} {m : MethodId} {args : Array Value} {below : List Frame} {meth : Method} {c : Code} {E : g_E} {D : g_D} (C : gC p R s m args meth c cX4_tellRing 5 RX4 "tellRing" (none) 2 86 E D) : ∀ (n : Nat) (t : Nat) (v1 : Int32) (G : g_G) (q : g_G), fX4_tellRing_b7 E n t v1 G = some q → ∀ (H : Heap) (locs : List Loc) (cells slots : Nat) (ls : Array Slot), gSt E D G H locs → gls ls 5 [(0, .inr (.inr (some t))), (1, .inl v1)] → gT p l e R s m args below meth c E D H locs cells slots none q (F0 m 7 ls []) := by
  obtain ⟨hx, hb, hml, hown, hts, hKn, hRc, hRs, hc1, hc2, hRf, hRl, hr, hlk, hnm⟩ := id C
  intro n
  induction n with
  | zero =>
    intro t v1 G q h
    exact g_no h
  | succ n ih =>
    intro t v1 G q h H locs cells slots ls hS hl
    rw [fX4_tellRing_b7] at h
    refine g_iload_n hx hb hl 1 rfl dX4_tellRing_7 ?_
    refine g_aload_n hx hb hl 0 rfl dX4_tellRing_8 ?_
    refine g_rdI hx hb hown hts hKn hS h fd_4_4_3 rfl (Or.inl (hts _ q1868)) (fun _ z => z) dX4_tellRing_9 (fun x9 h => ?_)
    refine lv_icmp_ge (tgt := 31) hx hb dX4_tellRing_12 (by decide) (fun c_12 => ?_) (fun c_12 => ?_)
    · have h := g_ift c_12 h
      exact sX4_tellRing_b31 C _ _ _ _ h _ _ _ _ _ hS (gls_sub hl [0, 1] rfl)
    · have h := g_iff c_12 h
      refine g_aload_n hx hb hl 0 rfl dX4_tellRing_15 ?_
      refine g_iload_n hx hb hl 1 rfl dX4_tellRing_16 ?_
      refine lv_iconst (v := 0) hx hb dX4_tellRing_17 (by decide) ?_
      obtain ⟨b18, hb18, h⟩ := g_bnd h
      obtain ⟨hr18, hk18⟩ := g_chk hb18
      obtain ⟨z18, h18, h⟩ := g_bnd h
      refine g_callV (n := 2) (b := b18) (av := [.inl v1, .inl 0]) (rs := []) hx hb hml hown hts hKn hRc hRs hS hl (sX4_own l E D h18) (lw_V q2245 q2247 qs77 q135 q2248) ⟨rfl, by decide, by decide, by decide +kernel⟩ ⟨by rw [hRf]; exact Nat.le_of_ble_eq_true rfl, by rw [hRl]; exact Nat.le_of_ble_eq_true rfl⟩ (g_recv hKn hS hk18 (by decide) (by decide)) rfl (by rw [hr18]; rfl) (Nat.le_of_ble_eq_true rfl) dX4_tellRing_18 (fun H locs cells slots hS => ?_)
      refine lv_iconst (v := (-1)) hx hb dX4_tellRing_21 (by decide) ?_
      refine lv_icmp_ne (tgt := 31) hx hb dX4_tellRing_22 (by decide) (fun c_22 => ?_) (fun c_22 => ?_)
      · have h := g_ift c_22 h
        exact sX4_tellRing_b31 C _ _ _ _ h _ _ _ _ _ hS (gls_sub hl [0, 1] rfl)
      · have h := g_iff (fun z => z c_22) h
        refine g_iinc (l1 := [(1, .inl (v1 + 1)), (0, .inr (.inr (some t)))]) (v := (v1 + 1)) hx hb hl (k := 1) rfl (by rfl) (by decide) rfl dX4_tellRing_25 (fun ls hl => ?_)
        refine lv_goto (tgt := 7) hx hb dX4_tellRing_28 (by decide) ?_
        exact ih _ _ _ _ h _ _ _ _ _ hS (gls_sub hl [1, 0] rfl)
theorem sX4_tellRing (l : Launch) (E : g_E) (D : g_D) {t : Nat} {G : g_G} {q : g_G} (h : fX4_tellRing E t G = some q) : gMet l E D yX4_tellRing (ws_ yX4_tellRing cX4_tellRing 5 (none)) 2 86 [.inr (.inr (some t))] G none q := by
  refine gMet.of (by decide +kernel) (Nat.le_of_ble_eq_true rfl) ?_
  intro p e R s m args below meth c C hS ls hl
  have C : gC p R s m args meth c cX4_tellRing 5 RX4 "tellRing" (none) 2 86 E D := C
  obtain ⟨hx, hb, hml, hown, hts, hKn, hRc, hRs, hc1, hc2, hRf, hRl, hr, hlk, hnm⟩ := id C
  have hl : gls ls 5 [(0, .inr (.inr (some t)))] := hl
  generalize s.heap = H at hS ⊢
  unfold fX4_tellRing at h
  refine g_aload_n hx hb hl 0 rfl dX4_tellRing_0 ?_
  refine lv_iconst (v := 0) hx hb dX4_tellRing_1 (by decide) ?_
  refine g_ptI hx hb hown hts hKn hS h fd_4_4_60 (Or.inl (hts _ q1925)) (fun _ z => z) (fun z => nomatch z) dX4_tellRing_2 (fun G2 h H locs hS => ?_)
  refine lv_iconst (v := 0) hx hb dX4_tellRing_5 (by decide) ?_
  refine g_istore_n (l1 := [(1, .inl 0), (0, .inr (.inr (some t)))]) hx hb hl (by decide) rfl dX4_tellRing_6 (fun ls hl => ?_)
  exact sX4_tellRing_b7 C gFU _ _ _ _ h _ _ _ _ _ hS (gls_sub hl [1, 0] rfl)
/-- SendHallModel.thrown()I -/
def fX4_thrown (E : g_E) (t : Nat) (G : g_G) : Option (Int32 × g_G) :=
  (grI G 4 4 (some t) 2).bind fun x1 =>
  some (x1, G)
theorem sX4_thrown (l : Launch) (E : g_E) (D : g_D) {t : Nat} {G : g_G} {q : Int32 × g_G} (h : fX4_thrown E t G = some q) : gMet l E D yX4_thrown (ws_ yX4_thrown cX4_thrown 1 (some .int)) 1 64 [.inr (.inr (some t))] G (some (.int q.1)) q.2 := by
  refine gMet.of (by decide +kernel) (Nat.le_of_ble_eq_true rfl) ?_
  intro p e R s m args below meth c C hS ls hl
  have C : gC p R s m args meth c cX4_thrown 1 RX4 "thrown" (some .int) 1 64 E D := C
  obtain ⟨hx, hb, hml, hown, hts, hKn, hRc, hRs, hc1, hc2, hRf, hRl, hr, hlk, hnm⟩ := id C
  have hl : gls ls 1 [(0, .inr (.inr (some t)))] := hl
  generalize s.heap = H at hS ⊢
  unfold fX4_thrown at h
  refine g_aload_n hx hb hl 0 rfl dX4_thrown_0 ?_
  refine g_rdI hx hb hown hts hKn hS h fd_4_4_2 rfl (Or.inl (hts _ q1867)) (fun _ z => z) dX4_thrown_1 (fun x1 h => ?_)
  exact g_iretG hx hb hr hlk hKn hRc hRs hS h dX4_thrown_4
