set_option maxRecDepth 100000
/-- SendHallModel.text(I)I -/
def fX4_text_b17 (E : g_E) (t : Nat) (G : g_G) : Option (Int32 × g_G) :=
  (gchk G 4 (some t)).bind fun b19 =>
  (fX4_fail E b19 1 G).bind fun z19 =>
  some (z19.1, z19.2)
def fX4_text_b272 (E : g_E) : Nat → Nat → Int32 → g_G → Option (Int32 × g_G)
  | 0, _, _, _ => none
  | n + 1, t, v2, G =>
    (grI G 4 4 (some t) 21).bind fun x274 =>
    if x274 ≤ v2 then (
      (grI G 4 4 (some t) 7).bind fun x304 =>
      (gpI E G 4 4 (some t) 7 (x304 + 1)).bind fun G309 =>
      (grI G309 4 4 (some t) 8).bind fun x314 =>
      (gpI E G309 4 4 (some t) 8 (x314 + 1)).bind fun G319 =>
      some (0, G319))
    else (
      (grR G 4 4 (some t) 23).bind fun x281 =>
      (grR G 4 4 (some t) 23).bind fun x286 =>
      (gaI G 100 x286 (1080 + v2)).bind fun x294 =>
      (gsaI E G x281 v2 x294).bind fun G295 =>
      fX4_text_b272 E n t (v2 + 1) G295)
def fX4_text_b207 (E : g_E) (k105 : Nat → Int32 → g_G → Option (Int32 × g_G)) : Nat → Nat → Int32 → Int32 → g_G → Option (Int32 × g_G)
  | 0, _, _, _, _ => none
  | n + 1, t, v2, v3, G =>
    if (3 : Int32) ≤ v3 then (
      k105 t (v2 + 1) G)
    else (
      (grR G 4 4 (some t) 25).bind fun x213 =>
      (grR G 4 4 (some t) 25).bind fun x222 =>
      (gaI G 100 x222 ((3 * (40 + v2)) + v3)).bind fun x233 =>
      (gsaI E G x213 ((3 * v2) + v3) x233).bind fun G234 =>
      (grR G234 4 4 (some t) 26).bind fun x236 =>
      (grR G234 4 4 (some t) 26).bind fun x245 =>
      (gaI G234 100 x245 ((3 * (40 + v2)) + v3)).bind fun x256 =>
      (gsaI E G234 x236 ((3 * v2) + v3) x256).bind fun G257 =>
      fX4_text_b207 E k105 n t v2 (v3 + 1) G257)
def fX4_text_b105 (E : g_E) : Nat → Nat → Int32 → g_G → Option (Int32 × g_G)
  | 0, _, _, _ => none
  | n + 1, t, v2, G =>
    (grR G 4 4 (some t) 22).bind fun x107 =>
    (gaI G 100 x107 0).bind fun x111 =>
    if x111 ≤ v2 then (
      fX4_text_b272 E gFU t 0 G)
    else (
      (grR G 4 4 (some t) 24).bind fun x116 =>
      (grR G 4 4 (some t) 24).bind fun x121 =>
      (gaI G 100 x121 (40 + v2)).bind fun x128 =>
      (gsaI E G x116 v2 x128).bind fun G129 =>
      (grR G129 4 4 (some t) 27).bind fun x131 =>
      (grR G129 4 4 (some t) 27).bind fun x136 =>
      (gaI G129 100 x136 (40 + v2)).bind fun x143 =>
      (gsaI E G129 x131 v2 x143).bind fun G144 =>
      (grR G144 4 4 (some t) 28).bind fun x146 =>
      (grR G144 4 4 (some t) 28).bind fun x151 =>
      (gaI G144 100 x151 (40 + v2)).bind fun x158 =>
      (gsaI E G144 x146 v2 x158).bind fun G159 =>
      (grR G159 4 4 (some t) 29).bind fun x161 =>
      (grR G159 4 4 (some t) 29).bind fun x166 =>
      (gaI G159 100 x166 (40 + v2)).bind fun x173 =>
      (gsaI E G159 x161 v2 x173).bind fun G174 =>
      (grR G174 4 4 (some t) 30).bind fun x176 =>
      (grR G174 4 4 (some t) 30).bind fun x181 =>
      (gaI G174 100 x181 (40 + v2)).bind fun x188 =>
      (gsaI E G174 x176 v2 x188).bind fun G189 =>
      (grR G189 4 4 (some t) 31).bind fun x191 =>
      (grR G189 4 4 (some t) 31).bind fun x196 =>
      (gaI G189 100 x196 (40 + v2)).bind fun x203 =>
      (gsaI E G189 x191 v2 x203).bind fun G204 =>
      fX4_text_b207 E (fX4_text_b105 E n) gFU t v2 0 G204)
def fX4_text (E : g_E) (t : Nat) (v1 : Int32) (G : g_G) : Option (Int32 × g_G) :=
  (gpI E G 4 4 (some t) 2 0).bind fun G2 =>
  if v1 < 0 then (
    fX4_text_b17 E t G2)
  else (
    (grI G2 4 4 (some t) 10).bind fun x11 =>
    if v1 ≤ x11 then (
      (gpI E G2 4 4 (some t) 10 0).bind fun G25 =>
      (gpI E G25 4 4 (some t) 12 v1).bind fun G30 =>
      (gpI E G30 4 4 (some t) 11 0).bind fun G35 =>
      (gpI E G35 4 4 (some t) 18 0).bind fun G40 =>
      (gpI E G40 4 4 (some t) 20 (-1)).bind fun G45 =>
      (gpI E G45 4 4 (some t) 21 0).bind fun G50 =>
      (grR G50 4 4 (some t) 22).bind fun x54 =>
      (gsaI E G50 x54 1 0).bind fun G59 =>
      (gchk G59 4 (some t)).bind fun b61 =>
      (fX4_stepOn E b61 G59).bind fun z61 =>
      (gchk z61 4 (some t)).bind fun b67 =>
      (fR_msteps 7 E b67 0 (-1) z61).bind fun z67 =>
      (grI z67.2 4 4 (some t) 18).bind fun x72 =>
      if x72 = 0 then (
        (grR z67.2 4 4 (some t) 22).bind fun x92 =>
        (grR z67.2 4 4 (some t) 22).bind fun x97 =>
        (gaI z67.2 100 x97 1).bind fun x101 =>
        (gsaI E z67.2 x92 0 x101).bind fun G102 =>
        fX4_text_b105 E gFU t 0 G102)
      else (
        (grI z67.2 4 4 (some t) 19).bind fun x80 =>
        (gpI E z67.2 4 4 (some t) 20 x80).bind fun G83 =>
        (grI G83 4 4 (some t) 18).bind fun x87 =>
        some (x87, G83)))
    else (
      fX4_text_b17 E t G2))
theorem sX4_text_b17 {p : Program} {l : Launch} {e : Env} {R : Room} {s : State} {m : MethodId} {args : Array Value} {below : List Frame} {meth : Method} {c : Code} {E : g_E} {D : g_D} (C : gC p R s m args meth c cX4_text 4 RX4 "text" (some .int) 243 14125 E D) : ∀ (t : Nat) (G : g_G) (q : Int32 × g_G), fX4_text_b17 E t G = some q → ∀ (H : Heap) (locs : List Loc) (cells slots : Nat) (ls : Array Slot), gSt E D G H locs → gls ls 4 [(0, .inr (.inr (some t)))] → gT p l e R s m args below meth c E D H locs cells slots (some (.int q.1)) q.2 (F0 m 17 ls []) := by
  obtain ⟨hx, hb, hml, hown, hts, hKn, hRc, hRs, hc1, hc2, hRf, hRl, hr, hlk, hnm⟩ := id C
  intro t G q h H locs cells slots ls hS hl
  unfold fX4_text_b17 at h
  refine g_aload_n hx hb hl 0 rfl dX4_text_17 ?_
  refine lv_iconst (v := 1) hx hb dX4_text_18 (by decide) ?_
  obtain ⟨b19, hb19, h⟩ := g_bnd h
  obtain ⟨hr19, hk19⟩ := g_chk hb19
  obtain ⟨z19, h19, h⟩ := g_bnd h
  refine g_callV (n := 1) (b := b19) (av := [.inl 1]) (rs := []) hx hb hml hown hts hKn hRc hRs hS hl (sX4_fail l E D h19) (lw_V q2088 q2090 qs48 q135 q2091) ⟨rfl, by decide, by decide, by decide +kernel⟩ ⟨by rw [hRf]; exact Nat.le_of_ble_eq_true rfl, by rw [hRl]; exact Nat.le_of_ble_eq_true rfl⟩ (g_recv hKn hS hk19 (by decide) (by decide)) rfl (by rw [hr19]; rfl) (Nat.le_of_ble_eq_true rfl) dX4_text_19 (fun H locs cells slots hS => ?_)
  exact g_iretG hx hb hr hlk hKn hRc hRs hS h dX4_text_22
theorem sX4_text_b272 {p : Program} {l : Launch} {e : Env} {R : Room} {s : State} {m : MethodId} {args : Array Value} {below : List Frame} {meth : Method} {c : Code} {E : g_E} {D : g_D} (C : gC p R s m args meth c cX4_text 4 RX4 "text" (some .int) 243 14125 E D) : ∀ (n : Nat) (t : Nat) (v2 : Int32) (G : g_G) (q : Int32 × g_G), fX4_text_b272 E n t v2 G = some q → ∀ (H : Heap) (locs : List Loc) (cells slots : Nat) (ls : Array Slot), gSt E D G H locs → gls ls 4 [(0, .inr (.inr (some t))), (2, .inl v2)] → gT p l e R s m args below meth c E D H locs cells slots (some (.int q.1)) q.2 (F0 m 272 ls []) := by
  obtain ⟨hx, hb, hml, hown, hts, hKn, hRc, hRs, hc1, hc2, hRf, hRl, hr, hlk, hnm⟩ := id C
  intro n
  induction n with
  | zero =>
    intro t v2 G q h
    exact g_no h
  | succ n ih =>
    intro t v2 G q h H locs cells slots ls hS hl
    rw [fX4_text_b272] at h
    refine g_iload_n hx hb hl 1 rfl dX4_text_272 ?_
    refine g_aload_n hx hb hl 0 rfl dX4_text_273 ?_
    refine g_rdI hx hb hown hts hKn hS h fd_4_4_21 rfl (Or.inl (hts _ q1886)) (fun _ z => z) dX4_text_274 (fun x274 h => ?_)
    refine lv_icmp_ge (tgt := 302) hx hb dX4_text_277 (by decide) (fun c_277 => ?_) (fun c_277 => ?_)
    · have h := g_ift c_277 h
      refine g_aload_n hx hb hl 0 rfl dX4_text_302 ?_
      refine lv_dup hx hb dX4_text_303 (by first | exact va_rf_cat _ | rfl | exact g_catA _) ?_
      refine g_rdI hx hb hown hts hKn hS h fd_4_4_7 rfl (Or.inl (hts _ q1872)) (fun _ z => z) dX4_text_304 (fun x304 h => ?_)
      refine lv_iconst (v := 1) hx hb dX4_text_307 (by decide) ?_
      refine lv_iadd hx hb dX4_text_308 ?_
      refine g_ptI hx hb hown hts hKn hS h fd_4_4_7 (Or.inl (hts _ q1872)) (fun _ z => z) (fun z => nomatch z) dX4_text_309 (fun G309 h H locs hS => ?_)
      refine g_aload_n hx hb hl 0 rfl dX4_text_312 ?_
      refine lv_dup hx hb dX4_text_313 (by first | exact va_rf_cat _ | rfl | exact g_catA _) ?_
      refine g_rdI hx hb hown hts hKn hS h fd_4_4_8 rfl (Or.inl (hts _ q1873)) (fun _ z => z) dX4_text_314 (fun x314 h => ?_)
      refine lv_iconst (v := 1) hx hb dX4_text_317 (by decide) ?_
      refine lv_iadd hx hb dX4_text_318 ?_
      refine g_ptI hx hb hown hts hKn hS h fd_4_4_8 (Or.inl (hts _ q1873)) (fun _ z => z) (fun z => nomatch z) dX4_text_319 (fun G319 h H locs hS => ?_)
      refine lv_iconst (v := 0) hx hb dX4_text_322 (by decide) ?_
      exact g_iretG hx hb hr hlk hKn hRc hRs hS h dX4_text_323
    · have h := g_iff c_277 h
      refine g_aload_n hx hb hl 0 rfl dX4_text_280 ?_
      refine g_rdR hx hb hown hts hKn hS h fd_4_4_23 rfl (Or.inl (hts _ q1888)) (fun _ z => z) dX4_text_281 (fun x281 h => ?_)
      refine g_iload_n hx hb hl 1 rfl dX4_text_284 ?_
      refine g_aload_n hx hb hl 0 rfl dX4_text_285 ?_
      refine g_rdR hx hb hown hts hKn hS h fd_4_4_23 rfl (Or.inl (hts _ q1888)) (fun _ z => z) dX4_text_286 (fun x286 h => ?_)
      refine lv_sipush (v := 1080) hx hb dX4_text_289 (by decide) ?_
      refine g_iload_n hx hb hl 1 rfl dX4_text_292 ?_
      refine lv_iadd hx hb dX4_text_293 ?_
      refine g_ialoadG hx hb hKn hS h dX4_text_294 (fun x294 h => ?_)
      refine g_iastoreG hx hb hKn hS h dX4_text_295 (fun G295 h H locs hS => ?_)
      refine g_iinc (l1 := [(2, .inl (v2 + 1)), (0, .inr (.inr (some t)))]) (v := (v2 + 1)) hx hb hl (k := 1) rfl (by rfl) (by decide) rfl dX4_text_296 (fun ls hl => ?_)
      refine lv_goto (tgt := 272) hx hb dX4_text_299 (by decide) ?_
      exact ih _ _ _ _ h _ _ _ _ _ hS (gls_sub hl [1, 0] rfl)
theorem sX4_text_b207 {p : Program} {l : Launch} {e : Env} {R : Room} {s : State} {m : MethodId} {args : Array Value} {below : List Frame} {meth : Method} {c : Code} {E : g_E} {D : g_D} (C : gC p R s m args meth c cX4_text 4 RX4 "text" (some .int) 243 14125 E D) {k105 : Nat → Int32 → g_G → Option (Int32 × g_G)} (hk105 : ∀ (t : Nat) (v2 : Int32) (G : g_G) (q : Int32 × g_G), k105 t v2 G = some q → ∀ (H : Heap) (locs : List Loc) (cells slots : Nat) (ls : Array Slot), gSt E D G H locs → gls ls 4 [(0, .inr (.inr (some t))), (2, .inl v2)] → gT p l e R s m args below meth c E D H locs cells slots (some (.int q.1)) q.2 (F0 m 105 ls [])) : ∀ (n : Nat) (t : Nat) (v2 : Int32) (v3 : Int32) (G : g_G) (q : Int32 × g_G), fX4_text_b207 E k105 n t v2 v3 G = some q → ∀ (H : Heap) (locs : List Loc) (cells slots : Nat) (ls : Array Slot), gSt E D G H locs → gls ls 4 [(0, .inr (.inr (some t))), (2, .inl v2), (3, .inl v3)] → gT p l e R s m args below meth c E D H locs cells slots (some (.int q.1)) q.2 (F0 m 207 ls []) := by
  obtain ⟨hx, hb, hml, hown, hts, hKn, hRc, hRs, hc1, hc2, hRf, hRl, hr, hlk, hnm⟩ := id C
  intro n
  induction n with
  | zero =>
    intro t v2 v3 G q h
    exact g_no h
  | succ n ih =>
    intro t v2 v3 G q h H locs cells slots ls hS hl
    rw [fX4_text_b207] at h
    refine g_iload_n hx hb hl 2 rfl dX4_text_207 ?_
    refine lv_iconst (v := 3) hx hb dX4_text_208 (by decide) ?_
    refine lv_icmp_ge (tgt := 264) hx hb dX4_text_209 (by decide) (fun c_209 => ?_) (fun c_209 => ?_)
    · have h := g_ift c_209 h
      refine g_iinc (l1 := [(2, .inl (v2 + 1)), (0, .inr (.inr (some t))), (3, .inl v3)]) (v := (v2 + 1)) hx hb hl (k := 1) rfl (by rfl) (by decide) rfl dX4_text_264 (fun ls hl => ?_)
      refine lv_goto (tgt := 105) hx hb dX4_text_267 (by decide) ?_
      exact hk105 _ _ _ _ h _ _ _ _ _ hS (gls_sub hl [1, 0] rfl)
    · have h := g_iff c_209 h
      refine g_aload_n hx hb hl 0 rfl dX4_text_212 ?_
      refine g_rdR hx hb hown hts hKn hS h fd_4_4_25 rfl (Or.inl (hts _ q1890)) (fun _ z => z) dX4_text_213 (fun x213 h => ?_)
      refine lv_iconst (v := 3) hx hb dX4_text_216 (by decide) ?_
      refine g_iload_n hx hb hl 1 rfl dX4_text_217 ?_
      refine lv_imul hx hb dX4_text_218 ?_
      refine g_iload_n hx hb hl 2 rfl dX4_text_219 ?_
      refine lv_iadd hx hb dX4_text_220 ?_
      refine g_aload_n hx hb hl 0 rfl dX4_text_221 ?_
      refine g_rdR hx hb hown hts hKn hS h fd_4_4_25 rfl (Or.inl (hts _ q1890)) (fun _ z => z) dX4_text_222 (fun x222 h => ?_)
      refine lv_iconst (v := 3) hx hb dX4_text_225 (by decide) ?_
      refine lv_bipush (v := 40) hx hb dX4_text_226 (by decide) ?_
      refine g_iload_n hx hb hl 1 rfl dX4_text_228 ?_
      refine lv_iadd hx hb dX4_text_229 ?_
      refine lv_imul hx hb dX4_text_230 ?_
      refine g_iload_n hx hb hl 2 rfl dX4_text_231 ?_
      refine lv_iadd hx hb dX4_text_232 ?_
      refine g_ialoadG hx hb hKn hS h dX4_text_233 (fun x233 h => ?_)
      refine g_iastoreG hx hb hKn hS h dX4_text_234 (fun G234 h H locs hS => ?_)
      refine g_aload_n hx hb hl 0 rfl dX4_text_235 ?_
      refine g_rdR hx hb hown hts hKn hS h fd_4_4_26 rfl (Or.inl (hts _ q1891)) (fun _ z => z) dX4_text_236 (fun x236 h => ?_)
      refine lv_iconst (v := 3) hx hb dX4_text_239 (by decide) ?_
      refine g_iload_n hx hb hl 1 rfl dX4_text_240 ?_
      refine lv_imul hx hb dX4_text_241 ?_
      refine g_iload_n hx hb hl 2 rfl dX4_text_242 ?_
      refine lv_iadd hx hb dX4_text_243 ?_
      refine g_aload_n hx hb hl 0 rfl dX4_text_244 ?_
      refine g_rdR hx hb hown hts hKn hS h fd_4_4_26 rfl (Or.inl (hts _ q1891)) (fun _ z => z) dX4_text_245 (fun x245 h => ?_)
      refine lv_iconst (v := 3) hx hb dX4_text_248 (by decide) ?_
      refine lv_bipush (v := 40) hx hb dX4_text_249 (by decide) ?_
      refine g_iload_n hx hb hl 1 rfl dX4_text_251 ?_
      refine lv_iadd hx hb dX4_text_252 ?_
      refine lv_imul hx hb dX4_text_253 ?_
      refine g_iload_n hx hb hl 2 rfl dX4_text_254 ?_
      refine lv_iadd hx hb dX4_text_255 ?_
      refine g_ialoadG hx hb hKn hS h dX4_text_256 (fun x256 h => ?_)
      refine g_iastoreG hx hb hKn hS h dX4_text_257 (fun G257 h H locs hS => ?_)
      refine g_iinc (l1 := [(3, .inl (v3 + 1)), (0, .inr (.inr (some t))), (2, .inl v2)]) (v := (v3 + 1)) hx hb hl (k := 2) rfl (by rfl) (by decide) rfl dX4_text_258 (fun ls hl => ?_)
      refine lv_goto (tgt := 207) hx hb dX4_text_261 (by decide) ?_
      exact ih _ _ _ _ _ h _ _ _ _ _ hS (gls_sub hl [1, 2, 0] rfl)
theorem sX4_text_b105 {p : Program} {l : Launch} {e : Env} {R : Room} {s : State} {m : MethodId} {args : Array Value} {below : List Frame} {meth : Method} {c : Code} {E : g_E} {D : g_D} (C : gC p R s m args meth c cX4_text 4 RX4 "text" (some .int) 243 14125 E D) : ∀ (n : Nat) (t : Nat) (v2 : Int32) (G : g_G) (q : Int32 × g_G), fX4_text_b105 E n t v2 G = some q → ∀ (H : Heap) (locs : List Loc) (cells slots : Nat) (ls : Array Slot), gSt E D G H locs → gls ls 4 [(0, .inr (.inr (some t))), (2, .inl v2)] → gT p l e R s m args below meth c E D H locs cells slots (some (.int q.1)) q.2 (F0 m 105 ls []) := by
  obtain ⟨hx, hb, hml, hown, hts, hKn, hRc, hRs, hc1, hc2, hRf, hRl, hr, hlk, hnm⟩ := id C
  intro n
  induction n with
  | zero =>
    intro t v2 G q h
    exact g_no h
  | succ n ih =>
    intro t v2 G q h H locs cells slots ls hS hl
    rw [fX4_text_b105] at h
    refine g_iload_n hx hb hl 1 rfl dX4_text_105 ?_
    refine g_aload_n hx hb hl 0 rfl dX4_text_106 ?_
    refine g_rdR hx hb hown hts hKn hS h fd_4_4_22 rfl (Or.inl (hts _ q1887)) (fun _ z => z) dX4_text_107 (fun x107 h => ?_)
    refine lv_iconst (v := 0) hx hb dX4_text_110 (by decide) ?_
    refine g_ialoadG hx hb hKn hS h dX4_text_111 (fun x111 h => ?_)
    refine lv_icmp_ge (tgt := 270) hx hb dX4_text_112 (by decide) (fun c_112 => ?_) (fun c_112 => ?_)
    · have h := g_ift c_112 h
      refine lv_iconst (v := 0) hx hb dX4_text_270 (by decide) ?_
      refine g_istore_n (l1 := [(2, .inl 0), (0, .inr (.inr (some t)))]) hx hb hl (by decide) rfl dX4_text_271 (fun ls hl => ?_)
      exact sX4_text_b272 C gFU _ _ _ _ h _ _ _ _ _ hS (gls_sub hl [1, 0] rfl)
    · have h := g_iff c_112 h
      refine g_aload_n hx hb hl 0 rfl dX4_text_115 ?_
      refine g_rdR hx hb hown hts hKn hS h fd_4_4_24 rfl (Or.inl (hts _ q1889)) (fun _ z => z) dX4_text_116 (fun x116 h => ?_)
      refine g_iload_n hx hb hl 1 rfl dX4_text_119 ?_
      refine g_aload_n hx hb hl 0 rfl dX4_text_120 ?_
      refine g_rdR hx hb hown hts hKn hS h fd_4_4_24 rfl (Or.inl (hts _ q1889)) (fun _ z => z) dX4_text_121 (fun x121 h => ?_)
      refine lv_bipush (v := 40) hx hb dX4_text_124 (by decide) ?_
      refine g_iload_n hx hb hl 1 rfl dX4_text_126 ?_
      refine lv_iadd hx hb dX4_text_127 ?_
      refine g_ialoadG hx hb hKn hS h dX4_text_128 (fun x128 h => ?_)
      refine g_iastoreG hx hb hKn hS h dX4_text_129 (fun G129 h H locs hS => ?_)
      refine g_aload_n hx hb hl 0 rfl dX4_text_130 ?_
      refine g_rdR hx hb hown hts hKn hS h fd_4_4_27 rfl (Or.inl (hts _ q1892)) (fun _ z => z) dX4_text_131 (fun x131 h => ?_)
      refine g_iload_n hx hb hl 1 rfl dX4_text_134 ?_
      refine g_aload_n hx hb hl 0 rfl dX4_text_135 ?_
      refine g_rdR hx hb hown hts hKn hS h fd_4_4_27 rfl (Or.inl (hts _ q1892)) (fun _ z => z) dX4_text_136 (fun x136 h => ?_)
      refine lv_bipush (v := 40) hx hb dX4_text_139 (by decide) ?_
      refine g_iload_n hx hb hl 1 rfl dX4_text_141 ?_
      refine lv_iadd hx hb dX4_text_142 ?_
      refine g_ialoadG hx hb hKn hS h dX4_text_143 (fun x143 h => ?_)
      refine g_iastoreG hx hb hKn hS h dX4_text_144 (fun G144 h H locs hS => ?_)
      refine g_aload_n hx hb hl 0 rfl dX4_text_145 ?_
      refine g_rdR hx hb hown hts hKn hS h fd_4_4_28 rfl (Or.inl (hts _ q1893)) (fun _ z => z) dX4_text_146 (fun x146 h => ?_)
      refine g_iload_n hx hb hl 1 rfl dX4_text_149 ?_
      refine g_aload_n hx hb hl 0 rfl dX4_text_150 ?_
      refine g_rdR hx hb hown hts hKn hS h fd_4_4_28 rfl (Or.inl (hts _ q1893)) (fun _ z => z) dX4_text_151 (fun x151 h => ?_)
      refine lv_bipush (v := 40) hx hb dX4_text_154 (by decide) ?_
      refine g_iload_n hx hb hl 1 rfl dX4_text_156 ?_
      refine lv_iadd hx hb dX4_text_157 ?_
      refine g_ialoadG hx hb hKn hS h dX4_text_158 (fun x158 h => ?_)
      refine g_iastoreG hx hb hKn hS h dX4_text_159 (fun G159 h H locs hS => ?_)
      refine g_aload_n hx hb hl 0 rfl dX4_text_160 ?_
      refine g_rdR hx hb hown hts hKn hS h fd_4_4_29 rfl (Or.inl (hts _ q1894)) (fun _ z => z) dX4_text_161 (fun x161 h => ?_)
      refine g_iload_n hx hb hl 1 rfl dX4_text_164 ?_
      refine g_aload_n hx hb hl 0 rfl dX4_text_165 ?_
      refine g_rdR hx hb hown hts hKn hS h fd_4_4_29 rfl (Or.inl (hts _ q1894)) (fun _ z => z) dX4_text_166 (fun x166 h => ?_)
      refine lv_bipush (v := 40) hx hb dX4_text_169 (by decide) ?_
      refine g_iload_n hx hb hl 1 rfl dX4_text_171 ?_
      refine lv_iadd hx hb dX4_text_172 ?_
      refine g_ialoadG hx hb hKn hS h dX4_text_173 (fun x173 h => ?_)
      refine g_iastoreG hx hb hKn hS h dX4_text_174 (fun G174 h H locs hS => ?_)
      refine g_aload_n hx hb hl 0 rfl dX4_text_175 ?_
      refine g_rdR hx hb hown hts hKn hS h fd_4_4_30 rfl (Or.inl (hts _ q1895)) (fun _ z => z) dX4_text_176 (fun x176 h => ?_)
      refine g_iload_n hx hb hl 1 rfl dX4_text_179 ?_
      refine g_aload_n hx hb hl 0 rfl dX4_text_180 ?_
      refine g_rdR hx hb hown hts hKn hS h fd_4_4_30 rfl (Or.inl (hts _ q1895)) (fun _ z => z) dX4_text_181 (fun x181 h => ?_)
      refine lv_bipush (v := 40) hx hb dX4_text_184 (by decide) ?_
      refine g_iload_n hx hb hl 1 rfl dX4_text_186 ?_
      refine lv_iadd hx hb dX4_text_187 ?_
      refine g_ialoadG hx hb hKn hS h dX4_text_188 (fun x188 h => ?_)
      refine g_iastoreG hx hb hKn hS h dX4_text_189 (fun G189 h H locs hS => ?_)
      refine g_aload_n hx hb hl 0 rfl dX4_text_190 ?_
      refine g_rdR hx hb hown hts hKn hS h fd_4_4_31 rfl (Or.inl (hts _ q1896)) (fun _ z => z) dX4_text_191 (fun x191 h => ?_)
      refine g_iload_n hx hb hl 1 rfl dX4_text_194 ?_
      refine g_aload_n hx hb hl 0 rfl dX4_text_195 ?_
      refine g_rdR hx hb hown hts hKn hS h fd_4_4_31 rfl (Or.inl (hts _ q1896)) (fun _ z => z) dX4_text_196 (fun x196 h => ?_)
      refine lv_bipush (v := 40) hx hb dX4_text_199 (by decide) ?_
      refine g_iload_n hx hb hl 1 rfl dX4_text_201 ?_
      refine lv_iadd hx hb dX4_text_202 ?_
      refine g_ialoadG hx hb hKn hS h dX4_text_203 (fun x203 h => ?_)
      refine g_iastoreG hx hb hKn hS h dX4_text_204 (fun G204 h H locs hS => ?_)
      refine lv_iconst (v := 0) hx hb dX4_text_205 (by decide) ?_
      refine g_istore_n (l1 := [(3, .inl 0), (0, .inr (.inr (some t))), (2, .inl v2)]) hx hb hl (by decide) rfl dX4_text_206 (fun ls hl => ?_)
      exact sX4_text_b207 C ih gFU _ _ _ _ _ h _ _ _ _ _ hS (gls_sub hl [1, 2, 0] rfl)
theorem sX4_text (l : Launch) (E : g_E) (D : g_D) {t : Nat} {v1 : Int32} {G : g_G} {q : Int32 × g_G} (h : fX4_text E t v1 G = some q) : gMet l E D yX4_text (ws_ yX4_text cX4_text 4 (some .int)) 243 14125 [.inr (.inr (some t)), .inl v1] G (some (.int q.1)) q.2 := by
  refine gMet.of (by decide +kernel) (Nat.le_of_ble_eq_true rfl) ?_
  intro p e R s m args below meth c C hS ls hl
  have C : gC p R s m args meth c cX4_text 4 RX4 "text" (some .int) 243 14125 E D := C
  obtain ⟨hx, hb, hml, hown, hts, hKn, hRc, hRs, hc1, hc2, hRf, hRl, hr, hlk, hnm⟩ := id C
  have hl : gls ls 4 [(0, .inr (.inr (some t))), (1, .inl v1)] := hl
  generalize s.heap = H at hS ⊢
  unfold fX4_text at h
  refine g_aload_n hx hb hl 0 rfl dX4_text_0 ?_
  refine lv_iconst (v := 0) hx hb dX4_text_1 (by decide) ?_
  refine g_ptI hx hb hown hts hKn hS h fd_4_4_2 (Or.inl (hts _ q1867)) (fun _ z => z) (fun z => nomatch z) dX4_text_2 (fun G2 h H locs hS => ?_)
  refine g_iload_n hx hb hl 1 rfl dX4_text_5 ?_
  refine lv_if_lt (tgt := 17) hx hb dX4_text_6 (by decide) (fun c_6 => ?_) (fun c_6 => ?_)
  · have h := g_ift c_6 h
    exact sX4_text_b17 C _ _ _ h _ _ _ _ _ hS (gls_sub hl [0] rfl)
  · have h := g_iff c_6 h
    refine g_iload_n hx hb hl 1 rfl dX4_text_9 ?_
    refine g_aload_n hx hb hl 0 rfl dX4_text_10 ?_
    refine g_rdI hx hb hown hts hKn hS h fd_4_4_10 rfl (Or.inl (hts _ q1875)) (fun _ z => z) dX4_text_11 (fun x11 h => ?_)
    refine lv_icmp_le (tgt := 23) hx hb dX4_text_14 (by decide) (fun c_14 => ?_) (fun c_14 => ?_)
    · have h := g_ift c_14 h
      refine g_aload_n hx hb hl 0 rfl dX4_text_23 ?_
      refine lv_iconst (v := 0) hx hb dX4_text_24 (by decide) ?_
      refine g_ptI hx hb hown hts hKn hS h fd_4_4_10 (Or.inl (hts _ q1875)) (fun _ z => z) (fun z => nomatch z) dX4_text_25 (fun G25 h H locs hS => ?_)
      refine g_aload_n hx hb hl 0 rfl dX4_text_28 ?_
      refine g_iload_n hx hb hl 1 rfl dX4_text_29 ?_
      refine g_ptI hx hb hown hts hKn hS h fd_4_4_12 (Or.inl (hts _ q1877)) (fun _ z => z) (fun z => nomatch z) dX4_text_30 (fun G30 h H locs hS => ?_)
      refine g_aload_n hx hb hl 0 rfl dX4_text_33 ?_
      refine lv_iconst (v := 0) hx hb dX4_text_34 (by decide) ?_
      refine g_ptI hx hb hown hts hKn hS h fd_4_4_11 (Or.inl (hts _ q1876)) (fun _ z => z) (fun z => nomatch z) dX4_text_35 (fun G35 h H locs hS => ?_)
      refine g_aload_n hx hb hl 0 rfl dX4_text_38 ?_
      refine lv_iconst (v := 0) hx hb dX4_text_39 (by decide) ?_
      refine g_ptI hx hb hown hts hKn hS h fd_4_4_18 (Or.inl (hts _ q1883)) (fun _ z => z) (fun z => nomatch z) dX4_text_40 (fun G40 h H locs hS => ?_)
      refine g_aload_n hx hb hl 0 rfl dX4_text_43 ?_
      refine lv_iconst (v := (-1)) hx hb dX4_text_44 (by decide) ?_
      refine g_ptI hx hb hown hts hKn hS h fd_4_4_20 (Or.inl (hts _ q1885)) (fun _ z => z) (fun z => nomatch z) dX4_text_45 (fun G45 h H locs hS => ?_)
      refine g_aload_n hx hb hl 0 rfl dX4_text_48 ?_
      refine lv_iconst (v := 0) hx hb dX4_text_49 (by decide) ?_
      refine g_ptI hx hb hown hts hKn hS h fd_4_4_21 (Or.inl (hts _ q1886)) (fun _ z => z) (fun z => nomatch z) dX4_text_50 (fun G50 h H locs hS => ?_)
      refine g_aload_n hx hb hl 0 rfl dX4_text_53 ?_
      refine g_rdR hx hb hown hts hKn hS h fd_4_4_22 rfl (Or.inl (hts _ q1887)) (fun _ z => z) dX4_text_54 (fun x54 h => ?_)
      refine lv_iconst (v := 1) hx hb dX4_text_57 (by decide) ?_
      refine lv_iconst (v := 0) hx hb dX4_text_58 (by decide) ?_
      refine g_iastoreG hx hb hKn hS h dX4_text_59 (fun G59 h H locs hS => ?_)
      refine g_aload_n hx hb hl 0 rfl dX4_text_60 ?_
      obtain ⟨b61, hb61, h⟩ := g_bnd h
      obtain ⟨hr61, hk61⟩ := g_chk hb61
      obtain ⟨z61, h61, h⟩ := g_bnd h
      refine g_callV (n := 0) (b := b61) (av := []) (rs := []) hx hb hml hown hts hKn hRc hRs hS hl (sX4_stepOn l E D h61) (lw_V q2092 q2094 qs49 q135 q2095) ⟨rfl, by decide, by decide, by decide +kernel⟩ ⟨by rw [hRf]; exact Nat.le_of_ble_eq_true rfl, by rw [hRl]; exact Nat.le_of_ble_eq_true rfl⟩ (g_recv hKn hS hk61 (by decide) (by decide)) rfl (by rw [hr61]; rfl) (Nat.le_of_ble_eq_true rfl) dX4_text_61 (fun H locs cells slots hS => ?_)
      refine g_aload_n hx hb hl 0 rfl dX4_text_64 ?_
      refine lv_iconst (v := 0) hx hb dX4_text_65 (by decide) ?_
      refine lv_iconst (v := (-1)) hx hb dX4_text_66 (by decide) ?_
      obtain ⟨b67, hb67, h⟩ := g_bnd h
      obtain ⟨hr67, hk67⟩ := g_chk hb67
      obtain ⟨z67, h67, h⟩ := g_bnd h
      refine g_callV (n := 2) (b := b67) (av := [.inl 0, .inl (-1)]) (rs := []) hx hb hml hown hts hKn hRc hRs hS hl (sT_msteps l E D h67) (lw_V q2108 q2110 qs51 q135 q2111) ⟨rfl, by decide, by decide, by decide +kernel⟩ ⟨by rw [hRf]; exact Nat.le_of_ble_eq_true rfl, by rw [hRl]; exact Nat.le_of_ble_eq_true rfl⟩ (g_recv hKn hS hk67 (by decide) (by decide)) rfl (by rw [hr67]; rfl) (Nat.le_of_ble_eq_true rfl) dX4_text_67 (fun H locs cells slots hS => ?_)
      refine lv_pop hx hb dX4_text_70 rfl ?_
      refine g_aload_n hx hb hl 0 rfl dX4_text_71 ?_
      refine g_rdI hx hb hown hts hKn hS h fd_4_4_18 rfl (Or.inl (hts _ q1883)) (fun _ z => z) dX4_text_72 (fun x72 h => ?_)
      refine lv_if_eq (tgt := 91) hx hb dX4_text_75 (by decide) (fun c_75 => ?_) (fun c_75 => ?_)
      · have h := g_ift c_75 h
        refine g_aload_n hx hb hl 0 rfl dX4_text_91 ?_
        refine g_rdR hx hb hown hts hKn hS h fd_4_4_22 rfl (Or.inl (hts _ q1887)) (fun _ z => z) dX4_text_92 (fun x92 h => ?_)
        refine lv_iconst (v := 0) hx hb dX4_text_95 (by decide) ?_
        refine g_aload_n hx hb hl 0 rfl dX4_text_96 ?_
        refine g_rdR hx hb hown hts hKn hS h fd_4_4_22 rfl (Or.inl (hts _ q1887)) (fun _ z => z) dX4_text_97 (fun x97 h => ?_)
        refine lv_iconst (v := 1) hx hb dX4_text_100 (by decide) ?_
        refine g_ialoadG hx hb hKn hS h dX4_text_101 (fun x101 h => ?_)
        refine g_iastoreG hx hb hKn hS h dX4_text_102 (fun G102 h H locs hS => ?_)
        refine lv_iconst (v := 0) hx hb dX4_text_103 (by decide) ?_
        refine g_istore_n (l1 := [(2, .inl 0), (0, .inr (.inr (some t))), (1, .inl v1)]) hx hb hl (by decide) rfl dX4_text_104 (fun ls hl => ?_)
        exact sX4_text_b105 C gFU _ _ _ _ h _ _ _ _ _ hS (gls_sub hl [1, 0] rfl)
      · have h := g_iff c_75 h
        refine g_aload_n hx hb hl 0 rfl dX4_text_78 ?_
        refine g_aload_n hx hb hl 0 rfl dX4_text_79 ?_
        refine g_rdI hx hb hown hts hKn hS h fd_4_4_19 rfl (Or.inl (hts _ q1884)) (fun _ z => z) dX4_text_80 (fun x80 h => ?_)
        refine g_ptI hx hb hown hts hKn hS h fd_4_4_20 (Or.inl (hts _ q1885)) (fun _ z => z) (fun z => nomatch z) dX4_text_83 (fun G83 h H locs hS => ?_)
        refine g_aload_n hx hb hl 0 rfl dX4_text_86 ?_
        refine g_rdI hx hb hown hts hKn hS h fd_4_4_18 rfl (Or.inl (hts _ q1883)) (fun _ z => z) dX4_text_87 (fun x87 h => ?_)
        exact g_iretG hx hb hr hlk hKn hRc hRs hS h dX4_text_90
    · have h := g_iff c_14 h
      exact sX4_text_b17 C _ _ _ h _ _ _ _ _ hS (gls_sub hl [0] rfl)
/-- SendHall$Reader.product()LSendHall$Expr; -/
def fX5_product_b40 (E : g_E) (fE : g_E → Nat → g_G → Option ((Option Nat × g_G) ⊕ gX)) (k7 : Nat → (Option Nat) → (Option Nat) → g_G → Option ((Option Nat × g_G) ⊕ gX)) (t : Nat) (v1 : Option Nat) (v2 : Option Nat) (G : g_G) : Option ((Option Nat × g_G) ⊕ gX) :=
  (grR G 5 5 (some t) 9).bind fun x41 =>
  (gchk G 19 x41).bind fun b45 =>
  (fJ9_charAt E b45 0 G).bind fun z45 =>
  (gchk z45.2 5 (some t)).bind fun b50 =>
  (fX5_go E b50 z45.2).bind fun z50 =>
  (gchk z50 5 (some t)).bind fun b56 =>
  gcat (fX5_part E fE b56 z50) (fun z56 =>
    (gchk z56.2 9 v2).bind fun b59 =>
    (fX11_add E b59 z45.1 z56.1 z56.2).bind fun z59 =>
    k7 t v1 v2 z59)
  (fun y => some (.inr y))
def fX5_product_b27 (E : g_E) (fE : g_E → Nat → g_G → Option ((Option Nat × g_G) ⊕ gX)) (k7 : Nat → (Option Nat) → (Option Nat) → g_G → Option ((Option Nat × g_G) ⊕ gX)) (t : Nat) (v1 : Option Nat) (v2 : Option Nat) (G : g_G) : Option ((Option Nat × g_G) ⊕ gX) :=
  if ¬ v2 = none then (
    fX5_product_b40 E fE k7 t v1 v2 G)
  else (
    (gnewO E G 9 2).bind fun z31 =>
    (fX11_init E z31.1 v1 z31.2).bind fun z36 =>
    fX5_product_b40 E fE k7 t v1 (some z31.1) z36)
def fX5_product_b7 (E : g_E) (fE : g_E → Nat → g_G → Option ((Option Nat × g_G) ⊕ gX)) : Nat → Nat → (Option Nat) → (Option Nat) → g_G → Option ((Option Nat × g_G) ⊕ gX)
  | 0, _, _, _, _ => none
  | n + 1, t, v1, v2, G =>
    (gchk G 5 (some t)).bind fun b11 =>
    (fX5_is E b11 (some (gA E 44)) G).bind fun z11 =>
    if ¬ z11.1 = 0 then (
      fX5_product_b27 E fE (fX5_product_b7 E fE n) t v1 v2 z11.2)
    else (
      (gchk z11.2 5 (some t)).bind fun b21 =>
      (fX5_is E b21 (some (gA E 45)) z11.2).bind fun z21 =>
      if z21.1 = 0 then (
        if ¬ v2 = none then (
          some (.inl (v2, z21.2)))
        else (
          some (.inl (v1, z21.2))))
      else (
        fX5_product_b27 E fE (fX5_product_b7 E fE n) t v1 v2 z21.2))
def fX5_product (E : g_E) (fE : g_E → Nat → g_G → Option ((Option Nat × g_G) ⊕ gX)) (t : Nat) (G : g_G) : Option ((Option Nat × g_G) ⊕ gX) :=
  (gchk G 5 (some t)).bind fun b1 =>
  gcat (fX5_part E fE b1 G) (fun z1 =>
    fX5_product_b7 E fE gFU t z1.1 none z1.2)
  (fun y => some (.inr y))
theorem sX5_product_b40 {p : Program} {l : Launch} {e : Env} {R : Room} {s : State} {m : MethodId} {args : Array Value} {below : List Frame} {meth : Method} {c : Code} {E : g_E} {D : g_D} {fE : g_E → Nat → g_G → Option ((Option Nat × g_G) ⊕ gX)} {fF : Nat} {fL : Nat} (C : gC p R s m args meth c cX5_product 4 RX5 "product" (some (.object "SendHall$Expr")) (fF + 4) (fL + 200) E D) (hlT : l.stackTraces = false) (htab : c.exceptionTable.toList = []) (hfE : ∀ (l : Launch) (E : g_E) (D : g_D), l.stackTraces = false → ∀ {t : Nat} {G : g_G} {q : (Option Nat × g_G) ⊕ gX}, fE E t G = some q → gMetX l E D yX5_expr (ws_ yX5_expr cX5_expr 4 (some (.object "SendHall$Expr"))) fF fL [.inr (.inr (some t))] G gokA q) (hF : 60 ≤ fF) (hL : 3000 ≤ fL) {k7 : Nat → (Option Nat) → (Option Nat) → g_G → Option ((Option Nat × g_G) ⊕ gX)} (hk7 : ∀ (t : Nat) (v1 : Option Nat) (v2 : Option Nat) (G : g_G) (q : (Option Nat × g_G) ⊕ gX), k7 t v1 v2 G = some q → ∀ (H : Heap) (locs : List Loc) (cells slots : Nat) (ls : Array Slot), gSt E D G H locs → gls ls 4 [(0, .inr (.inr (some t))), (1, .inr (.inr v1)), (2, .inr (.inr v2))] → gTX p l e R s m args below meth c E D H locs cells slots gokA q (F0 m 7 ls [])) : ∀ (t : Nat) (v1 : Option Nat) (v2 : Option Nat) (G : g_G) (q : (Option Nat × g_G) ⊕ gX), fX5_product_b40 E fE k7 t v1 v2 G = some q → ∀ (H : Heap) (locs : List Loc) (cells slots : Nat) (ls : Array Slot), gSt E D G H locs → gls ls 4 [(0, .inr (.inr (some t))), (1, .inr (.inr v1)), (2, .inr (.inr v2))] → gTX p l e R s m args below meth c E D H locs cells slots gokA q (F0 m 40 ls []) := by
  obtain ⟨hx, hb, hml, hown, hts, hKn, hRc, hRs, hc1, hc2, hRf, hRl, hr, hlk, hnm⟩ := id C
  intro t v1 v2 G q h H locs cells slots ls hS hl
  unfold fX5_product_b40 at h
  refine g_aload_n hx hb hl 0 rfl dX5_product_40 ?_
  refine g_rdR hx hb hown hts hKn hS h fd_5_5_9 rfl (Or.inl (hts _ q1242)) (fun _ z => z) dX5_product_41 (fun x41 h => ?_)
  refine lv_iconst (v := 0) hx hb dX5_product_44 (by decide) ?_
  obtain ⟨b45, hb45, h⟩ := g_bnd h
  obtain ⟨hr45, hk45⟩ := g_chk hb45
  obtain ⟨z45, h45, h⟩ := g_bnd h
  refine g_callV (n := 1) (b := b45) (av := [.inl 0]) (rs := []) hx hb hml hown hts hKn hRc hRs hS hl (sJ9_charAt l E D h45) (lw_V q1523 q1524 q1525 q124 q1526) ⟨rfl, by decide, by decide, by decide +kernel⟩ ⟨by rw [hRf]; omega, by rw [hRl]; omega⟩ (g_recv hKn hS hk45 (by decide) (by decide)) rfl (by rw [hr45]; rfl) (Nat.le_of_ble_eq_true rfl) dX5_product_45 (fun H locs cells slots hS => ?_)
  refine g_istore_n (l1 := [(3, .inl z45.1), (0, .inr (.inr (some t))), (1, .inr (.inr v1)), (2, .inr (.inr v2))]) hx hb hl (by decide) rfl dX5_product_48 (fun ls hl => ?_)
  refine g_aload_n hx hb hl 1 rfl dX5_product_49 ?_
  obtain ⟨b50, hb50, h⟩ := g_bnd h
  obtain ⟨hr50, hk50⟩ := g_chk hb50
  obtain ⟨z50, h50, h⟩ := g_bnd h
  refine g_callV (n := 0) (b := b50) (av := []) (rs := []) hx hb hml hown hts hKn hRc hRs hS hl (sX5_go l E D h50) (lw_V q1118 q1120 qs24 q136 q1121) ⟨rfl, by decide, by decide, by decide +kernel⟩ ⟨by rw [hRf]; omega, by rw [hRl]; omega⟩ (g_recv hKn hS hk50 (by decide) (by decide)) rfl (by rw [hr50]; rfl) (Nat.le_of_ble_eq_true rfl) dX5_product_50 (fun H locs cells slots hS => ?_)
  refine g_aload_n hx hb hl 3 rfl dX5_product_53 ?_
  refine g_iload_n hx hb hl 0 rfl dX5_product_54 ?_
  refine g_aload_n hx hb hl 1 rfl dX5_product_55 ?_
  obtain ⟨b56, hb56, h⟩ := g_bnd h
  obtain ⟨hr56, hk56⟩ := g_chk hb56
  obtain ⟨o56, h56, ha56, hx56⟩ := g_catE h
  refine g_callVt (n := 0) (b := b56) (av := []) (rs := [.inl z45.1, .inr (.inr v2)]) hx hb hml hown hts hKn hRc hRs hS hl (sX5_part l E D hlT hfE hF hL h56) (lw_V q1478 q1480 qs33 q136 q1481) ⟨rfl, by decide, by decide, by decide +kernel⟩ ⟨by rw [hRf]; omega, by rw [hRl]; omega⟩ (g_recv hKn hS hk56 (by decide) (by decide)) rfl (by rw [hr56]; rfl) (Nat.le_of_ble_eq_true rfl) dX5_product_56 (fun z56 e56 H locs cells slots hS => ?_) (fun k56 a56 G56 e56 n1 n2 nk nB H locs cells slots hS => ?_)
  · have h := ha56 _ e56
    obtain ⟨b59, hb59, h⟩ := g_bnd h
    obtain ⟨hr59, hk59⟩ := g_chk hb59
    obtain ⟨z59, h59, h⟩ := g_bnd h
    refine g_callV (n := 2) (b := b59) (av := [.inl z45.1, .inr (.inr z56.1)]) (rs := []) hx hb hml hown hts hKn hRc hRs hS hl (sX11_add l E D h59) (lw_V q1534 q1535 q1536 q145 q1537) ⟨rfl, by decide, by decide, by decide +kernel⟩ ⟨by rw [hRf]; omega, by rw [hRl]; omega⟩ (g_recv hKn hS hk59 (by decide) (by decide)) rfl (by rw [hr59]; rfl) (Nat.le_of_ble_eq_true rfl) dX5_product_59 (fun H locs cells slots hS => ?_)
    refine lv_goto (tgt := 7) hx hb dX5_product_62 (by decide) ?_
    exact hk7 _ _ _ _ _ h _ _ _ _ _ hS (gls_sub hl [1, 2, 3] rfl)
  · have h := hx56 _ e56
    exact g_outX (by rw [htab]; decide) hlk hKn hRc hRs hS n1 n2 nB nk h
theorem sX5_product_b27 {p : Program} {l : Launch} {e : Env} {R : Room} {s : State} {m : MethodId} {args : Array Value} {below : List Frame} {meth : Method} {c : Code} {E : g_E} {D : g_D} {fE : g_E → Nat → g_G → Option ((Option Nat × g_G) ⊕ gX)} {fF : Nat} {fL : Nat} (C : gC p R s m args meth c cX5_product 4 RX5 "product" (some (.object "SendHall$Expr")) (fF + 4) (fL + 200) E D) (hlT : l.stackTraces = false) (htab : c.exceptionTable.toList = []) (hfE : ∀ (l : Launch) (E : g_E) (D : g_D), l.stackTraces = false → ∀ {t : Nat} {G : g_G} {q : (Option Nat × g_G) ⊕ gX}, fE E t G = some q → gMetX l E D yX5_expr (ws_ yX5_expr cX5_expr 4 (some (.object "SendHall$Expr"))) fF fL [.inr (.inr (some t))] G gokA q) (hF : 60 ≤ fF) (hL : 3000 ≤ fL) {k7 : Nat → (Option Nat) → (Option Nat) → g_G → Option ((Option Nat × g_G) ⊕ gX)} (hk7 : ∀ (t : Nat) (v1 : Option Nat) (v2 : Option Nat) (G : g_G) (q : (Option Nat × g_G) ⊕ gX), k7 t v1 v2 G = some q → ∀ (H : Heap) (locs : List Loc) (cells slots : Nat) (ls : Array Slot), gSt E D G H locs → gls ls 4 [(0, .inr (.inr (some t))), (1, .inr (.inr v1)), (2, .inr (.inr v2))] → gTX p l e R s m args below meth c E D H locs cells slots gokA q (F0 m 7 ls [])) : ∀ (t : Nat) (v1 : Option Nat) (v2 : Option Nat) (G : g_G) (q : (Option Nat × g_G) ⊕ gX), fX5_product_b27 E fE k7 t v1 v2 G = some q → ∀ (H : Heap) (locs : List Loc) (cells slots : Nat) (ls : Array Slot), gSt E D G H locs → gls ls 4 [(0, .inr (.inr (some t))), (1, .inr (.inr v1)), (2, .inr (.inr v2))] → gTX p l e R s m args below meth c E D H locs cells slots gokA q (F0 m 27 ls []) := by
  obtain ⟨hx, hb, hml, hown, hts, hKn, hRc, hRs, hc1, hc2, hRf, hRl, hr, hlk, hnm⟩ := id C
  intro t v1 v2 G q h H locs cells slots ls hS hl
  unfold fX5_product_b27 at h
  refine g_aload_n hx hb hl 2 rfl dX5_product_27 ?_
  refine g_ifnonnull (tgt := 40) hx hb dX5_product_28 (by decide) (fun c_28 => ?_) (fun c_28 => ?_)
  · have h := g_ift c_28 h
    exact sX5_product_b40 C hlT htab hfE hF hL hk7 _ _ _ _ _ h _ _ _ _ _ hS (gls_sub hl [0, 1, 2] rfl)
  · have h := g_iff (fun z => z c_28) h
    refine g_newG (k := 9) hx hb hown hts hKn hRc hRs hS h (by decide) (by decide) (hts _ q1507) (hts _ q1508) (hts _ q145) dX5_product_31 (fun z31 h H locs cells slots hS => ?_)
    refine lv_dup hx hb dX5_product_34 (by first | exact va_rf_cat _ | rfl | exact g_catA _) ?_
    refine g_aload_n hx hb hl 1 rfl dX5_product_35 ?_
    obtain ⟨z36, h36, h⟩ := g_bnd h
    refine g_callI (n := 1) (av := [.inr (.inr v1)]) (rs := [.inr (.inr (some z31.1))]) hx hb hml hown hts hKn hRc hRs hS hl (sX11_init l E D h36) (lw_meth q1511) (hts _ q145) (hts _ q1509) (hts _ q1510) rfl ⟨by decide, by decide, by decide +kernel⟩ ⟨by rw [hRf]; omega, by rw [hRl]; omega⟩ rfl rfl (Nat.le_of_ble_eq_true rfl) dX5_product_36 (fun H locs cells slots hS => ?_)
    refine g_astore_n (l1 := [(2, .inr (.inr (some z31.1))), (0, .inr (.inr (some t))), (1, .inr (.inr v1))]) hx hb hl (by decide) rfl dX5_product_39 (fun ls hl => ?_)
    exact sX5_product_b40 C hlT htab hfE hF hL hk7 _ _ _ _ _ h _ _ _ _ _ hS (gls_sub hl [1, 2, 0] rfl)
theorem sX5_product_b7 {p : Program} {l : Launch} {e : Env} {R : Room} {s : State} {m : MethodId} {args : Array Value} {below : List Frame} {meth : Method} {c : Code} {E : g_E} {D : g_D} {fE : g_E → Nat → g_G → Option ((Option Nat × g_G) ⊕ gX)} {fF : Nat} {fL : Nat} (C : gC p R s m args meth c cX5_product 4 RX5 "product" (some (.object "SendHall$Expr")) (fF + 4) (fL + 200) E D) (hlT : l.stackTraces = false) (htab : c.exceptionTable.toList = []) (hfE : ∀ (l : Launch) (E : g_E) (D : g_D), l.stackTraces = false → ∀ {t : Nat} {G : g_G} {q : (Option Nat × g_G) ⊕ gX}, fE E t G = some q → gMetX l E D yX5_expr (ws_ yX5_expr cX5_expr 4 (some (.object "SendHall$Expr"))) fF fL [.inr (.inr (some t))] G gokA q) (hF : 60 ≤ fF) (hL : 3000 ≤ fL) : ∀ (n : Nat) (t : Nat) (v1 : Option Nat) (v2 : Option Nat) (G : g_G) (q : (Option Nat × g_G) ⊕ gX), fX5_product_b7 E fE n t v1 v2 G = some q → ∀ (H : Heap) (locs : List Loc) (cells slots : Nat) (ls : Array Slot), gSt E D G H locs → gls ls 4 [(0, .inr (.inr (some t))), (1, .inr (.inr v1)), (2, .inr (.inr v2))] → gTX p l e R s m args below meth c E D H locs cells slots gokA q (F0 m 7 ls []) := by
  obtain ⟨hx, hb, hml, hown, hts, hKn, hRc, hRs, hc1, hc2, hRf, hRl, hr, hlk, hnm⟩ := id C
  intro n
  induction n with
  | zero =>
    intro t v1 v2 G q h
    exact g_no h
  | succ n ih =>
    intro t v1 v2 G q h H locs cells slots ls hS hl
    rw [fX5_product_b7] at h
    refine g_aload_n hx hb hl 0 rfl dX5_product_7 ?_
    refine g_ldcwS (i := 44) hx hb hown hKn (List.mem_of_getElem? (i := 24) rfl) dX5_product_8 ?_
    obtain ⟨b11, hb11, h⟩ := g_bnd h
    obtain ⟨hr11, hk11⟩ := g_chk hb11
    obtain ⟨z11, h11, h⟩ := g_bnd h
    refine g_callV (n := 1) (b := b11) (av := [.inr (.inr (some (gA E 44)))]) (rs := []) hx hb hml hown hts hKn hRc hRs hS hl (sX5_is l E D h11) (lw_V q1483 q1485 qs34 q136 q1486) ⟨rfl, by decide, by decide, by decide +kernel⟩ ⟨by rw [hRf]; omega, by rw [hRl]; omega⟩ (g_recv hKn hS hk11 (by decide) (by decide)) rfl (by rw [hr11]; rfl) (Nat.le_of_ble_eq_true rfl) dX5_product_11 (fun H locs cells slots hS => ?_)
    refine lv_if_ne (tgt := 27) hx hb dX5_product_14 (by decide) (fun c_14 => ?_) (fun c_14 => ?_)
    · have h := g_ift c_14 h
      exact sX5_product_b27 C hlT htab hfE hF hL ih _ _ _ _ _ h _ _ _ _ _ hS (gls_sub hl [0, 1, 2] rfl)
    · have h := g_iff (fun z => z c_14) h
      refine g_aload_n hx hb hl 0 rfl dX5_product_17 ?_
      refine g_ldcwS (i := 45) hx hb hown hKn (List.mem_of_getElem? (i := 25) rfl) dX5_product_18 ?_
      obtain ⟨b21, hb21, h⟩ := g_bnd h
      obtain ⟨hr21, hk21⟩ := g_chk hb21
      obtain ⟨z21, h21, h⟩ := g_bnd h
      refine g_callV (n := 1) (b := b21) (av := [.inr (.inr (some (gA E 45)))]) (rs := []) hx hb hml hown hts hKn hRc hRs hS hl (sX5_is l E D h21) (lw_V q1483 q1485 qs34 q136 q1486) ⟨rfl, by decide, by decide, by decide +kernel⟩ ⟨by rw [hRf]; omega, by rw [hRl]; omega⟩ (g_recv hKn hS hk21 (by decide) (by decide)) rfl (by rw [hr21]; rfl) (Nat.le_of_ble_eq_true rfl) dX5_product_21 (fun H locs cells slots hS => ?_)
      refine lv_if_eq (tgt := 65) hx hb dX5_product_24 (by decide) (fun c_24 => ?_) (fun c_24 => ?_)
      · have h := g_ift c_24 h
        refine g_aload_n hx hb hl 2 rfl dX5_product_65 ?_
        refine g_ifnonnull (tgt := 73) hx hb dX5_product_66 (by decide) (fun c_66 => ?_) (fun c_66 => ?_)
        · have h := g_ift c_66 h
          refine g_aload_n hx hb hl 2 rfl dX5_product_73 ?_
          exact g_retX (g_aretG hx hb hr (by first | exact Or.inl ⟨_, rfl⟩ | exact Or.inr ⟨_, rfl⟩) hlk hKn hRc hRs hS (q := (v2, z21.2)) rfl dX5_product_74) h rfl
        · have h := g_iff (fun z => z c_66) h
          refine g_aload_n hx hb hl 1 rfl dX5_product_69 ?_
          refine lv_goto (tgt := 74) hx hb dX5_product_70 (by decide) ?_
          exact g_retX (g_aretG hx hb hr (by first | exact Or.inl ⟨_, rfl⟩ | exact Or.inr ⟨_, rfl⟩) hlk hKn hRc hRs hS (q := (v1, z21.2)) rfl dX5_product_74) h rfl
      · have h := g_iff c_24 h
        exact sX5_product_b27 C hlT htab hfE hF hL ih _ _ _ _ _ h _ _ _ _ _ hS (gls_sub hl [0, 1, 2] rfl)
theorem sX5_product (l : Launch) (E : g_E) (D : g_D) (hlT : l.stackTraces = false) {fE : g_E → Nat → g_G → Option ((Option Nat × g_G) ⊕ gX)} {fF : Nat} {fL : Nat} (hfE : ∀ (l : Launch) (E : g_E) (D : g_D), l.stackTraces = false → ∀ {t : Nat} {G : g_G} {q : (Option Nat × g_G) ⊕ gX}, fE E t G = some q → gMetX l E D yX5_expr (ws_ yX5_expr cX5_expr 4 (some (.object "SendHall$Expr"))) fF fL [.inr (.inr (some t))] G gokA q) (hF : 60 ≤ fF) (hL : 3000 ≤ fL) {t : Nat} {G : g_G} {q : (Option Nat × g_G) ⊕ gX} (h : fX5_product E fE t G = some q) : gMetX l E D yX5_product (ws_ yX5_product cX5_product 4 (some (.object "SendHall$Expr"))) (fF + 4) (fL + 200) [.inr (.inr (some t))] G gokA q := by
  refine gMetX.of (by decide +kernel) (Nat.le_of_ble_eq_true rfl) ?_
  intro p e R s m args below meth c C htab hS ls hl
  have C : gC p R s m args meth c cX5_product 4 RX5 "product" (some (.object "SendHall$Expr")) (fF + 4) (fL + 200) E D := C
  obtain ⟨hx, hb, hml, hown, hts, hKn, hRc, hRs, hc1, hc2, hRf, hRl, hr, hlk, hnm⟩ := id C
  have hl : gls ls 4 [(0, .inr (.inr (some t)))] := hl
  generalize hH0 : s.heap = H at hS ⊢
  unfold fX5_product at h
  refine g_aload_n hx hb hl 0 rfl dX5_product_0 ?_
  obtain ⟨b1, hb1, h⟩ := g_bnd h
  obtain ⟨hr1, hk1⟩ := g_chk hb1
  obtain ⟨o1, h1, ha1, hx1⟩ := g_catE h
  refine g_callVt (n := 0) (b := b1) (av := []) (rs := []) hx hb hml hown hts hKn hRc hRs hS hl (sX5_part l E D hlT hfE hF hL h1) (lw_V q1478 q1480 qs33 q136 q1481) ⟨rfl, by decide, by decide, by decide +kernel⟩ ⟨by rw [hRf]; omega, by rw [hRl]; omega⟩ (g_recv hKn hS hk1 (by decide) (by decide)) rfl (by rw [hr1]; rfl) (Nat.le_of_ble_eq_true rfl) dX5_product_1 (fun z1 e1 H locs cells slots hS => ?_) (fun k1 a1 G1 e1 n1 n2 nk nB H locs cells slots hS => ?_)
  · have h := ha1 _ e1
    refine g_astore_n (l1 := [(1, .inr (.inr z1.1)), (0, .inr (.inr (some t)))]) hx hb hl (by decide) rfl dX5_product_4 (fun ls hl => ?_)
    refine g_null hx hb dX5_product_5 ?_
    refine g_astore_n (l1 := [(2, .inr (.inr none)), (1, .inr (.inr z1.1)), (0, .inr (.inr (some t)))]) hx hb hl (by decide) rfl dX5_product_6 (fun ls hl => ?_)
    exact sX5_product_b7 C hlT htab hfE hF hL gFU _ _ _ _ _ h _ _ _ _ _ hS (gls_sub hl [2, 1, 0] rfl)
  · have h := hx1 _ e1
    exact g_outX (by rw [htab]; decide) hlk hKn hRc hRs hS n1 n2 nB nk h
