set_option maxRecDepth 100000
/-- SendHallModel.lay(IZ)V -/
def fX4_lay_b220 (E : g_E) (t : Nat) (v1 : Int32) (v3 : Int32) (v4 : Int32) (s0 : Option Nat) (s1 : Int32) (s2 : Int32) (G : g_G) : Option (g_G) :=
  (gsaI E G s0 s1 s2).bind fun G220 =>
  (grR G220 4 4 (some t) 39).bind fun x222 =>
  (grR G220 4 4 (some t) 36).bind fun x228 =>
  (gaI G220 100 x228 v1).bind fun x232 =>
  (gchk G220 4 (some t)).bind fun b238 =>
  (fX4_farOf E b238 v1 v3 G220).bind fun z238 =>
  (gsaI E z238.2 x222 v4 ((x232 + 1) + z238.1)).bind fun G242 =>
  (grR G242 4 4 (some t) 33).bind fun x244 =>
  (gaI G242 100 x244 64).bind fun x250 =>
  (gsaI E G242 x244 64 (x250 + 1)).bind fun G253 =>
  some G253
def fX4_lay_b126 (E : g_E) (t : Nat) (v1 : Int32) (v2 : Int32) (v3 : Int32) (v4 : Int32) (G : g_G) : Option (g_G) :=
  (fX4_wordAt E v4 G).bind fun z128 =>
  (grR z128.2 4 4 (some t) 33).bind fun x134 =>
  (gsaI E z128.2 x134 (z128.1 + 0) v1).bind fun G142 =>
  (grR G142 4 4 (some t) 33).bind fun x144 =>
  (gsaI E G142 x144 (z128.1 + 1) v3).bind fun G152 =>
  (grR G152 4 4 (some t) 33).bind fun x154 =>
  (gchk G152 4 (some t)).bind fun b164 =>
  (fX4_asked E b164 v1 1 G152).bind fun z164 =>
  (gsaI E z164.2 x154 (z128.1 + 2) z164.1).bind fun G167 =>
  (grR G167 4 4 (some t) 33).bind fun x169 =>
  (gchk G167 4 (some t)).bind fun b179 =>
  (fX4_asked E b179 v1 2 G167).bind fun z179 =>
  (gsaI E z179.2 x169 (z128.1 + 3) z179.1).bind fun G182 =>
  (grR G182 4 4 (some t) 33).bind fun x184 =>
  (grR G182 4 4 (some t) 28).bind fun x192 =>
  (gchk G182 4 (some t)).bind fun b198 =>
  (fX4_own E b198 v1 0 G182).bind fun z198 =>
  (gaI z198.2 100 x192 z198.1).bind fun x201 =>
  (gsaI E z198.2 x184 (z128.1 + 4) x201).bind fun G202 =>
  (grR G202 4 4 (some t) 33).bind fun x204 =>
  if v2 = 0 then (
    fX4_lay_b220 E t v1 v3 v4 x204 (z128.1 + 5) 0 G202)
  else (
    fX4_lay_b220 E t v1 v3 v4 x204 (z128.1 + 5) 1 G202)
def fX4_lay_b68 (E : g_E) (k13 : Nat → Int32 → Int32 → Int32 → Int32 → g_G → Option (g_G)) : Nat → Nat → Int32 → Int32 → Int32 → Int32 → Int32 → Int32 → g_G → Option (g_G)
  | 0, _, _, _, _, _, _, _, _ => none
  | n + 1, t, v1, v2, v3, v4, v5, v7, G =>
    if (6 : Int32) ≤ v7 then (
      (grR G 4 4 (some t) 39).bind fun x105 =>
      (grR G 4 4 (some t) 39).bind fun x111 =>
      (gaI G 100 x111 (v4 - 1)).bind fun x118 =>
      (gsaI E G x105 v4 x118).bind fun G119 =>
      k13 t v1 v2 v3 (v4 + (-1)) G119)
    else (
      (grR G 4 4 (some t) 33).bind fun x76 =>
      (grR G 4 4 (some t) 33).bind fun x88 =>
      (gaI G 100 x88 (v5 + v7)).bind fun x96 =>
      (gsaI E G x76 ((v5 + 6) + v7) x96).bind fun G97 =>
      fX4_lay_b68 E k13 n t v1 v2 v3 v4 v5 (v7 + 1) G97)
def fX4_lay_b13 (E : g_E) : Nat → Nat → Int32 → Int32 → Int32 → Int32 → g_G → Option (g_G)
  | 0, _, _, _, _, _, _ => none
  | n + 1, t, v1, v2, v3, v4, G =>
    if v4 ≤ 0 then (
      fX4_lay_b126 E t v1 v2 v3 v4 G)
    else (
      (fX4_wordAt E (v4 - 1) G).bind fun z22 =>
      (grR z22.2 4 4 (some t) 33).bind fun x30 =>
      (gaI z22.2 100 x30 (z22.1 + 0)).bind fun x37 =>
      (grR z22.2 4 4 (some t) 33).bind fun x40 =>
      (gaI z22.2 100 x40 (z22.1 + 1)).bind fun x47 =>
      if ((8 * v1) + v3) < ((8 * x37) + x47) then (
        fX4_lay_b68 E (fX4_lay_b13 E n) gFU t v1 v2 v3 v4 z22.1 0 z22.2)
      else (
        fX4_lay_b126 E t v1 v2 v3 v4 z22.2))
def fX4_lay (E : g_E) (t : Nat) (v1 : Int32) (v2 : Int32) (G : g_G) : Option (g_G) :=
  (gchk G 4 (some t)).bind fun b3 =>
  (fX4_asked E b3 v1 0 G).bind fun z3 =>
  (gchk z3.2 4 (some t)).bind fun b8 =>
  (fX4_words E b8 z3.2).bind fun z8 =>
  fX4_lay_b13 E gFU t v1 v2 z3.1 z8.1 z8.2
theorem sX4_lay_b220 {p : Program} {l : Launch} {e : Env} {R : Room} {s : State} {m : MethodId} {args : Array Value} {below : List Frame} {meth : Method} {c : Code} {E : g_E} {D : g_D} (C : gC p R s m args meth c cX4_lay 8 RX4 "lay" (none) 4 134 E D) : ∀ (t : Nat) (v1 : Int32) (v3 : Int32) (v4 : Int32) (s0 : Option Nat) (s1 : Int32) (s2 : Int32) (G : g_G) (q : g_G), fX4_lay_b220 E t v1 v3 v4 s0 s1 s2 G = some q → ∀ (H : Heap) (locs : List Loc) (cells slots : Nat) (ls : Array Slot), gSt E D G H locs → gls ls 8 [(0, .inr (.inr (some t))), (1, .inl v1), (3, .inl v3), (4, .inl v4)] → gT p l e R s m args below meth c E D H locs cells slots none q (F0 m 220 ls [.int s2, .int s1, va_rf s0]) := by
  obtain ⟨hx, hb, hml, hown, hts, hKn, hRc, hRs, hc1, hc2, hRf, hRl, hr, hlk, hnm⟩ := id C
  intro t v1 v3 v4 s0 s1 s2 G q h H locs cells slots ls hS hl
  unfold fX4_lay_b220 at h
  refine g_iastoreG hx hb hKn hS h dX4_lay_220 (fun G220 h H locs hS => ?_)
  refine g_aload_n hx hb hl 0 rfl dX4_lay_221 ?_
  refine g_rdR hx hb hown hts hKn hS h fd_4_4_39 rfl (Or.inl (hts _ q1904)) (fun _ z => z) dX4_lay_222 (fun x222 h => ?_)
  refine g_iload hx hb hl 3 rfl dX4_lay_225 ?_
  refine g_aload_n hx hb hl 0 rfl dX4_lay_227 ?_
  refine g_rdR hx hb hown hts hKn hS h fd_4_4_36 rfl (Or.inl (hts _ q1901)) (fun _ z => z) dX4_lay_228 (fun x228 h => ?_)
  refine g_iload_n hx hb hl 1 rfl dX4_lay_231 ?_
  refine g_ialoadG hx hb hKn hS h dX4_lay_232 (fun x232 h => ?_)
  refine lv_iconst (v := 1) hx hb dX4_lay_233 (by decide) ?_
  refine lv_iadd hx hb dX4_lay_234 ?_
  refine g_aload_n hx hb hl 0 rfl dX4_lay_235 ?_
  refine g_iload_n hx hb hl 1 rfl dX4_lay_236 ?_
  refine g_iload_n hx hb hl 2 rfl dX4_lay_237 ?_
  obtain ⟨b238, hb238, h⟩ := g_bnd h
  obtain ⟨hr238, hk238⟩ := g_chk hb238
  obtain ⟨z238, h238, h⟩ := g_bnd h
  refine g_callV (n := 2) (b := b238) (av := [.inl v1, .inl v3]) (rs := [.inl (x232 + 1), .inl v4, .inr (.inr x222)]) hx hb hml hown hts hKn hRc hRs hS hl (sX4_farOf l E D h238) (lw_V q2319 q2321 qs94 q135 q2322) ⟨rfl, by decide, by decide, by decide +kernel⟩ ⟨by rw [hRf]; exact Nat.le_of_ble_eq_true rfl, by rw [hRl]; exact Nat.le_of_ble_eq_true rfl⟩ (g_recv hKn hS hk238 (by decide) (by decide)) rfl (by rw [hr238]; rfl) (Nat.le_of_ble_eq_true rfl) dX4_lay_238 (fun H locs cells slots hS => ?_)
  refine lv_iadd hx hb dX4_lay_241 ?_
  refine g_iastoreG hx hb hKn hS h dX4_lay_242 (fun G242 h H locs hS => ?_)
  refine g_aload_n hx hb hl 0 rfl dX4_lay_243 ?_
  refine g_rdR hx hb hown hts hKn hS h fd_4_4_33 rfl (Or.inl (hts _ q1898)) (fun _ z => z) dX4_lay_244 (fun x244 h => ?_)
  refine lv_bipush (v := 64) hx hb dX4_lay_247 (by decide) ?_
  refine lv_dup2_11 hx hb dX4_lay_249 rfl (by first | exact va_rf_cat _ | rfl | exact g_catA _) ?_
  refine g_ialoadG hx hb hKn hS h dX4_lay_250 (fun x250 h => ?_)
  refine lv_iconst (v := 1) hx hb dX4_lay_251 (by decide) ?_
  refine lv_iadd hx hb dX4_lay_252 ?_
  refine g_iastoreG hx hb hKn hS h dX4_lay_253 (fun G253 h H locs hS => ?_)
  exact g_vretG hx hb hr hlk hKn hRc hRs hS h dX4_lay_254
theorem sX4_lay_b126 {p : Program} {l : Launch} {e : Env} {R : Room} {s : State} {m : MethodId} {args : Array Value} {below : List Frame} {meth : Method} {c : Code} {E : g_E} {D : g_D} (C : gC p R s m args meth c cX4_lay 8 RX4 "lay" (none) 4 134 E D) : ∀ (t : Nat) (v1 : Int32) (v2 : Int32) (v3 : Int32) (v4 : Int32) (G : g_G) (q : g_G), fX4_lay_b126 E t v1 v2 v3 v4 G = some q → ∀ (H : Heap) (locs : List Loc) (cells slots : Nat) (ls : Array Slot), gSt E D G H locs → gls ls 8 [(0, .inr (.inr (some t))), (1, .inl v1), (2, .inl v2), (3, .inl v3), (4, .inl v4)] → gT p l e R s m args below meth c E D H locs cells slots none q (F0 m 126 ls []) := by
  obtain ⟨hx, hb, hml, hown, hts, hKn, hRc, hRs, hc1, hc2, hRf, hRl, hr, hlk, hnm⟩ := id C
  intro t v1 v2 v3 v4 G q h H locs cells slots ls hS hl
  unfold fX4_lay_b126 at h
  refine g_iload hx hb hl 4 rfl dX4_lay_126 ?_
  obtain ⟨z128, h128, h⟩ := g_bnd h
  refine g_callS (n := 1) (av := [.inl v4]) (rs := []) hx hb hml hown hts hKn hRc hRs hS hl (sX4_wordAt l E D h128) (lw_S q2292 q2293 q135 q2294) ⟨by decide, by decide, by decide +kernel⟩ ⟨by rw [hRf]; exact Nat.le_of_ble_eq_true rfl, by rw [hRl]; exact Nat.le_of_ble_eq_true rfl⟩ rfl rfl (Nat.le_of_ble_eq_true rfl) dX4_lay_128 (fun H locs cells slots hS => ?_)
  refine g_istore (l1 := [(5, .inl z128.1), (0, .inr (.inr (some t))), (1, .inl v1), (2, .inl v2), (3, .inl v3), (4, .inl v4)]) hx hb hl (by decide) rfl dX4_lay_131 (fun ls hl => ?_)
  refine g_aload_n hx hb hl 1 rfl dX4_lay_133 ?_
  refine g_rdR hx hb hown hts hKn hS h fd_4_4_33 rfl (Or.inl (hts _ q1898)) (fun _ z => z) dX4_lay_134 (fun x134 h => ?_)
  refine g_iload hx hb hl 0 rfl dX4_lay_137 ?_
  refine lv_iconst (v := 0) hx hb dX4_lay_139 (by decide) ?_
  refine lv_iadd hx hb dX4_lay_140 ?_
  refine g_iload_n hx hb hl 2 rfl dX4_lay_141 ?_
  refine g_iastoreG hx hb hKn hS h dX4_lay_142 (fun G142 h H locs hS => ?_)
  refine g_aload_n hx hb hl 1 rfl dX4_lay_143 ?_
  refine g_rdR hx hb hown hts hKn hS h fd_4_4_33 rfl (Or.inl (hts _ q1898)) (fun _ z => z) dX4_lay_144 (fun x144 h => ?_)
  refine g_iload hx hb hl 0 rfl dX4_lay_147 ?_
  refine lv_iconst (v := 1) hx hb dX4_lay_149 (by decide) ?_
  refine lv_iadd hx hb dX4_lay_150 ?_
  refine g_iload_n hx hb hl 4 rfl dX4_lay_151 ?_
  refine g_iastoreG hx hb hKn hS h dX4_lay_152 (fun G152 h H locs hS => ?_)
  refine g_aload_n hx hb hl 1 rfl dX4_lay_153 ?_
  refine g_rdR hx hb hown hts hKn hS h fd_4_4_33 rfl (Or.inl (hts _ q1898)) (fun _ z => z) dX4_lay_154 (fun x154 h => ?_)
  refine g_iload hx hb hl 0 rfl dX4_lay_157 ?_
  refine lv_iconst (v := 2) hx hb dX4_lay_159 (by decide) ?_
  refine lv_iadd hx hb dX4_lay_160 ?_
  refine g_aload_n hx hb hl 1 rfl dX4_lay_161 ?_
  refine g_iload_n hx hb hl 2 rfl dX4_lay_162 ?_
  refine lv_iconst (v := 1) hx hb dX4_lay_163 (by decide) ?_
  obtain ⟨b164, hb164, h⟩ := g_bnd h
  obtain ⟨hr164, hk164⟩ := g_chk hb164
  obtain ⟨z164, h164, h⟩ := g_bnd h
  refine g_callV (n := 2) (b := b164) (av := [.inl v1, .inl 1]) (rs := [.inl (z128.1 + 2), .inr (.inr x154)]) hx hb hml hown hts hKn hRc hRs hS hl (sX4_asked l E D h164) (lw_V q2241 q2243 qs76 q135 q2244) ⟨rfl, by decide, by decide, by decide +kernel⟩ ⟨by rw [hRf]; exact Nat.le_of_ble_eq_true rfl, by rw [hRl]; exact Nat.le_of_ble_eq_true rfl⟩ (g_recv hKn hS hk164 (by decide) (by decide)) rfl (by rw [hr164]; rfl) (Nat.le_of_ble_eq_true rfl) dX4_lay_164 (fun H locs cells slots hS => ?_)
  refine g_iastoreG hx hb hKn hS h dX4_lay_167 (fun G167 h H locs hS => ?_)
  refine g_aload_n hx hb hl 1 rfl dX4_lay_168 ?_
  refine g_rdR hx hb hown hts hKn hS h fd_4_4_33 rfl (Or.inl (hts _ q1898)) (fun _ z => z) dX4_lay_169 (fun x169 h => ?_)
  refine g_iload hx hb hl 0 rfl dX4_lay_172 ?_
  refine lv_iconst (v := 3) hx hb dX4_lay_174 (by decide) ?_
  refine lv_iadd hx hb dX4_lay_175 ?_
  refine g_aload_n hx hb hl 1 rfl dX4_lay_176 ?_
  refine g_iload_n hx hb hl 2 rfl dX4_lay_177 ?_
  refine lv_iconst (v := 2) hx hb dX4_lay_178 (by decide) ?_
  obtain ⟨b179, hb179, h⟩ := g_bnd h
  obtain ⟨hr179, hk179⟩ := g_chk hb179
  obtain ⟨z179, h179, h⟩ := g_bnd h
  refine g_callV (n := 2) (b := b179) (av := [.inl v1, .inl 2]) (rs := [.inl (z128.1 + 3), .inr (.inr x169)]) hx hb hml hown hts hKn hRc hRs hS hl (sX4_asked l E D h179) (lw_V q2241 q2243 qs76 q135 q2244) ⟨rfl, by decide, by decide, by decide +kernel⟩ ⟨by rw [hRf]; exact Nat.le_of_ble_eq_true rfl, by rw [hRl]; exact Nat.le_of_ble_eq_true rfl⟩ (g_recv hKn hS hk179 (by decide) (by decide)) rfl (by rw [hr179]; rfl) (Nat.le_of_ble_eq_true rfl) dX4_lay_179 (fun H locs cells slots hS => ?_)
  refine g_iastoreG hx hb hKn hS h dX4_lay_182 (fun G182 h H locs hS => ?_)
  refine g_aload_n hx hb hl 1 rfl dX4_lay_183 ?_
  refine g_rdR hx hb hown hts hKn hS h fd_4_4_33 rfl (Or.inl (hts _ q1898)) (fun _ z => z) dX4_lay_184 (fun x184 h => ?_)
  refine g_iload hx hb hl 0 rfl dX4_lay_187 ?_
  refine lv_iconst (v := 4) hx hb dX4_lay_189 (by decide) ?_
  refine lv_iadd hx hb dX4_lay_190 ?_
  refine g_aload_n hx hb hl 1 rfl dX4_lay_191 ?_
  refine g_rdR hx hb hown hts hKn hS h fd_4_4_28 rfl (Or.inl (hts _ q1893)) (fun _ z => z) dX4_lay_192 (fun x192 h => ?_)
  refine g_aload_n hx hb hl 1 rfl dX4_lay_195 ?_
  refine g_iload_n hx hb hl 2 rfl dX4_lay_196 ?_
  refine lv_iconst (v := 0) hx hb dX4_lay_197 (by decide) ?_
  obtain ⟨b198, hb198, h⟩ := g_bnd h
  obtain ⟨hr198, hk198⟩ := g_chk hb198
  obtain ⟨z198, h198, h⟩ := g_bnd h
  refine g_callV (n := 2) (b := b198) (av := [.inl v1, .inl 0]) (rs := [.inr (.inr x192), .inl (z128.1 + 4), .inr (.inr x184)]) hx hb hml hown hts hKn hRc hRs hS hl (sX4_own l E D h198) (lw_V q2245 q2247 qs77 q135 q2248) ⟨rfl, by decide, by decide, by decide +kernel⟩ ⟨by rw [hRf]; exact Nat.le_of_ble_eq_true rfl, by rw [hRl]; exact Nat.le_of_ble_eq_true rfl⟩ (g_recv hKn hS hk198 (by decide) (by decide)) rfl (by rw [hr198]; rfl) (Nat.le_of_ble_eq_true rfl) dX4_lay_198 (fun H locs cells slots hS => ?_)
  refine g_ialoadG hx hb hKn hS h dX4_lay_201 (fun x201 h => ?_)
  refine g_iastoreG hx hb hKn hS h dX4_lay_202 (fun G202 h H locs hS => ?_)
  refine g_aload_n hx hb hl 1 rfl dX4_lay_203 ?_
  refine g_rdR hx hb hown hts hKn hS h fd_4_4_33 rfl (Or.inl (hts _ q1898)) (fun _ z => z) dX4_lay_204 (fun x204 h => ?_)
  refine g_iload hx hb hl 0 rfl dX4_lay_207 ?_
  refine lv_iconst (v := 5) hx hb dX4_lay_209 (by decide) ?_
  refine lv_iadd hx hb dX4_lay_210 ?_
  refine g_iload_n hx hb hl 3 rfl dX4_lay_211 ?_
  refine lv_if_eq (tgt := 219) hx hb dX4_lay_212 (by decide) (fun c_212 => ?_) (fun c_212 => ?_)
  · have h := g_ift c_212 h
    refine lv_iconst (v := 0) hx hb dX4_lay_219 (by decide) ?_
    exact sX4_lay_b220 C _ _ _ _ _ _ _ _ _ h _ _ _ _ _ hS (gls_sub hl [1, 2, 4, 5] rfl)
  · have h := g_iff c_212 h
    refine lv_iconst (v := 1) hx hb dX4_lay_215 (by decide) ?_
    refine lv_goto (tgt := 220) hx hb dX4_lay_216 (by decide) ?_
    exact sX4_lay_b220 C _ _ _ _ _ _ _ _ _ h _ _ _ _ _ hS (gls_sub hl [1, 2, 4, 5] rfl)
theorem sX4_lay_b68 {p : Program} {l : Launch} {e : Env} {R : Room} {s : State} {m : MethodId} {args : Array Value} {below : List Frame} {meth : Method} {c : Code} {E : g_E} {D : g_D} (C : gC p R s m args meth c cX4_lay 8 RX4 "lay" (none) 4 134 E D) {k13 : Nat → Int32 → Int32 → Int32 → Int32 → g_G → Option (g_G)} (hk13 : ∀ (t : Nat) (v1 : Int32) (v2 : Int32) (v3 : Int32) (v4 : Int32) (G : g_G) (q : g_G), k13 t v1 v2 v3 v4 G = some q → ∀ (H : Heap) (locs : List Loc) (cells slots : Nat) (ls : Array Slot), gSt E D G H locs → gls ls 8 [(0, .inr (.inr (some t))), (1, .inl v1), (2, .inl v2), (3, .inl v3), (4, .inl v4)] → gT p l e R s m args below meth c E D H locs cells slots none q (F0 m 13 ls [])) : ∀ (n : Nat) (t : Nat) (v1 : Int32) (v2 : Int32) (v3 : Int32) (v4 : Int32) (v5 : Int32) (v7 : Int32) (G : g_G) (q : g_G), fX4_lay_b68 E k13 n t v1 v2 v3 v4 v5 v7 G = some q → ∀ (H : Heap) (locs : List Loc) (cells slots : Nat) (ls : Array Slot), gSt E D G H locs → gls ls 8 [(0, .inr (.inr (some t))), (1, .inl v1), (2, .inl v2), (3, .inl v3), (4, .inl v4), (5, .inl v5), (7, .inl v7)] → gT p l e R s m args below meth c E D H locs cells slots none q (F0 m 68 ls []) := by
  obtain ⟨hx, hb, hml, hown, hts, hKn, hRc, hRs, hc1, hc2, hRf, hRl, hr, hlk, hnm⟩ := id C
  intro n
  induction n with
  | zero =>
    intro t v1 v2 v3 v4 v5 v7 G q h
    exact g_no h
  | succ n ih =>
    intro t v1 v2 v3 v4 v5 v7 G q h H locs cells slots ls hS hl
    rw [fX4_lay_b68] at h
    refine g_iload hx hb hl 6 rfl dX4_lay_68 ?_
    refine lv_bipush (v := 6) hx hb dX4_lay_70 (by decide) ?_
    refine lv_icmp_ge (tgt := 104) hx hb dX4_lay_72 (by decide) (fun c_72 => ?_) (fun c_72 => ?_)
    · have h := g_ift c_72 h
      refine g_aload_n hx hb hl 0 rfl dX4_lay_104 ?_
      refine g_rdR hx hb hown hts hKn hS h fd_4_4_39 rfl (Or.inl (hts _ q1904)) (fun _ z => z) dX4_lay_105 (fun x105 h => ?_)
      refine g_iload hx hb hl 4 rfl dX4_lay_108 ?_
      refine g_aload_n hx hb hl 0 rfl dX4_lay_110 ?_
      refine g_rdR hx hb hown hts hKn hS h fd_4_4_39 rfl (Or.inl (hts _ q1904)) (fun _ z => z) dX4_lay_111 (fun x111 h => ?_)
      refine g_iload hx hb hl 4 rfl dX4_lay_114 ?_
      refine lv_iconst (v := 1) hx hb dX4_lay_116 (by decide) ?_
      refine lv_isub hx hb dX4_lay_117 ?_
      refine g_ialoadG hx hb hKn hS h dX4_lay_118 (fun x118 h => ?_)
      refine g_iastoreG hx hb hKn hS h dX4_lay_119 (fun G119 h H locs hS => ?_)
      refine g_iinc (l1 := [(4, .inl (v4 + (-1))), (0, .inr (.inr (some t))), (1, .inl v1), (2, .inl v2), (3, .inl v3), (5, .inl v5), (7, .inl v7)]) (v := (v4 + (-1))) hx hb hl (k := 4) rfl (by rfl) (by decide) rfl dX4_lay_120 (fun ls hl => ?_)
      refine lv_goto (tgt := 13) hx hb dX4_lay_123 (by decide) ?_
      exact hk13 _ _ _ _ _ _ _ h _ _ _ _ _ hS (gls_sub hl [1, 2, 3, 4, 0] rfl)
    · have h := g_iff c_72 h
      refine g_aload_n hx hb hl 0 rfl dX4_lay_75 ?_
      refine g_rdR hx hb hown hts hKn hS h fd_4_4_33 rfl (Or.inl (hts _ q1898)) (fun _ z => z) dX4_lay_76 (fun x76 h => ?_)
      refine g_iload hx hb hl 5 rfl dX4_lay_79 ?_
      refine lv_bipush (v := 6) hx hb dX4_lay_81 (by decide) ?_
      refine lv_iadd hx hb dX4_lay_83 ?_
      refine g_iload hx hb hl 6 rfl dX4_lay_84 ?_
      refine lv_iadd hx hb dX4_lay_86 ?_
      refine g_aload_n hx hb hl 0 rfl dX4_lay_87 ?_
      refine g_rdR hx hb hown hts hKn hS h fd_4_4_33 rfl (Or.inl (hts _ q1898)) (fun _ z => z) dX4_lay_88 (fun x88 h => ?_)
      refine g_iload hx hb hl 5 rfl dX4_lay_91 ?_
      refine g_iload hx hb hl 6 rfl dX4_lay_93 ?_
      refine lv_iadd hx hb dX4_lay_95 ?_
      refine g_ialoadG hx hb hKn hS h dX4_lay_96 (fun x96 h => ?_)
      refine g_iastoreG hx hb hKn hS h dX4_lay_97 (fun G97 h H locs hS => ?_)
      refine g_iinc (l1 := [(7, .inl (v7 + 1)), (0, .inr (.inr (some t))), (1, .inl v1), (2, .inl v2), (3, .inl v3), (4, .inl v4), (5, .inl v5)]) (v := (v7 + 1)) hx hb hl (k := 6) rfl (by rfl) (by decide) rfl dX4_lay_98 (fun ls hl => ?_)
      refine lv_goto (tgt := 68) hx hb dX4_lay_101 (by decide) ?_
      exact ih _ _ _ _ _ _ _ _ _ h _ _ _ _ _ hS (gls_sub hl [1, 2, 3, 4, 5, 6, 0] rfl)
theorem sX4_lay_b13 {p : Program} {l : Launch} {e : Env} {R : Room} {s : State} {m : MethodId} {args : Array Value} {below : List Frame} {meth : Method} {c : Code} {E : g_E} {D : g_D} (C : gC p R s m args meth c cX4_lay 8 RX4 "lay" (none) 4 134 E D) : ∀ (n : Nat) (t : Nat) (v1 : Int32) (v2 : Int32) (v3 : Int32) (v4 : Int32) (G : g_G) (q : g_G), fX4_lay_b13 E n t v1 v2 v3 v4 G = some q → ∀ (H : Heap) (locs : List Loc) (cells slots : Nat) (ls : Array Slot), gSt E D G H locs → gls ls 8 [(0, .inr (.inr (some t))), (1, .inl v1), (2, .inl v2), (3, .inl v3), (4, .inl v4)] → gT p l e R s m args below meth c E D H locs cells slots none q (F0 m 13 ls []) := by
  obtain ⟨hx, hb, hml, hown, hts, hKn, hRc, hRs, hc1, hc2, hRf, hRl, hr, hlk, hnm⟩ := id C
  intro n
  induction n with
  | zero =>
    intro t v1 v2 v3 v4 G q h
    exact g_no h
  | succ n ih =>
    intro t v1 v2 v3 v4 G q h H locs cells slots ls hS hl
    rw [fX4_lay_b13] at h
    refine g_iload hx hb hl 4 rfl dX4_lay_13 ?_
    refine lv_if_le (tgt := 126) hx hb dX4_lay_15 (by decide) (fun c_15 => ?_) (fun c_15 => ?_)
    · have h := g_ift c_15 h
      exact sX4_lay_b126 C _ _ _ _ _ _ _ h _ _ _ _ _ hS (gls_sub hl [0, 1, 2, 3, 4] rfl)
    · have h := g_iff c_15 h
      refine g_iload hx hb hl 4 rfl dX4_lay_18 ?_
      refine lv_iconst (v := 1) hx hb dX4_lay_20 (by decide) ?_
      refine lv_isub hx hb dX4_lay_21 ?_
      obtain ⟨z22, h22, h⟩ := g_bnd h
      refine g_callS (n := 1) (av := [.inl (v4 - 1)]) (rs := []) hx hb hml hown hts hKn hRc hRs hS hl (sX4_wordAt l E D h22) (lw_S q2292 q2293 q135 q2294) ⟨by decide, by decide, by decide +kernel⟩ ⟨by rw [hRf]; exact Nat.le_of_ble_eq_true rfl, by rw [hRl]; exact Nat.le_of_ble_eq_true rfl⟩ rfl rfl (Nat.le_of_ble_eq_true rfl) dX4_lay_22 (fun H locs cells slots hS => ?_)
      refine g_istore (l1 := [(5, .inl z22.1), (0, .inr (.inr (some t))), (1, .inl v1), (2, .inl v2), (3, .inl v3), (4, .inl v4)]) hx hb hl (by decide) rfl dX4_lay_25 (fun ls hl => ?_)
      refine lv_bipush (v := 8) hx hb dX4_lay_27 (by decide) ?_
      refine g_aload_n hx hb hl 1 rfl dX4_lay_29 ?_
      refine g_rdR hx hb hown hts hKn hS h fd_4_4_33 rfl (Or.inl (hts _ q1898)) (fun _ z => z) dX4_lay_30 (fun x30 h => ?_)
      refine g_iload hx hb hl 0 rfl dX4_lay_33 ?_
      refine lv_iconst (v := 0) hx hb dX4_lay_35 (by decide) ?_
      refine lv_iadd hx hb dX4_lay_36 ?_
      refine g_ialoadG hx hb hKn hS h dX4_lay_37 (fun x37 h => ?_)
      refine lv_imul hx hb dX4_lay_38 ?_
      refine g_aload_n hx hb hl 1 rfl dX4_lay_39 ?_
      refine g_rdR hx hb hown hts hKn hS h fd_4_4_33 rfl (Or.inl (hts _ q1898)) (fun _ z => z) dX4_lay_40 (fun x40 h => ?_)
      refine g_iload hx hb hl 0 rfl dX4_lay_43 ?_
      refine lv_iconst (v := 1) hx hb dX4_lay_45 (by decide) ?_
      refine lv_iadd hx hb dX4_lay_46 ?_
      refine g_ialoadG hx hb hKn hS h dX4_lay_47 (fun x47 h => ?_)
      refine lv_iadd hx hb dX4_lay_48 ?_
      refine g_istore (l1 := [(6, .inl ((8 * x37) + x47)), (5, .inl z22.1), (0, .inr (.inr (some t))), (1, .inl v1), (2, .inl v2), (3, .inl v3), (4, .inl v4)]) hx hb hl (by decide) rfl dX4_lay_49 (fun ls hl => ?_)
      refine g_iload hx hb hl 0 rfl dX4_lay_51 ?_
      refine lv_bipush (v := 8) hx hb dX4_lay_53 (by decide) ?_
      refine g_iload_n hx hb hl 3 rfl dX4_lay_55 ?_
      refine lv_imul hx hb dX4_lay_56 ?_
      refine g_iload_n hx hb hl 5 rfl dX4_lay_57 ?_
      refine lv_iadd hx hb dX4_lay_58 ?_
      refine lv_icmp_gt (tgt := 65) hx hb dX4_lay_59 (by decide) (fun c_59 => ?_) (fun c_59 => ?_)
      · have h := g_ift c_59 h
        refine lv_iconst (v := 0) hx hb dX4_lay_65 (by decide) ?_
        refine g_istore (l1 := [(7, .inl 0), (6, .inl ((8 * x37) + x47)), (5, .inl z22.1), (0, .inr (.inr (some t))), (1, .inl v1), (2, .inl v2), (3, .inl v3), (4, .inl v4)]) hx hb hl (by decide) rfl dX4_lay_66 (fun ls hl => ?_)
        exact sX4_lay_b68 C ih gFU _ _ _ _ _ _ _ _ _ h _ _ _ _ _ hS (gls_sub hl [3, 4, 5, 6, 7, 2, 0] rfl)
      · have h := g_iff c_59 h
        refine lv_goto (tgt := 126) hx hb dX4_lay_62 (by decide) ?_
        exact sX4_lay_b126 C _ _ _ _ _ _ _ h _ _ _ _ _ hS (gls_sub hl [2, 3, 4, 5, 6] rfl)
theorem sX4_lay (l : Launch) (E : g_E) (D : g_D) {t : Nat} {v1 : Int32} {v2 : Int32} {G : g_G} {q : g_G} (h : fX4_lay E t v1 v2 G = some q) : gMet l E D yX4_lay (ws_ yX4_lay cX4_lay 8 (none)) 4 134 [.inr (.inr (some t)), .inl v1, .inl v2] G none q := by
  refine gMet.of (by decide +kernel) (Nat.le_of_ble_eq_true rfl) ?_
  intro p e R s m args below meth c C hS ls hl
  have C : gC p R s m args meth c cX4_lay 8 RX4 "lay" (none) 4 134 E D := C
  obtain ⟨hx, hb, hml, hown, hts, hKn, hRc, hRs, hc1, hc2, hRf, hRl, hr, hlk, hnm⟩ := id C
  have hl : gls ls 8 [(0, .inr (.inr (some t))), (1, .inl v1), (2, .inl v2)] := hl
  generalize s.heap = H at hS ⊢
  unfold fX4_lay at h
  refine g_aload_n hx hb hl 0 rfl dX4_lay_0 ?_
  refine g_iload_n hx hb hl 1 rfl dX4_lay_1 ?_
  refine lv_iconst (v := 0) hx hb dX4_lay_2 (by decide) ?_
  obtain ⟨b3, hb3, h⟩ := g_bnd h
  obtain ⟨hr3, hk3⟩ := g_chk hb3
  obtain ⟨z3, h3, h⟩ := g_bnd h
  refine g_callV (n := 2) (b := b3) (av := [.inl v1, .inl 0]) (rs := []) hx hb hml hown hts hKn hRc hRs hS hl (sX4_asked l E D h3) (lw_V q2241 q2243 qs76 q135 q2244) ⟨rfl, by decide, by decide, by decide +kernel⟩ ⟨by rw [hRf]; exact Nat.le_of_ble_eq_true rfl, by rw [hRl]; exact Nat.le_of_ble_eq_true rfl⟩ (g_recv hKn hS hk3 (by decide) (by decide)) rfl (by rw [hr3]; rfl) (Nat.le_of_ble_eq_true rfl) dX4_lay_3 (fun H locs cells slots hS => ?_)
  refine g_istore_n (l1 := [(3, .inl z3.1), (0, .inr (.inr (some t))), (1, .inl v1), (2, .inl v2)]) hx hb hl (by decide) rfl dX4_lay_6 (fun ls hl => ?_)
  refine g_aload_n hx hb hl 1 rfl dX4_lay_7 ?_
  obtain ⟨b8, hb8, h⟩ := g_bnd h
  obtain ⟨hr8, hk8⟩ := g_chk hb8
  obtain ⟨z8, h8, h⟩ := g_bnd h
  refine g_callV (n := 0) (b := b8) (av := []) (rs := []) hx hb hml hown hts hKn hRc hRs hS hl (sX4_words l E D h8) (lw_V q2264 q2266 qs81 q135 q2267) ⟨rfl, by decide, by decide, by decide +kernel⟩ ⟨by rw [hRf]; exact Nat.le_of_ble_eq_true rfl, by rw [hRl]; exact Nat.le_of_ble_eq_true rfl⟩ (g_recv hKn hS hk8 (by decide) (by decide)) rfl (by rw [hr8]; rfl) (Nat.le_of_ble_eq_true rfl) dX4_lay_8 (fun H locs cells slots hS => ?_)
  refine g_istore (l1 := [(4, .inl z8.1), (3, .inl z3.1), (0, .inr (.inr (some t))), (1, .inl v1), (2, .inl v2)]) hx hb hl (by decide) rfl dX4_lay_11 (fun ls hl => ?_)
  exact sX4_lay_b13 C gFU _ _ _ _ _ _ _ h _ _ _ _ _ hS (gls_sub hl [2, 3, 4, 1, 0] rfl)
/-- SendHallModel.left(I)Z -/
def fX4_left_b24 (E : g_E) (t : Nat) (G : g_G) : Option (Int32 × g_G) :=
  (gchk G 4 (some t)).bind fun b26 =>
  (fX4_refuse E b26 1 G).bind fun z26 =>
  if z26.1 = 0 ∨ z26.1 = 1 then some (z26.1, z26.2) else none
def fX4_left (E : g_E) (t : Nat) (v1 : Int32) (G : g_G) : Option (Int32 × g_G) :=
  (gpI E G 4 4 (some t) 2 0).bind fun G2 =>
  (gchk G2 4 (some t)).bind fun b7 =>
  (fX4_isStep E b7 v1 G2).bind fun z7 =>
  if z7.1 = 0 then (
    fX4_left_b24 E t z7.2)
  else (
    (grI z7.2 4 4 (some t) 56).bind fun x14 =>
    (grI z7.2 4 4 (some t) 8).bind fun x18 =>
    if x14 = x18 then (
      (grR z7.2 4 4 (some t) 55).bind fun x31 =>
      (gaI z7.2 102 x31 v1).bind fun x35 =>
      if x35 = 0 ∨ x35 = 1 then some (x35, z7.2) else none)
    else (
      fX4_left_b24 E t z7.2))
theorem sX4_left_b24 {p : Program} {l : Launch} {e : Env} {R : Room} {s : State} {m : MethodId} {args : Array Value} {below : List Frame} {meth : Method} {c : Code} {E : g_E} {D : g_D} (C : gC p R s m args meth c cX4_left 2 RX4 "left" (some .boolean) 3 107 E D) : ∀ (t : Nat) (G : g_G) (q : Int32 × g_G), fX4_left_b24 E t G = some q → ∀ (H : Heap) (locs : List Loc) (cells slots : Nat) (ls : Array Slot), gSt E D G H locs → gls ls 2 [(0, .inr (.inr (some t)))] → gT p l e R s m args below meth c E D H locs cells slots (some (.int q.1)) q.2 (F0 m 24 ls []) := by
  obtain ⟨hx, hb, hml, hown, hts, hKn, hRc, hRs, hc1, hc2, hRf, hRl, hr, hlk, hnm⟩ := id C
  intro t G q h H locs cells slots ls hS hl
  unfold fX4_left_b24 at h
  refine g_aload_n hx hb hl 0 rfl dX4_left_24 ?_
  refine lv_iconst (v := 1) hx hb dX4_left_25 (by decide) ?_
  obtain ⟨b26, hb26, h⟩ := g_bnd h
  obtain ⟨hr26, hk26⟩ := g_chk hb26
  obtain ⟨z26, h26, h⟩ := g_bnd h
  refine g_callV (n := 1) (b := b26) (av := [.inl 1]) (rs := []) hx hb hml hown hts hKn hRc hRs hS hl (sX4_refuse l E D h26) (lw_V q2404 q2406 qs107 q135 q2407) ⟨rfl, by decide, by decide, by decide +kernel⟩ ⟨by rw [hRf]; exact Nat.le_of_ble_eq_true rfl, by rw [hRl]; exact Nat.le_of_ble_eq_true rfl⟩ (g_recv hKn hS hk26 (by decide) (by decide)) rfl (by rw [hr26]; rfl) (Nat.le_of_ble_eq_true rfl) dX4_left_26 (fun H locs cells slots hS => ?_)
  exact g_zretG hx hb hr hlk hKn hRc hRs hS h dX4_left_29
theorem sX4_left (l : Launch) (E : g_E) (D : g_D) {t : Nat} {v1 : Int32} {G : g_G} {q : Int32 × g_G} (h : fX4_left E t v1 G = some q) : gMet l E D yX4_left (ws_ yX4_left cX4_left 2 (some .boolean)) 3 107 [.inr (.inr (some t)), .inl v1] G (some (.int q.1)) q.2 := by
  refine gMet.of (by decide +kernel) (Nat.le_of_ble_eq_true rfl) ?_
  intro p e R s m args below meth c C hS ls hl
  have C : gC p R s m args meth c cX4_left 2 RX4 "left" (some .boolean) 3 107 E D := C
  obtain ⟨hx, hb, hml, hown, hts, hKn, hRc, hRs, hc1, hc2, hRf, hRl, hr, hlk, hnm⟩ := id C
  have hl : gls ls 2 [(0, .inr (.inr (some t))), (1, .inl v1)] := hl
  generalize s.heap = H at hS ⊢
  unfold fX4_left at h
  refine g_aload_n hx hb hl 0 rfl dX4_left_0 ?_
  refine lv_iconst (v := 0) hx hb dX4_left_1 (by decide) ?_
  refine g_ptI hx hb hown hts hKn hS h fd_4_4_2 (Or.inl (hts _ q1867)) (fun _ z => z) (fun z => nomatch z) dX4_left_2 (fun G2 h H locs hS => ?_)
  refine g_aload_n hx hb hl 0 rfl dX4_left_5 ?_
  refine g_iload_n hx hb hl 1 rfl dX4_left_6 ?_
  obtain ⟨b7, hb7, h⟩ := g_bnd h
  obtain ⟨hr7, hk7⟩ := g_chk hb7
  obtain ⟨z7, h7, h⟩ := g_bnd h
  refine g_callV (n := 1) (b := b7) (av := [.inl v1]) (rs := []) hx hb hml hown hts hKn hRc hRs hS hl (sX4_isStep l E D h7) (lw_V q2209 q2211 qs69 q135 q2212) ⟨rfl, by decide, by decide, by decide +kernel⟩ ⟨by rw [hRf]; exact Nat.le_of_ble_eq_true rfl, by rw [hRl]; exact Nat.le_of_ble_eq_true rfl⟩ (g_recv hKn hS hk7 (by decide) (by decide)) rfl (by rw [hr7]; rfl) (Nat.le_of_ble_eq_true rfl) dX4_left_7 (fun H locs cells slots hS => ?_)
  refine lv_if_eq (tgt := 24) hx hb dX4_left_10 (by decide) (fun c_10 => ?_) (fun c_10 => ?_)
  · have h := g_ift c_10 h
    exact sX4_left_b24 C _ _ _ h _ _ _ _ _ hS (gls_sub hl [0] rfl)
  · have h := g_iff c_10 h
    refine g_aload_n hx hb hl 0 rfl dX4_left_13 ?_
    refine g_rdI hx hb hown hts hKn hS h fd_4_4_56 rfl (Or.inl (hts _ q1921)) (fun _ z => z) dX4_left_14 (fun x14 h => ?_)
    refine g_aload_n hx hb hl 0 rfl dX4_left_17 ?_
    refine g_rdI hx hb hown hts hKn hS h fd_4_4_8 rfl (Or.inl (hts _ q1873)) (fun _ z => z) dX4_left_18 (fun x18 h => ?_)
    refine lv_icmp_eq (tgt := 30) hx hb dX4_left_21 (by decide) (fun c_21 => ?_) (fun c_21 => ?_)
    · have h := g_ift c_21 h
      refine g_aload_n hx hb hl 0 rfl dX4_left_30 ?_
      refine g_rdR hx hb hown hts hKn hS h fd_4_4_55 rfl (Or.inl (hts _ q1920)) (fun _ z => z) dX4_left_31 (fun x31 h => ?_)
      refine g_iload_n hx hb hl 1 rfl dX4_left_34 ?_
      refine g_zaloadG hx hb hKn hS h dX4_left_35 (fun x35 h => ?_)
      exact g_zretG hx hb hr hlk hKn hRc hRs hS h dX4_left_36
    · have h := g_iff c_21 h
      exact sX4_left_b24 C _ _ _ h _ _ _ _ _ hS (gls_sub hl [0] rfl)
/-- SendHallModel.lying(III)I -/
def fX4_lying_b61 (E : g_E) (k3 : Nat → Int32 → Int32 → Int32 → Int32 → g_G → Option (Int32 × g_G)) (t : Nat) (v1 : Int32) (v2 : Int32) (v3 : Int32) (v4 : Int32) (G : g_G) : Option (Int32 × g_G) :=
  k3 t v1 v2 v3 (v4 + 1) G
def fX4_lying_b3 (E : g_E) : Nat → Nat → Int32 → Int32 → Int32 → Int32 → g_G → Option (Int32 × g_G)
  | 0, _, _, _, _, _, _ => none
  | n + 1, t, v1, v2, v3, v4, G =>
    (gchk G 4 (some t)).bind fun b6 =>
    (fX4_words E b6 G).bind fun z6 =>
    if z6.1 ≤ v4 then (
      some ((-1), z6.2))
    else (
      (fX4_wordAt E v4 z6.2).bind fun z14 =>
      (grR z14.2 4 4 (some t) 33).bind fun x20 =>
      (gaI z14.2 100 x20 (z14.1 + 0)).bind fun x27 =>
      if ¬ x27 = v1 then (
        fX4_lying_b61 E (fX4_lying_b3 E n) t v1 v2 v3 v4 z14.2)
      else (
        (grR z14.2 4 4 (some t) 33).bind fun x33 =>
        (gaI z14.2 100 x33 (z14.1 + 1)).bind fun x40 =>
        if ¬ x40 = v2 then (
          fX4_lying_b61 E (fX4_lying_b3 E n) t v1 v2 v3 v4 z14.2)
        else (
          (grR z14.2 4 4 (some t) 33).bind fun x46 =>
          (gaI z14.2 100 x46 (z14.1 + 2)).bind fun x53 =>
          if ¬ x53 = v3 then (
            fX4_lying_b61 E (fX4_lying_b3 E n) t v1 v2 v3 v4 z14.2)
          else (
            some (v4, z14.2)))))
def fX4_lying (E : g_E) (t : Nat) (v1 : Int32) (v2 : Int32) (v3 : Int32) (G : g_G) : Option (Int32 × g_G) :=
  fX4_lying_b3 E gFU t v1 v2 v3 0 G
theorem sX4_lying_b61 {p : Program} {l : Launch} {e : Env} {R : Room} {s : State} {m : MethodId} {args : Array Value} {below : List Frame} {meth : Method} {c : Code} {E : g_E} {D : g_D} (C : gC p R s m args meth c cX4_lying 6 RX4 "lying" (some .int) 2 84 E D) {k3 : Nat → Int32 → Int32 → Int32 → Int32 → g_G → Option (Int32 × g_G)} (hk3 : ∀ (t : Nat) (v1 : Int32) (v2 : Int32) (v3 : Int32) (v4 : Int32) (G : g_G) (q : Int32 × g_G), k3 t v1 v2 v3 v4 G = some q → ∀ (H : Heap) (locs : List Loc) (cells slots : Nat) (ls : Array Slot), gSt E D G H locs → gls ls 6 [(0, .inr (.inr (some t))), (1, .inl v1), (2, .inl v2), (3, .inl v3), (4, .inl v4)] → gT p l e R s m args below meth c E D H locs cells slots (some (.int q.1)) q.2 (F0 m 3 ls [])) : ∀ (t : Nat) (v1 : Int32) (v2 : Int32) (v3 : Int32) (v4 : Int32) (G : g_G) (q : Int32 × g_G), fX4_lying_b61 E k3 t v1 v2 v3 v4 G = some q → ∀ (H : Heap) (locs : List Loc) (cells slots : Nat) (ls : Array Slot), gSt E D G H locs → gls ls 6 [(0, .inr (.inr (some t))), (1, .inl v1), (2, .inl v2), (3, .inl v3), (4, .inl v4)] → gT p l e R s m args below meth c E D H locs cells slots (some (.int q.1)) q.2 (F0 m 61 ls []) := by
  obtain ⟨hx, hb, hml, hown, hts, hKn, hRc, hRs, hc1, hc2, hRf, hRl, hr, hlk, hnm⟩ := id C
  intro t v1 v2 v3 v4 G q h H locs cells slots ls hS hl
  unfold fX4_lying_b61 at h
  refine g_iinc (l1 := [(4, .inl (v4 + 1)), (0, .inr (.inr (some t))), (1, .inl v1), (2, .inl v2), (3, .inl v3)]) (v := (v4 + 1)) hx hb hl (k := 4) rfl (by rfl) (by decide) rfl dX4_lying_61 (fun ls hl => ?_)
  refine lv_goto (tgt := 3) hx hb dX4_lying_64 (by decide) ?_
  exact hk3 _ _ _ _ _ _ _ h _ _ _ _ _ hS (gls_sub hl [1, 2, 3, 4, 0] rfl)
theorem sX4_lying_b3 {p : Program} {l : Launch} {e : Env} {R : Room} {s : State} {m : MethodId} {args : Array Value} {below : List Frame} {meth : Method} {c : Code} {E : g_E} {D : g_D} (C : gC p R s m args meth c cX4_lying 6 RX4 "lying" (some .int) 2 84 E D) : ∀ (n : Nat) (t : Nat) (v1 : Int32) (v2 : Int32) (v3 : Int32) (v4 : Int32) (G : g_G) (q : Int32 × g_G), fX4_lying_b3 E n t v1 v2 v3 v4 G = some q → ∀ (H : Heap) (locs : List Loc) (cells slots : Nat) (ls : Array Slot), gSt E D G H locs → gls ls 6 [(0, .inr (.inr (some t))), (1, .inl v1), (2, .inl v2), (3, .inl v3), (4, .inl v4)] → gT p l e R s m args below meth c E D H locs cells slots (some (.int q.1)) q.2 (F0 m 3 ls []) := by
  obtain ⟨hx, hb, hml, hown, hts, hKn, hRc, hRs, hc1, hc2, hRf, hRl, hr, hlk, hnm⟩ := id C
  intro n
  induction n with
  | zero =>
    intro t v1 v2 v3 v4 G q h
    exact g_no h
  | succ n ih =>
    intro t v1 v2 v3 v4 G q h H locs cells slots ls hS hl
    rw [fX4_lying_b3] at h
    refine g_iload hx hb hl 4 rfl dX4_lying_3 ?_
    refine g_aload_n hx hb hl 0 rfl dX4_lying_5 ?_
    obtain ⟨b6, hb6, h⟩ := g_bnd h
    obtain ⟨hr6, hk6⟩ := g_chk hb6
    obtain ⟨z6, h6, h⟩ := g_bnd h
    refine g_callV (n := 0) (b := b6) (av := []) (rs := [.inl v4]) hx hb hml hown hts hKn hRc hRs hS hl (sX4_words l E D h6) (lw_V q2264 q2266 qs81 q135 q2267) ⟨rfl, by decide, by decide, by decide +kernel⟩ ⟨by rw [hRf]; exact Nat.le_of_ble_eq_true rfl, by rw [hRl]; exact Nat.le_of_ble_eq_true rfl⟩ (g_recv hKn hS hk6 (by decide) (by decide)) rfl (by rw [hr6]; rfl) (Nat.le_of_ble_eq_true rfl) dX4_lying_6 (fun H locs cells slots hS => ?_)
    refine lv_icmp_ge (tgt := 67) hx hb dX4_lying_9 (by decide) (fun c_9 => ?_) (fun c_9 => ?_)
    · have h := g_ift c_9 h
      refine lv_iconst (v := (-1)) hx hb dX4_lying_67 (by decide) ?_
      exact g_iretG hx hb hr hlk hKn hRc hRs hS h dX4_lying_68
    · have h := g_iff c_9 h
      refine g_iload hx hb hl 4 rfl dX4_lying_12 ?_
      obtain ⟨z14, h14, h⟩ := g_bnd h
      refine g_callS (n := 1) (av := [.inl v4]) (rs := []) hx hb hml hown hts hKn hRc hRs hS hl (sX4_wordAt l E D h14) (lw_S q2292 q2293 q135 q2294) ⟨by decide, by decide, by decide +kernel⟩ ⟨by rw [hRf]; exact Nat.le_of_ble_eq_true rfl, by rw [hRl]; exact Nat.le_of_ble_eq_true rfl⟩ rfl rfl (Nat.le_of_ble_eq_true rfl) dX4_lying_14 (fun H locs cells slots hS => ?_)
      refine g_istore (l1 := [(5, .inl z14.1), (0, .inr (.inr (some t))), (1, .inl v1), (2, .inl v2), (3, .inl v3), (4, .inl v4)]) hx hb hl (by decide) rfl dX4_lying_17 (fun ls hl => ?_)
      refine g_aload_n hx hb hl 1 rfl dX4_lying_19 ?_
      refine g_rdR hx hb hown hts hKn hS h fd_4_4_33 rfl (Or.inl (hts _ q1898)) (fun _ z => z) dX4_lying_20 (fun x20 h => ?_)
      refine g_iload hx hb hl 0 rfl dX4_lying_23 ?_
      refine lv_iconst (v := 0) hx hb dX4_lying_25 (by decide) ?_
      refine lv_iadd hx hb dX4_lying_26 ?_
      refine g_ialoadG hx hb hKn hS h dX4_lying_27 (fun x27 h => ?_)
      refine g_iload_n hx hb hl 2 rfl dX4_lying_28 ?_
      refine lv_icmp_ne (tgt := 61) hx hb dX4_lying_29 (by decide) (fun c_29 => ?_) (fun c_29 => ?_)
      · have h := g_ift c_29 h
        exact sX4_lying_b61 C ih _ _ _ _ _ _ _ h _ _ _ _ _ hS (gls_sub hl [1, 2, 3, 4, 5] rfl)
      · have h := g_iff (fun z => z c_29) h
        refine g_aload_n hx hb hl 1 rfl dX4_lying_32 ?_
        refine g_rdR hx hb hown hts hKn hS h fd_4_4_33 rfl (Or.inl (hts _ q1898)) (fun _ z => z) dX4_lying_33 (fun x33 h => ?_)
        refine g_iload hx hb hl 0 rfl dX4_lying_36 ?_
        refine lv_iconst (v := 1) hx hb dX4_lying_38 (by decide) ?_
        refine lv_iadd hx hb dX4_lying_39 ?_
        refine g_ialoadG hx hb hKn hS h dX4_lying_40 (fun x40 h => ?_)
        refine g_iload_n hx hb hl 3 rfl dX4_lying_41 ?_
        refine lv_icmp_ne (tgt := 61) hx hb dX4_lying_42 (by decide) (fun c_42 => ?_) (fun c_42 => ?_)
        · have h := g_ift c_42 h
          exact sX4_lying_b61 C ih _ _ _ _ _ _ _ h _ _ _ _ _ hS (gls_sub hl [1, 2, 3, 4, 5] rfl)
        · have h := g_iff (fun z => z c_42) h
          refine g_aload_n hx hb hl 1 rfl dX4_lying_45 ?_
          refine g_rdR hx hb hown hts hKn hS h fd_4_4_33 rfl (Or.inl (hts _ q1898)) (fun _ z => z) dX4_lying_46 (fun x46 h => ?_)
          refine g_iload hx hb hl 0 rfl dX4_lying_49 ?_
          refine lv_iconst (v := 2) hx hb dX4_lying_51 (by decide) ?_
          refine lv_iadd hx hb dX4_lying_52 ?_
          refine g_ialoadG hx hb hKn hS h dX4_lying_53 (fun x53 h => ?_)
          refine g_iload_n hx hb hl 4 rfl dX4_lying_54 ?_
          refine lv_icmp_ne (tgt := 61) hx hb dX4_lying_55 (by decide) (fun c_55 => ?_) (fun c_55 => ?_)
          · have h := g_ift c_55 h
            exact sX4_lying_b61 C ih _ _ _ _ _ _ _ h _ _ _ _ _ hS (gls_sub hl [1, 2, 3, 4, 5] rfl)
          · have h := g_iff (fun z => z c_55) h
            refine g_iload hx hb hl 5 rfl dX4_lying_58 ?_
            exact g_iretG hx hb hr hlk hKn hRc hRs hS h dX4_lying_60
theorem sX4_lying (l : Launch) (E : g_E) (D : g_D) {t : Nat} {v1 : Int32} {v2 : Int32} {v3 : Int32} {G : g_G} {q : Int32 × g_G} (h : fX4_lying E t v1 v2 v3 G = some q) : gMet l E D yX4_lying (ws_ yX4_lying cX4_lying 6 (some .int)) 2 84 [.inr (.inr (some t)), .inl v1, .inl v2, .inl v3] G (some (.int q.1)) q.2 := by
  refine gMet.of (by decide +kernel) (Nat.le_of_ble_eq_true rfl) ?_
  intro p e R s m args below meth c C hS ls hl
  have C : gC p R s m args meth c cX4_lying 6 RX4 "lying" (some .int) 2 84 E D := C
  obtain ⟨hx, hb, hml, hown, hts, hKn, hRc, hRs, hc1, hc2, hRf, hRl, hr, hlk, hnm⟩ := id C
  have hl : gls ls 6 [(0, .inr (.inr (some t))), (1, .inl v1), (2, .inl v2), (3, .inl v3)] := hl
  generalize s.heap = H at hS ⊢
  unfold fX4_lying at h
  refine lv_iconst (v := 0) hx hb dX4_lying_0 (by decide) ?_
  refine g_istore (l1 := [(4, .inl 0), (0, .inr (.inr (some t))), (1, .inl v1), (2, .inl v2), (3, .inl v3)]) hx hb hl (by decide) rfl dX4_lying_1 (fun ls hl => ?_)
  exact sX4_lying_b3 C gFU _ _ _ _ _ _ _ h _ _ _ _ _ hS (gls_sub hl [1, 2, 3, 4, 0] rfl)
/-- SendHallModel.need(I)V -/
def fX4_need_b20 (E : g_E) (t : Nat) (G : g_G) : Option (g_G) :=
  (grI G 4 4 (some t) 18).bind fun x21 =>
  if ¬ x21 = 0 then (
    some G)
  else (
    (gchk G 4 (some t)).bind fun b28 =>
    (fX4_stepOn E b28 G).bind fun z28 =>
    some z28)
def fX4_need (E : g_E) (t : Nat) (v1 : Int32) (G : g_G) : Option (g_G) :=
  (grI G 4 4 (some t) 18).bind fun x1 =>
  if ¬ x1 = 0 then (
    fX4_need_b20 E t G)
  else (
    (gchk G 4 (some t)).bind fun b9 =>
    (fX4_isSign E b9 v1 G).bind fun z9 =>
    if ¬ z9.1 = 0 then (
      fX4_need_b20 E t z9.2)
    else (
      (gchk z9.2 4 (some t)).bind fun b17 =>
      (fX4_wrong E b17 1 z9.2).bind fun z17 =>
      fX4_need_b20 E t z17))
theorem sX4_need_b20 {p : Program} {l : Launch} {e : Env} {R : Room} {s : State} {m : MethodId} {args : Array Value} {below : List Frame} {meth : Method} {c : Code} {E : g_E} {D : g_D} (C : gC p R s m args meth c cX4_need 2 RX4 "need" (none) 3 107 E D) : ∀ (t : Nat) (G : g_G) (q : g_G), fX4_need_b20 E t G = some q → ∀ (H : Heap) (locs : List Loc) (cells slots : Nat) (ls : Array Slot), gSt E D G H locs → gls ls 2 [(0, .inr (.inr (some t)))] → gT p l e R s m args below meth c E D H locs cells slots none q (F0 m 20 ls []) := by
  obtain ⟨hx, hb, hml, hown, hts, hKn, hRc, hRs, hc1, hc2, hRf, hRl, hr, hlk, hnm⟩ := id C
  intro t G q h H locs cells slots ls hS hl
  unfold fX4_need_b20 at h
  refine g_aload_n hx hb hl 0 rfl dX4_need_20 ?_
  refine g_rdI hx hb hown hts hKn hS h fd_4_4_18 rfl (Or.inl (hts _ q1883)) (fun _ z => z) dX4_need_21 (fun x21 h => ?_)
  refine lv_if_ne (tgt := 31) hx hb dX4_need_24 (by decide) (fun c_24 => ?_) (fun c_24 => ?_)
  · have h := g_ift c_24 h
    exact g_vretG hx hb hr hlk hKn hRc hRs hS h dX4_need_31
  · have h := g_iff (fun z => z c_24) h
    refine g_aload_n hx hb hl 0 rfl dX4_need_27 ?_
    obtain ⟨b28, hb28, h⟩ := g_bnd h
    obtain ⟨hr28, hk28⟩ := g_chk hb28
    obtain ⟨z28, h28, h⟩ := g_bnd h
    refine g_callV (n := 0) (b := b28) (av := []) (rs := []) hx hb hml hown hts hKn hRc hRs hS hl (sX4_stepOn l E D h28) (lw_V q2092 q2094 qs49 q135 q2095) ⟨rfl, by decide, by decide, by decide +kernel⟩ ⟨by rw [hRf]; exact Nat.le_of_ble_eq_true rfl, by rw [hRl]; exact Nat.le_of_ble_eq_true rfl⟩ (g_recv hKn hS hk28 (by decide) (by decide)) rfl (by rw [hr28]; rfl) (Nat.le_of_ble_eq_true rfl) dX4_need_28 (fun H locs cells slots hS => ?_)
    exact g_vretG hx hb hr hlk hKn hRc hRs hS h dX4_need_31
theorem sX4_need (l : Launch) (E : g_E) (D : g_D) {t : Nat} {v1 : Int32} {G : g_G} {q : g_G} (h : fX4_need E t v1 G = some q) : gMet l E D yX4_need (ws_ yX4_need cX4_need 2 (none)) 3 107 [.inr (.inr (some t)), .inl v1] G none q := by
  refine gMet.of (by decide +kernel) (Nat.le_of_ble_eq_true rfl) ?_
  intro p e R s m args below meth c C hS ls hl
  have C : gC p R s m args meth c cX4_need 2 RX4 "need" (none) 3 107 E D := C
  obtain ⟨hx, hb, hml, hown, hts, hKn, hRc, hRs, hc1, hc2, hRf, hRl, hr, hlk, hnm⟩ := id C
  have hl : gls ls 2 [(0, .inr (.inr (some t))), (1, .inl v1)] := hl
  generalize s.heap = H at hS ⊢
  unfold fX4_need at h
  refine g_aload_n hx hb hl 0 rfl dX4_need_0 ?_
  refine g_rdI hx hb hown hts hKn hS h fd_4_4_18 rfl (Or.inl (hts _ q1883)) (fun _ z => z) dX4_need_1 (fun x1 h => ?_)
  refine lv_if_ne (tgt := 20) hx hb dX4_need_4 (by decide) (fun c_4 => ?_) (fun c_4 => ?_)
  · have h := g_ift c_4 h
    exact sX4_need_b20 C _ _ _ h _ _ _ _ _ hS (gls_sub hl [0] rfl)
  · have h := g_iff (fun z => z c_4) h
    refine g_aload_n hx hb hl 0 rfl dX4_need_7 ?_
    refine g_iload_n hx hb hl 1 rfl dX4_need_8 ?_
    obtain ⟨b9, hb9, h⟩ := g_bnd h
    obtain ⟨hr9, hk9⟩ := g_chk hb9
    obtain ⟨z9, h9, h⟩ := g_bnd h
    refine g_callV (n := 1) (b := b9) (av := [.inl v1]) (rs := []) hx hb hml hown hts hKn hRc hRs hS hl (sX4_isSign l E D h9) (lw_V q2140 q2142 qs58 q135 q2143) ⟨rfl, by decide, by decide, by decide +kernel⟩ ⟨by rw [hRf]; exact Nat.le_of_ble_eq_true rfl, by rw [hRl]; exact Nat.le_of_ble_eq_true rfl⟩ (g_recv hKn hS hk9 (by decide) (by decide)) rfl (by rw [hr9]; rfl) (Nat.le_of_ble_eq_true rfl) dX4_need_9 (fun H locs cells slots hS => ?_)
    refine lv_if_ne (tgt := 20) hx hb dX4_need_12 (by decide) (fun c_12 => ?_) (fun c_12 => ?_)
    · have h := g_ift c_12 h
      exact sX4_need_b20 C _ _ _ h _ _ _ _ _ hS (gls_sub hl [0] rfl)
    · have h := g_iff (fun z => z c_12) h
      refine g_aload_n hx hb hl 0 rfl dX4_need_15 ?_
      refine lv_iconst (v := 1) hx hb dX4_need_16 (by decide) ?_
      obtain ⟨b17, hb17, h⟩ := g_bnd h
      obtain ⟨hr17, hk17⟩ := g_chk hb17
      obtain ⟨z17, h17, h⟩ := g_bnd h
      refine g_callV (n := 1) (b := b17) (av := [.inl 1]) (rs := []) hx hb hml hown hts hKn hRc hRs hS hl (sX4_wrong l E D h17) (lw_V q2128 q2130 qs55 q135 q2131) ⟨rfl, by decide, by decide, by decide +kernel⟩ ⟨by rw [hRf]; exact Nat.le_of_ble_eq_true rfl, by rw [hRl]; exact Nat.le_of_ble_eq_true rfl⟩ (g_recv hKn hS hk17 (by decide) (by decide)) rfl (by rw [hr17]; rfl) (Nat.le_of_ble_eq_true rfl) dX4_need_17 (fun H locs cells slots hS => ?_)
      exact sX4_need_b20 C _ _ _ h _ _ _ _ _ hS (gls_sub hl [0] rfl)
/-- SendHallModel.noteAny(II)V -/
def fX4_noteAny (E : g_E) (t : Nat) (v1 : Int32) (v2 : Int32) (G : g_G) : Option (g_G) :=
  (gpI E G 4 4 (some t) 40 v1).bind fun G2 =>
  (gpI E G2 4 4 (some t) 41 v2).bind fun G7 =>
  (gchk G7 4 (some t)).bind fun b14 =>
  (fX4_own E b14 v1 0 G7).bind fun z14 =>
  (gpI E z14.2 4 4 (some t) 42 z14.1).bind fun G17 =>
  some G17
theorem sX4_noteAny (l : Launch) (E : g_E) (D : g_D) {t : Nat} {v1 : Int32} {v2 : Int32} {G : g_G} {q : g_G} (h : fX4_noteAny E t v1 v2 G = some q) : gMet l E D yX4_noteAny (ws_ yX4_noteAny cX4_noteAny 3 (none)) 2 86 [.inr (.inr (some t)), .inl v1, .inl v2] G none q := by
  refine gMet.of (by decide +kernel) (Nat.le_of_ble_eq_true rfl) ?_
  intro p e R s m args below meth c C hS ls hl
  have C : gC p R s m args meth c cX4_noteAny 3 RX4 "noteAny" (none) 2 86 E D := C
  obtain ⟨hx, hb, hml, hown, hts, hKn, hRc, hRs, hc1, hc2, hRf, hRl, hr, hlk, hnm⟩ := id C
  have hl : gls ls 3 [(0, .inr (.inr (some t))), (1, .inl v1), (2, .inl v2)] := hl
  generalize s.heap = H at hS ⊢
  unfold fX4_noteAny at h
  refine g_aload_n hx hb hl 0 rfl dX4_noteAny_0 ?_
  refine g_iload_n hx hb hl 1 rfl dX4_noteAny_1 ?_
  refine g_ptI hx hb hown hts hKn hS h fd_4_4_40 (Or.inl (hts _ q1905)) (fun _ z => z) (fun z => nomatch z) dX4_noteAny_2 (fun G2 h H locs hS => ?_)
  refine g_aload_n hx hb hl 0 rfl dX4_noteAny_5 ?_
  refine g_iload_n hx hb hl 2 rfl dX4_noteAny_6 ?_
  refine g_ptI hx hb hown hts hKn hS h fd_4_4_41 (Or.inl (hts _ q1906)) (fun _ z => z) (fun z => nomatch z) dX4_noteAny_7 (fun G7 h H locs hS => ?_)
  refine g_aload_n hx hb hl 0 rfl dX4_noteAny_10 ?_
  refine g_aload_n hx hb hl 0 rfl dX4_noteAny_11 ?_
  refine g_iload_n hx hb hl 1 rfl dX4_noteAny_12 ?_
  refine lv_iconst (v := 0) hx hb dX4_noteAny_13 (by decide) ?_
  obtain ⟨b14, hb14, h⟩ := g_bnd h
  obtain ⟨hr14, hk14⟩ := g_chk hb14
  obtain ⟨z14, h14, h⟩ := g_bnd h
  refine g_callV (n := 2) (b := b14) (av := [.inl v1, .inl 0]) (rs := [.inr (.inr (some t))]) hx hb hml hown hts hKn hRc hRs hS hl (sX4_own l E D h14) (lw_V q2245 q2247 qs77 q135 q2248) ⟨rfl, by decide, by decide, by decide +kernel⟩ ⟨by rw [hRf]; exact Nat.le_of_ble_eq_true rfl, by rw [hRl]; exact Nat.le_of_ble_eq_true rfl⟩ (g_recv hKn hS hk14 (by decide) (by decide)) rfl (by rw [hr14]; rfl) (Nat.le_of_ble_eq_true rfl) dX4_noteAny_14 (fun H locs cells slots hS => ?_)
  refine g_ptI hx hb hown hts hKn hS h fd_4_4_42 (Or.inl (hts _ q1907)) (fun _ z => z) (fun z => nomatch z) dX4_noteAny_17 (fun G17 h H locs hS => ?_)
  exact g_vretG hx hb hr hlk hKn hRc hRs hS h dX4_noteAny_20
