set_option maxRecDepth 100000
/-- SendHall$Reader.kindOf(Ljava/lang/String;)I -/
def fX5_kindOf_b264 (E : g_E) (v2 : Int32) (G : g_G) : Option (Int32 × g_G) :=
  if v2 = 0 then (
    some (0, G))
  else
  if v2 = 1 then (
    some (1, G))
  else
  if v2 = 2 then (
    some (2, G))
  else
  if v2 = 3 then (
    some (3, G))
  else
  if v2 = 4 then (
    some (4, G))
  else
  if v2 = 5 then (
    some (5, G))
  else
  if v2 = 6 then (
    some (6, G))
  else
  if v2 = 7 then (
    some (7, G))
  else
  if v2 = 8 then (
    some (8, G))
  else
  if v2 = 9 then (
    some (9, G))
  else
  if v2 = 10 then (
    some (10, G))
  else
  (
    some ((-1), G))
def fX5_kindOf (E : g_E) (v0 : Option Nat) (G : g_G) : Option (Int32 × g_G) :=
  (gchk G 19 v0).bind fun b5 =>
  (fJ9_hashCode E b5 G).bind fun z5 =>
  if z5.1 = 3357 then (
    (gchk z5.2 19 v0).bind fun b255 =>
    (fJ9_equals E b255 (some (gA E 32)) z5.2).bind fun z255 =>
    if z255.1 = 0 then (
      fX5_kindOf_b264 E (-1) z255.2)
    else (
      fX5_kindOf_b264 E 10 z255.2))
  else
  if z5.1 = 96673 then (
    (gchk z5.2 19 v0).bind fun b195 =>
    (fJ9_equals E b195 (some (gA E 28)) z5.2).bind fun z195 =>
    if z195.1 = 0 then (
      fX5_kindOf_b264 E (-1) z195.2)
    else (
      fX5_kindOf_b264 E 6 z195.2))
  else
  if z5.1 = 96748 then (
    (gchk z5.2 19 v0).bind fun b167 =>
    (fJ9_equals E b167 (some (gA E 26)) z5.2).bind fun z167 =>
    if z167.1 = 0 then (
      fX5_kindOf_b264 E (-1) z167.2)
    else (
      fX5_kindOf_b264 E 4 z167.2))
  else
  if z5.1 = 113762 then (
    (gchk z5.2 19 v0).bind fun b225 =>
    (fJ9_equals E b225 (some (gA E 30)) z5.2).bind fun z225 =>
    if z225.1 = 0 then (
      fX5_kindOf_b264 E (-1) z225.2)
    else (
      fX5_kindOf_b264 E 8 z225.2))
  else
  if z5.1 = 114251 then (
    (gchk z5.2 19 v0).bind fun b210 =>
    (fJ9_equals E b210 (some (gA E 29)) z5.2).bind fun z210 =>
    if z210.1 = 0 then (
      fX5_kindOf_b264 E (-1) z210.2)
    else (
      fX5_kindOf_b264 E 7 z210.2))
  else
  if z5.1 = 3089282 then (
    (gchk z5.2 19 v0).bind fun b181 =>
    (fJ9_equals E b181 (some (gA E 27)) z5.2).bind fun z181 =>
    if z181.1 = 0 then (
      fX5_kindOf_b264 E (-1) z181.2)
    else (
      fX5_kindOf_b264 E 5 z181.2))
  else
  if z5.1 = 3347527 then (
    (gchk z5.2 19 v0).bind fun b125 =>
    (fJ9_equals E b125 (some (gA E 23)) z5.2).bind fun z125 =>
    if z125.1 = 0 then (
      fX5_kindOf_b264 E (-1) z125.2)
    else (
      fX5_kindOf_b264 E 1 z125.2))
  else
  if z5.1 = 3526536 then (
    (gchk z5.2 19 v0).bind fun b111 =>
    (fJ9_equals E b111 (some (gA E 22)) z5.2).bind fun z111 =>
    if z111.1 = 0 then (
      fX5_kindOf_b264 E (-1) z111.2)
    else (
      fX5_kindOf_b264 E 0 z111.2))
  else
  if z5.1 = 3556273 then (
    (gchk z5.2 19 v0).bind fun b240 =>
    (fJ9_equals E b240 (some (gA E 31)) z5.2).bind fun z240 =>
    if z240.1 = 0 then (
      fX5_kindOf_b264 E (-1) z240.2)
    else (
      fX5_kindOf_b264 E 9 z240.2))
  else
  if z5.1 = 3641717 then (
    (gchk z5.2 19 v0).bind fun b153 =>
    (fJ9_equals E b153 (some (gA E 25)) z5.2).bind fun z153 =>
    if z153.1 = 0 then (
      fX5_kindOf_b264 E (-1) z153.2)
    else (
      fX5_kindOf_b264 E 3 z153.2))
  else
  if z5.1 = 93616297 then (
    (gchk z5.2 19 v0).bind fun b139 =>
    (fJ9_equals E b139 (some (gA E 24)) z5.2).bind fun z139 =>
    if z139.1 = 0 then (
      fX5_kindOf_b264 E (-1) z139.2)
    else (
      fX5_kindOf_b264 E 2 z139.2))
  else
  (
    fX5_kindOf_b264 E (-1) z5.2)
theorem sX5_kindOf_b264 {p : Program} {l : Launch} {e : Env} {R : Room} {s : State} {m : MethodId} {args : Array Value} {below : List Frame} {meth : Method} {c : Code} {E : g_E} {D : g_D} (C : gC p R s m args meth c cX5_kindOf 3 RX5 "kindOf" (some .int) 5 154 E D) : ∀ (v2 : Int32) (G : g_G) (q : Int32 × g_G), fX5_kindOf_b264 E v2 G = some q → ∀ (H : Heap) (locs : List Loc) (cells slots : Nat) (ls : Array Slot), gSt E D G H locs → gls ls 3 [(2, .inl v2)] → gT p l e R s m args below meth c E D H locs cells slots (some (.int q.1)) q.2 (F0 m 264 ls []) := by
  obtain ⟨hx, hb, hml, hown, hts, hKn, hRc, hRs, hc1, hc2, hRf, hRl, hr, hlk, hnm⟩ := id C
  intro v2 G q h H locs cells slots ls hS hl
  unfold fX5_kindOf_b264 at h
  refine g_iload_n hx hb hl 0 rfl dX5_kindOf_264 ?_
  by_cases w265_0 : v2 = 0
  · refine lv_tableIn (tgt := 324) (off := 59) hx hb dX5_kindOf_265 (by rw [w265_0]; decide) (by rw [w265_0]; decide) (by rw [w265_0]; decide) (by decide) ?_
    have h := g_ift w265_0 h
    refine lv_iconst (v := 0) hx hb dX5_kindOf_324 (by decide) ?_
    exact g_iretG hx hb hr hlk hKn hRc hRs hS h dX5_kindOf_325
  have h := g_iff w265_0 h
  by_cases w265_1 : v2 = 1
  · refine lv_tableIn (tgt := 326) (off := 61) hx hb dX5_kindOf_265 (by rw [w265_1]; decide) (by rw [w265_1]; decide) (by rw [w265_1]; decide) (by decide) ?_
    have h := g_ift w265_1 h
    refine lv_iconst (v := 1) hx hb dX5_kindOf_326 (by decide) ?_
    exact g_iretG hx hb hr hlk hKn hRc hRs hS h dX5_kindOf_327
  have h := g_iff w265_1 h
  by_cases w265_2 : v2 = 2
  · refine lv_tableIn (tgt := 328) (off := 63) hx hb dX5_kindOf_265 (by rw [w265_2]; decide) (by rw [w265_2]; decide) (by rw [w265_2]; decide) (by decide) ?_
    have h := g_ift w265_2 h
    refine lv_iconst (v := 2) hx hb dX5_kindOf_328 (by decide) ?_
    exact g_iretG hx hb hr hlk hKn hRc hRs hS h dX5_kindOf_329
  have h := g_iff w265_2 h
  by_cases w265_3 : v2 = 3
  · refine lv_tableIn (tgt := 330) (off := 65) hx hb dX5_kindOf_265 (by rw [w265_3]; decide) (by rw [w265_3]; decide) (by rw [w265_3]; decide) (by decide) ?_
    have h := g_ift w265_3 h
    refine lv_iconst (v := 3) hx hb dX5_kindOf_330 (by decide) ?_
    exact g_iretG hx hb hr hlk hKn hRc hRs hS h dX5_kindOf_331
  have h := g_iff w265_3 h
  by_cases w265_4 : v2 = 4
  · refine lv_tableIn (tgt := 332) (off := 67) hx hb dX5_kindOf_265 (by rw [w265_4]; decide) (by rw [w265_4]; decide) (by rw [w265_4]; decide) (by decide) ?_
    have h := g_ift w265_4 h
    refine lv_iconst (v := 4) hx hb dX5_kindOf_332 (by decide) ?_
    exact g_iretG hx hb hr hlk hKn hRc hRs hS h dX5_kindOf_333
  have h := g_iff w265_4 h
  by_cases w265_5 : v2 = 5
  · refine lv_tableIn (tgt := 334) (off := 69) hx hb dX5_kindOf_265 (by rw [w265_5]; decide) (by rw [w265_5]; decide) (by rw [w265_5]; decide) (by decide) ?_
    have h := g_ift w265_5 h
    refine lv_iconst (v := 5) hx hb dX5_kindOf_334 (by decide) ?_
    exact g_iretG hx hb hr hlk hKn hRc hRs hS h dX5_kindOf_335
  have h := g_iff w265_5 h
  by_cases w265_6 : v2 = 6
  · refine lv_tableIn (tgt := 336) (off := 71) hx hb dX5_kindOf_265 (by rw [w265_6]; decide) (by rw [w265_6]; decide) (by rw [w265_6]; decide) (by decide) ?_
    have h := g_ift w265_6 h
    refine lv_bipush (v := 6) hx hb dX5_kindOf_336 (by decide) ?_
    exact g_iretG hx hb hr hlk hKn hRc hRs hS h dX5_kindOf_338
  have h := g_iff w265_6 h
  by_cases w265_7 : v2 = 7
  · refine lv_tableIn (tgt := 339) (off := 74) hx hb dX5_kindOf_265 (by rw [w265_7]; decide) (by rw [w265_7]; decide) (by rw [w265_7]; decide) (by decide) ?_
    have h := g_ift w265_7 h
    refine lv_bipush (v := 7) hx hb dX5_kindOf_339 (by decide) ?_
    exact g_iretG hx hb hr hlk hKn hRc hRs hS h dX5_kindOf_341
  have h := g_iff w265_7 h
  by_cases w265_8 : v2 = 8
  · refine lv_tableIn (tgt := 342) (off := 77) hx hb dX5_kindOf_265 (by rw [w265_8]; decide) (by rw [w265_8]; decide) (by rw [w265_8]; decide) (by decide) ?_
    have h := g_ift w265_8 h
    refine lv_bipush (v := 8) hx hb dX5_kindOf_342 (by decide) ?_
    exact g_iretG hx hb hr hlk hKn hRc hRs hS h dX5_kindOf_344
  have h := g_iff w265_8 h
  by_cases w265_9 : v2 = 9
  · refine lv_tableIn (tgt := 345) (off := 80) hx hb dX5_kindOf_265 (by rw [w265_9]; decide) (by rw [w265_9]; decide) (by rw [w265_9]; decide) (by decide) ?_
    have h := g_ift w265_9 h
    refine lv_bipush (v := 9) hx hb dX5_kindOf_345 (by decide) ?_
    exact g_iretG hx hb hr hlk hKn hRc hRs hS h dX5_kindOf_347
  have h := g_iff w265_9 h
  by_cases w265_10 : v2 = 10
  · refine lv_tableIn (tgt := 348) (off := 83) hx hb dX5_kindOf_265 (by rw [w265_10]; decide) (by rw [w265_10]; decide) (by rw [w265_10]; decide) (by decide) ?_
    have h := g_ift w265_10 h
    refine lv_bipush (v := 10) hx hb dX5_kindOf_348 (by decide) ?_
    exact g_iretG hx hb hr hlk hKn hRc hRs hS h dX5_kindOf_350
  have h := g_iff w265_10 h
  refine g_tableD (tgt := 351) hx hb dX5_kindOf_265 (by decide) [0, 1, 2, 3, 4, 5, 6, 7, 8, 9, 10] (by decide) (fun k hk => ?_) ?_
  · simp only [List.mem_cons, List.not_mem_nil, or_false] at hk
    rcases hk with rfl | rfl | rfl | rfl | rfl | rfl | rfl | rfl | rfl | rfl | rfl
    · exact w265_0
    · exact w265_1
    · exact w265_2
    · exact w265_3
    · exact w265_4
    · exact w265_5
    · exact w265_6
    · exact w265_7
    · exact w265_8
    · exact w265_9
    · exact w265_10
  refine lv_iconst (v := (-1)) hx hb dX5_kindOf_351 (by decide) ?_
  exact g_iretG hx hb hr hlk hKn hRc hRs hS h dX5_kindOf_352
theorem sX5_kindOf (l : Launch) (E : g_E) (D : g_D) {v0 : Option Nat} {G : g_G} {q : Int32 × g_G} (h : fX5_kindOf E v0 G = some q) : gMet l E D yX5_kindOf (ws_ yX5_kindOf cX5_kindOf 3 (some .int)) 5 154 [.inr (.inr v0)] G (some (.int q.1)) q.2 := by
  refine gMet.of (by decide +kernel) (Nat.le_of_ble_eq_true rfl) ?_
  intro p e R s m args below meth c C hS ls hl
  have C : gC p R s m args meth c cX5_kindOf 3 RX5 "kindOf" (some .int) 5 154 E D := C
  obtain ⟨hx, hb, hml, hown, hts, hKn, hRc, hRs, hc1, hc2, hRf, hRl, hr, hlk, hnm⟩ := id C
  have hl : gls ls 3 [(0, .inr (.inr v0))] := hl
  generalize s.heap = H at hS ⊢
  unfold fX5_kindOf at h
  refine g_aload_n hx hb hl 0 rfl dX5_kindOf_0 ?_
  refine g_astore_n (l1 := [(1, .inr (.inr v0)), (0, .inr (.inr v0))]) hx hb hl (by decide) rfl dX5_kindOf_1 (fun ls hl => ?_)
  refine lv_iconst (v := (-1)) hx hb dX5_kindOf_2 (by decide) ?_
  refine g_istore_n (l1 := [(2, .inl (-1)), (1, .inr (.inr v0)), (0, .inr (.inr v0))]) hx hb hl (by decide) rfl dX5_kindOf_3 (fun ls hl => ?_)
  refine g_aload_n hx hb hl 1 rfl dX5_kindOf_4 ?_
  obtain ⟨b5, hb5, h⟩ := g_bnd h
  obtain ⟨hr5, hk5⟩ := g_chk hb5
  obtain ⟨z5, h5, h⟩ := g_bnd h
  refine g_callV (n := 0) (b := b5) (av := []) (rs := []) hx hb hml hown hts hKn hRc hRs hS hl (sJ9_hashCode l E D h5) (lw_V q1287 q1288 q1289 q124 q1290) ⟨rfl, by decide, by decide, by decide +kernel⟩ ⟨by rw [hRf]; exact Nat.le_of_ble_eq_true rfl, by rw [hRl]; exact Nat.le_of_ble_eq_true rfl⟩ (g_recv hKn hS hk5 (by decide) (by decide)) rfl (by rw [hr5]; rfl) (Nat.le_of_ble_eq_true rfl) dX5_kindOf_5 (fun H locs cells slots hS => ?_)
  by_cases w8_0 : z5.1 = 3357
  · refine lv_lookup (tgt := 252) (off := 244) hx hb dX5_kindOf_8 (by decide) (by rw [w8_0]; decide) (by decide) ?_
    have h := g_ift w8_0 h
    refine g_aload_n hx hb hl 1 rfl dX5_kindOf_252 ?_
    refine g_ldcS (i := 32) hx hb hown hKn (List.mem_of_getElem? (i := 12) rfl) dX5_kindOf_253 ?_
    obtain ⟨b255, hb255, h⟩ := g_bnd h
    obtain ⟨hr255, hk255⟩ := g_chk hb255
    obtain ⟨z255, h255, h⟩ := g_bnd h
    refine g_callV (n := 1) (b := b255) (av := [.inr (.inr (some (gA E 32)))]) (rs := []) hx hb hml hown hts hKn hRc hRs hS hl (sJ9_equals l E D h255) (lw_V q1345 q1346 q1347 q124 q1348) ⟨rfl, by decide, by decide, by decide +kernel⟩ ⟨by rw [hRf]; exact Nat.le_of_ble_eq_true rfl, by rw [hRl]; exact Nat.le_of_ble_eq_true rfl⟩ (g_recv hKn hS hk255 (by decide) (by decide)) rfl (by rw [hr255]; rfl) (Nat.le_of_ble_eq_true rfl) dX5_kindOf_255 (fun H locs cells slots hS => ?_)
    refine lv_if_eq (tgt := 264) hx hb dX5_kindOf_258 (by decide) (fun c_258 => ?_) (fun c_258 => ?_)
    · have h := g_ift c_258 h
      exact sX5_kindOf_b264 C _ _ _ h _ _ _ _ _ hS (gls_sub hl [0] rfl)
    · have h := g_iff c_258 h
      refine lv_bipush (v := 10) hx hb dX5_kindOf_261 (by decide) ?_
      refine g_istore_n (l1 := [(2, .inl 10), (1, .inr (.inr v0)), (0, .inr (.inr v0))]) hx hb hl (by decide) rfl dX5_kindOf_263 (fun ls hl => ?_)
      exact sX5_kindOf_b264 C _ _ _ h _ _ _ _ _ hS (gls_sub hl [0] rfl)
  have h := g_iff w8_0 h
  by_cases w8_1 : z5.1 = 96673
  · refine lv_lookup (tgt := 192) (off := 184) hx hb dX5_kindOf_8 (by decide) (by rw [w8_1]; decide) (by decide) ?_
    have h := g_ift w8_1 h
    refine g_aload_n hx hb hl 1 rfl dX5_kindOf_192 ?_
    refine g_ldcS (i := 28) hx hb hown hKn (List.mem_of_getElem? (i := 8) rfl) dX5_kindOf_193 ?_
    obtain ⟨b195, hb195, h⟩ := g_bnd h
    obtain ⟨hr195, hk195⟩ := g_chk hb195
    obtain ⟨z195, h195, h⟩ := g_bnd h
    refine g_callV (n := 1) (b := b195) (av := [.inr (.inr (some (gA E 28)))]) (rs := []) hx hb hml hown hts hKn hRc hRs hS hl (sJ9_equals l E D h195) (lw_V q1345 q1346 q1347 q124 q1348) ⟨rfl, by decide, by decide, by decide +kernel⟩ ⟨by rw [hRf]; exact Nat.le_of_ble_eq_true rfl, by rw [hRl]; exact Nat.le_of_ble_eq_true rfl⟩ (g_recv hKn hS hk195 (by decide) (by decide)) rfl (by rw [hr195]; rfl) (Nat.le_of_ble_eq_true rfl) dX5_kindOf_195 (fun H locs cells slots hS => ?_)
    refine lv_if_eq (tgt := 264) hx hb dX5_kindOf_198 (by decide) (fun c_198 => ?_) (fun c_198 => ?_)
    · have h := g_ift c_198 h
      exact sX5_kindOf_b264 C _ _ _ h _ _ _ _ _ hS (gls_sub hl [0] rfl)
    · have h := g_iff c_198 h
      refine lv_bipush (v := 6) hx hb dX5_kindOf_201 (by decide) ?_
      refine g_istore_n (l1 := [(2, .inl 6), (1, .inr (.inr v0)), (0, .inr (.inr v0))]) hx hb hl (by decide) rfl dX5_kindOf_203 (fun ls hl => ?_)
      refine lv_goto (tgt := 264) hx hb dX5_kindOf_204 (by decide) ?_
      exact sX5_kindOf_b264 C _ _ _ h _ _ _ _ _ hS (gls_sub hl [0] rfl)
  have h := g_iff w8_1 h
  by_cases w8_2 : z5.1 = 96748
  · refine lv_lookup (tgt := 164) (off := 156) hx hb dX5_kindOf_8 (by decide) (by rw [w8_2]; decide) (by decide) ?_
    have h := g_ift w8_2 h
    refine g_aload_n hx hb hl 1 rfl dX5_kindOf_164 ?_
    refine g_ldcS (i := 26) hx hb hown hKn (List.mem_of_getElem? (i := 6) rfl) dX5_kindOf_165 ?_
    obtain ⟨b167, hb167, h⟩ := g_bnd h
    obtain ⟨hr167, hk167⟩ := g_chk hb167
    obtain ⟨z167, h167, h⟩ := g_bnd h
    refine g_callV (n := 1) (b := b167) (av := [.inr (.inr (some (gA E 26)))]) (rs := []) hx hb hml hown hts hKn hRc hRs hS hl (sJ9_equals l E D h167) (lw_V q1345 q1346 q1347 q124 q1348) ⟨rfl, by decide, by decide, by decide +kernel⟩ ⟨by rw [hRf]; exact Nat.le_of_ble_eq_true rfl, by rw [hRl]; exact Nat.le_of_ble_eq_true rfl⟩ (g_recv hKn hS hk167 (by decide) (by decide)) rfl (by rw [hr167]; rfl) (Nat.le_of_ble_eq_true rfl) dX5_kindOf_167 (fun H locs cells slots hS => ?_)
    refine lv_if_eq (tgt := 264) hx hb dX5_kindOf_170 (by decide) (fun c_170 => ?_) (fun c_170 => ?_)
    · have h := g_ift c_170 h
      exact sX5_kindOf_b264 C _ _ _ h _ _ _ _ _ hS (gls_sub hl [0] rfl)
    · have h := g_iff c_170 h
      refine lv_iconst (v := 4) hx hb dX5_kindOf_173 (by decide) ?_
      refine g_istore_n (l1 := [(2, .inl 4), (1, .inr (.inr v0)), (0, .inr (.inr v0))]) hx hb hl (by decide) rfl dX5_kindOf_174 (fun ls hl => ?_)
      refine lv_goto (tgt := 264) hx hb dX5_kindOf_175 (by decide) ?_
      exact sX5_kindOf_b264 C _ _ _ h _ _ _ _ _ hS (gls_sub hl [0] rfl)
  have h := g_iff w8_2 h
  by_cases w8_3 : z5.1 = 113762
  · refine lv_lookup (tgt := 222) (off := 214) hx hb dX5_kindOf_8 (by decide) (by rw [w8_3]; decide) (by decide) ?_
    have h := g_ift w8_3 h
    refine g_aload_n hx hb hl 1 rfl dX5_kindOf_222 ?_
    refine g_ldcS (i := 30) hx hb hown hKn (List.mem_of_getElem? (i := 10) rfl) dX5_kindOf_223 ?_
    obtain ⟨b225, hb225, h⟩ := g_bnd h
    obtain ⟨hr225, hk225⟩ := g_chk hb225
    obtain ⟨z225, h225, h⟩ := g_bnd h
    refine g_callV (n := 1) (b := b225) (av := [.inr (.inr (some (gA E 30)))]) (rs := []) hx hb hml hown hts hKn hRc hRs hS hl (sJ9_equals l E D h225) (lw_V q1345 q1346 q1347 q124 q1348) ⟨rfl, by decide, by decide, by decide +kernel⟩ ⟨by rw [hRf]; exact Nat.le_of_ble_eq_true rfl, by rw [hRl]; exact Nat.le_of_ble_eq_true rfl⟩ (g_recv hKn hS hk225 (by decide) (by decide)) rfl (by rw [hr225]; rfl) (Nat.le_of_ble_eq_true rfl) dX5_kindOf_225 (fun H locs cells slots hS => ?_)
    refine lv_if_eq (tgt := 264) hx hb dX5_kindOf_228 (by decide) (fun c_228 => ?_) (fun c_228 => ?_)
    · have h := g_ift c_228 h
      exact sX5_kindOf_b264 C _ _ _ h _ _ _ _ _ hS (gls_sub hl [0] rfl)
    · have h := g_iff c_228 h
      refine lv_bipush (v := 8) hx hb dX5_kindOf_231 (by decide) ?_
      refine g_istore_n (l1 := [(2, .inl 8), (1, .inr (.inr v0)), (0, .inr (.inr v0))]) hx hb hl (by decide) rfl dX5_kindOf_233 (fun ls hl => ?_)
      refine lv_goto (tgt := 264) hx hb dX5_kindOf_234 (by decide) ?_
      exact sX5_kindOf_b264 C _ _ _ h _ _ _ _ _ hS (gls_sub hl [0] rfl)
  have h := g_iff w8_3 h
  by_cases w8_4 : z5.1 = 114251
  · refine lv_lookup (tgt := 207) (off := 199) hx hb dX5_kindOf_8 (by decide) (by rw [w8_4]; decide) (by decide) ?_
    have h := g_ift w8_4 h
    refine g_aload_n hx hb hl 1 rfl dX5_kindOf_207 ?_
    refine g_ldcS (i := 29) hx hb hown hKn (List.mem_of_getElem? (i := 9) rfl) dX5_kindOf_208 ?_
    obtain ⟨b210, hb210, h⟩ := g_bnd h
    obtain ⟨hr210, hk210⟩ := g_chk hb210
    obtain ⟨z210, h210, h⟩ := g_bnd h
    refine g_callV (n := 1) (b := b210) (av := [.inr (.inr (some (gA E 29)))]) (rs := []) hx hb hml hown hts hKn hRc hRs hS hl (sJ9_equals l E D h210) (lw_V q1345 q1346 q1347 q124 q1348) ⟨rfl, by decide, by decide, by decide +kernel⟩ ⟨by rw [hRf]; exact Nat.le_of_ble_eq_true rfl, by rw [hRl]; exact Nat.le_of_ble_eq_true rfl⟩ (g_recv hKn hS hk210 (by decide) (by decide)) rfl (by rw [hr210]; rfl) (Nat.le_of_ble_eq_true rfl) dX5_kindOf_210 (fun H locs cells slots hS => ?_)
    refine lv_if_eq (tgt := 264) hx hb dX5_kindOf_213 (by decide) (fun c_213 => ?_) (fun c_213 => ?_)
    · have h := g_ift c_213 h
      exact sX5_kindOf_b264 C _ _ _ h _ _ _ _ _ hS (gls_sub hl [0] rfl)
    · have h := g_iff c_213 h
      refine lv_bipush (v := 7) hx hb dX5_kindOf_216 (by decide) ?_
      refine g_istore_n (l1 := [(2, .inl 7), (1, .inr (.inr v0)), (0, .inr (.inr v0))]) hx hb hl (by decide) rfl dX5_kindOf_218 (fun ls hl => ?_)
      refine lv_goto (tgt := 264) hx hb dX5_kindOf_219 (by decide) ?_
      exact sX5_kindOf_b264 C _ _ _ h _ _ _ _ _ hS (gls_sub hl [0] rfl)
  have h := g_iff w8_4 h
  by_cases w8_5 : z5.1 = 3089282
  · refine lv_lookup (tgt := 178) (off := 170) hx hb dX5_kindOf_8 (by decide) (by rw [w8_5]; decide) (by decide) ?_
    have h := g_ift w8_5 h
    refine g_aload_n hx hb hl 1 rfl dX5_kindOf_178 ?_
    refine g_ldcS (i := 27) hx hb hown hKn (List.mem_of_getElem? (i := 7) rfl) dX5_kindOf_179 ?_
    obtain ⟨b181, hb181, h⟩ := g_bnd h
    obtain ⟨hr181, hk181⟩ := g_chk hb181
    obtain ⟨z181, h181, h⟩ := g_bnd h
    refine g_callV (n := 1) (b := b181) (av := [.inr (.inr (some (gA E 27)))]) (rs := []) hx hb hml hown hts hKn hRc hRs hS hl (sJ9_equals l E D h181) (lw_V q1345 q1346 q1347 q124 q1348) ⟨rfl, by decide, by decide, by decide +kernel⟩ ⟨by rw [hRf]; exact Nat.le_of_ble_eq_true rfl, by rw [hRl]; exact Nat.le_of_ble_eq_true rfl⟩ (g_recv hKn hS hk181 (by decide) (by decide)) rfl (by rw [hr181]; rfl) (Nat.le_of_ble_eq_true rfl) dX5_kindOf_181 (fun H locs cells slots hS => ?_)
    refine lv_if_eq (tgt := 264) hx hb dX5_kindOf_184 (by decide) (fun c_184 => ?_) (fun c_184 => ?_)
    · have h := g_ift c_184 h
      exact sX5_kindOf_b264 C _ _ _ h _ _ _ _ _ hS (gls_sub hl [0] rfl)
    · have h := g_iff c_184 h
      refine lv_iconst (v := 5) hx hb dX5_kindOf_187 (by decide) ?_
      refine g_istore_n (l1 := [(2, .inl 5), (1, .inr (.inr v0)), (0, .inr (.inr v0))]) hx hb hl (by decide) rfl dX5_kindOf_188 (fun ls hl => ?_)
      refine lv_goto (tgt := 264) hx hb dX5_kindOf_189 (by decide) ?_
      exact sX5_kindOf_b264 C _ _ _ h _ _ _ _ _ hS (gls_sub hl [0] rfl)
  have h := g_iff w8_5 h
  by_cases w8_6 : z5.1 = 3347527
  · refine lv_lookup (tgt := 122) (off := 114) hx hb dX5_kindOf_8 (by decide) (by rw [w8_6]; decide) (by decide) ?_
    have h := g_ift w8_6 h
    refine g_aload_n hx hb hl 1 rfl dX5_kindOf_122 ?_
    refine g_ldcS (i := 23) hx hb hown hKn (List.mem_of_getElem? (i := 3) rfl) dX5_kindOf_123 ?_
    obtain ⟨b125, hb125, h⟩ := g_bnd h
    obtain ⟨hr125, hk125⟩ := g_chk hb125
    obtain ⟨z125, h125, h⟩ := g_bnd h
    refine g_callV (n := 1) (b := b125) (av := [.inr (.inr (some (gA E 23)))]) (rs := []) hx hb hml hown hts hKn hRc hRs hS hl (sJ9_equals l E D h125) (lw_V q1345 q1346 q1347 q124 q1348) ⟨rfl, by decide, by decide, by decide +kernel⟩ ⟨by rw [hRf]; exact Nat.le_of_ble_eq_true rfl, by rw [hRl]; exact Nat.le_of_ble_eq_true rfl⟩ (g_recv hKn hS hk125 (by decide) (by decide)) rfl (by rw [hr125]; rfl) (Nat.le_of_ble_eq_true rfl) dX5_kindOf_125 (fun H locs cells slots hS => ?_)
    refine lv_if_eq (tgt := 264) hx hb dX5_kindOf_128 (by decide) (fun c_128 => ?_) (fun c_128 => ?_)
    · have h := g_ift c_128 h
      exact sX5_kindOf_b264 C _ _ _ h _ _ _ _ _ hS (gls_sub hl [0] rfl)
    · have h := g_iff c_128 h
      refine lv_iconst (v := 1) hx hb dX5_kindOf_131 (by decide) ?_
      refine g_istore_n (l1 := [(2, .inl 1), (1, .inr (.inr v0)), (0, .inr (.inr v0))]) hx hb hl (by decide) rfl dX5_kindOf_132 (fun ls hl => ?_)
      refine lv_goto (tgt := 264) hx hb dX5_kindOf_133 (by decide) ?_
      exact sX5_kindOf_b264 C _ _ _ h _ _ _ _ _ hS (gls_sub hl [0] rfl)
  have h := g_iff w8_6 h
  by_cases w8_7 : z5.1 = 3526536
  · refine lv_lookup (tgt := 108) (off := 100) hx hb dX5_kindOf_8 (by decide) (by rw [w8_7]; decide) (by decide) ?_
    have h := g_ift w8_7 h
    refine g_aload_n hx hb hl 1 rfl dX5_kindOf_108 ?_
    refine g_ldcS (i := 22) hx hb hown hKn (List.mem_of_getElem? (i := 2) rfl) dX5_kindOf_109 ?_
    obtain ⟨b111, hb111, h⟩ := g_bnd h
    obtain ⟨hr111, hk111⟩ := g_chk hb111
    obtain ⟨z111, h111, h⟩ := g_bnd h
    refine g_callV (n := 1) (b := b111) (av := [.inr (.inr (some (gA E 22)))]) (rs := []) hx hb hml hown hts hKn hRc hRs hS hl (sJ9_equals l E D h111) (lw_V q1345 q1346 q1347 q124 q1348) ⟨rfl, by decide, by decide, by decide +kernel⟩ ⟨by rw [hRf]; exact Nat.le_of_ble_eq_true rfl, by rw [hRl]; exact Nat.le_of_ble_eq_true rfl⟩ (g_recv hKn hS hk111 (by decide) (by decide)) rfl (by rw [hr111]; rfl) (Nat.le_of_ble_eq_true rfl) dX5_kindOf_111 (fun H locs cells slots hS => ?_)
    refine lv_if_eq (tgt := 264) hx hb dX5_kindOf_114 (by decide) (fun c_114 => ?_) (fun c_114 => ?_)
    · have h := g_ift c_114 h
      exact sX5_kindOf_b264 C _ _ _ h _ _ _ _ _ hS (gls_sub hl [0] rfl)
    · have h := g_iff c_114 h
      refine lv_iconst (v := 0) hx hb dX5_kindOf_117 (by decide) ?_
      refine g_istore_n (l1 := [(2, .inl 0), (1, .inr (.inr v0)), (0, .inr (.inr v0))]) hx hb hl (by decide) rfl dX5_kindOf_118 (fun ls hl => ?_)
      refine lv_goto (tgt := 264) hx hb dX5_kindOf_119 (by decide) ?_
      exact sX5_kindOf_b264 C _ _ _ h _ _ _ _ _ hS (gls_sub hl [0] rfl)
  have h := g_iff w8_7 h
  by_cases w8_8 : z5.1 = 3556273
  · refine lv_lookup (tgt := 237) (off := 229) hx hb dX5_kindOf_8 (by decide) (by rw [w8_8]; decide) (by decide) ?_
    have h := g_ift w8_8 h
    refine g_aload_n hx hb hl 1 rfl dX5_kindOf_237 ?_
    refine g_ldcS (i := 31) hx hb hown hKn (List.mem_of_getElem? (i := 11) rfl) dX5_kindOf_238 ?_
    obtain ⟨b240, hb240, h⟩ := g_bnd h
    obtain ⟨hr240, hk240⟩ := g_chk hb240
    obtain ⟨z240, h240, h⟩ := g_bnd h
    refine g_callV (n := 1) (b := b240) (av := [.inr (.inr (some (gA E 31)))]) (rs := []) hx hb hml hown hts hKn hRc hRs hS hl (sJ9_equals l E D h240) (lw_V q1345 q1346 q1347 q124 q1348) ⟨rfl, by decide, by decide, by decide +kernel⟩ ⟨by rw [hRf]; exact Nat.le_of_ble_eq_true rfl, by rw [hRl]; exact Nat.le_of_ble_eq_true rfl⟩ (g_recv hKn hS hk240 (by decide) (by decide)) rfl (by rw [hr240]; rfl) (Nat.le_of_ble_eq_true rfl) dX5_kindOf_240 (fun H locs cells slots hS => ?_)
    refine lv_if_eq (tgt := 264) hx hb dX5_kindOf_243 (by decide) (fun c_243 => ?_) (fun c_243 => ?_)
    · have h := g_ift c_243 h
      exact sX5_kindOf_b264 C _ _ _ h _ _ _ _ _ hS (gls_sub hl [0] rfl)
    · have h := g_iff c_243 h
      refine lv_bipush (v := 9) hx hb dX5_kindOf_246 (by decide) ?_
      refine g_istore_n (l1 := [(2, .inl 9), (1, .inr (.inr v0)), (0, .inr (.inr v0))]) hx hb hl (by decide) rfl dX5_kindOf_248 (fun ls hl => ?_)
      refine lv_goto (tgt := 264) hx hb dX5_kindOf_249 (by decide) ?_
      exact sX5_kindOf_b264 C _ _ _ h _ _ _ _ _ hS (gls_sub hl [0] rfl)
  have h := g_iff w8_8 h
  by_cases w8_9 : z5.1 = 3641717
  · refine lv_lookup (tgt := 150) (off := 142) hx hb dX5_kindOf_8 (by decide) (by rw [w8_9]; decide) (by decide) ?_
    have h := g_ift w8_9 h
    refine g_aload_n hx hb hl 1 rfl dX5_kindOf_150 ?_
    refine g_ldcS (i := 25) hx hb hown hKn (List.mem_of_getElem? (i := 5) rfl) dX5_kindOf_151 ?_
    obtain ⟨b153, hb153, h⟩ := g_bnd h
    obtain ⟨hr153, hk153⟩ := g_chk hb153
    obtain ⟨z153, h153, h⟩ := g_bnd h
    refine g_callV (n := 1) (b := b153) (av := [.inr (.inr (some (gA E 25)))]) (rs := []) hx hb hml hown hts hKn hRc hRs hS hl (sJ9_equals l E D h153) (lw_V q1345 q1346 q1347 q124 q1348) ⟨rfl, by decide, by decide, by decide +kernel⟩ ⟨by rw [hRf]; exact Nat.le_of_ble_eq_true rfl, by rw [hRl]; exact Nat.le_of_ble_eq_true rfl⟩ (g_recv hKn hS hk153 (by decide) (by decide)) rfl (by rw [hr153]; rfl) (Nat.le_of_ble_eq_true rfl) dX5_kindOf_153 (fun H locs cells slots hS => ?_)
    refine lv_if_eq (tgt := 264) hx hb dX5_kindOf_156 (by decide) (fun c_156 => ?_) (fun c_156 => ?_)
    · have h := g_ift c_156 h
      exact sX5_kindOf_b264 C _ _ _ h _ _ _ _ _ hS (gls_sub hl [0] rfl)
    · have h := g_iff c_156 h
      refine lv_iconst (v := 3) hx hb dX5_kindOf_159 (by decide) ?_
      refine g_istore_n (l1 := [(2, .inl 3), (1, .inr (.inr v0)), (0, .inr (.inr v0))]) hx hb hl (by decide) rfl dX5_kindOf_160 (fun ls hl => ?_)
      refine lv_goto (tgt := 264) hx hb dX5_kindOf_161 (by decide) ?_
      exact sX5_kindOf_b264 C _ _ _ h _ _ _ _ _ hS (gls_sub hl [0] rfl)
  have h := g_iff w8_9 h
  by_cases w8_10 : z5.1 = 93616297
  · refine lv_lookup (tgt := 136) (off := 128) hx hb dX5_kindOf_8 (by decide) (by rw [w8_10]; decide) (by decide) ?_
    have h := g_ift w8_10 h
    refine g_aload_n hx hb hl 1 rfl dX5_kindOf_136 ?_
    refine g_ldcS (i := 24) hx hb hown hKn (List.mem_of_getElem? (i := 4) rfl) dX5_kindOf_137 ?_
    obtain ⟨b139, hb139, h⟩ := g_bnd h
    obtain ⟨hr139, hk139⟩ := g_chk hb139
    obtain ⟨z139, h139, h⟩ := g_bnd h
    refine g_callV (n := 1) (b := b139) (av := [.inr (.inr (some (gA E 24)))]) (rs := []) hx hb hml hown hts hKn hRc hRs hS hl (sJ9_equals l E D h139) (lw_V q1345 q1346 q1347 q124 q1348) ⟨rfl, by decide, by decide, by decide +kernel⟩ ⟨by rw [hRf]; exact Nat.le_of_ble_eq_true rfl, by rw [hRl]; exact Nat.le_of_ble_eq_true rfl⟩ (g_recv hKn hS hk139 (by decide) (by decide)) rfl (by rw [hr139]; rfl) (Nat.le_of_ble_eq_true rfl) dX5_kindOf_139 (fun H locs cells slots hS => ?_)
    refine lv_if_eq (tgt := 264) hx hb dX5_kindOf_142 (by decide) (fun c_142 => ?_) (fun c_142 => ?_)
    · have h := g_ift c_142 h
      exact sX5_kindOf_b264 C _ _ _ h _ _ _ _ _ hS (gls_sub hl [0] rfl)
    · have h := g_iff c_142 h
      refine lv_iconst (v := 2) hx hb dX5_kindOf_145 (by decide) ?_
      refine g_istore_n (l1 := [(2, .inl 2), (1, .inr (.inr v0)), (0, .inr (.inr v0))]) hx hb hl (by decide) rfl dX5_kindOf_146 (fun ls hl => ?_)
      refine lv_goto (tgt := 264) hx hb dX5_kindOf_147 (by decide) ?_
      exact sX5_kindOf_b264 C _ _ _ h _ _ _ _ _ hS (gls_sub hl [0] rfl)
  have h := g_iff w8_10 h
  refine g_lookupD (tgt := 264) hx hb dX5_kindOf_8 (by decide) [3357, 96673, 96748, 113762, 114251, 3089282, 3347527, 3526536, 3556273, 3641717, 93616297] (by decide) (fun k hk => ?_) (by decide) ?_
  · simp only [List.mem_cons, List.not_mem_nil, or_false] at hk
    rcases hk with rfl | rfl | rfl | rfl | rfl | rfl | rfl | rfl | rfl | rfl | rfl
    · exact w8_0
    · exact w8_1
    · exact w8_2
    · exact w8_3
    · exact w8_4
    · exact w8_5
    · exact w8_6
    · exact w8_7
    · exact w8_8
    · exact w8_9
    · exact w8_10
  exact sX5_kindOf_b264 C _ _ _ h _ _ _ _ _ hS (gls_sub hl [0] rfl)
/-- SendHall$Reader.valueOf(Ljava/lang/String;)I -/
def fX5_valueOf_b179 (E : g_E) (v2 : Int32) (G : g_G) : Option (Int32 × g_G) :=
  if v2 = 0 then (
    some (0, G))
  else
  if v2 = 1 then (
    some (1, G))
  else
  if v2 = 2 then (
    some (2, G))
  else
  if v2 = 3 then (
    some (3, G))
  else
  if v2 = 4 then (
    some (4, G))
  else
  if v2 = 5 then (
    some (5, G))
  else
  if v2 = 6 then (
    some (6, G))
  else
  (
    some ((-1), G))
def fX5_valueOf (E : g_E) (v0 : Option Nat) (G : g_G) : Option (Int32 × g_G) :=
  (gchk G 19 v0).bind fun b5 =>
  (fJ9_hashCode E b5 G).bind fun z5 =>
  if z5.1 = 97 then (
    (gchk z5.2 19 v0).bind fun b80 =>
    (fJ9_equals E b80 (some (gA E 37)) z5.2).bind fun z80 =>
    if z80.1 = 0 then (
      fX5_valueOf_b179 E (-1) z80.2)
    else (
      fX5_valueOf_b179 E 0 z80.2))
  else
  if z5.1 = 98 then (
    (gchk z5.2 19 v0).bind fun b95 =>
    (fJ9_equals E b95 (some (gA E 38)) z5.2).bind fun z95 =>
    if z95.1 = 0 then (
      fX5_valueOf_b179 E (-1) z95.2)
    else (
      fX5_valueOf_b179 E 1 z95.2))
  else
  if z5.1 = 99 then (
    (gchk z5.2 19 v0).bind fun b110 =>
    (fJ9_equals E b110 (some (gA E 39)) z5.2).bind fun z110 =>
    if z110.1 = 0 then (
      fX5_valueOf_b179 E (-1) z110.2)
    else (
      fX5_valueOf_b179 E 2 z110.2))
  else
  if z5.1 = 100 then (
    (gchk z5.2 19 v0).bind fun b125 =>
    (fJ9_equals E b125 (some (gA E 40)) z5.2).bind fun z125 =>
    if z125.1 = 0 then (
      fX5_valueOf_b179 E (-1) z125.2)
    else (
      fX5_valueOf_b179 E 3 z125.2))
  else
  if z5.1 = 110 then (
    (gchk z5.2 19 v0).bind fun b155 =>
    (fJ9_equals E b155 (some (gA E 42)) z5.2).bind fun z155 =>
    if z155.1 = 0 then (
      fX5_valueOf_b179 E (-1) z155.2)
    else (
      fX5_valueOf_b179 E 5 z155.2))
  else
  if z5.1 = 3480 then (
    (gchk z5.2 19 v0).bind fun b140 =>
    (fJ9_equals E b140 (some (gA E 41)) z5.2).bind fun z140 =>
    if z140.1 = 0 then (
      fX5_valueOf_b179 E (-1) z140.2)
    else (
      fX5_valueOf_b179 E 4 z140.2))
  else
  if z5.1 = 3151786 then (
    (gchk z5.2 19 v0).bind fun b170 =>
    (fJ9_equals E b170 (some (gA E 43)) z5.2).bind fun z170 =>
    if z170.1 = 0 then (
      fX5_valueOf_b179 E (-1) z170.2)
    else (
      fX5_valueOf_b179 E 6 z170.2))
  else
  (
    fX5_valueOf_b179 E (-1) z5.2)
theorem sX5_valueOf_b179 {p : Program} {l : Launch} {e : Env} {R : Room} {s : State} {m : MethodId} {args : Array Value} {below : List Frame} {meth : Method} {c : Code} {E : g_E} {D : g_D} (C : gC p R s m args meth c cX5_valueOf 3 RX5 "valueOf" (some .int) 5 154 E D) : ∀ (v2 : Int32) (G : g_G) (q : Int32 × g_G), fX5_valueOf_b179 E v2 G = some q → ∀ (H : Heap) (locs : List Loc) (cells slots : Nat) (ls : Array Slot), gSt E D G H locs → gls ls 3 [(2, .inl v2)] → gT p l e R s m args below meth c E D H locs cells slots (some (.int q.1)) q.2 (F0 m 179 ls []) := by
  obtain ⟨hx, hb, hml, hown, hts, hKn, hRc, hRs, hc1, hc2, hRf, hRl, hr, hlk, hnm⟩ := id C
  intro v2 G q h H locs cells slots ls hS hl
  unfold fX5_valueOf_b179 at h
  refine g_iload_n hx hb hl 0 rfl dX5_valueOf_179 ?_
  by_cases w180_0 : v2 = 0
  · refine lv_tableIn (tgt := 224) (off := 44) hx hb dX5_valueOf_180 (by rw [w180_0]; decide) (by rw [w180_0]; decide) (by rw [w180_0]; decide) (by decide) ?_
    have h := g_ift w180_0 h
    refine lv_iconst (v := 0) hx hb dX5_valueOf_224 (by decide) ?_
    exact g_iretG hx hb hr hlk hKn hRc hRs hS h dX5_valueOf_225
  have h := g_iff w180_0 h
  by_cases w180_1 : v2 = 1
  · refine lv_tableIn (tgt := 226) (off := 46) hx hb dX5_valueOf_180 (by rw [w180_1]; decide) (by rw [w180_1]; decide) (by rw [w180_1]; decide) (by decide) ?_
    have h := g_ift w180_1 h
    refine lv_iconst (v := 1) hx hb dX5_valueOf_226 (by decide) ?_
    exact g_iretG hx hb hr hlk hKn hRc hRs hS h dX5_valueOf_227
  have h := g_iff w180_1 h
  by_cases w180_2 : v2 = 2
  · refine lv_tableIn (tgt := 228) (off := 48) hx hb dX5_valueOf_180 (by rw [w180_2]; decide) (by rw [w180_2]; decide) (by rw [w180_2]; decide) (by decide) ?_
    have h := g_ift w180_2 h
    refine lv_iconst (v := 2) hx hb dX5_valueOf_228 (by decide) ?_
    exact g_iretG hx hb hr hlk hKn hRc hRs hS h dX5_valueOf_229
  have h := g_iff w180_2 h
  by_cases w180_3 : v2 = 3
  · refine lv_tableIn (tgt := 230) (off := 50) hx hb dX5_valueOf_180 (by rw [w180_3]; decide) (by rw [w180_3]; decide) (by rw [w180_3]; decide) (by decide) ?_
    have h := g_ift w180_3 h
    refine lv_iconst (v := 3) hx hb dX5_valueOf_230 (by decide) ?_
    exact g_iretG hx hb hr hlk hKn hRc hRs hS h dX5_valueOf_231
  have h := g_iff w180_3 h
  by_cases w180_4 : v2 = 4
  · refine lv_tableIn (tgt := 232) (off := 52) hx hb dX5_valueOf_180 (by rw [w180_4]; decide) (by rw [w180_4]; decide) (by rw [w180_4]; decide) (by decide) ?_
    have h := g_ift w180_4 h
    refine lv_iconst (v := 4) hx hb dX5_valueOf_232 (by decide) ?_
    exact g_iretG hx hb hr hlk hKn hRc hRs hS h dX5_valueOf_233
  have h := g_iff w180_4 h
  by_cases w180_5 : v2 = 5
  · refine lv_tableIn (tgt := 234) (off := 54) hx hb dX5_valueOf_180 (by rw [w180_5]; decide) (by rw [w180_5]; decide) (by rw [w180_5]; decide) (by decide) ?_
    have h := g_ift w180_5 h
    refine lv_iconst (v := 5) hx hb dX5_valueOf_234 (by decide) ?_
    exact g_iretG hx hb hr hlk hKn hRc hRs hS h dX5_valueOf_235
  have h := g_iff w180_5 h
  by_cases w180_6 : v2 = 6
  · refine lv_tableIn (tgt := 236) (off := 56) hx hb dX5_valueOf_180 (by rw [w180_6]; decide) (by rw [w180_6]; decide) (by rw [w180_6]; decide) (by decide) ?_
    have h := g_ift w180_6 h
    refine lv_bipush (v := 6) hx hb dX5_valueOf_236 (by decide) ?_
    exact g_iretG hx hb hr hlk hKn hRc hRs hS h dX5_valueOf_238
  have h := g_iff w180_6 h
  refine g_tableD (tgt := 239) hx hb dX5_valueOf_180 (by decide) [0, 1, 2, 3, 4, 5, 6] (by decide) (fun k hk => ?_) ?_
  · simp only [List.mem_cons, List.not_mem_nil, or_false] at hk
    rcases hk with rfl | rfl | rfl | rfl | rfl | rfl | rfl
    · exact w180_0
    · exact w180_1
    · exact w180_2
    · exact w180_3
    · exact w180_4
    · exact w180_5
    · exact w180_6
  refine lv_iconst (v := (-1)) hx hb dX5_valueOf_239 (by decide) ?_
  exact g_iretG hx hb hr hlk hKn hRc hRs hS h dX5_valueOf_240
theorem sX5_valueOf (l : Launch) (E : g_E) (D : g_D) {v0 : Option Nat} {G : g_G} {q : Int32 × g_G} (h : fX5_valueOf E v0 G = some q) : gMet l E D yX5_valueOf (ws_ yX5_valueOf cX5_valueOf 3 (some .int)) 5 154 [.inr (.inr v0)] G (some (.int q.1)) q.2 := by
  refine gMet.of (by decide +kernel) (Nat.le_of_ble_eq_true rfl) ?_
  intro p e R s m args below meth c C hS ls hl
  have C : gC p R s m args meth c cX5_valueOf 3 RX5 "valueOf" (some .int) 5 154 E D := C
  obtain ⟨hx, hb, hml, hown, hts, hKn, hRc, hRs, hc1, hc2, hRf, hRl, hr, hlk, hnm⟩ := id C
  have hl : gls ls 3 [(0, .inr (.inr v0))] := hl
  generalize s.heap = H at hS ⊢
  unfold fX5_valueOf at h
  refine g_aload_n hx hb hl 0 rfl dX5_valueOf_0 ?_
  refine g_astore_n (l1 := [(1, .inr (.inr v0)), (0, .inr (.inr v0))]) hx hb hl (by decide) rfl dX5_valueOf_1 (fun ls hl => ?_)
  refine lv_iconst (v := (-1)) hx hb dX5_valueOf_2 (by decide) ?_
  refine g_istore_n (l1 := [(2, .inl (-1)), (1, .inr (.inr v0)), (0, .inr (.inr v0))]) hx hb hl (by decide) rfl dX5_valueOf_3 (fun ls hl => ?_)
  refine g_aload_n hx hb hl 1 rfl dX5_valueOf_4 ?_
  obtain ⟨b5, hb5, h⟩ := g_bnd h
  obtain ⟨hr5, hk5⟩ := g_chk hb5
  obtain ⟨z5, h5, h⟩ := g_bnd h
  refine g_callV (n := 0) (b := b5) (av := []) (rs := []) hx hb hml hown hts hKn hRc hRs hS hl (sJ9_hashCode l E D h5) (lw_V q1287 q1288 q1289 q124 q1290) ⟨rfl, by decide, by decide, by decide +kernel⟩ ⟨by rw [hRf]; exact Nat.le_of_ble_eq_true rfl, by rw [hRl]; exact Nat.le_of_ble_eq_true rfl⟩ (g_recv hKn hS hk5 (by decide) (by decide)) rfl (by rw [hr5]; rfl) (Nat.le_of_ble_eq_true rfl) dX5_valueOf_5 (fun H locs cells slots hS => ?_)
  by_cases w8_0 : z5.1 = 97
  · refine lv_lookup (tgt := 76) (off := 68) hx hb dX5_valueOf_8 (by decide) (by rw [w8_0]; decide) (by decide) ?_
    have h := g_ift w8_0 h
    refine g_aload_n hx hb hl 1 rfl dX5_valueOf_76 ?_
    refine g_ldcwS (i := 37) hx hb hown hKn (List.mem_of_getElem? (i := 17) rfl) dX5_valueOf_77 ?_
    obtain ⟨b80, hb80, h⟩ := g_bnd h
    obtain ⟨hr80, hk80⟩ := g_chk hb80
    obtain ⟨z80, h80, h⟩ := g_bnd h
    refine g_callV (n := 1) (b := b80) (av := [.inr (.inr (some (gA E 37)))]) (rs := []) hx hb hml hown hts hKn hRc hRs hS hl (sJ9_equals l E D h80) (lw_V q1345 q1346 q1347 q124 q1348) ⟨rfl, by decide, by decide, by decide +kernel⟩ ⟨by rw [hRf]; exact Nat.le_of_ble_eq_true rfl, by rw [hRl]; exact Nat.le_of_ble_eq_true rfl⟩ (g_recv hKn hS hk80 (by decide) (by decide)) rfl (by rw [hr80]; rfl) (Nat.le_of_ble_eq_true rfl) dX5_valueOf_80 (fun H locs cells slots hS => ?_)
    refine lv_if_eq (tgt := 179) hx hb dX5_valueOf_83 (by decide) (fun c_83 => ?_) (fun c_83 => ?_)
    · have h := g_ift c_83 h
      exact sX5_valueOf_b179 C _ _ _ h _ _ _ _ _ hS (gls_sub hl [0] rfl)
    · have h := g_iff c_83 h
      refine lv_iconst (v := 0) hx hb dX5_valueOf_86 (by decide) ?_
      refine g_istore_n (l1 := [(2, .inl 0), (1, .inr (.inr v0)), (0, .inr (.inr v0))]) hx hb hl (by decide) rfl dX5_valueOf_87 (fun ls hl => ?_)
      refine lv_goto (tgt := 179) hx hb dX5_valueOf_88 (by decide) ?_
      exact sX5_valueOf_b179 C _ _ _ h _ _ _ _ _ hS (gls_sub hl [0] rfl)
  have h := g_iff w8_0 h
  by_cases w8_1 : z5.1 = 98
  · refine lv_lookup (tgt := 91) (off := 83) hx hb dX5_valueOf_8 (by decide) (by rw [w8_1]; decide) (by decide) ?_
    have h := g_ift w8_1 h
    refine g_aload_n hx hb hl 1 rfl dX5_valueOf_91 ?_
    refine g_ldcwS (i := 38) hx hb hown hKn (List.mem_of_getElem? (i := 18) rfl) dX5_valueOf_92 ?_
    obtain ⟨b95, hb95, h⟩ := g_bnd h
    obtain ⟨hr95, hk95⟩ := g_chk hb95
    obtain ⟨z95, h95, h⟩ := g_bnd h
    refine g_callV (n := 1) (b := b95) (av := [.inr (.inr (some (gA E 38)))]) (rs := []) hx hb hml hown hts hKn hRc hRs hS hl (sJ9_equals l E D h95) (lw_V q1345 q1346 q1347 q124 q1348) ⟨rfl, by decide, by decide, by decide +kernel⟩ ⟨by rw [hRf]; exact Nat.le_of_ble_eq_true rfl, by rw [hRl]; exact Nat.le_of_ble_eq_true rfl⟩ (g_recv hKn hS hk95 (by decide) (by decide)) rfl (by rw [hr95]; rfl) (Nat.le_of_ble_eq_true rfl) dX5_valueOf_95 (fun H locs cells slots hS => ?_)
    refine lv_if_eq (tgt := 179) hx hb dX5_valueOf_98 (by decide) (fun c_98 => ?_) (fun c_98 => ?_)
    · have h := g_ift c_98 h
      exact sX5_valueOf_b179 C _ _ _ h _ _ _ _ _ hS (gls_sub hl [0] rfl)
    · have h := g_iff c_98 h
      refine lv_iconst (v := 1) hx hb dX5_valueOf_101 (by decide) ?_
      refine g_istore_n (l1 := [(2, .inl 1), (1, .inr (.inr v0)), (0, .inr (.inr v0))]) hx hb hl (by decide) rfl dX5_valueOf_102 (fun ls hl => ?_)
      refine lv_goto (tgt := 179) hx hb dX5_valueOf_103 (by decide) ?_
      exact sX5_valueOf_b179 C _ _ _ h _ _ _ _ _ hS (gls_sub hl [0] rfl)
  have h := g_iff w8_1 h
  by_cases w8_2 : z5.1 = 99
  · refine lv_lookup (tgt := 106) (off := 98) hx hb dX5_valueOf_8 (by decide) (by rw [w8_2]; decide) (by decide) ?_
    have h := g_ift w8_2 h
    refine g_aload_n hx hb hl 1 rfl dX5_valueOf_106 ?_
    refine g_ldcwS (i := 39) hx hb hown hKn (List.mem_of_getElem? (i := 19) rfl) dX5_valueOf_107 ?_
    obtain ⟨b110, hb110, h⟩ := g_bnd h
    obtain ⟨hr110, hk110⟩ := g_chk hb110
    obtain ⟨z110, h110, h⟩ := g_bnd h
    refine g_callV (n := 1) (b := b110) (av := [.inr (.inr (some (gA E 39)))]) (rs := []) hx hb hml hown hts hKn hRc hRs hS hl (sJ9_equals l E D h110) (lw_V q1345 q1346 q1347 q124 q1348) ⟨rfl, by decide, by decide, by decide +kernel⟩ ⟨by rw [hRf]; exact Nat.le_of_ble_eq_true rfl, by rw [hRl]; exact Nat.le_of_ble_eq_true rfl⟩ (g_recv hKn hS hk110 (by decide) (by decide)) rfl (by rw [hr110]; rfl) (Nat.le_of_ble_eq_true rfl) dX5_valueOf_110 (fun H locs cells slots hS => ?_)
    refine lv_if_eq (tgt := 179) hx hb dX5_valueOf_113 (by decide) (fun c_113 => ?_) (fun c_113 => ?_)
    · have h := g_ift c_113 h
      exact sX5_valueOf_b179 C _ _ _ h _ _ _ _ _ hS (gls_sub hl [0] rfl)
    · have h := g_iff c_113 h
      refine lv_iconst (v := 2) hx hb dX5_valueOf_116 (by decide) ?_
      refine g_istore_n (l1 := [(2, .inl 2), (1, .inr (.inr v0)), (0, .inr (.inr v0))]) hx hb hl (by decide) rfl dX5_valueOf_117 (fun ls hl => ?_)
      refine lv_goto (tgt := 179) hx hb dX5_valueOf_118 (by decide) ?_
      exact sX5_valueOf_b179 C _ _ _ h _ _ _ _ _ hS (gls_sub hl [0] rfl)
  have h := g_iff w8_2 h
  by_cases w8_3 : z5.1 = 100
  · refine lv_lookup (tgt := 121) (off := 113) hx hb dX5_valueOf_8 (by decide) (by rw [w8_3]; decide) (by decide) ?_
    have h := g_ift w8_3 h
    refine g_aload_n hx hb hl 1 rfl dX5_valueOf_121 ?_
    refine g_ldcwS (i := 40) hx hb hown hKn (List.mem_of_getElem? (i := 20) rfl) dX5_valueOf_122 ?_
    obtain ⟨b125, hb125, h⟩ := g_bnd h
    obtain ⟨hr125, hk125⟩ := g_chk hb125
    obtain ⟨z125, h125, h⟩ := g_bnd h
    refine g_callV (n := 1) (b := b125) (av := [.inr (.inr (some (gA E 40)))]) (rs := []) hx hb hml hown hts hKn hRc hRs hS hl (sJ9_equals l E D h125) (lw_V q1345 q1346 q1347 q124 q1348) ⟨rfl, by decide, by decide, by decide +kernel⟩ ⟨by rw [hRf]; exact Nat.le_of_ble_eq_true rfl, by rw [hRl]; exact Nat.le_of_ble_eq_true rfl⟩ (g_recv hKn hS hk125 (by decide) (by decide)) rfl (by rw [hr125]; rfl) (Nat.le_of_ble_eq_true rfl) dX5_valueOf_125 (fun H locs cells slots hS => ?_)
    refine lv_if_eq (tgt := 179) hx hb dX5_valueOf_128 (by decide) (fun c_128 => ?_) (fun c_128 => ?_)
    · have h := g_ift c_128 h
      exact sX5_valueOf_b179 C _ _ _ h _ _ _ _ _ hS (gls_sub hl [0] rfl)
    · have h := g_iff c_128 h
      refine lv_iconst (v := 3) hx hb dX5_valueOf_131 (by decide) ?_
      refine g_istore_n (l1 := [(2, .inl 3), (1, .inr (.inr v0)), (0, .inr (.inr v0))]) hx hb hl (by decide) rfl dX5_valueOf_132 (fun ls hl => ?_)
      refine lv_goto (tgt := 179) hx hb dX5_valueOf_133 (by decide) ?_
      exact sX5_valueOf_b179 C _ _ _ h _ _ _ _ _ hS (gls_sub hl [0] rfl)
  have h := g_iff w8_3 h
  by_cases w8_4 : z5.1 = 110
  · refine lv_lookup (tgt := 151) (off := 143) hx hb dX5_valueOf_8 (by decide) (by rw [w8_4]; decide) (by decide) ?_
    have h := g_ift w8_4 h
    refine g_aload_n hx hb hl 1 rfl dX5_valueOf_151 ?_
    refine g_ldcwS (i := 42) hx hb hown hKn (List.mem_of_getElem? (i := 22) rfl) dX5_valueOf_152 ?_
    obtain ⟨b155, hb155, h⟩ := g_bnd h
    obtain ⟨hr155, hk155⟩ := g_chk hb155
    obtain ⟨z155, h155, h⟩ := g_bnd h
    refine g_callV (n := 1) (b := b155) (av := [.inr (.inr (some (gA E 42)))]) (rs := []) hx hb hml hown hts hKn hRc hRs hS hl (sJ9_equals l E D h155) (lw_V q1345 q1346 q1347 q124 q1348) ⟨rfl, by decide, by decide, by decide +kernel⟩ ⟨by rw [hRf]; exact Nat.le_of_ble_eq_true rfl, by rw [hRl]; exact Nat.le_of_ble_eq_true rfl⟩ (g_recv hKn hS hk155 (by decide) (by decide)) rfl (by rw [hr155]; rfl) (Nat.le_of_ble_eq_true rfl) dX5_valueOf_155 (fun H locs cells slots hS => ?_)
    refine lv_if_eq (tgt := 179) hx hb dX5_valueOf_158 (by decide) (fun c_158 => ?_) (fun c_158 => ?_)
    · have h := g_ift c_158 h
      exact sX5_valueOf_b179 C _ _ _ h _ _ _ _ _ hS (gls_sub hl [0] rfl)
    · have h := g_iff c_158 h
      refine lv_iconst (v := 5) hx hb dX5_valueOf_161 (by decide) ?_
      refine g_istore_n (l1 := [(2, .inl 5), (1, .inr (.inr v0)), (0, .inr (.inr v0))]) hx hb hl (by decide) rfl dX5_valueOf_162 (fun ls hl => ?_)
      refine lv_goto (tgt := 179) hx hb dX5_valueOf_163 (by decide) ?_
      exact sX5_valueOf_b179 C _ _ _ h _ _ _ _ _ hS (gls_sub hl [0] rfl)
  have h := g_iff w8_4 h
  by_cases w8_5 : z5.1 = 3480
  · refine lv_lookup (tgt := 136) (off := 128) hx hb dX5_valueOf_8 (by decide) (by rw [w8_5]; decide) (by decide) ?_
    have h := g_ift w8_5 h
    refine g_aload_n hx hb hl 1 rfl dX5_valueOf_136 ?_
    refine g_ldcwS (i := 41) hx hb hown hKn (List.mem_of_getElem? (i := 21) rfl) dX5_valueOf_137 ?_
    obtain ⟨b140, hb140, h⟩ := g_bnd h
    obtain ⟨hr140, hk140⟩ := g_chk hb140
    obtain ⟨z140, h140, h⟩ := g_bnd h
    refine g_callV (n := 1) (b := b140) (av := [.inr (.inr (some (gA E 41)))]) (rs := []) hx hb hml hown hts hKn hRc hRs hS hl (sJ9_equals l E D h140) (lw_V q1345 q1346 q1347 q124 q1348) ⟨rfl, by decide, by decide, by decide +kernel⟩ ⟨by rw [hRf]; exact Nat.le_of_ble_eq_true rfl, by rw [hRl]; exact Nat.le_of_ble_eq_true rfl⟩ (g_recv hKn hS hk140 (by decide) (by decide)) rfl (by rw [hr140]; rfl) (Nat.le_of_ble_eq_true rfl) dX5_valueOf_140 (fun H locs cells slots hS => ?_)
    refine lv_if_eq (tgt := 179) hx hb dX5_valueOf_143 (by decide) (fun c_143 => ?_) (fun c_143 => ?_)
    · have h := g_ift c_143 h
      exact sX5_valueOf_b179 C _ _ _ h _ _ _ _ _ hS (gls_sub hl [0] rfl)
    · have h := g_iff c_143 h
      refine lv_iconst (v := 4) hx hb dX5_valueOf_146 (by decide) ?_
      refine g_istore_n (l1 := [(2, .inl 4), (1, .inr (.inr v0)), (0, .inr (.inr v0))]) hx hb hl (by decide) rfl dX5_valueOf_147 (fun ls hl => ?_)
      refine lv_goto (tgt := 179) hx hb dX5_valueOf_148 (by decide) ?_
      exact sX5_valueOf_b179 C _ _ _ h _ _ _ _ _ hS (gls_sub hl [0] rfl)
  have h := g_iff w8_5 h
  by_cases w8_6 : z5.1 = 3151786
  · refine lv_lookup (tgt := 166) (off := 158) hx hb dX5_valueOf_8 (by decide) (by rw [w8_6]; decide) (by decide) ?_
    have h := g_ift w8_6 h
    refine g_aload_n hx hb hl 1 rfl dX5_valueOf_166 ?_
    refine g_ldcwS (i := 43) hx hb hown hKn (List.mem_of_getElem? (i := 23) rfl) dX5_valueOf_167 ?_
    obtain ⟨b170, hb170, h⟩ := g_bnd h
    obtain ⟨hr170, hk170⟩ := g_chk hb170
    obtain ⟨z170, h170, h⟩ := g_bnd h
    refine g_callV (n := 1) (b := b170) (av := [.inr (.inr (some (gA E 43)))]) (rs := []) hx hb hml hown hts hKn hRc hRs hS hl (sJ9_equals l E D h170) (lw_V q1345 q1346 q1347 q124 q1348) ⟨rfl, by decide, by decide, by decide +kernel⟩ ⟨by rw [hRf]; exact Nat.le_of_ble_eq_true rfl, by rw [hRl]; exact Nat.le_of_ble_eq_true rfl⟩ (g_recv hKn hS hk170 (by decide) (by decide)) rfl (by rw [hr170]; rfl) (Nat.le_of_ble_eq_true rfl) dX5_valueOf_170 (fun H locs cells slots hS => ?_)
    refine lv_if_eq (tgt := 179) hx hb dX5_valueOf_173 (by decide) (fun c_173 => ?_) (fun c_173 => ?_)
    · have h := g_ift c_173 h
      exact sX5_valueOf_b179 C _ _ _ h _ _ _ _ _ hS (gls_sub hl [0] rfl)
    · have h := g_iff c_173 h
      refine lv_bipush (v := 6) hx hb dX5_valueOf_176 (by decide) ?_
      refine g_istore_n (l1 := [(2, .inl 6), (1, .inr (.inr v0)), (0, .inr (.inr v0))]) hx hb hl (by decide) rfl dX5_valueOf_178 (fun ls hl => ?_)
      exact sX5_valueOf_b179 C _ _ _ h _ _ _ _ _ hS (gls_sub hl [0] rfl)
  have h := g_iff w8_6 h
  refine g_lookupD (tgt := 179) hx hb dX5_valueOf_8 (by decide) [97, 98, 99, 100, 110, 3480, 3151786] (by decide) (fun k hk => ?_) (by decide) ?_
  · simp only [List.mem_cons, List.not_mem_nil, or_false] at hk
    rcases hk with rfl | rfl | rfl | rfl | rfl | rfl | rfl
    · exact w8_0
    · exact w8_1
    · exact w8_2
    · exact w8_3
    · exact w8_4
    · exact w8_5
    · exact w8_6
  exact sX5_valueOf_b179 C _ _ _ h _ _ _ _ _ hS (gls_sub hl [0] rfl)
/-- SendHall$Talk.mark(LSendHall$Life;I)I -/
def fX8_mark (E : g_E) (t : Nat) (v1 : Option Nat) (v2 : Int32) (G : g_G) : Option (Int32 × g_G) :=
  (grR G 15 16 (some t) 3).bind fun x1 =>
  (fI_value E gDP x1 v1 v2 G).bind fun z6 =>
  some (z6.1, z6.2)
theorem sX8_mark (l : Launch) (E : g_E) (D : g_D) {t : Nat} {v1 : Option Nat} {v2 : Int32} {G : g_G} {q : Int32 × g_G} (h : fX8_mark E t v1 v2 G = some q) : gMet l E D yX8_mark (ws_ yX8_mark cX8_mark 3 (some .int)) 218 7304 [.inr (.inr (some t)), .inr (.inr v1), .inl v2] G (some (.int q.1)) q.2 := by
  refine gMet.of (by decide +kernel) (Nat.le_of_ble_eq_true rfl) ?_
  intro p e R s m args below meth c C hS ls hl
  have C : gC p R s m args meth c cX8_mark 3 RX8 "mark" (some .int) 218 7304 E D := C
  obtain ⟨hx, hb, hml, hown, hts, hKn, hRc, hRs, hc1, hc2, hRf, hRl, hr, hlk, hnm⟩ := id C
  have hl : gls ls 3 [(0, .inr (.inr (some t))), (1, .inr (.inr v1)), (2, .inl v2)] := hl
  generalize s.heap = H at hS ⊢
  unfold fX8_mark at h
  refine g_aload_n hx hb hl 0 rfl dX8_mark_0 ?_
  refine g_rdR hx hb hown hts hKn hS h fd_15_16_3 rfl (Or.inl (hts _ q1413)) (fun _ z => z) dX8_mark_1 (fun x1 h => ?_)
  refine g_aload_n hx hb hl 1 rfl dX8_mark_4 ?_
  refine g_iload_n hx hb hl 2 rfl dX8_mark_5 ?_
  obtain ⟨z6, h6, h⟩ := g_bnd h
  refine g_valueI (rs := []) hx hb hml hown hts hKn hRc hRs hS hl (gI_top l E D) h6 q873 ⟨by rw [hRf]; exact Nat.le_of_ble_eq_true rfl, by rw [hRl]; exact Nat.le_of_ble_eq_true rfl⟩ rfl (Nat.le_of_ble_eq_true rfl) dX8_mark_6 (fun H locs cells slots hS => ?_)
  exact g_iretG hx hb hr hlk hKn hRc hRs hS h dX8_mark_11
/-- SendHall$Send.to(LSendHall$Life;I)I -/
def fX9_to (E : g_E) (t : Nat) (v1 : Option Nat) (v2 : Int32) (G : g_G) : Option (Int32 × g_G) :=
  (grR G 15 15 (some t) 4).bind fun x1 =>
  (fI_value E gDP x1 v1 v2 G).bind fun z6 =>
  some (z6.1, z6.2)
theorem sX9_to (l : Launch) (E : g_E) (D : g_D) {t : Nat} {v1 : Option Nat} {v2 : Int32} {G : g_G} {q : Int32 × g_G} (h : fX9_to E t v1 v2 G = some q) : gMet l E D yX9_to (ws_ yX9_to cX9_to 3 (some .int)) 218 7304 [.inr (.inr (some t)), .inr (.inr v1), .inl v2] G (some (.int q.1)) q.2 := by
  refine gMet.of (by decide +kernel) (Nat.le_of_ble_eq_true rfl) ?_
  intro p e R s m args below meth c C hS ls hl
  have C : gC p R s m args meth c cX9_to 3 RX9 "to" (some .int) 218 7304 E D := C
  obtain ⟨hx, hb, hml, hown, hts, hKn, hRc, hRs, hc1, hc2, hRf, hRl, hr, hlk, hnm⟩ := id C
  have hl : gls ls 3 [(0, .inr (.inr (some t))), (1, .inr (.inr v1)), (2, .inl v2)] := hl
  generalize s.heap = H at hS ⊢
  unfold fX9_to at h
  refine g_aload_n hx hb hl 0 rfl dX9_to_0 ?_
  refine g_rdR hx hb hown hts hKn hS h fd_15_15_4 rfl (Or.inl (hts _ q1406)) (fun _ z => z) dX9_to_1 (fun x1 h => ?_)
  refine g_aload_n hx hb hl 1 rfl dX9_to_4 ?_
  refine g_iload_n hx hb hl 2 rfl dX9_to_5 ?_
  obtain ⟨z6, h6, h⟩ := g_bnd h
  refine g_valueI (rs := []) hx hb hml hown hts hKn hRc hRs hS hl (gI_top l E D) h6 q802 ⟨by rw [hRf]; exact Nat.le_of_ble_eq_true rfl, by rw [hRl]; exact Nat.le_of_ble_eq_true rfl⟩ rfl (Nat.le_of_ble_eq_true rfl) dX9_to_6 (fun H locs cells slots hS => ?_)
  exact g_iretG hx hb hr hlk hKn hRc hRs hS h dX9_to_11
/-- java/util/ArrayList.grow()[Ljava/lang/Object; -/
def fJ2_grow (E : g_E) (t : Nat) (G : g_G) : Option (Option Nat × g_G) :=
  (grI G 17 17 (some t) 2).bind fun x2 =>
  (gchk G 17 (some t)).bind fun b7 =>
  (fJ2_grow_2 E b7 (x2 + 1) G).bind fun z7 =>
  some (z7.1, z7.2)
theorem sJ2_grow (l : Launch) (E : g_E) (D : g_D) {t : Nat} {G : g_G} {q : Option Nat × g_G} (h : fJ2_grow E t G = some q) : gMet l E D yJ2_grow (ws_ yJ2_grow cJ2_grow 1 (some (.array (.object "java/lang/Object")))) 4 147 [.inr (.inr (some t))] G (some (va_rf q.1)) q.2 := by
  refine gMet.of (by decide +kernel) (Nat.le_of_ble_eq_true rfl) ?_
  intro p e R s m args below meth c C hS ls hl
  have C : gC p R s m args meth c cJ2_grow 1 RJ2 "grow" (some (.array (.object "java/lang/Object"))) 4 147 E D := C
  obtain ⟨hx, hb, hml, hown, hts, hKn, hRc, hRs, hc1, hc2, hRf, hRl, hr, hlk, hnm⟩ := id C
  have hl : gls ls 1 [(0, .inr (.inr (some t)))] := hl
  generalize s.heap = H at hS ⊢
  unfold fJ2_grow at h
  refine g_aload_n hx hb hl 0 rfl dJ2_grow_0 ?_
  refine g_aload_n hx hb hl 0 rfl dJ2_grow_1 ?_
  refine g_rdI hx hb hown hts hKn hS h fd_17_17_2 rfl (Or.inl (hts _ q501)) (fun _ z => z) dJ2_grow_2 (fun x2 h => ?_)
  refine lv_iconst (v := 1) hx hb dJ2_grow_5 (by decide) ?_
  refine lv_iadd hx hb dJ2_grow_6 ?_
  obtain ⟨b7, hb7, h⟩ := g_bnd h
  obtain ⟨hr7, hk7⟩ := g_chk hb7
  obtain ⟨z7, h7, h⟩ := g_bnd h
  refine g_callV (n := 1) (b := b7) (av := [.inl (x2 + 1)]) (rs := []) hx hb hml hown hts hKn hRc hRs hS hl (sJ2_grow_2 l E D h7) (lw_V q1018 q1020 qs22 q117 q1021) ⟨rfl, by decide, by decide, by decide +kernel⟩ ⟨by rw [hRf]; exact Nat.le_of_ble_eq_true rfl, by rw [hRl]; exact Nat.le_of_ble_eq_true rfl⟩ (g_recv hKn hS hk7 (by decide) (by decide)) rfl (by rw [hr7]; rfl) (Nat.le_of_ble_eq_true rfl) dJ2_grow_7 (fun H locs cells slots hS => ?_)
  exact g_aretG hx hb hr (by first | exact Or.inl ⟨_, rfl⟩ | exact Or.inr ⟨_, rfl⟩) hlk hKn hRc hRs hS h dJ2_grow_10
/-- java/lang/String.indexOf(I)I -/
def fJ9_indexOf (E : g_E) (t : Nat) (v1 : Int32) (G : g_G) : Option (Int32 × g_G) :=
  (gchk G 19 (some t)).bind fun b3 =>
  (fJ9_indexOf_2 E b3 v1 0 G).bind fun z3 =>
  some (z3.1, z3.2)
theorem sJ9_indexOf (l : Launch) (E : g_E) (D : g_D) {t : Nat} {v1 : Int32} {G : g_G} {q : Int32 × g_G} (h : fJ9_indexOf E t v1 G = some q) : gMet l E D yJ9_indexOf (ws_ yJ9_indexOf cJ9_indexOf 2 (some .int)) 4 134 [.inr (.inr (some t)), .inl v1] G (some (.int q.1)) q.2 := by
  refine gMet.of (by decide +kernel) (Nat.le_of_ble_eq_true rfl) ?_
  intro p e R s m args below meth c C hS ls hl
  have C : gC p R s m args meth c cJ9_indexOf 2 RJ9 "indexOf" (some .int) 4 134 E D := C
  obtain ⟨hx, hb, hml, hown, hts, hKn, hRc, hRs, hc1, hc2, hRf, hRl, hr, hlk, hnm⟩ := id C
  have hl : gls ls 2 [(0, .inr (.inr (some t))), (1, .inl v1)] := hl
  generalize s.heap = H at hS ⊢
  unfold fJ9_indexOf at h
  refine g_aload_n hx hb hl 0 rfl dJ9_indexOf_0 ?_
  refine g_iload_n hx hb hl 1 rfl dJ9_indexOf_1 ?_
  refine lv_iconst (v := 0) hx hb dJ9_indexOf_2 (by decide) ?_
  obtain ⟨b3, hb3, h⟩ := g_bnd h
  obtain ⟨hr3, hk3⟩ := g_chk hb3
  obtain ⟨z3, h3, h⟩ := g_bnd h
  refine g_callV (n := 2) (b := b3) (av := [.inl v1, .inl 0]) (rs := []) hx hb hml hown hts hKn hRc hRs hS hl (sJ9_indexOf_2 l E D h3) (lw_V q1169 q1170 q1171 q124 q1172) ⟨rfl, by decide, by decide, by decide +kernel⟩ ⟨by rw [hRf]; exact Nat.le_of_ble_eq_true rfl, by rw [hRl]; exact Nat.le_of_ble_eq_true rfl⟩ (g_recv hKn hS hk3 (by decide) (by decide)) rfl (by rw [hr3]; rfl) (Nat.le_of_ble_eq_true rfl) dJ9_indexOf_3 (fun H locs cells slots hS => ?_)
  exact g_iretG hx hb hr hlk hKn hRc hRs hS h dJ9_indexOf_6
/-- java/lang/String.<init>(Ljava/lang/StringBuilder;)V -/
def fJ9_init (E : g_E) (t : Nat) (v1 : Option Nat) (G : g_G) : Option (g_G) :=
  (fJ9_init_2 E t v1 none G).bind fun z3 =>
  some z3
theorem sJ9_init (l : Launch) (E : g_E) (D : g_D) {t : Nat} {v1 : Option Nat} {G : g_G} {q : g_G} (h : fJ9_init E t v1 G = some q) : gMet l E D yJ9_init (ws_ yJ9_init cJ9_init 2 (none)) 5 155 [.inr (.inr (some t)), .inr (.inr v1)] G none q := by
  refine gMet.of (by decide +kernel) (Nat.le_of_ble_eq_true rfl) ?_
  intro p e R s m args below meth c C hS ls hl
  have C : gC p R s m args meth c cJ9_init 2 RJ9 "<init>" (none) 5 155 E D := C
  obtain ⟨hx, hb, hml, hown, hts, hKn, hRc, hRs, hc1, hc2, hRf, hRl, hr, hlk, hnm⟩ := id C
  have hl : gls ls 2 [(0, .inr (.inr (some t))), (1, .inr (.inr v1))] := hl
  generalize s.heap = H at hS ⊢
  unfold fJ9_init at h
  refine g_aload_n hx hb hl 0 rfl dJ9_init_0 ?_
  refine g_aload_n hx hb hl 1 rfl dJ9_init_1 ?_
  refine g_null hx hb dJ9_init_2 ?_
  obtain ⟨z3, h3, h⟩ := g_bnd h
  refine g_callI (n := 2) (av := [.inr (.inr v1), .inr (.inr none)]) (rs := []) hx hb hml hown hts hKn hRc hRs hS hl (sJ9_init_2 l E D h3) (lw_meth q416) (hts _ q124) (hts _ q414) (hts _ q415) rfl ⟨by decide, by decide, by decide +kernel⟩ ⟨by rw [hRf]; exact Nat.le_of_ble_eq_true rfl, by rw [hRl]; exact Nat.le_of_ble_eq_true rfl⟩ rfl rfl (Nat.le_of_ble_eq_true rfl) dJ9_init_3 (fun H locs cells slots hS => ?_)
  exact g_vretG hx hb hr hlk hKn hRc hRs hS h dJ9_init_6
/-- SendHallLaw.chose(LSendHall;I[J)I -/
def fX0_chose (E : g_E) (v0 : Option Nat) (v1 : Int32) (v2 : Option Nat) (G : g_G) : Option ((Int32 × g_G) ⊕ gX) :=
  (gchk G 1 v0).bind fun b4 =>
  gcat (fX1_chose E b4 v1 G) (fun z4 =>
    (gsaL E z4.2 v2 0 (Int32.toInt64 z4.1)).bind fun G8 =>
    some (.inl (0, G8)))
  (fun y => if y.1 = 22 then (
    some (.inl (1, y.2.2))) else none)
theorem sX0_chose (l : Launch) (E : g_E) (D : g_D) (hlT : l.stackTraces = false) {v0 : Option Nat} {v1 : Int32} {v2 : Option Nat} {G : g_G} {q : (Int32 × g_G) ⊕ gX} (h : fX0_chose E v0 v1 v2 G = some q) : gMetX l E D yX0_chose (wsW_ yX0_chose cX0_chose 4 (some .int) [(0, 9, 12, 18)]) 10 161 [.inr (.inr v0), .inl v1, .inr (.inr v2)] G gokI q := by
  refine gMetX.ofH (by decide +kernel) (Nat.le_of_ble_eq_true rfl) ?_
  intro p e R s m args below meth c C htab hS ls hl
  have C : gC p R s m args meth c cX0_chose 4 RX0 "chose" (some .int) 10 161 E D := C
  obtain ⟨hx, hb, hml, hown, hts, hKn, hRc, hRs, hc1, hc2, hRf, hRl, hr, hlk, hnm⟩ := id C
  have hl : gls ls 4 [(0, .inr (.inr v0)), (1, .inl v1), (2, .inr (.inr v2))] := hl
  generalize hH0 : s.heap = H at hS ⊢
  unfold fX0_chose at h
  refine g_aload_n hx hb hl 2 rfl dX0_chose_0 ?_
  refine lv_iconst (v := 0) hx hb dX0_chose_1 (by decide) ?_
  refine g_aload_n hx hb hl 0 rfl dX0_chose_2 ?_
  refine g_iload_n hx hb hl 1 rfl dX0_chose_3 ?_
  obtain ⟨b4, hb4, h⟩ := g_bnd h
  obtain ⟨hr4, hk4⟩ := g_chk hb4
  obtain ⟨o4, h4, ha4, hx4⟩ := g_catE h
  refine g_callVt (n := 1) (b := b4) (av := [.inl v1]) (rs := [.inl 0, .inr (.inr v2)]) hx hb hml hown hts hKn hRc hRs hS hl (sX1_chose l E D hlT h4) (lw_V q1827 q1828 q1829 q113 q1830) ⟨rfl, by decide, by decide, by decide +kernel⟩ ⟨by rw [hRf]; exact Nat.le_of_ble_eq_true rfl, by rw [hRl]; exact Nat.le_of_ble_eq_true rfl⟩ (g_recv hKn hS hk4 (by decide) (by decide)) rfl (by rw [hr4]; rfl) (Nat.le_of_ble_eq_true rfl) dX0_chose_4 (fun z4 e4 H locs cells slots hS => ?_) (fun k4 a4 G4 e4 n1 n2 nk nB H locs cells slots hS => ?_)
  · have h := ha4 _ e4
    refine lv_i2l (v := (Int32.toInt64 z4.1)) hx hb dX0_chose_7 rfl ?_
    refine g_lastoreG hx hb hKn hS h dX0_chose_8 (fun G8 h H locs hS => ?_)
    refine lv_goto (tgt := 15) hx hb dX0_chose_9 (by decide) ?_
    refine lv_iconst (v := 0) hx hb dX0_chose_15 (by decide) ?_
    exact g_retX (g_iretG hx hb hr hlk hKn hRc hRs hS (q := (0, G8)) rfl dX0_chose_16) h rfl
  · have h := hx4 _ e4
    by_cases hz4 : k4 = 22
    · subst hz4
      have h := g_ift rfl h
      refine g_catchX (hq := (0, 9, 12, 18)) hown hKn hS (by decide) (by decide) nB nk htab (by decide) (by decide) (hts _ q1716) q1726 ?_
      have y_1 : ∃ y : gX, y = (22, a4, G4) := ⟨_, rfl⟩
      refine g_astore_n (l1 := [(3, .inr (.inr (some a4))), (0, .inr (.inr v0)), (1, .inl v1), (2, .inr (.inr v2))]) hx hb hl (by decide) rfl dX0_chose_12 (fun ls hl => ?_)
      refine lv_iconst (v := 1) hx hb dX0_chose_13 (by decide) ?_
      exact g_retX (g_iretG hx hb hr hlk hKn hRc hRs hS (q := (1, G4)) rfl dX0_chose_14) h rfl
    · exact g_no (g_iff hz4 h)
