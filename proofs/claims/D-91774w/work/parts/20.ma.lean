set_option maxRecDepth 100000
/-- java/util/Arrays.checkLength(II)V -/
def fJ13_checkLength (E : g_E) (v0 : Int32) (v1 : Int32) (G : g_G) : Option (g_G) :=
  if v0 ≤ v1 then (
    some G)
  else (
    none)
theorem sJ13_checkLength (l : Launch) (E : g_E) (D : g_D) {v0 : Int32} {v1 : Int32} {G : g_G} {q : g_G} (h : fJ13_checkLength E v0 v1 G = some q) : gMet l E D yJ13_checkLength (ws_ yJ13_checkLength cJ13_checkLength 2 (none)) 1 64 [.inl v0, .inl v1] G none q := by
  refine gMet.of (by decide +kernel) (Nat.le_of_ble_eq_true rfl) ?_
  intro p e R s m args below meth c C hS ls hl
  have C : gC p R s m args meth c cJ13_checkLength 2 RJ13 "checkLength" (none) 1 64 E D := C
  obtain ⟨hx, hb, hml, hown, hts, hKn, hRc, hRs, hc1, hc2, hRf, hRl, hr, hlk, hnm⟩ := id C
  have hl : gls ls 2 [(0, .inl v0), (1, .inl v1)] := hl
  generalize s.heap = H at hS ⊢
  unfold fJ13_checkLength at h
  refine g_iload_n hx hb hl 1 rfl dJ13_checkLength_0 ?_
  refine g_iload_n hx hb hl 0 rfl dJ13_checkLength_1 ?_
  refine lv_icmp_ge (tgt := 37) hx hb dJ13_checkLength_2 (by decide) (fun c_2 => ?_) (fun c_2 => ?_)
  · have h := g_ift c_2 h
    exact g_vretG hx hb hr hlk hKn hRc hRs hS h dJ13_checkLength_37
  · have h := g_iff c_2 h
    exact g_no h
/-- java/util/Arrays.copyOfRangeByte([BII)[B -/
def fJ13_copyOfRangeByte (E : g_E) (v0 : Option Nat) (v1 : Int32) (v2 : Int32) (G : g_G) : Option (Option Nat × g_G) :=
  (fJ13_checkLength E v1 v2 G).bind fun z2 =>
  (gnewA E z2 101 (v2 - v1)).bind fun z10 =>
  (galen z10.2 v0).bind fun x20 =>
  (gcopy E z10.2 v0 v1 (some z10.1) 0 (if (v2 - v1) < (x20 - v1) then (v2 - v1) else (x20 - v1))).bind fun G27 =>
  some ((some z10.1), G27)
theorem sJ13_copyOfRangeByte (l : Launch) (E : g_E) (D : g_D) {v0 : Option Nat} {v1 : Int32} {v2 : Int32} {G : g_G} {q : Option Nat × g_G} (h : fJ13_copyOfRangeByte E v0 v1 v2 G = some q) : gMet l E D yJ13_copyOfRangeByte (ws_ yJ13_copyOfRangeByte cJ13_copyOfRangeByte 5 (some (.array .byte))) 2 85 [.inr (.inr v0), .inl v1, .inl v2] G (some (va_rf q.1)) q.2 := by
  refine gMet.of (by decide +kernel) (Nat.le_of_ble_eq_true rfl) ?_
  intro p e R s m args below meth c C hS ls hl
  have C : gC p R s m args meth c cJ13_copyOfRangeByte 5 RJ13 "copyOfRangeByte" (some (.array .byte)) 2 85 E D := C
  obtain ⟨hx, hb, hml, hown, hts, hKn, hRc, hRs, hc1, hc2, hRf, hRl, hr, hlk, hnm⟩ := id C
  have hl : gls ls 5 [(0, .inr (.inr v0)), (1, .inl v1), (2, .inl v2)] := hl
  generalize s.heap = H at hS ⊢
  unfold fJ13_copyOfRangeByte at h
  refine g_iload_n hx hb hl 1 rfl dJ13_copyOfRangeByte_0 ?_
  refine g_iload_n hx hb hl 2 rfl dJ13_copyOfRangeByte_1 ?_
  obtain ⟨z2, h2, h⟩ := g_bnd h
  refine g_callS (n := 2) (av := [.inl v1, .inl v2]) (rs := []) hx hb hml hown hts hKn hRc hRs hS hl (sJ13_checkLength l E D h2) (lw_S q438 q439 q128 q440) ⟨by decide, by decide, by decide +kernel⟩ ⟨by rw [hRf]; exact Nat.le_of_ble_eq_true rfl, by rw [hRl]; exact Nat.le_of_ble_eq_true rfl⟩ rfl rfl (Nat.le_of_ble_eq_true rfl) dJ13_copyOfRangeByte_2 (fun H locs cells slots hS => ?_)
  refine g_iload_n hx hb hl 2 rfl dJ13_copyOfRangeByte_5 ?_
  refine g_iload_n hx hb hl 1 rfl dJ13_copyOfRangeByte_6 ?_
  refine lv_isub hx hb dJ13_copyOfRangeByte_7 ?_
  refine g_istore_n (l1 := [(3, .inl (v2 - v1)), (0, .inr (.inr v0)), (1, .inl v1), (2, .inl v2)]) hx hb hl (by decide) rfl dJ13_copyOfRangeByte_8 (fun ls hl => ?_)
  refine g_iload_n hx hb hl 0 rfl dJ13_copyOfRangeByte_9 ?_
  refine g_newaG (k := 101) (atype := .byte) hx hb hKn hRc hRs hS h (by decide) rfl (hts _ q258) dJ13_copyOfRangeByte_10 (fun z10 h H locs cells slots hS => ?_)
  refine g_astore (l1 := [(4, .inr (.inr (some z10.1))), (3, .inl (v2 - v1)), (0, .inr (.inr v0)), (1, .inl v1), (2, .inl v2)]) hx hb hl (by decide) rfl dJ13_copyOfRangeByte_12 (fun ls hl => ?_)
  refine g_aload_n hx hb hl 2 rfl dJ13_copyOfRangeByte_14 ?_
  refine g_iload_n hx hb hl 3 rfl dJ13_copyOfRangeByte_15 ?_
  refine g_aload hx hb hl 0 rfl dJ13_copyOfRangeByte_16 ?_
  refine lv_iconst (v := 0) hx hb dJ13_copyOfRangeByte_18 (by decide) ?_
  refine g_aload_n hx hb hl 2 rfl dJ13_copyOfRangeByte_19 ?_
  refine g_alen hx hb hKn hS h dJ13_copyOfRangeByte_20 (fun x20 h => ?_)
  refine g_iload_n hx hb hl 3 rfl dJ13_copyOfRangeByte_21 ?_
  refine lv_isub hx hb dJ13_copyOfRangeByte_22 ?_
  refine g_iload_n hx hb hl 1 rfl dJ13_copyOfRangeByte_23 ?_
  refine g_mmin (rs := [.inl 0, .inr (.inr (some z10.1)), .inl v1, .inr (.inr v0)]) hx hb hml hown hRc hRs hS hl (hts _ q300) (hts _ q301) (hts _ q127) (hts _ q302) (by decide +kernel) rfl (Nat.le_of_ble_eq_true rfl) ⟨by rw [hRf]; exact Nat.le_of_ble_eq_true rfl, by rw [hRl]; exact Nat.le_of_ble_eq_true rfl⟩ dJ13_copyOfRangeByte_24 (fun cells slots => ?_)
  refine g_copyG (rs := []) hx hb hml hown hts hKn hS hl h (hts _ q303) (hts _ q305) (hts _ q304) (hts _ q129) rfl (Nat.le_of_ble_eq_true rfl) ⟨by rw [hRf]; exact Nat.le_of_ble_eq_true rfl, by rw [hRl]; exact Nat.le_of_ble_eq_true rfl⟩ dJ13_copyOfRangeByte_27 (fun G27 h H locs hS => ?_)
  refine g_aload hx hb hl 0 rfl dJ13_copyOfRangeByte_30 ?_
  exact g_aretG hx hb hr (by first | exact Or.inl ⟨_, rfl⟩ | exact Or.inr ⟨_, rfl⟩) hlk hKn hRc hRs hS h dJ13_copyOfRangeByte_32
/-- jdk/internal/util/Preconditions.checkIndex(IILjava/util/function/BiFunction;)I -/
def fJ14_checkIndex_b9 (E : g_E) (v0 : Int32) (v1 : Int32) (v2 : Option Nat) (G : g_G) : Option (Int32 × g_G) :=
  none
def fJ14_checkIndex (E : g_E) (v0 : Int32) (v1 : Int32) (v2 : Option Nat) (G : g_G) : Option (Int32 × g_G) :=
  if v0 < 0 then (
    fJ14_checkIndex_b9 E v0 v1 v2 G)
  else (
    if v0 < v1 then (
      some (v0, G))
    else (
      fJ14_checkIndex_b9 E v0 v1 v2 G))
theorem sJ14_checkIndex_b9 {p : Program} {l : Launch} {e : Env} {R : Room} {s : State} {m : MethodId} {args : Array Value} {below : List Frame} {meth : Method} {c : Code} {E : g_E} {D : g_D} (C : gC p R s m args meth c cJ14_checkIndex 3 RJ14 "checkIndex" (some .int) 1 64 E D) : ∀ (v0 : Int32) (v1 : Int32) (v2 : Option Nat) (G : g_G) (q : Int32 × g_G), fJ14_checkIndex_b9 E v0 v1 v2 G = some q → ∀ (H : Heap) (locs : List Loc) (cells slots : Nat) (ls : Array Slot), gSt E D G H locs → gls ls 3 [(0, .inl v0), (1, .inl v1), (2, .inr (.inr v2))] → gT p l e R s m args below meth c E D H locs cells slots (some (.int q.1)) q.2 (F0 m 9 ls []) := by
  obtain ⟨hx, hb, hml, hown, hts, hKn, hRc, hRs, hc1, hc2, hRf, hRl, hr, hlk, hnm⟩ := id C
  intro v0 v1 v2 G q h H locs cells slots ls hS hl
  unfold fJ14_checkIndex_b9 at h
  refine g_aload_n hx hb hl 2 rfl dJ14_checkIndex_9 ?_
  refine g_iload_n hx hb hl 0 rfl dJ14_checkIndex_10 ?_
  refine g_iload_n hx hb hl 1 rfl dJ14_checkIndex_11 ?_
  exact g_no h
theorem sJ14_checkIndex (l : Launch) (E : g_E) (D : g_D) {v0 : Int32} {v1 : Int32} {v2 : Option Nat} {G : g_G} {q : Int32 × g_G} (h : fJ14_checkIndex E v0 v1 v2 G = some q) : gMet l E D yJ14_checkIndex (ws_ yJ14_checkIndex cJ14_checkIndex 3 (some .int)) 1 64 [.inl v0, .inl v1, .inr (.inr v2)] G (some (.int q.1)) q.2 := by
  refine gMet.of (by decide +kernel) (Nat.le_of_ble_eq_true rfl) ?_
  intro p e R s m args below meth c C hS ls hl
  have C : gC p R s m args meth c cJ14_checkIndex 3 RJ14 "checkIndex" (some .int) 1 64 E D := C
  obtain ⟨hx, hb, hml, hown, hts, hKn, hRc, hRs, hc1, hc2, hRf, hRl, hr, hlk, hnm⟩ := id C
  have hl : gls ls 3 [(0, .inl v0), (1, .inl v1), (2, .inr (.inr v2))] := hl
  generalize s.heap = H at hS ⊢
  unfold fJ14_checkIndex at h
  refine g_iload_n hx hb hl 0 rfl dJ14_checkIndex_0 ?_
  refine lv_if_lt (tgt := 9) hx hb dJ14_checkIndex_1 (by decide) (fun c_1 => ?_) (fun c_1 => ?_)
  · have h := g_ift c_1 h
    exact sJ14_checkIndex_b9 C _ _ _ _ _ h _ _ _ _ _ hS (gls_sub hl [0, 1, 2] rfl)
  · have h := g_iff c_1 h
    refine g_iload_n hx hb hl 0 rfl dJ14_checkIndex_4 ?_
    refine g_iload_n hx hb hl 1 rfl dJ14_checkIndex_5 ?_
    refine lv_icmp_lt (tgt := 16) hx hb dJ14_checkIndex_6 (by decide) (fun c_6 => ?_) (fun c_6 => ?_)
    · have h := g_ift c_6 h
      refine g_iload_n hx hb hl 0 rfl dJ14_checkIndex_16 ?_
      exact g_iretG hx hb hr hlk hKn hRc hRs hS h dJ14_checkIndex_17
    · have h := g_iff c_6 h
      exact sJ14_checkIndex_b9 C _ _ _ _ _ h _ _ _ _ _ hS (gls_sub hl [0, 1, 2] rfl)
/-- java/lang/StringLatin1.canEncode(C)Z -/
def fJ15_canEncode (E : g_E) (v0 : Int32) (G : g_G) : Option (Int32 × g_G) :=
  if (255 : Int32) < v0 then (
    if (0 : Int32) = 0 ∨ (0 : Int32) = 1 then some (0, G) else none)
  else (
    if (1 : Int32) = 0 ∨ (1 : Int32) = 1 then some (1, G) else none)
theorem sJ15_canEncode (l : Launch) (E : g_E) (D : g_D) {v0 : Int32} {G : g_G} {q : Int32 × g_G} (h : fJ15_canEncode E v0 G = some q) : gMet l E D yJ15_canEncode (ws_ yJ15_canEncode cJ15_canEncode 1 (some .boolean)) 1 64 [.inl v0] G (some (.int q.1)) q.2 := by
  refine gMet.of (by decide +kernel) (Nat.le_of_ble_eq_true rfl) ?_
  intro p e R s m args below meth c C hS ls hl
  have C : gC p R s m args meth c cJ15_canEncode 1 RJ15 "canEncode" (some .boolean) 1 64 E D := C
  obtain ⟨hx, hb, hml, hown, hts, hKn, hRc, hRs, hc1, hc2, hRf, hRl, hr, hlk, hnm⟩ := id C
  have hl : gls ls 1 [(0, .inl v0)] := hl
  generalize s.heap = H at hS ⊢
  unfold fJ15_canEncode at h
  refine g_iload_n hx hb hl 0 rfl dJ15_canEncode_0 ?_
  refine lv_sipush (v := 255) hx hb dJ15_canEncode_1 (by decide) ?_
  refine lv_icmp_gt (tgt := 11) hx hb dJ15_canEncode_4 (by decide) (fun c_4 => ?_) (fun c_4 => ?_)
  · have h := g_ift c_4 h
    refine lv_iconst (v := 0) hx hb dJ15_canEncode_11 (by decide) ?_
    exact g_zretG hx hb hr hlk hKn hRc hRs hS h dJ15_canEncode_12
  · have h := g_iff c_4 h
    refine lv_iconst (v := 1) hx hb dJ15_canEncode_7 (by decide) ?_
    refine lv_goto (tgt := 12) hx hb dJ15_canEncode_8 (by decide) ?_
    exact g_zretG hx hb hr hlk hKn hRc hRs hS h dJ15_canEncode_12
/-- java/lang/StringLatin1.canEncode(I)Z -/
def fJ15_canEncode_2 (E : g_E) (v0 : Int32) (G : g_G) : Option (Int32 × g_G) :=
  if v0 < 0 then (
    if (0 : Int32) = 0 ∨ (0 : Int32) = 1 then some (0, G) else none)
  else (
    if (255 : Int32) < v0 then (
      if (0 : Int32) = 0 ∨ (0 : Int32) = 1 then some (0, G) else none)
    else (
      if (1 : Int32) = 0 ∨ (1 : Int32) = 1 then some (1, G) else none))
theorem sJ15_canEncode_2 (l : Launch) (E : g_E) (D : g_D) {v0 : Int32} {G : g_G} {q : Int32 × g_G} (h : fJ15_canEncode_2 E v0 G = some q) : gMet l E D yJ15_canEncode_2 (ws_ yJ15_canEncode_2 cJ15_canEncode_2 1 (some .boolean)) 1 64 [.inl v0] G (some (.int q.1)) q.2 := by
  refine gMet.of (by decide +kernel) (Nat.le_of_ble_eq_true rfl) ?_
  intro p e R s m args below meth c C hS ls hl
  have C : gC p R s m args meth c cJ15_canEncode_2 1 RJ15 "canEncode" (some .boolean) 1 64 E D := C
  obtain ⟨hx, hb, hml, hown, hts, hKn, hRc, hRs, hc1, hc2, hRf, hRl, hr, hlk, hnm⟩ := id C
  have hl : gls ls 1 [(0, .inl v0)] := hl
  generalize s.heap = H at hS ⊢
  unfold fJ15_canEncode_2 at h
  refine g_iload_n hx hb hl 0 rfl dJ15_canEncode_2_0 ?_
  refine lv_if_lt (tgt := 15) hx hb dJ15_canEncode_2_1 (by decide) (fun c_1 => ?_) (fun c_1 => ?_)
  · have h := g_ift c_1 h
    refine lv_iconst (v := 0) hx hb dJ15_canEncode_2_15 (by decide) ?_
    exact g_zretG hx hb hr hlk hKn hRc hRs hS h dJ15_canEncode_2_16
  · have h := g_iff c_1 h
    refine g_iload_n hx hb hl 0 rfl dJ15_canEncode_2_4 ?_
    refine lv_sipush (v := 255) hx hb dJ15_canEncode_2_5 (by decide) ?_
    refine lv_icmp_gt (tgt := 15) hx hb dJ15_canEncode_2_8 (by decide) (fun c_8 => ?_) (fun c_8 => ?_)
    · have h := g_ift c_8 h
      refine lv_iconst (v := 0) hx hb dJ15_canEncode_2_15 (by decide) ?_
      exact g_zretG hx hb hr hlk hKn hRc hRs hS h dJ15_canEncode_2_16
    · have h := g_iff c_8 h
      refine lv_iconst (v := 1) hx hb dJ15_canEncode_2_11 (by decide) ?_
      refine lv_goto (tgt := 16) hx hb dJ15_canEncode_2_12 (by decide) ?_
      exact g_zretG hx hb hr hlk hKn hRc hRs hS h dJ15_canEncode_2_16
/-- java/lang/StringLatin1.equals([B[B)Z -/
def fJ15_equals_b9 (E : g_E) : Nat → (Option Nat) → (Option Nat) → Int32 → g_G → Option (Int32 × g_G)
  | 0, _, _, _, _ => none
  | n + 1, v0, v1, v2, G =>
    (galen G v0).bind fun x11 =>
    if x11 ≤ v2 then (
      if (1 : Int32) = 0 ∨ (1 : Int32) = 1 then some (1, G) else none)
    else (
      (gaI G 101 v0 v2).bind fun x17 =>
      (gaI G 101 v1 v2).bind fun x20 =>
      if x17 = x20 then (
        fJ15_equals_b9 E n v0 v1 (v2 + 1) G)
      else (
        if (0 : Int32) = 0 ∨ (0 : Int32) = 1 then some (0, G) else none))
def fJ15_equals (E : g_E) (v0 : Option Nat) (v1 : Option Nat) (G : g_G) : Option (Int32 × g_G) :=
  (galen G v0).bind fun x1 =>
  (galen G v1).bind fun x3 =>
  if ¬ x1 = x3 then (
    if (0 : Int32) = 0 ∨ (0 : Int32) = 1 then some (0, G) else none)
  else (
    fJ15_equals_b9 E gFU v0 v1 0 G)
theorem sJ15_equals_b9 {p : Program} {l : Launch} {e : Env} {R : Room} {s : State} {m : MethodId} {args : Array Value} {below : List Frame} {meth : Method} {c : Code} {E : g_E} {D : g_D} (C : gC p R s m args meth c cJ15_equals 3 RJ15 "equals" (some .boolean) 1 64 E D) : ∀ (n : Nat) (v0 : Option Nat) (v1 : Option Nat) (v2 : Int32) (G : g_G) (q : Int32 × g_G), fJ15_equals_b9 E n v0 v1 v2 G = some q → ∀ (H : Heap) (locs : List Loc) (cells slots : Nat) (ls : Array Slot), gSt E D G H locs → gls ls 3 [(0, .inr (.inr v0)), (1, .inr (.inr v1)), (2, .inl v2)] → gT p l e R s m args below meth c E D H locs cells slots (some (.int q.1)) q.2 (F0 m 9 ls []) := by
  obtain ⟨hx, hb, hml, hown, hts, hKn, hRc, hRs, hc1, hc2, hRf, hRl, hr, hlk, hnm⟩ := id C
  intro n
  induction n with
  | zero =>
    intro v0 v1 v2 G q h
    exact g_no h
  | succ n ih =>
    intro v0 v1 v2 G q h H locs cells slots ls hS hl
    rw [fJ15_equals_b9] at h
    refine g_iload_n hx hb hl 2 rfl dJ15_equals_9 ?_
    refine g_aload_n hx hb hl 0 rfl dJ15_equals_10 ?_
    refine g_alen hx hb hKn hS h dJ15_equals_11 (fun x11 h => ?_)
    refine lv_icmp_ge (tgt := 32) hx hb dJ15_equals_12 (by decide) (fun c_12 => ?_) (fun c_12 => ?_)
    · have h := g_ift c_12 h
      refine lv_iconst (v := 1) hx hb dJ15_equals_32 (by decide) ?_
      exact g_zretG hx hb hr hlk hKn hRc hRs hS h dJ15_equals_33
    · have h := g_iff c_12 h
      refine g_aload_n hx hb hl 0 rfl dJ15_equals_15 ?_
      refine g_iload_n hx hb hl 2 rfl dJ15_equals_16 ?_
      refine g_baloadG hx hb hKn hS h dJ15_equals_17 (fun x17 h => ?_)
      refine g_aload_n hx hb hl 1 rfl dJ15_equals_18 ?_
      refine g_iload_n hx hb hl 2 rfl dJ15_equals_19 ?_
      refine g_baloadG hx hb hKn hS h dJ15_equals_20 (fun x20 h => ?_)
      refine lv_icmp_eq (tgt := 26) hx hb dJ15_equals_21 (by decide) (fun c_21 => ?_) (fun c_21 => ?_)
      · have h := g_ift c_21 h
        refine g_iinc (l1 := [(2, .inl (v2 + 1)), (0, .inr (.inr v0)), (1, .inr (.inr v1))]) (v := (v2 + 1)) hx hb hl (k := 2) rfl (by rfl) (by decide) rfl dJ15_equals_26 (fun ls hl => ?_)
        refine lv_goto (tgt := 9) hx hb dJ15_equals_29 (by decide) ?_
        exact ih _ _ _ _ _ h _ _ _ _ _ hS (gls_sub hl [1, 2, 0] rfl)
      · have h := g_iff c_21 h
        refine lv_iconst (v := 0) hx hb dJ15_equals_24 (by decide) ?_
        exact g_zretG hx hb hr hlk hKn hRc hRs hS h dJ15_equals_25
theorem sJ15_equals (l : Launch) (E : g_E) (D : g_D) {v0 : Option Nat} {v1 : Option Nat} {G : g_G} {q : Int32 × g_G} (h : fJ15_equals E v0 v1 G = some q) : gMet l E D yJ15_equals (ws_ yJ15_equals cJ15_equals 3 (some .boolean)) 1 64 [.inr (.inr v0), .inr (.inr v1)] G (some (.int q.1)) q.2 := by
  refine gMet.of (by decide +kernel) (Nat.le_of_ble_eq_true rfl) ?_
  intro p e R s m args below meth c C hS ls hl
  have C : gC p R s m args meth c cJ15_equals 3 RJ15 "equals" (some .boolean) 1 64 E D := C
  obtain ⟨hx, hb, hml, hown, hts, hKn, hRc, hRs, hc1, hc2, hRf, hRl, hr, hlk, hnm⟩ := id C
  have hl : gls ls 3 [(0, .inr (.inr v0)), (1, .inr (.inr v1))] := hl
  generalize s.heap = H at hS ⊢
  unfold fJ15_equals at h
  refine g_aload_n hx hb hl 0 rfl dJ15_equals_0 ?_
  refine g_alen hx hb hKn hS h dJ15_equals_1 (fun x1 h => ?_)
  refine g_aload_n hx hb hl 1 rfl dJ15_equals_2 ?_
  refine g_alen hx hb hKn hS h dJ15_equals_3 (fun x3 h => ?_)
  refine lv_icmp_ne (tgt := 34) hx hb dJ15_equals_4 (by decide) (fun c_4 => ?_) (fun c_4 => ?_)
  · have h := g_ift c_4 h
    refine lv_iconst (v := 0) hx hb dJ15_equals_34 (by decide) ?_
    exact g_zretG hx hb hr hlk hKn hRc hRs hS h dJ15_equals_35
  · have h := g_iff (fun z => z c_4) h
    refine lv_iconst (v := 0) hx hb dJ15_equals_7 (by decide) ?_
    refine g_istore_n (l1 := [(2, .inl 0), (0, .inr (.inr v0)), (1, .inr (.inr v1))]) hx hb hl (by decide) rfl dJ15_equals_8 (fun ls hl => ?_)
    exact sJ15_equals_b9 C gFU _ _ _ _ _ h _ _ _ _ _ hS (gls_sub hl [1, 2, 0] rfl)
/-- java/lang/StringLatin1.indexOfChar([BIII)I -/
def fJ15_indexOfChar_b7 (E : g_E) : Nat → (Option Nat) → Int32 → Int32 → Int32 → g_G → Option (Int32 × g_G)
  | 0, _, _, _, _, _ => none
  | n + 1, v0, v3, v4, v5, G =>
    if v3 ≤ v5 then (
      some ((-1), G))
    else (
      (gaI G 101 v0 v5).bind fun x16 =>
      if ¬ x16 = v4 then (
        fJ15_indexOfChar_b7 E n v0 v3 v4 (v5 + 1) G)
      else (
        some (v5, G)))
def fJ15_indexOfChar (E : g_E) (v0 : Option Nat) (v1 : Int32) (v2 : Int32) (v3 : Int32) (G : g_G) : Option (Int32 × g_G) :=
  fJ15_indexOfChar_b7 E gFU v0 v3 (Int8.toInt32 (Int32.toInt8 v1)) v2 G
theorem sJ15_indexOfChar_b7 {p : Program} {l : Launch} {e : Env} {R : Room} {s : State} {m : MethodId} {args : Array Value} {below : List Frame} {meth : Method} {c : Code} {E : g_E} {D : g_D} (C : gC p R s m args meth c cJ15_indexOfChar 6 RJ15 "indexOfChar" (some .int) 1 64 E D) : ∀ (n : Nat) (v0 : Option Nat) (v3 : Int32) (v4 : Int32) (v5 : Int32) (G : g_G) (q : Int32 × g_G), fJ15_indexOfChar_b7 E n v0 v3 v4 v5 G = some q → ∀ (H : Heap) (locs : List Loc) (cells slots : Nat) (ls : Array Slot), gSt E D G H locs → gls ls 6 [(0, .inr (.inr v0)), (3, .inl v3), (4, .inl v4), (5, .inl v5)] → gT p l e R s m args below meth c E D H locs cells slots (some (.int q.1)) q.2 (F0 m 7 ls []) := by
  obtain ⟨hx, hb, hml, hown, hts, hKn, hRc, hRs, hc1, hc2, hRf, hRl, hr, hlk, hnm⟩ := id C
  intro n
  induction n with
  | zero =>
    intro v0 v3 v4 v5 G q h
    exact g_no h
  | succ n ih =>
    intro v0 v3 v4 v5 G q h H locs cells slots ls hS hl
    rw [fJ15_indexOfChar_b7] at h
    refine g_iload hx hb hl 3 rfl dJ15_indexOfChar_7 ?_
    refine g_iload_n hx hb hl 1 rfl dJ15_indexOfChar_9 ?_
    refine lv_icmp_ge (tgt := 31) hx hb dJ15_indexOfChar_10 (by decide) (fun c_10 => ?_) (fun c_10 => ?_)
    · have h := g_ift c_10 h
      refine lv_iconst (v := (-1)) hx hb dJ15_indexOfChar_31 (by decide) ?_
      exact g_iretG hx hb hr hlk hKn hRc hRs hS h dJ15_indexOfChar_32
    · have h := g_iff c_10 h
      refine g_aload_n hx hb hl 0 rfl dJ15_indexOfChar_13 ?_
      refine g_iload hx hb hl 3 rfl dJ15_indexOfChar_14 ?_
      refine g_baloadG hx hb hKn hS h dJ15_indexOfChar_16 (fun x16 h => ?_)
      refine g_iload hx hb hl 2 rfl dJ15_indexOfChar_17 ?_
      refine lv_icmp_ne (tgt := 25) hx hb dJ15_indexOfChar_19 (by decide) (fun c_19 => ?_) (fun c_19 => ?_)
      · have h := g_ift c_19 h
        refine g_iinc (l1 := [(5, .inl (v5 + 1)), (0, .inr (.inr v0)), (3, .inl v3), (4, .inl v4)]) (v := (v5 + 1)) hx hb hl (k := 3) rfl (by rfl) (by decide) rfl dJ15_indexOfChar_25 (fun ls hl => ?_)
        refine lv_goto (tgt := 7) hx hb dJ15_indexOfChar_28 (by decide) ?_
        exact ih _ _ _ _ _ _ h _ _ _ _ _ hS (gls_sub hl [1, 2, 3, 0] rfl)
      · have h := g_iff (fun z => z c_19) h
        refine g_iload hx hb hl 3 rfl dJ15_indexOfChar_22 ?_
        exact g_iretG hx hb hr hlk hKn hRc hRs hS h dJ15_indexOfChar_24
theorem sJ15_indexOfChar (l : Launch) (E : g_E) (D : g_D) {v0 : Option Nat} {v1 : Int32} {v2 : Int32} {v3 : Int32} {G : g_G} {q : Int32 × g_G} (h : fJ15_indexOfChar E v0 v1 v2 v3 G = some q) : gMet l E D yJ15_indexOfChar (ws_ yJ15_indexOfChar cJ15_indexOfChar 6 (some .int)) 1 64 [.inr (.inr v0), .inl v1, .inl v2, .inl v3] G (some (.int q.1)) q.2 := by
  refine gMet.of (by decide +kernel) (Nat.le_of_ble_eq_true rfl) ?_
  intro p e R s m args below meth c C hS ls hl
  have C : gC p R s m args meth c cJ15_indexOfChar 6 RJ15 "indexOfChar" (some .int) 1 64 E D := C
  obtain ⟨hx, hb, hml, hown, hts, hKn, hRc, hRs, hc1, hc2, hRf, hRl, hr, hlk, hnm⟩ := id C
  have hl : gls ls 6 [(0, .inr (.inr v0)), (1, .inl v1), (2, .inl v2), (3, .inl v3)] := hl
  generalize s.heap = H at hS ⊢
  unfold fJ15_indexOfChar at h
  refine g_iload_n hx hb hl 1 rfl dJ15_indexOfChar_0 ?_
  refine lv_i2b (v := (Int8.toInt32 (Int32.toInt8 v1))) hx hb dJ15_indexOfChar_1 rfl ?_
  refine g_istore (l1 := [(4, .inl (Int8.toInt32 (Int32.toInt8 v1))), (0, .inr (.inr v0)), (1, .inl v1), (2, .inl v2), (3, .inl v3)]) hx hb hl (by decide) rfl dJ15_indexOfChar_2 (fun ls hl => ?_)
  refine g_iload_n hx hb hl 3 rfl dJ15_indexOfChar_4 ?_
  refine g_istore (l1 := [(5, .inl v2), (4, .inl (Int8.toInt32 (Int32.toInt8 v1))), (0, .inr (.inr v0)), (1, .inl v1), (2, .inl v2), (3, .inl v3)]) hx hb hl (by decide) rfl dJ15_indexOfChar_5 (fun ls hl => ?_)
  exact sJ15_indexOfChar_b7 C gFU _ _ _ _ _ _ h _ _ _ _ _ hS (gls_sub hl [2, 5, 1, 0] rfl)
/-- java/lang/StringLatin1.toBytes(C)[B -/
def fJ15_toBytes (E : g_E) (v0 : Int32) (G : g_G) : Option (Option Nat × g_G) :=
  (gnewA E G 101 1).bind fun z1 =>
  (gsaB E z1.2 (some z1.1) 0 (Int8.toInt32 (Int32.toInt8 v0))).bind fun G7 =>
  some ((some z1.1), G7)
theorem sJ15_toBytes (l : Launch) (E : g_E) (D : g_D) {v0 : Int32} {G : g_G} {q : Option Nat × g_G} (h : fJ15_toBytes E v0 G = some q) : gMet l E D yJ15_toBytes (ws_ yJ15_toBytes cJ15_toBytes 1 (some (.array .byte))) 1 64 [.inl v0] G (some (va_rf q.1)) q.2 := by
  refine gMet.of (by decide +kernel) (Nat.le_of_ble_eq_true rfl) ?_
  intro p e R s m args below meth c C hS ls hl
  have C : gC p R s m args meth c cJ15_toBytes 1 RJ15 "toBytes" (some (.array .byte)) 1 64 E D := C
  obtain ⟨hx, hb, hml, hown, hts, hKn, hRc, hRs, hc1, hc2, hRf, hRl, hr, hlk, hnm⟩ := id C
  have hl : gls ls 1 [(0, .inl v0)] := hl
  generalize s.heap = H at hS ⊢
  unfold fJ15_toBytes at h
  refine lv_iconst (v := 1) hx hb dJ15_toBytes_0 (by decide) ?_
  refine g_newaG (k := 101) (atype := .byte) hx hb hKn hRc hRs hS h (by decide) rfl (hts _ q258) dJ15_toBytes_1 (fun z1 h H locs cells slots hS => ?_)
  refine lv_dup hx hb dJ15_toBytes_3 (by first | exact va_rf_cat _ | rfl | exact g_catA _) ?_
  refine lv_iconst (v := 0) hx hb dJ15_toBytes_4 (by decide) ?_
  refine g_iload_n hx hb hl 0 rfl dJ15_toBytes_5 ?_
  refine lv_i2b (v := (Int8.toInt32 (Int32.toInt8 v0))) hx hb dJ15_toBytes_6 rfl ?_
  refine g_bastoreG hx hb hKn hS h dJ15_toBytes_7 (fun G7 h H locs hS => ?_)
  exact g_aretG hx hb hr (by first | exact Or.inl ⟨_, rfl⟩ | exact Or.inr ⟨_, rfl⟩) hlk hKn hRc hRs hS h dJ15_toBytes_8
/-- java/lang/Integer.numberOfTrailingZeros(I)I -/
def fJ16_numberOfTrailingZeros_b74 (E : g_E) (v0 : Int32) (v1 : Int32) (G : g_G) : Option (Int32 × g_G) :=
  some ((v1 + (((Int32.toUInt32 v0) >>> ((Int32.toUInt32 1) &&& Int32.toUInt32 31)).toInt32)), G)
def fJ16_numberOfTrailingZeros_b62 (E : g_E) (v0 : Int32) (v1 : Int32) (G : g_G) : Option (Int32 × g_G) :=
  if v0 ≤ (4 : Int32) then (
    fJ16_numberOfTrailingZeros_b74 E v0 v1 G)
  else (
    fJ16_numberOfTrailingZeros_b74 E (((Int32.toUInt32 v0) >>> ((Int32.toUInt32 2) &&& Int32.toUInt32 31)).toInt32) (v1 + 2) G)
def fJ16_numberOfTrailingZeros_b49 (E : g_E) (v0 : Int32) (v1 : Int32) (G : g_G) : Option (Int32 × g_G) :=
  if v0 ≤ (16 : Int32) then (
    fJ16_numberOfTrailingZeros_b62 E v0 v1 G)
  else (
    fJ16_numberOfTrailingZeros_b62 E (((Int32.toUInt32 v0) >>> ((Int32.toUInt32 4) &&& Int32.toUInt32 31)).toInt32) (v1 + 4) G)
def fJ16_numberOfTrailingZeros_b34 (E : g_E) (v0 : Int32) (v1 : Int32) (G : g_G) : Option (Int32 × g_G) :=
  if v0 ≤ (256 : Int32) then (
    fJ16_numberOfTrailingZeros_b49 E v0 v1 G)
  else (
    fJ16_numberOfTrailingZeros_b49 E (((Int32.toUInt32 v0) >>> ((Int32.toUInt32 8) &&& Int32.toUInt32 31)).toInt32) (v1 + 8) G)
def fJ16_numberOfTrailingZeros (E : g_E) (v0 : Int32) (G : g_G) : Option (Int32 × g_G) :=
  if 0 < ((v0 ^^^ (-1)) &&& (v0 - 1)) then (
    if ((v0 ^^^ (-1)) &&& (v0 - 1)) ≤ (65536 : Int32) then (
      fJ16_numberOfTrailingZeros_b34 E ((v0 ^^^ (-1)) &&& (v0 - 1)) 1 G)
    else (
      fJ16_numberOfTrailingZeros_b34 E (((Int32.toUInt32 ((v0 ^^^ (-1)) &&& (v0 - 1))) >>> ((Int32.toUInt32 16) &&& Int32.toUInt32 31)).toInt32) (1 + 16) G))
  else (
    some ((((v0 ^^^ (-1)) &&& (v0 - 1)) &&& 32), G))
theorem sJ16_numberOfTrailingZeros_b74 {p : Program} {l : Launch} {e : Env} {R : Room} {s : State} {m : MethodId} {args : Array Value} {below : List Frame} {meth : Method} {c : Code} {E : g_E} {D : g_D} (C : gC p R s m args meth c cJ16_numberOfTrailingZeros 2 RJ16 "numberOfTrailingZeros" (some .int) 1 64 E D) : ∀ (v0 : Int32) (v1 : Int32) (G : g_G) (q : Int32 × g_G), fJ16_numberOfTrailingZeros_b74 E v0 v1 G = some q → ∀ (H : Heap) (locs : List Loc) (cells slots : Nat) (ls : Array Slot), gSt E D G H locs → gls ls 2 [(0, .inl v0), (1, .inl v1)] → gT p l e R s m args below meth c E D H locs cells slots (some (.int q.1)) q.2 (F0 m 74 ls []) := by
  obtain ⟨hx, hb, hml, hown, hts, hKn, hRc, hRs, hc1, hc2, hRf, hRl, hr, hlk, hnm⟩ := id C
  intro v0 v1 G q h H locs cells slots ls hS hl
  unfold fJ16_numberOfTrailingZeros_b74 at h
  refine g_iload_n hx hb hl 1 rfl dJ16_numberOfTrailingZeros_74 ?_
  refine g_iload_n hx hb hl 0 rfl dJ16_numberOfTrailingZeros_75 ?_
  refine lv_iconst (v := 1) hx hb dJ16_numberOfTrailingZeros_76 (by decide) ?_
  refine lv_iushr (v := ((Int32.toUInt32 v0) >>> ((Int32.toUInt32 1) &&& Int32.toUInt32 31)).toInt32) hx hb dJ16_numberOfTrailingZeros_77 rfl ?_
  refine lv_iadd hx hb dJ16_numberOfTrailingZeros_78 ?_
  exact g_iretG hx hb hr hlk hKn hRc hRs hS h dJ16_numberOfTrailingZeros_79
theorem sJ16_numberOfTrailingZeros_b62 {p : Program} {l : Launch} {e : Env} {R : Room} {s : State} {m : MethodId} {args : Array Value} {below : List Frame} {meth : Method} {c : Code} {E : g_E} {D : g_D} (C : gC p R s m args meth c cJ16_numberOfTrailingZeros 2 RJ16 "numberOfTrailingZeros" (some .int) 1 64 E D) : ∀ (v0 : Int32) (v1 : Int32) (G : g_G) (q : Int32 × g_G), fJ16_numberOfTrailingZeros_b62 E v0 v1 G = some q → ∀ (H : Heap) (locs : List Loc) (cells slots : Nat) (ls : Array Slot), gSt E D G H locs → gls ls 2 [(0, .inl v0), (1, .inl v1)] → gT p l e R s m args below meth c E D H locs cells slots (some (.int q.1)) q.2 (F0 m 62 ls []) := by
  obtain ⟨hx, hb, hml, hown, hts, hKn, hRc, hRs, hc1, hc2, hRf, hRl, hr, hlk, hnm⟩ := id C
  intro v0 v1 G q h H locs cells slots ls hS hl
  unfold fJ16_numberOfTrailingZeros_b62 at h
  refine g_iload_n hx hb hl 0 rfl dJ16_numberOfTrailingZeros_62 ?_
  refine lv_iconst (v := 4) hx hb dJ16_numberOfTrailingZeros_63 (by decide) ?_
  refine lv_icmp_le (tgt := 74) hx hb dJ16_numberOfTrailingZeros_64 (by decide) (fun c_64 => ?_) (fun c_64 => ?_)
  · have h := g_ift c_64 h
    exact sJ16_numberOfTrailingZeros_b74 C _ _ _ _ h _ _ _ _ _ hS (gls_sub hl [0, 1] rfl)
  · have h := g_iff c_64 h
    refine g_iinc (l1 := [(1, .inl (v1 + 2)), (0, .inl v0)]) (v := (v1 + 2)) hx hb hl (k := 1) rfl (by rfl) (by decide) rfl dJ16_numberOfTrailingZeros_67 (fun ls hl => ?_)
    refine g_iload_n hx hb hl 1 rfl dJ16_numberOfTrailingZeros_70 ?_
    refine lv_iconst (v := 2) hx hb dJ16_numberOfTrailingZeros_71 (by decide) ?_
    refine lv_iushr (v := ((Int32.toUInt32 v0) >>> ((Int32.toUInt32 2) &&& Int32.toUInt32 31)).toInt32) hx hb dJ16_numberOfTrailingZeros_72 rfl ?_
    refine g_istore_n (l1 := [(0, .inl (((Int32.toUInt32 v0) >>> ((Int32.toUInt32 2) &&& Int32.toUInt32 31)).toInt32)), (1, .inl (v1 + 2))]) hx hb hl (by decide) rfl dJ16_numberOfTrailingZeros_73 (fun ls hl => ?_)
    exact sJ16_numberOfTrailingZeros_b74 C _ _ _ _ h _ _ _ _ _ hS (gls_sub hl [0, 1] rfl)
theorem sJ16_numberOfTrailingZeros_b49 {p : Program} {l : Launch} {e : Env} {R : Room} {s : State} {m : MethodId} {args : Array Value} {below : List Frame} {meth : Method} {c : Code} {E : g_E} {D : g_D} (C : gC p R s m args meth c cJ16_numberOfTrailingZeros 2 RJ16 "numberOfTrailingZeros" (some .int) 1 64 E D) : ∀ (v0 : Int32) (v1 : Int32) (G : g_G) (q : Int32 × g_G), fJ16_numberOfTrailingZeros_b49 E v0 v1 G = some q → ∀ (H : Heap) (locs : List Loc) (cells slots : Nat) (ls : Array Slot), gSt E D G H locs → gls ls 2 [(0, .inl v0), (1, .inl v1)] → gT p l e R s m args below meth c E D H locs cells slots (some (.int q.1)) q.2 (F0 m 49 ls []) := by
  obtain ⟨hx, hb, hml, hown, hts, hKn, hRc, hRs, hc1, hc2, hRf, hRl, hr, hlk, hnm⟩ := id C
  intro v0 v1 G q h H locs cells slots ls hS hl
  unfold fJ16_numberOfTrailingZeros_b49 at h
  refine g_iload_n hx hb hl 0 rfl dJ16_numberOfTrailingZeros_49 ?_
  refine lv_bipush (v := 16) hx hb dJ16_numberOfTrailingZeros_50 (by decide) ?_
  refine lv_icmp_le (tgt := 62) hx hb dJ16_numberOfTrailingZeros_52 (by decide) (fun c_52 => ?_) (fun c_52 => ?_)
  · have h := g_ift c_52 h
    exact sJ16_numberOfTrailingZeros_b62 C _ _ _ _ h _ _ _ _ _ hS (gls_sub hl [0, 1] rfl)
  · have h := g_iff c_52 h
    refine g_iinc (l1 := [(1, .inl (v1 + 4)), (0, .inl v0)]) (v := (v1 + 4)) hx hb hl (k := 1) rfl (by rfl) (by decide) rfl dJ16_numberOfTrailingZeros_55 (fun ls hl => ?_)
    refine g_iload_n hx hb hl 1 rfl dJ16_numberOfTrailingZeros_58 ?_
    refine lv_iconst (v := 4) hx hb dJ16_numberOfTrailingZeros_59 (by decide) ?_
    refine lv_iushr (v := ((Int32.toUInt32 v0) >>> ((Int32.toUInt32 4) &&& Int32.toUInt32 31)).toInt32) hx hb dJ16_numberOfTrailingZeros_60 rfl ?_
    refine g_istore_n (l1 := [(0, .inl (((Int32.toUInt32 v0) >>> ((Int32.toUInt32 4) &&& Int32.toUInt32 31)).toInt32)), (1, .inl (v1 + 4))]) hx hb hl (by decide) rfl dJ16_numberOfTrailingZeros_61 (fun ls hl => ?_)
    exact sJ16_numberOfTrailingZeros_b62 C _ _ _ _ h _ _ _ _ _ hS (gls_sub hl [0, 1] rfl)
theorem sJ16_numberOfTrailingZeros_b34 {p : Program} {l : Launch} {e : Env} {R : Room} {s : State} {m : MethodId} {args : Array Value} {below : List Frame} {meth : Method} {c : Code} {E : g_E} {D : g_D} (C : gC p R s m args meth c cJ16_numberOfTrailingZeros 2 RJ16 "numberOfTrailingZeros" (some .int) 1 64 E D) : ∀ (v0 : Int32) (v1 : Int32) (G : g_G) (q : Int32 × g_G), fJ16_numberOfTrailingZeros_b34 E v0 v1 G = some q → ∀ (H : Heap) (locs : List Loc) (cells slots : Nat) (ls : Array Slot), gSt E D G H locs → gls ls 2 [(0, .inl v0), (1, .inl v1)] → gT p l e R s m args below meth c E D H locs cells slots (some (.int q.1)) q.2 (F0 m 34 ls []) := by
  obtain ⟨hx, hb, hml, hown, hts, hKn, hRc, hRs, hc1, hc2, hRf, hRl, hr, hlk, hnm⟩ := id C
  intro v0 v1 G q h H locs cells slots ls hS hl
  unfold fJ16_numberOfTrailingZeros_b34 at h
  refine g_iload_n hx hb hl 0 rfl dJ16_numberOfTrailingZeros_34 ?_
  refine lv_sipush (v := 256) hx hb dJ16_numberOfTrailingZeros_35 (by decide) ?_
  refine lv_icmp_le (tgt := 49) hx hb dJ16_numberOfTrailingZeros_38 (by decide) (fun c_38 => ?_) (fun c_38 => ?_)
  · have h := g_ift c_38 h
    exact sJ16_numberOfTrailingZeros_b49 C _ _ _ _ h _ _ _ _ _ hS (gls_sub hl [0, 1] rfl)
  · have h := g_iff c_38 h
    refine g_iinc (l1 := [(1, .inl (v1 + 8)), (0, .inl v0)]) (v := (v1 + 8)) hx hb hl (k := 1) rfl (by rfl) (by decide) rfl dJ16_numberOfTrailingZeros_41 (fun ls hl => ?_)
    refine g_iload_n hx hb hl 1 rfl dJ16_numberOfTrailingZeros_44 ?_
    refine lv_bipush (v := 8) hx hb dJ16_numberOfTrailingZeros_45 (by decide) ?_
    refine lv_iushr (v := ((Int32.toUInt32 v0) >>> ((Int32.toUInt32 8) &&& Int32.toUInt32 31)).toInt32) hx hb dJ16_numberOfTrailingZeros_47 rfl ?_
    refine g_istore_n (l1 := [(0, .inl (((Int32.toUInt32 v0) >>> ((Int32.toUInt32 8) &&& Int32.toUInt32 31)).toInt32)), (1, .inl (v1 + 8))]) hx hb hl (by decide) rfl dJ16_numberOfTrailingZeros_48 (fun ls hl => ?_)
    exact sJ16_numberOfTrailingZeros_b49 C _ _ _ _ h _ _ _ _ _ hS (gls_sub hl [0, 1] rfl)
theorem sJ16_numberOfTrailingZeros (l : Launch) (E : g_E) (D : g_D) {v0 : Int32} {G : g_G} {q : Int32 × g_G} (h : fJ16_numberOfTrailingZeros E v0 G = some q) : gMet l E D yJ16_numberOfTrailingZeros (ws_ yJ16_numberOfTrailingZeros cJ16_numberOfTrailingZeros 2 (some .int)) 1 64 [.inl v0] G (some (.int q.1)) q.2 := by
  refine gMet.of (by decide +kernel) (Nat.le_of_ble_eq_true rfl) ?_
  intro p e R s m args below meth c C hS ls hl
  have C : gC p R s m args meth c cJ16_numberOfTrailingZeros 2 RJ16 "numberOfTrailingZeros" (some .int) 1 64 E D := C
  obtain ⟨hx, hb, hml, hown, hts, hKn, hRc, hRs, hc1, hc2, hRf, hRl, hr, hlk, hnm⟩ := id C
  have hl : gls ls 2 [(0, .inl v0)] := hl
  generalize s.heap = H at hS ⊢
  unfold fJ16_numberOfTrailingZeros at h
  refine g_iload_n hx hb hl 0 rfl dJ16_numberOfTrailingZeros_0 ?_
  refine lv_iconst (v := (-1)) hx hb dJ16_numberOfTrailingZeros_1 (by decide) ?_
  refine lv_ixor hx hb dJ16_numberOfTrailingZeros_2 ?_
  refine g_iload_n hx hb hl 0 rfl dJ16_numberOfTrailingZeros_3 ?_
  refine lv_iconst (v := 1) hx hb dJ16_numberOfTrailingZeros_4 (by decide) ?_
  refine lv_isub hx hb dJ16_numberOfTrailingZeros_5 ?_
  refine lv_iand hx hb dJ16_numberOfTrailingZeros_6 ?_
  refine g_istore_n (l1 := [(0, .inl ((v0 ^^^ (-1)) &&& (v0 - 1)))]) hx hb hl (by decide) rfl dJ16_numberOfTrailingZeros_7 (fun ls hl => ?_)
  refine g_iload_n hx hb hl 0 rfl dJ16_numberOfTrailingZeros_8 ?_
  refine lv_if_gt (tgt := 17) hx hb dJ16_numberOfTrailingZeros_9 (by decide) (fun c_9 => ?_) (fun c_9 => ?_)
  · have h := g_ift c_9 h
    refine lv_iconst (v := 1) hx hb dJ16_numberOfTrailingZeros_17 (by decide) ?_
    refine g_istore_n (l1 := [(1, .inl 1), (0, .inl ((v0 ^^^ (-1)) &&& (v0 - 1)))]) hx hb hl (by decide) rfl dJ16_numberOfTrailingZeros_18 (fun ls hl => ?_)
    refine g_iload_n hx hb hl 1 rfl dJ16_numberOfTrailingZeros_19 ?_
    refine lv_ldcw (v := 65536) hx hb hown (hts _ q1801) dJ16_numberOfTrailingZeros_20 ?_
    refine lv_icmp_le (tgt := 34) hx hb dJ16_numberOfTrailingZeros_23 (by decide) (fun c_23 => ?_) (fun c_23 => ?_)
    · have h := g_ift c_23 h
      exact sJ16_numberOfTrailingZeros_b34 C _ _ _ _ h _ _ _ _ _ hS (gls_sub hl [1, 0] rfl)
    · have h := g_iff c_23 h
      refine g_iinc (l1 := [(1, .inl (1 + 16)), (0, .inl ((v0 ^^^ (-1)) &&& (v0 - 1)))]) (v := (1 + 16)) hx hb hl (k := 0) rfl (by rfl) (by decide) rfl dJ16_numberOfTrailingZeros_26 (fun ls hl => ?_)
      refine g_iload_n hx hb hl 1 rfl dJ16_numberOfTrailingZeros_29 ?_
      refine lv_bipush (v := 16) hx hb dJ16_numberOfTrailingZeros_30 (by decide) ?_
      refine lv_iushr (v := ((Int32.toUInt32 ((v0 ^^^ (-1)) &&& (v0 - 1))) >>> ((Int32.toUInt32 16) &&& Int32.toUInt32 31)).toInt32) hx hb dJ16_numberOfTrailingZeros_32 rfl ?_
      refine g_istore_n (l1 := [(0, .inl (((Int32.toUInt32 ((v0 ^^^ (-1)) &&& (v0 - 1))) >>> ((Int32.toUInt32 16) &&& Int32.toUInt32 31)).toInt32)), (1, .inl (1 + 16))]) hx hb hl (by decide) rfl dJ16_numberOfTrailingZeros_33 (fun ls hl => ?_)
      exact sJ16_numberOfTrailingZeros_b34 C _ _ _ _ h _ _ _ _ _ hS (gls_sub hl [0, 1] rfl)
  · have h := g_iff c_9 h
    refine g_iload_n hx hb hl 0 rfl dJ16_numberOfTrailingZeros_12 ?_
    refine lv_bipush (v := 32) hx hb dJ16_numberOfTrailingZeros_13 (by decide) ?_
    refine lv_iand hx hb dJ16_numberOfTrailingZeros_15 ?_
    exact g_iretG hx hb hr hlk hKn hRc hRs hS h dJ16_numberOfTrailingZeros_16
/-- java/lang/Character.charValue()C -/
def fJ17_charValue (E : g_E) (t : Nat) (G : g_G) : Option (Int32 × g_G) :=
  (grI G 20 20 (some t) 0).bind fun x1 =>
  if (Int32.toUInt32 x1).toUInt16.toUInt32.toInt32 = x1 then some (x1, G) else none
theorem sJ17_charValue (l : Launch) (E : g_E) (D : g_D) {t : Nat} {G : g_G} {q : Int32 × g_G} (h : fJ17_charValue E t G = some q) : gMet l E D yJ17_charValue (ws_ yJ17_charValue cJ17_charValue 1 (some .char)) 1 64 [.inr (.inr (some t))] G (some (.int q.1)) q.2 := by
  refine gMet.of (by decide +kernel) (Nat.le_of_ble_eq_true rfl) ?_
  intro p e R s m args below meth c C hS ls hl
  have C : gC p R s m args meth c cJ17_charValue 1 RJ17 "charValue" (some .char) 1 64 E D := C
  obtain ⟨hx, hb, hml, hown, hts, hKn, hRc, hRs, hc1, hc2, hRf, hRl, hr, hlk, hnm⟩ := id C
  have hl : gls ls 1 [(0, .inr (.inr (some t)))] := hl
  generalize s.heap = H at hS ⊢
  unfold fJ17_charValue at h
  refine g_aload_n hx hb hl 0 rfl dJ17_charValue_0 ?_
  refine g_rdI hx hb hown hts hKn hS h fd_20_20_0 rfl (Or.inl (hts _ q1549)) (fun _ z => z) dJ17_charValue_1 (fun x1 h => ?_)
  exact g_cretG hx hb hr hlk hKn hRc hRs hS h dJ17_charValue_4
/-- java/util/Objects.checkIndex(II)I -/
def fJ18_checkIndex (E : g_E) (v0 : Int32) (v1 : Int32) (G : g_G) : Option (Int32 × g_G) :=
  (fJ14_checkIndex E v0 v1 none G).bind fun z3 =>
  some (z3.1, z3.2)
theorem sJ18_checkIndex (l : Launch) (E : g_E) (D : g_D) {v0 : Int32} {v1 : Int32} {G : g_G} {q : Int32 × g_G} (h : fJ18_checkIndex E v0 v1 G = some q) : gMet l E D yJ18_checkIndex (ws_ yJ18_checkIndex cJ18_checkIndex 2 (some .int)) 2 86 [.inl v0, .inl v1] G (some (.int q.1)) q.2 := by
  refine gMet.of (by decide +kernel) (Nat.le_of_ble_eq_true rfl) ?_
  intro p e R s m args below meth c C hS ls hl
  have C : gC p R s m args meth c cJ18_checkIndex 2 RJ18 "checkIndex" (some .int) 2 86 E D := C
  obtain ⟨hx, hb, hml, hown, hts, hKn, hRc, hRs, hc1, hc2, hRf, hRl, hr, hlk, hnm⟩ := id C
  have hl : gls ls 2 [(0, .inl v0), (1, .inl v1)] := hl
  generalize s.heap = H at hS ⊢
  unfold fJ18_checkIndex at h
  refine g_iload_n hx hb hl 0 rfl dJ18_checkIndex_0 ?_
  refine g_iload_n hx hb hl 1 rfl dJ18_checkIndex_1 ?_
  refine g_null hx hb dJ18_checkIndex_2 ?_
  obtain ⟨z3, h3, h⟩ := g_bnd h
  refine g_callS (n := 3) (av := [.inl v0, .inl v1, .inr (.inr none)]) (rs := []) hx hb hml hown hts hKn hRc hRs hS hl (sJ14_checkIndex l E D h3) (lw_S q765 q766 q130 q767) ⟨by decide, by decide, by decide +kernel⟩ ⟨by rw [hRf]; exact Nat.le_of_ble_eq_true rfl, by rw [hRl]; exact Nat.le_of_ble_eq_true rfl⟩ rfl rfl (Nat.le_of_ble_eq_true rfl) dJ18_checkIndex_3 (fun H locs cells slots hS => ?_)
  exact g_iretG hx hb hr hlk hKn hRc hRs hS h dJ18_checkIndex_6
/-- java/util/ArrayList.elementData(I)Ljava/lang/Object; -/
def fJ2_elementData (E : g_E) (t : Nat) (v1 : Int32) (G : g_G) : Option (Option Nat × g_G) :=
  (grR G 17 17 (some t) 1).bind fun x1 =>
  (gaR G 120 x1 v1).bind fun x5 =>
  some (x5, G)
theorem sJ2_elementData (l : Launch) (E : g_E) (D : g_D) {t : Nat} {v1 : Int32} {G : g_G} {q : Option Nat × g_G} (h : fJ2_elementData E t v1 G = some q) : gMet l E D yJ2_elementData (ws_ yJ2_elementData cJ2_elementData 2 (some (.object "java/lang/Object"))) 1 64 [.inr (.inr (some t)), .inl v1] G (some (va_rf q.1)) q.2 := by
  refine gMet.of (by decide +kernel) (Nat.le_of_ble_eq_true rfl) ?_
  intro p e R s m args below meth c C hS ls hl
  have C : gC p R s m args meth c cJ2_elementData 2 RJ2 "elementData" (some (.object "java/lang/Object")) 1 64 E D := C
  obtain ⟨hx, hb, hml, hown, hts, hKn, hRc, hRs, hc1, hc2, hRf, hRl, hr, hlk, hnm⟩ := id C
  have hl : gls ls 2 [(0, .inr (.inr (some t))), (1, .inl v1)] := hl
  generalize s.heap = H at hS ⊢
  unfold fJ2_elementData at h
  refine g_aload_n hx hb hl 0 rfl dJ2_elementData_0 ?_
  refine g_rdR hx hb hown hts hKn hS h fd_17_17_1 rfl (Or.inl (hts _ q500)) (fun _ z => z) dJ2_elementData_1 (fun x1 h => ?_)
  refine g_iload_n hx hb hl 1 rfl dJ2_elementData_4 ?_
  refine g_aaloadG hx hb hKn hS h (by decide) dJ2_elementData_5 (fun x5 h => ?_)
  exact g_aretG hx hb hr (by first | exact Or.inl ⟨_, rfl⟩ | exact Or.inr ⟨_, rfl⟩) hlk hKn hRc hRs hS h dJ2_elementData_6
/-- java/util/ArrayList.get(I)Ljava/lang/Object; -/
def fJ2_get (E : g_E) (t : Nat) (v1 : Int32) (G : g_G) : Option (Option Nat × g_G) :=
  (grI G 17 17 (some t) 2).bind fun x2 =>
  (fJ18_checkIndex E v1 x2 G).bind fun z5 =>
  (gchk z5.2 17 (some t)).bind fun b11 =>
  (fJ2_elementData E b11 v1 z5.2).bind fun z11 =>
  some (z11.1, z11.2)
theorem sJ2_get (l : Launch) (E : g_E) (D : g_D) {t : Nat} {v1 : Int32} {G : g_G} {q : Option Nat × g_G} (h : fJ2_get E t v1 G = some q) : gMet l E D yJ2_get (ws_ yJ2_get cJ2_get 2 (some (.object "java/lang/Object"))) 3 107 [.inr (.inr (some t)), .inl v1] G (some (va_rf q.1)) q.2 := by
  refine gMet.of (by decide +kernel) (Nat.le_of_ble_eq_true rfl) ?_
  intro p e R s m args below meth c C hS ls hl
  have C : gC p R s m args meth c cJ2_get 2 RJ2 "get" (some (.object "java/lang/Object")) 3 107 E D := C
  obtain ⟨hx, hb, hml, hown, hts, hKn, hRc, hRs, hc1, hc2, hRf, hRl, hr, hlk, hnm⟩ := id C
  have hl : gls ls 2 [(0, .inr (.inr (some t))), (1, .inl v1)] := hl
  generalize s.heap = H at hS ⊢
  unfold fJ2_get at h
  refine g_iload_n hx hb hl 1 rfl dJ2_get_0 ?_
  refine g_aload_n hx hb hl 0 rfl dJ2_get_1 ?_
  refine g_rdI hx hb hown hts hKn hS h fd_17_17_2 rfl (Or.inl (hts _ q501)) (fun _ z => z) dJ2_get_2 (fun x2 h => ?_)
  obtain ⟨z5, h5, h⟩ := g_bnd h
  refine g_callS (n := 2) (av := [.inl v1, .inl x2]) (rs := []) hx hb hml hown hts hKn hRc hRs hS hl (sJ18_checkIndex l E D h5) (lw_S q762 q763 q152 q764) ⟨by decide, by decide, by decide +kernel⟩ ⟨by rw [hRf]; exact Nat.le_of_ble_eq_true rfl, by rw [hRl]; exact Nat.le_of_ble_eq_true rfl⟩ rfl rfl (Nat.le_of_ble_eq_true rfl) dJ2_get_5 (fun H locs cells slots hS => ?_)
  refine lv_pop hx hb dJ2_get_8 rfl ?_
  refine g_aload_n hx hb hl 0 rfl dJ2_get_9 ?_
  refine g_iload_n hx hb hl 1 rfl dJ2_get_10 ?_
  obtain ⟨b11, hb11, h⟩ := g_bnd h
  obtain ⟨hr11, hk11⟩ := g_chk hb11
  obtain ⟨z11, h11, h⟩ := g_bnd h
  refine g_callV (n := 1) (b := b11) (av := [.inl v1]) (rs := []) hx hb hml hown hts hKn hRc hRs hS hl (sJ2_elementData l E D h11) (lw_V q768 q769 q770 q117 q771) ⟨rfl, by decide, by decide, by decide +kernel⟩ ⟨by rw [hRf]; exact Nat.le_of_ble_eq_true rfl, by rw [hRl]; exact Nat.le_of_ble_eq_true rfl⟩ (g_recv hKn hS hk11 (by decide) (by decide)) rfl (by rw [hr11]; rfl) (Nat.le_of_ble_eq_true rfl) dJ2_get_11 (fun H locs cells slots hS => ?_)
  exact g_aretG hx hb hr (by first | exact Or.inl ⟨_, rfl⟩ | exact Or.inr ⟨_, rfl⟩) hlk hKn hRc hRs hS h dJ2_get_14
/-- java/util/ArrayList.size()I -/
def fJ2_size (E : g_E) (t : Nat) (G : g_G) : Option (Int32 × g_G) :=
  (grI G 17 17 (some t) 2).bind fun x1 =>
  some (x1, G)
theorem sJ2_size (l : Launch) (E : g_E) (D : g_D) {t : Nat} {G : g_G} {q : Int32 × g_G} (h : fJ2_size E t G = some q) : gMet l E D yJ2_size (ws_ yJ2_size cJ2_size 1 (some .int)) 1 64 [.inr (.inr (some t))] G (some (.int q.1)) q.2 := by
  refine gMet.of (by decide +kernel) (Nat.le_of_ble_eq_true rfl) ?_
  intro p e R s m args below meth c C hS ls hl
  have C : gC p R s m args meth c cJ2_size 1 RJ2 "size" (some .int) 1 64 E D := C
  obtain ⟨hx, hb, hml, hown, hts, hKn, hRc, hRs, hc1, hc2, hRf, hRl, hr, hlk, hnm⟩ := id C
  have hl : gls ls 1 [(0, .inr (.inr (some t)))] := hl
  generalize s.heap = H at hS ⊢
  unfold fJ2_size at h
  refine g_aload_n hx hb hl 0 rfl dJ2_size_0 ?_
  refine g_rdI hx hb hown hts hKn hS h fd_17_17_2 rfl (Or.inl (hts _ q501)) (fun _ z => z) dJ2_size_1 (fun x1 h => ?_)
  exact g_iretG hx hb hr hlk hKn hRc hRs hS h dJ2_size_4
/-- java/lang/AbstractStringBuilder.ensureCapacityInternal(I)V -/
def fJ7_ensureCapacityInternal (E : g_E) (t : Nat) (v1 : Int32) (G : g_G) : Option (g_G) :=
  (grR G 18 18 (some t) 0).bind fun x1 =>
  (galen G x1).bind fun x4 =>
  (grI G 18 18 (some t) 1).bind fun x6 =>
  if (v1 - (x4 >>> (x6 &&& 31))) ≤ 0 then (
    some G)
  else (
    (grR G 18 18 (some t) 0).bind fun x19 =>
    none)
theorem sJ7_ensureCapacityInternal (l : Launch) (E : g_E) (D : g_D) {t : Nat} {v1 : Int32} {G : g_G} {q : g_G} (h : fJ7_ensureCapacityInternal E t v1 G = some q) : gMet l E D yJ7_ensureCapacityInternal (ws_ yJ7_ensureCapacityInternal cJ7_ensureCapacityInternal 3 (none)) 1 64 [.inr (.inr (some t)), .inl v1] G none q := by
  refine gMet.of (by decide +kernel) (Nat.le_of_ble_eq_true rfl) ?_
  intro p e R s m args below meth c C hS ls hl
  have C : gC p R s m args meth c cJ7_ensureCapacityInternal 3 RJ7 "ensureCapacityInternal" (none) 1 64 E D := C
  obtain ⟨hx, hb, hml, hown, hts, hKn, hRc, hRs, hc1, hc2, hRf, hRl, hr, hlk, hnm⟩ := id C
  have hl : gls ls 3 [(0, .inr (.inr (some t))), (1, .inl v1)] := hl
  generalize s.heap = H at hS ⊢
  unfold fJ7_ensureCapacityInternal at h
  refine g_aload_n hx hb hl 0 rfl dJ7_ensureCapacityInternal_0 ?_
  refine g_rdR hx hb hown hts hKn hS h fd_18_18_0 rfl (Or.inl (hts _ q245)) (fun _ z => z) dJ7_ensureCapacityInternal_1 (fun x1 h => ?_)
  refine g_alen hx hb hKn hS h dJ7_ensureCapacityInternal_4 (fun x4 h => ?_)
  refine g_aload_n hx hb hl 0 rfl dJ7_ensureCapacityInternal_5 ?_
  refine g_rdI hx hb hown hts hKn hS h fd_18_18_1 rfl (Or.inl (hts _ q246)) (fun _ z => z) dJ7_ensureCapacityInternal_6 (fun x6 h => ?_)
  refine lv_ishr hx hb dJ7_ensureCapacityInternal_9 ?_
  refine g_istore_n (l1 := [(2, .inl (x4 >>> (x6 &&& 31))), (0, .inr (.inr (some t))), (1, .inl v1)]) hx hb hl (by decide) rfl dJ7_ensureCapacityInternal_10 (fun ls hl => ?_)
  refine g_iload_n hx hb hl 2 rfl dJ7_ensureCapacityInternal_11 ?_
  refine g_iload_n hx hb hl 0 rfl dJ7_ensureCapacityInternal_12 ?_
  refine lv_isub hx hb dJ7_ensureCapacityInternal_13 ?_
  refine lv_if_le (tgt := 38) hx hb dJ7_ensureCapacityInternal_14 (by decide) (fun c_14 => ?_) (fun c_14 => ?_)
  · have h := g_ift c_14 h
    exact g_vretG hx hb hr hlk hKn hRc hRs hS h dJ7_ensureCapacityInternal_38
  · have h := g_iff c_14 h
    refine g_aload_n hx hb hl 1 rfl dJ7_ensureCapacityInternal_17 ?_
    refine g_aload_n hx hb hl 1 rfl dJ7_ensureCapacityInternal_18 ?_
    refine g_rdR hx hb hown hts hKn hS h fd_18_18_0 rfl (Or.inl (hts _ q245)) (fun _ z => z) dJ7_ensureCapacityInternal_19 (fun x19 h => ?_)
    refine g_aload_n hx hb hl 1 rfl dJ7_ensureCapacityInternal_22 ?_
    refine g_iload_n hx hb hl 2 rfl dJ7_ensureCapacityInternal_23 ?_
    exact g_no h
/-- java/lang/AbstractStringBuilder.getValue()[B -/
def fJ7_getValue (E : g_E) (t : Nat) (G : g_G) : Option (Option Nat × g_G) :=
  (grR G 18 18 (some t) 0).bind fun x1 =>
  some (x1, G)
theorem sJ7_getValue (l : Launch) (E : g_E) (D : g_D) {t : Nat} {G : g_G} {q : Option Nat × g_G} (h : fJ7_getValue E t G = some q) : gMet l E D yJ7_getValue (ws_ yJ7_getValue cJ7_getValue 1 (some (.array .byte))) 1 64 [.inr (.inr (some t))] G (some (va_rf q.1)) q.2 := by
  refine gMet.of (by decide +kernel) (Nat.le_of_ble_eq_true rfl) ?_
  intro p e R s m args below meth c C hS ls hl
  have C : gC p R s m args meth c cJ7_getValue 1 RJ7 "getValue" (some (.array .byte)) 1 64 E D := C
  obtain ⟨hx, hb, hml, hown, hts, hKn, hRc, hRs, hc1, hc2, hRf, hRl, hr, hlk, hnm⟩ := id C
  have hl : gls ls 1 [(0, .inr (.inr (some t)))] := hl
  generalize s.heap = H at hS ⊢
  unfold fJ7_getValue at h
  refine g_aload_n hx hb hl 0 rfl dJ7_getValue_0 ?_
  refine g_rdR hx hb hown hts hKn hS h fd_18_18_0 rfl (Or.inl (hts _ q245)) (fun _ z => z) dJ7_getValue_1 (fun x1 h => ?_)
  exact g_aretG hx hb hr (by first | exact Or.inl ⟨_, rfl⟩ | exact Or.inr ⟨_, rfl⟩) hlk hKn hRc hRs hS h dJ7_getValue_4
/-- java/lang/AbstractStringBuilder.<init>(I)V -/
def fJ7_init (E : g_E) (t : Nat) (v1 : Int32) (G : g_G) : Option (g_G) :=
  if (1 : Int32) = 0 then (
    none)
  else (
    (gnewA E G 101 v1).bind fun z12 =>
    (gpR E z12.2 18 18 (some t) 0 (some z12.1)).bind fun G14 =>
    (gpB E G14 18 18 (some t) 1 0).bind fun G19 =>
    some G19)
theorem sJ7_init (l : Launch) (E : g_E) (D : g_D) {t : Nat} {v1 : Int32} {G : g_G} {q : g_G} (h : fJ7_init E t v1 G = some q) : gMet l E D yJ7_init (ws_ yJ7_init cJ7_init 2 (none)) 1 64 [.inr (.inr (some t)), .inl v1] G none q := by
  refine gMet.of (by decide +kernel) (Nat.le_of_ble_eq_true rfl) ?_
  intro p e R s m args below meth c C hS ls hl
  have C : gC p R s m args meth c cJ7_init 2 RJ7 "<init>" (none) 1 64 E D := C
  obtain ⟨hx, hb, hml, hown, hts, hKn, hRc, hRs, hc1, hc2, hRf, hRl, hr, hlk, hnm⟩ := id C
  have hl : gls ls 2 [(0, .inr (.inr (some t))), (1, .inl v1)] := hl
  generalize s.heap = H at hS ⊢
  unfold fJ7_init at h
  refine g_aload_n hx hb hl 0 rfl dJ7_init_0 ?_
  refine g_objInit (rs := []) hx hb hml hown hl (hts _ q235) (hts _ q162) (hts _ q163) rfl dJ7_init_1 ⟨by rw [hRf]; exact Nat.le_of_ble_eq_true rfl, by rw [hRl]; exact Nat.le_of_ble_eq_true rfl⟩ ?_
  refine g_getsZ (C := "java/lang/String") (n := "COMPACT_STRINGS") (d := "Z") (v := .int 1) hx hb hown (hKn.2.2.2.2.2.2.1 _ (List.mem_of_getElem? (i := 5) rfl)) hS (hts _ q236) (fun _ z => z) dJ7_init_4 ?_
  refine lv_if_eq (tgt := 25) hx hb dJ7_init_7 (by decide) (fun c_7 => ?_) (fun c_7 => ?_)
  · have h := g_ift c_7 h
    refine g_aload_n hx hb hl 0 rfl dJ7_init_25 ?_
    refine g_iload_n hx hb hl 1 rfl dJ7_init_26 ?_
    exact g_no h
  · have h := g_iff c_7 h
    refine g_aload_n hx hb hl 0 rfl dJ7_init_10 ?_
    refine g_iload_n hx hb hl 1 rfl dJ7_init_11 ?_
    refine g_newaG (k := 101) (atype := .byte) hx hb hKn hRc hRs hS h (by decide) rfl (hts _ q258) dJ7_init_12 (fun z12 h H locs cells slots hS => ?_)
    refine g_ptR hx hb hown hts hKn hS h fd_18_18_0 rfl (Or.inl (hts _ q245)) (fun _ z => z) (fun z => nomatch z) dJ7_init_14 (fun G14 h H locs hS => ?_)
    refine g_aload_n hx hb hl 0 rfl dJ7_init_17 ?_
    refine lv_iconst (v := 0) hx hb dJ7_init_18 (by decide) ?_
    refine g_ptB hx hb hown hts hKn hS h fd_18_18_1 (Or.inl (hts _ q246)) (fun _ z => z) (fun z => nomatch z) dJ7_init_19 (fun G19 h H locs hS => ?_)
    refine lv_goto (tgt := 38) hx hb dJ7_init_22 (by decide) ?_
    exact g_vretG hx hb hr hlk hKn hRc hRs hS h dJ7_init_38
/-- java/lang/AbstractStringBuilder.isLatin1()Z -/
def fJ7_isLatin1 (E : g_E) (t : Nat) (G : g_G) : Option (Int32 × g_G) :=
  if (1 : Int32) = 0 then (
    if (0 : Int32) = 0 ∨ (0 : Int32) = 1 then some (0, G) else none)
  else (
    (grI G 18 18 (some t) 1).bind fun x7 =>
    if ¬ x7 = 0 then (
      if (0 : Int32) = 0 ∨ (0 : Int32) = 1 then some (0, G) else none)
    else (
      if (1 : Int32) = 0 ∨ (1 : Int32) = 1 then some (1, G) else none))
theorem sJ7_isLatin1 (l : Launch) (E : g_E) (D : g_D) {t : Nat} {G : g_G} {q : Int32 × g_G} (h : fJ7_isLatin1 E t G = some q) : gMet l E D yJ7_isLatin1 (ws_ yJ7_isLatin1 cJ7_isLatin1 1 (some .boolean)) 1 64 [.inr (.inr (some t))] G (some (.int q.1)) q.2 := by
  refine gMet.of (by decide +kernel) (Nat.le_of_ble_eq_true rfl) ?_
  intro p e R s m args below meth c C hS ls hl
  have C : gC p R s m args meth c cJ7_isLatin1 1 RJ7 "isLatin1" (some .boolean) 1 64 E D := C
  obtain ⟨hx, hb, hml, hown, hts, hKn, hRc, hRs, hc1, hc2, hRf, hRl, hr, hlk, hnm⟩ := id C
  have hl : gls ls 1 [(0, .inr (.inr (some t)))] := hl
  generalize s.heap = H at hS ⊢
  unfold fJ7_isLatin1 at h
  refine g_getsZ (C := "java/lang/String") (n := "COMPACT_STRINGS") (d := "Z") (v := .int 1) hx hb hown (hKn.2.2.2.2.2.2.1 _ (List.mem_of_getElem? (i := 5) rfl)) hS (hts _ q236) (fun _ z => z) dJ7_isLatin1_0 ?_
  refine lv_if_eq (tgt := 17) hx hb dJ7_isLatin1_3 (by decide) (fun c_3 => ?_) (fun c_3 => ?_)
  · have h := g_ift c_3 h
    refine lv_iconst (v := 0) hx hb dJ7_isLatin1_17 (by decide) ?_
    exact g_zretG hx hb hr hlk hKn hRc hRs hS h dJ7_isLatin1_18
  · have h := g_iff c_3 h
    refine g_aload_n hx hb hl 0 rfl dJ7_isLatin1_6 ?_
    refine g_rdI hx hb hown hts hKn hS h fd_18_18_1 rfl (Or.inl (hts _ q246)) (fun _ z => z) dJ7_isLatin1_7 (fun x7 h => ?_)
    refine lv_if_ne (tgt := 17) hx hb dJ7_isLatin1_10 (by decide) (fun c_10 => ?_) (fun c_10 => ?_)
    · have h := g_ift c_10 h
      refine lv_iconst (v := 0) hx hb dJ7_isLatin1_17 (by decide) ?_
      exact g_zretG hx hb hr hlk hKn hRc hRs hS h dJ7_isLatin1_18
    · have h := g_iff (fun z => z c_10) h
      refine lv_iconst (v := 1) hx hb dJ7_isLatin1_13 (by decide) ?_
      refine lv_goto (tgt := 18) hx hb dJ7_isLatin1_14 (by decide) ?_
      exact g_zretG hx hb hr hlk hKn hRc hRs hS h dJ7_isLatin1_18
/-- java/lang/AbstractStringBuilder.length()I -/
def fJ7_length (E : g_E) (t : Nat) (G : g_G) : Option (Int32 × g_G) :=
  (grI G 18 18 (some t) 3).bind fun x1 =>
  some (x1, G)
theorem sJ7_length (l : Launch) (E : g_E) (D : g_D) {t : Nat} {G : g_G} {q : Int32 × g_G} (h : fJ7_length E t G = some q) : gMet l E D yJ7_length (ws_ yJ7_length cJ7_length 1 (some .int)) 1 64 [.inr (.inr (some t))] G (some (.int q.1)) q.2 := by
  refine gMet.of (by decide +kernel) (Nat.le_of_ble_eq_true rfl) ?_
  intro p e R s m args below meth c C hS ls hl
  have C : gC p R s m args meth c cJ7_length 1 RJ7 "length" (some .int) 1 64 E D := C
  obtain ⟨hx, hb, hml, hown, hts, hKn, hRc, hRs, hc1, hc2, hRf, hRl, hr, hlk, hnm⟩ := id C
  have hl : gls ls 1 [(0, .inr (.inr (some t)))] := hl
  generalize s.heap = H at hS ⊢
  unfold fJ7_length at h
  refine g_aload_n hx hb hl 0 rfl dJ7_length_0 ?_
  refine g_rdI hx hb hown hts hKn hS h fd_18_18_3 rfl (Or.inl (hts _ q248)) (fun _ z => z) dJ7_length_1 (fun x1 h => ?_)
  exact g_iretG hx hb hr hlk hKn hRc hRs hS h dJ7_length_4
/-- java/lang/StringBuilder.<init>(I)V -/
def fJ8_init_2 (E : g_E) (t : Nat) (v1 : Int32) (G : g_G) : Option (g_G) :=
  (fJ7_init E t v1 G).bind fun z2 =>
  some z2
theorem sJ8_init_2 (l : Launch) (E : g_E) (D : g_D) {t : Nat} {v1 : Int32} {G : g_G} {q : g_G} (h : fJ8_init_2 E t v1 G = some q) : gMet l E D yJ8_init_2 (ws_ yJ8_init_2 cJ8_init_2 2 (none)) 2 85 [.inr (.inr (some t)), .inl v1] G none q := by
  refine gMet.of (by decide +kernel) (Nat.le_of_ble_eq_true rfl) ?_
  intro p e R s m args below meth c C hS ls hl
  have C : gC p R s m args meth c cJ8_init_2 2 RJ8 "<init>" (none) 2 85 E D := C
  obtain ⟨hx, hb, hml, hown, hts, hKn, hRc, hRs, hc1, hc2, hRf, hRl, hr, hlk, hnm⟩ := id C
  have hl : gls ls 2 [(0, .inr (.inr (some t))), (1, .inl v1)] := hl
  generalize s.heap = H at hS ⊢
  unfold fJ8_init_2 at h
  refine g_aload_n hx hb hl 0 rfl dJ8_init_2_0 ?_
  refine g_iload_n hx hb hl 1 rfl dJ8_init_2_1 ?_
  obtain ⟨z2, h2, h⟩ := g_bnd h
  refine g_callI (n := 1) (av := [.inl v1]) (rs := []) hx hb hml hown hts hKn hRc hRs hS hl (sJ7_init l E D h2) (lw_meth q234) (hts _ q122) (hts _ q232) (hts _ q233) rfl ⟨by decide, by decide, by decide +kernel⟩ ⟨by rw [hRf]; exact Nat.le_of_ble_eq_true rfl, by rw [hRl]; exact Nat.le_of_ble_eq_true rfl⟩ rfl rfl (Nat.le_of_ble_eq_true rfl) dJ8_init_2_2 (fun H locs cells slots hS => ?_)
  exact g_vretG hx hb hr hlk hKn hRc hRs hS h dJ8_init_2_5
/-- java/lang/StringBuilder.length()I -/
def fJ8_length (E : g_E) (t : Nat) (G : g_G) : Option (Int32 × g_G) :=
  (gchk G 18 (some t)).bind fun b1 =>
  (fJ7_length E b1 G).bind fun z1 =>
  some (z1.1, z1.2)
theorem sJ8_length (l : Launch) (E : g_E) (D : g_D) {t : Nat} {G : g_G} {q : Int32 × g_G} (h : fJ8_length E t G = some q) : gMet l E D yJ8_length (ws_ yJ8_length cJ8_length 1 (some .int)) 2 84 [.inr (.inr (some t))] G (some (.int q.1)) q.2 := by
  refine gMet.of (by decide +kernel) (Nat.le_of_ble_eq_true rfl) ?_
  intro p e R s m args below meth c C hS ls hl
  have C : gC p R s m args meth c cJ8_length 1 RJ8 "length" (some .int) 2 84 E D := C
  obtain ⟨hx, hb, hml, hown, hts, hKn, hRc, hRs, hc1, hc2, hRf, hRl, hr, hlk, hnm⟩ := id C
  have hl : gls ls 1 [(0, .inr (.inr (some t)))] := hl
  generalize s.heap = H at hS ⊢
  unfold fJ8_length at h
  refine g_aload_n hx hb hl 0 rfl dJ8_length_0 ?_
  obtain ⟨b1, hb1, h⟩ := g_bnd h
  obtain ⟨hr1, hk1⟩ := g_chk hb1
  obtain ⟨z1, h1, h⟩ := g_bnd h
  refine g_callSU (n := 0) (b := b1) (av := []) (rs := []) hx hb hml hown hts hKn hRc hRs hS hl (C := "java/lang/StringBuilder") (hKn.obj (k := 18) (by decide) (by decide)).2 (sJ7_length l E D h1) (lw_app (lw_in _ [429, 425, 257, 424, 122] (by decide +kernel) (by decide +kernel)) (lw_meth q430)) ⟨by decide, by decide +kernel⟩ ⟨by rw [hRf]; exact Nat.le_of_ble_eq_true rfl, by rw [hRl]; exact Nat.le_of_ble_eq_true rfl⟩ (g_recv hKn hS hk1 (by decide) (by decide)) rfl (by rw [hr1]; rfl) (Nat.le_of_ble_eq_true rfl) dJ8_length_1 (fun H locs cells slots hS => ?_)
  exact g_iretG hx hb hr hlk hKn hRc hRs hS h dJ8_length_4
/-- java/lang/String.coder()B -/
def fJ9_coder (E : g_E) (t : Nat) (G : g_G) : Option (Int32 × g_G) :=
  if (1 : Int32) = 0 then (
    if (Int32.toInt8 1).toInt32 = 1 then some (1, G) else none)
  else (
    (grI G 19 19 (some t) 1).bind fun x7 =>
    if (Int32.toInt8 x7).toInt32 = x7 then some (x7, G) else none)
theorem sJ9_coder (l : Launch) (E : g_E) (D : g_D) {t : Nat} {G : g_G} {q : Int32 × g_G} (h : fJ9_coder E t G = some q) : gMet l E D yJ9_coder (ws_ yJ9_coder cJ9_coder 1 (some .byte)) 1 64 [.inr (.inr (some t))] G (some (.int q.1)) q.2 := by
  refine gMet.of (by decide +kernel) (Nat.le_of_ble_eq_true rfl) ?_
  intro p e R s m args below meth c C hS ls hl
  have C : gC p R s m args meth c cJ9_coder 1 RJ9 "coder" (some .byte) 1 64 E D := C
  obtain ⟨hx, hb, hml, hown, hts, hKn, hRc, hRs, hc1, hc2, hRf, hRl, hr, hlk, hnm⟩ := id C
  have hl : gls ls 1 [(0, .inr (.inr (some t)))] := hl
  generalize s.heap = H at hS ⊢
  unfold fJ9_coder at h
  refine g_getsZ (C := "java/lang/String") (n := "COMPACT_STRINGS") (d := "Z") (v := .int 1) hx hb hown (hKn.2.2.2.2.2.2.1 _ (List.mem_of_getElem? (i := 5) rfl)) hS (hts _ q345) (fun _ z => z) dJ9_coder_0 ?_
  refine lv_if_eq (tgt := 13) hx hb dJ9_coder_3 (by decide) (fun c_3 => ?_) (fun c_3 => ?_)
  · have h := g_ift c_3 h
    refine lv_iconst (v := 1) hx hb dJ9_coder_13 (by decide) ?_
    exact g_bretG hx hb hr hlk hKn hRc hRs hS h dJ9_coder_14
  · have h := g_iff c_3 h
    refine g_aload_n hx hb hl 0 rfl dJ9_coder_6 ?_
    refine g_rdI hx hb hown hts hKn hS h fd_19_19_1 rfl (Or.inl (hts _ q487)) (fun _ z => z) dJ9_coder_7 (fun x7 h => ?_)
    refine lv_goto (tgt := 14) hx hb dJ9_coder_10 (by decide) ?_
    exact g_bretG hx hb hr hlk hKn hRc hRs hS h dJ9_coder_14
/-- java/lang/String.equals(Ljava/lang/Object;)Z -/
def fJ9_equals_b36 (E : g_E) (t : Nat) (v2 : Option Nat) (G : g_G) : Option (Int32 × g_G) :=
  (grR G 19 19 (some t) 0).bind fun x37 =>
  (grR G 19 19 v2 0).bind fun x41 =>
  (fJ15_equals E x37 x41 G).bind fun z44 =>
  if z44.1 = 0 then (
    if (0 : Int32) = 0 ∨ (0 : Int32) = 1 then some (0, z44.2) else none)
  else (
    if (1 : Int32) = 0 ∨ (1 : Int32) = 1 then some (1, z44.2) else none)
def fJ9_equals (E : g_E) (t : Nat) (v1 : Option Nat) (G : g_G) : Option (Int32 × g_G) :=
  if ¬ (some t) = v1 then (
    (ginst G 19 v1).bind fun x8 =>
    if x8 = 0 then (
      if (0 : Int32) = 0 ∨ (0 : Int32) = 1 then some (0, G) else none)
    else (
      (gcast G 19 19 v1).bind fun x15 =>
      if (1 : Int32) = 0 then (
        fJ9_equals_b36 E t x15 G)
      else (
        (grI G 19 19 (some t) 1).bind fun x26 =>
        (grI G 19 19 x15 1).bind fun x30 =>
        if ¬ x26 = x30 then (
          if (0 : Int32) = 0 ∨ (0 : Int32) = 1 then some (0, G) else none)
        else (
          fJ9_equals_b36 E t x15 G))))
  else (
    if (1 : Int32) = 0 ∨ (1 : Int32) = 1 then some (1, G) else none)
theorem sJ9_equals_b36 {p : Program} {l : Launch} {e : Env} {R : Room} {s : State} {m : MethodId} {args : Array Value} {below : List Frame} {meth : Method} {c : Code} {E : g_E} {D : g_D} (C : gC p R s m args meth c cJ9_equals 3 RJ9 "equals" (some .boolean) 2 86 E D) : ∀ (t : Nat) (v2 : Option Nat) (G : g_G) (q : Int32 × g_G), fJ9_equals_b36 E t v2 G = some q → ∀ (H : Heap) (locs : List Loc) (cells slots : Nat) (ls : Array Slot), gSt E D G H locs → gls ls 3 [(0, .inr (.inr (some t))), (2, .inr (.inr v2))] → gT p l e R s m args below meth c E D H locs cells slots (some (.int q.1)) q.2 (F0 m 36 ls []) := by
  obtain ⟨hx, hb, hml, hown, hts, hKn, hRc, hRs, hc1, hc2, hRf, hRl, hr, hlk, hnm⟩ := id C
  intro t v2 G q h H locs cells slots ls hS hl
  unfold fJ9_equals_b36 at h
  refine g_aload_n hx hb hl 0 rfl dJ9_equals_36 ?_
  refine g_rdR hx hb hown hts hKn hS h fd_19_19_0 rfl (Or.inl (hts _ q486)) (fun _ z => z) dJ9_equals_37 (fun x37 h => ?_)
  refine g_aload_n hx hb hl 1 rfl dJ9_equals_40 ?_
  refine g_rdR hx hb hown hts hKn hS h fd_19_19_0 rfl (Or.inl (hts _ q486)) (fun _ z => z) dJ9_equals_41 (fun x41 h => ?_)
  obtain ⟨z44, h44, h⟩ := g_bnd h
  refine g_callS (n := 2) (av := [.inr (.inr x37), .inr (.inr x41)]) (rs := []) hx hb hml hown hts hKn hRc hRs hS hl (sJ15_equals l E D h44) (lw_S q1349 q1350 q131 q1351) ⟨by decide, by decide, by decide +kernel⟩ ⟨by rw [hRf]; exact Nat.le_of_ble_eq_true rfl, by rw [hRl]; exact Nat.le_of_ble_eq_true rfl⟩ rfl rfl (Nat.le_of_ble_eq_true rfl) dJ9_equals_44 (fun H locs cells slots hS => ?_)
  refine lv_if_eq (tgt := 54) hx hb dJ9_equals_47 (by decide) (fun c_47 => ?_) (fun c_47 => ?_)
  · have h := g_ift c_47 h
    refine lv_iconst (v := 0) hx hb dJ9_equals_54 (by decide) ?_
    exact g_zretG hx hb hr hlk hKn hRc hRs hS h dJ9_equals_55
  · have h := g_iff c_47 h
    refine lv_iconst (v := 1) hx hb dJ9_equals_50 (by decide) ?_
    refine lv_goto (tgt := 55) hx hb dJ9_equals_51 (by decide) ?_
    exact g_zretG hx hb hr hlk hKn hRc hRs hS h dJ9_equals_55
theorem sJ9_equals (l : Launch) (E : g_E) (D : g_D) {t : Nat} {v1 : Option Nat} {G : g_G} {q : Int32 × g_G} (h : fJ9_equals E t v1 G = some q) : gMet l E D yJ9_equals (ws_ yJ9_equals cJ9_equals 3 (some .boolean)) 2 86 [.inr (.inr (some t)), .inr (.inr v1)] G (some (.int q.1)) q.2 := by
  refine gMet.of (by decide +kernel) (Nat.le_of_ble_eq_true rfl) ?_
  intro p e R s m args below meth c C hS ls hl
  have C : gC p R s m args meth c cJ9_equals 3 RJ9 "equals" (some .boolean) 2 86 E D := C
  obtain ⟨hx, hb, hml, hown, hts, hKn, hRc, hRs, hc1, hc2, hRf, hRl, hr, hlk, hnm⟩ := id C
  have hl : gls ls 3 [(0, .inr (.inr (some t))), (1, .inr (.inr v1))] := hl
  generalize s.heap = H at hS ⊢
  unfold fJ9_equals at h
  refine g_aload_n hx hb hl 0 rfl dJ9_equals_0 ?_
  refine g_aload_n hx hb hl 1 rfl dJ9_equals_1 ?_
  refine lv_acmp_ne (tgt := 7) hx hb dJ9_equals_2 (by decide) (fun c_2 => ?_) (fun c_2 => ?_)
  · have h := g_ift c_2 h
    refine g_aload_n hx hb hl 1 rfl dJ9_equals_7 ?_
    refine g_instS (k := 19) hx hb hown hKn hS h (by decide) (by decide) (hts _ q1223) dJ9_equals_8 (fun x8 h => ?_)
    refine lv_if_eq (tgt := 54) hx hb dJ9_equals_11 (by decide) (fun c_11 => ?_) (fun c_11 => ?_)
    · have h := g_ift c_11 h
      refine lv_iconst (v := 0) hx hb dJ9_equals_54 (by decide) ?_
      exact g_zretG hx hb hr hlk hKn hRc hRs hS h dJ9_equals_55
    · have h := g_iff c_11 h
      refine g_aload_n hx hb hl 1 rfl dJ9_equals_14 ?_
      refine g_castS (k := 19) hx hb hown hKn hS h (by decide) (by decide) (hts _ q1223) dJ9_equals_15 (fun x15 h => ?_)
      refine g_astore_n (l1 := [(2, .inr (.inr x15)), (0, .inr (.inr (some t))), (1, .inr (.inr v1))]) hx hb hl (by decide) rfl dJ9_equals_18 (fun ls hl => ?_)
      refine g_getsZ (C := "java/lang/String") (n := "COMPACT_STRINGS") (d := "Z") (v := .int 1) hx hb hown (hKn.2.2.2.2.2.2.1 _ (List.mem_of_getElem? (i := 5) rfl)) hS (hts _ q345) (fun _ z => z) dJ9_equals_19 ?_
      refine lv_if_eq (tgt := 36) hx hb dJ9_equals_22 (by decide) (fun c_22 => ?_) (fun c_22 => ?_)
      · have h := g_ift c_22 h
        exact sJ9_equals_b36 C _ _ _ _ h _ _ _ _ _ hS (gls_sub hl [1, 0] rfl)
      · have h := g_iff c_22 h
        refine g_aload_n hx hb hl 1 rfl dJ9_equals_25 ?_
        refine g_rdI hx hb hown hts hKn hS h fd_19_19_1 rfl (Or.inl (hts _ q487)) (fun _ z => z) dJ9_equals_26 (fun x26 h => ?_)
        refine g_aload_n hx hb hl 0 rfl dJ9_equals_29 ?_
        refine g_rdI hx hb hown hts hKn hS h fd_19_19_1 rfl (Or.inl (hts _ q487)) (fun _ z => z) dJ9_equals_30 (fun x30 h => ?_)
        refine lv_icmp_ne (tgt := 54) hx hb dJ9_equals_33 (by decide) (fun c_33 => ?_) (fun c_33 => ?_)
        · have h := g_ift c_33 h
          refine lv_iconst (v := 0) hx hb dJ9_equals_54 (by decide) ?_
          exact g_zretG hx hb hr hlk hKn hRc hRs hS h dJ9_equals_55
        · have h := g_iff (fun z => z c_33) h
          exact sJ9_equals_b36 C _ _ _ _ h _ _ _ _ _ hS (gls_sub hl [1, 0] rfl)
  · have h := g_iff (fun z => z c_2) h
    refine lv_iconst (v := 1) hx hb dJ9_equals_5 (by decide) ?_
    exact g_zretG hx hb hr hlk hKn hRc hRs hS h dJ9_equals_6
/-- java/lang/String.<init>([BB)V -/
def fJ9_init_3 (E : g_E) (t : Nat) (v1 : Option Nat) (v2 : Int32) (G : g_G) : Option (g_G) :=
  (gpR E G 19 19 (some t) 0 v1).bind fun G6 =>
  (gpB E G6 19 19 (some t) 1 v2).bind fun G11 =>
  some G11
theorem sJ9_init_3 (l : Launch) (E : g_E) (D : g_D) {t : Nat} {v1 : Option Nat} {v2 : Int32} {G : g_G} {q : g_G} (h : fJ9_init_3 E t v1 v2 G = some q) : gMet l E D yJ9_init_3 (ws_ yJ9_init_3 cJ9_init_3 3 (none)) 1 64 [.inr (.inr (some t)), .inr (.inr v1), .inl v2] G none q := by
  refine gMet.of (by decide +kernel) (Nat.le_of_ble_eq_true rfl) ?_
  intro p e R s m args below meth c C hS ls hl
  have C : gC p R s m args meth c cJ9_init_3 3 RJ9 "<init>" (none) 1 64 E D := C
  obtain ⟨hx, hb, hml, hown, hts, hKn, hRc, hRs, hc1, hc2, hRf, hRl, hr, hlk, hnm⟩ := id C
  have hl : gls ls 3 [(0, .inr (.inr (some t))), (1, .inr (.inr v1)), (2, .inl v2)] := hl
  generalize s.heap = H at hS ⊢
  unfold fJ9_init_3 at h
  refine g_aload_n hx hb hl 0 rfl dJ9_init_3_0 ?_
  refine g_objInit (rs := []) hx hb hml hown hl (hts _ q417) (hts _ q162) (hts _ q163) rfl dJ9_init_3_1 ⟨by rw [hRf]; exact Nat.le_of_ble_eq_true rfl, by rw [hRl]; exact Nat.le_of_ble_eq_true rfl⟩ ?_
  refine g_aload_n hx hb hl 0 rfl dJ9_init_3_4 ?_
  refine g_aload_n hx hb hl 1 rfl dJ9_init_3_5 ?_
  refine g_ptR hx hb hown hts hKn hS h fd_19_19_0 rfl (Or.inl (hts _ q486)) (fun _ z => z) (fun _ => ⟨hnm, rfl⟩) dJ9_init_3_6 (fun G6 h H locs hS => ?_)
  refine g_aload_n hx hb hl 0 rfl dJ9_init_3_9 ?_
  refine g_iload_n hx hb hl 2 rfl dJ9_init_3_10 ?_
  refine g_ptB hx hb hown hts hKn hS h fd_19_19_1 (Or.inl (hts _ q487)) (fun _ z => z) (fun _ => ⟨hnm, rfl⟩) dJ9_init_3_11 (fun G11 h H locs hS => ?_)
  exact g_vretG hx hb hr hlk hKn hRc hRs hS h dJ9_init_3_14
/-- java/lang/String.isLatin1()Z -/
def fJ9_isLatin1 (E : g_E) (t : Nat) (G : g_G) : Option (Int32 × g_G) :=
  if (1 : Int32) = 0 then (
    if (0 : Int32) = 0 ∨ (0 : Int32) = 1 then some (0, G) else none)
  else (
    (grI G 19 19 (some t) 1).bind fun x7 =>
    if ¬ x7 = 0 then (
      if (0 : Int32) = 0 ∨ (0 : Int32) = 1 then some (0, G) else none)
    else (
      if (1 : Int32) = 0 ∨ (1 : Int32) = 1 then some (1, G) else none))
theorem sJ9_isLatin1 (l : Launch) (E : g_E) (D : g_D) {t : Nat} {G : g_G} {q : Int32 × g_G} (h : fJ9_isLatin1 E t G = some q) : gMet l E D yJ9_isLatin1 (ws_ yJ9_isLatin1 cJ9_isLatin1 1 (some .boolean)) 1 64 [.inr (.inr (some t))] G (some (.int q.1)) q.2 := by
  refine gMet.of (by decide +kernel) (Nat.le_of_ble_eq_true rfl) ?_
  intro p e R s m args below meth c C hS ls hl
  have C : gC p R s m args meth c cJ9_isLatin1 1 RJ9 "isLatin1" (some .boolean) 1 64 E D := C
  obtain ⟨hx, hb, hml, hown, hts, hKn, hRc, hRs, hc1, hc2, hRf, hRl, hr, hlk, hnm⟩ := id C
  have hl : gls ls 1 [(0, .inr (.inr (some t)))] := hl
  generalize s.heap = H at hS ⊢
  unfold fJ9_isLatin1 at h
  refine g_getsZ (C := "java/lang/String") (n := "COMPACT_STRINGS") (d := "Z") (v := .int 1) hx hb hown (hKn.2.2.2.2.2.2.1 _ (List.mem_of_getElem? (i := 5) rfl)) hS (hts _ q345) (fun _ z => z) dJ9_isLatin1_0 ?_
  refine lv_if_eq (tgt := 17) hx hb dJ9_isLatin1_3 (by decide) (fun c_3 => ?_) (fun c_3 => ?_)
  · have h := g_ift c_3 h
    refine lv_iconst (v := 0) hx hb dJ9_isLatin1_17 (by decide) ?_
    exact g_zretG hx hb hr hlk hKn hRc hRs hS h dJ9_isLatin1_18
  · have h := g_iff c_3 h
    refine g_aload_n hx hb hl 0 rfl dJ9_isLatin1_6 ?_
    refine g_rdI hx hb hown hts hKn hS h fd_19_19_1 rfl (Or.inl (hts _ q487)) (fun _ z => z) dJ9_isLatin1_7 (fun x7 h => ?_)
    refine lv_if_ne (tgt := 17) hx hb dJ9_isLatin1_10 (by decide) (fun c_10 => ?_) (fun c_10 => ?_)
    · have h := g_ift c_10 h
      refine lv_iconst (v := 0) hx hb dJ9_isLatin1_17 (by decide) ?_
      exact g_zretG hx hb hr hlk hKn hRc hRs hS h dJ9_isLatin1_18
    · have h := g_iff (fun z => z c_10) h
      refine lv_iconst (v := 1) hx hb dJ9_isLatin1_13 (by decide) ?_
      refine lv_goto (tgt := 18) hx hb dJ9_isLatin1_14 (by decide) ?_
      exact g_zretG hx hb hr hlk hKn hRc hRs hS h dJ9_isLatin1_18
/-- java/lang/String.length()I -/
def fJ9_length (E : g_E) (t : Nat) (G : g_G) : Option (Int32 × g_G) :=
  (grR G 19 19 (some t) 0).bind fun x1 =>
  (galen G x1).bind fun x4 =>
  (gchk G 19 (some t)).bind fun b6 =>
  (fJ9_coder E b6 G).bind fun z6 =>
  some ((x4 >>> (z6.1 &&& 31)), z6.2)
theorem sJ9_length (l : Launch) (E : g_E) (D : g_D) {t : Nat} {G : g_G} {q : Int32 × g_G} (h : fJ9_length E t G = some q) : gMet l E D yJ9_length (ws_ yJ9_length cJ9_length 1 (some .int)) 2 84 [.inr (.inr (some t))] G (some (.int q.1)) q.2 := by
  refine gMet.of (by decide +kernel) (Nat.le_of_ble_eq_true rfl) ?_
  intro p e R s m args below meth c C hS ls hl
  have C : gC p R s m args meth c cJ9_length 1 RJ9 "length" (some .int) 2 84 E D := C
  obtain ⟨hx, hb, hml, hown, hts, hKn, hRc, hRs, hc1, hc2, hRf, hRl, hr, hlk, hnm⟩ := id C
  have hl : gls ls 1 [(0, .inr (.inr (some t)))] := hl
  generalize s.heap = H at hS ⊢
  unfold fJ9_length at h
  refine g_aload_n hx hb hl 0 rfl dJ9_length_0 ?_
  refine g_rdR hx hb hown hts hKn hS h fd_19_19_0 rfl (Or.inl (hts _ q486)) (fun _ z => z) dJ9_length_1 (fun x1 h => ?_)
  refine g_alen hx hb hKn hS h dJ9_length_4 (fun x4 h => ?_)
  refine g_aload_n hx hb hl 0 rfl dJ9_length_5 ?_
  obtain ⟨b6, hb6, h⟩ := g_bnd h
  obtain ⟨hr6, hk6⟩ := g_chk hb6
  obtain ⟨z6, h6, h⟩ := g_bnd h
  refine g_callV (n := 0) (b := b6) (av := []) (rs := [.inl x4]) hx hb hml hown hts hKn hRc hRs hS hl (sJ9_coder l E D h6) (lw_V q341 q342 q343 q124 q344) ⟨rfl, by decide, by decide, by decide +kernel⟩ ⟨by rw [hRf]; exact Nat.le_of_ble_eq_true rfl, by rw [hRl]; exact Nat.le_of_ble_eq_true rfl⟩ (g_recv hKn hS hk6 (by decide) (by decide)) rfl (by rw [hr6]; rfl) (Nat.le_of_ble_eq_true rfl) dJ9_length_6 (fun H locs cells slots hS => ?_)
  refine lv_ishr hx hb dJ9_length_9 ?_
  exact g_iretG hx hb hr hlk hKn hRc hRs hS h dJ9_length_10
/-- java/lang/String.valueOf(C)Ljava/lang/String; -/
def fJ9_valueOf_b26 (E : g_E) (v0 : Int32) (G : g_G) : Option (Option Nat × g_G) :=
  (gnewO E G 19 4).bind fun z26 =>
  none
def fJ9_valueOf (E : g_E) (v0 : Int32) (G : g_G) : Option (Option Nat × g_G) :=
  if (1 : Int32) = 0 then (
    fJ9_valueOf_b26 E v0 G)
  else (
    (fJ15_canEncode E v0 G).bind fun z7 =>
    if z7.1 = 0 then (
      fJ9_valueOf_b26 E v0 z7.2)
    else (
      (gnewO E z7.2 19 4).bind fun z13 =>
      (fJ15_toBytes E v0 z13.2).bind fun z18 =>
      (fJ9_init_3 E z13.1 z18.1 0 z18.2).bind fun z22 =>
      some ((some z13.1), z22)))
theorem sJ9_valueOf_b26 {p : Program} {l : Launch} {e : Env} {R : Room} {s : State} {m : MethodId} {args : Array Value} {below : List Frame} {meth : Method} {c : Code} {E : g_E} {D : g_D} (C : gC p R s m args meth c cJ9_valueOf 1 RJ9 "valueOf" (some (.object "java/lang/String")) 2 86 E D) : ∀ (v0 : Int32) (G : g_G) (q : Option Nat × g_G), fJ9_valueOf_b26 E v0 G = some q → ∀ (H : Heap) (locs : List Loc) (cells slots : Nat) (ls : Array Slot), gSt E D G H locs → gls ls 1 [(0, .inl v0)] → gT p l e R s m args below meth c E D H locs cells slots (some (va_rf q.1)) q.2 (F0 m 26 ls []) := by
  obtain ⟨hx, hb, hml, hown, hts, hKn, hRc, hRs, hc1, hc2, hRf, hRl, hr, hlk, hnm⟩ := id C
  intro v0 G q h H locs cells slots ls hS hl
  unfold fJ9_valueOf_b26 at h
  refine g_newG (k := 19) hx hb hown hts hKn hRc hRs hS h (by decide) (by decide) (hts _ q1223) (hts _ q410) (hts _ q124) dJ9_valueOf_26 (fun z26 h H locs cells slots hS => ?_)
  refine lv_dup hx hb dJ9_valueOf_29 (by first | exact va_rf_cat _ | rfl | exact g_catA _) ?_
  refine g_iload_n hx hb hl 0 rfl dJ9_valueOf_30 ?_
  exact g_no h
theorem sJ9_valueOf (l : Launch) (E : g_E) (D : g_D) {v0 : Int32} {G : g_G} {q : Option Nat × g_G} (h : fJ9_valueOf E v0 G = some q) : gMet l E D yJ9_valueOf (ws_ yJ9_valueOf cJ9_valueOf 1 (some (.object "java/lang/String"))) 2 86 [.inl v0] G (some (va_rf q.1)) q.2 := by
  refine gMet.of (by decide +kernel) (Nat.le_of_ble_eq_true rfl) ?_
  intro p e R s m args below meth c C hS ls hl
  have C : gC p R s m args meth c cJ9_valueOf 1 RJ9 "valueOf" (some (.object "java/lang/String")) 2 86 E D := C
  obtain ⟨hx, hb, hml, hown, hts, hKn, hRc, hRs, hc1, hc2, hRf, hRl, hr, hlk, hnm⟩ := id C
  have hl : gls ls 1 [(0, .inl v0)] := hl
  generalize s.heap = H at hS ⊢
  unfold fJ9_valueOf at h
  refine g_getsZ (C := "java/lang/String") (n := "COMPACT_STRINGS") (d := "Z") (v := .int 1) hx hb hown (hKn.2.2.2.2.2.2.1 _ (List.mem_of_getElem? (i := 5) rfl)) hS (hts _ q345) (fun _ z => z) dJ9_valueOf_0 ?_
  refine lv_if_eq (tgt := 26) hx hb dJ9_valueOf_3 (by decide) (fun c_3 => ?_) (fun c_3 => ?_)
  · have h := g_ift c_3 h
    exact sJ9_valueOf_b26 C _ _ _ h _ _ _ _ _ hS (gls_sub hl [0] rfl)
  · have h := g_iff c_3 h
    refine g_iload_n hx hb hl 0 rfl dJ9_valueOf_6 ?_
    obtain ⟨z7, h7, h⟩ := g_bnd h
    refine g_callS (n := 1) (av := [.inl v0]) (rs := []) hx hb hml hown hts hKn hRc hRs hS hl (sJ15_canEncode l E D h7) (lw_S q1222 q1144 q131 q1145) ⟨by decide, by decide, by decide +kernel⟩ ⟨by rw [hRf]; exact Nat.le_of_ble_eq_true rfl, by rw [hRl]; exact Nat.le_of_ble_eq_true rfl⟩ rfl rfl (Nat.le_of_ble_eq_true rfl) dJ9_valueOf_7 (fun H locs cells slots hS => ?_)
    refine lv_if_eq (tgt := 26) hx hb dJ9_valueOf_10 (by decide) (fun c_10 => ?_) (fun c_10 => ?_)
    · have h := g_ift c_10 h
      exact sJ9_valueOf_b26 C _ _ _ h _ _ _ _ _ hS (gls_sub hl [0] rfl)
    · have h := g_iff c_10 h
      refine g_newG (k := 19) hx hb hown hts hKn hRc hRs hS h (by decide) (by decide) (hts _ q1223) (hts _ q410) (hts _ q124) dJ9_valueOf_13 (fun z13 h H locs cells slots hS => ?_)
      refine lv_dup hx hb dJ9_valueOf_16 (by first | exact va_rf_cat _ | rfl | exact g_catA _) ?_
      refine g_iload_n hx hb hl 0 rfl dJ9_valueOf_17 ?_
      obtain ⟨z18, h18, h⟩ := g_bnd h
      refine g_callS (n := 1) (av := [.inl v0]) (rs := [.inr (.inr (some z13.1)), .inr (.inr (some z13.1))]) hx hb hml hown hts hKn hRc hRs hS hl (sJ15_toBytes l E D h18) (lw_S q1224 q1225 q131 q1226) ⟨by decide, by decide, by decide +kernel⟩ ⟨by rw [hRf]; exact Nat.le_of_ble_eq_true rfl, by rw [hRl]; exact Nat.le_of_ble_eq_true rfl⟩ rfl rfl (Nat.le_of_ble_eq_true rfl) dJ9_valueOf_18 (fun H locs cells slots hS => ?_)
      refine lv_iconst (v := 0) hx hb dJ9_valueOf_21 (by decide) ?_
      obtain ⟨z22, h22, h⟩ := g_bnd h
      refine g_callI (n := 2) (av := [.inr (.inr z18.1), .inl 0]) (rs := [.inr (.inr (some z13.1))]) hx hb hml hown hts hKn hRc hRs hS hl (sJ9_init_3 l E D h22) (lw_meth q1229) (hts _ q124) (hts _ q1227) (hts _ q1228) rfl ⟨by decide, by decide, by decide +kernel⟩ ⟨by rw [hRf]; exact Nat.le_of_ble_eq_true rfl, by rw [hRl]; exact Nat.le_of_ble_eq_true rfl⟩ rfl rfl (Nat.le_of_ble_eq_true rfl) dJ9_valueOf_22 (fun H locs cells slots hS => ?_)
      exact g_aretG hx hb hr (by first | exact Or.inl ⟨_, rfl⟩ | exact Or.inr ⟨_, rfl⟩) hlk hKn hRc hRs hS h dJ9_valueOf_25
/-- SendHall$Constant.value(LSendHall$Life;I)I -/
def fX10_value (E : g_E) (t : Nat) (v1 : Option Nat) (v2 : Int32) (G : g_G) : Option (Int32 × g_G) :=
  (grI G 8 8 (some t) 0).bind fun x1 =>
  some (x1, G)
theorem sX10_value (l : Launch) (E : g_E) (D : g_D) {t : Nat} {v1 : Option Nat} {v2 : Int32} {G : g_G} {q : Int32 × g_G} (h : fX10_value E t v1 v2 G = some q) : gMet l E D yX10_value (ws_ yX10_value cX10_value 3 (some .int)) 1 64 [.inr (.inr (some t)), .inr (.inr v1), .inl v2] G (some (.int q.1)) q.2 := by
  refine gMet.of (by decide +kernel) (Nat.le_of_ble_eq_true rfl) ?_
  intro p e R s m args below meth c C hS ls hl
  have C : gC p R s m args meth c cX10_value 3 RX10 "value" (some .int) 1 64 E D := C
  obtain ⟨hx, hb, hml, hown, hts, hKn, hRc, hRs, hc1, hc2, hRf, hRl, hr, hlk, hnm⟩ := id C
  have hl : gls ls 3 [(0, .inr (.inr (some t))), (1, .inr (.inr v1)), (2, .inl v2)] := hl
  generalize s.heap = H at hS ⊢
  unfold fX10_value at h
  refine g_aload_n hx hb hl 0 rfl dX10_value_0 ?_
  refine g_rdI hx hb hown hts hKn hS h fd_8_8_0 rfl (Or.inl (hts _ q1497)) (fun _ z => z) dX10_value_1 (fun x1 h => ?_)
  exact g_iretG hx hb hr hlk hKn hRc hRs hS h dX10_value_4
/-- SendHall$Row.works(ICI)I -/
def fX11_works (E : g_E) (v0 : Int32) (v1 : Int32) (v2 : Int32) (G : g_G) : Option (Int32 × g_G) :=
  if v1 = 42 then (
    some ((v0 * v2), G))
  else
  if v1 = 43 then (
    some ((v0 + v2), G))
  else
  if v1 = 45 then (
    some ((v0 - v2), G))
  else
  if v1 = 47 then (
    if ¬ v2 = 0 then (
      if v2 = 0 then none else
      some ((v0 / v2), G))
    else (
      some (0, G)))
  else
  if v1 = 60 then (
    if v2 ≤ v0 then (
      some (0, G))
    else (
      some (1, G)))
  else
  (
    if ¬ v0 = v2 then (
      some (0, G))
    else (
      some (1, G)))
theorem sX11_works (l : Launch) (E : g_E) (D : g_D) {v0 : Int32} {v1 : Int32} {v2 : Int32} {G : g_G} {q : Int32 × g_G} (h : fX11_works E v0 v1 v2 G = some q) : gMet l E D yX11_works (ws_ yX11_works cX11_works 3 (some .int)) 1 64 [.inl v0, .inl v1, .inl v2] G (some (.int q.1)) q.2 := by
  refine gMet.of (by decide +kernel) (Nat.le_of_ble_eq_true rfl) ?_
  intro p e R s m args below meth c C hS ls hl
  have C : gC p R s m args meth c cX11_works 3 RX11 "works" (some .int) 1 64 E D := C
  obtain ⟨hx, hb, hml, hown, hts, hKn, hRc, hRs, hc1, hc2, hRf, hRl, hr, hlk, hnm⟩ := id C
  have hl : gls ls 3 [(0, .inl v0), (1, .inl v1), (2, .inl v2)] := hl
  generalize s.heap = H at hS ⊢
  unfold fX11_works at h
  refine g_iload_n hx hb hl 1 rfl dX11_works_0 ?_
  by_cases w1_0 : v1 = 42
  · refine lv_lookup (tgt := 60) (off := 59) hx hb dX11_works_1 (by decide) (by rw [w1_0]; decide) (by decide) ?_
    have h := g_ift w1_0 h
    refine g_iload_n hx hb hl 0 rfl dX11_works_60 ?_
    refine g_iload_n hx hb hl 2 rfl dX11_works_61 ?_
    refine lv_imul hx hb dX11_works_62 ?_
    exact g_iretG hx hb hr hlk hKn hRc hRs hS h dX11_works_63
  have h := g_iff w1_0 h
  by_cases w1_1 : v1 = 43
  · refine lv_lookup (tgt := 52) (off := 51) hx hb dX11_works_1 (by decide) (by rw [w1_1]; decide) (by decide) ?_
    have h := g_ift w1_1 h
    refine g_iload_n hx hb hl 0 rfl dX11_works_52 ?_
    refine g_iload_n hx hb hl 2 rfl dX11_works_53 ?_
    refine lv_iadd hx hb dX11_works_54 ?_
    exact g_iretG hx hb hr hlk hKn hRc hRs hS h dX11_works_55
  have h := g_iff w1_1 h
  by_cases w1_2 : v1 = 45
  · refine lv_lookup (tgt := 56) (off := 55) hx hb dX11_works_1 (by decide) (by rw [w1_2]; decide) (by decide) ?_
    have h := g_ift w1_2 h
    refine g_iload_n hx hb hl 0 rfl dX11_works_56 ?_
    refine g_iload_n hx hb hl 2 rfl dX11_works_57 ?_
    refine lv_isub hx hb dX11_works_58 ?_
    exact g_iretG hx hb hr hlk hKn hRc hRs hS h dX11_works_59
  have h := g_iff w1_2 h
  by_cases w1_3 : v1 = 47
  · refine lv_lookup (tgt := 64) (off := 63) hx hb dX11_works_1 (by decide) (by rw [w1_3]; decide) (by decide) ?_
    have h := g_ift w1_3 h
    refine g_iload_n hx hb hl 2 rfl dX11_works_64 ?_
    refine lv_if_ne (tgt := 72) hx hb dX11_works_65 (by decide) (fun c_65 => ?_) (fun c_65 => ?_)
    · have h := g_ift c_65 h
      refine g_iload_n hx hb hl 0 rfl dX11_works_72 ?_
      refine g_iload_n hx hb hl 2 rfl dX11_works_73 ?_
      by_cases hz74 : v2 = 0
      · exact g_no (g_ift hz74 h)
      have h := g_iff hz74 h
      refine lv_idiv hx hb dX11_works_74 hz74 ?_
      exact g_iretG hx hb hr hlk hKn hRc hRs hS h dX11_works_75
    · have h := g_iff (fun z => z c_65) h
      refine lv_iconst (v := 0) hx hb dX11_works_68 (by decide) ?_
      refine lv_goto (tgt := 75) hx hb dX11_works_69 (by decide) ?_
      exact g_iretG hx hb hr hlk hKn hRc hRs hS h dX11_works_75
  have h := g_iff w1_3 h
  by_cases w1_4 : v1 = 60
  · refine lv_lookup (tgt := 76) (off := 75) hx hb dX11_works_1 (by decide) (by rw [w1_4]; decide) (by decide) ?_
    have h := g_ift w1_4 h
    refine g_iload_n hx hb hl 0 rfl dX11_works_76 ?_
    refine g_iload_n hx hb hl 2 rfl dX11_works_77 ?_
    refine lv_icmp_ge (tgt := 85) hx hb dX11_works_78 (by decide) (fun c_78 => ?_) (fun c_78 => ?_)
    · have h := g_ift c_78 h
      refine lv_iconst (v := 0) hx hb dX11_works_85 (by decide) ?_
      exact g_iretG hx hb hr hlk hKn hRc hRs hS h dX11_works_86
    · have h := g_iff c_78 h
      refine lv_iconst (v := 1) hx hb dX11_works_81 (by decide) ?_
      refine lv_goto (tgt := 86) hx hb dX11_works_82 (by decide) ?_
      exact g_iretG hx hb hr hlk hKn hRc hRs hS h dX11_works_86
  have h := g_iff w1_4 h
  refine g_lookupD (tgt := 87) hx hb dX11_works_1 (by decide) [42, 43, 45, 47, 60] (by decide) (fun k hk => ?_) (by decide) ?_
  · simp only [List.mem_cons, List.not_mem_nil, or_false] at hk
    rcases hk with rfl | rfl | rfl | rfl | rfl
    · exact w1_0
    · exact w1_1
    · exact w1_2
    · exact w1_3
    · exact w1_4
  refine g_iload_n hx hb hl 0 rfl dX11_works_87 ?_
  refine g_iload_n hx hb hl 2 rfl dX11_works_88 ?_
  refine lv_icmp_ne (tgt := 96) hx hb dX11_works_89 (by decide) (fun c_89 => ?_) (fun c_89 => ?_)
  · have h := g_ift c_89 h
    refine lv_iconst (v := 0) hx hb dX11_works_96 (by decide) ?_
    exact g_iretG hx hb hr hlk hKn hRc hRs hS h dX11_works_97
  · have h := g_iff (fun z => z c_89) h
    refine lv_iconst (v := 1) hx hb dX11_works_92 (by decide) ?_
    refine lv_goto (tgt := 97) hx hb dX11_works_93 (by decide) ?_
    exact g_iretG hx hb hr hlk hKn hRc hRs hS h dX11_works_97
/-- SendHall$Value.value(LSendHall$Life;I)I -/
def fX12_value (E : g_E) (t : Nat) (v1 : Option Nat) (v2 : Int32) (G : g_G) : Option (Int32 × g_G) :=
  (grI G 10 10 (some t) 0).bind fun x1 =>
  if (4 : Int32) ≤ x1 then (
    (grI G 10 10 (some t) 0).bind fun x25 =>
    if ¬ x25 = (4 : Int32) then (
      (grI G 10 10 (some t) 0).bind fun x37 =>
      if ¬ x37 = (5 : Int32) then (
        (grR G 3 3 v1 6).bind fun x52 =>
        (gaI G 100 x52 v2).bind fun x56 =>
        some (x56, G))
      else (
        (grI G 3 3 v1 0).bind fun x45 =>
        some (x45, G)))
    else (
      some (v2, G)))
  else (
    (grR G 3 3 v1 5).bind fun x9 =>
    (grI G 10 10 (some t) 0).bind fun x16 =>
    (gaI G 100 x9 ((4 * v2) + x16)).bind fun x20 =>
    some (x20, G))
theorem sX12_value (l : Launch) (E : g_E) (D : g_D) {t : Nat} {v1 : Option Nat} {v2 : Int32} {G : g_G} {q : Int32 × g_G} (h : fX12_value E t v1 v2 G = some q) : gMet l E D yX12_value (ws_ yX12_value cX12_value 3 (some .int)) 1 64 [.inr (.inr (some t)), .inr (.inr v1), .inl v2] G (some (.int q.1)) q.2 := by
  refine gMet.of (by decide +kernel) (Nat.le_of_ble_eq_true rfl) ?_
  intro p e R s m args below meth c C hS ls hl
  have C : gC p R s m args meth c cX12_value 3 RX12 "value" (some .int) 1 64 E D := C
  obtain ⟨hx, hb, hml, hown, hts, hKn, hRc, hRs, hc1, hc2, hRf, hRl, hr, hlk, hnm⟩ := id C
  have hl : gls ls 3 [(0, .inr (.inr (some t))), (1, .inr (.inr v1)), (2, .inl v2)] := hl
  generalize s.heap = H at hS ⊢
  unfold fX12_value at h
  refine g_aload_n hx hb hl 0 rfl dX12_value_0 ?_
  refine g_rdI hx hb hown hts hKn hS h fd_10_10_0 rfl (Or.inl (hts _ q1574)) (fun _ z => z) dX12_value_1 (fun x1 h => ?_)
  refine lv_iconst (v := 4) hx hb dX12_value_4 (by decide) ?_
  refine lv_icmp_ge (tgt := 24) hx hb dX12_value_5 (by decide) (fun c_5 => ?_) (fun c_5 => ?_)
  · have h := g_ift c_5 h
    refine g_aload_n hx hb hl 0 rfl dX12_value_24 ?_
    refine g_rdI hx hb hown hts hKn hS h fd_10_10_0 rfl (Or.inl (hts _ q1574)) (fun _ z => z) dX12_value_25 (fun x25 h => ?_)
    refine lv_iconst (v := 4) hx hb dX12_value_28 (by decide) ?_
    refine lv_icmp_ne (tgt := 36) hx hb dX12_value_29 (by decide) (fun c_29 => ?_) (fun c_29 => ?_)
    · have h := g_ift c_29 h
      refine g_aload_n hx hb hl 0 rfl dX12_value_36 ?_
      refine g_rdI hx hb hown hts hKn hS h fd_10_10_0 rfl (Or.inl (hts _ q1574)) (fun _ z => z) dX12_value_37 (fun x37 h => ?_)
      refine lv_iconst (v := 5) hx hb dX12_value_40 (by decide) ?_
      refine lv_icmp_ne (tgt := 51) hx hb dX12_value_41 (by decide) (fun c_41 => ?_) (fun c_41 => ?_)
      · have h := g_ift c_41 h
        refine g_aload_n hx hb hl 1 rfl dX12_value_51 ?_
        refine g_rdR hx hb hown hts hKn hS h fd_3_3_6 rfl (Or.inr ⟨_, gNest_use rfl (hKn.2.2.2.2.1 _ (gNest_in q556 rfl))⟩) (fun _ z => z) dX12_value_52 (fun x52 h => ?_)
        refine g_iload_n hx hb hl 2 rfl dX12_value_55 ?_
        refine g_ialoadG hx hb hKn hS h dX12_value_56 (fun x56 h => ?_)
        exact g_iretG hx hb hr hlk hKn hRc hRs hS h dX12_value_57
      · have h := g_iff (fun z => z c_41) h
        refine g_aload_n hx hb hl 1 rfl dX12_value_44 ?_
        refine g_rdI hx hb hown hts hKn hS h fd_3_3_0 rfl (Or.inr ⟨_, gNest_use rfl (hKn.2.2.2.2.1 _ (gNest_in q539 rfl))⟩) (fun _ z => z) dX12_value_45 (fun x45 h => ?_)
        refine lv_goto (tgt := 57) hx hb dX12_value_48 (by decide) ?_
        exact g_iretG hx hb hr hlk hKn hRc hRs hS h dX12_value_57
    · have h := g_iff (fun z => z c_29) h
      refine g_iload_n hx hb hl 2 rfl dX12_value_32 ?_
      refine lv_goto (tgt := 57) hx hb dX12_value_33 (by decide) ?_
      exact g_iretG hx hb hr hlk hKn hRc hRs hS h dX12_value_57
  · have h := g_iff c_5 h
    refine g_aload_n hx hb hl 1 rfl dX12_value_8 ?_
    refine g_rdR hx hb hown hts hKn hS h fd_3_3_5 rfl (Or.inr ⟨_, gNest_use rfl (hKn.2.2.2.2.1 _ (gNest_in q552 rfl))⟩) (fun _ z => z) dX12_value_9 (fun x9 h => ?_)
    refine lv_iconst (v := 4) hx hb dX12_value_12 (by decide) ?_
    refine g_iload_n hx hb hl 2 rfl dX12_value_13 ?_
    refine lv_imul hx hb dX12_value_14 ?_
    refine g_aload_n hx hb hl 0 rfl dX12_value_15 ?_
    refine g_rdI hx hb hown hts hKn hS h fd_10_10_0 rfl (Or.inl (hts _ q1574)) (fun _ z => z) dX12_value_16 (fun x16 h => ?_)
    refine lv_iadd hx hb dX12_value_19 ?_
    refine g_ialoadG hx hb hKn hS h dX12_value_20 (fun x20 h => ?_)
    refine lv_goto (tgt := 57) hx hb dX12_value_21 (by decide) ?_
    exact g_iretG hx hb hr hlk hKn hRc hRs hS h dX12_value_57
/-- SendHall.clocks(II)V -/
def fX1_clocks (E : g_E) (t : Nat) (v1 : Int32) (v2 : Int32) (G : g_G) : Option (g_G) :=
  (grR G 1 1 (some t) 6).bind fun x2 =>
  (gaI G 100 x2 v1).bind fun x6 =>
  if x6 < v2 then (
    (grR G 1 1 (some t) 7).bind fun x12 =>
    (gaI G 100 x12 v1).bind fun x17 =>
    (grR G 1 1 (some t) 6).bind fun x20 =>
    (gaI G 100 x20 v1).bind fun x24 =>
    (gsaI E G x12 v1 (x17 + (v2 - x24))).bind fun G27 =>
    (grR G27 1 1 (some t) 6).bind fun x29 =>
    (gsaI E G27 x29 v1 v2).bind fun G34 =>
    some G34)
  else (
    some G)
theorem sX1_clocks (l : Launch) (E : g_E) (D : g_D) {t : Nat} {v1 : Int32} {v2 : Int32} {G : g_G} {q : g_G} (h : fX1_clocks E t v1 v2 G = some q) : gMet l E D yX1_clocks (ws_ yX1_clocks cX1_clocks 3 (none)) 1 64 [.inr (.inr (some t)), .inl v1, .inl v2] G none q := by
  refine gMet.of (by decide +kernel) (Nat.le_of_ble_eq_true rfl) ?_
  intro p e R s m args below meth c C hS ls hl
  have C : gC p R s m args meth c cX1_clocks 3 RX1 "clocks" (none) 1 64 E D := C
  obtain ⟨hx, hb, hml, hown, hts, hKn, hRc, hRs, hc1, hc2, hRf, hRl, hr, hlk, hnm⟩ := id C
  have hl : gls ls 3 [(0, .inr (.inr (some t))), (1, .inl v1), (2, .inl v2)] := hl
  generalize s.heap = H at hS ⊢
  unfold fX1_clocks at h
  refine g_iload_n hx hb hl 2 rfl dX1_clocks_0 ?_
  refine g_aload_n hx hb hl 0 rfl dX1_clocks_1 ?_
  refine g_rdR hx hb hown hts hKn hS h fd_1_1_6 rfl (Or.inl (hts _ q603)) (fun _ z => z) dX1_clocks_2 (fun x2 h => ?_)
  refine g_iload_n hx hb hl 1 rfl dX1_clocks_5 ?_
  refine g_ialoadG hx hb hKn hS h dX1_clocks_6 (fun x6 h => ?_)
  refine lv_icmp_gt (tgt := 11) hx hb dX1_clocks_7 (by decide) (fun c_7 => ?_) (fun c_7 => ?_)
  · have h := g_ift c_7 h
    refine g_aload_n hx hb hl 0 rfl dX1_clocks_11 ?_
    refine g_rdR hx hb hown hts hKn hS h fd_1_1_7 rfl (Or.inl (hts _ q604)) (fun _ z => z) dX1_clocks_12 (fun x12 h => ?_)
    refine g_iload_n hx hb hl 1 rfl dX1_clocks_15 ?_
    refine lv_dup2_11 hx hb dX1_clocks_16 rfl (by first | exact va_rf_cat _ | rfl | exact g_catA _) ?_
    refine g_ialoadG hx hb hKn hS h dX1_clocks_17 (fun x17 h => ?_)
    refine g_iload_n hx hb hl 2 rfl dX1_clocks_18 ?_
    refine g_aload_n hx hb hl 0 rfl dX1_clocks_19 ?_
    refine g_rdR hx hb hown hts hKn hS h fd_1_1_6 rfl (Or.inl (hts _ q603)) (fun _ z => z) dX1_clocks_20 (fun x20 h => ?_)
    refine g_iload_n hx hb hl 1 rfl dX1_clocks_23 ?_
    refine g_ialoadG hx hb hKn hS h dX1_clocks_24 (fun x24 h => ?_)
    refine lv_isub hx hb dX1_clocks_25 ?_
    refine lv_iadd hx hb dX1_clocks_26 ?_
    refine g_iastoreG hx hb hKn hS h dX1_clocks_27 (fun G27 h H locs hS => ?_)
    refine g_aload_n hx hb hl 0 rfl dX1_clocks_28 ?_
    refine g_rdR hx hb hown hts hKn hS h fd_1_1_6 rfl (Or.inl (hts _ q603)) (fun _ z => z) dX1_clocks_29 (fun x29 h => ?_)
    refine g_iload_n hx hb hl 1 rfl dX1_clocks_32 ?_
    refine g_iload_n hx hb hl 2 rfl dX1_clocks_33 ?_
    refine g_iastoreG hx hb hKn hS h dX1_clocks_34 (fun G34 h H locs hS => ?_)
    exact g_vretG hx hb hr hlk hKn hRc hRs hS h dX1_clocks_35
  · have h := g_iff c_7 h
    exact g_vretG hx hb hr hlk hKn hRc hRs hS h dX1_clocks_10
/-- SendHall.nextChoice()I -/
def fX1_nextChoice (E : g_E) (t : Nat) (G : g_G) : Option (Int32 × g_G) :=
  (grI G 1 1 (some t) 25).bind fun x1 =>
  (grI G 1 1 (some t) 26).bind fun x5 =>
  if x5 ≤ x1 then (
    some ((-1), G))
  else (
    (grR G 1 1 (some t) 23).bind fun x12 =>
    (grI G 1 1 (some t) 25).bind fun x16 =>
    (gaI G 100 x12 x16).bind fun x19 =>
    some (x19, G))
theorem sX1_nextChoice (l : Launch) (E : g_E) (D : g_D) {t : Nat} {G : g_G} {q : Int32 × g_G} (h : fX1_nextChoice E t G = some q) : gMet l E D yX1_nextChoice (ws_ yX1_nextChoice cX1_nextChoice 1 (some .int)) 1 64 [.inr (.inr (some t))] G (some (.int q.1)) q.2 := by
  refine gMet.of (by decide +kernel) (Nat.le_of_ble_eq_true rfl) ?_
  intro p e R s m args below meth c C hS ls hl
  have C : gC p R s m args meth c cX1_nextChoice 1 RX1 "nextChoice" (some .int) 1 64 E D := C
  obtain ⟨hx, hb, hml, hown, hts, hKn, hRc, hRs, hc1, hc2, hRf, hRl, hr, hlk, hnm⟩ := id C
  have hl : gls ls 1 [(0, .inr (.inr (some t)))] := hl
  generalize s.heap = H at hS ⊢
  unfold fX1_nextChoice at h
  refine g_aload_n hx hb hl 0 rfl dX1_nextChoice_0 ?_
  refine g_rdI hx hb hown hts hKn hS h fd_1_1_25 rfl (Or.inl (hts _ q622)) (fun _ z => z) dX1_nextChoice_1 (fun x1 h => ?_)
  refine g_aload_n hx hb hl 0 rfl dX1_nextChoice_4 ?_
  refine g_rdI hx hb hown hts hKn hS h fd_1_1_26 rfl (Or.inl (hts _ q623)) (fun _ z => z) dX1_nextChoice_5 (fun x5 h => ?_)
  refine lv_icmp_ge (tgt := 23) hx hb dX1_nextChoice_8 (by decide) (fun c_8 => ?_) (fun c_8 => ?_)
  · have h := g_ift c_8 h
    refine lv_iconst (v := (-1)) hx hb dX1_nextChoice_23 (by decide) ?_
    exact g_iretG hx hb hr hlk hKn hRc hRs hS h dX1_nextChoice_24
  · have h := g_iff c_8 h
    refine g_aload_n hx hb hl 0 rfl dX1_nextChoice_11 ?_
    refine g_rdR hx hb hown hts hKn hS h fd_1_1_23 rfl (Or.inl (hts _ q620)) (fun _ z => z) dX1_nextChoice_12 (fun x12 h => ?_)
    refine g_aload_n hx hb hl 0 rfl dX1_nextChoice_15 ?_
    refine g_rdI hx hb hown hts hKn hS h fd_1_1_25 rfl (Or.inl (hts _ q622)) (fun _ z => z) dX1_nextChoice_16 (fun x16 h => ?_)
    refine g_ialoadG hx hb hKn hS h dX1_nextChoice_19 (fun x19 h => ?_)
    refine lv_goto (tgt := 24) hx hb dX1_nextChoice_20 (by decide) ?_
    exact g_iretG hx hb hr hlk hKn hRc hRs hS h dX1_nextChoice_24
/-- SendHall.right(Z)V -/
def fX1_right (E : g_E) (v0 : Int32) (G : g_G) : Option ((g_G) ⊕ gX) :=
  if ¬ v0 = 0 then (
    some (.inl G))
  else (
    (gnewO E G 21 6).bind fun z4 =>
    (gexI E z4.2 21 z4.1).bind fun G8 =>
    (gthr E G8 21 (some z4.1)).bind fun b11 => some (.inr (21, b11, G8)))
theorem sX1_right (l : Launch) (E : g_E) (D : g_D) (hlT : l.stackTraces = false) {v0 : Int32} {G : g_G} {q : (g_G) ⊕ gX} (h : fX1_right E v0 G = some q) : gMetX l E D yX1_right (ws_ yX1_right cX1_right 1 (none)) 8 120 [.inl v0] G gokV q := by
  refine gMetX.of (by decide +kernel) (Nat.le_of_ble_eq_true rfl) ?_
  intro p e R s m args below meth c C htab hS ls hl
  have C : gC p R s m args meth c cX1_right 1 RX1 "right" (none) 8 120 E D := C
  obtain ⟨hx, hb, hml, hown, hts, hKn, hRc, hRs, hc1, hc2, hRf, hRl, hr, hlk, hnm⟩ := id C
  have hl : gls ls 1 [(0, .inl v0)] := hl
  generalize hH0 : s.heap = H at hS ⊢
  unfold fX1_right at h
  refine g_iload_n hx hb hl 0 rfl dX1_right_0 ?_
  refine lv_if_ne (tgt := 12) hx hb dX1_right_1 (by decide) (fun c_1 => ?_) (fun c_1 => ?_)
  · have h := g_ift c_1 h
    exact g_retX (g_vretG hx hb hr hlk hKn hRc hRs hS rfl dX1_right_12) h rfl
  · have h := g_iff (fun z => z c_1) h
    refine g_newG (k := 21) hx hb hown hts hKn hRc hRs hS h (by decide) (by decide) (hts _ q1096) (hts _ q187) (hts _ q121) dX1_right_4 (fun z4 h H locs cells slots hS => ?_)
    refine lv_dup hx hb dX1_right_7 (by first | exact va_rf_cat _ | rfl | exact g_catA _) ?_
    refine g_excI (k := 21) (nK := 6) (Y0 := "java/lang/IllegalArgumentException") (names := ["java/lang/RuntimeException", "java/lang/Exception"]) (rs := [.inr (.inr (some z4.1))]) hx hb hml hown hts hKn hc1.2 hlT hS hl h (by decide) (by decide +kernel) (by decide +kernel) (gxa_0 hts hKn hc1.2) (gxk_21 hts) rfl (Nat.le_of_ble_eq_true rfl) ⟨by rw [hRf]; exact Nat.le_of_ble_eq_true rfl, by rw [hRl]; exact Nat.le_of_ble_eq_true rfl⟩ dX1_right_8 (fun G8 h H locs hS => ?_)
    obtain ⟨b11, hb11, h⟩ := g_bnd h
    obtain ⟨hr11, hk11, hB11⟩ := g_thr hb11
    cases hr11
    exact g_throwX hx hb dX1_right_11 (g_outX (by rw [htab]; decide) hlk hKn hRc hRs hS (by decide) (by decide) hB11 hk11 h)
/-- SendHall.there(Z)V -/
def fX1_there (E : g_E) (v0 : Int32) (G : g_G) : Option ((g_G) ⊕ gX) :=
  if ¬ v0 = 0 then (
    some (.inl G))
  else (
    (gnewO E G 22 6).bind fun z4 =>
    (gexI E z4.2 22 z4.1).bind fun G8 =>
    (gthr E G8 22 (some z4.1)).bind fun b11 => some (.inr (22, b11, G8)))
theorem sX1_there (l : Launch) (E : g_E) (D : g_D) (hlT : l.stackTraces = false) {v0 : Int32} {G : g_G} {q : (g_G) ⊕ gX} (h : fX1_there E v0 G = some q) : gMetX l E D yX1_there (ws_ yX1_there cX1_there 1 (none)) 8 120 [.inl v0] G gokV q := by
  refine gMetX.of (by decide +kernel) (Nat.le_of_ble_eq_true rfl) ?_
  intro p e R s m args below meth c C htab hS ls hl
  have C : gC p R s m args meth c cX1_there 1 RX1 "there" (none) 8 120 E D := C
  obtain ⟨hx, hb, hml, hown, hts, hKn, hRc, hRs, hc1, hc2, hRf, hRl, hr, hlk, hnm⟩ := id C
  have hl : gls ls 1 [(0, .inl v0)] := hl
  generalize hH0 : s.heap = H at hS ⊢
  unfold fX1_there at h
  refine g_iload_n hx hb hl 0 rfl dX1_there_0 ?_
  refine lv_if_ne (tgt := 12) hx hb dX1_there_1 (by decide) (fun c_1 => ?_) (fun c_1 => ?_)
  · have h := g_ift c_1 h
    exact g_retX (g_vretG hx hb hr hlk hKn hRc hRs hS rfl dX1_there_12) h rfl
  · have h := g_iff (fun z => z c_1) h
    refine g_newG (k := 22) hx hb hown hts hKn hRc hRs hS h (by decide) (by decide) (hts _ q1724) (hts _ q1725) (hts _ q154) dX1_there_4 (fun z4 h H locs cells slots hS => ?_)
    refine lv_dup hx hb dX1_there_7 (by first | exact va_rf_cat _ | rfl | exact g_catA _) ?_
    refine g_excI (k := 22) (nK := 6) (Y0 := "java/util/NoSuchElementException") (names := ["java/lang/RuntimeException", "java/lang/Exception"]) (rs := [.inr (.inr (some z4.1))]) hx hb hml hown hts hKn hc1.2 hlT hS hl h (by decide) (by decide +kernel) (by decide +kernel) (gxa_1 hts hKn hc1.2) (gxk_22 hts) rfl (Nat.le_of_ble_eq_true rfl) ⟨by rw [hRf]; exact Nat.le_of_ble_eq_true rfl, by rw [hRl]; exact Nat.le_of_ble_eq_true rfl⟩ dX1_there_8 (fun G8 h H locs hS => ?_)
    obtain ⟨b11, hb11, h⟩ := g_bnd h
    obtain ⟨hr11, hk11, hB11⟩ := g_thr hb11
    cases hr11
    exact g_throwX hx hb dX1_there_11 (g_outX (by rw [htab]; decide) hlk hKn hRc hRs hS (by decide) (by decide) hB11 hk11 h)
/-- SendHall.within(III)Z -/
def fX1_within (E : g_E) (v0 : Int32) (v1 : Int32) (v2 : Int32) (G : g_G) : Option (Int32 × g_G) :=
  if v0 < v1 then (
    if (0 : Int32) = 0 ∨ (0 : Int32) = 1 then some (0, G) else none)
  else (
    if v2 < v0 then (
      if (0 : Int32) = 0 ∨ (0 : Int32) = 1 then some (0, G) else none)
    else (
      if (1 : Int32) = 0 ∨ (1 : Int32) = 1 then some (1, G) else none))
theorem sX1_within (l : Launch) (E : g_E) (D : g_D) {v0 : Int32} {v1 : Int32} {v2 : Int32} {G : g_G} {q : Int32 × g_G} (h : fX1_within E v0 v1 v2 G = some q) : gMet l E D yX1_within (ws_ yX1_within cX1_within 3 (some .boolean)) 1 64 [.inl v0, .inl v1, .inl v2] G (some (.int q.1)) q.2 := by
  refine gMet.of (by decide +kernel) (Nat.le_of_ble_eq_true rfl) ?_
  intro p e R s m args below meth c C hS ls hl
  have C : gC p R s m args meth c cX1_within 3 RX1 "within" (some .boolean) 1 64 E D := C
  obtain ⟨hx, hb, hml, hown, hts, hKn, hRc, hRs, hc1, hc2, hRf, hRl, hr, hlk, hnm⟩ := id C
  have hl : gls ls 3 [(0, .inl v0), (1, .inl v1), (2, .inl v2)] := hl
  generalize s.heap = H at hS ⊢
  unfold fX1_within at h
  refine g_iload_n hx hb hl 0 rfl dX1_within_0 ?_
  refine g_iload_n hx hb hl 1 rfl dX1_within_1 ?_
  refine lv_icmp_lt (tgt := 14) hx hb dX1_within_2 (by decide) (fun c_2 => ?_) (fun c_2 => ?_)
  · have h := g_ift c_2 h
    refine lv_iconst (v := 0) hx hb dX1_within_14 (by decide) ?_
    exact g_zretG hx hb hr hlk hKn hRc hRs hS h dX1_within_15
  · have h := g_iff c_2 h
    refine g_iload_n hx hb hl 0 rfl dX1_within_5 ?_
    refine g_iload_n hx hb hl 2 rfl dX1_within_6 ?_
    refine lv_icmp_gt (tgt := 14) hx hb dX1_within_7 (by decide) (fun c_7 => ?_) (fun c_7 => ?_)
    · have h := g_ift c_7 h
      refine lv_iconst (v := 0) hx hb dX1_within_14 (by decide) ?_
      exact g_zretG hx hb hr hlk hKn hRc hRs hS h dX1_within_15
    · have h := g_iff c_7 h
      refine lv_iconst (v := 1) hx hb dX1_within_10 (by decide) ?_
      refine lv_goto (tgt := 15) hx hb dX1_within_11 (by decide) ?_
      exact g_zretG hx hb hr hlk hKn hRc hRs hS h dX1_within_15
/-- SendHall$Life.begun(I)I -/
def fX3_begun_b48 (E : g_E) (k4 : Nat → Int32 → Int32 → Int32 → g_G → Option (Int32 × g_G)) (t : Nat) (v1 : Int32) (v2 : Int32) (v3 : Int32) (G : g_G) : Option (Int32 × g_G) :=
  k4 t v1 v2 (v3 + 1) G
def fX3_begun_b4 (E : g_E) : Nat → Nat → Int32 → Int32 → Int32 → g_G → Option (Int32 × g_G)
  | 0, _, _, _, _, _ => none
  | n + 1, t, v1, v2, v3, G =>
    (grI G 3 3 (some t) 1).bind fun x6 =>
    if x6 ≤ v3 then (
      some (v2, G))
    else (
      (grR G 3 3 (some t) 8).bind fun x13 =>
      (gaI G 100 x13 v3).bind fun x17 =>
      if (8 : Int32) = 0 then none else
      if ¬ (x17 / 8) = v1 then (
        fX3_begun_b48 E (fX3_begun_b4 E n) t v1 v2 v3 G)
      else (
        (grR G 3 3 (some t) 11).bind fun x26 =>
        (gaI G 100 x26 v3).bind fun x30 =>
        if 0 ≤ x30 then (
          fX3_begun_b48 E (fX3_begun_b4 E n) t v1 v2 v3 G)
        else (
          (grR G 3 3 (some t) 8).bind fun x37 =>
          (gaI G 100 x37 v3).bind fun x41 =>
          if (8 : Int32) = 0 then none else
          fX3_begun_b48 E (fX3_begun_b4 E n) t v1 (v2 ||| (1 <<< ((x41 - x41 / 8 * 8) &&& 31))) v3 G)))
def fX3_begun (E : g_E) (t : Nat) (v1 : Int32) (G : g_G) : Option (Int32 × g_G) :=
  fX3_begun_b4 E gFU t v1 0 0 G
theorem sX3_begun_b48 {p : Program} {l : Launch} {e : Env} {R : Room} {s : State} {m : MethodId} {args : Array Value} {below : List Frame} {meth : Method} {c : Code} {E : g_E} {D : g_D} (C : gC p R s m args meth c cX3_begun 4 RX3 "begun" (some .int) 1 64 E D) {k4 : Nat → Int32 → Int32 → Int32 → g_G → Option (Int32 × g_G)} (hk4 : ∀ (t : Nat) (v1 : Int32) (v2 : Int32) (v3 : Int32) (G : g_G) (q : Int32 × g_G), k4 t v1 v2 v3 G = some q → ∀ (H : Heap) (locs : List Loc) (cells slots : Nat) (ls : Array Slot), gSt E D G H locs → gls ls 4 [(0, .inr (.inr (some t))), (1, .inl v1), (2, .inl v2), (3, .inl v3)] → gT p l e R s m args below meth c E D H locs cells slots (some (.int q.1)) q.2 (F0 m 4 ls [])) : ∀ (t : Nat) (v1 : Int32) (v2 : Int32) (v3 : Int32) (G : g_G) (q : Int32 × g_G), fX3_begun_b48 E k4 t v1 v2 v3 G = some q → ∀ (H : Heap) (locs : List Loc) (cells slots : Nat) (ls : Array Slot), gSt E D G H locs → gls ls 4 [(0, .inr (.inr (some t))), (1, .inl v1), (2, .inl v2), (3, .inl v3)] → gT p l e R s m args below meth c E D H locs cells slots (some (.int q.1)) q.2 (F0 m 48 ls []) := by
  obtain ⟨hx, hb, hml, hown, hts, hKn, hRc, hRs, hc1, hc2, hRf, hRl, hr, hlk, hnm⟩ := id C
  intro t v1 v2 v3 G q h H locs cells slots ls hS hl
  unfold fX3_begun_b48 at h
  refine g_iinc (l1 := [(3, .inl (v3 + 1)), (0, .inr (.inr (some t))), (1, .inl v1), (2, .inl v2)]) (v := (v3 + 1)) hx hb hl (k := 3) rfl (by rfl) (by decide) rfl dX3_begun_48 (fun ls hl => ?_)
  refine lv_goto (tgt := 4) hx hb dX3_begun_51 (by decide) ?_
  exact hk4 _ _ _ _ _ _ h _ _ _ _ _ hS (gls_sub hl [1, 2, 3, 0] rfl)
theorem sX3_begun_b4 {p : Program} {l : Launch} {e : Env} {R : Room} {s : State} {m : MethodId} {args : Array Value} {below : List Frame} {meth : Method} {c : Code} {E : g_E} {D : g_D} (C : gC p R s m args meth c cX3_begun 4 RX3 "begun" (some .int) 1 64 E D) : ∀ (n : Nat) (t : Nat) (v1 : Int32) (v2 : Int32) (v3 : Int32) (G : g_G) (q : Int32 × g_G), fX3_begun_b4 E n t v1 v2 v3 G = some q → ∀ (H : Heap) (locs : List Loc) (cells slots : Nat) (ls : Array Slot), gSt E D G H locs → gls ls 4 [(0, .inr (.inr (some t))), (1, .inl v1), (2, .inl v2), (3, .inl v3)] → gT p l e R s m args below meth c E D H locs cells slots (some (.int q.1)) q.2 (F0 m 4 ls []) := by
  obtain ⟨hx, hb, hml, hown, hts, hKn, hRc, hRs, hc1, hc2, hRf, hRl, hr, hlk, hnm⟩ := id C
  intro n
  induction n with
  | zero =>
    intro t v1 v2 v3 G q h
    exact g_no h
  | succ n ih =>
    intro t v1 v2 v3 G q h H locs cells slots ls hS hl
    rw [fX3_begun_b4] at h
    refine g_iload_n hx hb hl 3 rfl dX3_begun_4 ?_
    refine g_aload_n hx hb hl 0 rfl dX3_begun_5 ?_
    refine g_rdI hx hb hown hts hKn hS h fd_3_3_1 rfl (Or.inl (hts _ q542)) (fun _ z => z) dX3_begun_6 (fun x6 h => ?_)
    refine lv_icmp_ge (tgt := 54) hx hb dX3_begun_9 (by decide) (fun c_9 => ?_) (fun c_9 => ?_)
    · have h := g_ift c_9 h
      refine g_iload_n hx hb hl 2 rfl dX3_begun_54 ?_
      exact g_iretG hx hb hr hlk hKn hRc hRs hS h dX3_begun_55
    · have h := g_iff c_9 h
      refine g_aload_n hx hb hl 0 rfl dX3_begun_12 ?_
      refine g_rdR hx hb hown hts hKn hS h fd_3_3_8 rfl (Or.inl (hts _ q560)) (fun _ z => z) dX3_begun_13 (fun x13 h => ?_)
      refine g_iload_n hx hb hl 3 rfl dX3_begun_16 ?_
      refine g_ialoadG hx hb hKn hS h dX3_begun_17 (fun x17 h => ?_)
      refine lv_bipush (v := 8) hx hb dX3_begun_18 (by decide) ?_
      by_cases hz20 : (8 : Int32) = 0
      · exact g_no (g_ift hz20 h)
      have h := g_iff hz20 h
      refine lv_idiv hx hb dX3_begun_20 hz20 ?_
      refine g_iload_n hx hb hl 1 rfl dX3_begun_21 ?_
      refine lv_icmp_ne (tgt := 48) hx hb dX3_begun_22 (by decide) (fun c_22 => ?_) (fun c_22 => ?_)
      · have h := g_ift c_22 h
        exact sX3_begun_b48 C ih _ _ _ _ _ _ h _ _ _ _ _ hS (gls_sub hl [0, 1, 2, 3] rfl)
      · have h := g_iff (fun z => z c_22) h
        refine g_aload_n hx hb hl 0 rfl dX3_begun_25 ?_
        refine g_rdR hx hb hown hts hKn hS h fd_3_3_11 rfl (Or.inl (hts _ q564)) (fun _ z => z) dX3_begun_26 (fun x26 h => ?_)
        refine g_iload_n hx hb hl 3 rfl dX3_begun_29 ?_
        refine g_ialoadG hx hb hKn hS h dX3_begun_30 (fun x30 h => ?_)
        refine lv_if_ge (tgt := 48) hx hb dX3_begun_31 (by decide) (fun c_31 => ?_) (fun c_31 => ?_)
        · have h := g_ift c_31 h
          exact sX3_begun_b48 C ih _ _ _ _ _ _ h _ _ _ _ _ hS (gls_sub hl [0, 1, 2, 3] rfl)
        · have h := g_iff c_31 h
          refine g_iload_n hx hb hl 2 rfl dX3_begun_34 ?_
          refine lv_iconst (v := 1) hx hb dX3_begun_35 (by decide) ?_
          refine g_aload_n hx hb hl 0 rfl dX3_begun_36 ?_
          refine g_rdR hx hb hown hts hKn hS h fd_3_3_8 rfl (Or.inl (hts _ q560)) (fun _ z => z) dX3_begun_37 (fun x37 h => ?_)
          refine g_iload_n hx hb hl 3 rfl dX3_begun_40 ?_
          refine g_ialoadG hx hb hKn hS h dX3_begun_41 (fun x41 h => ?_)
          refine lv_bipush (v := 8) hx hb dX3_begun_42 (by decide) ?_
          by_cases hz44 : (8 : Int32) = 0
          · exact g_no (g_ift hz44 h)
          have h := g_iff hz44 h
          refine lv_irem hx hb dX3_begun_44 hz44 ?_
          refine lv_ishl hx hb dX3_begun_45 ?_
          refine lv_ior hx hb dX3_begun_46 ?_
          refine g_istore_n (l1 := [(2, .inl (v2 ||| (1 <<< ((x41 - x41 / 8 * 8) &&& 31)))), (0, .inr (.inr (some t))), (1, .inl v1), (3, .inl v3)]) hx hb hl (by decide) rfl dX3_begun_47 (fun ls hl => ?_)
          exact sX3_begun_b48 C ih _ _ _ _ _ _ h _ _ _ _ _ hS (gls_sub hl [1, 2, 0, 3] rfl)
theorem sX3_begun (l : Launch) (E : g_E) (D : g_D) {t : Nat} {v1 : Int32} {G : g_G} {q : Int32 × g_G} (h : fX3_begun E t v1 G = some q) : gMet l E D yX3_begun (ws_ yX3_begun cX3_begun 4 (some .int)) 1 64 [.inr (.inr (some t)), .inl v1] G (some (.int q.1)) q.2 := by
  refine gMet.of (by decide +kernel) (Nat.le_of_ble_eq_true rfl) ?_
  intro p e R s m args below meth c C hS ls hl
  have C : gC p R s m args meth c cX3_begun 4 RX3 "begun" (some .int) 1 64 E D := C
  obtain ⟨hx, hb, hml, hown, hts, hKn, hRc, hRs, hc1, hc2, hRf, hRl, hr, hlk, hnm⟩ := id C
  have hl : gls ls 4 [(0, .inr (.inr (some t))), (1, .inl v1)] := hl
  generalize s.heap = H at hS ⊢
  unfold fX3_begun at h
  refine lv_iconst (v := 0) hx hb dX3_begun_0 (by decide) ?_
  refine g_istore_n (l1 := [(2, .inl 0), (0, .inr (.inr (some t))), (1, .inl v1)]) hx hb hl (by decide) rfl dX3_begun_1 (fun ls hl => ?_)
  refine lv_iconst (v := 0) hx hb dX3_begun_2 (by decide) ?_
  refine g_istore_n (l1 := [(3, .inl 0), (2, .inl 0), (0, .inr (.inr (some t))), (1, .inl v1)]) hx hb hl (by decide) rfl dX3_begun_3 (fun ls hl => ?_)
  exact sX3_begun_b4 C gFU _ _ _ _ _ _ h _ _ _ _ _ hS (gls_sub hl [2, 3, 1, 0] rfl)
/-- SendHall$Life.first(III)I -/
def fX3_first_b42 (E : g_E) (k3 : Nat → Int32 → Int32 → Int32 → Int32 → g_G → Option (Int32 × g_G)) (t : Nat) (v1 : Int32) (v2 : Int32) (v3 : Int32) (v4 : Int32) (G : g_G) : Option (Int32 × g_G) :=
  k3 t v1 v2 v3 (v4 + 1) G
def fX3_first_b3 (E : g_E) : Nat → Nat → Int32 → Int32 → Int32 → Int32 → g_G → Option (Int32 × g_G)
  | 0, _, _, _, _, _, _ => none
  | n + 1, t, v1, v2, v3, v4, G =>
    (grI G 3 3 (some t) 1).bind fun x6 =>
    if x6 ≤ v4 then (
      some ((-1), G))
    else (
      (grR G 3 3 (some t) 8).bind fun x13 =>
      (gaI G 100 x13 v4).bind fun x18 =>
      if ¬ x18 = ((8 * v1) + v2) then (
        fX3_first_b42 E (fX3_first_b3 E n) t v1 v2 v3 v4 G)
      else (
        (grR G 3 3 (some t) 9).bind fun x29 =>
        (gaI G 100 x29 v4).bind fun x34 =>
        if ¬ x34 = v3 then (
          fX3_first_b42 E (fX3_first_b3 E n) t v1 v2 v3 v4 G)
        else (
          some (v4, G))))
def fX3_first (E : g_E) (t : Nat) (v1 : Int32) (v2 : Int32) (v3 : Int32) (G : g_G) : Option (Int32 × g_G) :=
  fX3_first_b3 E gFU t v1 v2 v3 0 G
theorem sX3_first_b42 {p : Program} {l : Launch} {e : Env} {R : Room} {s : State} {m : MethodId} {args : Array Value} {below : List Frame} {meth : Method} {c : Code} {E : g_E} {D : g_D} (C : gC p R s m args meth c cX3_first 5 RX3 "first" (some .int) 1 64 E D) {k3 : Nat → Int32 → Int32 → Int32 → Int32 → g_G → Option (Int32 × g_G)} (hk3 : ∀ (t : Nat) (v1 : Int32) (v2 : Int32) (v3 : Int32) (v4 : Int32) (G : g_G) (q : Int32 × g_G), k3 t v1 v2 v3 v4 G = some q → ∀ (H : Heap) (locs : List Loc) (cells slots : Nat) (ls : Array Slot), gSt E D G H locs → gls ls 5 [(0, .inr (.inr (some t))), (1, .inl v1), (2, .inl v2), (3, .inl v3), (4, .inl v4)] → gT p l e R s m args below meth c E D H locs cells slots (some (.int q.1)) q.2 (F0 m 3 ls [])) : ∀ (t : Nat) (v1 : Int32) (v2 : Int32) (v3 : Int32) (v4 : Int32) (G : g_G) (q : Int32 × g_G), fX3_first_b42 E k3 t v1 v2 v3 v4 G = some q → ∀ (H : Heap) (locs : List Loc) (cells slots : Nat) (ls : Array Slot), gSt E D G H locs → gls ls 5 [(0, .inr (.inr (some t))), (1, .inl v1), (2, .inl v2), (3, .inl v3), (4, .inl v4)] → gT p l e R s m args below meth c E D H locs cells slots (some (.int q.1)) q.2 (F0 m 42 ls []) := by
  obtain ⟨hx, hb, hml, hown, hts, hKn, hRc, hRs, hc1, hc2, hRf, hRl, hr, hlk, hnm⟩ := id C
  intro t v1 v2 v3 v4 G q h H locs cells slots ls hS hl
  unfold fX3_first_b42 at h
  refine g_iinc (l1 := [(4, .inl (v4 + 1)), (0, .inr (.inr (some t))), (1, .inl v1), (2, .inl v2), (3, .inl v3)]) (v := (v4 + 1)) hx hb hl (k := 4) rfl (by rfl) (by decide) rfl dX3_first_42 (fun ls hl => ?_)
  refine lv_goto (tgt := 3) hx hb dX3_first_45 (by decide) ?_
  exact hk3 _ _ _ _ _ _ _ h _ _ _ _ _ hS (gls_sub hl [1, 2, 3, 4, 0] rfl)
theorem sX3_first_b3 {p : Program} {l : Launch} {e : Env} {R : Room} {s : State} {m : MethodId} {args : Array Value} {below : List Frame} {meth : Method} {c : Code} {E : g_E} {D : g_D} (C : gC p R s m args meth c cX3_first 5 RX3 "first" (some .int) 1 64 E D) : ∀ (n : Nat) (t : Nat) (v1 : Int32) (v2 : Int32) (v3 : Int32) (v4 : Int32) (G : g_G) (q : Int32 × g_G), fX3_first_b3 E n t v1 v2 v3 v4 G = some q → ∀ (H : Heap) (locs : List Loc) (cells slots : Nat) (ls : Array Slot), gSt E D G H locs → gls ls 5 [(0, .inr (.inr (some t))), (1, .inl v1), (2, .inl v2), (3, .inl v3), (4, .inl v4)] → gT p l e R s m args below meth c E D H locs cells slots (some (.int q.1)) q.2 (F0 m 3 ls []) := by
  obtain ⟨hx, hb, hml, hown, hts, hKn, hRc, hRs, hc1, hc2, hRf, hRl, hr, hlk, hnm⟩ := id C
  intro n
  induction n with
  | zero =>
    intro t v1 v2 v3 v4 G q h
    exact g_no h
  | succ n ih =>
    intro t v1 v2 v3 v4 G q h H locs cells slots ls hS hl
    rw [fX3_first_b3] at h
    refine g_iload hx hb hl 4 rfl dX3_first_3 ?_
    refine g_aload_n hx hb hl 0 rfl dX3_first_5 ?_
    refine g_rdI hx hb hown hts hKn hS h fd_3_3_1 rfl (Or.inl (hts _ q542)) (fun _ z => z) dX3_first_6 (fun x6 h => ?_)
    refine lv_icmp_ge (tgt := 48) hx hb dX3_first_9 (by decide) (fun c_9 => ?_) (fun c_9 => ?_)
    · have h := g_ift c_9 h
      refine lv_iconst (v := (-1)) hx hb dX3_first_48 (by decide) ?_
      exact g_iretG hx hb hr hlk hKn hRc hRs hS h dX3_first_49
    · have h := g_iff c_9 h
      refine g_aload_n hx hb hl 0 rfl dX3_first_12 ?_
      refine g_rdR hx hb hown hts hKn hS h fd_3_3_8 rfl (Or.inl (hts _ q560)) (fun _ z => z) dX3_first_13 (fun x13 h => ?_)
      refine g_iload hx hb hl 4 rfl dX3_first_16 ?_
      refine g_ialoadG hx hb hKn hS h dX3_first_18 (fun x18 h => ?_)
      refine lv_bipush (v := 8) hx hb dX3_first_19 (by decide) ?_
      refine g_iload_n hx hb hl 1 rfl dX3_first_21 ?_
      refine lv_imul hx hb dX3_first_22 ?_
      refine g_iload_n hx hb hl 2 rfl dX3_first_23 ?_
      refine lv_iadd hx hb dX3_first_24 ?_
      refine lv_icmp_ne (tgt := 42) hx hb dX3_first_25 (by decide) (fun c_25 => ?_) (fun c_25 => ?_)
      · have h := g_ift c_25 h
        exact sX3_first_b42 C ih _ _ _ _ _ _ _ h _ _ _ _ _ hS (gls_sub hl [0, 1, 2, 3, 4] rfl)
      · have h := g_iff (fun z => z c_25) h
        refine g_aload_n hx hb hl 0 rfl dX3_first_28 ?_
        refine g_rdR hx hb hown hts hKn hS h fd_3_3_9 rfl (Or.inl (hts _ q561)) (fun _ z => z) dX3_first_29 (fun x29 h => ?_)
        refine g_iload hx hb hl 4 rfl dX3_first_32 ?_
        refine g_ialoadG hx hb hKn hS h dX3_first_34 (fun x34 h => ?_)
        refine g_iload_n hx hb hl 3 rfl dX3_first_35 ?_
        refine lv_icmp_ne (tgt := 42) hx hb dX3_first_36 (by decide) (fun c_36 => ?_) (fun c_36 => ?_)
        · have h := g_ift c_36 h
          exact sX3_first_b42 C ih _ _ _ _ _ _ _ h _ _ _ _ _ hS (gls_sub hl [0, 1, 2, 3, 4] rfl)
        · have h := g_iff (fun z => z c_36) h
          refine g_iload hx hb hl 4 rfl dX3_first_39 ?_
          exact g_iretG hx hb hr hlk hKn hRc hRs hS h dX3_first_41
theorem sX3_first (l : Launch) (E : g_E) (D : g_D) {t : Nat} {v1 : Int32} {v2 : Int32} {v3 : Int32} {G : g_G} {q : Int32 × g_G} (h : fX3_first E t v1 v2 v3 G = some q) : gMet l E D yX3_first (ws_ yX3_first cX3_first 5 (some .int)) 1 64 [.inr (.inr (some t)), .inl v1, .inl v2, .inl v3] G (some (.int q.1)) q.2 := by
  refine gMet.of (by decide +kernel) (Nat.le_of_ble_eq_true rfl) ?_
  intro p e R s m args below meth c C hS ls hl
  have C : gC p R s m args meth c cX3_first 5 RX3 "first" (some .int) 1 64 E D := C
  obtain ⟨hx, hb, hml, hown, hts, hKn, hRc, hRs, hc1, hc2, hRf, hRl, hr, hlk, hnm⟩ := id C
  have hl : gls ls 5 [(0, .inr (.inr (some t))), (1, .inl v1), (2, .inl v2), (3, .inl v3)] := hl
  generalize s.heap = H at hS ⊢
  unfold fX3_first at h
  refine lv_iconst (v := 0) hx hb dX3_first_0 (by decide) ?_
  refine g_istore (l1 := [(4, .inl 0), (0, .inr (.inr (some t))), (1, .inl v1), (2, .inl v2), (3, .inl v3)]) hx hb hl (by decide) rfl dX3_first_1 (fun ls hl => ?_)
  exact sX3_first_b3 C gFU _ _ _ _ _ _ _ h _ _ _ _ _ hS (gls_sub hl [1, 2, 3, 4, 0] rfl)
/-- SendHall$Life.hasEnded(I)Z -/
def fX3_hasEnded (E : g_E) (t : Nat) (v1 : Int32) (G : g_G) : Option (Int32 × g_G) :=
  (grR G 3 3 (some t) 3).bind fun x1 =>
  (gaR G 122 x1 v1).bind fun x5 =>
  if ¬ x5 = none then (
    if (0 : Int32) = 0 ∨ (0 : Int32) = 1 then some (0, G) else none)
  else (
    if (1 : Int32) = 0 ∨ (1 : Int32) = 1 then some (1, G) else none)
theorem sX3_hasEnded (l : Launch) (E : g_E) (D : g_D) {t : Nat} {v1 : Int32} {G : g_G} {q : Int32 × g_G} (h : fX3_hasEnded E t v1 G = some q) : gMet l E D yX3_hasEnded (ws_ yX3_hasEnded cX3_hasEnded 2 (some .boolean)) 1 64 [.inr (.inr (some t)), .inl v1] G (some (.int q.1)) q.2 := by
  refine gMet.of (by decide +kernel) (Nat.le_of_ble_eq_true rfl) ?_
  intro p e R s m args below meth c C hS ls hl
  have C : gC p R s m args meth c cX3_hasEnded 2 RX3 "hasEnded" (some .boolean) 1 64 E D := C
  obtain ⟨hx, hb, hml, hown, hts, hKn, hRc, hRs, hc1, hc2, hRf, hRl, hr, hlk, hnm⟩ := id C
  have hl : gls ls 2 [(0, .inr (.inr (some t))), (1, .inl v1)] := hl
  generalize s.heap = H at hS ⊢
  unfold fX3_hasEnded at h
  refine g_aload_n hx hb hl 0 rfl dX3_hasEnded_0 ?_
  refine g_rdR hx hb hown hts hKn hS h fd_3_3_3 rfl (Or.inl (hts _ q544)) (fun _ z => z) dX3_hasEnded_1 (fun x1 h => ?_)
  refine g_iload_n hx hb hl 1 rfl dX3_hasEnded_4 ?_
  refine g_aaloadG hx hb hKn hS h (by decide) dX3_hasEnded_5 (fun x5 h => ?_)
  refine g_ifnonnull (tgt := 13) hx hb dX3_hasEnded_6 (by decide) (fun c_6 => ?_) (fun c_6 => ?_)
  · have h := g_ift c_6 h
    refine lv_iconst (v := 0) hx hb dX3_hasEnded_13 (by decide) ?_
    exact g_zretG hx hb hr hlk hKn hRc hRs hS h dX3_hasEnded_14
  · have h := g_iff (fun z => z c_6) h
    refine lv_iconst (v := 1) hx hb dX3_hasEnded_9 (by decide) ?_
    refine lv_goto (tgt := 14) hx hb dX3_hasEnded_10 (by decide) ?_
    exact g_zretG hx hb hr hlk hKn hRc hRs hS h dX3_hasEnded_14
/-- SendHall$Life.isAt(II)Z -/
def fX3_isAt (E : g_E) (t : Nat) (v1 : Int32) (v2 : Int32) (G : g_G) : Option (Int32 × g_G) :=
  (grR G 3 3 (some t) 3).bind fun x1 =>
  (gaR G 122 x1 v1).bind fun x5 =>
  if x5 = none then (
    if (0 : Int32) = 0 ∨ (0 : Int32) = 1 then some (0, G) else none)
  else (
    (grR G 3 3 (some t) 4).bind fun x10 =>
    (gaI G 102 x10 v1).bind fun x14 =>
    if ¬ x14 = 0 then (
      if (0 : Int32) = 0 ∨ (0 : Int32) = 1 then some (0, G) else none)
    else (
      (grR G 3 3 (some t) 3).bind fun x19 =>
      (gaR G 122 x19 v1).bind fun x23 =>
      (grI G 11 16 x23 0).bind fun x24 =>
      if ¬ x24 = v2 then (
        if (0 : Int32) = 0 ∨ (0 : Int32) = 1 then some (0, G) else none)
      else (
        if (1 : Int32) = 0 ∨ (1 : Int32) = 1 then some (1, G) else none)))
theorem sX3_isAt (l : Launch) (E : g_E) (D : g_D) {t : Nat} {v1 : Int32} {v2 : Int32} {G : g_G} {q : Int32 × g_G} (h : fX3_isAt E t v1 v2 G = some q) : gMet l E D yX3_isAt (ws_ yX3_isAt cX3_isAt 3 (some .boolean)) 1 64 [.inr (.inr (some t)), .inl v1, .inl v2] G (some (.int q.1)) q.2 := by
  refine gMet.of (by decide +kernel) (Nat.le_of_ble_eq_true rfl) ?_
  intro p e R s m args below meth c C hS ls hl
  have C : gC p R s m args meth c cX3_isAt 3 RX3 "isAt" (some .boolean) 1 64 E D := C
  obtain ⟨hx, hb, hml, hown, hts, hKn, hRc, hRs, hc1, hc2, hRf, hRl, hr, hlk, hnm⟩ := id C
  have hl : gls ls 3 [(0, .inr (.inr (some t))), (1, .inl v1), (2, .inl v2)] := hl
  generalize s.heap = H at hS ⊢
  unfold fX3_isAt at h
  refine g_aload_n hx hb hl 0 rfl dX3_isAt_0 ?_
  refine g_rdR hx hb hown hts hKn hS h fd_3_3_3 rfl (Or.inl (hts _ q544)) (fun _ z => z) dX3_isAt_1 (fun x1 h => ?_)
  refine g_iload_n hx hb hl 1 rfl dX3_isAt_4 ?_
  refine g_aaloadG hx hb hKn hS h (by decide) dX3_isAt_5 (fun x5 h => ?_)
  refine g_ifnull (tgt := 35) hx hb dX3_isAt_6 (by decide) (fun c_6 => ?_) (fun c_6 => ?_)
  · have h := g_ift c_6 h
    refine lv_iconst (v := 0) hx hb dX3_isAt_35 (by decide) ?_
    exact g_zretG hx hb hr hlk hKn hRc hRs hS h dX3_isAt_36
  · have h := g_iff c_6 h
    refine g_aload_n hx hb hl 0 rfl dX3_isAt_9 ?_
    refine g_rdR hx hb hown hts hKn hS h fd_3_3_4 rfl (Or.inl (hts _ q546)) (fun _ z => z) dX3_isAt_10 (fun x10 h => ?_)
    refine g_iload_n hx hb hl 1 rfl dX3_isAt_13 ?_
    refine g_zaloadG hx hb hKn hS h dX3_isAt_14 (fun x14 h => ?_)
    refine lv_if_ne (tgt := 35) hx hb dX3_isAt_15 (by decide) (fun c_15 => ?_) (fun c_15 => ?_)
    · have h := g_ift c_15 h
      refine lv_iconst (v := 0) hx hb dX3_isAt_35 (by decide) ?_
      exact g_zretG hx hb hr hlk hKn hRc hRs hS h dX3_isAt_36
    · have h := g_iff (fun z => z c_15) h
      refine g_aload_n hx hb hl 0 rfl dX3_isAt_18 ?_
      refine g_rdR hx hb hown hts hKn hS h fd_3_3_3 rfl (Or.inl (hts _ q544)) (fun _ z => z) dX3_isAt_19 (fun x19 h => ?_)
      refine g_iload_n hx hb hl 1 rfl dX3_isAt_22 ?_
      refine g_aaloadG hx hb hKn hS h (by decide) dX3_isAt_23 (fun x23 h => ?_)
      refine g_rdI hx hb hown hts hKn hS h fd_11_16_0 rfl (Or.inl (hts _ q1421)) (fun _ z => z) dX3_isAt_24 (fun x24 h => ?_)
      refine g_iload_n hx hb hl 2 rfl dX3_isAt_27 ?_
      refine lv_icmp_ne (tgt := 35) hx hb dX3_isAt_28 (by decide) (fun c_28 => ?_) (fun c_28 => ?_)
      · have h := g_ift c_28 h
        refine lv_iconst (v := 0) hx hb dX3_isAt_35 (by decide) ?_
        exact g_zretG hx hb hr hlk hKn hRc hRs hS h dX3_isAt_36
      · have h := g_iff (fun z => z c_28) h
        refine lv_iconst (v := 1) hx hb dX3_isAt_31 (by decide) ?_
        refine lv_goto (tgt := 36) hx hb dX3_isAt_32 (by decide) ?_
        exact g_zretG hx hb hr hlk hKn hRc hRs hS h dX3_isAt_36
/-- SendHall$Life.put(ILSendHall$Life;I)V -/
def fX3_put (E : g_E) (t : Nat) (v1 : Int32) (v2 : Option Nat) (v3 : Int32) (G : g_G) : Option (g_G) :=
  (grR G 3 3 (some t) 8).bind fun x1 =>
  (grR G 3 3 v2 8).bind fun x6 =>
  (gaI G 100 x6 v3).bind fun x10 =>
  (gsaI E G x1 v1 x10).bind fun G11 =>
  (grR G11 3 3 (some t) 9).bind fun x13 =>
  (grR G11 3 3 v2 9).bind fun x18 =>
  (gaI G11 100 x18 v3).bind fun x22 =>
  (gsaI E G11 x13 v1 x22).bind fun G23 =>
  (grR G23 3 3 (some t) 10).bind fun x25 =>
  (grR G23 3 3 v2 10).bind fun x30 =>
  (gaI G23 100 x30 v3).bind fun x34 =>
  (gsaI E G23 x25 v1 x34).bind fun G35 =>
  (grR G35 3 3 (some t) 11).bind fun x37 =>
  (grR G35 3 3 v2 11).bind fun x42 =>
  (gaI G35 100 x42 v3).bind fun x46 =>
  (gsaI E G35 x37 v1 x46).bind fun G47 =>
  (grR G47 3 3 (some t) 12).bind fun x49 =>
  (grR G47 3 3 v2 12).bind fun x54 =>
  (gaI G47 100 x54 v3).bind fun x58 =>
  (gsaI E G47 x49 v1 x58).bind fun G59 =>
  some G59
theorem sX3_put (l : Launch) (E : g_E) (D : g_D) {t : Nat} {v1 : Int32} {v2 : Option Nat} {v3 : Int32} {G : g_G} {q : g_G} (h : fX3_put E t v1 v2 v3 G = some q) : gMet l E D yX3_put (ws_ yX3_put cX3_put 4 (none)) 1 64 [.inr (.inr (some t)), .inl v1, .inr (.inr v2), .inl v3] G none q := by
  refine gMet.of (by decide +kernel) (Nat.le_of_ble_eq_true rfl) ?_
  intro p e R s m args below meth c C hS ls hl
  have C : gC p R s m args meth c cX3_put 4 RX3 "put" (none) 1 64 E D := C
  obtain ⟨hx, hb, hml, hown, hts, hKn, hRc, hRs, hc1, hc2, hRf, hRl, hr, hlk, hnm⟩ := id C
  have hl : gls ls 4 [(0, .inr (.inr (some t))), (1, .inl v1), (2, .inr (.inr v2)), (3, .inl v3)] := hl
  generalize s.heap = H at hS ⊢
  unfold fX3_put at h
  refine g_aload_n hx hb hl 0 rfl dX3_put_0 ?_
  refine g_rdR hx hb hown hts hKn hS h fd_3_3_8 rfl (Or.inl (hts _ q560)) (fun _ z => z) dX3_put_1 (fun x1 h => ?_)
  refine g_iload_n hx hb hl 1 rfl dX3_put_4 ?_
  refine g_aload_n hx hb hl 2 rfl dX3_put_5 ?_
  refine g_rdR hx hb hown hts hKn hS h fd_3_3_8 rfl (Or.inl (hts _ q560)) (fun _ z => z) dX3_put_6 (fun x6 h => ?_)
  refine g_iload_n hx hb hl 3 rfl dX3_put_9 ?_
  refine g_ialoadG hx hb hKn hS h dX3_put_10 (fun x10 h => ?_)
  refine g_iastoreG hx hb hKn hS h dX3_put_11 (fun G11 h H locs hS => ?_)
  refine g_aload_n hx hb hl 0 rfl dX3_put_12 ?_
  refine g_rdR hx hb hown hts hKn hS h fd_3_3_9 rfl (Or.inl (hts _ q561)) (fun _ z => z) dX3_put_13 (fun x13 h => ?_)
  refine g_iload_n hx hb hl 1 rfl dX3_put_16 ?_
  refine g_aload_n hx hb hl 2 rfl dX3_put_17 ?_
  refine g_rdR hx hb hown hts hKn hS h fd_3_3_9 rfl (Or.inl (hts _ q561)) (fun _ z => z) dX3_put_18 (fun x18 h => ?_)
  refine g_iload_n hx hb hl 3 rfl dX3_put_21 ?_
  refine g_ialoadG hx hb hKn hS h dX3_put_22 (fun x22 h => ?_)
  refine g_iastoreG hx hb hKn hS h dX3_put_23 (fun G23 h H locs hS => ?_)
  refine g_aload_n hx hb hl 0 rfl dX3_put_24 ?_
  refine g_rdR hx hb hown hts hKn hS h fd_3_3_10 rfl (Or.inl (hts _ q562)) (fun _ z => z) dX3_put_25 (fun x25 h => ?_)
  refine g_iload_n hx hb hl 1 rfl dX3_put_28 ?_
  refine g_aload_n hx hb hl 2 rfl dX3_put_29 ?_
  refine g_rdR hx hb hown hts hKn hS h fd_3_3_10 rfl (Or.inl (hts _ q562)) (fun _ z => z) dX3_put_30 (fun x30 h => ?_)
  refine g_iload_n hx hb hl 3 rfl dX3_put_33 ?_
  refine g_ialoadG hx hb hKn hS h dX3_put_34 (fun x34 h => ?_)
  refine g_iastoreG hx hb hKn hS h dX3_put_35 (fun G35 h H locs hS => ?_)
  refine g_aload_n hx hb hl 0 rfl dX3_put_36 ?_
  refine g_rdR hx hb hown hts hKn hS h fd_3_3_11 rfl (Or.inl (hts _ q564)) (fun _ z => z) dX3_put_37 (fun x37 h => ?_)
  refine g_iload_n hx hb hl 1 rfl dX3_put_40 ?_
  refine g_aload_n hx hb hl 2 rfl dX3_put_41 ?_
  refine g_rdR hx hb hown hts hKn hS h fd_3_3_11 rfl (Or.inl (hts _ q564)) (fun _ z => z) dX3_put_42 (fun x42 h => ?_)
  refine g_iload_n hx hb hl 3 rfl dX3_put_45 ?_
  refine g_ialoadG hx hb hKn hS h dX3_put_46 (fun x46 h => ?_)
  refine g_iastoreG hx hb hKn hS h dX3_put_47 (fun G47 h H locs hS => ?_)
  refine g_aload_n hx hb hl 0 rfl dX3_put_48 ?_
  refine g_rdR hx hb hown hts hKn hS h fd_3_3_12 rfl (Or.inl (hts _ q566)) (fun _ z => z) dX3_put_49 (fun x49 h => ?_)
  refine g_iload_n hx hb hl 1 rfl dX3_put_52 ?_
  refine g_aload_n hx hb hl 2 rfl dX3_put_53 ?_
  refine g_rdR hx hb hown hts hKn hS h fd_3_3_12 rfl (Or.inl (hts _ q566)) (fun _ z => z) dX3_put_54 (fun x54 h => ?_)
  refine g_iload_n hx hb hl 3 rfl dX3_put_57 ?_
  refine g_ialoadG hx hb hKn hS h dX3_put_58 (fun x58 h => ?_)
  refine g_iastoreG hx hb hKn hS h dX3_put_59 (fun G59 h H locs hS => ?_)
  exact g_vretG hx hb hr hlk hKn hRc hRs hS h dX3_put_60
/-- SendHall$Life.sent(II)I -/
def fX3_sent_b43 (E : g_E) (k5 : Nat → Int32 → Int32 → Int32 → Int32 → g_G → Option (Int32 × g_G)) (t : Nat) (v1 : Int32) (v2 : Int32) (v3 : Int32) (v4 : Int32) (G : g_G) : Option (Int32 × g_G) :=
  k5 t v1 v2 v3 (v4 + 1) G
def fX3_sent_b5 (E : g_E) : Nat → Nat → Int32 → Int32 → Int32 → Int32 → g_G → Option (Int32 × g_G)
  | 0, _, _, _, _, _, _ => none
  | n + 1, t, v1, v2, v3, v4, G =>
    (grI G 3 3 (some t) 1).bind fun x8 =>
    if x8 ≤ v4 then (
      some (v3, G))
    else (
      (grR G 3 3 (some t) 8).bind fun x15 =>
      (gaI G 100 x15 v4).bind fun x20 =>
      if ¬ x20 = ((8 * v1) + v2) then (
        fX3_sent_b43 E (fX3_sent_b5 E n) t v1 v2 v3 v4 G)
      else (
        (grR G 3 3 (some t) 11).bind fun x31 =>
        (gaI G 100 x31 v4).bind fun x36 =>
        if x36 ≤ 0 then (
          fX3_sent_b43 E (fX3_sent_b5 E n) t v1 v2 v3 v4 G)
        else (
          fX3_sent_b43 E (fX3_sent_b5 E n) t v1 v2 (v3 + 1) v4 G)))
def fX3_sent (E : g_E) (t : Nat) (v1 : Int32) (v2 : Int32) (G : g_G) : Option (Int32 × g_G) :=
  fX3_sent_b5 E gFU t v1 v2 0 0 G
theorem sX3_sent_b43 {p : Program} {l : Launch} {e : Env} {R : Room} {s : State} {m : MethodId} {args : Array Value} {below : List Frame} {meth : Method} {c : Code} {E : g_E} {D : g_D} (C : gC p R s m args meth c cX3_sent 5 RX3 "sent" (some .int) 1 64 E D) {k5 : Nat → Int32 → Int32 → Int32 → Int32 → g_G → Option (Int32 × g_G)} (hk5 : ∀ (t : Nat) (v1 : Int32) (v2 : Int32) (v3 : Int32) (v4 : Int32) (G : g_G) (q : Int32 × g_G), k5 t v1 v2 v3 v4 G = some q → ∀ (H : Heap) (locs : List Loc) (cells slots : Nat) (ls : Array Slot), gSt E D G H locs → gls ls 5 [(0, .inr (.inr (some t))), (1, .inl v1), (2, .inl v2), (3, .inl v3), (4, .inl v4)] → gT p l e R s m args below meth c E D H locs cells slots (some (.int q.1)) q.2 (F0 m 5 ls [])) : ∀ (t : Nat) (v1 : Int32) (v2 : Int32) (v3 : Int32) (v4 : Int32) (G : g_G) (q : Int32 × g_G), fX3_sent_b43 E k5 t v1 v2 v3 v4 G = some q → ∀ (H : Heap) (locs : List Loc) (cells slots : Nat) (ls : Array Slot), gSt E D G H locs → gls ls 5 [(0, .inr (.inr (some t))), (1, .inl v1), (2, .inl v2), (3, .inl v3), (4, .inl v4)] → gT p l e R s m args below meth c E D H locs cells slots (some (.int q.1)) q.2 (F0 m 43 ls []) := by
  obtain ⟨hx, hb, hml, hown, hts, hKn, hRc, hRs, hc1, hc2, hRf, hRl, hr, hlk, hnm⟩ := id C
  intro t v1 v2 v3 v4 G q h H locs cells slots ls hS hl
  unfold fX3_sent_b43 at h
  refine g_iinc (l1 := [(4, .inl (v4 + 1)), (0, .inr (.inr (some t))), (1, .inl v1), (2, .inl v2), (3, .inl v3)]) (v := (v4 + 1)) hx hb hl (k := 4) rfl (by rfl) (by decide) rfl dX3_sent_43 (fun ls hl => ?_)
  refine lv_goto (tgt := 5) hx hb dX3_sent_46 (by decide) ?_
  exact hk5 _ _ _ _ _ _ _ h _ _ _ _ _ hS (gls_sub hl [1, 2, 3, 4, 0] rfl)
theorem sX3_sent_b5 {p : Program} {l : Launch} {e : Env} {R : Room} {s : State} {m : MethodId} {args : Array Value} {below : List Frame} {meth : Method} {c : Code} {E : g_E} {D : g_D} (C : gC p R s m args meth c cX3_sent 5 RX3 "sent" (some .int) 1 64 E D) : ∀ (n : Nat) (t : Nat) (v1 : Int32) (v2 : Int32) (v3 : Int32) (v4 : Int32) (G : g_G) (q : Int32 × g_G), fX3_sent_b5 E n t v1 v2 v3 v4 G = some q → ∀ (H : Heap) (locs : List Loc) (cells slots : Nat) (ls : Array Slot), gSt E D G H locs → gls ls 5 [(0, .inr (.inr (some t))), (1, .inl v1), (2, .inl v2), (3, .inl v3), (4, .inl v4)] → gT p l e R s m args below meth c E D H locs cells slots (some (.int q.1)) q.2 (F0 m 5 ls []) := by
  obtain ⟨hx, hb, hml, hown, hts, hKn, hRc, hRs, hc1, hc2, hRf, hRl, hr, hlk, hnm⟩ := id C
  intro n
  induction n with
  | zero =>
    intro t v1 v2 v3 v4 G q h
    exact g_no h
  | succ n ih =>
    intro t v1 v2 v3 v4 G q h H locs cells slots ls hS hl
    rw [fX3_sent_b5] at h
    refine g_iload hx hb hl 4 rfl dX3_sent_5 ?_
    refine g_aload_n hx hb hl 0 rfl dX3_sent_7 ?_
    refine g_rdI hx hb hown hts hKn hS h fd_3_3_1 rfl (Or.inl (hts _ q542)) (fun _ z => z) dX3_sent_8 (fun x8 h => ?_)
    refine lv_icmp_ge (tgt := 49) hx hb dX3_sent_11 (by decide) (fun c_11 => ?_) (fun c_11 => ?_)
    · have h := g_ift c_11 h
      refine g_iload_n hx hb hl 3 rfl dX3_sent_49 ?_
      exact g_iretG hx hb hr hlk hKn hRc hRs hS h dX3_sent_50
    · have h := g_iff c_11 h
      refine g_aload_n hx hb hl 0 rfl dX3_sent_14 ?_
      refine g_rdR hx hb hown hts hKn hS h fd_3_3_8 rfl (Or.inl (hts _ q560)) (fun _ z => z) dX3_sent_15 (fun x15 h => ?_)
      refine g_iload hx hb hl 4 rfl dX3_sent_18 ?_
      refine g_ialoadG hx hb hKn hS h dX3_sent_20 (fun x20 h => ?_)
      refine lv_bipush (v := 8) hx hb dX3_sent_21 (by decide) ?_
      refine g_iload_n hx hb hl 1 rfl dX3_sent_23 ?_
      refine lv_imul hx hb dX3_sent_24 ?_
      refine g_iload_n hx hb hl 2 rfl dX3_sent_25 ?_
      refine lv_iadd hx hb dX3_sent_26 ?_
      refine lv_icmp_ne (tgt := 43) hx hb dX3_sent_27 (by decide) (fun c_27 => ?_) (fun c_27 => ?_)
      · have h := g_ift c_27 h
        exact sX3_sent_b43 C ih _ _ _ _ _ _ _ h _ _ _ _ _ hS (gls_sub hl [0, 1, 2, 3, 4] rfl)
      · have h := g_iff (fun z => z c_27) h
        refine g_aload_n hx hb hl 0 rfl dX3_sent_30 ?_
        refine g_rdR hx hb hown hts hKn hS h fd_3_3_11 rfl (Or.inl (hts _ q564)) (fun _ z => z) dX3_sent_31 (fun x31 h => ?_)
        refine g_iload hx hb hl 4 rfl dX3_sent_34 ?_
        refine g_ialoadG hx hb hKn hS h dX3_sent_36 (fun x36 h => ?_)
        refine lv_if_le (tgt := 43) hx hb dX3_sent_37 (by decide) (fun c_37 => ?_) (fun c_37 => ?_)
        · have h := g_ift c_37 h
          exact sX3_sent_b43 C ih _ _ _ _ _ _ _ h _ _ _ _ _ hS (gls_sub hl [0, 1, 2, 3, 4] rfl)
        · have h := g_iff c_37 h
          refine g_iinc (l1 := [(3, .inl (v3 + 1)), (0, .inr (.inr (some t))), (1, .inl v1), (2, .inl v2), (4, .inl v4)]) (v := (v3 + 1)) hx hb hl (k := 3) rfl (by rfl) (by decide) rfl dX3_sent_40 (fun ls hl => ?_)
          exact sX3_sent_b43 C ih _ _ _ _ _ _ _ h _ _ _ _ _ hS (gls_sub hl [1, 2, 3, 0, 4] rfl)
theorem sX3_sent (l : Launch) (E : g_E) (D : g_D) {t : Nat} {v1 : Int32} {v2 : Int32} {G : g_G} {q : Int32 × g_G} (h : fX3_sent E t v1 v2 G = some q) : gMet l E D yX3_sent (ws_ yX3_sent cX3_sent 5 (some .int)) 1 64 [.inr (.inr (some t)), .inl v1, .inl v2] G (some (.int q.1)) q.2 := by
  refine gMet.of (by decide +kernel) (Nat.le_of_ble_eq_true rfl) ?_
  intro p e R s m args below meth c C hS ls hl
  have C : gC p R s m args meth c cX3_sent 5 RX3 "sent" (some .int) 1 64 E D := C
  obtain ⟨hx, hb, hml, hown, hts, hKn, hRc, hRs, hc1, hc2, hRf, hRl, hr, hlk, hnm⟩ := id C
  have hl : gls ls 5 [(0, .inr (.inr (some t))), (1, .inl v1), (2, .inl v2)] := hl
  generalize s.heap = H at hS ⊢
  unfold fX3_sent at h
  refine lv_iconst (v := 0) hx hb dX3_sent_0 (by decide) ?_
  refine g_istore_n (l1 := [(3, .inl 0), (0, .inr (.inr (some t))), (1, .inl v1), (2, .inl v2)]) hx hb hl (by decide) rfl dX3_sent_1 (fun ls hl => ?_)
  refine lv_iconst (v := 0) hx hb dX3_sent_2 (by decide) ?_
  refine g_istore (l1 := [(4, .inl 0), (3, .inl 0), (0, .inr (.inr (some t))), (1, .inl v1), (2, .inl v2)]) hx hb hl (by decide) rfl dX3_sent_3 (fun ls hl => ?_)
  exact sX3_sent_b5 C gFU _ _ _ _ _ _ _ h _ _ _ _ _ hS (gls_sub hl [2, 3, 4, 1, 0] rfl)
/-- SendHall$Life.takeOut(I)V -/
def fX3_takeOut_b12 (E : g_E) : Nat → Nat → Int32 → g_G → Option (g_G)
  | 0, _, _, _ => none
  | n + 1, t, v2, G =>
    (grI G 3 3 (some t) 1).bind fun x14 =>
    if x14 ≤ v2 then (
      some G)
    else (
      (gchk G 3 (some t)).bind fun b26 =>
      (fX3_put E b26 v2 (some t) (v2 + 1) G).bind fun z26 =>
      fX3_takeOut_b12 E n t (v2 + 1) z26)
def fX3_takeOut (E : g_E) (t : Nat) (v1 : Int32) (G : g_G) : Option (g_G) :=
  (grI G 3 3 (some t) 1).bind fun x2 =>
  (gpI E G 3 3 (some t) 1 (x2 - 1)).bind fun G7 =>
  fX3_takeOut_b12 E gFU t v1 G7
theorem sX3_takeOut_b12 {p : Program} {l : Launch} {e : Env} {R : Room} {s : State} {m : MethodId} {args : Array Value} {below : List Frame} {meth : Method} {c : Code} {E : g_E} {D : g_D} (C : gC p R s m args meth c cX3_takeOut 3 RX3 "takeOut" (none) 2 87 E D) : ∀ (n : Nat) (t : Nat) (v2 : Int32) (G : g_G) (q : g_G), fX3_takeOut_b12 E n t v2 G = some q → ∀ (H : Heap) (locs : List Loc) (cells slots : Nat) (ls : Array Slot), gSt E D G H locs → gls ls 3 [(0, .inr (.inr (some t))), (2, .inl v2)] → gT p l e R s m args below meth c E D H locs cells slots none q (F0 m 12 ls []) := by
  obtain ⟨hx, hb, hml, hown, hts, hKn, hRc, hRs, hc1, hc2, hRf, hRl, hr, hlk, hnm⟩ := id C
  intro n
  induction n with
  | zero =>
    intro t v2 G q h
    exact g_no h
  | succ n ih =>
    intro t v2 G q h H locs cells slots ls hS hl
    rw [fX3_takeOut_b12] at h
    refine g_iload_n hx hb hl 1 rfl dX3_takeOut_12 ?_
    refine g_aload_n hx hb hl 0 rfl dX3_takeOut_13 ?_
    refine g_rdI hx hb hown hts hKn hS h fd_3_3_1 rfl (Or.inl (hts _ q542)) (fun _ z => z) dX3_takeOut_14 (fun x14 h => ?_)
    refine lv_icmp_ge (tgt := 35) hx hb dX3_takeOut_17 (by decide) (fun c_17 => ?_) (fun c_17 => ?_)
    · have h := g_ift c_17 h
      exact g_vretG hx hb hr hlk hKn hRc hRs hS h dX3_takeOut_35
    · have h := g_iff c_17 h
      refine g_aload_n hx hb hl 0 rfl dX3_takeOut_20 ?_
      refine g_iload_n hx hb hl 1 rfl dX3_takeOut_21 ?_
      refine g_aload_n hx hb hl 0 rfl dX3_takeOut_22 ?_
      refine g_iload_n hx hb hl 1 rfl dX3_takeOut_23 ?_
      refine lv_iconst (v := 1) hx hb dX3_takeOut_24 (by decide) ?_
      refine lv_iadd hx hb dX3_takeOut_25 ?_
      obtain ⟨b26, hb26, h⟩ := g_bnd h
      obtain ⟨hr26, hk26⟩ := g_chk hb26
      obtain ⟨z26, h26, h⟩ := g_bnd h
      refine g_callV (n := 3) (b := b26) (av := [.inl v2, .inr (.inr (some t)), .inl (v2 + 1)]) (rs := []) hx hb hml hown hts hKn hRc hRs hS hl (sX3_put l E D h26) (lw_V q907 q909 qs11 q134 q910) ⟨rfl, by decide, by decide, by decide +kernel⟩ ⟨by rw [hRf]; exact Nat.le_of_ble_eq_true rfl, by rw [hRl]; exact Nat.le_of_ble_eq_true rfl⟩ (g_recv hKn hS hk26 (by decide) (by decide)) rfl (by rw [hr26]; rfl) (Nat.le_of_ble_eq_true rfl) dX3_takeOut_26 (fun H locs cells slots hS => ?_)
      refine g_iinc (l1 := [(2, .inl (v2 + 1)), (0, .inr (.inr (some t)))]) (v := (v2 + 1)) hx hb hl (k := 1) rfl (by rfl) (by decide) rfl dX3_takeOut_29 (fun ls hl => ?_)
      refine lv_goto (tgt := 12) hx hb dX3_takeOut_32 (by decide) ?_
      exact ih _ _ _ _ h _ _ _ _ _ hS (gls_sub hl [1, 0] rfl)
theorem sX3_takeOut (l : Launch) (E : g_E) (D : g_D) {t : Nat} {v1 : Int32} {G : g_G} {q : g_G} (h : fX3_takeOut E t v1 G = some q) : gMet l E D yX3_takeOut (ws_ yX3_takeOut cX3_takeOut 3 (none)) 2 87 [.inr (.inr (some t)), .inl v1] G none q := by
  refine gMet.of (by decide +kernel) (Nat.le_of_ble_eq_true rfl) ?_
  intro p e R s m args below meth c C hS ls hl
  have C : gC p R s m args meth c cX3_takeOut 3 RX3 "takeOut" (none) 2 87 E D := C
  obtain ⟨hx, hb, hml, hown, hts, hKn, hRc, hRs, hc1, hc2, hRf, hRl, hr, hlk, hnm⟩ := id C
  have hl : gls ls 3 [(0, .inr (.inr (some t))), (1, .inl v1)] := hl
  generalize s.heap = H at hS ⊢
  unfold fX3_takeOut at h
  refine g_aload_n hx hb hl 0 rfl dX3_takeOut_0 ?_
  refine lv_dup hx hb dX3_takeOut_1 (by first | exact va_rf_cat _ | rfl | exact g_catA _) ?_
  refine g_rdI hx hb hown hts hKn hS h fd_3_3_1 rfl (Or.inl (hts _ q542)) (fun _ z => z) dX3_takeOut_2 (fun x2 h => ?_)
  refine lv_iconst (v := 1) hx hb dX3_takeOut_5 (by decide) ?_
  refine lv_isub hx hb dX3_takeOut_6 ?_
  refine g_ptI hx hb hown hts hKn hS h fd_3_3_1 (Or.inl (hts _ q542)) (fun _ z => z) (fun z => nomatch z) dX3_takeOut_7 (fun G7 h H locs hS => ?_)
  refine g_iload_n hx hb hl 1 rfl dX3_takeOut_10 ?_
  refine g_istore_n (l1 := [(2, .inl v1), (0, .inr (.inr (some t))), (1, .inl v1)]) hx hb hl (by decide) rfl dX3_takeOut_11 (fun ls hl => ?_)
  exact sX3_takeOut_b12 C gFU _ _ _ _ h _ _ _ _ _ hS (gls_sub hl [1, 0] rfl)
/-- SendHall$Reader.byteAt(I)I -/
def fX5_byteAt (E : g_E) (t : Nat) (v1 : Int32) (G : g_G) : Option (Int32 × g_G) :=
  (grI G 5 5 (some t) 1).bind fun x2 =>
  if x2 ≤ v1 then (
    some (0, G))
  else (
    (grR G 5 5 (some t) 0).bind fun x9 =>
    (gaI G 101 x9 v1).bind fun x13 =>
    some ((x13 &&& 255), G))
theorem sX5_byteAt (l : Launch) (E : g_E) (D : g_D) {t : Nat} {v1 : Int32} {G : g_G} {q : Int32 × g_G} (h : fX5_byteAt E t v1 G = some q) : gMet l E D yX5_byteAt (ws_ yX5_byteAt cX5_byteAt 2 (some .int)) 1 64 [.inr (.inr (some t)), .inl v1] G (some (.int q.1)) q.2 := by
  refine gMet.of (by decide +kernel) (Nat.le_of_ble_eq_true rfl) ?_
  intro p e R s m args below meth c C hS ls hl
  have C : gC p R s m args meth c cX5_byteAt 2 RX5 "byteAt" (some .int) 1 64 E D := C
  obtain ⟨hx, hb, hml, hown, hts, hKn, hRc, hRs, hc1, hc2, hRf, hRl, hr, hlk, hnm⟩ := id C
  have hl : gls ls 2 [(0, .inr (.inr (some t))), (1, .inl v1)] := hl
  generalize s.heap = H at hS ⊢
  unfold fX5_byteAt at h
  refine g_iload_n hx hb hl 1 rfl dX5_byteAt_0 ?_
  refine g_aload_n hx hb hl 0 rfl dX5_byteAt_1 ?_
  refine g_rdI hx hb hown hts hKn hS h fd_5_5_1 rfl (Or.inl (hts _ q1234)) (fun _ z => z) dX5_byteAt_2 (fun x2 h => ?_)
  refine lv_icmp_ge (tgt := 21) hx hb dX5_byteAt_5 (by decide) (fun c_5 => ?_) (fun c_5 => ?_)
  · have h := g_ift c_5 h
    refine lv_iconst (v := 0) hx hb dX5_byteAt_21 (by decide) ?_
    exact g_iretG hx hb hr hlk hKn hRc hRs hS h dX5_byteAt_22
  · have h := g_iff c_5 h
    refine g_aload_n hx hb hl 0 rfl dX5_byteAt_8 ?_
    refine g_rdR hx hb hown hts hKn hS h fd_5_5_0 rfl (Or.inl (hts _ q1233)) (fun _ z => z) dX5_byteAt_9 (fun x9 h => ?_)
    refine g_iload_n hx hb hl 1 rfl dX5_byteAt_12 ?_
    refine g_baloadG hx hb hKn hS h dX5_byteAt_13 (fun x13 h => ?_)
    refine lv_sipush (v := 255) hx hb dX5_byteAt_14 (by decide) ?_
    refine lv_iand hx hb dX5_byteAt_17 ?_
    refine lv_goto (tgt := 22) hx hb dX5_byteAt_18 (by decide) ?_
    exact g_iretG hx hb hr hlk hKn hRc hRs hS h dX5_byteAt_22
/-- SendHall$Reader.is(Ljava/lang/String;)Z -/
def fX5_is_b20 (E : g_E) (t : Nat) (v1 : Option Nat) (G : g_G) : Option (Int32 × g_G) :=
  (grR G 5 5 (some t) 9).bind fun x21 =>
  (gchk G 19 x21).bind fun b25 =>
  (fJ9_equals E b25 v1 G).bind fun z25 =>
  if z25.1 = 0 then (
    if (0 : Int32) = 0 ∨ (0 : Int32) = 1 then some (0, z25.2) else none)
  else (
    if (1 : Int32) = 0 ∨ (1 : Int32) = 1 then some (1, z25.2) else none)
def fX5_is (E : g_E) (t : Nat) (v1 : Option Nat) (G : g_G) : Option (Int32 × g_G) :=
  (grR G 5 5 (some t) 8).bind fun x1 =>
  if x1 = (some (gA E 1)) then (
    fX5_is_b20 E t v1 G)
  else (
    (grR G 5 5 (some t) 8).bind fun x11 =>
    if ¬ x11 = (some (gA E 3)) then (
      if (0 : Int32) = 0 ∨ (0 : Int32) = 1 then some (0, G) else none)
    else (
      fX5_is_b20 E t v1 G))
theorem sX5_is_b20 {p : Program} {l : Launch} {e : Env} {R : Room} {s : State} {m : MethodId} {args : Array Value} {below : List Frame} {meth : Method} {c : Code} {E : g_E} {D : g_D} (C : gC p R s m args meth c cX5_is 2 RX5 "is" (some .boolean) 3 108 E D) : ∀ (t : Nat) (v1 : Option Nat) (G : g_G) (q : Int32 × g_G), fX5_is_b20 E t v1 G = some q → ∀ (H : Heap) (locs : List Loc) (cells slots : Nat) (ls : Array Slot), gSt E D G H locs → gls ls 2 [(0, .inr (.inr (some t))), (1, .inr (.inr v1))] → gT p l e R s m args below meth c E D H locs cells slots (some (.int q.1)) q.2 (F0 m 20 ls []) := by
  obtain ⟨hx, hb, hml, hown, hts, hKn, hRc, hRs, hc1, hc2, hRf, hRl, hr, hlk, hnm⟩ := id C
  intro t v1 G q h H locs cells slots ls hS hl
  unfold fX5_is_b20 at h
  refine g_aload_n hx hb hl 0 rfl dX5_is_20 ?_
  refine g_rdR hx hb hown hts hKn hS h fd_5_5_9 rfl (Or.inl (hts _ q1242)) (fun _ z => z) dX5_is_21 (fun x21 h => ?_)
  refine g_aload_n hx hb hl 1 rfl dX5_is_24 ?_
  obtain ⟨b25, hb25, h⟩ := g_bnd h
  obtain ⟨hr25, hk25⟩ := g_chk hb25
  obtain ⟨z25, h25, h⟩ := g_bnd h
  refine g_callV (n := 1) (b := b25) (av := [.inr (.inr v1)]) (rs := []) hx hb hml hown hts hKn hRc hRs hS hl (sJ9_equals l E D h25) (lw_V q1345 q1346 q1347 q124 q1348) ⟨rfl, by decide, by decide, by decide +kernel⟩ ⟨by rw [hRf]; exact Nat.le_of_ble_eq_true rfl, by rw [hRl]; exact Nat.le_of_ble_eq_true rfl⟩ (g_recv hKn hS hk25 (by decide) (by decide)) rfl (by rw [hr25]; rfl) (Nat.le_of_ble_eq_true rfl) dX5_is_25 (fun H locs cells slots hS => ?_)
  refine lv_if_eq (tgt := 35) hx hb dX5_is_28 (by decide) (fun c_28 => ?_) (fun c_28 => ?_)
  · have h := g_ift c_28 h
    refine lv_iconst (v := 0) hx hb dX5_is_35 (by decide) ?_
    exact g_zretG hx hb hr hlk hKn hRc hRs hS h dX5_is_36
  · have h := g_iff c_28 h
    refine lv_iconst (v := 1) hx hb dX5_is_31 (by decide) ?_
    refine lv_goto (tgt := 36) hx hb dX5_is_32 (by decide) ?_
    exact g_zretG hx hb hr hlk hKn hRc hRs hS h dX5_is_36
theorem sX5_is (l : Launch) (E : g_E) (D : g_D) {t : Nat} {v1 : Option Nat} {G : g_G} {q : Int32 × g_G} (h : fX5_is E t v1 G = some q) : gMet l E D yX5_is (ws_ yX5_is cX5_is 2 (some .boolean)) 3 108 [.inr (.inr (some t)), .inr (.inr v1)] G (some (.int q.1)) q.2 := by
  refine gMet.of (by decide +kernel) (Nat.le_of_ble_eq_true rfl) ?_
  intro p e R s m args below meth c C hS ls hl
  have C : gC p R s m args meth c cX5_is 2 RX5 "is" (some .boolean) 3 108 E D := C
  obtain ⟨hx, hb, hml, hown, hts, hKn, hRc, hRs, hc1, hc2, hRf, hRl, hr, hlk, hnm⟩ := id C
  have hl : gls ls 2 [(0, .inr (.inr (some t))), (1, .inr (.inr v1))] := hl
  generalize s.heap = H at hS ⊢
  unfold fX5_is at h
  refine g_aload_n hx hb hl 0 rfl dX5_is_0 ?_
  refine g_rdR hx hb hown hts hKn hS h fd_5_5_8 rfl (Or.inl (hts _ q1241)) (fun _ z => z) dX5_is_1 (fun x1 h => ?_)
  refine g_getsZ (C := "SendHall$Sort") (n := "WORD") (d := "LSendHall$Sort;") (v := va_rf (some (gA E 1))) hx hb hown (hKn.2.2.2.2.2.2.1 _ (List.mem_of_getElem? (i := 0) rfl)) hS (hts _ q1157) (fun _ z => z) dX5_is_4 ?_
  refine lv_acmp_eq (tgt := 20) hx hb dX5_is_7 (by decide) (fun c_7 => ?_) (fun c_7 => ?_)
  · have h := g_ift c_7 h
    exact sX5_is_b20 C _ _ _ _ h _ _ _ _ _ hS (gls_sub hl [0, 1] rfl)
  · have h := g_iff c_7 h
    refine g_aload_n hx hb hl 0 rfl dX5_is_10 ?_
    refine g_rdR hx hb hown hts hKn hS h fd_5_5_8 rfl (Or.inl (hts _ q1241)) (fun _ z => z) dX5_is_11 (fun x11 h => ?_)
    refine g_getsZ (C := "SendHall$Sort") (n := "SIGN") (d := "LSendHall$Sort;") (v := va_rf (some (gA E 3))) hx hb hown (hKn.2.2.2.2.2.2.1 _ (List.mem_of_getElem? (i := 2) rfl)) hS (hts _ q1215) (fun _ z => z) dX5_is_14 ?_
    refine lv_acmp_ne (tgt := 35) hx hb dX5_is_17 (by decide) (fun c_17 => ?_) (fun c_17 => ?_)
    · have h := g_ift c_17 h
      refine lv_iconst (v := 0) hx hb dX5_is_35 (by decide) ?_
      exact g_zretG hx hb hr hlk hKn hRc hRs hS h dX5_is_36
    · have h := g_iff (fun z => z c_17) h
      exact sX5_is_b20 C _ _ _ _ h _ _ _ _ _ hS (gls_sub hl [0, 1] rfl)
/-- SendHall$Reader.isDigit(I)Z -/
def fX5_isDigit (E : g_E) (v0 : Int32) (G : g_G) : Option (Int32 × g_G) :=
  if v0 < (48 : Int32) then (
    if (0 : Int32) = 0 ∨ (0 : Int32) = 1 then some (0, G) else none)
  else (
    if (57 : Int32) < v0 then (
      if (0 : Int32) = 0 ∨ (0 : Int32) = 1 then some (0, G) else none)
    else (
      if (1 : Int32) = 0 ∨ (1 : Int32) = 1 then some (1, G) else none))
theorem sX5_isDigit (l : Launch) (E : g_E) (D : g_D) {v0 : Int32} {G : g_G} {q : Int32 × g_G} (h : fX5_isDigit E v0 G = some q) : gMet l E D yX5_isDigit (ws_ yX5_isDigit cX5_isDigit 1 (some .boolean)) 1 64 [.inl v0] G (some (.int q.1)) q.2 := by
  refine gMet.of (by decide +kernel) (Nat.le_of_ble_eq_true rfl) ?_
  intro p e R s m args below meth c C hS ls hl
  have C : gC p R s m args meth c cX5_isDigit 1 RX5 "isDigit" (some .boolean) 1 64 E D := C
  obtain ⟨hx, hb, hml, hown, hts, hKn, hRc, hRs, hc1, hc2, hRf, hRl, hr, hlk, hnm⟩ := id C
  have hl : gls ls 1 [(0, .inl v0)] := hl
  generalize s.heap = H at hS ⊢
  unfold fX5_isDigit at h
  refine g_iload_n hx hb hl 0 rfl dX5_isDigit_0 ?_
  refine lv_bipush (v := 48) hx hb dX5_isDigit_1 (by decide) ?_
  refine lv_icmp_lt (tgt := 16) hx hb dX5_isDigit_3 (by decide) (fun c_3 => ?_) (fun c_3 => ?_)
  · have h := g_ift c_3 h
    refine lv_iconst (v := 0) hx hb dX5_isDigit_16 (by decide) ?_
    exact g_zretG hx hb hr hlk hKn hRc hRs hS h dX5_isDigit_17
  · have h := g_iff c_3 h
    refine g_iload_n hx hb hl 0 rfl dX5_isDigit_6 ?_
    refine lv_bipush (v := 57) hx hb dX5_isDigit_7 (by decide) ?_
    refine lv_icmp_gt (tgt := 16) hx hb dX5_isDigit_9 (by decide) (fun c_9 => ?_) (fun c_9 => ?_)
    · have h := g_ift c_9 h
      refine lv_iconst (v := 0) hx hb dX5_isDigit_16 (by decide) ?_
      exact g_zretG hx hb hr hlk hKn hRc hRs hS h dX5_isDigit_17
    · have h := g_iff c_9 h
      refine lv_iconst (v := 1) hx hb dX5_isDigit_12 (by decide) ?_
      refine lv_goto (tgt := 17) hx hb dX5_isDigit_13 (by decide) ?_
      exact g_zretG hx hb hr hlk hKn hRc hRs hS h dX5_isDigit_17
/-- SendHall$Reader.isLetter(I)Z -/
def fX5_isLetter (E : g_E) (v0 : Int32) (G : g_G) : Option (Int32 × g_G) :=
  if v0 < (97 : Int32) then (
    if (0 : Int32) = 0 ∨ (0 : Int32) = 1 then some (0, G) else none)
  else (
    if (122 : Int32) < v0 then (
      if (0 : Int32) = 0 ∨ (0 : Int32) = 1 then some (0, G) else none)
    else (
      if (1 : Int32) = 0 ∨ (1 : Int32) = 1 then some (1, G) else none))
theorem sX5_isLetter (l : Launch) (E : g_E) (D : g_D) {v0 : Int32} {G : g_G} {q : Int32 × g_G} (h : fX5_isLetter E v0 G = some q) : gMet l E D yX5_isLetter (ws_ yX5_isLetter cX5_isLetter 1 (some .boolean)) 1 64 [.inl v0] G (some (.int q.1)) q.2 := by
  refine gMet.of (by decide +kernel) (Nat.le_of_ble_eq_true rfl) ?_
  intro p e R s m args below meth c C hS ls hl
  have C : gC p R s m args meth c cX5_isLetter 1 RX5 "isLetter" (some .boolean) 1 64 E D := C
  obtain ⟨hx, hb, hml, hown, hts, hKn, hRc, hRs, hc1, hc2, hRf, hRl, hr, hlk, hnm⟩ := id C
  have hl : gls ls 1 [(0, .inl v0)] := hl
  generalize s.heap = H at hS ⊢
  unfold fX5_isLetter at h
  refine g_iload_n hx hb hl 0 rfl dX5_isLetter_0 ?_
  refine lv_bipush (v := 97) hx hb dX5_isLetter_1 (by decide) ?_
  refine lv_icmp_lt (tgt := 16) hx hb dX5_isLetter_3 (by decide) (fun c_3 => ?_) (fun c_3 => ?_)
  · have h := g_ift c_3 h
    refine lv_iconst (v := 0) hx hb dX5_isLetter_16 (by decide) ?_
    exact g_zretG hx hb hr hlk hKn hRc hRs hS h dX5_isLetter_17
  · have h := g_iff c_3 h
    refine g_iload_n hx hb hl 0 rfl dX5_isLetter_6 ?_
    refine lv_bipush (v := 122) hx hb dX5_isLetter_7 (by decide) ?_
    refine lv_icmp_gt (tgt := 16) hx hb dX5_isLetter_9 (by decide) (fun c_9 => ?_) (fun c_9 => ?_)
    · have h := g_ift c_9 h
      refine lv_iconst (v := 0) hx hb dX5_isLetter_16 (by decide) ?_
      exact g_zretG hx hb hr hlk hKn hRc hRs hS h dX5_isLetter_17
    · have h := g_iff c_9 h
      refine lv_iconst (v := 1) hx hb dX5_isLetter_12 (by decide) ?_
      refine lv_goto (tgt := 17) hx hb dX5_isLetter_13 (by decide) ?_
      exact g_zretG hx hb hr hlk hKn hRc hRs hS h dX5_isLetter_17
/-- SendHall$Fault.<init>(II)V -/
def fX6_init (E : g_E) (t : Nat) (v1 : Int32) (v2 : Int32) (G : g_G) : Option (g_G) :=
  none
theorem sX6_init (l : Launch) (E : g_E) (D : g_D) (hlT : l.stackTraces = false) {t : Nat} {v1 : Int32} {v2 : Int32} {G : g_G} {q : g_G} (h : fX6_init E t v1 v2 G = some q) : gMet l E D yX6_init (ws_ yX6_init cX6_init 3 (none)) 1 64 [.inr (.inr (some t)), .inl v1, .inl v2] G none q := by
  refine gMet.of (by decide +kernel) (Nat.le_of_ble_eq_true rfl) ?_
  intro p e R s m args below meth c C hS ls hl
  have C : gC p R s m args meth c cX6_init 3 RX6 "<init>" (none) 1 64 E D := C
  obtain ⟨hx, hb, hml, hown, hts, hKn, hRc, hRs, hc1, hc2, hRf, hRl, hr, hlk, hnm⟩ := id C
  have hl : gls ls 3 [(0, .inr (.inr (some t))), (1, .inl v1), (2, .inl v2)] := hl
  generalize hH0 : s.heap = H at hS ⊢
  unfold fX6_init at h
  refine g_aload_n hx hb hl 0 rfl dX6_init_0 ?_
  exact g_no h
/-- SendHall$Step.comes(LSendHall$Life;I)LSendHall$Step; -/
def fX7_comes (E : g_E) (t : Nat) (v1 : Option Nat) (v2 : Int32) (G : g_G) : Option (Option Nat × g_G) :=
  some ((some t), G)
theorem sX7_comes (l : Launch) (E : g_E) (D : g_D) {t : Nat} {v1 : Option Nat} {v2 : Int32} {G : g_G} {q : Option Nat × g_G} (h : fX7_comes E t v1 v2 G = some q) : gMet l E D yX7_comes (ws_ yX7_comes cX7_comes 3 (some (.object "SendHall$Step"))) 1 64 [.inr (.inr (some t)), .inr (.inr v1), .inl v2] G (some (va_rf q.1)) q.2 := by
  refine gMet.of (by decide +kernel) (Nat.le_of_ble_eq_true rfl) ?_
  intro p e R s m args below meth c C hS ls hl
  have C : gC p R s m args meth c cX7_comes 3 RX7 "comes" (some (.object "SendHall$Step")) 1 64 E D := C
  obtain ⟨hx, hb, hml, hown, hts, hKn, hRc, hRs, hc1, hc2, hRf, hRl, hr, hlk, hnm⟩ := id C
  have hl : gls ls 3 [(0, .inr (.inr (some t))), (1, .inr (.inr v1)), (2, .inl v2)] := hl
  generalize s.heap = H at hS ⊢
  unfold fX7_comes at h
  refine g_aload_n hx hb hl 0 rfl dX7_comes_0 ?_
  exact g_aretG hx hb hr (by first | exact Or.inl ⟨_, rfl⟩ | exact Or.inr ⟨_, rfl⟩) hlk hKn hRc hRs hS h dX7_comes_1
/-- SendHall$Step.isOther(LSendHall$Life;II)Z -/
def fX7_isOther (E : g_E) (v0 : Option Nat) (v1 : Int32) (v2 : Int32) (G : g_G) : Option (Int32 × g_G) :=
  if v2 < 0 then (
    if (0 : Int32) = 0 ∨ (0 : Int32) = 1 then some (0, G) else none)
  else (
    (grI G 3 3 v0 0).bind fun x6 =>
    if x6 ≤ v2 then (
      if (0 : Int32) = 0 ∨ (0 : Int32) = 1 then some (0, G) else none)
    else (
      if v2 = v1 then (
        if (0 : Int32) = 0 ∨ (0 : Int32) = 1 then some (0, G) else none)
      else (
        if (1 : Int32) = 0 ∨ (1 : Int32) = 1 then some (1, G) else none)))
theorem sX7_isOther (l : Launch) (E : g_E) (D : g_D) {v0 : Option Nat} {v1 : Int32} {v2 : Int32} {G : g_G} {q : Int32 × g_G} (h : fX7_isOther E v0 v1 v2 G = some q) : gMet l E D yX7_isOther (ws_ yX7_isOther cX7_isOther 3 (some .boolean)) 1 64 [.inr (.inr v0), .inl v1, .inl v2] G (some (.int q.1)) q.2 := by
  refine gMet.of (by decide +kernel) (Nat.le_of_ble_eq_true rfl) ?_
  intro p e R s m args below meth c C hS ls hl
  have C : gC p R s m args meth c cX7_isOther 3 RX7 "isOther" (some .boolean) 1 64 E D := C
  obtain ⟨hx, hb, hml, hown, hts, hKn, hRc, hRs, hc1, hc2, hRf, hRl, hr, hlk, hnm⟩ := id C
  have hl : gls ls 3 [(0, .inr (.inr v0)), (1, .inl v1), (2, .inl v2)] := hl
  generalize s.heap = H at hS ⊢
  unfold fX7_isOther at h
  refine g_iload_n hx hb hl 2 rfl dX7_isOther_0 ?_
  refine lv_if_lt (tgt := 21) hx hb dX7_isOther_1 (by decide) (fun c_1 => ?_) (fun c_1 => ?_)
  · have h := g_ift c_1 h
    refine lv_iconst (v := 0) hx hb dX7_isOther_21 (by decide) ?_
    exact g_zretG hx hb hr hlk hKn hRc hRs hS h dX7_isOther_22
  · have h := g_iff c_1 h
    refine g_iload_n hx hb hl 2 rfl dX7_isOther_4 ?_
    refine g_aload_n hx hb hl 0 rfl dX7_isOther_5 ?_
    refine g_rdI hx hb hown hts hKn hS h fd_3_3_0 rfl (Or.inr ⟨_, gNest_use rfl (hKn.2.2.2.2.1 _ (gNest_in q540 rfl))⟩) (fun _ z => z) dX7_isOther_6 (fun x6 h => ?_)
    refine lv_icmp_ge (tgt := 21) hx hb dX7_isOther_9 (by decide) (fun c_9 => ?_) (fun c_9 => ?_)
    · have h := g_ift c_9 h
      refine lv_iconst (v := 0) hx hb dX7_isOther_21 (by decide) ?_
      exact g_zretG hx hb hr hlk hKn hRc hRs hS h dX7_isOther_22
    · have h := g_iff c_9 h
      refine g_iload_n hx hb hl 2 rfl dX7_isOther_12 ?_
      refine g_iload_n hx hb hl 1 rfl dX7_isOther_13 ?_
      refine lv_icmp_eq (tgt := 21) hx hb dX7_isOther_14 (by decide) (fun c_14 => ?_) (fun c_14 => ?_)
      · have h := g_ift c_14 h
        refine lv_iconst (v := 0) hx hb dX7_isOther_21 (by decide) ?_
        exact g_zretG hx hb hr hlk hKn hRc hRs hS h dX7_isOther_22
      · have h := g_iff c_14 h
        refine lv_iconst (v := 1) hx hb dX7_isOther_17 (by decide) ?_
        refine lv_goto (tgt := 22) hx hb dX7_isOther_18 (by decide) ?_
        exact g_zretG hx hb hr hlk hKn hRc hRs hS h dX7_isOther_22
/-- java/util/Arrays.copyOfRange([BII)[B -/
def fJ13_copyOfRange_b10 (E : g_E) (v0 : Option Nat) (v1 : Int32) (v2 : Int32) (G : g_G) : Option (Option Nat × g_G) :=
  (fJ13_copyOfRangeByte E v0 v1 v2 G).bind fun z13 =>
  some (z13.1, z13.2)
def fJ13_copyOfRange (E : g_E) (v0 : Option Nat) (v1 : Int32) (v2 : Int32) (G : g_G) : Option (Option Nat × g_G) :=
  if ¬ v1 = 0 then (
    fJ13_copyOfRange_b10 E v0 v1 v2 G)
  else (
    (galen G v0).bind fun x6 =>
    if v2 = x6 then (
      (gclone E G v0).bind fun z18 =>
      (gcast z18.2 101 101 (some z18.1)).bind fun x21 =>
      some (x21, z18.2))
    else (
      fJ13_copyOfRange_b10 E v0 v1 v2 G))
theorem sJ13_copyOfRange_b10 {p : Program} {l : Launch} {e : Env} {R : Room} {s : State} {m : MethodId} {args : Array Value} {below : List Frame} {meth : Method} {c : Code} {E : g_E} {D : g_D} (C : gC p R s m args meth c cJ13_copyOfRange 3 RJ13 "copyOfRange" (some (.array .byte)) 3 109 E D) : ∀ (v0 : Option Nat) (v1 : Int32) (v2 : Int32) (G : g_G) (q : Option Nat × g_G), fJ13_copyOfRange_b10 E v0 v1 v2 G = some q → ∀ (H : Heap) (locs : List Loc) (cells slots : Nat) (ls : Array Slot), gSt E D G H locs → gls ls 3 [(0, .inr (.inr v0)), (1, .inl v1), (2, .inl v2)] → gT p l e R s m args below meth c E D H locs cells slots (some (va_rf q.1)) q.2 (F0 m 10 ls []) := by
  obtain ⟨hx, hb, hml, hown, hts, hKn, hRc, hRs, hc1, hc2, hRf, hRl, hr, hlk, hnm⟩ := id C
  intro v0 v1 v2 G q h H locs cells slots ls hS hl
  unfold fJ13_copyOfRange_b10 at h
  refine g_aload_n hx hb hl 0 rfl dJ13_copyOfRange_10 ?_
  refine g_iload_n hx hb hl 1 rfl dJ13_copyOfRange_11 ?_
  refine g_iload_n hx hb hl 2 rfl dJ13_copyOfRange_12 ?_
  obtain ⟨z13, h13, h⟩ := g_bnd h
  refine g_callS (n := 3) (av := [.inr (.inr v0), .inl v1, .inl v2]) (rs := []) hx hb hml hown hts hKn hRc hRs hS hl (sJ13_copyOfRangeByte l E D h13) (lw_S q435 q436 q128 q437) ⟨by decide, by decide, by decide +kernel⟩ ⟨by rw [hRf]; exact Nat.le_of_ble_eq_true rfl, by rw [hRl]; exact Nat.le_of_ble_eq_true rfl⟩ rfl rfl (Nat.le_of_ble_eq_true rfl) dJ13_copyOfRange_13 (fun H locs cells slots hS => ?_)
  exact g_aretG hx hb hr (by first | exact Or.inl ⟨_, rfl⟩ | exact Or.inr ⟨_, rfl⟩) hlk hKn hRc hRs hS h dJ13_copyOfRange_16
theorem sJ13_copyOfRange (l : Launch) (E : g_E) (D : g_D) {v0 : Option Nat} {v1 : Int32} {v2 : Int32} {G : g_G} {q : Option Nat × g_G} (h : fJ13_copyOfRange E v0 v1 v2 G = some q) : gMet l E D yJ13_copyOfRange (ws_ yJ13_copyOfRange cJ13_copyOfRange 3 (some (.array .byte))) 3 109 [.inr (.inr v0), .inl v1, .inl v2] G (some (va_rf q.1)) q.2 := by
  refine gMet.of (by decide +kernel) (Nat.le_of_ble_eq_true rfl) ?_
  intro p e R s m args below meth c C hS ls hl
  have C : gC p R s m args meth c cJ13_copyOfRange 3 RJ13 "copyOfRange" (some (.array .byte)) 3 109 E D := C
  obtain ⟨hx, hb, hml, hown, hts, hKn, hRc, hRs, hc1, hc2, hRf, hRl, hr, hlk, hnm⟩ := id C
  have hl : gls ls 3 [(0, .inr (.inr v0)), (1, .inl v1), (2, .inl v2)] := hl
  generalize s.heap = H at hS ⊢
  unfold fJ13_copyOfRange at h
  refine g_iload_n hx hb hl 1 rfl dJ13_copyOfRange_0 ?_
  refine lv_if_ne (tgt := 10) hx hb dJ13_copyOfRange_1 (by decide) (fun c_1 => ?_) (fun c_1 => ?_)
  · have h := g_ift c_1 h
    exact sJ13_copyOfRange_b10 C _ _ _ _ _ h _ _ _ _ _ hS (gls_sub hl [0, 1, 2] rfl)
  · have h := g_iff (fun z => z c_1) h
    refine g_iload_n hx hb hl 2 rfl dJ13_copyOfRange_4 ?_
    refine g_aload_n hx hb hl 0 rfl dJ13_copyOfRange_5 ?_
    refine g_alen hx hb hKn hS h dJ13_copyOfRange_6 (fun x6 h => ?_)
    refine lv_icmp_eq (tgt := 17) hx hb dJ13_copyOfRange_7 (by decide) (fun c_7 => ?_) (fun c_7 => ?_)
    · have h := g_ift c_7 h
      refine g_aload_n hx hb hl 0 rfl dJ13_copyOfRange_17 ?_
      refine g_cloneG (rs := []) hx hb hml hown hts hKn hRc hRs hS hl h (hts _ q293) (hts _ q294) (hts _ q295) (hts _ q296) (hts _ q297) q298 rfl (Nat.le_of_ble_eq_true rfl) ⟨by rw [hRf]; exact Nat.le_of_ble_eq_true rfl, by rw [hRl]; exact Nat.le_of_ble_eq_true rfl⟩ dJ13_copyOfRange_18 (fun z18 h H locs cells slots hS => ?_)
      refine g_castA (k := 101) (C := "[B") hx hb hown hKn hS h (by decide) (by decide +kernel) (hts _ q299) dJ13_copyOfRange_21 (fun x21 h => ?_)
      exact g_aretG hx hb hr (by first | exact Or.inl ⟨_, rfl⟩ | exact Or.inr ⟨_, rfl⟩) hlk hKn hRc hRs hS h dJ13_copyOfRange_24
    · have h := g_iff c_7 h
      exact sJ13_copyOfRange_b10 C _ _ _ _ _ h _ _ _ _ _ hS (gls_sub hl [0, 1, 2] rfl)
/-- java/lang/StringLatin1.indexOf([BIII)I -/
def fJ15_indexOf (E : g_E) (v0 : Option Nat) (v1 : Int32) (v2 : Int32) (v3 : Int32) (G : g_G) : Option (Int32 × g_G) :=
  (fJ15_canEncode_2 E v1 G).bind fun z1 =>
  if ¬ z1.1 = 0 then (
    (galen z1.2 v0).bind fun x17 =>
    if (if v2 < 0 then 0 else v2) < (if x17 < v3 then x17 else v3) then (
      (fJ15_indexOfChar E v0 v1 (if v2 < 0 then 0 else v2) (if x17 < v3 then x17 else v3) z1.2).bind fun z33 =>
      some (z33.1, z33.2))
    else (
      some ((-1), z1.2)))
  else (
    some ((-1), z1.2))
theorem sJ15_indexOf (l : Launch) (E : g_E) (D : g_D) {v0 : Option Nat} {v1 : Int32} {v2 : Int32} {v3 : Int32} {G : g_G} {q : Int32 × g_G} (h : fJ15_indexOf E v0 v1 v2 v3 G = some q) : gMet l E D yJ15_indexOf (ws_ yJ15_indexOf cJ15_indexOf 4 (some .int)) 2 89 [.inr (.inr v0), .inl v1, .inl v2, .inl v3] G (some (.int q.1)) q.2 := by
  refine gMet.of (by decide +kernel) (Nat.le_of_ble_eq_true rfl) ?_
  intro p e R s m args below meth c C hS ls hl
  have C : gC p R s m args meth c cJ15_indexOf 4 RJ15 "indexOf" (some .int) 2 89 E D := C
  obtain ⟨hx, hb, hml, hown, hts, hKn, hRc, hRs, hc1, hc2, hRf, hRl, hr, hlk, hnm⟩ := id C
  have hl : gls ls 4 [(0, .inr (.inr v0)), (1, .inl v1), (2, .inl v2), (3, .inl v3)] := hl
  generalize s.heap = H at hS ⊢
  unfold fJ15_indexOf at h
  refine g_iload_n hx hb hl 1 rfl dJ15_indexOf_0 ?_
  obtain ⟨z1, h1, h⟩ := g_bnd h
  refine g_callS (n := 1) (av := [.inl v1]) (rs := []) hx hb hml hown hts hKn hRc hRs hS hl (sJ15_canEncode_2 l E D h1) (lw_S q1181 q1182 q131 q1183) ⟨by decide, by decide, by decide +kernel⟩ ⟨by rw [hRf]; exact Nat.le_of_ble_eq_true rfl, by rw [hRl]; exact Nat.le_of_ble_eq_true rfl⟩ rfl rfl (Nat.le_of_ble_eq_true rfl) dJ15_indexOf_1 (fun H locs cells slots hS => ?_)
  refine lv_if_ne (tgt := 9) hx hb dJ15_indexOf_4 (by decide) (fun c_4 => ?_) (fun c_4 => ?_)
  · have h := g_ift c_4 h
    refine g_iload_n hx hb hl 2 rfl dJ15_indexOf_9 ?_
    refine lv_iconst (v := 0) hx hb dJ15_indexOf_10 (by decide) ?_
    refine g_mmax (rs := []) hx hb hml hown hRc hRs hS hl (hts _ q1184) (hts _ q283) (hts _ q127) (hts _ q284) (by decide +kernel) rfl (Nat.le_of_ble_eq_true rfl) ⟨by rw [hRf]; exact Nat.le_of_ble_eq_true rfl, by rw [hRl]; exact Nat.le_of_ble_eq_true rfl⟩ dJ15_indexOf_11 (fun cells slots => ?_)
    refine g_istore_n (l1 := [(2, .inl (if v2 < 0 then 0 else v2)), (0, .inr (.inr v0)), (1, .inl v1), (3, .inl v3)]) hx hb hl (by decide) rfl dJ15_indexOf_14 (fun ls hl => ?_)
    refine g_iload_n hx hb hl 3 rfl dJ15_indexOf_15 ?_
    refine g_aload_n hx hb hl 1 rfl dJ15_indexOf_16 ?_
    refine g_alen hx hb hKn hS h dJ15_indexOf_17 (fun x17 h => ?_)
    refine g_mmin (rs := []) hx hb hml hown hRc hRs hS hl (hts _ q1185) (hts _ q301) (hts _ q127) (hts _ q302) (by decide +kernel) rfl (Nat.le_of_ble_eq_true rfl) ⟨by rw [hRf]; exact Nat.le_of_ble_eq_true rfl, by rw [hRl]; exact Nat.le_of_ble_eq_true rfl⟩ dJ15_indexOf_18 (fun cells slots => ?_)
    refine g_istore_n (l1 := [(3, .inl (if x17 < v3 then x17 else v3)), (2, .inl (if v2 < 0 then 0 else v2)), (0, .inr (.inr v0)), (1, .inl v1)]) hx hb hl (by decide) rfl dJ15_indexOf_21 (fun ls hl => ?_)
    refine g_iload_n hx hb hl 1 rfl dJ15_indexOf_22 ?_
    refine g_iload_n hx hb hl 0 rfl dJ15_indexOf_23 ?_
    refine lv_icmp_lt (tgt := 29) hx hb dJ15_indexOf_24 (by decide) (fun c_24 => ?_) (fun c_24 => ?_)
    · have h := g_ift c_24 h
      refine g_aload_n hx hb hl 2 rfl dJ15_indexOf_29 ?_
      refine g_iload_n hx hb hl 3 rfl dJ15_indexOf_30 ?_
      refine g_iload_n hx hb hl 1 rfl dJ15_indexOf_31 ?_
      refine g_iload_n hx hb hl 0 rfl dJ15_indexOf_32 ?_
      obtain ⟨z33, h33, h⟩ := g_bnd h
      refine g_callS (n := 4) (av := [.inr (.inr v0), .inl v1, .inl (if v2 < 0 then 0 else v2), .inl (if x17 < v3 then x17 else v3)]) (rs := []) hx hb hml hown hts hKn hRc hRs hS hl (sJ15_indexOfChar l E D h33) (lw_S q1186 q1187 q131 q1188) ⟨by decide, by decide, by decide +kernel⟩ ⟨by rw [hRf]; exact Nat.le_of_ble_eq_true rfl, by rw [hRl]; exact Nat.le_of_ble_eq_true rfl⟩ rfl rfl (Nat.le_of_ble_eq_true rfl) dJ15_indexOf_33 (fun H locs cells slots hS => ?_)
      exact g_iretG hx hb hr hlk hKn hRc hRs hS h dJ15_indexOf_36
    · have h := g_iff c_24 h
      refine lv_iconst (v := (-1)) hx hb dJ15_indexOf_27 (by decide) ?_
      exact g_iretG hx hb hr hlk hKn hRc hRs hS h dJ15_indexOf_28
  · have h := g_iff (fun z => z c_4) h
    refine lv_iconst (v := (-1)) hx hb dJ15_indexOf_7 (by decide) ?_
    exact g_iretG hx hb hr hlk hKn hRc hRs hS h dJ15_indexOf_8
/-- java/lang/AbstractStringBuilder.append(C)Ljava/lang/AbstractStringBuilder; -/
def fJ7_append_3_b45 (E : g_E) (t : Nat) (v1 : Int32) (G : g_G) : Option (Option Nat × g_G) :=
  (gchk G 18 (some t)).bind fun b46 =>
  (fJ7_isLatin1 E b46 G).bind fun z46 =>
  if z46.1 = 0 then (
    (grR z46.2 18 18 (some t) 0).bind fun x57 =>
    (grI z46.2 18 18 (some t) 3).bind fun x62 =>
    (gpI E z46.2 18 18 (some t) 3 (x62 + 1)).bind fun G68 =>
    none)
  else (
    none)
def fJ7_append_3 (E : g_E) (t : Nat) (v1 : Int32) (G : g_G) : Option (Option Nat × g_G) :=
  (grI G 18 18 (some t) 3).bind fun x2 =>
  (gchk G 18 (some t)).bind fun b7 =>
  (fJ7_ensureCapacityInternal E b7 (x2 + 1) G).bind fun z7 =>
  (gchk z7 18 (some t)).bind fun b11 =>
  (fJ7_isLatin1 E b11 z7).bind fun z11 =>
  if z11.1 = 0 then (
    fJ7_append_3_b45 E t v1 z11.2)
  else (
    (fJ15_canEncode E v1 z11.2).bind fun z18 =>
    if z18.1 = 0 then (
      fJ7_append_3_b45 E t v1 z18.2)
    else (
      (grR z18.2 18 18 (some t) 0).bind fun x25 =>
      (grI z18.2 18 18 (some t) 3).bind fun x30 =>
      (gpI E z18.2 18 18 (some t) 3 (x30 + 1)).bind fun G36 =>
      (gsaB E G36 x25 x30 (Int8.toInt32 (Int32.toInt8 v1))).bind fun G41 =>
      some ((some t), G41)))
theorem sJ7_append_3_b45 {p : Program} {l : Launch} {e : Env} {R : Room} {s : State} {m : MethodId} {args : Array Value} {below : List Frame} {meth : Method} {c : Code} {E : g_E} {D : g_D} (C : gC p R s m args meth c cJ7_append_3 2 RJ7 "append" (some (.object "java/lang/AbstractStringBuilder")) 2 86 E D) : ∀ (t : Nat) (v1 : Int32) (G : g_G) (q : Option Nat × g_G), fJ7_append_3_b45 E t v1 G = some q → ∀ (H : Heap) (locs : List Loc) (cells slots : Nat) (ls : Array Slot), gSt E D G H locs → gls ls 2 [(0, .inr (.inr (some t))), (1, .inl v1)] → gT p l e R s m args below meth c E D H locs cells slots (some (va_rf q.1)) q.2 (F0 m 45 ls []) := by
  obtain ⟨hx, hb, hml, hown, hts, hKn, hRc, hRs, hc1, hc2, hRf, hRl, hr, hlk, hnm⟩ := id C
  intro t v1 G q h H locs cells slots ls hS hl
  unfold fJ7_append_3_b45 at h
  refine g_aload_n hx hb hl 0 rfl dJ7_append_3_45 ?_
  obtain ⟨b46, hb46, h⟩ := g_bnd h
  obtain ⟨hr46, hk46⟩ := g_chk hb46
  obtain ⟨z46, h46, h⟩ := g_bnd h
  refine g_callU (n := 0) (b := b46) (av := []) (rs := []) hx hb hml hown hts hKn hRc hRs hS hl (C := "java/lang/StringBuilder") (owner := "java/lang/AbstractStringBuilder") (x := ⟨"java/lang/AbstractStringBuilder", "isLatin1", "()Z"⟩) (sJ7_isLatin1 l E D h46) (va_cwU 0 hts (lw_app (lw_in _ [306, 308, 309, 307, 122] (by decide +kernel) (by decide +kernel)) (lw_meth q310)) rfl rfl rfl rfl ⟨by decide, by decide, by decide +kernel⟩ ⟨by rw [hRf]; exact Nat.le_of_ble_eq_true rfl, by rw [hRl]; exact Nat.le_of_ble_eq_true rfl⟩) (g_recv hKn hS hk46 (by decide) (by decide)) rfl (by rw [hr46]; rfl) (Nat.le_of_ble_eq_true rfl) dJ7_append_3_46 (fun H locs cells slots hS => ?_)
  refine lv_if_eq (tgt := 56) hx hb dJ7_append_3_49 (by decide) (fun c_49 => ?_) (fun c_49 => ?_)
  · have h := g_ift c_49 h
    refine g_aload_n hx hb hl 0 rfl dJ7_append_3_56 ?_
    refine g_rdR hx hb hown hts hKn hS h fd_18_18_0 rfl (Or.inl (hts _ q245)) (fun _ z => z) dJ7_append_3_57 (fun x57 h => ?_)
    refine g_aload_n hx hb hl 0 rfl dJ7_append_3_60 ?_
    refine lv_dup hx hb dJ7_append_3_61 (by first | exact va_rf_cat _ | rfl | exact g_catA _) ?_
    refine g_rdI hx hb hown hts hKn hS h fd_18_18_3 rfl (Or.inl (hts _ q248)) (fun _ z => z) dJ7_append_3_62 (fun x62 h => ?_)
    refine lv_dup_x1 hx hb dJ7_append_3_65 rfl (by first | exact va_rf_cat _ | rfl | exact g_catA _) ?_
    refine lv_iconst (v := 1) hx hb dJ7_append_3_66 (by decide) ?_
    refine lv_iadd hx hb dJ7_append_3_67 ?_
    refine g_ptI hx hb hown hts hKn hS h fd_18_18_3 (Or.inl (hts _ q248)) (fun _ z => z) (fun z => nomatch z) dJ7_append_3_68 (fun G68 h H locs hS => ?_)
    refine g_iload_n hx hb hl 1 rfl dJ7_append_3_71 ?_
    exact g_no h
  · have h := g_iff c_49 h
    refine g_aload_n hx hb hl 0 rfl dJ7_append_3_52 ?_
    exact g_no h
theorem sJ7_append_3 (l : Launch) (E : g_E) (D : g_D) {t : Nat} {v1 : Int32} {G : g_G} {q : Option Nat × g_G} (h : fJ7_append_3 E t v1 G = some q) : gMet l E D yJ7_append_3 (ws_ yJ7_append_3 cJ7_append_3 2 (some (.object "java/lang/AbstractStringBuilder"))) 2 86 [.inr (.inr (some t)), .inl v1] G (some (va_rf q.1)) q.2 := by
  refine gMet.of (by decide +kernel) (Nat.le_of_ble_eq_true rfl) ?_
  intro p e R s m args below meth c C hS ls hl
  have C : gC p R s m args meth c cJ7_append_3 2 RJ7 "append" (some (.object "java/lang/AbstractStringBuilder")) 2 86 E D := C
  obtain ⟨hx, hb, hml, hown, hts, hKn, hRc, hRs, hc1, hc2, hRf, hRl, hr, hlk, hnm⟩ := id C
  have hl : gls ls 2 [(0, .inr (.inr (some t))), (1, .inl v1)] := hl
  generalize s.heap = H at hS ⊢
  unfold fJ7_append_3 at h
  refine g_aload_n hx hb hl 0 rfl dJ7_append_3_0 ?_
  refine g_aload_n hx hb hl 0 rfl dJ7_append_3_1 ?_
  refine g_rdI hx hb hown hts hKn hS h fd_18_18_3 rfl (Or.inl (hts _ q248)) (fun _ z => z) dJ7_append_3_2 (fun x2 h => ?_)
  refine lv_iconst (v := 1) hx hb dJ7_append_3_5 (by decide) ?_
  refine lv_iadd hx hb dJ7_append_3_6 ?_
  obtain ⟨b7, hb7, h⟩ := g_bnd h
  obtain ⟨hr7, hk7⟩ := g_chk hb7
  obtain ⟨z7, h7, h⟩ := g_bnd h
  refine g_callU (n := 1) (b := b7) (av := [.inl (x2 + 1)]) (rs := []) hx hb hml hown hts hKn hRc hRs hS hl (C := "java/lang/StringBuilder") (owner := "java/lang/AbstractStringBuilder") (x := ⟨"java/lang/AbstractStringBuilder", "ensureCapacityInternal", "(I)V"⟩) (sJ7_ensureCapacityInternal l E D h7) (g_cwUP 1 hts (lw_meth q274) (hts _ q271) (hts _ q2449) (va_any rfl (hKn.2.2.2.2.2.2.2.2.2.2.2.2.1 _ (List.mem_cons_self))) (hts _ q273) (hts _ q122) rfl rfl ⟨by decide, by decide, by decide +kernel⟩ ⟨by rw [hRf]; exact Nat.le_of_ble_eq_true rfl, by rw [hRl]; exact Nat.le_of_ble_eq_true rfl⟩) (g_recv hKn hS hk7 (by decide) (by decide)) rfl (by rw [hr7]; rfl) (Nat.le_of_ble_eq_true rfl) dJ7_append_3_7 (fun H locs cells slots hS => ?_)
  refine g_aload_n hx hb hl 0 rfl dJ7_append_3_10 ?_
  obtain ⟨b11, hb11, h⟩ := g_bnd h
  obtain ⟨hr11, hk11⟩ := g_chk hb11
  obtain ⟨z11, h11, h⟩ := g_bnd h
  refine g_callU (n := 0) (b := b11) (av := []) (rs := []) hx hb hml hown hts hKn hRc hRs hS hl (C := "java/lang/StringBuilder") (owner := "java/lang/AbstractStringBuilder") (x := ⟨"java/lang/AbstractStringBuilder", "isLatin1", "()Z"⟩) (sJ7_isLatin1 l E D h11) (va_cwU 0 hts (lw_app (lw_in _ [306, 308, 309, 307, 122] (by decide +kernel) (by decide +kernel)) (lw_meth q310)) rfl rfl rfl rfl ⟨by decide, by decide, by decide +kernel⟩ ⟨by rw [hRf]; exact Nat.le_of_ble_eq_true rfl, by rw [hRl]; exact Nat.le_of_ble_eq_true rfl⟩) (g_recv hKn hS hk11 (by decide) (by decide)) rfl (by rw [hr11]; rfl) (Nat.le_of_ble_eq_true rfl) dJ7_append_3_11 (fun H locs cells slots hS => ?_)
  refine lv_if_eq (tgt := 45) hx hb dJ7_append_3_14 (by decide) (fun c_14 => ?_) (fun c_14 => ?_)
  · have h := g_ift c_14 h
    exact sJ7_append_3_b45 C _ _ _ _ h _ _ _ _ _ hS (gls_sub hl [0, 1] rfl)
  · have h := g_iff c_14 h
    refine g_iload_n hx hb hl 1 rfl dJ7_append_3_17 ?_
    obtain ⟨z18, h18, h⟩ := g_bnd h
    refine g_callS (n := 1) (av := [.inl v1]) (rs := []) hx hb hml hown hts hKn hRc hRs hS hl (sJ15_canEncode l E D h18) (lw_S q1143 q1144 q131 q1145) ⟨by decide, by decide, by decide +kernel⟩ ⟨by rw [hRf]; exact Nat.le_of_ble_eq_true rfl, by rw [hRl]; exact Nat.le_of_ble_eq_true rfl⟩ rfl rfl (Nat.le_of_ble_eq_true rfl) dJ7_append_3_18 (fun H locs cells slots hS => ?_)
    refine lv_if_eq (tgt := 45) hx hb dJ7_append_3_21 (by decide) (fun c_21 => ?_) (fun c_21 => ?_)
    · have h := g_ift c_21 h
      exact sJ7_append_3_b45 C _ _ _ _ h _ _ _ _ _ hS (gls_sub hl [0, 1] rfl)
    · have h := g_iff c_21 h
      refine g_aload_n hx hb hl 0 rfl dJ7_append_3_24 ?_
      refine g_rdR hx hb hown hts hKn hS h fd_18_18_0 rfl (Or.inl (hts _ q245)) (fun _ z => z) dJ7_append_3_25 (fun x25 h => ?_)
      refine g_aload_n hx hb hl 0 rfl dJ7_append_3_28 ?_
      refine lv_dup hx hb dJ7_append_3_29 (by first | exact va_rf_cat _ | rfl | exact g_catA _) ?_
      refine g_rdI hx hb hown hts hKn hS h fd_18_18_3 rfl (Or.inl (hts _ q248)) (fun _ z => z) dJ7_append_3_30 (fun x30 h => ?_)
      refine lv_dup_x1 hx hb dJ7_append_3_33 rfl (by first | exact va_rf_cat _ | rfl | exact g_catA _) ?_
      refine lv_iconst (v := 1) hx hb dJ7_append_3_34 (by decide) ?_
      refine lv_iadd hx hb dJ7_append_3_35 ?_
      refine g_ptI hx hb hown hts hKn hS h fd_18_18_3 (Or.inl (hts _ q248)) (fun _ z => z) (fun z => nomatch z) dJ7_append_3_36 (fun G36 h H locs hS => ?_)
      refine g_iload_n hx hb hl 1 rfl dJ7_append_3_39 ?_
      refine lv_i2b (v := (Int8.toInt32 (Int32.toInt8 v1))) hx hb dJ7_append_3_40 rfl ?_
      refine g_bastoreG hx hb hKn hS h dJ7_append_3_41 (fun G41 h H locs hS => ?_)
      refine lv_goto (tgt := 75) hx hb dJ7_append_3_42 (by decide) ?_
      refine g_aload_n hx hb hl 0 rfl dJ7_append_3_75 ?_
      exact g_aretG hx hb hr (by first | exact Or.inl ⟨_, rfl⟩ | exact Or.inr ⟨_, rfl⟩) hlk hKn hRc hRs hS h dJ7_append_3_76
/-- java/lang/StringBuilder.append(C)Ljava/lang/StringBuilder; -/
def fJ8_append_3 (E : g_E) (t : Nat) (v1 : Int32) (G : g_G) : Option (Option Nat × g_G) :=
  (gchk G 18 (some t)).bind fun b2 =>
  (fJ7_append_3 E b2 v1 G).bind fun z2 =>
  some ((some t), z2.2)
theorem sJ8_append_3 (l : Launch) (E : g_E) (D : g_D) {t : Nat} {v1 : Int32} {G : g_G} {q : Option Nat × g_G} (h : fJ8_append_3 E t v1 G = some q) : gMet l E D yJ8_append_3 (ws_ yJ8_append_3 cJ8_append_3 2 (some (.object "java/lang/StringBuilder"))) 3 107 [.inr (.inr (some t)), .inl v1] G (some (va_rf q.1)) q.2 := by
  refine gMet.of (by decide +kernel) (Nat.le_of_ble_eq_true rfl) ?_
  intro p e R s m args below meth c C hS ls hl
  have C : gC p R s m args meth c cJ8_append_3 2 RJ8 "append" (some (.object "java/lang/StringBuilder")) 3 107 E D := C
  obtain ⟨hx, hb, hml, hown, hts, hKn, hRc, hRs, hc1, hc2, hRf, hRl, hr, hlk, hnm⟩ := id C
  have hl : gls ls 2 [(0, .inr (.inr (some t))), (1, .inl v1)] := hl
  generalize s.heap = H at hS ⊢
  unfold fJ8_append_3 at h
  refine g_aload_n hx hb hl 0 rfl dJ8_append_3_0 ?_
  refine g_iload_n hx hb hl 1 rfl dJ8_append_3_1 ?_
  obtain ⟨b2, hb2, h⟩ := g_bnd h
  obtain ⟨hr2, hk2⟩ := g_chk hb2
  obtain ⟨z2, h2, h⟩ := g_bnd h
  refine g_callSU (n := 1) (b := b2) (av := [.inl v1]) (rs := []) hx hb hml hown hts hKn hRc hRs hS hl (C := "java/lang/StringBuilder") (hKn.obj (k := 18) (by decide) (by decide)).2 (sJ7_append_3 l E D h2) (lw_app (lw_in _ [1140, 2456, 257, 1141, 122] (by decide +kernel) (by decide +kernel)) (lw_meth q1142)) ⟨by decide, by decide +kernel⟩ ⟨by rw [hRf]; exact Nat.le_of_ble_eq_true rfl, by rw [hRl]; exact Nat.le_of_ble_eq_true rfl⟩ (g_recv hKn hS hk2 (by decide) (by decide)) rfl (by rw [hr2]; rfl) (Nat.le_of_ble_eq_true rfl) dJ8_append_3_2 (fun H locs cells slots hS => ?_)
  refine lv_pop hx hb dJ8_append_3_5 (by first | exact va_rf_cat _ | rfl | exact g_catA _) ?_
  refine g_aload_n hx hb hl 0 rfl dJ8_append_3_6 ?_
  exact g_aretG hx hb hr (by first | exact Or.inl ⟨_, rfl⟩ | exact Or.inr ⟨_, rfl⟩) hlk hKn hRc hRs hS h dJ8_append_3_7
/-- java/lang/String.indexOf(II)I -/
def fJ9_indexOf_2 (E : g_E) (t : Nat) (v1 : Int32) (v2 : Int32) (G : g_G) : Option (Int32 × g_G) :=
  (gchk G 19 (some t)).bind fun b1 =>
  (fJ9_isLatin1 E b1 G).bind fun z1 =>
  if z1.1 = 0 then (
    (grR z1.2 19 19 (some t) 0).bind fun x24 =>
    (gchk z1.2 19 (some t)).bind fun b30 =>
    (fJ9_length E b30 z1.2).bind fun z30 =>
    none)
  else (
    (grR z1.2 19 19 (some t) 0).bind fun x8 =>
    (gchk z1.2 19 (some t)).bind fun b14 =>
    (fJ9_length E b14 z1.2).bind fun z14 =>
    (fJ15_indexOf E x8 v1 v2 z14.1 z14.2).bind fun z17 =>
    some (z17.1, z17.2))
theorem sJ9_indexOf_2 (l : Launch) (E : g_E) (D : g_D) {t : Nat} {v1 : Int32} {v2 : Int32} {G : g_G} {q : Int32 × g_G} (h : fJ9_indexOf_2 E t v1 v2 G = some q) : gMet l E D yJ9_indexOf_2 (ws_ yJ9_indexOf_2 cJ9_indexOf_2 3 (some .int)) 3 112 [.inr (.inr (some t)), .inl v1, .inl v2] G (some (.int q.1)) q.2 := by
  refine gMet.of (by decide +kernel) (Nat.le_of_ble_eq_true rfl) ?_
  intro p e R s m args below meth c C hS ls hl
  have C : gC p R s m args meth c cJ9_indexOf_2 3 RJ9 "indexOf" (some .int) 3 112 E D := C
  obtain ⟨hx, hb, hml, hown, hts, hKn, hRc, hRs, hc1, hc2, hRf, hRl, hr, hlk, hnm⟩ := id C
  have hl : gls ls 3 [(0, .inr (.inr (some t))), (1, .inl v1), (2, .inl v2)] := hl
  generalize s.heap = H at hS ⊢
  unfold fJ9_indexOf_2 at h
  refine g_aload_n hx hb hl 0 rfl dJ9_indexOf_2_0 ?_
  obtain ⟨b1, hb1, h⟩ := g_bnd h
  obtain ⟨hr1, hk1⟩ := g_chk hb1
  obtain ⟨z1, h1, h⟩ := g_bnd h
  refine g_callV (n := 0) (b := b1) (av := []) (rs := []) hx hb hml hown hts hKn hRc hRs hS hl (sJ9_isLatin1 l E D h1) (lw_V q1173 q1174 q1175 q124 q1176) ⟨rfl, by decide, by decide, by decide +kernel⟩ ⟨by rw [hRf]; exact Nat.le_of_ble_eq_true rfl, by rw [hRl]; exact Nat.le_of_ble_eq_true rfl⟩ (g_recv hKn hS hk1 (by decide) (by decide)) rfl (by rw [hr1]; rfl) (Nat.le_of_ble_eq_true rfl) dJ9_indexOf_2_1 (fun H locs cells slots hS => ?_)
  refine lv_if_eq (tgt := 23) hx hb dJ9_indexOf_2_4 (by decide) (fun c_4 => ?_) (fun c_4 => ?_)
  · have h := g_ift c_4 h
    refine g_aload_n hx hb hl 0 rfl dJ9_indexOf_2_23 ?_
    refine g_rdR hx hb hown hts hKn hS h fd_19_19_0 rfl (Or.inl (hts _ q486)) (fun _ z => z) dJ9_indexOf_2_24 (fun x24 h => ?_)
    refine g_iload_n hx hb hl 1 rfl dJ9_indexOf_2_27 ?_
    refine g_iload_n hx hb hl 2 rfl dJ9_indexOf_2_28 ?_
    refine g_aload_n hx hb hl 0 rfl dJ9_indexOf_2_29 ?_
    obtain ⟨b30, hb30, h⟩ := g_bnd h
    obtain ⟨hr30, hk30⟩ := g_chk hb30
    obtain ⟨z30, h30, h⟩ := g_bnd h
    refine g_callV (n := 0) (b := b30) (av := []) (rs := [.inl v2, .inl v1, .inr (.inr x24)]) hx hb hml hown hts hKn hRc hRs hS hl (sJ9_length l E D h30) (lw_V q1177 q338 q339 q124 q340) ⟨rfl, by decide, by decide, by decide +kernel⟩ ⟨by rw [hRf]; exact Nat.le_of_ble_eq_true rfl, by rw [hRl]; exact Nat.le_of_ble_eq_true rfl⟩ (g_recv hKn hS hk30 (by decide) (by decide)) rfl (by rw [hr30]; rfl) (Nat.le_of_ble_eq_true rfl) dJ9_indexOf_2_30 (fun H locs cells slots hS => ?_)
    exact g_no h
  · have h := g_iff c_4 h
    refine g_aload_n hx hb hl 0 rfl dJ9_indexOf_2_7 ?_
    refine g_rdR hx hb hown hts hKn hS h fd_19_19_0 rfl (Or.inl (hts _ q486)) (fun _ z => z) dJ9_indexOf_2_8 (fun x8 h => ?_)
    refine g_iload_n hx hb hl 1 rfl dJ9_indexOf_2_11 ?_
    refine g_iload_n hx hb hl 2 rfl dJ9_indexOf_2_12 ?_
    refine g_aload_n hx hb hl 0 rfl dJ9_indexOf_2_13 ?_
    obtain ⟨b14, hb14, h⟩ := g_bnd h
    obtain ⟨hr14, hk14⟩ := g_chk hb14
    obtain ⟨z14, h14, h⟩ := g_bnd h
    refine g_callV (n := 0) (b := b14) (av := []) (rs := [.inl v2, .inl v1, .inr (.inr x8)]) hx hb hml hown hts hKn hRc hRs hS hl (sJ9_length l E D h14) (lw_V q1177 q338 q339 q124 q340) ⟨rfl, by decide, by decide, by decide +kernel⟩ ⟨by rw [hRf]; exact Nat.le_of_ble_eq_true rfl, by rw [hRl]; exact Nat.le_of_ble_eq_true rfl⟩ (g_recv hKn hS hk14 (by decide) (by decide)) rfl (by rw [hr14]; rfl) (Nat.le_of_ble_eq_true rfl) dJ9_indexOf_2_14 (fun H locs cells slots hS => ?_)
    obtain ⟨z17, h17, h⟩ := g_bnd h
    refine g_callS (n := 4) (av := [.inr (.inr x8), .inl v1, .inl v2, .inl z14.1]) (rs := []) hx hb hml hown hts hKn hRc hRs hS hl (sJ15_indexOf l E D h17) (lw_S q1178 q1179 q131 q1180) ⟨by decide, by decide, by decide +kernel⟩ ⟨by rw [hRf]; exact Nat.le_of_ble_eq_true rfl, by rw [hRl]; exact Nat.le_of_ble_eq_true rfl⟩ rfl rfl (Nat.le_of_ble_eq_true rfl) dJ9_indexOf_2_17 (fun H locs cells slots hS => ?_)
    refine lv_goto (tgt := 36) hx hb dJ9_indexOf_2_20 (by decide) ?_
    exact g_iretG hx hb hr hlk hKn hRc hRs hS h dJ9_indexOf_2_36
/-- java/lang/String.<init>(Ljava/lang/AbstractStringBuilder;Ljava/lang/Void;)V -/
def fJ9_init_2_b79 (E : g_E) (t : Nat) (v3 : Option Nat) (v4 : Int32) (G : g_G) : Option (g_G) :=
  (gpB E G 19 19 (some t) 1 1).bind fun G81 =>
  (fJ13_copyOfRange E v3 0 (v4 <<< (1 &&& 31)) G81).bind fun z91 =>
  (gpR E z91.2 19 19 (some t) 0 z91.1).bind fun G94 =>
  some G94
def fJ9_init_2 (E : g_E) (t : Nat) (v1 : Option Nat) (v2 : Option Nat) (G : g_G) : Option (g_G) :=
  (gchk G 18 v1).bind fun b5 =>
  (fJ7_getValue E b5 G).bind fun z5 =>
  (gchk z5.2 18 v1).bind fun b10 =>
  (fJ8_length E b10 z5.2).bind fun z10 =>
  (gchk z10.2 18 v1).bind fun b16 =>
  (fJ7_isLatin1 E b16 z10.2).bind fun z16 =>
  if z16.1 = 0 then (
    if (1 : Int32) = 0 then (
      fJ9_init_2_b79 E t z5.1 z10.1 z16.2)
    else (
      (grI z16.2 18 18 v1 2).bind fun x48 =>
      if x48 = 0 then (
        fJ9_init_2_b79 E t z5.1 z10.1 z16.2)
      else (
        none)))
  else (
    (gpB E z16.2 19 19 (some t) 1 0).bind fun G24 =>
    (fJ13_copyOfRange E z5.1 0 z10.1 G24).bind fun z32 =>
    (gpR E z32.2 19 19 (some t) 0 z32.1).bind fun G35 =>
    some G35)
theorem sJ9_init_2_b79 {p : Program} {l : Launch} {e : Env} {R : Room} {s : State} {m : MethodId} {args : Array Value} {below : List Frame} {meth : Method} {c : Code} {E : g_E} {D : g_D} (C : gC p R s m args meth c cJ9_init_2 5 RJ9 "<init>" (none) 4 131 E D) : ∀ (t : Nat) (v3 : Option Nat) (v4 : Int32) (G : g_G) (q : g_G), fJ9_init_2_b79 E t v3 v4 G = some q → ∀ (H : Heap) (locs : List Loc) (cells slots : Nat) (ls : Array Slot), gSt E D G H locs → gls ls 5 [(0, .inr (.inr (some t))), (3, .inr (.inr v3)), (4, .inl v4)] → gT p l e R s m args below meth c E D H locs cells slots none q (F0 m 79 ls []) := by
  obtain ⟨hx, hb, hml, hown, hts, hKn, hRc, hRs, hc1, hc2, hRf, hRl, hr, hlk, hnm⟩ := id C
  intro t v3 v4 G q h H locs cells slots ls hS hl
  unfold fJ9_init_2_b79 at h
  refine g_aload_n hx hb hl 0 rfl dJ9_init_2_79 ?_
  refine lv_iconst (v := 1) hx hb dJ9_init_2_80 (by decide) ?_
  refine g_ptB hx hb hown hts hKn hS h fd_19_19_1 (Or.inl (hts _ q487)) (fun _ z => z) (fun _ => ⟨hnm, rfl⟩) dJ9_init_2_81 (fun G81 h H locs hS => ?_)
  refine g_aload_n hx hb hl 0 rfl dJ9_init_2_84 ?_
  refine g_aload_n hx hb hl 1 rfl dJ9_init_2_85 ?_
  refine lv_iconst (v := 0) hx hb dJ9_init_2_86 (by decide) ?_
  refine g_iload hx hb hl 2 rfl dJ9_init_2_87 ?_
  refine lv_iconst (v := 1) hx hb dJ9_init_2_89 (by decide) ?_
  refine lv_ishl hx hb dJ9_init_2_90 ?_
  obtain ⟨z91, h91, h⟩ := g_bnd h
  refine g_callS (n := 3) (av := [.inr (.inr v3), .inl 0, .inl (v4 <<< (1 &&& 31))]) (rs := [.inr (.inr (some t))]) hx hb hml hown hts hKn hRc hRs hS hl (sJ13_copyOfRange l E D h91) (lw_S q432 q433 q128 q434) ⟨by decide, by decide, by decide +kernel⟩ ⟨by rw [hRf]; exact Nat.le_of_ble_eq_true rfl, by rw [hRl]; exact Nat.le_of_ble_eq_true rfl⟩ rfl rfl (Nat.le_of_ble_eq_true rfl) dJ9_init_2_91 (fun H locs cells slots hS => ?_)
  refine g_ptR hx hb hown hts hKn hS h fd_19_19_0 rfl (Or.inl (hts _ q486)) (fun _ z => z) (fun _ => ⟨hnm, rfl⟩) dJ9_init_2_94 (fun G94 h H locs hS => ?_)
  exact g_vretG hx hb hr hlk hKn hRc hRs hS h dJ9_init_2_97
theorem sJ9_init_2 (l : Launch) (E : g_E) (D : g_D) {t : Nat} {v1 : Option Nat} {v2 : Option Nat} {G : g_G} {q : g_G} (h : fJ9_init_2 E t v1 v2 G = some q) : gMet l E D yJ9_init_2 (ws_ yJ9_init_2 cJ9_init_2 5 (none)) 4 131 [.inr (.inr (some t)), .inr (.inr v1), .inr (.inr v2)] G none q := by
  refine gMet.of (by decide +kernel) (Nat.le_of_ble_eq_true rfl) ?_
  intro p e R s m args below meth c C hS ls hl
  have C : gC p R s m args meth c cJ9_init_2 5 RJ9 "<init>" (none) 4 131 E D := C
  obtain ⟨hx, hb, hml, hown, hts, hKn, hRc, hRs, hc1, hc2, hRf, hRl, hr, hlk, hnm⟩ := id C
  have hl : gls ls 5 [(0, .inr (.inr (some t))), (1, .inr (.inr v1)), (2, .inr (.inr v2))] := hl
  generalize s.heap = H at hS ⊢
  unfold fJ9_init_2 at h
  refine g_aload_n hx hb hl 0 rfl dJ9_init_2_0 ?_
  refine g_objInit (rs := []) hx hb hml hown hl (hts _ q417) (hts _ q162) (hts _ q163) rfl dJ9_init_2_1 ⟨by rw [hRf]; exact Nat.le_of_ble_eq_true rfl, by rw [hRl]; exact Nat.le_of_ble_eq_true rfl⟩ ?_
  refine g_aload_n hx hb hl 1 rfl dJ9_init_2_4 ?_
  obtain ⟨b5, hb5, h⟩ := g_bnd h
  obtain ⟨hr5, hk5⟩ := g_chk hb5
  obtain ⟨z5, h5, h⟩ := g_bnd h
  refine g_callU (n := 0) (b := b5) (av := []) (rs := []) hx hb hml hown hts hKn hRc hRs hS hl (C := "java/lang/StringBuilder") (owner := "java/lang/AbstractStringBuilder") (x := ⟨"java/lang/AbstractStringBuilder", "getValue", "()[B"⟩) (sJ7_getValue l E D h5) (va_cwU 0 hts (lw_app (lw_in _ [418, 420, 421, 419, 122] (by decide +kernel) (by decide +kernel)) (lw_meth q422)) rfl rfl rfl rfl ⟨by decide, by decide, by decide +kernel⟩ ⟨by rw [hRf]; exact Nat.le_of_ble_eq_true rfl, by rw [hRl]; exact Nat.le_of_ble_eq_true rfl⟩) (g_recv hKn hS hk5 (by decide) (by decide)) rfl (by rw [hr5]; rfl) (Nat.le_of_ble_eq_true rfl) dJ9_init_2_5 (fun H locs cells slots hS => ?_)
  refine g_astore_n (l1 := [(3, .inr (.inr z5.1)), (0, .inr (.inr (some t))), (1, .inr (.inr v1)), (2, .inr (.inr v2))]) hx hb hl (by decide) rfl dJ9_init_2_8 (fun ls hl => ?_)
  refine g_aload_n hx hb hl 2 rfl dJ9_init_2_9 ?_
  obtain ⟨b10, hb10, h⟩ := g_bnd h
  obtain ⟨hr10, hk10⟩ := g_chk hb10
  obtain ⟨z10, h10, h⟩ := g_bnd h
  refine g_callU (n := 0) (b := b10) (av := []) (rs := []) hx hb hml hown hts hKn hRc hRs hS hl (C := "java/lang/StringBuilder") (owner := "java/lang/AbstractStringBuilder") (x := ⟨"java/lang/AbstractStringBuilder", "length", "()I"⟩) (sJ8_length l E D h10) (va_cwO 0 hts (lw_app (lw_in _ [423, 425, 424, 426, 427, 123] (by decide +kernel) (by decide +kernel)) (lw_meth q428)) rfl rfl rfl q430 ⟨by decide, by decide, by decide +kernel⟩ ⟨by rw [hRf]; exact Nat.le_of_ble_eq_true rfl, by rw [hRl]; exact Nat.le_of_ble_eq_true rfl⟩) (g_recv hKn hS hk10 (by decide) (by decide)) rfl (by rw [hr10]; rfl) (Nat.le_of_ble_eq_true rfl) dJ9_init_2_10 (fun H locs cells slots hS => ?_)
  refine g_istore (l1 := [(4, .inl z10.1), (3, .inr (.inr z5.1)), (0, .inr (.inr (some t))), (1, .inr (.inr v1)), (2, .inr (.inr v2))]) hx hb hl (by decide) rfl dJ9_init_2_13 (fun ls hl => ?_)
  refine g_aload_n hx hb hl 3 rfl dJ9_init_2_15 ?_
  obtain ⟨b16, hb16, h⟩ := g_bnd h
  obtain ⟨hr16, hk16⟩ := g_chk hb16
  obtain ⟨z16, h16, h⟩ := g_bnd h
  refine g_callU (n := 0) (b := b16) (av := []) (rs := []) hx hb hml hown hts hKn hRc hRs hS hl (C := "java/lang/StringBuilder") (owner := "java/lang/AbstractStringBuilder") (x := ⟨"java/lang/AbstractStringBuilder", "isLatin1", "()Z"⟩) (sJ7_isLatin1 l E D h16) (va_cwU 0 hts (lw_app (lw_in _ [431, 308, 309, 307, 122] (by decide +kernel) (by decide +kernel)) (lw_meth q310)) rfl rfl rfl rfl ⟨by decide, by decide, by decide +kernel⟩ ⟨by rw [hRf]; exact Nat.le_of_ble_eq_true rfl, by rw [hRl]; exact Nat.le_of_ble_eq_true rfl⟩) (g_recv hKn hS hk16 (by decide) (by decide)) rfl (by rw [hr16]; rfl) (Nat.le_of_ble_eq_true rfl) dJ9_init_2_16 (fun H locs cells slots hS => ?_)
  refine lv_if_eq (tgt := 41) hx hb dJ9_init_2_19 (by decide) (fun c_19 => ?_) (fun c_19 => ?_)
  · have h := g_ift c_19 h
    refine g_getsZ (C := "java/lang/String") (n := "COMPACT_STRINGS") (d := "Z") (v := .int 1) hx hb hown (hKn.2.2.2.2.2.2.1 _ (List.mem_of_getElem? (i := 5) rfl)) hS (hts _ q345) (fun _ z => z) dJ9_init_2_41 ?_
    refine lv_if_eq (tgt := 79) hx hb dJ9_init_2_44 (by decide) (fun c_44 => ?_) (fun c_44 => ?_)
    · have h := g_ift c_44 h
      exact sJ9_init_2_b79 C _ _ _ _ _ h _ _ _ _ _ hS (gls_sub hl [2, 1, 0] rfl)
    · have h := g_iff c_44 h
      refine g_aload_n hx hb hl 3 rfl dJ9_init_2_47 ?_
      refine g_rdI hx hb hown hts hKn hS h fd_18_18_2 rfl (Or.inl (hts _ q247)) (fun _ z => z) dJ9_init_2_48 (fun x48 h => ?_)
      refine lv_if_eq (tgt := 79) hx hb dJ9_init_2_51 (by decide) (fun c_51 => ?_) (fun c_51 => ?_)
      · have h := g_ift c_51 h
        exact sJ9_init_2_b79 C _ _ _ _ _ h _ _ _ _ _ hS (gls_sub hl [2, 1, 0] rfl)
      · have h := g_iff c_51 h
        refine g_aload_n hx hb hl 2 rfl dJ9_init_2_54 ?_
        refine g_aload_n hx hb hl 1 rfl dJ9_init_2_55 ?_
        refine lv_iconst (v := 0) hx hb dJ9_init_2_56 (by decide) ?_
        refine g_iload hx hb hl 0 rfl dJ9_init_2_57 ?_
        exact g_no h
  · have h := g_iff c_19 h
    refine g_aload_n hx hb hl 2 rfl dJ9_init_2_22 ?_
    refine lv_iconst (v := 0) hx hb dJ9_init_2_23 (by decide) ?_
    refine g_ptB hx hb hown hts hKn hS h fd_19_19_1 (Or.inl (hts _ q487)) (fun _ z => z) (fun _ => ⟨hnm, rfl⟩) dJ9_init_2_24 (fun G24 h H locs hS => ?_)
    refine g_aload_n hx hb hl 2 rfl dJ9_init_2_27 ?_
    refine g_aload_n hx hb hl 1 rfl dJ9_init_2_28 ?_
    refine lv_iconst (v := 0) hx hb dJ9_init_2_29 (by decide) ?_
    refine g_iload hx hb hl 0 rfl dJ9_init_2_30 ?_
    obtain ⟨z32, h32, h⟩ := g_bnd h
    refine g_callS (n := 3) (av := [.inr (.inr z5.1), .inl 0, .inl z10.1]) (rs := [.inr (.inr (some t))]) hx hb hml hown hts hKn hRc hRs hS hl (sJ13_copyOfRange l E D h32) (lw_S q432 q433 q128 q434) ⟨by decide, by decide, by decide +kernel⟩ ⟨by rw [hRf]; exact Nat.le_of_ble_eq_true rfl, by rw [hRl]; exact Nat.le_of_ble_eq_true rfl⟩ rfl rfl (Nat.le_of_ble_eq_true rfl) dJ9_init_2_32 (fun H locs cells slots hS => ?_)
    refine g_ptR hx hb hown hts hKn hS h fd_19_19_0 rfl (Or.inl (hts _ q486)) (fun _ z => z) (fun _ => ⟨hnm, rfl⟩) dJ9_init_2_35 (fun G35 h H locs hS => ?_)
    refine lv_goto (tgt := 97) hx hb dJ9_init_2_38 (by decide) ?_
    exact g_vretG hx hb hr hlk hKn hRc hRs hS h dJ9_init_2_97
/-- SendHall$Row.value(LSendHall$Life;I)I -/
def fX11_value_b22 (E : g_E) (fI : Option Nat → Option Nat → Int32 → g_G → Option (Int32 × g_G)) : Nat → Nat → (Option Nat) → Int32 → Int32 → Int32 → g_G → Option (Int32 × g_G)
  | 0, _, _, _, _, _, _ => none
  | n + 1, t, v1, v2, v3, v4, G =>
    (grR G 9 9 (some t) 0).bind fun x25 =>
    (gchk G 17 x25).bind fun b28 =>
    (fJ2_size E b28 G).bind fun z28 =>
    if z28.1 ≤ v4 then (
      some (v3, z28.2))
    else (
      (grR z28.2 9 9 (some t) 1).bind fun x36 =>
      (gchk z28.2 17 x36).bind fun b43 =>
      (fJ2_get E b43 (v4 - 1) z28.2).bind fun z43 =>
      (gcast z43.2 20 20 z43.1).bind fun x46 =>
      (gchk z43.2 20 x46).bind fun b49 =>
      (fJ17_charValue E b49 z43.2).bind fun z49 =>
      (grR z49.2 9 9 (some t) 0).bind fun x53 =>
      (gchk z49.2 17 x53).bind fun b58 =>
      (fJ2_get E b58 v4 z49.2).bind fun z58 =>
      (gcast z58.2 8 10 z58.1).bind fun x61 =>
      (fI x61 v1 v2 z58.2).bind fun z66 =>
      (fX11_works E v3 z49.1 z66.1 z66.2).bind fun z71 =>
      fX11_value_b22 E fI n t v1 v2 z71.1 (v4 + 1) z71.2)
def fX11_value (E : g_E) (fI : Option Nat → Option Nat → Int32 → g_G → Option (Int32 × g_G)) (t : Nat) (v1 : Option Nat) (v2 : Int32) (G : g_G) : Option (Int32 × g_G) :=
  (grR G 9 9 (some t) 0).bind fun x1 =>
  (gchk G 17 x1).bind fun b5 =>
  (fJ2_get E b5 0 G).bind fun z5 =>
  (gcast z5.2 8 10 z5.1).bind fun x8 =>
  (fI x8 v1 v2 z5.2).bind fun z13 =>
  fX11_value_b22 E fI gFU t v1 v2 z13.1 1 z13.2
theorem sX11_value_b22 {p : Program} {l : Launch} {e : Env} {R : Room} {s : State} {m : MethodId} {args : Array Value} {below : List Frame} {meth : Method} {c : Code} {E : g_E} {D : g_D} {fI : Option Nat → Option Nat → Int32 → g_G → Option (Int32 × g_G)} {fF : Nat} {fL : Nat} (C : gC p R s m args meth c cX11_value 5 RX11 "value" (some .int) (fF + 9) (fL + 300) E D) (hfI : gIV l E D fI fF fL) : ∀ (n : Nat) (t : Nat) (v1 : Option Nat) (v2 : Int32) (v3 : Int32) (v4 : Int32) (G : g_G) (q : Int32 × g_G), fX11_value_b22 E fI n t v1 v2 v3 v4 G = some q → ∀ (H : Heap) (locs : List Loc) (cells slots : Nat) (ls : Array Slot), gSt E D G H locs → gls ls 5 [(0, .inr (.inr (some t))), (1, .inr (.inr v1)), (2, .inl v2), (3, .inl v3), (4, .inl v4)] → gT p l e R s m args below meth c E D H locs cells slots (some (.int q.1)) q.2 (F0 m 22 ls []) := by
  obtain ⟨hx, hb, hml, hown, hts, hKn, hRc, hRs, hc1, hc2, hRf, hRl, hr, hlk, hnm⟩ := id C
  intro n
  induction n with
  | zero =>
    intro t v1 v2 v3 v4 G q h
    exact g_no h
  | succ n ih =>
    intro t v1 v2 v3 v4 G q h H locs cells slots ls hS hl
    rw [fX11_value_b22] at h
    refine g_iload hx hb hl 4 rfl dX11_value_22 ?_
    refine g_aload_n hx hb hl 0 rfl dX11_value_24 ?_
    refine g_rdR hx hb hown hts hKn hS h fd_9_9_0 rfl (Or.inl (hts _ q1516)) (fun _ z => z) dX11_value_25 (fun x25 h => ?_)
    obtain ⟨b28, hb28, h⟩ := g_bnd h
    obtain ⟨hr28, hk28⟩ := g_chk hb28
    obtain ⟨z28, h28, h⟩ := g_bnd h
    refine g_callV (n := 0) (b := b28) (av := []) (rs := [.inl v4]) hx hb hml hown hts hKn hRc hRs hS hl (sJ2_size l E D h28) (lw_V q781 q782 q783 q117 q784) ⟨rfl, by decide, by decide, by decide +kernel⟩ ⟨by rw [hRf]; omega, by rw [hRl]; omega⟩ (g_recv hKn hS hk28 (by decide) (by decide)) rfl (by rw [hr28]; rfl) (Nat.le_of_ble_eq_true rfl) dX11_value_28 (fun H locs cells slots hS => ?_)
    refine lv_icmp_ge (tgt := 81) hx hb dX11_value_31 (by decide) (fun c_31 => ?_) (fun c_31 => ?_)
    · have h := g_ift c_31 h
      refine g_iload_n hx hb hl 3 rfl dX11_value_81 ?_
      exact g_iretG hx hb hr hlk hKn hRc hRs hS h dX11_value_82
    · have h := g_iff c_31 h
      refine g_iload_n hx hb hl 3 rfl dX11_value_34 ?_
      refine g_aload_n hx hb hl 0 rfl dX11_value_35 ?_
      refine g_rdR hx hb hown hts hKn hS h fd_9_9_1 rfl (Or.inl (hts _ q1517)) (fun _ z => z) dX11_value_36 (fun x36 h => ?_)
      refine g_iload hx hb hl 4 rfl dX11_value_39 ?_
      refine lv_iconst (v := 1) hx hb dX11_value_41 (by decide) ?_
      refine lv_isub hx hb dX11_value_42 ?_
      obtain ⟨b43, hb43, h⟩ := g_bnd h
      obtain ⟨hr43, hk43⟩ := g_chk hb43
      obtain ⟨z43, h43, h⟩ := g_bnd h
      refine g_callV (n := 1) (b := b43) (av := [.inl (v4 - 1)]) (rs := [.inl v3]) hx hb hml hown hts hKn hRc hRs hS hl (sJ2_get l E D h43) (lw_V q758 q759 q760 q117 q761) ⟨rfl, by decide, by decide, by decide +kernel⟩ ⟨by rw [hRf]; omega, by rw [hRl]; omega⟩ (g_recv hKn hS hk43 (by decide) (by decide)) rfl (by rw [hr43]; rfl) (Nat.le_of_ble_eq_true rfl) dX11_value_43 (fun H locs cells slots hS => ?_)
      refine g_castS (k := 20) hx hb hown hKn hS h (by decide) (by decide) (hts _ q785) dX11_value_46 (fun x46 h => ?_)
      obtain ⟨b49, hb49, h⟩ := g_bnd h
      obtain ⟨hr49, hk49⟩ := g_chk hb49
      obtain ⟨z49, h49, h⟩ := g_bnd h
      refine g_callV (n := 0) (b := b49) (av := []) (rs := [.inl v3]) hx hb hml hown hts hKn hRc hRs hS hl (sJ17_charValue l E D h49) (lw_V q786 q787 q788 q139 q789) ⟨rfl, by decide, by decide, by decide +kernel⟩ ⟨by rw [hRf]; omega, by rw [hRl]; omega⟩ (g_recv hKn hS hk49 (by decide) (by decide)) rfl (by rw [hr49]; rfl) (Nat.le_of_ble_eq_true rfl) dX11_value_49 (fun H locs cells slots hS => ?_)
      refine g_aload_n hx hb hl 0 rfl dX11_value_52 ?_
      refine g_rdR hx hb hown hts hKn hS h fd_9_9_0 rfl (Or.inl (hts _ q1516)) (fun _ z => z) dX11_value_53 (fun x53 h => ?_)
      refine g_iload hx hb hl 4 rfl dX11_value_56 ?_
      obtain ⟨b58, hb58, h⟩ := g_bnd h
      obtain ⟨hr58, hk58⟩ := g_chk hb58
      obtain ⟨z58, h58, h⟩ := g_bnd h
      refine g_callV (n := 1) (b := b58) (av := [.inl v4]) (rs := [.inl z49.1, .inl v3]) hx hb hml hown hts hKn hRc hRs hS hl (sJ2_get l E D h58) (lw_V q758 q759 q760 q117 q761) ⟨rfl, by decide, by decide, by decide +kernel⟩ ⟨by rw [hRf]; omega, by rw [hRl]; omega⟩ (g_recv hKn hS hk58 (by decide) (by decide)) rfl (by rw [hr58]; rfl) (Nat.le_of_ble_eq_true rfl) dX11_value_58 (fun H locs cells slots hS => ?_)
      refine g_castY (lo := 8) (hi := 10) (C := "SendHall$Expr") hx hb hown hKn hS h (by decide) (by decide) (hts _ q772) ct_8_10 dX11_value_61 (fun x61 h => ?_)
      refine g_aload_n hx hb hl 1 rfl dX11_value_64 ?_
      refine g_iload_n hx hb hl 2 rfl dX11_value_65 ?_
      obtain ⟨z66, h66, h⟩ := g_bnd h
      refine g_valueI (rs := [.inl z49.1, .inl v3]) hx hb hml hown hts hKn hRc hRs hS hl hfI h66 q774 ⟨by rw [hRf]; omega, by rw [hRl]; omega⟩ rfl (Nat.le_of_ble_eq_true rfl) dX11_value_66 (fun H locs cells slots hS => ?_)
      obtain ⟨z71, h71, h⟩ := g_bnd h
      refine g_callS (n := 3) (av := [.inl v3, .inl z49.1, .inl z66.1]) (rs := []) hx hb hml hown hts hKn hRc hRs hS hl (sX11_works l E D h71) (lw_S q790 q791 q145 q792) ⟨by decide, by decide, by decide +kernel⟩ ⟨by rw [hRf]; omega, by rw [hRl]; omega⟩ rfl rfl (Nat.le_of_ble_eq_true rfl) dX11_value_71 (fun H locs cells slots hS => ?_)
      refine g_istore_n (l1 := [(3, .inl z71.1), (0, .inr (.inr (some t))), (1, .inr (.inr v1)), (2, .inl v2), (4, .inl v4)]) hx hb hl (by decide) rfl dX11_value_74 (fun ls hl => ?_)
      refine g_iinc (l1 := [(4, .inl (v4 + 1)), (3, .inl z71.1), (0, .inr (.inr (some t))), (1, .inr (.inr v1)), (2, .inl v2)]) (v := (v4 + 1)) hx hb hl (k := 4) rfl (by rfl) (by decide) rfl dX11_value_75 (fun ls hl => ?_)
      refine lv_goto (tgt := 22) hx hb dX11_value_78 (by decide) ?_
      exact ih _ _ _ _ _ _ _ h _ _ _ _ _ hS (gls_sub hl [2, 3, 4, 1, 0] rfl)
theorem sX11_value (l : Launch) (E : g_E) (D : g_D) {fI : Option Nat → Option Nat → Int32 → g_G → Option (Int32 × g_G)} {fF : Nat} {fL : Nat} (hfI : gIV l E D fI fF fL) {t : Nat} {v1 : Option Nat} {v2 : Int32} {G : g_G} {q : Int32 × g_G} (h : fX11_value E fI t v1 v2 G = some q) : gMet l E D yX11_value (ws_ yX11_value cX11_value 5 (some .int)) (fF + 9) (fL + 300) [.inr (.inr (some t)), .inr (.inr v1), .inl v2] G (some (.int q.1)) q.2 := by
  refine gMet.of (by decide +kernel) (Nat.le_of_ble_eq_true rfl) ?_
  intro p e R s m args below meth c C hS ls hl
  have C : gC p R s m args meth c cX11_value 5 RX11 "value" (some .int) (fF + 9) (fL + 300) E D := C
  obtain ⟨hx, hb, hml, hown, hts, hKn, hRc, hRs, hc1, hc2, hRf, hRl, hr, hlk, hnm⟩ := id C
  have hl : gls ls 5 [(0, .inr (.inr (some t))), (1, .inr (.inr v1)), (2, .inl v2)] := hl
  generalize s.heap = H at hS ⊢
  unfold fX11_value at h
  refine g_aload_n hx hb hl 0 rfl dX11_value_0 ?_
  refine g_rdR hx hb hown hts hKn hS h fd_9_9_0 rfl (Or.inl (hts _ q1516)) (fun _ z => z) dX11_value_1 (fun x1 h => ?_)
  refine lv_iconst (v := 0) hx hb dX11_value_4 (by decide) ?_
  obtain ⟨b5, hb5, h⟩ := g_bnd h
  obtain ⟨hr5, hk5⟩ := g_chk hb5
  obtain ⟨z5, h5, h⟩ := g_bnd h
  refine g_callV (n := 1) (b := b5) (av := [.inl 0]) (rs := []) hx hb hml hown hts hKn hRc hRs hS hl (sJ2_get l E D h5) (lw_V q758 q759 q760 q117 q761) ⟨rfl, by decide, by decide, by decide +kernel⟩ ⟨by rw [hRf]; omega, by rw [hRl]; omega⟩ (g_recv hKn hS hk5 (by decide) (by decide)) rfl (by rw [hr5]; rfl) (Nat.le_of_ble_eq_true rfl) dX11_value_5 (fun H locs cells slots hS => ?_)
  refine g_castY (lo := 8) (hi := 10) (C := "SendHall$Expr") hx hb hown hKn hS h (by decide) (by decide) (hts _ q772) ct_8_10 dX11_value_8 (fun x8 h => ?_)
  refine g_aload_n hx hb hl 1 rfl dX11_value_11 ?_
  refine g_iload_n hx hb hl 2 rfl dX11_value_12 ?_
  obtain ⟨z13, h13, h⟩ := g_bnd h
  refine g_valueI (rs := []) hx hb hml hown hts hKn hRc hRs hS hl hfI h13 q774 ⟨by rw [hRf]; omega, by rw [hRl]; omega⟩ rfl (Nat.le_of_ble_eq_true rfl) dX11_value_13 (fun H locs cells slots hS => ?_)
  refine g_istore_n (l1 := [(3, .inl z13.1), (0, .inr (.inr (some t))), (1, .inr (.inr v1)), (2, .inl v2)]) hx hb hl (by decide) rfl dX11_value_18 (fun ls hl => ?_)
  refine lv_iconst (v := 1) hx hb dX11_value_19 (by decide) ?_
  refine g_istore (l1 := [(4, .inl 1), (3, .inl z13.1), (0, .inr (.inr (some t))), (1, .inr (.inr v1)), (2, .inl v2)]) hx hb hl (by decide) rfl dX11_value_20 (fun ls hl => ?_)
  exact sX11_value_b22 C hfI gFU _ _ _ _ _ _ _ h _ _ _ _ _ hS (gls_sub hl [2, 3, 4, 1, 0] rfl)
/-- Expr.value, by the kind of the object; rows may lie d deep in one another -/
def fI_value (E : g_E) : Nat → Option Nat → Option Nat → Int32 → g_G → Option (Int32 × g_G)
  | 0 => fun r v1 v2 G => r.bind fun t => if gcl G t = 8 then fX10_value E t v1 v2 G else if gcl G t = 10 then fX12_value E t v1 v2 G else none
  | d + 1 => fun r v1 v2 G => r.bind fun t => if gcl G t = 8 then fX10_value E t v1 v2 G else if gcl G t = 10 then fX12_value E t v1 v2 G else if gcl G t = 9 then fX11_value E (fI_value E d) t v1 v2 G else none
theorem gI_all (l : Launch) (E : g_E) (D : g_D) : ∀ d, gIV l E D (fI_value E d) (9 * d + 1) (300 * d + 64)
  | 0 => by
    intro r v1 v2 G q h
    obtain ⟨t, rfl, h⟩ := g_bnd h
    refine ⟨t, rfl, ?_⟩
    by_cases h8 : gcl G t = 8
    · exact Or.inl ⟨h8, 1, 64, by omega, by omega, by omega, sX10_value l E D (g_ift h8 h)⟩
    · have h := g_iff h8 h
      by_cases h10 : gcl G t = 10
      · exact Or.inr (Or.inr ⟨h10, 1, 64, by omega, by omega, by omega, sX12_value l E D (g_ift h10 h)⟩)
      · have h := g_iff h10 h
        exact g_no h
  | d + 1 => by
    intro r v1 v2 G q h
    obtain ⟨t, rfl, h⟩ := g_bnd h
    refine ⟨t, rfl, ?_⟩
    by_cases h8 : gcl G t = 8
    · exact Or.inl ⟨h8, 1, 64, by omega, by omega, by omega, sX10_value l E D (g_ift h8 h)⟩
    · have h := g_iff h8 h
      by_cases h10 : gcl G t = 10
      · exact Or.inr (Or.inr ⟨h10, 1, 64, by omega, by omega, by omega, sX12_value l E D (g_ift h10 h)⟩)
      · have h := g_iff h10 h
        by_cases h9 : gcl G t = 9
        · exact Or.inr (Or.inl ⟨h9, 9 * d + 1 + 9, 300 * d + 64 + 300, by omega, by omega, by omega, sX11_value l E D (gI_all l E D d) (g_ift h9 h)⟩)
        · exact g_no (g_iff h9 h)
theorem gI_top (l : Launch) (E : g_E) (D : g_D) : gIV l E D (fI_value E gDP) 217 7264 := gI_all l E D 24
/-- SendHall$Wait.of(LSendHall$Life;I)I -/
def fX13_of (E : g_E) (t : Nat) (v1 : Option Nat) (v2 : Int32) (G : g_G) : Option (Int32 × g_G) :=
  (grR G 16 16 (some t) 4).bind fun x1 =>
  if ¬ x1 = none then (
    (grR G 16 16 (some t) 4).bind fun x12 =>
    (fI_value E gDP x12 v1 v2 G).bind fun z17 =>
    some (z17.1, z17.2))
  else (
    some ((-1), G))
theorem sX13_of (l : Launch) (E : g_E) (D : g_D) {t : Nat} {v1 : Option Nat} {v2 : Int32} {G : g_G} {q : Int32 × g_G} (h : fX13_of E t v1 v2 G = some q) : gMet l E D yX13_of (ws_ yX13_of cX13_of 3 (some .int)) 218 7304 [.inr (.inr (some t)), .inr (.inr v1), .inl v2] G (some (.int q.1)) q.2 := by
  refine gMet.of (by decide +kernel) (Nat.le_of_ble_eq_true rfl) ?_
  intro p e R s m args below meth c C hS ls hl
  have C : gC p R s m args meth c cX13_of 3 RX13 "of" (some .int) 218 7304 E D := C
  obtain ⟨hx, hb, hml, hown, hts, hKn, hRc, hRs, hc1, hc2, hRf, hRl, hr, hlk, hnm⟩ := id C
  have hl : gls ls 3 [(0, .inr (.inr (some t))), (1, .inr (.inr v1)), (2, .inl v2)] := hl
  generalize s.heap = H at hS ⊢
  unfold fX13_of at h
  refine g_aload_n hx hb hl 0 rfl dX13_of_0 ?_
  refine g_rdR hx hb hown hts hKn hS h fd_16_16_4 rfl (Or.inl (hts _ q1591)) (fun _ z => z) dX13_of_1 (fun x1 h => ?_)
  refine g_ifnonnull (tgt := 11) hx hb dX13_of_4 (by decide) (fun c_4 => ?_) (fun c_4 => ?_)
  · have h := g_ift c_4 h
    refine g_aload_n hx hb hl 0 rfl dX13_of_11 ?_
    refine g_rdR hx hb hown hts hKn hS h fd_16_16_4 rfl (Or.inl (hts _ q1591)) (fun _ z => z) dX13_of_12 (fun x12 h => ?_)
    refine g_aload_n hx hb hl 1 rfl dX13_of_15 ?_
    refine g_iload_n hx hb hl 2 rfl dX13_of_16 ?_
    obtain ⟨z17, h17, h⟩ := g_bnd h
    refine g_valueI (rs := []) hx hb hml hown hts hKn hRc hRs hS hl (gI_top l E D) h17 q831 ⟨by rw [hRf]; exact Nat.le_of_ble_eq_true rfl, by rw [hRl]; exact Nat.le_of_ble_eq_true rfl⟩ rfl (Nat.le_of_ble_eq_true rfl) dX13_of_17 (fun H locs cells slots hS => ?_)
    exact g_iretG hx hb hr hlk hKn hRc hRs hS h dX13_of_22
  · have h := g_iff (fun z => z c_4) h
    refine lv_iconst (v := (-1)) hx hb dX13_of_7 (by decide) ?_
    refine lv_goto (tgt := 22) hx hb dX13_of_8 (by decide) ?_
    exact g_iretG hx hb hr hlk hKn hRc hRs hS h dX13_of_22
/-- SendHall$Wait.takes(LSendHall$Life;II)Z -/
def fX13_takes_b22 (E : g_E) (G : g_G) : Option (Int32 × g_G) :=
  if (1 : Int32) = 0 ∨ (1 : Int32) = 1 then some (1, G) else none
def fX13_takes (E : g_E) (t : Nat) (v1 : Option Nat) (v2 : Int32) (v3 : Int32) (G : g_G) : Option (Int32 × g_G) :=
  (grR G 16 16 (some t) 4).bind fun x1 =>
  if x1 = none then (
    fX13_takes_b22 E G)
  else (
    (grR G 16 16 (some t) 4).bind fun x8 =>
    (fI_value E gDP x8 v1 v2 G).bind fun z13 =>
    if ¬ z13.1 = v3 then (
      if (0 : Int32) = 0 ∨ (0 : Int32) = 1 then some (0, z13.2) else none)
    else (
      fX13_takes_b22 E z13.2))
theorem sX13_takes_b22 {p : Program} {l : Launch} {e : Env} {R : Room} {s : State} {m : MethodId} {args : Array Value} {below : List Frame} {meth : Method} {c : Code} {E : g_E} {D : g_D} (C : gC p R s m args meth c cX13_takes 4 RX13 "takes" (some .boolean) 218 7304 E D) : ∀ (G : g_G) (q : Int32 × g_G), fX13_takes_b22 E G = some q → ∀ (H : Heap) (locs : List Loc) (cells slots : Nat) (ls : Array Slot), gSt E D G H locs → gls ls 4 [] → gT p l e R s m args below meth c E D H locs cells slots (some (.int q.1)) q.2 (F0 m 22 ls []) := by
  obtain ⟨hx, hb, hml, hown, hts, hKn, hRc, hRs, hc1, hc2, hRf, hRl, hr, hlk, hnm⟩ := id C
  intro G q h H locs cells slots ls hS hl
  unfold fX13_takes_b22 at h
  refine lv_iconst (v := 1) hx hb dX13_takes_22 (by decide) ?_
  refine lv_goto (tgt := 27) hx hb dX13_takes_23 (by decide) ?_
  exact g_zretG hx hb hr hlk hKn hRc hRs hS h dX13_takes_27
theorem sX13_takes (l : Launch) (E : g_E) (D : g_D) {t : Nat} {v1 : Option Nat} {v2 : Int32} {v3 : Int32} {G : g_G} {q : Int32 × g_G} (h : fX13_takes E t v1 v2 v3 G = some q) : gMet l E D yX13_takes (ws_ yX13_takes cX13_takes 4 (some .boolean)) 218 7304 [.inr (.inr (some t)), .inr (.inr v1), .inl v2, .inl v3] G (some (.int q.1)) q.2 := by
  refine gMet.of (by decide +kernel) (Nat.le_of_ble_eq_true rfl) ?_
  intro p e R s m args below meth c C hS ls hl
  have C : gC p R s m args meth c cX13_takes 4 RX13 "takes" (some .boolean) 218 7304 E D := C
  obtain ⟨hx, hb, hml, hown, hts, hKn, hRc, hRs, hc1, hc2, hRf, hRl, hr, hlk, hnm⟩ := id C
  have hl : gls ls 4 [(0, .inr (.inr (some t))), (1, .inr (.inr v1)), (2, .inl v2), (3, .inl v3)] := hl
  generalize s.heap = H at hS ⊢
  unfold fX13_takes at h
  refine g_aload_n hx hb hl 0 rfl dX13_takes_0 ?_
  refine g_rdR hx hb hown hts hKn hS h fd_16_16_4 rfl (Or.inl (hts _ q1591)) (fun _ z => z) dX13_takes_1 (fun x1 h => ?_)
  refine g_ifnull (tgt := 22) hx hb dX13_takes_4 (by decide) (fun c_4 => ?_) (fun c_4 => ?_)
  · have h := g_ift c_4 h
    exact sX13_takes_b22 C _ _ h _ _ _ _ _ hS (gls_sub hl [] rfl)
  · have h := g_iff c_4 h
    refine g_aload_n hx hb hl 0 rfl dX13_takes_7 ?_
    refine g_rdR hx hb hown hts hKn hS h fd_16_16_4 rfl (Or.inl (hts _ q1591)) (fun _ z => z) dX13_takes_8 (fun x8 h => ?_)
    refine g_aload_n hx hb hl 1 rfl dX13_takes_11 ?_
    refine g_iload_n hx hb hl 2 rfl dX13_takes_12 ?_
    obtain ⟨z13, h13, h⟩ := g_bnd h
    refine g_valueI (rs := []) hx hb hml hown hts hKn hRc hRs hS hl (gI_top l E D) h13 q831 ⟨by rw [hRf]; exact Nat.le_of_ble_eq_true rfl, by rw [hRl]; exact Nat.le_of_ble_eq_true rfl⟩ rfl (Nat.le_of_ble_eq_true rfl) dX13_takes_13 (fun H locs cells slots hS => ?_)
    refine g_iload_n hx hb hl 3 rfl dX13_takes_18 ?_
    refine lv_icmp_ne (tgt := 26) hx hb dX13_takes_19 (by decide) (fun c_19 => ?_) (fun c_19 => ?_)
    · have h := g_ift c_19 h
      refine lv_iconst (v := 0) hx hb dX13_takes_26 (by decide) ?_
      exact g_zretG hx hb hr hlk hKn hRc hRs hS h dX13_takes_27
    · have h := g_iff (fun z => z c_19) h
      exact sX13_takes_b22 C _ _ h _ _ _ _ _ hS (gls_sub hl [] rfl)
/-- SendHall$Set.comes(LSendHall$Life;I)LSendHall$Step; -/
def fX14_comes (E : g_E) (t : Nat) (v1 : Option Nat) (v2 : Int32) (G : g_G) : Option (Option Nat × g_G) :=
  (grR G 3 3 v1 5).bind fun x1 =>
  (grI G 12 12 (some t) 3).bind fun x8 =>
  (grR G 12 12 (some t) 4).bind fun x13 =>
  (fI_value E gDP x13 v1 v2 G).bind fun z18 =>
  (gsaI E z18.2 x1 ((4 * v2) + x8) z18.1).bind fun G23 =>
  (grR G23 12 12 (some t) 2).bind fun x25 =>
  some (x25, G23)
theorem sX14_comes (l : Launch) (E : g_E) (D : g_D) {t : Nat} {v1 : Option Nat} {v2 : Int32} {G : g_G} {q : Option Nat × g_G} (h : fX14_comes E t v1 v2 G = some q) : gMet l E D yX14_comes (ws_ yX14_comes cX14_comes 3 (some (.object "SendHall$Step"))) 218 7304 [.inr (.inr (some t)), .inr (.inr v1), .inl v2] G (some (va_rf q.1)) q.2 := by
  refine gMet.of (by decide +kernel) (Nat.le_of_ble_eq_true rfl) ?_
  intro p e R s m args below meth c C hS ls hl
  have C : gC p R s m args meth c cX14_comes 3 RX14 "comes" (some (.object "SendHall$Step")) 218 7304 E D := C
  obtain ⟨hx, hb, hml, hown, hts, hKn, hRc, hRs, hc1, hc2, hRf, hRl, hr, hlk, hnm⟩ := id C
  have hl : gls ls 3 [(0, .inr (.inr (some t))), (1, .inr (.inr v1)), (2, .inl v2)] := hl
  generalize s.heap = H at hS ⊢
  unfold fX14_comes at h
  refine g_aload_n hx hb hl 1 rfl dX14_comes_0 ?_
  refine g_rdR hx hb hown hts hKn hS h fd_3_3_5 rfl (Or.inr ⟨_, gNest_use rfl (hKn.2.2.2.2.1 _ (gNest_in q551 rfl))⟩) (fun _ z => z) dX14_comes_1 (fun x1 h => ?_)
  refine lv_iconst (v := 4) hx hb dX14_comes_4 (by decide) ?_
  refine g_iload_n hx hb hl 2 rfl dX14_comes_5 ?_
  refine lv_imul hx hb dX14_comes_6 ?_
  refine g_aload_n hx hb hl 0 rfl dX14_comes_7 ?_
  refine g_rdI hx hb hown hts hKn hS h fd_12_12_3 rfl (Or.inl (hts _ q1625)) (fun _ z => z) dX14_comes_8 (fun x8 h => ?_)
  refine lv_iadd hx hb dX14_comes_11 ?_
  refine g_aload_n hx hb hl 0 rfl dX14_comes_12 ?_
  refine g_rdR hx hb hown hts hKn hS h fd_12_12_4 rfl (Or.inl (hts _ q1626)) (fun _ z => z) dX14_comes_13 (fun x13 h => ?_)
  refine g_aload_n hx hb hl 1 rfl dX14_comes_16 ?_
  refine g_iload_n hx hb hl 2 rfl dX14_comes_17 ?_
  obtain ⟨z18, h18, h⟩ := g_bnd h
  refine g_valueI (rs := [.inl ((4 * v2) + x8), .inr (.inr x1)]) hx hb hml hown hts hKn hRc hRs hS hl (gI_top l E D) h18 q817 ⟨by rw [hRf]; exact Nat.le_of_ble_eq_true rfl, by rw [hRl]; exact Nat.le_of_ble_eq_true rfl⟩ rfl (Nat.le_of_ble_eq_true rfl) dX14_comes_18 (fun H locs cells slots hS => ?_)
  refine g_iastoreG hx hb hKn hS h dX14_comes_23 (fun G23 h H locs hS => ?_)
  refine g_aload_n hx hb hl 0 rfl dX14_comes_24 ?_
  refine g_rdR hx hb hown hts hKn hS h fd_12_12_2 rfl (Or.inl (hts _ q1431)) (u_same (hts _ q1432)) dX14_comes_25 (fun x25 h => ?_)
  exact g_aretG hx hb hr (by first | exact Or.inl ⟨_, rfl⟩ | exact Or.inr ⟨_, rfl⟩) hlk hKn hRc hRs hS h dX14_comes_28
/-- SendHall$Tell.comes(LSendHall$Life;I)LSendHall$Step; -/
def fX15_comes (E : g_E) (t : Nat) (v1 : Option Nat) (v2 : Int32) (G : g_G) : Option (Option Nat × g_G) :=
  (grR G 3 3 v1 7).bind fun x1 =>
  (grR G 3 3 v1 7).bind fun x8 =>
  (gaI G 100 x8 v2).bind fun x12 =>
  (grR G 13 13 (some t) 3).bind fun x15 =>
  (fI_value E gDP x15 v1 v2 G).bind fun z20 =>
  (gsaI E z20.2 x1 v2 ((31 * x12) + z20.1)).bind fun G26 =>
  (grR G26 13 13 (some t) 2).bind fun x28 =>
  some (x28, G26)
theorem sX15_comes (l : Launch) (E : g_E) (D : g_D) {t : Nat} {v1 : Option Nat} {v2 : Int32} {G : g_G} {q : Option Nat × g_G} (h : fX15_comes E t v1 v2 G = some q) : gMet l E D yX15_comes (ws_ yX15_comes cX15_comes 3 (some (.object "SendHall$Step"))) 218 7304 [.inr (.inr (some t)), .inr (.inr v1), .inl v2] G (some (va_rf q.1)) q.2 := by
  refine gMet.of (by decide +kernel) (Nat.le_of_ble_eq_true rfl) ?_
  intro p e R s m args below meth c C hS ls hl
  have C : gC p R s m args meth c cX15_comes 3 RX15 "comes" (some (.object "SendHall$Step")) 218 7304 E D := C
  obtain ⟨hx, hb, hml, hown, hts, hKn, hRc, hRs, hc1, hc2, hRf, hRl, hr, hlk, hnm⟩ := id C
  have hl : gls ls 3 [(0, .inr (.inr (some t))), (1, .inr (.inr v1)), (2, .inl v2)] := hl
  generalize s.heap = H at hS ⊢
  unfold fX15_comes at h
  refine g_aload_n hx hb hl 1 rfl dX15_comes_0 ?_
  refine g_rdR hx hb hown hts hKn hS h fd_3_3_7 rfl (Or.inr ⟨_, gNest_use rfl (hKn.2.2.2.2.1 _ (gNest_in q558 rfl))⟩) (fun _ z => z) dX15_comes_1 (fun x1 h => ?_)
  refine g_iload_n hx hb hl 2 rfl dX15_comes_4 ?_
  refine lv_bipush (v := 31) hx hb dX15_comes_5 (by decide) ?_
  refine g_aload_n hx hb hl 1 rfl dX15_comes_7 ?_
  refine g_rdR hx hb hown hts hKn hS h fd_3_3_7 rfl (Or.inr ⟨_, gNest_use rfl (hKn.2.2.2.2.1 _ (gNest_in q558 rfl))⟩) (fun _ z => z) dX15_comes_8 (fun x8 h => ?_)
  refine g_iload_n hx hb hl 2 rfl dX15_comes_11 ?_
  refine g_ialoadG hx hb hKn hS h dX15_comes_12 (fun x12 h => ?_)
  refine lv_imul hx hb dX15_comes_13 ?_
  refine g_aload_n hx hb hl 0 rfl dX15_comes_14 ?_
  refine g_rdR hx hb hown hts hKn hS h fd_13_13_3 rfl (Or.inl (hts _ q1641)) (fun _ z => z) dX15_comes_15 (fun x15 h => ?_)
  refine g_aload_n hx hb hl 1 rfl dX15_comes_18 ?_
  refine g_iload_n hx hb hl 2 rfl dX15_comes_19 ?_
  obtain ⟨z20, h20, h⟩ := g_bnd h
  refine g_valueI (rs := [.inl (31 * x12), .inl v2, .inr (.inr x1)]) hx hb hml hown hts hKn hRc hRs hS hl (gI_top l E D) h20 q822 ⟨by rw [hRf]; exact Nat.le_of_ble_eq_true rfl, by rw [hRl]; exact Nat.le_of_ble_eq_true rfl⟩ rfl (Nat.le_of_ble_eq_true rfl) dX15_comes_20 (fun H locs cells slots hS => ?_)
  refine lv_iadd hx hb dX15_comes_25 ?_
  refine g_iastoreG hx hb hKn hS h dX15_comes_26 (fun G26 h H locs hS => ?_)
  refine g_aload_n hx hb hl 0 rfl dX15_comes_27 ?_
  refine g_rdR hx hb hown hts hKn hS h fd_13_13_2 rfl (Or.inl (hts _ q1433)) (u_same (hts _ q1434)) dX15_comes_28 (fun x28 h => ?_)
  exact g_aretG hx hb hr (by first | exact Or.inl ⟨_, rfl⟩ | exact Or.inr ⟨_, rfl⟩) hlk hKn hRc hRs hS h dX15_comes_31
/-- SendHall$If.comes(LSendHall$Life;I)LSendHall$Step; -/
def fX16_comes (E : g_E) (t : Nat) (v1 : Option Nat) (v2 : Int32) (G : g_G) : Option (Option Nat × g_G) :=
  (grR G 14 14 (some t) 3).bind fun x1 =>
  (fI_value E gDP x1 v1 v2 G).bind fun z6 =>
  if z6.1 = 0 then (
    (grR z6.2 14 14 (some t) 5).bind fun x22 =>
    some (x22, z6.2))
  else (
    (grR z6.2 14 14 (some t) 4).bind fun x15 =>
    some (x15, z6.2))
theorem sX16_comes (l : Launch) (E : g_E) (D : g_D) {t : Nat} {v1 : Option Nat} {v2 : Int32} {G : g_G} {q : Option Nat × g_G} (h : fX16_comes E t v1 v2 G = some q) : gMet l E D yX16_comes (ws_ yX16_comes cX16_comes 3 (some (.object "SendHall$Step"))) 218 7304 [.inr (.inr (some t)), .inr (.inr v1), .inl v2] G (some (va_rf q.1)) q.2 := by
  refine gMet.of (by decide +kernel) (Nat.le_of_ble_eq_true rfl) ?_
  intro p e R s m args below meth c C hS ls hl
  have C : gC p R s m args meth c cX16_comes 3 RX16 "comes" (some (.object "SendHall$Step")) 218 7304 E D := C
  obtain ⟨hx, hb, hml, hown, hts, hKn, hRc, hRs, hc1, hc2, hRf, hRl, hr, hlk, hnm⟩ := id C
  have hl : gls ls 3 [(0, .inr (.inr (some t))), (1, .inr (.inr v1)), (2, .inl v2)] := hl
  generalize s.heap = H at hS ⊢
  unfold fX16_comes at h
  refine g_aload_n hx hb hl 0 rfl dX16_comes_0 ?_
  refine g_rdR hx hb hown hts hKn hS h fd_14_14_3 rfl (Or.inl (hts _ q1658)) (fun _ z => z) dX16_comes_1 (fun x1 h => ?_)
  refine g_aload_n hx hb hl 1 rfl dX16_comes_4 ?_
  refine g_iload_n hx hb hl 2 rfl dX16_comes_5 ?_
  obtain ⟨z6, h6, h⟩ := g_bnd h
  refine g_valueI (rs := []) hx hb hml hown hts hKn hRc hRs hS hl (gI_top l E D) h6 q743 ⟨by rw [hRf]; exact Nat.le_of_ble_eq_true rfl, by rw [hRl]; exact Nat.le_of_ble_eq_true rfl⟩ rfl (Nat.le_of_ble_eq_true rfl) dX16_comes_6 (fun H locs cells slots hS => ?_)
  refine lv_if_eq (tgt := 21) hx hb dX16_comes_11 (by decide) (fun c_11 => ?_) (fun c_11 => ?_)
  · have h := g_ift c_11 h
    refine g_aload_n hx hb hl 0 rfl dX16_comes_21 ?_
    refine g_rdR hx hb hown hts hKn hS h fd_14_14_5 rfl (Or.inl (hts _ q1661)) (fun _ z => z) dX16_comes_22 (fun x22 h => ?_)
    exact g_aretG hx hb hr (by first | exact Or.inl ⟨_, rfl⟩ | exact Or.inr ⟨_, rfl⟩) hlk hKn hRc hRs hS h dX16_comes_25
  · have h := g_iff c_11 h
    refine g_aload_n hx hb hl 0 rfl dX16_comes_14 ?_
    refine g_rdR hx hb hown hts hKn hS h fd_14_14_4 rfl (Or.inl (hts _ q1659)) (fun _ z => z) dX16_comes_15 (fun x15 h => ?_)
    refine lv_goto (tgt := 25) hx hb dX16_comes_18 (by decide) ?_
    exact g_aretG hx hb hr (by first | exact Or.inl ⟨_, rfl⟩ | exact Or.inr ⟨_, rfl⟩) hlk hKn hRc hRs hS h dX16_comes_25
/-- SendHall.areAllAt(LSendHall$Life;I)Z -/
def fX1_areAllAt_b2 (E : g_E) : Nat → (Option Nat) → Int32 → Int32 → g_G → Option (Int32 × g_G)
  | 0, _, _, _, _ => none
  | n + 1, v1, v2, v3, G =>
    (grI G 3 3 v1 0).bind fun x4 =>
    if x4 ≤ v3 then (
      if (1 : Int32) = 0 ∨ (1 : Int32) = 1 then some (1, G) else none)
    else (
      (gchk G 3 v1).bind fun b13 =>
      (fX3_isAt E b13 v3 v2 G).bind fun z13 =>
      if ¬ z13.1 = 0 then (
        fX1_areAllAt_b2 E n v1 v2 (v3 + 1) z13.2)
      else (
        if (0 : Int32) = 0 ∨ (0 : Int32) = 1 then some (0, z13.2) else none))
def fX1_areAllAt (E : g_E) (t : Nat) (v1 : Option Nat) (v2 : Int32) (G : g_G) : Option (Int32 × g_G) :=
  fX1_areAllAt_b2 E gFU v1 v2 0 G
theorem sX1_areAllAt_b2 {p : Program} {l : Launch} {e : Env} {R : Room} {s : State} {m : MethodId} {args : Array Value} {below : List Frame} {meth : Method} {c : Code} {E : g_E} {D : g_D} (C : gC p R s m args meth c cX1_areAllAt 4 RX1 "areAllAt" (some .boolean) 2 86 E D) : ∀ (n : Nat) (v1 : Option Nat) (v2 : Int32) (v3 : Int32) (G : g_G) (q : Int32 × g_G), fX1_areAllAt_b2 E n v1 v2 v3 G = some q → ∀ (H : Heap) (locs : List Loc) (cells slots : Nat) (ls : Array Slot), gSt E D G H locs → gls ls 4 [(1, .inr (.inr v1)), (2, .inl v2), (3, .inl v3)] → gT p l e R s m args below meth c E D H locs cells slots (some (.int q.1)) q.2 (F0 m 2 ls []) := by
  obtain ⟨hx, hb, hml, hown, hts, hKn, hRc, hRs, hc1, hc2, hRf, hRl, hr, hlk, hnm⟩ := id C
  intro n
  induction n with
  | zero =>
    intro v1 v2 v3 G q h
    exact g_no h
  | succ n ih =>
    intro v1 v2 v3 G q h H locs cells slots ls hS hl
    rw [fX1_areAllAt_b2] at h
    refine g_iload_n hx hb hl 2 rfl dX1_areAllAt_2 ?_
    refine g_aload_n hx hb hl 0 rfl dX1_areAllAt_3 ?_
    refine g_rdI hx hb hown hts hKn hS h fd_3_3_0 rfl (Or.inr ⟨_, gNest_use rfl (hKn.2.2.2.2.1 _ (gNest_in q537 rfl))⟩) (fun _ z => z) dX1_areAllAt_4 (fun x4 h => ?_)
    refine lv_icmp_ge (tgt := 27) hx hb dX1_areAllAt_7 (by decide) (fun c_7 => ?_) (fun c_7 => ?_)
    · have h := g_ift c_7 h
      refine lv_iconst (v := 1) hx hb dX1_areAllAt_27 (by decide) ?_
      exact g_zretG hx hb hr hlk hKn hRc hRs hS h dX1_areAllAt_28
    · have h := g_iff c_7 h
      refine g_aload_n hx hb hl 0 rfl dX1_areAllAt_10 ?_
      refine g_iload_n hx hb hl 2 rfl dX1_areAllAt_11 ?_
      refine g_iload_n hx hb hl 1 rfl dX1_areAllAt_12 ?_
      obtain ⟨b13, hb13, h⟩ := g_bnd h
      obtain ⟨hr13, hk13⟩ := g_chk hb13
      obtain ⟨z13, h13, h⟩ := g_bnd h
      refine g_callV (n := 2) (b := b13) (av := [.inl v3, .inl v2]) (rs := []) hx hb hml hown hts hKn hRc hRs hS hl (sX3_isAt l E D h13) (lw_V q874 q875 q876 q134 q877) ⟨rfl, by decide, by decide, by decide +kernel⟩ ⟨by rw [hRf]; exact Nat.le_of_ble_eq_true rfl, by rw [hRl]; exact Nat.le_of_ble_eq_true rfl⟩ (g_recv hKn hS hk13 (by decide) (by decide)) rfl (by rw [hr13]; rfl) (Nat.le_of_ble_eq_true rfl) dX1_areAllAt_13 (fun H locs cells slots hS => ?_)
      refine lv_if_ne (tgt := 21) hx hb dX1_areAllAt_16 (by decide) (fun c_16 => ?_) (fun c_16 => ?_)
      · have h := g_ift c_16 h
        refine g_iinc (l1 := [(3, .inl (v3 + 1)), (1, .inr (.inr v1)), (2, .inl v2)]) (v := (v3 + 1)) hx hb hl (k := 2) rfl (by rfl) (by decide) rfl dX1_areAllAt_21 (fun ls hl => ?_)
        refine lv_goto (tgt := 2) hx hb dX1_areAllAt_24 (by decide) ?_
        exact ih _ _ _ _ _ h _ _ _ _ _ hS (gls_sub hl [1, 2, 0] rfl)
      · have h := g_iff (fun z => z c_16) h
        refine lv_iconst (v := 0) hx hb dX1_areAllAt_19 (by decide) ?_
        exact g_zretG hx hb hr hlk hKn hRc hRs hS h dX1_areAllAt_20
theorem sX1_areAllAt (l : Launch) (E : g_E) (D : g_D) {t : Nat} {v1 : Option Nat} {v2 : Int32} {G : g_G} {q : Int32 × g_G} (h : fX1_areAllAt E t v1 v2 G = some q) : gMet l E D yX1_areAllAt (ws_ yX1_areAllAt cX1_areAllAt 4 (some .boolean)) 2 86 [.inr (.inr (some t)), .inr (.inr v1), .inl v2] G (some (.int q.1)) q.2 := by
  refine gMet.of (by decide +kernel) (Nat.le_of_ble_eq_true rfl) ?_
  intro p e R s m args below meth c C hS ls hl
  have C : gC p R s m args meth c cX1_areAllAt 4 RX1 "areAllAt" (some .boolean) 2 86 E D := C
  obtain ⟨hx, hb, hml, hown, hts, hKn, hRc, hRs, hc1, hc2, hRf, hRl, hr, hlk, hnm⟩ := id C
  have hl : gls ls 4 [(0, .inr (.inr (some t))), (1, .inr (.inr v1)), (2, .inl v2)] := hl
  generalize s.heap = H at hS ⊢
  unfold fX1_areAllAt at h
  refine lv_iconst (v := 0) hx hb dX1_areAllAt_0 (by decide) ?_
  refine g_istore_n (l1 := [(3, .inl 0), (0, .inr (.inr (some t))), (1, .inr (.inr v1)), (2, .inl v2)]) hx hb hl (by decide) rfl dX1_areAllAt_1 (fun ls hl => ?_)
  exact sX1_areAllAt_b2 C gFU _ _ _ _ _ h _ _ _ _ _ hS (gls_sub hl [2, 3, 0] rfl)
/-- SendHall.count(I)I -/
def fX1_count (E : g_E) (t : Nat) (v1 : Int32) (G : g_G) : Option ((Int32 × g_G) ⊕ gX) :=
  (fX1_within E v1 0 6 G).bind fun z4 =>
  gcat (fX1_there E z4.1 z4.2) (fun z7 =>
    if v1 = 0 then (
      (grR z7 1 1 (some t) 4).bind fun x49 =>
      (grR z7 2 2 x49 0).bind fun x52 =>
      (gchk z7 17 x52).bind fun b55 =>
      (fJ2_size E b55 z7).bind fun z55 =>
      some (.inl (z55.1, z55.2)))
    else
    if v1 = 1 then (
      (grR z7 1 1 (some t) 4).bind fun x60 =>
      (grI z7 2 2 x60 2).bind fun x63 =>
      some (.inl (x63, z7)))
    else
    if v1 = 2 then (
      (grI z7 1 1 (some t) 0).bind fun x68 =>
      some (.inl (x68, z7)))
    else
    if v1 = 3 then (
      (grI z7 1 1 (some t) 1).bind fun x73 =>
      some (.inl (x73, z7)))
    else
    if v1 = 4 then (
      (grI z7 1 1 (some t) 2).bind fun x78 =>
      some (.inl (x78, z7)))
    else
    if v1 = 5 then (
      (grI z7 1 1 (some t) 3).bind fun x83 =>
      some (.inl (x83, z7)))
    else
    (
      (grI z7 1 1 (some t) 10).bind fun x88 =>
      some (.inl (x88, z7))))
  (fun y => some (.inr y))
theorem sX1_count (l : Launch) (E : g_E) (D : g_D) (hlT : l.stackTraces = false) {t : Nat} {v1 : Int32} {G : g_G} {q : (Int32 × g_G) ⊕ gX} (h : fX1_count E t v1 G = some q) : gMetX l E D yX1_count (ws_ yX1_count cX1_count 2 (some .int)) 9 140 [.inr (.inr (some t)), .inl v1] G gokI q := by
  refine gMetX.of (by decide +kernel) (Nat.le_of_ble_eq_true rfl) ?_
  intro p e R s m args below meth c C htab hS ls hl
  have C : gC p R s m args meth c cX1_count 2 RX1 "count" (some .int) 9 140 E D := C
  obtain ⟨hx, hb, hml, hown, hts, hKn, hRc, hRs, hc1, hc2, hRf, hRl, hr, hlk, hnm⟩ := id C
  have hl : gls ls 2 [(0, .inr (.inr (some t))), (1, .inl v1)] := hl
  generalize hH0 : s.heap = H at hS ⊢
  unfold fX1_count at h
  refine g_iload_n hx hb hl 1 rfl dX1_count_0 ?_
  refine lv_iconst (v := 0) hx hb dX1_count_1 (by decide) ?_
  refine lv_bipush (v := 6) hx hb dX1_count_2 (by decide) ?_
  obtain ⟨z4, h4, h⟩ := g_bnd h
  refine g_callS (n := 3) (av := [.inl v1, .inl 0, .inl 6]) (rs := []) hx hb hml hown hts hKn hRc hRs hS hl (sX1_within l E D h4) (lw_S q713 q714 q113 q715) ⟨by decide, by decide, by decide +kernel⟩ ⟨by rw [hRf]; exact Nat.le_of_ble_eq_true rfl, by rw [hRl]; exact Nat.le_of_ble_eq_true rfl⟩ rfl rfl (Nat.le_of_ble_eq_true rfl) dX1_count_4 (fun H locs cells slots hS => ?_)
  obtain ⟨o7, h7, ha7, hx7⟩ := g_catE h
  refine g_callSt (n := 1) (av := [.inl z4.1]) (rs := []) hx hb hml hown hts hKn hRc hRs hS hl (sX1_there l E D hlT h7) (lw_S q1721 q1722 q113 q1723) ⟨by decide, by decide, by decide +kernel⟩ ⟨by rw [hRf]; exact Nat.le_of_ble_eq_true rfl, by rw [hRl]; exact Nat.le_of_ble_eq_true rfl⟩ rfl rfl (Nat.le_of_ble_eq_true rfl) dX1_count_7 (fun z7 e7 H locs cells slots hS => ?_) (fun k7 a7 G7 e7 n1 n2 nk nB H locs cells slots hS => ?_)
  · have h := ha7 _ e7
    refine g_iload_n hx hb hl 1 rfl dX1_count_10 ?_
    by_cases w11_0 : v1 = 0
    · refine lv_tableIn (tgt := 48) (off := 37) hx hb dX1_count_11 (by rw [w11_0]; decide) (by rw [w11_0]; decide) (by rw [w11_0]; decide) (by decide) ?_
      have h := g_ift w11_0 h
      refine g_aload_n hx hb hl 0 rfl dX1_count_48 ?_
      refine g_rdR hx hb hown hts hKn hS h fd_1_1_4 rfl (Or.inl (hts _ q601)) (fun _ z => z) dX1_count_49 (fun x49 h => ?_)
      refine g_rdR hx hb hown hts hKn hS h fd_2_2_0 rfl (Or.inr ⟨_, gNest_use rfl (hKn.2.2.2.2.1 _ (gNest_in q514 rfl))⟩) (fun _ z => z) dX1_count_52 (fun x52 h => ?_)
      obtain ⟨b55, hb55, h⟩ := g_bnd h
      obtain ⟨hr55, hk55⟩ := g_chk hb55
      obtain ⟨z55, h55, h⟩ := g_bnd h
      refine g_callV (n := 0) (b := b55) (av := []) (rs := []) hx hb hml hown hts hKn hRc hRs hS hl (sJ2_size l E D h55) (lw_V q995 q782 q783 q117 q784) ⟨rfl, by decide, by decide, by decide +kernel⟩ ⟨by rw [hRf]; exact Nat.le_of_ble_eq_true rfl, by rw [hRl]; exact Nat.le_of_ble_eq_true rfl⟩ (g_recv hKn hS hk55 (by decide) (by decide)) rfl (by rw [hr55]; rfl) (Nat.le_of_ble_eq_true rfl) dX1_count_55 (fun H locs cells slots hS => ?_)
      exact g_retX (g_iretG hx hb hr hlk hKn hRc hRs hS (q := (z55.1, z55.2)) rfl dX1_count_58) h rfl
    have h := g_iff w11_0 h
    by_cases w11_1 : v1 = 1
    · refine lv_tableIn (tgt := 59) (off := 48) hx hb dX1_count_11 (by rw [w11_1]; decide) (by rw [w11_1]; decide) (by rw [w11_1]; decide) (by decide) ?_
      have h := g_ift w11_1 h
      refine g_aload_n hx hb hl 0 rfl dX1_count_59 ?_
      refine g_rdR hx hb hown hts hKn hS h fd_1_1_4 rfl (Or.inl (hts _ q601)) (fun _ z => z) dX1_count_60 (fun x60 h => ?_)
      refine g_rdI hx hb hown hts hKn hS h fd_2_2_2 rfl (Or.inr ⟨_, gNest_use rfl (hKn.2.2.2.2.1 _ (gNest_in q518 rfl))⟩) (fun _ z => z) dX1_count_63 (fun x63 h => ?_)
      exact g_retX (g_iretG hx hb hr hlk hKn hRc hRs hS (q := (x63, z7)) rfl dX1_count_66) h rfl
    have h := g_iff w11_1 h
    by_cases w11_2 : v1 = 2
    · refine lv_tableIn (tgt := 67) (off := 56) hx hb dX1_count_11 (by rw [w11_2]; decide) (by rw [w11_2]; decide) (by rw [w11_2]; decide) (by decide) ?_
      have h := g_ift w11_2 h
      refine g_aload_n hx hb hl 0 rfl dX1_count_67 ?_
      refine g_rdI hx hb hown hts hKn hS h fd_1_1_0 rfl (Or.inl (hts _ q597)) (fun _ z => z) dX1_count_68 (fun x68 h => ?_)
      exact g_retX (g_iretG hx hb hr hlk hKn hRc hRs hS (q := (x68, z7)) rfl dX1_count_71) h rfl
    have h := g_iff w11_2 h
    by_cases w11_3 : v1 = 3
    · refine lv_tableIn (tgt := 72) (off := 61) hx hb dX1_count_11 (by rw [w11_3]; decide) (by rw [w11_3]; decide) (by rw [w11_3]; decide) (by decide) ?_
      have h := g_ift w11_3 h
      refine g_aload_n hx hb hl 0 rfl dX1_count_72 ?_
      refine g_rdI hx hb hown hts hKn hS h fd_1_1_1 rfl (Or.inl (hts _ q598)) (fun _ z => z) dX1_count_73 (fun x73 h => ?_)
      exact g_retX (g_iretG hx hb hr hlk hKn hRc hRs hS (q := (x73, z7)) rfl dX1_count_76) h rfl
    have h := g_iff w11_3 h
    by_cases w11_4 : v1 = 4
    · refine lv_tableIn (tgt := 77) (off := 66) hx hb dX1_count_11 (by rw [w11_4]; decide) (by rw [w11_4]; decide) (by rw [w11_4]; decide) (by decide) ?_
      have h := g_ift w11_4 h
      refine g_aload_n hx hb hl 0 rfl dX1_count_77 ?_
      refine g_rdI hx hb hown hts hKn hS h fd_1_1_2 rfl (Or.inl (hts _ q599)) (fun _ z => z) dX1_count_78 (fun x78 h => ?_)
      exact g_retX (g_iretG hx hb hr hlk hKn hRc hRs hS (q := (x78, z7)) rfl dX1_count_81) h rfl
    have h := g_iff w11_4 h
    by_cases w11_5 : v1 = 5
    · refine lv_tableIn (tgt := 82) (off := 71) hx hb dX1_count_11 (by rw [w11_5]; decide) (by rw [w11_5]; decide) (by rw [w11_5]; decide) (by decide) ?_
      have h := g_ift w11_5 h
      refine g_aload_n hx hb hl 0 rfl dX1_count_82 ?_
      refine g_rdI hx hb hown hts hKn hS h fd_1_1_3 rfl (Or.inl (hts _ q600)) (fun _ z => z) dX1_count_83 (fun x83 h => ?_)
      exact g_retX (g_iretG hx hb hr hlk hKn hRc hRs hS (q := (x83, z7)) rfl dX1_count_86) h rfl
    have h := g_iff w11_5 h
    refine g_tableD (tgt := 87) hx hb dX1_count_11 (by decide) [0, 1, 2, 3, 4, 5] (by decide) (fun k hk => ?_) ?_
    · simp only [List.mem_cons, List.not_mem_nil, or_false] at hk
      rcases hk with rfl | rfl | rfl | rfl | rfl | rfl
      · exact w11_0
      · exact w11_1
      · exact w11_2
      · exact w11_3
      · exact w11_4
      · exact w11_5
    refine g_aload_n hx hb hl 0 rfl dX1_count_87 ?_
    refine g_rdI hx hb hown hts hKn hS h fd_1_1_10 rfl (Or.inl (hts _ q607)) (fun _ z => z) dX1_count_88 (fun x88 h => ?_)
    exact g_retX (g_iretG hx hb hr hlk hKn hRc hRs hS (q := (x88, z7)) rfl dX1_count_91) h rfl
  · have h := hx7 _ e7
    exact g_outX (by rw [htab]; decide) hlk hKn hRc hRs hS n1 n2 nB nk h
/-- SendHall$Life.bits()I -/
def fX3_bits_b26 (E : g_E) (k4 : Nat → Int32 → Int32 → g_G → Option (Int32 × g_G)) (t : Nat) (v1 : Int32) (v2 : Int32) (G : g_G) : Option (Int32 × g_G) :=
  k4 t v1 (v2 + 1) G
def fX3_bits_b4 (E : g_E) : Nat → Nat → Int32 → Int32 → g_G → Option (Int32 × g_G)
  | 0, _, _, _, _ => none
  | n + 1, t, v1, v2, G =>
    (grI G 3 3 (some t) 0).bind fun x6 =>
    if x6 ≤ v2 then (
      some (v1, G))
    else (
      (gchk G 3 (some t)).bind fun b14 =>
      (fX3_hasEnded E b14 v2 G).bind fun z14 =>
      if ¬ z14.1 = 0 then (
        fX3_bits_b26 E (fX3_bits_b4 E n) t v1 v2 z14.2)
      else (
        fX3_bits_b26 E (fX3_bits_b4 E n) t (v1 ||| (1 <<< (v2 &&& 31))) v2 z14.2))
def fX3_bits (E : g_E) (t : Nat) (G : g_G) : Option (Int32 × g_G) :=
  fX3_bits_b4 E gFU t 0 0 G
theorem sX3_bits_b26 {p : Program} {l : Launch} {e : Env} {R : Room} {s : State} {m : MethodId} {args : Array Value} {below : List Frame} {meth : Method} {c : Code} {E : g_E} {D : g_D} (C : gC p R s m args meth c cX3_bits 3 RX3 "bits" (some .int) 2 85 E D) {k4 : Nat → Int32 → Int32 → g_G → Option (Int32 × g_G)} (hk4 : ∀ (t : Nat) (v1 : Int32) (v2 : Int32) (G : g_G) (q : Int32 × g_G), k4 t v1 v2 G = some q → ∀ (H : Heap) (locs : List Loc) (cells slots : Nat) (ls : Array Slot), gSt E D G H locs → gls ls 3 [(0, .inr (.inr (some t))), (1, .inl v1), (2, .inl v2)] → gT p l e R s m args below meth c E D H locs cells slots (some (.int q.1)) q.2 (F0 m 4 ls [])) : ∀ (t : Nat) (v1 : Int32) (v2 : Int32) (G : g_G) (q : Int32 × g_G), fX3_bits_b26 E k4 t v1 v2 G = some q → ∀ (H : Heap) (locs : List Loc) (cells slots : Nat) (ls : Array Slot), gSt E D G H locs → gls ls 3 [(0, .inr (.inr (some t))), (1, .inl v1), (2, .inl v2)] → gT p l e R s m args below meth c E D H locs cells slots (some (.int q.1)) q.2 (F0 m 26 ls []) := by
  obtain ⟨hx, hb, hml, hown, hts, hKn, hRc, hRs, hc1, hc2, hRf, hRl, hr, hlk, hnm⟩ := id C
  intro t v1 v2 G q h H locs cells slots ls hS hl
  unfold fX3_bits_b26 at h
  refine g_iinc (l1 := [(2, .inl (v2 + 1)), (0, .inr (.inr (some t))), (1, .inl v1)]) (v := (v2 + 1)) hx hb hl (k := 2) rfl (by rfl) (by decide) rfl dX3_bits_26 (fun ls hl => ?_)
  refine lv_goto (tgt := 4) hx hb dX3_bits_29 (by decide) ?_
  exact hk4 _ _ _ _ _ h _ _ _ _ _ hS (gls_sub hl [1, 2, 0] rfl)
theorem sX3_bits_b4 {p : Program} {l : Launch} {e : Env} {R : Room} {s : State} {m : MethodId} {args : Array Value} {below : List Frame} {meth : Method} {c : Code} {E : g_E} {D : g_D} (C : gC p R s m args meth c cX3_bits 3 RX3 "bits" (some .int) 2 85 E D) : ∀ (n : Nat) (t : Nat) (v1 : Int32) (v2 : Int32) (G : g_G) (q : Int32 × g_G), fX3_bits_b4 E n t v1 v2 G = some q → ∀ (H : Heap) (locs : List Loc) (cells slots : Nat) (ls : Array Slot), gSt E D G H locs → gls ls 3 [(0, .inr (.inr (some t))), (1, .inl v1), (2, .inl v2)] → gT p l e R s m args below meth c E D H locs cells slots (some (.int q.1)) q.2 (F0 m 4 ls []) := by
  obtain ⟨hx, hb, hml, hown, hts, hKn, hRc, hRs, hc1, hc2, hRf, hRl, hr, hlk, hnm⟩ := id C
  intro n
  induction n with
  | zero =>
    intro t v1 v2 G q h
    exact g_no h
  | succ n ih =>
    intro t v1 v2 G q h H locs cells slots ls hS hl
    rw [fX3_bits_b4] at h
    refine g_iload_n hx hb hl 2 rfl dX3_bits_4 ?_
    refine g_aload_n hx hb hl 0 rfl dX3_bits_5 ?_
    refine g_rdI hx hb hown hts hKn hS h fd_3_3_0 rfl (Or.inl (hts _ q538)) (fun _ z => z) dX3_bits_6 (fun x6 h => ?_)
    refine lv_icmp_ge (tgt := 32) hx hb dX3_bits_9 (by decide) (fun c_9 => ?_) (fun c_9 => ?_)
    · have h := g_ift c_9 h
      refine g_iload_n hx hb hl 1 rfl dX3_bits_32 ?_
      exact g_iretG hx hb hr hlk hKn hRc hRs hS h dX3_bits_33
    · have h := g_iff c_9 h
      refine g_aload_n hx hb hl 0 rfl dX3_bits_12 ?_
      refine g_iload_n hx hb hl 2 rfl dX3_bits_13 ?_
      obtain ⟨b14, hb14, h⟩ := g_bnd h
      obtain ⟨hr14, hk14⟩ := g_chk hb14
      obtain ⟨z14, h14, h⟩ := g_bnd h
      refine g_callV (n := 1) (b := b14) (av := [.inl v2]) (rs := []) hx hb hml hown hts hKn hRc hRs hS hl (sX3_hasEnded l E D h14) (lw_V q993 q849 q850 q134 q851) ⟨rfl, by decide, by decide, by decide +kernel⟩ ⟨by rw [hRf]; exact Nat.le_of_ble_eq_true rfl, by rw [hRl]; exact Nat.le_of_ble_eq_true rfl⟩ (g_recv hKn hS hk14 (by decide) (by decide)) rfl (by rw [hr14]; rfl) (Nat.le_of_ble_eq_true rfl) dX3_bits_14 (fun H locs cells slots hS => ?_)
      refine lv_if_ne (tgt := 26) hx hb dX3_bits_17 (by decide) (fun c_17 => ?_) (fun c_17 => ?_)
      · have h := g_ift c_17 h
        exact sX3_bits_b26 C ih _ _ _ _ _ h _ _ _ _ _ hS (gls_sub hl [0, 1, 2] rfl)
      · have h := g_iff (fun z => z c_17) h
        refine g_iload_n hx hb hl 1 rfl dX3_bits_20 ?_
        refine lv_iconst (v := 1) hx hb dX3_bits_21 (by decide) ?_
        refine g_iload_n hx hb hl 2 rfl dX3_bits_22 ?_
        refine lv_ishl hx hb dX3_bits_23 ?_
        refine lv_ior hx hb dX3_bits_24 ?_
        refine g_istore_n (l1 := [(1, .inl (v1 ||| (1 <<< (v2 &&& 31)))), (0, .inr (.inr (some t))), (2, .inl v2)]) hx hb hl (by decide) rfl dX3_bits_25 (fun ls hl => ?_)
        exact sX3_bits_b26 C ih _ _ _ _ _ h _ _ _ _ _ hS (gls_sub hl [1, 0, 2] rfl)
theorem sX3_bits (l : Launch) (E : g_E) (D : g_D) {t : Nat} {G : g_G} {q : Int32 × g_G} (h : fX3_bits E t G = some q) : gMet l E D yX3_bits (ws_ yX3_bits cX3_bits 3 (some .int)) 2 85 [.inr (.inr (some t))] G (some (.int q.1)) q.2 := by
  refine gMet.of (by decide +kernel) (Nat.le_of_ble_eq_true rfl) ?_
  intro p e R s m args below meth c C hS ls hl
  have C : gC p R s m args meth c cX3_bits 3 RX3 "bits" (some .int) 2 85 E D := C
  obtain ⟨hx, hb, hml, hown, hts, hKn, hRc, hRs, hc1, hc2, hRf, hRl, hr, hlk, hnm⟩ := id C
  have hl : gls ls 3 [(0, .inr (.inr (some t)))] := hl
  generalize s.heap = H at hS ⊢
  unfold fX3_bits at h
  refine lv_iconst (v := 0) hx hb dX3_bits_0 (by decide) ?_
  refine g_istore_n (l1 := [(1, .inl 0), (0, .inr (.inr (some t)))]) hx hb hl (by decide) rfl dX3_bits_1 (fun ls hl => ?_)
  refine lv_iconst (v := 0) hx hb dX3_bits_2 (by decide) ?_
  refine g_istore_n (l1 := [(2, .inl 0), (1, .inl 0), (0, .inr (.inr (some t)))]) hx hb hl (by decide) rfl dX3_bits_3 (fun ls hl => ?_)
  exact sX3_bits_b4 C gFU _ _ _ _ _ h _ _ _ _ _ hS (gls_sub hl [2, 1, 0] rfl)
/-- SendHall$Life.kind()I -/
def fX3_kind_b11 (E : g_E) : Nat → Nat → Int32 → g_G → Option (Int32 × g_G)
  | 0, _, _, _ => none
  | n + 1, t, v1, G =>
    (grI G 3 3 (some t) 0).bind fun x13 =>
    if x13 ≤ v1 then (
      some (2, G))
    else (
      (grR G 3 3 (some t) 4).bind fun x20 =>
      (gaI G 102 x20 v1).bind fun x24 =>
      if x24 = 0 then (
        fX3_kind_b11 E n t (v1 + 1) G)
      else (
        some (1, G)))
def fX3_kind (E : g_E) (t : Nat) (G : g_G) : Option (Int32 × g_G) :=
  (gchk G 3 (some t)).bind fun b1 =>
  (fX3_bits E b1 G).bind fun z1 =>
  if ¬ z1.1 = 0 then (
    fX3_kind_b11 E gFU t 0 z1.2)
  else (
    some (0, z1.2))
theorem sX3_kind_b11 {p : Program} {l : Launch} {e : Env} {R : Room} {s : State} {m : MethodId} {args : Array Value} {below : List Frame} {meth : Method} {c : Code} {E : g_E} {D : g_D} (C : gC p R s m args meth c cX3_kind 2 RX3 "kind" (some .int) 3 107 E D) : ∀ (n : Nat) (t : Nat) (v1 : Int32) (G : g_G) (q : Int32 × g_G), fX3_kind_b11 E n t v1 G = some q → ∀ (H : Heap) (locs : List Loc) (cells slots : Nat) (ls : Array Slot), gSt E D G H locs → gls ls 2 [(0, .inr (.inr (some t))), (1, .inl v1)] → gT p l e R s m args below meth c E D H locs cells slots (some (.int q.1)) q.2 (F0 m 11 ls []) := by
  obtain ⟨hx, hb, hml, hown, hts, hKn, hRc, hRs, hc1, hc2, hRf, hRl, hr, hlk, hnm⟩ := id C
  intro n
  induction n with
  | zero =>
    intro t v1 G q h
    exact g_no h
  | succ n ih =>
    intro t v1 G q h H locs cells slots ls hS hl
    rw [fX3_kind_b11] at h
    refine g_iload_n hx hb hl 1 rfl dX3_kind_11 ?_
    refine g_aload_n hx hb hl 0 rfl dX3_kind_12 ?_
    refine g_rdI hx hb hown hts hKn hS h fd_3_3_0 rfl (Or.inl (hts _ q538)) (fun _ z => z) dX3_kind_13 (fun x13 h => ?_)
    refine lv_icmp_ge (tgt := 36) hx hb dX3_kind_16 (by decide) (fun c_16 => ?_) (fun c_16 => ?_)
    · have h := g_ift c_16 h
      refine lv_iconst (v := 2) hx hb dX3_kind_36 (by decide) ?_
      exact g_iretG hx hb hr hlk hKn hRc hRs hS h dX3_kind_37
    · have h := g_iff c_16 h
      refine g_aload_n hx hb hl 0 rfl dX3_kind_19 ?_
      refine g_rdR hx hb hown hts hKn hS h fd_3_3_4 rfl (Or.inl (hts _ q546)) (fun _ z => z) dX3_kind_20 (fun x20 h => ?_)
      refine g_iload_n hx hb hl 1 rfl dX3_kind_23 ?_
      refine g_zaloadG hx hb hKn hS h dX3_kind_24 (fun x24 h => ?_)
      refine lv_if_eq (tgt := 30) hx hb dX3_kind_25 (by decide) (fun c_25 => ?_) (fun c_25 => ?_)
      · have h := g_ift c_25 h
        refine g_iinc (l1 := [(1, .inl (v1 + 1)), (0, .inr (.inr (some t)))]) (v := (v1 + 1)) hx hb hl (k := 1) rfl (by rfl) (by decide) rfl dX3_kind_30 (fun ls hl => ?_)
        refine lv_goto (tgt := 11) hx hb dX3_kind_33 (by decide) ?_
        exact ih _ _ _ _ h _ _ _ _ _ hS (gls_sub hl [1, 0] rfl)
      · have h := g_iff c_25 h
        refine lv_iconst (v := 1) hx hb dX3_kind_28 (by decide) ?_
        exact g_iretG hx hb hr hlk hKn hRc hRs hS h dX3_kind_29
theorem sX3_kind (l : Launch) (E : g_E) (D : g_D) {t : Nat} {G : g_G} {q : Int32 × g_G} (h : fX3_kind E t G = some q) : gMet l E D yX3_kind (ws_ yX3_kind cX3_kind 2 (some .int)) 3 107 [.inr (.inr (some t))] G (some (.int q.1)) q.2 := by
  refine gMet.of (by decide +kernel) (Nat.le_of_ble_eq_true rfl) ?_
  intro p e R s m args below meth c C hS ls hl
  have C : gC p R s m args meth c cX3_kind 2 RX3 "kind" (some .int) 3 107 E D := C
  obtain ⟨hx, hb, hml, hown, hts, hKn, hRc, hRs, hc1, hc2, hRf, hRl, hr, hlk, hnm⟩ := id C
  have hl : gls ls 2 [(0, .inr (.inr (some t)))] := hl
  generalize s.heap = H at hS ⊢
  unfold fX3_kind at h
  refine g_aload_n hx hb hl 0 rfl dX3_kind_0 ?_
  obtain ⟨b1, hb1, h⟩ := g_bnd h
  obtain ⟨hr1, hk1⟩ := g_chk hb1
  obtain ⟨z1, h1, h⟩ := g_bnd h
  refine g_callV (n := 0) (b := b1) (av := []) (rs := []) hx hb hml hown hts hKn hRc hRs hS hl (sX3_bits l E D h1) (lw_V q989 q990 q991 q134 q992) ⟨rfl, by decide, by decide, by decide +kernel⟩ ⟨by rw [hRf]; exact Nat.le_of_ble_eq_true rfl, by rw [hRl]; exact Nat.le_of_ble_eq_true rfl⟩ (g_recv hKn hS hk1 (by decide) (by decide)) rfl (by rw [hr1]; rfl) (Nat.le_of_ble_eq_true rfl) dX3_kind_1 (fun H locs cells slots hS => ?_)
  refine lv_if_ne (tgt := 9) hx hb dX3_kind_4 (by decide) (fun c_4 => ?_) (fun c_4 => ?_)
  · have h := g_ift c_4 h
    refine lv_iconst (v := 0) hx hb dX3_kind_9 (by decide) ?_
    refine g_istore_n (l1 := [(1, .inl 0), (0, .inr (.inr (some t)))]) hx hb hl (by decide) rfl dX3_kind_10 (fun ls hl => ?_)
    exact sX3_kind_b11 C gFU _ _ _ _ h _ _ _ _ _ hS (gls_sub hl [1, 0] rfl)
  · have h := g_iff (fun z => z c_4) h
    refine lv_iconst (v := 0) hx hb dX3_kind_7 (by decide) ?_
    exact g_iretG hx hb hr hlk hKn hRc hRs hS h dX3_kind_8
/-- SendHall$Life.lie(IIIIII)V -/
def fX3_lie_b50 (E : g_E) (t : Nat) (v3 : Int32) (v4 : Int32) (v5 : Int32) (v6 : Int32) (v7 : Int32) (v8 : Int32) (G : g_G) : Option (g_G) :=
  (grR G 3 3 (some t) 8).bind fun x51 =>
  (gsaI E G x51 v8 v7).bind fun G58 =>
  (grR G58 3 3 (some t) 9).bind fun x60 =>
  (gsaI E G58 x60 v8 v3).bind fun G66 =>
  (grR G66 3 3 (some t) 10).bind fun x68 =>
  (gsaI E G66 x68 v8 v4).bind fun G75 =>
  (grR G75 3 3 (some t) 11).bind fun x77 =>
  (gsaI E G75 x77 v8 v5).bind fun G84 =>
  (grR G84 3 3 (some t) 12).bind fun x86 =>
  (gsaI E G84 x86 v8 v6).bind fun G93 =>
  (grI G93 3 3 (some t) 1).bind fun x96 =>
  (gpI E G93 3 3 (some t) 1 (x96 + 1)).bind fun G101 =>
  some G101
def fX3_lie_b14 (E : g_E) : Nat → Nat → Int32 → Int32 → Int32 → Int32 → Int32 → Int32 → g_G → Option (g_G)
  | 0, _, _, _, _, _, _, _, _ => none
  | n + 1, t, v3, v4, v5, v6, v7, v8, G =>
    if v8 ≤ 0 then (
      fX3_lie_b50 E t v3 v4 v5 v6 v7 v8 G)
    else (
      (grR G 3 3 (some t) 8).bind fun x20 =>
      (gaI G 100 x20 (v8 - 1)).bind fun x27 =>
      if x27 ≤ v7 then (
        fX3_lie_b50 E t v3 v4 v5 v6 v7 v8 G)
      else (
        (gchk G 3 (some t)).bind fun b41 =>
        (fX3_put E b41 v8 (some t) (v8 - 1) G).bind fun z41 =>
        fX3_lie_b14 E n t v3 v4 v5 v6 v7 (v8 + (-1)) z41))
def fX3_lie (E : g_E) (t : Nat) (v1 : Int32) (v2 : Int32) (v3 : Int32) (v4 : Int32) (v5 : Int32) (v6 : Int32) (G : g_G) : Option (g_G) :=
  (grI G 3 3 (some t) 1).bind fun x9 =>
  fX3_lie_b14 E gFU t v3 v4 v5 v6 ((8 * v1) + v2) x9 G
theorem sX3_lie_b50 {p : Program} {l : Launch} {e : Env} {R : Room} {s : State} {m : MethodId} {args : Array Value} {below : List Frame} {meth : Method} {c : Code} {E : g_E} {D : g_D} (C : gC p R s m args meth c cX3_lie 9 RX3 "lie" (none) 2 87 E D) : ∀ (t : Nat) (v3 : Int32) (v4 : Int32) (v5 : Int32) (v6 : Int32) (v7 : Int32) (v8 : Int32) (G : g_G) (q : g_G), fX3_lie_b50 E t v3 v4 v5 v6 v7 v8 G = some q → ∀ (H : Heap) (locs : List Loc) (cells slots : Nat) (ls : Array Slot), gSt E D G H locs → gls ls 9 [(0, .inr (.inr (some t))), (3, .inl v3), (4, .inl v4), (5, .inl v5), (6, .inl v6), (7, .inl v7), (8, .inl v8)] → gT p l e R s m args below meth c E D H locs cells slots none q (F0 m 50 ls []) := by
  obtain ⟨hx, hb, hml, hown, hts, hKn, hRc, hRs, hc1, hc2, hRf, hRl, hr, hlk, hnm⟩ := id C
  intro t v3 v4 v5 v6 v7 v8 G q h H locs cells slots ls hS hl
  unfold fX3_lie_b50 at h
  refine g_aload_n hx hb hl 0 rfl dX3_lie_50 ?_
  refine g_rdR hx hb hown hts hKn hS h fd_3_3_8 rfl (Or.inl (hts _ q560)) (fun _ z => z) dX3_lie_51 (fun x51 h => ?_)
  refine g_iload hx hb hl 6 rfl dX3_lie_54 ?_
  refine g_iload hx hb hl 5 rfl dX3_lie_56 ?_
  refine g_iastoreG hx hb hKn hS h dX3_lie_58 (fun G58 h H locs hS => ?_)
  refine g_aload_n hx hb hl 0 rfl dX3_lie_59 ?_
  refine g_rdR hx hb hown hts hKn hS h fd_3_3_9 rfl (Or.inl (hts _ q561)) (fun _ z => z) dX3_lie_60 (fun x60 h => ?_)
  refine g_iload hx hb hl 6 rfl dX3_lie_63 ?_
  refine g_iload_n hx hb hl 1 rfl dX3_lie_65 ?_
  refine g_iastoreG hx hb hKn hS h dX3_lie_66 (fun G66 h H locs hS => ?_)
  refine g_aload_n hx hb hl 0 rfl dX3_lie_67 ?_
  refine g_rdR hx hb hown hts hKn hS h fd_3_3_10 rfl (Or.inl (hts _ q562)) (fun _ z => z) dX3_lie_68 (fun x68 h => ?_)
  refine g_iload hx hb hl 6 rfl dX3_lie_71 ?_
  refine g_iload hx hb hl 2 rfl dX3_lie_73 ?_
  refine g_iastoreG hx hb hKn hS h dX3_lie_75 (fun G75 h H locs hS => ?_)
  refine g_aload_n hx hb hl 0 rfl dX3_lie_76 ?_
  refine g_rdR hx hb hown hts hKn hS h fd_3_3_11 rfl (Or.inl (hts _ q564)) (fun _ z => z) dX3_lie_77 (fun x77 h => ?_)
  refine g_iload hx hb hl 6 rfl dX3_lie_80 ?_
  refine g_iload hx hb hl 3 rfl dX3_lie_82 ?_
  refine g_iastoreG hx hb hKn hS h dX3_lie_84 (fun G84 h H locs hS => ?_)
  refine g_aload_n hx hb hl 0 rfl dX3_lie_85 ?_
  refine g_rdR hx hb hown hts hKn hS h fd_3_3_12 rfl (Or.inl (hts _ q566)) (fun _ z => z) dX3_lie_86 (fun x86 h => ?_)
  refine g_iload hx hb hl 6 rfl dX3_lie_89 ?_
  refine g_iload hx hb hl 4 rfl dX3_lie_91 ?_
  refine g_iastoreG hx hb hKn hS h dX3_lie_93 (fun G93 h H locs hS => ?_)
  refine g_aload_n hx hb hl 0 rfl dX3_lie_94 ?_
  refine lv_dup hx hb dX3_lie_95 (by first | exact va_rf_cat _ | rfl | exact g_catA _) ?_
  refine g_rdI hx hb hown hts hKn hS h fd_3_3_1 rfl (Or.inl (hts _ q542)) (fun _ z => z) dX3_lie_96 (fun x96 h => ?_)
  refine lv_iconst (v := 1) hx hb dX3_lie_99 (by decide) ?_
  refine lv_iadd hx hb dX3_lie_100 ?_
  refine g_ptI hx hb hown hts hKn hS h fd_3_3_1 (Or.inl (hts _ q542)) (fun _ z => z) (fun z => nomatch z) dX3_lie_101 (fun G101 h H locs hS => ?_)
  exact g_vretG hx hb hr hlk hKn hRc hRs hS h dX3_lie_104
theorem sX3_lie_b14 {p : Program} {l : Launch} {e : Env} {R : Room} {s : State} {m : MethodId} {args : Array Value} {below : List Frame} {meth : Method} {c : Code} {E : g_E} {D : g_D} (C : gC p R s m args meth c cX3_lie 9 RX3 "lie" (none) 2 87 E D) : ∀ (n : Nat) (t : Nat) (v3 : Int32) (v4 : Int32) (v5 : Int32) (v6 : Int32) (v7 : Int32) (v8 : Int32) (G : g_G) (q : g_G), fX3_lie_b14 E n t v3 v4 v5 v6 v7 v8 G = some q → ∀ (H : Heap) (locs : List Loc) (cells slots : Nat) (ls : Array Slot), gSt E D G H locs → gls ls 9 [(0, .inr (.inr (some t))), (3, .inl v3), (4, .inl v4), (5, .inl v5), (6, .inl v6), (7, .inl v7), (8, .inl v8)] → gT p l e R s m args below meth c E D H locs cells slots none q (F0 m 14 ls []) := by
  obtain ⟨hx, hb, hml, hown, hts, hKn, hRc, hRs, hc1, hc2, hRf, hRl, hr, hlk, hnm⟩ := id C
  intro n
  induction n with
  | zero =>
    intro t v3 v4 v5 v6 v7 v8 G q h
    exact g_no h
  | succ n ih =>
    intro t v3 v4 v5 v6 v7 v8 G q h H locs cells slots ls hS hl
    rw [fX3_lie_b14] at h
    refine g_iload hx hb hl 6 rfl dX3_lie_14 ?_
    refine lv_if_le (tgt := 50) hx hb dX3_lie_16 (by decide) (fun c_16 => ?_) (fun c_16 => ?_)
    · have h := g_ift c_16 h
      exact sX3_lie_b50 C _ _ _ _ _ _ _ _ _ h _ _ _ _ _ hS (gls_sub hl [0, 1, 2, 3, 4, 5, 6] rfl)
    · have h := g_iff c_16 h
      refine g_aload_n hx hb hl 0 rfl dX3_lie_19 ?_
      refine g_rdR hx hb hown hts hKn hS h fd_3_3_8 rfl (Or.inl (hts _ q560)) (fun _ z => z) dX3_lie_20 (fun x20 h => ?_)
      refine g_iload hx hb hl 6 rfl dX3_lie_23 ?_
      refine lv_iconst (v := 1) hx hb dX3_lie_25 (by decide) ?_
      refine lv_isub hx hb dX3_lie_26 ?_
      refine g_ialoadG hx hb hKn hS h dX3_lie_27 (fun x27 h => ?_)
      refine g_iload hx hb hl 5 rfl dX3_lie_28 ?_
      refine lv_icmp_le (tgt := 50) hx hb dX3_lie_30 (by decide) (fun c_30 => ?_) (fun c_30 => ?_)
      · have h := g_ift c_30 h
        exact sX3_lie_b50 C _ _ _ _ _ _ _ _ _ h _ _ _ _ _ hS (gls_sub hl [0, 1, 2, 3, 4, 5, 6] rfl)
      · have h := g_iff c_30 h
        refine g_aload_n hx hb hl 0 rfl dX3_lie_33 ?_
        refine g_iload hx hb hl 6 rfl dX3_lie_34 ?_
        refine g_aload_n hx hb hl 0 rfl dX3_lie_36 ?_
        refine g_iload hx hb hl 6 rfl dX3_lie_37 ?_
        refine lv_iconst (v := 1) hx hb dX3_lie_39 (by decide) ?_
        refine lv_isub hx hb dX3_lie_40 ?_
        obtain ⟨b41, hb41, h⟩ := g_bnd h
        obtain ⟨hr41, hk41⟩ := g_chk hb41
        obtain ⟨z41, h41, h⟩ := g_bnd h
        refine g_callV (n := 3) (b := b41) (av := [.inl v8, .inr (.inr (some t)), .inl (v8 - 1)]) (rs := []) hx hb hml hown hts hKn hRc hRs hS hl (sX3_put l E D h41) (lw_V q907 q909 qs11 q134 q910) ⟨rfl, by decide, by decide, by decide +kernel⟩ ⟨by rw [hRf]; exact Nat.le_of_ble_eq_true rfl, by rw [hRl]; exact Nat.le_of_ble_eq_true rfl⟩ (g_recv hKn hS hk41 (by decide) (by decide)) rfl (by rw [hr41]; rfl) (Nat.le_of_ble_eq_true rfl) dX3_lie_41 (fun H locs cells slots hS => ?_)
        refine g_iinc (l1 := [(8, .inl (v8 + (-1))), (0, .inr (.inr (some t))), (3, .inl v3), (4, .inl v4), (5, .inl v5), (6, .inl v6), (7, .inl v7)]) (v := (v8 + (-1))) hx hb hl (k := 6) rfl (by rfl) (by decide) rfl dX3_lie_44 (fun ls hl => ?_)
        refine lv_goto (tgt := 14) hx hb dX3_lie_47 (by decide) ?_
        exact ih _ _ _ _ _ _ _ _ _ h _ _ _ _ _ hS (gls_sub hl [1, 2, 3, 4, 5, 6, 0] rfl)
theorem sX3_lie (l : Launch) (E : g_E) (D : g_D) {t : Nat} {v1 : Int32} {v2 : Int32} {v3 : Int32} {v4 : Int32} {v5 : Int32} {v6 : Int32} {G : g_G} {q : g_G} (h : fX3_lie E t v1 v2 v3 v4 v5 v6 G = some q) : gMet l E D yX3_lie (ws_ yX3_lie cX3_lie 9 (none)) 2 87 [.inr (.inr (some t)), .inl v1, .inl v2, .inl v3, .inl v4, .inl v5, .inl v6] G none q := by
  refine gMet.of (by decide +kernel) (Nat.le_of_ble_eq_true rfl) ?_
  intro p e R s m args below meth c C hS ls hl
  have C : gC p R s m args meth c cX3_lie 9 RX3 "lie" (none) 2 87 E D := C
  obtain ⟨hx, hb, hml, hown, hts, hKn, hRc, hRs, hc1, hc2, hRf, hRl, hr, hlk, hnm⟩ := id C
  have hl : gls ls 9 [(0, .inr (.inr (some t))), (1, .inl v1), (2, .inl v2), (3, .inl v3), (4, .inl v4), (5, .inl v5), (6, .inl v6)] := hl
  generalize s.heap = H at hS ⊢
  unfold fX3_lie at h
  refine lv_bipush (v := 8) hx hb dX3_lie_0 (by decide) ?_
  refine g_iload_n hx hb hl 1 rfl dX3_lie_2 ?_
  refine lv_imul hx hb dX3_lie_3 ?_
  refine g_iload_n hx hb hl 2 rfl dX3_lie_4 ?_
  refine lv_iadd hx hb dX3_lie_5 ?_
  refine g_istore (l1 := [(7, .inl ((8 * v1) + v2)), (0, .inr (.inr (some t))), (1, .inl v1), (2, .inl v2), (3, .inl v3), (4, .inl v4), (5, .inl v5), (6, .inl v6)]) hx hb hl (by decide) rfl dX3_lie_6 (fun ls hl => ?_)
  refine g_aload_n hx hb hl 1 rfl dX3_lie_8 ?_
  refine g_rdI hx hb hown hts hKn hS h fd_3_3_1 rfl (Or.inl (hts _ q542)) (fun _ z => z) dX3_lie_9 (fun x9 h => ?_)
  refine g_istore (l1 := [(8, .inl x9), (7, .inl ((8 * v1) + v2)), (0, .inr (.inr (some t))), (1, .inl v1), (2, .inl v2), (3, .inl v3), (4, .inl v4), (5, .inl v5), (6, .inl v6)]) hx hb hl (by decide) rfl dX3_lie_12 (fun ls hl => ?_)
  exact sX3_lie_b14 C gFU _ _ _ _ _ _ _ _ _ h _ _ _ _ _ hS (gls_sub hl [2, 5, 6, 7, 8, 1, 0] rfl)
/-- SendHall$Reader.check(ZI)V -/
def fX5_check (E : g_E) (t : Nat) (v1 : Int32) (v2 : Int32) (G : g_G) : Option ((g_G) ⊕ gX) :=
  if ¬ v1 = 0 then (
    some (.inl G))
  else (
    (gnewO E G 6 8).bind fun z4 =>
    (grI z4.2 5 5 (some t) 3).bind fun x10 =>
    (fX6_init E z4.1 v2 x10 z4.2).bind fun z13 =>
    (gthr E z13 6 (some z4.1)).bind fun b16 => some (.inr (6, b16, z13)))
theorem sX5_check (l : Launch) (E : g_E) (D : g_D) (hlT : l.stackTraces = false) {t : Nat} {v1 : Int32} {v2 : Int32} {G : g_G} {q : (g_G) ⊕ gX} (h : fX5_check E t v1 v2 G = some q) : gMetX l E D yX5_check (ws_ yX5_check cX5_check 3 (none)) 2 86 [.inr (.inr (some t)), .inl v1, .inl v2] G gokV q := by
  refine gMetX.of (by decide +kernel) (Nat.le_of_ble_eq_true rfl) ?_
  intro p e R s m args below meth c C htab hS ls hl
  have C : gC p R s m args meth c cX5_check 3 RX5 "check" (none) 2 86 E D := C
  obtain ⟨hx, hb, hml, hown, hts, hKn, hRc, hRs, hc1, hc2, hRf, hRl, hr, hlk, hnm⟩ := id C
  have hl : gls ls 3 [(0, .inr (.inr (some t))), (1, .inl v1), (2, .inl v2)] := hl
  generalize hH0 : s.heap = H at hS ⊢
  unfold fX5_check at h
  refine g_iload_n hx hb hl 1 rfl dX5_check_0 ?_
  refine lv_if_ne (tgt := 17) hx hb dX5_check_1 (by decide) (fun c_1 => ?_) (fun c_1 => ?_)
  · have h := g_ift c_1 h
    exact g_retX (g_vretG hx hb hr hlk hKn hRc hRs hS rfl dX5_check_17) h rfl
  · have h := g_iff (fun z => z c_1) h
    refine g_newG (k := 6) hx hb hown hts hKn hRc hRs hS h (by decide) (by decide) (hts _ q1367) (hts _ q1368) (hts _ q140) dX5_check_4 (fun z4 h H locs cells slots hS => ?_)
    refine lv_dup hx hb dX5_check_7 (by first | exact va_rf_cat _ | rfl | exact g_catA _) ?_
    refine g_iload_n hx hb hl 2 rfl dX5_check_8 ?_
    refine g_aload_n hx hb hl 0 rfl dX5_check_9 ?_
    refine g_rdI hx hb hown hts hKn hS h fd_5_5_3 rfl (Or.inl (hts _ q1236)) (fun _ z => z) dX5_check_10 (fun x10 h => ?_)
    obtain ⟨z13, h13, h⟩ := g_bnd h
    refine g_callI (n := 2) (av := [.inl v2, .inl x10]) (rs := [.inr (.inr (some z4.1))]) hx hb hml hown hts hKn hRc hRs hS hl (sX6_init l E D hlT h13) (lw_meth q1378) (hts _ q140) (hts _ q1376) (hts _ q1377) rfl ⟨by decide, by decide, by decide +kernel⟩ ⟨by rw [hRf]; exact Nat.le_of_ble_eq_true rfl, by rw [hRl]; exact Nat.le_of_ble_eq_true rfl⟩ rfl rfl (Nat.le_of_ble_eq_true rfl) dX5_check_13 (fun H locs cells slots hS => ?_)
    obtain ⟨b16, hb16, h⟩ := g_bnd h
    obtain ⟨hr16, hk16, hB16⟩ := g_thr hb16
    cases hr16
    exact g_throwX hx hb dX5_check_16 (g_outX (by rw [htab]; decide) hlk hKn hRc hRs hS (by decide) (by decide) hB16 hk16 h)
/-- SendHall$Talk.mark(LSendHall$Life;I)I -/
def fX8_mark (E : g_E) (t : Nat) (v1 : Option Nat) (v2 : Int32) (G : g_G) : Option (Int32 × g_G) :=
  (grR G 15 16 (some t) 3).bind fun x1 =>
  (fI_value E gDP x1 v1 v2 G).bind fun z6 =>
  some (z6.1, z6.2)
theorem sX8_mark (l : Launch) (E : g_E) (D : g_D) {t : Nat} {v1 : Option Nat} {v2 : Int32} {G : g_G} {q : Int32 × g_G} (h : fX8_mark E t v1 v2 G = some q) : gMet l E D yX8_mark (ws_ yX8_mark cX8_mark 3 (some .int)) 218 7304 [.inr (.inr (some t)), .inr (.inr v1), .inl v2] G (some (.int q.1)) q.2 := by
  refine gMet.of (by decide +kernel) (Nat.le_of_ble_eq_true rfl) ?_
  intro p e R s m args below meth c C hS ls hl
  have C : gC p R s m args meth c cX8_mark 3 RX8 "mark" (some .int) 218 7304 E D := C
  obtain ⟨hx, hb, hml, hown, hts, hKn, hRc, hRs, hc1, hc2, hRf, hRl, hr, hlk, hnm⟩ := id C
  have hl : gls ls 3 [(0, .inr (.inr (some t))), (1, .inr (.inr v1)), (2, .inl v2)] := hl
  generalize s.heap = H at hS ⊢
  unfold fX8_mark at h
  refine g_aload_n hx hb hl 0 rfl dX8_mark_0 ?_
  refine g_rdR hx hb hown hts hKn hS h fd_15_16_3 rfl (Or.inl (hts _ q1413)) (fun _ z => z) dX8_mark_1 (fun x1 h => ?_)
  refine g_aload_n hx hb hl 1 rfl dX8_mark_4 ?_
  refine g_iload_n hx hb hl 2 rfl dX8_mark_5 ?_
  obtain ⟨z6, h6, h⟩ := g_bnd h
  refine g_valueI (rs := []) hx hb hml hown hts hKn hRc hRs hS hl (gI_top l E D) h6 q873 ⟨by rw [hRf]; exact Nat.le_of_ble_eq_true rfl, by rw [hRl]; exact Nat.le_of_ble_eq_true rfl⟩ rfl (Nat.le_of_ble_eq_true rfl) dX8_mark_6 (fun H locs cells slots hS => ?_)
  exact g_iretG hx hb hr hlk hKn hRc hRs hS h dX8_mark_11
/-- SendHall$Send.to(LSendHall$Life;I)I -/
def fX9_to (E : g_E) (t : Nat) (v1 : Option Nat) (v2 : Int32) (G : g_G) : Option (Int32 × g_G) :=
  (grR G 15 15 (some t) 4).bind fun x1 =>
  (fI_value E gDP x1 v1 v2 G).bind fun z6 =>
  some (z6.1, z6.2)
theorem sX9_to (l : Launch) (E : g_E) (D : g_D) {t : Nat} {v1 : Option Nat} {v2 : Int32} {G : g_G} {q : Int32 × g_G} (h : fX9_to E t v1 v2 G = some q) : gMet l E D yX9_to (ws_ yX9_to cX9_to 3 (some .int)) 218 7304 [.inr (.inr (some t)), .inr (.inr v1), .inl v2] G (some (.int q.1)) q.2 := by
  refine gMet.of (by decide +kernel) (Nat.le_of_ble_eq_true rfl) ?_
  intro p e R s m args below meth c C hS ls hl
  have C : gC p R s m args meth c cX9_to 3 RX9 "to" (some .int) 218 7304 E D := C
  obtain ⟨hx, hb, hml, hown, hts, hKn, hRc, hRs, hc1, hc2, hRf, hRl, hr, hlk, hnm⟩ := id C
  have hl : gls ls 3 [(0, .inr (.inr (some t))), (1, .inr (.inr v1)), (2, .inl v2)] := hl
  generalize s.heap = H at hS ⊢
  unfold fX9_to at h
  refine g_aload_n hx hb hl 0 rfl dX9_to_0 ?_
  refine g_rdR hx hb hown hts hKn hS h fd_15_15_4 rfl (Or.inl (hts _ q1406)) (fun _ z => z) dX9_to_1 (fun x1 h => ?_)
  refine g_aload_n hx hb hl 1 rfl dX9_to_4 ?_
  refine g_iload_n hx hb hl 2 rfl dX9_to_5 ?_
  obtain ⟨z6, h6, h⟩ := g_bnd h
  refine g_valueI (rs := []) hx hb hml hown hts hKn hRc hRs hS hl (gI_top l E D) h6 q802 ⟨by rw [hRf]; exact Nat.le_of_ble_eq_true rfl, by rw [hRl]; exact Nat.le_of_ble_eq_true rfl⟩ rfl (Nat.le_of_ble_eq_true rfl) dX9_to_6 (fun H locs cells slots hS => ?_)
  exact g_iretG hx hb hr hlk hKn hRc hRs hS h dX9_to_11
/-- java/lang/String.indexOf(I)I -/
def fJ9_indexOf (E : g_E) (t : Nat) (v1 : Int32) (G : g_G) : Option (Int32 × g_G) :=
  (gchk G 19 (some t)).bind fun b3 =>
  (fJ9_indexOf_2 E b3 v1 0 G).bind fun z3 =>
  some (z3.1, z3.2)
theorem sJ9_indexOf (l : Launch) (E : g_E) (D : g_D) {t : Nat} {v1 : Int32} {G : g_G} {q : Int32 × g_G} (h : fJ9_indexOf E t v1 G = some q) : gMet l E D yJ9_indexOf (ws_ yJ9_indexOf cJ9_indexOf 2 (some .int)) 4 134 [.inr (.inr (some t)), .inl v1] G (some (.int q.1)) q.2 := by
  refine gMet.of (by decide +kernel) (Nat.le_of_ble_eq_true rfl) ?_
  intro p e R s m args below meth c C hS ls hl
  have C : gC p R s m args meth c cJ9_indexOf 2 RJ9 "indexOf" (some .int) 4 134 E D := C
  obtain ⟨hx, hb, hml, hown, hts, hKn, hRc, hRs, hc1, hc2, hRf, hRl, hr, hlk, hnm⟩ := id C
  have hl : gls ls 2 [(0, .inr (.inr (some t))), (1, .inl v1)] := hl
  generalize s.heap = H at hS ⊢
  unfold fJ9_indexOf at h
  refine g_aload_n hx hb hl 0 rfl dJ9_indexOf_0 ?_
  refine g_iload_n hx hb hl 1 rfl dJ9_indexOf_1 ?_
  refine lv_iconst (v := 0) hx hb dJ9_indexOf_2 (by decide) ?_
  obtain ⟨b3, hb3, h⟩ := g_bnd h
  obtain ⟨hr3, hk3⟩ := g_chk hb3
  obtain ⟨z3, h3, h⟩ := g_bnd h
  refine g_callV (n := 2) (b := b3) (av := [.inl v1, .inl 0]) (rs := []) hx hb hml hown hts hKn hRc hRs hS hl (sJ9_indexOf_2 l E D h3) (lw_V q1169 q1170 q1171 q124 q1172) ⟨rfl, by decide, by decide, by decide +kernel⟩ ⟨by rw [hRf]; exact Nat.le_of_ble_eq_true rfl, by rw [hRl]; exact Nat.le_of_ble_eq_true rfl⟩ (g_recv hKn hS hk3 (by decide) (by decide)) rfl (by rw [hr3]; rfl) (Nat.le_of_ble_eq_true rfl) dJ9_indexOf_3 (fun H locs cells slots hS => ?_)
  exact g_iretG hx hb hr hlk hKn hRc hRs hS h dJ9_indexOf_6
/-- java/lang/String.<init>(Ljava/lang/StringBuilder;)V -/
def fJ9_init (E : g_E) (t : Nat) (v1 : Option Nat) (G : g_G) : Option (g_G) :=
  (fJ9_init_2 E t v1 none G).bind fun z3 =>
  some z3
theorem sJ9_init (l : Launch) (E : g_E) (D : g_D) {t : Nat} {v1 : Option Nat} {G : g_G} {q : g_G} (h : fJ9_init E t v1 G = some q) : gMet l E D yJ9_init (ws_ yJ9_init cJ9_init 2 (none)) 5 155 [.inr (.inr (some t)), .inr (.inr v1)] G none q := by
  refine gMet.of (by decide +kernel) (Nat.le_of_ble_eq_true rfl) ?_
  intro p e R s m args below meth c C hS ls hl
  have C : gC p R s m args meth c cJ9_init 2 RJ9 "<init>" (none) 5 155 E D := C
  obtain ⟨hx, hb, hml, hown, hts, hKn, hRc, hRs, hc1, hc2, hRf, hRl, hr, hlk, hnm⟩ := id C
  have hl : gls ls 2 [(0, .inr (.inr (some t))), (1, .inr (.inr v1))] := hl
  generalize s.heap = H at hS ⊢
  unfold fJ9_init at h
  refine g_aload_n hx hb hl 0 rfl dJ9_init_0 ?_
  refine g_aload_n hx hb hl 1 rfl dJ9_init_1 ?_
  refine g_null hx hb dJ9_init_2 ?_
  obtain ⟨z3, h3, h⟩ := g_bnd h
  refine g_callI (n := 2) (av := [.inr (.inr v1), .inr (.inr none)]) (rs := []) hx hb hml hown hts hKn hRc hRs hS hl (sJ9_init_2 l E D h3) (lw_meth q416) (hts _ q124) (hts _ q414) (hts _ q415) rfl ⟨by decide, by decide, by decide +kernel⟩ ⟨by rw [hRf]; exact Nat.le_of_ble_eq_true rfl, by rw [hRl]; exact Nat.le_of_ble_eq_true rfl⟩ rfl rfl (Nat.le_of_ble_eq_true rfl) dJ9_init_3 (fun H locs cells slots hS => ?_)
  exact g_vretG hx hb hr hlk hKn hRc hRs hS h dJ9_init_6
/-- SendHallLaw.count(LSendHall;I[J)I -/
def fX0_count (E : g_E) (v0 : Option Nat) (v1 : Int32) (v2 : Option Nat) (G : g_G) : Option ((Int32 × g_G) ⊕ gX) :=
  (gchk G 1 v0).bind fun b4 =>
  gcat (fX1_count E b4 v1 G) (fun z4 =>
    (gsaL E z4.2 v2 0 (Int32.toInt64 z4.1)).bind fun G8 =>
    some (.inl (0, G8)))
  (fun y => if y.1 = 22 then (
    some (.inl (1, y.2.2))) else none)
theorem sX0_count (l : Launch) (E : g_E) (D : g_D) (hlT : l.stackTraces = false) {v0 : Option Nat} {v1 : Int32} {v2 : Option Nat} {G : g_G} {q : (Int32 × g_G) ⊕ gX} (h : fX0_count E v0 v1 v2 G = some q) : gMetX l E D yX0_count (wsW_ yX0_count cX0_count 4 (some .int) [(0, 9, 12, 18)]) 10 161 [.inr (.inr v0), .inl v1, .inr (.inr v2)] G gokI q := by
  refine gMetX.ofH (by decide +kernel) (Nat.le_of_ble_eq_true rfl) ?_
  intro p e R s m args below meth c C htab hS ls hl
  have C : gC p R s m args meth c cX0_count 4 RX0 "count" (some .int) 10 161 E D := C
  obtain ⟨hx, hb, hml, hown, hts, hKn, hRc, hRs, hc1, hc2, hRf, hRl, hr, hlk, hnm⟩ := id C
  have hl : gls ls 4 [(0, .inr (.inr v0)), (1, .inl v1), (2, .inr (.inr v2))] := hl
  generalize hH0 : s.heap = H at hS ⊢
  unfold fX0_count at h
  refine g_aload_n hx hb hl 2 rfl dX0_count_0 ?_
  refine lv_iconst (v := 0) hx hb dX0_count_1 (by decide) ?_
  refine g_aload_n hx hb hl 0 rfl dX0_count_2 ?_
  refine g_iload_n hx hb hl 1 rfl dX0_count_3 ?_
  obtain ⟨b4, hb4, h⟩ := g_bnd h
  obtain ⟨hr4, hk4⟩ := g_chk hb4
  obtain ⟨o4, h4, ha4, hx4⟩ := g_catE h
  refine g_callVt (n := 1) (b := b4) (av := [.inl v1]) (rs := [.inl 0, .inr (.inr v2)]) hx hb hml hown hts hKn hRc hRs hS hl (sX1_count l E D hlT h4) (lw_V q1717 q1718 q1719 q113 q1720) ⟨rfl, by decide, by decide, by decide +kernel⟩ ⟨by rw [hRf]; exact Nat.le_of_ble_eq_true rfl, by rw [hRl]; exact Nat.le_of_ble_eq_true rfl⟩ (g_recv hKn hS hk4 (by decide) (by decide)) rfl (by rw [hr4]; rfl) (Nat.le_of_ble_eq_true rfl) dX0_count_4 (fun z4 e4 H locs cells slots hS => ?_) (fun k4 a4 G4 e4 n1 n2 nk nB H locs cells slots hS => ?_)
  · have h := ha4 _ e4
    refine lv_i2l (v := (Int32.toInt64 z4.1)) hx hb dX0_count_7 rfl ?_
    refine g_lastoreG hx hb hKn hS h dX0_count_8 (fun G8 h H locs hS => ?_)
    refine lv_goto (tgt := 15) hx hb dX0_count_9 (by decide) ?_
    refine lv_iconst (v := 0) hx hb dX0_count_15 (by decide) ?_
    exact g_retX (g_iretG hx hb hr hlk hKn hRc hRs hS (q := (0, G8)) rfl dX0_count_16) h rfl
  · have h := hx4 _ e4
    by_cases hz4 : k4 = 22
    · subst hz4
      have h := g_ift rfl h
      refine g_catchX (hq := (0, 9, 12, 18)) hown hKn hS (by decide) (by decide) nB nk htab (by decide) (by decide) (hts _ q1716) q1726 ?_
      have y_1 : ∃ y : gX, y = (22, a4, G4) := ⟨_, rfl⟩
      refine g_astore_n (l1 := [(3, .inr (.inr (some a4))), (0, .inr (.inr v0)), (1, .inl v1), (2, .inr (.inr v2))]) hx hb hl (by decide) rfl dX0_count_12 (fun ls hl => ?_)
      refine lv_iconst (v := 1) hx hb dX0_count_13 (by decide) ?_
      exact g_retX (g_iretG hx hb hr hlk hKn hRc hRs hS (q := (1, G4)) rfl dX0_count_14) h rfl
    · exact g_no (g_iff hz4 h)
/-- SendHall$Wait.comes(LSendHall$Life;I)LSendHall$Step; -/
def fX13_comes_b31 (E : g_E) (t : Nat) (v1 : Option Nat) (v2 : Int32) (s0 : Option Nat) (s1 : Int32) (s2 : Int32) (G : g_G) : Option (Option Nat × g_G) :=
  (gsaZ E G s0 s1 s2).bind fun G31 =>
  (gchk G31 16 (some t)).bind fun b35 =>
  (fX7_comes E b35 v1 v2 G31).bind fun z35 =>
  some (z35.1, z35.2)
def fX13_comes_b30 (E : g_E) (t : Nat) (v1 : Option Nat) (v2 : Int32) (s0 : Option Nat) (s1 : Int32) (G : g_G) : Option (Option Nat × g_G) :=
  fX13_comes_b31 E t v1 v2 s0 s1 0 G
def fX13_comes (E : g_E) (t : Nat) (v1 : Option Nat) (v2 : Int32) (G : g_G) : Option (Option Nat × g_G) :=
  (grR G 3 3 v1 4).bind fun x1 =>
  (grR G 16 16 (some t) 4).bind fun x6 =>
  if x6 = none then (
    fX13_comes_b30 E t v1 v2 x1 v2 G)
  else (
    (gchk G 16 (some t)).bind fun b17 =>
    (fX13_of E b17 v1 v2 G).bind fun z17 =>
    (fX7_isOther E v1 v2 z17.1 z17.2).bind fun z20 =>
    if ¬ z20.1 = 0 then (
      fX13_comes_b30 E t v1 v2 x1 v2 z20.2)
    else (
      fX13_comes_b31 E t v1 v2 x1 v2 1 z20.2))
theorem sX13_comes_b31 {p : Program} {l : Launch} {e : Env} {R : Room} {s : State} {m : MethodId} {args : Array Value} {below : List Frame} {meth : Method} {c : Code} {E : g_E} {D : g_D} (C : gC p R s m args meth c cX13_comes 3 RX13 "comes" (some (.object "SendHall$Step")) 219 7326 E D) : ∀ (t : Nat) (v1 : Option Nat) (v2 : Int32) (s0 : Option Nat) (s1 : Int32) (s2 : Int32) (G : g_G) (q : Option Nat × g_G), fX13_comes_b31 E t v1 v2 s0 s1 s2 G = some q → ∀ (H : Heap) (locs : List Loc) (cells slots : Nat) (ls : Array Slot), gSt E D G H locs → gls ls 3 [(0, .inr (.inr (some t))), (1, .inr (.inr v1)), (2, .inl v2)] → gT p l e R s m args below meth c E D H locs cells slots (some (va_rf q.1)) q.2 (F0 m 31 ls [.int s2, .int s1, va_rf s0]) := by
  obtain ⟨hx, hb, hml, hown, hts, hKn, hRc, hRs, hc1, hc2, hRf, hRl, hr, hlk, hnm⟩ := id C
  intro t v1 v2 s0 s1 s2 G q h H locs cells slots ls hS hl
  unfold fX13_comes_b31 at h
  refine g_zastoreG hx hb hKn hS h dX13_comes_31 (fun G31 h H locs hS => ?_)
  refine g_aload_n hx hb hl 0 rfl dX13_comes_32 ?_
  refine g_aload_n hx hb hl 1 rfl dX13_comes_33 ?_
  refine g_iload_n hx hb hl 2 rfl dX13_comes_34 ?_
  obtain ⟨b35, hb35, h⟩ := g_bnd h
  obtain ⟨hr35, hk35⟩ := g_chk hb35
  obtain ⟨z35, h35, h⟩ := g_bnd h
  refine g_callSX (n := 2) (b := b35) (av := [.inr (.inr v1), .inl v2]) (rs := []) (up := "SendHall$Talk") hx hb hml hown hts hKn hRc hRs hS hl (C := "SendHall$Wait") (hKn.obj (k := 16) (by decide) (by decide)).2 (sX7_comes l E D h35) (lw_meth q812) (hts _ q141) (hts _ q834) (hts _ q808) (hts _ q835) (hts _ q811) (hts _ q737) ⟨by decide, by decide +kernel⟩ ⟨by rw [hRf]; exact Nat.le_of_ble_eq_true rfl, by rw [hRl]; exact Nat.le_of_ble_eq_true rfl⟩ (g_recv hKn hS hk35 (by decide) (by decide)) rfl (by rw [hr35]; rfl) (Nat.le_of_ble_eq_true rfl) dX13_comes_35 (fun H locs cells slots hS => ?_)
  exact g_aretG hx hb hr (by first | exact Or.inl ⟨_, rfl⟩ | exact Or.inr ⟨_, rfl⟩) hlk hKn hRc hRs hS h dX13_comes_38
theorem sX13_comes_b30 {p : Program} {l : Launch} {e : Env} {R : Room} {s : State} {m : MethodId} {args : Array Value} {below : List Frame} {meth : Method} {c : Code} {E : g_E} {D : g_D} (C : gC p R s m args meth c cX13_comes 3 RX13 "comes" (some (.object "SendHall$Step")) 219 7326 E D) : ∀ (t : Nat) (v1 : Option Nat) (v2 : Int32) (s0 : Option Nat) (s1 : Int32) (G : g_G) (q : Option Nat × g_G), fX13_comes_b30 E t v1 v2 s0 s1 G = some q → ∀ (H : Heap) (locs : List Loc) (cells slots : Nat) (ls : Array Slot), gSt E D G H locs → gls ls 3 [(0, .inr (.inr (some t))), (1, .inr (.inr v1)), (2, .inl v2)] → gT p l e R s m args below meth c E D H locs cells slots (some (va_rf q.1)) q.2 (F0 m 30 ls [.int s1, va_rf s0]) := by
  obtain ⟨hx, hb, hml, hown, hts, hKn, hRc, hRs, hc1, hc2, hRf, hRl, hr, hlk, hnm⟩ := id C
  intro t v1 v2 s0 s1 G q h H locs cells slots ls hS hl
  unfold fX13_comes_b30 at h
  refine lv_iconst (v := 0) hx hb dX13_comes_30 (by decide) ?_
  exact sX13_comes_b31 C _ _ _ _ _ _ _ _ h _ _ _ _ _ hS (gls_sub hl [0, 1, 2] rfl)
theorem sX13_comes (l : Launch) (E : g_E) (D : g_D) {t : Nat} {v1 : Option Nat} {v2 : Int32} {G : g_G} {q : Option Nat × g_G} (h : fX13_comes E t v1 v2 G = some q) : gMet l E D yX13_comes (ws_ yX13_comes cX13_comes 3 (some (.object "SendHall$Step"))) 219 7326 [.inr (.inr (some t)), .inr (.inr v1), .inl v2] G (some (va_rf q.1)) q.2 := by
  refine gMet.of (by decide +kernel) (Nat.le_of_ble_eq_true rfl) ?_
  intro p e R s m args below meth c C hS ls hl
  have C : gC p R s m args meth c cX13_comes 3 RX13 "comes" (some (.object "SendHall$Step")) 219 7326 E D := C
  obtain ⟨hx, hb, hml, hown, hts, hKn, hRc, hRs, hc1, hc2, hRf, hRl, hr, hlk, hnm⟩ := id C
  have hl : gls ls 3 [(0, .inr (.inr (some t))), (1, .inr (.inr v1)), (2, .inl v2)] := hl
  generalize s.heap = H at hS ⊢
  unfold fX13_comes at h
  refine g_aload_n hx hb hl 1 rfl dX13_comes_0 ?_
  refine g_rdR hx hb hown hts hKn hS h fd_3_3_4 rfl (Or.inr ⟨_, gNest_use rfl (hKn.2.2.2.2.1 _ (gNest_in q549 rfl))⟩) (fun _ z => z) dX13_comes_1 (fun x1 h => ?_)
  refine g_iload_n hx hb hl 2 rfl dX13_comes_4 ?_
  refine g_aload_n hx hb hl 0 rfl dX13_comes_5 ?_
  refine g_rdR hx hb hown hts hKn hS h fd_16_16_4 rfl (Or.inl (hts _ q1591)) (fun _ z => z) dX13_comes_6 (fun x6 h => ?_)
  refine g_ifnull (tgt := 30) hx hb dX13_comes_9 (by decide) (fun c_9 => ?_) (fun c_9 => ?_)
  · have h := g_ift c_9 h
    exact sX13_comes_b30 C _ _ _ _ _ _ _ h _ _ _ _ _ hS (gls_sub hl [0, 1, 2] rfl)
  · have h := g_iff c_9 h
    refine g_aload_n hx hb hl 1 rfl dX13_comes_12 ?_
    refine g_iload_n hx hb hl 2 rfl dX13_comes_13 ?_
    refine g_aload_n hx hb hl 0 rfl dX13_comes_14 ?_
    refine g_aload_n hx hb hl 1 rfl dX13_comes_15 ?_
    refine g_iload_n hx hb hl 2 rfl dX13_comes_16 ?_
    obtain ⟨b17, hb17, h⟩ := g_bnd h
    obtain ⟨hr17, hk17⟩ := g_chk hb17
    obtain ⟨z17, h17, h⟩ := g_bnd h
    refine g_callV (n := 2) (b := b17) (av := [.inr (.inr v1), .inl v2]) (rs := [.inl v2, .inr (.inr v1), .inl v2, .inr (.inr x1)]) hx hb hml hown hts hKn hRc hRs hS hl (sX13_of l E D h17) (lw_V q826 q827 q828 q148 q829) ⟨rfl, by decide, by decide, by decide +kernel⟩ ⟨by rw [hRf]; exact Nat.le_of_ble_eq_true rfl, by rw [hRl]; exact Nat.le_of_ble_eq_true rfl⟩ (g_recv hKn hS hk17 (by decide) (by decide)) rfl (by rw [hr17]; rfl) (Nat.le_of_ble_eq_true rfl) dX13_comes_17 (fun H locs cells slots hS => ?_)
    obtain ⟨z20, h20, h⟩ := g_bnd h
    refine g_callSS (n := 3) (av := [.inr (.inr v1), .inl v2, .inl z17.1]) (rs := [.inl v2, .inr (.inr x1)]) (sub := "SendHall$Wait") hx hb hml hown hts hKn hRc hRs hS hl (sX7_isOther l E D h20) (lw_meth q806) (hts _ q141) (hts _ q832) (hts _ q833) (hts _ q805) ⟨by decide, by decide, by decide +kernel⟩ ⟨by rw [hRf]; exact Nat.le_of_ble_eq_true rfl, by rw [hRl]; exact Nat.le_of_ble_eq_true rfl⟩ rfl rfl (Nat.le_of_ble_eq_true rfl) dX13_comes_20 (fun H locs cells slots hS => ?_)
    refine lv_if_ne (tgt := 30) hx hb dX13_comes_23 (by decide) (fun c_23 => ?_) (fun c_23 => ?_)
    · have h := g_ift c_23 h
      exact sX13_comes_b30 C _ _ _ _ _ _ _ h _ _ _ _ _ hS (gls_sub hl [0, 1, 2] rfl)
    · have h := g_iff (fun z => z c_23) h
      refine lv_iconst (v := 1) hx hb dX13_comes_26 (by decide) ?_
      refine lv_goto (tgt := 31) hx hb dX13_comes_27 (by decide) ?_
      exact sX13_comes_b31 C _ _ _ _ _ _ _ _ h _ _ _ _ _ hS (gls_sub hl [0, 1, 2] rfl)
/-- SendHall.handsOver(LSendHall$Life;I)Z -/
def fX1_handsOver_b48 (E : g_E) (v1 : Option Nat) (v2 : Int32) (v4 : Int32) (v5 : Int32) (G : g_G) : Option (Int32 × g_G) :=
  (grR G 3 3 v1 3).bind fun x49 =>
  (gaR G 122 x49 v4).bind fun x54 =>
  (gcast G 16 16 x54).bind fun x55 =>
  (gchk G 16 x55).bind fun b66 =>
  (fX13_takes E b66 v1 v4 v2 G).bind fun z66 =>
  if z66.1 = 0 then (
    if (0 : Int32) = 0 ∨ (0 : Int32) = 1 then some (0, z66.2) else none)
  else (
    (gchk z66.2 16 x55).bind fun b77 =>
    (fX8_mark E b77 v1 v4 z66.2).bind fun z77 =>
    if ¬ z77.1 = v5 then (
      if (0 : Int32) = 0 ∨ (0 : Int32) = 1 then some (0, z77.2) else none)
    else (
      (gchk z77.2 3 v1).bind fun b91 =>
      (fX3_first E b91 v2 v4 v5 z77.2).bind fun z91 =>
      if ¬ z91.1 = (-1 : Int32) then (
        if (0 : Int32) = 0 ∨ (0 : Int32) = 1 then some (0, z91.2) else none)
      else (
        if (1 : Int32) = 0 ∨ (1 : Int32) = 1 then some (1, z91.2) else none)))
def fX1_handsOver (E : g_E) (t : Nat) (v1 : Option Nat) (v2 : Int32) (G : g_G) : Option (Int32 × g_G) :=
  (grR G 3 3 v1 3).bind fun x1 =>
  (gaR G 122 x1 v2).bind fun x5 =>
  (gcast G 15 15 x5).bind fun x6 =>
  (gchk G 15 x6).bind fun b13 =>
  (fX9_to E b13 v1 v2 G).bind fun z13 =>
  (gchk z13.2 15 x6).bind fun b21 =>
  (fX8_mark E b21 v1 v2 z13.2).bind fun z21 =>
  (gchk z21.2 3 v1).bind fun b30 =>
  (fX3_isAt E b30 z13.1 3 z21.2).bind fun z30 =>
  if ¬ z30.1 = 0 then (
    fX1_handsOver_b48 E v1 v2 z13.1 z21.1 z30.2)
  else (
    (gchk z30.2 3 v1).bind fun b40 =>
    (fX3_isAt E b40 z13.1 4 z30.2).bind fun z40 =>
    if ¬ z40.1 = 0 then (
      fX1_handsOver_b48 E v1 v2 z13.1 z21.1 z40.2)
    else (
      if (0 : Int32) = 0 ∨ (0 : Int32) = 1 then some (0, z40.2) else none))
theorem sX1_handsOver_b48 {p : Program} {l : Launch} {e : Env} {R : Room} {s : State} {m : MethodId} {args : Array Value} {below : List Frame} {meth : Method} {c : Code} {E : g_E} {D : g_D} (C : gC p R s m args meth c cX1_handsOver 7 RX1 "handsOver" (some .boolean) 219 7327 E D) : ∀ (v1 : Option Nat) (v2 : Int32) (v4 : Int32) (v5 : Int32) (G : g_G) (q : Int32 × g_G), fX1_handsOver_b48 E v1 v2 v4 v5 G = some q → ∀ (H : Heap) (locs : List Loc) (cells slots : Nat) (ls : Array Slot), gSt E D G H locs → gls ls 7 [(1, .inr (.inr v1)), (2, .inl v2), (4, .inl v4), (5, .inl v5)] → gT p l e R s m args below meth c E D H locs cells slots (some (.int q.1)) q.2 (F0 m 48 ls []) := by
  obtain ⟨hx, hb, hml, hown, hts, hKn, hRc, hRs, hc1, hc2, hRf, hRl, hr, hlk, hnm⟩ := id C
  intro v1 v2 v4 v5 G q h H locs cells slots ls hS hl
  unfold fX1_handsOver_b48 at h
  refine g_aload_n hx hb hl 0 rfl dX1_handsOver_48 ?_
  refine g_rdR hx hb hown hts hKn hS h fd_3_3_3 rfl (Or.inr ⟨_, gNest_use rfl (hKn.2.2.2.2.1 _ (gNest_in q545 rfl))⟩) (fun _ z => z) dX1_handsOver_49 (fun x49 h => ?_)
  refine g_iload hx hb hl 2 rfl dX1_handsOver_52 ?_
  refine g_aaloadG hx hb hKn hS h (by decide) dX1_handsOver_54 (fun x54 h => ?_)
  refine g_castS (k := 16) hx hb hown hKn hS h (by decide) (by decide) (hts _ q878) dX1_handsOver_55 (fun x55 h => ?_)
  refine g_astore (l1 := [(6, .inr (.inr x55)), (1, .inr (.inr v1)), (2, .inl v2), (4, .inl v4), (5, .inl v5)]) hx hb hl (by decide) rfl dX1_handsOver_58 (fun ls hl => ?_)
  refine g_aload hx hb hl 0 rfl dX1_handsOver_60 ?_
  refine g_aload_n hx hb hl 1 rfl dX1_handsOver_62 ?_
  refine g_iload hx hb hl 3 rfl dX1_handsOver_63 ?_
  refine g_iload_n hx hb hl 2 rfl dX1_handsOver_65 ?_
  obtain ⟨b66, hb66, h⟩ := g_bnd h
  obtain ⟨hr66, hk66⟩ := g_chk hb66
  obtain ⟨z66, h66, h⟩ := g_bnd h
  refine g_callV (n := 3) (b := b66) (av := [.inr (.inr v1), .inl v4, .inl v2]) (rs := []) hx hb hml hown hts hKn hRc hRs hS hl (sX13_takes l E D h66) (lw_V q879 q880 q881 q148 q882) ⟨rfl, by decide, by decide, by decide +kernel⟩ ⟨by rw [hRf]; exact Nat.le_of_ble_eq_true rfl, by rw [hRl]; exact Nat.le_of_ble_eq_true rfl⟩ (g_recv hKn hS hk66 (by decide) (by decide)) rfl (by rw [hr66]; rfl) (Nat.le_of_ble_eq_true rfl) dX1_handsOver_66 (fun H locs cells slots hS => ?_)
  refine lv_if_eq (tgt := 102) hx hb dX1_handsOver_69 (by decide) (fun c_69 => ?_) (fun c_69 => ?_)
  · have h := g_ift c_69 h
    refine lv_iconst (v := 0) hx hb dX1_handsOver_102 (by decide) ?_
    exact g_zretG hx hb hr hlk hKn hRc hRs hS h dX1_handsOver_103
  · have h := g_iff c_69 h
    refine g_aload hx hb hl 0 rfl dX1_handsOver_72 ?_
    refine g_aload_n hx hb hl 1 rfl dX1_handsOver_74 ?_
    refine g_iload hx hb hl 3 rfl dX1_handsOver_75 ?_
    obtain ⟨b77, hb77, h⟩ := g_bnd h
    obtain ⟨hr77, hk77⟩ := g_chk hb77
    obtain ⟨z77, h77, h⟩ := g_bnd h
    refine g_callU (n := 2) (b := b77) (av := [.inr (.inr v1), .inl v4]) (rs := []) hx hb hml hown hts hKn hRc hRs hS hl (C := "SendHall$Wait") (owner := "SendHall$Talk") (x := ⟨"SendHall$Wait", "mark", "(LSendHall$Life;I)I"⟩) (sX8_mark l E D h77) (va_cwU 2 hts (lw_app (lw_in _ [883, 884, 885, 870, 142] (by decide +kernel) (by decide +kernel)) (lw_meth q871)) rfl rfl rfl rfl ⟨by decide, by decide, by decide +kernel⟩ ⟨by rw [hRf]; exact Nat.le_of_ble_eq_true rfl, by rw [hRl]; exact Nat.le_of_ble_eq_true rfl⟩) (g_recv hKn hS hk77 (by decide) (by decide)) rfl (by rw [hr77]; rfl) (Nat.le_of_ble_eq_true rfl) dX1_handsOver_77 (fun H locs cells slots hS => ?_)
    refine g_iload hx hb hl 4 rfl dX1_handsOver_80 ?_
    refine lv_icmp_ne (tgt := 102) hx hb dX1_handsOver_82 (by decide) (fun c_82 => ?_) (fun c_82 => ?_)
    · have h := g_ift c_82 h
      refine lv_iconst (v := 0) hx hb dX1_handsOver_102 (by decide) ?_
      exact g_zretG hx hb hr hlk hKn hRc hRs hS h dX1_handsOver_103
    · have h := g_iff (fun z => z c_82) h
      refine g_aload_n hx hb hl 1 rfl dX1_handsOver_85 ?_
      refine g_iload_n hx hb hl 2 rfl dX1_handsOver_86 ?_
      refine g_iload hx hb hl 3 rfl dX1_handsOver_87 ?_
      refine g_iload hx hb hl 4 rfl dX1_handsOver_89 ?_
      obtain ⟨b91, hb91, h⟩ := g_bnd h
      obtain ⟨hr91, hk91⟩ := g_chk hb91
      obtain ⟨z91, h91, h⟩ := g_bnd h
      refine g_callV (n := 3) (b := b91) (av := [.inl v2, .inl v4, .inl v5]) (rs := []) hx hb hml hown hts hKn hRc hRs hS hl (sX3_first l E D h91) (lw_V q886 q887 q888 q134 q889) ⟨rfl, by decide, by decide, by decide +kernel⟩ ⟨by rw [hRf]; exact Nat.le_of_ble_eq_true rfl, by rw [hRl]; exact Nat.le_of_ble_eq_true rfl⟩ (g_recv hKn hS hk91 (by decide) (by decide)) rfl (by rw [hr91]; rfl) (Nat.le_of_ble_eq_true rfl) dX1_handsOver_91 (fun H locs cells slots hS => ?_)
      refine lv_iconst (v := (-1)) hx hb dX1_handsOver_94 (by decide) ?_
      refine lv_icmp_ne (tgt := 102) hx hb dX1_handsOver_95 (by decide) (fun c_95 => ?_) (fun c_95 => ?_)
      · have h := g_ift c_95 h
        refine lv_iconst (v := 0) hx hb dX1_handsOver_102 (by decide) ?_
        exact g_zretG hx hb hr hlk hKn hRc hRs hS h dX1_handsOver_103
      · have h := g_iff (fun z => z c_95) h
        refine lv_iconst (v := 1) hx hb dX1_handsOver_98 (by decide) ?_
        refine lv_goto (tgt := 103) hx hb dX1_handsOver_99 (by decide) ?_
        exact g_zretG hx hb hr hlk hKn hRc hRs hS h dX1_handsOver_103
theorem sX1_handsOver (l : Launch) (E : g_E) (D : g_D) {t : Nat} {v1 : Option Nat} {v2 : Int32} {G : g_G} {q : Int32 × g_G} (h : fX1_handsOver E t v1 v2 G = some q) : gMet l E D yX1_handsOver (ws_ yX1_handsOver cX1_handsOver 7 (some .boolean)) 219 7327 [.inr (.inr (some t)), .inr (.inr v1), .inl v2] G (some (.int q.1)) q.2 := by
  refine gMet.of (by decide +kernel) (Nat.le_of_ble_eq_true rfl) ?_
  intro p e R s m args below meth c C hS ls hl
  have C : gC p R s m args meth c cX1_handsOver 7 RX1 "handsOver" (some .boolean) 219 7327 E D := C
  obtain ⟨hx, hb, hml, hown, hts, hKn, hRc, hRs, hc1, hc2, hRf, hRl, hr, hlk, hnm⟩ := id C
  have hl : gls ls 7 [(0, .inr (.inr (some t))), (1, .inr (.inr v1)), (2, .inl v2)] := hl
  generalize s.heap = H at hS ⊢
  unfold fX1_handsOver at h
  refine g_aload_n hx hb hl 1 rfl dX1_handsOver_0 ?_
  refine g_rdR hx hb hown hts hKn hS h fd_3_3_3 rfl (Or.inr ⟨_, gNest_use rfl (hKn.2.2.2.2.1 _ (gNest_in q545 rfl))⟩) (fun _ z => z) dX1_handsOver_1 (fun x1 h => ?_)
  refine g_iload_n hx hb hl 2 rfl dX1_handsOver_4 ?_
  refine g_aaloadG hx hb hKn hS h (by decide) dX1_handsOver_5 (fun x5 h => ?_)
  refine g_castS (k := 15) hx hb hown hKn hS h (by decide) (by decide) (hts _ q856) dX1_handsOver_6 (fun x6 h => ?_)
  refine g_astore_n (l1 := [(3, .inr (.inr x6)), (0, .inr (.inr (some t))), (1, .inr (.inr v1)), (2, .inl v2)]) hx hb hl (by decide) rfl dX1_handsOver_9 (fun ls hl => ?_)
  refine g_aload_n hx hb hl 0 rfl dX1_handsOver_10 ?_
  refine g_aload_n hx hb hl 2 rfl dX1_handsOver_11 ?_
  refine g_iload_n hx hb hl 3 rfl dX1_handsOver_12 ?_
  obtain ⟨b13, hb13, h⟩ := g_bnd h
  obtain ⟨hr13, hk13⟩ := g_chk hb13
  obtain ⟨z13, h13, h⟩ := g_bnd h
  refine g_callV (n := 2) (b := b13) (av := [.inr (.inr v1), .inl v2]) (rs := []) hx hb hml hown hts hKn hRc hRs hS hl (sX9_to l E D h13) (lw_V q857 q798 q799 q143 q800) ⟨rfl, by decide, by decide, by decide +kernel⟩ ⟨by rw [hRf]; exact Nat.le_of_ble_eq_true rfl, by rw [hRl]; exact Nat.le_of_ble_eq_true rfl⟩ (g_recv hKn hS hk13 (by decide) (by decide)) rfl (by rw [hr13]; rfl) (Nat.le_of_ble_eq_true rfl) dX1_handsOver_13 (fun H locs cells slots hS => ?_)
  refine g_istore (l1 := [(4, .inl z13.1), (3, .inr (.inr x6)), (0, .inr (.inr (some t))), (1, .inr (.inr v1)), (2, .inl v2)]) hx hb hl (by decide) rfl dX1_handsOver_16 (fun ls hl => ?_)
  refine g_aload_n hx hb hl 1 rfl dX1_handsOver_18 ?_
  refine g_aload_n hx hb hl 3 rfl dX1_handsOver_19 ?_
  refine g_iload_n hx hb hl 4 rfl dX1_handsOver_20 ?_
  obtain ⟨b21, hb21, h⟩ := g_bnd h
  obtain ⟨hr21, hk21⟩ := g_chk hb21
  obtain ⟨z21, h21, h⟩ := g_bnd h
  refine g_callU (n := 2) (b := b21) (av := [.inr (.inr v1), .inl v2]) (rs := []) hx hb hml hown hts hKn hRc hRs hS hl (C := "SendHall$Send") (owner := "SendHall$Talk") (x := ⟨"SendHall$Send", "mark", "(LSendHall$Life;I)I"⟩) (sX8_mark l E D h21) (va_cwU 2 hts (lw_app (lw_in _ [866, 867, 869, 870, 142] (by decide +kernel) (by decide +kernel)) (lw_meth q871)) rfl rfl rfl rfl ⟨by decide, by decide, by decide +kernel⟩ ⟨by rw [hRf]; exact Nat.le_of_ble_eq_true rfl, by rw [hRl]; exact Nat.le_of_ble_eq_true rfl⟩) (g_recv hKn hS hk21 (by decide) (by decide)) rfl (by rw [hr21]; rfl) (Nat.le_of_ble_eq_true rfl) dX1_handsOver_21 (fun H locs cells slots hS => ?_)
  refine g_istore (l1 := [(5, .inl z21.1), (4, .inl z13.1), (3, .inr (.inr x6)), (0, .inr (.inr (some t))), (1, .inr (.inr v1)), (2, .inl v2)]) hx hb hl (by decide) rfl dX1_handsOver_24 (fun ls hl => ?_)
  refine g_aload_n hx hb hl 4 rfl dX1_handsOver_26 ?_
  refine g_iload hx hb hl 1 rfl dX1_handsOver_27 ?_
  refine lv_iconst (v := 3) hx hb dX1_handsOver_29 (by decide) ?_
  obtain ⟨b30, hb30, h⟩ := g_bnd h
  obtain ⟨hr30, hk30⟩ := g_chk hb30
  obtain ⟨z30, h30, h⟩ := g_bnd h
  refine g_callV (n := 2) (b := b30) (av := [.inl z13.1, .inl 3]) (rs := []) hx hb hml hown hts hKn hRc hRs hS hl (sX3_isAt l E D h30) (lw_V q874 q875 q876 q134 q877) ⟨rfl, by decide, by decide, by decide +kernel⟩ ⟨by rw [hRf]; exact Nat.le_of_ble_eq_true rfl, by rw [hRl]; exact Nat.le_of_ble_eq_true rfl⟩ (g_recv hKn hS hk30 (by decide) (by decide)) rfl (by rw [hr30]; rfl) (Nat.le_of_ble_eq_true rfl) dX1_handsOver_30 (fun H locs cells slots hS => ?_)
  refine lv_if_ne (tgt := 48) hx hb dX1_handsOver_33 (by decide) (fun c_33 => ?_) (fun c_33 => ?_)
  · have h := g_ift c_33 h
    exact sX1_handsOver_b48 C _ _ _ _ _ _ h _ _ _ _ _ hS (gls_sub hl [4, 5, 1, 0] rfl)
  · have h := g_iff (fun z => z c_33) h
    refine g_aload_n hx hb hl 4 rfl dX1_handsOver_36 ?_
    refine g_iload hx hb hl 1 rfl dX1_handsOver_37 ?_
    refine lv_iconst (v := 4) hx hb dX1_handsOver_39 (by decide) ?_
    obtain ⟨b40, hb40, h⟩ := g_bnd h
    obtain ⟨hr40, hk40⟩ := g_chk hb40
    obtain ⟨z40, h40, h⟩ := g_bnd h
    refine g_callV (n := 2) (b := b40) (av := [.inl z13.1, .inl 4]) (rs := []) hx hb hml hown hts hKn hRc hRs hS hl (sX3_isAt l E D h40) (lw_V q874 q875 q876 q134 q877) ⟨rfl, by decide, by decide, by decide +kernel⟩ ⟨by rw [hRf]; exact Nat.le_of_ble_eq_true rfl, by rw [hRl]; exact Nat.le_of_ble_eq_true rfl⟩ (g_recv hKn hS hk40 (by decide) (by decide)) rfl (by rw [hr40]; rfl) (Nat.le_of_ble_eq_true rfl) dX1_handsOver_40 (fun H locs cells slots hS => ?_)
    refine lv_if_ne (tgt := 48) hx hb dX1_handsOver_43 (by decide) (fun c_43 => ?_) (fun c_43 => ?_)
    · have h := g_ift c_43 h
      exact sX1_handsOver_b48 C _ _ _ _ _ _ h _ _ _ _ _ hS (gls_sub hl [4, 5, 1, 0] rfl)
    · have h := g_iff (fun z => z c_43) h
      refine lv_iconst (v := 0) hx hb dX1_handsOver_46 (by decide) ?_
      exact g_zretG hx hb hr hlk hKn hRc hRs hS h dX1_handsOver_47
/-- SendHall.mayLie(LSendHall$Life;II)Z -/
def fX1_mayLie_b44 (E : g_E) (G : g_G) : Option (Int32 × g_G) :=
  if (1 : Int32) = 0 ∨ (1 : Int32) = 1 then some (1, G) else none
def fX1_mayLie (E : g_E) (t : Nat) (v1 : Option Nat) (v2 : Int32) (v3 : Int32) (G : g_G) : Option (Int32 × g_G) :=
  (grR G 3 3 v1 3).bind fun x1 =>
  (gaR G 122 x1 v2).bind fun x5 =>
  (gcast G 15 15 x5).bind fun x6 =>
  (grI G 15 15 x6 0).bind fun x13 =>
  if x13 = (2 : Int32) then (
    fX1_mayLie_b44 E G)
  else (
    (grI G 15 15 x6 0).bind fun x22 =>
    if ¬ x22 = 0 then (
      if (0 : Int32) = 0 ∨ (0 : Int32) = 1 then some (0, G) else none)
    else (
      (gchk G 15 x6).bind fun b34 =>
      (fX9_to E b34 v1 v2 G).bind fun z34 =>
      (gchk z34.2 3 v1).bind fun b37 =>
      (fX3_sent E b37 v2 z34.1 z34.2).bind fun z37 =>
      if v3 ≤ z37.1 then (
        if (0 : Int32) = 0 ∨ (0 : Int32) = 1 then some (0, z37.2) else none)
      else (
        fX1_mayLie_b44 E z37.2)))
theorem sX1_mayLie_b44 {p : Program} {l : Launch} {e : Env} {R : Room} {s : State} {m : MethodId} {args : Array Value} {below : List Frame} {meth : Method} {c : Code} {E : g_E} {D : g_D} (C : gC p R s m args meth c cX1_mayLie 5 RX1 "mayLie" (some .boolean) 219 7326 E D) : ∀ (G : g_G) (q : Int32 × g_G), fX1_mayLie_b44 E G = some q → ∀ (H : Heap) (locs : List Loc) (cells slots : Nat) (ls : Array Slot), gSt E D G H locs → gls ls 5 [] → gT p l e R s m args below meth c E D H locs cells slots (some (.int q.1)) q.2 (F0 m 44 ls []) := by
  obtain ⟨hx, hb, hml, hown, hts, hKn, hRc, hRs, hc1, hc2, hRf, hRl, hr, hlk, hnm⟩ := id C
  intro G q h H locs cells slots ls hS hl
  unfold fX1_mayLie_b44 at h
  refine lv_iconst (v := 1) hx hb dX1_mayLie_44 (by decide) ?_
  refine lv_goto (tgt := 49) hx hb dX1_mayLie_45 (by decide) ?_
  exact g_zretG hx hb hr hlk hKn hRc hRs hS h dX1_mayLie_49
theorem sX1_mayLie (l : Launch) (E : g_E) (D : g_D) {t : Nat} {v1 : Option Nat} {v2 : Int32} {v3 : Int32} {G : g_G} {q : Int32 × g_G} (h : fX1_mayLie E t v1 v2 v3 G = some q) : gMet l E D yX1_mayLie (ws_ yX1_mayLie cX1_mayLie 5 (some .boolean)) 219 7326 [.inr (.inr (some t)), .inr (.inr v1), .inl v2, .inl v3] G (some (.int q.1)) q.2 := by
  refine gMet.of (by decide +kernel) (Nat.le_of_ble_eq_true rfl) ?_
  intro p e R s m args below meth c C hS ls hl
  have C : gC p R s m args meth c cX1_mayLie 5 RX1 "mayLie" (some .boolean) 219 7326 E D := C
  obtain ⟨hx, hb, hml, hown, hts, hKn, hRc, hRs, hc1, hc2, hRf, hRl, hr, hlk, hnm⟩ := id C
  have hl : gls ls 5 [(0, .inr (.inr (some t))), (1, .inr (.inr v1)), (2, .inl v2), (3, .inl v3)] := hl
  generalize s.heap = H at hS ⊢
  unfold fX1_mayLie at h
  refine g_aload_n hx hb hl 1 rfl dX1_mayLie_0 ?_
  refine g_rdR hx hb hown hts hKn hS h fd_3_3_3 rfl (Or.inr ⟨_, gNest_use rfl (hKn.2.2.2.2.1 _ (gNest_in q545 rfl))⟩) (fun _ z => z) dX1_mayLie_1 (fun x1 h => ?_)
  refine g_iload_n hx hb hl 2 rfl dX1_mayLie_4 ?_
  refine g_aaloadG hx hb hKn hS h (by decide) dX1_mayLie_5 (fun x5 h => ?_)
  refine g_castS (k := 15) hx hb hown hKn hS h (by decide) (by decide) (hts _ q856) dX1_mayLie_6 (fun x6 h => ?_)
  refine g_astore (l1 := [(4, .inr (.inr x6)), (0, .inr (.inr (some t))), (1, .inr (.inr v1)), (2, .inl v2), (3, .inl v3)]) hx hb hl (by decide) rfl dX1_mayLie_9 (fun ls hl => ?_)
  refine g_aload hx hb hl 0 rfl dX1_mayLie_11 ?_
  refine g_rdI hx hb hown hts hKn hS h fd_15_15_0 rfl (Or.inl (hts _ q1419)) (u_same (hts _ q1420)) dX1_mayLie_13 (fun x13 h => ?_)
  refine lv_iconst (v := 2) hx hb dX1_mayLie_16 (by decide) ?_
  refine lv_icmp_eq (tgt := 44) hx hb dX1_mayLie_17 (by decide) (fun c_17 => ?_) (fun c_17 => ?_)
  · have h := g_ift c_17 h
    exact sX1_mayLie_b44 C _ _ h _ _ _ _ _ hS (gls_sub hl [] rfl)
  · have h := g_iff c_17 h
    refine g_aload hx hb hl 0 rfl dX1_mayLie_20 ?_
    refine g_rdI hx hb hown hts hKn hS h fd_15_15_0 rfl (Or.inl (hts _ q1419)) (u_same (hts _ q1420)) dX1_mayLie_22 (fun x22 h => ?_)
    refine lv_if_ne (tgt := 48) hx hb dX1_mayLie_25 (by decide) (fun c_25 => ?_) (fun c_25 => ?_)
    · have h := g_ift c_25 h
      refine lv_iconst (v := 0) hx hb dX1_mayLie_48 (by decide) ?_
      exact g_zretG hx hb hr hlk hKn hRc hRs hS h dX1_mayLie_49
    · have h := g_iff (fun z => z c_25) h
      refine g_aload_n hx hb hl 2 rfl dX1_mayLie_28 ?_
      refine g_iload_n hx hb hl 3 rfl dX1_mayLie_29 ?_
      refine g_aload hx hb hl 0 rfl dX1_mayLie_30 ?_
      refine g_aload_n hx hb hl 2 rfl dX1_mayLie_32 ?_
      refine g_iload_n hx hb hl 3 rfl dX1_mayLie_33 ?_
      obtain ⟨b34, hb34, h⟩ := g_bnd h
      obtain ⟨hr34, hk34⟩ := g_chk hb34
      obtain ⟨z34, h34, h⟩ := g_bnd h
      refine g_callV (n := 2) (b := b34) (av := [.inr (.inr v1), .inl v2]) (rs := [.inl v2, .inr (.inr v1)]) hx hb hml hown hts hKn hRc hRs hS hl (sX9_to l E D h34) (lw_V q857 q798 q799 q143 q800) ⟨rfl, by decide, by decide, by decide +kernel⟩ ⟨by rw [hRf]; exact Nat.le_of_ble_eq_true rfl, by rw [hRl]; exact Nat.le_of_ble_eq_true rfl⟩ (g_recv hKn hS hk34 (by decide) (by decide)) rfl (by rw [hr34]; rfl) (Nat.le_of_ble_eq_true rfl) dX1_mayLie_34 (fun H locs cells slots hS => ?_)
      obtain ⟨b37, hb37, h⟩ := g_bnd h
      obtain ⟨hr37, hk37⟩ := g_chk hb37
      obtain ⟨z37, h37, h⟩ := g_bnd h
      refine g_callV (n := 2) (b := b37) (av := [.inl v2, .inl z34.1]) (rs := []) hx hb hml hown hts hKn hRc hRs hS hl (sX3_sent l E D h37) (lw_V q858 q859 q860 q134 q861) ⟨rfl, by decide, by decide, by decide +kernel⟩ ⟨by rw [hRf]; exact Nat.le_of_ble_eq_true rfl, by rw [hRl]; exact Nat.le_of_ble_eq_true rfl⟩ (g_recv hKn hS hk37 (by decide) (by decide)) rfl (by rw [hr37]; rfl) (Nat.le_of_ble_eq_true rfl) dX1_mayLie_37 (fun H locs cells slots hS => ?_)
      refine g_iload_n hx hb hl 4 rfl dX1_mayLie_40 ?_
      refine lv_icmp_ge (tgt := 48) hx hb dX1_mayLie_41 (by decide) (fun c_41 => ?_) (fun c_41 => ?_)
      · have h := g_ift c_41 h
        refine lv_iconst (v := 0) hx hb dX1_mayLie_48 (by decide) ?_
        exact g_zretG hx hb hr hlk hKn hRc hRs hS h dX1_mayLie_49
      · have h := g_iff c_41 h
        exact sX1_mayLie_b44 C _ _ h _ _ _ _ _ hS (gls_sub hl [] rfl)
/-- SendHall.moves(LSendHall$Life;II)I -/
def fX1_moves_b91 (E : g_E) (v4 : Int32) (G : g_G) : Option (Int32 × g_G) :=
  some (v4, G)
def fX1_moves_b194 (E : g_E) (k145 : (Option Nat) → Int32 → Int32 → Int32 → g_G → Option (Int32 × g_G)) (v1 : Option Nat) (v2 : Int32) (v5 : Int32) (v6 : Int32) (G : g_G) : Option (Int32 × g_G) :=
  k145 v1 v2 v5 (v6 + 1) G
def fX1_moves_b145 (E : g_E) : Nat → (Option Nat) → Int32 → Int32 → Int32 → g_G → Option (Int32 × g_G)
  | 0, _, _, _, _, _ => none
  | n + 1, v1, v2, v5, v6, G =>
    (grI G 3 3 v1 0).bind fun x148 =>
    if x148 ≤ v6 then (
      some (v5, G))
    else (
      if v6 = v2 then (
        fX1_moves_b194 E (fX1_moves_b145 E n) v1 v2 v5 v6 G)
      else (
        (grR G 3 3 v1 3).bind fun x165 =>
        (gaR G 122 x165 v2).bind fun x169 =>
        (gcast G 16 16 x169).bind fun x170 =>
        (gchk G 16 x170).bind fun b175 =>
        (fX8_mark E b175 v1 v2 G).bind fun z175 =>
        (gchk z175.2 3 v1).bind fun b178 =>
        (fX3_first E b178 v6 v2 z175.1 z175.2).bind fun z178 =>
        if z178.1 = (-1 : Int32) then (
          fX1_moves_b194 E (fX1_moves_b145 E n) v1 v2 v5 v6 z178.2)
        else (
          fX1_moves_b194 E (fX1_moves_b145 E n) v1 v2 (v5 ||| (1 <<< (v6 &&& 31))) v6 z178.2)))
def fX1_moves (E : g_E) (t : Nat) (v1 : Option Nat) (v2 : Int32) (v3 : Int32) (G : g_G) : Option (Int32 × g_G) :=
  (gchk G 3 v1).bind fun b2 =>
  (fX3_hasEnded E b2 v2 G).bind fun z2 =>
  if ¬ z2.1 = 0 then (
    some (0, z2.2))
  else (
    (grR z2.2 3 3 v1 4).bind fun x9 =>
    (gaI z2.2 102 x9 v2).bind fun x13 =>
    if x13 = 0 then (
      (grR z2.2 3 3 v1 3).bind fun x25 =>
      (gaR z2.2 122 x25 v2).bind fun x29 =>
      (grI z2.2 11 16 x29 0).bind fun x30 =>
      if x30 = 0 then (
        (gchk z2.2 1 (some t)).bind fun b76 =>
        (fX1_mayLie E b76 v1 v2 v3 z2.2).bind fun z76 =>
        if ¬ z76.1 = 0 then (
          fX1_moves_b91 E (1 <<< (v2 &&& 31)) z76.2)
        else (
          (gchk z76.2 1 (some t)).bind fun b85 =>
          (fX1_handsOver E b85 v1 v2 z76.2).bind fun z85 =>
          if z85.1 = 0 then (
            some (0, z85.2))
          else (
            fX1_moves_b91 E (1 <<< (v2 &&& 31)) z85.2)))
      else
      if x30 = 1 then (
        (gchk z2.2 1 (some t)).bind fun b76 =>
        (fX1_mayLie E b76 v1 v2 v3 z2.2).bind fun z76 =>
        if ¬ z76.1 = 0 then (
          fX1_moves_b91 E (1 <<< (v2 &&& 31)) z76.2)
        else (
          (gchk z76.2 1 (some t)).bind fun b85 =>
          (fX1_handsOver E b85 v1 v2 z76.2).bind fun z85 =>
          if z85.1 = 0 then (
            some (0, z85.2))
          else (
            fX1_moves_b91 E (1 <<< (v2 &&& 31)) z85.2)))
      else
      if x30 = 2 then (
        (gchk z2.2 1 (some t)).bind fun b76 =>
        (fX1_mayLie E b76 v1 v2 v3 z2.2).bind fun z76 =>
        if ¬ z76.1 = 0 then (
          fX1_moves_b91 E (1 <<< (v2 &&& 31)) z76.2)
        else (
          (gchk z76.2 1 (some t)).bind fun b85 =>
          (fX1_handsOver E b85 v1 v2 z76.2).bind fun z85 =>
          if z85.1 = 0 then (
            some (0, z85.2))
          else (
            fX1_moves_b91 E (1 <<< (v2 &&& 31)) z85.2)))
      else
      if x30 = 3 then (
        (grR z2.2 3 3 v1 3).bind fun x99 =>
        (gaR z2.2 122 x99 v2).bind fun x103 =>
        (gcast z2.2 16 16 x103).bind fun x104 =>
        (gchk z2.2 16 x104).bind fun b114 =>
        (fX13_of E b114 v1 v2 z2.2).bind fun z114 =>
        (gchk z114.2 16 x104).bind fun b122 =>
        (fX8_mark E b122 v1 v2 z114.2).bind fun z122 =>
        (gchk z122.2 3 v1).bind fun b125 =>
        (fX3_first E b125 z114.1 v2 z122.1 z122.2).bind fun z125 =>
        if ¬ z125.1 = (-1 : Int32) then (
          some ((1 <<< (v2 &&& 31)), z125.2))
        else (
          some (0, z125.2)))
      else
      if x30 = 4 then (
        fX1_moves_b145 E gFU v1 v2 0 0 z2.2)
      else
      if x30 = 5 then (
        (gchk z2.2 3 v1).bind fun b205 =>
        (fX3_begun E b205 v2 z2.2).bind fun z205 =>
        if ¬ z205.1 = 0 then (
          some (0, z205.2))
        else (
          some ((1 <<< (v2 &&& 31)), z205.2)))
      else
      (
        if ¬ v2 = 0 then (
          some (0, z2.2))
        else (
          (grR z2.2 3 3 v1 3).bind fun x225 =>
          (gaR z2.2 122 x225 v2).bind fun x229 =>
          (grI z2.2 11 16 x229 0).bind fun x230 =>
          (gchk z2.2 1 (some t)).bind fun b233 =>
          (fX1_areAllAt E b233 v1 x230 z2.2).bind fun z233 =>
          if z233.1 = 0 then (
            some (0, z233.2))
          else (
            some ((1 <<< (v2 &&& 31)), z233.2)))))
    else (
      some (0, z2.2)))
theorem sX1_moves_b91 {p : Program} {l : Launch} {e : Env} {R : Room} {s : State} {m : MethodId} {args : Array Value} {below : List Frame} {meth : Method} {c : Code} {E : g_E} {D : g_D} (C : gC p R s m args meth c cX1_moves 7 RX1 "moves" (some .int) 220 7353 E D) : ∀ (v4 : Int32) (G : g_G) (q : Int32 × g_G), fX1_moves_b91 E v4 G = some q → ∀ (H : Heap) (locs : List Loc) (cells slots : Nat) (ls : Array Slot), gSt E D G H locs → gls ls 7 [(4, .inl v4)] → gT p l e R s m args below meth c E D H locs cells slots (some (.int q.1)) q.2 (F0 m 91 ls []) := by
  obtain ⟨hx, hb, hml, hown, hts, hKn, hRc, hRs, hc1, hc2, hRf, hRl, hr, hlk, hnm⟩ := id C
  intro v4 G q h H locs cells slots ls hS hl
  unfold fX1_moves_b91 at h
  refine g_iload hx hb hl 0 rfl dX1_moves_91 ?_
  refine lv_goto (tgt := 97) hx hb dX1_moves_93 (by decide) ?_
  exact g_iretG hx hb hr hlk hKn hRc hRs hS h dX1_moves_97
theorem sX1_moves_b194 {p : Program} {l : Launch} {e : Env} {R : Room} {s : State} {m : MethodId} {args : Array Value} {below : List Frame} {meth : Method} {c : Code} {E : g_E} {D : g_D} (C : gC p R s m args meth c cX1_moves 7 RX1 "moves" (some .int) 220 7353 E D) {k145 : (Option Nat) → Int32 → Int32 → Int32 → g_G → Option (Int32 × g_G)} (hk145 : ∀ (v1 : Option Nat) (v2 : Int32) (v5 : Int32) (v6 : Int32) (G : g_G) (q : Int32 × g_G), k145 v1 v2 v5 v6 G = some q → ∀ (H : Heap) (locs : List Loc) (cells slots : Nat) (ls : Array Slot), gSt E D G H locs → gls ls 7 [(1, .inr (.inr v1)), (2, .inl v2), (5, .inl v5), (6, .inl v6)] → gT p l e R s m args below meth c E D H locs cells slots (some (.int q.1)) q.2 (F0 m 145 ls [])) : ∀ (v1 : Option Nat) (v2 : Int32) (v5 : Int32) (v6 : Int32) (G : g_G) (q : Int32 × g_G), fX1_moves_b194 E k145 v1 v2 v5 v6 G = some q → ∀ (H : Heap) (locs : List Loc) (cells slots : Nat) (ls : Array Slot), gSt E D G H locs → gls ls 7 [(1, .inr (.inr v1)), (2, .inl v2), (5, .inl v5), (6, .inl v6)] → gT p l e R s m args below meth c E D H locs cells slots (some (.int q.1)) q.2 (F0 m 194 ls []) := by
  obtain ⟨hx, hb, hml, hown, hts, hKn, hRc, hRs, hc1, hc2, hRf, hRl, hr, hlk, hnm⟩ := id C
  intro v1 v2 v5 v6 G q h H locs cells slots ls hS hl
  unfold fX1_moves_b194 at h
  refine g_iinc (l1 := [(6, .inl (v6 + 1)), (1, .inr (.inr v1)), (2, .inl v2), (5, .inl v5)]) (v := (v6 + 1)) hx hb hl (k := 3) rfl (by rfl) (by decide) rfl dX1_moves_194 (fun ls hl => ?_)
  refine lv_goto (tgt := 145) hx hb dX1_moves_197 (by decide) ?_
  exact hk145 _ _ _ _ _ _ h _ _ _ _ _ hS (gls_sub hl [1, 2, 3, 0] rfl)
theorem sX1_moves_b145 {p : Program} {l : Launch} {e : Env} {R : Room} {s : State} {m : MethodId} {args : Array Value} {below : List Frame} {meth : Method} {c : Code} {E : g_E} {D : g_D} (C : gC p R s m args meth c cX1_moves 7 RX1 "moves" (some .int) 220 7353 E D) : ∀ (n : Nat) (v1 : Option Nat) (v2 : Int32) (v5 : Int32) (v6 : Int32) (G : g_G) (q : Int32 × g_G), fX1_moves_b145 E n v1 v2 v5 v6 G = some q → ∀ (H : Heap) (locs : List Loc) (cells slots : Nat) (ls : Array Slot), gSt E D G H locs → gls ls 7 [(1, .inr (.inr v1)), (2, .inl v2), (5, .inl v5), (6, .inl v6)] → gT p l e R s m args below meth c E D H locs cells slots (some (.int q.1)) q.2 (F0 m 145 ls []) := by
  obtain ⟨hx, hb, hml, hown, hts, hKn, hRc, hRs, hc1, hc2, hRf, hRl, hr, hlk, hnm⟩ := id C
  intro n
  induction n with
  | zero =>
    intro v1 v2 v5 v6 G q h
    exact g_no h
  | succ n ih =>
    intro v1 v2 v5 v6 G q h H locs cells slots ls hS hl
    rw [fX1_moves_b145] at h
    refine g_iload hx hb hl 3 rfl dX1_moves_145 ?_
    refine g_aload_n hx hb hl 0 rfl dX1_moves_147 ?_
    refine g_rdI hx hb hown hts hKn hS h fd_3_3_0 rfl (Or.inr ⟨_, gNest_use rfl (hKn.2.2.2.2.1 _ (gNest_in q537 rfl))⟩) (fun _ z => z) dX1_moves_148 (fun x148 h => ?_)
    refine lv_icmp_ge (tgt := 200) hx hb dX1_moves_151 (by decide) (fun c_151 => ?_) (fun c_151 => ?_)
    · have h := g_ift c_151 h
      refine g_iload hx hb hl 2 rfl dX1_moves_200 ?_
      exact g_iretG hx hb hr hlk hKn hRc hRs hS h dX1_moves_202
    · have h := g_iff c_151 h
      refine g_iload hx hb hl 3 rfl dX1_moves_154 ?_
      refine g_iload_n hx hb hl 1 rfl dX1_moves_156 ?_
      refine lv_icmp_eq (tgt := 194) hx hb dX1_moves_157 (by decide) (fun c_157 => ?_) (fun c_157 => ?_)
      · have h := g_ift c_157 h
        exact sX1_moves_b194 C ih _ _ _ _ _ _ h _ _ _ _ _ hS (gls_sub hl [0, 1, 2, 3] rfl)
      · have h := g_iff c_157 h
        refine g_aload_n hx hb hl 0 rfl dX1_moves_160 ?_
        refine g_iload hx hb hl 3 rfl dX1_moves_161 ?_
        refine g_iload_n hx hb hl 1 rfl dX1_moves_163 ?_
        refine g_aload_n hx hb hl 0 rfl dX1_moves_164 ?_
        refine g_rdR hx hb hown hts hKn hS h fd_3_3_3 rfl (Or.inr ⟨_, gNest_use rfl (hKn.2.2.2.2.1 _ (gNest_in q545 rfl))⟩) (fun _ z => z) dX1_moves_165 (fun x165 h => ?_)
        refine g_iload_n hx hb hl 1 rfl dX1_moves_168 ?_
        refine g_aaloadG hx hb hKn hS h (by decide) dX1_moves_169 (fun x169 h => ?_)
        refine g_castS (k := 16) hx hb hown hKn hS h (by decide) (by decide) (hts _ q878) dX1_moves_170 (fun x170 h => ?_)
        refine g_aload_n hx hb hl 0 rfl dX1_moves_173 ?_
        refine g_iload_n hx hb hl 1 rfl dX1_moves_174 ?_
        obtain ⟨b175, hb175, h⟩ := g_bnd h
        obtain ⟨hr175, hk175⟩ := g_chk hb175
        obtain ⟨z175, h175, h⟩ := g_bnd h
        refine g_callU (n := 2) (b := b175) (av := [.inr (.inr v1), .inl v2]) (rs := [.inl v2, .inl v6, .inr (.inr v1)]) hx hb hml hown hts hKn hRc hRs hS hl (C := "SendHall$Wait") (owner := "SendHall$Talk") (x := ⟨"SendHall$Wait", "mark", "(LSendHall$Life;I)I"⟩) (sX8_mark l E D h175) (va_cwU 2 hts (lw_app (lw_in _ [883, 884, 885, 870, 142] (by decide +kernel) (by decide +kernel)) (lw_meth q871)) rfl rfl rfl rfl ⟨by decide, by decide, by decide +kernel⟩ ⟨by rw [hRf]; exact Nat.le_of_ble_eq_true rfl, by rw [hRl]; exact Nat.le_of_ble_eq_true rfl⟩) (g_recv hKn hS hk175 (by decide) (by decide)) rfl (by rw [hr175]; rfl) (Nat.le_of_ble_eq_true rfl) dX1_moves_175 (fun H locs cells slots hS => ?_)
        obtain ⟨b178, hb178, h⟩ := g_bnd h
        obtain ⟨hr178, hk178⟩ := g_chk hb178
        obtain ⟨z178, h178, h⟩ := g_bnd h
        refine g_callV (n := 3) (b := b178) (av := [.inl v6, .inl v2, .inl z175.1]) (rs := []) hx hb hml hown hts hKn hRc hRs hS hl (sX3_first l E D h178) (lw_V q886 q887 q888 q134 q889) ⟨rfl, by decide, by decide, by decide +kernel⟩ ⟨by rw [hRf]; exact Nat.le_of_ble_eq_true rfl, by rw [hRl]; exact Nat.le_of_ble_eq_true rfl⟩ (g_recv hKn hS hk178 (by decide) (by decide)) rfl (by rw [hr178]; rfl) (Nat.le_of_ble_eq_true rfl) dX1_moves_178 (fun H locs cells slots hS => ?_)
        refine lv_iconst (v := (-1)) hx hb dX1_moves_181 (by decide) ?_
        refine lv_icmp_eq (tgt := 194) hx hb dX1_moves_182 (by decide) (fun c_182 => ?_) (fun c_182 => ?_)
        · have h := g_ift c_182 h
          exact sX1_moves_b194 C ih _ _ _ _ _ _ h _ _ _ _ _ hS (gls_sub hl [0, 1, 2, 3] rfl)
        · have h := g_iff c_182 h
          refine g_iload hx hb hl 2 rfl dX1_moves_185 ?_
          refine lv_iconst (v := 1) hx hb dX1_moves_187 (by decide) ?_
          refine g_iload hx hb hl 3 rfl dX1_moves_188 ?_
          refine lv_ishl hx hb dX1_moves_190 ?_
          refine lv_ior hx hb dX1_moves_191 ?_
          refine g_istore (l1 := [(5, .inl (v5 ||| (1 <<< (v6 &&& 31)))), (1, .inr (.inr v1)), (2, .inl v2), (6, .inl v6)]) hx hb hl (by decide) rfl dX1_moves_192 (fun ls hl => ?_)
          exact sX1_moves_b194 C ih _ _ _ _ _ _ h _ _ _ _ _ hS (gls_sub hl [1, 2, 0, 3] rfl)
theorem sX1_moves (l : Launch) (E : g_E) (D : g_D) {t : Nat} {v1 : Option Nat} {v2 : Int32} {v3 : Int32} {G : g_G} {q : Int32 × g_G} (h : fX1_moves E t v1 v2 v3 G = some q) : gMet l E D yX1_moves (ws_ yX1_moves cX1_moves 7 (some .int)) 220 7353 [.inr (.inr (some t)), .inr (.inr v1), .inl v2, .inl v3] G (some (.int q.1)) q.2 := by
  refine gMet.of (by decide +kernel) (Nat.le_of_ble_eq_true rfl) ?_
  intro p e R s m args below meth c C hS ls hl
  have C : gC p R s m args meth c cX1_moves 7 RX1 "moves" (some .int) 220 7353 E D := C
  obtain ⟨hx, hb, hml, hown, hts, hKn, hRc, hRs, hc1, hc2, hRf, hRl, hr, hlk, hnm⟩ := id C
  have hl : gls ls 7 [(0, .inr (.inr (some t))), (1, .inr (.inr v1)), (2, .inl v2), (3, .inl v3)] := hl
  generalize s.heap = H at hS ⊢
  unfold fX1_moves at h
  refine g_aload_n hx hb hl 1 rfl dX1_moves_0 ?_
  refine g_iload_n hx hb hl 2 rfl dX1_moves_1 ?_
  obtain ⟨b2, hb2, h⟩ := g_bnd h
  obtain ⟨hr2, hk2⟩ := g_chk hb2
  obtain ⟨z2, h2, h⟩ := g_bnd h
  refine g_callV (n := 1) (b := b2) (av := [.inl v2]) (rs := []) hx hb hml hown hts hKn hRc hRs hS hl (sX3_hasEnded l E D h2) (lw_V q848 q849 q850 q134 q851) ⟨rfl, by decide, by decide, by decide +kernel⟩ ⟨by rw [hRf]; exact Nat.le_of_ble_eq_true rfl, by rw [hRl]; exact Nat.le_of_ble_eq_true rfl⟩ (g_recv hKn hS hk2 (by decide) (by decide)) rfl (by rw [hr2]; rfl) (Nat.le_of_ble_eq_true rfl) dX1_moves_2 (fun H locs cells slots hS => ?_)
  refine lv_if_ne (tgt := 17) hx hb dX1_moves_5 (by decide) (fun c_5 => ?_) (fun c_5 => ?_)
  · have h := g_ift c_5 h
    refine lv_iconst (v := 0) hx hb dX1_moves_17 (by decide) ?_
    exact g_iretG hx hb hr hlk hKn hRc hRs hS h dX1_moves_18
  · have h := g_iff (fun z => z c_5) h
    refine g_aload_n hx hb hl 1 rfl dX1_moves_8 ?_
    refine g_rdR hx hb hown hts hKn hS h fd_3_3_4 rfl (Or.inr ⟨_, gNest_use rfl (hKn.2.2.2.2.1 _ (gNest_in q547 rfl))⟩) (fun _ z => z) dX1_moves_9 (fun x9 h => ?_)
    refine g_iload_n hx hb hl 2 rfl dX1_moves_12 ?_
    refine g_zaloadG hx hb hKn hS h dX1_moves_13 (fun x13 h => ?_)
    refine lv_if_eq (tgt := 19) hx hb dX1_moves_14 (by decide) (fun c_14 => ?_) (fun c_14 => ?_)
    · have h := g_ift c_14 h
      refine lv_iconst (v := 1) hx hb dX1_moves_19 (by decide) ?_
      refine g_iload_n hx hb hl 2 rfl dX1_moves_20 ?_
      refine lv_ishl hx hb dX1_moves_21 ?_
      refine g_istore (l1 := [(4, .inl (1 <<< (v2 &&& 31))), (0, .inr (.inr (some t))), (1, .inr (.inr v1)), (2, .inl v2), (3, .inl v3)]) hx hb hl (by decide) rfl dX1_moves_22 (fun ls hl => ?_)
      refine g_aload_n hx hb hl 2 rfl dX1_moves_24 ?_
      refine g_rdR hx hb hown hts hKn hS h fd_3_3_3 rfl (Or.inr ⟨_, gNest_use rfl (hKn.2.2.2.2.1 _ (gNest_in q545 rfl))⟩) (fun _ z => z) dX1_moves_25 (fun x25 h => ?_)
      refine g_iload_n hx hb hl 3 rfl dX1_moves_28 ?_
      refine g_aaloadG hx hb hKn hS h (by decide) dX1_moves_29 (fun x29 h => ?_)
      refine g_rdI hx hb hown hts hKn hS h fd_11_16_0 rfl (Or.inl (hts _ q1422)) (fun _ z => z) dX1_moves_30 (fun x30 h => ?_)
      by_cases w33_0 : x30 = 0
      · refine lv_tableIn (tgt := 72) (off := 39) hx hb dX1_moves_33 (by rw [w33_0]; decide) (by rw [w33_0]; decide) (by rw [w33_0]; decide) (by decide) ?_
        have h := g_ift w33_0 h
        refine g_aload_n hx hb hl 1 rfl dX1_moves_72 ?_
        refine g_aload_n hx hb hl 2 rfl dX1_moves_73 ?_
        refine g_iload_n hx hb hl 3 rfl dX1_moves_74 ?_
        refine g_iload_n hx hb hl 4 rfl dX1_moves_75 ?_
        obtain ⟨b76, hb76, h⟩ := g_bnd h
        obtain ⟨hr76, hk76⟩ := g_chk hb76
        obtain ⟨z76, h76, h⟩ := g_bnd h
        refine g_callV (n := 3) (b := b76) (av := [.inr (.inr v1), .inl v2, .inl v3]) (rs := []) hx hb hml hown hts hKn hRc hRs hS hl (sX1_mayLie l E D h76) (lw_V q852 q854 qs7 q113 q855) ⟨rfl, by decide, by decide, by decide +kernel⟩ ⟨by rw [hRf]; exact Nat.le_of_ble_eq_true rfl, by rw [hRl]; exact Nat.le_of_ble_eq_true rfl⟩ (g_recv hKn hS hk76 (by decide) (by decide)) rfl (by rw [hr76]; rfl) (Nat.le_of_ble_eq_true rfl) dX1_moves_76 (fun H locs cells slots hS => ?_)
        refine lv_if_ne (tgt := 91) hx hb dX1_moves_79 (by decide) (fun c_79 => ?_) (fun c_79 => ?_)
        · have h := g_ift c_79 h
          exact sX1_moves_b91 C _ _ _ h _ _ _ _ _ hS (gls_sub hl [0] rfl)
        · have h := g_iff (fun z => z c_79) h
          refine g_aload_n hx hb hl 1 rfl dX1_moves_82 ?_
          refine g_aload_n hx hb hl 2 rfl dX1_moves_83 ?_
          refine g_iload_n hx hb hl 3 rfl dX1_moves_84 ?_
          obtain ⟨b85, hb85, h⟩ := g_bnd h
          obtain ⟨hr85, hk85⟩ := g_chk hb85
          obtain ⟨z85, h85, h⟩ := g_bnd h
          refine g_callV (n := 2) (b := b85) (av := [.inr (.inr v1), .inl v2]) (rs := []) hx hb hml hown hts hKn hRc hRs hS hl (sX1_handsOver l E D h85) (lw_V q862 q864 qs8 q113 q865) ⟨rfl, by decide, by decide, by decide +kernel⟩ ⟨by rw [hRf]; exact Nat.le_of_ble_eq_true rfl, by rw [hRl]; exact Nat.le_of_ble_eq_true rfl⟩ (g_recv hKn hS hk85 (by decide) (by decide)) rfl (by rw [hr85]; rfl) (Nat.le_of_ble_eq_true rfl) dX1_moves_85 (fun H locs cells slots hS => ?_)
          refine lv_if_eq (tgt := 96) hx hb dX1_moves_88 (by decide) (fun c_88 => ?_) (fun c_88 => ?_)
          · have h := g_ift c_88 h
            refine lv_iconst (v := 0) hx hb dX1_moves_96 (by decide) ?_
            exact g_iretG hx hb hr hlk hKn hRc hRs hS h dX1_moves_97
          · have h := g_iff c_88 h
            exact sX1_moves_b91 C _ _ _ h _ _ _ _ _ hS (gls_sub hl [0] rfl)
      have h := g_iff w33_0 h
      by_cases w33_1 : x30 = 1
      · refine lv_tableIn (tgt := 72) (off := 39) hx hb dX1_moves_33 (by rw [w33_1]; decide) (by rw [w33_1]; decide) (by rw [w33_1]; decide) (by decide) ?_
        have h := g_ift w33_1 h
        refine g_aload_n hx hb hl 1 rfl dX1_moves_72 ?_
        refine g_aload_n hx hb hl 2 rfl dX1_moves_73 ?_
        refine g_iload_n hx hb hl 3 rfl dX1_moves_74 ?_
        refine g_iload_n hx hb hl 4 rfl dX1_moves_75 ?_
        obtain ⟨b76, hb76, h⟩ := g_bnd h
        obtain ⟨hr76, hk76⟩ := g_chk hb76
        obtain ⟨z76, h76, h⟩ := g_bnd h
        refine g_callV (n := 3) (b := b76) (av := [.inr (.inr v1), .inl v2, .inl v3]) (rs := []) hx hb hml hown hts hKn hRc hRs hS hl (sX1_mayLie l E D h76) (lw_V q852 q854 qs7 q113 q855) ⟨rfl, by decide, by decide, by decide +kernel⟩ ⟨by rw [hRf]; exact Nat.le_of_ble_eq_true rfl, by rw [hRl]; exact Nat.le_of_ble_eq_true rfl⟩ (g_recv hKn hS hk76 (by decide) (by decide)) rfl (by rw [hr76]; rfl) (Nat.le_of_ble_eq_true rfl) dX1_moves_76 (fun H locs cells slots hS => ?_)
        refine lv_if_ne (tgt := 91) hx hb dX1_moves_79 (by decide) (fun c_79 => ?_) (fun c_79 => ?_)
        · have h := g_ift c_79 h
          exact sX1_moves_b91 C _ _ _ h _ _ _ _ _ hS (gls_sub hl [0] rfl)
        · have h := g_iff (fun z => z c_79) h
          refine g_aload_n hx hb hl 1 rfl dX1_moves_82 ?_
          refine g_aload_n hx hb hl 2 rfl dX1_moves_83 ?_
          refine g_iload_n hx hb hl 3 rfl dX1_moves_84 ?_
          obtain ⟨b85, hb85, h⟩ := g_bnd h
          obtain ⟨hr85, hk85⟩ := g_chk hb85
          obtain ⟨z85, h85, h⟩ := g_bnd h
          refine g_callV (n := 2) (b := b85) (av := [.inr (.inr v1), .inl v2]) (rs := []) hx hb hml hown hts hKn hRc hRs hS hl (sX1_handsOver l E D h85) (lw_V q862 q864 qs8 q113 q865) ⟨rfl, by decide, by decide, by decide +kernel⟩ ⟨by rw [hRf]; exact Nat.le_of_ble_eq_true rfl, by rw [hRl]; exact Nat.le_of_ble_eq_true rfl⟩ (g_recv hKn hS hk85 (by decide) (by decide)) rfl (by rw [hr85]; rfl) (Nat.le_of_ble_eq_true rfl) dX1_moves_85 (fun H locs cells slots hS => ?_)
          refine lv_if_eq (tgt := 96) hx hb dX1_moves_88 (by decide) (fun c_88 => ?_) (fun c_88 => ?_)
          · have h := g_ift c_88 h
            refine lv_iconst (v := 0) hx hb dX1_moves_96 (by decide) ?_
            exact g_iretG hx hb hr hlk hKn hRc hRs hS h dX1_moves_97
          · have h := g_iff c_88 h
            exact sX1_moves_b91 C _ _ _ h _ _ _ _ _ hS (gls_sub hl [0] rfl)
      have h := g_iff w33_1 h
      by_cases w33_2 : x30 = 2
      · refine lv_tableIn (tgt := 72) (off := 39) hx hb dX1_moves_33 (by rw [w33_2]; decide) (by rw [w33_2]; decide) (by rw [w33_2]; decide) (by decide) ?_
        have h := g_ift w33_2 h
        refine g_aload_n hx hb hl 1 rfl dX1_moves_72 ?_
        refine g_aload_n hx hb hl 2 rfl dX1_moves_73 ?_
        refine g_iload_n hx hb hl 3 rfl dX1_moves_74 ?_
        refine g_iload_n hx hb hl 4 rfl dX1_moves_75 ?_
        obtain ⟨b76, hb76, h⟩ := g_bnd h
        obtain ⟨hr76, hk76⟩ := g_chk hb76
        obtain ⟨z76, h76, h⟩ := g_bnd h
        refine g_callV (n := 3) (b := b76) (av := [.inr (.inr v1), .inl v2, .inl v3]) (rs := []) hx hb hml hown hts hKn hRc hRs hS hl (sX1_mayLie l E D h76) (lw_V q852 q854 qs7 q113 q855) ⟨rfl, by decide, by decide, by decide +kernel⟩ ⟨by rw [hRf]; exact Nat.le_of_ble_eq_true rfl, by rw [hRl]; exact Nat.le_of_ble_eq_true rfl⟩ (g_recv hKn hS hk76 (by decide) (by decide)) rfl (by rw [hr76]; rfl) (Nat.le_of_ble_eq_true rfl) dX1_moves_76 (fun H locs cells slots hS => ?_)
        refine lv_if_ne (tgt := 91) hx hb dX1_moves_79 (by decide) (fun c_79 => ?_) (fun c_79 => ?_)
        · have h := g_ift c_79 h
          exact sX1_moves_b91 C _ _ _ h _ _ _ _ _ hS (gls_sub hl [0] rfl)
        · have h := g_iff (fun z => z c_79) h
          refine g_aload_n hx hb hl 1 rfl dX1_moves_82 ?_
          refine g_aload_n hx hb hl 2 rfl dX1_moves_83 ?_
          refine g_iload_n hx hb hl 3 rfl dX1_moves_84 ?_
          obtain ⟨b85, hb85, h⟩ := g_bnd h
          obtain ⟨hr85, hk85⟩ := g_chk hb85
          obtain ⟨z85, h85, h⟩ := g_bnd h
          refine g_callV (n := 2) (b := b85) (av := [.inr (.inr v1), .inl v2]) (rs := []) hx hb hml hown hts hKn hRc hRs hS hl (sX1_handsOver l E D h85) (lw_V q862 q864 qs8 q113 q865) ⟨rfl, by decide, by decide, by decide +kernel⟩ ⟨by rw [hRf]; exact Nat.le_of_ble_eq_true rfl, by rw [hRl]; exact Nat.le_of_ble_eq_true rfl⟩ (g_recv hKn hS hk85 (by decide) (by decide)) rfl (by rw [hr85]; rfl) (Nat.le_of_ble_eq_true rfl) dX1_moves_85 (fun H locs cells slots hS => ?_)
          refine lv_if_eq (tgt := 96) hx hb dX1_moves_88 (by decide) (fun c_88 => ?_) (fun c_88 => ?_)
          · have h := g_ift c_88 h
            refine lv_iconst (v := 0) hx hb dX1_moves_96 (by decide) ?_
            exact g_iretG hx hb hr hlk hKn hRc hRs hS h dX1_moves_97
          · have h := g_iff c_88 h
            exact sX1_moves_b91 C _ _ _ h _ _ _ _ _ hS (gls_sub hl [0] rfl)
      have h := g_iff w33_2 h
      by_cases w33_3 : x30 = 3
      · refine lv_tableIn (tgt := 98) (off := 65) hx hb dX1_moves_33 (by rw [w33_3]; decide) (by rw [w33_3]; decide) (by rw [w33_3]; decide) (by decide) ?_
        have h := g_ift w33_3 h
        refine g_aload_n hx hb hl 2 rfl dX1_moves_98 ?_
        refine g_rdR hx hb hown hts hKn hS h fd_3_3_3 rfl (Or.inr ⟨_, gNest_use rfl (hKn.2.2.2.2.1 _ (gNest_in q545 rfl))⟩) (fun _ z => z) dX1_moves_99 (fun x99 h => ?_)
        refine g_iload_n hx hb hl 3 rfl dX1_moves_102 ?_
        refine g_aaloadG hx hb hKn hS h (by decide) dX1_moves_103 (fun x103 h => ?_)
        refine g_castS (k := 16) hx hb hown hKn hS h (by decide) (by decide) (hts _ q878) dX1_moves_104 (fun x104 h => ?_)
        refine g_astore (l1 := [(5, .inr (.inr x104)), (4, .inl (1 <<< (v2 &&& 31))), (0, .inr (.inr (some t))), (1, .inr (.inr v1)), (2, .inl v2), (3, .inl v3)]) hx hb hl (by decide) rfl dX1_moves_107 (fun ls hl => ?_)
        refine g_aload_n hx hb hl 3 rfl dX1_moves_109 ?_
        refine g_aload hx hb hl 0 rfl dX1_moves_110 ?_
        refine g_aload_n hx hb hl 3 rfl dX1_moves_112 ?_
        refine g_iload_n hx hb hl 4 rfl dX1_moves_113 ?_
        obtain ⟨b114, hb114, h⟩ := g_bnd h
        obtain ⟨hr114, hk114⟩ := g_chk hb114
        obtain ⟨z114, h114, h⟩ := g_bnd h
        refine g_callV (n := 2) (b := b114) (av := [.inr (.inr v1), .inl v2]) (rs := [.inr (.inr v1)]) hx hb hml hown hts hKn hRc hRs hS hl (sX13_of l E D h114) (lw_V q890 q827 q828 q148 q829) ⟨rfl, by decide, by decide, by decide +kernel⟩ ⟨by rw [hRf]; exact Nat.le_of_ble_eq_true rfl, by rw [hRl]; exact Nat.le_of_ble_eq_true rfl⟩ (g_recv hKn hS hk114 (by decide) (by decide)) rfl (by rw [hr114]; rfl) (Nat.le_of_ble_eq_true rfl) dX1_moves_114 (fun H locs cells slots hS => ?_)
        refine g_iload_n hx hb hl 4 rfl dX1_moves_117 ?_
        refine g_aload hx hb hl 0 rfl dX1_moves_118 ?_
        refine g_aload_n hx hb hl 3 rfl dX1_moves_120 ?_
        refine g_iload_n hx hb hl 4 rfl dX1_moves_121 ?_
        obtain ⟨b122, hb122, h⟩ := g_bnd h
        obtain ⟨hr122, hk122⟩ := g_chk hb122
        obtain ⟨z122, h122, h⟩ := g_bnd h
        refine g_callU (n := 2) (b := b122) (av := [.inr (.inr v1), .inl v2]) (rs := [.inl v2, .inl z114.1, .inr (.inr v1)]) hx hb hml hown hts hKn hRc hRs hS hl (C := "SendHall$Wait") (owner := "SendHall$Talk") (x := ⟨"SendHall$Wait", "mark", "(LSendHall$Life;I)I"⟩) (sX8_mark l E D h122) (va_cwU 2 hts (lw_app (lw_in _ [883, 884, 885, 870, 142] (by decide +kernel) (by decide +kernel)) (lw_meth q871)) rfl rfl rfl rfl ⟨by decide, by decide, by decide +kernel⟩ ⟨by rw [hRf]; exact Nat.le_of_ble_eq_true rfl, by rw [hRl]; exact Nat.le_of_ble_eq_true rfl⟩) (g_recv hKn hS hk122 (by decide) (by decide)) rfl (by rw [hr122]; rfl) (Nat.le_of_ble_eq_true rfl) dX1_moves_122 (fun H locs cells slots hS => ?_)
        obtain ⟨b125, hb125, h⟩ := g_bnd h
        obtain ⟨hr125, hk125⟩ := g_chk hb125
        obtain ⟨z125, h125, h⟩ := g_bnd h
        refine g_callV (n := 3) (b := b125) (av := [.inl z114.1, .inl v2, .inl z122.1]) (rs := []) hx hb hml hown hts hKn hRc hRs hS hl (sX3_first l E D h125) (lw_V q886 q887 q888 q134 q889) ⟨rfl, by decide, by decide, by decide +kernel⟩ ⟨by rw [hRf]; exact Nat.le_of_ble_eq_true rfl, by rw [hRl]; exact Nat.le_of_ble_eq_true rfl⟩ (g_recv hKn hS hk125 (by decide) (by decide)) rfl (by rw [hr125]; rfl) (Nat.le_of_ble_eq_true rfl) dX1_moves_125 (fun H locs cells slots hS => ?_)
        refine lv_iconst (v := (-1)) hx hb dX1_moves_128 (by decide) ?_
        refine lv_icmp_ne (tgt := 136) hx hb dX1_moves_129 (by decide) (fun c_129 => ?_) (fun c_129 => ?_)
        · have h := g_ift c_129 h
          refine g_iload hx hb hl 1 rfl dX1_moves_136 ?_
          exact g_iretG hx hb hr hlk hKn hRc hRs hS h dX1_moves_138
        · have h := g_iff (fun z => z c_129) h
          refine lv_iconst (v := 0) hx hb dX1_moves_132 (by decide) ?_
          refine lv_goto (tgt := 138) hx hb dX1_moves_133 (by decide) ?_
          exact g_iretG hx hb hr hlk hKn hRc hRs hS h dX1_moves_138
      have h := g_iff w33_3 h
      by_cases w33_4 : x30 = 4
      · refine lv_tableIn (tgt := 139) (off := 106) hx hb dX1_moves_33 (by rw [w33_4]; decide) (by rw [w33_4]; decide) (by rw [w33_4]; decide) (by decide) ?_
        have h := g_ift w33_4 h
        refine lv_iconst (v := 0) hx hb dX1_moves_139 (by decide) ?_
        refine g_istore (l1 := [(5, .inl 0), (4, .inl (1 <<< (v2 &&& 31))), (0, .inr (.inr (some t))), (1, .inr (.inr v1)), (2, .inl v2), (3, .inl v3)]) hx hb hl (by decide) rfl dX1_moves_140 (fun ls hl => ?_)
        refine lv_iconst (v := 0) hx hb dX1_moves_142 (by decide) ?_
        refine g_istore (l1 := [(6, .inl 0), (5, .inl 0), (4, .inl (1 <<< (v2 &&& 31))), (0, .inr (.inr (some t))), (1, .inr (.inr v1)), (2, .inl v2), (3, .inl v3)]) hx hb hl (by decide) rfl dX1_moves_143 (fun ls hl => ?_)
        exact sX1_moves_b145 C gFU _ _ _ _ _ _ h _ _ _ _ _ hS (gls_sub hl [4, 5, 1, 0] rfl)
      have h := g_iff w33_4 h
      by_cases w33_5 : x30 = 5
      · refine lv_tableIn (tgt := 203) (off := 170) hx hb dX1_moves_33 (by rw [w33_5]; decide) (by rw [w33_5]; decide) (by rw [w33_5]; decide) (by decide) ?_
        have h := g_ift w33_5 h
        refine g_aload_n hx hb hl 2 rfl dX1_moves_203 ?_
        refine g_iload_n hx hb hl 3 rfl dX1_moves_204 ?_
        obtain ⟨b205, hb205, h⟩ := g_bnd h
        obtain ⟨hr205, hk205⟩ := g_chk hb205
        obtain ⟨z205, h205, h⟩ := g_bnd h
        refine g_callV (n := 1) (b := b205) (av := [.inl v2]) (rs := []) hx hb hml hown hts hKn hRc hRs hS hl (sX3_begun l E D h205) (lw_V q891 q892 q893 q134 q894) ⟨rfl, by decide, by decide, by decide +kernel⟩ ⟨by rw [hRf]; exact Nat.le_of_ble_eq_true rfl, by rw [hRl]; exact Nat.le_of_ble_eq_true rfl⟩ (g_recv hKn hS hk205 (by decide) (by decide)) rfl (by rw [hr205]; rfl) (Nat.le_of_ble_eq_true rfl) dX1_moves_205 (fun H locs cells slots hS => ?_)
        refine lv_if_ne (tgt := 216) hx hb dX1_moves_208 (by decide) (fun c_208 => ?_) (fun c_208 => ?_)
        · have h := g_ift c_208 h
          refine lv_iconst (v := 0) hx hb dX1_moves_216 (by decide) ?_
          exact g_iretG hx hb hr hlk hKn hRc hRs hS h dX1_moves_217
        · have h := g_iff (fun z => z c_208) h
          refine g_iload hx hb hl 0 rfl dX1_moves_211 ?_
          refine lv_goto (tgt := 217) hx hb dX1_moves_213 (by decide) ?_
          exact g_iretG hx hb hr hlk hKn hRc hRs hS h dX1_moves_217
      have h := g_iff w33_5 h
      refine g_tableD (tgt := 218) hx hb dX1_moves_33 (by decide) [0, 1, 2, 3, 4, 5] (by decide) (fun k hk => ?_) ?_
      · simp only [List.mem_cons, List.not_mem_nil, or_false] at hk
        rcases hk with rfl | rfl | rfl | rfl | rfl | rfl
        · exact w33_0
        · exact w33_1
        · exact w33_2
        · exact w33_3
        · exact w33_4
        · exact w33_5
      refine g_iload_n hx hb hl 3 rfl dX1_moves_218 ?_
      refine lv_if_ne (tgt := 244) hx hb dX1_moves_219 (by decide) (fun c_219 => ?_) (fun c_219 => ?_)
      · have h := g_ift c_219 h
        refine lv_iconst (v := 0) hx hb dX1_moves_244 (by decide) ?_
        exact g_iretG hx hb hr hlk hKn hRc hRs hS h dX1_moves_245
      · have h := g_iff (fun z => z c_219) h
        refine g_aload_n hx hb hl 1 rfl dX1_moves_222 ?_
        refine g_aload_n hx hb hl 2 rfl dX1_moves_223 ?_
        refine g_aload_n hx hb hl 2 rfl dX1_moves_224 ?_
        refine g_rdR hx hb hown hts hKn hS h fd_3_3_3 rfl (Or.inr ⟨_, gNest_use rfl (hKn.2.2.2.2.1 _ (gNest_in q545 rfl))⟩) (fun _ z => z) dX1_moves_225 (fun x225 h => ?_)
        refine g_iload_n hx hb hl 3 rfl dX1_moves_228 ?_
        refine g_aaloadG hx hb hKn hS h (by decide) dX1_moves_229 (fun x229 h => ?_)
        refine g_rdI hx hb hown hts hKn hS h fd_11_16_0 rfl (Or.inl (hts _ q1422)) (fun _ z => z) dX1_moves_230 (fun x230 h => ?_)
        obtain ⟨b233, hb233, h⟩ := g_bnd h
        obtain ⟨hr233, hk233⟩ := g_chk hb233
        obtain ⟨z233, h233, h⟩ := g_bnd h
        refine g_callV (n := 2) (b := b233) (av := [.inr (.inr v1), .inl x230]) (rs := []) hx hb hml hown hts hKn hRc hRs hS hl (sX1_areAllAt l E D h233) (lw_V q895 q897 qs9 q113 q898) ⟨rfl, by decide, by decide, by decide +kernel⟩ ⟨by rw [hRf]; exact Nat.le_of_ble_eq_true rfl, by rw [hRl]; exact Nat.le_of_ble_eq_true rfl⟩ (g_recv hKn hS hk233 (by decide) (by decide)) rfl (by rw [hr233]; rfl) (Nat.le_of_ble_eq_true rfl) dX1_moves_233 (fun H locs cells slots hS => ?_)
        refine lv_if_eq (tgt := 244) hx hb dX1_moves_236 (by decide) (fun c_236 => ?_) (fun c_236 => ?_)
        · have h := g_ift c_236 h
          refine lv_iconst (v := 0) hx hb dX1_moves_244 (by decide) ?_
          exact g_iretG hx hb hr hlk hKn hRc hRs hS h dX1_moves_245
        · have h := g_iff c_236 h
          refine g_iload hx hb hl 0 rfl dX1_moves_239 ?_
          refine lv_goto (tgt := 245) hx hb dX1_moves_241 (by decide) ?_
          exact g_iretG hx hb hr hlk hKn hRc hRs hS h dX1_moves_245
    · have h := g_iff c_14 h
      refine lv_iconst (v := 0) hx hb dX1_moves_17 (by decide) ?_
      exact g_iretG hx hb hr hlk hKn hRc hRs hS h dX1_moves_18
/-- SendHall.waitsFor(LSendHall$Life;I)I -/
def fX1_waitsFor_b160 (E : g_E) (k124 : (Option Nat) → Int32 → Int32 → Int32 → g_G → Option (Int32 × g_G)) (v1 : Option Nat) (v2 : Int32) (v4 : Int32) (v5 : Int32) (G : g_G) : Option (Int32 × g_G) :=
  k124 v1 v2 v4 (v5 + 1) G
def fX1_waitsFor_b124 (E : g_E) : Nat → (Option Nat) → Int32 → Int32 → Int32 → g_G → Option (Int32 × g_G)
  | 0, _, _, _, _, _ => none
  | n + 1, v1, v2, v4, v5, G =>
    (grI G 3 3 v1 0).bind fun x127 =>
    if x127 ≤ v5 then (
      some (v4, G))
    else (
      (grR G 3 3 v1 3).bind fun x137 =>
      (gaR G 122 x137 v2).bind fun x141 =>
      (grI G 11 16 x141 0).bind fun x142 =>
      (gchk G 3 v1).bind fun b145 =>
      (fX3_isAt E b145 v5 x142 G).bind fun z145 =>
      if ¬ z145.1 = 0 then (
        fX1_waitsFor_b160 E (fX1_waitsFor_b124 E n) v1 v2 v4 v5 z145.2)
      else (
        fX1_waitsFor_b160 E (fX1_waitsFor_b124 E n) v1 v2 (v4 ||| (1 <<< (v5 &&& 31))) v5 z145.2))
def fX1_waitsFor (E : g_E) (t : Nat) (v1 : Option Nat) (v2 : Int32) (G : g_G) : Option (Int32 × g_G) :=
  (gchk G 3 v1).bind fun b2 =>
  (fX3_hasEnded E b2 v2 G).bind fun z2 =>
  if ¬ z2.1 = 0 then (
    some (0, z2.2))
  else (
    (grR z2.2 3 3 v1 4).bind fun x9 =>
    (gaI z2.2 102 x9 v2).bind fun x13 =>
    if x13 = 0 then (
      (gchk z2.2 3 v1).bind fun b20 =>
      (fX3_bits E b20 z2.2).bind fun z20 =>
      (grR z20.2 3 3 v1 3).bind fun x31 =>
      (gaR z20.2 122 x31 v2).bind fun x35 =>
      (grI z20.2 11 16 x35 0).bind fun x36 =>
      if x36 = 0 then (
        (grR z20.2 3 3 v1 3).bind fun x78 =>
        (gaR z20.2 122 x78 v2).bind fun x82 =>
        (gcast z20.2 15 15 x82).bind fun x83 =>
        (gchk z20.2 15 x83).bind fun b88 =>
        (fX9_to E b88 v1 v2 z20.2).bind fun z88 =>
        some ((1 <<< (z88.1 &&& 31)), z88.2))
      else
      if x36 = 1 then (
        (grR z20.2 3 3 v1 3).bind fun x78 =>
        (gaR z20.2 122 x78 v2).bind fun x82 =>
        (gcast z20.2 15 15 x82).bind fun x83 =>
        (gchk z20.2 15 x83).bind fun b88 =>
        (fX9_to E b88 v1 v2 z20.2).bind fun z88 =>
        some ((1 <<< (z88.1 &&& 31)), z88.2))
      else
      if x36 = 2 then (
        (grR z20.2 3 3 v1 3).bind fun x78 =>
        (gaR z20.2 122 x78 v2).bind fun x82 =>
        (gcast z20.2 15 15 x82).bind fun x83 =>
        (gchk z20.2 15 x83).bind fun b88 =>
        (fX9_to E b88 v1 v2 z20.2).bind fun z88 =>
        some ((1 <<< (z88.1 &&& 31)), z88.2))
      else
      if x36 = 3 then (
        (grR z20.2 3 3 v1 3).bind fun x95 =>
        (gaR z20.2 122 x95 v2).bind fun x99 =>
        (gcast z20.2 16 16 x99).bind fun x100 =>
        (gchk z20.2 16 x100).bind fun b105 =>
        (fX13_of E b105 v1 v2 z20.2).bind fun z105 =>
        some ((1 <<< (z105.1 &&& 31)), z105.2))
      else
      if x36 = 4 then (
        some ((z20.1 &&& ((1 <<< (v2 &&& 31)) ^^^ (-1))), z20.2))
      else
      if x36 = 5 then (
        (gchk z20.2 3 v1).bind fun b114 =>
        (fX3_begun E b114 v2 z20.2).bind fun z114 =>
        some (z114.1, z114.2))
      else
      (
        fX1_waitsFor_b124 E gFU v1 v2 0 0 z20.2))
    else (
      some (0, z2.2)))
theorem sX1_waitsFor_b160 {p : Program} {l : Launch} {e : Env} {R : Room} {s : State} {m : MethodId} {args : Array Value} {below : List Frame} {meth : Method} {c : Code} {E : g_E} {D : g_D} (C : gC p R s m args meth c cX1_waitsFor 6 RX1 "waitsFor" (some .int) 219 7326 E D) {k124 : (Option Nat) → Int32 → Int32 → Int32 → g_G → Option (Int32 × g_G)} (hk124 : ∀ (v1 : Option Nat) (v2 : Int32) (v4 : Int32) (v5 : Int32) (G : g_G) (q : Int32 × g_G), k124 v1 v2 v4 v5 G = some q → ∀ (H : Heap) (locs : List Loc) (cells slots : Nat) (ls : Array Slot), gSt E D G H locs → gls ls 6 [(1, .inr (.inr v1)), (2, .inl v2), (4, .inl v4), (5, .inl v5)] → gT p l e R s m args below meth c E D H locs cells slots (some (.int q.1)) q.2 (F0 m 124 ls [])) : ∀ (v1 : Option Nat) (v2 : Int32) (v4 : Int32) (v5 : Int32) (G : g_G) (q : Int32 × g_G), fX1_waitsFor_b160 E k124 v1 v2 v4 v5 G = some q → ∀ (H : Heap) (locs : List Loc) (cells slots : Nat) (ls : Array Slot), gSt E D G H locs → gls ls 6 [(1, .inr (.inr v1)), (2, .inl v2), (4, .inl v4), (5, .inl v5)] → gT p l e R s m args below meth c E D H locs cells slots (some (.int q.1)) q.2 (F0 m 160 ls []) := by
  obtain ⟨hx, hb, hml, hown, hts, hKn, hRc, hRs, hc1, hc2, hRf, hRl, hr, hlk, hnm⟩ := id C
  intro v1 v2 v4 v5 G q h H locs cells slots ls hS hl
  unfold fX1_waitsFor_b160 at h
  refine g_iinc (l1 := [(5, .inl (v5 + 1)), (1, .inr (.inr v1)), (2, .inl v2), (4, .inl v4)]) (v := (v5 + 1)) hx hb hl (k := 3) rfl (by rfl) (by decide) rfl dX1_waitsFor_160 (fun ls hl => ?_)
  refine lv_goto (tgt := 124) hx hb dX1_waitsFor_163 (by decide) ?_
  exact hk124 _ _ _ _ _ _ h _ _ _ _ _ hS (gls_sub hl [1, 2, 3, 0] rfl)
theorem sX1_waitsFor_b124 {p : Program} {l : Launch} {e : Env} {R : Room} {s : State} {m : MethodId} {args : Array Value} {below : List Frame} {meth : Method} {c : Code} {E : g_E} {D : g_D} (C : gC p R s m args meth c cX1_waitsFor 6 RX1 "waitsFor" (some .int) 219 7326 E D) : ∀ (n : Nat) (v1 : Option Nat) (v2 : Int32) (v4 : Int32) (v5 : Int32) (G : g_G) (q : Int32 × g_G), fX1_waitsFor_b124 E n v1 v2 v4 v5 G = some q → ∀ (H : Heap) (locs : List Loc) (cells slots : Nat) (ls : Array Slot), gSt E D G H locs → gls ls 6 [(1, .inr (.inr v1)), (2, .inl v2), (4, .inl v4), (5, .inl v5)] → gT p l e R s m args below meth c E D H locs cells slots (some (.int q.1)) q.2 (F0 m 124 ls []) := by
  obtain ⟨hx, hb, hml, hown, hts, hKn, hRc, hRs, hc1, hc2, hRf, hRl, hr, hlk, hnm⟩ := id C
  intro n
  induction n with
  | zero =>
    intro v1 v2 v4 v5 G q h
    exact g_no h
  | succ n ih =>
    intro v1 v2 v4 v5 G q h H locs cells slots ls hS hl
    rw [fX1_waitsFor_b124] at h
    refine g_iload hx hb hl 3 rfl dX1_waitsFor_124 ?_
    refine g_aload_n hx hb hl 0 rfl dX1_waitsFor_126 ?_
    refine g_rdI hx hb hown hts hKn hS h fd_3_3_0 rfl (Or.inr ⟨_, gNest_use rfl (hKn.2.2.2.2.1 _ (gNest_in q537 rfl))⟩) (fun _ z => z) dX1_waitsFor_127 (fun x127 h => ?_)
    refine lv_icmp_ge (tgt := 166) hx hb dX1_waitsFor_130 (by decide) (fun c_130 => ?_) (fun c_130 => ?_)
    · have h := g_ift c_130 h
      refine g_iload hx hb hl 2 rfl dX1_waitsFor_166 ?_
      exact g_iretG hx hb hr hlk hKn hRc hRs hS h dX1_waitsFor_168
    · have h := g_iff c_130 h
      refine g_aload_n hx hb hl 0 rfl dX1_waitsFor_133 ?_
      refine g_iload hx hb hl 3 rfl dX1_waitsFor_134 ?_
      refine g_aload_n hx hb hl 0 rfl dX1_waitsFor_136 ?_
      refine g_rdR hx hb hown hts hKn hS h fd_3_3_3 rfl (Or.inr ⟨_, gNest_use rfl (hKn.2.2.2.2.1 _ (gNest_in q545 rfl))⟩) (fun _ z => z) dX1_waitsFor_137 (fun x137 h => ?_)
      refine g_iload_n hx hb hl 1 rfl dX1_waitsFor_140 ?_
      refine g_aaloadG hx hb hKn hS h (by decide) dX1_waitsFor_141 (fun x141 h => ?_)
      refine g_rdI hx hb hown hts hKn hS h fd_11_16_0 rfl (Or.inl (hts _ q1422)) (fun _ z => z) dX1_waitsFor_142 (fun x142 h => ?_)
      obtain ⟨b145, hb145, h⟩ := g_bnd h
      obtain ⟨hr145, hk145⟩ := g_chk hb145
      obtain ⟨z145, h145, h⟩ := g_bnd h
      refine g_callV (n := 2) (b := b145) (av := [.inl v5, .inl x142]) (rs := []) hx hb hml hown hts hKn hRc hRs hS hl (sX3_isAt l E D h145) (lw_V q874 q875 q876 q134 q877) ⟨rfl, by decide, by decide, by decide +kernel⟩ ⟨by rw [hRf]; exact Nat.le_of_ble_eq_true rfl, by rw [hRl]; exact Nat.le_of_ble_eq_true rfl⟩ (g_recv hKn hS hk145 (by decide) (by decide)) rfl (by rw [hr145]; rfl) (Nat.le_of_ble_eq_true rfl) dX1_waitsFor_145 (fun H locs cells slots hS => ?_)
      refine lv_if_ne (tgt := 160) hx hb dX1_waitsFor_148 (by decide) (fun c_148 => ?_) (fun c_148 => ?_)
      · have h := g_ift c_148 h
        exact sX1_waitsFor_b160 C ih _ _ _ _ _ _ h _ _ _ _ _ hS (gls_sub hl [0, 1, 2, 3] rfl)
      · have h := g_iff (fun z => z c_148) h
        refine g_iload hx hb hl 2 rfl dX1_waitsFor_151 ?_
        refine lv_iconst (v := 1) hx hb dX1_waitsFor_153 (by decide) ?_
        refine g_iload hx hb hl 3 rfl dX1_waitsFor_154 ?_
        refine lv_ishl hx hb dX1_waitsFor_156 ?_
        refine lv_ior hx hb dX1_waitsFor_157 ?_
        refine g_istore (l1 := [(4, .inl (v4 ||| (1 <<< (v5 &&& 31)))), (1, .inr (.inr v1)), (2, .inl v2), (5, .inl v5)]) hx hb hl (by decide) rfl dX1_waitsFor_158 (fun ls hl => ?_)
        exact sX1_waitsFor_b160 C ih _ _ _ _ _ _ h _ _ _ _ _ hS (gls_sub hl [1, 2, 0, 3] rfl)
theorem sX1_waitsFor (l : Launch) (E : g_E) (D : g_D) {t : Nat} {v1 : Option Nat} {v2 : Int32} {G : g_G} {q : Int32 × g_G} (h : fX1_waitsFor E t v1 v2 G = some q) : gMet l E D yX1_waitsFor (ws_ yX1_waitsFor cX1_waitsFor 6 (some .int)) 219 7326 [.inr (.inr (some t)), .inr (.inr v1), .inl v2] G (some (.int q.1)) q.2 := by
  refine gMet.of (by decide +kernel) (Nat.le_of_ble_eq_true rfl) ?_
  intro p e R s m args below meth c C hS ls hl
  have C : gC p R s m args meth c cX1_waitsFor 6 RX1 "waitsFor" (some .int) 219 7326 E D := C
  obtain ⟨hx, hb, hml, hown, hts, hKn, hRc, hRs, hc1, hc2, hRf, hRl, hr, hlk, hnm⟩ := id C
  have hl : gls ls 6 [(0, .inr (.inr (some t))), (1, .inr (.inr v1)), (2, .inl v2)] := hl
  generalize s.heap = H at hS ⊢
  unfold fX1_waitsFor at h
  refine g_aload_n hx hb hl 1 rfl dX1_waitsFor_0 ?_
  refine g_iload_n hx hb hl 2 rfl dX1_waitsFor_1 ?_
  obtain ⟨b2, hb2, h⟩ := g_bnd h
  obtain ⟨hr2, hk2⟩ := g_chk hb2
  obtain ⟨z2, h2, h⟩ := g_bnd h
  refine g_callV (n := 1) (b := b2) (av := [.inl v2]) (rs := []) hx hb hml hown hts hKn hRc hRs hS hl (sX3_hasEnded l E D h2) (lw_V q848 q849 q850 q134 q851) ⟨rfl, by decide, by decide, by decide +kernel⟩ ⟨by rw [hRf]; exact Nat.le_of_ble_eq_true rfl, by rw [hRl]; exact Nat.le_of_ble_eq_true rfl⟩ (g_recv hKn hS hk2 (by decide) (by decide)) rfl (by rw [hr2]; rfl) (Nat.le_of_ble_eq_true rfl) dX1_waitsFor_2 (fun H locs cells slots hS => ?_)
  refine lv_if_ne (tgt := 17) hx hb dX1_waitsFor_5 (by decide) (fun c_5 => ?_) (fun c_5 => ?_)
  · have h := g_ift c_5 h
    refine lv_iconst (v := 0) hx hb dX1_waitsFor_17 (by decide) ?_
    exact g_iretG hx hb hr hlk hKn hRc hRs hS h dX1_waitsFor_18
  · have h := g_iff (fun z => z c_5) h
    refine g_aload_n hx hb hl 1 rfl dX1_waitsFor_8 ?_
    refine g_rdR hx hb hown hts hKn hS h fd_3_3_4 rfl (Or.inr ⟨_, gNest_use rfl (hKn.2.2.2.2.1 _ (gNest_in q547 rfl))⟩) (fun _ z => z) dX1_waitsFor_9 (fun x9 h => ?_)
    refine g_iload_n hx hb hl 2 rfl dX1_waitsFor_12 ?_
    refine g_zaloadG hx hb hKn hS h dX1_waitsFor_13 (fun x13 h => ?_)
    refine lv_if_eq (tgt := 19) hx hb dX1_waitsFor_14 (by decide) (fun c_14 => ?_) (fun c_14 => ?_)
    · have h := g_ift c_14 h
      refine g_aload_n hx hb hl 1 rfl dX1_waitsFor_19 ?_
      obtain ⟨b20, hb20, h⟩ := g_bnd h
      obtain ⟨hr20, hk20⟩ := g_chk hb20
      obtain ⟨z20, h20, h⟩ := g_bnd h
      refine g_callV (n := 0) (b := b20) (av := []) (rs := []) hx hb hml hown hts hKn hRc hRs hS hl (sX3_bits l E D h20) (lw_V q994 q990 q991 q134 q992) ⟨rfl, by decide, by decide, by decide +kernel⟩ ⟨by rw [hRf]; exact Nat.le_of_ble_eq_true rfl, by rw [hRl]; exact Nat.le_of_ble_eq_true rfl⟩ (g_recv hKn hS hk20 (by decide) (by decide)) rfl (by rw [hr20]; rfl) (Nat.le_of_ble_eq_true rfl) dX1_waitsFor_20 (fun H locs cells slots hS => ?_)
      refine lv_iconst (v := 1) hx hb dX1_waitsFor_23 (by decide) ?_
      refine g_iload_n hx hb hl 2 rfl dX1_waitsFor_24 ?_
      refine lv_ishl hx hb dX1_waitsFor_25 ?_
      refine lv_iconst (v := (-1)) hx hb dX1_waitsFor_26 (by decide) ?_
      refine lv_ixor hx hb dX1_waitsFor_27 ?_
      refine lv_iand hx hb dX1_waitsFor_28 ?_
      refine g_istore_n (l1 := [(3, .inl (z20.1 &&& ((1 <<< (v2 &&& 31)) ^^^ (-1)))), (0, .inr (.inr (some t))), (1, .inr (.inr v1)), (2, .inl v2)]) hx hb hl (by decide) rfl dX1_waitsFor_29 (fun ls hl => ?_)
      refine g_aload_n hx hb hl 2 rfl dX1_waitsFor_30 ?_
      refine g_rdR hx hb hown hts hKn hS h fd_3_3_3 rfl (Or.inr ⟨_, gNest_use rfl (hKn.2.2.2.2.1 _ (gNest_in q545 rfl))⟩) (fun _ z => z) dX1_waitsFor_31 (fun x31 h => ?_)
      refine g_iload_n hx hb hl 3 rfl dX1_waitsFor_34 ?_
      refine g_aaloadG hx hb hKn hS h (by decide) dX1_waitsFor_35 (fun x35 h => ?_)
      refine g_rdI hx hb hown hts hKn hS h fd_11_16_0 rfl (Or.inl (hts _ q1422)) (fun _ z => z) dX1_waitsFor_36 (fun x36 h => ?_)
      by_cases w39_0 : x36 = 0
      · refine lv_tableIn (tgt := 76) (off := 37) hx hb dX1_waitsFor_39 (by rw [w39_0]; decide) (by rw [w39_0]; decide) (by rw [w39_0]; decide) (by decide) ?_
        have h := g_ift w39_0 h
        refine lv_iconst (v := 1) hx hb dX1_waitsFor_76 (by decide) ?_
        refine g_aload_n hx hb hl 2 rfl dX1_waitsFor_77 ?_
        refine g_rdR hx hb hown hts hKn hS h fd_3_3_3 rfl (Or.inr ⟨_, gNest_use rfl (hKn.2.2.2.2.1 _ (gNest_in q545 rfl))⟩) (fun _ z => z) dX1_waitsFor_78 (fun x78 h => ?_)
        refine g_iload_n hx hb hl 3 rfl dX1_waitsFor_81 ?_
        refine g_aaloadG hx hb hKn hS h (by decide) dX1_waitsFor_82 (fun x82 h => ?_)
        refine g_castS (k := 15) hx hb hown hKn hS h (by decide) (by decide) (hts _ q856) dX1_waitsFor_83 (fun x83 h => ?_)
        refine g_aload_n hx hb hl 2 rfl dX1_waitsFor_86 ?_
        refine g_iload_n hx hb hl 3 rfl dX1_waitsFor_87 ?_
        obtain ⟨b88, hb88, h⟩ := g_bnd h
        obtain ⟨hr88, hk88⟩ := g_chk hb88
        obtain ⟨z88, h88, h⟩ := g_bnd h
        refine g_callV (n := 2) (b := b88) (av := [.inr (.inr v1), .inl v2]) (rs := [.inl 1]) hx hb hml hown hts hKn hRc hRs hS hl (sX9_to l E D h88) (lw_V q857 q798 q799 q143 q800) ⟨rfl, by decide, by decide, by decide +kernel⟩ ⟨by rw [hRf]; exact Nat.le_of_ble_eq_true rfl, by rw [hRl]; exact Nat.le_of_ble_eq_true rfl⟩ (g_recv hKn hS hk88 (by decide) (by decide)) rfl (by rw [hr88]; rfl) (Nat.le_of_ble_eq_true rfl) dX1_waitsFor_88 (fun H locs cells slots hS => ?_)
        refine lv_ishl hx hb dX1_waitsFor_91 ?_
        exact g_iretG hx hb hr hlk hKn hRc hRs hS h dX1_waitsFor_92
      have h := g_iff w39_0 h
      by_cases w39_1 : x36 = 1
      · refine lv_tableIn (tgt := 76) (off := 37) hx hb dX1_waitsFor_39 (by rw [w39_1]; decide) (by rw [w39_1]; decide) (by rw [w39_1]; decide) (by decide) ?_
        have h := g_ift w39_1 h
        refine lv_iconst (v := 1) hx hb dX1_waitsFor_76 (by decide) ?_
        refine g_aload_n hx hb hl 2 rfl dX1_waitsFor_77 ?_
        refine g_rdR hx hb hown hts hKn hS h fd_3_3_3 rfl (Or.inr ⟨_, gNest_use rfl (hKn.2.2.2.2.1 _ (gNest_in q545 rfl))⟩) (fun _ z => z) dX1_waitsFor_78 (fun x78 h => ?_)
        refine g_iload_n hx hb hl 3 rfl dX1_waitsFor_81 ?_
        refine g_aaloadG hx hb hKn hS h (by decide) dX1_waitsFor_82 (fun x82 h => ?_)
        refine g_castS (k := 15) hx hb hown hKn hS h (by decide) (by decide) (hts _ q856) dX1_waitsFor_83 (fun x83 h => ?_)
        refine g_aload_n hx hb hl 2 rfl dX1_waitsFor_86 ?_
        refine g_iload_n hx hb hl 3 rfl dX1_waitsFor_87 ?_
        obtain ⟨b88, hb88, h⟩ := g_bnd h
        obtain ⟨hr88, hk88⟩ := g_chk hb88
        obtain ⟨z88, h88, h⟩ := g_bnd h
        refine g_callV (n := 2) (b := b88) (av := [.inr (.inr v1), .inl v2]) (rs := [.inl 1]) hx hb hml hown hts hKn hRc hRs hS hl (sX9_to l E D h88) (lw_V q857 q798 q799 q143 q800) ⟨rfl, by decide, by decide, by decide +kernel⟩ ⟨by rw [hRf]; exact Nat.le_of_ble_eq_true rfl, by rw [hRl]; exact Nat.le_of_ble_eq_true rfl⟩ (g_recv hKn hS hk88 (by decide) (by decide)) rfl (by rw [hr88]; rfl) (Nat.le_of_ble_eq_true rfl) dX1_waitsFor_88 (fun H locs cells slots hS => ?_)
        refine lv_ishl hx hb dX1_waitsFor_91 ?_
        exact g_iretG hx hb hr hlk hKn hRc hRs hS h dX1_waitsFor_92
      have h := g_iff w39_1 h
      by_cases w39_2 : x36 = 2
      · refine lv_tableIn (tgt := 76) (off := 37) hx hb dX1_waitsFor_39 (by rw [w39_2]; decide) (by rw [w39_2]; decide) (by rw [w39_2]; decide) (by decide) ?_
        have h := g_ift w39_2 h
        refine lv_iconst (v := 1) hx hb dX1_waitsFor_76 (by decide) ?_
        refine g_aload_n hx hb hl 2 rfl dX1_waitsFor_77 ?_
        refine g_rdR hx hb hown hts hKn hS h fd_3_3_3 rfl (Or.inr ⟨_, gNest_use rfl (hKn.2.2.2.2.1 _ (gNest_in q545 rfl))⟩) (fun _ z => z) dX1_waitsFor_78 (fun x78 h => ?_)
        refine g_iload_n hx hb hl 3 rfl dX1_waitsFor_81 ?_
        refine g_aaloadG hx hb hKn hS h (by decide) dX1_waitsFor_82 (fun x82 h => ?_)
        refine g_castS (k := 15) hx hb hown hKn hS h (by decide) (by decide) (hts _ q856) dX1_waitsFor_83 (fun x83 h => ?_)
        refine g_aload_n hx hb hl 2 rfl dX1_waitsFor_86 ?_
        refine g_iload_n hx hb hl 3 rfl dX1_waitsFor_87 ?_
        obtain ⟨b88, hb88, h⟩ := g_bnd h
        obtain ⟨hr88, hk88⟩ := g_chk hb88
        obtain ⟨z88, h88, h⟩ := g_bnd h
        refine g_callV (n := 2) (b := b88) (av := [.inr (.inr v1), .inl v2]) (rs := [.inl 1]) hx hb hml hown hts hKn hRc hRs hS hl (sX9_to l E D h88) (lw_V q857 q798 q799 q143 q800) ⟨rfl, by decide, by decide, by decide +kernel⟩ ⟨by rw [hRf]; exact Nat.le_of_ble_eq_true rfl, by rw [hRl]; exact Nat.le_of_ble_eq_true rfl⟩ (g_recv hKn hS hk88 (by decide) (by decide)) rfl (by rw [hr88]; rfl) (Nat.le_of_ble_eq_true rfl) dX1_waitsFor_88 (fun H locs cells slots hS => ?_)
        refine lv_ishl hx hb dX1_waitsFor_91 ?_
        exact g_iretG hx hb hr hlk hKn hRc hRs hS h dX1_waitsFor_92
      have h := g_iff w39_2 h
      by_cases w39_3 : x36 = 3
      · refine lv_tableIn (tgt := 93) (off := 54) hx hb dX1_waitsFor_39 (by rw [w39_3]; decide) (by rw [w39_3]; decide) (by rw [w39_3]; decide) (by decide) ?_
        have h := g_ift w39_3 h
        refine lv_iconst (v := 1) hx hb dX1_waitsFor_93 (by decide) ?_
        refine g_aload_n hx hb hl 2 rfl dX1_waitsFor_94 ?_
        refine g_rdR hx hb hown hts hKn hS h fd_3_3_3 rfl (Or.inr ⟨_, gNest_use rfl (hKn.2.2.2.2.1 _ (gNest_in q545 rfl))⟩) (fun _ z => z) dX1_waitsFor_95 (fun x95 h => ?_)
        refine g_iload_n hx hb hl 3 rfl dX1_waitsFor_98 ?_
        refine g_aaloadG hx hb hKn hS h (by decide) dX1_waitsFor_99 (fun x99 h => ?_)
        refine g_castS (k := 16) hx hb hown hKn hS h (by decide) (by decide) (hts _ q878) dX1_waitsFor_100 (fun x100 h => ?_)
        refine g_aload_n hx hb hl 2 rfl dX1_waitsFor_103 ?_
        refine g_iload_n hx hb hl 3 rfl dX1_waitsFor_104 ?_
        obtain ⟨b105, hb105, h⟩ := g_bnd h
        obtain ⟨hr105, hk105⟩ := g_chk hb105
        obtain ⟨z105, h105, h⟩ := g_bnd h
        refine g_callV (n := 2) (b := b105) (av := [.inr (.inr v1), .inl v2]) (rs := [.inl 1]) hx hb hml hown hts hKn hRc hRs hS hl (sX13_of l E D h105) (lw_V q890 q827 q828 q148 q829) ⟨rfl, by decide, by decide, by decide +kernel⟩ ⟨by rw [hRf]; exact Nat.le_of_ble_eq_true rfl, by rw [hRl]; exact Nat.le_of_ble_eq_true rfl⟩ (g_recv hKn hS hk105 (by decide) (by decide)) rfl (by rw [hr105]; rfl) (Nat.le_of_ble_eq_true rfl) dX1_waitsFor_105 (fun H locs cells slots hS => ?_)
        refine lv_ishl hx hb dX1_waitsFor_108 ?_
        exact g_iretG hx hb hr hlk hKn hRc hRs hS h dX1_waitsFor_109
      have h := g_iff w39_3 h
      by_cases w39_4 : x36 = 4
      · refine lv_tableIn (tgt := 110) (off := 71) hx hb dX1_waitsFor_39 (by rw [w39_4]; decide) (by rw [w39_4]; decide) (by rw [w39_4]; decide) (by decide) ?_
        have h := g_ift w39_4 h
        refine g_iload_n hx hb hl 0 rfl dX1_waitsFor_110 ?_
        exact g_iretG hx hb hr hlk hKn hRc hRs hS h dX1_waitsFor_111
      have h := g_iff w39_4 h
      by_cases w39_5 : x36 = 5
      · refine lv_tableIn (tgt := 112) (off := 73) hx hb dX1_waitsFor_39 (by rw [w39_5]; decide) (by rw [w39_5]; decide) (by rw [w39_5]; decide) (by decide) ?_
        have h := g_ift w39_5 h
        refine g_aload_n hx hb hl 2 rfl dX1_waitsFor_112 ?_
        refine g_iload_n hx hb hl 3 rfl dX1_waitsFor_113 ?_
        obtain ⟨b114, hb114, h⟩ := g_bnd h
        obtain ⟨hr114, hk114⟩ := g_chk hb114
        obtain ⟨z114, h114, h⟩ := g_bnd h
        refine g_callV (n := 1) (b := b114) (av := [.inl v2]) (rs := []) hx hb hml hown hts hKn hRc hRs hS hl (sX3_begun l E D h114) (lw_V q891 q892 q893 q134 q894) ⟨rfl, by decide, by decide, by decide +kernel⟩ ⟨by rw [hRf]; exact Nat.le_of_ble_eq_true rfl, by rw [hRl]; exact Nat.le_of_ble_eq_true rfl⟩ (g_recv hKn hS hk114 (by decide) (by decide)) rfl (by rw [hr114]; rfl) (Nat.le_of_ble_eq_true rfl) dX1_waitsFor_114 (fun H locs cells slots hS => ?_)
        exact g_iretG hx hb hr hlk hKn hRc hRs hS h dX1_waitsFor_117
      have h := g_iff w39_5 h
      refine g_tableD (tgt := 118) hx hb dX1_waitsFor_39 (by decide) [0, 1, 2, 3, 4, 5] (by decide) (fun k hk => ?_) ?_
      · simp only [List.mem_cons, List.not_mem_nil, or_false] at hk
        rcases hk with rfl | rfl | rfl | rfl | rfl | rfl
        · exact w39_0
        · exact w39_1
        · exact w39_2
        · exact w39_3
        · exact w39_4
        · exact w39_5
      refine lv_iconst (v := 0) hx hb dX1_waitsFor_118 (by decide) ?_
      refine g_istore (l1 := [(4, .inl 0), (3, .inl (z20.1 &&& ((1 <<< (v2 &&& 31)) ^^^ (-1)))), (0, .inr (.inr (some t))), (1, .inr (.inr v1)), (2, .inl v2)]) hx hb hl (by decide) rfl dX1_waitsFor_119 (fun ls hl => ?_)
      refine lv_iconst (v := 0) hx hb dX1_waitsFor_121 (by decide) ?_
      refine g_istore (l1 := [(5, .inl 0), (4, .inl 0), (3, .inl (z20.1 &&& ((1 <<< (v2 &&& 31)) ^^^ (-1)))), (0, .inr (.inr (some t))), (1, .inr (.inr v1)), (2, .inl v2)]) hx hb hl (by decide) rfl dX1_waitsFor_122 (fun ls hl => ?_)
      exact sX1_waitsFor_b124 C gFU _ _ _ _ _ _ h _ _ _ _ _ hS (gls_sub hl [4, 5, 1, 0] rfl)
    · have h := g_iff c_14 h
      refine lv_iconst (v := 0) hx hb dX1_waitsFor_17 (by decide) ?_
      exact g_iretG hx hb hr hlk hKn hRc hRs hS h dX1_waitsFor_18
/-- SendHall$Send.comes(LSendHall$Life;I)LSendHall$Step; -/
def fX9_comes_b24 (E : g_E) (t : Nat) (v1 : Option Nat) (v2 : Int32) (s0 : Option Nat) (s1 : Int32) (s2 : Int32) (G : g_G) : Option (Option Nat × g_G) :=
  (gsaZ E G s0 s1 s2).bind fun G24 =>
  (gchk G24 15 (some t)).bind fun b28 =>
  (fX7_comes E b28 v1 v2 G24).bind fun z28 =>
  some (z28.1, z28.2)
def fX9_comes (E : g_E) (t : Nat) (v1 : Option Nat) (v2 : Int32) (G : g_G) : Option (Option Nat × g_G) :=
  (grR G 3 3 v1 4).bind fun x1 =>
  (gchk G 15 (some t)).bind fun b10 =>
  (fX9_to E b10 v1 v2 G).bind fun z10 =>
  (fX7_isOther E v1 v2 z10.1 z10.2).bind fun z13 =>
  if ¬ z13.1 = 0 then (
    fX9_comes_b24 E t v1 v2 x1 v2 0 z13.2)
  else (
    fX9_comes_b24 E t v1 v2 x1 v2 1 z13.2)
theorem sX9_comes_b24 {p : Program} {l : Launch} {e : Env} {R : Room} {s : State} {m : MethodId} {args : Array Value} {below : List Frame} {meth : Method} {c : Code} {E : g_E} {D : g_D} (C : gC p R s m args meth c cX9_comes 3 RX9 "comes" (some (.object "SendHall$Step")) 219 7326 E D) : ∀ (t : Nat) (v1 : Option Nat) (v2 : Int32) (s0 : Option Nat) (s1 : Int32) (s2 : Int32) (G : g_G) (q : Option Nat × g_G), fX9_comes_b24 E t v1 v2 s0 s1 s2 G = some q → ∀ (H : Heap) (locs : List Loc) (cells slots : Nat) (ls : Array Slot), gSt E D G H locs → gls ls 3 [(0, .inr (.inr (some t))), (1, .inr (.inr v1)), (2, .inl v2)] → gT p l e R s m args below meth c E D H locs cells slots (some (va_rf q.1)) q.2 (F0 m 24 ls [.int s2, .int s1, va_rf s0]) := by
  obtain ⟨hx, hb, hml, hown, hts, hKn, hRc, hRs, hc1, hc2, hRf, hRl, hr, hlk, hnm⟩ := id C
  intro t v1 v2 s0 s1 s2 G q h H locs cells slots ls hS hl
  unfold fX9_comes_b24 at h
  refine g_zastoreG hx hb hKn hS h dX9_comes_24 (fun G24 h H locs hS => ?_)
  refine g_aload_n hx hb hl 0 rfl dX9_comes_25 ?_
  refine g_aload_n hx hb hl 1 rfl dX9_comes_26 ?_
  refine g_iload_n hx hb hl 2 rfl dX9_comes_27 ?_
  obtain ⟨b28, hb28, h⟩ := g_bnd h
  obtain ⟨hr28, hk28⟩ := g_chk hb28
  obtain ⟨z28, h28, h⟩ := g_bnd h
  refine g_callSX (n := 2) (b := b28) (av := [.inr (.inr v1), .inl v2]) (rs := []) (up := "SendHall$Talk") hx hb hml hown hts hKn hRc hRs hS hl (C := "SendHall$Send") (hKn.obj (k := 15) (by decide) (by decide)).2 (sX7_comes l E D h28) (lw_meth q812) (hts _ q141) (hts _ q807) (hts _ q808) (hts _ q810) (hts _ q811) (hts _ q737) ⟨by decide, by decide +kernel⟩ ⟨by rw [hRf]; exact Nat.le_of_ble_eq_true rfl, by rw [hRl]; exact Nat.le_of_ble_eq_true rfl⟩ (g_recv hKn hS hk28 (by decide) (by decide)) rfl (by rw [hr28]; rfl) (Nat.le_of_ble_eq_true rfl) dX9_comes_28 (fun H locs cells slots hS => ?_)
  exact g_aretG hx hb hr (by first | exact Or.inl ⟨_, rfl⟩ | exact Or.inr ⟨_, rfl⟩) hlk hKn hRc hRs hS h dX9_comes_31
theorem sX9_comes (l : Launch) (E : g_E) (D : g_D) {t : Nat} {v1 : Option Nat} {v2 : Int32} {G : g_G} {q : Option Nat × g_G} (h : fX9_comes E t v1 v2 G = some q) : gMet l E D yX9_comes (ws_ yX9_comes cX9_comes 3 (some (.object "SendHall$Step"))) 219 7326 [.inr (.inr (some t)), .inr (.inr v1), .inl v2] G (some (va_rf q.1)) q.2 := by
  refine gMet.of (by decide +kernel) (Nat.le_of_ble_eq_true rfl) ?_
  intro p e R s m args below meth c C hS ls hl
  have C : gC p R s m args meth c cX9_comes 3 RX9 "comes" (some (.object "SendHall$Step")) 219 7326 E D := C
  obtain ⟨hx, hb, hml, hown, hts, hKn, hRc, hRs, hc1, hc2, hRf, hRl, hr, hlk, hnm⟩ := id C
  have hl : gls ls 3 [(0, .inr (.inr (some t))), (1, .inr (.inr v1)), (2, .inl v2)] := hl
  generalize s.heap = H at hS ⊢
  unfold fX9_comes at h
  refine g_aload_n hx hb hl 1 rfl dX9_comes_0 ?_
  refine g_rdR hx hb hown hts hKn hS h fd_3_3_4 rfl (Or.inr ⟨_, gNest_use rfl (hKn.2.2.2.2.1 _ (gNest_in q548 rfl))⟩) (fun _ z => z) dX9_comes_1 (fun x1 h => ?_)
  refine g_iload_n hx hb hl 2 rfl dX9_comes_4 ?_
  refine g_aload_n hx hb hl 1 rfl dX9_comes_5 ?_
  refine g_iload_n hx hb hl 2 rfl dX9_comes_6 ?_
  refine g_aload_n hx hb hl 0 rfl dX9_comes_7 ?_
  refine g_aload_n hx hb hl 1 rfl dX9_comes_8 ?_
  refine g_iload_n hx hb hl 2 rfl dX9_comes_9 ?_
  obtain ⟨b10, hb10, h⟩ := g_bnd h
  obtain ⟨hr10, hk10⟩ := g_chk hb10
  obtain ⟨z10, h10, h⟩ := g_bnd h
  refine g_callV (n := 2) (b := b10) (av := [.inr (.inr v1), .inl v2]) (rs := [.inl v2, .inr (.inr v1), .inl v2, .inr (.inr x1)]) hx hb hml hown hts hKn hRc hRs hS hl (sX9_to l E D h10) (lw_V q797 q798 q799 q143 q800) ⟨rfl, by decide, by decide, by decide +kernel⟩ ⟨by rw [hRf]; exact Nat.le_of_ble_eq_true rfl, by rw [hRl]; exact Nat.le_of_ble_eq_true rfl⟩ (g_recv hKn hS hk10 (by decide) (by decide)) rfl (by rw [hr10]; rfl) (Nat.le_of_ble_eq_true rfl) dX9_comes_10 (fun H locs cells slots hS => ?_)
  obtain ⟨z13, h13, h⟩ := g_bnd h
  refine g_callSS (n := 3) (av := [.inr (.inr v1), .inl v2, .inl z10.1]) (rs := [.inl v2, .inr (.inr x1)]) (sub := "SendHall$Send") hx hb hml hown hts hKn hRc hRs hS hl (sX7_isOther l E D h13) (lw_meth q806) (hts _ q141) (hts _ q803) (hts _ q804) (hts _ q805) ⟨by decide, by decide, by decide +kernel⟩ ⟨by rw [hRf]; exact Nat.le_of_ble_eq_true rfl, by rw [hRl]; exact Nat.le_of_ble_eq_true rfl⟩ rfl rfl (Nat.le_of_ble_eq_true rfl) dX9_comes_13 (fun H locs cells slots hS => ?_)
  refine lv_if_ne (tgt := 23) hx hb dX9_comes_16 (by decide) (fun c_16 => ?_) (fun c_16 => ?_)
  · have h := g_ift c_16 h
    refine lv_iconst (v := 0) hx hb dX9_comes_23 (by decide) ?_
    exact sX9_comes_b24 C _ _ _ _ _ _ _ _ h _ _ _ _ _ hS (gls_sub hl [0, 1, 2] rfl)
  · have h := g_iff (fun z => z c_16) h
    refine lv_iconst (v := 1) hx hb dX9_comes_19 (by decide) ?_
    refine lv_goto (tgt := 24) hx hb dX9_comes_20 (by decide) ?_
    exact sX9_comes_b24 C _ _ _ _ _ _ _ _ h _ _ _ _ _ hS (gls_sub hl [0, 1, 2] rfl)
/-- Step.comes, by the kind of the object -/
def fV_comes (E : g_E) (r : Option Nat) (v1 : Option Nat) (v2 : Int32) (G : g_G) : Option (Option Nat × g_G) :=
  r.bind fun t => if gcl G t = 11 then fX7_comes E t v1 v2 G else if gcl G t = 12 then fX14_comes E t v1 v2 G else if gcl G t = 13 then fX15_comes E t v1 v2 G else if gcl G t = 14 then fX16_comes E t v1 v2 G else if gcl G t = 15 then fX9_comes E t v1 v2 G else if gcl G t = 16 then fX13_comes E t v1 v2 G else none
theorem g_comesV {p : Program} {l : Launch} {e : Env} {R : Room} {s : State} {m : MethodId} {args : Array Value} {below : List Frame} {meth : Method} {c : Code} {H : Heap} {locs : List Loc} {cells slots : Nat} {Q : State → Prop} {cc : ByteArray} {pc nL : Nat} {ls : Array Slot} {E : g_E} {D : g_D} {G : g_G} (hx : p.tables.exec = Jvm.exec) (hb : c.code = cc) (hml : c.maxLocals = nL) (hown : s.vm.findClass RX1 = some m.cls) (hts : ∀ w ∈ lw_all, w.before args s = true) (hKn : gKn E D s) (hRc : R.cells = gMc E - s.heap.size) (hRs : R.slots = gMs E - ghsl s.heap) (hS : gSt E D G H locs) {l0 : List (Nat × g_v)} (hl : gls ls nL l0) {rs : List g_v} {st0 : List Value} {r v1 : Option Nat} {v2 : Int32} {q : Option Nat × g_G} (h : fV_comes E r v1 v2 G = some q)
    (hR : 219 + 1 ≤ R.frames ∧ 8 + (10 + 11) + 7326 ≤ R.locals) (hst : st0 = .int v2 :: va_rf v1 :: va_rf r :: rs.map gvv) (h8 : gwid rs ≤ 8) (hdg : decode cc pc = .ok (.invokevirtual 17, 3))
    (kk : ∀ (H1 : Heap) (locs1 : List Loc) (cells1 slots1 : Nat), gSt E D q.2 H1 locs1 → W p l e R s m args below meth c H1 locs1 cells1 slots1 Q (F0 m (pc + 3) ls (va_rf q.1 :: rs.map gvv))) : W p l e R s m args below meth c H locs cells slots Q (F0 m pc ls st0) := by
  obtain ⟨t, rfl, h⟩ := g_bnd h
  subst hst
  by_cases h11 : gcl G t = 11
  · exact g_callU (n := 2) (b := t) (av := [.inr (.inr v1), .inl v2]) (rs := rs) hx hb hml hown hts hKn hRc hRs hS hl (C := "SendHall$Plain") (owner := "SendHall$Step") (x := ⟨"SendHall$Step", "comes", "(LSendHall$Life;I)LSendHall$Step;"⟩) (sX7_comes l E D (g_ift h11 h)) (va_cwU 2 hts (lw_app (lw_in _ [736, 738, 793, 737, 141] (by decide +kernel) (by decide +kernel)) (lw_meth q812)) rfl rfl rfl rfl ⟨by decide, by decide, by decide +kernel⟩ ⟨Nat.le_trans (Nat.le_of_ble_eq_true rfl) hR.1, Nat.le_trans (Nat.le_of_ble_eq_true rfl) hR.2⟩) (g_recv hKn hS h11 (by decide) (by decide)) rfl rfl h8 hdg kk
  have h := g_iff h11 h
  by_cases h12 : gcl G t = 12
  · exact g_callU (n := 2) (b := t) (av := [.inr (.inr v1), .inl v2]) (rs := rs) hx hb hml hown hts hKn hRc hRs hS hl (C := "SendHall$Set") (owner := "SendHall$Step") (x := ⟨"SendHall$Step", "comes", "(LSendHall$Life;I)LSendHall$Step;"⟩) (sX14_comes l E D (g_ift h12 h)) (va_cwO 2 hts (lw_app (lw_in _ [736, 738, 737, 813, 814, 149] (by decide +kernel) (by decide +kernel)) (lw_meth q815)) rfl rfl rfl q812 ⟨by decide, by decide, by decide +kernel⟩ ⟨Nat.le_trans (Nat.le_of_ble_eq_true rfl) hR.1, Nat.le_trans (Nat.le_of_ble_eq_true rfl) hR.2⟩) (g_recv hKn hS h12 (by decide) (by decide)) rfl rfl h8 hdg kk
  have h := g_iff h12 h
  by_cases h13 : gcl G t = 13
  · exact g_callU (n := 2) (b := t) (av := [.inr (.inr v1), .inl v2]) (rs := rs) hx hb hml hown hts hKn hRc hRs hS hl (C := "SendHall$Tell") (owner := "SendHall$Step") (x := ⟨"SendHall$Step", "comes", "(LSendHall$Life;I)LSendHall$Step;"⟩) (sX15_comes l E D (g_ift h13 h)) (va_cwO 2 hts (lw_app (lw_in _ [736, 738, 737, 818, 819, 150] (by decide +kernel) (by decide +kernel)) (lw_meth q820)) rfl rfl rfl q812 ⟨by decide, by decide, by decide +kernel⟩ ⟨Nat.le_trans (Nat.le_of_ble_eq_true rfl) hR.1, Nat.le_trans (Nat.le_of_ble_eq_true rfl) hR.2⟩) (g_recv hKn hS h13 (by decide) (by decide)) rfl rfl h8 hdg kk
  have h := g_iff h13 h
  by_cases h14 : gcl G t = 14
  · exact g_callU (n := 2) (b := t) (av := [.inr (.inr v1), .inl v2]) (rs := rs) hx hb hml hown hts hKn hRc hRs hS hl (C := "SendHall$If") (owner := "SendHall$Step") (x := ⟨"SendHall$Step", "comes", "(LSendHall$Life;I)LSendHall$Step;"⟩) (sX16_comes l E D (g_ift h14 h)) (va_cwO 2 hts (lw_app (lw_in _ [736, 738, 737, 739, 740, 151] (by decide +kernel) (by decide +kernel)) (lw_meth q741)) rfl rfl rfl q812 ⟨by decide, by decide, by decide +kernel⟩ ⟨Nat.le_trans (Nat.le_of_ble_eq_true rfl) hR.1, Nat.le_trans (Nat.le_of_ble_eq_true rfl) hR.2⟩) (g_recv hKn hS h14 (by decide) (by decide)) rfl rfl h8 hdg kk
  have h := g_iff h14 h
  by_cases h15 : gcl G t = 15
  · exact g_callU (n := 2) (b := t) (av := [.inr (.inr v1), .inl v2]) (rs := rs) hx hb hml hown hts hKn hRc hRs hS hl (C := "SendHall$Send") (owner := "SendHall$Step") (x := ⟨"SendHall$Step", "comes", "(LSendHall$Life;I)LSendHall$Step;"⟩) (sX9_comes l E D (g_ift h15 h)) (va_cwO 2 hts (lw_app (lw_in _ [736, 738, 737, 794, 795, 143] (by decide +kernel) (by decide +kernel)) (lw_meth q796)) rfl rfl rfl q812 ⟨by decide, by decide, by decide +kernel⟩ ⟨Nat.le_trans (Nat.le_of_ble_eq_true rfl) hR.1, Nat.le_trans (Nat.le_of_ble_eq_true rfl) hR.2⟩) (g_recv hKn hS h15 (by decide) (by decide)) rfl rfl h8 hdg kk
  have h := g_iff h15 h
  by_cases h16 : gcl G t = 16
  · exact g_callU (n := 2) (b := t) (av := [.inr (.inr v1), .inl v2]) (rs := rs) hx hb hml hown hts hKn hRc hRs hS hl (C := "SendHall$Wait") (owner := "SendHall$Step") (x := ⟨"SendHall$Step", "comes", "(LSendHall$Life;I)LSendHall$Step;"⟩) (sX13_comes l E D (g_ift h16 h)) (va_cwO 2 hts (lw_app (lw_in _ [736, 738, 737, 823, 824, 148] (by decide +kernel) (by decide +kernel)) (lw_meth q825)) rfl rfl rfl q812 ⟨by decide, by decide, by decide +kernel⟩ ⟨Nat.le_trans (Nat.le_of_ble_eq_true rfl) hR.1, Nat.le_trans (Nat.le_of_ble_eq_true rfl) hR.2⟩) (g_recv hKn hS h16 (by decide) (by decide)) rfl rfl h8 hdg kk
  have h := g_iff h16 h
  exact g_no h
/-- java/lang/StringBuilder.toString()Ljava/lang/String; -/
def fJ8_toString (E : g_E) (t : Nat) (G : g_G) : Option (Option Nat × g_G) :=
  (gnewO E G 19 4).bind fun z0 =>
  (fJ9_init E z0.1 (some t) z0.2).bind fun z5 =>
  some ((some z0.1), z5)
theorem sJ8_toString (l : Launch) (E : g_E) (D : g_D) {t : Nat} {G : g_G} {q : Option Nat × g_G} (h : fJ8_toString E t G = some q) : gMet l E D yJ8_toString (ws_ yJ8_toString cJ8_toString 1 (some (.object "java/lang/String"))) 6 176 [.inr (.inr (some t))] G (some (va_rf q.1)) q.2 := by
  refine gMet.of (by decide +kernel) (Nat.le_of_ble_eq_true rfl) ?_
  intro p e R s m args below meth c C hS ls hl
  have C : gC p R s m args meth c cJ8_toString 1 RJ8 "toString" (some (.object "java/lang/String")) 6 176 E D := C
  obtain ⟨hx, hb, hml, hown, hts, hKn, hRc, hRs, hc1, hc2, hRf, hRl, hr, hlk, hnm⟩ := id C
  have hl : gls ls 1 [(0, .inr (.inr (some t)))] := hl
  generalize s.heap = H at hS ⊢
  unfold fJ8_toString at h
  refine g_newG (k := 19) hx hb hown hts hKn hRc hRs hS h (by decide) (by decide) (hts _ q409) (hts _ q410) (hts _ q124) dJ8_toString_0 (fun z0 h H locs cells slots hS => ?_)
  refine lv_dup hx hb dJ8_toString_3 (by first | exact va_rf_cat _ | rfl | exact g_catA _) ?_
  refine g_aload_n hx hb hl 0 rfl dJ8_toString_4 ?_
  obtain ⟨z5, h5, h⟩ := g_bnd h
  refine g_callI (n := 1) (av := [.inr (.inr (some t))]) (rs := [.inr (.inr (some z0.1))]) hx hb hml hown hts hKn hRc hRs hS hl (sJ9_init l E D h5) (lw_meth q413) (hts _ q124) (hts _ q411) (hts _ q412) rfl ⟨by decide, by decide, by decide +kernel⟩ ⟨by rw [hRf]; exact Nat.le_of_ble_eq_true rfl, by rw [hRl]; exact Nat.le_of_ble_eq_true rfl⟩ rfl rfl (Nat.le_of_ble_eq_true rfl) dJ8_toString_5 (fun H locs cells slots hS => ?_)
  exact g_aretG hx hb hr (by first | exact Or.inl ⟨_, rfl⟩ | exact Or.inr ⟨_, rfl⟩) hlk hKn hRc hRs hS h dJ8_toString_8
/-- SendHall.goes(LSendHall$Life;ILSendHall$Step;)V -/
def fX1_goes_b67 (E : g_E) (v1 : Option Nat) (v2 : Int32) (v4 : Option Nat) (G : g_G) : Option (g_G) :=
  (grR G 3 3 v1 3).bind fun x68 =>
  (gsaR E G 122 x68 v2 v4).bind fun G74 =>
  some G74
def fX1_goes_b58 (E : g_E) (k6 : Nat → (Option Nat) → Int32 → (Option Nat) → Int32 → g_G → Option (g_G)) (t : Nat) (v1 : Option Nat) (v2 : Int32) (v6 : Option Nat) (s0 : Int32) (G : g_G) : Option (g_G) :=
  k6 t v1 v2 v6 s0 G
def fX1_goes_b44 (E : g_E) (k6 : Nat → (Option Nat) → Int32 → (Option Nat) → Int32 → g_G → Option (g_G)) (t : Nat) (v1 : Option Nat) (v2 : Int32) (v4 : Option Nat) (s0 : Option Nat) (G : g_G) : Option (g_G) :=
  if s0 = v4 then (
    fX1_goes_b58 E k6 t v1 v2 s0 0 G)
  else (
    fX1_goes_b58 E k6 t v1 v2 s0 1 G)
def fX1_goes_b6 (E : g_E) : Nat → Nat → (Option Nat) → Int32 → (Option Nat) → Int32 → g_G → Option (g_G)
  | 0, _, _, _, _, _, _ => none
  | n + 1, t, v1, v2, v4, v5, G =>
    if v5 = 0 then (
      fX1_goes_b67 E v1 v2 v4 G)
    else (
      if v4 = none then (
        fX1_goes_b67 E v1 v2 v4 G)
      else (
        (grR G 1 1 (some t) 5).bind fun x17 =>
        (grI G 11 16 v4 1).bind fun x22 =>
        (gaI G 102 x17 x22).bind fun x25 =>
        if x25 = 0 then (
          (fV_comes E v4 v1 v2 G).bind fun z41 =>
          fX1_goes_b44 E (fX1_goes_b6 E n) t v1 v2 v4 z41.1 z41.2)
        else (
          (grR G 11 16 v4 2).bind fun x31 =>
          fX1_goes_b44 E (fX1_goes_b6 E n) t v1 v2 v4 x31 G)))
def fX1_goes (E : g_E) (t : Nat) (v1 : Option Nat) (v2 : Int32) (v3 : Option Nat) (G : g_G) : Option (g_G) :=
  fX1_goes_b6 E gFU t v1 v2 v3 1 G
theorem sX1_goes_b67 {p : Program} {l : Launch} {e : Env} {R : Room} {s : State} {m : MethodId} {args : Array Value} {below : List Frame} {meth : Method} {c : Code} {E : g_E} {D : g_D} (C : gC p R s m args meth c cX1_goes 7 RX1 "goes" (none) 220 7355 E D) : ∀ (v1 : Option Nat) (v2 : Int32) (v4 : Option Nat) (G : g_G) (q : g_G), fX1_goes_b67 E v1 v2 v4 G = some q → ∀ (H : Heap) (locs : List Loc) (cells slots : Nat) (ls : Array Slot), gSt E D G H locs → gls ls 7 [(1, .inr (.inr v1)), (2, .inl v2), (4, .inr (.inr v4))] → gT p l e R s m args below meth c E D H locs cells slots none q (F0 m 67 ls []) := by
  obtain ⟨hx, hb, hml, hown, hts, hKn, hRc, hRs, hc1, hc2, hRf, hRl, hr, hlk, hnm⟩ := id C
  intro v1 v2 v4 G q h H locs cells slots ls hS hl
  unfold fX1_goes_b67 at h
  refine g_aload_n hx hb hl 0 rfl dX1_goes_67 ?_
  refine g_rdR hx hb hown hts hKn hS h fd_3_3_3 rfl (Or.inr ⟨_, gNest_use rfl (hKn.2.2.2.2.1 _ (gNest_in q545 rfl))⟩) (fun _ z => z) dX1_goes_68 (fun x68 h => ?_)
  refine g_iload_n hx hb hl 1 rfl dX1_goes_71 ?_
  refine g_aload hx hb hl 2 rfl dX1_goes_72 ?_
  refine g_aastoreG hx hb hKn hS h (by decide) dX1_goes_74 (fun G74 h H locs hS => ?_)
  exact g_vretG hx hb hr hlk hKn hRc hRs hS h dX1_goes_75
theorem sX1_goes_b58 {p : Program} {l : Launch} {e : Env} {R : Room} {s : State} {m : MethodId} {args : Array Value} {below : List Frame} {meth : Method} {c : Code} {E : g_E} {D : g_D} (C : gC p R s m args meth c cX1_goes 7 RX1 "goes" (none) 220 7355 E D) {k6 : Nat → (Option Nat) → Int32 → (Option Nat) → Int32 → g_G → Option (g_G)} (hk6 : ∀ (t : Nat) (v1 : Option Nat) (v2 : Int32) (v4 : Option Nat) (v5 : Int32) (G : g_G) (q : g_G), k6 t v1 v2 v4 v5 G = some q → ∀ (H : Heap) (locs : List Loc) (cells slots : Nat) (ls : Array Slot), gSt E D G H locs → gls ls 7 [(0, .inr (.inr (some t))), (1, .inr (.inr v1)), (2, .inl v2), (4, .inr (.inr v4)), (5, .inl v5)] → gT p l e R s m args below meth c E D H locs cells slots none q (F0 m 6 ls [])) : ∀ (t : Nat) (v1 : Option Nat) (v2 : Int32) (v6 : Option Nat) (s0 : Int32) (G : g_G) (q : g_G), fX1_goes_b58 E k6 t v1 v2 v6 s0 G = some q → ∀ (H : Heap) (locs : List Loc) (cells slots : Nat) (ls : Array Slot), gSt E D G H locs → gls ls 7 [(0, .inr (.inr (some t))), (1, .inr (.inr v1)), (2, .inl v2), (6, .inr (.inr v6))] → gT p l e R s m args below meth c E D H locs cells slots none q (F0 m 58 ls [.int s0]) := by
  obtain ⟨hx, hb, hml, hown, hts, hKn, hRc, hRs, hc1, hc2, hRf, hRl, hr, hlk, hnm⟩ := id C
  intro t v1 v2 v6 s0 G q h H locs cells slots ls hS hl
  unfold fX1_goes_b58 at h
  refine g_istore (l1 := [(5, .inl s0), (0, .inr (.inr (some t))), (1, .inr (.inr v1)), (2, .inl v2), (6, .inr (.inr v6))]) hx hb hl (by decide) rfl dX1_goes_58 (fun ls hl => ?_)
  refine g_aload hx hb hl 4 rfl dX1_goes_60 ?_
  refine g_astore (l1 := [(4, .inr (.inr v6)), (5, .inl s0), (0, .inr (.inr (some t))), (1, .inr (.inr v1)), (2, .inl v2), (6, .inr (.inr v6))]) hx hb hl (by decide) rfl dX1_goes_62 (fun ls hl => ?_)
  refine lv_goto (tgt := 6) hx hb dX1_goes_64 (by decide) ?_
  exact hk6 _ _ _ _ _ _ _ h _ _ _ _ _ hS (gls_sub hl [2, 3, 4, 0, 1] rfl)
theorem sX1_goes_b44 {p : Program} {l : Launch} {e : Env} {R : Room} {s : State} {m : MethodId} {args : Array Value} {below : List Frame} {meth : Method} {c : Code} {E : g_E} {D : g_D} (C : gC p R s m args meth c cX1_goes 7 RX1 "goes" (none) 220 7355 E D) {k6 : Nat → (Option Nat) → Int32 → (Option Nat) → Int32 → g_G → Option (g_G)} (hk6 : ∀ (t : Nat) (v1 : Option Nat) (v2 : Int32) (v4 : Option Nat) (v5 : Int32) (G : g_G) (q : g_G), k6 t v1 v2 v4 v5 G = some q → ∀ (H : Heap) (locs : List Loc) (cells slots : Nat) (ls : Array Slot), gSt E D G H locs → gls ls 7 [(0, .inr (.inr (some t))), (1, .inr (.inr v1)), (2, .inl v2), (4, .inr (.inr v4)), (5, .inl v5)] → gT p l e R s m args below meth c E D H locs cells slots none q (F0 m 6 ls [])) : ∀ (t : Nat) (v1 : Option Nat) (v2 : Int32) (v4 : Option Nat) (s0 : Option Nat) (G : g_G) (q : g_G), fX1_goes_b44 E k6 t v1 v2 v4 s0 G = some q → ∀ (H : Heap) (locs : List Loc) (cells slots : Nat) (ls : Array Slot), gSt E D G H locs → gls ls 7 [(0, .inr (.inr (some t))), (1, .inr (.inr v1)), (2, .inl v2), (4, .inr (.inr v4))] → gT p l e R s m args below meth c E D H locs cells slots none q (F0 m 44 ls [va_rf s0]) := by
  obtain ⟨hx, hb, hml, hown, hts, hKn, hRc, hRs, hc1, hc2, hRf, hRl, hr, hlk, hnm⟩ := id C
  intro t v1 v2 v4 s0 G q h H locs cells slots ls hS hl
  unfold fX1_goes_b44 at h
  refine g_astore (l1 := [(6, .inr (.inr s0)), (0, .inr (.inr (some t))), (1, .inr (.inr v1)), (2, .inl v2), (4, .inr (.inr v4))]) hx hb hl (by decide) rfl dX1_goes_44 (fun ls hl => ?_)
  refine g_aload hx hb hl 0 rfl dX1_goes_46 ?_
  refine g_aload hx hb hl 4 rfl dX1_goes_48 ?_
  refine lv_acmp_eq (tgt := 57) hx hb dX1_goes_50 (by decide) (fun c_50 => ?_) (fun c_50 => ?_)
  · have h := g_ift c_50 h
    refine lv_iconst (v := 0) hx hb dX1_goes_57 (by decide) ?_
    exact sX1_goes_b58 C hk6 _ _ _ _ _ _ _ h _ _ _ _ _ hS (gls_sub hl [1, 2, 3, 0] rfl)
  · have h := g_iff c_50 h
    refine lv_iconst (v := 1) hx hb dX1_goes_53 (by decide) ?_
    refine lv_goto (tgt := 58) hx hb dX1_goes_54 (by decide) ?_
    exact sX1_goes_b58 C hk6 _ _ _ _ _ _ _ h _ _ _ _ _ hS (gls_sub hl [1, 2, 3, 0] rfl)
theorem sX1_goes_b6 {p : Program} {l : Launch} {e : Env} {R : Room} {s : State} {m : MethodId} {args : Array Value} {below : List Frame} {meth : Method} {c : Code} {E : g_E} {D : g_D} (C : gC p R s m args meth c cX1_goes 7 RX1 "goes" (none) 220 7355 E D) : ∀ (n : Nat) (t : Nat) (v1 : Option Nat) (v2 : Int32) (v4 : Option Nat) (v5 : Int32) (G : g_G) (q : g_G), fX1_goes_b6 E n t v1 v2 v4 v5 G = some q → ∀ (H : Heap) (locs : List Loc) (cells slots : Nat) (ls : Array Slot), gSt E D G H locs → gls ls 7 [(0, .inr (.inr (some t))), (1, .inr (.inr v1)), (2, .inl v2), (4, .inr (.inr v4)), (5, .inl v5)] → gT p l e R s m args below meth c E D H locs cells slots none q (F0 m 6 ls []) := by
  obtain ⟨hx, hb, hml, hown, hts, hKn, hRc, hRs, hc1, hc2, hRf, hRl, hr, hlk, hnm⟩ := id C
  intro n
  induction n with
  | zero =>
    intro t v1 v2 v4 v5 G q h
    exact g_no h
  | succ n ih =>
    intro t v1 v2 v4 v5 G q h H locs cells slots ls hS hl
    rw [fX1_goes_b6] at h
    refine g_iload hx hb hl 4 rfl dX1_goes_6 ?_
    refine lv_if_eq (tgt := 67) hx hb dX1_goes_8 (by decide) (fun c_8 => ?_) (fun c_8 => ?_)
    · have h := g_ift c_8 h
      exact sX1_goes_b67 C _ _ _ _ _ h _ _ _ _ _ hS (gls_sub hl [1, 2, 3] rfl)
    · have h := g_iff c_8 h
      refine g_aload hx hb hl 3 rfl dX1_goes_11 ?_
      refine g_ifnull (tgt := 67) hx hb dX1_goes_13 (by decide) (fun c_13 => ?_) (fun c_13 => ?_)
      · have h := g_ift c_13 h
        exact sX1_goes_b67 C _ _ _ _ _ h _ _ _ _ _ hS (gls_sub hl [1, 2, 3] rfl)
      · have h := g_iff c_13 h
        refine g_aload_n hx hb hl 0 rfl dX1_goes_16 ?_
        refine g_rdR hx hb hown hts hKn hS h fd_1_1_5 rfl (Or.inl (hts _ q602)) (fun _ z => z) dX1_goes_17 (fun x17 h => ?_)
        refine g_aload hx hb hl 3 rfl dX1_goes_20 ?_
        refine g_rdI hx hb hown hts hKn hS h fd_11_16_1 rfl (Or.inl (hts _ q1428)) (fun _ z => z) dX1_goes_22 (fun x22 h => ?_)
        refine g_zaloadG hx hb hKn hS h dX1_goes_25 (fun x25 h => ?_)
        refine lv_if_eq (tgt := 37) hx hb dX1_goes_26 (by decide) (fun c_26 => ?_) (fun c_26 => ?_)
        · have h := g_ift c_26 h
          refine g_aload hx hb hl 3 rfl dX1_goes_37 ?_
          refine g_aload_n hx hb hl 1 rfl dX1_goes_39 ?_
          refine g_iload_n hx hb hl 2 rfl dX1_goes_40 ?_
          obtain ⟨z41, h41, h⟩ := g_bnd h
          refine g_comesV (rs := []) hx hb hml hown hts hKn hRc hRs hS hl h41 ⟨by rw [hRf]; exact Nat.le_of_ble_eq_true rfl, by rw [hRl]; exact Nat.le_of_ble_eq_true rfl⟩ rfl (Nat.le_of_ble_eq_true rfl) dX1_goes_41 (fun H locs cells slots hS => ?_)
          exact sX1_goes_b44 C ih _ _ _ _ _ _ _ h _ _ _ _ _ hS (gls_sub hl [0, 1, 2, 3] rfl)
        · have h := g_iff c_26 h
          refine g_aload hx hb hl 3 rfl dX1_goes_29 ?_
          refine g_rdR hx hb hown hts hKn hS h fd_11_16_2 rfl (Or.inl (hts _ q1430)) (fun _ z => z) dX1_goes_31 (fun x31 h => ?_)
          refine lv_goto (tgt := 44) hx hb dX1_goes_34 (by decide) ?_
          exact sX1_goes_b44 C ih _ _ _ _ _ _ _ h _ _ _ _ _ hS (gls_sub hl [0, 1, 2, 3] rfl)
theorem sX1_goes (l : Launch) (E : g_E) (D : g_D) {t : Nat} {v1 : Option Nat} {v2 : Int32} {v3 : Option Nat} {G : g_G} {q : g_G} (h : fX1_goes E t v1 v2 v3 G = some q) : gMet l E D yX1_goes (ws_ yX1_goes cX1_goes 7 (none)) 220 7355 [.inr (.inr (some t)), .inr (.inr v1), .inl v2, .inr (.inr v3)] G none q := by
  refine gMet.of (by decide +kernel) (Nat.le_of_ble_eq_true rfl) ?_
  intro p e R s m args below meth c C hS ls hl
  have C : gC p R s m args meth c cX1_goes 7 RX1 "goes" (none) 220 7355 E D := C
  obtain ⟨hx, hb, hml, hown, hts, hKn, hRc, hRs, hc1, hc2, hRf, hRl, hr, hlk, hnm⟩ := id C
  have hl : gls ls 7 [(0, .inr (.inr (some t))), (1, .inr (.inr v1)), (2, .inl v2), (3, .inr (.inr v3))] := hl
  generalize s.heap = H at hS ⊢
  unfold fX1_goes at h
  refine g_aload_n hx hb hl 3 rfl dX1_goes_0 ?_
  refine g_astore (l1 := [(4, .inr (.inr v3)), (0, .inr (.inr (some t))), (1, .inr (.inr v1)), (2, .inl v2), (3, .inr (.inr v3))]) hx hb hl (by decide) rfl dX1_goes_1 (fun ls hl => ?_)
  refine lv_iconst (v := 1) hx hb dX1_goes_3 (by decide) ?_
  refine g_istore (l1 := [(5, .inl 1), (4, .inr (.inr v3)), (0, .inr (.inr (some t))), (1, .inr (.inr v1)), (2, .inl v2), (3, .inr (.inr v3))]) hx hb hl (by decide) rfl dX1_goes_4 (fun ls hl => ?_)
  exact sX1_goes_b6 C gFU _ _ _ _ _ _ _ h _ _ _ _ _ hS (gls_sub hl [2, 3, 4, 1, 0] rfl)
/-- SendHall.rounds()V -/
def fX1_rounds_b123 (E : g_E) : Nat → Nat → (Option Nat) → Int32 → Int32 → g_G → Option (g_G)
  | 0, _, _, _, _, _ => none
  | n + 1, t, v3, v4, v6, G =>
    if v4 ≤ v6 then (
      some G)
    else (
      (grR G 1 1 (some t) 24).bind fun x131 =>
      (grI G 1 1 (some t) 27).bind fun x135 =>
      (gaI G 100 v3 v6).bind fun x141 =>
      (gsaI E G x131 x135 x141).bind fun G142 =>
      (grI G142 1 1 (some t) 27).bind fun x145 =>
      (gpI E G142 1 1 (some t) 27 (x145 + 1)).bind fun G150 =>
      fX1_rounds_b123 E n t v3 v4 (v6 + 1) G150)
def fX1_rounds_b105 (E : g_E) : Nat → Nat → Int32 → (Option Nat) → Int32 → Int32 → g_G → Option (g_G)
  | 0, _, _, _, _, _, _ => none
  | n + 1, t, v2, v3, v4, v5, G =>
    (gaI G 100 v3 v5).bind fun x108 =>
    if x108 = v2 then (
      fX1_rounds_b123 E gFU t v3 v4 v5 G)
    else (
      fX1_rounds_b105 E n t v2 v3 v4 (v5 + 1) G)
def fX1_rounds_b96 (E : g_E) (t : Nat) (v2 : Int32) (v3 : Option Nat) (v4 : Int32) (G : g_G) : Option (g_G) :=
  if ¬ v2 = (-1 : Int32) then (
    fX1_rounds_b105 E gFU t v2 v3 v4 0 G)
  else (
    some G)
def fX1_rounds_b92 (E : g_E) (k40 : Nat → Int32 → Int32 → (Option Nat) → Int32 → g_G → Option (g_G)) (t : Nat) (v1 : Int32) (v3 : Option Nat) (v4 : Int32) (s0 : Int32) (G : g_G) : Option (g_G) :=
  k40 t v1 s0 v3 v4 G
def fX1_rounds_b40 (E : g_E) : Nat → Nat → Int32 → Int32 → (Option Nat) → Int32 → g_G → Option (g_G)
  | 0, _, _, _, _, _, _ => none
  | n + 1, t, v1, v2, v3, v4, G =>
    if v2 = (-1 : Int32) then (
      fX1_rounds_b96 E t v2 v3 v4 G)
    else (
      if ¬ ((v1 >>> (v2 &&& 31)) &&& 1) = 0 then (
        fX1_rounds_b96 E t v2 v3 v4 G)
      else (
        (gsaI E G v3 v4 v2).bind fun G63 =>
        (grR G63 1 1 (some t) 20).bind fun x69 =>
        (gchk G63 1 (some t)).bind fun b73 =>
        (fX1_waitsFor E b73 x69 v2 G63).bind fun z73 =>
        if ¬ z73.1 = 0 then (
          (fJ16_numberOfTrailingZeros E z73.1 z73.2).bind fun z89 =>
          fX1_rounds_b92 E (fX1_rounds_b40 E n) t (v1 ||| (1 <<< (v2 &&& 31))) v3 (v4 + 1) z89.1 z89.2)
        else (
          fX1_rounds_b92 E (fX1_rounds_b40 E n) t (v1 ||| (1 <<< (v2 &&& 31))) v3 (v4 + 1) (-1) z73.2)))
def fX1_rounds_b31 (E : g_E) (t : Nat) (v1 : Int32) (s0 : Int32) (G : g_G) : Option (g_G) :=
  (gnewA E G 100 8).bind fun z34 =>
  fX1_rounds_b40 E gFU t v1 s0 (some z34.1) 0 z34.2
def fX1_rounds (E : g_E) (t : Nat) (G : g_G) : Option (g_G) :=
  (gpI E G 1 1 (some t) 27 0).bind fun G2 =>
  (grR G2 1 1 (some t) 20).bind fun x8 =>
  (gchk G2 3 x8).bind fun b11 =>
  (fX3_bits E b11 G2).bind fun z11 =>
  if ¬ z11.1 = 0 then (
    (grR z11.2 1 1 (some t) 20).bind fun x22 =>
    (gchk z11.2 3 x22).bind fun b25 =>
    (fX3_bits E b25 z11.2).bind fun z25 =>
    (fJ16_numberOfTrailingZeros E z25.1 z25.2).bind fun z28 =>
    fX1_rounds_b31 E t 0 z28.1 z28.2)
  else (
    fX1_rounds_b31 E t 0 (-1) z11.2)
theorem sX1_rounds_b123 {p : Program} {l : Launch} {e : Env} {R : Room} {s : State} {m : MethodId} {args : Array Value} {below : List Frame} {meth : Method} {c : Code} {E : g_E} {D : g_D} (C : gC p R s m args meth c cX1_rounds 7 RX1 "rounds" (none) 220 7351 E D) : ∀ (n : Nat) (t : Nat) (v3 : Option Nat) (v4 : Int32) (v6 : Int32) (G : g_G) (q : g_G), fX1_rounds_b123 E n t v3 v4 v6 G = some q → ∀ (H : Heap) (locs : List Loc) (cells slots : Nat) (ls : Array Slot), gSt E D G H locs → gls ls 7 [(0, .inr (.inr (some t))), (3, .inr (.inr v3)), (4, .inl v4), (6, .inl v6)] → gT p l e R s m args below meth c E D H locs cells slots none q (F0 m 123 ls []) := by
  obtain ⟨hx, hb, hml, hown, hts, hKn, hRc, hRs, hc1, hc2, hRf, hRl, hr, hlk, hnm⟩ := id C
  intro n
  induction n with
  | zero =>
    intro t v3 v4 v6 G q h
    exact g_no h
  | succ n ih =>
    intro t v3 v4 v6 G q h H locs cells slots ls hS hl
    rw [fX1_rounds_b123] at h
    refine g_iload hx hb hl 3 rfl dX1_rounds_123 ?_
    refine g_iload hx hb hl 2 rfl dX1_rounds_125 ?_
    refine lv_icmp_ge (tgt := 159) hx hb dX1_rounds_127 (by decide) (fun c_127 => ?_) (fun c_127 => ?_)
    · have h := g_ift c_127 h
      exact g_vretG hx hb hr hlk hKn hRc hRs hS h dX1_rounds_159
    · have h := g_iff c_127 h
      refine g_aload_n hx hb hl 0 rfl dX1_rounds_130 ?_
      refine g_rdR hx hb hown hts hKn hS h fd_1_1_24 rfl (Or.inl (hts _ q621)) (fun _ z => z) dX1_rounds_131 (fun x131 h => ?_)
      refine g_aload_n hx hb hl 0 rfl dX1_rounds_134 ?_
      refine g_rdI hx hb hown hts hKn hS h fd_1_1_27 rfl (Or.inl (hts _ q624)) (fun _ z => z) dX1_rounds_135 (fun x135 h => ?_)
      refine g_aload_n hx hb hl 1 rfl dX1_rounds_138 ?_
      refine g_iload hx hb hl 3 rfl dX1_rounds_139 ?_
      refine g_ialoadG hx hb hKn hS h dX1_rounds_141 (fun x141 h => ?_)
      refine g_iastoreG hx hb hKn hS h dX1_rounds_142 (fun G142 h H locs hS => ?_)
      refine g_aload_n hx hb hl 0 rfl dX1_rounds_143 ?_
      refine lv_dup hx hb dX1_rounds_144 (by first | exact va_rf_cat _ | rfl | exact g_catA _) ?_
      refine g_rdI hx hb hown hts hKn hS h fd_1_1_27 rfl (Or.inl (hts _ q624)) (fun _ z => z) dX1_rounds_145 (fun x145 h => ?_)
      refine lv_iconst (v := 1) hx hb dX1_rounds_148 (by decide) ?_
      refine lv_iadd hx hb dX1_rounds_149 ?_
      refine g_ptI hx hb hown hts hKn hS h fd_1_1_27 (Or.inl (hts _ q624)) (fun _ z => z) (fun z => nomatch z) dX1_rounds_150 (fun G150 h H locs hS => ?_)
      refine g_iinc (l1 := [(6, .inl (v6 + 1)), (0, .inr (.inr (some t))), (3, .inr (.inr v3)), (4, .inl v4)]) (v := (v6 + 1)) hx hb hl (k := 3) rfl (by rfl) (by decide) rfl dX1_rounds_153 (fun ls hl => ?_)
      refine lv_goto (tgt := 123) hx hb dX1_rounds_156 (by decide) ?_
      exact ih _ _ _ _ _ _ h _ _ _ _ _ hS (gls_sub hl [1, 2, 3, 0] rfl)
theorem sX1_rounds_b105 {p : Program} {l : Launch} {e : Env} {R : Room} {s : State} {m : MethodId} {args : Array Value} {below : List Frame} {meth : Method} {c : Code} {E : g_E} {D : g_D} (C : gC p R s m args meth c cX1_rounds 7 RX1 "rounds" (none) 220 7351 E D) : ∀ (n : Nat) (t : Nat) (v2 : Int32) (v3 : Option Nat) (v4 : Int32) (v5 : Int32) (G : g_G) (q : g_G), fX1_rounds_b105 E n t v2 v3 v4 v5 G = some q → ∀ (H : Heap) (locs : List Loc) (cells slots : Nat) (ls : Array Slot), gSt E D G H locs → gls ls 7 [(0, .inr (.inr (some t))), (2, .inl v2), (3, .inr (.inr v3)), (4, .inl v4), (5, .inl v5)] → gT p l e R s m args below meth c E D H locs cells slots none q (F0 m 105 ls []) := by
  obtain ⟨hx, hb, hml, hown, hts, hKn, hRc, hRs, hc1, hc2, hRf, hRl, hr, hlk, hnm⟩ := id C
  intro n
  induction n with
  | zero =>
    intro t v2 v3 v4 v5 G q h
    exact g_no h
  | succ n ih =>
    intro t v2 v3 v4 v5 G q h H locs cells slots ls hS hl
    rw [fX1_rounds_b105] at h
    refine g_aload_n hx hb hl 2 rfl dX1_rounds_105 ?_
    refine g_iload hx hb hl 4 rfl dX1_rounds_106 ?_
    refine g_ialoadG hx hb hKn hS h dX1_rounds_108 (fun x108 h => ?_)
    refine g_iload_n hx hb hl 1 rfl dX1_rounds_109 ?_
    refine lv_icmp_eq (tgt := 119) hx hb dX1_rounds_110 (by decide) (fun c_110 => ?_) (fun c_110 => ?_)
    · have h := g_ift c_110 h
      refine g_iload hx hb hl 4 rfl dX1_rounds_119 ?_
      refine g_istore (l1 := [(6, .inl v5), (0, .inr (.inr (some t))), (2, .inl v2), (3, .inr (.inr v3)), (4, .inl v4), (5, .inl v5)]) hx hb hl (by decide) rfl dX1_rounds_121 (fun ls hl => ?_)
      exact sX1_rounds_b123 C gFU _ _ _ _ _ _ h _ _ _ _ _ hS (gls_sub hl [1, 3, 4, 0] rfl)
    · have h := g_iff c_110 h
      refine g_iinc (l1 := [(5, .inl (v5 + 1)), (0, .inr (.inr (some t))), (2, .inl v2), (3, .inr (.inr v3)), (4, .inl v4)]) (v := (v5 + 1)) hx hb hl (k := 4) rfl (by rfl) (by decide) rfl dX1_rounds_113 (fun ls hl => ?_)
      refine lv_goto (tgt := 105) hx hb dX1_rounds_116 (by decide) ?_
      exact ih _ _ _ _ _ _ _ h _ _ _ _ _ hS (gls_sub hl [1, 2, 3, 4, 0] rfl)
theorem sX1_rounds_b96 {p : Program} {l : Launch} {e : Env} {R : Room} {s : State} {m : MethodId} {args : Array Value} {below : List Frame} {meth : Method} {c : Code} {E : g_E} {D : g_D} (C : gC p R s m args meth c cX1_rounds 7 RX1 "rounds" (none) 220 7351 E D) : ∀ (t : Nat) (v2 : Int32) (v3 : Option Nat) (v4 : Int32) (G : g_G) (q : g_G), fX1_rounds_b96 E t v2 v3 v4 G = some q → ∀ (H : Heap) (locs : List Loc) (cells slots : Nat) (ls : Array Slot), gSt E D G H locs → gls ls 7 [(0, .inr (.inr (some t))), (2, .inl v2), (3, .inr (.inr v3)), (4, .inl v4)] → gT p l e R s m args below meth c E D H locs cells slots none q (F0 m 96 ls []) := by
  obtain ⟨hx, hb, hml, hown, hts, hKn, hRc, hRs, hc1, hc2, hRf, hRl, hr, hlk, hnm⟩ := id C
  intro t v2 v3 v4 G q h H locs cells slots ls hS hl
  unfold fX1_rounds_b96 at h
  refine g_iload_n hx hb hl 1 rfl dX1_rounds_96 ?_
  refine lv_iconst (v := (-1)) hx hb dX1_rounds_97 (by decide) ?_
  refine lv_icmp_ne (tgt := 102) hx hb dX1_rounds_98 (by decide) (fun c_98 => ?_) (fun c_98 => ?_)
  · have h := g_ift c_98 h
    refine lv_iconst (v := 0) hx hb dX1_rounds_102 (by decide) ?_
    refine g_istore (l1 := [(5, .inl 0), (0, .inr (.inr (some t))), (2, .inl v2), (3, .inr (.inr v3)), (4, .inl v4)]) hx hb hl (by decide) rfl dX1_rounds_103 (fun ls hl => ?_)
    exact sX1_rounds_b105 C gFU _ _ _ _ _ _ _ h _ _ _ _ _ hS (gls_sub hl [1, 2, 3, 4, 0] rfl)
  · have h := g_iff (fun z => z c_98) h
    exact g_vretG hx hb hr hlk hKn hRc hRs hS h dX1_rounds_101
theorem sX1_rounds_b92 {p : Program} {l : Launch} {e : Env} {R : Room} {s : State} {m : MethodId} {args : Array Value} {below : List Frame} {meth : Method} {c : Code} {E : g_E} {D : g_D} (C : gC p R s m args meth c cX1_rounds 7 RX1 "rounds" (none) 220 7351 E D) {k40 : Nat → Int32 → Int32 → (Option Nat) → Int32 → g_G → Option (g_G)} (hk40 : ∀ (t : Nat) (v1 : Int32) (v2 : Int32) (v3 : Option Nat) (v4 : Int32) (G : g_G) (q : g_G), k40 t v1 v2 v3 v4 G = some q → ∀ (H : Heap) (locs : List Loc) (cells slots : Nat) (ls : Array Slot), gSt E D G H locs → gls ls 7 [(0, .inr (.inr (some t))), (1, .inl v1), (2, .inl v2), (3, .inr (.inr v3)), (4, .inl v4)] → gT p l e R s m args below meth c E D H locs cells slots none q (F0 m 40 ls [])) : ∀ (t : Nat) (v1 : Int32) (v3 : Option Nat) (v4 : Int32) (s0 : Int32) (G : g_G) (q : g_G), fX1_rounds_b92 E k40 t v1 v3 v4 s0 G = some q → ∀ (H : Heap) (locs : List Loc) (cells slots : Nat) (ls : Array Slot), gSt E D G H locs → gls ls 7 [(0, .inr (.inr (some t))), (1, .inl v1), (3, .inr (.inr v3)), (4, .inl v4)] → gT p l e R s m args below meth c E D H locs cells slots none q (F0 m 92 ls [.int s0]) := by
  obtain ⟨hx, hb, hml, hown, hts, hKn, hRc, hRs, hc1, hc2, hRf, hRl, hr, hlk, hnm⟩ := id C
  intro t v1 v3 v4 s0 G q h H locs cells slots ls hS hl
  unfold fX1_rounds_b92 at h
  refine g_istore_n (l1 := [(2, .inl s0), (0, .inr (.inr (some t))), (1, .inl v1), (3, .inr (.inr v3)), (4, .inl v4)]) hx hb hl (by decide) rfl dX1_rounds_92 (fun ls hl => ?_)
  refine lv_goto (tgt := 40) hx hb dX1_rounds_93 (by decide) ?_
  exact hk40 _ _ _ _ _ _ _ h _ _ _ _ _ hS (gls_sub hl [1, 2, 0, 3, 4] rfl)
theorem sX1_rounds_b40 {p : Program} {l : Launch} {e : Env} {R : Room} {s : State} {m : MethodId} {args : Array Value} {below : List Frame} {meth : Method} {c : Code} {E : g_E} {D : g_D} (C : gC p R s m args meth c cX1_rounds 7 RX1 "rounds" (none) 220 7351 E D) : ∀ (n : Nat) (t : Nat) (v1 : Int32) (v2 : Int32) (v3 : Option Nat) (v4 : Int32) (G : g_G) (q : g_G), fX1_rounds_b40 E n t v1 v2 v3 v4 G = some q → ∀ (H : Heap) (locs : List Loc) (cells slots : Nat) (ls : Array Slot), gSt E D G H locs → gls ls 7 [(0, .inr (.inr (some t))), (1, .inl v1), (2, .inl v2), (3, .inr (.inr v3)), (4, .inl v4)] → gT p l e R s m args below meth c E D H locs cells slots none q (F0 m 40 ls []) := by
  obtain ⟨hx, hb, hml, hown, hts, hKn, hRc, hRs, hc1, hc2, hRf, hRl, hr, hlk, hnm⟩ := id C
  intro n
  induction n with
  | zero =>
    intro t v1 v2 v3 v4 G q h
    exact g_no h
  | succ n ih =>
    intro t v1 v2 v3 v4 G q h H locs cells slots ls hS hl
    rw [fX1_rounds_b40] at h
    refine g_iload_n hx hb hl 2 rfl dX1_rounds_40 ?_
    refine lv_iconst (v := (-1)) hx hb dX1_rounds_41 (by decide) ?_
    refine lv_icmp_eq (tgt := 96) hx hb dX1_rounds_42 (by decide) (fun c_42 => ?_) (fun c_42 => ?_)
    · have h := g_ift c_42 h
      exact sX1_rounds_b96 C _ _ _ _ _ _ h _ _ _ _ _ hS (gls_sub hl [0, 2, 3, 4] rfl)
    · have h := g_iff c_42 h
      refine g_iload_n hx hb hl 1 rfl dX1_rounds_45 ?_
      refine g_iload_n hx hb hl 2 rfl dX1_rounds_46 ?_
      refine lv_ishr hx hb dX1_rounds_47 ?_
      refine lv_iconst (v := 1) hx hb dX1_rounds_48 (by decide) ?_
      refine lv_iand hx hb dX1_rounds_49 ?_
      refine lv_if_ne (tgt := 96) hx hb dX1_rounds_50 (by decide) (fun c_50 => ?_) (fun c_50 => ?_)
      · have h := g_ift c_50 h
        exact sX1_rounds_b96 C _ _ _ _ _ _ h _ _ _ _ _ hS (gls_sub hl [0, 2, 3, 4] rfl)
      · have h := g_iff (fun z => z c_50) h
        refine g_iload_n hx hb hl 1 rfl dX1_rounds_53 ?_
        refine lv_iconst (v := 1) hx hb dX1_rounds_54 (by decide) ?_
        refine g_iload_n hx hb hl 2 rfl dX1_rounds_55 ?_
        refine lv_ishl hx hb dX1_rounds_56 ?_
        refine lv_ior hx hb dX1_rounds_57 ?_
        refine g_istore_n (l1 := [(1, .inl (v1 ||| (1 <<< (v2 &&& 31)))), (0, .inr (.inr (some t))), (2, .inl v2), (3, .inr (.inr v3)), (4, .inl v4)]) hx hb hl (by decide) rfl dX1_rounds_58 (fun ls hl => ?_)
        refine g_aload_n hx hb hl 3 rfl dX1_rounds_59 ?_
        refine g_iload hx hb hl 4 rfl dX1_rounds_60 ?_
        refine g_iload_n hx hb hl 2 rfl dX1_rounds_62 ?_
        refine g_iastoreG hx hb hKn hS h dX1_rounds_63 (fun G63 h H locs hS => ?_)
        refine g_iinc (l1 := [(4, .inl (v4 + 1)), (1, .inl (v1 ||| (1 <<< (v2 &&& 31)))), (0, .inr (.inr (some t))), (2, .inl v2), (3, .inr (.inr v3))]) (v := (v4 + 1)) hx hb hl (k := 4) rfl (by rfl) (by decide) rfl dX1_rounds_64 (fun ls hl => ?_)
        refine g_aload_n hx hb hl 2 rfl dX1_rounds_67 ?_
        refine g_aload_n hx hb hl 2 rfl dX1_rounds_68 ?_
        refine g_rdR hx hb hown hts hKn hS h fd_1_1_20 rfl (Or.inl (hts _ q617)) (fun _ z => z) dX1_rounds_69 (fun x69 h => ?_)
        refine g_iload_n hx hb hl 3 rfl dX1_rounds_72 ?_
        obtain ⟨b73, hb73, h⟩ := g_bnd h
        obtain ⟨hr73, hk73⟩ := g_chk hb73
        obtain ⟨z73, h73, h⟩ := g_bnd h
        refine g_callV (n := 2) (b := b73) (av := [.inr (.inr x69), .inl v2]) (rs := []) hx hb hml hown hts hKn hRc hRs hS hl (sX1_waitsFor l E D h73) (lw_V q1806 q1808 qs47 q113 q1809) ⟨rfl, by decide, by decide, by decide +kernel⟩ ⟨by rw [hRf]; exact Nat.le_of_ble_eq_true rfl, by rw [hRl]; exact Nat.le_of_ble_eq_true rfl⟩ (g_recv hKn hS hk73 (by decide) (by decide)) rfl (by rw [hr73]; rfl) (Nat.le_of_ble_eq_true rfl) dX1_rounds_73 (fun H locs cells slots hS => ?_)
        refine g_istore (l1 := [(5, .inl z73.1), (4, .inl (v4 + 1)), (1, .inl (v1 ||| (1 <<< (v2 &&& 31)))), (0, .inr (.inr (some t))), (2, .inl v2), (3, .inr (.inr v3))]) hx hb hl (by decide) rfl dX1_rounds_76 (fun ls hl => ?_)
        refine g_iload hx hb hl 0 rfl dX1_rounds_78 ?_
        refine lv_if_ne (tgt := 87) hx hb dX1_rounds_80 (by decide) (fun c_80 => ?_) (fun c_80 => ?_)
        · have h := g_ift c_80 h
          refine g_iload hx hb hl 0 rfl dX1_rounds_87 ?_
          obtain ⟨z89, h89, h⟩ := g_bnd h
          refine g_callS (n := 1) (av := [.inl z73.1]) (rs := []) hx hb hml hown hts hKn hRc hRs hS hl (sJ16_numberOfTrailingZeros l E D h89) (lw_S q1798 q1799 q133 q1800) ⟨by decide, by decide, by decide +kernel⟩ ⟨by rw [hRf]; exact Nat.le_of_ble_eq_true rfl, by rw [hRl]; exact Nat.le_of_ble_eq_true rfl⟩ rfl rfl (Nat.le_of_ble_eq_true rfl) dX1_rounds_89 (fun H locs cells slots hS => ?_)
          exact sX1_rounds_b92 C ih _ _ _ _ _ _ _ h _ _ _ _ _ hS (gls_sub hl [3, 2, 5, 1] rfl)
        · have h := g_iff (fun z => z c_80) h
          refine lv_iconst (v := (-1)) hx hb dX1_rounds_83 (by decide) ?_
          refine lv_goto (tgt := 92) hx hb dX1_rounds_84 (by decide) ?_
          exact sX1_rounds_b92 C ih _ _ _ _ _ _ _ h _ _ _ _ _ hS (gls_sub hl [3, 2, 5, 1] rfl)
theorem sX1_rounds_b31 {p : Program} {l : Launch} {e : Env} {R : Room} {s : State} {m : MethodId} {args : Array Value} {below : List Frame} {meth : Method} {c : Code} {E : g_E} {D : g_D} (C : gC p R s m args meth c cX1_rounds 7 RX1 "rounds" (none) 220 7351 E D) : ∀ (t : Nat) (v1 : Int32) (s0 : Int32) (G : g_G) (q : g_G), fX1_rounds_b31 E t v1 s0 G = some q → ∀ (H : Heap) (locs : List Loc) (cells slots : Nat) (ls : Array Slot), gSt E D G H locs → gls ls 7 [(0, .inr (.inr (some t))), (1, .inl v1)] → gT p l e R s m args below meth c E D H locs cells slots none q (F0 m 31 ls [.int s0]) := by
  obtain ⟨hx, hb, hml, hown, hts, hKn, hRc, hRs, hc1, hc2, hRf, hRl, hr, hlk, hnm⟩ := id C
  intro t v1 s0 G q h H locs cells slots ls hS hl
  unfold fX1_rounds_b31 at h
  refine g_istore_n (l1 := [(2, .inl s0), (0, .inr (.inr (some t))), (1, .inl v1)]) hx hb hl (by decide) rfl dX1_rounds_31 (fun ls hl => ?_)
  refine lv_bipush (v := 8) hx hb dX1_rounds_32 (by decide) ?_
  refine g_newaG (k := 100) (atype := .int) hx hb hKn hRc hRs hS h (by decide) rfl (hts _ q596) dX1_rounds_34 (fun z34 h H locs cells slots hS => ?_)
  refine g_astore_n (l1 := [(3, .inr (.inr (some z34.1))), (2, .inl s0), (0, .inr (.inr (some t))), (1, .inl v1)]) hx hb hl (by decide) rfl dX1_rounds_36 (fun ls hl => ?_)
  refine lv_iconst (v := 0) hx hb dX1_rounds_37 (by decide) ?_
  refine g_istore (l1 := [(4, .inl 0), (3, .inr (.inr (some z34.1))), (2, .inl s0), (0, .inr (.inr (some t))), (1, .inl v1)]) hx hb hl (by decide) rfl dX1_rounds_38 (fun ls hl => ?_)
  exact sX1_rounds_b40 C gFU _ _ _ _ _ _ _ h _ _ _ _ _ hS (gls_sub hl [3, 4, 2, 1, 0] rfl)
theorem sX1_rounds (l : Launch) (E : g_E) (D : g_D) {t : Nat} {G : g_G} {q : g_G} (h : fX1_rounds E t G = some q) : gMet l E D yX1_rounds (ws_ yX1_rounds cX1_rounds 7 (none)) 220 7351 [.inr (.inr (some t))] G none q := by
  refine gMet.of (by decide +kernel) (Nat.le_of_ble_eq_true rfl) ?_
  intro p e R s m args below meth c C hS ls hl
  have C : gC p R s m args meth c cX1_rounds 7 RX1 "rounds" (none) 220 7351 E D := C
  obtain ⟨hx, hb, hml, hown, hts, hKn, hRc, hRs, hc1, hc2, hRf, hRl, hr, hlk, hnm⟩ := id C
  have hl : gls ls 7 [(0, .inr (.inr (some t)))] := hl
  generalize s.heap = H at hS ⊢
  unfold fX1_rounds at h
  refine g_aload_n hx hb hl 0 rfl dX1_rounds_0 ?_
  refine lv_iconst (v := 0) hx hb dX1_rounds_1 (by decide) ?_
  refine g_ptI hx hb hown hts hKn hS h fd_1_1_27 (Or.inl (hts _ q624)) (fun _ z => z) (fun z => nomatch z) dX1_rounds_2 (fun G2 h H locs hS => ?_)
  refine lv_iconst (v := 0) hx hb dX1_rounds_5 (by decide) ?_
  refine g_istore_n (l1 := [(1, .inl 0), (0, .inr (.inr (some t)))]) hx hb hl (by decide) rfl dX1_rounds_6 (fun ls hl => ?_)
  refine g_aload_n hx hb hl 1 rfl dX1_rounds_7 ?_
  refine g_rdR hx hb hown hts hKn hS h fd_1_1_20 rfl (Or.inl (hts _ q617)) (fun _ z => z) dX1_rounds_8 (fun x8 h => ?_)
  obtain ⟨b11, hb11, h⟩ := g_bnd h
  obtain ⟨hr11, hk11⟩ := g_chk hb11
  obtain ⟨z11, h11, h⟩ := g_bnd h
  refine g_callV (n := 0) (b := b11) (av := []) (rs := []) hx hb hml hown hts hKn hRc hRs hS hl (sX3_bits l E D h11) (lw_V q994 q990 q991 q134 q992) ⟨rfl, by decide, by decide, by decide +kernel⟩ ⟨by rw [hRf]; exact Nat.le_of_ble_eq_true rfl, by rw [hRl]; exact Nat.le_of_ble_eq_true rfl⟩ (g_recv hKn hS hk11 (by decide) (by decide)) rfl (by rw [hr11]; rfl) (Nat.le_of_ble_eq_true rfl) dX1_rounds_11 (fun H locs cells slots hS => ?_)
  refine lv_if_ne (tgt := 21) hx hb dX1_rounds_14 (by decide) (fun c_14 => ?_) (fun c_14 => ?_)
  · have h := g_ift c_14 h
    refine g_aload_n hx hb hl 1 rfl dX1_rounds_21 ?_
    refine g_rdR hx hb hown hts hKn hS h fd_1_1_20 rfl (Or.inl (hts _ q617)) (fun _ z => z) dX1_rounds_22 (fun x22 h => ?_)
    obtain ⟨b25, hb25, h⟩ := g_bnd h
    obtain ⟨hr25, hk25⟩ := g_chk hb25
    obtain ⟨z25, h25, h⟩ := g_bnd h
    refine g_callV (n := 0) (b := b25) (av := []) (rs := []) hx hb hml hown hts hKn hRc hRs hS hl (sX3_bits l E D h25) (lw_V q994 q990 q991 q134 q992) ⟨rfl, by decide, by decide, by decide +kernel⟩ ⟨by rw [hRf]; exact Nat.le_of_ble_eq_true rfl, by rw [hRl]; exact Nat.le_of_ble_eq_true rfl⟩ (g_recv hKn hS hk25 (by decide) (by decide)) rfl (by rw [hr25]; rfl) (Nat.le_of_ble_eq_true rfl) dX1_rounds_25 (fun H locs cells slots hS => ?_)
    obtain ⟨z28, h28, h⟩ := g_bnd h
    refine g_callS (n := 1) (av := [.inl z25.1]) (rs := []) hx hb hml hown hts hKn hRc hRs hS hl (sJ16_numberOfTrailingZeros l E D h28) (lw_S q1798 q1799 q133 q1800) ⟨by decide, by decide, by decide +kernel⟩ ⟨by rw [hRf]; exact Nat.le_of_ble_eq_true rfl, by rw [hRl]; exact Nat.le_of_ble_eq_true rfl⟩ rfl rfl (Nat.le_of_ble_eq_true rfl) dX1_rounds_28 (fun H locs cells slots hS => ?_)
    exact sX1_rounds_b31 C _ _ _ _ _ h _ _ _ _ _ hS (gls_sub hl [1, 0] rfl)
  · have h := g_iff (fun z => z c_14) h
    refine lv_iconst (v := (-1)) hx hb dX1_rounds_17 (by decide) ?_
    refine lv_goto (tgt := 31) hx hb dX1_rounds_18 (by decide) ?_
    exact sX1_rounds_b31 C _ _ _ _ _ h _ _ _ _ _ hS (gls_sub hl [1, 0] rfl)
/-- SendHall.together(LSendHall$Life;I)V -/
def fX1_together_b132 (E : g_E) (k70 : Nat → (Option Nat) → Int32 → Int32 → Int32 → Int32 → g_G → Option (g_G)) (t : Nat) (v1 : Option Nat) (v2 : Int32) (v3 : Int32) (v4 : Int32) (v5 : Int32) (v6 : Option Nat) (G : g_G) : Option (g_G) :=
  (grR G 11 11 v6 2).bind fun x138 =>
  (gchk G 1 (some t)).bind fun b141 =>
  (fX1_goes E b141 v1 v5 x138 G).bind fun z141 =>
  k70 t v1 v2 v3 v4 (v5 + 1) z141
def fX1_together_b70 (E : g_E) : Nat → Nat → (Option Nat) → Int32 → Int32 → Int32 → Int32 → g_G → Option (g_G)
  | 0, _, _, _, _, _, _, _ => none
  | n + 1, t, v1, v2, v3, v4, v5, G =>
    (grI G 3 3 v1 0).bind fun x73 =>
    if x73 ≤ v5 then (
      some G)
    else (
      (grR G 3 3 v1 3).bind fun x80 =>
      (gaR G 122 x80 v5).bind fun x85 =>
      (gcast G 11 11 x85).bind fun x86 =>
      (gchk G 1 (some t)).bind fun b96 =>
      (fX1_clocks E b96 v5 v4 G).bind fun z96 =>
      (grR z96 1 1 (some t) 6).bind fun x100 =>
      (gaI z96 100 x100 v5).bind fun x106 =>
      (gsaI E z96 x100 v5 (x106 + 1)).bind fun G109 =>
      if ¬ v2 = (7 : Int32) then (
        fX1_together_b132 E (fX1_together_b70 E n) t v1 v2 v3 v4 v5 x86 G109)
      else (
        (grR G109 3 3 v1 5).bind fun x117 =>
        (grI G109 11 11 x86 4).bind fun x126 =>
        (gsaI E G109 x117 ((4 * v5) + x126) v3).bind fun G131 =>
        fX1_together_b132 E (fX1_together_b70 E n) t v1 v2 v3 v4 v5 x86 G131))
def fX1_together_b47 (E : g_E) (k8 : Nat → (Option Nat) → Int32 → Int32 → Int32 → Int32 → g_G → Option (g_G)) (t : Nat) (v1 : Option Nat) (v2 : Int32) (v3 : Int32) (v4 : Int32) (v5 : Int32) (G : g_G) : Option (g_G) :=
  (grR G 1 1 (some t) 6).bind fun x50 =>
  (gaI G 100 x50 v5).bind fun x55 =>
  k8 t v1 v2 v3 (if v4 < x55 then x55 else v4) (v5 + 1) G
def fX1_together_b8 (E : g_E) : Nat → Nat → (Option Nat) → Int32 → Int32 → Int32 → Int32 → g_G → Option (g_G)
  | 0, _, _, _, _, _, _, _ => none
  | n + 1, t, v1, v2, v3, v4, v5, G =>
    (grI G 3 3 v1 0).bind fun x11 =>
    if x11 ≤ v5 then (
      fX1_together_b70 E gFU t v1 v2 v3 v4 0 G)
    else (
      if ¬ v2 = (7 : Int32) then (
        fX1_together_b47 E (fX1_together_b8 E n) t v1 v2 v3 v4 v5 G)
      else (
        (grR G 3 3 v1 3).bind fun x25 =>
        (gaR G 122 x25 v5).bind fun x30 =>
        (gcast G 11 11 x30).bind fun x31 =>
        (grR G 11 11 x31 3).bind fun x34 =>
        (fI_value E gDP x34 v1 v5 G).bind fun z40 =>
        fX1_together_b47 E (fX1_together_b8 E n) t v1 v2 (v3 + z40.1) v4 v5 z40.2))
def fX1_together (E : g_E) (t : Nat) (v1 : Option Nat) (v2 : Int32) (G : g_G) : Option (g_G) :=
  fX1_together_b8 E gFU t v1 v2 0 0 0 G
theorem sX1_together_b132 {p : Program} {l : Launch} {e : Env} {R : Room} {s : State} {m : MethodId} {args : Array Value} {below : List Frame} {meth : Method} {c : Code} {E : g_E} {D : g_D} (C : gC p R s m args meth c cX1_together 7 RX1 "together" (none) 221 7381 E D) {k70 : Nat → (Option Nat) → Int32 → Int32 → Int32 → Int32 → g_G → Option (g_G)} (hk70 : ∀ (t : Nat) (v1 : Option Nat) (v2 : Int32) (v3 : Int32) (v4 : Int32) (v5 : Int32) (G : g_G) (q : g_G), k70 t v1 v2 v3 v4 v5 G = some q → ∀ (H : Heap) (locs : List Loc) (cells slots : Nat) (ls : Array Slot), gSt E D G H locs → gls ls 7 [(0, .inr (.inr (some t))), (1, .inr (.inr v1)), (2, .inl v2), (3, .inl v3), (4, .inl v4), (5, .inl v5)] → gT p l e R s m args below meth c E D H locs cells slots none q (F0 m 70 ls [])) : ∀ (t : Nat) (v1 : Option Nat) (v2 : Int32) (v3 : Int32) (v4 : Int32) (v5 : Int32) (v6 : Option Nat) (G : g_G) (q : g_G), fX1_together_b132 E k70 t v1 v2 v3 v4 v5 v6 G = some q → ∀ (H : Heap) (locs : List Loc) (cells slots : Nat) (ls : Array Slot), gSt E D G H locs → gls ls 7 [(0, .inr (.inr (some t))), (1, .inr (.inr v1)), (2, .inl v2), (3, .inl v3), (4, .inl v4), (5, .inl v5), (6, .inr (.inr v6))] → gT p l e R s m args below meth c E D H locs cells slots none q (F0 m 132 ls []) := by
  obtain ⟨hx, hb, hml, hown, hts, hKn, hRc, hRs, hc1, hc2, hRf, hRl, hr, hlk, hnm⟩ := id C
  intro t v1 v2 v3 v4 v5 v6 G q h H locs cells slots ls hS hl
  unfold fX1_together_b132 at h
  refine g_aload_n hx hb hl 0 rfl dX1_together_132 ?_
  refine g_aload_n hx hb hl 1 rfl dX1_together_133 ?_
  refine g_iload hx hb hl 5 rfl dX1_together_134 ?_
  refine g_aload hx hb hl 6 rfl dX1_together_136 ?_
  refine g_rdR hx hb hown hts hKn hS h fd_11_11_2 rfl (Or.inl (hts _ q1439)) (u_same (hts _ q1440)) dX1_together_138 (fun x138 h => ?_)
  obtain ⟨b141, hb141, h⟩ := g_bnd h
  obtain ⟨hr141, hk141⟩ := g_chk hb141
  obtain ⟨z141, h141, h⟩ := g_bnd h
  refine g_callV (n := 3) (b := b141) (av := [.inr (.inr v1), .inl v5, .inr (.inr x138)]) (rs := []) hx hb hml hown hts hKn hRc hRs hS hl (sX1_goes l E D h141) (lw_V q732 q734 qs5 q113 q735) ⟨rfl, by decide, by decide, by decide +kernel⟩ ⟨by rw [hRf]; exact Nat.le_of_ble_eq_true rfl, by rw [hRl]; exact Nat.le_of_ble_eq_true rfl⟩ (g_recv hKn hS hk141 (by decide) (by decide)) rfl (by rw [hr141]; rfl) (Nat.le_of_ble_eq_true rfl) dX1_together_141 (fun H locs cells slots hS => ?_)
  refine g_iinc (l1 := [(5, .inl (v5 + 1)), (0, .inr (.inr (some t))), (1, .inr (.inr v1)), (2, .inl v2), (3, .inl v3), (4, .inl v4), (6, .inr (.inr v6))]) (v := (v5 + 1)) hx hb hl (k := 5) rfl (by rfl) (by decide) rfl dX1_together_144 (fun ls hl => ?_)
  refine lv_goto (tgt := 70) hx hb dX1_together_147 (by decide) ?_
  exact hk70 _ _ _ _ _ _ _ _ h _ _ _ _ _ hS (gls_sub hl [1, 2, 3, 4, 5, 0] rfl)
theorem sX1_together_b70 {p : Program} {l : Launch} {e : Env} {R : Room} {s : State} {m : MethodId} {args : Array Value} {below : List Frame} {meth : Method} {c : Code} {E : g_E} {D : g_D} (C : gC p R s m args meth c cX1_together 7 RX1 "together" (none) 221 7381 E D) : ∀ (n : Nat) (t : Nat) (v1 : Option Nat) (v2 : Int32) (v3 : Int32) (v4 : Int32) (v5 : Int32) (G : g_G) (q : g_G), fX1_together_b70 E n t v1 v2 v3 v4 v5 G = some q → ∀ (H : Heap) (locs : List Loc) (cells slots : Nat) (ls : Array Slot), gSt E D G H locs → gls ls 7 [(0, .inr (.inr (some t))), (1, .inr (.inr v1)), (2, .inl v2), (3, .inl v3), (4, .inl v4), (5, .inl v5)] → gT p l e R s m args below meth c E D H locs cells slots none q (F0 m 70 ls []) := by
  obtain ⟨hx, hb, hml, hown, hts, hKn, hRc, hRs, hc1, hc2, hRf, hRl, hr, hlk, hnm⟩ := id C
  intro n
  induction n with
  | zero =>
    intro t v1 v2 v3 v4 v5 G q h
    exact g_no h
  | succ n ih =>
    intro t v1 v2 v3 v4 v5 G q h H locs cells slots ls hS hl
    rw [fX1_together_b70] at h
    refine g_iload hx hb hl 5 rfl dX1_together_70 ?_
    refine g_aload_n hx hb hl 1 rfl dX1_together_72 ?_
    refine g_rdI hx hb hown hts hKn hS h fd_3_3_0 rfl (Or.inr ⟨_, gNest_use rfl (hKn.2.2.2.2.1 _ (gNest_in q537 rfl))⟩) (fun _ z => z) dX1_together_73 (fun x73 h => ?_)
    refine lv_icmp_ge (tgt := 150) hx hb dX1_together_76 (by decide) (fun c_76 => ?_) (fun c_76 => ?_)
    · have h := g_ift c_76 h
      exact g_vretG hx hb hr hlk hKn hRc hRs hS h dX1_together_150
    · have h := g_iff c_76 h
      refine g_aload_n hx hb hl 1 rfl dX1_together_79 ?_
      refine g_rdR hx hb hown hts hKn hS h fd_3_3_3 rfl (Or.inr ⟨_, gNest_use rfl (hKn.2.2.2.2.1 _ (gNest_in q545 rfl))⟩) (fun _ z => z) dX1_together_80 (fun x80 h => ?_)
      refine g_iload hx hb hl 5 rfl dX1_together_83 ?_
      refine g_aaloadG hx hb hKn hS h (by decide) dX1_together_85 (fun x85 h => ?_)
      refine g_castS (k := 11) hx hb hown hKn hS h (by decide) (by decide) (hts _ q953) dX1_together_86 (fun x86 h => ?_)
      refine g_astore (l1 := [(6, .inr (.inr x86)), (0, .inr (.inr (some t))), (1, .inr (.inr v1)), (2, .inl v2), (3, .inl v3), (4, .inl v4), (5, .inl v5)]) hx hb hl (by decide) rfl dX1_together_89 (fun ls hl => ?_)
      refine g_aload_n hx hb hl 1 rfl dX1_together_91 ?_
      refine g_iload hx hb hl 6 rfl dX1_together_92 ?_
      refine g_iload hx hb hl 5 rfl dX1_together_94 ?_
      obtain ⟨b96, hb96, h⟩ := g_bnd h
      obtain ⟨hr96, hk96⟩ := g_chk hb96
      obtain ⟨z96, h96, h⟩ := g_bnd h
      refine g_callV (n := 2) (b := b96) (av := [.inl v5, .inl v4]) (rs := []) hx hb hml hown hts hKn hRc hRs hS hl (sX1_clocks l E D h96) (lw_V q933 q935 qs15 q113 q936) ⟨rfl, by decide, by decide, by decide +kernel⟩ ⟨by rw [hRf]; exact Nat.le_of_ble_eq_true rfl, by rw [hRl]; exact Nat.le_of_ble_eq_true rfl⟩ (g_recv hKn hS hk96 (by decide) (by decide)) rfl (by rw [hr96]; rfl) (Nat.le_of_ble_eq_true rfl) dX1_together_96 (fun H locs cells slots hS => ?_)
      refine g_aload_n hx hb hl 1 rfl dX1_together_99 ?_
      refine g_rdR hx hb hown hts hKn hS h fd_1_1_6 rfl (Or.inl (hts _ q603)) (fun _ z => z) dX1_together_100 (fun x100 h => ?_)
      refine g_iload hx hb hl 6 rfl dX1_together_103 ?_
      refine lv_dup2_11 hx hb dX1_together_105 rfl (by first | exact va_rf_cat _ | rfl | exact g_catA _) ?_
      refine g_ialoadG hx hb hKn hS h dX1_together_106 (fun x106 h => ?_)
      refine lv_iconst (v := 1) hx hb dX1_together_107 (by decide) ?_
      refine lv_iadd hx hb dX1_together_108 ?_
      refine g_iastoreG hx hb hKn hS h dX1_together_109 (fun G109 h H locs hS => ?_)
      refine g_iload_n hx hb hl 3 rfl dX1_together_110 ?_
      refine lv_bipush (v := 7) hx hb dX1_together_111 (by decide) ?_
      refine lv_icmp_ne (tgt := 132) hx hb dX1_together_113 (by decide) (fun c_113 => ?_) (fun c_113 => ?_)
      · have h := g_ift c_113 h
        exact sX1_together_b132 C ih _ _ _ _ _ _ _ _ _ h _ _ _ _ _ hS (gls_sub hl [1, 2, 3, 4, 5, 6, 0] rfl)
      · have h := g_iff (fun z => z c_113) h
        refine g_aload_n hx hb hl 2 rfl dX1_together_116 ?_
        refine g_rdR hx hb hown hts hKn hS h fd_3_3_5 rfl (Or.inr ⟨_, gNest_use rfl (hKn.2.2.2.2.1 _ (gNest_in q553 rfl))⟩) (fun _ z => z) dX1_together_117 (fun x117 h => ?_)
        refine lv_iconst (v := 4) hx hb dX1_together_120 (by decide) ?_
        refine g_iload hx hb hl 6 rfl dX1_together_121 ?_
        refine lv_imul hx hb dX1_together_123 ?_
        refine g_aload hx hb hl 0 rfl dX1_together_124 ?_
        refine g_rdI hx hb hown hts hKn hS h fd_11_11_4 rfl (Or.inr ⟨_, gNest_use rfl (hKn.2.2.2.2.1 _ (gNest_in q1688 rfl))⟩) (fun _ z => z) dX1_together_126 (fun x126 h => ?_)
        refine lv_iadd hx hb dX1_together_129 ?_
        refine g_iload_n hx hb hl 4 rfl dX1_together_130 ?_
        refine g_iastoreG hx hb hKn hS h dX1_together_131 (fun G131 h H locs hS => ?_)
        exact sX1_together_b132 C ih _ _ _ _ _ _ _ _ _ h _ _ _ _ _ hS (gls_sub hl [1, 2, 3, 4, 5, 6, 0] rfl)
theorem sX1_together_b47 {p : Program} {l : Launch} {e : Env} {R : Room} {s : State} {m : MethodId} {args : Array Value} {below : List Frame} {meth : Method} {c : Code} {E : g_E} {D : g_D} (C : gC p R s m args meth c cX1_together 7 RX1 "together" (none) 221 7381 E D) {k8 : Nat → (Option Nat) → Int32 → Int32 → Int32 → Int32 → g_G → Option (g_G)} (hk8 : ∀ (t : Nat) (v1 : Option Nat) (v2 : Int32) (v3 : Int32) (v4 : Int32) (v5 : Int32) (G : g_G) (q : g_G), k8 t v1 v2 v3 v4 v5 G = some q → ∀ (H : Heap) (locs : List Loc) (cells slots : Nat) (ls : Array Slot), gSt E D G H locs → gls ls 7 [(0, .inr (.inr (some t))), (1, .inr (.inr v1)), (2, .inl v2), (3, .inl v3), (4, .inl v4), (5, .inl v5)] → gT p l e R s m args below meth c E D H locs cells slots none q (F0 m 8 ls [])) : ∀ (t : Nat) (v1 : Option Nat) (v2 : Int32) (v3 : Int32) (v4 : Int32) (v5 : Int32) (G : g_G) (q : g_G), fX1_together_b47 E k8 t v1 v2 v3 v4 v5 G = some q → ∀ (H : Heap) (locs : List Loc) (cells slots : Nat) (ls : Array Slot), gSt E D G H locs → gls ls 7 [(0, .inr (.inr (some t))), (1, .inr (.inr v1)), (2, .inl v2), (3, .inl v3), (4, .inl v4), (5, .inl v5)] → gT p l e R s m args below meth c E D H locs cells slots none q (F0 m 47 ls []) := by
  obtain ⟨hx, hb, hml, hown, hts, hKn, hRc, hRs, hc1, hc2, hRf, hRl, hr, hlk, hnm⟩ := id C
  intro t v1 v2 v3 v4 v5 G q h H locs cells slots ls hS hl
  unfold fX1_together_b47 at h
  refine g_iload hx hb hl 4 rfl dX1_together_47 ?_
  refine g_aload_n hx hb hl 0 rfl dX1_together_49 ?_
  refine g_rdR hx hb hown hts hKn hS h fd_1_1_6 rfl (Or.inl (hts _ q603)) (fun _ z => z) dX1_together_50 (fun x50 h => ?_)
  refine g_iload hx hb hl 5 rfl dX1_together_53 ?_
  refine g_ialoadG hx hb hKn hS h dX1_together_55 (fun x55 h => ?_)
  refine g_mmax (rs := []) hx hb hml hown hRc hRs hS hl (hts _ q932) (hts _ q283) (hts _ q127) (hts _ q284) (by decide +kernel) rfl (Nat.le_of_ble_eq_true rfl) ⟨by rw [hRf]; exact Nat.le_of_ble_eq_true rfl, by rw [hRl]; exact Nat.le_of_ble_eq_true rfl⟩ dX1_together_56 (fun cells slots => ?_)
  refine g_istore (l1 := [(4, .inl (if v4 < x55 then x55 else v4)), (0, .inr (.inr (some t))), (1, .inr (.inr v1)), (2, .inl v2), (3, .inl v3), (5, .inl v5)]) hx hb hl (by decide) rfl dX1_together_59 (fun ls hl => ?_)
  refine g_iinc (l1 := [(5, .inl (v5 + 1)), (4, .inl (if v4 < x55 then x55 else v4)), (0, .inr (.inr (some t))), (1, .inr (.inr v1)), (2, .inl v2), (3, .inl v3)]) (v := (v5 + 1)) hx hb hl (k := 5) rfl (by rfl) (by decide) rfl dX1_together_61 (fun ls hl => ?_)
  refine lv_goto (tgt := 8) hx hb dX1_together_64 (by decide) ?_
  exact hk8 _ _ _ _ _ _ _ _ h _ _ _ _ _ hS (gls_sub hl [2, 3, 4, 5, 1, 0] rfl)
theorem sX1_together_b8 {p : Program} {l : Launch} {e : Env} {R : Room} {s : State} {m : MethodId} {args : Array Value} {below : List Frame} {meth : Method} {c : Code} {E : g_E} {D : g_D} (C : gC p R s m args meth c cX1_together 7 RX1 "together" (none) 221 7381 E D) : ∀ (n : Nat) (t : Nat) (v1 : Option Nat) (v2 : Int32) (v3 : Int32) (v4 : Int32) (v5 : Int32) (G : g_G) (q : g_G), fX1_together_b8 E n t v1 v2 v3 v4 v5 G = some q → ∀ (H : Heap) (locs : List Loc) (cells slots : Nat) (ls : Array Slot), gSt E D G H locs → gls ls 7 [(0, .inr (.inr (some t))), (1, .inr (.inr v1)), (2, .inl v2), (3, .inl v3), (4, .inl v4), (5, .inl v5)] → gT p l e R s m args below meth c E D H locs cells slots none q (F0 m 8 ls []) := by
  obtain ⟨hx, hb, hml, hown, hts, hKn, hRc, hRs, hc1, hc2, hRf, hRl, hr, hlk, hnm⟩ := id C
  intro n
  induction n with
  | zero =>
    intro t v1 v2 v3 v4 v5 G q h
    exact g_no h
  | succ n ih =>
    intro t v1 v2 v3 v4 v5 G q h H locs cells slots ls hS hl
    rw [fX1_together_b8] at h
    refine g_iload hx hb hl 5 rfl dX1_together_8 ?_
    refine g_aload_n hx hb hl 1 rfl dX1_together_10 ?_
    refine g_rdI hx hb hown hts hKn hS h fd_3_3_0 rfl (Or.inr ⟨_, gNest_use rfl (hKn.2.2.2.2.1 _ (gNest_in q537 rfl))⟩) (fun _ z => z) dX1_together_11 (fun x11 h => ?_)
    refine lv_icmp_ge (tgt := 67) hx hb dX1_together_14 (by decide) (fun c_14 => ?_) (fun c_14 => ?_)
    · have h := g_ift c_14 h
      refine lv_iconst (v := 0) hx hb dX1_together_67 (by decide) ?_
      refine g_istore (l1 := [(5, .inl 0), (0, .inr (.inr (some t))), (1, .inr (.inr v1)), (2, .inl v2), (3, .inl v3), (4, .inl v4)]) hx hb hl (by decide) rfl dX1_together_68 (fun ls hl => ?_)
      exact sX1_together_b70 C gFU _ _ _ _ _ _ _ _ h _ _ _ _ _ hS (gls_sub hl [1, 2, 3, 4, 5, 0] rfl)
    · have h := g_iff c_14 h
      refine g_iload_n hx hb hl 2 rfl dX1_together_17 ?_
      refine lv_bipush (v := 7) hx hb dX1_together_18 (by decide) ?_
      refine lv_icmp_ne (tgt := 47) hx hb dX1_together_20 (by decide) (fun c_20 => ?_) (fun c_20 => ?_)
      · have h := g_ift c_20 h
        exact sX1_together_b47 C ih _ _ _ _ _ _ _ _ h _ _ _ _ _ hS (gls_sub hl [0, 1, 2, 3, 4, 5] rfl)
      · have h := g_iff (fun z => z c_20) h
        refine g_iload_n hx hb hl 3 rfl dX1_together_23 ?_
        refine g_aload_n hx hb hl 1 rfl dX1_together_24 ?_
        refine g_rdR hx hb hown hts hKn hS h fd_3_3_3 rfl (Or.inr ⟨_, gNest_use rfl (hKn.2.2.2.2.1 _ (gNest_in q545 rfl))⟩) (fun _ z => z) dX1_together_25 (fun x25 h => ?_)
        refine g_iload hx hb hl 5 rfl dX1_together_28 ?_
        refine g_aaloadG hx hb hKn hS h (by decide) dX1_together_30 (fun x30 h => ?_)
        refine g_castS (k := 11) hx hb hown hKn hS h (by decide) (by decide) (hts _ q953) dX1_together_31 (fun x31 h => ?_)
        refine g_rdR hx hb hown hts hKn hS h fd_11_11_3 rfl (Or.inr ⟨_, gNest_use rfl (hKn.2.2.2.2.1 _ (gNest_in q1686 rfl))⟩) (fun _ z => z) dX1_together_34 (fun x34 h => ?_)
        refine g_aload_n hx hb hl 1 rfl dX1_together_37 ?_
        refine g_iload hx hb hl 5 rfl dX1_together_38 ?_
        obtain ⟨z40, h40, h⟩ := g_bnd h
        refine g_valueI (rs := [.inl v3]) hx hb hml hown hts hKn hRc hRs hS hl (gI_top l E D) h40 q927 ⟨by rw [hRf]; exact Nat.le_of_ble_eq_true rfl, by rw [hRl]; exact Nat.le_of_ble_eq_true rfl⟩ rfl (Nat.le_of_ble_eq_true rfl) dX1_together_40 (fun H locs cells slots hS => ?_)
        refine lv_iadd hx hb dX1_together_45 ?_
        refine g_istore_n (l1 := [(3, .inl (v3 + z40.1)), (0, .inr (.inr (some t))), (1, .inr (.inr v1)), (2, .inl v2), (4, .inl v4), (5, .inl v5)]) hx hb hl (by decide) rfl dX1_together_46 (fun ls hl => ?_)
        exact sX1_together_b47 C ih _ _ _ _ _ _ _ _ h _ _ _ _ _ hS (gls_sub hl [1, 2, 3, 0, 4, 5] rfl)
theorem sX1_together (l : Launch) (E : g_E) (D : g_D) {t : Nat} {v1 : Option Nat} {v2 : Int32} {G : g_G} {q : g_G} (h : fX1_together E t v1 v2 G = some q) : gMet l E D yX1_together (ws_ yX1_together cX1_together 7 (none)) 221 7381 [.inr (.inr (some t)), .inr (.inr v1), .inl v2] G none q := by
  refine gMet.of (by decide +kernel) (Nat.le_of_ble_eq_true rfl) ?_
  intro p e R s m args below meth c C hS ls hl
  have C : gC p R s m args meth c cX1_together 7 RX1 "together" (none) 221 7381 E D := C
  obtain ⟨hx, hb, hml, hown, hts, hKn, hRc, hRs, hc1, hc2, hRf, hRl, hr, hlk, hnm⟩ := id C
  have hl : gls ls 7 [(0, .inr (.inr (some t))), (1, .inr (.inr v1)), (2, .inl v2)] := hl
  generalize s.heap = H at hS ⊢
  unfold fX1_together at h
  refine lv_iconst (v := 0) hx hb dX1_together_0 (by decide) ?_
  refine g_istore_n (l1 := [(3, .inl 0), (0, .inr (.inr (some t))), (1, .inr (.inr v1)), (2, .inl v2)]) hx hb hl (by decide) rfl dX1_together_1 (fun ls hl => ?_)
  refine lv_iconst (v := 0) hx hb dX1_together_2 (by decide) ?_
  refine g_istore (l1 := [(4, .inl 0), (3, .inl 0), (0, .inr (.inr (some t))), (1, .inr (.inr v1)), (2, .inl v2)]) hx hb hl (by decide) rfl dX1_together_3 (fun ls hl => ?_)
  refine lv_iconst (v := 0) hx hb dX1_together_5 (by decide) ?_
  refine g_istore (l1 := [(5, .inl 0), (4, .inl 0), (3, .inl 0), (0, .inr (.inr (some t))), (1, .inr (.inr v1)), (2, .inl v2)]) hx hb hl (by decide) rfl dX1_together_6 (fun ls hl => ?_)
  exact sX1_together_b8 C gFU _ _ _ _ _ _ _ _ h _ _ _ _ _ hS (gls_sub hl [3, 4, 5, 2, 1, 0] rfl)
/-- SendHall$Reader.go()V -/
def fX5_go_b332 (E : g_E) (t : Nat) (G : g_G) : Option (g_G) :=
  (grI G 5 5 (some t) 2).bind fun x334 =>
  (gpI E G 5 5 (some t) 2 (x334 + 1)).bind fun G339 =>
  some G339
def fX5_go_b310 (E : g_E) (t : Nat) (v1 : Int32) (s0 : Option Nat) (s1 : Option Nat) (G : g_G) : Option (g_G) :=
  (gpR E G 5 5 s0 8 s1).bind fun G310 =>
  (grR G310 5 5 (some t) 8).bind fun x314 =>
  if ¬ x314 = (some (gA E 3)) then (
    fX5_go_b332 E t G310)
  else (
    (fJ9_valueOf E (UInt32.toInt32 (Int32.toUInt32 v1 % 65536)) G310).bind fun z326 =>
    (gpR E z326.2 5 5 (some t) 9 z326.1).bind fun G329 =>
    fX5_go_b332 E t G329)
def fX5_go_b278 (E : g_E) (t : Nat) (s0 : Option Nat) (s1 : Int32) (G : g_G) : Option (g_G) :=
  (gpZ E G 5 5 s0 7 s1).bind fun G278 =>
  (gpR E G278 5 5 (some t) 8 (some (gA E 2))).bind fun G285 =>
  some G285
def fX5_go_b246 (E : g_E) (k196 : Nat → g_G → Option (g_G)) (t : Nat) (G : g_G) : Option (g_G) :=
  (grI G 5 5 (some t) 2).bind fun x248 =>
  (gpI E G 5 5 (some t) 2 (x248 + 1)).bind fun G253 =>
  k196 t G253
def fX5_go_b196 (E : g_E) : Nat → Nat → g_G → Option (g_G)
  | 0, _, _ => none
  | n + 1, t, G =>
    (grI G 5 5 (some t) 2).bind fun x198 =>
    (gchk G 5 (some t)).bind fun b201 =>
    (fX5_byteAt E b201 x198 G).bind fun z201 =>
    (fX5_isDigit E z201.1 z201.2).bind fun z204 =>
    if z204.1 = 0 then (
      (grI z204.2 5 5 (some t) 2).bind fun x261 =>
      (grI z204.2 5 5 (some t) 3).bind fun x265 =>
      if (x261 - x265) ≤ (4 : Int32) then (
        fX5_go_b278 E t (some t) 0 z204.2)
      else (
        fX5_go_b278 E t (some t) 1 z204.2))
    else (
      (grI z204.2 5 5 (some t) 2).bind fun x211 =>
      (grI z204.2 5 5 (some t) 3).bind fun x215 =>
      if (4 : Int32) ≤ (x211 - x215) then (
        fX5_go_b246 E (fX5_go_b196 E n) t z204.2)
      else (
        (grI z204.2 5 5 (some t) 4).bind fun x227 =>
        (grI z204.2 5 5 (some t) 2).bind fun x233 =>
        (gchk z204.2 5 (some t)).bind fun b236 =>
        (fX5_byteAt E b236 x233 z204.2).bind fun z236 =>
        (gpI E z236.2 5 5 (some t) 4 (((10 * x227) + z236.1) - 48)).bind fun G243 =>
        fX5_go_b246 E (fX5_go_b196 E n) t G243))
def fX5_go_b153 (E : g_E) (k116 : Nat → (Option Nat) → g_G → Option (g_G)) (t : Nat) (v2 : Option Nat) (G : g_G) : Option (g_G) :=
  (grI G 5 5 (some t) 2).bind fun x155 =>
  (gpI E G 5 5 (some t) 2 (x155 + 1)).bind fun G160 =>
  k116 t v2 G160
def fX5_go_b116 (E : g_E) : Nat → Nat → (Option Nat) → g_G → Option (g_G)
  | 0, _, _, _ => none
  | n + 1, t, v2, G =>
    (grI G 5 5 (some t) 2).bind fun x118 =>
    (gchk G 5 (some t)).bind fun b121 =>
    (fX5_byteAt E b121 x118 G).bind fun z121 =>
    (fX5_isLetter E z121.1 z121.2).bind fun z124 =>
    if z124.1 = 0 then (
      (gchk z124.2 18 v2).bind fun b168 =>
      (fJ8_toString E b168 z124.2).bind fun z168 =>
      (gpR E z168.2 5 5 (some t) 9 z168.1).bind fun G171 =>
      (gpR E G171 5 5 (some t) 8 (some (gA E 1))).bind fun G178 =>
      some G178)
    else (
      (gchk z124.2 18 v2).bind fun b131 =>
      (fJ8_length E b131 z124.2).bind fun z131 =>
      if (6 : Int32) ≤ z131.1 then (
        fX5_go_b153 E (fX5_go_b116 E n) t v2 z131.2)
      else (
        (grI z131.2 5 5 (some t) 2).bind fun x142 =>
        (gchk z131.2 5 (some t)).bind fun b145 =>
        (fX5_byteAt E b145 x142 z131.2).bind fun z145 =>
        (gchk z145.2 18 v2).bind fun b149 =>
        (fJ8_append_3 E b149 (UInt32.toInt32 (Int32.toUInt32 z145.1 % 65536)) z145.2).bind fun z149 =>
        fX5_go_b153 E (fX5_go_b116 E n) t v2 z149.2))
def fX5_go_b50 (E : g_E) (t : Nat) (G : g_G) : Option (g_G) :=
  (grI G 5 5 (some t) 2).bind fun x52 =>
  (gpI E G 5 5 (some t) 3 x52).bind fun G55 =>
  (gpR E G55 5 5 (some t) 9 (some (gA E 20))).bind fun G61 =>
  (gpZ E G61 5 5 (some t) 7 0).bind fun G66 =>
  (grI G66 5 5 (some t) 2).bind fun x71 =>
  (gchk G66 5 (some t)).bind fun b74 =>
  (fX5_byteAt E b74 x71 G66).bind fun z74 =>
  (grI z74.2 5 5 (some t) 2).bind fun x79 =>
  (grI z74.2 5 5 (some t) 1).bind fun x83 =>
  if x79 < x83 then (
    (fX5_isLetter E z74.1 z74.2).bind fun z100 =>
    if z100.1 = 0 then (
      (fX5_isDigit E z74.1 z100.2).bind fun z185 =>
      if z185.1 = 0 then (
        (gchk z185.2 19 (some (gA E 21))).bind fun b295 =>
        (fJ9_indexOf E b295 z74.1 z185.2).bind fun z295 =>
        if z295.1 < 0 then (
          fX5_go_b310 E t z74.1 (some t) (some (gA E 4)) z295.2)
        else (
          fX5_go_b310 E t z74.1 (some t) (some (gA E 3)) z295.2))
      else (
        (gpI E z185.2 5 5 (some t) 4 0).bind fun G193 =>
        fX5_go_b196 E gFU t G193))
    else (
      (gnewO E z100.2 18 4).bind fun z106 =>
      (fJ8_init_2 E z106.1 6 z106.2).bind fun z112 =>
      fX5_go_b116 E gFU t (some z106.1) z112))
  else (
    (gpR E z74.2 5 5 (some t) 8 (some (gA E 5))).bind fun G93 =>
    some G93)
def fX5_go_b37 (E : g_E) (k0 : Nat → g_G → Option (g_G)) (t : Nat) (G : g_G) : Option (g_G) :=
  (grI G 5 5 (some t) 2).bind fun x39 =>
  (gpI E G 5 5 (some t) 2 (x39 + 1)).bind fun G44 =>
  k0 t G44
def fX5_go_b0 (E : g_E) : Nat → Nat → g_G → Option (g_G)
  | 0, _, _ => none
  | n + 1, t, G =>
    (grI G 5 5 (some t) 2).bind fun x1 =>
    (grI G 5 5 (some t) 1).bind fun x5 =>
    if x5 ≤ x1 then (
      fX5_go_b50 E t G)
    else (
      (grI G 5 5 (some t) 2).bind fun x13 =>
      (gchk G 5 (some t)).bind fun b16 =>
      (fX5_byteAt E b16 x13 G).bind fun z16 =>
      if z16.1 = (32 : Int32) then (
        fX5_go_b37 E (fX5_go_b0 E n) t z16.2)
      else (
        (grI z16.2 5 5 (some t) 2).bind fun x26 =>
        (gchk z16.2 5 (some t)).bind fun b29 =>
        (fX5_byteAt E b29 x26 z16.2).bind fun z29 =>
        if ¬ z29.1 = (10 : Int32) then (
          fX5_go_b50 E t z29.2)
        else (
          fX5_go_b37 E (fX5_go_b0 E n) t z29.2)))
def fX5_go (E : g_E) (t : Nat) (G : g_G) : Option (g_G) :=
  fX5_go_b0 E gFU t G
theorem sX5_go_b332 {p : Program} {l : Launch} {e : Env} {R : Room} {s : State} {m : MethodId} {args : Array Value} {below : List Frame} {meth : Method} {c : Code} {E : g_E} {D : g_D} (C : gC p R s m args meth c cX5_go 3 RX5 "go" (none) 7 196 E D) : ∀ (t : Nat) (G : g_G) (q : g_G), fX5_go_b332 E t G = some q → ∀ (H : Heap) (locs : List Loc) (cells slots : Nat) (ls : Array Slot), gSt E D G H locs → gls ls 3 [(0, .inr (.inr (some t)))] → gT p l e R s m args below meth c E D H locs cells slots none q (F0 m 332 ls []) := by
  obtain ⟨hx, hb, hml, hown, hts, hKn, hRc, hRs, hc1, hc2, hRf, hRl, hr, hlk, hnm⟩ := id C
  intro t G q h H locs cells slots ls hS hl
  unfold fX5_go_b332 at h
  refine g_aload_n hx hb hl 0 rfl dX5_go_332 ?_
  refine lv_dup hx hb dX5_go_333 (by first | exact va_rf_cat _ | rfl | exact g_catA _) ?_
  refine g_rdI hx hb hown hts hKn hS h fd_5_5_2 rfl (Or.inl (hts _ q1235)) (fun _ z => z) dX5_go_334 (fun x334 h => ?_)
  refine lv_iconst (v := 1) hx hb dX5_go_337 (by decide) ?_
  refine lv_iadd hx hb dX5_go_338 ?_
  refine g_ptI hx hb hown hts hKn hS h fd_5_5_2 (Or.inl (hts _ q1235)) (fun _ z => z) (fun z => nomatch z) dX5_go_339 (fun G339 h H locs hS => ?_)
  exact g_vretG hx hb hr hlk hKn hRc hRs hS h dX5_go_342
theorem sX5_go_b310 {p : Program} {l : Launch} {e : Env} {R : Room} {s : State} {m : MethodId} {args : Array Value} {below : List Frame} {meth : Method} {c : Code} {E : g_E} {D : g_D} (C : gC p R s m args meth c cX5_go 3 RX5 "go" (none) 7 196 E D) : ∀ (t : Nat) (v1 : Int32) (s0 : Option Nat) (s1 : Option Nat) (G : g_G) (q : g_G), fX5_go_b310 E t v1 s0 s1 G = some q → ∀ (H : Heap) (locs : List Loc) (cells slots : Nat) (ls : Array Slot), gSt E D G H locs → gls ls 3 [(0, .inr (.inr (some t))), (1, .inl v1)] → gT p l e R s m args below meth c E D H locs cells slots none q (F0 m 310 ls [va_rf s1, va_rf s0]) := by
  obtain ⟨hx, hb, hml, hown, hts, hKn, hRc, hRs, hc1, hc2, hRf, hRl, hr, hlk, hnm⟩ := id C
  intro t v1 s0 s1 G q h H locs cells slots ls hS hl
  unfold fX5_go_b310 at h
  refine g_ptR hx hb hown hts hKn hS h fd_5_5_8 rfl (Or.inl (hts _ q1241)) (fun _ z => z) (fun z => nomatch z) dX5_go_310 (fun G310 h H locs hS => ?_)
  refine g_aload_n hx hb hl 0 rfl dX5_go_313 ?_
  refine g_rdR hx hb hown hts hKn hS h fd_5_5_8 rfl (Or.inl (hts _ q1241)) (fun _ z => z) dX5_go_314 (fun x314 h => ?_)
  refine g_getsZ (C := "SendHall$Sort") (n := "SIGN") (d := "LSendHall$Sort;") (v := va_rf (some (gA E 3))) hx hb hown (hKn.2.2.2.2.2.2.1 _ (List.mem_of_getElem? (i := 2) rfl)) hS (hts _ q1215) (fun _ z => z) dX5_go_317 ?_
  refine lv_acmp_ne (tgt := 332) hx hb dX5_go_320 (by decide) (fun c_320 => ?_) (fun c_320 => ?_)
  · have h := g_ift c_320 h
    exact sX5_go_b332 C _ _ _ h _ _ _ _ _ hS (gls_sub hl [0] rfl)
  · have h := g_iff (fun z => z c_320) h
    refine g_aload_n hx hb hl 0 rfl dX5_go_323 ?_
    refine g_iload_n hx hb hl 1 rfl dX5_go_324 ?_
    refine lv_i2c (v := (UInt32.toInt32 (Int32.toUInt32 v1 % 65536))) hx hb dX5_go_325 rfl ?_
    obtain ⟨z326, h326, h⟩ := g_bnd h
    refine g_callS (n := 1) (av := [.inl (UInt32.toInt32 (Int32.toUInt32 v1 % 65536))]) (rs := [.inr (.inr (some t))]) hx hb hml hown hts hKn hRc hRs hS hl (sJ9_valueOf l E D h326) (lw_S q1219 q1220 q124 q1221) ⟨by decide, by decide, by decide +kernel⟩ ⟨by rw [hRf]; exact Nat.le_of_ble_eq_true rfl, by rw [hRl]; exact Nat.le_of_ble_eq_true rfl⟩ rfl rfl (Nat.le_of_ble_eq_true rfl) dX5_go_326 (fun H locs cells slots hS => ?_)
    refine g_ptR hx hb hown hts hKn hS h fd_5_5_9 rfl (Or.inl (hts _ q1242)) (fun _ z => z) (fun z => nomatch z) dX5_go_329 (fun G329 h H locs hS => ?_)
    exact sX5_go_b332 C _ _ _ h _ _ _ _ _ hS (gls_sub hl [0] rfl)
theorem sX5_go_b278 {p : Program} {l : Launch} {e : Env} {R : Room} {s : State} {m : MethodId} {args : Array Value} {below : List Frame} {meth : Method} {c : Code} {E : g_E} {D : g_D} (C : gC p R s m args meth c cX5_go 3 RX5 "go" (none) 7 196 E D) : ∀ (t : Nat) (s0 : Option Nat) (s1 : Int32) (G : g_G) (q : g_G), fX5_go_b278 E t s0 s1 G = some q → ∀ (H : Heap) (locs : List Loc) (cells slots : Nat) (ls : Array Slot), gSt E D G H locs → gls ls 3 [(0, .inr (.inr (some t)))] → gT p l e R s m args below meth c E D H locs cells slots none q (F0 m 278 ls [.int s1, va_rf s0]) := by
  obtain ⟨hx, hb, hml, hown, hts, hKn, hRc, hRs, hc1, hc2, hRf, hRl, hr, hlk, hnm⟩ := id C
  intro t s0 s1 G q h H locs cells slots ls hS hl
  unfold fX5_go_b278 at h
  refine g_ptZ hx hb hown hts hKn hS h fd_5_5_7 (Or.inl (hts _ q1240)) (fun _ z => z) (fun z => nomatch z) dX5_go_278 (fun G278 h H locs hS => ?_)
  refine g_aload_n hx hb hl 0 rfl dX5_go_281 ?_
  refine g_getsZ (C := "SendHall$Sort") (n := "NUMBER") (d := "LSendHall$Sort;") (v := va_rf (some (gA E 2))) hx hb hown (hKn.2.2.2.2.2.2.1 _ (List.mem_of_getElem? (i := 1) rfl)) hS (hts _ q1162) (fun _ z => z) dX5_go_282 ?_
  refine g_ptR hx hb hown hts hKn hS h fd_5_5_8 rfl (Or.inl (hts _ q1241)) (fun _ z => z) (fun z => nomatch z) dX5_go_285 (fun G285 h H locs hS => ?_)
  refine lv_goto (tgt := 342) hx hb dX5_go_288 (by decide) ?_
  exact g_vretG hx hb hr hlk hKn hRc hRs hS h dX5_go_342
theorem sX5_go_b246 {p : Program} {l : Launch} {e : Env} {R : Room} {s : State} {m : MethodId} {args : Array Value} {below : List Frame} {meth : Method} {c : Code} {E : g_E} {D : g_D} (C : gC p R s m args meth c cX5_go 3 RX5 "go" (none) 7 196 E D) {k196 : Nat → g_G → Option (g_G)} (hk196 : ∀ (t : Nat) (G : g_G) (q : g_G), k196 t G = some q → ∀ (H : Heap) (locs : List Loc) (cells slots : Nat) (ls : Array Slot), gSt E D G H locs → gls ls 3 [(0, .inr (.inr (some t)))] → gT p l e R s m args below meth c E D H locs cells slots none q (F0 m 196 ls [])) : ∀ (t : Nat) (G : g_G) (q : g_G), fX5_go_b246 E k196 t G = some q → ∀ (H : Heap) (locs : List Loc) (cells slots : Nat) (ls : Array Slot), gSt E D G H locs → gls ls 3 [(0, .inr (.inr (some t)))] → gT p l e R s m args below meth c E D H locs cells slots none q (F0 m 246 ls []) := by
  obtain ⟨hx, hb, hml, hown, hts, hKn, hRc, hRs, hc1, hc2, hRf, hRl, hr, hlk, hnm⟩ := id C
  intro t G q h H locs cells slots ls hS hl
  unfold fX5_go_b246 at h
  refine g_aload_n hx hb hl 0 rfl dX5_go_246 ?_
  refine lv_dup hx hb dX5_go_247 (by first | exact va_rf_cat _ | rfl | exact g_catA _) ?_
  refine g_rdI hx hb hown hts hKn hS h fd_5_5_2 rfl (Or.inl (hts _ q1235)) (fun _ z => z) dX5_go_248 (fun x248 h => ?_)
  refine lv_iconst (v := 1) hx hb dX5_go_251 (by decide) ?_
  refine lv_iadd hx hb dX5_go_252 ?_
  refine g_ptI hx hb hown hts hKn hS h fd_5_5_2 (Or.inl (hts _ q1235)) (fun _ z => z) (fun z => nomatch z) dX5_go_253 (fun G253 h H locs hS => ?_)
  refine lv_goto (tgt := 196) hx hb dX5_go_256 (by decide) ?_
  exact hk196 _ _ _ h _ _ _ _ _ hS (gls_sub hl [0] rfl)
theorem sX5_go_b196 {p : Program} {l : Launch} {e : Env} {R : Room} {s : State} {m : MethodId} {args : Array Value} {below : List Frame} {meth : Method} {c : Code} {E : g_E} {D : g_D} (C : gC p R s m args meth c cX5_go 3 RX5 "go" (none) 7 196 E D) : ∀ (n : Nat) (t : Nat) (G : g_G) (q : g_G), fX5_go_b196 E n t G = some q → ∀ (H : Heap) (locs : List Loc) (cells slots : Nat) (ls : Array Slot), gSt E D G H locs → gls ls 3 [(0, .inr (.inr (some t)))] → gT p l e R s m args below meth c E D H locs cells slots none q (F0 m 196 ls []) := by
  obtain ⟨hx, hb, hml, hown, hts, hKn, hRc, hRs, hc1, hc2, hRf, hRl, hr, hlk, hnm⟩ := id C
  intro n
  induction n with
  | zero =>
    intro t G q h
    exact g_no h
  | succ n ih =>
    intro t G q h H locs cells slots ls hS hl
    rw [fX5_go_b196] at h
    refine g_aload_n hx hb hl 0 rfl dX5_go_196 ?_
    refine g_aload_n hx hb hl 0 rfl dX5_go_197 ?_
    refine g_rdI hx hb hown hts hKn hS h fd_5_5_2 rfl (Or.inl (hts _ q1235)) (fun _ z => z) dX5_go_198 (fun x198 h => ?_)
    obtain ⟨b201, hb201, h⟩ := g_bnd h
    obtain ⟨hr201, hk201⟩ := g_chk hb201
    obtain ⟨z201, h201, h⟩ := g_bnd h
    refine g_callV (n := 1) (b := b201) (av := [.inl x198]) (rs := []) hx hb hml hown hts hKn hRc hRs hS hl (sX5_byteAt l E D h201) (lw_V q1122 q1124 qs25 q136 q1125) ⟨rfl, by decide, by decide, by decide +kernel⟩ ⟨by rw [hRf]; exact Nat.le_of_ble_eq_true rfl, by rw [hRl]; exact Nat.le_of_ble_eq_true rfl⟩ (g_recv hKn hS hk201 (by decide) (by decide)) rfl (by rw [hr201]; rfl) (Nat.le_of_ble_eq_true rfl) dX5_go_201 (fun H locs cells slots hS => ?_)
    obtain ⟨z204, h204, h⟩ := g_bnd h
    refine g_callS (n := 1) (av := [.inl z201.1]) (rs := []) hx hb hml hown hts hKn hRc hRs hS hl (sX5_isDigit l E D h204) (lw_S q1159 q1160 q136 q1161) ⟨by decide, by decide, by decide +kernel⟩ ⟨by rw [hRf]; exact Nat.le_of_ble_eq_true rfl, by rw [hRl]; exact Nat.le_of_ble_eq_true rfl⟩ rfl rfl (Nat.le_of_ble_eq_true rfl) dX5_go_204 (fun H locs cells slots hS => ?_)
    refine lv_if_eq (tgt := 259) hx hb dX5_go_207 (by decide) (fun c_207 => ?_) (fun c_207 => ?_)
    · have h := g_ift c_207 h
      refine g_aload_n hx hb hl 0 rfl dX5_go_259 ?_
      refine g_aload_n hx hb hl 0 rfl dX5_go_260 ?_
      refine g_rdI hx hb hown hts hKn hS h fd_5_5_2 rfl (Or.inl (hts _ q1235)) (fun _ z => z) dX5_go_261 (fun x261 h => ?_)
      refine g_aload_n hx hb hl 0 rfl dX5_go_264 ?_
      refine g_rdI hx hb hown hts hKn hS h fd_5_5_3 rfl (Or.inl (hts _ q1236)) (fun _ z => z) dX5_go_265 (fun x265 h => ?_)
      refine lv_isub hx hb dX5_go_268 ?_
      refine lv_iconst (v := 4) hx hb dX5_go_269 (by decide) ?_
      refine lv_icmp_le (tgt := 277) hx hb dX5_go_270 (by decide) (fun c_270 => ?_) (fun c_270 => ?_)
      · have h := g_ift c_270 h
        refine lv_iconst (v := 0) hx hb dX5_go_277 (by decide) ?_
        exact sX5_go_b278 C _ _ _ _ _ h _ _ _ _ _ hS (gls_sub hl [0] rfl)
      · have h := g_iff c_270 h
        refine lv_iconst (v := 1) hx hb dX5_go_273 (by decide) ?_
        refine lv_goto (tgt := 278) hx hb dX5_go_274 (by decide) ?_
        exact sX5_go_b278 C _ _ _ _ _ h _ _ _ _ _ hS (gls_sub hl [0] rfl)
    · have h := g_iff c_207 h
      refine g_aload_n hx hb hl 0 rfl dX5_go_210 ?_
      refine g_rdI hx hb hown hts hKn hS h fd_5_5_2 rfl (Or.inl (hts _ q1235)) (fun _ z => z) dX5_go_211 (fun x211 h => ?_)
      refine g_aload_n hx hb hl 0 rfl dX5_go_214 ?_
      refine g_rdI hx hb hown hts hKn hS h fd_5_5_3 rfl (Or.inl (hts _ q1236)) (fun _ z => z) dX5_go_215 (fun x215 h => ?_)
      refine lv_isub hx hb dX5_go_218 ?_
      refine lv_iconst (v := 4) hx hb dX5_go_219 (by decide) ?_
      refine lv_icmp_ge (tgt := 246) hx hb dX5_go_220 (by decide) (fun c_220 => ?_) (fun c_220 => ?_)
      · have h := g_ift c_220 h
        exact sX5_go_b246 C ih _ _ _ h _ _ _ _ _ hS (gls_sub hl [0] rfl)
      · have h := g_iff c_220 h
        refine g_aload_n hx hb hl 0 rfl dX5_go_223 ?_
        refine lv_bipush (v := 10) hx hb dX5_go_224 (by decide) ?_
        refine g_aload_n hx hb hl 0 rfl dX5_go_226 ?_
        refine g_rdI hx hb hown hts hKn hS h fd_5_5_4 rfl (Or.inl (hts _ q1237)) (fun _ z => z) dX5_go_227 (fun x227 h => ?_)
        refine lv_imul hx hb dX5_go_230 ?_
        refine g_aload_n hx hb hl 0 rfl dX5_go_231 ?_
        refine g_aload_n hx hb hl 0 rfl dX5_go_232 ?_
        refine g_rdI hx hb hown hts hKn hS h fd_5_5_2 rfl (Or.inl (hts _ q1235)) (fun _ z => z) dX5_go_233 (fun x233 h => ?_)
        obtain ⟨b236, hb236, h⟩ := g_bnd h
        obtain ⟨hr236, hk236⟩ := g_chk hb236
        obtain ⟨z236, h236, h⟩ := g_bnd h
        refine g_callV (n := 1) (b := b236) (av := [.inl x233]) (rs := [.inl (10 * x227), .inr (.inr (some t))]) hx hb hml hown hts hKn hRc hRs hS hl (sX5_byteAt l E D h236) (lw_V q1122 q1124 qs25 q136 q1125) ⟨rfl, by decide, by decide, by decide +kernel⟩ ⟨by rw [hRf]; exact Nat.le_of_ble_eq_true rfl, by rw [hRl]; exact Nat.le_of_ble_eq_true rfl⟩ (g_recv hKn hS hk236 (by decide) (by decide)) rfl (by rw [hr236]; rfl) (Nat.le_of_ble_eq_true rfl) dX5_go_236 (fun H locs cells slots hS => ?_)
        refine lv_iadd hx hb dX5_go_239 ?_
        refine lv_bipush (v := 48) hx hb dX5_go_240 (by decide) ?_
        refine lv_isub hx hb dX5_go_242 ?_
        refine g_ptI hx hb hown hts hKn hS h fd_5_5_4 (Or.inl (hts _ q1237)) (fun _ z => z) (fun z => nomatch z) dX5_go_243 (fun G243 h H locs hS => ?_)
        exact sX5_go_b246 C ih _ _ _ h _ _ _ _ _ hS (gls_sub hl [0] rfl)
theorem sX5_go_b153 {p : Program} {l : Launch} {e : Env} {R : Room} {s : State} {m : MethodId} {args : Array Value} {below : List Frame} {meth : Method} {c : Code} {E : g_E} {D : g_D} (C : gC p R s m args meth c cX5_go 3 RX5 "go" (none) 7 196 E D) {k116 : Nat → (Option Nat) → g_G → Option (g_G)} (hk116 : ∀ (t : Nat) (v2 : Option Nat) (G : g_G) (q : g_G), k116 t v2 G = some q → ∀ (H : Heap) (locs : List Loc) (cells slots : Nat) (ls : Array Slot), gSt E D G H locs → gls ls 3 [(0, .inr (.inr (some t))), (2, .inr (.inr v2))] → gT p l e R s m args below meth c E D H locs cells slots none q (F0 m 116 ls [])) : ∀ (t : Nat) (v2 : Option Nat) (G : g_G) (q : g_G), fX5_go_b153 E k116 t v2 G = some q → ∀ (H : Heap) (locs : List Loc) (cells slots : Nat) (ls : Array Slot), gSt E D G H locs → gls ls 3 [(0, .inr (.inr (some t))), (2, .inr (.inr v2))] → gT p l e R s m args below meth c E D H locs cells slots none q (F0 m 153 ls []) := by
  obtain ⟨hx, hb, hml, hown, hts, hKn, hRc, hRs, hc1, hc2, hRf, hRl, hr, hlk, hnm⟩ := id C
  intro t v2 G q h H locs cells slots ls hS hl
  unfold fX5_go_b153 at h
  refine g_aload_n hx hb hl 0 rfl dX5_go_153 ?_
  refine lv_dup hx hb dX5_go_154 (by first | exact va_rf_cat _ | rfl | exact g_catA _) ?_
  refine g_rdI hx hb hown hts hKn hS h fd_5_5_2 rfl (Or.inl (hts _ q1235)) (fun _ z => z) dX5_go_155 (fun x155 h => ?_)
  refine lv_iconst (v := 1) hx hb dX5_go_158 (by decide) ?_
  refine lv_iadd hx hb dX5_go_159 ?_
  refine g_ptI hx hb hown hts hKn hS h fd_5_5_2 (Or.inl (hts _ q1235)) (fun _ z => z) (fun z => nomatch z) dX5_go_160 (fun G160 h H locs hS => ?_)
  refine lv_goto (tgt := 116) hx hb dX5_go_163 (by decide) ?_
  exact hk116 _ _ _ _ h _ _ _ _ _ hS (gls_sub hl [0, 1] rfl)
theorem sX5_go_b116 {p : Program} {l : Launch} {e : Env} {R : Room} {s : State} {m : MethodId} {args : Array Value} {below : List Frame} {meth : Method} {c : Code} {E : g_E} {D : g_D} (C : gC p R s m args meth c cX5_go 3 RX5 "go" (none) 7 196 E D) : ∀ (n : Nat) (t : Nat) (v2 : Option Nat) (G : g_G) (q : g_G), fX5_go_b116 E n t v2 G = some q → ∀ (H : Heap) (locs : List Loc) (cells slots : Nat) (ls : Array Slot), gSt E D G H locs → gls ls 3 [(0, .inr (.inr (some t))), (2, .inr (.inr v2))] → gT p l e R s m args below meth c E D H locs cells slots none q (F0 m 116 ls []) := by
  obtain ⟨hx, hb, hml, hown, hts, hKn, hRc, hRs, hc1, hc2, hRf, hRl, hr, hlk, hnm⟩ := id C
  intro n
  induction n with
  | zero =>
    intro t v2 G q h
    exact g_no h
  | succ n ih =>
    intro t v2 G q h H locs cells slots ls hS hl
    rw [fX5_go_b116] at h
    refine g_aload_n hx hb hl 0 rfl dX5_go_116 ?_
    refine g_aload_n hx hb hl 0 rfl dX5_go_117 ?_
    refine g_rdI hx hb hown hts hKn hS h fd_5_5_2 rfl (Or.inl (hts _ q1235)) (fun _ z => z) dX5_go_118 (fun x118 h => ?_)
    obtain ⟨b121, hb121, h⟩ := g_bnd h
    obtain ⟨hr121, hk121⟩ := g_chk hb121
    obtain ⟨z121, h121, h⟩ := g_bnd h
    refine g_callV (n := 1) (b := b121) (av := [.inl x118]) (rs := []) hx hb hml hown hts hKn hRc hRs hS hl (sX5_byteAt l E D h121) (lw_V q1122 q1124 qs25 q136 q1125) ⟨rfl, by decide, by decide, by decide +kernel⟩ ⟨by rw [hRf]; exact Nat.le_of_ble_eq_true rfl, by rw [hRl]; exact Nat.le_of_ble_eq_true rfl⟩ (g_recv hKn hS hk121 (by decide) (by decide)) rfl (by rw [hr121]; rfl) (Nat.le_of_ble_eq_true rfl) dX5_go_121 (fun H locs cells slots hS => ?_)
    obtain ⟨z124, h124, h⟩ := g_bnd h
    refine g_callS (n := 1) (av := [.inl z121.1]) (rs := []) hx hb hml hown hts hKn hRc hRs hS hl (sX5_isLetter l E D h124) (lw_S q1128 q1129 q136 q1130) ⟨by decide, by decide, by decide +kernel⟩ ⟨by rw [hRf]; exact Nat.le_of_ble_eq_true rfl, by rw [hRl]; exact Nat.le_of_ble_eq_true rfl⟩ rfl rfl (Nat.le_of_ble_eq_true rfl) dX5_go_124 (fun H locs cells slots hS => ?_)
    refine lv_if_eq (tgt := 166) hx hb dX5_go_127 (by decide) (fun c_127 => ?_) (fun c_127 => ?_)
    · have h := g_ift c_127 h
      refine g_aload_n hx hb hl 0 rfl dX5_go_166 ?_
      refine g_aload_n hx hb hl 1 rfl dX5_go_167 ?_
      obtain ⟨b168, hb168, h⟩ := g_bnd h
      obtain ⟨hr168, hk168⟩ := g_chk hb168
      obtain ⟨z168, h168, h⟩ := g_bnd h
      refine g_callV (n := 0) (b := b168) (av := []) (rs := [.inr (.inr (some t))]) hx hb hml hown hts hKn hRc hRs hS hl (sJ8_toString l E D h168) (lw_V q1156 q406 q407 q123 q408) ⟨rfl, by decide, by decide, by decide +kernel⟩ ⟨by rw [hRf]; exact Nat.le_of_ble_eq_true rfl, by rw [hRl]; exact Nat.le_of_ble_eq_true rfl⟩ (g_recv hKn hS hk168 (by decide) (by decide)) rfl (by rw [hr168]; rfl) (Nat.le_of_ble_eq_true rfl) dX5_go_168 (fun H locs cells slots hS => ?_)
      refine g_ptR hx hb hown hts hKn hS h fd_5_5_9 rfl (Or.inl (hts _ q1242)) (fun _ z => z) (fun z => nomatch z) dX5_go_171 (fun G171 h H locs hS => ?_)
      refine g_aload_n hx hb hl 0 rfl dX5_go_174 ?_
      refine g_getsZ (C := "SendHall$Sort") (n := "WORD") (d := "LSendHall$Sort;") (v := va_rf (some (gA E 1))) hx hb hown (hKn.2.2.2.2.2.2.1 _ (List.mem_of_getElem? (i := 0) rfl)) hS (hts _ q1157) (fun _ z => z) dX5_go_175 ?_
      refine g_ptR hx hb hown hts hKn hS h fd_5_5_8 rfl (Or.inl (hts _ q1241)) (fun _ z => z) (fun z => nomatch z) dX5_go_178 (fun G178 h H locs hS => ?_)
      refine lv_goto (tgt := 342) hx hb dX5_go_181 (by decide) ?_
      exact g_vretG hx hb hr hlk hKn hRc hRs hS h dX5_go_342
    · have h := g_iff c_127 h
      refine g_aload_n hx hb hl 1 rfl dX5_go_130 ?_
      obtain ⟨b131, hb131, h⟩ := g_bnd h
      obtain ⟨hr131, hk131⟩ := g_chk hb131
      obtain ⟨z131, h131, h⟩ := g_bnd h
      refine g_callV (n := 0) (b := b131) (av := []) (rs := []) hx hb hml hown hts hKn hRc hRs hS hl (sJ8_length l E D h131) (lw_V q1135 q427 q2455 q123 q428) ⟨rfl, by decide, by decide, by decide +kernel⟩ ⟨by rw [hRf]; exact Nat.le_of_ble_eq_true rfl, by rw [hRl]; exact Nat.le_of_ble_eq_true rfl⟩ (g_recv hKn hS hk131 (by decide) (by decide)) rfl (by rw [hr131]; rfl) (Nat.le_of_ble_eq_true rfl) dX5_go_131 (fun H locs cells slots hS => ?_)
      refine lv_bipush (v := 6) hx hb dX5_go_134 (by decide) ?_
      refine lv_icmp_ge (tgt := 153) hx hb dX5_go_136 (by decide) (fun c_136 => ?_) (fun c_136 => ?_)
      · have h := g_ift c_136 h
        exact sX5_go_b153 C ih _ _ _ _ h _ _ _ _ _ hS (gls_sub hl [0, 1] rfl)
      · have h := g_iff c_136 h
        refine g_aload_n hx hb hl 1 rfl dX5_go_139 ?_
        refine g_aload_n hx hb hl 0 rfl dX5_go_140 ?_
        refine g_aload_n hx hb hl 0 rfl dX5_go_141 ?_
        refine g_rdI hx hb hown hts hKn hS h fd_5_5_2 rfl (Or.inl (hts _ q1235)) (fun _ z => z) dX5_go_142 (fun x142 h => ?_)
        obtain ⟨b145, hb145, h⟩ := g_bnd h
        obtain ⟨hr145, hk145⟩ := g_chk hb145
        obtain ⟨z145, h145, h⟩ := g_bnd h
        refine g_callV (n := 1) (b := b145) (av := [.inl x142]) (rs := [.inr (.inr v2)]) hx hb hml hown hts hKn hRc hRs hS hl (sX5_byteAt l E D h145) (lw_V q1122 q1124 qs25 q136 q1125) ⟨rfl, by decide, by decide, by decide +kernel⟩ ⟨by rw [hRf]; exact Nat.le_of_ble_eq_true rfl, by rw [hRl]; exact Nat.le_of_ble_eq_true rfl⟩ (g_recv hKn hS hk145 (by decide) (by decide)) rfl (by rw [hr145]; rfl) (Nat.le_of_ble_eq_true rfl) dX5_go_145 (fun H locs cells slots hS => ?_)
        refine lv_i2c (v := (UInt32.toInt32 (Int32.toUInt32 z145.1 % 65536))) hx hb dX5_go_148 rfl ?_
        obtain ⟨b149, hb149, h⟩ := g_bnd h
        obtain ⟨hr149, hk149⟩ := g_chk hb149
        obtain ⟨z149, h149, h⟩ := g_bnd h
        refine g_callV (n := 1) (b := b149) (av := [.inl (UInt32.toInt32 (Int32.toUInt32 z145.1 % 65536))]) (rs := []) hx hb hml hown hts hKn hRc hRs hS hl (sJ8_append_3 l E D h149) (lw_V q1136 q1137 q1138 q123 q1139) ⟨rfl, by decide, by decide, by decide +kernel⟩ ⟨by rw [hRf]; exact Nat.le_of_ble_eq_true rfl, by rw [hRl]; exact Nat.le_of_ble_eq_true rfl⟩ (g_recv hKn hS hk149 (by decide) (by decide)) rfl (by rw [hr149]; rfl) (Nat.le_of_ble_eq_true rfl) dX5_go_149 (fun H locs cells slots hS => ?_)
        refine lv_pop hx hb dX5_go_152 (by first | exact va_rf_cat _ | rfl | exact g_catA _) ?_
        exact sX5_go_b153 C ih _ _ _ _ h _ _ _ _ _ hS (gls_sub hl [0, 1] rfl)
theorem sX5_go_b50 {p : Program} {l : Launch} {e : Env} {R : Room} {s : State} {m : MethodId} {args : Array Value} {below : List Frame} {meth : Method} {c : Code} {E : g_E} {D : g_D} (C : gC p R s m args meth c cX5_go 3 RX5 "go" (none) 7 196 E D) : ∀ (t : Nat) (G : g_G) (q : g_G), fX5_go_b50 E t G = some q → ∀ (H : Heap) (locs : List Loc) (cells slots : Nat) (ls : Array Slot), gSt E D G H locs → gls ls 3 [(0, .inr (.inr (some t)))] → gT p l e R s m args below meth c E D H locs cells slots none q (F0 m 50 ls []) := by
  obtain ⟨hx, hb, hml, hown, hts, hKn, hRc, hRs, hc1, hc2, hRf, hRl, hr, hlk, hnm⟩ := id C
  intro t G q h H locs cells slots ls hS hl
  unfold fX5_go_b50 at h
  refine g_aload_n hx hb hl 0 rfl dX5_go_50 ?_
  refine g_aload_n hx hb hl 0 rfl dX5_go_51 ?_
  refine g_rdI hx hb hown hts hKn hS h fd_5_5_2 rfl (Or.inl (hts _ q1235)) (fun _ z => z) dX5_go_52 (fun x52 h => ?_)
  refine g_ptI hx hb hown hts hKn hS h fd_5_5_3 (Or.inl (hts _ q1236)) (fun _ z => z) (fun z => nomatch z) dX5_go_55 (fun G55 h H locs hS => ?_)
  refine g_aload_n hx hb hl 0 rfl dX5_go_58 ?_
  refine g_ldcS (i := 20) hx hb hown hKn (List.mem_of_getElem? (i := 0) rfl) dX5_go_59 ?_
  refine g_ptR hx hb hown hts hKn hS h fd_5_5_9 rfl (Or.inl (hts _ q1242)) (fun _ z => z) (fun z => nomatch z) dX5_go_61 (fun G61 h H locs hS => ?_)
  refine g_aload_n hx hb hl 0 rfl dX5_go_64 ?_
  refine lv_iconst (v := 0) hx hb dX5_go_65 (by decide) ?_
  refine g_ptZ hx hb hown hts hKn hS h fd_5_5_7 (Or.inl (hts _ q1240)) (fun _ z => z) (fun z => nomatch z) dX5_go_66 (fun G66 h H locs hS => ?_)
  refine g_aload_n hx hb hl 0 rfl dX5_go_69 ?_
  refine g_aload_n hx hb hl 0 rfl dX5_go_70 ?_
  refine g_rdI hx hb hown hts hKn hS h fd_5_5_2 rfl (Or.inl (hts _ q1235)) (fun _ z => z) dX5_go_71 (fun x71 h => ?_)
  obtain ⟨b74, hb74, h⟩ := g_bnd h
  obtain ⟨hr74, hk74⟩ := g_chk hb74
  obtain ⟨z74, h74, h⟩ := g_bnd h
  refine g_callV (n := 1) (b := b74) (av := [.inl x71]) (rs := []) hx hb hml hown hts hKn hRc hRs hS hl (sX5_byteAt l E D h74) (lw_V q1122 q1124 qs25 q136 q1125) ⟨rfl, by decide, by decide, by decide +kernel⟩ ⟨by rw [hRf]; exact Nat.le_of_ble_eq_true rfl, by rw [hRl]; exact Nat.le_of_ble_eq_true rfl⟩ (g_recv hKn hS hk74 (by decide) (by decide)) rfl (by rw [hr74]; rfl) (Nat.le_of_ble_eq_true rfl) dX5_go_74 (fun H locs cells slots hS => ?_)
  refine g_istore_n (l1 := [(1, .inl z74.1), (0, .inr (.inr (some t)))]) hx hb hl (by decide) rfl dX5_go_77 (fun ls hl => ?_)
  refine g_aload_n hx hb hl 1 rfl dX5_go_78 ?_
  refine g_rdI hx hb hown hts hKn hS h fd_5_5_2 rfl (Or.inl (hts _ q1235)) (fun _ z => z) dX5_go_79 (fun x79 h => ?_)
  refine g_aload_n hx hb hl 1 rfl dX5_go_82 ?_
  refine g_rdI hx hb hown hts hKn hS h fd_5_5_1 rfl (Or.inl (hts _ q1234)) (fun _ z => z) dX5_go_83 (fun x83 h => ?_)
  refine lv_icmp_lt (tgt := 99) hx hb dX5_go_86 (by decide) (fun c_86 => ?_) (fun c_86 => ?_)
  · have h := g_ift c_86 h
    refine g_iload_n hx hb hl 0 rfl dX5_go_99 ?_
    obtain ⟨z100, h100, h⟩ := g_bnd h
    refine g_callS (n := 1) (av := [.inl z74.1]) (rs := []) hx hb hml hown hts hKn hRc hRs hS hl (sX5_isLetter l E D h100) (lw_S q1128 q1129 q136 q1130) ⟨by decide, by decide, by decide +kernel⟩ ⟨by rw [hRf]; exact Nat.le_of_ble_eq_true rfl, by rw [hRl]; exact Nat.le_of_ble_eq_true rfl⟩ rfl rfl (Nat.le_of_ble_eq_true rfl) dX5_go_100 (fun H locs cells slots hS => ?_)
    refine lv_if_eq (tgt := 184) hx hb dX5_go_103 (by decide) (fun c_103 => ?_) (fun c_103 => ?_)
    · have h := g_ift c_103 h
      refine g_iload_n hx hb hl 0 rfl dX5_go_184 ?_
      obtain ⟨z185, h185, h⟩ := g_bnd h
      refine g_callS (n := 1) (av := [.inl z74.1]) (rs := []) hx hb hml hown hts hKn hRc hRs hS hl (sX5_isDigit l E D h185) (lw_S q1159 q1160 q136 q1161) ⟨by decide, by decide, by decide +kernel⟩ ⟨by rw [hRf]; exact Nat.le_of_ble_eq_true rfl, by rw [hRl]; exact Nat.le_of_ble_eq_true rfl⟩ rfl rfl (Nat.le_of_ble_eq_true rfl) dX5_go_185 (fun H locs cells slots hS => ?_)
      refine lv_if_eq (tgt := 291) hx hb dX5_go_188 (by decide) (fun c_188 => ?_) (fun c_188 => ?_)
      · have h := g_ift c_188 h
        refine g_aload_n hx hb hl 1 rfl dX5_go_291 ?_
        refine g_ldcS (i := 21) hx hb hown hKn (List.mem_of_getElem? (i := 1) rfl) dX5_go_292 ?_
        refine g_iload_n hx hb hl 0 rfl dX5_go_294 ?_
        obtain ⟨b295, hb295, h⟩ := g_bnd h
        obtain ⟨hr295, hk295⟩ := g_chk hb295
        obtain ⟨z295, h295, h⟩ := g_bnd h
        refine g_callV (n := 1) (b := b295) (av := [.inl z74.1]) (rs := [.inr (.inr (some t))]) hx hb hml hown hts hKn hRc hRs hS hl (sJ9_indexOf l E D h295) (lw_V q1165 q1166 q1167 q124 q1168) ⟨rfl, by decide, by decide, by decide +kernel⟩ ⟨by rw [hRf]; exact Nat.le_of_ble_eq_true rfl, by rw [hRl]; exact Nat.le_of_ble_eq_true rfl⟩ (g_recv hKn hS hk295 (by decide) (by decide)) rfl (by rw [hr295]; rfl) (Nat.le_of_ble_eq_true rfl) dX5_go_295 (fun H locs cells slots hS => ?_)
        refine lv_if_lt (tgt := 307) hx hb dX5_go_298 (by decide) (fun c_298 => ?_) (fun c_298 => ?_)
        · have h := g_ift c_298 h
          refine g_getsZ (C := "SendHall$Sort") (n := "BAD") (d := "LSendHall$Sort;") (v := va_rf (some (gA E 4))) hx hb hown (hKn.2.2.2.2.2.2.1 _ (List.mem_of_getElem? (i := 3) rfl)) hS (hts _ q1217) (fun _ z => z) dX5_go_307 ?_
          exact sX5_go_b310 C _ _ _ _ _ _ h _ _ _ _ _ hS (gls_sub hl [1, 0] rfl)
        · have h := g_iff c_298 h
          refine g_getsZ (C := "SendHall$Sort") (n := "SIGN") (d := "LSendHall$Sort;") (v := va_rf (some (gA E 3))) hx hb hown (hKn.2.2.2.2.2.2.1 _ (List.mem_of_getElem? (i := 2) rfl)) hS (hts _ q1215) (fun _ z => z) dX5_go_301 ?_
          refine lv_goto (tgt := 310) hx hb dX5_go_304 (by decide) ?_
          exact sX5_go_b310 C _ _ _ _ _ _ h _ _ _ _ _ hS (gls_sub hl [1, 0] rfl)
      · have h := g_iff c_188 h
        refine g_aload_n hx hb hl 1 rfl dX5_go_191 ?_
        refine lv_iconst (v := 0) hx hb dX5_go_192 (by decide) ?_
        refine g_ptI hx hb hown hts hKn hS h fd_5_5_4 (Or.inl (hts _ q1237)) (fun _ z => z) (fun z => nomatch z) dX5_go_193 (fun G193 h H locs hS => ?_)
        exact sX5_go_b196 C gFU _ _ _ h _ _ _ _ _ hS (gls_sub hl [1] rfl)
    · have h := g_iff c_103 h
      refine g_newG (k := 18) hx hb hown hts hKn hRc hRs hS h (by decide) (by decide) (hts _ q1131) (hts _ q228) (hts _ q123) dX5_go_106 (fun z106 h H locs cells slots hS => ?_)
      refine lv_dup hx hb dX5_go_109 (by first | exact va_rf_cat _ | rfl | exact g_catA _) ?_
      refine lv_bipush (v := 6) hx hb dX5_go_110 (by decide) ?_
      obtain ⟨z112, h112, h⟩ := g_bnd h
      refine g_callI (n := 1) (av := [.inl 6]) (rs := [.inr (.inr (some z106.1))]) hx hb hml hown hts hKn hRc hRs hS hl (sJ8_init_2 l E D h112) (lw_meth q1134) (hts _ q123) (hts _ q1132) (hts _ q1133) rfl ⟨by decide, by decide, by decide +kernel⟩ ⟨by rw [hRf]; exact Nat.le_of_ble_eq_true rfl, by rw [hRl]; exact Nat.le_of_ble_eq_true rfl⟩ rfl rfl (Nat.le_of_ble_eq_true rfl) dX5_go_112 (fun H locs cells slots hS => ?_)
      refine g_astore_n (l1 := [(2, .inr (.inr (some z106.1))), (1, .inl z74.1), (0, .inr (.inr (some t)))]) hx hb hl (by decide) rfl dX5_go_115 (fun ls hl => ?_)
      exact sX5_go_b116 C gFU _ _ _ _ h _ _ _ _ _ hS (gls_sub hl [2, 0] rfl)
  · have h := g_iff c_86 h
    refine g_aload_n hx hb hl 1 rfl dX5_go_89 ?_
    refine g_getsZ (C := "SendHall$Sort") (n := "END") (d := "LSendHall$Sort;") (v := va_rf (some (gA E 5))) hx hb hown (hKn.2.2.2.2.2.2.1 _ (List.mem_of_getElem? (i := 4) rfl)) hS (hts _ q1126) (fun _ z => z) dX5_go_90 ?_
    refine g_ptR hx hb hown hts hKn hS h fd_5_5_8 rfl (Or.inl (hts _ q1241)) (fun _ z => z) (fun z => nomatch z) dX5_go_93 (fun G93 h H locs hS => ?_)
    refine lv_goto (tgt := 342) hx hb dX5_go_96 (by decide) ?_
    exact g_vretG hx hb hr hlk hKn hRc hRs hS h dX5_go_342
theorem sX5_go_b37 {p : Program} {l : Launch} {e : Env} {R : Room} {s : State} {m : MethodId} {args : Array Value} {below : List Frame} {meth : Method} {c : Code} {E : g_E} {D : g_D} (C : gC p R s m args meth c cX5_go 3 RX5 "go" (none) 7 196 E D) {k0 : Nat → g_G → Option (g_G)} (hk0 : ∀ (t : Nat) (G : g_G) (q : g_G), k0 t G = some q → ∀ (H : Heap) (locs : List Loc) (cells slots : Nat) (ls : Array Slot), gSt E D G H locs → gls ls 3 [(0, .inr (.inr (some t)))] → gT p l e R s m args below meth c E D H locs cells slots none q (F0 m 0 ls [])) : ∀ (t : Nat) (G : g_G) (q : g_G), fX5_go_b37 E k0 t G = some q → ∀ (H : Heap) (locs : List Loc) (cells slots : Nat) (ls : Array Slot), gSt E D G H locs → gls ls 3 [(0, .inr (.inr (some t)))] → gT p l e R s m args below meth c E D H locs cells slots none q (F0 m 37 ls []) := by
  obtain ⟨hx, hb, hml, hown, hts, hKn, hRc, hRs, hc1, hc2, hRf, hRl, hr, hlk, hnm⟩ := id C
  intro t G q h H locs cells slots ls hS hl
  unfold fX5_go_b37 at h
  refine g_aload_n hx hb hl 0 rfl dX5_go_37 ?_
  refine lv_dup hx hb dX5_go_38 (by first | exact va_rf_cat _ | rfl | exact g_catA _) ?_
  refine g_rdI hx hb hown hts hKn hS h fd_5_5_2 rfl (Or.inl (hts _ q1235)) (fun _ z => z) dX5_go_39 (fun x39 h => ?_)
  refine lv_iconst (v := 1) hx hb dX5_go_42 (by decide) ?_
  refine lv_iadd hx hb dX5_go_43 ?_
  refine g_ptI hx hb hown hts hKn hS h fd_5_5_2 (Or.inl (hts _ q1235)) (fun _ z => z) (fun z => nomatch z) dX5_go_44 (fun G44 h H locs hS => ?_)
  refine lv_goto (tgt := 0) hx hb dX5_go_47 (by decide) ?_
  exact hk0 _ _ _ h _ _ _ _ _ hS (gls_sub hl [0] rfl)
theorem sX5_go_b0 {p : Program} {l : Launch} {e : Env} {R : Room} {s : State} {m : MethodId} {args : Array Value} {below : List Frame} {meth : Method} {c : Code} {E : g_E} {D : g_D} (C : gC p R s m args meth c cX5_go 3 RX5 "go" (none) 7 196 E D) : ∀ (n : Nat) (t : Nat) (G : g_G) (q : g_G), fX5_go_b0 E n t G = some q → ∀ (H : Heap) (locs : List Loc) (cells slots : Nat) (ls : Array Slot), gSt E D G H locs → gls ls 3 [(0, .inr (.inr (some t)))] → gT p l e R s m args below meth c E D H locs cells slots none q (F0 m 0 ls []) := by
  obtain ⟨hx, hb, hml, hown, hts, hKn, hRc, hRs, hc1, hc2, hRf, hRl, hr, hlk, hnm⟩ := id C
  intro n
  induction n with
  | zero =>
    intro t G q h
    exact g_no h
  | succ n ih =>
    intro t G q h H locs cells slots ls hS hl
    rw [fX5_go_b0] at h
    refine g_aload_n hx hb hl 0 rfl dX5_go_0 ?_
    refine g_rdI hx hb hown hts hKn hS h fd_5_5_2 rfl (Or.inl (hts _ q1235)) (fun _ z => z) dX5_go_1 (fun x1 h => ?_)
    refine g_aload_n hx hb hl 0 rfl dX5_go_4 ?_
    refine g_rdI hx hb hown hts hKn hS h fd_5_5_1 rfl (Or.inl (hts _ q1234)) (fun _ z => z) dX5_go_5 (fun x5 h => ?_)
    refine lv_icmp_ge (tgt := 50) hx hb dX5_go_8 (by decide) (fun c_8 => ?_) (fun c_8 => ?_)
    · have h := g_ift c_8 h
      exact sX5_go_b50 C _ _ _ h _ _ _ _ _ hS (gls_sub hl [0] rfl)
    · have h := g_iff c_8 h
      refine g_aload_n hx hb hl 0 rfl dX5_go_11 ?_
      refine g_aload_n hx hb hl 0 rfl dX5_go_12 ?_
      refine g_rdI hx hb hown hts hKn hS h fd_5_5_2 rfl (Or.inl (hts _ q1235)) (fun _ z => z) dX5_go_13 (fun x13 h => ?_)
      obtain ⟨b16, hb16, h⟩ := g_bnd h
      obtain ⟨hr16, hk16⟩ := g_chk hb16
      obtain ⟨z16, h16, h⟩ := g_bnd h
      refine g_callV (n := 1) (b := b16) (av := [.inl x13]) (rs := []) hx hb hml hown hts hKn hRc hRs hS hl (sX5_byteAt l E D h16) (lw_V q1122 q1124 qs25 q136 q1125) ⟨rfl, by decide, by decide, by decide +kernel⟩ ⟨by rw [hRf]; exact Nat.le_of_ble_eq_true rfl, by rw [hRl]; exact Nat.le_of_ble_eq_true rfl⟩ (g_recv hKn hS hk16 (by decide) (by decide)) rfl (by rw [hr16]; rfl) (Nat.le_of_ble_eq_true rfl) dX5_go_16 (fun H locs cells slots hS => ?_)
      refine lv_bipush (v := 32) hx hb dX5_go_19 (by decide) ?_
      refine lv_icmp_eq (tgt := 37) hx hb dX5_go_21 (by decide) (fun c_21 => ?_) (fun c_21 => ?_)
      · have h := g_ift c_21 h
        exact sX5_go_b37 C ih _ _ _ h _ _ _ _ _ hS (gls_sub hl [0] rfl)
      · have h := g_iff c_21 h
        refine g_aload_n hx hb hl 0 rfl dX5_go_24 ?_
        refine g_aload_n hx hb hl 0 rfl dX5_go_25 ?_
        refine g_rdI hx hb hown hts hKn hS h fd_5_5_2 rfl (Or.inl (hts _ q1235)) (fun _ z => z) dX5_go_26 (fun x26 h => ?_)
        obtain ⟨b29, hb29, h⟩ := g_bnd h
        obtain ⟨hr29, hk29⟩ := g_chk hb29
        obtain ⟨z29, h29, h⟩ := g_bnd h
        refine g_callV (n := 1) (b := b29) (av := [.inl x26]) (rs := []) hx hb hml hown hts hKn hRc hRs hS hl (sX5_byteAt l E D h29) (lw_V q1122 q1124 qs25 q136 q1125) ⟨rfl, by decide, by decide, by decide +kernel⟩ ⟨by rw [hRf]; exact Nat.le_of_ble_eq_true rfl, by rw [hRl]; exact Nat.le_of_ble_eq_true rfl⟩ (g_recv hKn hS hk29 (by decide) (by decide)) rfl (by rw [hr29]; rfl) (Nat.le_of_ble_eq_true rfl) dX5_go_29 (fun H locs cells slots hS => ?_)
        refine lv_bipush (v := 10) hx hb dX5_go_32 (by decide) ?_
        refine lv_icmp_ne (tgt := 50) hx hb dX5_go_34 (by decide) (fun c_34 => ?_) (fun c_34 => ?_)
        · have h := g_ift c_34 h
          exact sX5_go_b50 C _ _ _ h _ _ _ _ _ hS (gls_sub hl [0] rfl)
        · have h := g_iff (fun z => z c_34) h
          exact sX5_go_b37 C ih _ _ _ h _ _ _ _ _ hS (gls_sub hl [0] rfl)
theorem sX5_go (l : Launch) (E : g_E) (D : g_D) {t : Nat} {G : g_G} {q : g_G} (h : fX5_go E t G = some q) : gMet l E D yX5_go (ws_ yX5_go cX5_go 3 (none)) 7 196 [.inr (.inr (some t))] G none q := by
  refine gMet.of (by decide +kernel) (Nat.le_of_ble_eq_true rfl) ?_
  intro p e R s m args below meth c C hS ls hl
  have C : gC p R s m args meth c cX5_go 3 RX5 "go" (none) 7 196 E D := C
  obtain ⟨hx, hb, hml, hown, hts, hKn, hRc, hRs, hc1, hc2, hRf, hRl, hr, hlk, hnm⟩ := id C
  have hl : gls ls 3 [(0, .inr (.inr (some t)))] := hl
  generalize s.heap = H at hS ⊢
  unfold fX5_go at h
  exact sX5_go_b0 C gFU _ _ _ h _ _ _ _ _ hS (gls_sub hl [0] rfl)
/-- SendHall$Reader.need(Ljava/lang/String;)V -/
def fX5_need (E : g_E) (t : Nat) (v1 : Option Nat) (G : g_G) : Option ((g_G) ⊕ gX) :=
  (gchk G 5 (some t)).bind fun b3 =>
  (fX5_is E b3 v1 G).bind fun z3 =>
  (gchk z3.2 5 (some t)).bind fun b7 =>
  gcat (fX5_check E b7 z3.1 1 z3.2) (fun z7 =>
    (gchk z7 5 (some t)).bind fun b11 =>
    (fX5_go E b11 z7).bind fun z11 =>
    some (.inl z11))
  (fun y => some (.inr y))
theorem sX5_need (l : Launch) (E : g_E) (D : g_D) (hlT : l.stackTraces = false) {t : Nat} {v1 : Option Nat} {G : g_G} {q : (g_G) ⊕ gX} (h : fX5_need E t v1 G = some q) : gMetX l E D yX5_need (ws_ yX5_need cX5_need 2 (none)) 8 218 [.inr (.inr (some t)), .inr (.inr v1)] G gokV q := by
  refine gMetX.of (by decide +kernel) (Nat.le_of_ble_eq_true rfl) ?_
  intro p e R s m args below meth c C htab hS ls hl
  have C : gC p R s m args meth c cX5_need 2 RX5 "need" (none) 8 218 E D := C
  obtain ⟨hx, hb, hml, hown, hts, hKn, hRc, hRs, hc1, hc2, hRf, hRl, hr, hlk, hnm⟩ := id C
  have hl : gls ls 2 [(0, .inr (.inr (some t))), (1, .inr (.inr v1))] := hl
  generalize hH0 : s.heap = H at hS ⊢
  unfold fX5_need at h
  refine g_aload_n hx hb hl 0 rfl dX5_need_0 ?_
  refine g_aload_n hx hb hl 0 rfl dX5_need_1 ?_
  refine g_aload_n hx hb hl 1 rfl dX5_need_2 ?_
  obtain ⟨b3, hb3, h⟩ := g_bnd h
  obtain ⟨hr3, hk3⟩ := g_chk hb3
  obtain ⟨z3, h3, h⟩ := g_bnd h
  refine g_callV (n := 1) (b := b3) (av := [.inr (.inr v1)]) (rs := [.inr (.inr (some t))]) hx hb hml hown hts hKn hRc hRs hS hl (sX5_is l E D h3) (lw_V q1483 q1485 qs34 q136 q1486) ⟨rfl, by decide, by decide, by decide +kernel⟩ ⟨by rw [hRf]; exact Nat.le_of_ble_eq_true rfl, by rw [hRl]; exact Nat.le_of_ble_eq_true rfl⟩ (g_recv hKn hS hk3 (by decide) (by decide)) rfl (by rw [hr3]; rfl) (Nat.le_of_ble_eq_true rfl) dX5_need_3 (fun H locs cells slots hS => ?_)
  refine lv_iconst (v := 1) hx hb dX5_need_6 (by decide) ?_
  obtain ⟨b7, hb7, h⟩ := g_bnd h
  obtain ⟨hr7, hk7⟩ := g_chk hb7
  obtain ⟨o7, h7, ha7, hx7⟩ := g_catE h
  refine g_callVt (n := 2) (b := b7) (av := [.inl z3.1, .inl 1]) (rs := []) hx hb hml hown hts hKn hRc hRs hS hl (sX5_check l E D hlT h7) (lw_V q1363 q1365 qs27 q136 q1366) ⟨rfl, by decide, by decide, by decide +kernel⟩ ⟨by rw [hRf]; exact Nat.le_of_ble_eq_true rfl, by rw [hRl]; exact Nat.le_of_ble_eq_true rfl⟩ (g_recv hKn hS hk7 (by decide) (by decide)) rfl (by rw [hr7]; rfl) (Nat.le_of_ble_eq_true rfl) dX5_need_7 (fun z7 e7 H locs cells slots hS => ?_) (fun k7 a7 G7 e7 n1 n2 nk nB H locs cells slots hS => ?_)
  · have h := ha7 _ e7
    refine g_aload_n hx hb hl 0 rfl dX5_need_10 ?_
    obtain ⟨b11, hb11, h⟩ := g_bnd h
    obtain ⟨hr11, hk11⟩ := g_chk hb11
    obtain ⟨z11, h11, h⟩ := g_bnd h
    refine g_callV (n := 0) (b := b11) (av := []) (rs := []) hx hb hml hown hts hKn hRc hRs hS hl (sX5_go l E D h11) (lw_V q1118 q1120 qs24 q136 q1121) ⟨rfl, by decide, by decide, by decide +kernel⟩ ⟨by rw [hRf]; exact Nat.le_of_ble_eq_true rfl, by rw [hRl]; exact Nat.le_of_ble_eq_true rfl⟩ (g_recv hKn hS hk11 (by decide) (by decide)) rfl (by rw [hr11]; rfl) (Nat.le_of_ble_eq_true rfl) dX5_need_11 (fun H locs cells slots hS => ?_)
    exact g_retX (g_vretG hx hb hr hlk hKn hRc hRs hS rfl dX5_need_14) h rfl
  · have h := hx7 _ e7
    exact g_outX (by rw [htab]; decide) hlk hKn hRc hRs hS n1 n2 nB nk h
/-- SendHall$Reader.number(II)I -/
def fX5_number_b49 (E : g_E) (t : Nat) (s0 : Option Nat) (s1 : Int32) (G : g_G) : Option ((Int32 × g_G) ⊕ gX) :=
  (gchk G 5 s0).bind fun b50 =>
  gcat (fX5_check E b50 s1 2 G) (fun z50 =>
    (grI z50 5 5 (some t) 4).bind fun x54 =>
    (gchk z50 5 (some t)).bind fun b59 =>
    (fX5_go E b59 z50).bind fun z59 =>
    some (.inl (x54, z59)))
  (fun y => some (.inr y))
def fX5_number_b48 (E : g_E) (t : Nat) (s0 : Option Nat) (G : g_G) : Option ((Int32 × g_G) ⊕ gX) :=
  fX5_number_b49 E t s0 0 G
def fX5_number_b16 (E : g_E) (t : Nat) (v1 : Int32) (v2 : Int32) (s0 : Option Nat) (s1 : Int32) (G : g_G) : Option ((Int32 × g_G) ⊕ gX) :=
  (gchk G 5 s0).bind fun b17 =>
  gcat (fX5_check E b17 s1 1 G) (fun z17 =>
    (grI z17 5 5 (some t) 7).bind fun x22 =>
    if ¬ x22 = 0 then (
      fX5_number_b48 E t (some t) z17)
    else (
      (grI z17 5 5 (some t) 4).bind fun x29 =>
      if x29 < v1 then (
        fX5_number_b48 E t (some t) z17)
      else (
        (grI z17 5 5 (some t) 4).bind fun x37 =>
        if v2 < x37 then (
          fX5_number_b48 E t (some t) z17)
        else (
          fX5_number_b49 E t (some t) 1 z17))))
  (fun y => some (.inr y))
def fX5_number (E : g_E) (t : Nat) (v1 : Int32) (v2 : Int32) (G : g_G) : Option ((Int32 × g_G) ⊕ gX) :=
  (grR G 5 5 (some t) 8).bind fun x2 =>
  if ¬ x2 = (some (gA E 2)) then (
    fX5_number_b16 E t v1 v2 (some t) 0 G)
  else (
    fX5_number_b16 E t v1 v2 (some t) 1 G)
theorem sX5_number_b49 {p : Program} {l : Launch} {e : Env} {R : Room} {s : State} {m : MethodId} {args : Array Value} {below : List Frame} {meth : Method} {c : Code} {E : g_E} {D : g_D} (C : gC p R s m args meth c cX5_number 4 RX5 "number" (some .int) 8 218 E D) (hlT : l.stackTraces = false) (htab : c.exceptionTable.toList = []) : ∀ (t : Nat) (s0 : Option Nat) (s1 : Int32) (G : g_G) (q : (Int32 × g_G) ⊕ gX), fX5_number_b49 E t s0 s1 G = some q → ∀ (H : Heap) (locs : List Loc) (cells slots : Nat) (ls : Array Slot), gSt E D G H locs → gls ls 4 [(0, .inr (.inr (some t)))] → gTX p l e R s m args below meth c E D H locs cells slots gokI q (F0 m 49 ls [.int s1, va_rf s0]) := by
  obtain ⟨hx, hb, hml, hown, hts, hKn, hRc, hRs, hc1, hc2, hRf, hRl, hr, hlk, hnm⟩ := id C
  intro t s0 s1 G q h H locs cells slots ls hS hl
  unfold fX5_number_b49 at h
  refine lv_iconst (v := 2) hx hb dX5_number_49 (by decide) ?_
  obtain ⟨b50, hb50, h⟩ := g_bnd h
  obtain ⟨hr50, hk50⟩ := g_chk hb50
  obtain ⟨o50, h50, ha50, hx50⟩ := g_catE h
  refine g_callVt (n := 2) (b := b50) (av := [.inl s1, .inl 2]) (rs := []) hx hb hml hown hts hKn hRc hRs hS hl (sX5_check l E D hlT h50) (lw_V q1363 q1365 qs27 q136 q1366) ⟨rfl, by decide, by decide, by decide +kernel⟩ ⟨by rw [hRf]; exact Nat.le_of_ble_eq_true rfl, by rw [hRl]; exact Nat.le_of_ble_eq_true rfl⟩ (g_recv hKn hS hk50 (by decide) (by decide)) rfl (by rw [hr50]; rfl) (Nat.le_of_ble_eq_true rfl) dX5_number_50 (fun z50 e50 H locs cells slots hS => ?_) (fun k50 a50 G50 e50 n1 n2 nk nB H locs cells slots hS => ?_)
  · have h := ha50 _ e50
    refine g_aload_n hx hb hl 0 rfl dX5_number_53 ?_
    refine g_rdI hx hb hown hts hKn hS h fd_5_5_4 rfl (Or.inl (hts _ q1237)) (fun _ z => z) dX5_number_54 (fun x54 h => ?_)
    refine g_istore_n (l1 := [(3, .inl x54), (0, .inr (.inr (some t)))]) hx hb hl (by decide) rfl dX5_number_57 (fun ls hl => ?_)
    refine g_aload_n hx hb hl 1 rfl dX5_number_58 ?_
    obtain ⟨b59, hb59, h⟩ := g_bnd h
    obtain ⟨hr59, hk59⟩ := g_chk hb59
    obtain ⟨z59, h59, h⟩ := g_bnd h
    refine g_callV (n := 0) (b := b59) (av := []) (rs := []) hx hb hml hown hts hKn hRc hRs hS hl (sX5_go l E D h59) (lw_V q1118 q1120 qs24 q136 q1121) ⟨rfl, by decide, by decide, by decide +kernel⟩ ⟨by rw [hRf]; exact Nat.le_of_ble_eq_true rfl, by rw [hRl]; exact Nat.le_of_ble_eq_true rfl⟩ (g_recv hKn hS hk59 (by decide) (by decide)) rfl (by rw [hr59]; rfl) (Nat.le_of_ble_eq_true rfl) dX5_number_59 (fun H locs cells slots hS => ?_)
    refine g_iload_n hx hb hl 0 rfl dX5_number_62 ?_
    exact g_retX (g_iretG hx hb hr hlk hKn hRc hRs hS (q := (x54, z59)) rfl dX5_number_63) h rfl
  · have h := hx50 _ e50
    exact g_outX (by rw [htab]; decide) hlk hKn hRc hRs hS n1 n2 nB nk h
theorem sX5_number_b48 {p : Program} {l : Launch} {e : Env} {R : Room} {s : State} {m : MethodId} {args : Array Value} {below : List Frame} {meth : Method} {c : Code} {E : g_E} {D : g_D} (C : gC p R s m args meth c cX5_number 4 RX5 "number" (some .int) 8 218 E D) (hlT : l.stackTraces = false) (htab : c.exceptionTable.toList = []) : ∀ (t : Nat) (s0 : Option Nat) (G : g_G) (q : (Int32 × g_G) ⊕ gX), fX5_number_b48 E t s0 G = some q → ∀ (H : Heap) (locs : List Loc) (cells slots : Nat) (ls : Array Slot), gSt E D G H locs → gls ls 4 [(0, .inr (.inr (some t)))] → gTX p l e R s m args below meth c E D H locs cells slots gokI q (F0 m 48 ls [va_rf s0]) := by
  obtain ⟨hx, hb, hml, hown, hts, hKn, hRc, hRs, hc1, hc2, hRf, hRl, hr, hlk, hnm⟩ := id C
  intro t s0 G q h H locs cells slots ls hS hl
  unfold fX5_number_b48 at h
  refine lv_iconst (v := 0) hx hb dX5_number_48 (by decide) ?_
  exact sX5_number_b49 C hlT htab _ _ _ _ _ h _ _ _ _ _ hS (gls_sub hl [0] rfl)
theorem sX5_number_b16 {p : Program} {l : Launch} {e : Env} {R : Room} {s : State} {m : MethodId} {args : Array Value} {below : List Frame} {meth : Method} {c : Code} {E : g_E} {D : g_D} (C : gC p R s m args meth c cX5_number 4 RX5 "number" (some .int) 8 218 E D) (hlT : l.stackTraces = false) (htab : c.exceptionTable.toList = []) : ∀ (t : Nat) (v1 : Int32) (v2 : Int32) (s0 : Option Nat) (s1 : Int32) (G : g_G) (q : (Int32 × g_G) ⊕ gX), fX5_number_b16 E t v1 v2 s0 s1 G = some q → ∀ (H : Heap) (locs : List Loc) (cells slots : Nat) (ls : Array Slot), gSt E D G H locs → gls ls 4 [(0, .inr (.inr (some t))), (1, .inl v1), (2, .inl v2)] → gTX p l e R s m args below meth c E D H locs cells slots gokI q (F0 m 16 ls [.int s1, va_rf s0]) := by
  obtain ⟨hx, hb, hml, hown, hts, hKn, hRc, hRs, hc1, hc2, hRf, hRl, hr, hlk, hnm⟩ := id C
  intro t v1 v2 s0 s1 G q h H locs cells slots ls hS hl
  unfold fX5_number_b16 at h
  refine lv_iconst (v := 1) hx hb dX5_number_16 (by decide) ?_
  obtain ⟨b17, hb17, h⟩ := g_bnd h
  obtain ⟨hr17, hk17⟩ := g_chk hb17
  obtain ⟨o17, h17, ha17, hx17⟩ := g_catE h
  refine g_callVt (n := 2) (b := b17) (av := [.inl s1, .inl 1]) (rs := []) hx hb hml hown hts hKn hRc hRs hS hl (sX5_check l E D hlT h17) (lw_V q1363 q1365 qs27 q136 q1366) ⟨rfl, by decide, by decide, by decide +kernel⟩ ⟨by rw [hRf]; exact Nat.le_of_ble_eq_true rfl, by rw [hRl]; exact Nat.le_of_ble_eq_true rfl⟩ (g_recv hKn hS hk17 (by decide) (by decide)) rfl (by rw [hr17]; rfl) (Nat.le_of_ble_eq_true rfl) dX5_number_17 (fun z17 e17 H locs cells slots hS => ?_) (fun k17 a17 G17 e17 n1 n2 nk nB H locs cells slots hS => ?_)
  · have h := ha17 _ e17
    refine g_aload_n hx hb hl 0 rfl dX5_number_20 ?_
    refine g_aload_n hx hb hl 0 rfl dX5_number_21 ?_
    refine g_rdI hx hb hown hts hKn hS h fd_5_5_7 rfl (Or.inl (hts _ q1240)) (fun _ z => z) dX5_number_22 (fun x22 h => ?_)
    refine lv_if_ne (tgt := 48) hx hb dX5_number_25 (by decide) (fun c_25 => ?_) (fun c_25 => ?_)
    · have h := g_ift c_25 h
      exact sX5_number_b48 C hlT htab _ _ _ _ h _ _ _ _ _ hS (gls_sub hl [0] rfl)
    · have h := g_iff (fun z => z c_25) h
      refine g_aload_n hx hb hl 0 rfl dX5_number_28 ?_
      refine g_rdI hx hb hown hts hKn hS h fd_5_5_4 rfl (Or.inl (hts _ q1237)) (fun _ z => z) dX5_number_29 (fun x29 h => ?_)
      refine g_iload_n hx hb hl 1 rfl dX5_number_32 ?_
      refine lv_icmp_lt (tgt := 48) hx hb dX5_number_33 (by decide) (fun c_33 => ?_) (fun c_33 => ?_)
      · have h := g_ift c_33 h
        exact sX5_number_b48 C hlT htab _ _ _ _ h _ _ _ _ _ hS (gls_sub hl [0] rfl)
      · have h := g_iff c_33 h
        refine g_aload_n hx hb hl 0 rfl dX5_number_36 ?_
        refine g_rdI hx hb hown hts hKn hS h fd_5_5_4 rfl (Or.inl (hts _ q1237)) (fun _ z => z) dX5_number_37 (fun x37 h => ?_)
        refine g_iload_n hx hb hl 2 rfl dX5_number_40 ?_
        refine lv_icmp_gt (tgt := 48) hx hb dX5_number_41 (by decide) (fun c_41 => ?_) (fun c_41 => ?_)
        · have h := g_ift c_41 h
          exact sX5_number_b48 C hlT htab _ _ _ _ h _ _ _ _ _ hS (gls_sub hl [0] rfl)
        · have h := g_iff c_41 h
          refine lv_iconst (v := 1) hx hb dX5_number_44 (by decide) ?_
          refine lv_goto (tgt := 49) hx hb dX5_number_45 (by decide) ?_
          exact sX5_number_b49 C hlT htab _ _ _ _ _ h _ _ _ _ _ hS (gls_sub hl [0] rfl)
  · have h := hx17 _ e17
    exact g_outX (by rw [htab]; decide) hlk hKn hRc hRs hS n1 n2 nB nk h
theorem sX5_number (l : Launch) (E : g_E) (D : g_D) (hlT : l.stackTraces = false) {t : Nat} {v1 : Int32} {v2 : Int32} {G : g_G} {q : (Int32 × g_G) ⊕ gX} (h : fX5_number E t v1 v2 G = some q) : gMetX l E D yX5_number (ws_ yX5_number cX5_number 4 (some .int)) 8 218 [.inr (.inr (some t)), .inl v1, .inl v2] G gokI q := by
  refine gMetX.of (by decide +kernel) (Nat.le_of_ble_eq_true rfl) ?_
  intro p e R s m args below meth c C htab hS ls hl
  have C : gC p R s m args meth c cX5_number 4 RX5 "number" (some .int) 8 218 E D := C
  obtain ⟨hx, hb, hml, hown, hts, hKn, hRc, hRs, hc1, hc2, hRf, hRl, hr, hlk, hnm⟩ := id C
  have hl : gls ls 4 [(0, .inr (.inr (some t))), (1, .inl v1), (2, .inl v2)] := hl
  generalize hH0 : s.heap = H at hS ⊢
  unfold fX5_number at h
  refine g_aload_n hx hb hl 0 rfl dX5_number_0 ?_
  refine g_aload_n hx hb hl 0 rfl dX5_number_1 ?_
  refine g_rdR hx hb hown hts hKn hS h fd_5_5_8 rfl (Or.inl (hts _ q1241)) (fun _ z => z) dX5_number_2 (fun x2 h => ?_)
  refine g_getsZ (C := "SendHall$Sort") (n := "NUMBER") (d := "LSendHall$Sort;") (v := va_rf (some (gA E 2))) hx hb hown (hKn.2.2.2.2.2.2.1 _ (List.mem_of_getElem? (i := 1) rfl)) hS (hts _ q1162) (fun _ z => z) dX5_number_5 ?_
  refine lv_acmp_ne (tgt := 15) hx hb dX5_number_8 (by decide) (fun c_8 => ?_) (fun c_8 => ?_)
  · have h := g_ift c_8 h
    refine lv_iconst (v := 0) hx hb dX5_number_15 (by decide) ?_
    exact sX5_number_b16 C hlT htab _ _ _ _ _ _ _ h _ _ _ _ _ hS (gls_sub hl [0, 1, 2] rfl)
  · have h := g_iff (fun z => z c_8) h
    refine lv_iconst (v := 1) hx hb dX5_number_11 (by decide) ?_
    refine lv_goto (tgt := 16) hx hb dX5_number_12 (by decide) ?_
    exact sX5_number_b16 C hlT htab _ _ _ _ _ _ _ h _ _ _ _ _ hS (gls_sub hl [0, 1, 2] rfl)
/-- SendHall.begins(LSendHall$Life;I)V -/
def fX1_begins_b73 (E : g_E) : Nat → Nat → (Option Nat) → Int32 → Int32 → g_G → Option (g_G)
  | 0, _, _, _, _, _ => none
  | n + 1, t, v1, v2, v3, G =>
    if v2 ≤ v3 then (
      some G)
    else (
      (grR G 1 1 (some t) 4).bind fun x82 =>
      (grR G 2 2 x82 1).bind fun x85 =>
      (gchk G 1 (some t)).bind fun b88 =>
      (fX1_goes E b88 v1 v3 x85 G).bind fun z88 =>
      fX1_begins_b73 E n t v1 v2 (v3 + 1) z88)
def fX1_begins_b41 (E : g_E) (k12 : Nat → (Option Nat) → Int32 → Int32 → g_G → Option (g_G)) : Nat → Nat → (Option Nat) → Int32 → Int32 → Int32 → g_G → Option (g_G)
  | 0, _, _, _, _, _, _ => none
  | n + 1, t, v1, v2, v3, v4, G =>
    if (4 : Int32) ≤ v4 then (
      k12 t v1 v2 (v3 + 1) G)
    else (
      (grR G 3 3 v1 5).bind fun x48 =>
      (gsaI E G x48 ((4 * v3) + v4) 0).bind fun G58 =>
      fX1_begins_b41 E k12 n t v1 v2 v3 (v4 + 1) G58)
def fX1_begins_b12 (E : g_E) : Nat → Nat → (Option Nat) → Int32 → Int32 → g_G → Option (g_G)
  | 0, _, _, _, _, _ => none
  | n + 1, t, v1, v2, v3, G =>
    if v2 ≤ v3 then (
      fX1_begins_b73 E gFU t v1 v2 0 G)
    else (
      (grR G 3 3 v1 4).bind fun x18 =>
      (gsaZ E G x18 v3 0).bind fun G23 =>
      (grR G23 3 3 v1 6).bind fun x25 =>
      (gsaI E G23 x25 v3 0).bind fun G30 =>
      (grR G30 3 3 v1 7).bind fun x32 =>
      (gsaI E G30 x32 v3 0).bind fun G37 =>
      fX1_begins_b41 E (fX1_begins_b12 E n) gFU t v1 v2 v3 0 G37)
def fX1_begins (E : g_E) (t : Nat) (v1 : Option Nat) (v2 : Int32) (G : g_G) : Option (g_G) :=
  (gpI E G 3 3 v1 0 v2).bind fun G2 =>
  (gpI E G2 3 3 v1 1 0).bind fun G7 =>
  fX1_begins_b12 E gFU t v1 v2 0 G7
theorem sX1_begins_b73 {p : Program} {l : Launch} {e : Env} {R : Room} {s : State} {m : MethodId} {args : Array Value} {below : List Frame} {meth : Method} {c : Code} {E : g_E} {D : g_D} (C : gC p R s m args meth c cX1_begins 5 RX1 "begins" (none) 221 7381 E D) : ∀ (n : Nat) (t : Nat) (v1 : Option Nat) (v2 : Int32) (v3 : Int32) (G : g_G) (q : g_G), fX1_begins_b73 E n t v1 v2 v3 G = some q → ∀ (H : Heap) (locs : List Loc) (cells slots : Nat) (ls : Array Slot), gSt E D G H locs → gls ls 5 [(0, .inr (.inr (some t))), (1, .inr (.inr v1)), (2, .inl v2), (3, .inl v3)] → gT p l e R s m args below meth c E D H locs cells slots none q (F0 m 73 ls []) := by
  obtain ⟨hx, hb, hml, hown, hts, hKn, hRc, hRs, hc1, hc2, hRf, hRl, hr, hlk, hnm⟩ := id C
  intro n
  induction n with
  | zero =>
    intro t v1 v2 v3 G q h
    exact g_no h
  | succ n ih =>
    intro t v1 v2 v3 G q h H locs cells slots ls hS hl
    rw [fX1_begins_b73] at h
    refine g_iload_n hx hb hl 3 rfl dX1_begins_73 ?_
    refine g_iload_n hx hb hl 2 rfl dX1_begins_74 ?_
    refine lv_icmp_ge (tgt := 97) hx hb dX1_begins_75 (by decide) (fun c_75 => ?_) (fun c_75 => ?_)
    · have h := g_ift c_75 h
      exact g_vretG hx hb hr hlk hKn hRc hRs hS h dX1_begins_97
    · have h := g_iff c_75 h
      refine g_aload_n hx hb hl 0 rfl dX1_begins_78 ?_
      refine g_aload_n hx hb hl 1 rfl dX1_begins_79 ?_
      refine g_iload_n hx hb hl 3 rfl dX1_begins_80 ?_
      refine g_aload_n hx hb hl 0 rfl dX1_begins_81 ?_
      refine g_rdR hx hb hown hts hKn hS h fd_1_1_4 rfl (Or.inl (hts _ q601)) (fun _ z => z) dX1_begins_82 (fun x82 h => ?_)
      refine g_rdR hx hb hown hts hKn hS h fd_2_2_1 rfl (Or.inr ⟨_, gNest_use rfl (hKn.2.2.2.2.1 _ (gNest_in q515 rfl))⟩) (fun _ z => z) dX1_begins_85 (fun x85 h => ?_)
      obtain ⟨b88, hb88, h⟩ := g_bnd h
      obtain ⟨hr88, hk88⟩ := g_chk hb88
      obtain ⟨z88, h88, h⟩ := g_bnd h
      refine g_callV (n := 3) (b := b88) (av := [.inr (.inr v1), .inl v3, .inr (.inr x85)]) (rs := []) hx hb hml hown hts hKn hRc hRs hS hl (sX1_goes l E D h88) (lw_V q732 q734 qs5 q113 q735) ⟨rfl, by decide, by decide, by decide +kernel⟩ ⟨by rw [hRf]; exact Nat.le_of_ble_eq_true rfl, by rw [hRl]; exact Nat.le_of_ble_eq_true rfl⟩ (g_recv hKn hS hk88 (by decide) (by decide)) rfl (by rw [hr88]; rfl) (Nat.le_of_ble_eq_true rfl) dX1_begins_88 (fun H locs cells slots hS => ?_)
      refine g_iinc (l1 := [(3, .inl (v3 + 1)), (0, .inr (.inr (some t))), (1, .inr (.inr v1)), (2, .inl v2)]) (v := (v3 + 1)) hx hb hl (k := 3) rfl (by rfl) (by decide) rfl dX1_begins_91 (fun ls hl => ?_)
      refine lv_goto (tgt := 73) hx hb dX1_begins_94 (by decide) ?_
      exact ih _ _ _ _ _ _ h _ _ _ _ _ hS (gls_sub hl [1, 2, 3, 0] rfl)
theorem sX1_begins_b41 {p : Program} {l : Launch} {e : Env} {R : Room} {s : State} {m : MethodId} {args : Array Value} {below : List Frame} {meth : Method} {c : Code} {E : g_E} {D : g_D} (C : gC p R s m args meth c cX1_begins 5 RX1 "begins" (none) 221 7381 E D) {k12 : Nat → (Option Nat) → Int32 → Int32 → g_G → Option (g_G)} (hk12 : ∀ (t : Nat) (v1 : Option Nat) (v2 : Int32) (v3 : Int32) (G : g_G) (q : g_G), k12 t v1 v2 v3 G = some q → ∀ (H : Heap) (locs : List Loc) (cells slots : Nat) (ls : Array Slot), gSt E D G H locs → gls ls 5 [(0, .inr (.inr (some t))), (1, .inr (.inr v1)), (2, .inl v2), (3, .inl v3)] → gT p l e R s m args below meth c E D H locs cells slots none q (F0 m 12 ls [])) : ∀ (n : Nat) (t : Nat) (v1 : Option Nat) (v2 : Int32) (v3 : Int32) (v4 : Int32) (G : g_G) (q : g_G), fX1_begins_b41 E k12 n t v1 v2 v3 v4 G = some q → ∀ (H : Heap) (locs : List Loc) (cells slots : Nat) (ls : Array Slot), gSt E D G H locs → gls ls 5 [(0, .inr (.inr (some t))), (1, .inr (.inr v1)), (2, .inl v2), (3, .inl v3), (4, .inl v4)] → gT p l e R s m args below meth c E D H locs cells slots none q (F0 m 41 ls []) := by
  obtain ⟨hx, hb, hml, hown, hts, hKn, hRc, hRs, hc1, hc2, hRf, hRl, hr, hlk, hnm⟩ := id C
  intro n
  induction n with
  | zero =>
    intro t v1 v2 v3 v4 G q h
    exact g_no h
  | succ n ih =>
    intro t v1 v2 v3 v4 G q h H locs cells slots ls hS hl
    rw [fX1_begins_b41] at h
    refine g_iload hx hb hl 4 rfl dX1_begins_41 ?_
    refine lv_iconst (v := 4) hx hb dX1_begins_43 (by decide) ?_
    refine lv_icmp_ge (tgt := 65) hx hb dX1_begins_44 (by decide) (fun c_44 => ?_) (fun c_44 => ?_)
    · have h := g_ift c_44 h
      refine g_iinc (l1 := [(3, .inl (v3 + 1)), (0, .inr (.inr (some t))), (1, .inr (.inr v1)), (2, .inl v2), (4, .inl v4)]) (v := (v3 + 1)) hx hb hl (k := 3) rfl (by rfl) (by decide) rfl dX1_begins_65 (fun ls hl => ?_)
      refine lv_goto (tgt := 12) hx hb dX1_begins_68 (by decide) ?_
      exact hk12 _ _ _ _ _ _ h _ _ _ _ _ hS (gls_sub hl [1, 2, 3, 0] rfl)
    · have h := g_iff c_44 h
      refine g_aload_n hx hb hl 1 rfl dX1_begins_47 ?_
      refine g_rdR hx hb hown hts hKn hS h fd_3_3_5 rfl (Or.inr ⟨_, gNest_use rfl (hKn.2.2.2.2.1 _ (gNest_in q553 rfl))⟩) (fun _ z => z) dX1_begins_48 (fun x48 h => ?_)
      refine lv_iconst (v := 4) hx hb dX1_begins_51 (by decide) ?_
      refine g_iload_n hx hb hl 3 rfl dX1_begins_52 ?_
      refine lv_imul hx hb dX1_begins_53 ?_
      refine g_iload hx hb hl 4 rfl dX1_begins_54 ?_
      refine lv_iadd hx hb dX1_begins_56 ?_
      refine lv_iconst (v := 0) hx hb dX1_begins_57 (by decide) ?_
      refine g_iastoreG hx hb hKn hS h dX1_begins_58 (fun G58 h H locs hS => ?_)
      refine g_iinc (l1 := [(4, .inl (v4 + 1)), (0, .inr (.inr (some t))), (1, .inr (.inr v1)), (2, .inl v2), (3, .inl v3)]) (v := (v4 + 1)) hx hb hl (k := 4) rfl (by rfl) (by decide) rfl dX1_begins_59 (fun ls hl => ?_)
      refine lv_goto (tgt := 41) hx hb dX1_begins_62 (by decide) ?_
      exact ih _ _ _ _ _ _ _ h _ _ _ _ _ hS (gls_sub hl [1, 2, 3, 4, 0] rfl)
theorem sX1_begins_b12 {p : Program} {l : Launch} {e : Env} {R : Room} {s : State} {m : MethodId} {args : Array Value} {below : List Frame} {meth : Method} {c : Code} {E : g_E} {D : g_D} (C : gC p R s m args meth c cX1_begins 5 RX1 "begins" (none) 221 7381 E D) : ∀ (n : Nat) (t : Nat) (v1 : Option Nat) (v2 : Int32) (v3 : Int32) (G : g_G) (q : g_G), fX1_begins_b12 E n t v1 v2 v3 G = some q → ∀ (H : Heap) (locs : List Loc) (cells slots : Nat) (ls : Array Slot), gSt E D G H locs → gls ls 5 [(0, .inr (.inr (some t))), (1, .inr (.inr v1)), (2, .inl v2), (3, .inl v3)] → gT p l e R s m args below meth c E D H locs cells slots none q (F0 m 12 ls []) := by
  obtain ⟨hx, hb, hml, hown, hts, hKn, hRc, hRs, hc1, hc2, hRf, hRl, hr, hlk, hnm⟩ := id C
  intro n
  induction n with
  | zero =>
    intro t v1 v2 v3 G q h
    exact g_no h
  | succ n ih =>
    intro t v1 v2 v3 G q h H locs cells slots ls hS hl
    rw [fX1_begins_b12] at h
    refine g_iload_n hx hb hl 3 rfl dX1_begins_12 ?_
    refine g_iload_n hx hb hl 2 rfl dX1_begins_13 ?_
    refine lv_icmp_ge (tgt := 71) hx hb dX1_begins_14 (by decide) (fun c_14 => ?_) (fun c_14 => ?_)
    · have h := g_ift c_14 h
      refine lv_iconst (v := 0) hx hb dX1_begins_71 (by decide) ?_
      refine g_istore_n (l1 := [(3, .inl 0), (0, .inr (.inr (some t))), (1, .inr (.inr v1)), (2, .inl v2)]) hx hb hl (by decide) rfl dX1_begins_72 (fun ls hl => ?_)
      exact sX1_begins_b73 C gFU _ _ _ _ _ _ h _ _ _ _ _ hS (gls_sub hl [1, 2, 3, 0] rfl)
    · have h := g_iff c_14 h
      refine g_aload_n hx hb hl 1 rfl dX1_begins_17 ?_
      refine g_rdR hx hb hown hts hKn hS h fd_3_3_4 rfl (Or.inr ⟨_, gNest_use rfl (hKn.2.2.2.2.1 _ (gNest_in q547 rfl))⟩) (fun _ z => z) dX1_begins_18 (fun x18 h => ?_)
      refine g_iload_n hx hb hl 3 rfl dX1_begins_21 ?_
      refine lv_iconst (v := 0) hx hb dX1_begins_22 (by decide) ?_
      refine g_zastoreG hx hb hKn hS h dX1_begins_23 (fun G23 h H locs hS => ?_)
      refine g_aload_n hx hb hl 1 rfl dX1_begins_24 ?_
      refine g_rdR hx hb hown hts hKn hS h fd_3_3_6 rfl (Or.inr ⟨_, gNest_use rfl (hKn.2.2.2.2.1 _ (gNest_in q555 rfl))⟩) (fun _ z => z) dX1_begins_25 (fun x25 h => ?_)
      refine g_iload_n hx hb hl 3 rfl dX1_begins_28 ?_
      refine lv_iconst (v := 0) hx hb dX1_begins_29 (by decide) ?_
      refine g_iastoreG hx hb hKn hS h dX1_begins_30 (fun G30 h H locs hS => ?_)
      refine g_aload_n hx hb hl 1 rfl dX1_begins_31 ?_
      refine g_rdR hx hb hown hts hKn hS h fd_3_3_7 rfl (Or.inr ⟨_, gNest_use rfl (hKn.2.2.2.2.1 _ (gNest_in q559 rfl))⟩) (fun _ z => z) dX1_begins_32 (fun x32 h => ?_)
      refine g_iload_n hx hb hl 3 rfl dX1_begins_35 ?_
      refine lv_iconst (v := 0) hx hb dX1_begins_36 (by decide) ?_
      refine g_iastoreG hx hb hKn hS h dX1_begins_37 (fun G37 h H locs hS => ?_)
      refine lv_iconst (v := 0) hx hb dX1_begins_38 (by decide) ?_
      refine g_istore (l1 := [(4, .inl 0), (0, .inr (.inr (some t))), (1, .inr (.inr v1)), (2, .inl v2), (3, .inl v3)]) hx hb hl (by decide) rfl dX1_begins_39 (fun ls hl => ?_)
      exact sX1_begins_b41 C ih gFU _ _ _ _ _ _ _ h _ _ _ _ _ hS (gls_sub hl [1, 2, 3, 4, 0] rfl)
theorem sX1_begins (l : Launch) (E : g_E) (D : g_D) {t : Nat} {v1 : Option Nat} {v2 : Int32} {G : g_G} {q : g_G} (h : fX1_begins E t v1 v2 G = some q) : gMet l E D yX1_begins (ws_ yX1_begins cX1_begins 5 (none)) 221 7381 [.inr (.inr (some t)), .inr (.inr v1), .inl v2] G none q := by
  refine gMet.of (by decide +kernel) (Nat.le_of_ble_eq_true rfl) ?_
  intro p e R s m args below meth c C hS ls hl
  have C : gC p R s m args meth c cX1_begins 5 RX1 "begins" (none) 221 7381 E D := C
  obtain ⟨hx, hb, hml, hown, hts, hKn, hRc, hRs, hc1, hc2, hRf, hRl, hr, hlk, hnm⟩ := id C
  have hl : gls ls 5 [(0, .inr (.inr (some t))), (1, .inr (.inr v1)), (2, .inl v2)] := hl
  generalize s.heap = H at hS ⊢
  unfold fX1_begins at h
  refine g_aload_n hx hb hl 1 rfl dX1_begins_0 ?_
  refine g_iload_n hx hb hl 2 rfl dX1_begins_1 ?_
  refine g_ptI hx hb hown hts hKn hS h fd_3_3_0 (Or.inr ⟨rfl, _, gNest_use rfl (hKn.2.2.2.2.1 _ (gNest_in q537 rfl))⟩) (fun _ z => z) (fun z => nomatch z) dX1_begins_2 (fun G2 h H locs hS => ?_)
  refine g_aload_n hx hb hl 1 rfl dX1_begins_5 ?_
  refine lv_iconst (v := 0) hx hb dX1_begins_6 (by decide) ?_
  refine g_ptI hx hb hown hts hKn hS h fd_3_3_1 (Or.inr ⟨rfl, _, gNest_use rfl (hKn.2.2.2.2.1 _ (gNest_in q541 rfl))⟩) (fun _ z => z) (fun z => nomatch z) dX1_begins_7 (fun G7 h H locs hS => ?_)
  refine lv_iconst (v := 0) hx hb dX1_begins_10 (by decide) ?_
  refine g_istore_n (l1 := [(3, .inl 0), (0, .inr (.inr (some t))), (1, .inr (.inr v1)), (2, .inl v2)]) hx hb hl (by decide) rfl dX1_begins_11 (fun ls hl => ?_)
  exact sX1_begins_b12 C gFU _ _ _ _ _ _ h _ _ _ _ _ hS (gls_sub hl [1, 2, 3, 0] rfl)
/-- SendHall.gets(LSendHall$Life;IIII)V -/
def fX1_gets (E : g_E) (t : Nat) (v1 : Option Nat) (v2 : Int32) (v3 : Int32) (v4 : Int32) (v5 : Int32) (G : g_G) : Option (g_G) :=
  (grR G 3 3 v1 3).bind fun x1 =>
  (gaR G 122 x1 v2).bind fun x5 =>
  (gcast G 16 16 x5).bind fun x6 =>
  (grR G 3 3 v1 5).bind fun x12 =>
  (grI G 16 16 x6 5).bind fun x20 =>
  (gsaI E G x12 ((4 * v2) + x20) v4).bind fun G26 =>
  (grR G26 3 3 v1 6).bind fun x28 =>
  (gsaI E G26 x28 v2 v3).bind fun G33 =>
  (grI G33 16 16 x6 6).bind fun x41 =>
  if (if 0 ≤ v5 then v5 else 0 - v5) ≤ x41 then (
    (grR G33 16 16 x6 2).bind fun x62 =>
    (gchk G33 1 (some t)).bind fun b65 =>
    (fX1_goes E b65 v1 v2 x62 G33).bind fun z65 =>
    some z65)
  else (
    (grR G33 3 3 v1 4).bind fun x48 =>
    (gsaZ E G33 x48 v2 1).bind fun G53 =>
    some G53)
theorem sX1_gets (l : Launch) (E : g_E) (D : g_D) {t : Nat} {v1 : Option Nat} {v2 : Int32} {v3 : Int32} {v4 : Int32} {v5 : Int32} {G : g_G} {q : g_G} (h : fX1_gets E t v1 v2 v3 v4 v5 G = some q) : gMet l E D yX1_gets (ws_ yX1_gets cX1_gets 7 (none)) 221 7381 [.inr (.inr (some t)), .inr (.inr v1), .inl v2, .inl v3, .inl v4, .inl v5] G none q := by
  refine gMet.of (by decide +kernel) (Nat.le_of_ble_eq_true rfl) ?_
  intro p e R s m args below meth c C hS ls hl
  have C : gC p R s m args meth c cX1_gets 7 RX1 "gets" (none) 221 7381 E D := C
  obtain ⟨hx, hb, hml, hown, hts, hKn, hRc, hRs, hc1, hc2, hRf, hRl, hr, hlk, hnm⟩ := id C
  have hl : gls ls 7 [(0, .inr (.inr (some t))), (1, .inr (.inr v1)), (2, .inl v2), (3, .inl v3), (4, .inl v4), (5, .inl v5)] := hl
  generalize s.heap = H at hS ⊢
  unfold fX1_gets at h
  refine g_aload_n hx hb hl 1 rfl dX1_gets_0 ?_
  refine g_rdR hx hb hown hts hKn hS h fd_3_3_3 rfl (Or.inr ⟨_, gNest_use rfl (hKn.2.2.2.2.1 _ (gNest_in q545 rfl))⟩) (fun _ z => z) dX1_gets_1 (fun x1 h => ?_)
  refine g_iload_n hx hb hl 2 rfl dX1_gets_4 ?_
  refine g_aaloadG hx hb hKn hS h (by decide) dX1_gets_5 (fun x5 h => ?_)
  refine g_castS (k := 16) hx hb hown hKn hS h (by decide) (by decide) (hts _ q878) dX1_gets_6 (fun x6 h => ?_)
  refine g_astore (l1 := [(6, .inr (.inr x6)), (0, .inr (.inr (some t))), (1, .inr (.inr v1)), (2, .inl v2), (3, .inl v3), (4, .inl v4), (5, .inl v5)]) hx hb hl (by decide) rfl dX1_gets_9 (fun ls hl => ?_)
  refine g_aload_n hx hb hl 2 rfl dX1_gets_11 ?_
  refine g_rdR hx hb hown hts hKn hS h fd_3_3_5 rfl (Or.inr ⟨_, gNest_use rfl (hKn.2.2.2.2.1 _ (gNest_in q553 rfl))⟩) (fun _ z => z) dX1_gets_12 (fun x12 h => ?_)
  refine lv_iconst (v := 4) hx hb dX1_gets_15 (by decide) ?_
  refine g_iload_n hx hb hl 3 rfl dX1_gets_16 ?_
  refine lv_imul hx hb dX1_gets_17 ?_
  refine g_aload hx hb hl 0 rfl dX1_gets_18 ?_
  refine g_rdI hx hb hown hts hKn hS h fd_16_16_5 rfl (Or.inr ⟨_, gNest_use rfl (hKn.2.2.2.2.1 _ (gNest_in q1593 rfl))⟩) (fun _ z => z) dX1_gets_20 (fun x20 h => ?_)
  refine lv_iadd hx hb dX1_gets_23 ?_
  refine g_iload hx hb hl 5 rfl dX1_gets_24 ?_
  refine g_iastoreG hx hb hKn hS h dX1_gets_26 (fun G26 h H locs hS => ?_)
  refine g_aload_n hx hb hl 2 rfl dX1_gets_27 ?_
  refine g_rdR hx hb hown hts hKn hS h fd_3_3_6 rfl (Or.inr ⟨_, gNest_use rfl (hKn.2.2.2.2.1 _ (gNest_in q555 rfl))⟩) (fun _ z => z) dX1_gets_28 (fun x28 h => ?_)
  refine g_iload_n hx hb hl 3 rfl dX1_gets_31 ?_
  refine g_iload_n hx hb hl 4 rfl dX1_gets_32 ?_
  refine g_iastoreG hx hb hKn hS h dX1_gets_33 (fun G33 h H locs hS => ?_)
  refine g_iload hx hb hl 6 rfl dX1_gets_34 ?_
  refine g_mabs (rs := []) hx hb hml hown hRc hRs hS hl (hts _ q923) (hts _ q924) (hts _ q127) (hts _ q925) (by decide +kernel) rfl (Nat.le_of_ble_eq_true rfl) ⟨by rw [hRf]; exact Nat.le_of_ble_eq_true rfl, by rw [hRl]; exact Nat.le_of_ble_eq_true rfl⟩ dX1_gets_36 (fun cells slots => ?_)
  refine g_aload hx hb hl 0 rfl dX1_gets_39 ?_
  refine g_rdI hx hb hown hts hKn hS h fd_16_16_6 rfl (Or.inr ⟨_, gNest_use rfl (hKn.2.2.2.2.1 _ (gNest_in q1596 rfl))⟩) (fun _ z => z) dX1_gets_41 (fun x41 h => ?_)
  refine lv_icmp_le (tgt := 57) hx hb dX1_gets_44 (by decide) (fun c_44 => ?_) (fun c_44 => ?_)
  · have h := g_ift c_44 h
    refine g_aload_n hx hb hl 1 rfl dX1_gets_57 ?_
    refine g_aload_n hx hb hl 2 rfl dX1_gets_58 ?_
    refine g_iload_n hx hb hl 3 rfl dX1_gets_59 ?_
    refine g_aload hx hb hl 0 rfl dX1_gets_60 ?_
    refine g_rdR hx hb hown hts hKn hS h fd_16_16_2 rfl (Or.inl (hts _ q1435)) (u_same (hts _ q1436)) dX1_gets_62 (fun x62 h => ?_)
    obtain ⟨b65, hb65, h⟩ := g_bnd h
    obtain ⟨hr65, hk65⟩ := g_chk hb65
    obtain ⟨z65, h65, h⟩ := g_bnd h
    refine g_callV (n := 3) (b := b65) (av := [.inr (.inr v1), .inl v2, .inr (.inr x62)]) (rs := []) hx hb hml hown hts hKn hRc hRs hS hl (sX1_goes l E D h65) (lw_V q732 q734 qs5 q113 q735) ⟨rfl, by decide, by decide, by decide +kernel⟩ ⟨by rw [hRf]; exact Nat.le_of_ble_eq_true rfl, by rw [hRl]; exact Nat.le_of_ble_eq_true rfl⟩ (g_recv hKn hS hk65 (by decide) (by decide)) rfl (by rw [hr65]; rfl) (Nat.le_of_ble_eq_true rfl) dX1_gets_65 (fun H locs cells slots hS => ?_)
    exact g_vretG hx hb hr hlk hKn hRc hRs hS h dX1_gets_68
  · have h := g_iff c_44 h
    refine g_aload_n hx hb hl 2 rfl dX1_gets_47 ?_
    refine g_rdR hx hb hown hts hKn hS h fd_3_3_4 rfl (Or.inr ⟨_, gNest_use rfl (hKn.2.2.2.2.1 _ (gNest_in q547 rfl))⟩) (fun _ z => z) dX1_gets_48 (fun x48 h => ?_)
    refine g_iload_n hx hb hl 3 rfl dX1_gets_51 ?_
    refine lv_iconst (v := 1) hx hb dX1_gets_52 (by decide) ?_
    refine g_zastoreG hx hb hKn hS h dX1_gets_53 (fun G53 h H locs hS => ?_)
    refine lv_goto (tgt := 68) hx hb dX1_gets_54 (by decide) ?_
    exact g_vretG hx hb hr hlk hKn hRc hRs hS h dX1_gets_68
/-- SendHall.sends(LSendHall$Life;ILSendHall$Send;I)V -/
def fX1_sends_b187 (E : g_E) (t : Nat) (v1 : Option Nat) (v2 : Int32) (v3 : Option Nat) (G : g_G) : Option (g_G) :=
  (grR G 15 15 v3 2).bind fun x191 =>
  (gchk G 1 (some t)).bind fun b194 =>
  (fX1_goes E b194 v1 v2 x191 G).bind fun z194 =>
  some z194
def fX1_sends_b89 (E : g_E) (t : Nat) (v1 : Option Nat) (v2 : Int32) (v3 : Option Nat) (v6 : Int32) (s0 : Option Nat) (s1 : Int32) (s2 : Int32) (s3 : Int32) (s4 : Int32) (s5 : Int32) (G : g_G) : Option (g_G) :=
  (grR G 1 1 (some t) 6).bind fun x90 =>
  (gaI G 100 x90 v2).bind fun x94 =>
  (gchk G 3 s0).bind fun b98 =>
  (fX3_lie E b98 s1 s2 s3 s4 s5 (x94 + v6) G).bind fun z98 =>
  fX1_sends_b187 E t v1 v2 v3 z98
def fX1_sends (E : g_E) (t : Nat) (v1 : Option Nat) (v2 : Int32) (v3 : Option Nat) (v4 : Int32) (G : g_G) : Option (g_G) :=
  (gchk G 15 v3).bind fun b3 =>
  (fX9_to E b3 v1 v2 G).bind fun z3 =>
  (grI z3.2 1 1 (some t) 2).bind fun x9 =>
  (grI z3.2 1 1 (some t) 3).bind fun x13 =>
  (gchk z3.2 1 (some t)).bind fun b32 =>
  (fX1_mayLie E b32 v1 v2 v4 z3.2).bind fun z32 =>
  if z32.1 = 0 then (
    (grR z32.2 1 1 (some t) 6).bind fun x105 =>
    (gaI z32.2 100 x105 v2).bind fun x109 =>
    (grR z32.2 1 1 (some t) 6).bind fun x111 =>
    (gaI z32.2 100 x111 z3.1).bind fun x116 =>
    (gchk z32.2 1 (some t)).bind fun b126 =>
    (fX1_clocks E b126 v2 (if x109 < x116 then x116 else x109) z32.2).bind fun z126 =>
    (gchk z126 1 (some t)).bind fun b134 =>
    (fX1_clocks E b134 z3.1 (if x109 < x116 then x116 else x109) z126).bind fun z134 =>
    (grR z134 1 1 (some t) 6).bind fun x138 =>
    (gaI z134 100 x138 v2).bind fun x143 =>
    (gsaI E z134 x138 v2 (x143 + (1 + (x9 + (x13 * (if 0 ≤ (v2 - z3.1) then (v2 - z3.1) else 0 - (v2 - z3.1))))))).bind fun G149 =>
    (grR G149 1 1 (some t) 6).bind fun x151 =>
    (gaI G149 100 x151 z3.1).bind fun x157 =>
    (gsaI E G149 x151 z3.1 (x157 + (1 + (x9 + (x13 * (if 0 ≤ (v2 - z3.1) then (v2 - z3.1) else 0 - (v2 - z3.1))))))).bind fun G163 =>
    (grR G163 15 15 v3 5).bind fun x170 =>
    (fI_value E gDP x170 v1 v2 G163).bind fun z175 =>
    (grI z175.2 15 15 v3 6).bind fun x181 =>
    (gchk z175.2 1 (some t)).bind fun b184 =>
    (fX1_gets E b184 v1 z3.1 v2 z175.1 x181 z175.2).bind fun z184 =>
    fX1_sends_b187 E t v1 v2 v3 z184)
  else (
    (grR z32.2 1 1 (some t) 6).bind fun x39 =>
    (gaI z32.2 100 x39 v2).bind fun x44 =>
    (gsaI E z32.2 x39 v2 (x44 + 1)).bind fun G47 =>
    (gchk G47 15 v3).bind fun b55 =>
    (fX8_mark E b55 v1 v2 G47).bind fun z55 =>
    (grR z55.2 15 15 v3 5).bind fun x59 =>
    (fI_value E gDP x59 v1 v2 z55.2).bind fun z64 =>
    (grI z64.2 15 15 v3 0).bind fun x70 =>
    if ¬ x70 = (2 : Int32) then (
      (grI z64.2 15 15 v3 6).bind fun x86 =>
      fX1_sends_b89 E t v1 v2 v3 (x9 + (x13 * (if 0 ≤ (v2 - z3.1) then (v2 - z3.1) else 0 - (v2 - z3.1)))) v1 v2 z3.1 z55.1 z64.1 x86 z64.2)
    else (
      (grI z64.2 15 15 v3 6).bind fun x78 =>
      fX1_sends_b89 E t v1 v2 v3 (x9 + (x13 * (if 0 ≤ (v2 - z3.1) then (v2 - z3.1) else 0 - (v2 - z3.1)))) v1 v2 z3.1 z55.1 z64.1 (-x78) z64.2))
theorem sX1_sends_b187 {p : Program} {l : Launch} {e : Env} {R : Room} {s : State} {m : MethodId} {args : Array Value} {below : List Frame} {meth : Method} {c : Code} {E : g_E} {D : g_D} (C : gC p R s m args meth c cX1_sends 8 RX1 "sends" (none) 222 7407 E D) : ∀ (t : Nat) (v1 : Option Nat) (v2 : Int32) (v3 : Option Nat) (G : g_G) (q : g_G), fX1_sends_b187 E t v1 v2 v3 G = some q → ∀ (H : Heap) (locs : List Loc) (cells slots : Nat) (ls : Array Slot), gSt E D G H locs → gls ls 8 [(0, .inr (.inr (some t))), (1, .inr (.inr v1)), (2, .inl v2), (3, .inr (.inr v3))] → gT p l e R s m args below meth c E D H locs cells slots none q (F0 m 187 ls []) := by
  obtain ⟨hx, hb, hml, hown, hts, hKn, hRc, hRs, hc1, hc2, hRf, hRl, hr, hlk, hnm⟩ := id C
  intro t v1 v2 v3 G q h H locs cells slots ls hS hl
  unfold fX1_sends_b187 at h
  refine g_aload_n hx hb hl 0 rfl dX1_sends_187 ?_
  refine g_aload_n hx hb hl 1 rfl dX1_sends_188 ?_
  refine g_iload_n hx hb hl 2 rfl dX1_sends_189 ?_
  refine g_aload_n hx hb hl 3 rfl dX1_sends_190 ?_
  refine g_rdR hx hb hown hts hKn hS h fd_15_15_2 rfl (Or.inl (hts _ q1437)) (u_same (hts _ q1438)) dX1_sends_191 (fun x191 h => ?_)
  obtain ⟨b194, hb194, h⟩ := g_bnd h
  obtain ⟨hr194, hk194⟩ := g_chk hb194
  obtain ⟨z194, h194, h⟩ := g_bnd h
  refine g_callV (n := 3) (b := b194) (av := [.inr (.inr v1), .inl v2, .inr (.inr x191)]) (rs := []) hx hb hml hown hts hKn hRc hRs hS hl (sX1_goes l E D h194) (lw_V q732 q734 qs5 q113 q735) ⟨rfl, by decide, by decide, by decide +kernel⟩ ⟨by rw [hRf]; exact Nat.le_of_ble_eq_true rfl, by rw [hRl]; exact Nat.le_of_ble_eq_true rfl⟩ (g_recv hKn hS hk194 (by decide) (by decide)) rfl (by rw [hr194]; rfl) (Nat.le_of_ble_eq_true rfl) dX1_sends_194 (fun H locs cells slots hS => ?_)
  exact g_vretG hx hb hr hlk hKn hRc hRs hS h dX1_sends_197
theorem sX1_sends_b89 {p : Program} {l : Launch} {e : Env} {R : Room} {s : State} {m : MethodId} {args : Array Value} {below : List Frame} {meth : Method} {c : Code} {E : g_E} {D : g_D} (C : gC p R s m args meth c cX1_sends 8 RX1 "sends" (none) 222 7407 E D) : ∀ (t : Nat) (v1 : Option Nat) (v2 : Int32) (v3 : Option Nat) (v6 : Int32) (s0 : Option Nat) (s1 : Int32) (s2 : Int32) (s3 : Int32) (s4 : Int32) (s5 : Int32) (G : g_G) (q : g_G), fX1_sends_b89 E t v1 v2 v3 v6 s0 s1 s2 s3 s4 s5 G = some q → ∀ (H : Heap) (locs : List Loc) (cells slots : Nat) (ls : Array Slot), gSt E D G H locs → gls ls 8 [(0, .inr (.inr (some t))), (1, .inr (.inr v1)), (2, .inl v2), (3, .inr (.inr v3)), (6, .inl v6)] → gT p l e R s m args below meth c E D H locs cells slots none q (F0 m 89 ls [.int s5, .int s4, .int s3, .int s2, .int s1, va_rf s0]) := by
  obtain ⟨hx, hb, hml, hown, hts, hKn, hRc, hRs, hc1, hc2, hRf, hRl, hr, hlk, hnm⟩ := id C
  intro t v1 v2 v3 v6 s0 s1 s2 s3 s4 s5 G q h H locs cells slots ls hS hl
  unfold fX1_sends_b89 at h
  refine g_aload_n hx hb hl 0 rfl dX1_sends_89 ?_
  refine g_rdR hx hb hown hts hKn hS h fd_1_1_6 rfl (Or.inl (hts _ q603)) (fun _ z => z) dX1_sends_90 (fun x90 h => ?_)
  refine g_iload_n hx hb hl 2 rfl dX1_sends_93 ?_
  refine g_ialoadG hx hb hKn hS h dX1_sends_94 (fun x94 h => ?_)
  refine g_iload hx hb hl 4 rfl dX1_sends_95 ?_
  refine lv_iadd hx hb dX1_sends_97 ?_
  obtain ⟨b98, hb98, h⟩ := g_bnd h
  obtain ⟨hr98, hk98⟩ := g_chk hb98
  obtain ⟨z98, h98, h⟩ := g_bnd h
  refine g_callV (n := 6) (b := b98) (av := [.inl s1, .inl s2, .inl s3, .inl s4, .inl s5, .inl (x94 + v6)]) (rs := []) hx hb hml hown hts hKn hRc hRs hS hl (sX3_lie l E D h98) (lw_V q928 q929 q930 q134 q931) ⟨rfl, by decide, by decide, by decide +kernel⟩ ⟨by rw [hRf]; exact Nat.le_of_ble_eq_true rfl, by rw [hRl]; exact Nat.le_of_ble_eq_true rfl⟩ (g_recv hKn hS hk98 (by decide) (by decide)) rfl (by rw [hr98]; rfl) (Nat.le_of_ble_eq_true rfl) dX1_sends_98 (fun H locs cells slots hS => ?_)
  refine lv_goto (tgt := 187) hx hb dX1_sends_101 (by decide) ?_
  exact sX1_sends_b187 C _ _ _ _ _ _ h _ _ _ _ _ hS (gls_sub hl [0, 1, 2, 3] rfl)
theorem sX1_sends (l : Launch) (E : g_E) (D : g_D) {t : Nat} {v1 : Option Nat} {v2 : Int32} {v3 : Option Nat} {v4 : Int32} {G : g_G} {q : g_G} (h : fX1_sends E t v1 v2 v3 v4 G = some q) : gMet l E D yX1_sends (ws_ yX1_sends cX1_sends 8 (none)) 222 7407 [.inr (.inr (some t)), .inr (.inr v1), .inl v2, .inr (.inr v3), .inl v4] G none q := by
  refine gMet.of (by decide +kernel) (Nat.le_of_ble_eq_true rfl) ?_
  intro p e R s m args below meth c C hS ls hl
  have C : gC p R s m args meth c cX1_sends 8 RX1 "sends" (none) 222 7407 E D := C
  obtain ⟨hx, hb, hml, hown, hts, hKn, hRc, hRs, hc1, hc2, hRf, hRl, hr, hlk, hnm⟩ := id C
  have hl : gls ls 8 [(0, .inr (.inr (some t))), (1, .inr (.inr v1)), (2, .inl v2), (3, .inr (.inr v3)), (4, .inl v4)] := hl
  generalize s.heap = H at hS ⊢
  unfold fX1_sends at h
  refine g_aload_n hx hb hl 3 rfl dX1_sends_0 ?_
  refine g_aload_n hx hb hl 1 rfl dX1_sends_1 ?_
  refine g_iload_n hx hb hl 2 rfl dX1_sends_2 ?_
  obtain ⟨b3, hb3, h⟩ := g_bnd h
  obtain ⟨hr3, hk3⟩ := g_chk hb3
  obtain ⟨z3, h3, h⟩ := g_bnd h
  refine g_callV (n := 2) (b := b3) (av := [.inr (.inr v1), .inl v2]) (rs := []) hx hb hml hown hts hKn hRc hRs hS hl (sX9_to l E D h3) (lw_V q857 q798 q799 q143 q800) ⟨rfl, by decide, by decide, by decide +kernel⟩ ⟨by rw [hRf]; exact Nat.le_of_ble_eq_true rfl, by rw [hRl]; exact Nat.le_of_ble_eq_true rfl⟩ (g_recv hKn hS hk3 (by decide) (by decide)) rfl (by rw [hr3]; rfl) (Nat.le_of_ble_eq_true rfl) dX1_sends_3 (fun H locs cells slots hS => ?_)
  refine g_istore (l1 := [(5, .inl z3.1), (0, .inr (.inr (some t))), (1, .inr (.inr v1)), (2, .inl v2), (3, .inr (.inr v3)), (4, .inl v4)]) hx hb hl (by decide) rfl dX1_sends_6 (fun ls hl => ?_)
  refine g_aload_n hx hb hl 1 rfl dX1_sends_8 ?_
  refine g_rdI hx hb hown hts hKn hS h fd_1_1_2 rfl (Or.inl (hts _ q599)) (fun _ z => z) dX1_sends_9 (fun x9 h => ?_)
  refine g_aload_n hx hb hl 1 rfl dX1_sends_12 ?_
  refine g_rdI hx hb hown hts hKn hS h fd_1_1_3 rfl (Or.inl (hts _ q600)) (fun _ z => z) dX1_sends_13 (fun x13 h => ?_)
  refine g_iload_n hx hb hl 3 rfl dX1_sends_16 ?_
  refine g_iload hx hb hl 0 rfl dX1_sends_17 ?_
  refine lv_isub hx hb dX1_sends_19 ?_
  refine g_mabs (rs := [.inl x13, .inl x9]) hx hb hml hown hRc hRs hS hl (hts _ q923) (hts _ q924) (hts _ q127) (hts _ q925) (by decide +kernel) rfl (Nat.le_of_ble_eq_true rfl) ⟨by rw [hRf]; exact Nat.le_of_ble_eq_true rfl, by rw [hRl]; exact Nat.le_of_ble_eq_true rfl⟩ dX1_sends_20 (fun cells slots => ?_)
  refine lv_imul hx hb dX1_sends_23 ?_
  refine lv_iadd hx hb dX1_sends_24 ?_
  refine g_istore (l1 := [(6, .inl (x9 + (x13 * (if 0 ≤ (v2 - z3.1) then (v2 - z3.1) else 0 - (v2 - z3.1))))), (5, .inl z3.1), (0, .inr (.inr (some t))), (1, .inr (.inr v1)), (2, .inl v2), (3, .inr (.inr v3)), (4, .inl v4)]) hx hb hl (by decide) rfl dX1_sends_25 (fun ls hl => ?_)
  refine g_aload_n hx hb hl 2 rfl dX1_sends_27 ?_
  refine g_aload_n hx hb hl 3 rfl dX1_sends_28 ?_
  refine g_iload_n hx hb hl 4 rfl dX1_sends_29 ?_
  refine g_iload hx hb hl 6 rfl dX1_sends_30 ?_
  obtain ⟨b32, hb32, h⟩ := g_bnd h
  obtain ⟨hr32, hk32⟩ := g_chk hb32
  obtain ⟨z32, h32, h⟩ := g_bnd h
  refine g_callV (n := 3) (b := b32) (av := [.inr (.inr v1), .inl v2, .inl v4]) (rs := []) hx hb hml hown hts hKn hRc hRs hS hl (sX1_mayLie l E D h32) (lw_V q852 q854 qs7 q113 q855) ⟨rfl, by decide, by decide, by decide +kernel⟩ ⟨by rw [hRf]; exact Nat.le_of_ble_eq_true rfl, by rw [hRl]; exact Nat.le_of_ble_eq_true rfl⟩ (g_recv hKn hS hk32 (by decide) (by decide)) rfl (by rw [hr32]; rfl) (Nat.le_of_ble_eq_true rfl) dX1_sends_32 (fun H locs cells slots hS => ?_)
  refine lv_if_eq (tgt := 104) hx hb dX1_sends_35 (by decide) (fun c_35 => ?_) (fun c_35 => ?_)
  · have h := g_ift c_35 h
    refine g_aload_n hx hb hl 2 rfl dX1_sends_104 ?_
    refine g_rdR hx hb hown hts hKn hS h fd_1_1_6 rfl (Or.inl (hts _ q603)) (fun _ z => z) dX1_sends_105 (fun x105 h => ?_)
    refine g_iload_n hx hb hl 4 rfl dX1_sends_108 ?_
    refine g_ialoadG hx hb hKn hS h dX1_sends_109 (fun x109 h => ?_)
    refine g_aload_n hx hb hl 2 rfl dX1_sends_110 ?_
    refine g_rdR hx hb hown hts hKn hS h fd_1_1_6 rfl (Or.inl (hts _ q603)) (fun _ z => z) dX1_sends_111 (fun x111 h => ?_)
    refine g_iload hx hb hl 1 rfl dX1_sends_114 ?_
    refine g_ialoadG hx hb hKn hS h dX1_sends_116 (fun x116 h => ?_)
    refine g_mmax (rs := []) hx hb hml hown hRc hRs hS hl (hts _ q932) (hts _ q283) (hts _ q127) (hts _ q284) (by decide +kernel) rfl (Nat.le_of_ble_eq_true rfl) ⟨by rw [hRf]; exact Nat.le_of_ble_eq_true rfl, by rw [hRl]; exact Nat.le_of_ble_eq_true rfl⟩ dX1_sends_117 (fun cells slots => ?_)
    refine g_istore (l1 := [(7, .inl (if x109 < x116 then x116 else x109)), (6, .inl (x9 + (x13 * (if 0 ≤ (v2 - z3.1) then (v2 - z3.1) else 0 - (v2 - z3.1))))), (5, .inl z3.1), (0, .inr (.inr (some t))), (1, .inr (.inr v1)), (2, .inl v2), (3, .inr (.inr v3)), (4, .inl v4)]) hx hb hl (by decide) rfl dX1_sends_120 (fun ls hl => ?_)
    refine g_aload_n hx hb hl 3 rfl dX1_sends_122 ?_
    refine g_iload_n hx hb hl 5 rfl dX1_sends_123 ?_
    refine g_iload hx hb hl 0 rfl dX1_sends_124 ?_
    obtain ⟨b126, hb126, h⟩ := g_bnd h
    obtain ⟨hr126, hk126⟩ := g_chk hb126
    obtain ⟨z126, h126, h⟩ := g_bnd h
    refine g_callV (n := 2) (b := b126) (av := [.inl v2, .inl (if x109 < x116 then x116 else x109)]) (rs := []) hx hb hml hown hts hKn hRc hRs hS hl (sX1_clocks l E D h126) (lw_V q933 q935 qs15 q113 q936) ⟨rfl, by decide, by decide, by decide +kernel⟩ ⟨by rw [hRf]; exact Nat.le_of_ble_eq_true rfl, by rw [hRl]; exact Nat.le_of_ble_eq_true rfl⟩ (g_recv hKn hS hk126 (by decide) (by decide)) rfl (by rw [hr126]; rfl) (Nat.le_of_ble_eq_true rfl) dX1_sends_126 (fun H locs cells slots hS => ?_)
    refine g_aload_n hx hb hl 3 rfl dX1_sends_129 ?_
    refine g_iload hx hb hl 2 rfl dX1_sends_130 ?_
    refine g_iload hx hb hl 0 rfl dX1_sends_132 ?_
    obtain ⟨b134, hb134, h⟩ := g_bnd h
    obtain ⟨hr134, hk134⟩ := g_chk hb134
    obtain ⟨z134, h134, h⟩ := g_bnd h
    refine g_callV (n := 2) (b := b134) (av := [.inl z3.1, .inl (if x109 < x116 then x116 else x109)]) (rs := []) hx hb hml hown hts hKn hRc hRs hS hl (sX1_clocks l E D h134) (lw_V q933 q935 qs15 q113 q936) ⟨rfl, by decide, by decide, by decide +kernel⟩ ⟨by rw [hRf]; exact Nat.le_of_ble_eq_true rfl, by rw [hRl]; exact Nat.le_of_ble_eq_true rfl⟩ (g_recv hKn hS hk134 (by decide) (by decide)) rfl (by rw [hr134]; rfl) (Nat.le_of_ble_eq_true rfl) dX1_sends_134 (fun H locs cells slots hS => ?_)
    refine g_aload_n hx hb hl 3 rfl dX1_sends_137 ?_
    refine g_rdR hx hb hown hts hKn hS h fd_1_1_6 rfl (Or.inl (hts _ q603)) (fun _ z => z) dX1_sends_138 (fun x138 h => ?_)
    refine g_iload_n hx hb hl 5 rfl dX1_sends_141 ?_
    refine lv_dup2_11 hx hb dX1_sends_142 rfl (by first | exact va_rf_cat _ | rfl | exact g_catA _) ?_
    refine g_ialoadG hx hb hKn hS h dX1_sends_143 (fun x143 h => ?_)
    refine lv_iconst (v := 1) hx hb dX1_sends_144 (by decide) ?_
    refine g_iload hx hb hl 1 rfl dX1_sends_145 ?_
    refine lv_iadd hx hb dX1_sends_147 ?_
    refine lv_iadd hx hb dX1_sends_148 ?_
    refine g_iastoreG hx hb hKn hS h dX1_sends_149 (fun G149 h H locs hS => ?_)
    refine g_aload_n hx hb hl 3 rfl dX1_sends_150 ?_
    refine g_rdR hx hb hown hts hKn hS h fd_1_1_6 rfl (Or.inl (hts _ q603)) (fun _ z => z) dX1_sends_151 (fun x151 h => ?_)
    refine g_iload hx hb hl 2 rfl dX1_sends_154 ?_
    refine lv_dup2_11 hx hb dX1_sends_156 rfl (by first | exact va_rf_cat _ | rfl | exact g_catA _) ?_
    refine g_ialoadG hx hb hKn hS h dX1_sends_157 (fun x157 h => ?_)
    refine lv_iconst (v := 1) hx hb dX1_sends_158 (by decide) ?_
    refine g_iload hx hb hl 1 rfl dX1_sends_159 ?_
    refine lv_iadd hx hb dX1_sends_161 ?_
    refine lv_iadd hx hb dX1_sends_162 ?_
    refine g_iastoreG hx hb hKn hS h dX1_sends_163 (fun G163 h H locs hS => ?_)
    refine g_aload_n hx hb hl 3 rfl dX1_sends_164 ?_
    refine g_aload_n hx hb hl 4 rfl dX1_sends_165 ?_
    refine g_iload hx hb hl 2 rfl dX1_sends_166 ?_
    refine g_iload_n hx hb hl 5 rfl dX1_sends_168 ?_
    refine g_aload_n hx hb hl 6 rfl dX1_sends_169 ?_
    refine g_rdR hx hb hown hts hKn hS h fd_15_15_5 rfl (Or.inr ⟨_, gNest_use rfl (hKn.2.2.2.2.1 _ (gNest_in q1408 rfl))⟩) (fun _ z => z) dX1_sends_170 (fun x170 h => ?_)
    refine g_aload_n hx hb hl 4 rfl dX1_sends_173 ?_
    refine g_iload_n hx hb hl 5 rfl dX1_sends_174 ?_
    obtain ⟨z175, h175, h⟩ := g_bnd h
    refine g_valueI (rs := [.inl v2, .inl z3.1, .inr (.inr v1), .inr (.inr (some t))]) hx hb hml hown hts hKn hRc hRs hS hl (gI_top l E D) h175 q927 ⟨by rw [hRf]; exact Nat.le_of_ble_eq_true rfl, by rw [hRl]; exact Nat.le_of_ble_eq_true rfl⟩ rfl (Nat.le_of_ble_eq_true rfl) dX1_sends_175 (fun H locs cells slots hS => ?_)
    refine g_aload_n hx hb hl 6 rfl dX1_sends_180 ?_
    refine g_rdI hx hb hown hts hKn hS h fd_15_15_6 rfl (Or.inr ⟨_, gNest_use rfl (hKn.2.2.2.2.1 _ (gNest_in q1411 rfl))⟩) (fun _ z => z) dX1_sends_181 (fun x181 h => ?_)
    obtain ⟨b184, hb184, h⟩ := g_bnd h
    obtain ⟨hr184, hk184⟩ := g_chk hb184
    obtain ⟨z184, h184, h⟩ := g_bnd h
    refine g_callV (n := 5) (b := b184) (av := [.inr (.inr v1), .inl z3.1, .inl v2, .inl z175.1, .inl x181]) (rs := []) hx hb hml hown hts hKn hRc hRs hS hl (sX1_gets l E D h184) (lw_V q937 q939 qs16 q113 q940) ⟨rfl, by decide, by decide, by decide +kernel⟩ ⟨by rw [hRf]; exact Nat.le_of_ble_eq_true rfl, by rw [hRl]; exact Nat.le_of_ble_eq_true rfl⟩ (g_recv hKn hS hk184 (by decide) (by decide)) rfl (by rw [hr184]; rfl) (Nat.le_of_ble_eq_true rfl) dX1_sends_184 (fun H locs cells slots hS => ?_)
    exact sX1_sends_b187 C _ _ _ _ _ _ h _ _ _ _ _ hS (gls_sub hl [3, 4, 5, 6] rfl)
  · have h := g_iff c_35 h
    refine g_aload_n hx hb hl 2 rfl dX1_sends_38 ?_
    refine g_rdR hx hb hown hts hKn hS h fd_1_1_6 rfl (Or.inl (hts _ q603)) (fun _ z => z) dX1_sends_39 (fun x39 h => ?_)
    refine g_iload_n hx hb hl 4 rfl dX1_sends_42 ?_
    refine lv_dup2_11 hx hb dX1_sends_43 rfl (by first | exact va_rf_cat _ | rfl | exact g_catA _) ?_
    refine g_ialoadG hx hb hKn hS h dX1_sends_44 (fun x44 h => ?_)
    refine lv_iconst (v := 1) hx hb dX1_sends_45 (by decide) ?_
    refine lv_iadd hx hb dX1_sends_46 ?_
    refine g_iastoreG hx hb hKn hS h dX1_sends_47 (fun G47 h H locs hS => ?_)
    refine g_aload_n hx hb hl 3 rfl dX1_sends_48 ?_
    refine g_iload_n hx hb hl 4 rfl dX1_sends_49 ?_
    refine g_iload hx hb hl 1 rfl dX1_sends_50 ?_
    refine g_aload_n hx hb hl 5 rfl dX1_sends_52 ?_
    refine g_aload_n hx hb hl 3 rfl dX1_sends_53 ?_
    refine g_iload_n hx hb hl 4 rfl dX1_sends_54 ?_
    obtain ⟨b55, hb55, h⟩ := g_bnd h
    obtain ⟨hr55, hk55⟩ := g_chk hb55
    obtain ⟨z55, h55, h⟩ := g_bnd h
    refine g_callU (n := 2) (b := b55) (av := [.inr (.inr v1), .inl v2]) (rs := [.inl z3.1, .inl v2, .inr (.inr v1)]) hx hb hml hown hts hKn hRc hRs hS hl (C := "SendHall$Send") (owner := "SendHall$Talk") (x := ⟨"SendHall$Send", "mark", "(LSendHall$Life;I)I"⟩) (sX8_mark l E D h55) (va_cwU 2 hts (lw_app (lw_in _ [866, 867, 869, 870, 142] (by decide +kernel) (by decide +kernel)) (lw_meth q871)) rfl rfl rfl rfl ⟨by decide, by decide, by decide +kernel⟩ ⟨by rw [hRf]; exact Nat.le_of_ble_eq_true rfl, by rw [hRl]; exact Nat.le_of_ble_eq_true rfl⟩) (g_recv hKn hS hk55 (by decide) (by decide)) rfl (by rw [hr55]; rfl) (Nat.le_of_ble_eq_true rfl) dX1_sends_55 (fun H locs cells slots hS => ?_)
    refine g_aload_n hx hb hl 5 rfl dX1_sends_58 ?_
    refine g_rdR hx hb hown hts hKn hS h fd_15_15_5 rfl (Or.inr ⟨_, gNest_use rfl (hKn.2.2.2.2.1 _ (gNest_in q1408 rfl))⟩) (fun _ z => z) dX1_sends_59 (fun x59 h => ?_)
    refine g_aload_n hx hb hl 3 rfl dX1_sends_62 ?_
    refine g_iload_n hx hb hl 4 rfl dX1_sends_63 ?_
    obtain ⟨z64, h64, h⟩ := g_bnd h
    refine g_valueI (rs := [.inl z55.1, .inl z3.1, .inl v2, .inr (.inr v1)]) hx hb hml hown hts hKn hRc hRs hS hl (gI_top l E D) h64 q927 ⟨by rw [hRf]; exact Nat.le_of_ble_eq_true rfl, by rw [hRl]; exact Nat.le_of_ble_eq_true rfl⟩ rfl (Nat.le_of_ble_eq_true rfl) dX1_sends_64 (fun H locs cells slots hS => ?_)
    refine g_aload_n hx hb hl 5 rfl dX1_sends_69 ?_
    refine g_rdI hx hb hown hts hKn hS h fd_15_15_0 rfl (Or.inl (hts _ q1419)) (u_same (hts _ q1420)) dX1_sends_70 (fun x70 h => ?_)
    refine lv_iconst (v := 2) hx hb dX1_sends_73 (by decide) ?_
    refine lv_icmp_ne (tgt := 85) hx hb dX1_sends_74 (by decide) (fun c_74 => ?_) (fun c_74 => ?_)
    · have h := g_ift c_74 h
      refine g_aload_n hx hb hl 5 rfl dX1_sends_85 ?_
      refine g_rdI hx hb hown hts hKn hS h fd_15_15_6 rfl (Or.inr ⟨_, gNest_use rfl (hKn.2.2.2.2.1 _ (gNest_in q1411 rfl))⟩) (fun _ z => z) dX1_sends_86 (fun x86 h => ?_)
      exact sX1_sends_b89 C _ _ _ _ _ _ _ _ _ _ _ _ _ h _ _ _ _ _ hS (gls_sub hl [2, 3, 4, 5, 0] rfl)
    · have h := g_iff (fun z => z c_74) h
      refine g_aload_n hx hb hl 5 rfl dX1_sends_77 ?_
      refine g_rdI hx hb hown hts hKn hS h fd_15_15_6 rfl (Or.inr ⟨_, gNest_use rfl (hKn.2.2.2.2.1 _ (gNest_in q1411 rfl))⟩) (fun _ z => z) dX1_sends_78 (fun x78 h => ?_)
      refine lv_ineg hx hb dX1_sends_81 ?_
      refine lv_goto (tgt := 89) hx hb dX1_sends_82 (by decide) ?_
      exact sX1_sends_b89 C _ _ _ _ _ _ _ _ _ _ _ _ _ h _ _ _ _ _ hS (gls_sub hl [2, 3, 4, 5, 0] rfl)
/-- SendHall.takes(LSendHall$Life;II)V -/
def fX1_takes_b88 (E : g_E) (t : Nat) (v1 : Option Nat) (v2 : Int32) (v3 : Int32) (v4 : Int32) (v5 : Int32) (v6 : Int32) (G : g_G) : Option (g_G) :=
  (gchk G 3 v1).bind fun b91 =>
  (fX3_takeOut E b91 v4 G).bind fun z91 =>
  (gchk z91 1 (some t)).bind fun b102 =>
  (fX1_gets E b102 v1 v2 v3 v5 v6 z91).bind fun z102 =>
  some z102
def fX1_takes (E : g_E) (t : Nat) (v1 : Option Nat) (v2 : Int32) (v3 : Int32) (G : g_G) : Option (g_G) :=
  (grR G 3 3 v1 3).bind fun x4 =>
  (gaR G 122 x4 v2).bind fun x8 =>
  (gcast G 16 16 x8).bind fun x9 =>
  (gchk G 16 x9).bind fun b14 =>
  (fX8_mark E b14 v1 v2 G).bind fun z14 =>
  (gchk z14.2 3 v1).bind fun b17 =>
  (fX3_first E b17 v3 v2 z14.1 z14.2).bind fun z17 =>
  (grR z17.2 3 3 v1 10).bind fun x23 =>
  (gaI z17.2 100 x23 z17.1).bind fun x28 =>
  (grR z17.2 3 3 v1 11).bind fun x32 =>
  (gaI z17.2 100 x32 z17.1).bind fun x37 =>
  (grR z17.2 3 3 v1 12).bind fun x43 =>
  (gaI z17.2 100 x43 z17.1).bind fun x48 =>
  (gchk z17.2 1 (some t)).bind fun b49 =>
  (fX1_clocks E b49 v2 x48 z17.2).bind fun z49 =>
  (grR z49 1 1 (some t) 6).bind fun x53 =>
  (gaI z49 100 x53 v2).bind fun x58 =>
  (gsaI E z49 x53 v2 (x58 + 1)).bind fun G61 =>
  if 0 ≤ x37 then (
    fX1_takes_b88 E t v1 v2 v3 z17.1 x28 x37 G61)
  else (
    (grR G61 1 1 (some t) 8).bind fun x68 =>
    (grR G61 1 1 (some t) 8).bind fun x73 =>
    (gaI G61 100 x73 v3).bind fun x77 =>
    (grR G61 1 1 (some t) 6).bind fun x79 =>
    (gaI G61 100 x79 v2).bind fun x83 =>
    (gsaI E G61 x68 v3 (if x77 < x83 then x83 else x77)).bind fun G87 =>
    fX1_takes_b88 E t v1 v2 v3 z17.1 x28 x37 G87)
theorem sX1_takes_b88 {p : Program} {l : Launch} {e : Env} {R : Room} {s : State} {m : MethodId} {args : Array Value} {below : List Frame} {meth : Method} {c : Code} {E : g_E} {D : g_D} (C : gC p R s m args meth c cX1_takes 7 RX1 "takes" (none) 222 7407 E D) : ∀ (t : Nat) (v1 : Option Nat) (v2 : Int32) (v3 : Int32) (v4 : Int32) (v5 : Int32) (v6 : Int32) (G : g_G) (q : g_G), fX1_takes_b88 E t v1 v2 v3 v4 v5 v6 G = some q → ∀ (H : Heap) (locs : List Loc) (cells slots : Nat) (ls : Array Slot), gSt E D G H locs → gls ls 7 [(0, .inr (.inr (some t))), (1, .inr (.inr v1)), (2, .inl v2), (3, .inl v3), (4, .inl v4), (5, .inl v5), (6, .inl v6)] → gT p l e R s m args below meth c E D H locs cells slots none q (F0 m 88 ls []) := by
  obtain ⟨hx, hb, hml, hown, hts, hKn, hRc, hRs, hc1, hc2, hRf, hRl, hr, hlk, hnm⟩ := id C
  intro t v1 v2 v3 v4 v5 v6 G q h H locs cells slots ls hS hl
  unfold fX1_takes_b88 at h
  refine g_aload_n hx hb hl 1 rfl dX1_takes_88 ?_
  refine g_iload hx hb hl 4 rfl dX1_takes_89 ?_
  obtain ⟨b91, hb91, h⟩ := g_bnd h
  obtain ⟨hr91, hk91⟩ := g_chk hb91
  obtain ⟨z91, h91, h⟩ := g_bnd h
  refine g_callV (n := 1) (b := b91) (av := [.inl v4]) (rs := []) hx hb hml hown hts hKn hRc hRs hS hl (sX3_takeOut l E D h91) (lw_V q945 q946 q947 q134 q948) ⟨rfl, by decide, by decide, by decide +kernel⟩ ⟨by rw [hRf]; exact Nat.le_of_ble_eq_true rfl, by rw [hRl]; exact Nat.le_of_ble_eq_true rfl⟩ (g_recv hKn hS hk91 (by decide) (by decide)) rfl (by rw [hr91]; rfl) (Nat.le_of_ble_eq_true rfl) dX1_takes_91 (fun H locs cells slots hS => ?_)
  refine g_aload_n hx hb hl 0 rfl dX1_takes_94 ?_
  refine g_aload_n hx hb hl 1 rfl dX1_takes_95 ?_
  refine g_iload_n hx hb hl 2 rfl dX1_takes_96 ?_
  refine g_iload_n hx hb hl 3 rfl dX1_takes_97 ?_
  refine g_iload hx hb hl 5 rfl dX1_takes_98 ?_
  refine g_iload hx hb hl 6 rfl dX1_takes_100 ?_
  obtain ⟨b102, hb102, h⟩ := g_bnd h
  obtain ⟨hr102, hk102⟩ := g_chk hb102
  obtain ⟨z102, h102, h⟩ := g_bnd h
  refine g_callV (n := 5) (b := b102) (av := [.inr (.inr v1), .inl v2, .inl v3, .inl v5, .inl v6]) (rs := []) hx hb hml hown hts hKn hRc hRs hS hl (sX1_gets l E D h102) (lw_V q937 q939 qs16 q113 q940) ⟨rfl, by decide, by decide, by decide +kernel⟩ ⟨by rw [hRf]; exact Nat.le_of_ble_eq_true rfl, by rw [hRl]; exact Nat.le_of_ble_eq_true rfl⟩ (g_recv hKn hS hk102 (by decide) (by decide)) rfl (by rw [hr102]; rfl) (Nat.le_of_ble_eq_true rfl) dX1_takes_102 (fun H locs cells slots hS => ?_)
  exact g_vretG hx hb hr hlk hKn hRc hRs hS h dX1_takes_105
theorem sX1_takes (l : Launch) (E : g_E) (D : g_D) {t : Nat} {v1 : Option Nat} {v2 : Int32} {v3 : Int32} {G : g_G} {q : g_G} (h : fX1_takes E t v1 v2 v3 G = some q) : gMet l E D yX1_takes (ws_ yX1_takes cX1_takes 7 (none)) 222 7407 [.inr (.inr (some t)), .inr (.inr v1), .inl v2, .inl v3] G none q := by
  refine gMet.of (by decide +kernel) (Nat.le_of_ble_eq_true rfl) ?_
  intro p e R s m args below meth c C hS ls hl
  have C : gC p R s m args meth c cX1_takes 7 RX1 "takes" (none) 222 7407 E D := C
  obtain ⟨hx, hb, hml, hown, hts, hKn, hRc, hRs, hc1, hc2, hRf, hRl, hr, hlk, hnm⟩ := id C
  have hl : gls ls 7 [(0, .inr (.inr (some t))), (1, .inr (.inr v1)), (2, .inl v2), (3, .inl v3)] := hl
  generalize s.heap = H at hS ⊢
  unfold fX1_takes at h
  refine g_aload_n hx hb hl 1 rfl dX1_takes_0 ?_
  refine g_iload_n hx hb hl 3 rfl dX1_takes_1 ?_
  refine g_iload_n hx hb hl 2 rfl dX1_takes_2 ?_
  refine g_aload_n hx hb hl 1 rfl dX1_takes_3 ?_
  refine g_rdR hx hb hown hts hKn hS h fd_3_3_3 rfl (Or.inr ⟨_, gNest_use rfl (hKn.2.2.2.2.1 _ (gNest_in q545 rfl))⟩) (fun _ z => z) dX1_takes_4 (fun x4 h => ?_)
  refine g_iload_n hx hb hl 2 rfl dX1_takes_7 ?_
  refine g_aaloadG hx hb hKn hS h (by decide) dX1_takes_8 (fun x8 h => ?_)
  refine g_castS (k := 16) hx hb hown hKn hS h (by decide) (by decide) (hts _ q878) dX1_takes_9 (fun x9 h => ?_)
  refine g_aload_n hx hb hl 1 rfl dX1_takes_12 ?_
  refine g_iload_n hx hb hl 2 rfl dX1_takes_13 ?_
  obtain ⟨b14, hb14, h⟩ := g_bnd h
  obtain ⟨hr14, hk14⟩ := g_chk hb14
  obtain ⟨z14, h14, h⟩ := g_bnd h
  refine g_callU (n := 2) (b := b14) (av := [.inr (.inr v1), .inl v2]) (rs := [.inl v2, .inl v3, .inr (.inr v1)]) hx hb hml hown hts hKn hRc hRs hS hl (C := "SendHall$Wait") (owner := "SendHall$Talk") (x := ⟨"SendHall$Wait", "mark", "(LSendHall$Life;I)I"⟩) (sX8_mark l E D h14) (va_cwU 2 hts (lw_app (lw_in _ [883, 884, 885, 870, 142] (by decide +kernel) (by decide +kernel)) (lw_meth q871)) rfl rfl rfl rfl ⟨by decide, by decide, by decide +kernel⟩ ⟨by rw [hRf]; exact Nat.le_of_ble_eq_true rfl, by rw [hRl]; exact Nat.le_of_ble_eq_true rfl⟩) (g_recv hKn hS hk14 (by decide) (by decide)) rfl (by rw [hr14]; rfl) (Nat.le_of_ble_eq_true rfl) dX1_takes_14 (fun H locs cells slots hS => ?_)
  obtain ⟨b17, hb17, h⟩ := g_bnd h
  obtain ⟨hr17, hk17⟩ := g_chk hb17
  obtain ⟨z17, h17, h⟩ := g_bnd h
  refine g_callV (n := 3) (b := b17) (av := [.inl v3, .inl v2, .inl z14.1]) (rs := []) hx hb hml hown hts hKn hRc hRs hS hl (sX3_first l E D h17) (lw_V q886 q887 q888 q134 q889) ⟨rfl, by decide, by decide, by decide +kernel⟩ ⟨by rw [hRf]; exact Nat.le_of_ble_eq_true rfl, by rw [hRl]; exact Nat.le_of_ble_eq_true rfl⟩ (g_recv hKn hS hk17 (by decide) (by decide)) rfl (by rw [hr17]; rfl) (Nat.le_of_ble_eq_true rfl) dX1_takes_17 (fun H locs cells slots hS => ?_)
  refine g_istore (l1 := [(4, .inl z17.1), (0, .inr (.inr (some t))), (1, .inr (.inr v1)), (2, .inl v2), (3, .inl v3)]) hx hb hl (by decide) rfl dX1_takes_20 (fun ls hl => ?_)
  refine g_aload_n hx hb hl 2 rfl dX1_takes_22 ?_
  refine g_rdR hx hb hown hts hKn hS h fd_3_3_10 rfl (Or.inr ⟨_, gNest_use rfl (hKn.2.2.2.2.1 _ (gNest_in q563 rfl))⟩) (fun _ z => z) dX1_takes_23 (fun x23 h => ?_)
  refine g_iload hx hb hl 0 rfl dX1_takes_26 ?_
  refine g_ialoadG hx hb hKn hS h dX1_takes_28 (fun x28 h => ?_)
  refine g_istore (l1 := [(5, .inl x28), (4, .inl z17.1), (0, .inr (.inr (some t))), (1, .inr (.inr v1)), (2, .inl v2), (3, .inl v3)]) hx hb hl (by decide) rfl dX1_takes_29 (fun ls hl => ?_)
  refine g_aload_n hx hb hl 3 rfl dX1_takes_31 ?_
  refine g_rdR hx hb hown hts hKn hS h fd_3_3_11 rfl (Or.inr ⟨_, gNest_use rfl (hKn.2.2.2.2.1 _ (gNest_in q565 rfl))⟩) (fun _ z => z) dX1_takes_32 (fun x32 h => ?_)
  refine g_iload hx hb hl 1 rfl dX1_takes_35 ?_
  refine g_ialoadG hx hb hKn hS h dX1_takes_37 (fun x37 h => ?_)
  refine g_istore (l1 := [(6, .inl x37), (5, .inl x28), (4, .inl z17.1), (0, .inr (.inr (some t))), (1, .inr (.inr v1)), (2, .inl v2), (3, .inl v3)]) hx hb hl (by decide) rfl dX1_takes_38 (fun ls hl => ?_)
  refine g_aload_n hx hb hl 3 rfl dX1_takes_40 ?_
  refine g_iload_n hx hb hl 5 rfl dX1_takes_41 ?_
  refine g_aload_n hx hb hl 4 rfl dX1_takes_42 ?_
  refine g_rdR hx hb hown hts hKn hS h fd_3_3_12 rfl (Or.inr ⟨_, gNest_use rfl (hKn.2.2.2.2.1 _ (gNest_in q567 rfl))⟩) (fun _ z => z) dX1_takes_43 (fun x43 h => ?_)
  refine g_iload hx hb hl 2 rfl dX1_takes_46 ?_
  refine g_ialoadG hx hb hKn hS h dX1_takes_48 (fun x48 h => ?_)
  obtain ⟨b49, hb49, h⟩ := g_bnd h
  obtain ⟨hr49, hk49⟩ := g_chk hb49
  obtain ⟨z49, h49, h⟩ := g_bnd h
  refine g_callV (n := 2) (b := b49) (av := [.inl v2, .inl x48]) (rs := []) hx hb hml hown hts hKn hRc hRs hS hl (sX1_clocks l E D h49) (lw_V q933 q935 qs15 q113 q936) ⟨rfl, by decide, by decide, by decide +kernel⟩ ⟨by rw [hRf]; exact Nat.le_of_ble_eq_true rfl, by rw [hRl]; exact Nat.le_of_ble_eq_true rfl⟩ (g_recv hKn hS hk49 (by decide) (by decide)) rfl (by rw [hr49]; rfl) (Nat.le_of_ble_eq_true rfl) dX1_takes_49 (fun H locs cells slots hS => ?_)
  refine g_aload_n hx hb hl 3 rfl dX1_takes_52 ?_
  refine g_rdR hx hb hown hts hKn hS h fd_1_1_6 rfl (Or.inl (hts _ q603)) (fun _ z => z) dX1_takes_53 (fun x53 h => ?_)
  refine g_iload_n hx hb hl 5 rfl dX1_takes_56 ?_
  refine lv_dup2_11 hx hb dX1_takes_57 rfl (by first | exact va_rf_cat _ | rfl | exact g_catA _) ?_
  refine g_ialoadG hx hb hKn hS h dX1_takes_58 (fun x58 h => ?_)
  refine lv_iconst (v := 1) hx hb dX1_takes_59 (by decide) ?_
  refine lv_iadd hx hb dX1_takes_60 ?_
  refine g_iastoreG hx hb hKn hS h dX1_takes_61 (fun G61 h H locs hS => ?_)
  refine g_iload hx hb hl 0 rfl dX1_takes_62 ?_
  refine lv_if_ge (tgt := 88) hx hb dX1_takes_64 (by decide) (fun c_64 => ?_) (fun c_64 => ?_)
  · have h := g_ift c_64 h
    exact sX1_takes_b88 C _ _ _ _ _ _ _ _ _ h _ _ _ _ _ hS (gls_sub hl [3, 4, 5, 6, 2, 1, 0] rfl)
  · have h := g_iff c_64 h
    refine g_aload_n hx hb hl 3 rfl dX1_takes_67 ?_
    refine g_rdR hx hb hown hts hKn hS h fd_1_1_8 rfl (Or.inl (hts _ q605)) (fun _ z => z) dX1_takes_68 (fun x68 h => ?_)
    refine g_iload_n hx hb hl 6 rfl dX1_takes_71 ?_
    refine g_aload_n hx hb hl 3 rfl dX1_takes_72 ?_
    refine g_rdR hx hb hown hts hKn hS h fd_1_1_8 rfl (Or.inl (hts _ q605)) (fun _ z => z) dX1_takes_73 (fun x73 h => ?_)
    refine g_iload_n hx hb hl 6 rfl dX1_takes_76 ?_
    refine g_ialoadG hx hb hKn hS h dX1_takes_77 (fun x77 h => ?_)
    refine g_aload_n hx hb hl 3 rfl dX1_takes_78 ?_
    refine g_rdR hx hb hown hts hKn hS h fd_1_1_6 rfl (Or.inl (hts _ q603)) (fun _ z => z) dX1_takes_79 (fun x79 h => ?_)
    refine g_iload_n hx hb hl 5 rfl dX1_takes_82 ?_
    refine g_ialoadG hx hb hKn hS h dX1_takes_83 (fun x83 h => ?_)
    refine g_mmax (rs := [.inl v3, .inr (.inr x68)]) hx hb hml hown hRc hRs hS hl (hts _ q932) (hts _ q283) (hts _ q127) (hts _ q284) (by decide +kernel) rfl (Nat.le_of_ble_eq_true rfl) ⟨by rw [hRf]; exact Nat.le_of_ble_eq_true rfl, by rw [hRl]; exact Nat.le_of_ble_eq_true rfl⟩ dX1_takes_84 (fun cells slots => ?_)
    refine g_iastoreG hx hb hKn hS h dX1_takes_87 (fun G87 h H locs hS => ?_)
    exact sX1_takes_b88 C _ _ _ _ _ _ _ _ _ h _ _ _ _ _ hS (gls_sub hl [3, 4, 5, 6, 2, 1, 0] rfl)
/-- SendHall.move(LSendHall$Life;III)V -/
def fX1_move (E : g_E) (t : Nat) (v1 : Option Nat) (v2 : Int32) (v3 : Int32) (v4 : Int32) (G : g_G) : Option (g_G) :=
  (grR G 3 3 v1 3).bind fun x1 =>
  (gaR G 122 x1 v2).bind fun x5 =>
  (grI G 11 16 x5 0).bind fun x10 =>
  if x10 = 0 then (
    (gcast G 15 15 x5).bind fun x57 =>
    (gchk G 1 (some t)).bind fun b62 =>
    (fX1_sends E b62 v1 v2 x57 v4 G).bind fun z62 =>
    some z62)
  else
  if x10 = 1 then (
    (gcast G 15 15 x5).bind fun x57 =>
    (gchk G 1 (some t)).bind fun b62 =>
    (fX1_sends E b62 v1 v2 x57 v4 G).bind fun z62 =>
    some z62)
  else
  if x10 = 2 then (
    (gcast G 15 15 x5).bind fun x57 =>
    (gchk G 1 (some t)).bind fun b62 =>
    (fX1_sends E b62 v1 v2 x57 v4 G).bind fun z62 =>
    some z62)
  else
  if x10 = 3 then (
    (gcast G 16 16 x5).bind fun x73 =>
    (gchk G 16 x73).bind fun b78 =>
    (fX13_of E b78 v1 v2 G).bind fun z78 =>
    (gchk z78.2 1 (some t)).bind fun b81 =>
    (fX1_takes E b81 v1 v2 z78.1 z78.2).bind fun z81 =>
    some z81)
  else
  if x10 = 4 then (
    (gchk G 1 (some t)).bind fun b91 =>
    (fX1_takes E b91 v1 v2 v3 G).bind fun z91 =>
    some z91)
  else
  if x10 = 5 then (
    (grR G 1 1 (some t) 8).bind fun x100 =>
    (gaI G 100 x100 v2).bind fun x104 =>
    (gchk G 1 (some t)).bind fun b105 =>
    (fX1_clocks E b105 v2 x104 G).bind fun z105 =>
    (grR z105 1 1 (some t) 6).bind fun x109 =>
    (gaI z105 100 x109 v2).bind fun x114 =>
    (gsaI E z105 x109 v2 (x114 + 1)).bind fun G117 =>
    (grR G117 11 16 x5 2).bind fun x123 =>
    (gchk G117 1 (some t)).bind fun b126 =>
    (fX1_goes E b126 v1 v2 x123 G117).bind fun z126 =>
    some z126)
  else
  (
    (grI G 11 16 x5 0).bind fun x136 =>
    (gchk G 1 (some t)).bind fun b139 =>
    (fX1_together E b139 v1 x136 G).bind fun z139 =>
    some z139)
theorem sX1_move (l : Launch) (E : g_E) (D : g_D) {t : Nat} {v1 : Option Nat} {v2 : Int32} {v3 : Int32} {v4 : Int32} {G : g_G} {q : g_G} (h : fX1_move E t v1 v2 v3 v4 G = some q) : gMet l E D yX1_move (ws_ yX1_move cX1_move 6 (none)) 223 7434 [.inr (.inr (some t)), .inr (.inr v1), .inl v2, .inl v3, .inl v4] G none q := by
  refine gMet.of (by decide +kernel) (Nat.le_of_ble_eq_true rfl) ?_
  intro p e R s m args below meth c C hS ls hl
  have C : gC p R s m args meth c cX1_move 6 RX1 "move" (none) 223 7434 E D := C
  obtain ⟨hx, hb, hml, hown, hts, hKn, hRc, hRs, hc1, hc2, hRf, hRl, hr, hlk, hnm⟩ := id C
  have hl : gls ls 6 [(0, .inr (.inr (some t))), (1, .inr (.inr v1)), (2, .inl v2), (3, .inl v3), (4, .inl v4)] := hl
  generalize s.heap = H at hS ⊢
  unfold fX1_move at h
  refine g_aload_n hx hb hl 1 rfl dX1_move_0 ?_
  refine g_rdR hx hb hown hts hKn hS h fd_3_3_3 rfl (Or.inr ⟨_, gNest_use rfl (hKn.2.2.2.2.1 _ (gNest_in q545 rfl))⟩) (fun _ z => z) dX1_move_1 (fun x1 h => ?_)
  refine g_iload_n hx hb hl 2 rfl dX1_move_4 ?_
  refine g_aaloadG hx hb hKn hS h (by decide) dX1_move_5 (fun x5 h => ?_)
  refine g_astore (l1 := [(5, .inr (.inr x5)), (0, .inr (.inr (some t))), (1, .inr (.inr v1)), (2, .inl v2), (3, .inl v3), (4, .inl v4)]) hx hb hl (by decide) rfl dX1_move_6 (fun ls hl => ?_)
  refine g_aload hx hb hl 0 rfl dX1_move_8 ?_
  refine g_rdI hx hb hown hts hKn hS h fd_11_16_0 rfl (Or.inl (hts _ q1422)) (fun _ z => z) dX1_move_10 (fun x10 h => ?_)
  by_cases w13_0 : x10 = 0
  · refine lv_tableIn (tgt := 52) (off := 39) hx hb dX1_move_13 (by rw [w13_0]; decide) (by rw [w13_0]; decide) (by rw [w13_0]; decide) (by decide) ?_
    have h := g_ift w13_0 h
    refine g_aload_n hx hb hl 1 rfl dX1_move_52 ?_
    refine g_aload_n hx hb hl 2 rfl dX1_move_53 ?_
    refine g_iload_n hx hb hl 3 rfl dX1_move_54 ?_
    refine g_aload hx hb hl 0 rfl dX1_move_55 ?_
    refine g_castS (k := 15) hx hb hown hKn hS h (by decide) (by decide) (hts _ q856) dX1_move_57 (fun x57 h => ?_)
    refine g_iload hx hb hl 5 rfl dX1_move_60 ?_
    obtain ⟨b62, hb62, h⟩ := g_bnd h
    obtain ⟨hr62, hk62⟩ := g_chk hb62
    obtain ⟨z62, h62, h⟩ := g_bnd h
    refine g_callV (n := 4) (b := b62) (av := [.inr (.inr v1), .inl v2, .inr (.inr x57), .inl v4]) (rs := []) hx hb hml hown hts hKn hRc hRs hS hl (sX1_sends l E D h62) (lw_V q919 q921 qs14 q113 q922) ⟨rfl, by decide, by decide, by decide +kernel⟩ ⟨by rw [hRf]; exact Nat.le_of_ble_eq_true rfl, by rw [hRl]; exact Nat.le_of_ble_eq_true rfl⟩ (g_recv hKn hS hk62 (by decide) (by decide)) rfl (by rw [hr62]; rfl) (Nat.le_of_ble_eq_true rfl) dX1_move_62 (fun H locs cells slots hS => ?_)
    refine lv_goto (tgt := 142) hx hb dX1_move_65 (by decide) ?_
    exact g_vretG hx hb hr hlk hKn hRc hRs hS h dX1_move_142
  have h := g_iff w13_0 h
  by_cases w13_1 : x10 = 1
  · refine lv_tableIn (tgt := 52) (off := 39) hx hb dX1_move_13 (by rw [w13_1]; decide) (by rw [w13_1]; decide) (by rw [w13_1]; decide) (by decide) ?_
    have h := g_ift w13_1 h
    refine g_aload_n hx hb hl 1 rfl dX1_move_52 ?_
    refine g_aload_n hx hb hl 2 rfl dX1_move_53 ?_
    refine g_iload_n hx hb hl 3 rfl dX1_move_54 ?_
    refine g_aload hx hb hl 0 rfl dX1_move_55 ?_
    refine g_castS (k := 15) hx hb hown hKn hS h (by decide) (by decide) (hts _ q856) dX1_move_57 (fun x57 h => ?_)
    refine g_iload hx hb hl 5 rfl dX1_move_60 ?_
    obtain ⟨b62, hb62, h⟩ := g_bnd h
    obtain ⟨hr62, hk62⟩ := g_chk hb62
    obtain ⟨z62, h62, h⟩ := g_bnd h
    refine g_callV (n := 4) (b := b62) (av := [.inr (.inr v1), .inl v2, .inr (.inr x57), .inl v4]) (rs := []) hx hb hml hown hts hKn hRc hRs hS hl (sX1_sends l E D h62) (lw_V q919 q921 qs14 q113 q922) ⟨rfl, by decide, by decide, by decide +kernel⟩ ⟨by rw [hRf]; exact Nat.le_of_ble_eq_true rfl, by rw [hRl]; exact Nat.le_of_ble_eq_true rfl⟩ (g_recv hKn hS hk62 (by decide) (by decide)) rfl (by rw [hr62]; rfl) (Nat.le_of_ble_eq_true rfl) dX1_move_62 (fun H locs cells slots hS => ?_)
    refine lv_goto (tgt := 142) hx hb dX1_move_65 (by decide) ?_
    exact g_vretG hx hb hr hlk hKn hRc hRs hS h dX1_move_142
  have h := g_iff w13_1 h
  by_cases w13_2 : x10 = 2
  · refine lv_tableIn (tgt := 52) (off := 39) hx hb dX1_move_13 (by rw [w13_2]; decide) (by rw [w13_2]; decide) (by rw [w13_2]; decide) (by decide) ?_
    have h := g_ift w13_2 h
    refine g_aload_n hx hb hl 1 rfl dX1_move_52 ?_
    refine g_aload_n hx hb hl 2 rfl dX1_move_53 ?_
    refine g_iload_n hx hb hl 3 rfl dX1_move_54 ?_
    refine g_aload hx hb hl 0 rfl dX1_move_55 ?_
    refine g_castS (k := 15) hx hb hown hKn hS h (by decide) (by decide) (hts _ q856) dX1_move_57 (fun x57 h => ?_)
    refine g_iload hx hb hl 5 rfl dX1_move_60 ?_
    obtain ⟨b62, hb62, h⟩ := g_bnd h
    obtain ⟨hr62, hk62⟩ := g_chk hb62
    obtain ⟨z62, h62, h⟩ := g_bnd h
    refine g_callV (n := 4) (b := b62) (av := [.inr (.inr v1), .inl v2, .inr (.inr x57), .inl v4]) (rs := []) hx hb hml hown hts hKn hRc hRs hS hl (sX1_sends l E D h62) (lw_V q919 q921 qs14 q113 q922) ⟨rfl, by decide, by decide, by decide +kernel⟩ ⟨by rw [hRf]; exact Nat.le_of_ble_eq_true rfl, by rw [hRl]; exact Nat.le_of_ble_eq_true rfl⟩ (g_recv hKn hS hk62 (by decide) (by decide)) rfl (by rw [hr62]; rfl) (Nat.le_of_ble_eq_true rfl) dX1_move_62 (fun H locs cells slots hS => ?_)
    refine lv_goto (tgt := 142) hx hb dX1_move_65 (by decide) ?_
    exact g_vretG hx hb hr hlk hKn hRc hRs hS h dX1_move_142
  have h := g_iff w13_2 h
  by_cases w13_3 : x10 = 3
  · refine lv_tableIn (tgt := 68) (off := 55) hx hb dX1_move_13 (by rw [w13_3]; decide) (by rw [w13_3]; decide) (by rw [w13_3]; decide) (by decide) ?_
    have h := g_ift w13_3 h
    refine g_aload_n hx hb hl 1 rfl dX1_move_68 ?_
    refine g_aload_n hx hb hl 2 rfl dX1_move_69 ?_
    refine g_iload_n hx hb hl 3 rfl dX1_move_70 ?_
    refine g_aload hx hb hl 0 rfl dX1_move_71 ?_
    refine g_castS (k := 16) hx hb hown hKn hS h (by decide) (by decide) (hts _ q878) dX1_move_73 (fun x73 h => ?_)
    refine g_aload_n hx hb hl 2 rfl dX1_move_76 ?_
    refine g_iload_n hx hb hl 3 rfl dX1_move_77 ?_
    obtain ⟨b78, hb78, h⟩ := g_bnd h
    obtain ⟨hr78, hk78⟩ := g_chk hb78
    obtain ⟨z78, h78, h⟩ := g_bnd h
    refine g_callV (n := 2) (b := b78) (av := [.inr (.inr v1), .inl v2]) (rs := [.inl v2, .inr (.inr v1), .inr (.inr (some t))]) hx hb hml hown hts hKn hRc hRs hS hl (sX13_of l E D h78) (lw_V q890 q827 q828 q148 q829) ⟨rfl, by decide, by decide, by decide +kernel⟩ ⟨by rw [hRf]; exact Nat.le_of_ble_eq_true rfl, by rw [hRl]; exact Nat.le_of_ble_eq_true rfl⟩ (g_recv hKn hS hk78 (by decide) (by decide)) rfl (by rw [hr78]; rfl) (Nat.le_of_ble_eq_true rfl) dX1_move_78 (fun H locs cells slots hS => ?_)
    obtain ⟨b81, hb81, h⟩ := g_bnd h
    obtain ⟨hr81, hk81⟩ := g_chk hb81
    obtain ⟨z81, h81, h⟩ := g_bnd h
    refine g_callV (n := 3) (b := b81) (av := [.inr (.inr v1), .inl v2, .inl z78.1]) (rs := []) hx hb hml hown hts hKn hRc hRs hS hl (sX1_takes l E D h81) (lw_V q941 q943 qs17 q113 q944) ⟨rfl, by decide, by decide, by decide +kernel⟩ ⟨by rw [hRf]; exact Nat.le_of_ble_eq_true rfl, by rw [hRl]; exact Nat.le_of_ble_eq_true rfl⟩ (g_recv hKn hS hk81 (by decide) (by decide)) rfl (by rw [hr81]; rfl) (Nat.le_of_ble_eq_true rfl) dX1_move_81 (fun H locs cells slots hS => ?_)
    refine lv_goto (tgt := 142) hx hb dX1_move_84 (by decide) ?_
    exact g_vretG hx hb hr hlk hKn hRc hRs hS h dX1_move_142
  have h := g_iff w13_3 h
  by_cases w13_4 : x10 = 4
  · refine lv_tableIn (tgt := 87) (off := 74) hx hb dX1_move_13 (by rw [w13_4]; decide) (by rw [w13_4]; decide) (by rw [w13_4]; decide) (by decide) ?_
    have h := g_ift w13_4 h
    refine g_aload_n hx hb hl 1 rfl dX1_move_87 ?_
    refine g_aload_n hx hb hl 2 rfl dX1_move_88 ?_
    refine g_iload_n hx hb hl 3 rfl dX1_move_89 ?_
    refine g_iload_n hx hb hl 4 rfl dX1_move_90 ?_
    obtain ⟨b91, hb91, h⟩ := g_bnd h
    obtain ⟨hr91, hk91⟩ := g_chk hb91
    obtain ⟨z91, h91, h⟩ := g_bnd h
    refine g_callV (n := 3) (b := b91) (av := [.inr (.inr v1), .inl v2, .inl v3]) (rs := []) hx hb hml hown hts hKn hRc hRs hS hl (sX1_takes l E D h91) (lw_V q941 q943 qs17 q113 q944) ⟨rfl, by decide, by decide, by decide +kernel⟩ ⟨by rw [hRf]; exact Nat.le_of_ble_eq_true rfl, by rw [hRl]; exact Nat.le_of_ble_eq_true rfl⟩ (g_recv hKn hS hk91 (by decide) (by decide)) rfl (by rw [hr91]; rfl) (Nat.le_of_ble_eq_true rfl) dX1_move_91 (fun H locs cells slots hS => ?_)
    refine lv_goto (tgt := 142) hx hb dX1_move_94 (by decide) ?_
    exact g_vretG hx hb hr hlk hKn hRc hRs hS h dX1_move_142
  have h := g_iff w13_4 h
  by_cases w13_5 : x10 = 5
  · refine lv_tableIn (tgt := 97) (off := 84) hx hb dX1_move_13 (by rw [w13_5]; decide) (by rw [w13_5]; decide) (by rw [w13_5]; decide) (by decide) ?_
    have h := g_ift w13_5 h
    refine g_aload_n hx hb hl 1 rfl dX1_move_97 ?_
    refine g_iload_n hx hb hl 3 rfl dX1_move_98 ?_
    refine g_aload_n hx hb hl 1 rfl dX1_move_99 ?_
    refine g_rdR hx hb hown hts hKn hS h fd_1_1_8 rfl (Or.inl (hts _ q605)) (fun _ z => z) dX1_move_100 (fun x100 h => ?_)
    refine g_iload_n hx hb hl 3 rfl dX1_move_103 ?_
    refine g_ialoadG hx hb hKn hS h dX1_move_104 (fun x104 h => ?_)
    obtain ⟨b105, hb105, h⟩ := g_bnd h
    obtain ⟨hr105, hk105⟩ := g_chk hb105
    obtain ⟨z105, h105, h⟩ := g_bnd h
    refine g_callV (n := 2) (b := b105) (av := [.inl v2, .inl x104]) (rs := []) hx hb hml hown hts hKn hRc hRs hS hl (sX1_clocks l E D h105) (lw_V q933 q935 qs15 q113 q936) ⟨rfl, by decide, by decide, by decide +kernel⟩ ⟨by rw [hRf]; exact Nat.le_of_ble_eq_true rfl, by rw [hRl]; exact Nat.le_of_ble_eq_true rfl⟩ (g_recv hKn hS hk105 (by decide) (by decide)) rfl (by rw [hr105]; rfl) (Nat.le_of_ble_eq_true rfl) dX1_move_105 (fun H locs cells slots hS => ?_)
    refine g_aload_n hx hb hl 1 rfl dX1_move_108 ?_
    refine g_rdR hx hb hown hts hKn hS h fd_1_1_6 rfl (Or.inl (hts _ q603)) (fun _ z => z) dX1_move_109 (fun x109 h => ?_)
    refine g_iload_n hx hb hl 3 rfl dX1_move_112 ?_
    refine lv_dup2_11 hx hb dX1_move_113 rfl (by first | exact va_rf_cat _ | rfl | exact g_catA _) ?_
    refine g_ialoadG hx hb hKn hS h dX1_move_114 (fun x114 h => ?_)
    refine lv_iconst (v := 1) hx hb dX1_move_115 (by decide) ?_
    refine lv_iadd hx hb dX1_move_116 ?_
    refine g_iastoreG hx hb hKn hS h dX1_move_117 (fun G117 h H locs hS => ?_)
    refine g_aload_n hx hb hl 1 rfl dX1_move_118 ?_
    refine g_aload_n hx hb hl 2 rfl dX1_move_119 ?_
    refine g_iload_n hx hb hl 3 rfl dX1_move_120 ?_
    refine g_aload hx hb hl 0 rfl dX1_move_121 ?_
    refine g_rdR hx hb hown hts hKn hS h fd_11_16_2 rfl (Or.inl (hts _ q1430)) (fun _ z => z) dX1_move_123 (fun x123 h => ?_)
    obtain ⟨b126, hb126, h⟩ := g_bnd h
    obtain ⟨hr126, hk126⟩ := g_chk hb126
    obtain ⟨z126, h126, h⟩ := g_bnd h
    refine g_callV (n := 3) (b := b126) (av := [.inr (.inr v1), .inl v2, .inr (.inr x123)]) (rs := []) hx hb hml hown hts hKn hRc hRs hS hl (sX1_goes l E D h126) (lw_V q732 q734 qs5 q113 q735) ⟨rfl, by decide, by decide, by decide +kernel⟩ ⟨by rw [hRf]; exact Nat.le_of_ble_eq_true rfl, by rw [hRl]; exact Nat.le_of_ble_eq_true rfl⟩ (g_recv hKn hS hk126 (by decide) (by decide)) rfl (by rw [hr126]; rfl) (Nat.le_of_ble_eq_true rfl) dX1_move_126 (fun H locs cells slots hS => ?_)
    refine lv_goto (tgt := 142) hx hb dX1_move_129 (by decide) ?_
    exact g_vretG hx hb hr hlk hKn hRc hRs hS h dX1_move_142
  have h := g_iff w13_5 h
  refine g_tableD (tgt := 132) hx hb dX1_move_13 (by decide) [0, 1, 2, 3, 4, 5] (by decide) (fun k hk => ?_) ?_
  · simp only [List.mem_cons, List.not_mem_nil, or_false] at hk
    rcases hk with rfl | rfl | rfl | rfl | rfl | rfl
    · exact w13_0
    · exact w13_1
    · exact w13_2
    · exact w13_3
    · exact w13_4
    · exact w13_5
  refine g_aload_n hx hb hl 1 rfl dX1_move_132 ?_
  refine g_aload_n hx hb hl 2 rfl dX1_move_133 ?_
  refine g_aload hx hb hl 0 rfl dX1_move_134 ?_
  refine g_rdI hx hb hown hts hKn hS h fd_11_16_0 rfl (Or.inl (hts _ q1422)) (fun _ z => z) dX1_move_136 (fun x136 h => ?_)
  obtain ⟨b139, hb139, h⟩ := g_bnd h
  obtain ⟨hr139, hk139⟩ := g_chk hb139
  obtain ⟨z139, h139, h⟩ := g_bnd h
  refine g_callV (n := 2) (b := b139) (av := [.inr (.inr v1), .inl x136]) (rs := []) hx hb hml hown hts hKn hRc hRs hS hl (sX1_together l E D h139) (lw_V q949 q951 qs18 q113 q952) ⟨rfl, by decide, by decide, by decide +kernel⟩ ⟨by rw [hRf]; exact Nat.le_of_ble_eq_true rfl, by rw [hRl]; exact Nat.le_of_ble_eq_true rfl⟩ (g_recv hKn hS hk139 (by decide) (by decide)) rfl (by rw [hr139]; rfl) (Nat.le_of_ble_eq_true rfl) dX1_move_139 (fun H locs cells slots hS => ?_)
  exact g_vretG hx hb hr hlk hKn hRc hRs hS h dX1_move_142
/-- SendHall.goesOn(LSendHall$Life;II)Z -/
def fX1_goesOn_b146 (E : g_E) (t : Nat) (v1 : Option Nat) (v2 : Int32) (v3 : Int32) (v6 : Int32) (v7 : Int32) (G : g_G) : Option (Int32 × g_G) :=
  (gchk G 1 (some t)).bind fun b152 =>
  (fX1_move E b152 v1 v2 v6 v3 G).bind fun z152 =>
  if v7 = (-1 : Int32) then (
    if (1 : Int32) = 0 ∨ (1 : Int32) = 1 then some (1, z152) else none)
  else (
    (grR z152 1 1 (some t) 22).bind fun x162 =>
    (grI z152 1 1 (some t) 25).bind fun x166 =>
    (gsaI E z152 x162 x166 v7).bind fun G171 =>
    (grI G171 1 1 (some t) 25).bind fun x174 =>
    (gpI E G171 1 1 (some t) 25 (x174 + 1)).bind fun G179 =>
    if (1 : Int32) = 0 ∨ (1 : Int32) = 1 then some (1, G179) else none)
def fX1_goesOn_b76 (E : g_E) (t : Nat) (v1 : Option Nat) (v2 : Int32) (v3 : Int32) (v6 : Int32) (G : g_G) : Option (Int32 × g_G) :=
  fX1_goesOn_b146 E t v1 v2 v3 v6 v6 G
def fX1_goesOn_b63 (E : g_E) (t : Nat) (v1 : Option Nat) (v2 : Int32) (v3 : Int32) (v4 : Int32) (v6 : Int32) (G : g_G) : Option (Int32 × g_G) :=
  if ¬ v6 = (-1 : Int32) then (
    fX1_goesOn_b76 E t v1 v2 v3 v6 G)
  else (
    (fJ16_numberOfTrailingZeros E v4 G).bind fun z71 =>
    fX1_goesOn_b76 E t v1 v2 v3 z71.1 z71.2)
def fX1_goesOn_b143 (E : g_E) (t : Nat) (v1 : Option Nat) (v2 : Int32) (v3 : Int32) (v6 : Int32) (G : g_G) : Option (Int32 × g_G) :=
  fX1_goesOn_b146 E t v1 v2 v3 v6 v2 G
def fX1_goesOn (E : g_E) (t : Nat) (v1 : Option Nat) (v2 : Int32) (v3 : Int32) (G : g_G) : Option (Int32 × g_G) :=
  (gchk G 1 (some t)).bind fun b4 =>
  (fX1_moves E b4 v1 v2 v3 G).bind fun z4 =>
  if ¬ z4.1 = 0 then (
    (grR z4.2 3 3 v1 3).bind fun x17 =>
    (gaR z4.2 122 x17 v2).bind fun x21 =>
    (grI z4.2 11 16 x21 0).bind fun x22 =>
    if ¬ x22 = (4 : Int32) then (
      if (2 : Int32) < x22 then (
        fX1_goesOn_b146 E t v1 v2 v3 v2 (-1) z4.2)
      else (
        (gchk z4.2 1 (some t)).bind fun b93 =>
        (fX1_mayLie E b93 v1 v2 v3 z4.2).bind fun z93 =>
        if ¬ z93.1 = 0 then (
          fX1_goesOn_b146 E t v1 v2 v3 v2 (-1) z93.2)
        else (
          (grR z93.2 3 3 v1 3).bind fun x100 =>
          (grR z93.2 3 3 v1 3).bind fun x104 =>
          (gaR z93.2 122 x104 v2).bind fun x108 =>
          (gcast z93.2 15 15 x108).bind fun x109 =>
          (gchk z93.2 15 x109).bind fun b114 =>
          (fX9_to E b114 v1 v2 z93.2).bind fun z114 =>
          (gaR z114.2 122 x100 z114.1).bind fun x117 =>
          (grI z114.2 11 16 x117 0).bind fun x118 =>
          if ¬ x118 = (4 : Int32) then (
            fX1_goesOn_b146 E t v1 v2 v3 v2 (-1) z114.2)
          else (
            (gchk z114.2 1 (some t)).bind fun b126 =>
            (fX1_nextChoice E b126 z114.2).bind fun z126 =>
            if z126.1 = (-1 : Int32) then (
              fX1_goesOn_b143 E t v1 v2 v3 v2 z126.2)
            else (
              (gchk z126.2 1 (some t)).bind fun b134 =>
              (fX1_nextChoice E b134 z126.2).bind fun z134 =>
              if z134.1 = v2 then (
                fX1_goesOn_b143 E t v1 v2 v3 v2 z134.2)
              else (
                if (0 : Int32) = 0 ∨ (0 : Int32) = 1 then some (0, z134.2) else none))))))
    else (
      (gchk z4.2 1 (some t)).bind fun b40 =>
      (fX1_nextChoice E b40 z4.2).bind fun z40 =>
      if z40.1 = (-1 : Int32) then (
        fX1_goesOn_b63 E t v1 v2 v3 z4.1 z40.1 z40.2)
      else (
        if ¬ ((z4.1 >>> (z40.1 &&& 31)) &&& 1) = 0 then (
          fX1_goesOn_b63 E t v1 v2 v3 z4.1 z40.1 z40.2)
        else (
          if (0 : Int32) = 0 ∨ (0 : Int32) = 1 then some (0, z40.2) else none))))
  else (
    if (0 : Int32) = 0 ∨ (0 : Int32) = 1 then some (0, z4.2) else none)
theorem sX1_goesOn_b146 {p : Program} {l : Launch} {e : Env} {R : Room} {s : State} {m : MethodId} {args : Array Value} {below : List Frame} {meth : Method} {c : Code} {E : g_E} {D : g_D} (C : gC p R s m args meth c cX1_goesOn 8 RX1 "goesOn" (some .boolean) 224 7459 E D) : ∀ (t : Nat) (v1 : Option Nat) (v2 : Int32) (v3 : Int32) (v6 : Int32) (v7 : Int32) (G : g_G) (q : Int32 × g_G), fX1_goesOn_b146 E t v1 v2 v3 v6 v7 G = some q → ∀ (H : Heap) (locs : List Loc) (cells slots : Nat) (ls : Array Slot), gSt E D G H locs → gls ls 8 [(0, .inr (.inr (some t))), (1, .inr (.inr v1)), (2, .inl v2), (3, .inl v3), (6, .inl v6), (7, .inl v7)] → gT p l e R s m args below meth c E D H locs cells slots (some (.int q.1)) q.2 (F0 m 146 ls []) := by
  obtain ⟨hx, hb, hml, hown, hts, hKn, hRc, hRs, hc1, hc2, hRf, hRl, hr, hlk, hnm⟩ := id C
  intro t v1 v2 v3 v6 v7 G q h H locs cells slots ls hS hl
  unfold fX1_goesOn_b146 at h
  refine g_aload_n hx hb hl 0 rfl dX1_goesOn_146 ?_
  refine g_aload_n hx hb hl 1 rfl dX1_goesOn_147 ?_
  refine g_iload_n hx hb hl 2 rfl dX1_goesOn_148 ?_
  refine g_iload hx hb hl 4 rfl dX1_goesOn_149 ?_
  refine g_iload_n hx hb hl 3 rfl dX1_goesOn_151 ?_
  obtain ⟨b152, hb152, h⟩ := g_bnd h
  obtain ⟨hr152, hk152⟩ := g_chk hb152
  obtain ⟨z152, h152, h⟩ := g_bnd h
  refine g_callV (n := 4) (b := b152) (av := [.inr (.inr v1), .inl v2, .inl v6, .inl v3]) (rs := []) hx hb hml hown hts hKn hRc hRs hS hl (sX1_move l E D h152) (lw_V q915 q917 qs13 q113 q918) ⟨rfl, by decide, by decide, by decide +kernel⟩ ⟨by rw [hRf]; exact Nat.le_of_ble_eq_true rfl, by rw [hRl]; exact Nat.le_of_ble_eq_true rfl⟩ (g_recv hKn hS hk152 (by decide) (by decide)) rfl (by rw [hr152]; rfl) (Nat.le_of_ble_eq_true rfl) dX1_goesOn_152 (fun H locs cells slots hS => ?_)
  refine g_iload hx hb hl 5 rfl dX1_goesOn_155 ?_
  refine lv_iconst (v := (-1)) hx hb dX1_goesOn_157 (by decide) ?_
  refine lv_icmp_eq (tgt := 182) hx hb dX1_goesOn_158 (by decide) (fun c_158 => ?_) (fun c_158 => ?_)
  · have h := g_ift c_158 h
    refine lv_iconst (v := 1) hx hb dX1_goesOn_182 (by decide) ?_
    exact g_zretG hx hb hr hlk hKn hRc hRs hS h dX1_goesOn_183
  · have h := g_iff c_158 h
    refine g_aload_n hx hb hl 0 rfl dX1_goesOn_161 ?_
    refine g_rdR hx hb hown hts hKn hS h fd_1_1_22 rfl (Or.inl (hts _ q619)) (fun _ z => z) dX1_goesOn_162 (fun x162 h => ?_)
    refine g_aload_n hx hb hl 0 rfl dX1_goesOn_165 ?_
    refine g_rdI hx hb hown hts hKn hS h fd_1_1_25 rfl (Or.inl (hts _ q622)) (fun _ z => z) dX1_goesOn_166 (fun x166 h => ?_)
    refine g_iload hx hb hl 5 rfl dX1_goesOn_169 ?_
    refine g_iastoreG hx hb hKn hS h dX1_goesOn_171 (fun G171 h H locs hS => ?_)
    refine g_aload_n hx hb hl 0 rfl dX1_goesOn_172 ?_
    refine lv_dup hx hb dX1_goesOn_173 (by first | exact va_rf_cat _ | rfl | exact g_catA _) ?_
    refine g_rdI hx hb hown hts hKn hS h fd_1_1_25 rfl (Or.inl (hts _ q622)) (fun _ z => z) dX1_goesOn_174 (fun x174 h => ?_)
    refine lv_iconst (v := 1) hx hb dX1_goesOn_177 (by decide) ?_
    refine lv_iadd hx hb dX1_goesOn_178 ?_
    refine g_ptI hx hb hown hts hKn hS h fd_1_1_25 (Or.inl (hts _ q622)) (fun _ z => z) (fun z => nomatch z) dX1_goesOn_179 (fun G179 h H locs hS => ?_)
    refine lv_iconst (v := 1) hx hb dX1_goesOn_182 (by decide) ?_
    exact g_zretG hx hb hr hlk hKn hRc hRs hS h dX1_goesOn_183
theorem sX1_goesOn_b76 {p : Program} {l : Launch} {e : Env} {R : Room} {s : State} {m : MethodId} {args : Array Value} {below : List Frame} {meth : Method} {c : Code} {E : g_E} {D : g_D} (C : gC p R s m args meth c cX1_goesOn 8 RX1 "goesOn" (some .boolean) 224 7459 E D) : ∀ (t : Nat) (v1 : Option Nat) (v2 : Int32) (v3 : Int32) (v6 : Int32) (G : g_G) (q : Int32 × g_G), fX1_goesOn_b76 E t v1 v2 v3 v6 G = some q → ∀ (H : Heap) (locs : List Loc) (cells slots : Nat) (ls : Array Slot), gSt E D G H locs → gls ls 8 [(0, .inr (.inr (some t))), (1, .inr (.inr v1)), (2, .inl v2), (3, .inl v3), (6, .inl v6)] → gT p l e R s m args below meth c E D H locs cells slots (some (.int q.1)) q.2 (F0 m 76 ls []) := by
  obtain ⟨hx, hb, hml, hown, hts, hKn, hRc, hRs, hc1, hc2, hRf, hRl, hr, hlk, hnm⟩ := id C
  intro t v1 v2 v3 v6 G q h H locs cells slots ls hS hl
  unfold fX1_goesOn_b76 at h
  refine g_iload hx hb hl 4 rfl dX1_goesOn_76 ?_
  refine g_istore (l1 := [(7, .inl v6), (0, .inr (.inr (some t))), (1, .inr (.inr v1)), (2, .inl v2), (3, .inl v3), (6, .inl v6)]) hx hb hl (by decide) rfl dX1_goesOn_78 (fun ls hl => ?_)
  refine lv_goto (tgt := 146) hx hb dX1_goesOn_80 (by decide) ?_
  exact sX1_goesOn_b146 C _ _ _ _ _ _ _ _ h _ _ _ _ _ hS (gls_sub hl [1, 2, 3, 4, 5, 0] rfl)
theorem sX1_goesOn_b63 {p : Program} {l : Launch} {e : Env} {R : Room} {s : State} {m : MethodId} {args : Array Value} {below : List Frame} {meth : Method} {c : Code} {E : g_E} {D : g_D} (C : gC p R s m args meth c cX1_goesOn 8 RX1 "goesOn" (some .boolean) 224 7459 E D) : ∀ (t : Nat) (v1 : Option Nat) (v2 : Int32) (v3 : Int32) (v4 : Int32) (v6 : Int32) (G : g_G) (q : Int32 × g_G), fX1_goesOn_b63 E t v1 v2 v3 v4 v6 G = some q → ∀ (H : Heap) (locs : List Loc) (cells slots : Nat) (ls : Array Slot), gSt E D G H locs → gls ls 8 [(0, .inr (.inr (some t))), (1, .inr (.inr v1)), (2, .inl v2), (3, .inl v3), (4, .inl v4), (6, .inl v6)] → gT p l e R s m args below meth c E D H locs cells slots (some (.int q.1)) q.2 (F0 m 63 ls []) := by
  obtain ⟨hx, hb, hml, hown, hts, hKn, hRc, hRs, hc1, hc2, hRf, hRl, hr, hlk, hnm⟩ := id C
  intro t v1 v2 v3 v4 v6 G q h H locs cells slots ls hS hl
  unfold fX1_goesOn_b63 at h
  refine g_iload hx hb hl 5 rfl dX1_goesOn_63 ?_
  refine lv_iconst (v := (-1)) hx hb dX1_goesOn_65 (by decide) ?_
  refine lv_icmp_ne (tgt := 76) hx hb dX1_goesOn_66 (by decide) (fun c_66 => ?_) (fun c_66 => ?_)
  · have h := g_ift c_66 h
    exact sX1_goesOn_b76 C _ _ _ _ _ _ _ h _ _ _ _ _ hS (gls_sub hl [0, 1, 2, 3, 5] rfl)
  · have h := g_iff (fun z => z c_66) h
    refine g_iload hx hb hl 4 rfl dX1_goesOn_69 ?_
    obtain ⟨z71, h71, h⟩ := g_bnd h
    refine g_callS (n := 1) (av := [.inl v4]) (rs := []) hx hb hml hown hts hKn hRc hRs hS hl (sJ16_numberOfTrailingZeros l E D h71) (lw_S q1798 q1799 q133 q1800) ⟨by decide, by decide, by decide +kernel⟩ ⟨by rw [hRf]; exact Nat.le_of_ble_eq_true rfl, by rw [hRl]; exact Nat.le_of_ble_eq_true rfl⟩ rfl rfl (Nat.le_of_ble_eq_true rfl) dX1_goesOn_71 (fun H locs cells slots hS => ?_)
    refine g_istore (l1 := [(6, .inl z71.1), (0, .inr (.inr (some t))), (1, .inr (.inr v1)), (2, .inl v2), (3, .inl v3), (4, .inl v4)]) hx hb hl (by decide) rfl dX1_goesOn_74 (fun ls hl => ?_)
    exact sX1_goesOn_b76 C _ _ _ _ _ _ _ h _ _ _ _ _ hS (gls_sub hl [1, 2, 3, 4, 0] rfl)
theorem sX1_goesOn_b143 {p : Program} {l : Launch} {e : Env} {R : Room} {s : State} {m : MethodId} {args : Array Value} {below : List Frame} {meth : Method} {c : Code} {E : g_E} {D : g_D} (C : gC p R s m args meth c cX1_goesOn 8 RX1 "goesOn" (some .boolean) 224 7459 E D) : ∀ (t : Nat) (v1 : Option Nat) (v2 : Int32) (v3 : Int32) (v6 : Int32) (G : g_G) (q : Int32 × g_G), fX1_goesOn_b143 E t v1 v2 v3 v6 G = some q → ∀ (H : Heap) (locs : List Loc) (cells slots : Nat) (ls : Array Slot), gSt E D G H locs → gls ls 8 [(0, .inr (.inr (some t))), (1, .inr (.inr v1)), (2, .inl v2), (3, .inl v3), (6, .inl v6)] → gT p l e R s m args below meth c E D H locs cells slots (some (.int q.1)) q.2 (F0 m 143 ls []) := by
  obtain ⟨hx, hb, hml, hown, hts, hKn, hRc, hRs, hc1, hc2, hRf, hRl, hr, hlk, hnm⟩ := id C
  intro t v1 v2 v3 v6 G q h H locs cells slots ls hS hl
  unfold fX1_goesOn_b143 at h
  refine g_iload_n hx hb hl 2 rfl dX1_goesOn_143 ?_
  refine g_istore (l1 := [(7, .inl v2), (0, .inr (.inr (some t))), (1, .inr (.inr v1)), (2, .inl v2), (3, .inl v3), (6, .inl v6)]) hx hb hl (by decide) rfl dX1_goesOn_144 (fun ls hl => ?_)
  exact sX1_goesOn_b146 C _ _ _ _ _ _ _ _ h _ _ _ _ _ hS (gls_sub hl [1, 2, 3, 4, 5, 0] rfl)
theorem sX1_goesOn (l : Launch) (E : g_E) (D : g_D) {t : Nat} {v1 : Option Nat} {v2 : Int32} {v3 : Int32} {G : g_G} {q : Int32 × g_G} (h : fX1_goesOn E t v1 v2 v3 G = some q) : gMet l E D yX1_goesOn (ws_ yX1_goesOn cX1_goesOn 8 (some .boolean)) 224 7459 [.inr (.inr (some t)), .inr (.inr v1), .inl v2, .inl v3] G (some (.int q.1)) q.2 := by
  refine gMet.of (by decide +kernel) (Nat.le_of_ble_eq_true rfl) ?_
  intro p e R s m args below meth c C hS ls hl
  have C : gC p R s m args meth c cX1_goesOn 8 RX1 "goesOn" (some .boolean) 224 7459 E D := C
  obtain ⟨hx, hb, hml, hown, hts, hKn, hRc, hRs, hc1, hc2, hRf, hRl, hr, hlk, hnm⟩ := id C
  have hl : gls ls 8 [(0, .inr (.inr (some t))), (1, .inr (.inr v1)), (2, .inl v2), (3, .inl v3)] := hl
  generalize s.heap = H at hS ⊢
  unfold fX1_goesOn at h
  refine g_aload_n hx hb hl 0 rfl dX1_goesOn_0 ?_
  refine g_aload_n hx hb hl 1 rfl dX1_goesOn_1 ?_
  refine g_iload_n hx hb hl 2 rfl dX1_goesOn_2 ?_
  refine g_iload_n hx hb hl 3 rfl dX1_goesOn_3 ?_
  obtain ⟨b4, hb4, h⟩ := g_bnd h
  obtain ⟨hr4, hk4⟩ := g_chk hb4
  obtain ⟨z4, h4, h⟩ := g_bnd h
  refine g_callV (n := 3) (b := b4) (av := [.inr (.inr v1), .inl v2, .inl v3]) (rs := []) hx hb hml hown hts hKn hRc hRs hS hl (sX1_moves l E D h4) (lw_V q844 q846 qs6 q113 q847) ⟨rfl, by decide, by decide, by decide +kernel⟩ ⟨by rw [hRf]; exact Nat.le_of_ble_eq_true rfl, by rw [hRl]; exact Nat.le_of_ble_eq_true rfl⟩ (g_recv hKn hS hk4 (by decide) (by decide)) rfl (by rw [hr4]; rfl) (Nat.le_of_ble_eq_true rfl) dX1_goesOn_4 (fun H locs cells slots hS => ?_)
  refine g_istore (l1 := [(4, .inl z4.1), (0, .inr (.inr (some t))), (1, .inr (.inr v1)), (2, .inl v2), (3, .inl v3)]) hx hb hl (by decide) rfl dX1_goesOn_7 (fun ls hl => ?_)
  refine g_iload hx hb hl 0 rfl dX1_goesOn_9 ?_
  refine lv_if_ne (tgt := 16) hx hb dX1_goesOn_11 (by decide) (fun c_11 => ?_) (fun c_11 => ?_)
  · have h := g_ift c_11 h
    refine g_aload_n hx hb hl 2 rfl dX1_goesOn_16 ?_
    refine g_rdR hx hb hown hts hKn hS h fd_3_3_3 rfl (Or.inr ⟨_, gNest_use rfl (hKn.2.2.2.2.1 _ (gNest_in q545 rfl))⟩) (fun _ z => z) dX1_goesOn_17 (fun x17 h => ?_)
    refine g_iload_n hx hb hl 3 rfl dX1_goesOn_20 ?_
    refine g_aaloadG hx hb hKn hS h (by decide) dX1_goesOn_21 (fun x21 h => ?_)
    refine g_rdI hx hb hown hts hKn hS h fd_11_16_0 rfl (Or.inl (hts _ q1422)) (fun _ z => z) dX1_goesOn_22 (fun x22 h => ?_)
    refine g_istore (l1 := [(5, .inl x22), (4, .inl z4.1), (0, .inr (.inr (some t))), (1, .inr (.inr v1)), (2, .inl v2), (3, .inl v3)]) hx hb hl (by decide) rfl dX1_goesOn_25 (fun ls hl => ?_)
    refine g_iload_n hx hb hl 4 rfl dX1_goesOn_27 ?_
    refine g_istore (l1 := [(6, .inl v2), (5, .inl x22), (4, .inl z4.1), (0, .inr (.inr (some t))), (1, .inr (.inr v1)), (2, .inl v2), (3, .inl v3)]) hx hb hl (by decide) rfl dX1_goesOn_28 (fun ls hl => ?_)
    refine lv_iconst (v := (-1)) hx hb dX1_goesOn_30 (by decide) ?_
    refine g_istore (l1 := [(7, .inl (-1)), (6, .inl v2), (5, .inl x22), (4, .inl z4.1), (0, .inr (.inr (some t))), (1, .inr (.inr v1)), (2, .inl v2), (3, .inl v3)]) hx hb hl (by decide) rfl dX1_goesOn_31 (fun ls hl => ?_)
    refine g_iload hx hb hl 2 rfl dX1_goesOn_33 ?_
    refine lv_iconst (v := 4) hx hb dX1_goesOn_35 (by decide) ?_
    refine lv_icmp_ne (tgt := 83) hx hb dX1_goesOn_36 (by decide) (fun c_36 => ?_) (fun c_36 => ?_)
    · have h := g_ift c_36 h
      refine g_iload hx hb hl 2 rfl dX1_goesOn_83 ?_
      refine lv_iconst (v := 2) hx hb dX1_goesOn_85 (by decide) ?_
      refine lv_icmp_gt (tgt := 146) hx hb dX1_goesOn_86 (by decide) (fun c_86 => ?_) (fun c_86 => ?_)
      · have h := g_ift c_86 h
        exact sX1_goesOn_b146 C _ _ _ _ _ _ _ _ h _ _ _ _ _ hS (gls_sub hl [4, 5, 6, 7, 1, 0] rfl)
      · have h := g_iff c_86 h
        refine g_aload_n hx hb hl 4 rfl dX1_goesOn_89 ?_
        refine g_aload_n hx hb hl 5 rfl dX1_goesOn_90 ?_
        refine g_iload_n hx hb hl 6 rfl dX1_goesOn_91 ?_
        refine g_iload_n hx hb hl 7 rfl dX1_goesOn_92 ?_
        obtain ⟨b93, hb93, h⟩ := g_bnd h
        obtain ⟨hr93, hk93⟩ := g_chk hb93
        obtain ⟨z93, h93, h⟩ := g_bnd h
        refine g_callV (n := 3) (b := b93) (av := [.inr (.inr v1), .inl v2, .inl v3]) (rs := []) hx hb hml hown hts hKn hRc hRs hS hl (sX1_mayLie l E D h93) (lw_V q852 q854 qs7 q113 q855) ⟨rfl, by decide, by decide, by decide +kernel⟩ ⟨by rw [hRf]; exact Nat.le_of_ble_eq_true rfl, by rw [hRl]; exact Nat.le_of_ble_eq_true rfl⟩ (g_recv hKn hS hk93 (by decide) (by decide)) rfl (by rw [hr93]; rfl) (Nat.le_of_ble_eq_true rfl) dX1_goesOn_93 (fun H locs cells slots hS => ?_)
        refine lv_if_ne (tgt := 146) hx hb dX1_goesOn_96 (by decide) (fun c_96 => ?_) (fun c_96 => ?_)
        · have h := g_ift c_96 h
          exact sX1_goesOn_b146 C _ _ _ _ _ _ _ _ h _ _ _ _ _ hS (gls_sub hl [4, 5, 6, 7, 1, 0] rfl)
        · have h := g_iff (fun z => z c_96) h
          refine g_aload_n hx hb hl 5 rfl dX1_goesOn_99 ?_
          refine g_rdR hx hb hown hts hKn hS h fd_3_3_3 rfl (Or.inr ⟨_, gNest_use rfl (hKn.2.2.2.2.1 _ (gNest_in q545 rfl))⟩) (fun _ z => z) dX1_goesOn_100 (fun x100 h => ?_)
          refine g_aload_n hx hb hl 5 rfl dX1_goesOn_103 ?_
          refine g_rdR hx hb hown hts hKn hS h fd_3_3_3 rfl (Or.inr ⟨_, gNest_use rfl (hKn.2.2.2.2.1 _ (gNest_in q545 rfl))⟩) (fun _ z => z) dX1_goesOn_104 (fun x104 h => ?_)
          refine g_iload_n hx hb hl 6 rfl dX1_goesOn_107 ?_
          refine g_aaloadG hx hb hKn hS h (by decide) dX1_goesOn_108 (fun x108 h => ?_)
          refine g_castS (k := 15) hx hb hown hKn hS h (by decide) (by decide) (hts _ q856) dX1_goesOn_109 (fun x109 h => ?_)
          refine g_aload_n hx hb hl 5 rfl dX1_goesOn_112 ?_
          refine g_iload_n hx hb hl 6 rfl dX1_goesOn_113 ?_
          obtain ⟨b114, hb114, h⟩ := g_bnd h
          obtain ⟨hr114, hk114⟩ := g_chk hb114
          obtain ⟨z114, h114, h⟩ := g_bnd h
          refine g_callV (n := 2) (b := b114) (av := [.inr (.inr v1), .inl v2]) (rs := [.inr (.inr x100)]) hx hb hml hown hts hKn hRc hRs hS hl (sX9_to l E D h114) (lw_V q857 q798 q799 q143 q800) ⟨rfl, by decide, by decide, by decide +kernel⟩ ⟨by rw [hRf]; exact Nat.le_of_ble_eq_true rfl, by rw [hRl]; exact Nat.le_of_ble_eq_true rfl⟩ (g_recv hKn hS hk114 (by decide) (by decide)) rfl (by rw [hr114]; rfl) (Nat.le_of_ble_eq_true rfl) dX1_goesOn_114 (fun H locs cells slots hS => ?_)
          refine g_aaloadG hx hb hKn hS h (by decide) dX1_goesOn_117 (fun x117 h => ?_)
          refine g_rdI hx hb hown hts hKn hS h fd_11_16_0 rfl (Or.inl (hts _ q1422)) (fun _ z => z) dX1_goesOn_118 (fun x118 h => ?_)
          refine lv_iconst (v := 4) hx hb dX1_goesOn_121 (by decide) ?_
          refine lv_icmp_ne (tgt := 146) hx hb dX1_goesOn_122 (by decide) (fun c_122 => ?_) (fun c_122 => ?_)
          · have h := g_ift c_122 h
            exact sX1_goesOn_b146 C _ _ _ _ _ _ _ _ h _ _ _ _ _ hS (gls_sub hl [4, 5, 6, 7, 1, 0] rfl)
          · have h := g_iff (fun z => z c_122) h
            refine g_aload_n hx hb hl 4 rfl dX1_goesOn_125 ?_
            obtain ⟨b126, hb126, h⟩ := g_bnd h
            obtain ⟨hr126, hk126⟩ := g_chk hb126
            obtain ⟨z126, h126, h⟩ := g_bnd h
            refine g_callV (n := 0) (b := b126) (av := []) (rs := []) hx hb hml hown hts hKn hRc hRs hS hl (sX1_nextChoice l E D h126) (lw_V q1794 q1796 qs45 q113 q1797) ⟨rfl, by decide, by decide, by decide +kernel⟩ ⟨by rw [hRf]; exact Nat.le_of_ble_eq_true rfl, by rw [hRl]; exact Nat.le_of_ble_eq_true rfl⟩ (g_recv hKn hS hk126 (by decide) (by decide)) rfl (by rw [hr126]; rfl) (Nat.le_of_ble_eq_true rfl) dX1_goesOn_126 (fun H locs cells slots hS => ?_)
            refine lv_iconst (v := (-1)) hx hb dX1_goesOn_129 (by decide) ?_
            refine lv_icmp_eq (tgt := 143) hx hb dX1_goesOn_130 (by decide) (fun c_130 => ?_) (fun c_130 => ?_)
            · have h := g_ift c_130 h
              exact sX1_goesOn_b143 C _ _ _ _ _ _ _ h _ _ _ _ _ hS (gls_sub hl [4, 5, 6, 7, 1] rfl)
            · have h := g_iff c_130 h
              refine g_aload_n hx hb hl 4 rfl dX1_goesOn_133 ?_
              obtain ⟨b134, hb134, h⟩ := g_bnd h
              obtain ⟨hr134, hk134⟩ := g_chk hb134
              obtain ⟨z134, h134, h⟩ := g_bnd h
              refine g_callV (n := 0) (b := b134) (av := []) (rs := []) hx hb hml hown hts hKn hRc hRs hS hl (sX1_nextChoice l E D h134) (lw_V q1794 q1796 qs45 q113 q1797) ⟨rfl, by decide, by decide, by decide +kernel⟩ ⟨by rw [hRf]; exact Nat.le_of_ble_eq_true rfl, by rw [hRl]; exact Nat.le_of_ble_eq_true rfl⟩ (g_recv hKn hS hk134 (by decide) (by decide)) rfl (by rw [hr134]; rfl) (Nat.le_of_ble_eq_true rfl) dX1_goesOn_134 (fun H locs cells slots hS => ?_)
              refine g_iload_n hx hb hl 6 rfl dX1_goesOn_137 ?_
              refine lv_icmp_eq (tgt := 143) hx hb dX1_goesOn_138 (by decide) (fun c_138 => ?_) (fun c_138 => ?_)
              · have h := g_ift c_138 h
                exact sX1_goesOn_b143 C _ _ _ _ _ _ _ h _ _ _ _ _ hS (gls_sub hl [4, 5, 6, 7, 1] rfl)
              · have h := g_iff c_138 h
                refine lv_iconst (v := 0) hx hb dX1_goesOn_141 (by decide) ?_
                exact g_zretG hx hb hr hlk hKn hRc hRs hS h dX1_goesOn_142
    · have h := g_iff (fun z => z c_36) h
      refine g_aload_n hx hb hl 4 rfl dX1_goesOn_39 ?_
      obtain ⟨b40, hb40, h⟩ := g_bnd h
      obtain ⟨hr40, hk40⟩ := g_chk hb40
      obtain ⟨z40, h40, h⟩ := g_bnd h
      refine g_callV (n := 0) (b := b40) (av := []) (rs := []) hx hb hml hown hts hKn hRc hRs hS hl (sX1_nextChoice l E D h40) (lw_V q1794 q1796 qs45 q113 q1797) ⟨rfl, by decide, by decide, by decide +kernel⟩ ⟨by rw [hRf]; exact Nat.le_of_ble_eq_true rfl, by rw [hRl]; exact Nat.le_of_ble_eq_true rfl⟩ (g_recv hKn hS hk40 (by decide) (by decide)) rfl (by rw [hr40]; rfl) (Nat.le_of_ble_eq_true rfl) dX1_goesOn_40 (fun H locs cells slots hS => ?_)
      refine g_istore (l1 := [(6, .inl z40.1), (7, .inl (-1)), (5, .inl x22), (4, .inl z4.1), (0, .inr (.inr (some t))), (1, .inr (.inr v1)), (2, .inl v2), (3, .inl v3)]) hx hb hl (by decide) rfl dX1_goesOn_43 (fun ls hl => ?_)
      refine g_iload hx hb hl 0 rfl dX1_goesOn_45 ?_
      refine lv_iconst (v := (-1)) hx hb dX1_goesOn_47 (by decide) ?_
      refine lv_icmp_eq (tgt := 63) hx hb dX1_goesOn_48 (by decide) (fun c_48 => ?_) (fun c_48 => ?_)
      · have h := g_ift c_48 h
        exact sX1_goesOn_b63 C _ _ _ _ _ _ _ _ h _ _ _ _ _ hS (gls_sub hl [4, 5, 6, 7, 3, 0] rfl)
      · have h := g_iff c_48 h
        refine g_iload hx hb hl 3 rfl dX1_goesOn_51 ?_
        refine g_iload hx hb hl 0 rfl dX1_goesOn_53 ?_
        refine lv_ishr hx hb dX1_goesOn_55 ?_
        refine lv_iconst (v := 1) hx hb dX1_goesOn_56 (by decide) ?_
        refine lv_iand hx hb dX1_goesOn_57 ?_
        refine lv_if_ne (tgt := 63) hx hb dX1_goesOn_58 (by decide) (fun c_58 => ?_) (fun c_58 => ?_)
        · have h := g_ift c_58 h
          exact sX1_goesOn_b63 C _ _ _ _ _ _ _ _ h _ _ _ _ _ hS (gls_sub hl [4, 5, 6, 7, 3, 0] rfl)
        · have h := g_iff (fun z => z c_58) h
          refine lv_iconst (v := 0) hx hb dX1_goesOn_61 (by decide) ?_
          exact g_zretG hx hb hr hlk hKn hRc hRs hS h dX1_goesOn_62
  · have h := g_iff (fun z => z c_11) h
    refine lv_iconst (v := 0) hx hb dX1_goesOn_14 (by decide) ?_
    exact g_zretG hx hb hr hlk hKn hRc hRs hS h dX1_goesOn_15
/-- SendHall.plays(LSendHall$Life;II)V -/
def fX1_plays_b92 (E : g_E) (k54 : Nat → (Option Nat) → Int32 → Int32 → Int32 → g_G → Option (g_G)) (t : Nat) (v1 : Option Nat) (v2 : Int32) (v3 : Int32) (v4 : Int32) (G : g_G) : Option (g_G) :=
  k54 t v1 v2 v3 v4 G
def fX1_plays_b65 (E : g_E) (k54 : Nat → (Option Nat) → Int32 → Int32 → Int32 → g_G → Option (g_G)) : Nat → Nat → (Option Nat) → Int32 → Int32 → Int32 → Int32 → g_G → Option (g_G)
  | 0, _, _, _, _, _, _, _ => none
  | n + 1, t, v1, v2, v3, v4, v5, G =>
    if v2 ≤ v5 then (
      fX1_plays_b92 E k54 t v1 v2 v3 v4 G)
    else (
      if ¬ v4 = 0 then (
        fX1_plays_b92 E k54 t v1 v2 v3 v4 G)
      else (
        (gchk G 1 (some t)).bind fun b81 =>
        (fX1_goesOn E b81 v1 v5 v3 G).bind fun z81 =>
        fX1_plays_b65 E k54 n t v1 v2 v3 z81.1 (v5 + 1) z81.2))
def fX1_plays_b54 (E : g_E) : Nat → Nat → (Option Nat) → Int32 → Int32 → Int32 → g_G → Option (g_G)
  | 0, _, _, _, _, _, _ => none
  | n + 1, t, v1, v2, v3, v4, G =>
    if v4 = 0 then (
      some G)
    else (
      fX1_plays_b65 E (fX1_plays_b54 E n) gFU t v1 v2 v3 0 0 G)
def fX1_plays_b8 (E : g_E) : Nat → Nat → (Option Nat) → Int32 → Int32 → Int32 → g_G → Option (g_G)
  | 0, _, _, _, _, _, _ => none
  | n + 1, t, v1, v2, v3, v4, G =>
    if (8 : Int32) ≤ v4 then (
      (gchk G 1 (some t)).bind fun b48 =>
      (fX1_begins E b48 v1 v2 G).bind fun z48 =>
      fX1_plays_b54 E gFU t v1 v2 v3 1 z48)
    else (
      (grR G 1 1 (some t) 6).bind fun x16 =>
      (gsaI E G x16 v4 0).bind fun G22 =>
      (grR G22 1 1 (some t) 7).bind fun x24 =>
      (gsaI E G22 x24 v4 0).bind fun G30 =>
      (grR G30 1 1 (some t) 8).bind fun x32 =>
      (gsaI E G30 x32 v4 0).bind fun G38 =>
      fX1_plays_b8 E n t v1 v2 v3 (v4 + 1) G38)
def fX1_plays (E : g_E) (t : Nat) (v1 : Option Nat) (v2 : Int32) (v3 : Int32) (G : g_G) : Option (g_G) :=
  (gpI E G 1 1 (some t) 25 0).bind fun G2 =>
  fX1_plays_b8 E gFU t v1 v2 v3 0 G2
theorem sX1_plays_b92 {p : Program} {l : Launch} {e : Env} {R : Room} {s : State} {m : MethodId} {args : Array Value} {below : List Frame} {meth : Method} {c : Code} {E : g_E} {D : g_D} (C : gC p R s m args meth c cX1_plays 6 RX1 "plays" (none) 225 7486 E D) {k54 : Nat → (Option Nat) → Int32 → Int32 → Int32 → g_G → Option (g_G)} (hk54 : ∀ (t : Nat) (v1 : Option Nat) (v2 : Int32) (v3 : Int32) (v4 : Int32) (G : g_G) (q : g_G), k54 t v1 v2 v3 v4 G = some q → ∀ (H : Heap) (locs : List Loc) (cells slots : Nat) (ls : Array Slot), gSt E D G H locs → gls ls 6 [(0, .inr (.inr (some t))), (1, .inr (.inr v1)), (2, .inl v2), (3, .inl v3), (4, .inl v4)] → gT p l e R s m args below meth c E D H locs cells slots none q (F0 m 54 ls [])) : ∀ (t : Nat) (v1 : Option Nat) (v2 : Int32) (v3 : Int32) (v4 : Int32) (G : g_G) (q : g_G), fX1_plays_b92 E k54 t v1 v2 v3 v4 G = some q → ∀ (H : Heap) (locs : List Loc) (cells slots : Nat) (ls : Array Slot), gSt E D G H locs → gls ls 6 [(0, .inr (.inr (some t))), (1, .inr (.inr v1)), (2, .inl v2), (3, .inl v3), (4, .inl v4)] → gT p l e R s m args below meth c E D H locs cells slots none q (F0 m 92 ls []) := by
  obtain ⟨hx, hb, hml, hown, hts, hKn, hRc, hRs, hc1, hc2, hRf, hRl, hr, hlk, hnm⟩ := id C
  intro t v1 v2 v3 v4 G q h H locs cells slots ls hS hl
  unfold fX1_plays_b92 at h
  refine lv_goto (tgt := 54) hx hb dX1_plays_92 (by decide) ?_
  exact hk54 _ _ _ _ _ _ _ h _ _ _ _ _ hS (gls_sub hl [0, 1, 2, 3, 4] rfl)
theorem sX1_plays_b65 {p : Program} {l : Launch} {e : Env} {R : Room} {s : State} {m : MethodId} {args : Array Value} {below : List Frame} {meth : Method} {c : Code} {E : g_E} {D : g_D} (C : gC p R s m args meth c cX1_plays 6 RX1 "plays" (none) 225 7486 E D) {k54 : Nat → (Option Nat) → Int32 → Int32 → Int32 → g_G → Option (g_G)} (hk54 : ∀ (t : Nat) (v1 : Option Nat) (v2 : Int32) (v3 : Int32) (v4 : Int32) (G : g_G) (q : g_G), k54 t v1 v2 v3 v4 G = some q → ∀ (H : Heap) (locs : List Loc) (cells slots : Nat) (ls : Array Slot), gSt E D G H locs → gls ls 6 [(0, .inr (.inr (some t))), (1, .inr (.inr v1)), (2, .inl v2), (3, .inl v3), (4, .inl v4)] → gT p l e R s m args below meth c E D H locs cells slots none q (F0 m 54 ls [])) : ∀ (n : Nat) (t : Nat) (v1 : Option Nat) (v2 : Int32) (v3 : Int32) (v4 : Int32) (v5 : Int32) (G : g_G) (q : g_G), fX1_plays_b65 E k54 n t v1 v2 v3 v4 v5 G = some q → ∀ (H : Heap) (locs : List Loc) (cells slots : Nat) (ls : Array Slot), gSt E D G H locs → gls ls 6 [(0, .inr (.inr (some t))), (1, .inr (.inr v1)), (2, .inl v2), (3, .inl v3), (4, .inl v4), (5, .inl v5)] → gT p l e R s m args below meth c E D H locs cells slots none q (F0 m 65 ls []) := by
  obtain ⟨hx, hb, hml, hown, hts, hKn, hRc, hRs, hc1, hc2, hRf, hRl, hr, hlk, hnm⟩ := id C
  intro n
  induction n with
  | zero =>
    intro t v1 v2 v3 v4 v5 G q h
    exact g_no h
  | succ n ih =>
    intro t v1 v2 v3 v4 v5 G q h H locs cells slots ls hS hl
    rw [fX1_plays_b65] at h
    refine g_iload hx hb hl 5 rfl dX1_plays_65 ?_
    refine g_iload_n hx hb hl 2 rfl dX1_plays_67 ?_
    refine lv_icmp_ge (tgt := 92) hx hb dX1_plays_68 (by decide) (fun c_68 => ?_) (fun c_68 => ?_)
    · have h := g_ift c_68 h
      exact sX1_plays_b92 C hk54 _ _ _ _ _ _ _ h _ _ _ _ _ hS (gls_sub hl [0, 1, 2, 3, 4] rfl)
    · have h := g_iff c_68 h
      refine g_iload hx hb hl 4 rfl dX1_plays_71 ?_
      refine lv_if_ne (tgt := 92) hx hb dX1_plays_73 (by decide) (fun c_73 => ?_) (fun c_73 => ?_)
      · have h := g_ift c_73 h
        exact sX1_plays_b92 C hk54 _ _ _ _ _ _ _ h _ _ _ _ _ hS (gls_sub hl [0, 1, 2, 3, 4] rfl)
      · have h := g_iff (fun z => z c_73) h
        refine g_aload_n hx hb hl 0 rfl dX1_plays_76 ?_
        refine g_aload_n hx hb hl 1 rfl dX1_plays_77 ?_
        refine g_iload hx hb hl 5 rfl dX1_plays_78 ?_
        refine g_iload_n hx hb hl 3 rfl dX1_plays_80 ?_
        obtain ⟨b81, hb81, h⟩ := g_bnd h
        obtain ⟨hr81, hk81⟩ := g_chk hb81
        obtain ⟨z81, h81, h⟩ := g_bnd h
        refine g_callV (n := 3) (b := b81) (av := [.inr (.inr v1), .inl v5, .inl v3]) (rs := []) hx hb hml hown hts hKn hRc hRs hS hl (sX1_goesOn l E D h81) (lw_V q1790 q1792 qs44 q113 q1793) ⟨rfl, by decide, by decide, by decide +kernel⟩ ⟨by rw [hRf]; exact Nat.le_of_ble_eq_true rfl, by rw [hRl]; exact Nat.le_of_ble_eq_true rfl⟩ (g_recv hKn hS hk81 (by decide) (by decide)) rfl (by rw [hr81]; rfl) (Nat.le_of_ble_eq_true rfl) dX1_plays_81 (fun H locs cells slots hS => ?_)
        refine g_istore (l1 := [(4, .inl z81.1), (0, .inr (.inr (some t))), (1, .inr (.inr v1)), (2, .inl v2), (3, .inl v3), (5, .inl v5)]) hx hb hl (by decide) rfl dX1_plays_84 (fun ls hl => ?_)
        refine g_iinc (l1 := [(5, .inl (v5 + 1)), (4, .inl z81.1), (0, .inr (.inr (some t))), (1, .inr (.inr v1)), (2, .inl v2), (3, .inl v3)]) (v := (v5 + 1)) hx hb hl (k := 5) rfl (by rfl) (by decide) rfl dX1_plays_86 (fun ls hl => ?_)
        refine lv_goto (tgt := 65) hx hb dX1_plays_89 (by decide) ?_
        exact ih _ _ _ _ _ _ _ _ h _ _ _ _ _ hS (gls_sub hl [2, 3, 4, 5, 1, 0] rfl)
theorem sX1_plays_b54 {p : Program} {l : Launch} {e : Env} {R : Room} {s : State} {m : MethodId} {args : Array Value} {below : List Frame} {meth : Method} {c : Code} {E : g_E} {D : g_D} (C : gC p R s m args meth c cX1_plays 6 RX1 "plays" (none) 225 7486 E D) : ∀ (n : Nat) (t : Nat) (v1 : Option Nat) (v2 : Int32) (v3 : Int32) (v4 : Int32) (G : g_G) (q : g_G), fX1_plays_b54 E n t v1 v2 v3 v4 G = some q → ∀ (H : Heap) (locs : List Loc) (cells slots : Nat) (ls : Array Slot), gSt E D G H locs → gls ls 6 [(0, .inr (.inr (some t))), (1, .inr (.inr v1)), (2, .inl v2), (3, .inl v3), (4, .inl v4)] → gT p l e R s m args below meth c E D H locs cells slots none q (F0 m 54 ls []) := by
  obtain ⟨hx, hb, hml, hown, hts, hKn, hRc, hRs, hc1, hc2, hRf, hRl, hr, hlk, hnm⟩ := id C
  intro n
  induction n with
  | zero =>
    intro t v1 v2 v3 v4 G q h
    exact g_no h
  | succ n ih =>
    intro t v1 v2 v3 v4 G q h H locs cells slots ls hS hl
    rw [fX1_plays_b54] at h
    refine g_iload hx hb hl 4 rfl dX1_plays_54 ?_
    refine lv_if_eq (tgt := 95) hx hb dX1_plays_56 (by decide) (fun c_56 => ?_) (fun c_56 => ?_)
    · have h := g_ift c_56 h
      exact g_vretG hx hb hr hlk hKn hRc hRs hS h dX1_plays_95
    · have h := g_iff c_56 h
      refine lv_iconst (v := 0) hx hb dX1_plays_59 (by decide) ?_
      refine g_istore (l1 := [(4, .inl 0), (0, .inr (.inr (some t))), (1, .inr (.inr v1)), (2, .inl v2), (3, .inl v3)]) hx hb hl (by decide) rfl dX1_plays_60 (fun ls hl => ?_)
      refine lv_iconst (v := 0) hx hb dX1_plays_62 (by decide) ?_
      refine g_istore (l1 := [(5, .inl 0), (4, .inl 0), (0, .inr (.inr (some t))), (1, .inr (.inr v1)), (2, .inl v2), (3, .inl v3)]) hx hb hl (by decide) rfl dX1_plays_63 (fun ls hl => ?_)
      exact sX1_plays_b65 C ih gFU _ _ _ _ _ _ _ _ h _ _ _ _ _ hS (gls_sub hl [2, 3, 4, 5, 1, 0] rfl)
theorem sX1_plays_b8 {p : Program} {l : Launch} {e : Env} {R : Room} {s : State} {m : MethodId} {args : Array Value} {below : List Frame} {meth : Method} {c : Code} {E : g_E} {D : g_D} (C : gC p R s m args meth c cX1_plays 6 RX1 "plays" (none) 225 7486 E D) : ∀ (n : Nat) (t : Nat) (v1 : Option Nat) (v2 : Int32) (v3 : Int32) (v4 : Int32) (G : g_G) (q : g_G), fX1_plays_b8 E n t v1 v2 v3 v4 G = some q → ∀ (H : Heap) (locs : List Loc) (cells slots : Nat) (ls : Array Slot), gSt E D G H locs → gls ls 6 [(0, .inr (.inr (some t))), (1, .inr (.inr v1)), (2, .inl v2), (3, .inl v3), (4, .inl v4)] → gT p l e R s m args below meth c E D H locs cells slots none q (F0 m 8 ls []) := by
  obtain ⟨hx, hb, hml, hown, hts, hKn, hRc, hRs, hc1, hc2, hRf, hRl, hr, hlk, hnm⟩ := id C
  intro n
  induction n with
  | zero =>
    intro t v1 v2 v3 v4 G q h
    exact g_no h
  | succ n ih =>
    intro t v1 v2 v3 v4 G q h H locs cells slots ls hS hl
    rw [fX1_plays_b8] at h
    refine g_iload hx hb hl 4 rfl dX1_plays_8 ?_
    refine lv_bipush (v := 8) hx hb dX1_plays_10 (by decide) ?_
    refine lv_icmp_ge (tgt := 45) hx hb dX1_plays_12 (by decide) (fun c_12 => ?_) (fun c_12 => ?_)
    · have h := g_ift c_12 h
      refine g_aload_n hx hb hl 0 rfl dX1_plays_45 ?_
      refine g_aload_n hx hb hl 1 rfl dX1_plays_46 ?_
      refine g_iload_n hx hb hl 2 rfl dX1_plays_47 ?_
      obtain ⟨b48, hb48, h⟩ := g_bnd h
      obtain ⟨hr48, hk48⟩ := g_chk hb48
      obtain ⟨z48, h48, h⟩ := g_bnd h
      refine g_callV (n := 2) (b := b48) (av := [.inr (.inr v1), .inl v2]) (rs := []) hx hb hml hown hts hKn hRc hRs hS hl (sX1_begins l E D h48) (lw_V q728 q730 qs4 q113 q731) ⟨rfl, by decide, by decide, by decide +kernel⟩ ⟨by rw [hRf]; exact Nat.le_of_ble_eq_true rfl, by rw [hRl]; exact Nat.le_of_ble_eq_true rfl⟩ (g_recv hKn hS hk48 (by decide) (by decide)) rfl (by rw [hr48]; rfl) (Nat.le_of_ble_eq_true rfl) dX1_plays_48 (fun H locs cells slots hS => ?_)
      refine lv_iconst (v := 1) hx hb dX1_plays_51 (by decide) ?_
      refine g_istore (l1 := [(4, .inl 1), (0, .inr (.inr (some t))), (1, .inr (.inr v1)), (2, .inl v2), (3, .inl v3)]) hx hb hl (by decide) rfl dX1_plays_52 (fun ls hl => ?_)
      exact sX1_plays_b54 C gFU _ _ _ _ _ _ _ h _ _ _ _ _ hS (gls_sub hl [1, 2, 3, 4, 0] rfl)
    · have h := g_iff c_12 h
      refine g_aload_n hx hb hl 0 rfl dX1_plays_15 ?_
      refine g_rdR hx hb hown hts hKn hS h fd_1_1_6 rfl (Or.inl (hts _ q603)) (fun _ z => z) dX1_plays_16 (fun x16 h => ?_)
      refine g_iload hx hb hl 4 rfl dX1_plays_19 ?_
      refine lv_iconst (v := 0) hx hb dX1_plays_21 (by decide) ?_
      refine g_iastoreG hx hb hKn hS h dX1_plays_22 (fun G22 h H locs hS => ?_)
      refine g_aload_n hx hb hl 0 rfl dX1_plays_23 ?_
      refine g_rdR hx hb hown hts hKn hS h fd_1_1_7 rfl (Or.inl (hts _ q604)) (fun _ z => z) dX1_plays_24 (fun x24 h => ?_)
      refine g_iload hx hb hl 4 rfl dX1_plays_27 ?_
      refine lv_iconst (v := 0) hx hb dX1_plays_29 (by decide) ?_
      refine g_iastoreG hx hb hKn hS h dX1_plays_30 (fun G30 h H locs hS => ?_)
      refine g_aload_n hx hb hl 0 rfl dX1_plays_31 ?_
      refine g_rdR hx hb hown hts hKn hS h fd_1_1_8 rfl (Or.inl (hts _ q605)) (fun _ z => z) dX1_plays_32 (fun x32 h => ?_)
      refine g_iload hx hb hl 4 rfl dX1_plays_35 ?_
      refine lv_iconst (v := 0) hx hb dX1_plays_37 (by decide) ?_
      refine g_iastoreG hx hb hKn hS h dX1_plays_38 (fun G38 h H locs hS => ?_)
      refine g_iinc (l1 := [(4, .inl (v4 + 1)), (0, .inr (.inr (some t))), (1, .inr (.inr v1)), (2, .inl v2), (3, .inl v3)]) (v := (v4 + 1)) hx hb hl (k := 4) rfl (by rfl) (by decide) rfl dX1_plays_39 (fun ls hl => ?_)
      refine lv_goto (tgt := 8) hx hb dX1_plays_42 (by decide) ?_
      exact ih _ _ _ _ _ _ _ h _ _ _ _ _ hS (gls_sub hl [1, 2, 3, 4, 0] rfl)
theorem sX1_plays (l : Launch) (E : g_E) (D : g_D) {t : Nat} {v1 : Option Nat} {v2 : Int32} {v3 : Int32} {G : g_G} {q : g_G} (h : fX1_plays E t v1 v2 v3 G = some q) : gMet l E D yX1_plays (ws_ yX1_plays cX1_plays 6 (none)) 225 7486 [.inr (.inr (some t)), .inr (.inr v1), .inl v2, .inl v3] G none q := by
  refine gMet.of (by decide +kernel) (Nat.le_of_ble_eq_true rfl) ?_
  intro p e R s m args below meth c C hS ls hl
  have C : gC p R s m args meth c cX1_plays 6 RX1 "plays" (none) 225 7486 E D := C
  obtain ⟨hx, hb, hml, hown, hts, hKn, hRc, hRs, hc1, hc2, hRf, hRl, hr, hlk, hnm⟩ := id C
  have hl : gls ls 6 [(0, .inr (.inr (some t))), (1, .inr (.inr v1)), (2, .inl v2), (3, .inl v3)] := hl
  generalize s.heap = H at hS ⊢
  unfold fX1_plays at h
  refine g_aload_n hx hb hl 0 rfl dX1_plays_0 ?_
  refine lv_iconst (v := 0) hx hb dX1_plays_1 (by decide) ?_
  refine g_ptI hx hb hown hts hKn hS h fd_1_1_25 (Or.inl (hts _ q622)) (fun _ z => z) (fun z => nomatch z) dX1_plays_2 (fun G2 h H locs hS => ?_)
  refine lv_iconst (v := 0) hx hb dX1_plays_5 (by decide) ?_
  refine g_istore (l1 := [(4, .inl 0), (0, .inr (.inr (some t))), (1, .inr (.inr v1)), (2, .inl v2), (3, .inl v3)]) hx hb hl (by decide) rfl dX1_plays_6 (fun ls hl => ?_)
  exact sX1_plays_b8 C gFU _ _ _ _ _ _ _ h _ _ _ _ _ hS (gls_sub hl [1, 2, 3, 4, 0] rfl)
/-- SendHall.least(I)I -/
def fX1_least_b29 (E : g_E) : Nat → Nat → Int32 → Int32 → g_G → Option ((Int32 × g_G) ⊕ gX)
  | 0, _, _, _, _ => none
  | n + 1, t, v1, v2, G =>
    if (8 : Int32) < v2 then (
      some (.inl ((-1), G)))
    else (
      (grR G 1 1 (some t) 32).bind fun x37 =>
      (gchk G 1 (some t)).bind fun b42 =>
      (fX1_plays E b42 x37 v2 v1 G).bind fun z42 =>
      (grR z42 1 1 (some t) 32).bind fun x46 =>
      (gchk z42 3 x46).bind fun b49 =>
      (fX3_kind E b49 z42).bind fun z49 =>
      if ¬ z49.1 = (2 : Int32) then (
        fX1_least_b29 E n t v1 (v2 + 1) z49.2)
      else (
        some (.inl (v2, z49.2))))
def fX1_least (E : g_E) (t : Nat) (v1 : Int32) (G : g_G) : Option ((Int32 × g_G) ⊕ gX) :=
  (fX1_within E v1 0 3 G).bind fun z3 =>
  gcat (fX1_right E z3.1 z3.2) (fun z6 =>
    (grR z6 1 1 (some t) 4).bind fun x10 =>
    (grI z6 2 2 x10 2).bind fun x13 =>
    if x13 ≤ 0 then (
      (gpI E z6 1 1 (some t) 26 0).bind fun G24 =>
      fX1_least_b29 E gFU t v1 2 G24)
    else (
      some (.inl ((-2), z6))))
  (fun y => some (.inr y))
theorem sX1_least_b29 {p : Program} {l : Launch} {e : Env} {R : Room} {s : State} {m : MethodId} {args : Array Value} {below : List Frame} {meth : Method} {c : Code} {E : g_E} {D : g_D} (C : gC p R s m args meth c cX1_least 3 RX1 "least" (some .int) 226 7511 E D) (hlT : l.stackTraces = false) (htab : c.exceptionTable.toList = []) : ∀ (n : Nat) (t : Nat) (v1 : Int32) (v2 : Int32) (G : g_G) (q : (Int32 × g_G) ⊕ gX), fX1_least_b29 E n t v1 v2 G = some q → ∀ (H : Heap) (locs : List Loc) (cells slots : Nat) (ls : Array Slot), gSt E D G H locs → gls ls 3 [(0, .inr (.inr (some t))), (1, .inl v1), (2, .inl v2)] → gTX p l e R s m args below meth c E D H locs cells slots gokI q (F0 m 29 ls []) := by
  obtain ⟨hx, hb, hml, hown, hts, hKn, hRc, hRs, hc1, hc2, hRf, hRl, hr, hlk, hnm⟩ := id C
  intro n
  induction n with
  | zero =>
    intro t v1 v2 G q h
    exact g_no h
  | succ n ih =>
    intro t v1 v2 G q h H locs cells slots ls hS hl
    rw [fX1_least_b29] at h
    refine g_iload_n hx hb hl 2 rfl dX1_least_29 ?_
    refine lv_bipush (v := 8) hx hb dX1_least_30 (by decide) ?_
    refine lv_icmp_gt (tgt := 64) hx hb dX1_least_32 (by decide) (fun c_32 => ?_) (fun c_32 => ?_)
    · have h := g_ift c_32 h
      refine lv_iconst (v := (-1)) hx hb dX1_least_64 (by decide) ?_
      exact g_retX (g_iretG hx hb hr hlk hKn hRc hRs hS (q := ((-1), G)) rfl dX1_least_65) h rfl
    · have h := g_iff c_32 h
      refine g_aload_n hx hb hl 0 rfl dX1_least_35 ?_
      refine g_aload_n hx hb hl 0 rfl dX1_least_36 ?_
      refine g_rdR hx hb hown hts hKn hS h fd_1_1_32 rfl (Or.inl (hts _ q629)) (fun _ z => z) dX1_least_37 (fun x37 h => ?_)
      refine g_iload_n hx hb hl 2 rfl dX1_least_40 ?_
      refine g_iload_n hx hb hl 1 rfl dX1_least_41 ?_
      obtain ⟨b42, hb42, h⟩ := g_bnd h
      obtain ⟨hr42, hk42⟩ := g_chk hb42
      obtain ⟨z42, h42, h⟩ := g_bnd h
      refine g_callV (n := 3) (b := b42) (av := [.inr (.inr x37), .inl v2, .inl v1]) (rs := []) hx hb hml hown hts hKn hRc hRs hS hl (sX1_plays l E D h42) (lw_V q1786 q1788 qs43 q113 q1789) ⟨rfl, by decide, by decide, by decide +kernel⟩ ⟨by rw [hRf]; exact Nat.le_of_ble_eq_true rfl, by rw [hRl]; exact Nat.le_of_ble_eq_true rfl⟩ (g_recv hKn hS hk42 (by decide) (by decide)) rfl (by rw [hr42]; rfl) (Nat.le_of_ble_eq_true rfl) dX1_least_42 (fun H locs cells slots hS => ?_)
      refine g_aload_n hx hb hl 0 rfl dX1_least_45 ?_
      refine g_rdR hx hb hown hts hKn hS h fd_1_1_32 rfl (Or.inl (hts _ q629)) (fun _ z => z) dX1_least_46 (fun x46 h => ?_)
      obtain ⟨b49, hb49, h⟩ := g_bnd h
      obtain ⟨hr49, hk49⟩ := g_chk hb49
      obtain ⟨z49, h49, h⟩ := g_bnd h
      refine g_callV (n := 0) (b := b49) (av := []) (rs := []) hx hb hml hown hts hKn hRc hRs hS hl (sX3_kind l E D h49) (lw_V q985 q986 q987 q134 q988) ⟨rfl, by decide, by decide, by decide +kernel⟩ ⟨by rw [hRf]; exact Nat.le_of_ble_eq_true rfl, by rw [hRl]; exact Nat.le_of_ble_eq_true rfl⟩ (g_recv hKn hS hk49 (by decide) (by decide)) rfl (by rw [hr49]; rfl) (Nat.le_of_ble_eq_true rfl) dX1_least_49 (fun H locs cells slots hS => ?_)
      refine lv_iconst (v := 2) hx hb dX1_least_52 (by decide) ?_
      refine lv_icmp_ne (tgt := 58) hx hb dX1_least_53 (by decide) (fun c_53 => ?_) (fun c_53 => ?_)
      · have h := g_ift c_53 h
        refine g_iinc (l1 := [(2, .inl (v2 + 1)), (0, .inr (.inr (some t))), (1, .inl v1)]) (v := (v2 + 1)) hx hb hl (k := 2) rfl (by rfl) (by decide) rfl dX1_least_58 (fun ls hl => ?_)
        refine lv_goto (tgt := 29) hx hb dX1_least_61 (by decide) ?_
        exact ih _ _ _ _ _ h _ _ _ _ _ hS (gls_sub hl [1, 2, 0] rfl)
      · have h := g_iff (fun z => z c_53) h
        refine g_iload_n hx hb hl 2 rfl dX1_least_56 ?_
        exact g_retX (g_iretG hx hb hr hlk hKn hRc hRs hS (q := (v2, z49.2)) rfl dX1_least_57) h rfl
theorem sX1_least (l : Launch) (E : g_E) (D : g_D) (hlT : l.stackTraces = false) {t : Nat} {v1 : Int32} {G : g_G} {q : (Int32 × g_G) ⊕ gX} (h : fX1_least E t v1 G = some q) : gMetX l E D yX1_least (ws_ yX1_least cX1_least 3 (some .int)) 226 7511 [.inr (.inr (some t)), .inl v1] G gokI q := by
  refine gMetX.of (by decide +kernel) (Nat.le_of_ble_eq_true rfl) ?_
  intro p e R s m args below meth c C htab hS ls hl
  have C : gC p R s m args meth c cX1_least 3 RX1 "least" (some .int) 226 7511 E D := C
  obtain ⟨hx, hb, hml, hown, hts, hKn, hRc, hRs, hc1, hc2, hRf, hRl, hr, hlk, hnm⟩ := id C
  have hl : gls ls 3 [(0, .inr (.inr (some t))), (1, .inl v1)] := hl
  generalize hH0 : s.heap = H at hS ⊢
  unfold fX1_least at h
  refine g_iload_n hx hb hl 1 rfl dX1_least_0 ?_
  refine lv_iconst (v := 0) hx hb dX1_least_1 (by decide) ?_
  refine lv_iconst (v := 3) hx hb dX1_least_2 (by decide) ?_
  obtain ⟨z3, h3, h⟩ := g_bnd h
  refine g_callS (n := 3) (av := [.inl v1, .inl 0, .inl 3]) (rs := []) hx hb hml hown hts hKn hRc hRs hS hl (sX1_within l E D h3) (lw_S q713 q714 q113 q715) ⟨by decide, by decide, by decide +kernel⟩ ⟨by rw [hRf]; exact Nat.le_of_ble_eq_true rfl, by rw [hRl]; exact Nat.le_of_ble_eq_true rfl⟩ rfl rfl (Nat.le_of_ble_eq_true rfl) dX1_least_3 (fun H locs cells slots hS => ?_)
  obtain ⟨o6, h6, ha6, hx6⟩ := g_catE h
  refine g_callSt (n := 1) (av := [.inl z3.1]) (rs := []) hx hb hml hown hts hKn hRc hRs hS hl (sX1_right l E D hlT h6) (lw_S q1093 q1094 q113 q1095) ⟨by decide, by decide, by decide +kernel⟩ ⟨by rw [hRf]; exact Nat.le_of_ble_eq_true rfl, by rw [hRl]; exact Nat.le_of_ble_eq_true rfl⟩ rfl rfl (Nat.le_of_ble_eq_true rfl) dX1_least_6 (fun z6 e6 H locs cells slots hS => ?_) (fun k6 a6 G6 e6 n1 n2 nk nB H locs cells slots hS => ?_)
  · have h := ha6 _ e6
    refine g_aload_n hx hb hl 0 rfl dX1_least_9 ?_
    refine g_rdR hx hb hown hts hKn hS h fd_1_1_4 rfl (Or.inl (hts _ q601)) (fun _ z => z) dX1_least_10 (fun x10 h => ?_)
    refine g_rdI hx hb hown hts hKn hS h fd_2_2_2 rfl (Or.inr ⟨_, gNest_use rfl (hKn.2.2.2.2.1 _ (gNest_in q518 rfl))⟩) (fun _ z => z) dX1_least_13 (fun x13 h => ?_)
    refine lv_if_le (tgt := 22) hx hb dX1_least_16 (by decide) (fun c_16 => ?_) (fun c_16 => ?_)
    · have h := g_ift c_16 h
      refine g_aload_n hx hb hl 0 rfl dX1_least_22 ?_
      refine lv_iconst (v := 0) hx hb dX1_least_23 (by decide) ?_
      refine g_ptI hx hb hown hts hKn hS h fd_1_1_26 (Or.inl (hts _ q623)) (fun _ z => z) (fun z => nomatch z) dX1_least_24 (fun G24 h H locs hS => ?_)
      refine lv_iconst (v := 2) hx hb dX1_least_27 (by decide) ?_
      refine g_istore_n (l1 := [(2, .inl 2), (0, .inr (.inr (some t))), (1, .inl v1)]) hx hb hl (by decide) rfl dX1_least_28 (fun ls hl => ?_)
      exact sX1_least_b29 C hlT htab gFU _ _ _ _ _ h _ _ _ _ _ hS (gls_sub hl [1, 2, 0] rfl)
    · have h := g_iff c_16 h
      refine lv_bipush (v := (-2)) hx hb dX1_least_19 (by decide) ?_
      exact g_retX (g_iretG hx hb hr hlk hKn hRc hRs hS (q := ((-2), z6)) rfl dX1_least_21) h rfl
  · have h := hx6 _ e6
    exact g_outX (by rw [htab]; decide) hlk hKn hRc hRs hS n1 n2 nB nk h
/-- SendHall.play(IJ)I -/
def fX1_play_b172 (E : g_E) : Nat → Nat → Int32 → g_G → Option ((Int32 × g_G) ⊕ gX)
  | 0, _, _, _ => none
  | n + 1, t, v4, G =>
    (grI G 1 1 (some t) 25).bind fun x175 =>
    if x175 ≤ v4 then (
      (grR G 1 1 (some t) 20).bind fun x202 =>
      (gchk G 3 x202).bind fun b205 =>
      (fX3_kind E b205 G).bind fun z205 =>
      some (.inl (z205.1, z205.2)))
    else (
      (grR G 1 1 (some t) 30).bind fun x182 =>
      (grR G 1 1 (some t) 22).bind fun x188 =>
      (gaI G 100 x188 v4).bind fun x193 =>
      (gsaI E G x182 v4 x193).bind fun G194 =>
      fX1_play_b172 E n t (v4 + 1) G194)
def fX1_play_b118 (E : g_E) : Nat → Nat → Int32 → g_G → Option ((Int32 × g_G) ⊕ gX)
  | 0, _, _, _ => none
  | n + 1, t, v4, G =>
    (grI G 1 1 (some t) 0).bind fun x121 =>
    if x121 ≤ v4 then (
      (grI G 1 1 (some t) 25).bind fun x163 =>
      (gpI E G 1 1 (some t) 31 x163).bind fun G166 =>
      fX1_play_b172 E gFU t 0 G166)
    else (
      (grR G 1 1 (some t) 28).bind fun x128 =>
      (grR G 1 1 (some t) 6).bind fun x134 =>
      (gaI G 100 x134 v4).bind fun x139 =>
      (gsaI E G x128 v4 x139).bind fun G140 =>
      (grR G140 1 1 (some t) 29).bind fun x142 =>
      (grR G140 1 1 (some t) 7).bind fun x148 =>
      (gaI G140 100 x148 v4).bind fun x153 =>
      (gsaI E G140 x142 v4 x153).bind fun G154 =>
      fX1_play_b118 E n t (v4 + 1) G154)
def fX1_play_b60 (E : g_E) : Nat → Nat → Int32 → Int64 → Int32 → g_G → Option ((Int32 × g_G) ⊕ gX)
  | 0, _, _, _, _, _ => none
  | n + 1, t, v1, v2, v4, G =>
    if v1 ≤ v4 then (
      (grR G 1 1 (some t) 20).bind fun x92 =>
      (grI G 1 1 (some t) 0).bind fun x96 =>
      (grI G 1 1 (some t) 1).bind fun x100 =>
      (gchk G 1 (some t)).bind fun b103 =>
      (fX1_plays E b103 x92 x96 x100 G).bind fun z103 =>
      (gpZ E z103 1 1 (some t) 21 1).bind fun G108 =>
      (gchk G108 1 (some t)).bind fun b112 =>
      (fX1_rounds E b112 G108).bind fun z112 =>
      fX1_play_b118 E gFU t 0 z112)
    else (
      (grR G 1 1 (some t) 23).bind fun x67 =>
      (gsaI E G x67 v4 (Int64.toInt32 ((v2 >>> (Int32.toInt64 (4 * v4) &&& 63)) &&& 15))).bind fun G83 =>
      fX1_play_b60 E n t v1 v2 (v4 + 1) G83)
def fX1_play_b43 (E : g_E) (k13 : Nat → Int32 → Int64 → Int32 → g_G → Option ((Int32 × g_G) ⊕ gX)) (t : Nat) (v1 : Int32) (v2 : Int64) (v4 : Int32) (s0 : Int32) (G : g_G) : Option ((Int32 × g_G) ⊕ gX) :=
  gcat (fX1_right E s0 G) (fun z43 =>
    k13 t v1 v2 (v4 + 1) z43)
  (fun y => some (.inr y))
def fX1_play_b13 (E : g_E) : Nat → Nat → Int32 → Int64 → Int32 → g_G → Option ((Int32 × g_G) ⊕ gX)
  | 0, _, _, _, _, _ => none
  | n + 1, t, v1, v2, v4, G =>
    if v1 ≤ v4 then (
      (gpI E G 1 1 (some t) 26 v1).bind fun G54 =>
      fX1_play_b60 E gFU t v1 v2 0 G54)
    else (
      (grI G 1 1 (some t) 0).bind fun x30 =>
      if 0 ≤ (lg_cmp ((v2 >>> (Int32.toInt64 (4 * v4) &&& 63)) &&& 15) (Int32.toInt64 x30)) then (
        fX1_play_b43 E (fX1_play_b13 E n) t v1 v2 v4 0 G)
      else (
        fX1_play_b43 E (fX1_play_b13 E n) t v1 v2 v4 1 G))
def fX1_play (E : g_E) (t : Nat) (v1 : Int32) (v2 : Int64) (G : g_G) : Option ((Int32 × g_G) ⊕ gX) :=
  (fX1_within E v1 0 16 G).bind fun z4 =>
  gcat (fX1_right E z4.1 z4.2) (fun z7 =>
    fX1_play_b13 E gFU t v1 v2 0 z7)
  (fun y => some (.inr y))
theorem sX1_play_b172 {p : Program} {l : Launch} {e : Env} {R : Room} {s : State} {m : MethodId} {args : Array Value} {below : List Frame} {meth : Method} {c : Code} {E : g_E} {D : g_D} (C : gC p R s m args meth c cX1_play 5 RX1 "play" (some .int) 226 7511 E D) (hlT : l.stackTraces = false) (htab : c.exceptionTable.toList = []) : ∀ (n : Nat) (t : Nat) (v4 : Int32) (G : g_G) (q : (Int32 × g_G) ⊕ gX), fX1_play_b172 E n t v4 G = some q → ∀ (H : Heap) (locs : List Loc) (cells slots : Nat) (ls : Array Slot), gSt E D G H locs → gls ls 5 [(0, .inr (.inr (some t))), (4, .inl v4)] → gTX p l e R s m args below meth c E D H locs cells slots gokI q (F0 m 172 ls []) := by
  obtain ⟨hx, hb, hml, hown, hts, hKn, hRc, hRs, hc1, hc2, hRf, hRl, hr, hlk, hnm⟩ := id C
  intro n
  induction n with
  | zero =>
    intro t v4 G q h
    exact g_no h
  | succ n ih =>
    intro t v4 G q h H locs cells slots ls hS hl
    rw [fX1_play_b172] at h
    refine g_iload hx hb hl 1 rfl dX1_play_172 ?_
    refine g_aload_n hx hb hl 0 rfl dX1_play_174 ?_
    refine g_rdI hx hb hown hts hKn hS h fd_1_1_25 rfl (Or.inl (hts _ q622)) (fun _ z => z) dX1_play_175 (fun x175 h => ?_)
    refine lv_icmp_ge (tgt := 201) hx hb dX1_play_178 (by decide) (fun c_178 => ?_) (fun c_178 => ?_)
    · have h := g_ift c_178 h
      refine g_aload_n hx hb hl 0 rfl dX1_play_201 ?_
      refine g_rdR hx hb hown hts hKn hS h fd_1_1_20 rfl (Or.inl (hts _ q617)) (fun _ z => z) dX1_play_202 (fun x202 h => ?_)
      obtain ⟨b205, hb205, h⟩ := g_bnd h
      obtain ⟨hr205, hk205⟩ := g_chk hb205
      obtain ⟨z205, h205, h⟩ := g_bnd h
      refine g_callV (n := 0) (b := b205) (av := []) (rs := []) hx hb hml hown hts hKn hRc hRs hS hl (sX3_kind l E D h205) (lw_V q985 q986 q987 q134 q988) ⟨rfl, by decide, by decide, by decide +kernel⟩ ⟨by rw [hRf]; exact Nat.le_of_ble_eq_true rfl, by rw [hRl]; exact Nat.le_of_ble_eq_true rfl⟩ (g_recv hKn hS hk205 (by decide) (by decide)) rfl (by rw [hr205]; rfl) (Nat.le_of_ble_eq_true rfl) dX1_play_205 (fun H locs cells slots hS => ?_)
      exact g_retX (g_iretG hx hb hr hlk hKn hRc hRs hS (q := (z205.1, z205.2)) rfl dX1_play_208) h rfl
    · have h := g_iff c_178 h
      refine g_aload_n hx hb hl 0 rfl dX1_play_181 ?_
      refine g_rdR hx hb hown hts hKn hS h fd_1_1_30 rfl (Or.inl (hts _ q627)) (fun _ z => z) dX1_play_182 (fun x182 h => ?_)
      refine g_iload hx hb hl 1 rfl dX1_play_185 ?_
      refine g_aload_n hx hb hl 0 rfl dX1_play_187 ?_
      refine g_rdR hx hb hown hts hKn hS h fd_1_1_22 rfl (Or.inl (hts _ q619)) (fun _ z => z) dX1_play_188 (fun x188 h => ?_)
      refine g_iload hx hb hl 1 rfl dX1_play_191 ?_
      refine g_ialoadG hx hb hKn hS h dX1_play_193 (fun x193 h => ?_)
      refine g_iastoreG hx hb hKn hS h dX1_play_194 (fun G194 h H locs hS => ?_)
      refine g_iinc (l1 := [(4, .inl (v4 + 1)), (0, .inr (.inr (some t)))]) (v := (v4 + 1)) hx hb hl (k := 1) rfl (by rfl) (by decide) rfl dX1_play_195 (fun ls hl => ?_)
      refine lv_goto (tgt := 172) hx hb dX1_play_198 (by decide) ?_
      exact ih _ _ _ _ h _ _ _ _ _ hS (gls_sub hl [1, 0] rfl)
theorem sX1_play_b118 {p : Program} {l : Launch} {e : Env} {R : Room} {s : State} {m : MethodId} {args : Array Value} {below : List Frame} {meth : Method} {c : Code} {E : g_E} {D : g_D} (C : gC p R s m args meth c cX1_play 5 RX1 "play" (some .int) 226 7511 E D) (hlT : l.stackTraces = false) (htab : c.exceptionTable.toList = []) : ∀ (n : Nat) (t : Nat) (v4 : Int32) (G : g_G) (q : (Int32 × g_G) ⊕ gX), fX1_play_b118 E n t v4 G = some q → ∀ (H : Heap) (locs : List Loc) (cells slots : Nat) (ls : Array Slot), gSt E D G H locs → gls ls 5 [(0, .inr (.inr (some t))), (4, .inl v4)] → gTX p l e R s m args below meth c E D H locs cells slots gokI q (F0 m 118 ls []) := by
  obtain ⟨hx, hb, hml, hown, hts, hKn, hRc, hRs, hc1, hc2, hRf, hRl, hr, hlk, hnm⟩ := id C
  intro n
  induction n with
  | zero =>
    intro t v4 G q h
    exact g_no h
  | succ n ih =>
    intro t v4 G q h H locs cells slots ls hS hl
    rw [fX1_play_b118] at h
    refine g_iload hx hb hl 1 rfl dX1_play_118 ?_
    refine g_aload_n hx hb hl 0 rfl dX1_play_120 ?_
    refine g_rdI hx hb hown hts hKn hS h fd_1_1_0 rfl (Or.inl (hts _ q597)) (fun _ z => z) dX1_play_121 (fun x121 h => ?_)
    refine lv_icmp_ge (tgt := 161) hx hb dX1_play_124 (by decide) (fun c_124 => ?_) (fun c_124 => ?_)
    · have h := g_ift c_124 h
      refine g_aload_n hx hb hl 0 rfl dX1_play_161 ?_
      refine g_aload_n hx hb hl 0 rfl dX1_play_162 ?_
      refine g_rdI hx hb hown hts hKn hS h fd_1_1_25 rfl (Or.inl (hts _ q622)) (fun _ z => z) dX1_play_163 (fun x163 h => ?_)
      refine g_ptI hx hb hown hts hKn hS h fd_1_1_31 (Or.inl (hts _ q628)) (fun _ z => z) (fun z => nomatch z) dX1_play_166 (fun G166 h H locs hS => ?_)
      refine lv_iconst (v := 0) hx hb dX1_play_169 (by decide) ?_
      refine g_istore (l1 := [(4, .inl 0), (0, .inr (.inr (some t)))]) hx hb hl (by decide) rfl dX1_play_170 (fun ls hl => ?_)
      exact sX1_play_b172 C hlT htab gFU _ _ _ _ h _ _ _ _ _ hS (gls_sub hl [1, 0] rfl)
    · have h := g_iff c_124 h
      refine g_aload_n hx hb hl 0 rfl dX1_play_127 ?_
      refine g_rdR hx hb hown hts hKn hS h fd_1_1_28 rfl (Or.inl (hts _ q625)) (fun _ z => z) dX1_play_128 (fun x128 h => ?_)
      refine g_iload hx hb hl 1 rfl dX1_play_131 ?_
      refine g_aload_n hx hb hl 0 rfl dX1_play_133 ?_
      refine g_rdR hx hb hown hts hKn hS h fd_1_1_6 rfl (Or.inl (hts _ q603)) (fun _ z => z) dX1_play_134 (fun x134 h => ?_)
      refine g_iload hx hb hl 1 rfl dX1_play_137 ?_
      refine g_ialoadG hx hb hKn hS h dX1_play_139 (fun x139 h => ?_)
      refine g_iastoreG hx hb hKn hS h dX1_play_140 (fun G140 h H locs hS => ?_)
      refine g_aload_n hx hb hl 0 rfl dX1_play_141 ?_
      refine g_rdR hx hb hown hts hKn hS h fd_1_1_29 rfl (Or.inl (hts _ q626)) (fun _ z => z) dX1_play_142 (fun x142 h => ?_)
      refine g_iload hx hb hl 1 rfl dX1_play_145 ?_
      refine g_aload_n hx hb hl 0 rfl dX1_play_147 ?_
      refine g_rdR hx hb hown hts hKn hS h fd_1_1_7 rfl (Or.inl (hts _ q604)) (fun _ z => z) dX1_play_148 (fun x148 h => ?_)
      refine g_iload hx hb hl 1 rfl dX1_play_151 ?_
      refine g_ialoadG hx hb hKn hS h dX1_play_153 (fun x153 h => ?_)
      refine g_iastoreG hx hb hKn hS h dX1_play_154 (fun G154 h H locs hS => ?_)
      refine g_iinc (l1 := [(4, .inl (v4 + 1)), (0, .inr (.inr (some t)))]) (v := (v4 + 1)) hx hb hl (k := 1) rfl (by rfl) (by decide) rfl dX1_play_155 (fun ls hl => ?_)
      refine lv_goto (tgt := 118) hx hb dX1_play_158 (by decide) ?_
      exact ih _ _ _ _ h _ _ _ _ _ hS (gls_sub hl [1, 0] rfl)
theorem sX1_play_b60 {p : Program} {l : Launch} {e : Env} {R : Room} {s : State} {m : MethodId} {args : Array Value} {below : List Frame} {meth : Method} {c : Code} {E : g_E} {D : g_D} (C : gC p R s m args meth c cX1_play 5 RX1 "play" (some .int) 226 7511 E D) (hlT : l.stackTraces = false) (htab : c.exceptionTable.toList = []) : ∀ (n : Nat) (t : Nat) (v1 : Int32) (v2 : Int64) (v4 : Int32) (G : g_G) (q : (Int32 × g_G) ⊕ gX), fX1_play_b60 E n t v1 v2 v4 G = some q → ∀ (H : Heap) (locs : List Loc) (cells slots : Nat) (ls : Array Slot), gSt E D G H locs → gls ls 5 [(0, .inr (.inr (some t))), (1, .inl v1), (2, .inr (.inl v2)), (4, .inl v4)] → gTX p l e R s m args below meth c E D H locs cells slots gokI q (F0 m 60 ls []) := by
  obtain ⟨hx, hb, hml, hown, hts, hKn, hRc, hRs, hc1, hc2, hRf, hRl, hr, hlk, hnm⟩ := id C
  intro n
  induction n with
  | zero =>
    intro t v1 v2 v4 G q h
    exact g_no h
  | succ n ih =>
    intro t v1 v2 v4 G q h H locs cells slots ls hS hl
    rw [fX1_play_b60] at h
    refine g_iload hx hb hl 3 rfl dX1_play_60 ?_
    refine g_iload_n hx hb hl 1 rfl dX1_play_62 ?_
    refine lv_icmp_ge (tgt := 90) hx hb dX1_play_63 (by decide) (fun c_63 => ?_) (fun c_63 => ?_)
    · have h := g_ift c_63 h
      refine g_aload_n hx hb hl 0 rfl dX1_play_90 ?_
      refine g_aload_n hx hb hl 0 rfl dX1_play_91 ?_
      refine g_rdR hx hb hown hts hKn hS h fd_1_1_20 rfl (Or.inl (hts _ q617)) (fun _ z => z) dX1_play_92 (fun x92 h => ?_)
      refine g_aload_n hx hb hl 0 rfl dX1_play_95 ?_
      refine g_rdI hx hb hown hts hKn hS h fd_1_1_0 rfl (Or.inl (hts _ q597)) (fun _ z => z) dX1_play_96 (fun x96 h => ?_)
      refine g_aload_n hx hb hl 0 rfl dX1_play_99 ?_
      refine g_rdI hx hb hown hts hKn hS h fd_1_1_1 rfl (Or.inl (hts _ q598)) (fun _ z => z) dX1_play_100 (fun x100 h => ?_)
      obtain ⟨b103, hb103, h⟩ := g_bnd h
      obtain ⟨hr103, hk103⟩ := g_chk hb103
      obtain ⟨z103, h103, h⟩ := g_bnd h
      refine g_callV (n := 3) (b := b103) (av := [.inr (.inr x92), .inl x96, .inl x100]) (rs := []) hx hb hml hown hts hKn hRc hRs hS hl (sX1_plays l E D h103) (lw_V q1786 q1788 qs43 q113 q1789) ⟨rfl, by decide, by decide, by decide +kernel⟩ ⟨by rw [hRf]; exact Nat.le_of_ble_eq_true rfl, by rw [hRl]; exact Nat.le_of_ble_eq_true rfl⟩ (g_recv hKn hS hk103 (by decide) (by decide)) rfl (by rw [hr103]; rfl) (Nat.le_of_ble_eq_true rfl) dX1_play_103 (fun H locs cells slots hS => ?_)
      refine g_aload_n hx hb hl 0 rfl dX1_play_106 ?_
      refine lv_iconst (v := 1) hx hb dX1_play_107 (by decide) ?_
      refine g_ptZ hx hb hown hts hKn hS h fd_1_1_21 (Or.inl (hts _ q618)) (fun _ z => z) (fun z => nomatch z) dX1_play_108 (fun G108 h H locs hS => ?_)
      refine g_aload_n hx hb hl 0 rfl dX1_play_111 ?_
      obtain ⟨b112, hb112, h⟩ := g_bnd h
      obtain ⟨hr112, hk112⟩ := g_chk hb112
      obtain ⟨z112, h112, h⟩ := g_bnd h
      refine g_callV (n := 0) (b := b112) (av := []) (rs := []) hx hb hml hown hts hKn hRc hRs hS hl (sX1_rounds l E D h112) (lw_V q1802 q1804 qs46 q113 q1805) ⟨rfl, by decide, by decide, by decide +kernel⟩ ⟨by rw [hRf]; exact Nat.le_of_ble_eq_true rfl, by rw [hRl]; exact Nat.le_of_ble_eq_true rfl⟩ (g_recv hKn hS hk112 (by decide) (by decide)) rfl (by rw [hr112]; rfl) (Nat.le_of_ble_eq_true rfl) dX1_play_112 (fun H locs cells slots hS => ?_)
      refine lv_iconst (v := 0) hx hb dX1_play_115 (by decide) ?_
      refine g_istore (l1 := [(4, .inl 0), (0, .inr (.inr (some t))), (1, .inl v1), (2, .inr (.inl v2))]) hx hb hl (by decide) rfl dX1_play_116 (fun ls hl => ?_)
      exact sX1_play_b118 C hlT htab gFU _ _ _ _ h _ _ _ _ _ hS (gls_sub hl [1, 0] rfl)
    · have h := g_iff c_63 h
      refine g_aload_n hx hb hl 0 rfl dX1_play_66 ?_
      refine g_rdR hx hb hown hts hKn hS h fd_1_1_23 rfl (Or.inl (hts _ q620)) (fun _ z => z) dX1_play_67 (fun x67 h => ?_)
      refine g_iload hx hb hl 3 rfl dX1_play_70 ?_
      refine g_lload_n hx hb hl 2 rfl dX1_play_72 ?_
      refine lv_iconst (v := 4) hx hb dX1_play_73 (by decide) ?_
      refine g_iload hx hb hl 3 rfl dX1_play_74 ?_
      refine lv_imul hx hb dX1_play_76 ?_
      refine lv_lshr (v := (v2 >>> (Int32.toInt64 (4 * v4) &&& 63))) hx hb dX1_play_77 rfl ?_
      refine lv_ldc2 (v := 15) hx hb hown (hts _ q1785) dX1_play_78 ?_
      refine lv_land hx hb dX1_play_81 ?_
      refine lv_l2i (v := (Int64.toInt32 ((v2 >>> (Int32.toInt64 (4 * v4) &&& 63)) &&& 15))) hx hb dX1_play_82 rfl ?_
      refine g_iastoreG hx hb hKn hS h dX1_play_83 (fun G83 h H locs hS => ?_)
      refine g_iinc (l1 := [(4, .inl (v4 + 1)), (0, .inr (.inr (some t))), (1, .inl v1), (2, .inr (.inl v2))]) (v := (v4 + 1)) hx hb hl (k := 3) rfl (by rfl) (by decide) rfl dX1_play_84 (fun ls hl => ?_)
      refine lv_goto (tgt := 60) hx hb dX1_play_87 (by decide) ?_
      exact ih _ _ _ _ _ _ h _ _ _ _ _ hS (gls_sub hl [1, 2, 3, 0] rfl)
theorem sX1_play_b43 {p : Program} {l : Launch} {e : Env} {R : Room} {s : State} {m : MethodId} {args : Array Value} {below : List Frame} {meth : Method} {c : Code} {E : g_E} {D : g_D} (C : gC p R s m args meth c cX1_play 5 RX1 "play" (some .int) 226 7511 E D) (hlT : l.stackTraces = false) (htab : c.exceptionTable.toList = []) {k13 : Nat → Int32 → Int64 → Int32 → g_G → Option ((Int32 × g_G) ⊕ gX)} (hk13 : ∀ (t : Nat) (v1 : Int32) (v2 : Int64) (v4 : Int32) (G : g_G) (q : (Int32 × g_G) ⊕ gX), k13 t v1 v2 v4 G = some q → ∀ (H : Heap) (locs : List Loc) (cells slots : Nat) (ls : Array Slot), gSt E D G H locs → gls ls 5 [(0, .inr (.inr (some t))), (1, .inl v1), (2, .inr (.inl v2)), (4, .inl v4)] → gTX p l e R s m args below meth c E D H locs cells slots gokI q (F0 m 13 ls [])) : ∀ (t : Nat) (v1 : Int32) (v2 : Int64) (v4 : Int32) (s0 : Int32) (G : g_G) (q : (Int32 × g_G) ⊕ gX), fX1_play_b43 E k13 t v1 v2 v4 s0 G = some q → ∀ (H : Heap) (locs : List Loc) (cells slots : Nat) (ls : Array Slot), gSt E D G H locs → gls ls 5 [(0, .inr (.inr (some t))), (1, .inl v1), (2, .inr (.inl v2)), (4, .inl v4)] → gTX p l e R s m args below meth c E D H locs cells slots gokI q (F0 m 43 ls [.int s0]) := by
  obtain ⟨hx, hb, hml, hown, hts, hKn, hRc, hRs, hc1, hc2, hRf, hRl, hr, hlk, hnm⟩ := id C
  intro t v1 v2 v4 s0 G q h H locs cells slots ls hS hl
  unfold fX1_play_b43 at h
  obtain ⟨o43, h43, ha43, hx43⟩ := g_catE h
  refine g_callSt (n := 1) (av := [.inl s0]) (rs := []) hx hb hml hown hts hKn hRc hRs hS hl (sX1_right l E D hlT h43) (lw_S q1093 q1094 q113 q1095) ⟨by decide, by decide, by decide +kernel⟩ ⟨by rw [hRf]; exact Nat.le_of_ble_eq_true rfl, by rw [hRl]; exact Nat.le_of_ble_eq_true rfl⟩ rfl rfl (Nat.le_of_ble_eq_true rfl) dX1_play_43 (fun z43 e43 H locs cells slots hS => ?_) (fun k43 a43 G43 e43 n1 n2 nk nB H locs cells slots hS => ?_)
  · have h := ha43 _ e43
    refine g_iinc (l1 := [(4, .inl (v4 + 1)), (0, .inr (.inr (some t))), (1, .inl v1), (2, .inr (.inl v2))]) (v := (v4 + 1)) hx hb hl (k := 3) rfl (by rfl) (by decide) rfl dX1_play_46 (fun ls hl => ?_)
    refine lv_goto (tgt := 13) hx hb dX1_play_49 (by decide) ?_
    exact hk13 _ _ _ _ _ _ h _ _ _ _ _ hS (gls_sub hl [1, 2, 3, 0] rfl)
  · have h := hx43 _ e43
    exact g_outX (by rw [htab]; decide) hlk hKn hRc hRs hS n1 n2 nB nk h
theorem sX1_play_b13 {p : Program} {l : Launch} {e : Env} {R : Room} {s : State} {m : MethodId} {args : Array Value} {below : List Frame} {meth : Method} {c : Code} {E : g_E} {D : g_D} (C : gC p R s m args meth c cX1_play 5 RX1 "play" (some .int) 226 7511 E D) (hlT : l.stackTraces = false) (htab : c.exceptionTable.toList = []) : ∀ (n : Nat) (t : Nat) (v1 : Int32) (v2 : Int64) (v4 : Int32) (G : g_G) (q : (Int32 × g_G) ⊕ gX), fX1_play_b13 E n t v1 v2 v4 G = some q → ∀ (H : Heap) (locs : List Loc) (cells slots : Nat) (ls : Array Slot), gSt E D G H locs → gls ls 5 [(0, .inr (.inr (some t))), (1, .inl v1), (2, .inr (.inl v2)), (4, .inl v4)] → gTX p l e R s m args below meth c E D H locs cells slots gokI q (F0 m 13 ls []) := by
  obtain ⟨hx, hb, hml, hown, hts, hKn, hRc, hRs, hc1, hc2, hRf, hRl, hr, hlk, hnm⟩ := id C
  intro n
  induction n with
  | zero =>
    intro t v1 v2 v4 G q h
    exact g_no h
  | succ n ih =>
    intro t v1 v2 v4 G q h H locs cells slots ls hS hl
    rw [fX1_play_b13] at h
    refine g_iload hx hb hl 3 rfl dX1_play_13 ?_
    refine g_iload_n hx hb hl 1 rfl dX1_play_15 ?_
    refine lv_icmp_ge (tgt := 52) hx hb dX1_play_16 (by decide) (fun c_16 => ?_) (fun c_16 => ?_)
    · have h := g_ift c_16 h
      refine g_aload_n hx hb hl 0 rfl dX1_play_52 ?_
      refine g_iload_n hx hb hl 1 rfl dX1_play_53 ?_
      refine g_ptI hx hb hown hts hKn hS h fd_1_1_26 (Or.inl (hts _ q623)) (fun _ z => z) (fun z => nomatch z) dX1_play_54 (fun G54 h H locs hS => ?_)
      refine lv_iconst (v := 0) hx hb dX1_play_57 (by decide) ?_
      refine g_istore (l1 := [(4, .inl 0), (0, .inr (.inr (some t))), (1, .inl v1), (2, .inr (.inl v2))]) hx hb hl (by decide) rfl dX1_play_58 (fun ls hl => ?_)
      exact sX1_play_b60 C hlT htab gFU _ _ _ _ _ _ h _ _ _ _ _ hS (gls_sub hl [1, 2, 3, 0] rfl)
    · have h := g_iff c_16 h
      refine g_lload_n hx hb hl 2 rfl dX1_play_19 ?_
      refine lv_iconst (v := 4) hx hb dX1_play_20 (by decide) ?_
      refine g_iload hx hb hl 3 rfl dX1_play_21 ?_
      refine lv_imul hx hb dX1_play_23 ?_
      refine lv_lshr (v := (v2 >>> (Int32.toInt64 (4 * v4) &&& 63))) hx hb dX1_play_24 rfl ?_
      refine lv_ldc2 (v := 15) hx hb hown (hts _ q1785) dX1_play_25 ?_
      refine lv_land hx hb dX1_play_28 ?_
      refine g_aload_n hx hb hl 0 rfl dX1_play_29 ?_
      refine g_rdI hx hb hown hts hKn hS h fd_1_1_0 rfl (Or.inl (hts _ q597)) (fun _ z => z) dX1_play_30 (fun x30 h => ?_)
      refine lv_i2l (v := (Int32.toInt64 x30)) hx hb dX1_play_33 rfl ?_
      refine W.lcmp hx hb dX1_play_34 ?_
      refine lv_if_ge (tgt := 42) hx hb dX1_play_35 (by decide) (fun c_35 => ?_) (fun c_35 => ?_)
      · have h := g_ift c_35 h
        refine lv_iconst (v := 0) hx hb dX1_play_42 (by decide) ?_
        exact sX1_play_b43 C hlT htab ih _ _ _ _ _ _ _ h _ _ _ _ _ hS (gls_sub hl [0, 1, 2, 3] rfl)
      · have h := g_iff c_35 h
        refine lv_iconst (v := 1) hx hb dX1_play_38 (by decide) ?_
        refine lv_goto (tgt := 43) hx hb dX1_play_39 (by decide) ?_
        exact sX1_play_b43 C hlT htab ih _ _ _ _ _ _ _ h _ _ _ _ _ hS (gls_sub hl [0, 1, 2, 3] rfl)
theorem sX1_play (l : Launch) (E : g_E) (D : g_D) (hlT : l.stackTraces = false) {t : Nat} {v1 : Int32} {v2 : Int64} {G : g_G} {q : (Int32 × g_G) ⊕ gX} (h : fX1_play E t v1 v2 G = some q) : gMetX l E D yX1_play (ws_ yX1_play cX1_play 5 (some .int)) 226 7511 [.inr (.inr (some t)), .inl v1, .inr (.inl v2)] G gokI q := by
  refine gMetX.of (by decide +kernel) (Nat.le_of_ble_eq_true rfl) ?_
  intro p e R s m args below meth c C htab hS ls hl
  have C : gC p R s m args meth c cX1_play 5 RX1 "play" (some .int) 226 7511 E D := C
  obtain ⟨hx, hb, hml, hown, hts, hKn, hRc, hRs, hc1, hc2, hRf, hRl, hr, hlk, hnm⟩ := id C
  have hl : gls ls 5 [(0, .inr (.inr (some t))), (1, .inl v1), (2, .inr (.inl v2))] := hl
  generalize hH0 : s.heap = H at hS ⊢
  unfold fX1_play at h
  refine g_iload_n hx hb hl 1 rfl dX1_play_0 ?_
  refine lv_iconst (v := 0) hx hb dX1_play_1 (by decide) ?_
  refine lv_bipush (v := 16) hx hb dX1_play_2 (by decide) ?_
  obtain ⟨z4, h4, h⟩ := g_bnd h
  refine g_callS (n := 3) (av := [.inl v1, .inl 0, .inl 16]) (rs := []) hx hb hml hown hts hKn hRc hRs hS hl (sX1_within l E D h4) (lw_S q713 q714 q113 q715) ⟨by decide, by decide, by decide +kernel⟩ ⟨by rw [hRf]; exact Nat.le_of_ble_eq_true rfl, by rw [hRl]; exact Nat.le_of_ble_eq_true rfl⟩ rfl rfl (Nat.le_of_ble_eq_true rfl) dX1_play_4 (fun H locs cells slots hS => ?_)
  obtain ⟨o7, h7, ha7, hx7⟩ := g_catE h
  refine g_callSt (n := 1) (av := [.inl z4.1]) (rs := []) hx hb hml hown hts hKn hRc hRs hS hl (sX1_right l E D hlT h7) (lw_S q1093 q1094 q113 q1095) ⟨by decide, by decide, by decide +kernel⟩ ⟨by rw [hRf]; exact Nat.le_of_ble_eq_true rfl, by rw [hRl]; exact Nat.le_of_ble_eq_true rfl⟩ rfl rfl (Nat.le_of_ble_eq_true rfl) dX1_play_7 (fun z7 e7 H locs cells slots hS => ?_) (fun k7 a7 G7 e7 n1 n2 nk nB H locs cells slots hS => ?_)
  · have h := ha7 _ e7
    refine lv_iconst (v := 0) hx hb dX1_play_10 (by decide) ?_
    refine g_istore (l1 := [(4, .inl 0), (0, .inr (.inr (some t))), (1, .inl v1), (2, .inr (.inl v2))]) hx hb hl (by decide) rfl dX1_play_11 (fun ls hl => ?_)
    exact sX1_play_b13 C hlT htab gFU _ _ _ _ _ _ h _ _ _ _ _ hS (gls_sub hl [1, 2, 3, 0] rfl)
  · have h := hx7 _ e7
    exact g_outX (by rw [htab]; decide) hlk hKn hRc hRs hS n1 n2 nB nk h
/-- SendHallLaw.least(LSendHall;I[J)I -/
def fX0_least (E : g_E) (v0 : Option Nat) (v1 : Int32) (v2 : Option Nat) (G : g_G) : Option ((Int32 × g_G) ⊕ gX) :=
  (gchk G 1 v0).bind fun b4 =>
  gcat (fX1_least E b4 v1 G) (fun z4 =>
    (gsaL E z4.2 v2 0 (Int32.toInt64 z4.1)).bind fun G8 =>
    some (.inl (0, G8)))
  (fun y => if y.1 = 21 then (
    some (.inl (1, y.2.2))) else none)
theorem sX0_least (l : Launch) (E : g_E) (D : g_D) (hlT : l.stackTraces = false) {v0 : Option Nat} {v1 : Int32} {v2 : Option Nat} {G : g_G} {q : (Int32 × g_G) ⊕ gX} (h : fX0_least E v0 v1 v2 G = some q) : gMetX l E D yX0_least (wsW_ yX0_least cX0_least 4 (some .int) [(0, 9, 12, 13)]) 227 7533 [.inr (.inr v0), .inl v1, .inr (.inr v2)] G gokI q := by
  refine gMetX.ofH (by decide +kernel) (Nat.le_of_ble_eq_true rfl) ?_
  intro p e R s m args below meth c C htab hS ls hl
  have C : gC p R s m args meth c cX0_least 4 RX0 "least" (some .int) 227 7533 E D := C
  obtain ⟨hx, hb, hml, hown, hts, hKn, hRc, hRs, hc1, hc2, hRf, hRl, hr, hlk, hnm⟩ := id C
  have hl : gls ls 4 [(0, .inr (.inr v0)), (1, .inl v1), (2, .inr (.inr v2))] := hl
  generalize hH0 : s.heap = H at hS ⊢
  unfold fX0_least at h
  refine g_aload_n hx hb hl 2 rfl dX0_least_0 ?_
  refine lv_iconst (v := 0) hx hb dX0_least_1 (by decide) ?_
  refine g_aload_n hx hb hl 0 rfl dX0_least_2 ?_
  refine g_iload_n hx hb hl 1 rfl dX0_least_3 ?_
  obtain ⟨b4, hb4, h⟩ := g_bnd h
  obtain ⟨hr4, hk4⟩ := g_chk hb4
  obtain ⟨o4, h4, ha4, hx4⟩ := g_catE h
  refine g_callVt (n := 1) (b := b4) (av := [.inl v1]) (rs := [.inl 0, .inr (.inr v2)]) hx hb hml hown hts hKn hRc hRs hS hl (sX1_least l E D hlT h4) (lw_V q1834 q1835 q1836 q113 q1837) ⟨rfl, by decide, by decide, by decide +kernel⟩ ⟨by rw [hRf]; exact Nat.le_of_ble_eq_true rfl, by rw [hRl]; exact Nat.le_of_ble_eq_true rfl⟩ (g_recv hKn hS hk4 (by decide) (by decide)) rfl (by rw [hr4]; rfl) (Nat.le_of_ble_eq_true rfl) dX0_least_4 (fun z4 e4 H locs cells slots hS => ?_) (fun k4 a4 G4 e4 n1 n2 nk nB H locs cells slots hS => ?_)
  · have h := ha4 _ e4
    refine lv_i2l (v := (Int32.toInt64 z4.1)) hx hb dX0_least_7 rfl ?_
    refine g_lastoreG hx hb hKn hS h dX0_least_8 (fun G8 h H locs hS => ?_)
    refine lv_goto (tgt := 15) hx hb dX0_least_9 (by decide) ?_
    refine lv_iconst (v := 0) hx hb dX0_least_15 (by decide) ?_
    exact g_retX (g_iretG hx hb hr hlk hKn hRc hRs hS (q := (0, G8)) rfl dX0_least_16) h rfl
  · have h := hx4 _ e4
    by_cases hz4 : k4 = 21
    · subst hz4
      have h := g_ift rfl h
      refine g_catchX (hq := (0, 9, 12, 13)) hown hKn hS (by decide) (by decide) nB nk htab (by decide) (by decide) (hts _ q1087) q188 ?_
      have y_1 : ∃ y : gX, y = (21, a4, G4) := ⟨_, rfl⟩
      refine g_astore_n (l1 := [(3, .inr (.inr (some a4))), (0, .inr (.inr v0)), (1, .inl v1), (2, .inr (.inr v2))]) hx hb hl (by decide) rfl dX0_least_12 (fun ls hl => ?_)
      refine lv_iconst (v := 1) hx hb dX0_least_13 (by decide) ?_
      exact g_retX (g_iretG hx hb hr hlk hKn hRc hRs hS (q := (1, G4)) rfl dX0_least_14) h rfl
    · exact g_no (g_iff hz4 h)
/-- SendHallLaw.play(LSendHall;IJ[J)I -/
def fX0_play (E : g_E) (v0 : Option Nat) (v1 : Int32) (v2 : Int64) (v4 : Option Nat) (G : g_G) : Option ((Int32 × g_G) ⊕ gX) :=
  (gchk G 1 v0).bind fun b6 =>
  gcat (fX1_play E b6 v1 v2 G) (fun z6 =>
    (gsaL E z6.2 v4 0 (Int32.toInt64 z6.1)).bind fun G10 =>
    some (.inl (0, G10)))
  (fun y => if y.1 = 21 then (
    some (.inl (1, y.2.2))) else none)
theorem sX0_play (l : Launch) (E : g_E) (D : g_D) (hlT : l.stackTraces = false) {v0 : Option Nat} {v1 : Int32} {v2 : Int64} {v4 : Option Nat} {G : g_G} {q : (Int32 × g_G) ⊕ gX} (h : fX0_play E v0 v1 v2 v4 G = some q) : gMetX l E D yX0_play (wsW_ yX0_play cX0_play 6 (some .int) [(0, 11, 14, 13)]) 227 7535 [.inr (.inr v0), .inl v1, .inr (.inl v2), .inr (.inr v4)] G gokI q := by
  refine gMetX.ofH (by decide +kernel) (Nat.le_of_ble_eq_true rfl) ?_
  intro p e R s m args below meth c C htab hS ls hl
  have C : gC p R s m args meth c cX0_play 6 RX0 "play" (some .int) 227 7535 E D := C
  obtain ⟨hx, hb, hml, hown, hts, hKn, hRc, hRs, hc1, hc2, hRf, hRl, hr, hlk, hnm⟩ := id C
  have hl : gls ls 6 [(0, .inr (.inr v0)), (1, .inl v1), (2, .inr (.inl v2)), (4, .inr (.inr v4))] := hl
  generalize hH0 : s.heap = H at hS ⊢
  unfold fX0_play at h
  refine g_aload hx hb hl 3 rfl dX0_play_0 ?_
  refine lv_iconst (v := 0) hx hb dX0_play_2 (by decide) ?_
  refine g_aload_n hx hb hl 0 rfl dX0_play_3 ?_
  refine g_iload_n hx hb hl 1 rfl dX0_play_4 ?_
  refine g_lload_n hx hb hl 2 rfl dX0_play_5 ?_
  obtain ⟨b6, hb6, h⟩ := g_bnd h
  obtain ⟨hr6, hk6⟩ := g_chk hb6
  obtain ⟨o6, h6, ha6, hx6⟩ := g_catE h
  refine g_callVt (n := 2) (b := b6) (av := [.inl v1, .inr (.inl v2)]) (rs := [.inl 0, .inr (.inr v4)]) hx hb hml hown hts hKn hRc hRs hS hl (sX1_play l E D hlT h6) (lw_V q1781 q1782 q1783 q113 q1784) ⟨rfl, by decide, by decide, by decide +kernel⟩ ⟨by rw [hRf]; exact Nat.le_of_ble_eq_true rfl, by rw [hRl]; exact Nat.le_of_ble_eq_true rfl⟩ (g_recv hKn hS hk6 (by decide) (by decide)) rfl (by rw [hr6]; rfl) (Nat.le_of_ble_eq_true rfl) dX0_play_6 (fun z6 e6 H locs cells slots hS => ?_) (fun k6 a6 G6 e6 n1 n2 nk nB H locs cells slots hS => ?_)
  · have h := ha6 _ e6
    refine lv_i2l (v := (Int32.toInt64 z6.1)) hx hb dX0_play_9 rfl ?_
    refine g_lastoreG hx hb hKn hS h dX0_play_10 (fun G10 h H locs hS => ?_)
    refine lv_goto (tgt := 18) hx hb dX0_play_11 (by decide) ?_
    refine lv_iconst (v := 0) hx hb dX0_play_18 (by decide) ?_
    exact g_retX (g_iretG hx hb hr hlk hKn hRc hRs hS (q := (0, G10)) rfl dX0_play_19) h rfl
  · have h := hx6 _ e6
    by_cases hz6 : k6 = 21
    · subst hz6
      have h := g_ift rfl h
      refine g_catchX (hq := (0, 11, 14, 13)) hown hKn hS (by decide) (by decide) nB nk htab (by decide) (by decide) (hts _ q1087) q188 ?_
      have y_1 : ∃ y : gX, y = (21, a6, G6) := ⟨_, rfl⟩
      refine g_astore (l1 := [(5, .inr (.inr (some a6))), (0, .inr (.inr v0)), (1, .inl v1), (2, .inr (.inl v2)), (4, .inr (.inr v4))]) hx hb hl (by decide) rfl dX0_play_14 (fun ls hl => ?_)
      refine lv_iconst (v := 1) hx hb dX0_play_16 (by decide) ?_
      exact g_retX (g_iretG hx hb hr hlk hKn hRc hRs hS (q := (1, G6)) rfl dX0_play_17) h rfl
    · exact g_no (g_iff hz6 h)
