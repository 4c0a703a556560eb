set_option maxRecDepth 100000
/-- java/lang/Integer.numberOfTrailingZeros(I)I -/
def fJ16_numberOfTrailingZeros_b74 (E : g_E) (v0 : Int32) (v1 : Int32) (G : g_G) : Option (Int32 × g_G) :=
  some ((v1 + (((Int32.toUInt32 v0) >>> ((Int32.toUInt32 1) &&& Int32.toUInt32 31)).toInt32)), G)
def fJ16_numberOfTrailingZeros_b62 (E : g_E) (v0 : Int32) (v1 : Int32) (G : g_G) : Option (Int32 × g_G) :=
  if v0 ≤ (4 : Int32) then (
    fJ16_numberOfTrailingZeros_b74 E v0 v1 G)
  else (
    fJ16_numberOfTrailingZeros_b74 E (((Int32.toUInt32 v0) >>> ((Int32.toUInt32 2) &&& Int32.toUInt32 31)).toInt32) (v1 + 2) G)
def fJ16_numberOfTrailingZeros_b49 (E : g_E) (v0 : Int32) (v1 : Int32) (G : g_G) : Option (Int32 × g_G) :=
  if v0 ≤ (16 : Int32) then (
    fJ16_numberOfTrailingZeros_b62 E v0 v1 G)
  else (
    fJ16_numberOfTrailingZeros_b62 E (((Int32.toUInt32 v0) >>> ((Int32.toUInt32 4) &&& Int32.toUInt32 31)).toInt32) (v1 + 4) G)
def fJ16_numberOfTrailingZeros_b34 (E : g_E) (v0 : Int32) (v1 : Int32) (G : g_G) : Option (Int32 × g_G) :=
  if v0 ≤ (256 : Int32) then (
    fJ16_numberOfTrailingZeros_b49 E v0 v1 G)
  else (
    fJ16_numberOfTrailingZeros_b49 E (((Int32.toUInt32 v0) >>> ((Int32.toUInt32 8) &&& Int32.toUInt32 31)).toInt32) (v1 + 8) G)
def fJ16_numberOfTrailingZeros (E : g_E) (v0 : Int32) (G : g_G) : Option (Int32 × g_G) :=
  if 0 < ((v0 ^^^ (-1)) &&& (v0 - 1)) then (
    if ((v0 ^^^ (-1)) &&& (v0 - 1)) ≤ (65536 : Int32) then (
      fJ16_numberOfTrailingZeros_b34 E ((v0 ^^^ (-1)) &&& (v0 - 1)) 1 G)
    else (
      fJ16_numberOfTrailingZeros_b34 E (((Int32.toUInt32 ((v0 ^^^ (-1)) &&& (v0 - 1))) >>> ((Int32.toUInt32 16) &&& Int32.toUInt32 31)).toInt32) (1 + 16) G))
  else (
    some ((((v0 ^^^ (-1)) &&& (v0 - 1)) &&& 32), G))
theorem sJ16_numberOfTrailingZeros_b74 {p : Program} {l : Launch} {e : Env} {R : Room} {s : State} {m : MethodId} {args : Array Value} {below : List Frame} {meth : Method} {c : Code} {E : g_E} {D : g_D} (C : gC p R s m args meth c cJ16_numberOfTrailingZeros 2 RJ16 "numberOfTrailingZeros" (some .int) 1 64 E D) : ∀ (v0 : Int32) (v1 : Int32) (G : g_G) (q : Int32 × g_G), fJ16_numberOfTrailingZeros_b74 E v0 v1 G = some q → ∀ (H : Heap) (locs : List Loc) (cells slots : Nat) (ls : Array Slot), gSt E D G H locs → gls ls 2 [(0, .inl v0), (1, .inl v1)] → gT p l e R s m args below meth c E D H locs cells slots (some (.int q.1)) q.2 (F0 m 74 ls []) := by
  obtain ⟨hx, hb, hml, hown, hts, hKn, hRc, hRs, hc1, hc2, hRf, hRl, hr, hlk, hnm⟩ := id C
  intro v0 v1 G q h H locs cells slots ls hS hl
  unfold fJ16_numberOfTrailingZeros_b74 at h
  refine g_iload_n hx hb hl 1 rfl dJ16_numberOfTrailingZeros_74 ?_
  refine g_iload_n hx hb hl 0 rfl dJ16_numberOfTrailingZeros_75 ?_
  refine lv_iconst (v := 1) hx hb dJ16_numberOfTrailingZeros_76 (by decide) ?_
  refine lv_iushr (v := ((Int32.toUInt32 v0) >>> ((Int32.toUInt32 1) &&& Int32.toUInt32 31)).toInt32) hx hb dJ16_numberOfTrailingZeros_77 rfl ?_
  refine lv_iadd hx hb dJ16_numberOfTrailingZeros_78 ?_
  exact g_iretG hx hb hr hlk hKn hRc hRs hS h dJ16_numberOfTrailingZeros_79
theorem sJ16_numberOfTrailingZeros_b62 {p : Program} {l : Launch} {e : Env} {R : Room} {s : State} {m : MethodId} {args : Array Value} {below : List Frame} {meth : Method} {c : Code} {E : g_E} {D : g_D} (C : gC p R s m args meth c cJ16_numberOfTrailingZeros 2 RJ16 "numberOfTrailingZeros" (some .int) 1 64 E D) : ∀ (v0 : Int32) (v1 : Int32) (G : g_G) (q : Int32 × g_G), fJ16_numberOfTrailingZeros_b62 E v0 v1 G = some q → ∀ (H : Heap) (locs : List Loc) (cells slots : Nat) (ls : Array Slot), gSt E D G H locs → gls ls 2 [(0, .inl v0), (1, .inl v1)] → gT p l e R s m args below meth c E D H locs cells slots (some (.int q.1)) q.2 (F0 m 62 ls []) := by
  obtain ⟨hx, hb, hml, hown, hts, hKn, hRc, hRs, hc1, hc2, hRf, hRl, hr, hlk, hnm⟩ := id C
  intro v0 v1 G q h H locs cells slots ls hS hl
  unfold fJ16_numberOfTrailingZeros_b62 at h
  refine g_iload_n hx hb hl 0 rfl dJ16_numberOfTrailingZeros_62 ?_
  refine lv_iconst (v := 4) hx hb dJ16_numberOfTrailingZeros_63 (by decide) ?_
  refine lv_icmp_le (tgt := 74) hx hb dJ16_numberOfTrailingZeros_64 (by decide) (fun c_64 => ?_) (fun c_64 => ?_)
  · have h := g_ift c_64 h
    exact sJ16_numberOfTrailingZeros_b74 C _ _ _ _ h _ _ _ _ _ hS (gls_sub hl [0, 1] rfl)
  · have h := g_iff c_64 h
    refine g_iinc (l1 := [(1, .inl (v1 + 2)), (0, .inl v0)]) (v := (v1 + 2)) hx hb hl (k := 1) rfl (by rfl) (by decide) rfl dJ16_numberOfTrailingZeros_67 (fun ls hl => ?_)
    refine g_iload_n hx hb hl 1 rfl dJ16_numberOfTrailingZeros_70 ?_
    refine lv_iconst (v := 2) hx hb dJ16_numberOfTrailingZeros_71 (by decide) ?_
    refine lv_iushr (v := ((Int32.toUInt32 v0) >>> ((Int32.toUInt32 2) &&& Int32.toUInt32 31)).toInt32) hx hb dJ16_numberOfTrailingZeros_72 rfl ?_
    refine g_istore_n (l1 := [(0, .inl (((Int32.toUInt32 v0) >>> ((Int32.toUInt32 2) &&& Int32.toUInt32 31)).toInt32)), (1, .inl (v1 + 2))]) hx hb hl (by decide) rfl dJ16_numberOfTrailingZeros_73 (fun ls hl => ?_)
    exact sJ16_numberOfTrailingZeros_b74 C _ _ _ _ h _ _ _ _ _ hS (gls_sub hl [0, 1] rfl)
theorem sJ16_numberOfTrailingZeros_b49 {p : Program} {l : Launch} {e : Env} {R : Room} {s : State} {m : MethodId} {args : Array Value} {below : List Frame} {meth : Method} {c : Code} {E : g_E} {D : g_D} (C : gC p R s m args meth c cJ16_numberOfTrailingZeros 2 RJ16 "numberOfTrailingZeros" (some .int) 1 64 E D) : ∀ (v0 : Int32) (v1 : Int32) (G : g_G) (q : Int32 × g_G), fJ16_numberOfTrailingZeros_b49 E v0 v1 G = some q → ∀ (H : Heap) (locs : List Loc) (cells slots : Nat) (ls : Array Slot), gSt E D G H locs → gls ls 2 [(0, .inl v0), (1, .inl v1)] → gT p l e R s m args below meth c E D H locs cells slots (some (.int q.1)) q.2 (F0 m 49 ls []) := by
  obtain ⟨hx, hb, hml, hown, hts, hKn, hRc, hRs, hc1, hc2, hRf, hRl, hr, hlk, hnm⟩ := id C
  intro v0 v1 G q h H locs cells slots ls hS hl
  unfold fJ16_numberOfTrailingZeros_b49 at h
  refine g_iload_n hx hb hl 0 rfl dJ16_numberOfTrailingZeros_49 ?_
  refine lv_bipush (v := 16) hx hb dJ16_numberOfTrailingZeros_50 (by decide) ?_
  refine lv_icmp_le (tgt := 62) hx hb dJ16_numberOfTrailingZeros_52 (by decide) (fun c_52 => ?_) (fun c_52 => ?_)
  · have h := g_ift c_52 h
    exact sJ16_numberOfTrailingZeros_b62 C _ _ _ _ h _ _ _ _ _ hS (gls_sub hl [0, 1] rfl)
  · have h := g_iff c_52 h
    refine g_iinc (l1 := [(1, .inl (v1 + 4)), (0, .inl v0)]) (v := (v1 + 4)) hx hb hl (k := 1) rfl (by rfl) (by decide) rfl dJ16_numberOfTrailingZeros_55 (fun ls hl => ?_)
    refine g_iload_n hx hb hl 1 rfl dJ16_numberOfTrailingZeros_58 ?_
    refine lv_iconst (v := 4) hx hb dJ16_numberOfTrailingZeros_59 (by decide) ?_
    refine lv_iushr (v := ((Int32.toUInt32 v0) >>> ((Int32.toUInt32 4) &&& Int32.toUInt32 31)).toInt32) hx hb dJ16_numberOfTrailingZeros_60 rfl ?_
    refine g_istore_n (l1 := [(0, .inl (((Int32.toUInt32 v0) >>> ((Int32.toUInt32 4) &&& Int32.toUInt32 31)).toInt32)), (1, .inl (v1 + 4))]) hx hb hl (by decide) rfl dJ16_numberOfTrailingZeros_61 (fun ls hl => ?_)
    exact sJ16_numberOfTrailingZeros_b62 C _ _ _ _ h _ _ _ _ _ hS (gls_sub hl [0, 1] rfl)
theorem sJ16_numberOfTrailingZeros_b34 {p : Program} {l : Launch} {e : Env} {R : Room} {s : State} {m : MethodId} {args : Array Value} {below : List Frame} {meth : Method} {c : Code} {E : g_E} {D : g_D} (C : gC p R s m args meth c cJ16_numberOfTrailingZeros 2 RJ16 "numberOfTrailingZeros" (some .int) 1 64 E D) : ∀ (v0 : Int32) (v1 : Int32) (G : g_G) (q : Int32 × g_G), fJ16_numberOfTrailingZeros_b34 E v0 v1 G = some q → ∀ (H : Heap) (locs : List Loc) (cells slots : Nat) (ls : Array Slot), gSt E D G H locs → gls ls 2 [(0, .inl v0), (1, .inl v1)] → gT p l e R s m args below meth c E D H locs cells slots (some (.int q.1)) q.2 (F0 m 34 ls []) := by
  obtain ⟨hx, hb, hml, hown, hts, hKn, hRc, hRs, hc1, hc2, hRf, hRl, hr, hlk, hnm⟩ := id C
  intro v0 v1 G q h H locs cells slots ls hS hl
  unfold fJ16_numberOfTrailingZeros_b34 at h
  refine g_iload_n hx hb hl 0 rfl dJ16_numberOfTrailingZeros_34 ?_
  refine lv_sipush (v := 256) hx hb dJ16_numberOfTrailingZeros_35 (by decide) ?_
  refine lv_icmp_le (tgt := 49) hx hb dJ16_numberOfTrailingZeros_38 (by decide) (fun c_38 => ?_) (fun c_38 => ?_)
  · have h := g_ift c_38 h
    exact sJ16_numberOfTrailingZeros_b49 C _ _ _ _ h _ _ _ _ _ hS (gls_sub hl [0, 1] rfl)
  · have h := g_iff c_38 h
    refine g_iinc (l1 := [(1, .inl (v1 + 8)), (0, .inl v0)]) (v := (v1 + 8)) hx hb hl (k := 1) rfl (by rfl) (by decide) rfl dJ16_numberOfTrailingZeros_41 (fun ls hl => ?_)
    refine g_iload_n hx hb hl 1 rfl dJ16_numberOfTrailingZeros_44 ?_
    refine lv_bipush (v := 8) hx hb dJ16_numberOfTrailingZeros_45 (by decide) ?_
    refine lv_iushr (v := ((Int32.toUInt32 v0) >>> ((Int32.toUInt32 8) &&& Int32.toUInt32 31)).toInt32) hx hb dJ16_numberOfTrailingZeros_47 rfl ?_
    refine g_istore_n (l1 := [(0, .inl (((Int32.toUInt32 v0) >>> ((Int32.toUInt32 8) &&& Int32.toUInt32 31)).toInt32)), (1, .inl (v1 + 8))]) hx hb hl (by decide) rfl dJ16_numberOfTrailingZeros_48 (fun ls hl => ?_)
    exact sJ16_numberOfTrailingZeros_b49 C _ _ _ _ h _ _ _ _ _ hS (gls_sub hl [0, 1] rfl)
theorem sJ16_numberOfTrailingZeros (l : Launch) (E : g_E) (D : g_D) {v0 : Int32} {G : g_G} {q : Int32 × g_G} (h : fJ16_numberOfTrailingZeros E v0 G = some q) : gMet l E D yJ16_numberOfTrailingZeros (ws_ yJ16_numberOfTrailingZeros cJ16_numberOfTrailingZeros 2 (some .int)) 1 64 [.inl v0] G (some (.int q.1)) q.2 := by
  refine gMet.of (by decide +kernel) (Nat.le_of_ble_eq_true rfl) ?_
  intro p e R s m args below meth c C hS ls hl
  have C : gC p R s m args meth c cJ16_numberOfTrailingZeros 2 RJ16 "numberOfTrailingZeros" (some .int) 1 64 E D := C
  obtain ⟨hx, hb, hml, hown, hts, hKn, hRc, hRs, hc1, hc2, hRf, hRl, hr, hlk, hnm⟩ := id C
  have hl : gls ls 2 [(0, .inl v0)] := hl
  generalize s.heap = H at hS ⊢
  unfold fJ16_numberOfTrailingZeros at h
  refine g_iload_n hx hb hl 0 rfl dJ16_numberOfTrailingZeros_0 ?_
  refine lv_iconst (v := (-1)) hx hb dJ16_numberOfTrailingZeros_1 (by decide) ?_
  refine lv_ixor hx hb dJ16_numberOfTrailingZeros_2 ?_
  refine g_iload_n hx hb hl 0 rfl dJ16_numberOfTrailingZeros_3 ?_
  refine lv_iconst (v := 1) hx hb dJ16_numberOfTrailingZeros_4 (by decide) ?_
  refine lv_isub hx hb dJ16_numberOfTrailingZeros_5 ?_
  refine lv_iand hx hb dJ16_numberOfTrailingZeros_6 ?_
  refine g_istore_n (l1 := [(0, .inl ((v0 ^^^ (-1)) &&& (v0 - 1)))]) hx hb hl (by decide) rfl dJ16_numberOfTrailingZeros_7 (fun ls hl => ?_)
  refine g_iload_n hx hb hl 0 rfl dJ16_numberOfTrailingZeros_8 ?_
  refine lv_if_gt (tgt := 17) hx hb dJ16_numberOfTrailingZeros_9 (by decide) (fun c_9 => ?_) (fun c_9 => ?_)
  · have h := g_ift c_9 h
    refine lv_iconst (v := 1) hx hb dJ16_numberOfTrailingZeros_17 (by decide) ?_
    refine g_istore_n (l1 := [(1, .inl 1), (0, .inl ((v0 ^^^ (-1)) &&& (v0 - 1)))]) hx hb hl (by decide) rfl dJ16_numberOfTrailingZeros_18 (fun ls hl => ?_)
    refine g_iload_n hx hb hl 1 rfl dJ16_numberOfTrailingZeros_19 ?_
    refine lv_ldcw (v := 65536) hx hb hown (hts _ q1801) dJ16_numberOfTrailingZeros_20 ?_
    refine lv_icmp_le (tgt := 34) hx hb dJ16_numberOfTrailingZeros_23 (by decide) (fun c_23 => ?_) (fun c_23 => ?_)
    · have h := g_ift c_23 h
      exact sJ16_numberOfTrailingZeros_b34 C _ _ _ _ h _ _ _ _ _ hS (gls_sub hl [1, 0] rfl)
    · have h := g_iff c_23 h
      refine g_iinc (l1 := [(1, .inl (1 + 16)), (0, .inl ((v0 ^^^ (-1)) &&& (v0 - 1)))]) (v := (1 + 16)) hx hb hl (k := 0) rfl (by rfl) (by decide) rfl dJ16_numberOfTrailingZeros_26 (fun ls hl => ?_)
      refine g_iload_n hx hb hl 1 rfl dJ16_numberOfTrailingZeros_29 ?_
      refine lv_bipush (v := 16) hx hb dJ16_numberOfTrailingZeros_30 (by decide) ?_
      refine lv_iushr (v := ((Int32.toUInt32 ((v0 ^^^ (-1)) &&& (v0 - 1))) >>> ((Int32.toUInt32 16) &&& Int32.toUInt32 31)).toInt32) hx hb dJ16_numberOfTrailingZeros_32 rfl ?_
      refine g_istore_n (l1 := [(0, .inl (((Int32.toUInt32 ((v0 ^^^ (-1)) &&& (v0 - 1))) >>> ((Int32.toUInt32 16) &&& Int32.toUInt32 31)).toInt32)), (1, .inl (1 + 16))]) hx hb hl (by decide) rfl dJ16_numberOfTrailingZeros_33 (fun ls hl => ?_)
      exact sJ16_numberOfTrailingZeros_b34 C _ _ _ _ h _ _ _ _ _ hS (gls_sub hl [0, 1] rfl)
  · have h := g_iff c_9 h
    refine g_iload_n hx hb hl 0 rfl dJ16_numberOfTrailingZeros_12 ?_
    refine lv_bipush (v := 32) hx hb dJ16_numberOfTrailingZeros_13 (by decide) ?_
    refine lv_iand hx hb dJ16_numberOfTrailingZeros_15 ?_
    exact g_iretG hx hb hr hlk hKn hRc hRs hS h dJ16_numberOfTrailingZeros_16
/-- java/lang/Character.charValue()C -/
def fJ17_charValue (E : g_E) (t : Nat) (G : g_G) : Option (Int32 × g_G) :=
  (grI G 20 20 (some t) 0).bind fun x1 =>
  if (Int32.toUInt32 x1).toUInt16.toUInt32.toInt32 = x1 then some (x1, G) else none
theorem sJ17_charValue (l : Launch) (E : g_E) (D : g_D) {t : Nat} {G : g_G} {q : Int32 × g_G} (h : fJ17_charValue E t G = some q) : gMet l E D yJ17_charValue (ws_ yJ17_charValue cJ17_charValue 1 (some .char)) 1 64 [.inr (.inr (some t))] G (some (.int q.1)) q.2 := by
  refine gMet.of (by decide +kernel) (Nat.le_of_ble_eq_true rfl) ?_
  intro p e R s m args below meth c C hS ls hl
  have C : gC p R s m args meth c cJ17_charValue 1 RJ17 "charValue" (some .char) 1 64 E D := C
  obtain ⟨hx, hb, hml, hown, hts, hKn, hRc, hRs, hc1, hc2, hRf, hRl, hr, hlk, hnm⟩ := id C
  have hl : gls ls 1 [(0, .inr (.inr (some t)))] := hl
  generalize s.heap = H at hS ⊢
  unfold fJ17_charValue at h
  refine g_aload_n hx hb hl 0 rfl dJ17_charValue_0 ?_
  refine g_rdI hx hb hown hts hKn hS h fd_20_20_0 rfl (Or.inl (hts _ q1549)) (fun _ z => z) dJ17_charValue_1 (fun x1 h => ?_)
  exact g_cretG hx hb hr hlk hKn hRc hRs hS h dJ17_charValue_4
/-- java/lang/Character.highSurrogate(I)C -/
def fJ17_highSurrogate (E : g_E) (v0 : Int32) (G : g_G) : Option (Int32 × g_G) :=
  if (Int32.toUInt32 (UInt32.toInt32 (Int32.toUInt32 ((((Int32.toUInt32 v0) >>> ((Int32.toUInt32 10) &&& Int32.toUInt32 31)).toInt32) + 55232) % 65536))).toUInt16.toUInt32.toInt32 = (UInt32.toInt32 (Int32.toUInt32 ((((Int32.toUInt32 v0) >>> ((Int32.toUInt32 10) &&& Int32.toUInt32 31)).toInt32) + 55232) % 65536)) then some ((UInt32.toInt32 (Int32.toUInt32 ((((Int32.toUInt32 v0) >>> ((Int32.toUInt32 10) &&& Int32.toUInt32 31)).toInt32) + 55232) % 65536)), G) else none
theorem sJ17_highSurrogate (l : Launch) (E : g_E) (D : g_D) {v0 : Int32} {G : g_G} {q : Int32 × g_G} (h : fJ17_highSurrogate E v0 G = some q) : gMet l E D yJ17_highSurrogate (ws_ yJ17_highSurrogate cJ17_highSurrogate 1 (some .char)) 1 64 [.inl v0] G (some (.int q.1)) q.2 := by
  refine gMet.of (by decide +kernel) (Nat.le_of_ble_eq_true rfl) ?_
  intro p e R s m args below meth c C hS ls hl
  have C : gC p R s m args meth c cJ17_highSurrogate 1 RJ17 "highSurrogate" (some .char) 1 64 E D := C
  obtain ⟨hx, hb, hml, hown, hts, hKn, hRc, hRs, hc1, hc2, hRf, hRl, hr, hlk, hnm⟩ := id C
  have hl : gls ls 1 [(0, .inl v0)] := hl
  generalize s.heap = H at hS ⊢
  unfold fJ17_highSurrogate at h
  refine g_iload_n hx hb hl 0 rfl dJ17_highSurrogate_0 ?_
  refine lv_bipush (v := 10) hx hb dJ17_highSurrogate_1 (by decide) ?_
  refine lv_iushr (v := ((Int32.toUInt32 v0) >>> ((Int32.toUInt32 10) &&& Int32.toUInt32 31)).toInt32) hx hb dJ17_highSurrogate_3 rfl ?_
  refine lv_ldc (v := 55232) hx hb hown (hts _ q1210) dJ17_highSurrogate_4 ?_
  refine lv_iadd hx hb dJ17_highSurrogate_6 ?_
  refine lv_i2c (v := (UInt32.toInt32 (Int32.toUInt32 ((((Int32.toUInt32 v0) >>> ((Int32.toUInt32 10) &&& Int32.toUInt32 31)).toInt32) + 55232) % 65536))) hx hb dJ17_highSurrogate_7 rfl ?_
  exact g_cretG hx hb hr hlk hKn hRc hRs hS h dJ17_highSurrogate_8
/-- java/lang/Character.<init>(C)V -/
def fJ17_init (E : g_E) (t : Nat) (v1 : Int32) (G : g_G) : Option (g_G) :=
  (gpC E G 20 20 (some t) 0 v1).bind fun G6 =>
  some G6
theorem sJ17_init (l : Launch) (E : g_E) (D : g_D) {t : Nat} {v1 : Int32} {G : g_G} {q : g_G} (h : fJ17_init E t v1 G = some q) : gMet l E D yJ17_init (ws_ yJ17_init cJ17_init 2 (none)) 1 64 [.inr (.inr (some t)), .inl v1] G none q := by
  refine gMet.of (by decide +kernel) (Nat.le_of_ble_eq_true rfl) ?_
  intro p e R s m args below meth c C hS ls hl
  have C : gC p R s m args meth c cJ17_init 2 RJ17 "<init>" (none) 1 64 E D := C
  obtain ⟨hx, hb, hml, hown, hts, hKn, hRc, hRs, hc1, hc2, hRf, hRl, hr, hlk, hnm⟩ := id C
  have hl : gls ls 2 [(0, .inr (.inr (some t))), (1, .inl v1)] := hl
  generalize s.heap = H at hS ⊢
  unfold fJ17_init at h
  refine g_aload_n hx hb hl 0 rfl dJ17_init_0 ?_
  refine g_objInit (rs := []) hx hb hml hown hl (hts _ q1548) (hts _ q162) (hts _ q163) rfl dJ17_init_1 ⟨by rw [hRf]; exact Nat.le_of_ble_eq_true rfl, by rw [hRl]; exact Nat.le_of_ble_eq_true rfl⟩ ?_
  refine g_aload_n hx hb hl 0 rfl dJ17_init_4 ?_
  refine g_iload_n hx hb hl 1 rfl dJ17_init_5 ?_
  refine g_ptC hx hb hown hts hKn hS h fd_20_20_0 (Or.inl (hts _ q1549)) (fun _ z => z) (fun _ => ⟨hnm, rfl⟩) dJ17_init_6 (fun G6 h H locs hS => ?_)
  exact g_vretG hx hb hr hlk hKn hRc hRs hS h dJ17_init_9
/-- java/lang/Character.isValidCodePoint(I)Z -/
def fJ17_isValidCodePoint (E : g_E) (v0 : Int32) (G : g_G) : Option (Int32 × g_G) :=
  if (17 : Int32) ≤ (((Int32.toUInt32 v0) >>> ((Int32.toUInt32 16) &&& Int32.toUInt32 31)).toInt32) then (
    if (0 : Int32) = 0 ∨ (0 : Int32) = 1 then some (0, G) else none)
  else (
    if (1 : Int32) = 0 ∨ (1 : Int32) = 1 then some (1, G) else none)
theorem sJ17_isValidCodePoint (l : Launch) (E : g_E) (D : g_D) {v0 : Int32} {G : g_G} {q : Int32 × g_G} (h : fJ17_isValidCodePoint E v0 G = some q) : gMet l E D yJ17_isValidCodePoint (ws_ yJ17_isValidCodePoint cJ17_isValidCodePoint 2 (some .boolean)) 1 64 [.inl v0] G (some (.int q.1)) q.2 := by
  refine gMet.of (by decide +kernel) (Nat.le_of_ble_eq_true rfl) ?_
  intro p e R s m args below meth c C hS ls hl
  have C : gC p R s m args meth c cJ17_isValidCodePoint 2 RJ17 "isValidCodePoint" (some .boolean) 1 64 E D := C
  obtain ⟨hx, hb, hml, hown, hts, hKn, hRc, hRs, hc1, hc2, hRf, hRl, hr, hlk, hnm⟩ := id C
  have hl : gls ls 2 [(0, .inl v0)] := hl
  generalize s.heap = H at hS ⊢
  unfold fJ17_isValidCodePoint at h
  refine g_iload_n hx hb hl 0 rfl dJ17_isValidCodePoint_0 ?_
  refine lv_bipush (v := 16) hx hb dJ17_isValidCodePoint_1 (by decide) ?_
  refine lv_iushr (v := ((Int32.toUInt32 v0) >>> ((Int32.toUInt32 16) &&& Int32.toUInt32 31)).toInt32) hx hb dJ17_isValidCodePoint_3 rfl ?_
  refine g_istore_n (l1 := [(1, .inl (((Int32.toUInt32 v0) >>> ((Int32.toUInt32 16) &&& Int32.toUInt32 31)).toInt32)), (0, .inl v0)]) hx hb hl (by decide) rfl dJ17_isValidCodePoint_4 (fun ls hl => ?_)
  refine g_iload_n hx hb hl 0 rfl dJ17_isValidCodePoint_5 ?_
  refine lv_bipush (v := 17) hx hb dJ17_isValidCodePoint_6 (by decide) ?_
  refine lv_icmp_ge (tgt := 15) hx hb dJ17_isValidCodePoint_8 (by decide) (fun c_8 => ?_) (fun c_8 => ?_)
  · have h := g_ift c_8 h
    refine lv_iconst (v := 0) hx hb dJ17_isValidCodePoint_15 (by decide) ?_
    exact g_zretG hx hb hr hlk hKn hRc hRs hS h dJ17_isValidCodePoint_16
  · have h := g_iff c_8 h
    refine lv_iconst (v := 1) hx hb dJ17_isValidCodePoint_11 (by decide) ?_
    refine lv_goto (tgt := 16) hx hb dJ17_isValidCodePoint_12 (by decide) ?_
    exact g_zretG hx hb hr hlk hKn hRc hRs hS h dJ17_isValidCodePoint_16
/-- java/lang/Character.lowSurrogate(I)C -/
def fJ17_lowSurrogate (E : g_E) (v0 : Int32) (G : g_G) : Option (Int32 × g_G) :=
  if (Int32.toUInt32 (UInt32.toInt32 (Int32.toUInt32 ((v0 &&& 1023) + 56320) % 65536))).toUInt16.toUInt32.toInt32 = (UInt32.toInt32 (Int32.toUInt32 ((v0 &&& 1023) + 56320) % 65536)) then some ((UInt32.toInt32 (Int32.toUInt32 ((v0 &&& 1023) + 56320) % 65536)), G) else none
theorem sJ17_lowSurrogate (l : Launch) (E : g_E) (D : g_D) {v0 : Int32} {G : g_G} {q : Int32 × g_G} (h : fJ17_lowSurrogate E v0 G = some q) : gMet l E D yJ17_lowSurrogate (ws_ yJ17_lowSurrogate cJ17_lowSurrogate 1 (some .char)) 1 64 [.inl v0] G (some (.int q.1)) q.2 := by
  refine gMet.of (by decide +kernel) (Nat.le_of_ble_eq_true rfl) ?_
  intro p e R s m args below meth c C hS ls hl
  have C : gC p R s m args meth c cJ17_lowSurrogate 1 RJ17 "lowSurrogate" (some .char) 1 64 E D := C
  obtain ⟨hx, hb, hml, hown, hts, hKn, hRc, hRs, hc1, hc2, hRf, hRl, hr, hlk, hnm⟩ := id C
  have hl : gls ls 1 [(0, .inl v0)] := hl
  generalize s.heap = H at hS ⊢
  unfold fJ17_lowSurrogate at h
  refine g_iload_n hx hb hl 0 rfl dJ17_lowSurrogate_0 ?_
  refine lv_sipush (v := 1023) hx hb dJ17_lowSurrogate_1 (by decide) ?_
  refine lv_iand hx hb dJ17_lowSurrogate_4 ?_
  refine lv_ldc (v := 56320) hx hb hown (hts _ q1214) dJ17_lowSurrogate_5 ?_
  refine lv_iadd hx hb dJ17_lowSurrogate_7 ?_
  refine lv_i2c (v := (UInt32.toInt32 (Int32.toUInt32 ((v0 &&& 1023) + 56320) % 65536))) hx hb dJ17_lowSurrogate_8 rfl ?_
  exact g_cretG hx hb hr hlk hKn hRc hRs hS h dJ17_lowSurrogate_9
/-- java/lang/Character.valueOf(C)Ljava/lang/Character; -/
def fJ17_valueOf (E : g_E) (v0 : Int32) (G : g_G) : Option (Option Nat × g_G) :=
  if (127 : Int32) < v0 then (
    (gnewO E G 20 1).bind fun z12 =>
    (fJ17_init E z12.1 v0 z12.2).bind fun z17 =>
    some ((some z12.1), z17))
  else (
    (gaR G 124 (some (gA E 6)) v0).bind fun x10 =>
    some (x10, G))
theorem sJ17_valueOf (l : Launch) (E : g_E) (D : g_D) {v0 : Int32} {G : g_G} {q : Option Nat × g_G} (h : fJ17_valueOf E v0 G = some q) : gMet l E D yJ17_valueOf (ws_ yJ17_valueOf cJ17_valueOf 1 (some (.object "java/lang/Character"))) 2 85 [.inl v0] G (some (va_rf q.1)) q.2 := by
  refine gMet.of (by decide +kernel) (Nat.le_of_ble_eq_true rfl) ?_
  intro p e R s m args below meth c C hS ls hl
  have C : gC p R s m args meth c cJ17_valueOf 1 RJ17 "valueOf" (some (.object "java/lang/Character")) 2 85 E D := C
  obtain ⟨hx, hb, hml, hown, hts, hKn, hRc, hRs, hc1, hc2, hRf, hRl, hr, hlk, hnm⟩ := id C
  have hl : gls ls 1 [(0, .inl v0)] := hl
  generalize s.heap = H at hS ⊢
  unfold fJ17_valueOf at h
  refine g_iload_n hx hb hl 0 rfl dJ17_valueOf_0 ?_
  refine lv_bipush (v := 127) hx hb dJ17_valueOf_1 (by decide) ?_
  refine lv_icmp_gt (tgt := 12) hx hb dJ17_valueOf_3 (by decide) (fun c_3 => ?_) (fun c_3 => ?_)
  · have h := g_ift c_3 h
    refine g_newG (k := 20) hx hb hown hts hKn hRc hRs hS h (by decide) (by decide) (hts _ q1543) (hts _ q1544) (hts _ q139) dJ17_valueOf_12 (fun z12 h H locs cells slots hS => ?_)
    refine lv_dup hx hb dJ17_valueOf_15 (by first | exact va_rf_cat _ | rfl | exact g_catA _) ?_
    refine g_iload_n hx hb hl 0 rfl dJ17_valueOf_16 ?_
    obtain ⟨z17, h17, h⟩ := g_bnd h
    refine g_callI (n := 1) (av := [.inl v0]) (rs := [.inr (.inr (some z12.1))]) hx hb hml hown hts hKn hRc hRs hS hl (sJ17_init l E D h17) (lw_meth q1547) (hts _ q139) (hts _ q1545) (hts _ q1546) rfl ⟨by decide, by decide, by decide +kernel⟩ ⟨by rw [hRf]; exact Nat.le_of_ble_eq_true rfl, by rw [hRl]; exact Nat.le_of_ble_eq_true rfl⟩ rfl rfl (Nat.le_of_ble_eq_true rfl) dJ17_valueOf_17 (fun H locs cells slots hS => ?_)
    exact g_aretG hx hb hr (by first | exact Or.inl ⟨_, rfl⟩ | exact Or.inr ⟨_, rfl⟩) hlk hKn hRc hRs hS h dJ17_valueOf_20
  · have h := g_iff c_3 h
    refine g_getsZ (C := "java/lang/Character$CharacterCache") (n := "cache") (d := "[Ljava/lang/Character;") (v := va_rf (some (gA E 6))) hx hb hown (hKn.2.2.2.2.2.2.1 _ (List.mem_of_getElem? (i := 6) rfl)) hS (hts _ q1541) (fun _ z => z) dJ17_valueOf_6 ?_
    refine g_iload_n hx hb hl 0 rfl dJ17_valueOf_9 ?_
    refine g_aaloadG hx hb hKn hS h (by decide) dJ17_valueOf_10 (fun x10 h => ?_)
    exact g_aretG hx hb hr (by first | exact Or.inl ⟨_, rfl⟩ | exact Or.inr ⟨_, rfl⟩) hlk hKn hRc hRs hS h dJ17_valueOf_11
/-- java/util/Objects.checkIndex(II)I -/
def fJ18_checkIndex (E : g_E) (v0 : Int32) (v1 : Int32) (G : g_G) : Option (Int32 × g_G) :=
  (fJ14_checkIndex E v0 v1 none G).bind fun z3 =>
  some (z3.1, z3.2)
theorem sJ18_checkIndex (l : Launch) (E : g_E) (D : g_D) {v0 : Int32} {v1 : Int32} {G : g_G} {q : Int32 × g_G} (h : fJ18_checkIndex E v0 v1 G = some q) : gMet l E D yJ18_checkIndex (ws_ yJ18_checkIndex cJ18_checkIndex 2 (some .int)) 2 86 [.inl v0, .inl v1] G (some (.int q.1)) q.2 := by
  refine gMet.of (by decide +kernel) (Nat.le_of_ble_eq_true rfl) ?_
  intro p e R s m args below meth c C hS ls hl
  have C : gC p R s m args meth c cJ18_checkIndex 2 RJ18 "checkIndex" (some .int) 2 86 E D := C
  obtain ⟨hx, hb, hml, hown, hts, hKn, hRc, hRs, hc1, hc2, hRf, hRl, hr, hlk, hnm⟩ := id C
  have hl : gls ls 2 [(0, .inl v0), (1, .inl v1)] := hl
  generalize s.heap = H at hS ⊢
  unfold fJ18_checkIndex at h
  refine g_iload_n hx hb hl 0 rfl dJ18_checkIndex_0 ?_
  refine g_iload_n hx hb hl 1 rfl dJ18_checkIndex_1 ?_
  refine g_null hx hb dJ18_checkIndex_2 ?_
  obtain ⟨z3, h3, h⟩ := g_bnd h
  refine g_callS (n := 3) (av := [.inl v0, .inl v1, .inr (.inr none)]) (rs := []) hx hb hml hown hts hKn hRc hRs hS hl (sJ14_checkIndex l E D h3) (lw_S q765 q766 q130 q767) ⟨by decide, by decide, by decide +kernel⟩ ⟨by rw [hRf]; exact Nat.le_of_ble_eq_true rfl, by rw [hRl]; exact Nat.le_of_ble_eq_true rfl⟩ rfl rfl (Nat.le_of_ble_eq_true rfl) dJ18_checkIndex_3 (fun H locs cells slots hS => ?_)
  exact g_iretG hx hb hr hlk hKn hRc hRs hS h dJ18_checkIndex_6
/-- java/util/NoSuchElementException.<init>()V -/
def fJ19_init (E : g_E) (t : Nat) (G : g_G) : Option (g_G) :=
  none
theorem sJ19_init (l : Launch) (E : g_E) (D : g_D) {t : Nat} {G : g_G} {q : g_G} (h : fJ19_init E t G = some q) : gMet l E D yJ19_init (ws_ yJ19_init cJ19_init 1 (none)) 1 64 [.inr (.inr (some t))] G none q := by
  refine gMet.of (by decide +kernel) (Nat.le_of_ble_eq_true rfl) ?_
  intro p e R s m args below meth c C hS ls hl
  have C : gC p R s m args meth c cJ19_init 1 RJ19 "<init>" (none) 1 64 E D := C
  obtain ⟨hx, hb, hml, hown, hts, hKn, hRc, hRs, hc1, hc2, hRf, hRl, hr, hlk, hnm⟩ := id C
  have hl : gls ls 1 [(0, .inr (.inr (some t)))] := hl
  generalize s.heap = H at hS ⊢
  unfold fJ19_init at h
  refine g_aload_n hx hb hl 0 rfl dJ19_init_0 ?_
  exact g_no h
/-- java/util/AbstractList.<init>()V -/
def fJ1_init (E : g_E) (t : Nat) (G : g_G) : Option (g_G) :=
  (fJ0_init E t G).bind fun z1 =>
  (gpI E z1 17 17 (some t) 0 0).bind fun G6 =>
  some G6
theorem sJ1_init (l : Launch) (E : g_E) (D : g_D) {t : Nat} {G : g_G} {q : g_G} (h : fJ1_init E t G = some q) : gMet l E D yJ1_init (ws_ yJ1_init cJ1_init 1 (none)) 2 84 [.inr (.inr (some t))] G none q := by
  refine gMet.of (by decide +kernel) (Nat.le_of_ble_eq_true rfl) ?_
  intro p e R s m args below meth c C hS ls hl
  have C : gC p R s m args meth c cJ1_init 1 RJ1 "<init>" (none) 2 84 E D := C
  obtain ⟨hx, hb, hml, hown, hts, hKn, hRc, hRs, hc1, hc2, hRf, hRl, hr, hlk, hnm⟩ := id C
  have hl : gls ls 1 [(0, .inr (.inr (some t)))] := hl
  generalize s.heap = H at hS ⊢
  unfold fJ1_init at h
  refine g_aload_n hx hb hl 0 rfl dJ1_init_0 ?_
  obtain ⟨z1, h1, h⟩ := g_bnd h
  refine g_callI (n := 0) (av := []) (rs := []) hx hb hml hown hts hKn hRc hRs hS hl (sJ0_init l E D h1) (lw_meth q180) (hts _ q115) (hts _ q178) (hts _ q179) rfl ⟨by decide, by decide, by decide +kernel⟩ ⟨by rw [hRf]; exact Nat.le_of_ble_eq_true rfl, by rw [hRl]; exact Nat.le_of_ble_eq_true rfl⟩ rfl rfl (Nat.le_of_ble_eq_true rfl) dJ1_init_1 (fun H locs cells slots hS => ?_)
  refine g_aload_n hx hb hl 0 rfl dJ1_init_4 ?_
  refine lv_iconst (v := 0) hx hb dJ1_init_5 (by decide) ?_
  refine g_ptI hx hb hown hts hKn hS h fd_17_17_0 (Or.inl (hts _ q502)) (fun _ z => z) (fun z => nomatch z) dJ1_init_6 (fun G6 h H locs hS => ?_)
  exact g_vretG hx hb hr hlk hKn hRc hRs hS h dJ1_init_9
/-- java/util/ArrayList.clear()V -/
def fJ2_clear_b27 (E : g_E) : Nat → (Option Nat) → Int32 → Int32 → g_G → Option (g_G)
  | 0, _, _, _, _ => none
  | n + 1, v1, v2, v3, G =>
    if v2 ≤ v3 then (
      some G)
    else (
      (gsaR E G 120 v1 v3 none).bind fun G35 =>
      fJ2_clear_b27 E n v1 v2 (v3 + 1) G35)
def fJ2_clear (E : g_E) (t : Nat) (G : g_G) : Option (g_G) :=
  (grI G 17 17 (some t) 0).bind fun x2 =>
  (gpI E G 17 17 (some t) 0 (x2 + 1)).bind fun G7 =>
  (grR G7 17 17 (some t) 1).bind fun x11 =>
  (grI G7 17 17 (some t) 2).bind fun x16 =>
  (gpI E G7 17 17 (some t) 2 0).bind fun G23 =>
  fJ2_clear_b27 E gFU x11 x16 0 G23
theorem sJ2_clear_b27 {p : Program} {l : Launch} {e : Env} {R : Room} {s : State} {m : MethodId} {args : Array Value} {below : List Frame} {meth : Method} {c : Code} {E : g_E} {D : g_D} (C : gC p R s m args meth c cJ2_clear 4 RJ2 "clear" (none) 1 64 E D) : ∀ (n : Nat) (v1 : Option Nat) (v2 : Int32) (v3 : Int32) (G : g_G) (q : g_G), fJ2_clear_b27 E n v1 v2 v3 G = some q → ∀ (H : Heap) (locs : List Loc) (cells slots : Nat) (ls : Array Slot), gSt E D G H locs → gls ls 4 [(1, .inr (.inr v1)), (2, .inl v2), (3, .inl v3)] → gT p l e R s m args below meth c E D H locs cells slots none q (F0 m 27 ls []) := by
  obtain ⟨hx, hb, hml, hown, hts, hKn, hRc, hRs, hc1, hc2, hRf, hRl, hr, hlk, hnm⟩ := id C
  intro n
  induction n with
  | zero =>
    intro v1 v2 v3 G q h
    exact g_no h
  | succ n ih =>
    intro v1 v2 v3 G q h H locs cells slots ls hS hl
    rw [fJ2_clear_b27] at h
    refine g_iload_n hx hb hl 2 rfl dJ2_clear_27 ?_
    refine g_iload_n hx hb hl 1 rfl dJ2_clear_28 ?_
    refine lv_icmp_ge (tgt := 42) hx hb dJ2_clear_29 (by decide) (fun c_29 => ?_) (fun c_29 => ?_)
    · have h := g_ift c_29 h
      exact g_vretG hx hb hr hlk hKn hRc hRs hS h dJ2_clear_42
    · have h := g_iff c_29 h
      refine g_aload_n hx hb hl 0 rfl dJ2_clear_32 ?_
      refine g_iload_n hx hb hl 2 rfl dJ2_clear_33 ?_
      refine g_null hx hb dJ2_clear_34 ?_
      refine g_aastoreG hx hb hKn hS h (by decide) dJ2_clear_35 (fun G35 h H locs hS => ?_)
      refine g_iinc (l1 := [(3, .inl (v3 + 1)), (1, .inr (.inr v1)), (2, .inl v2)]) (v := (v3 + 1)) hx hb hl (k := 2) rfl (by rfl) (by decide) rfl dJ2_clear_36 (fun ls hl => ?_)
      refine lv_goto (tgt := 27) hx hb dJ2_clear_39 (by decide) ?_
      exact ih _ _ _ _ _ h _ _ _ _ _ hS (gls_sub hl [1, 2, 0] rfl)
theorem sJ2_clear (l : Launch) (E : g_E) (D : g_D) {t : Nat} {G : g_G} {q : g_G} (h : fJ2_clear E t G = some q) : gMet l E D yJ2_clear (ws_ yJ2_clear cJ2_clear 4 (none)) 1 64 [.inr (.inr (some t))] G none q := by
  refine gMet.of (by decide +kernel) (Nat.le_of_ble_eq_true rfl) ?_
  intro p e R s m args below meth c C hS ls hl
  have C : gC p R s m args meth c cJ2_clear 4 RJ2 "clear" (none) 1 64 E D := C
  obtain ⟨hx, hb, hml, hown, hts, hKn, hRc, hRs, hc1, hc2, hRf, hRl, hr, hlk, hnm⟩ := id C
  have hl : gls ls 4 [(0, .inr (.inr (some t)))] := hl
  generalize s.heap = H at hS ⊢
  unfold fJ2_clear at h
  refine g_aload_n hx hb hl 0 rfl dJ2_clear_0 ?_
  refine lv_dup hx hb dJ2_clear_1 (by first | exact va_rf_cat _ | rfl | exact g_catA _) ?_
  refine g_rdI hx hb hown hts hKn hS h fd_17_17_0 rfl (Or.inl (hts _ q503)) (u_same (hts _ q504)) dJ2_clear_2 (fun x2 h => ?_)
  refine lv_iconst (v := 1) hx hb dJ2_clear_5 (by decide) ?_
  refine lv_iadd hx hb dJ2_clear_6 ?_
  refine g_ptI hx hb hown hts hKn hS h fd_17_17_0 (Or.inl (hts _ q503)) (u_same (hts _ q504)) (fun z => nomatch z) dJ2_clear_7 (fun G7 h H locs hS => ?_)
  refine g_aload_n hx hb hl 0 rfl dJ2_clear_10 ?_
  refine g_rdR hx hb hown hts hKn hS h fd_17_17_1 rfl (Or.inl (hts _ q500)) (fun _ z => z) dJ2_clear_11 (fun x11 h => ?_)
  refine g_astore_n (l1 := [(1, .inr (.inr x11)), (0, .inr (.inr (some t)))]) hx hb hl (by decide) rfl dJ2_clear_14 (fun ls hl => ?_)
  refine g_aload_n hx hb hl 1 rfl dJ2_clear_15 ?_
  refine g_rdI hx hb hown hts hKn hS h fd_17_17_2 rfl (Or.inl (hts _ q501)) (fun _ z => z) dJ2_clear_16 (fun x16 h => ?_)
  refine g_istore_n (l1 := [(2, .inl x16), (1, .inr (.inr x11)), (0, .inr (.inr (some t)))]) hx hb hl (by decide) rfl dJ2_clear_19 (fun ls hl => ?_)
  refine g_aload_n hx hb hl 2 rfl dJ2_clear_20 ?_
  refine lv_iconst (v := 0) hx hb dJ2_clear_21 (by decide) ?_
  refine lv_dup_x1 hx hb dJ2_clear_22 rfl (by first | exact va_rf_cat _ | rfl | exact g_catA _) ?_
  refine g_ptI hx hb hown hts hKn hS h fd_17_17_2 (Or.inl (hts _ q501)) (fun _ z => z) (fun z => nomatch z) dJ2_clear_23 (fun G23 h H locs hS => ?_)
  refine g_istore_n (l1 := [(3, .inl 0), (2, .inl x16), (1, .inr (.inr x11)), (0, .inr (.inr (some t)))]) hx hb hl (by decide) rfl dJ2_clear_26 (fun ls hl => ?_)
  exact sJ2_clear_b27 C gFU _ _ _ _ _ h _ _ _ _ _ hS (gls_sub hl [2, 1, 0] rfl)
/-- java/util/ArrayList.elementData(I)Ljava/lang/Object; -/
def fJ2_elementData (E : g_E) (t : Nat) (v1 : Int32) (G : g_G) : Option (Option Nat × g_G) :=
  (grR G 17 17 (some t) 1).bind fun x1 =>
  (gaR G 120 x1 v1).bind fun x5 =>
  some (x5, G)
theorem sJ2_elementData (l : Launch) (E : g_E) (D : g_D) {t : Nat} {v1 : Int32} {G : g_G} {q : Option Nat × g_G} (h : fJ2_elementData E t v1 G = some q) : gMet l E D yJ2_elementData (ws_ yJ2_elementData cJ2_elementData 2 (some (.object "java/lang/Object"))) 1 64 [.inr (.inr (some t)), .inl v1] G (some (va_rf q.1)) q.2 := by
  refine gMet.of (by decide +kernel) (Nat.le_of_ble_eq_true rfl) ?_
  intro p e R s m args below meth c C hS ls hl
  have C : gC p R s m args meth c cJ2_elementData 2 RJ2 "elementData" (some (.object "java/lang/Object")) 1 64 E D := C
  obtain ⟨hx, hb, hml, hown, hts, hKn, hRc, hRs, hc1, hc2, hRf, hRl, hr, hlk, hnm⟩ := id C
  have hl : gls ls 2 [(0, .inr (.inr (some t))), (1, .inl v1)] := hl
  generalize s.heap = H at hS ⊢
  unfold fJ2_elementData at h
  refine g_aload_n hx hb hl 0 rfl dJ2_elementData_0 ?_
  refine g_rdR hx hb hown hts hKn hS h fd_17_17_1 rfl (Or.inl (hts _ q500)) (fun _ z => z) dJ2_elementData_1 (fun x1 h => ?_)
  refine g_iload_n hx hb hl 1 rfl dJ2_elementData_4 ?_
  refine g_aaloadG hx hb hKn hS h (by decide) dJ2_elementData_5 (fun x5 h => ?_)
  exact g_aretG hx hb hr (by first | exact Or.inl ⟨_, rfl⟩ | exact Or.inr ⟨_, rfl⟩) hlk hKn hRc hRs hS h dJ2_elementData_6
/-- java/util/ArrayList.get(I)Ljava/lang/Object; -/
def fJ2_get (E : g_E) (t : Nat) (v1 : Int32) (G : g_G) : Option (Option Nat × g_G) :=
  (grI G 17 17 (some t) 2).bind fun x2 =>
  (fJ18_checkIndex E v1 x2 G).bind fun z5 =>
  (gchk z5.2 17 (some t)).bind fun b11 =>
  (fJ2_elementData E b11 v1 z5.2).bind fun z11 =>
  some (z11.1, z11.2)
theorem sJ2_get (l : Launch) (E : g_E) (D : g_D) {t : Nat} {v1 : Int32} {G : g_G} {q : Option Nat × g_G} (h : fJ2_get E t v1 G = some q) : gMet l E D yJ2_get (ws_ yJ2_get cJ2_get 2 (some (.object "java/lang/Object"))) 3 107 [.inr (.inr (some t)), .inl v1] G (some (va_rf q.1)) q.2 := by
  refine gMet.of (by decide +kernel) (Nat.le_of_ble_eq_true rfl) ?_
  intro p e R s m args below meth c C hS ls hl
  have C : gC p R s m args meth c cJ2_get 2 RJ2 "get" (some (.object "java/lang/Object")) 3 107 E D := C
  obtain ⟨hx, hb, hml, hown, hts, hKn, hRc, hRs, hc1, hc2, hRf, hRl, hr, hlk, hnm⟩ := id C
  have hl : gls ls 2 [(0, .inr (.inr (some t))), (1, .inl v1)] := hl
  generalize s.heap = H at hS ⊢
  unfold fJ2_get at h
  refine g_iload_n hx hb hl 1 rfl dJ2_get_0 ?_
  refine g_aload_n hx hb hl 0 rfl dJ2_get_1 ?_
  refine g_rdI hx hb hown hts hKn hS h fd_17_17_2 rfl (Or.inl (hts _ q501)) (fun _ z => z) dJ2_get_2 (fun x2 h => ?_)
  obtain ⟨z5, h5, h⟩ := g_bnd h
  refine g_callS (n := 2) (av := [.inl v1, .inl x2]) (rs := []) hx hb hml hown hts hKn hRc hRs hS hl (sJ18_checkIndex l E D h5) (lw_S q762 q763 q152 q764) ⟨by decide, by decide, by decide +kernel⟩ ⟨by rw [hRf]; exact Nat.le_of_ble_eq_true rfl, by rw [hRl]; exact Nat.le_of_ble_eq_true rfl⟩ rfl rfl (Nat.le_of_ble_eq_true rfl) dJ2_get_5 (fun H locs cells slots hS => ?_)
  refine lv_pop hx hb dJ2_get_8 rfl ?_
  refine g_aload_n hx hb hl 0 rfl dJ2_get_9 ?_
  refine g_iload_n hx hb hl 1 rfl dJ2_get_10 ?_
  obtain ⟨b11, hb11, h⟩ := g_bnd h
  obtain ⟨hr11, hk11⟩ := g_chk hb11
  obtain ⟨z11, h11, h⟩ := g_bnd h
  refine g_callV (n := 1) (b := b11) (av := [.inl v1]) (rs := []) hx hb hml hown hts hKn hRc hRs hS hl (sJ2_elementData l E D h11) (lw_V q768 q769 q770 q117 q771) ⟨rfl, by decide, by decide, by decide +kernel⟩ ⟨by rw [hRf]; exact Nat.le_of_ble_eq_true rfl, by rw [hRl]; exact Nat.le_of_ble_eq_true rfl⟩ (g_recv hKn hS hk11 (by decide) (by decide)) rfl (by rw [hr11]; rfl) (Nat.le_of_ble_eq_true rfl) dJ2_get_11 (fun H locs cells slots hS => ?_)
  exact g_aretG hx hb hr (by first | exact Or.inl ⟨_, rfl⟩ | exact Or.inr ⟨_, rfl⟩) hlk hKn hRc hRs hS h dJ2_get_14
/-- java/util/ArrayList.<init>(I)V -/
def fJ2_init (E : g_E) (t : Nat) (v1 : Int32) (G : g_G) : Option (g_G) :=
  (fJ1_init E t G).bind fun z1 =>
  if v1 ≤ 0 then (
    if ¬ v1 = 0 then (
      none)
    else (
      none))
  else (
    (gnewA E z1 120 v1).bind fun z10 =>
    (gpR E z10.2 17 17 (some t) 1 (some z10.1)).bind fun G13 =>
    some G13)
theorem sJ2_init (l : Launch) (E : g_E) (D : g_D) {t : Nat} {v1 : Int32} {G : g_G} {q : g_G} (h : fJ2_init E t v1 G = some q) : gMet l E D yJ2_init (ws_ yJ2_init cJ2_init 2 (none)) 3 104 [.inr (.inr (some t)), .inl v1] G none q := by
  refine gMet.of (by decide +kernel) (Nat.le_of_ble_eq_true rfl) ?_
  intro p e R s m args below meth c C hS ls hl
  have C : gC p R s m args meth c cJ2_init 2 RJ2 "<init>" (none) 3 104 E D := C
  obtain ⟨hx, hb, hml, hown, hts, hKn, hRc, hRs, hc1, hc2, hRf, hRl, hr, hlk, hnm⟩ := id C
  have hl : gls ls 2 [(0, .inr (.inr (some t))), (1, .inl v1)] := hl
  generalize s.heap = H at hS ⊢
  unfold fJ2_init at h
  refine g_aload_n hx hb hl 0 rfl dJ2_init_0 ?_
  obtain ⟨z1, h1, h⟩ := g_bnd h
  refine g_callI (n := 0) (av := []) (rs := []) hx hb hml hown hts hKn hRc hRs hS hl (sJ1_init l E D h1) (lw_meth q177) (hts _ q116) (hts _ q175) (hts _ q176) rfl ⟨by decide, by decide, by decide +kernel⟩ ⟨by rw [hRf]; exact Nat.le_of_ble_eq_true rfl, by rw [hRl]; exact Nat.le_of_ble_eq_true rfl⟩ rfl rfl (Nat.le_of_ble_eq_true rfl) dJ2_init_1 (fun H locs cells slots hS => ?_)
  refine g_iload_n hx hb hl 1 rfl dJ2_init_4 ?_
  refine lv_if_le (tgt := 19) hx hb dJ2_init_5 (by decide) (fun c_5 => ?_) (fun c_5 => ?_)
  · have h := g_ift c_5 h
    refine g_iload_n hx hb hl 1 rfl dJ2_init_19 ?_
    refine lv_if_ne (tgt := 33) hx hb dJ2_init_20 (by decide) (fun c_20 => ?_) (fun c_20 => ?_)
    · have h := g_ift c_20 h
      exact g_no h
    · have h := g_iff (fun z => z c_20) h
      refine g_aload_n hx hb hl 0 rfl dJ2_init_23 ?_
      exact g_no h
  · have h := g_iff c_5 h
    refine g_aload_n hx hb hl 0 rfl dJ2_init_8 ?_
    refine g_iload_n hx hb hl 1 rfl dJ2_init_9 ?_
    refine g_newqG (k := 120) (C := "java/lang/Object") hx hb hown hKn hRc hRs hS h (by decide) rfl (List.mem_of_getElem? (i := 0) rfl) (hts _ q182) dJ2_init_10 (fun z10 h H locs cells slots hS => ?_)
    refine g_ptR hx hb hown hts hKn hS h fd_17_17_1 rfl (Or.inl (hts _ q500)) (fun _ z => z) (fun z => nomatch z) dJ2_init_13 (fun G13 h H locs hS => ?_)
    refine lv_goto (tgt := 60) hx hb dJ2_init_16 (by decide) ?_
    exact g_vretG hx hb hr hlk hKn hRc hRs hS h dJ2_init_60
/-- java/util/ArrayList.isEmpty()Z -/
def fJ2_isEmpty (E : g_E) (t : Nat) (G : g_G) : Option (Int32 × g_G) :=
  (grI G 17 17 (some t) 2).bind fun x1 =>
  if ¬ x1 = 0 then (
    if (0 : Int32) = 0 ∨ (0 : Int32) = 1 then some (0, G) else none)
  else (
    if (1 : Int32) = 0 ∨ (1 : Int32) = 1 then some (1, G) else none)
theorem sJ2_isEmpty (l : Launch) (E : g_E) (D : g_D) {t : Nat} {G : g_G} {q : Int32 × g_G} (h : fJ2_isEmpty E t G = some q) : gMet l E D yJ2_isEmpty (ws_ yJ2_isEmpty cJ2_isEmpty 1 (some .boolean)) 1 64 [.inr (.inr (some t))] G (some (.int q.1)) q.2 := by
  refine gMet.of (by decide +kernel) (Nat.le_of_ble_eq_true rfl) ?_
  intro p e R s m args below meth c C hS ls hl
  have C : gC p R s m args meth c cJ2_isEmpty 1 RJ2 "isEmpty" (some .boolean) 1 64 E D := C
  obtain ⟨hx, hb, hml, hown, hts, hKn, hRc, hRs, hc1, hc2, hRf, hRl, hr, hlk, hnm⟩ := id C
  have hl : gls ls 1 [(0, .inr (.inr (some t)))] := hl
  generalize s.heap = H at hS ⊢
  unfold fJ2_isEmpty at h
  refine g_aload_n hx hb hl 0 rfl dJ2_isEmpty_0 ?_
  refine g_rdI hx hb hown hts hKn hS h fd_17_17_2 rfl (Or.inl (hts _ q501)) (fun _ z => z) dJ2_isEmpty_1 (fun x1 h => ?_)
  refine lv_if_ne (tgt := 11) hx hb dJ2_isEmpty_4 (by decide) (fun c_4 => ?_) (fun c_4 => ?_)
  · have h := g_ift c_4 h
    refine lv_iconst (v := 0) hx hb dJ2_isEmpty_11 (by decide) ?_
    exact g_zretG hx hb hr hlk hKn hRc hRs hS h dJ2_isEmpty_12
  · have h := g_iff (fun z => z c_4) h
    refine lv_iconst (v := 1) hx hb dJ2_isEmpty_7 (by decide) ?_
    refine lv_goto (tgt := 12) hx hb dJ2_isEmpty_8 (by decide) ?_
    exact g_zretG hx hb hr hlk hKn hRc hRs hS h dJ2_isEmpty_12
/-- java/util/ArrayList.rangeCheckForAdd(I)V -/
def fJ2_rangeCheckForAdd (E : g_E) (t : Nat) (v1 : Int32) (G : g_G) : Option (g_G) :=
  (grI G 17 17 (some t) 2).bind fun x2 =>
  if x2 < v1 then (
    none)
  else (
    if 0 ≤ v1 then (
      some G)
    else (
      none))
theorem sJ2_rangeCheckForAdd (l : Launch) (E : g_E) (D : g_D) {t : Nat} {v1 : Int32} {G : g_G} {q : g_G} (h : fJ2_rangeCheckForAdd E t v1 G = some q) : gMet l E D yJ2_rangeCheckForAdd (ws_ yJ2_rangeCheckForAdd cJ2_rangeCheckForAdd 2 (none)) 1 64 [.inr (.inr (some t)), .inl v1] G none q := by
  refine gMet.of (by decide +kernel) (Nat.le_of_ble_eq_true rfl) ?_
  intro p e R s m args below meth c C hS ls hl
  have C : gC p R s m args meth c cJ2_rangeCheckForAdd 2 RJ2 "rangeCheckForAdd" (none) 1 64 E D := C
  obtain ⟨hx, hb, hml, hown, hts, hKn, hRc, hRs, hc1, hc2, hRf, hRl, hr, hlk, hnm⟩ := id C
  have hl : gls ls 2 [(0, .inr (.inr (some t))), (1, .inl v1)] := hl
  generalize s.heap = H at hS ⊢
  unfold fJ2_rangeCheckForAdd at h
  refine g_iload_n hx hb hl 1 rfl dJ2_rangeCheckForAdd_0 ?_
  refine g_aload_n hx hb hl 0 rfl dJ2_rangeCheckForAdd_1 ?_
  refine g_rdI hx hb hown hts hKn hS h fd_17_17_2 rfl (Or.inl (hts _ q501)) (fun _ z => z) dJ2_rangeCheckForAdd_2 (fun x2 h => ?_)
  refine lv_icmp_gt (tgt := 12) hx hb dJ2_rangeCheckForAdd_5 (by decide) (fun c_5 => ?_) (fun c_5 => ?_)
  · have h := g_ift c_5 h
    exact g_no h
  · have h := g_iff c_5 h
    refine g_iload_n hx hb hl 1 rfl dJ2_rangeCheckForAdd_8 ?_
    refine lv_if_ge (tgt := 25) hx hb dJ2_rangeCheckForAdd_9 (by decide) (fun c_9 => ?_) (fun c_9 => ?_)
    · have h := g_ift c_9 h
      exact g_vretG hx hb hr hlk hKn hRc hRs hS h dJ2_rangeCheckForAdd_25
    · have h := g_iff c_9 h
      exact g_no h
/-- java/util/ArrayList.set(ILjava/lang/Object;)Ljava/lang/Object; -/
def fJ2_set (E : g_E) (t : Nat) (v1 : Int32) (v2 : Option Nat) (G : g_G) : Option (Option Nat × g_G) :=
  (grI G 17 17 (some t) 2).bind fun x2 =>
  (fJ18_checkIndex E v1 x2 G).bind fun z5 =>
  (gchk z5.2 17 (some t)).bind fun b11 =>
  (fJ2_elementData E b11 v1 z5.2).bind fun z11 =>
  (grR z11.2 17 17 (some t) 1).bind fun x16 =>
  (gsaR E z11.2 120 x16 v1 v2).bind fun G21 =>
  some (z11.1, G21)
theorem sJ2_set (l : Launch) (E : g_E) (D : g_D) {t : Nat} {v1 : Int32} {v2 : Option Nat} {G : g_G} {q : Option Nat × g_G} (h : fJ2_set E t v1 v2 G = some q) : gMet l E D yJ2_set (ws_ yJ2_set cJ2_set 4 (some (.object "java/lang/Object"))) 3 107 [.inr (.inr (some t)), .inl v1, .inr (.inr v2)] G (some (va_rf q.1)) q.2 := by
  refine gMet.of (by decide +kernel) (Nat.le_of_ble_eq_true rfl) ?_
  intro p e R s m args below meth c C hS ls hl
  have C : gC p R s m args meth c cJ2_set 4 RJ2 "set" (some (.object "java/lang/Object")) 3 107 E D := C
  obtain ⟨hx, hb, hml, hown, hts, hKn, hRc, hRs, hc1, hc2, hRf, hRl, hr, hlk, hnm⟩ := id C
  have hl : gls ls 4 [(0, .inr (.inr (some t))), (1, .inl v1), (2, .inr (.inr v2))] := hl
  generalize s.heap = H at hS ⊢
  unfold fJ2_set at h
  refine g_iload_n hx hb hl 1 rfl dJ2_set_0 ?_
  refine g_aload_n hx hb hl 0 rfl dJ2_set_1 ?_
  refine g_rdI hx hb hown hts hKn hS h fd_17_17_2 rfl (Or.inl (hts _ q501)) (fun _ z => z) dJ2_set_2 (fun x2 h => ?_)
  obtain ⟨z5, h5, h⟩ := g_bnd h
  refine g_callS (n := 2) (av := [.inl v1, .inl x2]) (rs := []) hx hb hml hown hts hKn hRc hRs hS hl (sJ18_checkIndex l E D h5) (lw_S q762 q763 q152 q764) ⟨by decide, by decide, by decide +kernel⟩ ⟨by rw [hRf]; exact Nat.le_of_ble_eq_true rfl, by rw [hRl]; exact Nat.le_of_ble_eq_true rfl⟩ rfl rfl (Nat.le_of_ble_eq_true rfl) dJ2_set_5 (fun H locs cells slots hS => ?_)
  refine lv_pop hx hb dJ2_set_8 rfl ?_
  refine g_aload_n hx hb hl 0 rfl dJ2_set_9 ?_
  refine g_iload_n hx hb hl 1 rfl dJ2_set_10 ?_
  obtain ⟨b11, hb11, h⟩ := g_bnd h
  obtain ⟨hr11, hk11⟩ := g_chk hb11
  obtain ⟨z11, h11, h⟩ := g_bnd h
  refine g_callV (n := 1) (b := b11) (av := [.inl v1]) (rs := []) hx hb hml hown hts hKn hRc hRs hS hl (sJ2_elementData l E D h11) (lw_V q768 q769 q770 q117 q771) ⟨rfl, by decide, by decide, by decide +kernel⟩ ⟨by rw [hRf]; exact Nat.le_of_ble_eq_true rfl, by rw [hRl]; exact Nat.le_of_ble_eq_true rfl⟩ (g_recv hKn hS hk11 (by decide) (by decide)) rfl (by rw [hr11]; rfl) (Nat.le_of_ble_eq_true rfl) dJ2_set_11 (fun H locs cells slots hS => ?_)
  refine g_astore_n (l1 := [(3, .inr (.inr z11.1)), (0, .inr (.inr (some t))), (1, .inl v1), (2, .inr (.inr v2))]) hx hb hl (by decide) rfl dJ2_set_14 (fun ls hl => ?_)
  refine g_aload_n hx hb hl 1 rfl dJ2_set_15 ?_
  refine g_rdR hx hb hown hts hKn hS h fd_17_17_1 rfl (Or.inl (hts _ q500)) (fun _ z => z) dJ2_set_16 (fun x16 h => ?_)
  refine g_iload_n hx hb hl 2 rfl dJ2_set_19 ?_
  refine g_aload_n hx hb hl 3 rfl dJ2_set_20 ?_
  refine g_aastoreG hx hb hKn hS h (by decide) dJ2_set_21 (fun G21 h H locs hS => ?_)
  refine g_aload_n hx hb hl 0 rfl dJ2_set_22 ?_
  exact g_aretG hx hb hr (by first | exact Or.inl ⟨_, rfl⟩ | exact Or.inr ⟨_, rfl⟩) hlk hKn hRc hRs hS h dJ2_set_23
/-- java/util/ArrayList.size()I -/
def fJ2_size (E : g_E) (t : Nat) (G : g_G) : Option (Int32 × g_G) :=
  (grI G 17 17 (some t) 2).bind fun x1 =>
  some (x1, G)
theorem sJ2_size (l : Launch) (E : g_E) (D : g_D) {t : Nat} {G : g_G} {q : Int32 × g_G} (h : fJ2_size E t G = some q) : gMet l E D yJ2_size (ws_ yJ2_size cJ2_size 1 (some .int)) 1 64 [.inr (.inr (some t))] G (some (.int q.1)) q.2 := by
  refine gMet.of (by decide +kernel) (Nat.le_of_ble_eq_true rfl) ?_
  intro p e R s m args below meth c C hS ls hl
  have C : gC p R s m args meth c cJ2_size 1 RJ2 "size" (some .int) 1 64 E D := C
  obtain ⟨hx, hb, hml, hown, hts, hKn, hRc, hRs, hc1, hc2, hRf, hRl, hr, hlk, hnm⟩ := id C
  have hl : gls ls 1 [(0, .inr (.inr (some t)))] := hl
  generalize s.heap = H at hS ⊢
  unfold fJ2_size at h
  refine g_aload_n hx hb hl 0 rfl dJ2_size_0 ?_
  refine g_rdI hx hb hown hts hKn hS h fd_17_17_2 rfl (Or.inl (hts _ q501)) (fun _ z => z) dJ2_size_1 (fun x1 h => ?_)
  exact g_iretG hx hb hr hlk hKn hRc hRs hS h dJ2_size_4
/-- java/lang/Exception.<init>(Ljava/lang/String;)V -/
def fJ4_init (E : g_E) (t : Nat) (v1 : Option Nat) (G : g_G) : Option (g_G) :=
  none
theorem sJ4_init (l : Launch) (E : g_E) (D : g_D) {t : Nat} {v1 : Option Nat} {G : g_G} {q : g_G} (h : fJ4_init E t v1 G = some q) : gMet l E D yJ4_init (ws_ yJ4_init cJ4_init 2 (none)) 1 64 [.inr (.inr (some t)), .inr (.inr v1)] G none q := by
  refine gMet.of (by decide +kernel) (Nat.le_of_ble_eq_true rfl) ?_
  intro p e R s m args below meth c C hS ls hl
  have C : gC p R s m args meth c cJ4_init 2 RJ4 "<init>" (none) 1 64 E D := C
  obtain ⟨hx, hb, hml, hown, hts, hKn, hRc, hRs, hc1, hc2, hRf, hRl, hr, hlk, hnm⟩ := id C
  have hl : gls ls 2 [(0, .inr (.inr (some t))), (1, .inr (.inr v1))] := hl
  generalize s.heap = H at hS ⊢
  unfold fJ4_init at h
  refine g_aload_n hx hb hl 0 rfl dJ4_init_0 ?_
  refine g_aload_n hx hb hl 1 rfl dJ4_init_1 ?_
  exact g_no h
/-- java/lang/Exception.<init>()V -/
def fJ4_init_2 (E : g_E) (t : Nat) (G : g_G) : Option (g_G) :=
  none
theorem sJ4_init_2 (l : Launch) (E : g_E) (D : g_D) {t : Nat} {G : g_G} {q : g_G} (h : fJ4_init_2 E t G = some q) : gMet l E D yJ4_init_2 (ws_ yJ4_init_2 cJ4_init_2 1 (none)) 1 64 [.inr (.inr (some t))] G none q := by
  refine gMet.of (by decide +kernel) (Nat.le_of_ble_eq_true rfl) ?_
  intro p e R s m args below meth c C hS ls hl
  have C : gC p R s m args meth c cJ4_init_2 1 RJ4 "<init>" (none) 1 64 E D := C
  obtain ⟨hx, hb, hml, hown, hts, hKn, hRc, hRs, hc1, hc2, hRf, hRl, hr, hlk, hnm⟩ := id C
  have hl : gls ls 1 [(0, .inr (.inr (some t)))] := hl
  generalize s.heap = H at hS ⊢
  unfold fJ4_init_2 at h
  refine g_aload_n hx hb hl 0 rfl dJ4_init_2_0 ?_
  exact g_no h
/-- java/lang/RuntimeException.<init>(Ljava/lang/String;)V -/
def fJ5_init (E : g_E) (t : Nat) (v1 : Option Nat) (G : g_G) : Option (g_G) :=
  none
theorem sJ5_init (l : Launch) (E : g_E) (D : g_D) {t : Nat} {v1 : Option Nat} {G : g_G} {q : g_G} (h : fJ5_init E t v1 G = some q) : gMet l E D yJ5_init (ws_ yJ5_init cJ5_init 2 (none)) 1 64 [.inr (.inr (some t)), .inr (.inr v1)] G none q := by
  refine gMet.of (by decide +kernel) (Nat.le_of_ble_eq_true rfl) ?_
  intro p e R s m args below meth c C hS ls hl
  have C : gC p R s m args meth c cJ5_init 2 RJ5 "<init>" (none) 1 64 E D := C
  obtain ⟨hx, hb, hml, hown, hts, hKn, hRc, hRs, hc1, hc2, hRf, hRl, hr, hlk, hnm⟩ := id C
  have hl : gls ls 2 [(0, .inr (.inr (some t))), (1, .inr (.inr v1))] := hl
  generalize s.heap = H at hS ⊢
  unfold fJ5_init at h
  refine g_aload_n hx hb hl 0 rfl dJ5_init_0 ?_
  refine g_aload_n hx hb hl 1 rfl dJ5_init_1 ?_
  exact g_no h
/-- java/lang/RuntimeException.<init>()V -/
def fJ5_init_2 (E : g_E) (t : Nat) (G : g_G) : Option (g_G) :=
  none
theorem sJ5_init_2 (l : Launch) (E : g_E) (D : g_D) {t : Nat} {G : g_G} {q : g_G} (h : fJ5_init_2 E t G = some q) : gMet l E D yJ5_init_2 (ws_ yJ5_init_2 cJ5_init_2 1 (none)) 1 64 [.inr (.inr (some t))] G none q := by
  refine gMet.of (by decide +kernel) (Nat.le_of_ble_eq_true rfl) ?_
  intro p e R s m args below meth c C hS ls hl
  have C : gC p R s m args meth c cJ5_init_2 1 RJ5 "<init>" (none) 1 64 E D := C
  obtain ⟨hx, hb, hml, hown, hts, hKn, hRc, hRs, hc1, hc2, hRf, hRl, hr, hlk, hnm⟩ := id C
  have hl : gls ls 1 [(0, .inr (.inr (some t)))] := hl
  generalize s.heap = H at hS ⊢
  unfold fJ5_init_2 at h
  refine g_aload_n hx hb hl 0 rfl dJ5_init_2_0 ?_
  exact g_no h
/-- java/lang/IllegalArgumentException.<init>(Ljava/lang/String;)V -/
def fJ6_init (E : g_E) (t : Nat) (v1 : Option Nat) (G : g_G) : Option (g_G) :=
  none
theorem sJ6_init (l : Launch) (E : g_E) (D : g_D) {t : Nat} {v1 : Option Nat} {G : g_G} {q : g_G} (h : fJ6_init E t v1 G = some q) : gMet l E D yJ6_init (ws_ yJ6_init cJ6_init 2 (none)) 1 64 [.inr (.inr (some t)), .inr (.inr v1)] G none q := by
  refine gMet.of (by decide +kernel) (Nat.le_of_ble_eq_true rfl) ?_
  intro p e R s m args below meth c C hS ls hl
  have C : gC p R s m args meth c cJ6_init 2 RJ6 "<init>" (none) 1 64 E D := C
  obtain ⟨hx, hb, hml, hown, hts, hKn, hRc, hRs, hc1, hc2, hRf, hRl, hr, hlk, hnm⟩ := id C
  have hl : gls ls 2 [(0, .inr (.inr (some t))), (1, .inr (.inr v1))] := hl
  generalize s.heap = H at hS ⊢
  unfold fJ6_init at h
  refine g_aload_n hx hb hl 0 rfl dJ6_init_0 ?_
  refine g_aload_n hx hb hl 1 rfl dJ6_init_1 ?_
  exact g_no h
/-- java/lang/IllegalArgumentException.<init>()V -/
def fJ6_init_2 (E : g_E) (t : Nat) (G : g_G) : Option (g_G) :=
  none
theorem sJ6_init_2 (l : Launch) (E : g_E) (D : g_D) {t : Nat} {G : g_G} {q : g_G} (h : fJ6_init_2 E t G = some q) : gMet l E D yJ6_init_2 (ws_ yJ6_init_2 cJ6_init_2 1 (none)) 1 64 [.inr (.inr (some t))] G none q := by
  refine gMet.of (by decide +kernel) (Nat.le_of_ble_eq_true rfl) ?_
  intro p e R s m args below meth c C hS ls hl
  have C : gC p R s m args meth c cJ6_init_2 1 RJ6 "<init>" (none) 1 64 E D := C
  obtain ⟨hx, hb, hml, hown, hts, hKn, hRc, hRs, hc1, hc2, hRf, hRl, hr, hlk, hnm⟩ := id C
  have hl : gls ls 1 [(0, .inr (.inr (some t)))] := hl
  generalize s.heap = H at hS ⊢
  unfold fJ6_init_2 at h
  refine g_aload_n hx hb hl 0 rfl dJ6_init_2_0 ?_
  exact g_no h
/-- java/lang/AbstractStringBuilder.append(I)Ljava/lang/AbstractStringBuilder; -/
def fJ7_append_2 (E : g_E) (t : Nat) (v1 : Int32) (G : g_G) : Option (Option Nat × g_G) :=
  (grI G 18 18 (some t) 3).bind fun x1 =>
  none
theorem sJ7_append_2 (l : Launch) (E : g_E) (D : g_D) {t : Nat} {v1 : Int32} {G : g_G} {q : Option Nat × g_G} (h : fJ7_append_2 E t v1 G = some q) : gMet l E D yJ7_append_2 (ws_ yJ7_append_2 cJ7_append_2 4 (some (.object "java/lang/AbstractStringBuilder"))) 1 64 [.inr (.inr (some t)), .inl v1] G (some (va_rf q.1)) q.2 := by
  refine gMet.of (by decide +kernel) (Nat.le_of_ble_eq_true rfl) ?_
  intro p e R s m args below meth c C hS ls hl
  have C : gC p R s m args meth c cJ7_append_2 4 RJ7 "append" (some (.object "java/lang/AbstractStringBuilder")) 1 64 E D := C
  obtain ⟨hx, hb, hml, hown, hts, hKn, hRc, hRs, hc1, hc2, hRf, hRl, hr, hlk, hnm⟩ := id C
  have hl : gls ls 4 [(0, .inr (.inr (some t))), (1, .inl v1)] := hl
  generalize s.heap = H at hS ⊢
  unfold fJ7_append_2 at h
  refine g_aload_n hx hb hl 0 rfl dJ7_append_2_0 ?_
  refine g_rdI hx hb hown hts hKn hS h fd_18_18_3 rfl (Or.inl (hts _ q248)) (fun _ z => z) dJ7_append_2_1 (fun x1 h => ?_)
  refine g_istore_n (l1 := [(2, .inl x1), (0, .inr (.inr (some t))), (1, .inl v1)]) hx hb hl (by decide) rfl dJ7_append_2_4 (fun ls hl => ?_)
  refine g_iload_n hx hb hl 0 rfl dJ7_append_2_5 ?_
  refine g_iload_n hx hb hl 2 rfl dJ7_append_2_6 ?_
  exact g_no h
/-- java/lang/AbstractStringBuilder.ensureCapacityInternal(I)V -/
def fJ7_ensureCapacityInternal (E : g_E) (t : Nat) (v1 : Int32) (G : g_G) : Option (g_G) :=
  (grR G 18 18 (some t) 0).bind fun x1 =>
  (galen G x1).bind fun x4 =>
  (grI G 18 18 (some t) 1).bind fun x6 =>
  if (v1 - (x4 >>> (x6 &&& 31))) ≤ 0 then (
    some G)
  else (
    (grR G 18 18 (some t) 0).bind fun x19 =>
    none)
theorem sJ7_ensureCapacityInternal (l : Launch) (E : g_E) (D : g_D) {t : Nat} {v1 : Int32} {G : g_G} {q : g_G} (h : fJ7_ensureCapacityInternal E t v1 G = some q) : gMet l E D yJ7_ensureCapacityInternal (ws_ yJ7_ensureCapacityInternal cJ7_ensureCapacityInternal 3 (none)) 1 64 [.inr (.inr (some t)), .inl v1] G none q := by
  refine gMet.of (by decide +kernel) (Nat.le_of_ble_eq_true rfl) ?_
  intro p e R s m args below meth c C hS ls hl
  have C : gC p R s m args meth c cJ7_ensureCapacityInternal 3 RJ7 "ensureCapacityInternal" (none) 1 64 E D := C
  obtain ⟨hx, hb, hml, hown, hts, hKn, hRc, hRs, hc1, hc2, hRf, hRl, hr, hlk, hnm⟩ := id C
  have hl : gls ls 3 [(0, .inr (.inr (some t))), (1, .inl v1)] := hl
  generalize s.heap = H at hS ⊢
  unfold fJ7_ensureCapacityInternal at h
  refine g_aload_n hx hb hl 0 rfl dJ7_ensureCapacityInternal_0 ?_
  refine g_rdR hx hb hown hts hKn hS h fd_18_18_0 rfl (Or.inl (hts _ q245)) (fun _ z => z) dJ7_ensureCapacityInternal_1 (fun x1 h => ?_)
  refine g_alen hx hb hKn hS h dJ7_ensureCapacityInternal_4 (fun x4 h => ?_)
  refine g_aload_n hx hb hl 0 rfl dJ7_ensureCapacityInternal_5 ?_
  refine g_rdI hx hb hown hts hKn hS h fd_18_18_1 rfl (Or.inl (hts _ q246)) (fun _ z => z) dJ7_ensureCapacityInternal_6 (fun x6 h => ?_)
  refine lv_ishr hx hb dJ7_ensureCapacityInternal_9 ?_
  refine g_istore_n (l1 := [(2, .inl (x4 >>> (x6 &&& 31))), (0, .inr (.inr (some t))), (1, .inl v1)]) hx hb hl (by decide) rfl dJ7_ensureCapacityInternal_10 (fun ls hl => ?_)
  refine g_iload_n hx hb hl 2 rfl dJ7_ensureCapacityInternal_11 ?_
  refine g_iload_n hx hb hl 0 rfl dJ7_ensureCapacityInternal_12 ?_
  refine lv_isub hx hb dJ7_ensureCapacityInternal_13 ?_
  refine lv_if_le (tgt := 38) hx hb dJ7_ensureCapacityInternal_14 (by decide) (fun c_14 => ?_) (fun c_14 => ?_)
  · have h := g_ift c_14 h
    exact g_vretG hx hb hr hlk hKn hRc hRs hS h dJ7_ensureCapacityInternal_38
  · have h := g_iff c_14 h
    refine g_aload_n hx hb hl 1 rfl dJ7_ensureCapacityInternal_17 ?_
    refine g_aload_n hx hb hl 1 rfl dJ7_ensureCapacityInternal_18 ?_
    refine g_rdR hx hb hown hts hKn hS h fd_18_18_0 rfl (Or.inl (hts _ q245)) (fun _ z => z) dJ7_ensureCapacityInternal_19 (fun x19 h => ?_)
    refine g_aload_n hx hb hl 1 rfl dJ7_ensureCapacityInternal_22 ?_
    refine g_iload_n hx hb hl 2 rfl dJ7_ensureCapacityInternal_23 ?_
    exact g_no h
/-- java/lang/AbstractStringBuilder.getValue()[B -/
def fJ7_getValue (E : g_E) (t : Nat) (G : g_G) : Option (Option Nat × g_G) :=
  (grR G 18 18 (some t) 0).bind fun x1 =>
  some (x1, G)
theorem sJ7_getValue (l : Launch) (E : g_E) (D : g_D) {t : Nat} {G : g_G} {q : Option Nat × g_G} (h : fJ7_getValue E t G = some q) : gMet l E D yJ7_getValue (ws_ yJ7_getValue cJ7_getValue 1 (some (.array .byte))) 1 64 [.inr (.inr (some t))] G (some (va_rf q.1)) q.2 := by
  refine gMet.of (by decide +kernel) (Nat.le_of_ble_eq_true rfl) ?_
  intro p e R s m args below meth c C hS ls hl
  have C : gC p R s m args meth c cJ7_getValue 1 RJ7 "getValue" (some (.array .byte)) 1 64 E D := C
  obtain ⟨hx, hb, hml, hown, hts, hKn, hRc, hRs, hc1, hc2, hRf, hRl, hr, hlk, hnm⟩ := id C
  have hl : gls ls 1 [(0, .inr (.inr (some t)))] := hl
  generalize s.heap = H at hS ⊢
  unfold fJ7_getValue at h
  refine g_aload_n hx hb hl 0 rfl dJ7_getValue_0 ?_
  refine g_rdR hx hb hown hts hKn hS h fd_18_18_0 rfl (Or.inl (hts _ q245)) (fun _ z => z) dJ7_getValue_1 (fun x1 h => ?_)
  exact g_aretG hx hb hr (by first | exact Or.inl ⟨_, rfl⟩ | exact Or.inr ⟨_, rfl⟩) hlk hKn hRc hRs hS h dJ7_getValue_4
/-- java/lang/AbstractStringBuilder.<init>(I)V -/
def fJ7_init (E : g_E) (t : Nat) (v1 : Int32) (G : g_G) : Option (g_G) :=
  if (1 : Int32) = 0 then (
    none)
  else (
    (gnewA E G 101 v1).bind fun z12 =>
    (gpR E z12.2 18 18 (some t) 0 (some z12.1)).bind fun G14 =>
    (gpB E G14 18 18 (some t) 1 0).bind fun G19 =>
    some G19)
theorem sJ7_init (l : Launch) (E : g_E) (D : g_D) {t : Nat} {v1 : Int32} {G : g_G} {q : g_G} (h : fJ7_init E t v1 G = some q) : gMet l E D yJ7_init (ws_ yJ7_init cJ7_init 2 (none)) 1 64 [.inr (.inr (some t)), .inl v1] G none q := by
  refine gMet.of (by decide +kernel) (Nat.le_of_ble_eq_true rfl) ?_
  intro p e R s m args below meth c C hS ls hl
  have C : gC p R s m args meth c cJ7_init 2 RJ7 "<init>" (none) 1 64 E D := C
  obtain ⟨hx, hb, hml, hown, hts, hKn, hRc, hRs, hc1, hc2, hRf, hRl, hr, hlk, hnm⟩ := id C
  have hl : gls ls 2 [(0, .inr (.inr (some t))), (1, .inl v1)] := hl
  generalize s.heap = H at hS ⊢
  unfold fJ7_init at h
  refine g_aload_n hx hb hl 0 rfl dJ7_init_0 ?_
  refine g_objInit (rs := []) hx hb hml hown hl (hts _ q235) (hts _ q162) (hts _ q163) rfl dJ7_init_1 ⟨by rw [hRf]; exact Nat.le_of_ble_eq_true rfl, by rw [hRl]; exact Nat.le_of_ble_eq_true rfl⟩ ?_
  refine g_getsZ (C := "java/lang/String") (n := "COMPACT_STRINGS") (d := "Z") (v := .int 1) hx hb hown (hKn.2.2.2.2.2.2.1 _ (List.mem_of_getElem? (i := 5) rfl)) hS (hts _ q236) (fun _ z => z) dJ7_init_4 ?_
  refine lv_if_eq (tgt := 25) hx hb dJ7_init_7 (by decide) (fun c_7 => ?_) (fun c_7 => ?_)
  · have h := g_ift c_7 h
    refine g_aload_n hx hb hl 0 rfl dJ7_init_25 ?_
    refine g_iload_n hx hb hl 1 rfl dJ7_init_26 ?_
    exact g_no h
  · have h := g_iff c_7 h
    refine g_aload_n hx hb hl 0 rfl dJ7_init_10 ?_
    refine g_iload_n hx hb hl 1 rfl dJ7_init_11 ?_
    refine g_newaG (k := 101) (atype := .byte) hx hb hKn hRc hRs hS h (by decide) rfl (hts _ q258) dJ7_init_12 (fun z12 h H locs cells slots hS => ?_)
    refine g_ptR hx hb hown hts hKn hS h fd_18_18_0 rfl (Or.inl (hts _ q245)) (fun _ z => z) (fun z => nomatch z) dJ7_init_14 (fun G14 h H locs hS => ?_)
    refine g_aload_n hx hb hl 0 rfl dJ7_init_17 ?_
    refine lv_iconst (v := 0) hx hb dJ7_init_18 (by decide) ?_
    refine g_ptB hx hb hown hts hKn hS h fd_18_18_1 (Or.inl (hts _ q246)) (fun _ z => z) (fun z => nomatch z) dJ7_init_19 (fun G19 h H locs hS => ?_)
    refine lv_goto (tgt := 38) hx hb dJ7_init_22 (by decide) ?_
    exact g_vretG hx hb hr hlk hKn hRc hRs hS h dJ7_init_38
