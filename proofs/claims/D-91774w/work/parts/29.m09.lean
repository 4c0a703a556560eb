set_option maxRecDepth 100000
/-- SendHall$Send.<init>(II)V -/
def fX9_init (E : g_E) (t : Nat) (v1 : Int32) (v2 : Int32) (G : g_G) : Option (g_G) :=
  (fX8_init E t v1 v2 G).bind fun z3 =>
  (gpI E z3 15 15 (some t) 6 1).bind fun G8 =>
  some G8
theorem sX9_init (l : Launch) (E : g_E) (D : g_D) {t : Nat} {v1 : Int32} {v2 : Int32} {G : g_G} {q : g_G} (h : fX9_init E t v1 v2 G = some q) : gMet l E D yX9_init (ws_ yX9_init cX9_init 3 (none)) 3 108 [.inr (.inr (some t)), .inl v1, .inl v2] G none q := by
  refine gMet.of (by decide +kernel) (Nat.le_of_ble_eq_true rfl) ?_
  intro p e R s m args below meth c C hS ls hl
  have C : gC p R s m args meth c cX9_init 3 RX9 "<init>" (none) 3 108 E D := C
  obtain ⟨hx, hb, hml, hown, hts, hKn, hRc, hRs, hc1, hc2, hRf, hRl, hr, hlk, hnm⟩ := id C
  have hl : gls ls 3 [(0, .inr (.inr (some t))), (1, .inl v1), (2, .inl v2)] := hl
  generalize s.heap = H at hS ⊢
  unfold fX9_init at h
  refine g_aload_n hx hb hl 0 rfl dX9_init_0 ?_
  refine g_iload_n hx hb hl 1 rfl dX9_init_1 ?_
  refine g_iload_n hx hb hl 2 rfl dX9_init_2 ?_
  obtain ⟨z3, h3, h⟩ := g_bnd h
  refine g_callI (n := 2) (av := [.inl v1, .inl v2]) (rs := []) hx hb hml hown hts hKn hRc hRs hS hl (sX8_init l E D h3) (lw_meth q1401) (hts _ q142) (hts _ q1399) (hts _ q1400) rfl ⟨by decide, by decide, by decide +kernel⟩ ⟨by rw [hRf]; exact Nat.le_of_ble_eq_true rfl, by rw [hRl]; exact Nat.le_of_ble_eq_true rfl⟩ rfl rfl (Nat.le_of_ble_eq_true rfl) dX9_init_3 (fun H locs cells slots hS => ?_)
  refine g_aload_n hx hb hl 0 rfl dX9_init_6 ?_
  refine lv_iconst (v := 1) hx hb dX9_init_7 (by decide) ?_
  refine g_ptI hx hb hown hts hKn hS h fd_15_15_6 (Or.inl (hts _ q1410)) (fun _ z => z) (fun z => nomatch z) dX9_init_8 (fun G8 h H locs hS => ?_)
  exact g_vretG hx hb hr hlk hKn hRc hRs hS h dX9_init_11
/-- java/util/Arrays.copyOfRange([BII)[B -/
def fJ13_copyOfRange_b10 (E : g_E) (v0 : Option Nat) (v1 : Int32) (v2 : Int32) (G : g_G) : Option (Option Nat × g_G) :=
  (fJ13_copyOfRangeByte E v0 v1 v2 G).bind fun z13 =>
  some (z13.1, z13.2)
def fJ13_copyOfRange (E : g_E) (v0 : Option Nat) (v1 : Int32) (v2 : Int32) (G : g_G) : Option (Option Nat × g_G) :=
  if ¬ v1 = 0 then (
    fJ13_copyOfRange_b10 E v0 v1 v2 G)
  else (
    (galen G v0).bind fun x6 =>
    if v2 = x6 then (
      (gclone E G v0).bind fun z18 =>
      (gcast z18.2 101 101 (some z18.1)).bind fun x21 =>
      some (x21, z18.2))
    else (
      fJ13_copyOfRange_b10 E v0 v1 v2 G))
theorem sJ13_copyOfRange_b10 {p : Program} {l : Launch} {e : Env} {R : Room} {s : State} {m : MethodId} {args : Array Value} {below : List Frame} {meth : Method} {c : Code} {E : g_E} {D : g_D} (C : gC p R s m args meth c cJ13_copyOfRange 3 RJ13 "copyOfRange" (some (.array .byte)) 3 109 E D) : ∀ (v0 : Option Nat) (v1 : Int32) (v2 : Int32) (G : g_G) (q : Option Nat × g_G), fJ13_copyOfRange_b10 E v0 v1 v2 G = some q → ∀ (H : Heap) (locs : List Loc) (cells slots : Nat) (ls : Array Slot), gSt E D G H locs → gls ls 3 [(0, .inr (.inr v0)), (1, .inl v1), (2, .inl v2)] → gT p l e R s m args below meth c E D H locs cells slots (some (va_rf q.1)) q.2 (F0 m 10 ls []) := by
  obtain ⟨hx, hb, hml, hown, hts, hKn, hRc, hRs, hc1, hc2, hRf, hRl, hr, hlk, hnm⟩ := id C
  intro v0 v1 v2 G q h H locs cells slots ls hS hl
  unfold fJ13_copyOfRange_b10 at h
  refine g_aload_n hx hb hl 0 rfl dJ13_copyOfRange_10 ?_
  refine g_iload_n hx hb hl 1 rfl dJ13_copyOfRange_11 ?_
  refine g_iload_n hx hb hl 2 rfl dJ13_copyOfRange_12 ?_
  obtain ⟨z13, h13, h⟩ := g_bnd h
  refine g_callS (n := 3) (av := [.inr (.inr v0), .inl v1, .inl v2]) (rs := []) hx hb hml hown hts hKn hRc hRs hS hl (sJ13_copyOfRangeByte l E D h13) (lw_S q435 q436 q128 q437) ⟨by decide, by decide, by decide +kernel⟩ ⟨by rw [hRf]; exact Nat.le_of_ble_eq_true rfl, by rw [hRl]; exact Nat.le_of_ble_eq_true rfl⟩ rfl rfl (Nat.le_of_ble_eq_true rfl) dJ13_copyOfRange_13 (fun H locs cells slots hS => ?_)
  exact g_aretG hx hb hr (by first | exact Or.inl ⟨_, rfl⟩ | exact Or.inr ⟨_, rfl⟩) hlk hKn hRc hRs hS h dJ13_copyOfRange_16
theorem sJ13_copyOfRange (l : Launch) (E : g_E) (D : g_D) {v0 : Option Nat} {v1 : Int32} {v2 : Int32} {G : g_G} {q : Option Nat × g_G} (h : fJ13_copyOfRange E v0 v1 v2 G = some q) : gMet l E D yJ13_copyOfRange (ws_ yJ13_copyOfRange cJ13_copyOfRange 3 (some (.array .byte))) 3 109 [.inr (.inr v0), .inl v1, .inl v2] G (some (va_rf q.1)) q.2 := by
  refine gMet.of (by decide +kernel) (Nat.le_of_ble_eq_true rfl) ?_
  intro p e R s m args below meth c C hS ls hl
  have C : gC p R s m args meth c cJ13_copyOfRange 3 RJ13 "copyOfRange" (some (.array .byte)) 3 109 E D := C
  obtain ⟨hx, hb, hml, hown, hts, hKn, hRc, hRs, hc1, hc2, hRf, hRl, hr, hlk, hnm⟩ := id C
  have hl : gls ls 3 [(0, .inr (.inr v0)), (1, .inl v1), (2, .inl v2)] := hl
  generalize s.heap = H at hS ⊢
  unfold fJ13_copyOfRange at h
  refine g_iload_n hx hb hl 1 rfl dJ13_copyOfRange_0 ?_
  refine lv_if_ne (tgt := 10) hx hb dJ13_copyOfRange_1 (by decide) (fun c_1 => ?_) (fun c_1 => ?_)
  · have h := g_ift c_1 h
    exact sJ13_copyOfRange_b10 C _ _ _ _ _ h _ _ _ _ _ hS (gls_sub hl [0, 1, 2] rfl)
  · have h := g_iff (fun z => z c_1) h
    refine g_iload_n hx hb hl 2 rfl dJ13_copyOfRange_4 ?_
    refine g_aload_n hx hb hl 0 rfl dJ13_copyOfRange_5 ?_
    refine g_alen hx hb hKn hS h dJ13_copyOfRange_6 (fun x6 h => ?_)
    refine lv_icmp_eq (tgt := 17) hx hb dJ13_copyOfRange_7 (by decide) (fun c_7 => ?_) (fun c_7 => ?_)
    · have h := g_ift c_7 h
      refine g_aload_n hx hb hl 0 rfl dJ13_copyOfRange_17 ?_
      refine g_cloneG (rs := []) hx hb hml hown hts hKn hRc hRs hS hl h (hts _ q293) (hts _ q294) (hts _ q295) (hts _ q296) (hts _ q297) q298 rfl (Nat.le_of_ble_eq_true rfl) ⟨by rw [hRf]; exact Nat.le_of_ble_eq_true rfl, by rw [hRl]; exact Nat.le_of_ble_eq_true rfl⟩ dJ13_copyOfRange_18 (fun z18 h H locs cells slots hS => ?_)
      refine g_castA (k := 101) (C := "[B") hx hb hown hKn hS h (by decide) (by decide +kernel) (hts _ q299) dJ13_copyOfRange_21 (fun x21 h => ?_)
      exact g_aretG hx hb hr (by first | exact Or.inl ⟨_, rfl⟩ | exact Or.inr ⟨_, rfl⟩) hlk hKn hRc hRs hS h dJ13_copyOfRange_24
    · have h := g_iff c_7 h
      exact sJ13_copyOfRange_b10 C _ _ _ _ _ h _ _ _ _ _ hS (gls_sub hl [0, 1, 2] rfl)
/-- java/util/Arrays.copyOf([Ljava/lang/Object;I)[Ljava/lang/Object; -/
def fJ13_copyOf_2 (E : g_E) (v0 : Option Nat) (v1 : Int32) (G : g_G) : Option (Option Nat × g_G) :=
  (gchk G 120 v0).bind fun b3 =>
  (fJ13_copyOf_3 E v0 v1 (some (gA E 7)) G).bind fun z6 =>
  some (z6.1, z6.2)
theorem sJ13_copyOf_2 (l : Launch) (E : g_E) (D : g_D) {v0 : Option Nat} {v1 : Int32} {G : g_G} {q : Option Nat × g_G} (h : fJ13_copyOf_2 E v0 v1 G = some q) : gMet l E D yJ13_copyOf_2 (ws_ yJ13_copyOf_2 cJ13_copyOf_2 2 (some (.array (.object "java/lang/Object")))) 2 103 [.inr (.inr v0), .inl v1] G (some (va_rf q.1)) q.2 := by
  refine gMet.of (by decide +kernel) (Nat.le_of_ble_eq_true rfl) ?_
  intro p e R s m args below meth c C hS ls hl
  have C : gC p R s m args meth c cJ13_copyOf_2 2 RJ13 "copyOf" (some (.array (.object "java/lang/Object"))) 2 103 E D := C
  obtain ⟨hx, hb, hml, hown, hts, hKn, hRc, hRs, hc1, hc2, hRf, hRl, hr, hlk, hnm⟩ := id C
  have hl : gls ls 2 [(0, .inr (.inr v0)), (1, .inl v1)] := hl
  generalize s.heap = H at hS ⊢
  unfold fJ13_copyOf_2 at h
  refine g_aload_n hx hb hl 0 rfl dJ13_copyOf_2_0 ?_
  refine g_iload_n hx hb hl 1 rfl dJ13_copyOf_2_1 ?_
  refine g_aload_n hx hb hl 0 rfl dJ13_copyOf_2_2 ?_
  obtain ⟨b3, hb3, h⟩ := g_bnd h
  obtain ⟨hr3, hk3⟩ := g_chk hb3
  refine g_getC (rs := [.inl v1, .inr (.inr v0)]) hx hb hml hown hKn hS hl hr3 hk3 (hts _ q1028) (hts _ q2491) (hts _ q1029) (hts _ q1055) rfl (Nat.le_of_ble_eq_true rfl) ⟨by rw [hRf]; exact Nat.le_of_ble_eq_true rfl, by rw [hRl]; exact Nat.le_of_ble_eq_true rfl⟩ dJ13_copyOf_2_3 ?_
  obtain ⟨z6, h6, h⟩ := g_bnd h
  refine g_callS (n := 3) (av := [.inr (.inr v0), .inl v1, .inr (.inr (some (gA E 7)))]) (rs := []) hx hb hml hown hts hKn hRc hRs hS hl (sJ13_copyOf_3 l E D h6) (lw_S q1056 q1057 q128 q1058) ⟨by decide, by decide, by decide +kernel⟩ ⟨by rw [hRf]; exact Nat.le_of_ble_eq_true rfl, by rw [hRl]; exact Nat.le_of_ble_eq_true rfl⟩ rfl rfl (Nat.le_of_ble_eq_true rfl) dJ13_copyOf_2_6 (fun H locs cells slots hS => ?_)
  exact g_aretG hx hb hr (by first | exact Or.inl ⟨_, rfl⟩ | exact Or.inr ⟨_, rfl⟩) hlk hKn hRc hRs hS h dJ13_copyOf_2_9
/-- java/lang/StringLatin1.charAt([BI)C -/
def fJ15_charAt (E : g_E) (v0 : Option Nat) (v1 : Int32) (G : g_G) : Option (Int32 × g_G) :=
  (galen G v0).bind fun x2 =>
  (fJ9_checkIndex E v1 x2 G).bind fun z3 =>
  (gaI z3 101 v0 v1).bind fun x8 =>
  if (Int32.toUInt32 (UInt32.toInt32 (Int32.toUInt32 (x8 &&& 255) % 65536))).toUInt16.toUInt32.toInt32 = (UInt32.toInt32 (Int32.toUInt32 (x8 &&& 255) % 65536)) then some ((UInt32.toInt32 (Int32.toUInt32 (x8 &&& 255) % 65536)), z3) else none
theorem sJ15_charAt (l : Launch) (E : g_E) (D : g_D) {v0 : Option Nat} {v1 : Int32} {G : g_G} {q : Int32 × g_G} (h : fJ15_charAt E v0 v1 G = some q) : gMet l E D yJ15_charAt (ws_ yJ15_charAt cJ15_charAt 2 (some .char)) 3 107 [.inr (.inr v0), .inl v1] G (some (.int q.1)) q.2 := by
  refine gMet.of (by decide +kernel) (Nat.le_of_ble_eq_true rfl) ?_
  intro p e R s m args below meth c C hS ls hl
  have C : gC p R s m args meth c cJ15_charAt 2 RJ15 "charAt" (some .char) 3 107 E D := C
  obtain ⟨hx, hb, hml, hown, hts, hKn, hRc, hRs, hc1, hc2, hRf, hRl, hr, hlk, hnm⟩ := id C
  have hl : gls ls 2 [(0, .inr (.inr v0)), (1, .inl v1)] := hl
  generalize s.heap = H at hS ⊢
  unfold fJ15_charAt at h
  refine g_iload_n hx hb hl 1 rfl dJ15_charAt_0 ?_
  refine g_aload_n hx hb hl 0 rfl dJ15_charAt_1 ?_
  refine g_alen hx hb hKn hS h dJ15_charAt_2 (fun x2 h => ?_)
  obtain ⟨z3, h3, h⟩ := g_bnd h
  refine g_callS (n := 2) (av := [.inl v1, .inl x2]) (rs := []) hx hb hml hown hts hKn hRc hRs hS hl (sJ9_checkIndex l E D h3) (lw_S q1530 q1153 q124 q1154) ⟨by decide, by decide, by decide +kernel⟩ ⟨by rw [hRf]; exact Nat.le_of_ble_eq_true rfl, by rw [hRl]; exact Nat.le_of_ble_eq_true rfl⟩ rfl rfl (Nat.le_of_ble_eq_true rfl) dJ15_charAt_3 (fun H locs cells slots hS => ?_)
  refine g_aload_n hx hb hl 0 rfl dJ15_charAt_6 ?_
  refine g_iload_n hx hb hl 1 rfl dJ15_charAt_7 ?_
  refine g_baloadG hx hb hKn hS h dJ15_charAt_8 (fun x8 h => ?_)
  refine lv_sipush (v := 255) hx hb dJ15_charAt_9 (by decide) ?_
  refine lv_iand hx hb dJ15_charAt_12 ?_
  refine lv_i2c (v := (UInt32.toInt32 (Int32.toUInt32 (x8 &&& 255) % 65536))) hx hb dJ15_charAt_13 rfl ?_
  exact g_cretG hx hb hr hlk hKn hRc hRs hS h dJ15_charAt_14
/-- java/lang/StringLatin1.indexOf([BIII)I -/
def fJ15_indexOf (E : g_E) (v0 : Option Nat) (v1 : Int32) (v2 : Int32) (v3 : Int32) (G : g_G) : Option (Int32 × g_G) :=
  (fJ15_canEncode_2 E v1 G).bind fun z1 =>
  if ¬ z1.1 = 0 then (
    (galen z1.2 v0).bind fun x17 =>
    if (if v2 < 0 then 0 else v2) < (if x17 < v3 then x17 else v3) then (
      (fJ15_indexOfChar E v0 v1 (if v2 < 0 then 0 else v2) (if x17 < v3 then x17 else v3) z1.2).bind fun z33 =>
      some (z33.1, z33.2))
    else (
      some ((-1), z1.2)))
  else (
    some ((-1), z1.2))
theorem sJ15_indexOf (l : Launch) (E : g_E) (D : g_D) {v0 : Option Nat} {v1 : Int32} {v2 : Int32} {v3 : Int32} {G : g_G} {q : Int32 × g_G} (h : fJ15_indexOf E v0 v1 v2 v3 G = some q) : gMet l E D yJ15_indexOf (ws_ yJ15_indexOf cJ15_indexOf 4 (some .int)) 2 89 [.inr (.inr v0), .inl v1, .inl v2, .inl v3] G (some (.int q.1)) q.2 := by
  refine gMet.of (by decide +kernel) (Nat.le_of_ble_eq_true rfl) ?_
  intro p e R s m args below meth c C hS ls hl
  have C : gC p R s m args meth c cJ15_indexOf 4 RJ15 "indexOf" (some .int) 2 89 E D := C
  obtain ⟨hx, hb, hml, hown, hts, hKn, hRc, hRs, hc1, hc2, hRf, hRl, hr, hlk, hnm⟩ := id C
  have hl : gls ls 4 [(0, .inr (.inr v0)), (1, .inl v1), (2, .inl v2), (3, .inl v3)] := hl
  generalize s.heap = H at hS ⊢
  unfold fJ15_indexOf at h
  refine g_iload_n hx hb hl 1 rfl dJ15_indexOf_0 ?_
  obtain ⟨z1, h1, h⟩ := g_bnd h
  refine g_callS (n := 1) (av := [.inl v1]) (rs := []) hx hb hml hown hts hKn hRc hRs hS hl (sJ15_canEncode_2 l E D h1) (lw_S q1181 q1182 q131 q1183) ⟨by decide, by decide, by decide +kernel⟩ ⟨by rw [hRf]; exact Nat.le_of_ble_eq_true rfl, by rw [hRl]; exact Nat.le_of_ble_eq_true rfl⟩ rfl rfl (Nat.le_of_ble_eq_true rfl) dJ15_indexOf_1 (fun H locs cells slots hS => ?_)
  refine lv_if_ne (tgt := 9) hx hb dJ15_indexOf_4 (by decide) (fun c_4 => ?_) (fun c_4 => ?_)
  · have h := g_ift c_4 h
    refine g_iload_n hx hb hl 2 rfl dJ15_indexOf_9 ?_
    refine lv_iconst (v := 0) hx hb dJ15_indexOf_10 (by decide) ?_
    refine g_mmax (rs := []) hx hb hml hown hRc hRs hS hl (hts _ q1184) (hts _ q283) (hts _ q127) (hts _ q284) (by decide +kernel) rfl (Nat.le_of_ble_eq_true rfl) ⟨by rw [hRf]; exact Nat.le_of_ble_eq_true rfl, by rw [hRl]; exact Nat.le_of_ble_eq_true rfl⟩ dJ15_indexOf_11 (fun cells slots => ?_)
    refine g_istore_n (l1 := [(2, .inl (if v2 < 0 then 0 else v2)), (0, .inr (.inr v0)), (1, .inl v1), (3, .inl v3)]) hx hb hl (by decide) rfl dJ15_indexOf_14 (fun ls hl => ?_)
    refine g_iload_n hx hb hl 3 rfl dJ15_indexOf_15 ?_
    refine g_aload_n hx hb hl 1 rfl dJ15_indexOf_16 ?_
    refine g_alen hx hb hKn hS h dJ15_indexOf_17 (fun x17 h => ?_)
    refine g_mmin (rs := []) hx hb hml hown hRc hRs hS hl (hts _ q1185) (hts _ q301) (hts _ q127) (hts _ q302) (by decide +kernel) rfl (Nat.le_of_ble_eq_true rfl) ⟨by rw [hRf]; exact Nat.le_of_ble_eq_true rfl, by rw [hRl]; exact Nat.le_of_ble_eq_true rfl⟩ dJ15_indexOf_18 (fun cells slots => ?_)
    refine g_istore_n (l1 := [(3, .inl (if x17 < v3 then x17 else v3)), (2, .inl (if v2 < 0 then 0 else v2)), (0, .inr (.inr v0)), (1, .inl v1)]) hx hb hl (by decide) rfl dJ15_indexOf_21 (fun ls hl => ?_)
    refine g_iload_n hx hb hl 1 rfl dJ15_indexOf_22 ?_
    refine g_iload_n hx hb hl 0 rfl dJ15_indexOf_23 ?_
    refine lv_icmp_lt (tgt := 29) hx hb dJ15_indexOf_24 (by decide) (fun c_24 => ?_) (fun c_24 => ?_)
    · have h := g_ift c_24 h
      refine g_aload_n hx hb hl 2 rfl dJ15_indexOf_29 ?_
      refine g_iload_n hx hb hl 3 rfl dJ15_indexOf_30 ?_
      refine g_iload_n hx hb hl 1 rfl dJ15_indexOf_31 ?_
      refine g_iload_n hx hb hl 0 rfl dJ15_indexOf_32 ?_
      obtain ⟨z33, h33, h⟩ := g_bnd h
      refine g_callS (n := 4) (av := [.inr (.inr v0), .inl v1, .inl (if v2 < 0 then 0 else v2), .inl (if x17 < v3 then x17 else v3)]) (rs := []) hx hb hml hown hts hKn hRc hRs hS hl (sJ15_indexOfChar l E D h33) (lw_S q1186 q1187 q131 q1188) ⟨by decide, by decide, by decide +kernel⟩ ⟨by rw [hRf]; exact Nat.le_of_ble_eq_true rfl, by rw [hRl]; exact Nat.le_of_ble_eq_true rfl⟩ rfl rfl (Nat.le_of_ble_eq_true rfl) dJ15_indexOf_33 (fun H locs cells slots hS => ?_)
      exact g_iretG hx hb hr hlk hKn hRc hRs hS h dJ15_indexOf_36
    · have h := g_iff c_24 h
      refine lv_iconst (v := (-1)) hx hb dJ15_indexOf_27 (by decide) ?_
      exact g_iretG hx hb hr hlk hKn hRc hRs hS h dJ15_indexOf_28
  · have h := g_iff (fun z => z c_4) h
    refine lv_iconst (v := (-1)) hx hb dJ15_indexOf_7 (by decide) ?_
    exact g_iretG hx hb hr hlk hKn hRc hRs hS h dJ15_indexOf_8
/-- java/util/ArrayList.grow(I)[Ljava/lang/Object; -/
def fJ2_grow_2 (E : g_E) (t : Nat) (v1 : Int32) (G : g_G) : Option (Option Nat × g_G) :=
  (grR G 17 17 (some t) 1).bind fun x1 =>
  (galen G x1).bind fun x4 =>
  if 0 < x4 then (
    (fJ11_newLength E x4 (v1 - x4) (x4 >>> (1 &&& 31)) G).bind fun z27 =>
    (grR z27.2 17 17 (some t) 1).bind fun x33 =>
    (fJ13_copyOf_2 E x33 z27.1 z27.2).bind fun z37 =>
    (gpR E z37.2 17 17 (some t) 1 z37.1).bind fun G41 =>
    some (z37.1, G41))
  else (
    (grR G 17 17 (some t) 1).bind fun x11 =>
    none)
theorem sJ2_grow_2 (l : Launch) (E : g_E) (D : g_D) {t : Nat} {v1 : Int32} {G : g_G} {q : Option Nat × g_G} (h : fJ2_grow_2 E t v1 G = some q) : gMet l E D yJ2_grow_2 (ws_ yJ2_grow_2 cJ2_grow_2 4 (some (.array (.object "java/lang/Object")))) 3 124 [.inr (.inr (some t)), .inl v1] G (some (va_rf q.1)) q.2 := by
  refine gMet.of (by decide +kernel) (Nat.le_of_ble_eq_true rfl) ?_
  intro p e R s m args below meth c C hS ls hl
  have C : gC p R s m args meth c cJ2_grow_2 4 RJ2 "grow" (some (.array (.object "java/lang/Object"))) 3 124 E D := C
  obtain ⟨hx, hb, hml, hown, hts, hKn, hRc, hRs, hc1, hc2, hRf, hRl, hr, hlk, hnm⟩ := id C
  have hl : gls ls 4 [(0, .inr (.inr (some t))), (1, .inl v1)] := hl
  generalize s.heap = H at hS ⊢
  unfold fJ2_grow_2 at h
  refine g_aload_n hx hb hl 0 rfl dJ2_grow_2_0 ?_
  refine g_rdR hx hb hown hts hKn hS h fd_17_17_1 rfl (Or.inl (hts _ q500)) (fun _ z => z) dJ2_grow_2_1 (fun x1 h => ?_)
  refine g_alen hx hb hKn hS h dJ2_grow_2_4 (fun x4 h => ?_)
  refine g_istore_n (l1 := [(2, .inl x4), (0, .inr (.inr (some t))), (1, .inl v1)]) hx hb hl (by decide) rfl dJ2_grow_2_5 (fun ls hl => ?_)
  refine g_iload_n hx hb hl 0 rfl dJ2_grow_2_6 ?_
  refine lv_if_gt (tgt := 20) hx hb dJ2_grow_2_7 (by decide) (fun c_7 => ?_) (fun c_7 => ?_)
  · have h := g_ift c_7 h
    refine g_iload_n hx hb hl 0 rfl dJ2_grow_2_20 ?_
    refine g_iload_n hx hb hl 2 rfl dJ2_grow_2_21 ?_
    refine g_iload_n hx hb hl 0 rfl dJ2_grow_2_22 ?_
    refine lv_isub hx hb dJ2_grow_2_23 ?_
    refine g_iload_n hx hb hl 0 rfl dJ2_grow_2_24 ?_
    refine lv_iconst (v := 1) hx hb dJ2_grow_2_25 (by decide) ?_
    refine lv_ishr hx hb dJ2_grow_2_26 ?_
    obtain ⟨z27, h27, h⟩ := g_bnd h
    refine g_callS (n := 3) (av := [.inl x4, .inl (v1 - x4), .inl (x4 >>> (1 &&& 31))]) (rs := []) hx hb hml hown hts hKn hRc hRs hS hl (sJ11_newLength l E D h27) (lw_S q1024 q280 q126 q281) ⟨by decide, by decide, by decide +kernel⟩ ⟨by rw [hRf]; exact Nat.le_of_ble_eq_true rfl, by rw [hRl]; exact Nat.le_of_ble_eq_true rfl⟩ rfl rfl (Nat.le_of_ble_eq_true rfl) dJ2_grow_2_27 (fun H locs cells slots hS => ?_)
    refine g_istore_n (l1 := [(3, .inl z27.1), (2, .inl x4), (0, .inr (.inr (some t))), (1, .inl v1)]) hx hb hl (by decide) rfl dJ2_grow_2_30 (fun ls hl => ?_)
    refine g_aload_n hx hb hl 2 rfl dJ2_grow_2_31 ?_
    refine g_aload_n hx hb hl 2 rfl dJ2_grow_2_32 ?_
    refine g_rdR hx hb hown hts hKn hS h fd_17_17_1 rfl (Or.inl (hts _ q500)) (fun _ z => z) dJ2_grow_2_33 (fun x33 h => ?_)
    refine g_iload_n hx hb hl 0 rfl dJ2_grow_2_36 ?_
    obtain ⟨z37, h37, h⟩ := g_bnd h
    refine g_callS (n := 2) (av := [.inr (.inr x33), .inl z27.1]) (rs := [.inr (.inr (some t))]) hx hb hml hown hts hKn hRc hRs hS hl (sJ13_copyOf_2 l E D h37) (lw_S q1025 q1026 q128 q1027) ⟨by decide, by decide, by decide +kernel⟩ ⟨by rw [hRf]; exact Nat.le_of_ble_eq_true rfl, by rw [hRl]; exact Nat.le_of_ble_eq_true rfl⟩ rfl rfl (Nat.le_of_ble_eq_true rfl) dJ2_grow_2_37 (fun H locs cells slots hS => ?_)
    refine lv_dup_x1 hx hb dJ2_grow_2_40 (by first | exact va_rf_cat _ | rfl | exact g_catA _) (by first | exact va_rf_cat _ | rfl | exact g_catA _) ?_
    refine g_ptR hx hb hown hts hKn hS h fd_17_17_1 rfl (Or.inl (hts _ q500)) (fun _ z => z) (fun z => nomatch z) dJ2_grow_2_41 (fun G41 h H locs hS => ?_)
    exact g_aretG hx hb hr (by first | exact Or.inl ⟨_, rfl⟩ | exact Or.inr ⟨_, rfl⟩) hlk hKn hRc hRs hS h dJ2_grow_2_44
  · have h := g_iff c_7 h
    refine g_aload_n hx hb hl 1 rfl dJ2_grow_2_10 ?_
    refine g_rdR hx hb hown hts hKn hS h fd_17_17_1 rfl (Or.inl (hts _ q500)) (fun _ z => z) dJ2_grow_2_11 (fun x11 h => ?_)
    exact g_no h
/-- java/lang/AbstractStringBuilder.append(Ljava/lang/String;)Ljava/lang/AbstractStringBuilder; -/
def fJ7_append (E : g_E) (t : Nat) (v1 : Option Nat) (G : g_G) : Option (Option Nat × g_G) :=
  if ¬ v1 = none then (
    (gchk G 19 v1).bind fun b10 =>
    (fJ9_length E b10 G).bind fun z10 =>
    (grI z10.2 18 18 (some t) 3).bind fun x16 =>
    (gchk z10.2 18 (some t)).bind fun b21 =>
    (fJ7_ensureCapacityInternal E b21 (x16 + z10.1) z10.2).bind fun z21 =>
    (grI z21 18 18 (some t) 3).bind fun x26 =>
    none)
  else (
    none)
theorem sJ7_append (l : Launch) (E : g_E) (D : g_D) {t : Nat} {v1 : Option Nat} {G : g_G} {q : Option Nat × g_G} (h : fJ7_append E t v1 G = some q) : gMet l E D yJ7_append (ws_ yJ7_append cJ7_append 3 (some (.object "java/lang/AbstractStringBuilder"))) 3 104 [.inr (.inr (some t)), .inr (.inr v1)] G (some (va_rf q.1)) q.2 := by
  refine gMet.of (by decide +kernel) (Nat.le_of_ble_eq_true rfl) ?_
  intro p e R s m args below meth c C hS ls hl
  have C : gC p R s m args meth c cJ7_append 3 RJ7 "append" (some (.object "java/lang/AbstractStringBuilder")) 3 104 E D := C
  obtain ⟨hx, hb, hml, hown, hts, hKn, hRc, hRs, hc1, hc2, hRf, hRl, hr, hlk, hnm⟩ := id C
  have hl : gls ls 3 [(0, .inr (.inr (some t))), (1, .inr (.inr v1))] := hl
  generalize s.heap = H at hS ⊢
  unfold fJ7_append at h
  refine g_aload_n hx hb hl 1 rfl dJ7_append_0 ?_
  refine g_ifnonnull (tgt := 9) hx hb dJ7_append_1 (by decide) (fun c_1 => ?_) (fun c_1 => ?_)
  · have h := g_ift c_1 h
    refine g_aload_n hx hb hl 1 rfl dJ7_append_9 ?_
    obtain ⟨b10, hb10, h⟩ := g_bnd h
    obtain ⟨hr10, hk10⟩ := g_chk hb10
    obtain ⟨z10, h10, h⟩ := g_bnd h
    refine g_callV (n := 0) (b := b10) (av := []) (rs := []) hx hb hml hown hts hKn hRc hRs hS hl (sJ9_length l E D h10) (lw_V q337 q338 q339 q124 q340) ⟨rfl, by decide, by decide, by decide +kernel⟩ ⟨by rw [hRf]; exact Nat.le_of_ble_eq_true rfl, by rw [hRl]; exact Nat.le_of_ble_eq_true rfl⟩ (g_recv hKn hS hk10 (by decide) (by decide)) rfl (by rw [hr10]; rfl) (Nat.le_of_ble_eq_true rfl) dJ7_append_10 (fun H locs cells slots hS => ?_)
    refine g_istore_n (l1 := [(2, .inl z10.1), (0, .inr (.inr (some t))), (1, .inr (.inr v1))]) hx hb hl (by decide) rfl dJ7_append_13 (fun ls hl => ?_)
    refine g_aload_n hx hb hl 1 rfl dJ7_append_14 ?_
    refine g_aload_n hx hb hl 1 rfl dJ7_append_15 ?_
    refine g_rdI hx hb hown hts hKn hS h fd_18_18_3 rfl (Or.inl (hts _ q248)) (fun _ z => z) dJ7_append_16 (fun x16 h => ?_)
    refine g_iload_n hx hb hl 0 rfl dJ7_append_19 ?_
    refine lv_iadd hx hb dJ7_append_20 ?_
    obtain ⟨b21, hb21, h⟩ := g_bnd h
    obtain ⟨hr21, hk21⟩ := g_chk hb21
    obtain ⟨z21, h21, h⟩ := g_bnd h
    refine g_callU (n := 1) (b := b21) (av := [.inl (x16 + z10.1)]) (rs := []) hx hb hml hown hts hKn hRc hRs hS hl (C := "java/lang/StringBuilder") (owner := "java/lang/AbstractStringBuilder") (x := ⟨"java/lang/AbstractStringBuilder", "ensureCapacityInternal", "(I)V"⟩) (sJ7_ensureCapacityInternal l E D h21) (g_cwUP 1 hts (lw_meth q274) (hts _ q271) (hts _ q2449) (va_any rfl (hKn.2.2.2.2.2.2.2.2.2.2.2.2 _ (List.mem_cons_self))) (hts _ q273) (hts _ q122) rfl rfl ⟨by decide, by decide, by decide +kernel⟩ ⟨by rw [hRf]; exact Nat.le_of_ble_eq_true rfl, by rw [hRl]; exact Nat.le_of_ble_eq_true rfl⟩) (g_recv hKn hS hk21 (by decide) (by decide)) rfl (by rw [hr21]; rfl) (Nat.le_of_ble_eq_true rfl) dJ7_append_21 (fun H locs cells slots hS => ?_)
    refine g_aload_n hx hb hl 1 rfl dJ7_append_24 ?_
    refine g_aload_n hx hb hl 1 rfl dJ7_append_25 ?_
    refine g_rdI hx hb hown hts hKn hS h fd_18_18_3 rfl (Or.inl (hts _ q248)) (fun _ z => z) dJ7_append_26 (fun x26 h => ?_)
    refine g_aload_n hx hb hl 2 rfl dJ7_append_29 ?_
    exact g_no h
  · have h := g_iff (fun z => z c_1) h
    refine g_aload_n hx hb hl 0 rfl dJ7_append_4 ?_
    exact g_no h
/-- java/lang/AbstractStringBuilder.append(C)Ljava/lang/AbstractStringBuilder; -/
def fJ7_append_3_b45 (E : g_E) (t : Nat) (v1 : Int32) (G : g_G) : Option (Option Nat × g_G) :=
  (gchk G 18 (some t)).bind fun b46 =>
  (fJ7_isLatin1 E b46 G).bind fun z46 =>
  if z46.1 = 0 then (
    (grR z46.2 18 18 (some t) 0).bind fun x57 =>
    (grI z46.2 18 18 (some t) 3).bind fun x62 =>
    (gpI E z46.2 18 18 (some t) 3 (x62 + 1)).bind fun G68 =>
    none)
  else (
    none)
def fJ7_append_3 (E : g_E) (t : Nat) (v1 : Int32) (G : g_G) : Option (Option Nat × g_G) :=
  (grI G 18 18 (some t) 3).bind fun x2 =>
  (gchk G 18 (some t)).bind fun b7 =>
  (fJ7_ensureCapacityInternal E b7 (x2 + 1) G).bind fun z7 =>
  (gchk z7 18 (some t)).bind fun b11 =>
  (fJ7_isLatin1 E b11 z7).bind fun z11 =>
  if z11.1 = 0 then (
    fJ7_append_3_b45 E t v1 z11.2)
  else (
    (fJ15_canEncode E v1 z11.2).bind fun z18 =>
    if z18.1 = 0 then (
      fJ7_append_3_b45 E t v1 z18.2)
    else (
      (grR z18.2 18 18 (some t) 0).bind fun x25 =>
      (grI z18.2 18 18 (some t) 3).bind fun x30 =>
      (gpI E z18.2 18 18 (some t) 3 (x30 + 1)).bind fun G36 =>
      (gsaB E G36 x25 x30 (Int8.toInt32 (Int32.toInt8 v1))).bind fun G41 =>
      some ((some t), G41)))
theorem sJ7_append_3_b45 {p : Program} {l : Launch} {e : Env} {R : Room} {s : State} {m : MethodId} {args : Array Value} {below : List Frame} {meth : Method} {c : Code} {E : g_E} {D : g_D} (C : gC p R s m args meth c cJ7_append_3 2 RJ7 "append" (some (.object "java/lang/AbstractStringBuilder")) 2 86 E D) : ∀ (t : Nat) (v1 : Int32) (G : g_G) (q : Option Nat × g_G), fJ7_append_3_b45 E t v1 G = some q → ∀ (H : Heap) (locs : List Loc) (cells slots : Nat) (ls : Array Slot), gSt E D G H locs → gls ls 2 [(0, .inr (.inr (some t))), (1, .inl v1)] → gT p l e R s m args below meth c E D H locs cells slots (some (va_rf q.1)) q.2 (F0 m 45 ls []) := by
  obtain ⟨hx, hb, hml, hown, hts, hKn, hRc, hRs, hc1, hc2, hRf, hRl, hr, hlk, hnm⟩ := id C
  intro t v1 G q h H locs cells slots ls hS hl
  unfold fJ7_append_3_b45 at h
  refine g_aload_n hx hb hl 0 rfl dJ7_append_3_45 ?_
  obtain ⟨b46, hb46, h⟩ := g_bnd h
  obtain ⟨hr46, hk46⟩ := g_chk hb46
  obtain ⟨z46, h46, h⟩ := g_bnd h
  refine g_callU (n := 0) (b := b46) (av := []) (rs := []) hx hb hml hown hts hKn hRc hRs hS hl (C := "java/lang/StringBuilder") (owner := "java/lang/AbstractStringBuilder") (x := ⟨"java/lang/AbstractStringBuilder", "isLatin1", "()Z"⟩) (sJ7_isLatin1 l E D h46) (va_cwU 0 hts (lw_app (lw_in _ [306, 308, 309, 307, 122] (by decide +kernel) (by decide +kernel)) (lw_meth q310)) rfl rfl rfl rfl ⟨by decide, by decide, by decide +kernel⟩ ⟨by rw [hRf]; exact Nat.le_of_ble_eq_true rfl, by rw [hRl]; exact Nat.le_of_ble_eq_true rfl⟩) (g_recv hKn hS hk46 (by decide) (by decide)) rfl (by rw [hr46]; rfl) (Nat.le_of_ble_eq_true rfl) dJ7_append_3_46 (fun H locs cells slots hS => ?_)
  refine lv_if_eq (tgt := 56) hx hb dJ7_append_3_49 (by decide) (fun c_49 => ?_) (fun c_49 => ?_)
  · have h := g_ift c_49 h
    refine g_aload_n hx hb hl 0 rfl dJ7_append_3_56 ?_
    refine g_rdR hx hb hown hts hKn hS h fd_18_18_0 rfl (Or.inl (hts _ q245)) (fun _ z => z) dJ7_append_3_57 (fun x57 h => ?_)
    refine g_aload_n hx hb hl 0 rfl dJ7_append_3_60 ?_
    refine lv_dup hx hb dJ7_append_3_61 (by first | exact va_rf_cat _ | rfl | exact g_catA _) ?_
    refine g_rdI hx hb hown hts hKn hS h fd_18_18_3 rfl (Or.inl (hts _ q248)) (fun _ z => z) dJ7_append_3_62 (fun x62 h => ?_)
    refine lv_dup_x1 hx hb dJ7_append_3_65 rfl (by first | exact va_rf_cat _ | rfl | exact g_catA _) ?_
    refine lv_iconst (v := 1) hx hb dJ7_append_3_66 (by decide) ?_
    refine lv_iadd hx hb dJ7_append_3_67 ?_
    refine g_ptI hx hb hown hts hKn hS h fd_18_18_3 (Or.inl (hts _ q248)) (fun _ z => z) (fun z => nomatch z) dJ7_append_3_68 (fun G68 h H locs hS => ?_)
    refine g_iload_n hx hb hl 1 rfl dJ7_append_3_71 ?_
    exact g_no h
  · have h := g_iff c_49 h
    refine g_aload_n hx hb hl 0 rfl dJ7_append_3_52 ?_
    exact g_no h
theorem sJ7_append_3 (l : Launch) (E : g_E) (D : g_D) {t : Nat} {v1 : Int32} {G : g_G} {q : Option Nat × g_G} (h : fJ7_append_3 E t v1 G = some q) : gMet l E D yJ7_append_3 (ws_ yJ7_append_3 cJ7_append_3 2 (some (.object "java/lang/AbstractStringBuilder"))) 2 86 [.inr (.inr (some t)), .inl v1] G (some (va_rf q.1)) q.2 := by
  refine gMet.of (by decide +kernel) (Nat.le_of_ble_eq_true rfl) ?_
  intro p e R s m args below meth c C hS ls hl
  have C : gC p R s m args meth c cJ7_append_3 2 RJ7 "append" (some (.object "java/lang/AbstractStringBuilder")) 2 86 E D := C
  obtain ⟨hx, hb, hml, hown, hts, hKn, hRc, hRs, hc1, hc2, hRf, hRl, hr, hlk, hnm⟩ := id C
  have hl : gls ls 2 [(0, .inr (.inr (some t))), (1, .inl v1)] := hl
  generalize s.heap = H at hS ⊢
  unfold fJ7_append_3 at h
  refine g_aload_n hx hb hl 0 rfl dJ7_append_3_0 ?_
  refine g_aload_n hx hb hl 0 rfl dJ7_append_3_1 ?_
  refine g_rdI hx hb hown hts hKn hS h fd_18_18_3 rfl (Or.inl (hts _ q248)) (fun _ z => z) dJ7_append_3_2 (fun x2 h => ?_)
  refine lv_iconst (v := 1) hx hb dJ7_append_3_5 (by decide) ?_
  refine lv_iadd hx hb dJ7_append_3_6 ?_
  obtain ⟨b7, hb7, h⟩ := g_bnd h
  obtain ⟨hr7, hk7⟩ := g_chk hb7
  obtain ⟨z7, h7, h⟩ := g_bnd h
  refine g_callU (n := 1) (b := b7) (av := [.inl (x2 + 1)]) (rs := []) hx hb hml hown hts hKn hRc hRs hS hl (C := "java/lang/StringBuilder") (owner := "java/lang/AbstractStringBuilder") (x := ⟨"java/lang/AbstractStringBuilder", "ensureCapacityInternal", "(I)V"⟩) (sJ7_ensureCapacityInternal l E D h7) (g_cwUP 1 hts (lw_meth q274) (hts _ q271) (hts _ q2449) (va_any rfl (hKn.2.2.2.2.2.2.2.2.2.2.2.2 _ (List.mem_cons_self))) (hts _ q273) (hts _ q122) rfl rfl ⟨by decide, by decide, by decide +kernel⟩ ⟨by rw [hRf]; exact Nat.le_of_ble_eq_true rfl, by rw [hRl]; exact Nat.le_of_ble_eq_true rfl⟩) (g_recv hKn hS hk7 (by decide) (by decide)) rfl (by rw [hr7]; rfl) (Nat.le_of_ble_eq_true rfl) dJ7_append_3_7 (fun H locs cells slots hS => ?_)
  refine g_aload_n hx hb hl 0 rfl dJ7_append_3_10 ?_
  obtain ⟨b11, hb11, h⟩ := g_bnd h
  obtain ⟨hr11, hk11⟩ := g_chk hb11
  obtain ⟨z11, h11, h⟩ := g_bnd h
  refine g_callU (n := 0) (b := b11) (av := []) (rs := []) hx hb hml hown hts hKn hRc hRs hS hl (C := "java/lang/StringBuilder") (owner := "java/lang/AbstractStringBuilder") (x := ⟨"java/lang/AbstractStringBuilder", "isLatin1", "()Z"⟩) (sJ7_isLatin1 l E D h11) (va_cwU 0 hts (lw_app (lw_in _ [306, 308, 309, 307, 122] (by decide +kernel) (by decide +kernel)) (lw_meth q310)) rfl rfl rfl rfl ⟨by decide, by decide, by decide +kernel⟩ ⟨by rw [hRf]; exact Nat.le_of_ble_eq_true rfl, by rw [hRl]; exact Nat.le_of_ble_eq_true rfl⟩) (g_recv hKn hS hk11 (by decide) (by decide)) rfl (by rw [hr11]; rfl) (Nat.le_of_ble_eq_true rfl) dJ7_append_3_11 (fun H locs cells slots hS => ?_)
  refine lv_if_eq (tgt := 45) hx hb dJ7_append_3_14 (by decide) (fun c_14 => ?_) (fun c_14 => ?_)
  · have h := g_ift c_14 h
    exact sJ7_append_3_b45 C _ _ _ _ h _ _ _ _ _ hS (gls_sub hl [0, 1] rfl)
  · have h := g_iff c_14 h
    refine g_iload_n hx hb hl 1 rfl dJ7_append_3_17 ?_
    obtain ⟨z18, h18, h⟩ := g_bnd h
    refine g_callS (n := 1) (av := [.inl v1]) (rs := []) hx hb hml hown hts hKn hRc hRs hS hl (sJ15_canEncode l E D h18) (lw_S q1143 q1144 q131 q1145) ⟨by decide, by decide, by decide +kernel⟩ ⟨by rw [hRf]; exact Nat.le_of_ble_eq_true rfl, by rw [hRl]; exact Nat.le_of_ble_eq_true rfl⟩ rfl rfl (Nat.le_of_ble_eq_true rfl) dJ7_append_3_18 (fun H locs cells slots hS => ?_)
    refine lv_if_eq (tgt := 45) hx hb dJ7_append_3_21 (by decide) (fun c_21 => ?_) (fun c_21 => ?_)
    · have h := g_ift c_21 h
      exact sJ7_append_3_b45 C _ _ _ _ h _ _ _ _ _ hS (gls_sub hl [0, 1] rfl)
    · have h := g_iff c_21 h
      refine g_aload_n hx hb hl 0 rfl dJ7_append_3_24 ?_
      refine g_rdR hx hb hown hts hKn hS h fd_18_18_0 rfl (Or.inl (hts _ q245)) (fun _ z => z) dJ7_append_3_25 (fun x25 h => ?_)
      refine g_aload_n hx hb hl 0 rfl dJ7_append_3_28 ?_
      refine lv_dup hx hb dJ7_append_3_29 (by first | exact va_rf_cat _ | rfl | exact g_catA _) ?_
      refine g_rdI hx hb hown hts hKn hS h fd_18_18_3 rfl (Or.inl (hts _ q248)) (fun _ z => z) dJ7_append_3_30 (fun x30 h => ?_)
      refine lv_dup_x1 hx hb dJ7_append_3_33 rfl (by first | exact va_rf_cat _ | rfl | exact g_catA _) ?_
      refine lv_iconst (v := 1) hx hb dJ7_append_3_34 (by decide) ?_
      refine lv_iadd hx hb dJ7_append_3_35 ?_
      refine g_ptI hx hb hown hts hKn hS h fd_18_18_3 (Or.inl (hts _ q248)) (fun _ z => z) (fun z => nomatch z) dJ7_append_3_36 (fun G36 h H locs hS => ?_)
      refine g_iload_n hx hb hl 1 rfl dJ7_append_3_39 ?_
      refine lv_i2b (v := (Int8.toInt32 (Int32.toInt8 v1))) hx hb dJ7_append_3_40 rfl ?_
      refine g_bastoreG hx hb hKn hS h dJ7_append_3_41 (fun G41 h H locs hS => ?_)
      refine lv_goto (tgt := 75) hx hb dJ7_append_3_42 (by decide) ?_
      refine g_aload_n hx hb hl 0 rfl dJ7_append_3_75 ?_
      exact g_aretG hx hb hr (by first | exact Or.inl ⟨_, rfl⟩ | exact Or.inr ⟨_, rfl⟩) hlk hKn hRc hRs hS h dJ7_append_3_76
/-- java/lang/StringBuilder.append(Ljava/lang/String;)Ljava/lang/StringBuilder; -/
def fJ8_append (E : g_E) (t : Nat) (v1 : Option Nat) (G : g_G) : Option (Option Nat × g_G) :=
  (gchk G 18 (some t)).bind fun b2 =>
  (fJ7_append E b2 v1 G).bind fun z2 =>
  some ((some t), z2.2)
theorem sJ8_append (l : Launch) (E : g_E) (D : g_D) {t : Nat} {v1 : Option Nat} {G : g_G} {q : Option Nat × g_G} (h : fJ8_append E t v1 G = some q) : gMet l E D yJ8_append (ws_ yJ8_append cJ8_append 2 (some (.object "java/lang/StringBuilder"))) 4 126 [.inr (.inr (some t)), .inr (.inr v1)] G (some (va_rf q.1)) q.2 := by
  refine gMet.of (by decide +kernel) (Nat.le_of_ble_eq_true rfl) ?_
  intro p e R s m args below meth c C hS ls hl
  have C : gC p R s m args meth c cJ8_append 2 RJ8 "append" (some (.object "java/lang/StringBuilder")) 4 126 E D := C
  obtain ⟨hx, hb, hml, hown, hts, hKn, hRc, hRs, hc1, hc2, hRf, hRl, hr, hlk, hnm⟩ := id C
  have hl : gls ls 2 [(0, .inr (.inr (some t))), (1, .inr (.inr v1))] := hl
  generalize s.heap = H at hS ⊢
  unfold fJ8_append at h
  refine g_aload_n hx hb hl 0 rfl dJ8_append_0 ?_
  refine g_aload_n hx hb hl 1 rfl dJ8_append_1 ?_
  obtain ⟨b2, hb2, h⟩ := g_bnd h
  obtain ⟨hr2, hk2⟩ := g_chk hb2
  obtain ⟨z2, h2, h⟩ := g_bnd h
  refine g_callSU (n := 1) (b := b2) (av := [.inr (.inr v1)]) (rs := []) hx hb hml hown hts hKn hRc hRs hS hl (C := "java/lang/StringBuilder") (hKn.obj (k := 18) (by decide) (by decide)).2 (sJ7_append l E D h2) (lw_app (lw_in _ [264, 2447, 257, 265, 122] (by decide +kernel) (by decide +kernel)) (lw_meth q266)) ⟨by decide, by decide +kernel⟩ ⟨by rw [hRf]; exact Nat.le_of_ble_eq_true rfl, by rw [hRl]; exact Nat.le_of_ble_eq_true rfl⟩ (g_recv hKn hS hk2 (by decide) (by decide)) rfl (by rw [hr2]; rfl) (Nat.le_of_ble_eq_true rfl) dJ8_append_2 (fun H locs cells slots hS => ?_)
  refine lv_pop hx hb dJ8_append_5 (by first | exact va_rf_cat _ | rfl | exact g_catA _) ?_
  refine g_aload_n hx hb hl 0 rfl dJ8_append_6 ?_
  exact g_aretG hx hb hr (by first | exact Or.inl ⟨_, rfl⟩ | exact Or.inr ⟨_, rfl⟩) hlk hKn hRc hRs hS h dJ8_append_7
/-- java/lang/StringBuilder.append(C)Ljava/lang/StringBuilder; -/
def fJ8_append_3 (E : g_E) (t : Nat) (v1 : Int32) (G : g_G) : Option (Option Nat × g_G) :=
  (gchk G 18 (some t)).bind fun b2 =>
  (fJ7_append_3 E b2 v1 G).bind fun z2 =>
  some ((some t), z2.2)
theorem sJ8_append_3 (l : Launch) (E : g_E) (D : g_D) {t : Nat} {v1 : Int32} {G : g_G} {q : Option Nat × g_G} (h : fJ8_append_3 E t v1 G = some q) : gMet l E D yJ8_append_3 (ws_ yJ8_append_3 cJ8_append_3 2 (some (.object "java/lang/StringBuilder"))) 3 107 [.inr (.inr (some t)), .inl v1] G (some (va_rf q.1)) q.2 := by
  refine gMet.of (by decide +kernel) (Nat.le_of_ble_eq_true rfl) ?_
  intro p e R s m args below meth c C hS ls hl
  have C : gC p R s m args meth c cJ8_append_3 2 RJ8 "append" (some (.object "java/lang/StringBuilder")) 3 107 E D := C
  obtain ⟨hx, hb, hml, hown, hts, hKn, hRc, hRs, hc1, hc2, hRf, hRl, hr, hlk, hnm⟩ := id C
  have hl : gls ls 2 [(0, .inr (.inr (some t))), (1, .inl v1)] := hl
  generalize s.heap = H at hS ⊢
  unfold fJ8_append_3 at h
  refine g_aload_n hx hb hl 0 rfl dJ8_append_3_0 ?_
  refine g_iload_n hx hb hl 1 rfl dJ8_append_3_1 ?_
  obtain ⟨b2, hb2, h⟩ := g_bnd h
  obtain ⟨hr2, hk2⟩ := g_chk hb2
  obtain ⟨z2, h2, h⟩ := g_bnd h
  refine g_callSU (n := 1) (b := b2) (av := [.inl v1]) (rs := []) hx hb hml hown hts hKn hRc hRs hS hl (C := "java/lang/StringBuilder") (hKn.obj (k := 18) (by decide) (by decide)).2 (sJ7_append_3 l E D h2) (lw_app (lw_in _ [1140, 2456, 257, 1141, 122] (by decide +kernel) (by decide +kernel)) (lw_meth q1142)) ⟨by decide, by decide +kernel⟩ ⟨by rw [hRf]; exact Nat.le_of_ble_eq_true rfl, by rw [hRl]; exact Nat.le_of_ble_eq_true rfl⟩ (g_recv hKn hS hk2 (by decide) (by decide)) rfl (by rw [hr2]; rfl) (Nat.le_of_ble_eq_true rfl) dJ8_append_3_2 (fun H locs cells slots hS => ?_)
  refine lv_pop hx hb dJ8_append_3_5 (by first | exact va_rf_cat _ | rfl | exact g_catA _) ?_
  refine g_aload_n hx hb hl 0 rfl dJ8_append_3_6 ?_
  exact g_aretG hx hb hr (by first | exact Or.inl ⟨_, rfl⟩ | exact Or.inr ⟨_, rfl⟩) hlk hKn hRc hRs hS h dJ8_append_3_7
/-- java/lang/String.charAt(I)C -/
def fJ9_charAt (E : g_E) (t : Nat) (v1 : Int32) (G : g_G) : Option (Int32 × g_G) :=
  (gchk G 19 (some t)).bind fun b1 =>
  (fJ9_isLatin1 E b1 G).bind fun z1 =>
  if z1.1 = 0 then (
    (grR z1.2 19 19 (some t) 0).bind fun x17 =>
    none)
  else (
    (grR z1.2 19 19 (some t) 0).bind fun x8 =>
    (fJ15_charAt E x8 v1 z1.2).bind fun z12 =>
    if (Int32.toUInt32 z12.1).toUInt16.toUInt32.toInt32 = z12.1 then some (z12.1, z12.2) else none)
theorem sJ9_charAt (l : Launch) (E : g_E) (D : g_D) {t : Nat} {v1 : Int32} {G : g_G} {q : Int32 × g_G} (h : fJ9_charAt E t v1 G = some q) : gMet l E D yJ9_charAt (ws_ yJ9_charAt cJ9_charAt 2 (some .char)) 4 128 [.inr (.inr (some t)), .inl v1] G (some (.int q.1)) q.2 := by
  refine gMet.of (by decide +kernel) (Nat.le_of_ble_eq_true rfl) ?_
  intro p e R s m args below meth c C hS ls hl
  have C : gC p R s m args meth c cJ9_charAt 2 RJ9 "charAt" (some .char) 4 128 E D := C
  obtain ⟨hx, hb, hml, hown, hts, hKn, hRc, hRs, hc1, hc2, hRf, hRl, hr, hlk, hnm⟩ := id C
  have hl : gls ls 2 [(0, .inr (.inr (some t))), (1, .inl v1)] := hl
  generalize s.heap = H at hS ⊢
  unfold fJ9_charAt at h
  refine g_aload_n hx hb hl 0 rfl dJ9_charAt_0 ?_
  obtain ⟨b1, hb1, h⟩ := g_bnd h
  obtain ⟨hr1, hk1⟩ := g_chk hb1
  obtain ⟨z1, h1, h⟩ := g_bnd h
  refine g_callV (n := 0) (b := b1) (av := []) (rs := []) hx hb hml hown hts hKn hRc hRs hS hl (sJ9_isLatin1 l E D h1) (lw_V q1173 q1174 q1175 q124 q1176) ⟨rfl, by decide, by decide, by decide +kernel⟩ ⟨by rw [hRf]; exact Nat.le_of_ble_eq_true rfl, by rw [hRl]; exact Nat.le_of_ble_eq_true rfl⟩ (g_recv hKn hS hk1 (by decide) (by decide)) rfl (by rw [hr1]; rfl) (Nat.le_of_ble_eq_true rfl) dJ9_charAt_1 (fun H locs cells slots hS => ?_)
  refine lv_if_eq (tgt := 16) hx hb dJ9_charAt_4 (by decide) (fun c_4 => ?_) (fun c_4 => ?_)
  · have h := g_ift c_4 h
    refine g_aload_n hx hb hl 0 rfl dJ9_charAt_16 ?_
    refine g_rdR hx hb hown hts hKn hS h fd_19_19_0 rfl (Or.inl (hts _ q486)) (fun _ z => z) dJ9_charAt_17 (fun x17 h => ?_)
    refine g_iload_n hx hb hl 1 rfl dJ9_charAt_20 ?_
    exact g_no h
  · have h := g_iff c_4 h
    refine g_aload_n hx hb hl 0 rfl dJ9_charAt_7 ?_
    refine g_rdR hx hb hown hts hKn hS h fd_19_19_0 rfl (Or.inl (hts _ q486)) (fun _ z => z) dJ9_charAt_8 (fun x8 h => ?_)
    refine g_iload_n hx hb hl 1 rfl dJ9_charAt_11 ?_
    obtain ⟨z12, h12, h⟩ := g_bnd h
    refine g_callS (n := 2) (av := [.inr (.inr x8), .inl v1]) (rs := []) hx hb hml hown hts hKn hRc hRs hS hl (sJ15_charAt l E D h12) (lw_S q1527 q1528 q131 q1529) ⟨by decide, by decide, by decide +kernel⟩ ⟨by rw [hRf]; exact Nat.le_of_ble_eq_true rfl, by rw [hRl]; exact Nat.le_of_ble_eq_true rfl⟩ rfl rfl (Nat.le_of_ble_eq_true rfl) dJ9_charAt_12 (fun H locs cells slots hS => ?_)
    exact g_cretG hx hb hr hlk hKn hRc hRs hS h dJ9_charAt_15
/-- java/lang/String.hashCode()I -/
def fJ9_hashCode (E : g_E) (t : Nat) (G : g_G) : Option (Int32 × g_G) :=
  (grI G 19 19 (some t) 2).bind fun x1 =>
  if ¬ x1 = 0 then (
    some (x1, G))
  else (
    (grI G 19 19 (some t) 3).bind fun x10 =>
    if ¬ x10 = 0 then (
      some (x1, G))
    else (
      (gchk G 19 (some t)).bind fun b17 =>
      (fJ9_isLatin1 E b17 G).bind fun z17 =>
      if z17.1 = 0 then (
        (grR z17.2 19 19 (some t) 0).bind fun x34 =>
        none)
      else (
        (grR z17.2 19 19 (some t) 0).bind fun x24 =>
        (fJ15_hashCode E x24 z17.2).bind fun z27 =>
        if ¬ z27.1 = 0 then (
          (gpI E z27.2 19 19 (some t) 2 z27.1).bind fun G55 =>
          some (z27.1, G55))
        else (
          (gpZ E z27.2 19 19 (some t) 3 1).bind fun G47 =>
          some (z27.1, G47)))))
theorem sJ9_hashCode (l : Launch) (E : g_E) (D : g_D) {t : Nat} {G : g_G} {q : Int32 × g_G} (h : fJ9_hashCode E t G = some q) : gMet l E D yJ9_hashCode (ws_ yJ9_hashCode cJ9_hashCode 2 (some .int)) 4 133 [.inr (.inr (some t))] G (some (.int q.1)) q.2 := by
  refine gMet.of (by decide +kernel) (Nat.le_of_ble_eq_true rfl) ?_
  intro p e R s m args below meth c C hS ls hl
  have C : gC p R s m args meth c cJ9_hashCode 2 RJ9 "hashCode" (some .int) 4 133 E D := C
  obtain ⟨hx, hb, hml, hown, hts, hKn, hRc, hRs, hc1, hc2, hRf, hRl, hr, hlk, hnm⟩ := id C
  have hl : gls ls 2 [(0, .inr (.inr (some t)))] := hl
  generalize s.heap = H at hS ⊢
  unfold fJ9_hashCode at h
  refine g_aload_n hx hb hl 0 rfl dJ9_hashCode_0 ?_
  refine g_rdI hx hb hown hts hKn hS h fd_19_19_2 rfl (Or.inl (hts _ q488)) (fun _ z => z) dJ9_hashCode_1 (fun x1 h => ?_)
  refine g_istore_n (l1 := [(1, .inl x1), (0, .inr (.inr (some t)))]) hx hb hl (by decide) rfl dJ9_hashCode_4 (fun ls hl => ?_)
  refine g_iload_n hx hb hl 0 rfl dJ9_hashCode_5 ?_
  refine lv_if_ne (tgt := 58) hx hb dJ9_hashCode_6 (by decide) (fun c_6 => ?_) (fun c_6 => ?_)
  · have h := g_ift c_6 h
    refine g_iload_n hx hb hl 0 rfl dJ9_hashCode_58 ?_
    exact g_iretG hx hb hr hlk hKn hRc hRs hS h dJ9_hashCode_59
  · have h := g_iff (fun z => z c_6) h
    refine g_aload_n hx hb hl 1 rfl dJ9_hashCode_9 ?_
    refine g_rdI hx hb hown hts hKn hS h fd_19_19_3 rfl (Or.inl (hts _ q489)) (fun _ z => z) dJ9_hashCode_10 (fun x10 h => ?_)
    refine lv_if_ne (tgt := 58) hx hb dJ9_hashCode_13 (by decide) (fun c_13 => ?_) (fun c_13 => ?_)
    · have h := g_ift c_13 h
      refine g_iload_n hx hb hl 0 rfl dJ9_hashCode_58 ?_
      exact g_iretG hx hb hr hlk hKn hRc hRs hS h dJ9_hashCode_59
    · have h := g_iff (fun z => z c_13) h
      refine g_aload_n hx hb hl 1 rfl dJ9_hashCode_16 ?_
      obtain ⟨b17, hb17, h⟩ := g_bnd h
      obtain ⟨hr17, hk17⟩ := g_chk hb17
      obtain ⟨z17, h17, h⟩ := g_bnd h
      refine g_callV (n := 0) (b := b17) (av := []) (rs := []) hx hb hml hown hts hKn hRc hRs hS hl (sJ9_isLatin1 l E D h17) (lw_V q1173 q1174 q1175 q124 q1176) ⟨rfl, by decide, by decide, by decide +kernel⟩ ⟨by rw [hRf]; exact Nat.le_of_ble_eq_true rfl, by rw [hRl]; exact Nat.le_of_ble_eq_true rfl⟩ (g_recv hKn hS hk17 (by decide) (by decide)) rfl (by rw [hr17]; rfl) (Nat.le_of_ble_eq_true rfl) dJ9_hashCode_17 (fun H locs cells slots hS => ?_)
      refine lv_if_eq (tgt := 33) hx hb dJ9_hashCode_20 (by decide) (fun c_20 => ?_) (fun c_20 => ?_)
      · have h := g_ift c_20 h
        refine g_aload_n hx hb hl 1 rfl dJ9_hashCode_33 ?_
        refine g_rdR hx hb hown hts hKn hS h fd_19_19_0 rfl (Or.inl (hts _ q486)) (fun _ z => z) dJ9_hashCode_34 (fun x34 h => ?_)
        exact g_no h
      · have h := g_iff c_20 h
        refine g_aload_n hx hb hl 1 rfl dJ9_hashCode_23 ?_
        refine g_rdR hx hb hown hts hKn hS h fd_19_19_0 rfl (Or.inl (hts _ q486)) (fun _ z => z) dJ9_hashCode_24 (fun x24 h => ?_)
        obtain ⟨z27, h27, h⟩ := g_bnd h
        refine g_callS (n := 1) (av := [.inr (.inr x24)]) (rs := []) hx hb hml hown hts hKn hRc hRs hS hl (sJ15_hashCode l E D h27) (lw_S q1291 q1292 q131 q1293) ⟨by decide, by decide, by decide +kernel⟩ ⟨by rw [hRf]; exact Nat.le_of_ble_eq_true rfl, by rw [hRl]; exact Nat.le_of_ble_eq_true rfl⟩ rfl rfl (Nat.le_of_ble_eq_true rfl) dJ9_hashCode_27 (fun H locs cells slots hS => ?_)
        refine lv_goto (tgt := 40) hx hb dJ9_hashCode_30 (by decide) ?_
        refine g_istore_n (l1 := [(1, .inl z27.1), (0, .inr (.inr (some t)))]) hx hb hl (by decide) rfl dJ9_hashCode_40 (fun ls hl => ?_)
        refine g_iload_n hx hb hl 0 rfl dJ9_hashCode_41 ?_
        refine lv_if_ne (tgt := 53) hx hb dJ9_hashCode_42 (by decide) (fun c_42 => ?_) (fun c_42 => ?_)
        · have h := g_ift c_42 h
          refine g_aload_n hx hb hl 1 rfl dJ9_hashCode_53 ?_
          refine g_iload_n hx hb hl 0 rfl dJ9_hashCode_54 ?_
          refine g_ptI hx hb hown hts hKn hS h fd_19_19_2 (Or.inl (hts _ q488)) (fun _ z => z) (fun z => nomatch z) dJ9_hashCode_55 (fun G55 h H locs hS => ?_)
          refine g_iload_n hx hb hl 0 rfl dJ9_hashCode_58 ?_
          exact g_iretG hx hb hr hlk hKn hRc hRs hS h dJ9_hashCode_59
        · have h := g_iff (fun z => z c_42) h
          refine g_aload_n hx hb hl 1 rfl dJ9_hashCode_45 ?_
          refine lv_iconst (v := 1) hx hb dJ9_hashCode_46 (by decide) ?_
          refine g_ptZ hx hb hown hts hKn hS h fd_19_19_3 (Or.inl (hts _ q489)) (fun _ z => z) (fun z => nomatch z) dJ9_hashCode_47 (fun G47 h H locs hS => ?_)
          refine lv_goto (tgt := 58) hx hb dJ9_hashCode_50 (by decide) ?_
          refine g_iload_n hx hb hl 0 rfl dJ9_hashCode_58 ?_
          exact g_iretG hx hb hr hlk hKn hRc hRs hS h dJ9_hashCode_59
/-- java/lang/String.indexOf(II)I -/
def fJ9_indexOf_2 (E : g_E) (t : Nat) (v1 : Int32) (v2 : Int32) (G : g_G) : Option (Int32 × g_G) :=
  (gchk G 19 (some t)).bind fun b1 =>
  (fJ9_isLatin1 E b1 G).bind fun z1 =>
  if z1.1 = 0 then (
    (grR z1.2 19 19 (some t) 0).bind fun x24 =>
    (gchk z1.2 19 (some t)).bind fun b30 =>
    (fJ9_length E b30 z1.2).bind fun z30 =>
    none)
  else (
    (grR z1.2 19 19 (some t) 0).bind fun x8 =>
    (gchk z1.2 19 (some t)).bind fun b14 =>
    (fJ9_length E b14 z1.2).bind fun z14 =>
    (fJ15_indexOf E x8 v1 v2 z14.1 z14.2).bind fun z17 =>
    some (z17.1, z17.2))
theorem sJ9_indexOf_2 (l : Launch) (E : g_E) (D : g_D) {t : Nat} {v1 : Int32} {v2 : Int32} {G : g_G} {q : Int32 × g_G} (h : fJ9_indexOf_2 E t v1 v2 G = some q) : gMet l E D yJ9_indexOf_2 (ws_ yJ9_indexOf_2 cJ9_indexOf_2 3 (some .int)) 3 112 [.inr (.inr (some t)), .inl v1, .inl v2] G (some (.int q.1)) q.2 := by
  refine gMet.of (by decide +kernel) (Nat.le_of_ble_eq_true rfl) ?_
  intro p e R s m args below meth c C hS ls hl
  have C : gC p R s m args meth c cJ9_indexOf_2 3 RJ9 "indexOf" (some .int) 3 112 E D := C
  obtain ⟨hx, hb, hml, hown, hts, hKn, hRc, hRs, hc1, hc2, hRf, hRl, hr, hlk, hnm⟩ := id C
  have hl : gls ls 3 [(0, .inr (.inr (some t))), (1, .inl v1), (2, .inl v2)] := hl
  generalize s.heap = H at hS ⊢
  unfold fJ9_indexOf_2 at h
  refine g_aload_n hx hb hl 0 rfl dJ9_indexOf_2_0 ?_
  obtain ⟨b1, hb1, h⟩ := g_bnd h
  obtain ⟨hr1, hk1⟩ := g_chk hb1
  obtain ⟨z1, h1, h⟩ := g_bnd h
  refine g_callV (n := 0) (b := b1) (av := []) (rs := []) hx hb hml hown hts hKn hRc hRs hS hl (sJ9_isLatin1 l E D h1) (lw_V q1173 q1174 q1175 q124 q1176) ⟨rfl, by decide, by decide, by decide +kernel⟩ ⟨by rw [hRf]; exact Nat.le_of_ble_eq_true rfl, by rw [hRl]; exact Nat.le_of_ble_eq_true rfl⟩ (g_recv hKn hS hk1 (by decide) (by decide)) rfl (by rw [hr1]; rfl) (Nat.le_of_ble_eq_true rfl) dJ9_indexOf_2_1 (fun H locs cells slots hS => ?_)
  refine lv_if_eq (tgt := 23) hx hb dJ9_indexOf_2_4 (by decide) (fun c_4 => ?_) (fun c_4 => ?_)
  · have h := g_ift c_4 h
    refine g_aload_n hx hb hl 0 rfl dJ9_indexOf_2_23 ?_
    refine g_rdR hx hb hown hts hKn hS h fd_19_19_0 rfl (Or.inl (hts _ q486)) (fun _ z => z) dJ9_indexOf_2_24 (fun x24 h => ?_)
    refine g_iload_n hx hb hl 1 rfl dJ9_indexOf_2_27 ?_
    refine g_iload_n hx hb hl 2 rfl dJ9_indexOf_2_28 ?_
    refine g_aload_n hx hb hl 0 rfl dJ9_indexOf_2_29 ?_
    obtain ⟨b30, hb30, h⟩ := g_bnd h
    obtain ⟨hr30, hk30⟩ := g_chk hb30
    obtain ⟨z30, h30, h⟩ := g_bnd h
    refine g_callV (n := 0) (b := b30) (av := []) (rs := [.inl v2, .inl v1, .inr (.inr x24)]) hx hb hml hown hts hKn hRc hRs hS hl (sJ9_length l E D h30) (lw_V q1177 q338 q339 q124 q340) ⟨rfl, by decide, by decide, by decide +kernel⟩ ⟨by rw [hRf]; exact Nat.le_of_ble_eq_true rfl, by rw [hRl]; exact Nat.le_of_ble_eq_true rfl⟩ (g_recv hKn hS hk30 (by decide) (by decide)) rfl (by rw [hr30]; rfl) (Nat.le_of_ble_eq_true rfl) dJ9_indexOf_2_30 (fun H locs cells slots hS => ?_)
    exact g_no h
  · have h := g_iff c_4 h
    refine g_aload_n hx hb hl 0 rfl dJ9_indexOf_2_7 ?_
    refine g_rdR hx hb hown hts hKn hS h fd_19_19_0 rfl (Or.inl (hts _ q486)) (fun _ z => z) dJ9_indexOf_2_8 (fun x8 h => ?_)
    refine g_iload_n hx hb hl 1 rfl dJ9_indexOf_2_11 ?_
    refine g_iload_n hx hb hl 2 rfl dJ9_indexOf_2_12 ?_
    refine g_aload_n hx hb hl 0 rfl dJ9_indexOf_2_13 ?_
    obtain ⟨b14, hb14, h⟩ := g_bnd h
    obtain ⟨hr14, hk14⟩ := g_chk hb14
    obtain ⟨z14, h14, h⟩ := g_bnd h
    refine g_callV (n := 0) (b := b14) (av := []) (rs := [.inl v2, .inl v1, .inr (.inr x8)]) hx hb hml hown hts hKn hRc hRs hS hl (sJ9_length l E D h14) (lw_V q1177 q338 q339 q124 q340) ⟨rfl, by decide, by decide, by decide +kernel⟩ ⟨by rw [hRf]; exact Nat.le_of_ble_eq_true rfl, by rw [hRl]; exact Nat.le_of_ble_eq_true rfl⟩ (g_recv hKn hS hk14 (by decide) (by decide)) rfl (by rw [hr14]; rfl) (Nat.le_of_ble_eq_true rfl) dJ9_indexOf_2_14 (fun H locs cells slots hS => ?_)
    obtain ⟨z17, h17, h⟩ := g_bnd h
    refine g_callS (n := 4) (av := [.inr (.inr x8), .inl v1, .inl v2, .inl z14.1]) (rs := []) hx hb hml hown hts hKn hRc hRs hS hl (sJ15_indexOf l E D h17) (lw_S q1178 q1179 q131 q1180) ⟨by decide, by decide, by decide +kernel⟩ ⟨by rw [hRf]; exact Nat.le_of_ble_eq_true rfl, by rw [hRl]; exact Nat.le_of_ble_eq_true rfl⟩ rfl rfl (Nat.le_of_ble_eq_true rfl) dJ9_indexOf_2_17 (fun H locs cells slots hS => ?_)
    refine lv_goto (tgt := 36) hx hb dJ9_indexOf_2_20 (by decide) ?_
    exact g_iretG hx hb hr hlk hKn hRc hRs hS h dJ9_indexOf_2_36
/-- java/lang/String.<init>(Ljava/lang/AbstractStringBuilder;Ljava/lang/Void;)V -/
def fJ9_init_2_b79 (E : g_E) (t : Nat) (v3 : Option Nat) (v4 : Int32) (G : g_G) : Option (g_G) :=
  (gpB E G 19 19 (some t) 1 1).bind fun G81 =>
  (fJ13_copyOfRange E v3 0 (v4 <<< (1 &&& 31)) G81).bind fun z91 =>
  (gpR E z91.2 19 19 (some t) 0 z91.1).bind fun G94 =>
  some G94
def fJ9_init_2 (E : g_E) (t : Nat) (v1 : Option Nat) (v2 : Option Nat) (G : g_G) : Option (g_G) :=
  (gchk G 18 v1).bind fun b5 =>
  (fJ7_getValue E b5 G).bind fun z5 =>
  (gchk z5.2 18 v1).bind fun b10 =>
  (fJ8_length E b10 z5.2).bind fun z10 =>
  (gchk z10.2 18 v1).bind fun b16 =>
  (fJ7_isLatin1 E b16 z10.2).bind fun z16 =>
  if z16.1 = 0 then (
    if (1 : Int32) = 0 then (
      fJ9_init_2_b79 E t z5.1 z10.1 z16.2)
    else (
      (grI z16.2 18 18 v1 2).bind fun x48 =>
      if x48 = 0 then (
        fJ9_init_2_b79 E t z5.1 z10.1 z16.2)
      else (
        none)))
  else (
    (gpB E z16.2 19 19 (some t) 1 0).bind fun G24 =>
    (fJ13_copyOfRange E z5.1 0 z10.1 G24).bind fun z32 =>
    (gpR E z32.2 19 19 (some t) 0 z32.1).bind fun G35 =>
    some G35)
theorem sJ9_init_2_b79 {p : Program} {l : Launch} {e : Env} {R : Room} {s : State} {m : MethodId} {args : Array Value} {below : List Frame} {meth : Method} {c : Code} {E : g_E} {D : g_D} (C : gC p R s m args meth c cJ9_init_2 5 RJ9 "<init>" (none) 4 131 E D) : ∀ (t : Nat) (v3 : Option Nat) (v4 : Int32) (G : g_G) (q : g_G), fJ9_init_2_b79 E t v3 v4 G = some q → ∀ (H : Heap) (locs : List Loc) (cells slots : Nat) (ls : Array Slot), gSt E D G H locs → gls ls 5 [(0, .inr (.inr (some t))), (3, .inr (.inr v3)), (4, .inl v4)] → gT p l e R s m args below meth c E D H locs cells slots none q (F0 m 79 ls []) := by
  obtain ⟨hx, hb, hml, hown, hts, hKn, hRc, hRs, hc1, hc2, hRf, hRl, hr, hlk, hnm⟩ := id C
  intro t v3 v4 G q h H locs cells slots ls hS hl
  unfold fJ9_init_2_b79 at h
  refine g_aload_n hx hb hl 0 rfl dJ9_init_2_79 ?_
  refine lv_iconst (v := 1) hx hb dJ9_init_2_80 (by decide) ?_
  refine g_ptB hx hb hown hts hKn hS h fd_19_19_1 (Or.inl (hts _ q487)) (fun _ z => z) (fun _ => ⟨hnm, rfl⟩) dJ9_init_2_81 (fun G81 h H locs hS => ?_)
  refine g_aload_n hx hb hl 0 rfl dJ9_init_2_84 ?_
  refine g_aload_n hx hb hl 1 rfl dJ9_init_2_85 ?_
  refine lv_iconst (v := 0) hx hb dJ9_init_2_86 (by decide) ?_
  refine g_iload hx hb hl 2 rfl dJ9_init_2_87 ?_
  refine lv_iconst (v := 1) hx hb dJ9_init_2_89 (by decide) ?_
  refine lv_ishl hx hb dJ9_init_2_90 ?_
  obtain ⟨z91, h91, h⟩ := g_bnd h
  refine g_callS (n := 3) (av := [.inr (.inr v3), .inl 0, .inl (v4 <<< (1 &&& 31))]) (rs := [.inr (.inr (some t))]) hx hb hml hown hts hKn hRc hRs hS hl (sJ13_copyOfRange l E D h91) (lw_S q432 q433 q128 q434) ⟨by decide, by decide, by decide +kernel⟩ ⟨by rw [hRf]; exact Nat.le_of_ble_eq_true rfl, by rw [hRl]; exact Nat.le_of_ble_eq_true rfl⟩ rfl rfl (Nat.le_of_ble_eq_true rfl) dJ9_init_2_91 (fun H locs cells slots hS => ?_)
  refine g_ptR hx hb hown hts hKn hS h fd_19_19_0 rfl (Or.inl (hts _ q486)) (fun _ z => z) (fun _ => ⟨hnm, rfl⟩) dJ9_init_2_94 (fun G94 h H locs hS => ?_)
  exact g_vretG hx hb hr hlk hKn hRc hRs hS h dJ9_init_2_97
theorem sJ9_init_2 (l : Launch) (E : g_E) (D : g_D) {t : Nat} {v1 : Option Nat} {v2 : Option Nat} {G : g_G} {q : g_G} (h : fJ9_init_2 E t v1 v2 G = some q) : gMet l E D yJ9_init_2 (ws_ yJ9_init_2 cJ9_init_2 5 (none)) 4 131 [.inr (.inr (some t)), .inr (.inr v1), .inr (.inr v2)] G none q := by
  refine gMet.of (by decide +kernel) (Nat.le_of_ble_eq_true rfl) ?_
  intro p e R s m args below meth c C hS ls hl
  have C : gC p R s m args meth c cJ9_init_2 5 RJ9 "<init>" (none) 4 131 E D := C
  obtain ⟨hx, hb, hml, hown, hts, hKn, hRc, hRs, hc1, hc2, hRf, hRl, hr, hlk, hnm⟩ := id C
  have hl : gls ls 5 [(0, .inr (.inr (some t))), (1, .inr (.inr v1)), (2, .inr (.inr v2))] := hl
  generalize s.heap = H at hS ⊢
  unfold fJ9_init_2 at h
  refine g_aload_n hx hb hl 0 rfl dJ9_init_2_0 ?_
  refine g_objInit (rs := []) hx hb hml hown hl (hts _ q417) (hts _ q162) (hts _ q163) rfl dJ9_init_2_1 ⟨by rw [hRf]; exact Nat.le_of_ble_eq_true rfl, by rw [hRl]; exact Nat.le_of_ble_eq_true rfl⟩ ?_
  refine g_aload_n hx hb hl 1 rfl dJ9_init_2_4 ?_
  obtain ⟨b5, hb5, h⟩ := g_bnd h
  obtain ⟨hr5, hk5⟩ := g_chk hb5
  obtain ⟨z5, h5, h⟩ := g_bnd h
  refine g_callU (n := 0) (b := b5) (av := []) (rs := []) hx hb hml hown hts hKn hRc hRs hS hl (C := "java/lang/StringBuilder") (owner := "java/lang/AbstractStringBuilder") (x := ⟨"java/lang/AbstractStringBuilder", "getValue", "()[B"⟩) (sJ7_getValue l E D h5) (va_cwU 0 hts (lw_app (lw_in _ [418, 420, 421, 419, 122] (by decide +kernel) (by decide +kernel)) (lw_meth q422)) rfl rfl rfl rfl ⟨by decide, by decide, by decide +kernel⟩ ⟨by rw [hRf]; exact Nat.le_of_ble_eq_true rfl, by rw [hRl]; exact Nat.le_of_ble_eq_true rfl⟩) (g_recv hKn hS hk5 (by decide) (by decide)) rfl (by rw [hr5]; rfl) (Nat.le_of_ble_eq_true rfl) dJ9_init_2_5 (fun H locs cells slots hS => ?_)
  refine g_astore_n (l1 := [(3, .inr (.inr z5.1)), (0, .inr (.inr (some t))), (1, .inr (.inr v1)), (2, .inr (.inr v2))]) hx hb hl (by decide) rfl dJ9_init_2_8 (fun ls hl => ?_)
  refine g_aload_n hx hb hl 2 rfl dJ9_init_2_9 ?_
  obtain ⟨b10, hb10, h⟩ := g_bnd h
  obtain ⟨hr10, hk10⟩ := g_chk hb10
  obtain ⟨z10, h10, h⟩ := g_bnd h
  refine g_callU (n := 0) (b := b10) (av := []) (rs := []) hx hb hml hown hts hKn hRc hRs hS hl (C := "java/lang/StringBuilder") (owner := "java/lang/AbstractStringBuilder") (x := ⟨"java/lang/AbstractStringBuilder", "length", "()I"⟩) (sJ8_length l E D h10) (va_cwO 0 hts (lw_app (lw_in _ [423, 425, 424, 426, 427, 123] (by decide +kernel) (by decide +kernel)) (lw_meth q428)) rfl rfl rfl q430 ⟨by decide, by decide, by decide +kernel⟩ ⟨by rw [hRf]; exact Nat.le_of_ble_eq_true rfl, by rw [hRl]; exact Nat.le_of_ble_eq_true rfl⟩) (g_recv hKn hS hk10 (by decide) (by decide)) rfl (by rw [hr10]; rfl) (Nat.le_of_ble_eq_true rfl) dJ9_init_2_10 (fun H locs cells slots hS => ?_)
  refine g_istore (l1 := [(4, .inl z10.1), (3, .inr (.inr z5.1)), (0, .inr (.inr (some t))), (1, .inr (.inr v1)), (2, .inr (.inr v2))]) hx hb hl (by decide) rfl dJ9_init_2_13 (fun ls hl => ?_)
  refine g_aload_n hx hb hl 3 rfl dJ9_init_2_15 ?_
  obtain ⟨b16, hb16, h⟩ := g_bnd h
  obtain ⟨hr16, hk16⟩ := g_chk hb16
  obtain ⟨z16, h16, h⟩ := g_bnd h
  refine g_callU (n := 0) (b := b16) (av := []) (rs := []) hx hb hml hown hts hKn hRc hRs hS hl (C := "java/lang/StringBuilder") (owner := "java/lang/AbstractStringBuilder") (x := ⟨"java/lang/AbstractStringBuilder", "isLatin1", "()Z"⟩) (sJ7_isLatin1 l E D h16) (va_cwU 0 hts (lw_app (lw_in _ [431, 308, 309, 307, 122] (by decide +kernel) (by decide +kernel)) (lw_meth q310)) rfl rfl rfl rfl ⟨by decide, by decide, by decide +kernel⟩ ⟨by rw [hRf]; exact Nat.le_of_ble_eq_true rfl, by rw [hRl]; exact Nat.le_of_ble_eq_true rfl⟩) (g_recv hKn hS hk16 (by decide) (by decide)) rfl (by rw [hr16]; rfl) (Nat.le_of_ble_eq_true rfl) dJ9_init_2_16 (fun H locs cells slots hS => ?_)
  refine lv_if_eq (tgt := 41) hx hb dJ9_init_2_19 (by decide) (fun c_19 => ?_) (fun c_19 => ?_)
  · have h := g_ift c_19 h
    refine g_getsZ (C := "java/lang/String") (n := "COMPACT_STRINGS") (d := "Z") (v := .int 1) hx hb hown (hKn.2.2.2.2.2.2.1 _ (List.mem_of_getElem? (i := 5) rfl)) hS (hts _ q345) (fun _ z => z) dJ9_init_2_41 ?_
    refine lv_if_eq (tgt := 79) hx hb dJ9_init_2_44 (by decide) (fun c_44 => ?_) (fun c_44 => ?_)
    · have h := g_ift c_44 h
      exact sJ9_init_2_b79 C _ _ _ _ _ h _ _ _ _ _ hS (gls_sub hl [2, 1, 0] rfl)
    · have h := g_iff c_44 h
      refine g_aload_n hx hb hl 3 rfl dJ9_init_2_47 ?_
      refine g_rdI hx hb hown hts hKn hS h fd_18_18_2 rfl (Or.inl (hts _ q247)) (fun _ z => z) dJ9_init_2_48 (fun x48 h => ?_)
      refine lv_if_eq (tgt := 79) hx hb dJ9_init_2_51 (by decide) (fun c_51 => ?_) (fun c_51 => ?_)
      · have h := g_ift c_51 h
        exact sJ9_init_2_b79 C _ _ _ _ _ h _ _ _ _ _ hS (gls_sub hl [2, 1, 0] rfl)
      · have h := g_iff c_51 h
        refine g_aload_n hx hb hl 2 rfl dJ9_init_2_54 ?_
        refine g_aload_n hx hb hl 1 rfl dJ9_init_2_55 ?_
        refine lv_iconst (v := 0) hx hb dJ9_init_2_56 (by decide) ?_
        refine g_iload hx hb hl 0 rfl dJ9_init_2_57 ?_
        exact g_no h
  · have h := g_iff c_19 h
    refine g_aload_n hx hb hl 2 rfl dJ9_init_2_22 ?_
    refine lv_iconst (v := 0) hx hb dJ9_init_2_23 (by decide) ?_
    refine g_ptB hx hb hown hts hKn hS h fd_19_19_1 (Or.inl (hts _ q487)) (fun _ z => z) (fun _ => ⟨hnm, rfl⟩) dJ9_init_2_24 (fun G24 h H locs hS => ?_)
    refine g_aload_n hx hb hl 2 rfl dJ9_init_2_27 ?_
    refine g_aload_n hx hb hl 1 rfl dJ9_init_2_28 ?_
    refine lv_iconst (v := 0) hx hb dJ9_init_2_29 (by decide) ?_
    refine g_iload hx hb hl 0 rfl dJ9_init_2_30 ?_
    obtain ⟨z32, h32, h⟩ := g_bnd h
    refine g_callS (n := 3) (av := [.inr (.inr z5.1), .inl 0, .inl z10.1]) (rs := [.inr (.inr (some t))]) hx hb hml hown hts hKn hRc hRs hS hl (sJ13_copyOfRange l E D h32) (lw_S q432 q433 q128 q434) ⟨by decide, by decide, by decide +kernel⟩ ⟨by rw [hRf]; exact Nat.le_of_ble_eq_true rfl, by rw [hRl]; exact Nat.le_of_ble_eq_true rfl⟩ rfl rfl (Nat.le_of_ble_eq_true rfl) dJ9_init_2_32 (fun H locs cells slots hS => ?_)
    refine g_ptR hx hb hown hts hKn hS h fd_19_19_0 rfl (Or.inl (hts _ q486)) (fun _ z => z) (fun _ => ⟨hnm, rfl⟩) dJ9_init_2_35 (fun G35 h H locs hS => ?_)
    refine lv_goto (tgt := 97) hx hb dJ9_init_2_38 (by decide) ?_
    exact g_vretG hx hb hr hlk hKn hRc hRs hS h dJ9_init_2_97
