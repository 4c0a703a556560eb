set_option maxRecDepth 100000
/-- java/lang/AbstractStringBuilder.isLatin1()Z -/
def fJ7_isLatin1 (E : g_E) (t : Nat) (G : g_G) : Option (Int32 × g_G) :=
  if (1 : Int32) = 0 then (
    if (0 : Int32) = 0 ∨ (0 : Int32) = 1 then some (0, G) else none)
  else (
    (grI G 18 18 (some t) 1).bind fun x7 =>
    if ¬ x7 = 0 then (
      if (0 : Int32) = 0 ∨ (0 : Int32) = 1 then some (0, G) else none)
    else (
      if (1 : Int32) = 0 ∨ (1 : Int32) = 1 then some (1, G) else none))
theorem sJ7_isLatin1 (l : Launch) (E : g_E) (D : g_D) {t : Nat} {G : g_G} {q : Int32 × g_G} (h : fJ7_isLatin1 E t G = some q) : gMet l E D yJ7_isLatin1 (ws_ yJ7_isLatin1 cJ7_isLatin1 1 (some .boolean)) 1 64 [.inr (.inr (some t))] G (some (.int q.1)) q.2 := by
  refine gMet.of (by decide +kernel) (Nat.le_of_ble_eq_true rfl) ?_
  intro p e R s m args below meth c C hS ls hl
  have C : gC p R s m args meth c cJ7_isLatin1 1 RJ7 "isLatin1" (some .boolean) 1 64 E D := C
  obtain ⟨hx, hb, hml, hown, hts, hKn, hRc, hRs, hc1, hc2, hRf, hRl, hr, hlk, hnm⟩ := id C
  have hl : gls ls 1 [(0, .inr (.inr (some t)))] := hl
  generalize s.heap = H at hS ⊢
  unfold fJ7_isLatin1 at h
  refine g_getsZ (C := "java/lang/String") (n := "COMPACT_STRINGS") (d := "Z") (v := .int 1) hx hb hown (hKn.2.2.2.2.2.2.1 _ (List.mem_of_getElem? (i := 5) rfl)) hS (hts _ q236) (fun _ z => z) dJ7_isLatin1_0 ?_
  refine lv_if_eq (tgt := 17) hx hb dJ7_isLatin1_3 (by decide) (fun c_3 => ?_) (fun c_3 => ?_)
  · have h := g_ift c_3 h
    refine lv_iconst (v := 0) hx hb dJ7_isLatin1_17 (by decide) ?_
    exact g_zretG hx hb hr hlk hKn hRc hRs hS h dJ7_isLatin1_18
  · have h := g_iff c_3 h
    refine g_aload_n hx hb hl 0 rfl dJ7_isLatin1_6 ?_
    refine g_rdI hx hb hown hts hKn hS h fd_18_18_1 rfl (Or.inl (hts _ q246)) (fun _ z => z) dJ7_isLatin1_7 (fun x7 h => ?_)
    refine lv_if_ne (tgt := 17) hx hb dJ7_isLatin1_10 (by decide) (fun c_10 => ?_) (fun c_10 => ?_)
    · have h := g_ift c_10 h
      refine lv_iconst (v := 0) hx hb dJ7_isLatin1_17 (by decide) ?_
      exact g_zretG hx hb hr hlk hKn hRc hRs hS h dJ7_isLatin1_18
    · have h := g_iff (fun z => z c_10) h
      refine lv_iconst (v := 1) hx hb dJ7_isLatin1_13 (by decide) ?_
      refine lv_goto (tgt := 18) hx hb dJ7_isLatin1_14 (by decide) ?_
      exact g_zretG hx hb hr hlk hKn hRc hRs hS h dJ7_isLatin1_18
/-- java/lang/AbstractStringBuilder.length()I -/
def fJ7_length (E : g_E) (t : Nat) (G : g_G) : Option (Int32 × g_G) :=
  (grI G 18 18 (some t) 3).bind fun x1 =>
  some (x1, G)
theorem sJ7_length (l : Launch) (E : g_E) (D : g_D) {t : Nat} {G : g_G} {q : Int32 × g_G} (h : fJ7_length E t G = some q) : gMet l E D yJ7_length (ws_ yJ7_length cJ7_length 1 (some .int)) 1 64 [.inr (.inr (some t))] G (some (.int q.1)) q.2 := by
  refine gMet.of (by decide +kernel) (Nat.le_of_ble_eq_true rfl) ?_
  intro p e R s m args below meth c C hS ls hl
  have C : gC p R s m args meth c cJ7_length 1 RJ7 "length" (some .int) 1 64 E D := C
  obtain ⟨hx, hb, hml, hown, hts, hKn, hRc, hRs, hc1, hc2, hRf, hRl, hr, hlk, hnm⟩ := id C
  have hl : gls ls 1 [(0, .inr (.inr (some t)))] := hl
  generalize s.heap = H at hS ⊢
  unfold fJ7_length at h
  refine g_aload_n hx hb hl 0 rfl dJ7_length_0 ?_
  refine g_rdI hx hb hown hts hKn hS h fd_18_18_3 rfl (Or.inl (hts _ q248)) (fun _ z => z) dJ7_length_1 (fun x1 h => ?_)
  exact g_iretG hx hb hr hlk hKn hRc hRs hS h dJ7_length_4
/-- java/lang/StringBuilder.append(I)Ljava/lang/StringBuilder; -/
def fJ8_append_2 (E : g_E) (t : Nat) (v1 : Int32) (G : g_G) : Option (Option Nat × g_G) :=
  (gchk G 18 (some t)).bind fun b2 =>
  (fJ7_append_2 E b2 v1 G).bind fun z2 =>
  some ((some t), z2.2)
theorem sJ8_append_2 (l : Launch) (E : g_E) (D : g_D) {t : Nat} {v1 : Int32} {G : g_G} {q : Option Nat × g_G} (h : fJ8_append_2 E t v1 G = some q) : gMet l E D yJ8_append_2 (ws_ yJ8_append_2 cJ8_append_2 2 (some (.object "java/lang/StringBuilder"))) 2 87 [.inr (.inr (some t)), .inl v1] G (some (va_rf q.1)) q.2 := by
  refine gMet.of (by decide +kernel) (Nat.le_of_ble_eq_true rfl) ?_
  intro p e R s m args below meth c C hS ls hl
  have C : gC p R s m args meth c cJ8_append_2 2 RJ8 "append" (some (.object "java/lang/StringBuilder")) 2 87 E D := C
  obtain ⟨hx, hb, hml, hown, hts, hKn, hRc, hRs, hc1, hc2, hRf, hRl, hr, hlk, hnm⟩ := id C
  have hl : gls ls 2 [(0, .inr (.inr (some t))), (1, .inl v1)] := hl
  generalize s.heap = H at hS ⊢
  unfold fJ8_append_2 at h
  refine g_aload_n hx hb hl 0 rfl dJ8_append_2_0 ?_
  refine g_iload_n hx hb hl 1 rfl dJ8_append_2_1 ?_
  obtain ⟨b2, hb2, h⟩ := g_bnd h
  obtain ⟨hr2, hk2⟩ := g_chk hb2
  obtain ⟨z2, h2, h⟩ := g_bnd h
  refine g_callSU (n := 1) (b := b2) (av := [.inl v1]) (rs := []) hx hb hml hown hts hKn hRc hRs hS hl (C := "java/lang/StringBuilder") (hKn.obj (k := 18) (by decide) (by decide)).2 (sJ7_append_2 l E D h2) (lw_app (lw_in _ [384, 2454, 257, 385, 122] (by decide +kernel) (by decide +kernel)) (lw_meth q386)) ⟨by decide, by decide +kernel⟩ ⟨by rw [hRf]; exact Nat.le_of_ble_eq_true rfl, by rw [hRl]; exact Nat.le_of_ble_eq_true rfl⟩ (g_recv hKn hS hk2 (by decide) (by decide)) rfl (by rw [hr2]; rfl) (Nat.le_of_ble_eq_true rfl) dJ8_append_2_2 (fun H locs cells slots hS => ?_)
  refine lv_pop hx hb dJ8_append_2_5 (by first | exact va_rf_cat _ | rfl | exact g_catA _) ?_
  refine g_aload_n hx hb hl 0 rfl dJ8_append_2_6 ?_
  exact g_aretG hx hb hr (by first | exact Or.inl ⟨_, rfl⟩ | exact Or.inr ⟨_, rfl⟩) hlk hKn hRc hRs hS h dJ8_append_2_7
/-- java/lang/StringBuilder.<init>()V -/
def fJ8_init (E : g_E) (t : Nat) (G : g_G) : Option (g_G) :=
  (fJ7_init E t 16 G).bind fun z3 =>
  some z3
theorem sJ8_init (l : Launch) (E : g_E) (D : g_D) {t : Nat} {G : g_G} {q : g_G} (h : fJ8_init E t G = some q) : gMet l E D yJ8_init (ws_ yJ8_init cJ8_init 1 (none)) 2 85 [.inr (.inr (some t))] G none q := by
  refine gMet.of (by decide +kernel) (Nat.le_of_ble_eq_true rfl) ?_
  intro p e R s m args below meth c C hS ls hl
  have C : gC p R s m args meth c cJ8_init 1 RJ8 "<init>" (none) 2 85 E D := C
  obtain ⟨hx, hb, hml, hown, hts, hKn, hRc, hRs, hc1, hc2, hRf, hRl, hr, hlk, hnm⟩ := id C
  have hl : gls ls 1 [(0, .inr (.inr (some t)))] := hl
  generalize s.heap = H at hS ⊢
  unfold fJ8_init at h
  refine g_aload_n hx hb hl 0 rfl dJ8_init_0 ?_
  refine lv_bipush (v := 16) hx hb dJ8_init_1 (by decide) ?_
  obtain ⟨z3, h3, h⟩ := g_bnd h
  refine g_callI (n := 1) (av := [.inl 16]) (rs := []) hx hb hml hown hts hKn hRc hRs hS hl (sJ7_init l E D h3) (lw_meth q234) (hts _ q122) (hts _ q232) (hts _ q233) rfl ⟨by decide, by decide, by decide +kernel⟩ ⟨by rw [hRf]; exact Nat.le_of_ble_eq_true rfl, by rw [hRl]; exact Nat.le_of_ble_eq_true rfl⟩ rfl rfl (Nat.le_of_ble_eq_true rfl) dJ8_init_3 (fun H locs cells slots hS => ?_)
  exact g_vretG hx hb hr hlk hKn hRc hRs hS h dJ8_init_6
/-- java/lang/StringBuilder.<init>(I)V -/
def fJ8_init_2 (E : g_E) (t : Nat) (v1 : Int32) (G : g_G) : Option (g_G) :=
  (fJ7_init E t v1 G).bind fun z2 =>
  some z2
theorem sJ8_init_2 (l : Launch) (E : g_E) (D : g_D) {t : Nat} {v1 : Int32} {G : g_G} {q : g_G} (h : fJ8_init_2 E t v1 G = some q) : gMet l E D yJ8_init_2 (ws_ yJ8_init_2 cJ8_init_2 2 (none)) 2 85 [.inr (.inr (some t)), .inl v1] G none q := by
  refine gMet.of (by decide +kernel) (Nat.le_of_ble_eq_true rfl) ?_
  intro p e R s m args below meth c C hS ls hl
  have C : gC p R s m args meth c cJ8_init_2 2 RJ8 "<init>" (none) 2 85 E D := C
  obtain ⟨hx, hb, hml, hown, hts, hKn, hRc, hRs, hc1, hc2, hRf, hRl, hr, hlk, hnm⟩ := id C
  have hl : gls ls 2 [(0, .inr (.inr (some t))), (1, .inl v1)] := hl
  generalize s.heap = H at hS ⊢
  unfold fJ8_init_2 at h
  refine g_aload_n hx hb hl 0 rfl dJ8_init_2_0 ?_
  refine g_iload_n hx hb hl 1 rfl dJ8_init_2_1 ?_
  obtain ⟨z2, h2, h⟩ := g_bnd h
  refine g_callI (n := 1) (av := [.inl v1]) (rs := []) hx hb hml hown hts hKn hRc hRs hS hl (sJ7_init l E D h2) (lw_meth q234) (hts _ q122) (hts _ q232) (hts _ q233) rfl ⟨by decide, by decide, by decide +kernel⟩ ⟨by rw [hRf]; exact Nat.le_of_ble_eq_true rfl, by rw [hRl]; exact Nat.le_of_ble_eq_true rfl⟩ rfl rfl (Nat.le_of_ble_eq_true rfl) dJ8_init_2_2 (fun H locs cells slots hS => ?_)
  exact g_vretG hx hb hr hlk hKn hRc hRs hS h dJ8_init_2_5
/-- java/lang/StringBuilder.length()I -/
def fJ8_length (E : g_E) (t : Nat) (G : g_G) : Option (Int32 × g_G) :=
  (gchk G 18 (some t)).bind fun b1 =>
  (fJ7_length E b1 G).bind fun z1 =>
  some (z1.1, z1.2)
theorem sJ8_length (l : Launch) (E : g_E) (D : g_D) {t : Nat} {G : g_G} {q : Int32 × g_G} (h : fJ8_length E t G = some q) : gMet l E D yJ8_length (ws_ yJ8_length cJ8_length 1 (some .int)) 2 84 [.inr (.inr (some t))] G (some (.int q.1)) q.2 := by
  refine gMet.of (by decide +kernel) (Nat.le_of_ble_eq_true rfl) ?_
  intro p e R s m args below meth c C hS ls hl
  have C : gC p R s m args meth c cJ8_length 1 RJ8 "length" (some .int) 2 84 E D := C
  obtain ⟨hx, hb, hml, hown, hts, hKn, hRc, hRs, hc1, hc2, hRf, hRl, hr, hlk, hnm⟩ := id C
  have hl : gls ls 1 [(0, .inr (.inr (some t)))] := hl
  generalize s.heap = H at hS ⊢
  unfold fJ8_length at h
  refine g_aload_n hx hb hl 0 rfl dJ8_length_0 ?_
  obtain ⟨b1, hb1, h⟩ := g_bnd h
  obtain ⟨hr1, hk1⟩ := g_chk hb1
  obtain ⟨z1, h1, h⟩ := g_bnd h
  refine g_callSU (n := 0) (b := b1) (av := []) (rs := []) hx hb hml hown hts hKn hRc hRs hS hl (C := "java/lang/StringBuilder") (hKn.obj (k := 18) (by decide) (by decide)).2 (sJ7_length l E D h1) (lw_app (lw_in _ [429, 425, 257, 424, 122] (by decide +kernel) (by decide +kernel)) (lw_meth q430)) ⟨by decide, by decide +kernel⟩ ⟨by rw [hRf]; exact Nat.le_of_ble_eq_true rfl, by rw [hRl]; exact Nat.le_of_ble_eq_true rfl⟩ (g_recv hKn hS hk1 (by decide) (by decide)) rfl (by rw [hr1]; rfl) (Nat.le_of_ble_eq_true rfl) dJ8_length_1 (fun H locs cells slots hS => ?_)
  exact g_iretG hx hb hr hlk hKn hRc hRs hS h dJ8_length_4
/-- java/lang/String.checkBoundsBeginEnd(III)V -/
def fJ9_checkBoundsBeginEnd (E : g_E) (v0 : Int32) (v1 : Int32) (v2 : Int32) (G : g_G) : Option (g_G) :=
  (fJ14_checkFromToIndex E v0 v1 v2 (gQ E 10) G).bind fun z6 =>
  some z6.2
theorem sJ9_checkBoundsBeginEnd (l : Launch) (E : g_E) (D : g_D) {v0 : Int32} {v1 : Int32} {v2 : Int32} {G : g_G} {q : g_G} (h : fJ9_checkBoundsBeginEnd E v0 v1 v2 G = some q) : gMet l E D yJ9_checkBoundsBeginEnd (ws_ yJ9_checkBoundsBeginEnd cJ9_checkBoundsBeginEnd 3 (none)) 2 87 [.inl v0, .inl v1, .inl v2] G none q := by
  refine gMet.of (by decide +kernel) (Nat.le_of_ble_eq_true rfl) ?_
  intro p e R s m args below meth c C hS ls hl
  have C : gC p R s m args meth c cJ9_checkBoundsBeginEnd 3 RJ9 "checkBoundsBeginEnd" (none) 2 87 E D := C
  obtain ⟨hx, hb, hml, hown, hts, hKn, hRc, hRs, hc1, hc2, hRf, hRl, hr, hlk, hnm⟩ := id C
  have hl : gls ls 3 [(0, .inl v0), (1, .inl v1), (2, .inl v2)] := hl
  generalize s.heap = H at hS ⊢
  unfold fJ9_checkBoundsBeginEnd at h
  refine g_iload_n hx hb hl 0 rfl dJ9_checkBoundsBeginEnd_0 ?_
  refine g_iload_n hx hb hl 1 rfl dJ9_checkBoundsBeginEnd_1 ?_
  refine g_iload_n hx hb hl 2 rfl dJ9_checkBoundsBeginEnd_2 ?_
  refine g_getsZ (C := "jdk/internal/util/Preconditions") (n := "SIOOBE_FORMATTER") (d := "Ljava/util/function/BiFunction;") (v := va_rf (gQ E 10)) hx hb hown (hKn.2.2.2.2.2.2.2.1 _ (List.mem_of_getElem? (i := 0) rfl)) hS (hts _ q323) (fun _ z => z) dJ9_checkBoundsBeginEnd_3 ?_
  obtain ⟨z6, h6, h⟩ := g_bnd h
  refine g_callS (n := 4) (av := [.inl v0, .inl v1, .inl v2, .inr (.inr (gQ E 10))]) (rs := []) hx hb hml hown hts hKn hRc hRs hS hl (sJ14_checkFromToIndex l E D h6) (lw_S q325 q326 q130 q327) ⟨by decide, by decide, by decide +kernel⟩ ⟨by rw [hRf]; exact Nat.le_of_ble_eq_true rfl, by rw [hRl]; exact Nat.le_of_ble_eq_true rfl⟩ rfl rfl (Nat.le_of_ble_eq_true rfl) dJ9_checkBoundsBeginEnd_6 (fun H locs cells slots hS => ?_)
  refine lv_pop hx hb dJ9_checkBoundsBeginEnd_9 rfl ?_
  exact g_vretG hx hb hr hlk hKn hRc hRs hS h dJ9_checkBoundsBeginEnd_10
/-- java/lang/String.checkBoundsOffCount(III)I -/
def fJ9_checkBoundsOffCount (E : g_E) (v0 : Int32) (v1 : Int32) (v2 : Int32) (G : g_G) : Option (Int32 × g_G) :=
  (fJ14_checkFromIndexSize E v0 v1 v2 (gQ E 10) G).bind fun z6 =>
  some (z6.1, z6.2)
theorem sJ9_checkBoundsOffCount (l : Launch) (E : g_E) (D : g_D) {v0 : Int32} {v1 : Int32} {v2 : Int32} {G : g_G} {q : Int32 × g_G} (h : fJ9_checkBoundsOffCount E v0 v1 v2 G = some q) : gMet l E D yJ9_checkBoundsOffCount (ws_ yJ9_checkBoundsOffCount cJ9_checkBoundsOffCount 3 (some .int)) 2 87 [.inl v0, .inl v1, .inl v2] G (some (.int q.1)) q.2 := by
  refine gMet.of (by decide +kernel) (Nat.le_of_ble_eq_true rfl) ?_
  intro p e R s m args below meth c C hS ls hl
  have C : gC p R s m args meth c cJ9_checkBoundsOffCount 3 RJ9 "checkBoundsOffCount" (some .int) 2 87 E D := C
  obtain ⟨hx, hb, hml, hown, hts, hKn, hRc, hRs, hc1, hc2, hRf, hRl, hr, hlk, hnm⟩ := id C
  have hl : gls ls 3 [(0, .inl v0), (1, .inl v1), (2, .inl v2)] := hl
  generalize s.heap = H at hS ⊢
  unfold fJ9_checkBoundsOffCount at h
  refine g_iload_n hx hb hl 0 rfl dJ9_checkBoundsOffCount_0 ?_
  refine g_iload_n hx hb hl 1 rfl dJ9_checkBoundsOffCount_1 ?_
  refine g_iload_n hx hb hl 2 rfl dJ9_checkBoundsOffCount_2 ?_
  refine g_getsZ (C := "jdk/internal/util/Preconditions") (n := "SIOOBE_FORMATTER") (d := "Ljava/util/function/BiFunction;") (v := va_rf (gQ E 10)) hx hb hown (hKn.2.2.2.2.2.2.2.1 _ (List.mem_of_getElem? (i := 0) rfl)) hS (hts _ q323) (fun _ z => z) dJ9_checkBoundsOffCount_3 ?_
  obtain ⟨z6, h6, h⟩ := g_bnd h
  refine g_callS (n := 4) (av := [.inl v0, .inl v1, .inl v2, .inr (.inr (gQ E 10))]) (rs := []) hx hb hml hown hts hKn hRc hRs hS hl (sJ14_checkFromIndexSize l E D h6) (lw_S q371 q372 q130 q373) ⟨by decide, by decide, by decide +kernel⟩ ⟨by rw [hRf]; exact Nat.le_of_ble_eq_true rfl, by rw [hRl]; exact Nat.le_of_ble_eq_true rfl⟩ rfl rfl (Nat.le_of_ble_eq_true rfl) dJ9_checkBoundsOffCount_6 (fun H locs cells slots hS => ?_)
  exact g_iretG hx hb hr hlk hKn hRc hRs hS h dJ9_checkBoundsOffCount_9
/-- java/lang/String.checkIndex(II)V -/
def fJ9_checkIndex (E : g_E) (v0 : Int32) (v1 : Int32) (G : g_G) : Option (g_G) :=
  (fJ14_checkIndex E v0 v1 (gQ E 10) G).bind fun z5 =>
  some z5.2
theorem sJ9_checkIndex (l : Launch) (E : g_E) (D : g_D) {v0 : Int32} {v1 : Int32} {G : g_G} {q : g_G} (h : fJ9_checkIndex E v0 v1 G = some q) : gMet l E D yJ9_checkIndex (ws_ yJ9_checkIndex cJ9_checkIndex 2 (none)) 2 86 [.inl v0, .inl v1] G none q := by
  refine gMet.of (by decide +kernel) (Nat.le_of_ble_eq_true rfl) ?_
  intro p e R s m args below meth c C hS ls hl
  have C : gC p R s m args meth c cJ9_checkIndex 2 RJ9 "checkIndex" (none) 2 86 E D := C
  obtain ⟨hx, hb, hml, hown, hts, hKn, hRc, hRs, hc1, hc2, hRf, hRl, hr, hlk, hnm⟩ := id C
  have hl : gls ls 2 [(0, .inl v0), (1, .inl v1)] := hl
  generalize s.heap = H at hS ⊢
  unfold fJ9_checkIndex at h
  refine g_iload_n hx hb hl 0 rfl dJ9_checkIndex_0 ?_
  refine g_iload_n hx hb hl 1 rfl dJ9_checkIndex_1 ?_
  refine g_getsZ (C := "jdk/internal/util/Preconditions") (n := "SIOOBE_FORMATTER") (d := "Ljava/util/function/BiFunction;") (v := va_rf (gQ E 10)) hx hb hown (hKn.2.2.2.2.2.2.2.1 _ (List.mem_of_getElem? (i := 0) rfl)) hS (hts _ q323) (fun _ z => z) dJ9_checkIndex_2 ?_
  obtain ⟨z5, h5, h⟩ := g_bnd h
  refine g_callS (n := 3) (av := [.inl v0, .inl v1, .inr (.inr (gQ E 10))]) (rs := []) hx hb hml hown hts hKn hRc hRs hS hl (sJ14_checkIndex l E D h5) (lw_S q1155 q766 q130 q767) ⟨by decide, by decide, by decide +kernel⟩ ⟨by rw [hRf]; exact Nat.le_of_ble_eq_true rfl, by rw [hRl]; exact Nat.le_of_ble_eq_true rfl⟩ rfl rfl (Nat.le_of_ble_eq_true rfl) dJ9_checkIndex_5 (fun H locs cells slots hS => ?_)
  refine lv_pop hx hb dJ9_checkIndex_8 rfl ?_
  exact g_vretG hx hb hr hlk hKn hRc hRs hS h dJ9_checkIndex_9
/-- java/lang/String.coder()B -/
def fJ9_coder (E : g_E) (t : Nat) (G : g_G) : Option (Int32 × g_G) :=
  if (1 : Int32) = 0 then (
    if (Int32.toInt8 1).toInt32 = 1 then some (1, G) else none)
  else (
    (grI G 19 19 (some t) 1).bind fun x7 =>
    if (Int32.toInt8 x7).toInt32 = x7 then some (x7, G) else none)
theorem sJ9_coder (l : Launch) (E : g_E) (D : g_D) {t : Nat} {G : g_G} {q : Int32 × g_G} (h : fJ9_coder E t G = some q) : gMet l E D yJ9_coder (ws_ yJ9_coder cJ9_coder 1 (some .byte)) 1 64 [.inr (.inr (some t))] G (some (.int q.1)) q.2 := by
  refine gMet.of (by decide +kernel) (Nat.le_of_ble_eq_true rfl) ?_
  intro p e R s m args below meth c C hS ls hl
  have C : gC p R s m args meth c cJ9_coder 1 RJ9 "coder" (some .byte) 1 64 E D := C
  obtain ⟨hx, hb, hml, hown, hts, hKn, hRc, hRs, hc1, hc2, hRf, hRl, hr, hlk, hnm⟩ := id C
  have hl : gls ls 1 [(0, .inr (.inr (some t)))] := hl
  generalize s.heap = H at hS ⊢
  unfold fJ9_coder at h
  refine g_getsZ (C := "java/lang/String") (n := "COMPACT_STRINGS") (d := "Z") (v := .int 1) hx hb hown (hKn.2.2.2.2.2.2.1 _ (List.mem_of_getElem? (i := 5) rfl)) hS (hts _ q345) (fun _ z => z) dJ9_coder_0 ?_
  refine lv_if_eq (tgt := 13) hx hb dJ9_coder_3 (by decide) (fun c_3 => ?_) (fun c_3 => ?_)
  · have h := g_ift c_3 h
    refine lv_iconst (v := 1) hx hb dJ9_coder_13 (by decide) ?_
    exact g_bretG hx hb hr hlk hKn hRc hRs hS h dJ9_coder_14
  · have h := g_iff c_3 h
    refine g_aload_n hx hb hl 0 rfl dJ9_coder_6 ?_
    refine g_rdI hx hb hown hts hKn hS h fd_19_19_1 rfl (Or.inl (hts _ q487)) (fun _ z => z) dJ9_coder_7 (fun x7 h => ?_)
    refine lv_goto (tgt := 14) hx hb dJ9_coder_10 (by decide) ?_
    exact g_bretG hx hb hr hlk hKn hRc hRs hS h dJ9_coder_14
/-- java/lang/String.equals(Ljava/lang/Object;)Z -/
def fJ9_equals_b36 (E : g_E) (t : Nat) (v2 : Option Nat) (G : g_G) : Option (Int32 × g_G) :=
  (grR G 19 19 (some t) 0).bind fun x37 =>
  (grR G 19 19 v2 0).bind fun x41 =>
  (fJ15_equals E x37 x41 G).bind fun z44 =>
  if z44.1 = 0 then (
    if (0 : Int32) = 0 ∨ (0 : Int32) = 1 then some (0, z44.2) else none)
  else (
    if (1 : Int32) = 0 ∨ (1 : Int32) = 1 then some (1, z44.2) else none)
def fJ9_equals (E : g_E) (t : Nat) (v1 : Option Nat) (G : g_G) : Option (Int32 × g_G) :=
  if ¬ (some t) = v1 then (
    (ginst G 19 v1).bind fun x8 =>
    if x8 = 0 then (
      if (0 : Int32) = 0 ∨ (0 : Int32) = 1 then some (0, G) else none)
    else (
      (gcast G 19 19 v1).bind fun x15 =>
      if (1 : Int32) = 0 then (
        fJ9_equals_b36 E t x15 G)
      else (
        (grI G 19 19 (some t) 1).bind fun x26 =>
        (grI G 19 19 x15 1).bind fun x30 =>
        if ¬ x26 = x30 then (
          if (0 : Int32) = 0 ∨ (0 : Int32) = 1 then some (0, G) else none)
        else (
          fJ9_equals_b36 E t x15 G))))
  else (
    if (1 : Int32) = 0 ∨ (1 : Int32) = 1 then some (1, G) else none)
theorem sJ9_equals_b36 {p : Program} {l : Launch} {e : Env} {R : Room} {s : State} {m : MethodId} {args : Array Value} {below : List Frame} {meth : Method} {c : Code} {E : g_E} {D : g_D} (C : gC p R s m args meth c cJ9_equals 3 RJ9 "equals" (some .boolean) 2 86 E D) : ∀ (t : Nat) (v2 : Option Nat) (G : g_G) (q : Int32 × g_G), fJ9_equals_b36 E t v2 G = some q → ∀ (H : Heap) (locs : List Loc) (cells slots : Nat) (ls : Array Slot), gSt E D G H locs → gls ls 3 [(0, .inr (.inr (some t))), (2, .inr (.inr v2))] → gT p l e R s m args below meth c E D H locs cells slots (some (.int q.1)) q.2 (F0 m 36 ls []) := by
  obtain ⟨hx, hb, hml, hown, hts, hKn, hRc, hRs, hc1, hc2, hRf, hRl, hr, hlk, hnm⟩ := id C
  intro t v2 G q h H locs cells slots ls hS hl
  unfold fJ9_equals_b36 at h
  refine g_aload_n hx hb hl 0 rfl dJ9_equals_36 ?_
  refine g_rdR hx hb hown hts hKn hS h fd_19_19_0 rfl (Or.inl (hts _ q486)) (fun _ z => z) dJ9_equals_37 (fun x37 h => ?_)
  refine g_aload_n hx hb hl 1 rfl dJ9_equals_40 ?_
  refine g_rdR hx hb hown hts hKn hS h fd_19_19_0 rfl (Or.inl (hts _ q486)) (fun _ z => z) dJ9_equals_41 (fun x41 h => ?_)
  obtain ⟨z44, h44, h⟩ := g_bnd h
  refine g_callS (n := 2) (av := [.inr (.inr x37), .inr (.inr x41)]) (rs := []) hx hb hml hown hts hKn hRc hRs hS hl (sJ15_equals l E D h44) (lw_S q1349 q1350 q131 q1351) ⟨by decide, by decide, by decide +kernel⟩ ⟨by rw [hRf]; exact Nat.le_of_ble_eq_true rfl, by rw [hRl]; exact Nat.le_of_ble_eq_true rfl⟩ rfl rfl (Nat.le_of_ble_eq_true rfl) dJ9_equals_44 (fun H locs cells slots hS => ?_)
  refine lv_if_eq (tgt := 54) hx hb dJ9_equals_47 (by decide) (fun c_47 => ?_) (fun c_47 => ?_)
  · have h := g_ift c_47 h
    refine lv_iconst (v := 0) hx hb dJ9_equals_54 (by decide) ?_
    exact g_zretG hx hb hr hlk hKn hRc hRs hS h dJ9_equals_55
  · have h := g_iff c_47 h
    refine lv_iconst (v := 1) hx hb dJ9_equals_50 (by decide) ?_
    refine lv_goto (tgt := 55) hx hb dJ9_equals_51 (by decide) ?_
    exact g_zretG hx hb hr hlk hKn hRc hRs hS h dJ9_equals_55
theorem sJ9_equals (l : Launch) (E : g_E) (D : g_D) {t : Nat} {v1 : Option Nat} {G : g_G} {q : Int32 × g_G} (h : fJ9_equals E t v1 G = some q) : gMet l E D yJ9_equals (ws_ yJ9_equals cJ9_equals 3 (some .boolean)) 2 86 [.inr (.inr (some t)), .inr (.inr v1)] G (some (.int q.1)) q.2 := by
  refine gMet.of (by decide +kernel) (Nat.le_of_ble_eq_true rfl) ?_
  intro p e R s m args below meth c C hS ls hl
  have C : gC p R s m args meth c cJ9_equals 3 RJ9 "equals" (some .boolean) 2 86 E D := C
  obtain ⟨hx, hb, hml, hown, hts, hKn, hRc, hRs, hc1, hc2, hRf, hRl, hr, hlk, hnm⟩ := id C
  have hl : gls ls 3 [(0, .inr (.inr (some t))), (1, .inr (.inr v1))] := hl
  generalize s.heap = H at hS ⊢
  unfold fJ9_equals at h
  refine g_aload_n hx hb hl 0 rfl dJ9_equals_0 ?_
  refine g_aload_n hx hb hl 1 rfl dJ9_equals_1 ?_
  refine lv_acmp_ne (tgt := 7) hx hb dJ9_equals_2 (by decide) (fun c_2 => ?_) (fun c_2 => ?_)
  · have h := g_ift c_2 h
    refine g_aload_n hx hb hl 1 rfl dJ9_equals_7 ?_
    refine g_instS (k := 19) hx hb hown hKn hS h (by decide) (by decide) (hts _ q1223) dJ9_equals_8 (fun x8 h => ?_)
    refine lv_if_eq (tgt := 54) hx hb dJ9_equals_11 (by decide) (fun c_11 => ?_) (fun c_11 => ?_)
    · have h := g_ift c_11 h
      refine lv_iconst (v := 0) hx hb dJ9_equals_54 (by decide) ?_
      exact g_zretG hx hb hr hlk hKn hRc hRs hS h dJ9_equals_55
    · have h := g_iff c_11 h
      refine g_aload_n hx hb hl 1 rfl dJ9_equals_14 ?_
      refine g_castS (k := 19) hx hb hown hKn hS h (by decide) (by decide) (hts _ q1223) dJ9_equals_15 (fun x15 h => ?_)
      refine g_astore_n (l1 := [(2, .inr (.inr x15)), (0, .inr (.inr (some t))), (1, .inr (.inr v1))]) hx hb hl (by decide) rfl dJ9_equals_18 (fun ls hl => ?_)
      refine g_getsZ (C := "java/lang/String") (n := "COMPACT_STRINGS") (d := "Z") (v := .int 1) hx hb hown (hKn.2.2.2.2.2.2.1 _ (List.mem_of_getElem? (i := 5) rfl)) hS (hts _ q345) (fun _ z => z) dJ9_equals_19 ?_
      refine lv_if_eq (tgt := 36) hx hb dJ9_equals_22 (by decide) (fun c_22 => ?_) (fun c_22 => ?_)
      · have h := g_ift c_22 h
        exact sJ9_equals_b36 C _ _ _ _ h _ _ _ _ _ hS (gls_sub hl [1, 0] rfl)
      · have h := g_iff c_22 h
        refine g_aload_n hx hb hl 1 rfl dJ9_equals_25 ?_
        refine g_rdI hx hb hown hts hKn hS h fd_19_19_1 rfl (Or.inl (hts _ q487)) (fun _ z => z) dJ9_equals_26 (fun x26 h => ?_)
        refine g_aload_n hx hb hl 0 rfl dJ9_equals_29 ?_
        refine g_rdI hx hb hown hts hKn hS h fd_19_19_1 rfl (Or.inl (hts _ q487)) (fun _ z => z) dJ9_equals_30 (fun x30 h => ?_)
        refine lv_icmp_ne (tgt := 54) hx hb dJ9_equals_33 (by decide) (fun c_33 => ?_) (fun c_33 => ?_)
        · have h := g_ift c_33 h
          refine lv_iconst (v := 0) hx hb dJ9_equals_54 (by decide) ?_
          exact g_zretG hx hb hr hlk hKn hRc hRs hS h dJ9_equals_55
        · have h := g_iff (fun z => z c_33) h
          exact sJ9_equals_b36 C _ _ _ _ h _ _ _ _ _ hS (gls_sub hl [1, 0] rfl)
  · have h := g_iff (fun z => z c_2) h
    refine lv_iconst (v := 1) hx hb dJ9_equals_5 (by decide) ?_
    exact g_zretG hx hb hr hlk hKn hRc hRs hS h dJ9_equals_6
/-- java/lang/String.getBytes([BIB)V -/
def fJ9_getBytes (E : g_E) (t : Nat) (v1 : Option Nat) (v2 : Int32) (v3 : Int32) (G : g_G) : Option (g_G) :=
  (gchk G 19 (some t)).bind fun b1 =>
  (fJ9_coder E b1 G).bind fun z1 =>
  if ¬ z1.1 = v3 then (
    (grR z1.2 19 19 (some t) 0).bind fun x29 =>
    (grR z1.2 19 19 (some t) 0).bind fun x36 =>
    (galen z1.2 x36).bind fun x39 =>
    none)
  else (
    (grR z1.2 19 19 (some t) 0).bind fun x9 =>
    (grR z1.2 19 19 (some t) 0).bind fun x18 =>
    (galen z1.2 x18).bind fun x21 =>
    (gcopy E z1.2 x9 0 v1 (v2 <<< (v3 &&& 31)) x21).bind fun G22 =>
    some G22)
theorem sJ9_getBytes (l : Launch) (E : g_E) (D : g_D) {t : Nat} {v1 : Option Nat} {v2 : Int32} {v3 : Int32} {G : g_G} {q : g_G} (h : fJ9_getBytes E t v1 v2 v3 G = some q) : gMet l E D yJ9_getBytes (ws_ yJ9_getBytes cJ9_getBytes 4 (none)) 2 84 [.inr (.inr (some t)), .inr (.inr v1), .inl v2, .inl v3] G none q := by
  refine gMet.of (by decide +kernel) (Nat.le_of_ble_eq_true rfl) ?_
  intro p e R s m args below meth c C hS ls hl
  have C : gC p R s m args meth c cJ9_getBytes 4 RJ9 "getBytes" (none) 2 84 E D := C
  obtain ⟨hx, hb, hml, hown, hts, hKn, hRc, hRs, hc1, hc2, hRf, hRl, hr, hlk, hnm⟩ := id C
  have hl : gls ls 4 [(0, .inr (.inr (some t))), (1, .inr (.inr v1)), (2, .inl v2), (3, .inl v3)] := hl
  generalize s.heap = H at hS ⊢
  unfold fJ9_getBytes at h
  refine g_aload_n hx hb hl 0 rfl dJ9_getBytes_0 ?_
  obtain ⟨b1, hb1, h⟩ := g_bnd h
  obtain ⟨hr1, hk1⟩ := g_chk hb1
  obtain ⟨z1, h1, h⟩ := g_bnd h
  refine g_callV (n := 0) (b := b1) (av := []) (rs := []) hx hb hml hown hts hKn hRc hRs hS hl (sJ9_coder l E D h1) (lw_V q341 q342 q343 q124 q344) ⟨rfl, by decide, by decide, by decide +kernel⟩ ⟨by rw [hRf]; exact Nat.le_of_ble_eq_true rfl, by rw [hRl]; exact Nat.le_of_ble_eq_true rfl⟩ (g_recv hKn hS hk1 (by decide) (by decide)) rfl (by rw [hr1]; rfl) (Nat.le_of_ble_eq_true rfl) dJ9_getBytes_1 (fun H locs cells slots hS => ?_)
  refine g_iload_n hx hb hl 3 rfl dJ9_getBytes_4 ?_
  refine lv_icmp_ne (tgt := 28) hx hb dJ9_getBytes_5 (by decide) (fun c_5 => ?_) (fun c_5 => ?_)
  · have h := g_ift c_5 h
    refine g_aload_n hx hb hl 0 rfl dJ9_getBytes_28 ?_
    refine g_rdR hx hb hown hts hKn hS h fd_19_19_0 rfl (Or.inl (hts _ q486)) (fun _ z => z) dJ9_getBytes_29 (fun x29 h => ?_)
    refine lv_iconst (v := 0) hx hb dJ9_getBytes_32 (by decide) ?_
    refine g_aload_n hx hb hl 1 rfl dJ9_getBytes_33 ?_
    refine g_iload_n hx hb hl 2 rfl dJ9_getBytes_34 ?_
    refine g_aload_n hx hb hl 0 rfl dJ9_getBytes_35 ?_
    refine g_rdR hx hb hown hts hKn hS h fd_19_19_0 rfl (Or.inl (hts _ q486)) (fun _ z => z) dJ9_getBytes_36 (fun x36 h => ?_)
    refine g_alen hx hb hKn hS h dJ9_getBytes_39 (fun x39 h => ?_)
    exact g_no h
  · have h := g_iff (fun z => z c_5) h
    refine g_aload_n hx hb hl 0 rfl dJ9_getBytes_8 ?_
    refine g_rdR hx hb hown hts hKn hS h fd_19_19_0 rfl (Or.inl (hts _ q486)) (fun _ z => z) dJ9_getBytes_9 (fun x9 h => ?_)
    refine lv_iconst (v := 0) hx hb dJ9_getBytes_12 (by decide) ?_
    refine g_aload_n hx hb hl 1 rfl dJ9_getBytes_13 ?_
    refine g_iload_n hx hb hl 2 rfl dJ9_getBytes_14 ?_
    refine g_iload_n hx hb hl 3 rfl dJ9_getBytes_15 ?_
    refine lv_ishl hx hb dJ9_getBytes_16 ?_
    refine g_aload_n hx hb hl 0 rfl dJ9_getBytes_17 ?_
    refine g_rdR hx hb hown hts hKn hS h fd_19_19_0 rfl (Or.inl (hts _ q486)) (fun _ z => z) dJ9_getBytes_18 (fun x18 h => ?_)
    refine g_alen hx hb hKn hS h dJ9_getBytes_21 (fun x21 h => ?_)
    refine g_copyG (rs := []) hx hb hml hown hts hKn hS hl h (hts _ q378) (hts _ q305) (hts _ q304) (hts _ q129) rfl (Nat.le_of_ble_eq_true rfl) ⟨by rw [hRf]; exact Nat.le_of_ble_eq_true rfl, by rw [hRl]; exact Nat.le_of_ble_eq_true rfl⟩ dJ9_getBytes_22 (fun G22 h H locs hS => ?_)
    refine lv_goto (tgt := 43) hx hb dJ9_getBytes_25 (by decide) ?_
    exact g_vretG hx hb hr hlk hKn hRc hRs hS h dJ9_getBytes_43
/-- java/lang/String.<init>([BB)V -/
def fJ9_init_3 (E : g_E) (t : Nat) (v1 : Option Nat) (v2 : Int32) (G : g_G) : Option (g_G) :=
  (gpR E G 19 19 (some t) 0 v1).bind fun G6 =>
  (gpB E G6 19 19 (some t) 1 v2).bind fun G11 =>
  some G11
theorem sJ9_init_3 (l : Launch) (E : g_E) (D : g_D) {t : Nat} {v1 : Option Nat} {v2 : Int32} {G : g_G} {q : g_G} (h : fJ9_init_3 E t v1 v2 G = some q) : gMet l E D yJ9_init_3 (ws_ yJ9_init_3 cJ9_init_3 3 (none)) 1 64 [.inr (.inr (some t)), .inr (.inr v1), .inl v2] G none q := by
  refine gMet.of (by decide +kernel) (Nat.le_of_ble_eq_true rfl) ?_
  intro p e R s m args below meth c C hS ls hl
  have C : gC p R s m args meth c cJ9_init_3 3 RJ9 "<init>" (none) 1 64 E D := C
  obtain ⟨hx, hb, hml, hown, hts, hKn, hRc, hRs, hc1, hc2, hRf, hRl, hr, hlk, hnm⟩ := id C
  have hl : gls ls 3 [(0, .inr (.inr (some t))), (1, .inr (.inr v1)), (2, .inl v2)] := hl
  generalize s.heap = H at hS ⊢
  unfold fJ9_init_3 at h
  refine g_aload_n hx hb hl 0 rfl dJ9_init_3_0 ?_
  refine g_objInit (rs := []) hx hb hml hown hl (hts _ q417) (hts _ q162) (hts _ q163) rfl dJ9_init_3_1 ⟨by rw [hRf]; exact Nat.le_of_ble_eq_true rfl, by rw [hRl]; exact Nat.le_of_ble_eq_true rfl⟩ ?_
  refine g_aload_n hx hb hl 0 rfl dJ9_init_3_4 ?_
  refine g_aload_n hx hb hl 1 rfl dJ9_init_3_5 ?_
  refine g_ptR hx hb hown hts hKn hS h fd_19_19_0 rfl (Or.inl (hts _ q486)) (fun _ z => z) (fun _ => ⟨hnm, rfl⟩) dJ9_init_3_6 (fun G6 h H locs hS => ?_)
  refine g_aload_n hx hb hl 0 rfl dJ9_init_3_9 ?_
  refine g_iload_n hx hb hl 2 rfl dJ9_init_3_10 ?_
  refine g_ptB hx hb hown hts hKn hS h fd_19_19_1 (Or.inl (hts _ q487)) (fun _ z => z) (fun _ => ⟨hnm, rfl⟩) dJ9_init_3_11 (fun G11 h H locs hS => ?_)
  exact g_vretG hx hb hr hlk hKn hRc hRs hS h dJ9_init_3_14
/-- java/lang/String.isLatin1()Z -/
def fJ9_isLatin1 (E : g_E) (t : Nat) (G : g_G) : Option (Int32 × g_G) :=
  if (1 : Int32) = 0 then (
    if (0 : Int32) = 0 ∨ (0 : Int32) = 1 then some (0, G) else none)
  else (
    (grI G 19 19 (some t) 1).bind fun x7 =>
    if ¬ x7 = 0 then (
      if (0 : Int32) = 0 ∨ (0 : Int32) = 1 then some (0, G) else none)
    else (
      if (1 : Int32) = 0 ∨ (1 : Int32) = 1 then some (1, G) else none))
theorem sJ9_isLatin1 (l : Launch) (E : g_E) (D : g_D) {t : Nat} {G : g_G} {q : Int32 × g_G} (h : fJ9_isLatin1 E t G = some q) : gMet l E D yJ9_isLatin1 (ws_ yJ9_isLatin1 cJ9_isLatin1 1 (some .boolean)) 1 64 [.inr (.inr (some t))] G (some (.int q.1)) q.2 := by
  refine gMet.of (by decide +kernel) (Nat.le_of_ble_eq_true rfl) ?_
  intro p e R s m args below meth c C hS ls hl
  have C : gC p R s m args meth c cJ9_isLatin1 1 RJ9 "isLatin1" (some .boolean) 1 64 E D := C
  obtain ⟨hx, hb, hml, hown, hts, hKn, hRc, hRs, hc1, hc2, hRf, hRl, hr, hlk, hnm⟩ := id C
  have hl : gls ls 1 [(0, .inr (.inr (some t)))] := hl
  generalize s.heap = H at hS ⊢
  unfold fJ9_isLatin1 at h
  refine g_getsZ (C := "java/lang/String") (n := "COMPACT_STRINGS") (d := "Z") (v := .int 1) hx hb hown (hKn.2.2.2.2.2.2.1 _ (List.mem_of_getElem? (i := 5) rfl)) hS (hts _ q345) (fun _ z => z) dJ9_isLatin1_0 ?_
  refine lv_if_eq (tgt := 17) hx hb dJ9_isLatin1_3 (by decide) (fun c_3 => ?_) (fun c_3 => ?_)
  · have h := g_ift c_3 h
    refine lv_iconst (v := 0) hx hb dJ9_isLatin1_17 (by decide) ?_
    exact g_zretG hx hb hr hlk hKn hRc hRs hS h dJ9_isLatin1_18
  · have h := g_iff c_3 h
    refine g_aload_n hx hb hl 0 rfl dJ9_isLatin1_6 ?_
    refine g_rdI hx hb hown hts hKn hS h fd_19_19_1 rfl (Or.inl (hts _ q487)) (fun _ z => z) dJ9_isLatin1_7 (fun x7 h => ?_)
    refine lv_if_ne (tgt := 17) hx hb dJ9_isLatin1_10 (by decide) (fun c_10 => ?_) (fun c_10 => ?_)
    · have h := g_ift c_10 h
      refine lv_iconst (v := 0) hx hb dJ9_isLatin1_17 (by decide) ?_
      exact g_zretG hx hb hr hlk hKn hRc hRs hS h dJ9_isLatin1_18
    · have h := g_iff (fun z => z c_10) h
      refine lv_iconst (v := 1) hx hb dJ9_isLatin1_13 (by decide) ?_
      refine lv_goto (tgt := 18) hx hb dJ9_isLatin1_14 (by decide) ?_
      exact g_zretG hx hb hr hlk hKn hRc hRs hS h dJ9_isLatin1_18
/-- java/lang/String.length()I -/
def fJ9_length (E : g_E) (t : Nat) (G : g_G) : Option (Int32 × g_G) :=
  (grR G 19 19 (some t) 0).bind fun x1 =>
  (galen G x1).bind fun x4 =>
  (gchk G 19 (some t)).bind fun b6 =>
  (fJ9_coder E b6 G).bind fun z6 =>
  some ((x4 >>> (z6.1 &&& 31)), z6.2)
theorem sJ9_length (l : Launch) (E : g_E) (D : g_D) {t : Nat} {G : g_G} {q : Int32 × g_G} (h : fJ9_length E t G = some q) : gMet l E D yJ9_length (ws_ yJ9_length cJ9_length 1 (some .int)) 2 84 [.inr (.inr (some t))] G (some (.int q.1)) q.2 := by
  refine gMet.of (by decide +kernel) (Nat.le_of_ble_eq_true rfl) ?_
  intro p e R s m args below meth c C hS ls hl
  have C : gC p R s m args meth c cJ9_length 1 RJ9 "length" (some .int) 2 84 E D := C
  obtain ⟨hx, hb, hml, hown, hts, hKn, hRc, hRs, hc1, hc2, hRf, hRl, hr, hlk, hnm⟩ := id C
  have hl : gls ls 1 [(0, .inr (.inr (some t)))] := hl
  generalize s.heap = H at hS ⊢
  unfold fJ9_length at h
  refine g_aload_n hx hb hl 0 rfl dJ9_length_0 ?_
  refine g_rdR hx hb hown hts hKn hS h fd_19_19_0 rfl (Or.inl (hts _ q486)) (fun _ z => z) dJ9_length_1 (fun x1 h => ?_)
  refine g_alen hx hb hKn hS h dJ9_length_4 (fun x4 h => ?_)
  refine g_aload_n hx hb hl 0 rfl dJ9_length_5 ?_
  obtain ⟨b6, hb6, h⟩ := g_bnd h
  obtain ⟨hr6, hk6⟩ := g_chk hb6
  obtain ⟨z6, h6, h⟩ := g_bnd h
  refine g_callV (n := 0) (b := b6) (av := []) (rs := [.inl x4]) hx hb hml hown hts hKn hRc hRs hS hl (sJ9_coder l E D h6) (lw_V q341 q342 q343 q124 q344) ⟨rfl, by decide, by decide, by decide +kernel⟩ ⟨by rw [hRf]; exact Nat.le_of_ble_eq_true rfl, by rw [hRl]; exact Nat.le_of_ble_eq_true rfl⟩ (g_recv hKn hS hk6 (by decide) (by decide)) rfl (by rw [hr6]; rfl) (Nat.le_of_ble_eq_true rfl) dJ9_length_6 (fun H locs cells slots hS => ?_)
  refine lv_ishr hx hb dJ9_length_9 ?_
  exact g_iretG hx hb hr hlk hKn hRc hRs hS h dJ9_length_10
/-- java/lang/String.valueOf(C)Ljava/lang/String; -/
def fJ9_valueOf_b26 (E : g_E) (v0 : Int32) (G : g_G) : Option (Option Nat × g_G) :=
  (gnewO E G 19 4).bind fun z26 =>
  none
def fJ9_valueOf (E : g_E) (v0 : Int32) (G : g_G) : Option (Option Nat × g_G) :=
  if (1 : Int32) = 0 then (
    fJ9_valueOf_b26 E v0 G)
  else (
    (fJ15_canEncode E v0 G).bind fun z7 =>
    if z7.1 = 0 then (
      fJ9_valueOf_b26 E v0 z7.2)
    else (
      (gnewO E z7.2 19 4).bind fun z13 =>
      (fJ15_toBytes E v0 z13.2).bind fun z18 =>
      (fJ9_init_3 E z13.1 z18.1 0 z18.2).bind fun z22 =>
      some ((some z13.1), z22)))
theorem sJ9_valueOf_b26 {p : Program} {l : Launch} {e : Env} {R : Room} {s : State} {m : MethodId} {args : Array Value} {below : List Frame} {meth : Method} {c : Code} {E : g_E} {D : g_D} (C : gC p R s m args meth c cJ9_valueOf 1 RJ9 "valueOf" (some (.object "java/lang/String")) 2 86 E D) : ∀ (v0 : Int32) (G : g_G) (q : Option Nat × g_G), fJ9_valueOf_b26 E v0 G = some q → ∀ (H : Heap) (locs : List Loc) (cells slots : Nat) (ls : Array Slot), gSt E D G H locs → gls ls 1 [(0, .inl v0)] → gT p l e R s m args below meth c E D H locs cells slots (some (va_rf q.1)) q.2 (F0 m 26 ls []) := by
  obtain ⟨hx, hb, hml, hown, hts, hKn, hRc, hRs, hc1, hc2, hRf, hRl, hr, hlk, hnm⟩ := id C
  intro v0 G q h H locs cells slots ls hS hl
  unfold fJ9_valueOf_b26 at h
  refine g_newG (k := 19) hx hb hown hts hKn hRc hRs hS h (by decide) (by decide) (hts _ q1223) (hts _ q410) (hts _ q124) dJ9_valueOf_26 (fun z26 h H locs cells slots hS => ?_)
  refine lv_dup hx hb dJ9_valueOf_29 (by first | exact va_rf_cat _ | rfl | exact g_catA _) ?_
  refine g_iload_n hx hb hl 0 rfl dJ9_valueOf_30 ?_
  exact g_no h
theorem sJ9_valueOf (l : Launch) (E : g_E) (D : g_D) {v0 : Int32} {G : g_G} {q : Option Nat × g_G} (h : fJ9_valueOf E v0 G = some q) : gMet l E D yJ9_valueOf (ws_ yJ9_valueOf cJ9_valueOf 1 (some (.object "java/lang/String"))) 2 86 [.inl v0] G (some (va_rf q.1)) q.2 := by
  refine gMet.of (by decide +kernel) (Nat.le_of_ble_eq_true rfl) ?_
  intro p e R s m args below meth c C hS ls hl
  have C : gC p R s m args meth c cJ9_valueOf 1 RJ9 "valueOf" (some (.object "java/lang/String")) 2 86 E D := C
  obtain ⟨hx, hb, hml, hown, hts, hKn, hRc, hRs, hc1, hc2, hRf, hRl, hr, hlk, hnm⟩ := id C
  have hl : gls ls 1 [(0, .inl v0)] := hl
  generalize s.heap = H at hS ⊢
  unfold fJ9_valueOf at h
  refine g_getsZ (C := "java/lang/String") (n := "COMPACT_STRINGS") (d := "Z") (v := .int 1) hx hb hown (hKn.2.2.2.2.2.2.1 _ (List.mem_of_getElem? (i := 5) rfl)) hS (hts _ q345) (fun _ z => z) dJ9_valueOf_0 ?_
  refine lv_if_eq (tgt := 26) hx hb dJ9_valueOf_3 (by decide) (fun c_3 => ?_) (fun c_3 => ?_)
  · have h := g_ift c_3 h
    exact sJ9_valueOf_b26 C _ _ _ h _ _ _ _ _ hS (gls_sub hl [0] rfl)
  · have h := g_iff c_3 h
    refine g_iload_n hx hb hl 0 rfl dJ9_valueOf_6 ?_
    obtain ⟨z7, h7, h⟩ := g_bnd h
    refine g_callS (n := 1) (av := [.inl v0]) (rs := []) hx hb hml hown hts hKn hRc hRs hS hl (sJ15_canEncode l E D h7) (lw_S q1222 q1144 q131 q1145) ⟨by decide, by decide, by decide +kernel⟩ ⟨by rw [hRf]; exact Nat.le_of_ble_eq_true rfl, by rw [hRl]; exact Nat.le_of_ble_eq_true rfl⟩ rfl rfl (Nat.le_of_ble_eq_true rfl) dJ9_valueOf_7 (fun H locs cells slots hS => ?_)
    refine lv_if_eq (tgt := 26) hx hb dJ9_valueOf_10 (by decide) (fun c_10 => ?_) (fun c_10 => ?_)
    · have h := g_ift c_10 h
      exact sJ9_valueOf_b26 C _ _ _ h _ _ _ _ _ hS (gls_sub hl [0] rfl)
    · have h := g_iff c_10 h
      refine g_newG (k := 19) hx hb hown hts hKn hRc hRs hS h (by decide) (by decide) (hts _ q1223) (hts _ q410) (hts _ q124) dJ9_valueOf_13 (fun z13 h H locs cells slots hS => ?_)
      refine lv_dup hx hb dJ9_valueOf_16 (by first | exact va_rf_cat _ | rfl | exact g_catA _) ?_
      refine g_iload_n hx hb hl 0 rfl dJ9_valueOf_17 ?_
      obtain ⟨z18, h18, h⟩ := g_bnd h
      refine g_callS (n := 1) (av := [.inl v0]) (rs := [.inr (.inr (some z13.1)), .inr (.inr (some z13.1))]) hx hb hml hown hts hKn hRc hRs hS hl (sJ15_toBytes l E D h18) (lw_S q1224 q1225 q131 q1226) ⟨by decide, by decide, by decide +kernel⟩ ⟨by rw [hRf]; exact Nat.le_of_ble_eq_true rfl, by rw [hRl]; exact Nat.le_of_ble_eq_true rfl⟩ rfl rfl (Nat.le_of_ble_eq_true rfl) dJ9_valueOf_18 (fun H locs cells slots hS => ?_)
      refine lv_iconst (v := 0) hx hb dJ9_valueOf_21 (by decide) ?_
      obtain ⟨z22, h22, h⟩ := g_bnd h
      refine g_callI (n := 2) (av := [.inr (.inr z18.1), .inl 0]) (rs := [.inr (.inr (some z13.1))]) hx hb hml hown hts hKn hRc hRs hS hl (sJ9_init_3 l E D h22) (lw_meth q1229) (hts _ q124) (hts _ q1227) (hts _ q1228) rfl ⟨by decide, by decide, by decide +kernel⟩ ⟨by rw [hRf]; exact Nat.le_of_ble_eq_true rfl, by rw [hRl]; exact Nat.le_of_ble_eq_true rfl⟩ rfl rfl (Nat.le_of_ble_eq_true rfl) dJ9_valueOf_22 (fun H locs cells slots hS => ?_)
      exact g_aretG hx hb hr (by first | exact Or.inl ⟨_, rfl⟩ | exact Or.inr ⟨_, rfl⟩) hlk hKn hRc hRs hS h dJ9_valueOf_25
/-- SendHall$Constant.<init>(I)V -/
def fX10_init (E : g_E) (t : Nat) (v1 : Int32) (G : g_G) : Option (g_G) :=
  (gpI E G 8 8 (some t) 0 v1).bind fun G6 =>
  some G6
theorem sX10_init (l : Launch) (E : g_E) (D : g_D) {t : Nat} {v1 : Int32} {G : g_G} {q : g_G} (h : fX10_init E t v1 G = some q) : gMet l E D yX10_init (ws_ yX10_init cX10_init 2 (none)) 1 64 [.inr (.inr (some t)), .inl v1] G none q := by
  refine gMet.of (by decide +kernel) (Nat.le_of_ble_eq_true rfl) ?_
  intro p e R s m args below meth c C hS ls hl
  have C : gC p R s m args meth c cX10_init 2 RX10 "<init>" (none) 1 64 E D := C
  obtain ⟨hx, hb, hml, hown, hts, hKn, hRc, hRs, hc1, hc2, hRf, hRl, hr, hlk, hnm⟩ := id C
  have hl : gls ls 2 [(0, .inr (.inr (some t))), (1, .inl v1)] := hl
  generalize s.heap = H at hS ⊢
  unfold fX10_init at h
  refine g_aload_n hx hb hl 0 rfl dX10_init_0 ?_
  refine g_objInit (rs := []) hx hb hml hown hl (hts _ q1496) (hts _ q162) (hts _ q163) rfl dX10_init_1 ⟨by rw [hRf]; exact Nat.le_of_ble_eq_true rfl, by rw [hRl]; exact Nat.le_of_ble_eq_true rfl⟩ ?_
  refine g_aload_n hx hb hl 0 rfl dX10_init_4 ?_
  refine g_iload_n hx hb hl 1 rfl dX10_init_5 ?_
  refine g_ptI hx hb hown hts hKn hS h fd_8_8_0 (Or.inl (hts _ q1497)) (fun _ z => z) (fun _ => ⟨hnm, rfl⟩) dX10_init_6 (fun G6 h H locs hS => ?_)
  exact g_vretG hx hb hr hlk hKn hRc hRs hS h dX10_init_9
/-- SendHall$Constant.value(LSendHall$Life;I)I -/
def fX10_value (E : g_E) (t : Nat) (v1 : Option Nat) (v2 : Int32) (G : g_G) : Option (Int32 × g_G) :=
  (grI G 8 8 (some t) 0).bind fun x1 =>
  some (x1, G)
theorem sX10_value (l : Launch) (E : g_E) (D : g_D) {t : Nat} {v1 : Option Nat} {v2 : Int32} {G : g_G} {q : Int32 × g_G} (h : fX10_value E t v1 v2 G = some q) : gMet l E D yX10_value (ws_ yX10_value cX10_value 3 (some .int)) 1 64 [.inr (.inr (some t)), .inr (.inr v1), .inl v2] G (some (.int q.1)) q.2 := by
  refine gMet.of (by decide +kernel) (Nat.le_of_ble_eq_true rfl) ?_
  intro p e R s m args below meth c C hS ls hl
  have C : gC p R s m args meth c cX10_value 3 RX10 "value" (some .int) 1 64 E D := C
  obtain ⟨hx, hb, hml, hown, hts, hKn, hRc, hRs, hc1, hc2, hRf, hRl, hr, hlk, hnm⟩ := id C
  have hl : gls ls 3 [(0, .inr (.inr (some t))), (1, .inr (.inr v1)), (2, .inl v2)] := hl
  generalize s.heap = H at hS ⊢
  unfold fX10_value at h
  refine g_aload_n hx hb hl 0 rfl dX10_value_0 ?_
  refine g_rdI hx hb hown hts hKn hS h fd_8_8_0 rfl (Or.inl (hts _ q1497)) (fun _ z => z) dX10_value_1 (fun x1 h => ?_)
  exact g_iretG hx hb hr hlk hKn hRc hRs hS h dX10_value_4
/-- SendHall$Row.works(ICI)I -/
def fX11_works (E : g_E) (v0 : Int32) (v1 : Int32) (v2 : Int32) (G : g_G) : Option (Int32 × g_G) :=
  if v1 = 42 then (
    some ((v0 * v2), G))
  else
  if v1 = 43 then (
    some ((v0 + v2), G))
  else
  if v1 = 45 then (
    some ((v0 - v2), G))
  else
  if v1 = 47 then (
    if ¬ v2 = 0 then (
      if v2 = 0 then none else
      some ((v0 / v2), G))
    else (
      some (0, G)))
  else
  if v1 = 60 then (
    if v2 ≤ v0 then (
      some (0, G))
    else (
      some (1, G)))
  else
  (
    if ¬ v0 = v2 then (
      some (0, G))
    else (
      some (1, G)))
theorem sX11_works (l : Launch) (E : g_E) (D : g_D) {v0 : Int32} {v1 : Int32} {v2 : Int32} {G : g_G} {q : Int32 × g_G} (h : fX11_works E v0 v1 v2 G = some q) : gMet l E D yX11_works (ws_ yX11_works cX11_works 3 (some .int)) 1 64 [.inl v0, .inl v1, .inl v2] G (some (.int q.1)) q.2 := by
  refine gMet.of (by decide +kernel) (Nat.le_of_ble_eq_true rfl) ?_
  intro p e R s m args below meth c C hS ls hl
  have C : gC p R s m args meth c cX11_works 3 RX11 "works" (some .int) 1 64 E D := C
  obtain ⟨hx, hb, hml, hown, hts, hKn, hRc, hRs, hc1, hc2, hRf, hRl, hr, hlk, hnm⟩ := id C
  have hl : gls ls 3 [(0, .inl v0), (1, .inl v1), (2, .inl v2)] := hl
  generalize s.heap = H at hS ⊢
  unfold fX11_works at h
  refine g_iload_n hx hb hl 1 rfl dX11_works_0 ?_
  by_cases w1_0 : v1 = 42
  · refine lv_lookup (tgt := 60) (off := 59) hx hb dX11_works_1 (by decide) (by rw [w1_0]; decide) (by decide) ?_
    have h := g_ift w1_0 h
    refine g_iload_n hx hb hl 0 rfl dX11_works_60 ?_
    refine g_iload_n hx hb hl 2 rfl dX11_works_61 ?_
    refine lv_imul hx hb dX11_works_62 ?_
    exact g_iretG hx hb hr hlk hKn hRc hRs hS h dX11_works_63
  have h := g_iff w1_0 h
  by_cases w1_1 : v1 = 43
  · refine lv_lookup (tgt := 52) (off := 51) hx hb dX11_works_1 (by decide) (by rw [w1_1]; decide) (by decide) ?_
    have h := g_ift w1_1 h
    refine g_iload_n hx hb hl 0 rfl dX11_works_52 ?_
    refine g_iload_n hx hb hl 2 rfl dX11_works_53 ?_
    refine lv_iadd hx hb dX11_works_54 ?_
    exact g_iretG hx hb hr hlk hKn hRc hRs hS h dX11_works_55
  have h := g_iff w1_1 h
  by_cases w1_2 : v1 = 45
  · refine lv_lookup (tgt := 56) (off := 55) hx hb dX11_works_1 (by decide) (by rw [w1_2]; decide) (by decide) ?_
    have h := g_ift w1_2 h
    refine g_iload_n hx hb hl 0 rfl dX11_works_56 ?_
    refine g_iload_n hx hb hl 2 rfl dX11_works_57 ?_
    refine lv_isub hx hb dX11_works_58 ?_
    exact g_iretG hx hb hr hlk hKn hRc hRs hS h dX11_works_59
  have h := g_iff w1_2 h
  by_cases w1_3 : v1 = 47
  · refine lv_lookup (tgt := 64) (off := 63) hx hb dX11_works_1 (by decide) (by rw [w1_3]; decide) (by decide) ?_
    have h := g_ift w1_3 h
    refine g_iload_n hx hb hl 2 rfl dX11_works_64 ?_
    refine lv_if_ne (tgt := 72) hx hb dX11_works_65 (by decide) (fun c_65 => ?_) (fun c_65 => ?_)
    · have h := g_ift c_65 h
      refine g_iload_n hx hb hl 0 rfl dX11_works_72 ?_
      refine g_iload_n hx hb hl 2 rfl dX11_works_73 ?_
      by_cases hz74 : v2 = 0
      · exact g_no (g_ift hz74 h)
      have h := g_iff hz74 h
      refine lv_idiv hx hb dX11_works_74 hz74 ?_
      exact g_iretG hx hb hr hlk hKn hRc hRs hS h dX11_works_75
    · have h := g_iff (fun z => z c_65) h
      refine lv_iconst (v := 0) hx hb dX11_works_68 (by decide) ?_
      refine lv_goto (tgt := 75) hx hb dX11_works_69 (by decide) ?_
      exact g_iretG hx hb hr hlk hKn hRc hRs hS h dX11_works_75
  have h := g_iff w1_3 h
  by_cases w1_4 : v1 = 60
  · refine lv_lookup (tgt := 76) (off := 75) hx hb dX11_works_1 (by decide) (by rw [w1_4]; decide) (by decide) ?_
    have h := g_ift w1_4 h
    refine g_iload_n hx hb hl 0 rfl dX11_works_76 ?_
    refine g_iload_n hx hb hl 2 rfl dX11_works_77 ?_
    refine lv_icmp_ge (tgt := 85) hx hb dX11_works_78 (by decide) (fun c_78 => ?_) (fun c_78 => ?_)
    · have h := g_ift c_78 h
      refine lv_iconst (v := 0) hx hb dX11_works_85 (by decide) ?_
      exact g_iretG hx hb hr hlk hKn hRc hRs hS h dX11_works_86
    · have h := g_iff c_78 h
      refine lv_iconst (v := 1) hx hb dX11_works_81 (by decide) ?_
      refine lv_goto (tgt := 86) hx hb dX11_works_82 (by decide) ?_
      exact g_iretG hx hb hr hlk hKn hRc hRs hS h dX11_works_86
  have h := g_iff w1_4 h
  refine g_lookupD (tgt := 87) hx hb dX11_works_1 (by decide) [42, 43, 45, 47, 60] (by decide) (fun k hk => ?_) (by decide) ?_
  · simp only [List.mem_cons, List.not_mem_nil, or_false] at hk
    rcases hk with rfl | rfl | rfl | rfl | rfl
    · exact w1_0
    · exact w1_1
    · exact w1_2
    · exact w1_3
    · exact w1_4
  refine g_iload_n hx hb hl 0 rfl dX11_works_87 ?_
  refine g_iload_n hx hb hl 2 rfl dX11_works_88 ?_
  refine lv_icmp_ne (tgt := 96) hx hb dX11_works_89 (by decide) (fun c_89 => ?_) (fun c_89 => ?_)
  · have h := g_ift c_89 h
    refine lv_iconst (v := 0) hx hb dX11_works_96 (by decide) ?_
    exact g_iretG hx hb hr hlk hKn hRc hRs hS h dX11_works_97
  · have h := g_iff (fun z => z c_89) h
    refine lv_iconst (v := 1) hx hb dX11_works_92 (by decide) ?_
    refine lv_goto (tgt := 97) hx hb dX11_works_93 (by decide) ?_
    exact g_iretG hx hb hr hlk hKn hRc hRs hS h dX11_works_97
/-- SendHall$Value.<init>(I)V -/
def fX12_init (E : g_E) (t : Nat) (v1 : Int32) (G : g_G) : Option (g_G) :=
  (gpI E G 10 10 (some t) 0 v1).bind fun G6 =>
  some G6
theorem sX12_init (l : Launch) (E : g_E) (D : g_D) {t : Nat} {v1 : Int32} {G : g_G} {q : g_G} (h : fX12_init E t v1 G = some q) : gMet l E D yX12_init (ws_ yX12_init cX12_init 2 (none)) 1 64 [.inr (.inr (some t)), .inl v1] G none q := by
  refine gMet.of (by decide +kernel) (Nat.le_of_ble_eq_true rfl) ?_
  intro p e R s m args below meth c C hS ls hl
  have C : gC p R s m args meth c cX12_init 2 RX12 "<init>" (none) 1 64 E D := C
  obtain ⟨hx, hb, hml, hown, hts, hKn, hRc, hRs, hc1, hc2, hRf, hRl, hr, hlk, hnm⟩ := id C
  have hl : gls ls 2 [(0, .inr (.inr (some t))), (1, .inl v1)] := hl
  generalize s.heap = H at hS ⊢
  unfold fX12_init at h
  refine g_aload_n hx hb hl 0 rfl dX12_init_0 ?_
  refine g_objInit (rs := []) hx hb hml hown hl (hts _ q1573) (hts _ q162) (hts _ q163) rfl dX12_init_1 ⟨by rw [hRf]; exact Nat.le_of_ble_eq_true rfl, by rw [hRl]; exact Nat.le_of_ble_eq_true rfl⟩ ?_
  refine g_aload_n hx hb hl 0 rfl dX12_init_4 ?_
  refine g_iload_n hx hb hl 1 rfl dX12_init_5 ?_
  refine g_ptI hx hb hown hts hKn hS h fd_10_10_0 (Or.inl (hts _ q1574)) (fun _ z => z) (fun _ => ⟨hnm, rfl⟩) dX12_init_6 (fun G6 h H locs hS => ?_)
  exact g_vretG hx hb hr hlk hKn hRc hRs hS h dX12_init_9
/-- SendHall$Value.value(LSendHall$Life;I)I -/
def fX12_value (E : g_E) (t : Nat) (v1 : Option Nat) (v2 : Int32) (G : g_G) : Option (Int32 × g_G) :=
  (grI G 10 10 (some t) 0).bind fun x1 =>
  if (4 : Int32) ≤ x1 then (
    (grI G 10 10 (some t) 0).bind fun x25 =>
    if ¬ x25 = (4 : Int32) then (
      (grI G 10 10 (some t) 0).bind fun x37 =>
      if ¬ x37 = (5 : Int32) then (
        (grR G 3 3 v1 6).bind fun x52 =>
        (gaI G 100 x52 v2).bind fun x56 =>
        some (x56, G))
      else (
        (grI G 3 3 v1 0).bind fun x45 =>
        some (x45, G)))
    else (
      some (v2, G)))
  else (
    (grR G 3 3 v1 5).bind fun x9 =>
    (grI G 10 10 (some t) 0).bind fun x16 =>
    (gaI G 100 x9 ((4 * v2) + x16)).bind fun x20 =>
    some (x20, G))
theorem sX12_value (l : Launch) (E : g_E) (D : g_D) {t : Nat} {v1 : Option Nat} {v2 : Int32} {G : g_G} {q : Int32 × g_G} (h : fX12_value E t v1 v2 G = some q) : gMet l E D yX12_value (ws_ yX12_value cX12_value 3 (some .int)) 1 64 [.inr (.inr (some t)), .inr (.inr v1), .inl v2] G (some (.int q.1)) q.2 := by
  refine gMet.of (by decide +kernel) (Nat.le_of_ble_eq_true rfl) ?_
  intro p e R s m args below meth c C hS ls hl
  have C : gC p R s m args meth c cX12_value 3 RX12 "value" (some .int) 1 64 E D := C
  obtain ⟨hx, hb, hml, hown, hts, hKn, hRc, hRs, hc1, hc2, hRf, hRl, hr, hlk, hnm⟩ := id C
  have hl : gls ls 3 [(0, .inr (.inr (some t))), (1, .inr (.inr v1)), (2, .inl v2)] := hl
  generalize s.heap = H at hS ⊢
  unfold fX12_value at h
  refine g_aload_n hx hb hl 0 rfl dX12_value_0 ?_
  refine g_rdI hx hb hown hts hKn hS h fd_10_10_0 rfl (Or.inl (hts _ q1574)) (fun _ z => z) dX12_value_1 (fun x1 h => ?_)
  refine lv_iconst (v := 4) hx hb dX12_value_4 (by decide) ?_
  refine lv_icmp_ge (tgt := 24) hx hb dX12_value_5 (by decide) (fun c_5 => ?_) (fun c_5 => ?_)
  · have h := g_ift c_5 h
    refine g_aload_n hx hb hl 0 rfl dX12_value_24 ?_
    refine g_rdI hx hb hown hts hKn hS h fd_10_10_0 rfl (Or.inl (hts _ q1574)) (fun _ z => z) dX12_value_25 (fun x25 h => ?_)
    refine lv_iconst (v := 4) hx hb dX12_value_28 (by decide) ?_
    refine lv_icmp_ne (tgt := 36) hx hb dX12_value_29 (by decide) (fun c_29 => ?_) (fun c_29 => ?_)
    · have h := g_ift c_29 h
      refine g_aload_n hx hb hl 0 rfl dX12_value_36 ?_
      refine g_rdI hx hb hown hts hKn hS h fd_10_10_0 rfl (Or.inl (hts _ q1574)) (fun _ z => z) dX12_value_37 (fun x37 h => ?_)
      refine lv_iconst (v := 5) hx hb dX12_value_40 (by decide) ?_
      refine lv_icmp_ne (tgt := 51) hx hb dX12_value_41 (by decide) (fun c_41 => ?_) (fun c_41 => ?_)
      · have h := g_ift c_41 h
        refine g_aload_n hx hb hl 1 rfl dX12_value_51 ?_
        refine g_rdR hx hb hown hts hKn hS h fd_3_3_6 rfl (Or.inr ⟨_, gNest_use rfl (hKn.2.2.2.2.1 _ (gNest_in q556 rfl))⟩) (fun _ z => z) dX12_value_52 (fun x52 h => ?_)
        refine g_iload_n hx hb hl 2 rfl dX12_value_55 ?_
        refine g_ialoadG hx hb hKn hS h dX12_value_56 (fun x56 h => ?_)
        exact g_iretG hx hb hr hlk hKn hRc hRs hS h dX12_value_57
      · have h := g_iff (fun z => z c_41) h
        refine g_aload_n hx hb hl 1 rfl dX12_value_44 ?_
        refine g_rdI hx hb hown hts hKn hS h fd_3_3_0 rfl (Or.inr ⟨_, gNest_use rfl (hKn.2.2.2.2.1 _ (gNest_in q539 rfl))⟩) (fun _ z => z) dX12_value_45 (fun x45 h => ?_)
        refine lv_goto (tgt := 57) hx hb dX12_value_48 (by decide) ?_
        exact g_iretG hx hb hr hlk hKn hRc hRs hS h dX12_value_57
    · have h := g_iff (fun z => z c_29) h
      refine g_iload_n hx hb hl 2 rfl dX12_value_32 ?_
      refine lv_goto (tgt := 57) hx hb dX12_value_33 (by decide) ?_
      exact g_iretG hx hb hr hlk hKn hRc hRs hS h dX12_value_57
  · have h := g_iff c_5 h
    refine g_aload_n hx hb hl 1 rfl dX12_value_8 ?_
    refine g_rdR hx hb hown hts hKn hS h fd_3_3_5 rfl (Or.inr ⟨_, gNest_use rfl (hKn.2.2.2.2.1 _ (gNest_in q552 rfl))⟩) (fun _ z => z) dX12_value_9 (fun x9 h => ?_)
    refine lv_iconst (v := 4) hx hb dX12_value_12 (by decide) ?_
    refine g_iload_n hx hb hl 2 rfl dX12_value_13 ?_
    refine lv_imul hx hb dX12_value_14 ?_
    refine g_aload_n hx hb hl 0 rfl dX12_value_15 ?_
    refine g_rdI hx hb hown hts hKn hS h fd_10_10_0 rfl (Or.inl (hts _ q1574)) (fun _ z => z) dX12_value_16 (fun x16 h => ?_)
    refine lv_iadd hx hb dX12_value_19 ?_
    refine g_ialoadG hx hb hKn hS h dX12_value_20 (fun x20 h => ?_)
    refine lv_goto (tgt := 57) hx hb dX12_value_21 (by decide) ?_
    exact g_iretG hx hb hr hlk hKn hRc hRs hS h dX12_value_57
/-- SendHall$Ending.<init>()V -/
def fX18_init (E : g_E) (t : Nat) (G : g_G) : Option (g_G) :=
  (gnewA E G 100 8).bind fun z7 =>
  (gpR E z7.2 7 7 (some t) 3 (some z7.1)).bind fun G9 =>
  some G9
theorem sX18_init (l : Launch) (E : g_E) (D : g_D) {t : Nat} {G : g_G} {q : g_G} (h : fX18_init E t G = some q) : gMet l E D yX18_init (ws_ yX18_init cX18_init 1 (none)) 1 64 [.inr (.inr (some t))] G none q := by
  refine gMet.of (by decide +kernel) (Nat.le_of_ble_eq_true rfl) ?_
  intro p e R s m args below meth c C hS ls hl
  have C : gC p R s m args meth c cX18_init 1 RX18 "<init>" (none) 1 64 E D := C
  obtain ⟨hx, hb, hml, hown, hts, hKn, hRc, hRs, hc1, hc2, hRf, hRl, hr, hlk, hnm⟩ := id C
  have hl : gls ls 1 [(0, .inr (.inr (some t)))] := hl
  generalize s.heap = H at hS ⊢
  unfold fX18_init at h
  refine g_aload_n hx hb hl 0 rfl dX18_init_0 ?_
  refine g_objInit (rs := []) hx hb hml hown hl (hts _ q967) (hts _ q162) (hts _ q163) rfl dX18_init_1 ⟨by rw [hRf]; exact Nat.le_of_ble_eq_true rfl, by rw [hRl]; exact Nat.le_of_ble_eq_true rfl⟩ ?_
  refine g_aload_n hx hb hl 0 rfl dX18_init_4 ?_
  refine lv_bipush (v := 8) hx hb dX18_init_5 (by decide) ?_
  refine g_newaG (k := 100) (atype := .int) hx hb hKn hRc hRs hS h (by decide) rfl (hts _ q596) dX18_init_7 (fun z7 h H locs cells slots hS => ?_)
  refine g_ptR hx hb hown hts hKn hS h fd_7_7_3 rfl (Or.inl (hts _ q974)) (fun _ z => z) (fun _ => ⟨hnm, rfl⟩) dX18_init_9 (fun G9 h H locs hS => ?_)
  exact g_vretG hx hb hr hlk hKn hRc hRs hS h dX18_init_12
