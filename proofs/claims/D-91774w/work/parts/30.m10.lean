set_option maxRecDepth 100000
/-- java/lang/AbstractStringBuilder.append(C)Ljava/lang/AbstractStringBuilder; -/
def fJ7_append_3_b45 (E : g_E) (t : Nat) (v1 : Int32) (G : g_G) : Option (Option Nat × g_G) :=
  (gchk G 18 (some t)).bind fun b46 =>
  (fJ7_isLatin1 E b46 G).bind fun z46 =>
  if z46.1 = 0 then (
    (grR z46.2 18 18 (some t) 0).bind fun x57 =>
    (grI z46.2 18 18 (some t) 3).bind fun x62 =>
    (gpI E z46.2 18 18 (some t) 3 (x62 + 1)).bind fun G68 =>
    none)
  else (
    none)
def fJ7_append_3 (E : g_E) (t : Nat) (v1 : Int32) (G : g_G) : Option (Option Nat × g_G) :=
  (grI G 18 18 (some t) 3).bind fun x2 =>
  (gchk G 18 (some t)).bind fun b7 =>
  (fJ7_ensureCapacityInternal E b7 (x2 + 1) G).bind fun z7 =>
  (gchk z7 18 (some t)).bind fun b11 =>
  (fJ7_isLatin1 E b11 z7).bind fun z11 =>
  if z11.1 = 0 then (
    fJ7_append_3_b45 E t v1 z11.2)
  else (
    (fJ15_canEncode E v1 z11.2).bind fun z18 =>
    if z18.1 = 0 then (
      fJ7_append_3_b45 E t v1 z18.2)
    else (
      (grR z18.2 18 18 (some t) 0).bind fun x25 =>
      (grI z18.2 18 18 (some t) 3).bind fun x30 =>
      (gpI E z18.2 18 18 (some t) 3 (x30 + 1)).bind fun G36 =>
      (gsaB E G36 x25 x30 (Int8.toInt32 (Int32.toInt8 v1))).bind fun G41 =>
      some ((some t), G41)))
theorem sJ7_append_3_b45 {p : Program} {l : Launch} {e : Env} {R : Room} {s : State} {m : MethodId} {args : Array Value} {below : List Frame} {meth : Method} {c : Code} {E : g_E} {D : g_D} (C : gC p R s m args meth c cJ7_append_3 2 RJ7 "append" (some (.object "java/lang/AbstractStringBuilder")) 2 86 E D) : ∀ (t : Nat) (v1 : Int32) (G : g_G) (q : Option Nat × g_G), fJ7_append_3_b45 E t v1 G = some q → ∀ (H : Heap) (locs : List Loc) (cells slots : Nat) (ls : Array Slot), gSt E D G H locs → gls ls 2 [(0, .inr (.inr (some t))), (1, .inl v1)] → gT p l e R s m args below meth c E D H locs cells slots (some (va_rf q.1)) q.2 (F0 m 45 ls []) := by
  obtain ⟨hx, hb, hml, hown, hts, hKn, hRc, hRs, hc1, hc2, hRf, hRl, hr, hlk, hnm⟩ := id C
  intro t v1 G q h H locs cells slots ls hS hl
  unfold fJ7_append_3_b45 at h
  refine g_aload_n hx hb hl 0 rfl dJ7_append_3_45 ?_
  obtain ⟨b46, hb46, h⟩ := g_bnd h
  obtain ⟨hr46, hk46⟩ := g_chk hb46
  obtain ⟨z46, h46, h⟩ := g_bnd h
  refine g_callU (n := 0) (b := b46) (av := []) (rs := []) hx hb hml hown hts hKn hRc hRs hS hl (C := "java/lang/StringBuilder") (owner := "java/lang/AbstractStringBuilder") (x := ⟨"java/lang/AbstractStringBuilder", "isLatin1", "()Z"⟩) (sJ7_isLatin1 l E D h46) (va_cwU 0 hts (lw_app (lw_in _ [306, 308, 309, 307, 122] (by decide +kernel) (by decide +kernel)) (lw_meth q310)) rfl rfl rfl rfl ⟨by decide, by decide, by decide +kernel⟩ ⟨by rw [hRf]; exact Nat.le_of_ble_eq_true rfl, by rw [hRl]; exact Nat.le_of_ble_eq_true rfl⟩) (g_recv hKn hS hk46 (by decide) (by decide)) rfl (by rw [hr46]; rfl) (Nat.le_of_ble_eq_true rfl) dJ7_append_3_46 (fun H locs cells slots hS => ?_)
  refine lv_if_eq (tgt := 56) hx hb dJ7_append_3_49 (by decide) (fun c_49 => ?_) (fun c_49 => ?_)
  · have h := g_ift c_49 h
    refine g_aload_n hx hb hl 0 rfl dJ7_append_3_56 ?_
    refine g_rdR hx hb hown hts hKn hS h fd_18_18_0 rfl (Or.inl (hts _ q245)) (fun _ z => z) dJ7_append_3_57 (fun x57 h => ?_)
    refine g_aload_n hx hb hl 0 rfl dJ7_append_3_60 ?_
    refine lv_dup hx hb dJ7_append_3_61 (by first | exact va_rf_cat _ | rfl | exact g_catA _) ?_
    refine g_rdI hx hb hown hts hKn hS h fd_18_18_3 rfl (Or.inl (hts _ q248)) (fun _ z => z) dJ7_append_3_62 (fun x62 h => ?_)
    refine lv_dup_x1 hx hb dJ7_append_3_65 rfl (by first | exact va_rf_cat _ | rfl | exact g_catA _) ?_
    refine lv_iconst (v := 1) hx hb dJ7_append_3_66 (by decide) ?_
    refine lv_iadd hx hb dJ7_append_3_67 ?_
    refine g_ptI hx hb hown hts hKn hS h fd_18_18_3 (Or.inl (hts _ q248)) (fun _ z => z) (fun z => nomatch z) dJ7_append_3_68 (fun G68 h H locs hS => ?_)
    refine g_iload_n hx hb hl 1 rfl dJ7_append_3_71 ?_
    exact g_no h
  · have h := g_iff c_49 h
    refine g_aload_n hx hb hl 0 rfl dJ7_append_3_52 ?_
    exact g_no h
theorem sJ7_append_3 (l : Launch) (E : g_E) (D : g_D) {t : Nat} {v1 : Int32} {G : g_G} {q : Option Nat × g_G} (h : fJ7_append_3 E t v1 G = some q) : gMet l E D yJ7_append_3 (ws_ yJ7_append_3 cJ7_append_3 2 (some (.object "java/lang/AbstractStringBuilder"))) 2 86 [.inr (.inr (some t)), .inl v1] G (some (va_rf q.1)) q.2 := by
  refine gMet.of (by decide +kernel) (Nat.le_of_ble_eq_true rfl) ?_
  intro p e R s m args below meth c C hS ls hl
  have C : gC p R s m args meth c cJ7_append_3 2 RJ7 "append" (some (.object "java/lang/AbstractStringBuilder")) 2 86 E D := C
  obtain ⟨hx, hb, hml, hown, hts, hKn, hRc, hRs, hc1, hc2, hRf, hRl, hr, hlk, hnm⟩ := id C
  have hl : gls ls 2 [(0, .inr (.inr (some t))), (1, .inl v1)] := hl
  generalize s.heap = H at hS ⊢
  unfold fJ7_append_3 at h
  refine g_aload_n hx hb hl 0 rfl dJ7_append_3_0 ?_
  refine g_aload_n hx hb hl 0 rfl dJ7_append_3_1 ?_
  refine g_rdI hx hb hown hts hKn hS h fd_18_18_3 rfl (Or.inl (hts _ q248)) (fun _ z => z) dJ7_append_3_2 (fun x2 h => ?_)
  refine lv_iconst (v := 1) hx hb dJ7_append_3_5 (by decide) ?_
  refine lv_iadd hx hb dJ7_append_3_6 ?_
  obtain ⟨b7, hb7, h⟩ := g_bnd h
  obtain ⟨hr7, hk7⟩ := g_chk hb7
  obtain ⟨z7, h7, h⟩ := g_bnd h
  refine g_callU (n := 1) (b := b7) (av := [.inl (x2 + 1)]) (rs := []) hx hb hml hown hts hKn hRc hRs hS hl (C := "java/lang/StringBuilder") (owner := "java/lang/AbstractStringBuilder") (x := ⟨"java/lang/AbstractStringBuilder", "ensureCapacityInternal", "(I)V"⟩) (sJ7_ensureCapacityInternal l E D h7) (g_cwUP 1 hts (lw_meth q274) (hts _ q271) (hts _ q2449) (va_any rfl (hKn.2.2.2.2.2.2.2.2.2.2.2.2.1 _ (List.mem_cons_self))) (hts _ q273) (hts _ q122) rfl rfl ⟨by decide, by decide, by decide +kernel⟩ ⟨by rw [hRf]; exact Nat.le_of_ble_eq_true rfl, by rw [hRl]; exact Nat.le_of_ble_eq_true rfl⟩) (g_recv hKn hS hk7 (by decide) (by decide)) rfl (by rw [hr7]; rfl) (Nat.le_of_ble_eq_true rfl) dJ7_append_3_7 (fun H locs cells slots hS => ?_)
  refine g_aload_n hx hb hl 0 rfl dJ7_append_3_10 ?_
  obtain ⟨b11, hb11, h⟩ := g_bnd h
  obtain ⟨hr11, hk11⟩ := g_chk hb11
  obtain ⟨z11, h11, h⟩ := g_bnd h
  refine g_callU (n := 0) (b := b11) (av := []) (rs := []) hx hb hml hown hts hKn hRc hRs hS hl (C := "java/lang/StringBuilder") (owner := "java/lang/AbstractStringBuilder") (x := ⟨"java/lang/AbstractStringBuilder", "isLatin1", "()Z"⟩) (sJ7_isLatin1 l E D h11) (va_cwU 0 hts (lw_app (lw_in _ [306, 308, 309, 307, 122] (by decide +kernel) (by decide +kernel)) (lw_meth q310)) rfl rfl rfl rfl ⟨by decide, by decide, by decide +kernel⟩ ⟨by rw [hRf]; exact Nat.le_of_ble_eq_true rfl, by rw [hRl]; exact Nat.le_of_ble_eq_true rfl⟩) (g_recv hKn hS hk11 (by decide) (by decide)) rfl (by rw [hr11]; rfl) (Nat.le_of_ble_eq_true rfl) dJ7_append_3_11 (fun H locs cells slots hS => ?_)
  refine lv_if_eq (tgt := 45) hx hb dJ7_append_3_14 (by decide) (fun c_14 => ?_) (fun c_14 => ?_)
  · have h := g_ift c_14 h
    exact sJ7_append_3_b45 C _ _ _ _ h _ _ _ _ _ hS (gls_sub hl [0, 1] rfl)
  · have h := g_iff c_14 h
    refine g_iload_n hx hb hl 1 rfl dJ7_append_3_17 ?_
    obtain ⟨z18, h18, h⟩ := g_bnd h
    refine g_callS (n := 1) (av := [.inl v1]) (rs := []) hx hb hml hown hts hKn hRc hRs hS hl (sJ15_canEncode l E D h18) (lw_S q1143 q1144 q131 q1145) ⟨by decide, by decide, by decide +kernel⟩ ⟨by rw [hRf]; exact Nat.le_of_ble_eq_true rfl, by rw [hRl]; exact Nat.le_of_ble_eq_true rfl⟩ rfl rfl (Nat.le_of_ble_eq_true rfl) dJ7_append_3_18 (fun H locs cells slots hS => ?_)
    refine lv_if_eq (tgt := 45) hx hb dJ7_append_3_21 (by decide) (fun c_21 => ?_) (fun c_21 => ?_)
    · have h := g_ift c_21 h
      exact sJ7_append_3_b45 C _ _ _ _ h _ _ _ _ _ hS (gls_sub hl [0, 1] rfl)
    · have h := g_iff c_21 h
      refine g_aload_n hx hb hl 0 rfl dJ7_append_3_24 ?_
      refine g_rdR hx hb hown hts hKn hS h fd_18_18_0 rfl (Or.inl (hts _ q245)) (fun _ z => z) dJ7_append_3_25 (fun x25 h => ?_)
      refine g_aload_n hx hb hl 0 rfl dJ7_append_3_28 ?_
      refine lv_dup hx hb dJ7_append_3_29 (by first | exact va_rf_cat _ | rfl | exact g_catA _) ?_
      refine g_rdI hx hb hown hts hKn hS h fd_18_18_3 rfl (Or.inl (hts _ q248)) (fun _ z => z) dJ7_append_3_30 (fun x30 h => ?_)
      refine lv_dup_x1 hx hb dJ7_append_3_33 rfl (by first | exact va_rf_cat _ | rfl | exact g_catA _) ?_
      refine lv_iconst (v := 1) hx hb dJ7_append_3_34 (by decide) ?_
      refine lv_iadd hx hb dJ7_append_3_35 ?_
      refine g_ptI hx hb hown hts hKn hS h fd_18_18_3 (Or.inl (hts _ q248)) (fun _ z => z) (fun z => nomatch z) dJ7_append_3_36 (fun G36 h H locs hS => ?_)
      refine g_iload_n hx hb hl 1 rfl dJ7_append_3_39 ?_
      refine lv_i2b (v := (Int8.toInt32 (Int32.toInt8 v1))) hx hb dJ7_append_3_40 rfl ?_
      refine g_bastoreG hx hb hKn hS h dJ7_append_3_41 (fun G41 h H locs hS => ?_)
      refine lv_goto (tgt := 75) hx hb dJ7_append_3_42 (by decide) ?_
      refine g_aload_n hx hb hl 0 rfl dJ7_append_3_75 ?_
      exact g_aretG hx hb hr (by first | exact Or.inl ⟨_, rfl⟩ | exact Or.inr ⟨_, rfl⟩) hlk hKn hRc hRs hS h dJ7_append_3_76
/-- java/lang/StringBuilder.append(Ljava/lang/String;)Ljava/lang/StringBuilder; -/
def fJ8_append (E : g_E) (t : Nat) (v1 : Option Nat) (G : g_G) : Option (Option Nat × g_G) :=
  (gchk G 18 (some t)).bind fun b2 =>
  (fJ7_append E b2 v1 G).bind fun z2 =>
  some ((some t), z2.2)
theorem sJ8_append (l : Launch) (E : g_E) (D : g_D) {t : Nat} {v1 : Option Nat} {G : g_G} {q : Option Nat × g_G} (h : fJ8_append E t v1 G = some q) : gMet l E D yJ8_append (ws_ yJ8_append cJ8_append 2 (some (.object "java/lang/StringBuilder"))) 4 126 [.inr (.inr (some t)), .inr (.inr v1)] G (some (va_rf q.1)) q.2 := by
  refine gMet.of (by decide +kernel) (Nat.le_of_ble_eq_true rfl) ?_
  intro p e R s m args below meth c C hS ls hl
  have C : gC p R s m args meth c cJ8_append 2 RJ8 "append" (some (.object "java/lang/StringBuilder")) 4 126 E D := C
  obtain ⟨hx, hb, hml, hown, hts, hKn, hRc, hRs, hc1, hc2, hRf, hRl, hr, hlk, hnm⟩ := id C
  have hl : gls ls 2 [(0, .inr (.inr (some t))), (1, .inr (.inr v1))] := hl
  generalize s.heap = H at hS ⊢
  unfold fJ8_append at h
  refine g_aload_n hx hb hl 0 rfl dJ8_append_0 ?_
  refine g_aload_n hx hb hl 1 rfl dJ8_append_1 ?_
  obtain ⟨b2, hb2, h⟩ := g_bnd h
  obtain ⟨hr2, hk2⟩ := g_chk hb2
  obtain ⟨z2, h2, h⟩ := g_bnd h
  refine g_callSU (n := 1) (b := b2) (av := [.inr (.inr v1)]) (rs := []) hx hb hml hown hts hKn hRc hRs hS hl (C := "java/lang/StringBuilder") (hKn.obj (k := 18) (by decide) (by decide)).2 (sJ7_append l E D h2) (lw_app (lw_in _ [264, 2447, 257, 265, 122] (by decide +kernel) (by decide +kernel)) (lw_meth q266)) ⟨by decide, by decide +kernel⟩ ⟨by rw [hRf]; exact Nat.le_of_ble_eq_true rfl, by rw [hRl]; exact Nat.le_of_ble_eq_true rfl⟩ (g_recv hKn hS hk2 (by decide) (by decide)) rfl (by rw [hr2]; rfl) (Nat.le_of_ble_eq_true rfl) dJ8_append_2 (fun H locs cells slots hS => ?_)
  refine lv_pop hx hb dJ8_append_5 (by first | exact va_rf_cat _ | rfl | exact g_catA _) ?_
  refine g_aload_n hx hb hl 0 rfl dJ8_append_6 ?_
  exact g_aretG hx hb hr (by first | exact Or.inl ⟨_, rfl⟩ | exact Or.inr ⟨_, rfl⟩) hlk hKn hRc hRs hS h dJ8_append_7
/-- java/lang/StringBuilder.append(C)Ljava/lang/StringBuilder; -/
def fJ8_append_3 (E : g_E) (t : Nat) (v1 : Int32) (G : g_G) : Option (Option Nat × g_G) :=
  (gchk G 18 (some t)).bind fun b2 =>
  (fJ7_append_3 E b2 v1 G).bind fun z2 =>
  some ((some t), z2.2)
theorem sJ8_append_3 (l : Launch) (E : g_E) (D : g_D) {t : Nat} {v1 : Int32} {G : g_G} {q : Option Nat × g_G} (h : fJ8_append_3 E t v1 G = some q) : gMet l E D yJ8_append_3 (ws_ yJ8_append_3 cJ8_append_3 2 (some (.object "java/lang/StringBuilder"))) 3 107 [.inr (.inr (some t)), .inl v1] G (some (va_rf q.1)) q.2 := by
  refine gMet.of (by decide +kernel) (Nat.le_of_ble_eq_true rfl) ?_
  intro p e R s m args below meth c C hS ls hl
  have C : gC p R s m args meth c cJ8_append_3 2 RJ8 "append" (some (.object "java/lang/StringBuilder")) 3 107 E D := C
  obtain ⟨hx, hb, hml, hown, hts, hKn, hRc, hRs, hc1, hc2, hRf, hRl, hr, hlk, hnm⟩ := id C
  have hl : gls ls 2 [(0, .inr (.inr (some t))), (1, .inl v1)] := hl
  generalize s.heap = H at hS ⊢
  unfold fJ8_append_3 at h
  refine g_aload_n hx hb hl 0 rfl dJ8_append_3_0 ?_
  refine g_iload_n hx hb hl 1 rfl dJ8_append_3_1 ?_
  obtain ⟨b2, hb2, h⟩ := g_bnd h
  obtain ⟨hr2, hk2⟩ := g_chk hb2
  obtain ⟨z2, h2, h⟩ := g_bnd h
  refine g_callSU (n := 1) (b := b2) (av := [.inl v1]) (rs := []) hx hb hml hown hts hKn hRc hRs hS hl (C := "java/lang/StringBuilder") (hKn.obj (k := 18) (by decide) (by decide)).2 (sJ7_append_3 l E D h2) (lw_app (lw_in _ [1140, 2456, 257, 1141, 122] (by decide +kernel) (by decide +kernel)) (lw_meth q1142)) ⟨by decide, by decide +kernel⟩ ⟨by rw [hRf]; exact Nat.le_of_ble_eq_true rfl, by rw [hRl]; exact Nat.le_of_ble_eq_true rfl⟩ (g_recv hKn hS hk2 (by decide) (by decide)) rfl (by rw [hr2]; rfl) (Nat.le_of_ble_eq_true rfl) dJ8_append_3_2 (fun H locs cells slots hS => ?_)
  refine lv_pop hx hb dJ8_append_3_5 (by first | exact va_rf_cat _ | rfl | exact g_catA _) ?_
  refine g_aload_n hx hb hl 0 rfl dJ8_append_3_6 ?_
  exact g_aretG hx hb hr (by first | exact Or.inl ⟨_, rfl⟩ | exact Or.inr ⟨_, rfl⟩) hlk hKn hRc hRs hS h dJ8_append_3_7
/-- java/lang/String.charAt(I)C -/
def fJ9_charAt (E : g_E) (t : Nat) (v1 : Int32) (G : g_G) : Option (Int32 × g_G) :=
  (gchk G 19 (some t)).bind fun b1 =>
  (fJ9_isLatin1 E b1 G).bind fun z1 =>
  if z1.1 = 0 then (
    (grR z1.2 19 19 (some t) 0).bind fun x17 =>
    none)
  else (
    (grR z1.2 19 19 (some t) 0).bind fun x8 =>
    (fJ15_charAt E x8 v1 z1.2).bind fun z12 =>
    if (Int32.toUInt32 z12.1).toUInt16.toUInt32.toInt32 = z12.1 then some (z12.1, z12.2) else none)
theorem sJ9_charAt (l : Launch) (E : g_E) (D : g_D) {t : Nat} {v1 : Int32} {G : g_G} {q : Int32 × g_G} (h : fJ9_charAt E t v1 G = some q) : gMet l E D yJ9_charAt (ws_ yJ9_charAt cJ9_charAt 2 (some .char)) 4 128 [.inr (.inr (some t)), .inl v1] G (some (.int q.1)) q.2 := by
  refine gMet.of (by decide +kernel) (Nat.le_of_ble_eq_true rfl) ?_
  intro p e R s m args below meth c C hS ls hl
  have C : gC p R s m args meth c cJ9_charAt 2 RJ9 "charAt" (some .char) 4 128 E D := C
  obtain ⟨hx, hb, hml, hown, hts, hKn, hRc, hRs, hc1, hc2, hRf, hRl, hr, hlk, hnm⟩ := id C
  have hl : gls ls 2 [(0, .inr (.inr (some t))), (1, .inl v1)] := hl
  generalize s.heap = H at hS ⊢
  unfold fJ9_charAt at h
  refine g_aload_n hx hb hl 0 rfl dJ9_charAt_0 ?_
  obtain ⟨b1, hb1, h⟩ := g_bnd h
  obtain ⟨hr1, hk1⟩ := g_chk hb1
  obtain ⟨z1, h1, h⟩ := g_bnd h
  refine g_callV (n := 0) (b := b1) (av := []) (rs := []) hx hb hml hown hts hKn hRc hRs hS hl (sJ9_isLatin1 l E D h1) (lw_V q1173 q1174 q1175 q124 q1176) ⟨rfl, by decide, by decide, by decide +kernel⟩ ⟨by rw [hRf]; exact Nat.le_of_ble_eq_true rfl, by rw [hRl]; exact Nat.le_of_ble_eq_true rfl⟩ (g_recv hKn hS hk1 (by decide) (by decide)) rfl (by rw [hr1]; rfl) (Nat.le_of_ble_eq_true rfl) dJ9_charAt_1 (fun H locs cells slots hS => ?_)
  refine lv_if_eq (tgt := 16) hx hb dJ9_charAt_4 (by decide) (fun c_4 => ?_) (fun c_4 => ?_)
  · have h := g_ift c_4 h
    refine g_aload_n hx hb hl 0 rfl dJ9_charAt_16 ?_
    refine g_rdR hx hb hown hts hKn hS h fd_19_19_0 rfl (Or.inl (hts _ q486)) (fun _ z => z) dJ9_charAt_17 (fun x17 h => ?_)
    refine g_iload_n hx hb hl 1 rfl dJ9_charAt_20 ?_
    exact g_no h
  · have h := g_iff c_4 h
    refine g_aload_n hx hb hl 0 rfl dJ9_charAt_7 ?_
    refine g_rdR hx hb hown hts hKn hS h fd_19_19_0 rfl (Or.inl (hts _ q486)) (fun _ z => z) dJ9_charAt_8 (fun x8 h => ?_)
    refine g_iload_n hx hb hl 1 rfl dJ9_charAt_11 ?_
    obtain ⟨z12, h12, h⟩ := g_bnd h
    refine g_callS (n := 2) (av := [.inr (.inr x8), .inl v1]) (rs := []) hx hb hml hown hts hKn hRc hRs hS hl (sJ15_charAt l E D h12) (lw_S q1527 q1528 q131 q1529) ⟨by decide, by decide, by decide +kernel⟩ ⟨by rw [hRf]; exact Nat.le_of_ble_eq_true rfl, by rw [hRl]; exact Nat.le_of_ble_eq_true rfl⟩ rfl rfl (Nat.le_of_ble_eq_true rfl) dJ9_charAt_12 (fun H locs cells slots hS => ?_)
    exact g_cretG hx hb hr hlk hKn hRc hRs hS h dJ9_charAt_15
/-- java/lang/String.hashCode()I -/
def fJ9_hashCode (E : g_E) (t : Nat) (G : g_G) : Option (Int32 × g_G) :=
  (grI G 19 19 (some t) 2).bind fun x1 =>
  if ¬ x1 = 0 then (
    some (x1, G))
  else (
    (grI G 19 19 (some t) 3).bind fun x10 =>
    if ¬ x10 = 0 then (
      some (x1, G))
    else (
      (gchk G 19 (some t)).bind fun b17 =>
      (fJ9_isLatin1 E b17 G).bind fun z17 =>
      if z17.1 = 0 then (
        (grR z17.2 19 19 (some t) 0).bind fun x34 =>
        none)
      else (
        (grR z17.2 19 19 (some t) 0).bind fun x24 =>
        (fJ15_hashCode E x24 z17.2).bind fun z27 =>
        if ¬ z27.1 = 0 then (
          (gpI E z27.2 19 19 (some t) 2 z27.1).bind fun G55 =>
          some (z27.1, G55))
        else (
          (gpZ E z27.2 19 19 (some t) 3 1).bind fun G47 =>
          some (z27.1, G47)))))
theorem sJ9_hashCode (l : Launch) (E : g_E) (D : g_D) {t : Nat} {G : g_G} {q : Int32 × g_G} (h : fJ9_hashCode E t G = some q) : gMet l E D yJ9_hashCode (ws_ yJ9_hashCode cJ9_hashCode 2 (some .int)) 4 133 [.inr (.inr (some t))] G (some (.int q.1)) q.2 := by
  refine gMet.of (by decide +kernel) (Nat.le_of_ble_eq_true rfl) ?_
  intro p e R s m args below meth c C hS ls hl
  have C : gC p R s m args meth c cJ9_hashCode 2 RJ9 "hashCode" (some .int) 4 133 E D := C
  obtain ⟨hx, hb, hml, hown, hts, hKn, hRc, hRs, hc1, hc2, hRf, hRl, hr, hlk, hnm⟩ := id C
  have hl : gls ls 2 [(0, .inr (.inr (some t)))] := hl
  generalize s.heap = H at hS ⊢
  unfold fJ9_hashCode at h
  refine g_aload_n hx hb hl 0 rfl dJ9_hashCode_0 ?_
  refine g_rdI hx hb hown hts hKn hS h fd_19_19_2 rfl (Or.inl (hts _ q488)) (fun _ z => z) dJ9_hashCode_1 (fun x1 h => ?_)
  refine g_istore_n (l1 := [(1, .inl x1), (0, .inr (.inr (some t)))]) hx hb hl (by decide) rfl dJ9_hashCode_4 (fun ls hl => ?_)
  refine g_iload_n hx hb hl 0 rfl dJ9_hashCode_5 ?_
  refine lv_if_ne (tgt := 58) hx hb dJ9_hashCode_6 (by decide) (fun c_6 => ?_) (fun c_6 => ?_)
  · have h := g_ift c_6 h
    refine g_iload_n hx hb hl 0 rfl dJ9_hashCode_58 ?_
    exact g_iretG hx hb hr hlk hKn hRc hRs hS h dJ9_hashCode_59
  · have h := g_iff (fun z => z c_6) h
    refine g_aload_n hx hb hl 1 rfl dJ9_hashCode_9 ?_
    refine g_rdI hx hb hown hts hKn hS h fd_19_19_3 rfl (Or.inl (hts _ q489)) (fun _ z => z) dJ9_hashCode_10 (fun x10 h => ?_)
    refine lv_if_ne (tgt := 58) hx hb dJ9_hashCode_13 (by decide) (fun c_13 => ?_) (fun c_13 => ?_)
    · have h := g_ift c_13 h
      refine g_iload_n hx hb hl 0 rfl dJ9_hashCode_58 ?_
      exact g_iretG hx hb hr hlk hKn hRc hRs hS h dJ9_hashCode_59
    · have h := g_iff (fun z => z c_13) h
      refine g_aload_n hx hb hl 1 rfl dJ9_hashCode_16 ?_
      obtain ⟨b17, hb17, h⟩ := g_bnd h
      obtain ⟨hr17, hk17⟩ := g_chk hb17
      obtain ⟨z17, h17, h⟩ := g_bnd h
      refine g_callV (n := 0) (b := b17) (av := []) (rs := []) hx hb hml hown hts hKn hRc hRs hS hl (sJ9_isLatin1 l E D h17) (lw_V q1173 q1174 q1175 q124 q1176) ⟨rfl, by decide, by decide, by decide +kernel⟩ ⟨by rw [hRf]; exact Nat.le_of_ble_eq_true rfl, by rw [hRl]; exact Nat.le_of_ble_eq_true rfl⟩ (g_recv hKn hS hk17 (by decide) (by decide)) rfl (by rw [hr17]; rfl) (Nat.le_of_ble_eq_true rfl) dJ9_hashCode_17 (fun H locs cells slots hS => ?_)
      refine lv_if_eq (tgt := 33) hx hb dJ9_hashCode_20 (by decide) (fun c_20 => ?_) (fun c_20 => ?_)
      · have h := g_ift c_20 h
        refine g_aload_n hx hb hl 1 rfl dJ9_hashCode_33 ?_
        refine g_rdR hx hb hown hts hKn hS h fd_19_19_0 rfl (Or.inl (hts _ q486)) (fun _ z => z) dJ9_hashCode_34 (fun x34 h => ?_)
        exact g_no h
      · have h := g_iff c_20 h
        refine g_aload_n hx hb hl 1 rfl dJ9_hashCode_23 ?_
        refine g_rdR hx hb hown hts hKn hS h fd_19_19_0 rfl (Or.inl (hts _ q486)) (fun _ z => z) dJ9_hashCode_24 (fun x24 h => ?_)
        obtain ⟨z27, h27, h⟩ := g_bnd h
        refine g_callS (n := 1) (av := [.inr (.inr x24)]) (rs := []) hx hb hml hown hts hKn hRc hRs hS hl (sJ15_hashCode l E D h27) (lw_S q1291 q1292 q131 q1293) ⟨by decide, by decide, by decide +kernel⟩ ⟨by rw [hRf]; exact Nat.le_of_ble_eq_true rfl, by rw [hRl]; exact Nat.le_of_ble_eq_true rfl⟩ rfl rfl (Nat.le_of_ble_eq_true rfl) dJ9_hashCode_27 (fun H locs cells slots hS => ?_)
        refine lv_goto (tgt := 40) hx hb dJ9_hashCode_30 (by decide) ?_
        refine g_istore_n (l1 := [(1, .inl z27.1), (0, .inr (.inr (some t)))]) hx hb hl (by decide) rfl dJ9_hashCode_40 (fun ls hl => ?_)
        refine g_iload_n hx hb hl 0 rfl dJ9_hashCode_41 ?_
        refine lv_if_ne (tgt := 53) hx hb dJ9_hashCode_42 (by decide) (fun c_42 => ?_) (fun c_42 => ?_)
        · have h := g_ift c_42 h
          refine g_aload_n hx hb hl 1 rfl dJ9_hashCode_53 ?_
          refine g_iload_n hx hb hl 0 rfl dJ9_hashCode_54 ?_
          refine g_ptI hx hb hown hts hKn hS h fd_19_19_2 (Or.inl (hts _ q488)) (fun _ z => z) (fun z => nomatch z) dJ9_hashCode_55 (fun G55 h H locs hS => ?_)
          refine g_iload_n hx hb hl 0 rfl dJ9_hashCode_58 ?_
          exact g_iretG hx hb hr hlk hKn hRc hRs hS h dJ9_hashCode_59
        · have h := g_iff (fun z => z c_42) h
          refine g_aload_n hx hb hl 1 rfl dJ9_hashCode_45 ?_
          refine lv_iconst (v := 1) hx hb dJ9_hashCode_46 (by decide) ?_
          refine g_ptZ hx hb hown hts hKn hS h fd_19_19_3 (Or.inl (hts _ q489)) (fun _ z => z) (fun z => nomatch z) dJ9_hashCode_47 (fun G47 h H locs hS => ?_)
          refine lv_goto (tgt := 58) hx hb dJ9_hashCode_50 (by decide) ?_
          refine g_iload_n hx hb hl 0 rfl dJ9_hashCode_58 ?_
          exact g_iretG hx hb hr hlk hKn hRc hRs hS h dJ9_hashCode_59
/-- java/lang/String.indexOf(II)I -/
def fJ9_indexOf_2 (E : g_E) (t : Nat) (v1 : Int32) (v2 : Int32) (G : g_G) : Option (Int32 × g_G) :=
  (gchk G 19 (some t)).bind fun b1 =>
  (fJ9_isLatin1 E b1 G).bind fun z1 =>
  if z1.1 = 0 then (
    (grR z1.2 19 19 (some t) 0).bind fun x24 =>
    (gchk z1.2 19 (some t)).bind fun b30 =>
    (fJ9_length E b30 z1.2).bind fun z30 =>
    none)
  else (
    (grR z1.2 19 19 (some t) 0).bind fun x8 =>
    (gchk z1.2 19 (some t)).bind fun b14 =>
    (fJ9_length E b14 z1.2).bind fun z14 =>
    (fJ15_indexOf E x8 v1 v2 z14.1 z14.2).bind fun z17 =>
    some (z17.1, z17.2))
theorem sJ9_indexOf_2 (l : Launch) (E : g_E) (D : g_D) {t : Nat} {v1 : Int32} {v2 : Int32} {G : g_G} {q : Int32 × g_G} (h : fJ9_indexOf_2 E t v1 v2 G = some q) : gMet l E D yJ9_indexOf_2 (ws_ yJ9_indexOf_2 cJ9_indexOf_2 3 (some .int)) 3 112 [.inr (.inr (some t)), .inl v1, .inl v2] G (some (.int q.1)) q.2 := by
  refine gMet.of (by decide +kernel) (Nat.le_of_ble_eq_true rfl) ?_
  intro p e R s m args below meth c C hS ls hl
  have C : gC p R s m args meth c cJ9_indexOf_2 3 RJ9 "indexOf" (some .int) 3 112 E D := C
  obtain ⟨hx, hb, hml, hown, hts, hKn, hRc, hRs, hc1, hc2, hRf, hRl, hr, hlk, hnm⟩ := id C
  have hl : gls ls 3 [(0, .inr (.inr (some t))), (1, .inl v1), (2, .inl v2)] := hl
  generalize s.heap = H at hS ⊢
  unfold fJ9_indexOf_2 at h
  refine g_aload_n hx hb hl 0 rfl dJ9_indexOf_2_0 ?_
  obtain ⟨b1, hb1, h⟩ := g_bnd h
  obtain ⟨hr1, hk1⟩ := g_chk hb1
  obtain ⟨z1, h1, h⟩ := g_bnd h
  refine g_callV (n := 0) (b := b1) (av := []) (rs := []) hx hb hml hown hts hKn hRc hRs hS hl (sJ9_isLatin1 l E D h1) (lw_V q1173 q1174 q1175 q124 q1176) ⟨rfl, by decide, by decide, by decide +kernel⟩ ⟨by rw [hRf]; exact Nat.le_of_ble_eq_true rfl, by rw [hRl]; exact Nat.le_of_ble_eq_true rfl⟩ (g_recv hKn hS hk1 (by decide) (by decide)) rfl (by rw [hr1]; rfl) (Nat.le_of_ble_eq_true rfl) dJ9_indexOf_2_1 (fun H locs cells slots hS => ?_)
  refine lv_if_eq (tgt := 23) hx hb dJ9_indexOf_2_4 (by decide) (fun c_4 => ?_) (fun c_4 => ?_)
  · have h := g_ift c_4 h
    refine g_aload_n hx hb hl 0 rfl dJ9_indexOf_2_23 ?_
    refine g_rdR hx hb hown hts hKn hS h fd_19_19_0 rfl (Or.inl (hts _ q486)) (fun _ z => z) dJ9_indexOf_2_24 (fun x24 h => ?_)
    refine g_iload_n hx hb hl 1 rfl dJ9_indexOf_2_27 ?_
    refine g_iload_n hx hb hl 2 rfl dJ9_indexOf_2_28 ?_
    refine g_aload_n hx hb hl 0 rfl dJ9_indexOf_2_29 ?_
    obtain ⟨b30, hb30, h⟩ := g_bnd h
    obtain ⟨hr30, hk30⟩ := g_chk hb30
    obtain ⟨z30, h30, h⟩ := g_bnd h
    refine g_callV (n := 0) (b := b30) (av := []) (rs := [.inl v2, .inl v1, .inr (.inr x24)]) hx hb hml hown hts hKn hRc hRs hS hl (sJ9_length l E D h30) (lw_V q1177 q338 q339 q124 q340) ⟨rfl, by decide, by decide, by decide +kernel⟩ ⟨by rw [hRf]; exact Nat.le_of_ble_eq_true rfl, by rw [hRl]; exact Nat.le_of_ble_eq_true rfl⟩ (g_recv hKn hS hk30 (by decide) (by decide)) rfl (by rw [hr30]; rfl) (Nat.le_of_ble_eq_true rfl) dJ9_indexOf_2_30 (fun H locs cells slots hS => ?_)
    exact g_no h
  · have h := g_iff c_4 h
    refine g_aload_n hx hb hl 0 rfl dJ9_indexOf_2_7 ?_
    refine g_rdR hx hb hown hts hKn hS h fd_19_19_0 rfl (Or.inl (hts _ q486)) (fun _ z => z) dJ9_indexOf_2_8 (fun x8 h => ?_)
    refine g_iload_n hx hb hl 1 rfl dJ9_indexOf_2_11 ?_
    refine g_iload_n hx hb hl 2 rfl dJ9_indexOf_2_12 ?_
    refine g_aload_n hx hb hl 0 rfl dJ9_indexOf_2_13 ?_
    obtain ⟨b14, hb14, h⟩ := g_bnd h
    obtain ⟨hr14, hk14⟩ := g_chk hb14
    obtain ⟨z14, h14, h⟩ := g_bnd h
    refine g_callV (n := 0) (b := b14) (av := []) (rs := [.inl v2, .inl v1, .inr (.inr x8)]) hx hb hml hown hts hKn hRc hRs hS hl (sJ9_length l E D h14) (lw_V q1177 q338 q339 q124 q340) ⟨rfl, by decide, by decide, by decide +kernel⟩ ⟨by rw [hRf]; exact Nat.le_of_ble_eq_true rfl, by rw [hRl]; exact Nat.le_of_ble_eq_true rfl⟩ (g_recv hKn hS hk14 (by decide) (by decide)) rfl (by rw [hr14]; rfl) (Nat.le_of_ble_eq_true rfl) dJ9_indexOf_2_14 (fun H locs cells slots hS => ?_)
    obtain ⟨z17, h17, h⟩ := g_bnd h
    refine g_callS (n := 4) (av := [.inr (.inr x8), .inl v1, .inl v2, .inl z14.1]) (rs := []) hx hb hml hown hts hKn hRc hRs hS hl (sJ15_indexOf l E D h17) (lw_S q1178 q1179 q131 q1180) ⟨by decide, by decide, by decide +kernel⟩ ⟨by rw [hRf]; exact Nat.le_of_ble_eq_true rfl, by rw [hRl]; exact Nat.le_of_ble_eq_true rfl⟩ rfl rfl (Nat.le_of_ble_eq_true rfl) dJ9_indexOf_2_17 (fun H locs cells slots hS => ?_)
    refine lv_goto (tgt := 36) hx hb dJ9_indexOf_2_20 (by decide) ?_
    exact g_iretG hx hb hr hlk hKn hRc hRs hS h dJ9_indexOf_2_36
/-- java/lang/String.<init>(Ljava/lang/AbstractStringBuilder;Ljava/lang/Void;)V -/
def fJ9_init_2_b79 (E : g_E) (t : Nat) (v3 : Option Nat) (v4 : Int32) (G : g_G) : Option (g_G) :=
  (gpB E G 19 19 (some t) 1 1).bind fun G81 =>
  (fJ13_copyOfRange E v3 0 (v4 <<< (1 &&& 31)) G81).bind fun z91 =>
  (gpR E z91.2 19 19 (some t) 0 z91.1).bind fun G94 =>
  some G94
def fJ9_init_2 (E : g_E) (t : Nat) (v1 : Option Nat) (v2 : Option Nat) (G : g_G) : Option (g_G) :=
  (gchk G 18 v1).bind fun b5 =>
  (fJ7_getValue E b5 G).bind fun z5 =>
  (gchk z5.2 18 v1).bind fun b10 =>
  (fJ8_length E b10 z5.2).bind fun z10 =>
  (gchk z10.2 18 v1).bind fun b16 =>
  (fJ7_isLatin1 E b16 z10.2).bind fun z16 =>
  if z16.1 = 0 then (
    if (1 : Int32) = 0 then (
      fJ9_init_2_b79 E t z5.1 z10.1 z16.2)
    else (
      (grI z16.2 18 18 v1 2).bind fun x48 =>
      if x48 = 0 then (
        fJ9_init_2_b79 E t z5.1 z10.1 z16.2)
      else (
        none)))
  else (
    (gpB E z16.2 19 19 (some t) 1 0).bind fun G24 =>
    (fJ13_copyOfRange E z5.1 0 z10.1 G24).bind fun z32 =>
    (gpR E z32.2 19 19 (some t) 0 z32.1).bind fun G35 =>
    some G35)
theorem sJ9_init_2_b79 {p : Program} {l : Launch} {e : Env} {R : Room} {s : State} {m : MethodId} {args : Array Value} {below : List Frame} {meth : Method} {c : Code} {E : g_E} {D : g_D} (C : gC p R s m args meth c cJ9_init_2 5 RJ9 "<init>" (none) 4 131 E D) : ∀ (t : Nat) (v3 : Option Nat) (v4 : Int32) (G : g_G) (q : g_G), fJ9_init_2_b79 E t v3 v4 G = some q → ∀ (H : Heap) (locs : List Loc) (cells slots : Nat) (ls : Array Slot), gSt E D G H locs → gls ls 5 [(0, .inr (.inr (some t))), (3, .inr (.inr v3)), (4, .inl v4)] → gT p l e R s m args below meth c E D H locs cells slots none q (F0 m 79 ls []) := by
  obtain ⟨hx, hb, hml, hown, hts, hKn, hRc, hRs, hc1, hc2, hRf, hRl, hr, hlk, hnm⟩ := id C
  intro t v3 v4 G q h H locs cells slots ls hS hl
  unfold fJ9_init_2_b79 at h
  refine g_aload_n hx hb hl 0 rfl dJ9_init_2_79 ?_
  refine lv_iconst (v := 1) hx hb dJ9_init_2_80 (by decide) ?_
  refine g_ptB hx hb hown hts hKn hS h fd_19_19_1 (Or.inl (hts _ q487)) (fun _ z => z) (fun _ => ⟨hnm, rfl⟩) dJ9_init_2_81 (fun G81 h H locs hS => ?_)
  refine g_aload_n hx hb hl 0 rfl dJ9_init_2_84 ?_
  refine g_aload_n hx hb hl 1 rfl dJ9_init_2_85 ?_
  refine lv_iconst (v := 0) hx hb dJ9_init_2_86 (by decide) ?_
  refine g_iload hx hb hl 2 rfl dJ9_init_2_87 ?_
  refine lv_iconst (v := 1) hx hb dJ9_init_2_89 (by decide) ?_
  refine lv_ishl hx hb dJ9_init_2_90 ?_
  obtain ⟨z91, h91, h⟩ := g_bnd h
  refine g_callS (n := 3) (av := [.inr (.inr v3), .inl 0, .inl (v4 <<< (1 &&& 31))]) (rs := [.inr (.inr (some t))]) hx hb hml hown hts hKn hRc hRs hS hl (sJ13_copyOfRange l E D h91) (lw_S q432 q433 q128 q434) ⟨by decide, by decide, by decide +kernel⟩ ⟨by rw [hRf]; exact Nat.le_of_ble_eq_true rfl, by rw [hRl]; exact Nat.le_of_ble_eq_true rfl⟩ rfl rfl (Nat.le_of_ble_eq_true rfl) dJ9_init_2_91 (fun H locs cells slots hS => ?_)
  refine g_ptR hx hb hown hts hKn hS h fd_19_19_0 rfl (Or.inl (hts _ q486)) (fun _ z => z) (fun _ => ⟨hnm, rfl⟩) dJ9_init_2_94 (fun G94 h H locs hS => ?_)
  exact g_vretG hx hb hr hlk hKn hRc hRs hS h dJ9_init_2_97
theorem sJ9_init_2 (l : Launch) (E : g_E) (D : g_D) {t : Nat} {v1 : Option Nat} {v2 : Option Nat} {G : g_G} {q : g_G} (h : fJ9_init_2 E t v1 v2 G = some q) : gMet l E D yJ9_init_2 (ws_ yJ9_init_2 cJ9_init_2 5 (none)) 4 131 [.inr (.inr (some t)), .inr (.inr v1), .inr (.inr v2)] G none q := by
  refine gMet.of (by decide +kernel) (Nat.le_of_ble_eq_true rfl) ?_
  intro p e R s m args below meth c C hS ls hl
  have C : gC p R s m args meth c cJ9_init_2 5 RJ9 "<init>" (none) 4 131 E D := C
  obtain ⟨hx, hb, hml, hown, hts, hKn, hRc, hRs, hc1, hc2, hRf, hRl, hr, hlk, hnm⟩ := id C
  have hl : gls ls 5 [(0, .inr (.inr (some t))), (1, .inr (.inr v1)), (2, .inr (.inr v2))] := hl
  generalize s.heap = H at hS ⊢
  unfold fJ9_init_2 at h
  refine g_aload_n hx hb hl 0 rfl dJ9_init_2_0 ?_
  refine g_objInit (rs := []) hx hb hml hown hl (hts _ q417) (hts _ q162) (hts _ q163) rfl dJ9_init_2_1 ⟨by rw [hRf]; exact Nat.le_of_ble_eq_true rfl, by rw [hRl]; exact Nat.le_of_ble_eq_true rfl⟩ ?_
  refine g_aload_n hx hb hl 1 rfl dJ9_init_2_4 ?_
  obtain ⟨b5, hb5, h⟩ := g_bnd h
  obtain ⟨hr5, hk5⟩ := g_chk hb5
  obtain ⟨z5, h5, h⟩ := g_bnd h
  refine g_callU (n := 0) (b := b5) (av := []) (rs := []) hx hb hml hown hts hKn hRc hRs hS hl (C := "java/lang/StringBuilder") (owner := "java/lang/AbstractStringBuilder") (x := ⟨"java/lang/AbstractStringBuilder", "getValue", "()[B"⟩) (sJ7_getValue l E D h5) (va_cwU 0 hts (lw_app (lw_in _ [418, 420, 421, 419, 122] (by decide +kernel) (by decide +kernel)) (lw_meth q422)) rfl rfl rfl rfl ⟨by decide, by decide, by decide +kernel⟩ ⟨by rw [hRf]; exact Nat.le_of_ble_eq_true rfl, by rw [hRl]; exact Nat.le_of_ble_eq_true rfl⟩) (g_recv hKn hS hk5 (by decide) (by decide)) rfl (by rw [hr5]; rfl) (Nat.le_of_ble_eq_true rfl) dJ9_init_2_5 (fun H locs cells slots hS => ?_)
  refine g_astore_n (l1 := [(3, .inr (.inr z5.1)), (0, .inr (.inr (some t))), (1, .inr (.inr v1)), (2, .inr (.inr v2))]) hx hb hl (by decide) rfl dJ9_init_2_8 (fun ls hl => ?_)
  refine g_aload_n hx hb hl 2 rfl dJ9_init_2_9 ?_
  obtain ⟨b10, hb10, h⟩ := g_bnd h
  obtain ⟨hr10, hk10⟩ := g_chk hb10
  obtain ⟨z10, h10, h⟩ := g_bnd h
  refine g_callU (n := 0) (b := b10) (av := []) (rs := []) hx hb hml hown hts hKn hRc hRs hS hl (C := "java/lang/StringBuilder") (owner := "java/lang/AbstractStringBuilder") (x := ⟨"java/lang/AbstractStringBuilder", "length", "()I"⟩) (sJ8_length l E D h10) (va_cwO 0 hts (lw_app (lw_in _ [423, 425, 424, 426, 427, 123] (by decide +kernel) (by decide +kernel)) (lw_meth q428)) rfl rfl rfl q430 ⟨by decide, by decide, by decide +kernel⟩ ⟨by rw [hRf]; exact Nat.le_of_ble_eq_true rfl, by rw [hRl]; exact Nat.le_of_ble_eq_true rfl⟩) (g_recv hKn hS hk10 (by decide) (by decide)) rfl (by rw [hr10]; rfl) (Nat.le_of_ble_eq_true rfl) dJ9_init_2_10 (fun H locs cells slots hS => ?_)
  refine g_istore (l1 := [(4, .inl z10.1), (3, .inr (.inr z5.1)), (0, .inr (.inr (some t))), (1, .inr (.inr v1)), (2, .inr (.inr v2))]) hx hb hl (by decide) rfl dJ9_init_2_13 (fun ls hl => ?_)
  refine g_aload_n hx hb hl 3 rfl dJ9_init_2_15 ?_
  obtain ⟨b16, hb16, h⟩ := g_bnd h
  obtain ⟨hr16, hk16⟩ := g_chk hb16
  obtain ⟨z16, h16, h⟩ := g_bnd h
  refine g_callU (n := 0) (b := b16) (av := []) (rs := []) hx hb hml hown hts hKn hRc hRs hS hl (C := "java/lang/StringBuilder") (owner := "java/lang/AbstractStringBuilder") (x := ⟨"java/lang/AbstractStringBuilder", "isLatin1", "()Z"⟩) (sJ7_isLatin1 l E D h16) (va_cwU 0 hts (lw_app (lw_in _ [431, 308, 309, 307, 122] (by decide +kernel) (by decide +kernel)) (lw_meth q310)) rfl rfl rfl rfl ⟨by decide, by decide, by decide +kernel⟩ ⟨by rw [hRf]; exact Nat.le_of_ble_eq_true rfl, by rw [hRl]; exact Nat.le_of_ble_eq_true rfl⟩) (g_recv hKn hS hk16 (by decide) (by decide)) rfl (by rw [hr16]; rfl) (Nat.le_of_ble_eq_true rfl) dJ9_init_2_16 (fun H locs cells slots hS => ?_)
  refine lv_if_eq (tgt := 41) hx hb dJ9_init_2_19 (by decide) (fun c_19 => ?_) (fun c_19 => ?_)
  · have h := g_ift c_19 h
    refine g_getsZ (C := "java/lang/String") (n := "COMPACT_STRINGS") (d := "Z") (v := .int 1) hx hb hown (hKn.2.2.2.2.2.2.1 _ (List.mem_of_getElem? (i := 5) rfl)) hS (hts _ q345) (fun _ z => z) dJ9_init_2_41 ?_
    refine lv_if_eq (tgt := 79) hx hb dJ9_init_2_44 (by decide) (fun c_44 => ?_) (fun c_44 => ?_)
    · have h := g_ift c_44 h
      exact sJ9_init_2_b79 C _ _ _ _ _ h _ _ _ _ _ hS (gls_sub hl [2, 1, 0] rfl)
    · have h := g_iff c_44 h
      refine g_aload_n hx hb hl 3 rfl dJ9_init_2_47 ?_
      refine g_rdI hx hb hown hts hKn hS h fd_18_18_2 rfl (Or.inl (hts _ q247)) (fun _ z => z) dJ9_init_2_48 (fun x48 h => ?_)
      refine lv_if_eq (tgt := 79) hx hb dJ9_init_2_51 (by decide) (fun c_51 => ?_) (fun c_51 => ?_)
      · have h := g_ift c_51 h
        exact sJ9_init_2_b79 C _ _ _ _ _ h _ _ _ _ _ hS (gls_sub hl [2, 1, 0] rfl)
      · have h := g_iff c_51 h
        refine g_aload_n hx hb hl 2 rfl dJ9_init_2_54 ?_
        refine g_aload_n hx hb hl 1 rfl dJ9_init_2_55 ?_
        refine lv_iconst (v := 0) hx hb dJ9_init_2_56 (by decide) ?_
        refine g_iload hx hb hl 0 rfl dJ9_init_2_57 ?_
        exact g_no h
  · have h := g_iff c_19 h
    refine g_aload_n hx hb hl 2 rfl dJ9_init_2_22 ?_
    refine lv_iconst (v := 0) hx hb dJ9_init_2_23 (by decide) ?_
    refine g_ptB hx hb hown hts hKn hS h fd_19_19_1 (Or.inl (hts _ q487)) (fun _ z => z) (fun _ => ⟨hnm, rfl⟩) dJ9_init_2_24 (fun G24 h H locs hS => ?_)
    refine g_aload_n hx hb hl 2 rfl dJ9_init_2_27 ?_
    refine g_aload_n hx hb hl 1 rfl dJ9_init_2_28 ?_
    refine lv_iconst (v := 0) hx hb dJ9_init_2_29 (by decide) ?_
    refine g_iload hx hb hl 0 rfl dJ9_init_2_30 ?_
    obtain ⟨z32, h32, h⟩ := g_bnd h
    refine g_callS (n := 3) (av := [.inr (.inr z5.1), .inl 0, .inl z10.1]) (rs := [.inr (.inr (some t))]) hx hb hml hown hts hKn hRc hRs hS hl (sJ13_copyOfRange l E D h32) (lw_S q432 q433 q128 q434) ⟨by decide, by decide, by decide +kernel⟩ ⟨by rw [hRf]; exact Nat.le_of_ble_eq_true rfl, by rw [hRl]; exact Nat.le_of_ble_eq_true rfl⟩ rfl rfl (Nat.le_of_ble_eq_true rfl) dJ9_init_2_32 (fun H locs cells slots hS => ?_)
    refine g_ptR hx hb hown hts hKn hS h fd_19_19_0 rfl (Or.inl (hts _ q486)) (fun _ z => z) (fun _ => ⟨hnm, rfl⟩) dJ9_init_2_35 (fun G35 h H locs hS => ?_)
    refine lv_goto (tgt := 97) hx hb dJ9_init_2_38 (by decide) ?_
    exact g_vretG hx hb hr hlk hKn hRc hRs hS h dJ9_init_2_97
/-- SendHall$Row.value(LSendHall$Life;I)I -/
def fX11_value_b22 (E : g_E) (fI : Option Nat → Option Nat → Int32 → g_G → Option (Int32 × g_G)) : Nat → Nat → (Option Nat) → Int32 → Int32 → Int32 → g_G → Option (Int32 × g_G)
  | 0, _, _, _, _, _, _ => none
  | n + 1, t, v1, v2, v3, v4, G =>
    (grR G 9 9 (some t) 0).bind fun x25 =>
    (gchk G 17 x25).bind fun b28 =>
    (fJ2_size E b28 G).bind fun z28 =>
    if z28.1 ≤ v4 then (
      some (v3, z28.2))
    else (
      (grR z28.2 9 9 (some t) 1).bind fun x36 =>
      (gchk z28.2 17 x36).bind fun b43 =>
      (fJ2_get E b43 (v4 - 1) z28.2).bind fun z43 =>
      (gcast z43.2 20 20 z43.1).bind fun x46 =>
      (gchk z43.2 20 x46).bind fun b49 =>
      (fJ17_charValue E b49 z43.2).bind fun z49 =>
      (grR z49.2 9 9 (some t) 0).bind fun x53 =>
      (gchk z49.2 17 x53).bind fun b58 =>
      (fJ2_get E b58 v4 z49.2).bind fun z58 =>
      (gcast z58.2 8 10 z58.1).bind fun x61 =>
      (fI x61 v1 v2 z58.2).bind fun z66 =>
      (fX11_works E v3 z49.1 z66.1 z66.2).bind fun z71 =>
      fX11_value_b22 E fI n t v1 v2 z71.1 (v4 + 1) z71.2)
def fX11_value (E : g_E) (fI : Option Nat → Option Nat → Int32 → g_G → Option (Int32 × g_G)) (t : Nat) (v1 : Option Nat) (v2 : Int32) (G : g_G) : Option (Int32 × g_G) :=
  (grR G 9 9 (some t) 0).bind fun x1 =>
  (gchk G 17 x1).bind fun b5 =>
  (fJ2_get E b5 0 G).bind fun z5 =>
  (gcast z5.2 8 10 z5.1).bind fun x8 =>
  (fI x8 v1 v2 z5.2).bind fun z13 =>
  fX11_value_b22 E fI gFU t v1 v2 z13.1 1 z13.2
theorem sX11_value_b22 {p : Program} {l : Launch} {e : Env} {R : Room} {s : State} {m : MethodId} {args : Array Value} {below : List Frame} {meth : Method} {c : Code} {E : g_E} {D : g_D} {fI : Option Nat → Option Nat → Int32 → g_G → Option (Int32 × g_G)} {fF : Nat} {fL : Nat} (C : gC p R s m args meth c cX11_value 5 RX11 "value" (some .int) (fF + 9) (fL + 300) E D) (hfI : gIV l E D fI fF fL) : ∀ (n : Nat) (t : Nat) (v1 : Option Nat) (v2 : Int32) (v3 : Int32) (v4 : Int32) (G : g_G) (q : Int32 × g_G), fX11_value_b22 E fI n t v1 v2 v3 v4 G = some q → ∀ (H : Heap) (locs : List Loc) (cells slots : Nat) (ls : Array Slot), gSt E D G H locs → gls ls 5 [(0, .inr (.inr (some t))), (1, .inr (.inr v1)), (2, .inl v2), (3, .inl v3), (4, .inl v4)] → gT p l e R s m args below meth c E D H locs cells slots (some (.int q.1)) q.2 (F0 m 22 ls []) := by
  obtain ⟨hx, hb, hml, hown, hts, hKn, hRc, hRs, hc1, hc2, hRf, hRl, hr, hlk, hnm⟩ := id C
  intro n
  induction n with
  | zero =>
    intro t v1 v2 v3 v4 G q h
    exact g_no h
  | succ n ih =>
    intro t v1 v2 v3 v4 G q h H locs cells slots ls hS hl
    rw [fX11_value_b22] at h
    refine g_iload hx hb hl 4 rfl dX11_value_22 ?_
    refine g_aload_n hx hb hl 0 rfl dX11_value_24 ?_
    refine g_rdR hx hb hown hts hKn hS h fd_9_9_0 rfl (Or.inl (hts _ q1516)) (fun _ z => z) dX11_value_25 (fun x25 h => ?_)
    obtain ⟨b28, hb28, h⟩ := g_bnd h
    obtain ⟨hr28, hk28⟩ := g_chk hb28
    obtain ⟨z28, h28, h⟩ := g_bnd h
    refine g_callV (n := 0) (b := b28) (av := []) (rs := [.inl v4]) hx hb hml hown hts hKn hRc hRs hS hl (sJ2_size l E D h28) (lw_V q781 q782 q783 q117 q784) ⟨rfl, by decide, by decide, by decide +kernel⟩ ⟨by rw [hRf]; omega, by rw [hRl]; omega⟩ (g_recv hKn hS hk28 (by decide) (by decide)) rfl (by rw [hr28]; rfl) (Nat.le_of_ble_eq_true rfl) dX11_value_28 (fun H locs cells slots hS => ?_)
    refine lv_icmp_ge (tgt := 81) hx hb dX11_value_31 (by decide) (fun c_31 => ?_) (fun c_31 => ?_)
    · have h := g_ift c_31 h
      refine g_iload_n hx hb hl 3 rfl dX11_value_81 ?_
      exact g_iretG hx hb hr hlk hKn hRc hRs hS h dX11_value_82
    · have h := g_iff c_31 h
      refine g_iload_n hx hb hl 3 rfl dX11_value_34 ?_
      refine g_aload_n hx hb hl 0 rfl dX11_value_35 ?_
      refine g_rdR hx hb hown hts hKn hS h fd_9_9_1 rfl (Or.inl (hts _ q1517)) (fun _ z => z) dX11_value_36 (fun x36 h => ?_)
      refine g_iload hx hb hl 4 rfl dX11_value_39 ?_
      refine lv_iconst (v := 1) hx hb dX11_value_41 (by decide) ?_
      refine lv_isub hx hb dX11_value_42 ?_
      obtain ⟨b43, hb43, h⟩ := g_bnd h
      obtain ⟨hr43, hk43⟩ := g_chk hb43
      obtain ⟨z43, h43, h⟩ := g_bnd h
      refine g_callV (n := 1) (b := b43) (av := [.inl (v4 - 1)]) (rs := [.inl v3]) hx hb hml hown hts hKn hRc hRs hS hl (sJ2_get l E D h43) (lw_V q758 q759 q760 q117 q761) ⟨rfl, by decide, by decide, by decide +kernel⟩ ⟨by rw [hRf]; omega, by rw [hRl]; omega⟩ (g_recv hKn hS hk43 (by decide) (by decide)) rfl (by rw [hr43]; rfl) (Nat.le_of_ble_eq_true rfl) dX11_value_43 (fun H locs cells slots hS => ?_)
      refine g_castS (k := 20) hx hb hown hKn hS h (by decide) (by decide) (hts _ q785) dX11_value_46 (fun x46 h => ?_)
      obtain ⟨b49, hb49, h⟩ := g_bnd h
      obtain ⟨hr49, hk49⟩ := g_chk hb49
      obtain ⟨z49, h49, h⟩ := g_bnd h
      refine g_callV (n := 0) (b := b49) (av := []) (rs := [.inl v3]) hx hb hml hown hts hKn hRc hRs hS hl (sJ17_charValue l E D h49) (lw_V q786 q787 q788 q139 q789) ⟨rfl, by decide, by decide, by decide +kernel⟩ ⟨by rw [hRf]; omega, by rw [hRl]; omega⟩ (g_recv hKn hS hk49 (by decide) (by decide)) rfl (by rw [hr49]; rfl) (Nat.le_of_ble_eq_true rfl) dX11_value_49 (fun H locs cells slots hS => ?_)
      refine g_aload_n hx hb hl 0 rfl dX11_value_52 ?_
      refine g_rdR hx hb hown hts hKn hS h fd_9_9_0 rfl (Or.inl (hts _ q1516)) (fun _ z => z) dX11_value_53 (fun x53 h => ?_)
      refine g_iload hx hb hl 4 rfl dX11_value_56 ?_
      obtain ⟨b58, hb58, h⟩ := g_bnd h
      obtain ⟨hr58, hk58⟩ := g_chk hb58
      obtain ⟨z58, h58, h⟩ := g_bnd h
      refine g_callV (n := 1) (b := b58) (av := [.inl v4]) (rs := [.inl z49.1, .inl v3]) hx hb hml hown hts hKn hRc hRs hS hl (sJ2_get l E D h58) (lw_V q758 q759 q760 q117 q761) ⟨rfl, by decide, by decide, by decide +kernel⟩ ⟨by rw [hRf]; omega, by rw [hRl]; omega⟩ (g_recv hKn hS hk58 (by decide) (by decide)) rfl (by rw [hr58]; rfl) (Nat.le_of_ble_eq_true rfl) dX11_value_58 (fun H locs cells slots hS => ?_)
      refine g_castY (lo := 8) (hi := 10) (C := "SendHall$Expr") hx hb hown hKn hS h (by decide) (by decide) (hts _ q772) ct_8_10 dX11_value_61 (fun x61 h => ?_)
      refine g_aload_n hx hb hl 1 rfl dX11_value_64 ?_
      refine g_iload_n hx hb hl 2 rfl dX11_value_65 ?_
      obtain ⟨z66, h66, h⟩ := g_bnd h
      refine g_valueI (rs := [.inl z49.1, .inl v3]) hx hb hml hown hts hKn hRc hRs hS hl hfI h66 q774 ⟨by rw [hRf]; omega, by rw [hRl]; omega⟩ rfl (Nat.le_of_ble_eq_true rfl) dX11_value_66 (fun H locs cells slots hS => ?_)
      obtain ⟨z71, h71, h⟩ := g_bnd h
      refine g_callS (n := 3) (av := [.inl v3, .inl z49.1, .inl z66.1]) (rs := []) hx hb hml hown hts hKn hRc hRs hS hl (sX11_works l E D h71) (lw_S q790 q791 q145 q792) ⟨by decide, by decide, by decide +kernel⟩ ⟨by rw [hRf]; omega, by rw [hRl]; omega⟩ rfl rfl (Nat.le_of_ble_eq_true rfl) dX11_value_71 (fun H locs cells slots hS => ?_)
      refine g_istore_n (l1 := [(3, .inl z71.1), (0, .inr (.inr (some t))), (1, .inr (.inr v1)), (2, .inl v2), (4, .inl v4)]) hx hb hl (by decide) rfl dX11_value_74 (fun ls hl => ?_)
      refine g_iinc (l1 := [(4, .inl (v4 + 1)), (3, .inl z71.1), (0, .inr (.inr (some t))), (1, .inr (.inr v1)), (2, .inl v2)]) (v := (v4 + 1)) hx hb hl (k := 4) rfl (by rfl) (by decide) rfl dX11_value_75 (fun ls hl => ?_)
      refine lv_goto (tgt := 22) hx hb dX11_value_78 (by decide) ?_
      exact ih _ _ _ _ _ _ _ h _ _ _ _ _ hS (gls_sub hl [2, 3, 4, 1, 0] rfl)
theorem sX11_value (l : Launch) (E : g_E) (D : g_D) {fI : Option Nat → Option Nat → Int32 → g_G → Option (Int32 × g_G)} {fF : Nat} {fL : Nat} (hfI : gIV l E D fI fF fL) {t : Nat} {v1 : Option Nat} {v2 : Int32} {G : g_G} {q : Int32 × g_G} (h : fX11_value E fI t v1 v2 G = some q) : gMet l E D yX11_value (ws_ yX11_value cX11_value 5 (some .int)) (fF + 9) (fL + 300) [.inr (.inr (some t)), .inr (.inr v1), .inl v2] G (some (.int q.1)) q.2 := by
  refine gMet.of (by decide +kernel) (Nat.le_of_ble_eq_true rfl) ?_
  intro p e R s m args below meth c C hS ls hl
  have C : gC p R s m args meth c cX11_value 5 RX11 "value" (some .int) (fF + 9) (fL + 300) E D := C
  obtain ⟨hx, hb, hml, hown, hts, hKn, hRc, hRs, hc1, hc2, hRf, hRl, hr, hlk, hnm⟩ := id C
  have hl : gls ls 5 [(0, .inr (.inr (some t))), (1, .inr (.inr v1)), (2, .inl v2)] := hl
  generalize s.heap = H at hS ⊢
  unfold fX11_value at h
  refine g_aload_n hx hb hl 0 rfl dX11_value_0 ?_
  refine g_rdR hx hb hown hts hKn hS h fd_9_9_0 rfl (Or.inl (hts _ q1516)) (fun _ z => z) dX11_value_1 (fun x1 h => ?_)
  refine lv_iconst (v := 0) hx hb dX11_value_4 (by decide) ?_
  obtain ⟨b5, hb5, h⟩ := g_bnd h
  obtain ⟨hr5, hk5⟩ := g_chk hb5
  obtain ⟨z5, h5, h⟩ := g_bnd h
  refine g_callV (n := 1) (b := b5) (av := [.inl 0]) (rs := []) hx hb hml hown hts hKn hRc hRs hS hl (sJ2_get l E D h5) (lw_V q758 q759 q760 q117 q761) ⟨rfl, by decide, by decide, by decide +kernel⟩ ⟨by rw [hRf]; omega, by rw [hRl]; omega⟩ (g_recv hKn hS hk5 (by decide) (by decide)) rfl (by rw [hr5]; rfl) (Nat.le_of_ble_eq_true rfl) dX11_value_5 (fun H locs cells slots hS => ?_)
  refine g_castY (lo := 8) (hi := 10) (C := "SendHall$Expr") hx hb hown hKn hS h (by decide) (by decide) (hts _ q772) ct_8_10 dX11_value_8 (fun x8 h => ?_)
  refine g_aload_n hx hb hl 1 rfl dX11_value_11 ?_
  refine g_iload_n hx hb hl 2 rfl dX11_value_12 ?_
  obtain ⟨z13, h13, h⟩ := g_bnd h
  refine g_valueI (rs := []) hx hb hml hown hts hKn hRc hRs hS hl hfI h13 q774 ⟨by rw [hRf]; omega, by rw [hRl]; omega⟩ rfl (Nat.le_of_ble_eq_true rfl) dX11_value_13 (fun H locs cells slots hS => ?_)
  refine g_istore_n (l1 := [(3, .inl z13.1), (0, .inr (.inr (some t))), (1, .inr (.inr v1)), (2, .inl v2)]) hx hb hl (by decide) rfl dX11_value_18 (fun ls hl => ?_)
  refine lv_iconst (v := 1) hx hb dX11_value_19 (by decide) ?_
  refine g_istore (l1 := [(4, .inl 1), (3, .inl z13.1), (0, .inr (.inr (some t))), (1, .inr (.inr v1)), (2, .inl v2)]) hx hb hl (by decide) rfl dX11_value_20 (fun ls hl => ?_)
  exact sX11_value_b22 C hfI gFU _ _ _ _ _ _ _ h _ _ _ _ _ hS (gls_sub hl [2, 3, 4, 1, 0] rfl)
/-- Expr.value, by the kind of the object; rows may lie d deep in one another -/
def fI_value (E : g_E) : Nat → Option Nat → Option Nat → Int32 → g_G → Option (Int32 × g_G)
  | 0 => fun r v1 v2 G => r.bind fun t => if gcl G t = 8 then fX10_value E t v1 v2 G else if gcl G t = 10 then fX12_value E t v1 v2 G else none
  | d + 1 => fun r v1 v2 G => r.bind fun t => if gcl G t = 8 then fX10_value E t v1 v2 G else if gcl G t = 10 then fX12_value E t v1 v2 G else if gcl G t = 9 then fX11_value E (fI_value E d) t v1 v2 G else none
theorem gI_all (l : Launch) (E : g_E) (D : g_D) : ∀ d, gIV l E D (fI_value E d) (9 * d + 1) (300 * d + 64)
  | 0 => by
    intro r v1 v2 G q h
    obtain ⟨t, rfl, h⟩ := g_bnd h
    refine ⟨t, rfl, ?_⟩
    by_cases h8 : gcl G t = 8
    · exact Or.inl ⟨h8, 1, 64, by omega, by omega, by omega, sX10_value l E D (g_ift h8 h)⟩
    · have h := g_iff h8 h
      by_cases h10 : gcl G t = 10
      · exact Or.inr (Or.inr ⟨h10, 1, 64, by omega, by omega, by omega, sX12_value l E D (g_ift h10 h)⟩)
      · have h := g_iff h10 h
        exact g_no h
  | d + 1 => by
    intro r v1 v2 G q h
    obtain ⟨t, rfl, h⟩ := g_bnd h
    refine ⟨t, rfl, ?_⟩
    by_cases h8 : gcl G t = 8
    · exact Or.inl ⟨h8, 1, 64, by omega, by omega, by omega, sX10_value l E D (g_ift h8 h)⟩
    · have h := g_iff h8 h
      by_cases h10 : gcl G t = 10
      · exact Or.inr (Or.inr ⟨h10, 1, 64, by omega, by omega, by omega, sX12_value l E D (g_ift h10 h)⟩)
      · have h := g_iff h10 h
        by_cases h9 : gcl G t = 9
        · exact Or.inr (Or.inl ⟨h9, 9 * d + 1 + 9, 300 * d + 64 + 300, by omega, by omega, by omega, sX11_value l E D (gI_all l E D d) (g_ift h9 h)⟩)
        · exact g_no (g_iff h9 h)
theorem gI_top (l : Launch) (E : g_E) (D : g_D) : gIV l E D (fI_value E gDP) 217 7264 := gI_all l E D 24
/-- SendHall$Wait.<init>(II)V -/
def fX13_init (E : g_E) (t : Nat) (v1 : Int32) (v2 : Int32) (G : g_G) : Option (g_G) :=
  (fX8_init E t v1 v2 G).bind fun z3 =>
  (gpI E z3 16 16 (some t) 6 99).bind fun G9 =>
  some G9
theorem sX13_init (l : Launch) (E : g_E) (D : g_D) {t : Nat} {v1 : Int32} {v2 : Int32} {G : g_G} {q : g_G} (h : fX13_init E t v1 v2 G = some q) : gMet l E D yX13_init (ws_ yX13_init cX13_init 3 (none)) 3 108 [.inr (.inr (some t)), .inl v1, .inl v2] G none q := by
  refine gMet.of (by decide +kernel) (Nat.le_of_ble_eq_true rfl) ?_
  intro p e R s m args below meth c C hS ls hl
  have C : gC p R s m args meth c cX13_init 3 RX13 "<init>" (none) 3 108 E D := C
  obtain ⟨hx, hb, hml, hown, hts, hKn, hRc, hRs, hc1, hc2, hRf, hRl, hr, hlk, hnm⟩ := id C
  have hl : gls ls 3 [(0, .inr (.inr (some t))), (1, .inl v1), (2, .inl v2)] := hl
  generalize s.heap = H at hS ⊢
  unfold fX13_init at h
  refine g_aload_n hx hb hl 0 rfl dX13_init_0 ?_
  refine g_iload_n hx hb hl 1 rfl dX13_init_1 ?_
  refine g_iload_n hx hb hl 2 rfl dX13_init_2 ?_
  obtain ⟨z3, h3, h⟩ := g_bnd h
  refine g_callI (n := 2) (av := [.inl v1, .inl v2]) (rs := []) hx hb hml hown hts hKn hRc hRs hS hl (sX8_init l E D h3) (lw_meth q1401) (hts _ q142) (hts _ q1590) (hts _ q1400) rfl ⟨by decide, by decide, by decide +kernel⟩ ⟨by rw [hRf]; exact Nat.le_of_ble_eq_true rfl, by rw [hRl]; exact Nat.le_of_ble_eq_true rfl⟩ rfl rfl (Nat.le_of_ble_eq_true rfl) dX13_init_3 (fun H locs cells slots hS => ?_)
  refine g_aload_n hx hb hl 0 rfl dX13_init_6 ?_
  refine lv_bipush (v := 99) hx hb dX13_init_7 (by decide) ?_
  refine g_ptI hx hb hown hts hKn hS h fd_16_16_6 (Or.inl (hts _ q1595)) (fun _ z => z) (fun z => nomatch z) dX13_init_9 (fun G9 h H locs hS => ?_)
  exact g_vretG hx hb hr hlk hKn hRc hRs hS h dX13_init_12
/-- SendHall$Wait.of(LSendHall$Life;I)I -/
def fX13_of (E : g_E) (t : Nat) (v1 : Option Nat) (v2 : Int32) (G : g_G) : Option (Int32 × g_G) :=
  (grR G 16 16 (some t) 4).bind fun x1 =>
  if ¬ x1 = none then (
    (grR G 16 16 (some t) 4).bind fun x12 =>
    (fI_value E gDP x12 v1 v2 G).bind fun z17 =>
    some (z17.1, z17.2))
  else (
    some ((-1), G))
theorem sX13_of (l : Launch) (E : g_E) (D : g_D) {t : Nat} {v1 : Option Nat} {v2 : Int32} {G : g_G} {q : Int32 × g_G} (h : fX13_of E t v1 v2 G = some q) : gMet l E D yX13_of (ws_ yX13_of cX13_of 3 (some .int)) 218 7304 [.inr (.inr (some t)), .inr (.inr v1), .inl v2] G (some (.int q.1)) q.2 := by
  refine gMet.of (by decide +kernel) (Nat.le_of_ble_eq_true rfl) ?_
  intro p e R s m args below meth c C hS ls hl
  have C : gC p R s m args meth c cX13_of 3 RX13 "of" (some .int) 218 7304 E D := C
  obtain ⟨hx, hb, hml, hown, hts, hKn, hRc, hRs, hc1, hc2, hRf, hRl, hr, hlk, hnm⟩ := id C
  have hl : gls ls 3 [(0, .inr (.inr (some t))), (1, .inr (.inr v1)), (2, .inl v2)] := hl
  generalize s.heap = H at hS ⊢
  unfold fX13_of at h
  refine g_aload_n hx hb hl 0 rfl dX13_of_0 ?_
  refine g_rdR hx hb hown hts hKn hS h fd_16_16_4 rfl (Or.inl (hts _ q1591)) (fun _ z => z) dX13_of_1 (fun x1 h => ?_)
  refine g_ifnonnull (tgt := 11) hx hb dX13_of_4 (by decide) (fun c_4 => ?_) (fun c_4 => ?_)
  · have h := g_ift c_4 h
    refine g_aload_n hx hb hl 0 rfl dX13_of_11 ?_
    refine g_rdR hx hb hown hts hKn hS h fd_16_16_4 rfl (Or.inl (hts _ q1591)) (fun _ z => z) dX13_of_12 (fun x12 h => ?_)
    refine g_aload_n hx hb hl 1 rfl dX13_of_15 ?_
    refine g_iload_n hx hb hl 2 rfl dX13_of_16 ?_
    obtain ⟨z17, h17, h⟩ := g_bnd h
    refine g_valueI (rs := []) hx hb hml hown hts hKn hRc hRs hS hl (gI_top l E D) h17 q831 ⟨by rw [hRf]; exact Nat.le_of_ble_eq_true rfl, by rw [hRl]; exact Nat.le_of_ble_eq_true rfl⟩ rfl (Nat.le_of_ble_eq_true rfl) dX13_of_17 (fun H locs cells slots hS => ?_)
    exact g_iretG hx hb hr hlk hKn hRc hRs hS h dX13_of_22
  · have h := g_iff (fun z => z c_4) h
    refine lv_iconst (v := (-1)) hx hb dX13_of_7 (by decide) ?_
    refine lv_goto (tgt := 22) hx hb dX13_of_8 (by decide) ?_
    exact g_iretG hx hb hr hlk hKn hRc hRs hS h dX13_of_22
/-- SendHall$Wait.takes(LSendHall$Life;II)Z -/
def fX13_takes_b22 (E : g_E) (G : g_G) : Option (Int32 × g_G) :=
  if (1 : Int32) = 0 ∨ (1 : Int32) = 1 then some (1, G) else none
def fX13_takes (E : g_E) (t : Nat) (v1 : Option Nat) (v2 : Int32) (v3 : Int32) (G : g_G) : Option (Int32 × g_G) :=
  (grR G 16 16 (some t) 4).bind fun x1 =>
  if x1 = none then (
    fX13_takes_b22 E G)
  else (
    (grR G 16 16 (some t) 4).bind fun x8 =>
    (fI_value E gDP x8 v1 v2 G).bind fun z13 =>
    if ¬ z13.1 = v3 then (
      if (0 : Int32) = 0 ∨ (0 : Int32) = 1 then some (0, z13.2) else none)
    else (
      fX13_takes_b22 E z13.2))
theorem sX13_takes_b22 {p : Program} {l : Launch} {e : Env} {R : Room} {s : State} {m : MethodId} {args : Array Value} {below : List Frame} {meth : Method} {c : Code} {E : g_E} {D : g_D} (C : gC p R s m args meth c cX13_takes 4 RX13 "takes" (some .boolean) 218 7304 E D) : ∀ (G : g_G) (q : Int32 × g_G), fX13_takes_b22 E G = some q → ∀ (H : Heap) (locs : List Loc) (cells slots : Nat) (ls : Array Slot), gSt E D G H locs → gls ls 4 [] → gT p l e R s m args below meth c E D H locs cells slots (some (.int q.1)) q.2 (F0 m 22 ls []) := by
  obtain ⟨hx, hb, hml, hown, hts, hKn, hRc, hRs, hc1, hc2, hRf, hRl, hr, hlk, hnm⟩ := id C
  intro G q h H locs cells slots ls hS hl
  unfold fX13_takes_b22 at h
  refine lv_iconst (v := 1) hx hb dX13_takes_22 (by decide) ?_
  refine lv_goto (tgt := 27) hx hb dX13_takes_23 (by decide) ?_
  exact g_zretG hx hb hr hlk hKn hRc hRs hS h dX13_takes_27
theorem sX13_takes (l : Launch) (E : g_E) (D : g_D) {t : Nat} {v1 : Option Nat} {v2 : Int32} {v3 : Int32} {G : g_G} {q : Int32 × g_G} (h : fX13_takes E t v1 v2 v3 G = some q) : gMet l E D yX13_takes (ws_ yX13_takes cX13_takes 4 (some .boolean)) 218 7304 [.inr (.inr (some t)), .inr (.inr v1), .inl v2, .inl v3] G (some (.int q.1)) q.2 := by
  refine gMet.of (by decide +kernel) (Nat.le_of_ble_eq_true rfl) ?_
  intro p e R s m args below meth c C hS ls hl
  have C : gC p R s m args meth c cX13_takes 4 RX13 "takes" (some .boolean) 218 7304 E D := C
  obtain ⟨hx, hb, hml, hown, hts, hKn, hRc, hRs, hc1, hc2, hRf, hRl, hr, hlk, hnm⟩ := id C
  have hl : gls ls 4 [(0, .inr (.inr (some t))), (1, .inr (.inr v1)), (2, .inl v2), (3, .inl v3)] := hl
  generalize s.heap = H at hS ⊢
  unfold fX13_takes at h
  refine g_aload_n hx hb hl 0 rfl dX13_takes_0 ?_
  refine g_rdR hx hb hown hts hKn hS h fd_16_16_4 rfl (Or.inl (hts _ q1591)) (fun _ z => z) dX13_takes_1 (fun x1 h => ?_)
  refine g_ifnull (tgt := 22) hx hb dX13_takes_4 (by decide) (fun c_4 => ?_) (fun c_4 => ?_)
  · have h := g_ift c_4 h
    exact sX13_takes_b22 C _ _ h _ _ _ _ _ hS (gls_sub hl [] rfl)
  · have h := g_iff c_4 h
    refine g_aload_n hx hb hl 0 rfl dX13_takes_7 ?_
    refine g_rdR hx hb hown hts hKn hS h fd_16_16_4 rfl (Or.inl (hts _ q1591)) (fun _ z => z) dX13_takes_8 (fun x8 h => ?_)
    refine g_aload_n hx hb hl 1 rfl dX13_takes_11 ?_
    refine g_iload_n hx hb hl 2 rfl dX13_takes_12 ?_
    obtain ⟨z13, h13, h⟩ := g_bnd h
    refine g_valueI (rs := []) hx hb hml hown hts hKn hRc hRs hS hl (gI_top l E D) h13 q831 ⟨by rw [hRf]; exact Nat.le_of_ble_eq_true rfl, by rw [hRl]; exact Nat.le_of_ble_eq_true rfl⟩ rfl (Nat.le_of_ble_eq_true rfl) dX13_takes_13 (fun H locs cells slots hS => ?_)
    refine g_iload_n hx hb hl 3 rfl dX13_takes_18 ?_
    refine lv_icmp_ne (tgt := 26) hx hb dX13_takes_19 (by decide) (fun c_19 => ?_) (fun c_19 => ?_)
    · have h := g_ift c_19 h
      refine lv_iconst (v := 0) hx hb dX13_takes_26 (by decide) ?_
      exact g_zretG hx hb hr hlk hKn hRc hRs hS h dX13_takes_27
    · have h := g_iff (fun z => z c_19) h
      exact sX13_takes_b22 C _ _ h _ _ _ _ _ hS (gls_sub hl [] rfl)
/-- SendHall$Set.comes(LSendHall$Life;I)LSendHall$Step; -/
def fX14_comes (E : g_E) (t : Nat) (v1 : Option Nat) (v2 : Int32) (G : g_G) : Option (Option Nat × g_G) :=
  (grR G 3 3 v1 5).bind fun x1 =>
  (grI G 12 12 (some t) 3).bind fun x8 =>
  (grR G 12 12 (some t) 4).bind fun x13 =>
  (fI_value E gDP x13 v1 v2 G).bind fun z18 =>
  (gsaI E z18.2 x1 ((4 * v2) + x8) z18.1).bind fun G23 =>
  (grR G23 12 12 (some t) 2).bind fun x25 =>
  some (x25, G23)
theorem sX14_comes (l : Launch) (E : g_E) (D : g_D) {t : Nat} {v1 : Option Nat} {v2 : Int32} {G : g_G} {q : Option Nat × g_G} (h : fX14_comes E t v1 v2 G = some q) : gMet l E D yX14_comes (ws_ yX14_comes cX14_comes 3 (some (.object "SendHall$Step"))) 218 7304 [.inr (.inr (some t)), .inr (.inr v1), .inl v2] G (some (va_rf q.1)) q.2 := by
  refine gMet.of (by decide +kernel) (Nat.le_of_ble_eq_true rfl) ?_
  intro p e R s m args below meth c C hS ls hl
  have C : gC p R s m args meth c cX14_comes 3 RX14 "comes" (some (.object "SendHall$Step")) 218 7304 E D := C
  obtain ⟨hx, hb, hml, hown, hts, hKn, hRc, hRs, hc1, hc2, hRf, hRl, hr, hlk, hnm⟩ := id C
  have hl : gls ls 3 [(0, .inr (.inr (some t))), (1, .inr (.inr v1)), (2, .inl v2)] := hl
  generalize s.heap = H at hS ⊢
  unfold fX14_comes at h
  refine g_aload_n hx hb hl 1 rfl dX14_comes_0 ?_
  refine g_rdR hx hb hown hts hKn hS h fd_3_3_5 rfl (Or.inr ⟨_, gNest_use rfl (hKn.2.2.2.2.1 _ (gNest_in q551 rfl))⟩) (fun _ z => z) dX14_comes_1 (fun x1 h => ?_)
  refine lv_iconst (v := 4) hx hb dX14_comes_4 (by decide) ?_
  refine g_iload_n hx hb hl 2 rfl dX14_comes_5 ?_
  refine lv_imul hx hb dX14_comes_6 ?_
  refine g_aload_n hx hb hl 0 rfl dX14_comes_7 ?_
  refine g_rdI hx hb hown hts hKn hS h fd_12_12_3 rfl (Or.inl (hts _ q1625)) (fun _ z => z) dX14_comes_8 (fun x8 h => ?_)
  refine lv_iadd hx hb dX14_comes_11 ?_
  refine g_aload_n hx hb hl 0 rfl dX14_comes_12 ?_
  refine g_rdR hx hb hown hts hKn hS h fd_12_12_4 rfl (Or.inl (hts _ q1626)) (fun _ z => z) dX14_comes_13 (fun x13 h => ?_)
  refine g_aload_n hx hb hl 1 rfl dX14_comes_16 ?_
  refine g_iload_n hx hb hl 2 rfl dX14_comes_17 ?_
  obtain ⟨z18, h18, h⟩ := g_bnd h
  refine g_valueI (rs := [.inl ((4 * v2) + x8), .inr (.inr x1)]) hx hb hml hown hts hKn hRc hRs hS hl (gI_top l E D) h18 q817 ⟨by rw [hRf]; exact Nat.le_of_ble_eq_true rfl, by rw [hRl]; exact Nat.le_of_ble_eq_true rfl⟩ rfl (Nat.le_of_ble_eq_true rfl) dX14_comes_18 (fun H locs cells slots hS => ?_)
  refine g_iastoreG hx hb hKn hS h dX14_comes_23 (fun G23 h H locs hS => ?_)
  refine g_aload_n hx hb hl 0 rfl dX14_comes_24 ?_
  refine g_rdR hx hb hown hts hKn hS h fd_12_12_2 rfl (Or.inl (hts _ q1431)) (u_same (hts _ q1432)) dX14_comes_25 (fun x25 h => ?_)
  exact g_aretG hx hb hr (by first | exact Or.inl ⟨_, rfl⟩ | exact Or.inr ⟨_, rfl⟩) hlk hKn hRc hRs hS h dX14_comes_28
