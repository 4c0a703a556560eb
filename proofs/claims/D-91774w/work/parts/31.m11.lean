set_option maxRecDepth 100000
/-- SendHall$Set.<init>(IILSendHall$Expr;)V -/
def fX14_init (E : g_E) (t : Nat) (v1 : Int32) (v2 : Int32) (v3 : Option Nat) (G : g_G) : Option (g_G) :=
  (fX7_init E t 8 v1 G).bind fun z4 =>
  (gpI E z4 12 12 (some t) 3 v2).bind fun G9 =>
  (gpR E G9 12 12 (some t) 4 v3).bind fun G14 =>
  some G14
theorem sX14_init (l : Launch) (E : g_E) (D : g_D) {t : Nat} {v1 : Int32} {v2 : Int32} {v3 : Option Nat} {G : g_G} {q : g_G} (h : fX14_init E t v1 v2 v3 G = some q) : gMet l E D yX14_init (ws_ yX14_init cX14_init 4 (none)) 2 86 [.inr (.inr (some t)), .inl v1, .inl v2, .inr (.inr v3)] G none q := by
  refine gMet.of (by decide +kernel) (Nat.le_of_ble_eq_true rfl) ?_
  intro p e R s m args below meth c C hS ls hl
  have C : gC p R s m args meth c cX14_init 4 RX14 "<init>" (none) 2 86 E D := C
  obtain ⟨hx, hb, hml, hown, hts, hKn, hRc, hRs, hc1, hc2, hRf, hRl, hr, hlk, hnm⟩ := id C
  have hl : gls ls 4 [(0, .inr (.inr (some t))), (1, .inl v1), (2, .inl v2), (3, .inr (.inr v3))] := hl
  generalize s.heap = H at hS ⊢
  unfold fX14_init at h
  refine g_aload_n hx hb hl 0 rfl dX14_init_0 ?_
  refine lv_bipush (v := 8) hx hb dX14_init_1 (by decide) ?_
  refine g_iload_n hx hb hl 1 rfl dX14_init_3 ?_
  obtain ⟨z4, h4, h⟩ := g_bnd h
  refine g_callI (n := 2) (av := [.inl 8, .inl v1]) (rs := []) hx hb hml hown hts hKn hRc hRs hS hl (sX7_init l E D h4) (lw_meth q1404) (hts _ q141) (hts _ q1624) (hts _ q1403) rfl ⟨by decide, by decide, by decide +kernel⟩ ⟨by rw [hRf]; exact Nat.le_of_ble_eq_true rfl, by rw [hRl]; exact Nat.le_of_ble_eq_true rfl⟩ rfl rfl (Nat.le_of_ble_eq_true rfl) dX14_init_4 (fun H locs cells slots hS => ?_)
  refine g_aload_n hx hb hl 0 rfl dX14_init_7 ?_
  refine g_iload_n hx hb hl 2 rfl dX14_init_8 ?_
  refine g_ptI hx hb hown hts hKn hS h fd_12_12_3 (Or.inl (hts _ q1625)) (fun _ z => z) (fun _ => ⟨hnm, rfl⟩) dX14_init_9 (fun G9 h H locs hS => ?_)
  refine g_aload_n hx hb hl 0 rfl dX14_init_12 ?_
  refine g_aload_n hx hb hl 3 rfl dX14_init_13 ?_
  refine g_ptR hx hb hown hts hKn hS h fd_12_12_4 rfl (Or.inl (hts _ q1626)) (fun _ z => z) (fun _ => ⟨hnm, rfl⟩) dX14_init_14 (fun G14 h H locs hS => ?_)
  exact g_vretG hx hb hr hlk hKn hRc hRs hS h dX14_init_17
/-- SendHall$Tell.comes(LSendHall$Life;I)LSendHall$Step; -/
def fX15_comes (E : g_E) (t : Nat) (v1 : Option Nat) (v2 : Int32) (G : g_G) : Option (Option Nat × g_G) :=
  (grR G 3 3 v1 7).bind fun x1 =>
  (grR G 3 3 v1 7).bind fun x8 =>
  (gaI G 100 x8 v2).bind fun x12 =>
  (grR G 13 13 (some t) 3).bind fun x15 =>
  (fI_value E gDP x15 v1 v2 G).bind fun z20 =>
  (gsaI E z20.2 x1 v2 ((31 * x12) + z20.1)).bind fun G26 =>
  (grR G26 13 13 (some t) 2).bind fun x28 =>
  some (x28, G26)
theorem sX15_comes (l : Launch) (E : g_E) (D : g_D) {t : Nat} {v1 : Option Nat} {v2 : Int32} {G : g_G} {q : Option Nat × g_G} (h : fX15_comes E t v1 v2 G = some q) : gMet l E D yX15_comes (ws_ yX15_comes cX15_comes 3 (some (.object "SendHall$Step"))) 218 7304 [.inr (.inr (some t)), .inr (.inr v1), .inl v2] G (some (va_rf q.1)) q.2 := by
  refine gMet.of (by decide +kernel) (Nat.le_of_ble_eq_true rfl) ?_
  intro p e R s m args below meth c C hS ls hl
  have C : gC p R s m args meth c cX15_comes 3 RX15 "comes" (some (.object "SendHall$Step")) 218 7304 E D := C
  obtain ⟨hx, hb, hml, hown, hts, hKn, hRc, hRs, hc1, hc2, hRf, hRl, hr, hlk, hnm⟩ := id C
  have hl : gls ls 3 [(0, .inr (.inr (some t))), (1, .inr (.inr v1)), (2, .inl v2)] := hl
  generalize s.heap = H at hS ⊢
  unfold fX15_comes at h
  refine g_aload_n hx hb hl 1 rfl dX15_comes_0 ?_
  refine g_rdR hx hb hown hts hKn hS h fd_3_3_7 rfl (Or.inr ⟨_, gNest_use rfl (hKn.2.2.2.2.1 _ (gNest_in q558 rfl))⟩) (fun _ z => z) dX15_comes_1 (fun x1 h => ?_)
  refine g_iload_n hx hb hl 2 rfl dX15_comes_4 ?_
  refine lv_bipush (v := 31) hx hb dX15_comes_5 (by decide) ?_
  refine g_aload_n hx hb hl 1 rfl dX15_comes_7 ?_
  refine g_rdR hx hb hown hts hKn hS h fd_3_3_7 rfl (Or.inr ⟨_, gNest_use rfl (hKn.2.2.2.2.1 _ (gNest_in q558 rfl))⟩) (fun _ z => z) dX15_comes_8 (fun x8 h => ?_)
  refine g_iload_n hx hb hl 2 rfl dX15_comes_11 ?_
  refine g_ialoadG hx hb hKn hS h dX15_comes_12 (fun x12 h => ?_)
  refine lv_imul hx hb dX15_comes_13 ?_
  refine g_aload_n hx hb hl 0 rfl dX15_comes_14 ?_
  refine g_rdR hx hb hown hts hKn hS h fd_13_13_3 rfl (Or.inl (hts _ q1641)) (fun _ z => z) dX15_comes_15 (fun x15 h => ?_)
  refine g_aload_n hx hb hl 1 rfl dX15_comes_18 ?_
  refine g_iload_n hx hb hl 2 rfl dX15_comes_19 ?_
  obtain ⟨z20, h20, h⟩ := g_bnd h
  refine g_valueI (rs := [.inl (31 * x12), .inl v2, .inr (.inr x1)]) hx hb hml hown hts hKn hRc hRs hS hl (gI_top l E D) h20 q822 ⟨by rw [hRf]; exact Nat.le_of_ble_eq_true rfl, by rw [hRl]; exact Nat.le_of_ble_eq_true rfl⟩ rfl (Nat.le_of_ble_eq_true rfl) dX15_comes_20 (fun H locs cells slots hS => ?_)
  refine lv_iadd hx hb dX15_comes_25 ?_
  refine g_iastoreG hx hb hKn hS h dX15_comes_26 (fun G26 h H locs hS => ?_)
  refine g_aload_n hx hb hl 0 rfl dX15_comes_27 ?_
  refine g_rdR hx hb hown hts hKn hS h fd_13_13_2 rfl (Or.inl (hts _ q1433)) (u_same (hts _ q1434)) dX15_comes_28 (fun x28 h => ?_)
  exact g_aretG hx hb hr (by first | exact Or.inl ⟨_, rfl⟩ | exact Or.inr ⟨_, rfl⟩) hlk hKn hRc hRs hS h dX15_comes_31
/-- SendHall$Tell.<init>(ILSendHall$Expr;)V -/
def fX15_init (E : g_E) (t : Nat) (v1 : Int32) (v2 : Option Nat) (G : g_G) : Option (g_G) :=
  (fX7_init E t 9 v1 G).bind fun z4 =>
  (gpR E z4 13 13 (some t) 3 v2).bind fun G9 =>
  some G9
theorem sX15_init (l : Launch) (E : g_E) (D : g_D) {t : Nat} {v1 : Int32} {v2 : Option Nat} {G : g_G} {q : g_G} (h : fX15_init E t v1 v2 G = some q) : gMet l E D yX15_init (ws_ yX15_init cX15_init 3 (none)) 2 86 [.inr (.inr (some t)), .inl v1, .inr (.inr v2)] G none q := by
  refine gMet.of (by decide +kernel) (Nat.le_of_ble_eq_true rfl) ?_
  intro p e R s m args below meth c C hS ls hl
  have C : gC p R s m args meth c cX15_init 3 RX15 "<init>" (none) 2 86 E D := C
  obtain ⟨hx, hb, hml, hown, hts, hKn, hRc, hRs, hc1, hc2, hRf, hRl, hr, hlk, hnm⟩ := id C
  have hl : gls ls 3 [(0, .inr (.inr (some t))), (1, .inl v1), (2, .inr (.inr v2))] := hl
  generalize s.heap = H at hS ⊢
  unfold fX15_init at h
  refine g_aload_n hx hb hl 0 rfl dX15_init_0 ?_
  refine lv_bipush (v := 9) hx hb dX15_init_1 (by decide) ?_
  refine g_iload_n hx hb hl 1 rfl dX15_init_3 ?_
  obtain ⟨z4, h4, h⟩ := g_bnd h
  refine g_callI (n := 2) (av := [.inl 9, .inl v1]) (rs := []) hx hb hml hown hts hKn hRc hRs hS hl (sX7_init l E D h4) (lw_meth q1404) (hts _ q141) (hts _ q1640) (hts _ q1403) rfl ⟨by decide, by decide, by decide +kernel⟩ ⟨by rw [hRf]; exact Nat.le_of_ble_eq_true rfl, by rw [hRl]; exact Nat.le_of_ble_eq_true rfl⟩ rfl rfl (Nat.le_of_ble_eq_true rfl) dX15_init_4 (fun H locs cells slots hS => ?_)
  refine g_aload_n hx hb hl 0 rfl dX15_init_7 ?_
  refine g_aload_n hx hb hl 2 rfl dX15_init_8 ?_
  refine g_ptR hx hb hown hts hKn hS h fd_13_13_3 rfl (Or.inl (hts _ q1641)) (fun _ z => z) (fun _ => ⟨hnm, rfl⟩) dX15_init_9 (fun G9 h H locs hS => ?_)
  exact g_vretG hx hb hr hlk hKn hRc hRs hS h dX15_init_12
/-- SendHall$If.comes(LSendHall$Life;I)LSendHall$Step; -/
def fX16_comes (E : g_E) (t : Nat) (v1 : Option Nat) (v2 : Int32) (G : g_G) : Option (Option Nat × g_G) :=
  (grR G 14 14 (some t) 3).bind fun x1 =>
  (fI_value E gDP x1 v1 v2 G).bind fun z6 =>
  if z6.1 = 0 then (
    (grR z6.2 14 14 (some t) 5).bind fun x22 =>
    some (x22, z6.2))
  else (
    (grR z6.2 14 14 (some t) 4).bind fun x15 =>
    some (x15, z6.2))
theorem sX16_comes (l : Launch) (E : g_E) (D : g_D) {t : Nat} {v1 : Option Nat} {v2 : Int32} {G : g_G} {q : Option Nat × g_G} (h : fX16_comes E t v1 v2 G = some q) : gMet l E D yX16_comes (ws_ yX16_comes cX16_comes 3 (some (.object "SendHall$Step"))) 218 7304 [.inr (.inr (some t)), .inr (.inr v1), .inl v2] G (some (va_rf q.1)) q.2 := by
  refine gMet.of (by decide +kernel) (Nat.le_of_ble_eq_true rfl) ?_
  intro p e R s m args below meth c C hS ls hl
  have C : gC p R s m args meth c cX16_comes 3 RX16 "comes" (some (.object "SendHall$Step")) 218 7304 E D := C
  obtain ⟨hx, hb, hml, hown, hts, hKn, hRc, hRs, hc1, hc2, hRf, hRl, hr, hlk, hnm⟩ := id C
  have hl : gls ls 3 [(0, .inr (.inr (some t))), (1, .inr (.inr v1)), (2, .inl v2)] := hl
  generalize s.heap = H at hS ⊢
  unfold fX16_comes at h
  refine g_aload_n hx hb hl 0 rfl dX16_comes_0 ?_
  refine g_rdR hx hb hown hts hKn hS h fd_14_14_3 rfl (Or.inl (hts _ q1658)) (fun _ z => z) dX16_comes_1 (fun x1 h => ?_)
  refine g_aload_n hx hb hl 1 rfl dX16_comes_4 ?_
  refine g_iload_n hx hb hl 2 rfl dX16_comes_5 ?_
  obtain ⟨z6, h6, h⟩ := g_bnd h
  refine g_valueI (rs := []) hx hb hml hown hts hKn hRc hRs hS hl (gI_top l E D) h6 q743 ⟨by rw [hRf]; exact Nat.le_of_ble_eq_true rfl, by rw [hRl]; exact Nat.le_of_ble_eq_true rfl⟩ rfl (Nat.le_of_ble_eq_true rfl) dX16_comes_6 (fun H locs cells slots hS => ?_)
  refine lv_if_eq (tgt := 21) hx hb dX16_comes_11 (by decide) (fun c_11 => ?_) (fun c_11 => ?_)
  · have h := g_ift c_11 h
    refine g_aload_n hx hb hl 0 rfl dX16_comes_21 ?_
    refine g_rdR hx hb hown hts hKn hS h fd_14_14_5 rfl (Or.inl (hts _ q1661)) (fun _ z => z) dX16_comes_22 (fun x22 h => ?_)
    exact g_aretG hx hb hr (by first | exact Or.inl ⟨_, rfl⟩ | exact Or.inr ⟨_, rfl⟩) hlk hKn hRc hRs hS h dX16_comes_25
  · have h := g_iff c_11 h
    refine g_aload_n hx hb hl 0 rfl dX16_comes_14 ?_
    refine g_rdR hx hb hown hts hKn hS h fd_14_14_4 rfl (Or.inl (hts _ q1659)) (fun _ z => z) dX16_comes_15 (fun x15 h => ?_)
    refine lv_goto (tgt := 25) hx hb dX16_comes_18 (by decide) ?_
    exact g_aretG hx hb hr (by first | exact Or.inl ⟨_, rfl⟩ | exact Or.inr ⟨_, rfl⟩) hlk hKn hRc hRs hS h dX16_comes_25
/-- SendHall$If.<init>(ILSendHall$Expr;)V -/
def fX16_init (E : g_E) (t : Nat) (v1 : Int32) (v2 : Option Nat) (G : g_G) : Option (g_G) :=
  (fX7_init E t 10 v1 G).bind fun z4 =>
  (gpR E z4 14 14 (some t) 3 v2).bind fun G9 =>
  some G9
theorem sX16_init (l : Launch) (E : g_E) (D : g_D) {t : Nat} {v1 : Int32} {v2 : Option Nat} {G : g_G} {q : g_G} (h : fX16_init E t v1 v2 G = some q) : gMet l E D yX16_init (ws_ yX16_init cX16_init 3 (none)) 2 86 [.inr (.inr (some t)), .inl v1, .inr (.inr v2)] G none q := by
  refine gMet.of (by decide +kernel) (Nat.le_of_ble_eq_true rfl) ?_
  intro p e R s m args below meth c C hS ls hl
  have C : gC p R s m args meth c cX16_init 3 RX16 "<init>" (none) 2 86 E D := C
  obtain ⟨hx, hb, hml, hown, hts, hKn, hRc, hRs, hc1, hc2, hRf, hRl, hr, hlk, hnm⟩ := id C
  have hl : gls ls 3 [(0, .inr (.inr (some t))), (1, .inl v1), (2, .inr (.inr v2))] := hl
  generalize s.heap = H at hS ⊢
  unfold fX16_init at h
  refine g_aload_n hx hb hl 0 rfl dX16_init_0 ?_
  refine lv_bipush (v := 10) hx hb dX16_init_1 (by decide) ?_
  refine g_iload_n hx hb hl 1 rfl dX16_init_3 ?_
  obtain ⟨z4, h4, h⟩ := g_bnd h
  refine g_callI (n := 2) (av := [.inl 10, .inl v1]) (rs := []) hx hb hml hown hts hKn hRc hRs hS hl (sX7_init l E D h4) (lw_meth q1404) (hts _ q141) (hts _ q1657) (hts _ q1403) rfl ⟨by decide, by decide, by decide +kernel⟩ ⟨by rw [hRf]; exact Nat.le_of_ble_eq_true rfl, by rw [hRl]; exact Nat.le_of_ble_eq_true rfl⟩ rfl rfl (Nat.le_of_ble_eq_true rfl) dX16_init_4 (fun H locs cells slots hS => ?_)
  refine g_aload_n hx hb hl 0 rfl dX16_init_7 ?_
  refine g_aload_n hx hb hl 2 rfl dX16_init_8 ?_
  refine g_ptR hx hb hown hts hKn hS h fd_14_14_3 rfl (Or.inl (hts _ q1658)) (fun _ z => z) (fun _ => ⟨hnm, rfl⟩) dX16_init_9 (fun G9 h H locs hS => ?_)
  exact g_vretG hx hb hr hlk hKn hRc hRs hS h dX16_init_12
/-- SendHall$Plain.<init>(II)V -/
def fX17_init (E : g_E) (t : Nat) (v1 : Int32) (v2 : Int32) (G : g_G) : Option (g_G) :=
  (fX7_init E t v1 v2 G).bind fun z3 =>
  some z3
theorem sX17_init (l : Launch) (E : g_E) (D : g_D) {t : Nat} {v1 : Int32} {v2 : Int32} {G : g_G} {q : g_G} (h : fX17_init E t v1 v2 G = some q) : gMet l E D yX17_init (ws_ yX17_init cX17_init 3 (none)) 2 86 [.inr (.inr (some t)), .inl v1, .inl v2] G none q := by
  refine gMet.of (by decide +kernel) (Nat.le_of_ble_eq_true rfl) ?_
  intro p e R s m args below meth c C hS ls hl
  have C : gC p R s m args meth c cX17_init 3 RX17 "<init>" (none) 2 86 E D := C
  obtain ⟨hx, hb, hml, hown, hts, hKn, hRc, hRs, hc1, hc2, hRf, hRl, hr, hlk, hnm⟩ := id C
  have hl : gls ls 3 [(0, .inr (.inr (some t))), (1, .inl v1), (2, .inl v2)] := hl
  generalize s.heap = H at hS ⊢
  unfold fX17_init at h
  refine g_aload_n hx hb hl 0 rfl dX17_init_0 ?_
  refine g_iload_n hx hb hl 1 rfl dX17_init_1 ?_
  refine g_iload_n hx hb hl 2 rfl dX17_init_2 ?_
  obtain ⟨z3, h3, h⟩ := g_bnd h
  refine g_callI (n := 2) (av := [.inl v1, .inl v2]) (rs := []) hx hb hml hown hts hKn hRc hRs hS hl (sX7_init l E D h3) (lw_meth q1404) (hts _ q141) (hts _ q1685) (hts _ q1403) rfl ⟨by decide, by decide, by decide +kernel⟩ ⟨by rw [hRf]; exact Nat.le_of_ble_eq_true rfl, by rw [hRl]; exact Nat.le_of_ble_eq_true rfl⟩ rfl rfl (Nat.le_of_ble_eq_true rfl) dX17_init_3 (fun H locs cells slots hS => ?_)
  exact g_vretG hx hb hr hlk hKn hRc hRs hS h dX17_init_6
/-- SendHall.areAllAt(LSendHall$Life;I)Z -/
def fX1_areAllAt_b2 (E : g_E) : Nat → (Option Nat) → Int32 → Int32 → g_G → Option (Int32 × g_G)
  | 0, _, _, _, _ => none
  | n + 1, v1, v2, v3, G =>
    (grI G 3 3 v1 0).bind fun x4 =>
    if x4 ≤ v3 then (
      if (1 : Int32) = 0 ∨ (1 : Int32) = 1 then some (1, G) else none)
    else (
      (gchk G 3 v1).bind fun b13 =>
      (fX3_isAt E b13 v3 v2 G).bind fun z13 =>
      if ¬ z13.1 = 0 then (
        fX1_areAllAt_b2 E n v1 v2 (v3 + 1) z13.2)
      else (
        if (0 : Int32) = 0 ∨ (0 : Int32) = 1 then some (0, z13.2) else none))
def fX1_areAllAt (E : g_E) (t : Nat) (v1 : Option Nat) (v2 : Int32) (G : g_G) : Option (Int32 × g_G) :=
  fX1_areAllAt_b2 E gFU v1 v2 0 G
theorem sX1_areAllAt_b2 {p : Program} {l : Launch} {e : Env} {R : Room} {s : State} {m : MethodId} {args : Array Value} {below : List Frame} {meth : Method} {c : Code} {E : g_E} {D : g_D} (C : gC p R s m args meth c cX1_areAllAt 4 RX1 "areAllAt" (some .boolean) 2 86 E D) : ∀ (n : Nat) (v1 : Option Nat) (v2 : Int32) (v3 : Int32) (G : g_G) (q : Int32 × g_G), fX1_areAllAt_b2 E n v1 v2 v3 G = some q → ∀ (H : Heap) (locs : List Loc) (cells slots : Nat) (ls : Array Slot), gSt E D G H locs → gls ls 4 [(1, .inr (.inr v1)), (2, .inl v2), (3, .inl v3)] → gT p l e R s m args below meth c E D H locs cells slots (some (.int q.1)) q.2 (F0 m 2 ls []) := by
  obtain ⟨hx, hb, hml, hown, hts, hKn, hRc, hRs, hc1, hc2, hRf, hRl, hr, hlk, hnm⟩ := id C
  intro n
  induction n with
  | zero =>
    intro v1 v2 v3 G q h
    exact g_no h
  | succ n ih =>
    intro v1 v2 v3 G q h H locs cells slots ls hS hl
    rw [fX1_areAllAt_b2] at h
    refine g_iload_n hx hb hl 2 rfl dX1_areAllAt_2 ?_
    refine g_aload_n hx hb hl 0 rfl dX1_areAllAt_3 ?_
    refine g_rdI hx hb hown hts hKn hS h fd_3_3_0 rfl (Or.inr ⟨_, gNest_use rfl (hKn.2.2.2.2.1 _ (gNest_in q537 rfl))⟩) (fun _ z => z) dX1_areAllAt_4 (fun x4 h => ?_)
    refine lv_icmp_ge (tgt := 27) hx hb dX1_areAllAt_7 (by decide) (fun c_7 => ?_) (fun c_7 => ?_)
    · have h := g_ift c_7 h
      refine lv_iconst (v := 1) hx hb dX1_areAllAt_27 (by decide) ?_
      exact g_zretG hx hb hr hlk hKn hRc hRs hS h dX1_areAllAt_28
    · have h := g_iff c_7 h
      refine g_aload_n hx hb hl 0 rfl dX1_areAllAt_10 ?_
      refine g_iload_n hx hb hl 2 rfl dX1_areAllAt_11 ?_
      refine g_iload_n hx hb hl 1 rfl dX1_areAllAt_12 ?_
      obtain ⟨b13, hb13, h⟩ := g_bnd h
      obtain ⟨hr13, hk13⟩ := g_chk hb13
      obtain ⟨z13, h13, h⟩ := g_bnd h
      refine g_callV (n := 2) (b := b13) (av := [.inl v3, .inl v2]) (rs := []) hx hb hml hown hts hKn hRc hRs hS hl (sX3_isAt l E D h13) (lw_V q874 q875 q876 q134 q877) ⟨rfl, by decide, by decide, by decide +kernel⟩ ⟨by rw [hRf]; exact Nat.le_of_ble_eq_true rfl, by rw [hRl]; exact Nat.le_of_ble_eq_true rfl⟩ (g_recv hKn hS hk13 (by decide) (by decide)) rfl (by rw [hr13]; rfl) (Nat.le_of_ble_eq_true rfl) dX1_areAllAt_13 (fun H locs cells slots hS => ?_)
      refine lv_if_ne (tgt := 21) hx hb dX1_areAllAt_16 (by decide) (fun c_16 => ?_) (fun c_16 => ?_)
      · have h := g_ift c_16 h
        refine g_iinc (l1 := [(3, .inl (v3 + 1)), (1, .inr (.inr v1)), (2, .inl v2)]) (v := (v3 + 1)) hx hb hl (k := 2) rfl (by rfl) (by decide) rfl dX1_areAllAt_21 (fun ls hl => ?_)
        refine lv_goto (tgt := 2) hx hb dX1_areAllAt_24 (by decide) ?_
        exact ih _ _ _ _ _ h _ _ _ _ _ hS (gls_sub hl [1, 2, 0] rfl)
      · have h := g_iff (fun z => z c_16) h
        refine lv_iconst (v := 0) hx hb dX1_areAllAt_19 (by decide) ?_
        exact g_zretG hx hb hr hlk hKn hRc hRs hS h dX1_areAllAt_20
theorem sX1_areAllAt (l : Launch) (E : g_E) (D : g_D) {t : Nat} {v1 : Option Nat} {v2 : Int32} {G : g_G} {q : Int32 × g_G} (h : fX1_areAllAt E t v1 v2 G = some q) : gMet l E D yX1_areAllAt (ws_ yX1_areAllAt cX1_areAllAt 4 (some .boolean)) 2 86 [.inr (.inr (some t)), .inr (.inr v1), .inl v2] G (some (.int q.1)) q.2 := by
  refine gMet.of (by decide +kernel) (Nat.le_of_ble_eq_true rfl) ?_
  intro p e R s m args below meth c C hS ls hl
  have C : gC p R s m args meth c cX1_areAllAt 4 RX1 "areAllAt" (some .boolean) 2 86 E D := C
  obtain ⟨hx, hb, hml, hown, hts, hKn, hRc, hRs, hc1, hc2, hRf, hRl, hr, hlk, hnm⟩ := id C
  have hl : gls ls 4 [(0, .inr (.inr (some t))), (1, .inr (.inr v1)), (2, .inl v2)] := hl
  generalize s.heap = H at hS ⊢
  unfold fX1_areAllAt at h
  refine lv_iconst (v := 0) hx hb dX1_areAllAt_0 (by decide) ?_
  refine g_istore_n (l1 := [(3, .inl 0), (0, .inr (.inr (some t))), (1, .inr (.inr v1)), (2, .inl v2)]) hx hb hl (by decide) rfl dX1_areAllAt_1 (fun ls hl => ?_)
  exact sX1_areAllAt_b2 C gFU _ _ _ _ _ h _ _ _ _ _ hS (gls_sub hl [2, 3, 0] rfl)
/-- SendHall.chose(I)I -/
def fX1_chose_b25 (E : g_E) (t : Nat) (v1 : Int32) (s0 : Int32) (G : g_G) : Option ((Int32 × g_G) ⊕ gX) :=
  gcat (fX1_there E s0 G) (fun z25 =>
    if ¬ v1 = (-1 : Int32) then (
      (grR z25 1 1 (some t) 30).bind fun x41 =>
      (gaI z25 100 x41 v1).bind fun x45 =>
      some (.inl (x45, z25)))
    else (
      (grI z25 1 1 (some t) 31).bind fun x34 =>
      some (.inl (x34, z25))))
  (fun y => some (.inr y))
def fX1_chose_b24 (E : g_E) (t : Nat) (v1 : Int32) (G : g_G) : Option ((Int32 × g_G) ⊕ gX) :=
  fX1_chose_b25 E t v1 0 G
def fX1_chose (E : g_E) (t : Nat) (v1 : Int32) (G : g_G) : Option ((Int32 × g_G) ⊕ gX) :=
  (grI G 1 1 (some t) 21).bind fun x1 =>
  if x1 = 0 then (
    fX1_chose_b24 E t v1 G)
  else (
    if v1 < (-1 : Int32) then (
      fX1_chose_b24 E t v1 G)
    else (
      (grI G 1 1 (some t) 31).bind fun x14 =>
      if x14 ≤ v1 then (
        fX1_chose_b24 E t v1 G)
      else (
        fX1_chose_b25 E t v1 1 G)))
theorem sX1_chose_b25 {p : Program} {l : Launch} {e : Env} {R : Room} {s : State} {m : MethodId} {args : Array Value} {below : List Frame} {meth : Method} {c : Code} {E : g_E} {D : g_D} (C : gC p R s m args meth c cX1_chose 2 RX1 "chose" (some .int) 9 140 E D) (hlT : l.stackTraces = false) (htab : c.exceptionTable.toList = []) : ∀ (t : Nat) (v1 : Int32) (s0 : Int32) (G : g_G) (q : (Int32 × g_G) ⊕ gX), fX1_chose_b25 E t v1 s0 G = some q → ∀ (H : Heap) (locs : List Loc) (cells slots : Nat) (ls : Array Slot), gSt E D G H locs → gls ls 2 [(0, .inr (.inr (some t))), (1, .inl v1)] → gTX p l e R s m args below meth c E D H locs cells slots gokI q (F0 m 25 ls [.int s0]) := by
  obtain ⟨hx, hb, hml, hown, hts, hKn, hRc, hRs, hc1, hc2, hRf, hRl, hr, hlk, hnm⟩ := id C
  intro t v1 s0 G q h H locs cells slots ls hS hl
  unfold fX1_chose_b25 at h
  obtain ⟨o25, h25, ha25, hx25⟩ := g_catE h
  refine g_callSt (n := 1) (av := [.inl s0]) (rs := []) hx hb hml hown hts hKn hRc hRs hS hl (sX1_there l E D hlT h25) (lw_S q1721 q1722 q113 q1723) ⟨by decide, by decide, by decide +kernel⟩ ⟨by rw [hRf]; exact Nat.le_of_ble_eq_true rfl, by rw [hRl]; exact Nat.le_of_ble_eq_true rfl⟩ rfl rfl (Nat.le_of_ble_eq_true rfl) dX1_chose_25 (fun z25 e25 H locs cells slots hS => ?_) (fun k25 a25 G25 e25 n1 n2 nk nB H locs cells slots hS => ?_)
  · have h := ha25 _ e25
    refine g_iload_n hx hb hl 1 rfl dX1_chose_28 ?_
    refine lv_iconst (v := (-1)) hx hb dX1_chose_29 (by decide) ?_
    refine lv_icmp_ne (tgt := 40) hx hb dX1_chose_30 (by decide) (fun c_30 => ?_) (fun c_30 => ?_)
    · have h := g_ift c_30 h
      refine g_aload_n hx hb hl 0 rfl dX1_chose_40 ?_
      refine g_rdR hx hb hown hts hKn hS h fd_1_1_30 rfl (Or.inl (hts _ q627)) (fun _ z => z) dX1_chose_41 (fun x41 h => ?_)
      refine g_iload_n hx hb hl 1 rfl dX1_chose_44 ?_
      refine g_ialoadG hx hb hKn hS h dX1_chose_45 (fun x45 h => ?_)
      exact g_retX (g_iretG hx hb hr hlk hKn hRc hRs hS (q := (x45, z25)) rfl dX1_chose_46) h rfl
    · have h := g_iff (fun z => z c_30) h
      refine g_aload_n hx hb hl 0 rfl dX1_chose_33 ?_
      refine g_rdI hx hb hown hts hKn hS h fd_1_1_31 rfl (Or.inl (hts _ q628)) (fun _ z => z) dX1_chose_34 (fun x34 h => ?_)
      refine lv_goto (tgt := 46) hx hb dX1_chose_37 (by decide) ?_
      exact g_retX (g_iretG hx hb hr hlk hKn hRc hRs hS (q := (x34, z25)) rfl dX1_chose_46) h rfl
  · have h := hx25 _ e25
    exact g_outX (by rw [htab]; decide) hlk hKn hRc hRs hS n1 n2 nB nk h
theorem sX1_chose_b24 {p : Program} {l : Launch} {e : Env} {R : Room} {s : State} {m : MethodId} {args : Array Value} {below : List Frame} {meth : Method} {c : Code} {E : g_E} {D : g_D} (C : gC p R s m args meth c cX1_chose 2 RX1 "chose" (some .int) 9 140 E D) (hlT : l.stackTraces = false) (htab : c.exceptionTable.toList = []) : ∀ (t : Nat) (v1 : Int32) (G : g_G) (q : (Int32 × g_G) ⊕ gX), fX1_chose_b24 E t v1 G = some q → ∀ (H : Heap) (locs : List Loc) (cells slots : Nat) (ls : Array Slot), gSt E D G H locs → gls ls 2 [(0, .inr (.inr (some t))), (1, .inl v1)] → gTX p l e R s m args below meth c E D H locs cells slots gokI q (F0 m 24 ls []) := by
  obtain ⟨hx, hb, hml, hown, hts, hKn, hRc, hRs, hc1, hc2, hRf, hRl, hr, hlk, hnm⟩ := id C
  intro t v1 G q h H locs cells slots ls hS hl
  unfold fX1_chose_b24 at h
  refine lv_iconst (v := 0) hx hb dX1_chose_24 (by decide) ?_
  exact sX1_chose_b25 C hlT htab _ _ _ _ _ h _ _ _ _ _ hS (gls_sub hl [0, 1] rfl)
theorem sX1_chose (l : Launch) (E : g_E) (D : g_D) (hlT : l.stackTraces = false) {t : Nat} {v1 : Int32} {G : g_G} {q : (Int32 × g_G) ⊕ gX} (h : fX1_chose E t v1 G = some q) : gMetX l E D yX1_chose (ws_ yX1_chose cX1_chose 2 (some .int)) 9 140 [.inr (.inr (some t)), .inl v1] G gokI q := by
  refine gMetX.of (by decide +kernel) (Nat.le_of_ble_eq_true rfl) ?_
  intro p e R s m args below meth c C htab hS ls hl
  have C : gC p R s m args meth c cX1_chose 2 RX1 "chose" (some .int) 9 140 E D := C
  obtain ⟨hx, hb, hml, hown, hts, hKn, hRc, hRs, hc1, hc2, hRf, hRl, hr, hlk, hnm⟩ := id C
  have hl : gls ls 2 [(0, .inr (.inr (some t))), (1, .inl v1)] := hl
  generalize hH0 : s.heap = H at hS ⊢
  unfold fX1_chose at h
  refine g_aload_n hx hb hl 0 rfl dX1_chose_0 ?_
  refine g_rdI hx hb hown hts hKn hS h fd_1_1_21 rfl (Or.inl (hts _ q618)) (fun _ z => z) dX1_chose_1 (fun x1 h => ?_)
  refine lv_if_eq (tgt := 24) hx hb dX1_chose_4 (by decide) (fun c_4 => ?_) (fun c_4 => ?_)
  · have h := g_ift c_4 h
    exact sX1_chose_b24 C hlT htab _ _ _ _ h _ _ _ _ _ hS (gls_sub hl [0, 1] rfl)
  · have h := g_iff c_4 h
    refine g_iload_n hx hb hl 1 rfl dX1_chose_7 ?_
    refine lv_iconst (v := (-1)) hx hb dX1_chose_8 (by decide) ?_
    refine lv_icmp_lt (tgt := 24) hx hb dX1_chose_9 (by decide) (fun c_9 => ?_) (fun c_9 => ?_)
    · have h := g_ift c_9 h
      exact sX1_chose_b24 C hlT htab _ _ _ _ h _ _ _ _ _ hS (gls_sub hl [0, 1] rfl)
    · have h := g_iff c_9 h
      refine g_iload_n hx hb hl 1 rfl dX1_chose_12 ?_
      refine g_aload_n hx hb hl 0 rfl dX1_chose_13 ?_
      refine g_rdI hx hb hown hts hKn hS h fd_1_1_31 rfl (Or.inl (hts _ q628)) (fun _ z => z) dX1_chose_14 (fun x14 h => ?_)
      refine lv_icmp_ge (tgt := 24) hx hb dX1_chose_17 (by decide) (fun c_17 => ?_) (fun c_17 => ?_)
      · have h := g_ift c_17 h
        exact sX1_chose_b24 C hlT htab _ _ _ _ h _ _ _ _ _ hS (gls_sub hl [0, 1] rfl)
      · have h := g_iff c_17 h
        refine lv_iconst (v := 1) hx hb dX1_chose_20 (by decide) ?_
        refine lv_goto (tgt := 25) hx hb dX1_chose_21 (by decide) ?_
        exact sX1_chose_b25 C hlT htab _ _ _ _ _ h _ _ _ _ _ hS (gls_sub hl [0, 1] rfl)
/-- SendHall.count(I)I -/
def fX1_count (E : g_E) (t : Nat) (v1 : Int32) (G : g_G) : Option ((Int32 × g_G) ⊕ gX) :=
  (fX1_within E v1 0 6 G).bind fun z4 =>
  gcat (fX1_there E z4.1 z4.2) (fun z7 =>
    if v1 = 0 then (
      (grR z7 1 1 (some t) 4).bind fun x49 =>
      (grR z7 2 2 x49 0).bind fun x52 =>
      (gchk z7 17 x52).bind fun b55 =>
      (fJ2_size E b55 z7).bind fun z55 =>
      some (.inl (z55.1, z55.2)))
    else
    if v1 = 1 then (
      (grR z7 1 1 (some t) 4).bind fun x60 =>
      (grI z7 2 2 x60 2).bind fun x63 =>
      some (.inl (x63, z7)))
    else
    if v1 = 2 then (
      (grI z7 1 1 (some t) 0).bind fun x68 =>
      some (.inl (x68, z7)))
    else
    if v1 = 3 then (
      (grI z7 1 1 (some t) 1).bind fun x73 =>
      some (.inl (x73, z7)))
    else
    if v1 = 4 then (
      (grI z7 1 1 (some t) 2).bind fun x78 =>
      some (.inl (x78, z7)))
    else
    if v1 = 5 then (
      (grI z7 1 1 (some t) 3).bind fun x83 =>
      some (.inl (x83, z7)))
    else
    (
      (grI z7 1 1 (some t) 10).bind fun x88 =>
      some (.inl (x88, z7))))
  (fun y => some (.inr y))
theorem sX1_count (l : Launch) (E : g_E) (D : g_D) (hlT : l.stackTraces = false) {t : Nat} {v1 : Int32} {G : g_G} {q : (Int32 × g_G) ⊕ gX} (h : fX1_count E t v1 G = some q) : gMetX l E D yX1_count (ws_ yX1_count cX1_count 2 (some .int)) 9 140 [.inr (.inr (some t)), .inl v1] G gokI q := by
  refine gMetX.of (by decide +kernel) (Nat.le_of_ble_eq_true rfl) ?_
  intro p e R s m args below meth c C htab hS ls hl
  have C : gC p R s m args meth c cX1_count 2 RX1 "count" (some .int) 9 140 E D := C
  obtain ⟨hx, hb, hml, hown, hts, hKn, hRc, hRs, hc1, hc2, hRf, hRl, hr, hlk, hnm⟩ := id C
  have hl : gls ls 2 [(0, .inr (.inr (some t))), (1, .inl v1)] := hl
  generalize hH0 : s.heap = H at hS ⊢
  unfold fX1_count at h
  refine g_iload_n hx hb hl 1 rfl dX1_count_0 ?_
  refine lv_iconst (v := 0) hx hb dX1_count_1 (by decide) ?_
  refine lv_bipush (v := 6) hx hb dX1_count_2 (by decide) ?_
  obtain ⟨z4, h4, h⟩ := g_bnd h
  refine g_callS (n := 3) (av := [.inl v1, .inl 0, .inl 6]) (rs := []) hx hb hml hown hts hKn hRc hRs hS hl (sX1_within l E D h4) (lw_S q713 q714 q113 q715) ⟨by decide, by decide, by decide +kernel⟩ ⟨by rw [hRf]; exact Nat.le_of_ble_eq_true rfl, by rw [hRl]; exact Nat.le_of_ble_eq_true rfl⟩ rfl rfl (Nat.le_of_ble_eq_true rfl) dX1_count_4 (fun H locs cells slots hS => ?_)
  obtain ⟨o7, h7, ha7, hx7⟩ := g_catE h
  refine g_callSt (n := 1) (av := [.inl z4.1]) (rs := []) hx hb hml hown hts hKn hRc hRs hS hl (sX1_there l E D hlT h7) (lw_S q1721 q1722 q113 q1723) ⟨by decide, by decide, by decide +kernel⟩ ⟨by rw [hRf]; exact Nat.le_of_ble_eq_true rfl, by rw [hRl]; exact Nat.le_of_ble_eq_true rfl⟩ rfl rfl (Nat.le_of_ble_eq_true rfl) dX1_count_7 (fun z7 e7 H locs cells slots hS => ?_) (fun k7 a7 G7 e7 n1 n2 nk nB H locs cells slots hS => ?_)
  · have h := ha7 _ e7
    refine g_iload_n hx hb hl 1 rfl dX1_count_10 ?_
    by_cases w11_0 : v1 = 0
    · refine lv_tableIn (tgt := 48) (off := 37) hx hb dX1_count_11 (by rw [w11_0]; decide) (by rw [w11_0]; decide) (by rw [w11_0]; decide) (by decide) ?_
      have h := g_ift w11_0 h
      refine g_aload_n hx hb hl 0 rfl dX1_count_48 ?_
      refine g_rdR hx hb hown hts hKn hS h fd_1_1_4 rfl (Or.inl (hts _ q601)) (fun _ z => z) dX1_count_49 (fun x49 h => ?_)
      refine g_rdR hx hb hown hts hKn hS h fd_2_2_0 rfl (Or.inr ⟨_, gNest_use rfl (hKn.2.2.2.2.1 _ (gNest_in q514 rfl))⟩) (fun _ z => z) dX1_count_52 (fun x52 h => ?_)
      obtain ⟨b55, hb55, h⟩ := g_bnd h
      obtain ⟨hr55, hk55⟩ := g_chk hb55
      obtain ⟨z55, h55, h⟩ := g_bnd h
      refine g_callV (n := 0) (b := b55) (av := []) (rs := []) hx hb hml hown hts hKn hRc hRs hS hl (sJ2_size l E D h55) (lw_V q995 q782 q783 q117 q784) ⟨rfl, by decide, by decide, by decide +kernel⟩ ⟨by rw [hRf]; exact Nat.le_of_ble_eq_true rfl, by rw [hRl]; exact Nat.le_of_ble_eq_true rfl⟩ (g_recv hKn hS hk55 (by decide) (by decide)) rfl (by rw [hr55]; rfl) (Nat.le_of_ble_eq_true rfl) dX1_count_55 (fun H locs cells slots hS => ?_)
      exact g_retX (g_iretG hx hb hr hlk hKn hRc hRs hS (q := (z55.1, z55.2)) rfl dX1_count_58) h rfl
    have h := g_iff w11_0 h
    by_cases w11_1 : v1 = 1
    · refine lv_tableIn (tgt := 59) (off := 48) hx hb dX1_count_11 (by rw [w11_1]; decide) (by rw [w11_1]; decide) (by rw [w11_1]; decide) (by decide) ?_
      have h := g_ift w11_1 h
      refine g_aload_n hx hb hl 0 rfl dX1_count_59 ?_
      refine g_rdR hx hb hown hts hKn hS h fd_1_1_4 rfl (Or.inl (hts _ q601)) (fun _ z => z) dX1_count_60 (fun x60 h => ?_)
      refine g_rdI hx hb hown hts hKn hS h fd_2_2_2 rfl (Or.inr ⟨_, gNest_use rfl (hKn.2.2.2.2.1 _ (gNest_in q518 rfl))⟩) (fun _ z => z) dX1_count_63 (fun x63 h => ?_)
      exact g_retX (g_iretG hx hb hr hlk hKn hRc hRs hS (q := (x63, z7)) rfl dX1_count_66) h rfl
    have h := g_iff w11_1 h
    by_cases w11_2 : v1 = 2
    · refine lv_tableIn (tgt := 67) (off := 56) hx hb dX1_count_11 (by rw [w11_2]; decide) (by rw [w11_2]; decide) (by rw [w11_2]; decide) (by decide) ?_
      have h := g_ift w11_2 h
      refine g_aload_n hx hb hl 0 rfl dX1_count_67 ?_
      refine g_rdI hx hb hown hts hKn hS h fd_1_1_0 rfl (Or.inl (hts _ q597)) (fun _ z => z) dX1_count_68 (fun x68 h => ?_)
      exact g_retX (g_iretG hx hb hr hlk hKn hRc hRs hS (q := (x68, z7)) rfl dX1_count_71) h rfl
    have h := g_iff w11_2 h
    by_cases w11_3 : v1 = 3
    · refine lv_tableIn (tgt := 72) (off := 61) hx hb dX1_count_11 (by rw [w11_3]; decide) (by rw [w11_3]; decide) (by rw [w11_3]; decide) (by decide) ?_
      have h := g_ift w11_3 h
      refine g_aload_n hx hb hl 0 rfl dX1_count_72 ?_
      refine g_rdI hx hb hown hts hKn hS h fd_1_1_1 rfl (Or.inl (hts _ q598)) (fun _ z => z) dX1_count_73 (fun x73 h => ?_)
      exact g_retX (g_iretG hx hb hr hlk hKn hRc hRs hS (q := (x73, z7)) rfl dX1_count_76) h rfl
    have h := g_iff w11_3 h
    by_cases w11_4 : v1 = 4
    · refine lv_tableIn (tgt := 77) (off := 66) hx hb dX1_count_11 (by rw [w11_4]; decide) (by rw [w11_4]; decide) (by rw [w11_4]; decide) (by decide) ?_
      have h := g_ift w11_4 h
      refine g_aload_n hx hb hl 0 rfl dX1_count_77 ?_
      refine g_rdI hx hb hown hts hKn hS h fd_1_1_2 rfl (Or.inl (hts _ q599)) (fun _ z => z) dX1_count_78 (fun x78 h => ?_)
      exact g_retX (g_iretG hx hb hr hlk hKn hRc hRs hS (q := (x78, z7)) rfl dX1_count_81) h rfl
    have h := g_iff w11_4 h
    by_cases w11_5 : v1 = 5
    · refine lv_tableIn (tgt := 82) (off := 71) hx hb dX1_count_11 (by rw [w11_5]; decide) (by rw [w11_5]; decide) (by rw [w11_5]; decide) (by decide) ?_
      have h := g_ift w11_5 h
      refine g_aload_n hx hb hl 0 rfl dX1_count_82 ?_
      refine g_rdI hx hb hown hts hKn hS h fd_1_1_3 rfl (Or.inl (hts _ q600)) (fun _ z => z) dX1_count_83 (fun x83 h => ?_)
      exact g_retX (g_iretG hx hb hr hlk hKn hRc hRs hS (q := (x83, z7)) rfl dX1_count_86) h rfl
    have h := g_iff w11_5 h
    refine g_tableD (tgt := 87) hx hb dX1_count_11 (by decide) [0, 1, 2, 3, 4, 5] (by decide) (fun k hk => ?_) ?_
    · simp only [List.mem_cons, List.not_mem_nil, or_false] at hk
      rcases hk with rfl | rfl | rfl | rfl | rfl | rfl
      · exact w11_0
      · exact w11_1
      · exact w11_2
      · exact w11_3
      · exact w11_4
      · exact w11_5
    refine g_aload_n hx hb hl 0 rfl dX1_count_87 ?_
    refine g_rdI hx hb hown hts hKn hS h fd_1_1_10 rfl (Or.inl (hts _ q607)) (fun _ z => z) dX1_count_88 (fun x88 h => ?_)
    exact g_retX (g_iretG hx hb hr hlk hKn hRc hRs hS (q := (x88, z7)) rfl dX1_count_91) h rfl
  · have h := hx7 _ e7
    exact g_outX (by rw [htab]; decide) hlk hKn hRc hRs hS n1 n2 nB nk h
/-- SendHall.feed(IIIII)I -/
def fX1_feed (E : g_E) (t : Nat) (v1 : Int32) (v2 : Int32) (v3 : Int32) (v4 : Int32) (v5 : Int32) (G : g_G) : Option (Int32 × g_G) :=
  (grI G 1 1 (some t) 10).bind fun x1 =>
  if (x1 + 20) ≤ (700 : Int32) then (
    (gchk G 1 (some t)).bind fun b17 =>
    (fX1_lay E b17 v1 G).bind fun z17 =>
    (gchk z17 1 (some t)).bind fun b22 =>
    (fX1_lay E b22 v2 z17).bind fun z22 =>
    (gchk z22 1 (some t)).bind fun b27 =>
    (fX1_lay E b27 v3 z22).bind fun z27 =>
    (gchk z27 1 (some t)).bind fun b33 =>
    (fX1_lay E b33 v4 z27).bind fun z33 =>
    (gchk z33 1 (some t)).bind fun b39 =>
    (fX1_lay E b39 v5 z33).bind fun z39 =>
    (grI z39 1 1 (some t) 10).bind fun x43 =>
    some (x43, z39))
  else (
    some ((-1), G))
theorem sX1_feed (l : Launch) (E : g_E) (D : g_D) {t : Nat} {v1 : Int32} {v2 : Int32} {v3 : Int32} {v4 : Int32} {v5 : Int32} {G : g_G} {q : Int32 × g_G} (h : fX1_feed E t v1 v2 v3 v4 v5 G = some q) : gMet l E D yX1_feed (ws_ yX1_feed cX1_feed 6 (some .int)) 2 86 [.inr (.inr (some t)), .inl v1, .inl v2, .inl v3, .inl v4, .inl v5] G (some (.int q.1)) q.2 := by
  refine gMet.of (by decide +kernel) (Nat.le_of_ble_eq_true rfl) ?_
  intro p e R s m args below meth c C hS ls hl
  have C : gC p R s m args meth c cX1_feed 6 RX1 "feed" (some .int) 2 86 E D := C
  obtain ⟨hx, hb, hml, hown, hts, hKn, hRc, hRs, hc1, hc2, hRf, hRl, hr, hlk, hnm⟩ := id C
  have hl : gls ls 6 [(0, .inr (.inr (some t))), (1, .inl v1), (2, .inl v2), (3, .inl v3), (4, .inl v4), (5, .inl v5)] := hl
  generalize s.heap = H at hS ⊢
  unfold fX1_feed at h
  refine g_aload_n hx hb hl 0 rfl dX1_feed_0 ?_
  refine g_rdI hx hb hown hts hKn hS h fd_1_1_10 rfl (Or.inl (hts _ q607)) (fun _ z => z) dX1_feed_1 (fun x1 h => ?_)
  refine lv_bipush (v := 20) hx hb dX1_feed_4 (by decide) ?_
  refine lv_iadd hx hb dX1_feed_6 ?_
  refine lv_sipush (v := 700) hx hb dX1_feed_7 (by decide) ?_
  refine lv_icmp_le (tgt := 15) hx hb dX1_feed_10 (by decide) (fun c_10 => ?_) (fun c_10 => ?_)
  · have h := g_ift c_10 h
    refine g_aload_n hx hb hl 0 rfl dX1_feed_15 ?_
    refine g_iload_n hx hb hl 1 rfl dX1_feed_16 ?_
    obtain ⟨b17, hb17, h⟩ := g_bnd h
    obtain ⟨hr17, hk17⟩ := g_chk hb17
    obtain ⟨z17, h17, h⟩ := g_bnd h
    refine g_callV (n := 1) (b := b17) (av := [.inl v1]) (rs := []) hx hb hml hown hts hKn hRc hRs hS hl (sX1_lay l E D h17) (lw_V q701 q703 qs1 q113 q704) ⟨rfl, by decide, by decide, by decide +kernel⟩ ⟨by rw [hRf]; exact Nat.le_of_ble_eq_true rfl, by rw [hRl]; exact Nat.le_of_ble_eq_true rfl⟩ (g_recv hKn hS hk17 (by decide) (by decide)) rfl (by rw [hr17]; rfl) (Nat.le_of_ble_eq_true rfl) dX1_feed_17 (fun H locs cells slots hS => ?_)
    refine g_aload_n hx hb hl 0 rfl dX1_feed_20 ?_
    refine g_iload_n hx hb hl 2 rfl dX1_feed_21 ?_
    obtain ⟨b22, hb22, h⟩ := g_bnd h
    obtain ⟨hr22, hk22⟩ := g_chk hb22
    obtain ⟨z22, h22, h⟩ := g_bnd h
    refine g_callV (n := 1) (b := b22) (av := [.inl v2]) (rs := []) hx hb hml hown hts hKn hRc hRs hS hl (sX1_lay l E D h22) (lw_V q701 q703 qs1 q113 q704) ⟨rfl, by decide, by decide, by decide +kernel⟩ ⟨by rw [hRf]; exact Nat.le_of_ble_eq_true rfl, by rw [hRl]; exact Nat.le_of_ble_eq_true rfl⟩ (g_recv hKn hS hk22 (by decide) (by decide)) rfl (by rw [hr22]; rfl) (Nat.le_of_ble_eq_true rfl) dX1_feed_22 (fun H locs cells slots hS => ?_)
    refine g_aload_n hx hb hl 0 rfl dX1_feed_25 ?_
    refine g_iload_n hx hb hl 3 rfl dX1_feed_26 ?_
    obtain ⟨b27, hb27, h⟩ := g_bnd h
    obtain ⟨hr27, hk27⟩ := g_chk hb27
    obtain ⟨z27, h27, h⟩ := g_bnd h
    refine g_callV (n := 1) (b := b27) (av := [.inl v3]) (rs := []) hx hb hml hown hts hKn hRc hRs hS hl (sX1_lay l E D h27) (lw_V q701 q703 qs1 q113 q704) ⟨rfl, by decide, by decide, by decide +kernel⟩ ⟨by rw [hRf]; exact Nat.le_of_ble_eq_true rfl, by rw [hRl]; exact Nat.le_of_ble_eq_true rfl⟩ (g_recv hKn hS hk27 (by decide) (by decide)) rfl (by rw [hr27]; rfl) (Nat.le_of_ble_eq_true rfl) dX1_feed_27 (fun H locs cells slots hS => ?_)
    refine g_aload_n hx hb hl 0 rfl dX1_feed_30 ?_
    refine g_iload hx hb hl 4 rfl dX1_feed_31 ?_
    obtain ⟨b33, hb33, h⟩ := g_bnd h
    obtain ⟨hr33, hk33⟩ := g_chk hb33
    obtain ⟨z33, h33, h⟩ := g_bnd h
    refine g_callV (n := 1) (b := b33) (av := [.inl v4]) (rs := []) hx hb hml hown hts hKn hRc hRs hS hl (sX1_lay l E D h33) (lw_V q701 q703 qs1 q113 q704) ⟨rfl, by decide, by decide, by decide +kernel⟩ ⟨by rw [hRf]; exact Nat.le_of_ble_eq_true rfl, by rw [hRl]; exact Nat.le_of_ble_eq_true rfl⟩ (g_recv hKn hS hk33 (by decide) (by decide)) rfl (by rw [hr33]; rfl) (Nat.le_of_ble_eq_true rfl) dX1_feed_33 (fun H locs cells slots hS => ?_)
    refine g_aload_n hx hb hl 0 rfl dX1_feed_36 ?_
    refine g_iload hx hb hl 5 rfl dX1_feed_37 ?_
    obtain ⟨b39, hb39, h⟩ := g_bnd h
    obtain ⟨hr39, hk39⟩ := g_chk hb39
    obtain ⟨z39, h39, h⟩ := g_bnd h
    refine g_callV (n := 1) (b := b39) (av := [.inl v5]) (rs := []) hx hb hml hown hts hKn hRc hRs hS hl (sX1_lay l E D h39) (lw_V q701 q703 qs1 q113 q704) ⟨rfl, by decide, by decide, by decide +kernel⟩ ⟨by rw [hRf]; exact Nat.le_of_ble_eq_true rfl, by rw [hRl]; exact Nat.le_of_ble_eq_true rfl⟩ (g_recv hKn hS hk39 (by decide) (by decide)) rfl (by rw [hr39]; rfl) (Nat.le_of_ble_eq_true rfl) dX1_feed_39 (fun H locs cells slots hS => ?_)
    refine g_aload_n hx hb hl 0 rfl dX1_feed_42 ?_
    refine g_rdI hx hb hown hts hKn hS h fd_1_1_10 rfl (Or.inl (hts _ q607)) (fun _ z => z) dX1_feed_43 (fun x43 h => ?_)
    exact g_iretG hx hb hr hlk hKn hRc hRs hS h dX1_feed_46
  · have h := g_iff c_10 h
    refine lv_iconst (v := (-1)) hx hb dX1_feed_13 (by decide) ?_
    exact g_iretG hx hb hr hlk hKn hRc hRs hS h dX1_feed_14
/-- SendHall.<init>()V -/
def fX1_init_b179 (E : g_E) : Nat → Nat → Int32 → g_G → Option (g_G)
  | 0, _, _, _ => none
  | n + 1, t, v1, G =>
    if (200 : Int32) < v1 then (
      some G)
    else (
      (grR G 1 1 (some t) 12).bind fun x187 =>
      (gnewO E G 3 13).bind fun z191 =>
      (fX3_init E z191.1 z191.2).bind fun z195 =>
      (gsaR E z195 121 x187 v1 (some z191.1)).bind fun G198 =>
      fX1_init_b179 E n t (v1 + 1) G198)
def fX1_init (E : g_E) (t : Nat) (G : g_G) : Option (g_G) :=
  (gpI E G 1 1 (some t) 0 2).bind fun G6 =>
  (gnewO E G6 2 3).bind fun z10 =>
  (fX2_init E z10.1 z10.2).bind fun z14 =>
  (gpR E z14 1 1 (some t) 4 (some z10.1)).bind fun G17 =>
  (gnewA E G17 102 40).bind fun z23 =>
  (gpR E z23.2 1 1 (some t) 5 (some z23.1)).bind fun G25 =>
  (gnewA E G25 100 8).bind fun z31 =>
  (gpR E z31.2 1 1 (some t) 6 (some z31.1)).bind fun G33 =>
  (gnewA E G33 100 8).bind fun z39 =>
  (gpR E z39.2 1 1 (some t) 7 (some z39.1)).bind fun G41 =>
  (gnewA E G41 100 8).bind fun z47 =>
  (gpR E z47.2 1 1 (some t) 8 (some z47.1)).bind fun G49 =>
  (gnewA E G49 101 700).bind fun z56 =>
  (gpR E z56.2 1 1 (some t) 9 (some z56.1)).bind fun G58 =>
  (gpI E G58 1 1 (some t) 11 (-1)).bind fun G63 =>
  (gnewA E G63 121 201).bind fun z70 =>
  (gpR E z70.2 1 1 (some t) 12 (some z70.1)).bind fun G73 =>
  (gnewO E G73 17 3).bind fun z77 =>
  (fJ2_init E z77.1 2 z77.2).bind fun z82 =>
  (gpR E z82 1 1 (some t) 16 (some z77.1)).bind fun G85 =>
  (gnewA E G85 100 320).bind fun z92 =>
  (gpR E z92.2 1 1 (some t) 17 (some z92.1)).bind fun G94 =>
  (gnewA E G94 102 40).bind fun z100 =>
  (gpR E z100.2 1 1 (some t) 19 (some z100.1)).bind fun G102 =>
  (gnewO E G102 3 13).bind fun z106 =>
  (fX3_init E z106.1 z106.2).bind fun z110 =>
  (gpR E z110 1 1 (some t) 20 (some z106.1)).bind fun G113 =>
  (gnewA E G113 100 320).bind fun z120 =>
  (gpR E z120.2 1 1 (some t) 22 (some z120.1)).bind fun G122 =>
  (gnewA E G122 100 16).bind fun z128 =>
  (gpR E z128.2 1 1 (some t) 23 (some z128.1)).bind fun G130 =>
  (gnewA E G130 100 8).bind fun z136 =>
  (gpR E z136.2 1 1 (some t) 24 (some z136.1)).bind fun G138 =>
  (gnewA E G138 100 8).bind fun z144 =>
  (gpR E z144.2 1 1 (some t) 28 (some z144.1)).bind fun G146 =>
  (gnewA E G146 100 8).bind fun z152 =>
  (gpR E z152.2 1 1 (some t) 29 (some z152.1)).bind fun G154 =>
  (gnewA E G154 100 320).bind fun z161 =>
  (gpR E z161.2 1 1 (some t) 30 (some z161.1)).bind fun G163 =>
  (gnewO E G163 3 13).bind fun z167 =>
  (fX3_init E z167.1 z167.2).bind fun z171 =>
  (gpR E z171 1 1 (some t) 32 (some z167.1)).bind fun G174 =>
  fX1_init_b179 E gFU t 0 G174
theorem sX1_init_b179 {p : Program} {l : Launch} {e : Env} {R : Room} {s : State} {m : MethodId} {args : Array Value} {below : List Frame} {meth : Method} {c : Code} {E : g_E} {D : g_D} (C : gC p R s m args meth c cX1_init 2 RX1 "<init>" (none) 5 145 E D) : ∀ (n : Nat) (t : Nat) (v1 : Int32) (G : g_G) (q : g_G), fX1_init_b179 E n t v1 G = some q → ∀ (H : Heap) (locs : List Loc) (cells slots : Nat) (ls : Array Slot), gSt E D G H locs → gls ls 2 [(0, .inr (.inr (some t))), (1, .inl v1)] → gT p l e R s m args below meth c E D H locs cells slots none q (F0 m 179 ls []) := by
  obtain ⟨hx, hb, hml, hown, hts, hKn, hRc, hRs, hc1, hc2, hRf, hRl, hr, hlk, hnm⟩ := id C
  intro n
  induction n with
  | zero =>
    intro t v1 G q h
    exact g_no h
  | succ n ih =>
    intro t v1 G q h H locs cells slots ls hS hl
    rw [fX1_init_b179] at h
    refine g_iload_n hx hb hl 1 rfl dX1_init_179 ?_
    refine lv_sipush (v := 200) hx hb dX1_init_180 (by decide) ?_
    refine lv_icmp_gt (tgt := 205) hx hb dX1_init_183 (by decide) (fun c_183 => ?_) (fun c_183 => ?_)
    · have h := g_ift c_183 h
      exact g_vretG hx hb hr hlk hKn hRc hRs hS h dX1_init_205
    · have h := g_iff c_183 h
      refine g_aload_n hx hb hl 0 rfl dX1_init_186 ?_
      refine g_rdR hx hb hown hts hKn hS h fd_1_1_12 rfl (Or.inl (hts _ q609)) (fun _ z => z) dX1_init_187 (fun x187 h => ?_)
      refine g_iload_n hx hb hl 1 rfl dX1_init_190 ?_
      refine g_newG (k := 3) hx hb hown hts hKn hRc hRs hS h (by decide) (by decide) (hts _ q526) (hts _ q530) (hts _ q134) dX1_init_191 (fun z191 h H locs cells slots hS => ?_)
      refine lv_dup hx hb dX1_init_194 (by first | exact va_rf_cat _ | rfl | exact g_catA _) ?_
      obtain ⟨z195, h195, h⟩ := g_bnd h
      refine g_callIN (n := 0) (av := []) (rs := [.inr (.inr (some z191.1)), .inl v1, .inr (.inr x187)]) hx hb hml hown hts hKn hRc hRs hS hl (sX3_init l E D h195) (lw_meth q533) (hts _ q134) q531 (hts _ q532) rfl ⟨by decide, by decide, by decide +kernel⟩ ⟨by rw [hRf]; exact Nat.le_of_ble_eq_true rfl, by rw [hRl]; exact Nat.le_of_ble_eq_true rfl⟩ rfl rfl (Nat.le_of_ble_eq_true rfl) dX1_init_195 (fun H locs cells slots hS => ?_)
      refine g_aastoreG hx hb hKn hS h (by decide) dX1_init_198 (fun G198 h H locs hS => ?_)
      refine g_iinc (l1 := [(1, .inl (v1 + 1)), (0, .inr (.inr (some t)))]) (v := (v1 + 1)) hx hb hl (k := 1) rfl (by rfl) (by decide) rfl dX1_init_199 (fun ls hl => ?_)
      refine lv_goto (tgt := 179) hx hb dX1_init_202 (by decide) ?_
      exact ih _ _ _ _ h _ _ _ _ _ hS (gls_sub hl [1, 0] rfl)
theorem sX1_init (l : Launch) (E : g_E) (D : g_D) {t : Nat} {G : g_G} {q : g_G} (h : fX1_init E t G = some q) : gMet l E D yX1_init (ws_ yX1_init cX1_init 2 (none)) 5 145 [.inr (.inr (some t))] G none q := by
  refine gMet.of (by decide +kernel) (Nat.le_of_ble_eq_true rfl) ?_
  intro p e R s m args below meth c C hS ls hl
  have C : gC p R s m args meth c cX1_init 2 RX1 "<init>" (none) 5 145 E D := C
  obtain ⟨hx, hb, hml, hown, hts, hKn, hRc, hRs, hc1, hc2, hRf, hRl, hr, hlk, hnm⟩ := id C
  have hl : gls ls 2 [(0, .inr (.inr (some t)))] := hl
  generalize s.heap = H at hS ⊢
  unfold fX1_init at h
  refine g_aload_n hx hb hl 0 rfl dX1_init_0 ?_
  refine g_objInit (rs := []) hx hb hml hown hl (hts _ q161) (hts _ q162) (hts _ q163) rfl dX1_init_1 ⟨by rw [hRf]; exact Nat.le_of_ble_eq_true rfl, by rw [hRl]; exact Nat.le_of_ble_eq_true rfl⟩ ?_
  refine g_aload_n hx hb hl 0 rfl dX1_init_4 ?_
  refine lv_iconst (v := 2) hx hb dX1_init_5 (by decide) ?_
  refine g_ptI hx hb hown hts hKn hS h fd_1_1_0 (Or.inl (hts _ q597)) (fun _ z => z) (fun z => nomatch z) dX1_init_6 (fun G6 h H locs hS => ?_)
  refine g_aload_n hx hb hl 0 rfl dX1_init_9 ?_
  refine g_newG (k := 2) hx hb hown hts hKn hRc hRs hS h (by decide) (by decide) (hts _ q164) (hts _ q165) (hts _ q114) dX1_init_10 (fun z10 h H locs cells slots hS => ?_)
  refine lv_dup hx hb dX1_init_13 (by first | exact va_rf_cat _ | rfl | exact g_catA _) ?_
  obtain ⟨z14, h14, h⟩ := g_bnd h
  refine g_callIN (n := 0) (av := []) (rs := [.inr (.inr (some z10.1)), .inr (.inr (some t))]) hx hb hml hown hts hKn hRc hRs hS hl (sX2_init l E D h14) (lw_meth q168) (hts _ q114) q166 (hts _ q167) rfl ⟨by decide, by decide, by decide +kernel⟩ ⟨by rw [hRf]; exact Nat.le_of_ble_eq_true rfl, by rw [hRl]; exact Nat.le_of_ble_eq_true rfl⟩ rfl rfl (Nat.le_of_ble_eq_true rfl) dX1_init_14 (fun H locs cells slots hS => ?_)
  refine g_ptR hx hb hown hts hKn hS h fd_1_1_4 rfl (Or.inl (hts _ q601)) (fun _ z => z) (fun z => nomatch z) dX1_init_17 (fun G17 h H locs hS => ?_)
  refine g_aload_n hx hb hl 0 rfl dX1_init_20 ?_
  refine lv_bipush (v := 40) hx hb dX1_init_21 (by decide) ?_
  refine g_newaG (k := 102) (atype := .boolean) hx hb hKn hRc hRs hS h (by decide) rfl (hts _ q595) dX1_init_23 (fun z23 h H locs cells slots hS => ?_)
  refine g_ptR hx hb hown hts hKn hS h fd_1_1_5 rfl (Or.inl (hts _ q602)) (fun _ z => z) (fun _ => ⟨hnm, rfl⟩) dX1_init_25 (fun G25 h H locs hS => ?_)
  refine g_aload_n hx hb hl 0 rfl dX1_init_28 ?_
  refine lv_bipush (v := 8) hx hb dX1_init_29 (by decide) ?_
  refine g_newaG (k := 100) (atype := .int) hx hb hKn hRc hRs hS h (by decide) rfl (hts _ q596) dX1_init_31 (fun z31 h H locs cells slots hS => ?_)
  refine g_ptR hx hb hown hts hKn hS h fd_1_1_6 rfl (Or.inl (hts _ q603)) (fun _ z => z) (fun _ => ⟨hnm, rfl⟩) dX1_init_33 (fun G33 h H locs hS => ?_)
  refine g_aload_n hx hb hl 0 rfl dX1_init_36 ?_
  refine lv_bipush (v := 8) hx hb dX1_init_37 (by decide) ?_
  refine g_newaG (k := 100) (atype := .int) hx hb hKn hRc hRs hS h (by decide) rfl (hts _ q596) dX1_init_39 (fun z39 h H locs cells slots hS => ?_)
  refine g_ptR hx hb hown hts hKn hS h fd_1_1_7 rfl (Or.inl (hts _ q604)) (fun _ z => z) (fun _ => ⟨hnm, rfl⟩) dX1_init_41 (fun G41 h H locs hS => ?_)
  refine g_aload_n hx hb hl 0 rfl dX1_init_44 ?_
  refine lv_bipush (v := 8) hx hb dX1_init_45 (by decide) ?_
  refine g_newaG (k := 100) (atype := .int) hx hb hKn hRc hRs hS h (by decide) rfl (hts _ q596) dX1_init_47 (fun z47 h H locs cells slots hS => ?_)
  refine g_ptR hx hb hown hts hKn hS h fd_1_1_8 rfl (Or.inl (hts _ q605)) (fun _ z => z) (fun _ => ⟨hnm, rfl⟩) dX1_init_49 (fun G49 h H locs hS => ?_)
  refine g_aload_n hx hb hl 0 rfl dX1_init_52 ?_
  refine lv_sipush (v := 700) hx hb dX1_init_53 (by decide) ?_
  refine g_newaG (k := 101) (atype := .byte) hx hb hKn hRc hRs hS h (by decide) rfl (hts _ q258) dX1_init_56 (fun z56 h H locs cells slots hS => ?_)
  refine g_ptR hx hb hown hts hKn hS h fd_1_1_9 rfl (Or.inl (hts _ q606)) (fun _ z => z) (fun _ => ⟨hnm, rfl⟩) dX1_init_58 (fun G58 h H locs hS => ?_)
  refine g_aload_n hx hb hl 0 rfl dX1_init_61 ?_
  refine lv_iconst (v := (-1)) hx hb dX1_init_62 (by decide) ?_
  refine g_ptI hx hb hown hts hKn hS h fd_1_1_11 (Or.inl (hts _ q608)) (fun _ z => z) (fun z => nomatch z) dX1_init_63 (fun G63 h H locs hS => ?_)
  refine g_aload_n hx hb hl 0 rfl dX1_init_66 ?_
  refine lv_sipush (v := 201) hx hb dX1_init_67 (by decide) ?_
  refine g_newqG (k := 121) (C := "SendHall$Life") hx hb hown hKn hRc hRs hS h (by decide) rfl (List.mem_of_getElem? (i := 1) rfl) (hts _ q526) dX1_init_70 (fun z70 h H locs cells slots hS => ?_)
  refine g_ptR hx hb hown hts hKn hS h fd_1_1_12 rfl (Or.inl (hts _ q609)) (fun _ z => z) (fun _ => ⟨hnm, rfl⟩) dX1_init_73 (fun G73 h H locs hS => ?_)
  refine g_aload_n hx hb hl 0 rfl dX1_init_76 ?_
  refine g_newG (k := 17) hx hb hown hts hKn hRc hRs hS h (by decide) (by decide) (hts _ q528) (hts _ q171) (hts _ q117) dX1_init_77 (fun z77 h H locs cells slots hS => ?_)
  refine lv_dup hx hb dX1_init_80 (by first | exact va_rf_cat _ | rfl | exact g_catA _) ?_
  refine lv_iconst (v := 2) hx hb dX1_init_81 (by decide) ?_
  obtain ⟨z82, h82, h⟩ := g_bnd h
  refine g_callI (n := 1) (av := [.inl 2]) (rs := [.inr (.inr (some z77.1)), .inr (.inr (some t))]) hx hb hml hown hts hKn hRc hRs hS hl (sJ2_init l E D h82) (lw_meth q174) (hts _ q117) (hts _ q529) (hts _ q173) rfl ⟨by decide, by decide, by decide +kernel⟩ ⟨by rw [hRf]; exact Nat.le_of_ble_eq_true rfl, by rw [hRl]; exact Nat.le_of_ble_eq_true rfl⟩ rfl rfl (Nat.le_of_ble_eq_true rfl) dX1_init_82 (fun H locs cells slots hS => ?_)
  refine g_ptR hx hb hown hts hKn hS h fd_1_1_16 rfl (Or.inl (hts _ q613)) (fun _ z => z) (fun _ => ⟨hnm, rfl⟩) dX1_init_85 (fun G85 h H locs hS => ?_)
  refine g_aload_n hx hb hl 0 rfl dX1_init_88 ?_
  refine lv_sipush (v := 320) hx hb dX1_init_89 (by decide) ?_
  refine g_newaG (k := 100) (atype := .int) hx hb hKn hRc hRs hS h (by decide) rfl (hts _ q596) dX1_init_92 (fun z92 h H locs cells slots hS => ?_)
  refine g_ptR hx hb hown hts hKn hS h fd_1_1_17 rfl (Or.inl (hts _ q614)) (fun _ z => z) (fun _ => ⟨hnm, rfl⟩) dX1_init_94 (fun G94 h H locs hS => ?_)
  refine g_aload_n hx hb hl 0 rfl dX1_init_97 ?_
  refine lv_bipush (v := 40) hx hb dX1_init_98 (by decide) ?_
  refine g_newaG (k := 102) (atype := .boolean) hx hb hKn hRc hRs hS h (by decide) rfl (hts _ q595) dX1_init_100 (fun z100 h H locs cells slots hS => ?_)
  refine g_ptR hx hb hown hts hKn hS h fd_1_1_19 rfl (Or.inl (hts _ q616)) (fun _ z => z) (fun _ => ⟨hnm, rfl⟩) dX1_init_102 (fun G102 h H locs hS => ?_)
  refine g_aload_n hx hb hl 0 rfl dX1_init_105 ?_
  refine g_newG (k := 3) hx hb hown hts hKn hRc hRs hS h (by decide) (by decide) (hts _ q526) (hts _ q530) (hts _ q134) dX1_init_106 (fun z106 h H locs cells slots hS => ?_)
  refine lv_dup hx hb dX1_init_109 (by first | exact va_rf_cat _ | rfl | exact g_catA _) ?_
  obtain ⟨z110, h110, h⟩ := g_bnd h
  refine g_callIN (n := 0) (av := []) (rs := [.inr (.inr (some z106.1)), .inr (.inr (some t))]) hx hb hml hown hts hKn hRc hRs hS hl (sX3_init l E D h110) (lw_meth q533) (hts _ q134) q531 (hts _ q532) rfl ⟨by decide, by decide, by decide +kernel⟩ ⟨by rw [hRf]; exact Nat.le_of_ble_eq_true rfl, by rw [hRl]; exact Nat.le_of_ble_eq_true rfl⟩ rfl rfl (Nat.le_of_ble_eq_true rfl) dX1_init_110 (fun H locs cells slots hS => ?_)
  refine g_ptR hx hb hown hts hKn hS h fd_1_1_20 rfl (Or.inl (hts _ q617)) (fun _ z => z) (fun _ => ⟨hnm, rfl⟩) dX1_init_113 (fun G113 h H locs hS => ?_)
  refine g_aload_n hx hb hl 0 rfl dX1_init_116 ?_
  refine lv_sipush (v := 320) hx hb dX1_init_117 (by decide) ?_
  refine g_newaG (k := 100) (atype := .int) hx hb hKn hRc hRs hS h (by decide) rfl (hts _ q596) dX1_init_120 (fun z120 h H locs cells slots hS => ?_)
  refine g_ptR hx hb hown hts hKn hS h fd_1_1_22 rfl (Or.inl (hts _ q619)) (fun _ z => z) (fun _ => ⟨hnm, rfl⟩) dX1_init_122 (fun G122 h H locs hS => ?_)
  refine g_aload_n hx hb hl 0 rfl dX1_init_125 ?_
  refine lv_bipush (v := 16) hx hb dX1_init_126 (by decide) ?_
  refine g_newaG (k := 100) (atype := .int) hx hb hKn hRc hRs hS h (by decide) rfl (hts _ q596) dX1_init_128 (fun z128 h H locs cells slots hS => ?_)
  refine g_ptR hx hb hown hts hKn hS h fd_1_1_23 rfl (Or.inl (hts _ q620)) (fun _ z => z) (fun _ => ⟨hnm, rfl⟩) dX1_init_130 (fun G130 h H locs hS => ?_)
  refine g_aload_n hx hb hl 0 rfl dX1_init_133 ?_
  refine lv_bipush (v := 8) hx hb dX1_init_134 (by decide) ?_
  refine g_newaG (k := 100) (atype := .int) hx hb hKn hRc hRs hS h (by decide) rfl (hts _ q596) dX1_init_136 (fun z136 h H locs cells slots hS => ?_)
  refine g_ptR hx hb hown hts hKn hS h fd_1_1_24 rfl (Or.inl (hts _ q621)) (fun _ z => z) (fun _ => ⟨hnm, rfl⟩) dX1_init_138 (fun G138 h H locs hS => ?_)
  refine g_aload_n hx hb hl 0 rfl dX1_init_141 ?_
  refine lv_bipush (v := 8) hx hb dX1_init_142 (by decide) ?_
  refine g_newaG (k := 100) (atype := .int) hx hb hKn hRc hRs hS h (by decide) rfl (hts _ q596) dX1_init_144 (fun z144 h H locs cells slots hS => ?_)
  refine g_ptR hx hb hown hts hKn hS h fd_1_1_28 rfl (Or.inl (hts _ q625)) (fun _ z => z) (fun _ => ⟨hnm, rfl⟩) dX1_init_146 (fun G146 h H locs hS => ?_)
  refine g_aload_n hx hb hl 0 rfl dX1_init_149 ?_
  refine lv_bipush (v := 8) hx hb dX1_init_150 (by decide) ?_
  refine g_newaG (k := 100) (atype := .int) hx hb hKn hRc hRs hS h (by decide) rfl (hts _ q596) dX1_init_152 (fun z152 h H locs cells slots hS => ?_)
  refine g_ptR hx hb hown hts hKn hS h fd_1_1_29 rfl (Or.inl (hts _ q626)) (fun _ z => z) (fun _ => ⟨hnm, rfl⟩) dX1_init_154 (fun G154 h H locs hS => ?_)
  refine g_aload_n hx hb hl 0 rfl dX1_init_157 ?_
  refine lv_sipush (v := 320) hx hb dX1_init_158 (by decide) ?_
  refine g_newaG (k := 100) (atype := .int) hx hb hKn hRc hRs hS h (by decide) rfl (hts _ q596) dX1_init_161 (fun z161 h H locs cells slots hS => ?_)
  refine g_ptR hx hb hown hts hKn hS h fd_1_1_30 rfl (Or.inl (hts _ q627)) (fun _ z => z) (fun _ => ⟨hnm, rfl⟩) dX1_init_163 (fun G163 h H locs hS => ?_)
  refine g_aload_n hx hb hl 0 rfl dX1_init_166 ?_
  refine g_newG (k := 3) hx hb hown hts hKn hRc hRs hS h (by decide) (by decide) (hts _ q526) (hts _ q530) (hts _ q134) dX1_init_167 (fun z167 h H locs cells slots hS => ?_)
  refine lv_dup hx hb dX1_init_170 (by first | exact va_rf_cat _ | rfl | exact g_catA _) ?_
  obtain ⟨z171, h171, h⟩ := g_bnd h
  refine g_callIN (n := 0) (av := []) (rs := [.inr (.inr (some z167.1)), .inr (.inr (some t))]) hx hb hml hown hts hKn hRc hRs hS hl (sX3_init l E D h171) (lw_meth q533) (hts _ q134) q531 (hts _ q532) rfl ⟨by decide, by decide, by decide +kernel⟩ ⟨by rw [hRf]; exact Nat.le_of_ble_eq_true rfl, by rw [hRl]; exact Nat.le_of_ble_eq_true rfl⟩ rfl rfl (Nat.le_of_ble_eq_true rfl) dX1_init_171 (fun H locs cells slots hS => ?_)
  refine g_ptR hx hb hown hts hKn hS h fd_1_1_32 rfl (Or.inl (hts _ q629)) (fun _ z => z) (fun _ => ⟨hnm, rfl⟩) dX1_init_174 (fun G174 h H locs hS => ?_)
  refine lv_iconst (v := 0) hx hb dX1_init_177 (by decide) ?_
  refine g_istore_n (l1 := [(1, .inl 0), (0, .inr (.inr (some t)))]) hx hb hl (by decide) rfl dX1_init_178 (fun ls hl => ?_)
  exact sX1_init_b179 C gFU _ _ _ _ h _ _ _ _ _ hS (gls_sub hl [1, 0] rfl)
