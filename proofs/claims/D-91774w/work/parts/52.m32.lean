set_option maxRecDepth 100000
/-- SendHall$Row.<init>(LSendHall$Expr;)V -/
def fX11_init (E : g_E) (t : Nat) (v1 : Option Nat) (G : g_G) : Option (g_G) :=
  (gnewO E G 17 3).bind fun z5 =>
  (fJ2_init E z5.1 2 z5.2).bind fun z10 =>
  (gpR E z10 9 9 (some t) 0 (some z5.1)).bind fun G13 =>
  (gnewO E G13 17 3).bind fun z17 =>
  (fJ2_init E z17.1 1 z17.2).bind fun z22 =>
  (gpR E z22 9 9 (some t) 1 (some z17.1)).bind fun G25 =>
  (grR G25 9 9 (some t) 0).bind fun x29 =>
  (gchk G25 17 x29).bind fun b33 =>
  (fJ2_add_2 E b33 v1 G25).bind fun z33 =>
  some z33.2
theorem sX11_init (l : Launch) (E : g_E) (D : g_D) {t : Nat} {v1 : Option Nat} {G : g_G} {q : g_G} (h : fX11_init E t v1 G = some q) : gMet l E D yX11_init (ws_ yX11_init cX11_init 2 (none)) 7 211 [.inr (.inr (some t)), .inr (.inr v1)] G none q := by
  refine gMet.of (by decide +kernel) (Nat.le_of_ble_eq_true rfl) ?_
  intro p e R s m args below meth c C hS ls hl
  have C : gC p R s m args meth c cX11_init 2 RX11 "<init>" (none) 7 211 E D := C
  obtain ⟨hx, hb, hml, hown, hts, hKn, hRc, hRs, hc1, hc2, hRf, hRl, hr, hlk, hnm⟩ := id C
  have hl : gls ls 2 [(0, .inr (.inr (some t))), (1, .inr (.inr v1))] := hl
  generalize s.heap = H at hS ⊢
  unfold fX11_init at h
  refine g_aload_n hx hb hl 0 rfl dX11_init_0 ?_
  refine g_objInit (rs := []) hx hb hml hown hl (hts _ q1512) (hts _ q162) (hts _ q163) rfl dX11_init_1 ⟨by rw [hRf]; exact Nat.le_of_ble_eq_true rfl, by rw [hRl]; exact Nat.le_of_ble_eq_true rfl⟩ ?_
  refine g_aload_n hx hb hl 0 rfl dX11_init_4 ?_
  refine g_newG (k := 17) hx hb hown hts hKn hRc hRs hS h (by decide) (by decide) (hts _ q1513) (hts _ q171) (hts _ q117) dX11_init_5 (fun z5 h H locs cells slots hS => ?_)
  refine lv_dup hx hb dX11_init_8 (by first | exact va_rf_cat _ | rfl | exact g_catA _) ?_
  refine lv_iconst (v := 2) hx hb dX11_init_9 (by decide) ?_
  obtain ⟨z10, h10, h⟩ := g_bnd h
  refine g_callI (n := 1) (av := [.inl 2]) (rs := [.inr (.inr (some z5.1)), .inr (.inr (some t))]) hx hb hml hown hts hKn hRc hRs hS hl (sJ2_init l E D h10) (lw_meth q174) (hts _ q117) (hts _ q1514) (hts _ q173) rfl ⟨by decide, by decide, by decide +kernel⟩ ⟨by rw [hRf]; exact Nat.le_of_ble_eq_true rfl, by rw [hRl]; exact Nat.le_of_ble_eq_true rfl⟩ rfl rfl (Nat.le_of_ble_eq_true rfl) dX11_init_10 (fun H locs cells slots hS => ?_)
  refine g_ptR hx hb hown hts hKn hS h fd_9_9_0 rfl (Or.inl (hts _ q1516)) (fun _ z => z) (fun _ => ⟨hnm, rfl⟩) dX11_init_13 (fun G13 h H locs hS => ?_)
  refine g_aload_n hx hb hl 0 rfl dX11_init_16 ?_
  refine g_newG (k := 17) hx hb hown hts hKn hRc hRs hS h (by decide) (by decide) (hts _ q1513) (hts _ q171) (hts _ q117) dX11_init_17 (fun z17 h H locs cells slots hS => ?_)
  refine lv_dup hx hb dX11_init_20 (by first | exact va_rf_cat _ | rfl | exact g_catA _) ?_
  refine lv_iconst (v := 1) hx hb dX11_init_21 (by decide) ?_
  obtain ⟨z22, h22, h⟩ := g_bnd h
  refine g_callI (n := 1) (av := [.inl 1]) (rs := [.inr (.inr (some z17.1)), .inr (.inr (some t))]) hx hb hml hown hts hKn hRc hRs hS hl (sJ2_init l E D h22) (lw_meth q174) (hts _ q117) (hts _ q1514) (hts _ q173) rfl ⟨by decide, by decide, by decide +kernel⟩ ⟨by rw [hRf]; exact Nat.le_of_ble_eq_true rfl, by rw [hRl]; exact Nat.le_of_ble_eq_true rfl⟩ rfl rfl (Nat.le_of_ble_eq_true rfl) dX11_init_22 (fun H locs cells slots hS => ?_)
  refine g_ptR hx hb hown hts hKn hS h fd_9_9_1 rfl (Or.inl (hts _ q1517)) (fun _ z => z) (fun _ => ⟨hnm, rfl⟩) dX11_init_25 (fun G25 h H locs hS => ?_)
  refine g_aload_n hx hb hl 0 rfl dX11_init_28 ?_
  refine g_rdR hx hb hown hts hKn hS h fd_9_9_0 rfl (Or.inl (hts _ q1516)) (fun _ z => z) dX11_init_29 (fun x29 h => ?_)
  refine g_aload_n hx hb hl 1 rfl dX11_init_32 ?_
  obtain ⟨b33, hb33, h⟩ := g_bnd h
  obtain ⟨hr33, hk33⟩ := g_chk hb33
  obtain ⟨z33, h33, h⟩ := g_bnd h
  refine g_callV (n := 1) (b := b33) (av := [.inr (.inr v1)]) (rs := []) hx hb hml hown hts hKn hRc hRs hS hl (sJ2_add_2 l E D h33) (lw_V q1515 q1463 q1464 q117 q1465) ⟨rfl, by decide, by decide, by decide +kernel⟩ ⟨by rw [hRf]; exact Nat.le_of_ble_eq_true rfl, by rw [hRl]; exact Nat.le_of_ble_eq_true rfl⟩ (g_recv hKn hS hk33 (by decide) (by decide)) rfl (by rw [hr33]; rfl) (Nat.le_of_ble_eq_true rfl) dX11_init_33 (fun H locs cells slots hS => ?_)
  refine lv_pop hx hb dX11_init_36 rfl ?_
  exact g_vretG hx hb hr hlk hKn hRc hRs hS h dX11_init_37
/-- SendHall.begins(LSendHall$Life;I)V -/
def fX1_begins_b73 (E : g_E) : Nat → Nat → (Option Nat) → Int32 → Int32 → g_G → Option (g_G)
  | 0, _, _, _, _, _ => none
  | n + 1, t, v1, v2, v3, G =>
    if v2 ≤ v3 then (
      some G)
    else (
      (grR G 1 1 (some t) 4).bind fun x82 =>
      (grR G 2 2 x82 1).bind fun x85 =>
      (gchk G 1 (some t)).bind fun b88 =>
      (fX1_goes E b88 v1 v3 x85 G).bind fun z88 =>
      fX1_begins_b73 E n t v1 v2 (v3 + 1) z88)
def fX1_begins_b41 (E : g_E) (k12 : Nat → (Option Nat) → Int32 → Int32 → g_G → Option (g_G)) : Nat → Nat → (Option Nat) → Int32 → Int32 → Int32 → g_G → Option (g_G)
  | 0, _, _, _, _, _, _ => none
  | n + 1, t, v1, v2, v3, v4, G =>
    if (4 : Int32) ≤ v4 then (
      k12 t v1 v2 (v3 + 1) G)
    else (
      (grR G 3 3 v1 5).bind fun x48 =>
      (gsaI E G x48 ((4 * v3) + v4) 0).bind fun G58 =>
      fX1_begins_b41 E k12 n t v1 v2 v3 (v4 + 1) G58)
def fX1_begins_b12 (E : g_E) : Nat → Nat → (Option Nat) → Int32 → Int32 → g_G → Option (g_G)
  | 0, _, _, _, _, _ => none
  | n + 1, t, v1, v2, v3, G =>
    if v2 ≤ v3 then (
      fX1_begins_b73 E gFU t v1 v2 0 G)
    else (
      (grR G 3 3 v1 4).bind fun x18 =>
      (gsaZ E G x18 v3 0).bind fun G23 =>
      (grR G23 3 3 v1 6).bind fun x25 =>
      (gsaI E G23 x25 v3 0).bind fun G30 =>
      (grR G30 3 3 v1 7).bind fun x32 =>
      (gsaI E G30 x32 v3 0).bind fun G37 =>
      fX1_begins_b41 E (fX1_begins_b12 E n) gFU t v1 v2 v3 0 G37)
def fX1_begins (E : g_E) (t : Nat) (v1 : Option Nat) (v2 : Int32) (G : g_G) : Option (g_G) :=
  (gpI E G 3 3 v1 0 v2).bind fun G2 =>
  (gpI E G2 3 3 v1 1 0).bind fun G7 =>
  fX1_begins_b12 E gFU t v1 v2 0 G7
theorem sX1_begins_b73 {p : Program} {l : Launch} {e : Env} {R : Room} {s : State} {m : MethodId} {args : Array Value} {below : List Frame} {meth : Method} {c : Code} {E : g_E} {D : g_D} (C : gC p R s m args meth c cX1_begins 5 RX1 "begins" (none) 221 7381 E D) : ∀ (n : Nat) (t : Nat) (v1 : Option Nat) (v2 : Int32) (v3 : Int32) (G : g_G) (q : g_G), fX1_begins_b73 E n t v1 v2 v3 G = some q → ∀ (H : Heap) (locs : List Loc) (cells slots : Nat) (ls : Array Slot), gSt E D G H locs → gls ls 5 [(0, .inr (.inr (some t))), (1, .inr (.inr v1)), (2, .inl v2), (3, .inl v3)] → gT p l e R s m args below meth c E D H locs cells slots none q (F0 m 73 ls []) := by
  obtain ⟨hx, hb, hml, hown, hts, hKn, hRc, hRs, hc1, hc2, hRf, hRl, hr, hlk, hnm⟩ := id C
  intro n
  induction n with
  | zero =>
    intro t v1 v2 v3 G q h
    exact g_no h
  | succ n ih =>
    intro t v1 v2 v3 G q h H locs cells slots ls hS hl
    rw [fX1_begins_b73] at h
    refine g_iload_n hx hb hl 3 rfl dX1_begins_73 ?_
    refine g_iload_n hx hb hl 2 rfl dX1_begins_74 ?_
    refine lv_icmp_ge (tgt := 97) hx hb dX1_begins_75 (by decide) (fun c_75 => ?_) (fun c_75 => ?_)
    · have h := g_ift c_75 h
      exact g_vretG hx hb hr hlk hKn hRc hRs hS h dX1_begins_97
    · have h := g_iff c_75 h
      refine g_aload_n hx hb hl 0 rfl dX1_begins_78 ?_
      refine g_aload_n hx hb hl 1 rfl dX1_begins_79 ?_
      refine g_iload_n hx hb hl 3 rfl dX1_begins_80 ?_
      refine g_aload_n hx hb hl 0 rfl dX1_begins_81 ?_
      refine g_rdR hx hb hown hts hKn hS h fd_1_1_4 rfl (Or.inl (hts _ q601)) (fun _ z => z) dX1_begins_82 (fun x82 h => ?_)
      refine g_rdR hx hb hown hts hKn hS h fd_2_2_1 rfl (Or.inr ⟨_, gNest_use rfl (hKn.2.2.2.2.1 _ (gNest_in q515 rfl))⟩) (fun _ z => z) dX1_begins_85 (fun x85 h => ?_)
      obtain ⟨b88, hb88, h⟩ := g_bnd h
      obtain ⟨hr88, hk88⟩ := g_chk hb88
      obtain ⟨z88, h88, h⟩ := g_bnd h
      refine g_callV (n := 3) (b := b88) (av := [.inr (.inr v1), .inl v3, .inr (.inr x85)]) (rs := []) hx hb hml hown hts hKn hRc hRs hS hl (sX1_goes l E D h88) (lw_V q732 q734 qs5 q113 q735) ⟨rfl, by decide, by decide, by decide +kernel⟩ ⟨by rw [hRf]; exact Nat.le_of_ble_eq_true rfl, by rw [hRl]; exact Nat.le_of_ble_eq_true rfl⟩ (g_recv hKn hS hk88 (by decide) (by decide)) rfl (by rw [hr88]; rfl) (Nat.le_of_ble_eq_true rfl) dX1_begins_88 (fun H locs cells slots hS => ?_)
      refine g_iinc (l1 := [(3, .inl (v3 + 1)), (0, .inr (.inr (some t))), (1, .inr (.inr v1)), (2, .inl v2)]) (v := (v3 + 1)) hx hb hl (k := 3) rfl (by rfl) (by decide) rfl dX1_begins_91 (fun ls hl => ?_)
      refine lv_goto (tgt := 73) hx hb dX1_begins_94 (by decide) ?_
      exact ih _ _ _ _ _ _ h _ _ _ _ _ hS (gls_sub hl [1, 2, 3, 0] rfl)
theorem sX1_begins_b41 {p : Program} {l : Launch} {e : Env} {R : Room} {s : State} {m : MethodId} {args : Array Value} {below : List Frame} {meth : Method} {c : Code} {E : g_E} {D : g_D} (C : gC p R s m args meth c cX1_begins 5 RX1 "begins" (none) 221 7381 E D) {k12 : Nat → (Option Nat) → Int32 → Int32 → g_G → Option (g_G)} (hk12 : ∀ (t : Nat) (v1 : Option Nat) (v2 : Int32) (v3 : Int32) (G : g_G) (q : g_G), k12 t v1 v2 v3 G = some q → ∀ (H : Heap) (locs : List Loc) (cells slots : Nat) (ls : Array Slot), gSt E D G H locs → gls ls 5 [(0, .inr (.inr (some t))), (1, .inr (.inr v1)), (2, .inl v2), (3, .inl v3)] → gT p l e R s m args below meth c E D H locs cells slots none q (F0 m 12 ls [])) : ∀ (n : Nat) (t : Nat) (v1 : Option Nat) (v2 : Int32) (v3 : Int32) (v4 : Int32) (G : g_G) (q : g_G), fX1_begins_b41 E k12 n t v1 v2 v3 v4 G = some q → ∀ (H : Heap) (locs : List Loc) (cells slots : Nat) (ls : Array Slot), gSt E D G H locs → gls ls 5 [(0, .inr (.inr (some t))), (1, .inr (.inr v1)), (2, .inl v2), (3, .inl v3), (4, .inl v4)] → gT p l e R s m args below meth c E D H locs cells slots none q (F0 m 41 ls []) := by
  obtain ⟨hx, hb, hml, hown, hts, hKn, hRc, hRs, hc1, hc2, hRf, hRl, hr, hlk, hnm⟩ := id C
  intro n
  induction n with
  | zero =>
    intro t v1 v2 v3 v4 G q h
    exact g_no h
  | succ n ih =>
    intro t v1 v2 v3 v4 G q h H locs cells slots ls hS hl
    rw [fX1_begins_b41] at h
    refine g_iload hx hb hl 4 rfl dX1_begins_41 ?_
    refine lv_iconst (v := 4) hx hb dX1_begins_43 (by decide) ?_
    refine lv_icmp_ge (tgt := 65) hx hb dX1_begins_44 (by decide) (fun c_44 => ?_) (fun c_44 => ?_)
    · have h := g_ift c_44 h
      refine g_iinc (l1 := [(3, .inl (v3 + 1)), (0, .inr (.inr (some t))), (1, .inr (.inr v1)), (2, .inl v2), (4, .inl v4)]) (v := (v3 + 1)) hx hb hl (k := 3) rfl (by rfl) (by decide) rfl dX1_begins_65 (fun ls hl => ?_)
      refine lv_goto (tgt := 12) hx hb dX1_begins_68 (by decide) ?_
      exact hk12 _ _ _ _ _ _ h _ _ _ _ _ hS (gls_sub hl [1, 2, 3, 0] rfl)
    · have h := g_iff c_44 h
      refine g_aload_n hx hb hl 1 rfl dX1_begins_47 ?_
      refine g_rdR hx hb hown hts hKn hS h fd_3_3_5 rfl (Or.inr ⟨_, gNest_use rfl (hKn.2.2.2.2.1 _ (gNest_in q553 rfl))⟩) (fun _ z => z) dX1_begins_48 (fun x48 h => ?_)
      refine lv_iconst (v := 4) hx hb dX1_begins_51 (by decide) ?_
      refine g_iload_n hx hb hl 3 rfl dX1_begins_52 ?_
      refine lv_imul hx hb dX1_begins_53 ?_
      refine g_iload hx hb hl 4 rfl dX1_begins_54 ?_
      refine lv_iadd hx hb dX1_begins_56 ?_
      refine lv_iconst (v := 0) hx hb dX1_begins_57 (by decide) ?_
      refine g_iastoreG hx hb hKn hS h dX1_begins_58 (fun G58 h H locs hS => ?_)
      refine g_iinc (l1 := [(4, .inl (v4 + 1)), (0, .inr (.inr (some t))), (1, .inr (.inr v1)), (2, .inl v2), (3, .inl v3)]) (v := (v4 + 1)) hx hb hl (k := 4) rfl (by rfl) (by decide) rfl dX1_begins_59 (fun ls hl => ?_)
      refine lv_goto (tgt := 41) hx hb dX1_begins_62 (by decide) ?_
      exact ih _ _ _ _ _ _ _ h _ _ _ _ _ hS (gls_sub hl [1, 2, 3, 4, 0] rfl)
theorem sX1_begins_b12 {p : Program} {l : Launch} {e : Env} {R : Room} {s : State} {m : MethodId} {args : Array Value} {below : List Frame} {meth : Method} {c : Code} {E : g_E} {D : g_D} (C : gC p R s m args meth c cX1_begins 5 RX1 "begins" (none) 221 7381 E D) : ∀ (n : Nat) (t : Nat) (v1 : Option Nat) (v2 : Int32) (v3 : Int32) (G : g_G) (q : g_G), fX1_begins_b12 E n t v1 v2 v3 G = some q → ∀ (H : Heap) (locs : List Loc) (cells slots : Nat) (ls : Array Slot), gSt E D G H locs → gls ls 5 [(0, .inr (.inr (some t))), (1, .inr (.inr v1)), (2, .inl v2), (3, .inl v3)] → gT p l e R s m args below meth c E D H locs cells slots none q (F0 m 12 ls []) := by
  obtain ⟨hx, hb, hml, hown, hts, hKn, hRc, hRs, hc1, hc2, hRf, hRl, hr, hlk, hnm⟩ := id C
  intro n
  induction n with
  | zero =>
    intro t v1 v2 v3 G q h
    exact g_no h
  | succ n ih =>
    intro t v1 v2 v3 G q h H locs cells slots ls hS hl
    rw [fX1_begins_b12] at h
    refine g_iload_n hx hb hl 3 rfl dX1_begins_12 ?_
    refine g_iload_n hx hb hl 2 rfl dX1_begins_13 ?_
    refine lv_icmp_ge (tgt := 71) hx hb dX1_begins_14 (by decide) (fun c_14 => ?_) (fun c_14 => ?_)
    · have h := g_ift c_14 h
      refine lv_iconst (v := 0) hx hb dX1_begins_71 (by decide) ?_
      refine g_istore_n (l1 := [(3, .inl 0), (0, .inr (.inr (some t))), (1, .inr (.inr v1)), (2, .inl v2)]) hx hb hl (by decide) rfl dX1_begins_72 (fun ls hl => ?_)
      exact sX1_begins_b73 C gFU _ _ _ _ _ _ h _ _ _ _ _ hS (gls_sub hl [1, 2, 3, 0] rfl)
    · have h := g_iff c_14 h
      refine g_aload_n hx hb hl 1 rfl dX1_begins_17 ?_
      refine g_rdR hx hb hown hts hKn hS h fd_3_3_4 rfl (Or.inr ⟨_, gNest_use rfl (hKn.2.2.2.2.1 _ (gNest_in q547 rfl))⟩) (fun _ z => z) dX1_begins_18 (fun x18 h => ?_)
      refine g_iload_n hx hb hl 3 rfl dX1_begins_21 ?_
      refine lv_iconst (v := 0) hx hb dX1_begins_22 (by decide) ?_
      refine g_zastoreG hx hb hKn hS h dX1_begins_23 (fun G23 h H locs hS => ?_)
      refine g_aload_n hx hb hl 1 rfl dX1_begins_24 ?_
      refine g_rdR hx hb hown hts hKn hS h fd_3_3_6 rfl (Or.inr ⟨_, gNest_use rfl (hKn.2.2.2.2.1 _ (gNest_in q555 rfl))⟩) (fun _ z => z) dX1_begins_25 (fun x25 h => ?_)
      refine g_iload_n hx hb hl 3 rfl dX1_begins_28 ?_
      refine lv_iconst (v := 0) hx hb dX1_begins_29 (by decide) ?_
      refine g_iastoreG hx hb hKn hS h dX1_begins_30 (fun G30 h H locs hS => ?_)
      refine g_aload_n hx hb hl 1 rfl dX1_begins_31 ?_
      refine g_rdR hx hb hown hts hKn hS h fd_3_3_7 rfl (Or.inr ⟨_, gNest_use rfl (hKn.2.2.2.2.1 _ (gNest_in q559 rfl))⟩) (fun _ z => z) dX1_begins_32 (fun x32 h => ?_)
      refine g_iload_n hx hb hl 3 rfl dX1_begins_35 ?_
      refine lv_iconst (v := 0) hx hb dX1_begins_36 (by decide) ?_
      refine g_iastoreG hx hb hKn hS h dX1_begins_37 (fun G37 h H locs hS => ?_)
      refine lv_iconst (v := 0) hx hb dX1_begins_38 (by decide) ?_
      refine g_istore (l1 := [(4, .inl 0), (0, .inr (.inr (some t))), (1, .inr (.inr v1)), (2, .inl v2), (3, .inl v3)]) hx hb hl (by decide) rfl dX1_begins_39 (fun ls hl => ?_)
      exact sX1_begins_b41 C ih gFU _ _ _ _ _ _ _ h _ _ _ _ _ hS (gls_sub hl [1, 2, 3, 4, 0] rfl)
theorem sX1_begins (l : Launch) (E : g_E) (D : g_D) {t : Nat} {v1 : Option Nat} {v2 : Int32} {G : g_G} {q : g_G} (h : fX1_begins E t v1 v2 G = some q) : gMet l E D yX1_begins (ws_ yX1_begins cX1_begins 5 (none)) 221 7381 [.inr (.inr (some t)), .inr (.inr v1), .inl v2] G none q := by
  refine gMet.of (by decide +kernel) (Nat.le_of_ble_eq_true rfl) ?_
  intro p e R s m args below meth c C hS ls hl
  have C : gC p R s m args meth c cX1_begins 5 RX1 "begins" (none) 221 7381 E D := C
  obtain ⟨hx, hb, hml, hown, hts, hKn, hRc, hRs, hc1, hc2, hRf, hRl, hr, hlk, hnm⟩ := id C
  have hl : gls ls 5 [(0, .inr (.inr (some t))), (1, .inr (.inr v1)), (2, .inl v2)] := hl
  generalize s.heap = H at hS ⊢
  unfold fX1_begins at h
  refine g_aload_n hx hb hl 1 rfl dX1_begins_0 ?_
  refine g_iload_n hx hb hl 2 rfl dX1_begins_1 ?_
  refine g_ptI hx hb hown hts hKn hS h fd_3_3_0 (Or.inr ⟨rfl, _, gNest_use rfl (hKn.2.2.2.2.1 _ (gNest_in q537 rfl))⟩) (fun _ z => z) (fun z => nomatch z) dX1_begins_2 (fun G2 h H locs hS => ?_)
  refine g_aload_n hx hb hl 1 rfl dX1_begins_5 ?_
  refine lv_iconst (v := 0) hx hb dX1_begins_6 (by decide) ?_
  refine g_ptI hx hb hown hts hKn hS h fd_3_3_1 (Or.inr ⟨rfl, _, gNest_use rfl (hKn.2.2.2.2.1 _ (gNest_in q541 rfl))⟩) (fun _ z => z) (fun z => nomatch z) dX1_begins_7 (fun G7 h H locs hS => ?_)
  refine lv_iconst (v := 0) hx hb dX1_begins_10 (by decide) ?_
  refine g_istore_n (l1 := [(3, .inl 0), (0, .inr (.inr (some t))), (1, .inr (.inr v1)), (2, .inl v2)]) hx hb hl (by decide) rfl dX1_begins_11 (fun ls hl => ?_)
  exact sX1_begins_b12 C gFU _ _ _ _ _ _ h _ _ _ _ _ hS (gls_sub hl [1, 2, 3, 0] rfl)
/-- SendHall.gets(LSendHall$Life;IIII)V -/
def fX1_gets (E : g_E) (t : Nat) (v1 : Option Nat) (v2 : Int32) (v3 : Int32) (v4 : Int32) (v5 : Int32) (G : g_G) : Option (g_G) :=
  (grR G 3 3 v1 3).bind fun x1 =>
  (gaR G 122 x1 v2).bind fun x5 =>
  (gcast G 16 16 x5).bind fun x6 =>
  (grR G 3 3 v1 5).bind fun x12 =>
  (grI G 16 16 x6 5).bind fun x20 =>
  (gsaI E G x12 ((4 * v2) + x20) v4).bind fun G26 =>
  (grR G26 3 3 v1 6).bind fun x28 =>
  (gsaI E G26 x28 v2 v3).bind fun G33 =>
  (grI G33 16 16 x6 6).bind fun x41 =>
  if (if 0 ≤ v5 then v5 else 0 - v5) ≤ x41 then (
    (grR G33 16 16 x6 2).bind fun x62 =>
    (gchk G33 1 (some t)).bind fun b65 =>
    (fX1_goes E b65 v1 v2 x62 G33).bind fun z65 =>
    some z65)
  else (
    (grR G33 3 3 v1 4).bind fun x48 =>
    (gsaZ E G33 x48 v2 1).bind fun G53 =>
    some G53)
theorem sX1_gets (l : Launch) (E : g_E) (D : g_D) {t : Nat} {v1 : Option Nat} {v2 : Int32} {v3 : Int32} {v4 : Int32} {v5 : Int32} {G : g_G} {q : g_G} (h : fX1_gets E t v1 v2 v3 v4 v5 G = some q) : gMet l E D yX1_gets (ws_ yX1_gets cX1_gets 7 (none)) 221 7381 [.inr (.inr (some t)), .inr (.inr v1), .inl v2, .inl v3, .inl v4, .inl v5] G none q := by
  refine gMet.of (by decide +kernel) (Nat.le_of_ble_eq_true rfl) ?_
  intro p e R s m args below meth c C hS ls hl
  have C : gC p R s m args meth c cX1_gets 7 RX1 "gets" (none) 221 7381 E D := C
  obtain ⟨hx, hb, hml, hown, hts, hKn, hRc, hRs, hc1, hc2, hRf, hRl, hr, hlk, hnm⟩ := id C
  have hl : gls ls 7 [(0, .inr (.inr (some t))), (1, .inr (.inr v1)), (2, .inl v2), (3, .inl v3), (4, .inl v4), (5, .inl v5)] := hl
  generalize s.heap = H at hS ⊢
  unfold fX1_gets at h
  refine g_aload_n hx hb hl 1 rfl dX1_gets_0 ?_
  refine g_rdR hx hb hown hts hKn hS h fd_3_3_3 rfl (Or.inr ⟨_, gNest_use rfl (hKn.2.2.2.2.1 _ (gNest_in q545 rfl))⟩) (fun _ z => z) dX1_gets_1 (fun x1 h => ?_)
  refine g_iload_n hx hb hl 2 rfl dX1_gets_4 ?_
  refine g_aaloadG hx hb hKn hS h (by decide) dX1_gets_5 (fun x5 h => ?_)
  refine g_castS (k := 16) hx hb hown hKn hS h (by decide) (by decide) (hts _ q878) dX1_gets_6 (fun x6 h => ?_)
  refine g_astore (l1 := [(6, .inr (.inr x6)), (0, .inr (.inr (some t))), (1, .inr (.inr v1)), (2, .inl v2), (3, .inl v3), (4, .inl v4), (5, .inl v5)]) hx hb hl (by decide) rfl dX1_gets_9 (fun ls hl => ?_)
  refine g_aload_n hx hb hl 2 rfl dX1_gets_11 ?_
  refine g_rdR hx hb hown hts hKn hS h fd_3_3_5 rfl (Or.inr ⟨_, gNest_use rfl (hKn.2.2.2.2.1 _ (gNest_in q553 rfl))⟩) (fun _ z => z) dX1_gets_12 (fun x12 h => ?_)
  refine lv_iconst (v := 4) hx hb dX1_gets_15 (by decide) ?_
  refine g_iload_n hx hb hl 3 rfl dX1_gets_16 ?_
  refine lv_imul hx hb dX1_gets_17 ?_
  refine g_aload hx hb hl 0 rfl dX1_gets_18 ?_
  refine g_rdI hx hb hown hts hKn hS h fd_16_16_5 rfl (Or.inr ⟨_, gNest_use rfl (hKn.2.2.2.2.1 _ (gNest_in q1593 rfl))⟩) (fun _ z => z) dX1_gets_20 (fun x20 h => ?_)
  refine lv_iadd hx hb dX1_gets_23 ?_
  refine g_iload hx hb hl 5 rfl dX1_gets_24 ?_
  refine g_iastoreG hx hb hKn hS h dX1_gets_26 (fun G26 h H locs hS => ?_)
  refine g_aload_n hx hb hl 2 rfl dX1_gets_27 ?_
  refine g_rdR hx hb hown hts hKn hS h fd_3_3_6 rfl (Or.inr ⟨_, gNest_use rfl (hKn.2.2.2.2.1 _ (gNest_in q555 rfl))⟩) (fun _ z => z) dX1_gets_28 (fun x28 h => ?_)
  refine g_iload_n hx hb hl 3 rfl dX1_gets_31 ?_
  refine g_iload_n hx hb hl 4 rfl dX1_gets_32 ?_
  refine g_iastoreG hx hb hKn hS h dX1_gets_33 (fun G33 h H locs hS => ?_)
  refine g_iload hx hb hl 6 rfl dX1_gets_34 ?_
  refine g_mabs (rs := []) hx hb hml hown hRc hRs hS hl (hts _ q923) (hts _ q924) (hts _ q127) (hts _ q925) (by decide +kernel) rfl (Nat.le_of_ble_eq_true rfl) ⟨by rw [hRf]; exact Nat.le_of_ble_eq_true rfl, by rw [hRl]; exact Nat.le_of_ble_eq_true rfl⟩ dX1_gets_36 (fun cells slots => ?_)
  refine g_aload hx hb hl 0 rfl dX1_gets_39 ?_
  refine g_rdI hx hb hown hts hKn hS h fd_16_16_6 rfl (Or.inr ⟨_, gNest_use rfl (hKn.2.2.2.2.1 _ (gNest_in q1596 rfl))⟩) (fun _ z => z) dX1_gets_41 (fun x41 h => ?_)
  refine lv_icmp_le (tgt := 57) hx hb dX1_gets_44 (by decide) (fun c_44 => ?_) (fun c_44 => ?_)
  · have h := g_ift c_44 h
    refine g_aload_n hx hb hl 1 rfl dX1_gets_57 ?_
    refine g_aload_n hx hb hl 2 rfl dX1_gets_58 ?_
    refine g_iload_n hx hb hl 3 rfl dX1_gets_59 ?_
    refine g_aload hx hb hl 0 rfl dX1_gets_60 ?_
    refine g_rdR hx hb hown hts hKn hS h fd_16_16_2 rfl (Or.inl (hts _ q1435)) (u_same (hts _ q1436)) dX1_gets_62 (fun x62 h => ?_)
    obtain ⟨b65, hb65, h⟩ := g_bnd h
    obtain ⟨hr65, hk65⟩ := g_chk hb65
    obtain ⟨z65, h65, h⟩ := g_bnd h
    refine g_callV (n := 3) (b := b65) (av := [.inr (.inr v1), .inl v2, .inr (.inr x62)]) (rs := []) hx hb hml hown hts hKn hRc hRs hS hl (sX1_goes l E D h65) (lw_V q732 q734 qs5 q113 q735) ⟨rfl, by decide, by decide, by decide +kernel⟩ ⟨by rw [hRf]; exact Nat.le_of_ble_eq_true rfl, by rw [hRl]; exact Nat.le_of_ble_eq_true rfl⟩ (g_recv hKn hS hk65 (by decide) (by decide)) rfl (by rw [hr65]; rfl) (Nat.le_of_ble_eq_true rfl) dX1_gets_65 (fun H locs cells slots hS => ?_)
    exact g_vretG hx hb hr hlk hKn hRc hRs hS h dX1_gets_68
  · have h := g_iff c_44 h
    refine g_aload_n hx hb hl 2 rfl dX1_gets_47 ?_
    refine g_rdR hx hb hown hts hKn hS h fd_3_3_4 rfl (Or.inr ⟨_, gNest_use rfl (hKn.2.2.2.2.1 _ (gNest_in q547 rfl))⟩) (fun _ z => z) dX1_gets_48 (fun x48 h => ?_)
    refine g_iload_n hx hb hl 3 rfl dX1_gets_51 ?_
    refine lv_iconst (v := 1) hx hb dX1_gets_52 (by decide) ?_
    refine g_zastoreG hx hb hKn hS h dX1_gets_53 (fun G53 h H locs hS => ?_)
    refine lv_goto (tgt := 68) hx hb dX1_gets_54 (by decide) ?_
    exact g_vretG hx hb hr hlk hKn hRc hRs hS h dX1_gets_68
/-- SendHall.sends(LSendHall$Life;ILSendHall$Send;I)V -/
def fX1_sends_b187 (E : g_E) (t : Nat) (v1 : Option Nat) (v2 : Int32) (v3 : Option Nat) (G : g_G) : Option (g_G) :=
  (grR G 15 15 v3 2).bind fun x191 =>
  (gchk G 1 (some t)).bind fun b194 =>
  (fX1_goes E b194 v1 v2 x191 G).bind fun z194 =>
  some z194
def fX1_sends_b89 (E : g_E) (t : Nat) (v1 : Option Nat) (v2 : Int32) (v3 : Option Nat) (v6 : Int32) (s0 : Option Nat) (s1 : Int32) (s2 : Int32) (s3 : Int32) (s4 : Int32) (s5 : Int32) (G : g_G) : Option (g_G) :=
  (grR G 1 1 (some t) 6).bind fun x90 =>
  (gaI G 100 x90 v2).bind fun x94 =>
  (gchk G 3 s0).bind fun b98 =>
  (fX3_lie E b98 s1 s2 s3 s4 s5 (x94 + v6) G).bind fun z98 =>
  fX1_sends_b187 E t v1 v2 v3 z98
def fX1_sends (E : g_E) (t : Nat) (v1 : Option Nat) (v2 : Int32) (v3 : Option Nat) (v4 : Int32) (G : g_G) : Option (g_G) :=
  (gchk G 15 v3).bind fun b3 =>
  (fX9_to E b3 v1 v2 G).bind fun z3 =>
  (grI z3.2 1 1 (some t) 2).bind fun x9 =>
  (grI z3.2 1 1 (some t) 3).bind fun x13 =>
  (gchk z3.2 1 (some t)).bind fun b32 =>
  (fX1_mayLie E b32 v1 v2 v4 z3.2).bind fun z32 =>
  if z32.1 = 0 then (
    (grR z32.2 1 1 (some t) 6).bind fun x105 =>
    (gaI z32.2 100 x105 v2).bind fun x109 =>
    (grR z32.2 1 1 (some t) 6).bind fun x111 =>
    (gaI z32.2 100 x111 z3.1).bind fun x116 =>
    (gchk z32.2 1 (some t)).bind fun b126 =>
    (fX1_clocks E b126 v2 (if x109 < x116 then x116 else x109) z32.2).bind fun z126 =>
    (gchk z126 1 (some t)).bind fun b134 =>
    (fX1_clocks E b134 z3.1 (if x109 < x116 then x116 else x109) z126).bind fun z134 =>
    (grR z134 1 1 (some t) 6).bind fun x138 =>
    (gaI z134 100 x138 v2).bind fun x143 =>
    (gsaI E z134 x138 v2 (x143 + (1 + (x9 + (x13 * (if 0 ≤ (v2 - z3.1) then (v2 - z3.1) else 0 - (v2 - z3.1))))))).bind fun G149 =>
    (grR G149 1 1 (some t) 6).bind fun x151 =>
    (gaI G149 100 x151 z3.1).bind fun x157 =>
    (gsaI E G149 x151 z3.1 (x157 + (1 + (x9 + (x13 * (if 0 ≤ (v2 - z3.1) then (v2 - z3.1) else 0 - (v2 - z3.1))))))).bind fun G163 =>
    (grR G163 15 15 v3 5).bind fun x170 =>
    (fI_value E gDP x170 v1 v2 G163).bind fun z175 =>
    (grI z175.2 15 15 v3 6).bind fun x181 =>
    (gchk z175.2 1 (some t)).bind fun b184 =>
    (fX1_gets E b184 v1 z3.1 v2 z175.1 x181 z175.2).bind fun z184 =>
    fX1_sends_b187 E t v1 v2 v3 z184)
  else (
    (grR z32.2 1 1 (some t) 6).bind fun x39 =>
    (gaI z32.2 100 x39 v2).bind fun x44 =>
    (gsaI E z32.2 x39 v2 (x44 + 1)).bind fun G47 =>
    (gchk G47 15 v3).bind fun b55 =>
    (fX8_mark E b55 v1 v2 G47).bind fun z55 =>
    (grR z55.2 15 15 v3 5).bind fun x59 =>
    (fI_value E gDP x59 v1 v2 z55.2).bind fun z64 =>
    (grI z64.2 15 15 v3 0).bind fun x70 =>
    if ¬ x70 = (2 : Int32) then (
      (grI z64.2 15 15 v3 6).bind fun x86 =>
      fX1_sends_b89 E t v1 v2 v3 (x9 + (x13 * (if 0 ≤ (v2 - z3.1) then (v2 - z3.1) else 0 - (v2 - z3.1)))) v1 v2 z3.1 z55.1 z64.1 x86 z64.2)
    else (
      (grI z64.2 15 15 v3 6).bind fun x78 =>
      fX1_sends_b89 E t v1 v2 v3 (x9 + (x13 * (if 0 ≤ (v2 - z3.1) then (v2 - z3.1) else 0 - (v2 - z3.1)))) v1 v2 z3.1 z55.1 z64.1 (-x78) z64.2))
theorem sX1_sends_b187 {p : Program} {l : Launch} {e : Env} {R : Room} {s : State} {m : MethodId} {args : Array Value} {below : List Frame} {meth : Method} {c : Code} {E : g_E} {D : g_D} (C : gC p R s m args meth c cX1_sends 8 RX1 "sends" (none) 222 7407 E D) : ∀ (t : Nat) (v1 : Option Nat) (v2 : Int32) (v3 : Option Nat) (G : g_G) (q : g_G), fX1_sends_b187 E t v1 v2 v3 G = some q → ∀ (H : Heap) (locs : List Loc) (cells slots : Nat) (ls : Array Slot), gSt E D G H locs → gls ls 8 [(0, .inr (.inr (some t))), (1, .inr (.inr v1)), (2, .inl v2), (3, .inr (.inr v3))] → gT p l e R s m args below meth c E D H locs cells slots none q (F0 m 187 ls []) := by
  obtain ⟨hx, hb, hml, hown, hts, hKn, hRc, hRs, hc1, hc2, hRf, hRl, hr, hlk, hnm⟩ := id C
  intro t v1 v2 v3 G q h H locs cells slots ls hS hl
  unfold fX1_sends_b187 at h
  refine g_aload_n hx hb hl 0 rfl dX1_sends_187 ?_
  refine g_aload_n hx hb hl 1 rfl dX1_sends_188 ?_
  refine g_iload_n hx hb hl 2 rfl dX1_sends_189 ?_
  refine g_aload_n hx hb hl 3 rfl dX1_sends_190 ?_
  refine g_rdR hx hb hown hts hKn hS h fd_15_15_2 rfl (Or.inl (hts _ q1437)) (u_same (hts _ q1438)) dX1_sends_191 (fun x191 h => ?_)
  obtain ⟨b194, hb194, h⟩ := g_bnd h
  obtain ⟨hr194, hk194⟩ := g_chk hb194
  obtain ⟨z194, h194, h⟩ := g_bnd h
  refine g_callV (n := 3) (b := b194) (av := [.inr (.inr v1), .inl v2, .inr (.inr x191)]) (rs := []) hx hb hml hown hts hKn hRc hRs hS hl (sX1_goes l E D h194) (lw_V q732 q734 qs5 q113 q735) ⟨rfl, by decide, by decide, by decide +kernel⟩ ⟨by rw [hRf]; exact Nat.le_of_ble_eq_true rfl, by rw [hRl]; exact Nat.le_of_ble_eq_true rfl⟩ (g_recv hKn hS hk194 (by decide) (by decide)) rfl (by rw [hr194]; rfl) (Nat.le_of_ble_eq_true rfl) dX1_sends_194 (fun H locs cells slots hS => ?_)
  exact g_vretG hx hb hr hlk hKn hRc hRs hS h dX1_sends_197
theorem sX1_sends_b89 {p : Program} {l : Launch} {e : Env} {R : Room} {s : State} {m : MethodId} {args : Array Value} {below : List Frame} {meth : Method} {c : Code} {E : g_E} {D : g_D} (C : gC p R s m args meth c cX1_sends 8 RX1 "sends" (none) 222 7407 E D) : ∀ (t : Nat) (v1 : Option Nat) (v2 : Int32) (v3 : Option Nat) (v6 : Int32) (s0 : Option Nat) (s1 : Int32) (s2 : Int32) (s3 : Int32) (s4 : Int32) (s5 : Int32) (G : g_G) (q : g_G), fX1_sends_b89 E t v1 v2 v3 v6 s0 s1 s2 s3 s4 s5 G = some q → ∀ (H : Heap) (locs : List Loc) (cells slots : Nat) (ls : Array Slot), gSt E D G H locs → gls ls 8 [(0, .inr (.inr (some t))), (1, .inr (.inr v1)), (2, .inl v2), (3, .inr (.inr v3)), (6, .inl v6)] → gT p l e R s m args below meth c E D H locs cells slots none q (F0 m 89 ls [.int s5, .int s4, .int s3, .int s2, .int s1, va_rf s0]) := by
  obtain ⟨hx, hb, hml, hown, hts, hKn, hRc, hRs, hc1, hc2, hRf, hRl, hr, hlk, hnm⟩ := id C
  intro t v1 v2 v3 v6 s0 s1 s2 s3 s4 s5 G q h H locs cells slots ls hS hl
  unfold fX1_sends_b89 at h
  refine g_aload_n hx hb hl 0 rfl dX1_sends_89 ?_
  refine g_rdR hx hb hown hts hKn hS h fd_1_1_6 rfl (Or.inl (hts _ q603)) (fun _ z => z) dX1_sends_90 (fun x90 h => ?_)
  refine g_iload_n hx hb hl 2 rfl dX1_sends_93 ?_
  refine g_ialoadG hx hb hKn hS h dX1_sends_94 (fun x94 h => ?_)
  refine g_iload hx hb hl 4 rfl dX1_sends_95 ?_
  refine lv_iadd hx hb dX1_sends_97 ?_
  obtain ⟨b98, hb98, h⟩ := g_bnd h
  obtain ⟨hr98, hk98⟩ := g_chk hb98
  obtain ⟨z98, h98, h⟩ := g_bnd h
  refine g_callV (n := 6) (b := b98) (av := [.inl s1, .inl s2, .inl s3, .inl s4, .inl s5, .inl (x94 + v6)]) (rs := []) hx hb hml hown hts hKn hRc hRs hS hl (sX3_lie l E D h98) (lw_V q928 q929 q930 q134 q931) ⟨rfl, by decide, by decide, by decide +kernel⟩ ⟨by rw [hRf]; exact Nat.le_of_ble_eq_true rfl, by rw [hRl]; exact Nat.le_of_ble_eq_true rfl⟩ (g_recv hKn hS hk98 (by decide) (by decide)) rfl (by rw [hr98]; rfl) (Nat.le_of_ble_eq_true rfl) dX1_sends_98 (fun H locs cells slots hS => ?_)
  refine lv_goto (tgt := 187) hx hb dX1_sends_101 (by decide) ?_
  exact sX1_sends_b187 C _ _ _ _ _ _ h _ _ _ _ _ hS (gls_sub hl [0, 1, 2, 3] rfl)
theorem sX1_sends (l : Launch) (E : g_E) (D : g_D) {t : Nat} {v1 : Option Nat} {v2 : Int32} {v3 : Option Nat} {v4 : Int32} {G : g_G} {q : g_G} (h : fX1_sends E t v1 v2 v3 v4 G = some q) : gMet l E D yX1_sends (ws_ yX1_sends cX1_sends 8 (none)) 222 7407 [.inr (.inr (some t)), .inr (.inr v1), .inl v2, .inr (.inr v3), .inl v4] G none q := by
  refine gMet.of (by decide +kernel) (Nat.le_of_ble_eq_true rfl) ?_
  intro p e R s m args below meth c C hS ls hl
  have C : gC p R s m args meth c cX1_sends 8 RX1 "sends" (none) 222 7407 E D := C
  obtain ⟨hx, hb, hml, hown, hts, hKn, hRc, hRs, hc1, hc2, hRf, hRl, hr, hlk, hnm⟩ := id C
  have hl : gls ls 8 [(0, .inr (.inr (some t))), (1, .inr (.inr v1)), (2, .inl v2), (3, .inr (.inr v3)), (4, .inl v4)] := hl
  generalize s.heap = H at hS ⊢
  unfold fX1_sends at h
  refine g_aload_n hx hb hl 3 rfl dX1_sends_0 ?_
  refine g_aload_n hx hb hl 1 rfl dX1_sends_1 ?_
  refine g_iload_n hx hb hl 2 rfl dX1_sends_2 ?_
  obtain ⟨b3, hb3, h⟩ := g_bnd h
  obtain ⟨hr3, hk3⟩ := g_chk hb3
  obtain ⟨z3, h3, h⟩ := g_bnd h
  refine g_callV (n := 2) (b := b3) (av := [.inr (.inr v1), .inl v2]) (rs := []) hx hb hml hown hts hKn hRc hRs hS hl (sX9_to l E D h3) (lw_V q857 q798 q799 q143 q800) ⟨rfl, by decide, by decide, by decide +kernel⟩ ⟨by rw [hRf]; exact Nat.le_of_ble_eq_true rfl, by rw [hRl]; exact Nat.le_of_ble_eq_true rfl⟩ (g_recv hKn hS hk3 (by decide) (by decide)) rfl (by rw [hr3]; rfl) (Nat.le_of_ble_eq_true rfl) dX1_sends_3 (fun H locs cells slots hS => ?_)
  refine g_istore (l1 := [(5, .inl z3.1), (0, .inr (.inr (some t))), (1, .inr (.inr v1)), (2, .inl v2), (3, .inr (.inr v3)), (4, .inl v4)]) hx hb hl (by decide) rfl dX1_sends_6 (fun ls hl => ?_)
  refine g_aload_n hx hb hl 1 rfl dX1_sends_8 ?_
  refine g_rdI hx hb hown hts hKn hS h fd_1_1_2 rfl (Or.inl (hts _ q599)) (fun _ z => z) dX1_sends_9 (fun x9 h => ?_)
  refine g_aload_n hx hb hl 1 rfl dX1_sends_12 ?_
  refine g_rdI hx hb hown hts hKn hS h fd_1_1_3 rfl (Or.inl (hts _ q600)) (fun _ z => z) dX1_sends_13 (fun x13 h => ?_)
  refine g_iload_n hx hb hl 3 rfl dX1_sends_16 ?_
  refine g_iload hx hb hl 0 rfl dX1_sends_17 ?_
  refine lv_isub hx hb dX1_sends_19 ?_
  refine g_mabs (rs := [.inl x13, .inl x9]) hx hb hml hown hRc hRs hS hl (hts _ q923) (hts _ q924) (hts _ q127) (hts _ q925) (by decide +kernel) rfl (Nat.le_of_ble_eq_true rfl) ⟨by rw [hRf]; exact Nat.le_of_ble_eq_true rfl, by rw [hRl]; exact Nat.le_of_ble_eq_true rfl⟩ dX1_sends_20 (fun cells slots => ?_)
  refine lv_imul hx hb dX1_sends_23 ?_
  refine lv_iadd hx hb dX1_sends_24 ?_
  refine g_istore (l1 := [(6, .inl (x9 + (x13 * (if 0 ≤ (v2 - z3.1) then (v2 - z3.1) else 0 - (v2 - z3.1))))), (5, .inl z3.1), (0, .inr (.inr (some t))), (1, .inr (.inr v1)), (2, .inl v2), (3, .inr (.inr v3)), (4, .inl v4)]) hx hb hl (by decide) rfl dX1_sends_25 (fun ls hl => ?_)
  refine g_aload_n hx hb hl 2 rfl dX1_sends_27 ?_
  refine g_aload_n hx hb hl 3 rfl dX1_sends_28 ?_
  refine g_iload_n hx hb hl 4 rfl dX1_sends_29 ?_
  refine g_iload hx hb hl 6 rfl dX1_sends_30 ?_
  obtain ⟨b32, hb32, h⟩ := g_bnd h
  obtain ⟨hr32, hk32⟩ := g_chk hb32
  obtain ⟨z32, h32, h⟩ := g_bnd h
  refine g_callV (n := 3) (b := b32) (av := [.inr (.inr v1), .inl v2, .inl v4]) (rs := []) hx hb hml hown hts hKn hRc hRs hS hl (sX1_mayLie l E D h32) (lw_V q852 q854 qs7 q113 q855) ⟨rfl, by decide, by decide, by decide +kernel⟩ ⟨by rw [hRf]; exact Nat.le_of_ble_eq_true rfl, by rw [hRl]; exact Nat.le_of_ble_eq_true rfl⟩ (g_recv hKn hS hk32 (by decide) (by decide)) rfl (by rw [hr32]; rfl) (Nat.le_of_ble_eq_true rfl) dX1_sends_32 (fun H locs cells slots hS => ?_)
  refine lv_if_eq (tgt := 104) hx hb dX1_sends_35 (by decide) (fun c_35 => ?_) (fun c_35 => ?_)
  · have h := g_ift c_35 h
    refine g_aload_n hx hb hl 2 rfl dX1_sends_104 ?_
    refine g_rdR hx hb hown hts hKn hS h fd_1_1_6 rfl (Or.inl (hts _ q603)) (fun _ z => z) dX1_sends_105 (fun x105 h => ?_)
    refine g_iload_n hx hb hl 4 rfl dX1_sends_108 ?_
    refine g_ialoadG hx hb hKn hS h dX1_sends_109 (fun x109 h => ?_)
    refine g_aload_n hx hb hl 2 rfl dX1_sends_110 ?_
    refine g_rdR hx hb hown hts hKn hS h fd_1_1_6 rfl (Or.inl (hts _ q603)) (fun _ z => z) dX1_sends_111 (fun x111 h => ?_)
    refine g_iload hx hb hl 1 rfl dX1_sends_114 ?_
    refine g_ialoadG hx hb hKn hS h dX1_sends_116 (fun x116 h => ?_)
    refine g_mmax (rs := []) hx hb hml hown hRc hRs hS hl (hts _ q932) (hts _ q283) (hts _ q127) (hts _ q284) (by decide +kernel) rfl (Nat.le_of_ble_eq_true rfl) ⟨by rw [hRf]; exact Nat.le_of_ble_eq_true rfl, by rw [hRl]; exact Nat.le_of_ble_eq_true rfl⟩ dX1_sends_117 (fun cells slots => ?_)
    refine g_istore (l1 := [(7, .inl (if x109 < x116 then x116 else x109)), (6, .inl (x9 + (x13 * (if 0 ≤ (v2 - z3.1) then (v2 - z3.1) else 0 - (v2 - z3.1))))), (5, .inl z3.1), (0, .inr (.inr (some t))), (1, .inr (.inr v1)), (2, .inl v2), (3, .inr (.inr v3)), (4, .inl v4)]) hx hb hl (by decide) rfl dX1_sends_120 (fun ls hl => ?_)
    refine g_aload_n hx hb hl 3 rfl dX1_sends_122 ?_
    refine g_iload_n hx hb hl 5 rfl dX1_sends_123 ?_
    refine g_iload hx hb hl 0 rfl dX1_sends_124 ?_
    obtain ⟨b126, hb126, h⟩ := g_bnd h
    obtain ⟨hr126, hk126⟩ := g_chk hb126
    obtain ⟨z126, h126, h⟩ := g_bnd h
    refine g_callV (n := 2) (b := b126) (av := [.inl v2, .inl (if x109 < x116 then x116 else x109)]) (rs := []) hx hb hml hown hts hKn hRc hRs hS hl (sX1_clocks l E D h126) (lw_V q933 q935 qs15 q113 q936) ⟨rfl, by decide, by decide, by decide +kernel⟩ ⟨by rw [hRf]; exact Nat.le_of_ble_eq_true rfl, by rw [hRl]; exact Nat.le_of_ble_eq_true rfl⟩ (g_recv hKn hS hk126 (by decide) (by decide)) rfl (by rw [hr126]; rfl) (Nat.le_of_ble_eq_true rfl) dX1_sends_126 (fun H locs cells slots hS => ?_)
    refine g_aload_n hx hb hl 3 rfl dX1_sends_129 ?_
    refine g_iload hx hb hl 2 rfl dX1_sends_130 ?_
    refine g_iload hx hb hl 0 rfl dX1_sends_132 ?_
    obtain ⟨b134, hb134, h⟩ := g_bnd h
    obtain ⟨hr134, hk134⟩ := g_chk hb134
    obtain ⟨z134, h134, h⟩ := g_bnd h
    refine g_callV (n := 2) (b := b134) (av := [.inl z3.1, .inl (if x109 < x116 then x116 else x109)]) (rs := []) hx hb hml hown hts hKn hRc hRs hS hl (sX1_clocks l E D h134) (lw_V q933 q935 qs15 q113 q936) ⟨rfl, by decide, by decide, by decide +kernel⟩ ⟨by rw [hRf]; exact Nat.le_of_ble_eq_true rfl, by rw [hRl]; exact Nat.le_of_ble_eq_true rfl⟩ (g_recv hKn hS hk134 (by decide) (by decide)) rfl (by rw [hr134]; rfl) (Nat.le_of_ble_eq_true rfl) dX1_sends_134 (fun H locs cells slots hS => ?_)
    refine g_aload_n hx hb hl 3 rfl dX1_sends_137 ?_
    refine g_rdR hx hb hown hts hKn hS h fd_1_1_6 rfl (Or.inl (hts _ q603)) (fun _ z => z) dX1_sends_138 (fun x138 h => ?_)
    refine g_iload_n hx hb hl 5 rfl dX1_sends_141 ?_
    refine lv_dup2_11 hx hb dX1_sends_142 rfl (by first | exact va_rf_cat _ | rfl | exact g_catA _) ?_
    refine g_ialoadG hx hb hKn hS h dX1_sends_143 (fun x143 h => ?_)
    refine lv_iconst (v := 1) hx hb dX1_sends_144 (by decide) ?_
    refine g_iload hx hb hl 1 rfl dX1_sends_145 ?_
    refine lv_iadd hx hb dX1_sends_147 ?_
    refine lv_iadd hx hb dX1_sends_148 ?_
    refine g_iastoreG hx hb hKn hS h dX1_sends_149 (fun G149 h H locs hS => ?_)
    refine g_aload_n hx hb hl 3 rfl dX1_sends_150 ?_
    refine g_rdR hx hb hown hts hKn hS h fd_1_1_6 rfl (Or.inl (hts _ q603)) (fun _ z => z) dX1_sends_151 (fun x151 h => ?_)
    refine g_iload hx hb hl 2 rfl dX1_sends_154 ?_
    refine lv_dup2_11 hx hb dX1_sends_156 rfl (by first | exact va_rf_cat _ | rfl | exact g_catA _) ?_
    refine g_ialoadG hx hb hKn hS h dX1_sends_157 (fun x157 h => ?_)
    refine lv_iconst (v := 1) hx hb dX1_sends_158 (by decide) ?_
    refine g_iload hx hb hl 1 rfl dX1_sends_159 ?_
    refine lv_iadd hx hb dX1_sends_161 ?_
    refine lv_iadd hx hb dX1_sends_162 ?_
    refine g_iastoreG hx hb hKn hS h dX1_sends_163 (fun G163 h H locs hS => ?_)
    refine g_aload_n hx hb hl 3 rfl dX1_sends_164 ?_
    refine g_aload_n hx hb hl 4 rfl dX1_sends_165 ?_
    refine g_iload hx hb hl 2 rfl dX1_sends_166 ?_
    refine g_iload_n hx hb hl 5 rfl dX1_sends_168 ?_
    refine g_aload_n hx hb hl 6 rfl dX1_sends_169 ?_
    refine g_rdR hx hb hown hts hKn hS h fd_15_15_5 rfl (Or.inr ⟨_, gNest_use rfl (hKn.2.2.2.2.1 _ (gNest_in q1408 rfl))⟩) (fun _ z => z) dX1_sends_170 (fun x170 h => ?_)
    refine g_aload_n hx hb hl 4 rfl dX1_sends_173 ?_
    refine g_iload_n hx hb hl 5 rfl dX1_sends_174 ?_
    obtain ⟨z175, h175, h⟩ := g_bnd h
    refine g_valueI (rs := [.inl v2, .inl z3.1, .inr (.inr v1), .inr (.inr (some t))]) hx hb hml hown hts hKn hRc hRs hS hl (gI_top l E D) h175 q927 ⟨by rw [hRf]; exact Nat.le_of_ble_eq_true rfl, by rw [hRl]; exact Nat.le_of_ble_eq_true rfl⟩ rfl (Nat.le_of_ble_eq_true rfl) dX1_sends_175 (fun H locs cells slots hS => ?_)
    refine g_aload_n hx hb hl 6 rfl dX1_sends_180 ?_
    refine g_rdI hx hb hown hts hKn hS h fd_15_15_6 rfl (Or.inr ⟨_, gNest_use rfl (hKn.2.2.2.2.1 _ (gNest_in q1411 rfl))⟩) (fun _ z => z) dX1_sends_181 (fun x181 h => ?_)
    obtain ⟨b184, hb184, h⟩ := g_bnd h
    obtain ⟨hr184, hk184⟩ := g_chk hb184
    obtain ⟨z184, h184, h⟩ := g_bnd h
    refine g_callV (n := 5) (b := b184) (av := [.inr (.inr v1), .inl z3.1, .inl v2, .inl z175.1, .inl x181]) (rs := []) hx hb hml hown hts hKn hRc hRs hS hl (sX1_gets l E D h184) (lw_V q937 q939 qs16 q113 q940) ⟨rfl, by decide, by decide, by decide +kernel⟩ ⟨by rw [hRf]; exact Nat.le_of_ble_eq_true rfl, by rw [hRl]; exact Nat.le_of_ble_eq_true rfl⟩ (g_recv hKn hS hk184 (by decide) (by decide)) rfl (by rw [hr184]; rfl) (Nat.le_of_ble_eq_true rfl) dX1_sends_184 (fun H locs cells slots hS => ?_)
    exact sX1_sends_b187 C _ _ _ _ _ _ h _ _ _ _ _ hS (gls_sub hl [3, 4, 5, 6] rfl)
  · have h := g_iff c_35 h
    refine g_aload_n hx hb hl 2 rfl dX1_sends_38 ?_
    refine g_rdR hx hb hown hts hKn hS h fd_1_1_6 rfl (Or.inl (hts _ q603)) (fun _ z => z) dX1_sends_39 (fun x39 h => ?_)
    refine g_iload_n hx hb hl 4 rfl dX1_sends_42 ?_
    refine lv_dup2_11 hx hb dX1_sends_43 rfl (by first | exact va_rf_cat _ | rfl | exact g_catA _) ?_
    refine g_ialoadG hx hb hKn hS h dX1_sends_44 (fun x44 h => ?_)
    refine lv_iconst (v := 1) hx hb dX1_sends_45 (by decide) ?_
    refine lv_iadd hx hb dX1_sends_46 ?_
    refine g_iastoreG hx hb hKn hS h dX1_sends_47 (fun G47 h H locs hS => ?_)
    refine g_aload_n hx hb hl 3 rfl dX1_sends_48 ?_
    refine g_iload_n hx hb hl 4 rfl dX1_sends_49 ?_
    refine g_iload hx hb hl 1 rfl dX1_sends_50 ?_
    refine g_aload_n hx hb hl 5 rfl dX1_sends_52 ?_
    refine g_aload_n hx hb hl 3 rfl dX1_sends_53 ?_
    refine g_iload_n hx hb hl 4 rfl dX1_sends_54 ?_
    obtain ⟨b55, hb55, h⟩ := g_bnd h
    obtain ⟨hr55, hk55⟩ := g_chk hb55
    obtain ⟨z55, h55, h⟩ := g_bnd h
    refine g_callU (n := 2) (b := b55) (av := [.inr (.inr v1), .inl v2]) (rs := [.inl z3.1, .inl v2, .inr (.inr v1)]) hx hb hml hown hts hKn hRc hRs hS hl (C := "SendHall$Send") (owner := "SendHall$Talk") (x := ⟨"SendHall$Send", "mark", "(LSendHall$Life;I)I"⟩) (sX8_mark l E D h55) (va_cwU 2 hts (lw_app (lw_in _ [866, 867, 869, 870, 142] (by decide +kernel) (by decide +kernel)) (lw_meth q871)) rfl rfl rfl rfl ⟨by decide, by decide, by decide +kernel⟩ ⟨by rw [hRf]; exact Nat.le_of_ble_eq_true rfl, by rw [hRl]; exact Nat.le_of_ble_eq_true rfl⟩) (g_recv hKn hS hk55 (by decide) (by decide)) rfl (by rw [hr55]; rfl) (Nat.le_of_ble_eq_true rfl) dX1_sends_55 (fun H locs cells slots hS => ?_)
    refine g_aload_n hx hb hl 5 rfl dX1_sends_58 ?_
    refine g_rdR hx hb hown hts hKn hS h fd_15_15_5 rfl (Or.inr ⟨_, gNest_use rfl (hKn.2.2.2.2.1 _ (gNest_in q1408 rfl))⟩) (fun _ z => z) dX1_sends_59 (fun x59 h => ?_)
    refine g_aload_n hx hb hl 3 rfl dX1_sends_62 ?_
    refine g_iload_n hx hb hl 4 rfl dX1_sends_63 ?_
    obtain ⟨z64, h64, h⟩ := g_bnd h
    refine g_valueI (rs := [.inl z55.1, .inl z3.1, .inl v2, .inr (.inr v1)]) hx hb hml hown hts hKn hRc hRs hS hl (gI_top l E D) h64 q927 ⟨by rw [hRf]; exact Nat.le_of_ble_eq_true rfl, by rw [hRl]; exact Nat.le_of_ble_eq_true rfl⟩ rfl (Nat.le_of_ble_eq_true rfl) dX1_sends_64 (fun H locs cells slots hS => ?_)
    refine g_aload_n hx hb hl 5 rfl dX1_sends_69 ?_
    refine g_rdI hx hb hown hts hKn hS h fd_15_15_0 rfl (Or.inl (hts _ q1419)) (u_same (hts _ q1420)) dX1_sends_70 (fun x70 h => ?_)
    refine lv_iconst (v := 2) hx hb dX1_sends_73 (by decide) ?_
    refine lv_icmp_ne (tgt := 85) hx hb dX1_sends_74 (by decide) (fun c_74 => ?_) (fun c_74 => ?_)
    · have h := g_ift c_74 h
      refine g_aload_n hx hb hl 5 rfl dX1_sends_85 ?_
      refine g_rdI hx hb hown hts hKn hS h fd_15_15_6 rfl (Or.inr ⟨_, gNest_use rfl (hKn.2.2.2.2.1 _ (gNest_in q1411 rfl))⟩) (fun _ z => z) dX1_sends_86 (fun x86 h => ?_)
      exact sX1_sends_b89 C _ _ _ _ _ _ _ _ _ _ _ _ _ h _ _ _ _ _ hS (gls_sub hl [2, 3, 4, 5, 0] rfl)
    · have h := g_iff (fun z => z c_74) h
      refine g_aload_n hx hb hl 5 rfl dX1_sends_77 ?_
      refine g_rdI hx hb hown hts hKn hS h fd_15_15_6 rfl (Or.inr ⟨_, gNest_use rfl (hKn.2.2.2.2.1 _ (gNest_in q1411 rfl))⟩) (fun _ z => z) dX1_sends_78 (fun x78 h => ?_)
      refine lv_ineg hx hb dX1_sends_81 ?_
      refine lv_goto (tgt := 89) hx hb dX1_sends_82 (by decide) ?_
      exact sX1_sends_b89 C _ _ _ _ _ _ _ _ _ _ _ _ _ h _ _ _ _ _ hS (gls_sub hl [2, 3, 4, 5, 0] rfl)
/-- SendHall.takes(LSendHall$Life;II)V -/
def fX1_takes_b88 (E : g_E) (t : Nat) (v1 : Option Nat) (v2 : Int32) (v3 : Int32) (v4 : Int32) (v5 : Int32) (v6 : Int32) (G : g_G) : Option (g_G) :=
  (gchk G 3 v1).bind fun b91 =>
  (fX3_takeOut E b91 v4 G).bind fun z91 =>
  (gchk z91 1 (some t)).bind fun b102 =>
  (fX1_gets E b102 v1 v2 v3 v5 v6 z91).bind fun z102 =>
  some z102
def fX1_takes (E : g_E) (t : Nat) (v1 : Option Nat) (v2 : Int32) (v3 : Int32) (G : g_G) : Option (g_G) :=
  (grR G 3 3 v1 3).bind fun x4 =>
  (gaR G 122 x4 v2).bind fun x8 =>
  (gcast G 16 16 x8).bind fun x9 =>
  (gchk G 16 x9).bind fun b14 =>
  (fX8_mark E b14 v1 v2 G).bind fun z14 =>
  (gchk z14.2 3 v1).bind fun b17 =>
  (fX3_first E b17 v3 v2 z14.1 z14.2).bind fun z17 =>
  (grR z17.2 3 3 v1 10).bind fun x23 =>
  (gaI z17.2 100 x23 z17.1).bind fun x28 =>
  (grR z17.2 3 3 v1 11).bind fun x32 =>
  (gaI z17.2 100 x32 z17.1).bind fun x37 =>
  (grR z17.2 3 3 v1 12).bind fun x43 =>
  (gaI z17.2 100 x43 z17.1).bind fun x48 =>
  (gchk z17.2 1 (some t)).bind fun b49 =>
  (fX1_clocks E b49 v2 x48 z17.2).bind fun z49 =>
  (grR z49 1 1 (some t) 6).bind fun x53 =>
  (gaI z49 100 x53 v2).bind fun x58 =>
  (gsaI E z49 x53 v2 (x58 + 1)).bind fun G61 =>
  if 0 ≤ x37 then (
    fX1_takes_b88 E t v1 v2 v3 z17.1 x28 x37 G61)
  else (
    (grR G61 1 1 (some t) 8).bind fun x68 =>
    (grR G61 1 1 (some t) 8).bind fun x73 =>
    (gaI G61 100 x73 v3).bind fun x77 =>
    (grR G61 1 1 (some t) 6).bind fun x79 =>
    (gaI G61 100 x79 v2).bind fun x83 =>
    (gsaI E G61 x68 v3 (if x77 < x83 then x83 else x77)).bind fun G87 =>
    fX1_takes_b88 E t v1 v2 v3 z17.1 x28 x37 G87)
theorem sX1_takes_b88 {p : Program} {l : Launch} {e : Env} {R : Room} {s : State} {m : MethodId} {args : Array Value} {below : List Frame} {meth : Method} {c : Code} {E : g_E} {D : g_D} (C : gC p R s m args meth c cX1_takes 7 RX1 "takes" (none) 222 7407 E D) : ∀ (t : Nat) (v1 : Option Nat) (v2 : Int32) (v3 : Int32) (v4 : Int32) (v5 : Int32) (v6 : Int32) (G : g_G) (q : g_G), fX1_takes_b88 E t v1 v2 v3 v4 v5 v6 G = some q → ∀ (H : Heap) (locs : List Loc) (cells slots : Nat) (ls : Array Slot), gSt E D G H locs → gls ls 7 [(0, .inr (.inr (some t))), (1, .inr (.inr v1)), (2, .inl v2), (3, .inl v3), (4, .inl v4), (5, .inl v5), (6, .inl v6)] → gT p l e R s m args below meth c E D H locs cells slots none q (F0 m 88 ls []) := by
  obtain ⟨hx, hb, hml, hown, hts, hKn, hRc, hRs, hc1, hc2, hRf, hRl, hr, hlk, hnm⟩ := id C
  intro t v1 v2 v3 v4 v5 v6 G q h H locs cells slots ls hS hl
  unfold fX1_takes_b88 at h
  refine g_aload_n hx hb hl 1 rfl dX1_takes_88 ?_
  refine g_iload hx hb hl 4 rfl dX1_takes_89 ?_
  obtain ⟨b91, hb91, h⟩ := g_bnd h
  obtain ⟨hr91, hk91⟩ := g_chk hb91
  obtain ⟨z91, h91, h⟩ := g_bnd h
  refine g_callV (n := 1) (b := b91) (av := [.inl v4]) (rs := []) hx hb hml hown hts hKn hRc hRs hS hl (sX3_takeOut l E D h91) (lw_V q945 q946 q947 q134 q948) ⟨rfl, by decide, by decide, by decide +kernel⟩ ⟨by rw [hRf]; exact Nat.le_of_ble_eq_true rfl, by rw [hRl]; exact Nat.le_of_ble_eq_true rfl⟩ (g_recv hKn hS hk91 (by decide) (by decide)) rfl (by rw [hr91]; rfl) (Nat.le_of_ble_eq_true rfl) dX1_takes_91 (fun H locs cells slots hS => ?_)
  refine g_aload_n hx hb hl 0 rfl dX1_takes_94 ?_
  refine g_aload_n hx hb hl 1 rfl dX1_takes_95 ?_
  refine g_iload_n hx hb hl 2 rfl dX1_takes_96 ?_
  refine g_iload_n hx hb hl 3 rfl dX1_takes_97 ?_
  refine g_iload hx hb hl 5 rfl dX1_takes_98 ?_
  refine g_iload hx hb hl 6 rfl dX1_takes_100 ?_
  obtain ⟨b102, hb102, h⟩ := g_bnd h
  obtain ⟨hr102, hk102⟩ := g_chk hb102
  obtain ⟨z102, h102, h⟩ := g_bnd h
  refine g_callV (n := 5) (b := b102) (av := [.inr (.inr v1), .inl v2, .inl v3, .inl v5, .inl v6]) (rs := []) hx hb hml hown hts hKn hRc hRs hS hl (sX1_gets l E D h102) (lw_V q937 q939 qs16 q113 q940) ⟨rfl, by decide, by decide, by decide +kernel⟩ ⟨by rw [hRf]; exact Nat.le_of_ble_eq_true rfl, by rw [hRl]; exact Nat.le_of_ble_eq_true rfl⟩ (g_recv hKn hS hk102 (by decide) (by decide)) rfl (by rw [hr102]; rfl) (Nat.le_of_ble_eq_true rfl) dX1_takes_102 (fun H locs cells slots hS => ?_)
  exact g_vretG hx hb hr hlk hKn hRc hRs hS h dX1_takes_105
theorem sX1_takes (l : Launch) (E : g_E) (D : g_D) {t : Nat} {v1 : Option Nat} {v2 : Int32} {v3 : Int32} {G : g_G} {q : g_G} (h : fX1_takes E t v1 v2 v3 G = some q) : gMet l E D yX1_takes (ws_ yX1_takes cX1_takes 7 (none)) 222 7407 [.inr (.inr (some t)), .inr (.inr v1), .inl v2, .inl v3] G none q := by
  refine gMet.of (by decide +kernel) (Nat.le_of_ble_eq_true rfl) ?_
  intro p e R s m args below meth c C hS ls hl
  have C : gC p R s m args meth c cX1_takes 7 RX1 "takes" (none) 222 7407 E D := C
  obtain ⟨hx, hb, hml, hown, hts, hKn, hRc, hRs, hc1, hc2, hRf, hRl, hr, hlk, hnm⟩ := id C
  have hl : gls ls 7 [(0, .inr (.inr (some t))), (1, .inr (.inr v1)), (2, .inl v2), (3, .inl v3)] := hl
  generalize s.heap = H at hS ⊢
  unfold fX1_takes at h
  refine g_aload_n hx hb hl 1 rfl dX1_takes_0 ?_
  refine g_iload_n hx hb hl 3 rfl dX1_takes_1 ?_
  refine g_iload_n hx hb hl 2 rfl dX1_takes_2 ?_
  refine g_aload_n hx hb hl 1 rfl dX1_takes_3 ?_
  refine g_rdR hx hb hown hts hKn hS h fd_3_3_3 rfl (Or.inr ⟨_, gNest_use rfl (hKn.2.2.2.2.1 _ (gNest_in q545 rfl))⟩) (fun _ z => z) dX1_takes_4 (fun x4 h => ?_)
  refine g_iload_n hx hb hl 2 rfl dX1_takes_7 ?_
  refine g_aaloadG hx hb hKn hS h (by decide) dX1_takes_8 (fun x8 h => ?_)
  refine g_castS (k := 16) hx hb hown hKn hS h (by decide) (by decide) (hts _ q878) dX1_takes_9 (fun x9 h => ?_)
  refine g_aload_n hx hb hl 1 rfl dX1_takes_12 ?_
  refine g_iload_n hx hb hl 2 rfl dX1_takes_13 ?_
  obtain ⟨b14, hb14, h⟩ := g_bnd h
  obtain ⟨hr14, hk14⟩ := g_chk hb14
  obtain ⟨z14, h14, h⟩ := g_bnd h
  refine g_callU (n := 2) (b := b14) (av := [.inr (.inr v1), .inl v2]) (rs := [.inl v2, .inl v3, .inr (.inr v1)]) hx hb hml hown hts hKn hRc hRs hS hl (C := "SendHall$Wait") (owner := "SendHall$Talk") (x := ⟨"SendHall$Wait", "mark", "(LSendHall$Life;I)I"⟩) (sX8_mark l E D h14) (va_cwU 2 hts (lw_app (lw_in _ [883, 884, 885, 870, 142] (by decide +kernel) (by decide +kernel)) (lw_meth q871)) rfl rfl rfl rfl ⟨by decide, by decide, by decide +kernel⟩ ⟨by rw [hRf]; exact Nat.le_of_ble_eq_true rfl, by rw [hRl]; exact Nat.le_of_ble_eq_true rfl⟩) (g_recv hKn hS hk14 (by decide) (by decide)) rfl (by rw [hr14]; rfl) (Nat.le_of_ble_eq_true rfl) dX1_takes_14 (fun H locs cells slots hS => ?_)
  obtain ⟨b17, hb17, h⟩ := g_bnd h
  obtain ⟨hr17, hk17⟩ := g_chk hb17
  obtain ⟨z17, h17, h⟩ := g_bnd h
  refine g_callV (n := 3) (b := b17) (av := [.inl v3, .inl v2, .inl z14.1]) (rs := []) hx hb hml hown hts hKn hRc hRs hS hl (sX3_first l E D h17) (lw_V q886 q887 q888 q134 q889) ⟨rfl, by decide, by decide, by decide +kernel⟩ ⟨by rw [hRf]; exact Nat.le_of_ble_eq_true rfl, by rw [hRl]; exact Nat.le_of_ble_eq_true rfl⟩ (g_recv hKn hS hk17 (by decide) (by decide)) rfl (by rw [hr17]; rfl) (Nat.le_of_ble_eq_true rfl) dX1_takes_17 (fun H locs cells slots hS => ?_)
  refine g_istore (l1 := [(4, .inl z17.1), (0, .inr (.inr (some t))), (1, .inr (.inr v1)), (2, .inl v2), (3, .inl v3)]) hx hb hl (by decide) rfl dX1_takes_20 (fun ls hl => ?_)
  refine g_aload_n hx hb hl 2 rfl dX1_takes_22 ?_
  refine g_rdR hx hb hown hts hKn hS h fd_3_3_10 rfl (Or.inr ⟨_, gNest_use rfl (hKn.2.2.2.2.1 _ (gNest_in q563 rfl))⟩) (fun _ z => z) dX1_takes_23 (fun x23 h => ?_)
  refine g_iload hx hb hl 0 rfl dX1_takes_26 ?_
  refine g_ialoadG hx hb hKn hS h dX1_takes_28 (fun x28 h => ?_)
  refine g_istore (l1 := [(5, .inl x28), (4, .inl z17.1), (0, .inr (.inr (some t))), (1, .inr (.inr v1)), (2, .inl v2), (3, .inl v3)]) hx hb hl (by decide) rfl dX1_takes_29 (fun ls hl => ?_)
  refine g_aload_n hx hb hl 3 rfl dX1_takes_31 ?_
  refine g_rdR hx hb hown hts hKn hS h fd_3_3_11 rfl (Or.inr ⟨_, gNest_use rfl (hKn.2.2.2.2.1 _ (gNest_in q565 rfl))⟩) (fun _ z => z) dX1_takes_32 (fun x32 h => ?_)
  refine g_iload hx hb hl 1 rfl dX1_takes_35 ?_
  refine g_ialoadG hx hb hKn hS h dX1_takes_37 (fun x37 h => ?_)
  refine g_istore (l1 := [(6, .inl x37), (5, .inl x28), (4, .inl z17.1), (0, .inr (.inr (some t))), (1, .inr (.inr v1)), (2, .inl v2), (3, .inl v3)]) hx hb hl (by decide) rfl dX1_takes_38 (fun ls hl => ?_)
  refine g_aload_n hx hb hl 3 rfl dX1_takes_40 ?_
  refine g_iload_n hx hb hl 5 rfl dX1_takes_41 ?_
  refine g_aload_n hx hb hl 4 rfl dX1_takes_42 ?_
  refine g_rdR hx hb hown hts hKn hS h fd_3_3_12 rfl (Or.inr ⟨_, gNest_use rfl (hKn.2.2.2.2.1 _ (gNest_in q567 rfl))⟩) (fun _ z => z) dX1_takes_43 (fun x43 h => ?_)
  refine g_iload hx hb hl 2 rfl dX1_takes_46 ?_
  refine g_ialoadG hx hb hKn hS h dX1_takes_48 (fun x48 h => ?_)
  obtain ⟨b49, hb49, h⟩ := g_bnd h
  obtain ⟨hr49, hk49⟩ := g_chk hb49
  obtain ⟨z49, h49, h⟩ := g_bnd h
  refine g_callV (n := 2) (b := b49) (av := [.inl v2, .inl x48]) (rs := []) hx hb hml hown hts hKn hRc hRs hS hl (sX1_clocks l E D h49) (lw_V q933 q935 qs15 q113 q936) ⟨rfl, by decide, by decide, by decide +kernel⟩ ⟨by rw [hRf]; exact Nat.le_of_ble_eq_true rfl, by rw [hRl]; exact Nat.le_of_ble_eq_true rfl⟩ (g_recv hKn hS hk49 (by decide) (by decide)) rfl (by rw [hr49]; rfl) (Nat.le_of_ble_eq_true rfl) dX1_takes_49 (fun H locs cells slots hS => ?_)
  refine g_aload_n hx hb hl 3 rfl dX1_takes_52 ?_
  refine g_rdR hx hb hown hts hKn hS h fd_1_1_6 rfl (Or.inl (hts _ q603)) (fun _ z => z) dX1_takes_53 (fun x53 h => ?_)
  refine g_iload_n hx hb hl 5 rfl dX1_takes_56 ?_
  refine lv_dup2_11 hx hb dX1_takes_57 rfl (by first | exact va_rf_cat _ | rfl | exact g_catA _) ?_
  refine g_ialoadG hx hb hKn hS h dX1_takes_58 (fun x58 h => ?_)
  refine lv_iconst (v := 1) hx hb dX1_takes_59 (by decide) ?_
  refine lv_iadd hx hb dX1_takes_60 ?_
  refine g_iastoreG hx hb hKn hS h dX1_takes_61 (fun G61 h H locs hS => ?_)
  refine g_iload hx hb hl 0 rfl dX1_takes_62 ?_
  refine lv_if_ge (tgt := 88) hx hb dX1_takes_64 (by decide) (fun c_64 => ?_) (fun c_64 => ?_)
  · have h := g_ift c_64 h
    exact sX1_takes_b88 C _ _ _ _ _ _ _ _ _ h _ _ _ _ _ hS (gls_sub hl [3, 4, 5, 6, 2, 1, 0] rfl)
  · have h := g_iff c_64 h
    refine g_aload_n hx hb hl 3 rfl dX1_takes_67 ?_
    refine g_rdR hx hb hown hts hKn hS h fd_1_1_8 rfl (Or.inl (hts _ q605)) (fun _ z => z) dX1_takes_68 (fun x68 h => ?_)
    refine g_iload_n hx hb hl 6 rfl dX1_takes_71 ?_
    refine g_aload_n hx hb hl 3 rfl dX1_takes_72 ?_
    refine g_rdR hx hb hown hts hKn hS h fd_1_1_8 rfl (Or.inl (hts _ q605)) (fun _ z => z) dX1_takes_73 (fun x73 h => ?_)
    refine g_iload_n hx hb hl 6 rfl dX1_takes_76 ?_
    refine g_ialoadG hx hb hKn hS h dX1_takes_77 (fun x77 h => ?_)
    refine g_aload_n hx hb hl 3 rfl dX1_takes_78 ?_
    refine g_rdR hx hb hown hts hKn hS h fd_1_1_6 rfl (Or.inl (hts _ q603)) (fun _ z => z) dX1_takes_79 (fun x79 h => ?_)
    refine g_iload_n hx hb hl 5 rfl dX1_takes_82 ?_
    refine g_ialoadG hx hb hKn hS h dX1_takes_83 (fun x83 h => ?_)
    refine g_mmax (rs := [.inl v3, .inr (.inr x68)]) hx hb hml hown hRc hRs hS hl (hts _ q932) (hts _ q283) (hts _ q127) (hts _ q284) (by decide +kernel) rfl (Nat.le_of_ble_eq_true rfl) ⟨by rw [hRf]; exact Nat.le_of_ble_eq_true rfl, by rw [hRl]; exact Nat.le_of_ble_eq_true rfl⟩ dX1_takes_84 (fun cells slots => ?_)
    refine g_iastoreG hx hb hKn hS h dX1_takes_87 (fun G87 h H locs hS => ?_)
    exact sX1_takes_b88 C _ _ _ _ _ _ _ _ _ h _ _ _ _ _ hS (gls_sub hl [3, 4, 5, 6, 2, 1, 0] rfl)
