set_option maxRecDepth 100000
/-- SendHall$Reader.var()I -/
def fX5_var_b58 (E : g_E) (t : Nat) (v1 : Int32) (s0 : Option Nat) (s1 : Int32) (G : g_G) : Option (Int32 × g_G) :=
  (gchk G 5 s0).bind fun b59 =>
  (fX5_check E b59 s1 3 G).bind fun z59 =>
  (gchk z59 5 (some t)).bind fun b63 =>
  (fX5_go E b63 z59).bind fun z63 =>
  some (v1, z63)
def fX5_var_b46 (E : g_E) (t : Nat) (s0 : Int32) (G : g_G) : Option (Int32 × g_G) :=
  if (4 : Int32) ≤ s0 then (
    fX5_var_b58 E t s0 (some t) 0 G)
  else (
    fX5_var_b58 E t s0 (some t) 1 G)
def fX5_var_b16 (E : g_E) (t : Nat) (s0 : Option Nat) (s1 : Int32) (G : g_G) : Option (Int32 × g_G) :=
  (gchk G 5 s0).bind fun b17 =>
  (fX5_check E b17 s1 1 G).bind fun z17 =>
  (grR z17 5 5 (some t) 9).bind fun x21 =>
  (gchk z17 19 x21).bind fun b24 =>
  (fJ9_length E b24 z17).bind fun z24 =>
  if ¬ z24.1 = (1 : Int32) then (
    fX5_var_b46 E t 4 z24.2)
  else (
    (grR z24.2 5 5 (some t) 9).bind fun x32 =>
    (gchk z24.2 19 x32).bind fun b36 =>
    (fJ9_charAt E b36 0 z24.2).bind fun z36 =>
    fX5_var_b46 E t (z36.1 - 97) z36.2)
def fX5_var (E : g_E) (t : Nat) (G : g_G) : Option (Int32 × g_G) :=
  (grR G 5 5 (some t) 8).bind fun x2 =>
  if ¬ x2 = (some (gA E 1)) then (
    fX5_var_b16 E t (some t) 0 G)
  else (
    fX5_var_b16 E t (some t) 1 G)
theorem sX5_var_b58 {p : Program} {l : Launch} {e : Env} {R : Room} {s : State} {m : MethodId} {args : Array Value} {below : List Frame} {meth : Method} {c : Code} {E : g_E} {D : g_D} (C : gC p R s m args meth c cX5_var 2 RX5 "var" (some .int) 8 218 E D) : ∀ (t : Nat) (v1 : Int32) (s0 : Option Nat) (s1 : Int32) (G : g_G) (q : Int32 × g_G), fX5_var_b58 E t v1 s0 s1 G = some q → ∀ (H : Heap) (locs : List Loc) (cells slots : Nat) (ls : Array Slot), gSt E D G H locs → gls ls 2 [(0, .inr (.inr (some t))), (1, .inl v1)] → gT p l e R s m args below meth c E D H locs cells slots (some (.int q.1)) q.2 (F0 m 58 ls [.int s1, va_rf s0]) := by
  obtain ⟨hx, hb, hml, hown, hts, hKn, hRc, hRs, hc1, hc2, hRf, hRl, hr, hlk, hnm⟩ := id C
  intro t v1 s0 s1 G q h H locs cells slots ls hS hl
  unfold fX5_var_b58 at h
  refine lv_iconst (v := 3) hx hb dX5_var_58 (by decide) ?_
  obtain ⟨b59, hb59, h⟩ := g_bnd h
  obtain ⟨hr59, hk59⟩ := g_chk hb59
  obtain ⟨z59, h59, h⟩ := g_bnd h
  refine g_callV (n := 2) (b := b59) (av := [.inl s1, .inl 3]) (rs := []) hx hb hml hown hts hKn hRc hRs hS hl (sX5_check l E D h59) (lw_V q1363 q1365 qs27 q136 q1366) ⟨rfl, by decide, by decide, by decide +kernel⟩ ⟨by rw [hRf]; exact Nat.le_of_ble_eq_true rfl, by rw [hRl]; exact Nat.le_of_ble_eq_true rfl⟩ (g_recv hKn hS hk59 (by decide) (by decide)) rfl (by rw [hr59]; rfl) (Nat.le_of_ble_eq_true rfl) dX5_var_59 (fun H locs cells slots hS => ?_)
  refine g_aload_n hx hb hl 0 rfl dX5_var_62 ?_
  obtain ⟨b63, hb63, h⟩ := g_bnd h
  obtain ⟨hr63, hk63⟩ := g_chk hb63
  obtain ⟨z63, h63, h⟩ := g_bnd h
  refine g_callV (n := 0) (b := b63) (av := []) (rs := []) hx hb hml hown hts hKn hRc hRs hS hl (sX5_go l E D h63) (lw_V q1118 q1120 qs24 q136 q1121) ⟨rfl, by decide, by decide, by decide +kernel⟩ ⟨by rw [hRf]; exact Nat.le_of_ble_eq_true rfl, by rw [hRl]; exact Nat.le_of_ble_eq_true rfl⟩ (g_recv hKn hS hk63 (by decide) (by decide)) rfl (by rw [hr63]; rfl) (Nat.le_of_ble_eq_true rfl) dX5_var_63 (fun H locs cells slots hS => ?_)
  refine g_iload_n hx hb hl 1 rfl dX5_var_66 ?_
  exact g_iretG hx hb hr hlk hKn hRc hRs hS h dX5_var_67
theorem sX5_var_b46 {p : Program} {l : Launch} {e : Env} {R : Room} {s : State} {m : MethodId} {args : Array Value} {below : List Frame} {meth : Method} {c : Code} {E : g_E} {D : g_D} (C : gC p R s m args meth c cX5_var 2 RX5 "var" (some .int) 8 218 E D) : ∀ (t : Nat) (s0 : Int32) (G : g_G) (q : Int32 × g_G), fX5_var_b46 E t s0 G = some q → ∀ (H : Heap) (locs : List Loc) (cells slots : Nat) (ls : Array Slot), gSt E D G H locs → gls ls 2 [(0, .inr (.inr (some t)))] → gT p l e R s m args below meth c E D H locs cells slots (some (.int q.1)) q.2 (F0 m 46 ls [.int s0]) := by
  obtain ⟨hx, hb, hml, hown, hts, hKn, hRc, hRs, hc1, hc2, hRf, hRl, hr, hlk, hnm⟩ := id C
  intro t s0 G q h H locs cells slots ls hS hl
  unfold fX5_var_b46 at h
  refine g_istore_n (l1 := [(1, .inl s0), (0, .inr (.inr (some t)))]) hx hb hl (by decide) rfl dX5_var_46 (fun ls hl => ?_)
  refine g_aload_n hx hb hl 1 rfl dX5_var_47 ?_
  refine g_iload_n hx hb hl 0 rfl dX5_var_48 ?_
  refine lv_iconst (v := 4) hx hb dX5_var_49 (by decide) ?_
  refine lv_icmp_ge (tgt := 57) hx hb dX5_var_50 (by decide) (fun c_50 => ?_) (fun c_50 => ?_)
  · have h := g_ift c_50 h
    refine lv_iconst (v := 0) hx hb dX5_var_57 (by decide) ?_
    exact sX5_var_b58 C _ _ _ _ _ _ h _ _ _ _ _ hS (gls_sub hl [1, 0] rfl)
  · have h := g_iff c_50 h
    refine lv_iconst (v := 1) hx hb dX5_var_53 (by decide) ?_
    refine lv_goto (tgt := 58) hx hb dX5_var_54 (by decide) ?_
    exact sX5_var_b58 C _ _ _ _ _ _ h _ _ _ _ _ hS (gls_sub hl [1, 0] rfl)
theorem sX5_var_b16 {p : Program} {l : Launch} {e : Env} {R : Room} {s : State} {m : MethodId} {args : Array Value} {below : List Frame} {meth : Method} {c : Code} {E : g_E} {D : g_D} (C : gC p R s m args meth c cX5_var 2 RX5 "var" (some .int) 8 218 E D) : ∀ (t : Nat) (s0 : Option Nat) (s1 : Int32) (G : g_G) (q : Int32 × g_G), fX5_var_b16 E t s0 s1 G = some q → ∀ (H : Heap) (locs : List Loc) (cells slots : Nat) (ls : Array Slot), gSt E D G H locs → gls ls 2 [(0, .inr (.inr (some t)))] → gT p l e R s m args below meth c E D H locs cells slots (some (.int q.1)) q.2 (F0 m 16 ls [.int s1, va_rf s0]) := by
  obtain ⟨hx, hb, hml, hown, hts, hKn, hRc, hRs, hc1, hc2, hRf, hRl, hr, hlk, hnm⟩ := id C
  intro t s0 s1 G q h H locs cells slots ls hS hl
  unfold fX5_var_b16 at h
  refine lv_iconst (v := 1) hx hb dX5_var_16 (by decide) ?_
  obtain ⟨b17, hb17, h⟩ := g_bnd h
  obtain ⟨hr17, hk17⟩ := g_chk hb17
  obtain ⟨z17, h17, h⟩ := g_bnd h
  refine g_callV (n := 2) (b := b17) (av := [.inl s1, .inl 1]) (rs := []) hx hb hml hown hts hKn hRc hRs hS hl (sX5_check l E D h17) (lw_V q1363 q1365 qs27 q136 q1366) ⟨rfl, by decide, by decide, by decide +kernel⟩ ⟨by rw [hRf]; exact Nat.le_of_ble_eq_true rfl, by rw [hRl]; exact Nat.le_of_ble_eq_true rfl⟩ (g_recv hKn hS hk17 (by decide) (by decide)) rfl (by rw [hr17]; rfl) (Nat.le_of_ble_eq_true rfl) dX5_var_17 (fun H locs cells slots hS => ?_)
  refine g_aload_n hx hb hl 0 rfl dX5_var_20 ?_
  refine g_rdR hx hb hown hts hKn hS h fd_5_5_9 rfl (Or.inl (hts _ q1242)) (fun _ z => z) dX5_var_21 (fun x21 h => ?_)
  obtain ⟨b24, hb24, h⟩ := g_bnd h
  obtain ⟨hr24, hk24⟩ := g_chk hb24
  obtain ⟨z24, h24, h⟩ := g_bnd h
  refine g_callV (n := 0) (b := b24) (av := []) (rs := []) hx hb hml hown hts hKn hRc hRs hS hl (sJ9_length l E D h24) (lw_V q1617 q338 q339 q124 q340) ⟨rfl, by decide, by decide, by decide +kernel⟩ ⟨by rw [hRf]; exact Nat.le_of_ble_eq_true rfl, by rw [hRl]; exact Nat.le_of_ble_eq_true rfl⟩ (g_recv hKn hS hk24 (by decide) (by decide)) rfl (by rw [hr24]; rfl) (Nat.le_of_ble_eq_true rfl) dX5_var_24 (fun H locs cells slots hS => ?_)
  refine lv_iconst (v := 1) hx hb dX5_var_27 (by decide) ?_
  refine lv_icmp_ne (tgt := 45) hx hb dX5_var_28 (by decide) (fun c_28 => ?_) (fun c_28 => ?_)
  · have h := g_ift c_28 h
    refine lv_iconst (v := 4) hx hb dX5_var_45 (by decide) ?_
    exact sX5_var_b46 C _ _ _ _ h _ _ _ _ _ hS (gls_sub hl [0] rfl)
  · have h := g_iff (fun z => z c_28) h
    refine g_aload_n hx hb hl 0 rfl dX5_var_31 ?_
    refine g_rdR hx hb hown hts hKn hS h fd_5_5_9 rfl (Or.inl (hts _ q1242)) (fun _ z => z) dX5_var_32 (fun x32 h => ?_)
    refine lv_iconst (v := 0) hx hb dX5_var_35 (by decide) ?_
    obtain ⟨b36, hb36, h⟩ := g_bnd h
    obtain ⟨hr36, hk36⟩ := g_chk hb36
    obtain ⟨z36, h36, h⟩ := g_bnd h
    refine g_callV (n := 1) (b := b36) (av := [.inl 0]) (rs := []) hx hb hml hown hts hKn hRc hRs hS hl (sJ9_charAt l E D h36) (lw_V q1523 q1524 q1525 q124 q1526) ⟨rfl, by decide, by decide, by decide +kernel⟩ ⟨by rw [hRf]; exact Nat.le_of_ble_eq_true rfl, by rw [hRl]; exact Nat.le_of_ble_eq_true rfl⟩ (g_recv hKn hS hk36 (by decide) (by decide)) rfl (by rw [hr36]; rfl) (Nat.le_of_ble_eq_true rfl) dX5_var_36 (fun H locs cells slots hS => ?_)
    refine lv_bipush (v := 97) hx hb dX5_var_39 (by decide) ?_
    refine lv_isub hx hb dX5_var_41 ?_
    refine lv_goto (tgt := 46) hx hb dX5_var_42 (by decide) ?_
    exact sX5_var_b46 C _ _ _ _ h _ _ _ _ _ hS (gls_sub hl [0] rfl)
theorem sX5_var (l : Launch) (E : g_E) (D : g_D) {t : Nat} {G : g_G} {q : Int32 × g_G} (h : fX5_var E t G = some q) : gMet l E D yX5_var (ws_ yX5_var cX5_var 2 (some .int)) 8 218 [.inr (.inr (some t))] G (some (.int q.1)) q.2 := by
  refine gMet.of (by decide +kernel) (Nat.le_of_ble_eq_true rfl) ?_
  intro p e R s m args below meth c C hS ls hl
  have C : gC p R s m args meth c cX5_var 2 RX5 "var" (some .int) 8 218 E D := C
  obtain ⟨hx, hb, hml, hown, hts, hKn, hRc, hRs, hc1, hc2, hRf, hRl, hr, hlk, hnm⟩ := id C
  have hl : gls ls 2 [(0, .inr (.inr (some t)))] := hl
  generalize s.heap = H at hS ⊢
  unfold fX5_var at h
  refine g_aload_n hx hb hl 0 rfl dX5_var_0 ?_
  refine g_aload_n hx hb hl 0 rfl dX5_var_1 ?_
  refine g_rdR hx hb hown hts hKn hS h fd_5_5_8 rfl (Or.inl (hts _ q1241)) (fun _ z => z) dX5_var_2 (fun x2 h => ?_)
  refine g_getsZ (C := "SendHall$Sort") (n := "WORD") (d := "LSendHall$Sort;") (v := va_rf (some (gA E 1))) hx hb hown (hKn.2.2.2.2.2.2.1 _ (List.mem_of_getElem? (i := 0) rfl)) hS (hts _ q1157) (fun _ z => z) dX5_var_5 ?_
  refine lv_acmp_ne (tgt := 15) hx hb dX5_var_8 (by decide) (fun c_8 => ?_) (fun c_8 => ?_)
  · have h := g_ift c_8 h
    refine lv_iconst (v := 0) hx hb dX5_var_15 (by decide) ?_
    exact sX5_var_b16 C _ _ _ _ _ h _ _ _ _ _ hS (gls_sub hl [0] rfl)
  · have h := g_iff (fun z => z c_8) h
    refine lv_iconst (v := 1) hx hb dX5_var_11 (by decide) ?_
    refine lv_goto (tgt := 16) hx hb dX5_var_12 (by decide) ?_
    exact sX5_var_b16 C _ _ _ _ _ h _ _ _ _ _ hS (gls_sub hl [0] rfl)
/-- java/util/ArrayList.add(Ljava/lang/Object;)Z -/
def fJ2_add_2 (E : g_E) (t : Nat) (v1 : Option Nat) (G : g_G) : Option (Int32 × g_G) :=
  (grI G 17 17 (some t) 0).bind fun x2 =>
  (gpI E G 17 17 (some t) 0 (x2 + 1)).bind fun G7 =>
  (grR G7 17 17 (some t) 1).bind fun x13 =>
  (grI G7 17 17 (some t) 2).bind fun x17 =>
  (gchk G7 17 (some t)).bind fun b20 =>
  (fJ2_add_3 E b20 v1 x13 x17 G7).bind fun z20 =>
  if (1 : Int32) = 0 ∨ (1 : Int32) = 1 then some (1, z20) else none
theorem sJ2_add_2 (l : Launch) (E : g_E) (D : g_D) {t : Nat} {v1 : Option Nat} {G : g_G} {q : Int32 × g_G} (h : fJ2_add_2 E t v1 G = some q) : gMet l E D yJ2_add_2 (ws_ yJ2_add_2 cJ2_add_2 2 (some .boolean)) 6 190 [.inr (.inr (some t)), .inr (.inr v1)] G (some (.int q.1)) q.2 := by
  refine gMet.of (by decide +kernel) (Nat.le_of_ble_eq_true rfl) ?_
  intro p e R s m args below meth c C hS ls hl
  have C : gC p R s m args meth c cJ2_add_2 2 RJ2 "add" (some .boolean) 6 190 E D := C
  obtain ⟨hx, hb, hml, hown, hts, hKn, hRc, hRs, hc1, hc2, hRf, hRl, hr, hlk, hnm⟩ := id C
  have hl : gls ls 2 [(0, .inr (.inr (some t))), (1, .inr (.inr v1))] := hl
  generalize s.heap = H at hS ⊢
  unfold fJ2_add_2 at h
  refine g_aload_n hx hb hl 0 rfl dJ2_add_2_0 ?_
  refine lv_dup hx hb dJ2_add_2_1 (by first | exact va_rf_cat _ | rfl | exact g_catA _) ?_
  refine g_rdI hx hb hown hts hKn hS h fd_17_17_0 rfl (Or.inl (hts _ q503)) (u_same (hts _ q504)) dJ2_add_2_2 (fun x2 h => ?_)
  refine lv_iconst (v := 1) hx hb dJ2_add_2_5 (by decide) ?_
  refine lv_iadd hx hb dJ2_add_2_6 ?_
  refine g_ptI hx hb hown hts hKn hS h fd_17_17_0 (Or.inl (hts _ q503)) (u_same (hts _ q504)) (fun z => nomatch z) dJ2_add_2_7 (fun G7 h H locs hS => ?_)
  refine g_aload_n hx hb hl 0 rfl dJ2_add_2_10 ?_
  refine g_aload_n hx hb hl 1 rfl dJ2_add_2_11 ?_
  refine g_aload_n hx hb hl 0 rfl dJ2_add_2_12 ?_
  refine g_rdR hx hb hown hts hKn hS h fd_17_17_1 rfl (Or.inl (hts _ q500)) (fun _ z => z) dJ2_add_2_13 (fun x13 h => ?_)
  refine g_aload_n hx hb hl 0 rfl dJ2_add_2_16 ?_
  refine g_rdI hx hb hown hts hKn hS h fd_17_17_2 rfl (Or.inl (hts _ q501)) (fun _ z => z) dJ2_add_2_17 (fun x17 h => ?_)
  obtain ⟨b20, hb20, h⟩ := g_bnd h
  obtain ⟨hr20, hk20⟩ := g_chk hb20
  obtain ⟨z20, h20, h⟩ := g_bnd h
  refine g_callV (n := 3) (b := b20) (av := [.inr (.inr v1), .inr (.inr x13), .inl x17]) (rs := []) hx hb hml hown hts hKn hRc hRs hS hl (sJ2_add_3 l E D h20) (lw_V q1466 q1468 qs30 q117 q1469) ⟨rfl, by decide, by decide, by decide +kernel⟩ ⟨by rw [hRf]; exact Nat.le_of_ble_eq_true rfl, by rw [hRl]; exact Nat.le_of_ble_eq_true rfl⟩ (g_recv hKn hS hk20 (by decide) (by decide)) rfl (by rw [hr20]; rfl) (Nat.le_of_ble_eq_true rfl) dJ2_add_2_20 (fun H locs cells slots hS => ?_)
  refine lv_iconst (v := 1) hx hb dJ2_add_2_23 (by decide) ?_
  exact g_zretG hx hb hr hlk hKn hRc hRs hS h dJ2_add_2_24
/-- SendHallLaw.of(LSendHall;II[J)I -/
def fX0_of (E : g_E) (v0 : Option Nat) (v1 : Int32) (v2 : Int32) (v3 : Option Nat) (G : g_G) : Option (Int32 × g_G) :=
  (gchk G 1 v0).bind fun b5 =>
  (fX1_of E b5 v1 v2 G).bind fun z5 =>
  (gsaL E z5.2 v3 0 (Int32.toInt64 z5.1)).bind fun G9 =>
  some (0, G9)
theorem sX0_of (l : Launch) (E : g_E) (D : g_D) {v0 : Option Nat} {v1 : Int32} {v2 : Int32} {v3 : Option Nat} {G : g_G} {q : Int32 × g_G} (h : fX0_of E v0 v1 v2 v3 G = some q) : gMet l E D yX0_of (ws_ yX0_of cX0_of 5 (some .int)) 221 7373 [.inr (.inr v0), .inl v1, .inl v2, .inr (.inr v3)] G (some (.int q.1)) q.2 := by
  refine gMet.of (by decide +kernel) (Nat.le_of_ble_eq_true rfl) ?_
  intro p e R s m args below meth c C hS ls hl
  have C : gC p R s m args meth c cX0_of 5 RX0 "of" (some .int) 221 7373 E D := C
  obtain ⟨hx, hb, hml, hown, hts, hKn, hRc, hRs, hc1, hc2, hRf, hRl, hr, hlk, hnm⟩ := id C
  have hl : gls ls 5 [(0, .inr (.inr v0)), (1, .inl v1), (2, .inl v2), (3, .inr (.inr v3))] := hl
  generalize s.heap = H at hS ⊢
  unfold fX0_of at h
  refine g_aload_n hx hb hl 3 rfl dX0_of_0 ?_
  refine lv_iconst (v := 0) hx hb dX0_of_1 (by decide) ?_
  refine g_aload_n hx hb hl 0 rfl dX0_of_2 ?_
  refine g_iload_n hx hb hl 1 rfl dX0_of_3 ?_
  refine g_iload_n hx hb hl 2 rfl dX0_of_4 ?_
  obtain ⟨b5, hb5, h⟩ := g_bnd h
  obtain ⟨hr5, hk5⟩ := g_chk hb5
  obtain ⟨z5, h5, h⟩ := g_bnd h
  refine g_callV (n := 2) (b := b5) (av := [.inl v1, .inl v2]) (rs := [.inl 0, .inr (.inr v3)]) hx hb hml hown hts hKn hRc hRs hS hl (sX1_of l E D h5) (lw_V q1813 q1814 q1815 q113 q1816) ⟨rfl, by decide, by decide, by decide +kernel⟩ ⟨by rw [hRf]; exact Nat.le_of_ble_eq_true rfl, by rw [hRl]; exact Nat.le_of_ble_eq_true rfl⟩ (g_recv hKn hS hk5 (by decide) (by decide)) rfl (by rw [hr5]; rfl) (Nat.le_of_ble_eq_true rfl) dX0_of_5 (fun H locs cells slots hS => ?_)
  refine lv_i2l (v := (Int32.toInt64 z5.1)) hx hb dX0_of_8 rfl ?_
  refine g_lastoreG hx hb hKn hS h dX0_of_9 (fun G9 h H locs hS => ?_)
  refine lv_goto (tgt := 17) hx hb dX0_of_10 (by decide) ?_
  refine lv_iconst (v := 0) hx hb dX0_of_17 (by decide) ?_
  exact g_iretG hx hb hr hlk hKn hRc hRs hS h dX0_of_18
/-- SendHall$Row.add(CLSendHall$Expr;)V -/
def fX11_add (E : g_E) (t : Nat) (v1 : Int32) (v2 : Option Nat) (G : g_G) : Option (g_G) :=
  (grR G 9 9 (some t) 1).bind fun x1 =>
  (fJ17_valueOf E v1 G).bind fun z5 =>
  (gchk z5.2 17 x1).bind fun b8 =>
  (fJ2_add_2 E b8 z5.1 z5.2).bind fun z8 =>
  (grR z8.2 9 9 (some t) 0).bind fun x13 =>
  (gchk z8.2 17 x13).bind fun b17 =>
  (fJ2_add_2 E b17 v2 z8.2).bind fun z17 =>
  some z17.2
theorem sX11_add (l : Launch) (E : g_E) (D : g_D) {t : Nat} {v1 : Int32} {v2 : Option Nat} {G : g_G} {q : g_G} (h : fX11_add E t v1 v2 G = some q) : gMet l E D yX11_add (ws_ yX11_add cX11_add 3 (none)) 7 211 [.inr (.inr (some t)), .inl v1, .inr (.inr v2)] G none q := by
  refine gMet.of (by decide +kernel) (Nat.le_of_ble_eq_true rfl) ?_
  intro p e R s m args below meth c C hS ls hl
  have C : gC p R s m args meth c cX11_add 3 RX11 "add" (none) 7 211 E D := C
  obtain ⟨hx, hb, hml, hown, hts, hKn, hRc, hRs, hc1, hc2, hRf, hRl, hr, hlk, hnm⟩ := id C
  have hl : gls ls 3 [(0, .inr (.inr (some t))), (1, .inl v1), (2, .inr (.inr v2))] := hl
  generalize s.heap = H at hS ⊢
  unfold fX11_add at h
  refine g_aload_n hx hb hl 0 rfl dX11_add_0 ?_
  refine g_rdR hx hb hown hts hKn hS h fd_9_9_1 rfl (Or.inl (hts _ q1517)) (fun _ z => z) dX11_add_1 (fun x1 h => ?_)
  refine g_iload_n hx hb hl 1 rfl dX11_add_4 ?_
  obtain ⟨z5, h5, h⟩ := g_bnd h
  refine g_callS (n := 1) (av := [.inl v1]) (rs := [.inr (.inr x1)]) hx hb hml hown hts hKn hRc hRs hS hl (sJ17_valueOf l E D h5) (lw_S q1538 q1539 q139 q1540) ⟨by decide, by decide, by decide +kernel⟩ ⟨by rw [hRf]; exact Nat.le_of_ble_eq_true rfl, by rw [hRl]; exact Nat.le_of_ble_eq_true rfl⟩ rfl rfl (Nat.le_of_ble_eq_true rfl) dX11_add_5 (fun H locs cells slots hS => ?_)
  obtain ⟨b8, hb8, h⟩ := g_bnd h
  obtain ⟨hr8, hk8⟩ := g_chk hb8
  obtain ⟨z8, h8, h⟩ := g_bnd h
  refine g_callV (n := 1) (b := b8) (av := [.inr (.inr z5.1)]) (rs := []) hx hb hml hown hts hKn hRc hRs hS hl (sJ2_add_2 l E D h8) (lw_V q1515 q1463 q1464 q117 q1465) ⟨rfl, by decide, by decide, by decide +kernel⟩ ⟨by rw [hRf]; exact Nat.le_of_ble_eq_true rfl, by rw [hRl]; exact Nat.le_of_ble_eq_true rfl⟩ (g_recv hKn hS hk8 (by decide) (by decide)) rfl (by rw [hr8]; rfl) (Nat.le_of_ble_eq_true rfl) dX11_add_8 (fun H locs cells slots hS => ?_)
  refine lv_pop hx hb dX11_add_11 rfl ?_
  refine g_aload_n hx hb hl 0 rfl dX11_add_12 ?_
  refine g_rdR hx hb hown hts hKn hS h fd_9_9_0 rfl (Or.inl (hts _ q1516)) (fun _ z => z) dX11_add_13 (fun x13 h => ?_)
  refine g_aload_n hx hb hl 2 rfl dX11_add_16 ?_
  obtain ⟨b17, hb17, h⟩ := g_bnd h
  obtain ⟨hr17, hk17⟩ := g_chk hb17
  obtain ⟨z17, h17, h⟩ := g_bnd h
  refine g_callV (n := 1) (b := b17) (av := [.inr (.inr v2)]) (rs := []) hx hb hml hown hts hKn hRc hRs hS hl (sJ2_add_2 l E D h17) (lw_V q1515 q1463 q1464 q117 q1465) ⟨rfl, by decide, by decide, by decide +kernel⟩ ⟨by rw [hRf]; exact Nat.le_of_ble_eq_true rfl, by rw [hRl]; exact Nat.le_of_ble_eq_true rfl⟩ (g_recv hKn hS hk17 (by decide) (by decide)) rfl (by rw [hr17]; rfl) (Nat.le_of_ble_eq_true rfl) dX11_add_17 (fun H locs cells slots hS => ?_)
  refine lv_pop hx hb dX11_add_20 rfl ?_
  exact g_vretG hx hb hr hlk hKn hRc hRs hS h dX11_add_21
/-- SendHall$Row.<init>(LSendHall$Expr;)V -/
def fX11_init (E : g_E) (t : Nat) (v1 : Option Nat) (G : g_G) : Option (g_G) :=
  (gnewO E G 17 3).bind fun z5 =>
  (fJ2_init E z5.1 2 z5.2).bind fun z10 =>
  (gpR E z10 9 9 (some t) 0 (some z5.1)).bind fun G13 =>
  (gnewO E G13 17 3).bind fun z17 =>
  (fJ2_init E z17.1 1 z17.2).bind fun z22 =>
  (gpR E z22 9 9 (some t) 1 (some z17.1)).bind fun G25 =>
  (grR G25 9 9 (some t) 0).bind fun x29 =>
  (gchk G25 17 x29).bind fun b33 =>
  (fJ2_add_2 E b33 v1 G25).bind fun z33 =>
  some z33.2
theorem sX11_init (l : Launch) (E : g_E) (D : g_D) {t : Nat} {v1 : Option Nat} {G : g_G} {q : g_G} (h : fX11_init E t v1 G = some q) : gMet l E D yX11_init (ws_ yX11_init cX11_init 2 (none)) 7 211 [.inr (.inr (some t)), .inr (.inr v1)] G none q := by
  refine gMet.of (by decide +kernel) (Nat.le_of_ble_eq_true rfl) ?_
  intro p e R s m args below meth c C hS ls hl
  have C : gC p R s m args meth c cX11_init 2 RX11 "<init>" (none) 7 211 E D := C
  obtain ⟨hx, hb, hml, hown, hts, hKn, hRc, hRs, hc1, hc2, hRf, hRl, hr, hlk, hnm⟩ := id C
  have hl : gls ls 2 [(0, .inr (.inr (some t))), (1, .inr (.inr v1))] := hl
  generalize s.heap = H at hS ⊢
  unfold fX11_init at h
  refine g_aload_n hx hb hl 0 rfl dX11_init_0 ?_
  refine g_objInit (rs := []) hx hb hml hown hl (hts _ q1512) (hts _ q162) (hts _ q163) rfl dX11_init_1 ⟨by rw [hRf]; exact Nat.le_of_ble_eq_true rfl, by rw [hRl]; exact Nat.le_of_ble_eq_true rfl⟩ ?_
  refine g_aload_n hx hb hl 0 rfl dX11_init_4 ?_
  refine g_newG (k := 17) hx hb hown hts hKn hRc hRs hS h (by decide) (by decide) (hts _ q1513) (hts _ q171) (hts _ q117) dX11_init_5 (fun z5 h H locs cells slots hS => ?_)
  refine lv_dup hx hb dX11_init_8 (by first | exact va_rf_cat _ | rfl | exact g_catA _) ?_
  refine lv_iconst (v := 2) hx hb dX11_init_9 (by decide) ?_
  obtain ⟨z10, h10, h⟩ := g_bnd h
  refine g_callI (n := 1) (av := [.inl 2]) (rs := [.inr (.inr (some z5.1)), .inr (.inr (some t))]) hx hb hml hown hts hKn hRc hRs hS hl (sJ2_init l E D h10) (lw_meth q174) (hts _ q117) (hts _ q1514) (hts _ q173) rfl ⟨by decide, by decide, by decide +kernel⟩ ⟨by rw [hRf]; exact Nat.le_of_ble_eq_true rfl, by rw [hRl]; exact Nat.le_of_ble_eq_true rfl⟩ rfl rfl (Nat.le_of_ble_eq_true rfl) dX11_init_10 (fun H locs cells slots hS => ?_)
  refine g_ptR hx hb hown hts hKn hS h fd_9_9_0 rfl (Or.inl (hts _ q1516)) (fun _ z => z) (fun _ => ⟨hnm, rfl⟩) dX11_init_13 (fun G13 h H locs hS => ?_)
  refine g_aload_n hx hb hl 0 rfl dX11_init_16 ?_
  refine g_newG (k := 17) hx hb hown hts hKn hRc hRs hS h (by decide) (by decide) (hts _ q1513) (hts _ q171) (hts _ q117) dX11_init_17 (fun z17 h H locs cells slots hS => ?_)
  refine lv_dup hx hb dX11_init_20 (by first | exact va_rf_cat _ | rfl | exact g_catA _) ?_
  refine lv_iconst (v := 1) hx hb dX11_init_21 (by decide) ?_
  obtain ⟨z22, h22, h⟩ := g_bnd h
  refine g_callI (n := 1) (av := [.inl 1]) (rs := [.inr (.inr (some z17.1)), .inr (.inr (some t))]) hx hb hml hown hts hKn hRc hRs hS hl (sJ2_init l E D h22) (lw_meth q174) (hts _ q117) (hts _ q1514) (hts _ q173) rfl ⟨by decide, by decide, by decide +kernel⟩ ⟨by rw [hRf]; exact Nat.le_of_ble_eq_true rfl, by rw [hRl]; exact Nat.le_of_ble_eq_true rfl⟩ rfl rfl (Nat.le_of_ble_eq_true rfl) dX11_init_22 (fun H locs cells slots hS => ?_)
  refine g_ptR hx hb hown hts hKn hS h fd_9_9_1 rfl (Or.inl (hts _ q1517)) (fun _ z => z) (fun _ => ⟨hnm, rfl⟩) dX11_init_25 (fun G25 h H locs hS => ?_)
  refine g_aload_n hx hb hl 0 rfl dX11_init_28 ?_
  refine g_rdR hx hb hown hts hKn hS h fd_9_9_0 rfl (Or.inl (hts _ q1516)) (fun _ z => z) dX11_init_29 (fun x29 h => ?_)
  refine g_aload_n hx hb hl 1 rfl dX11_init_32 ?_
  obtain ⟨b33, hb33, h⟩ := g_bnd h
  obtain ⟨hr33, hk33⟩ := g_chk hb33
  obtain ⟨z33, h33, h⟩ := g_bnd h
  refine g_callV (n := 1) (b := b33) (av := [.inr (.inr v1)]) (rs := []) hx hb hml hown hts hKn hRc hRs hS hl (sJ2_add_2 l E D h33) (lw_V q1515 q1463 q1464 q117 q1465) ⟨rfl, by decide, by decide, by decide +kernel⟩ ⟨by rw [hRf]; exact Nat.le_of_ble_eq_true rfl, by rw [hRl]; exact Nat.le_of_ble_eq_true rfl⟩ (g_recv hKn hS hk33 (by decide) (by decide)) rfl (by rw [hr33]; rfl) (Nat.le_of_ble_eq_true rfl) dX11_init_33 (fun H locs cells slots hS => ?_)
  refine lv_pop hx hb dX11_init_36 rfl ?_
  exact g_vretG hx hb hr hlk hKn hRc hRs hS h dX11_init_37
/-- SendHall.begins(LSendHall$Life;I)V -/
def fX1_begins_b73 (E : g_E) : Nat → Nat → (Option Nat) → Int32 → Int32 → g_G → Option (g_G)
  | 0, _, _, _, _, _ => none
  | n + 1, t, v1, v2, v3, G =>
    if v2 ≤ v3 then (
      some G)
    else (
      (grR G 1 1 (some t) 4).bind fun x82 =>
      (grR G 2 2 x82 1).bind fun x85 =>
      (gchk G 1 (some t)).bind fun b88 =>
      (fX1_goes E b88 v1 v3 x85 G).bind fun z88 =>
      fX1_begins_b73 E n t v1 v2 (v3 + 1) z88)
def fX1_begins_b41 (E : g_E) (k12 : Nat → (Option Nat) → Int32 → Int32 → g_G → Option (g_G)) : Nat → Nat → (Option Nat) → Int32 → Int32 → Int32 → g_G → Option (g_G)
  | 0, _, _, _, _, _, _ => none
  | n + 1, t, v1, v2, v3, v4, G =>
    if (4 : Int32) ≤ v4 then (
      k12 t v1 v2 (v3 + 1) G)
    else (
      (grR G 3 3 v1 5).bind fun x48 =>
      (gsaI E G x48 ((4 * v3) + v4) 0).bind fun G58 =>
      fX1_begins_b41 E k12 n t v1 v2 v3 (v4 + 1) G58)
def fX1_begins_b12 (E : g_E) : Nat → Nat → (Option Nat) → Int32 → Int32 → g_G → Option (g_G)
  | 0, _, _, _, _, _ => none
  | n + 1, t, v1, v2, v3, G =>
    if v2 ≤ v3 then (
      fX1_begins_b73 E gFU t v1 v2 0 G)
    else (
      (grR G 3 3 v1 4).bind fun x18 =>
      (gsaZ E G x18 v3 0).bind fun G23 =>
      (grR G23 3 3 v1 6).bind fun x25 =>
      (gsaI E G23 x25 v3 0).bind fun G30 =>
      (grR G30 3 3 v1 7).bind fun x32 =>
      (gsaI E G30 x32 v3 0).bind fun G37 =>
      fX1_begins_b41 E (fX1_begins_b12 E n) gFU t v1 v2 v3 0 G37)
def fX1_begins (E : g_E) (t : Nat) (v1 : Option Nat) (v2 : Int32) (G : g_G) : Option (g_G) :=
  (gpI E G 3 3 v1 0 v2).bind fun G2 =>
  (gpI E G2 3 3 v1 1 0).bind fun G7 =>
  fX1_begins_b12 E gFU t v1 v2 0 G7
theorem sX1_begins_b73 {p : Program} {l : Launch} {e : Env} {R : Room} {s : State} {m : MethodId} {args : Array Value} {below : List Frame} {meth : Method} {c : Code} {E : g_E} {D : g_D} (C : gC p R s m args meth c cX1_begins 5 RX1 "begins" (none) 221 7381 E D) : ∀ (n : Nat) (t : Nat) (v1 : Option Nat) (v2 : Int32) (v3 : Int32) (G : g_G) (q : g_G), fX1_begins_b73 E n t v1 v2 v3 G = some q → ∀ (H : Heap) (locs : List Loc) (cells slots : Nat) (ls : Array Slot), gSt E D G H locs → gls ls 5 [(0, .inr (.inr (some t))), (1, .inr (.inr v1)), (2, .inl v2), (3, .inl v3)] → gT p l e R s m args below meth c E D H locs cells slots none q (F0 m 73 ls []) := by
  obtain ⟨hx, hb, hml, hown, hts, hKn, hRc, hRs, hc1, hc2, hRf, hRl, hr, hlk, hnm⟩ := id C
  intro n
  induction n with
  | zero =>
    intro t v1 v2 v3 G q h
    exact g_no h
  | succ n ih =>
    intro t v1 v2 v3 G q h H locs cells slots ls hS hl
    rw [fX1_begins_b73] at h
    refine g_iload_n hx hb hl 3 rfl dX1_begins_73 ?_
    refine g_iload_n hx hb hl 2 rfl dX1_begins_74 ?_
    refine lv_icmp_ge (tgt := 97) hx hb dX1_begins_75 (by decide) (fun c_75 => ?_) (fun c_75 => ?_)
    · have h := g_ift c_75 h
      exact g_vretG hx hb hr hlk hKn hRc hRs hS h dX1_begins_97
    · have h := g_iff c_75 h
      refine g_aload_n hx hb hl 0 rfl dX1_begins_78 ?_
      refine g_aload_n hx hb hl 1 rfl dX1_begins_79 ?_
      refine g_iload_n hx hb hl 3 rfl dX1_begins_80 ?_
      refine g_aload_n hx hb hl 0 rfl dX1_begins_81 ?_
      refine g_rdR hx hb hown hts hKn hS h fd_1_1_4 rfl (Or.inl (hts _ q601)) (fun _ z => z) dX1_begins_82 (fun x82 h => ?_)
      refine g_rdR hx hb hown hts hKn hS h fd_2_2_1 rfl (Or.inr ⟨_, gNest_use rfl (hKn.2.2.2.2.1 _ (gNest_in q515 rfl))⟩) (fun _ z => z) dX1_begins_85 (fun x85 h => ?_)
      obtain ⟨b88, hb88, h⟩ := g_bnd h
      obtain ⟨hr88, hk88⟩ := g_chk hb88
      obtain ⟨z88, h88, h⟩ := g_bnd h
      refine g_callV (n := 3) (b := b88) (av := [.inr (.inr v1), .inl v3, .inr (.inr x85)]) (rs := []) hx hb hml hown hts hKn hRc hRs hS hl (sX1_goes l E D h88) (lw_V q732 q734 qs5 q113 q735) ⟨rfl, by decide, by decide, by decide +kernel⟩ ⟨by rw [hRf]; exact Nat.le_of_ble_eq_true rfl, by rw [hRl]; exact Nat.le_of_ble_eq_true rfl⟩ (g_recv hKn hS hk88 (by decide) (by decide)) rfl (by rw [hr88]; rfl) (Nat.le_of_ble_eq_true rfl) dX1_begins_88 (fun H locs cells slots hS => ?_)
      refine g_iinc (l1 := [(3, .inl (v3 + 1)), (0, .inr (.inr (some t))), (1, .inr (.inr v1)), (2, .inl v2)]) (v := (v3 + 1)) hx hb hl (k := 3) rfl (by rfl) (by decide) rfl dX1_begins_91 (fun ls hl => ?_)
      refine lv_goto (tgt := 73) hx hb dX1_begins_94 (by decide) ?_
      exact ih _ _ _ _ _ _ h _ _ _ _ _ hS (gls_sub hl [1, 2, 3, 0] rfl)
theorem sX1_begins_b41 {p : Program} {l : Launch} {e : Env} {R : Room} {s : State} {m : MethodId} {args : Array Value} {below : List Frame} {meth : Method} {c : Code} {E : g_E} {D : g_D} (C : gC p R s m args meth c cX1_begins 5 RX1 "begins" (none) 221 7381 E D) {k12 : Nat → (Option Nat) → Int32 → Int32 → g_G → Option (g_G)} (hk12 : ∀ (t : Nat) (v1 : Option Nat) (v2 : Int32) (v3 : Int32) (G : g_G) (q : g_G), k12 t v1 v2 v3 G = some q → ∀ (H : Heap) (locs : List Loc) (cells slots : Nat) (ls : Array Slot), gSt E D G H locs → gls ls 5 [(0, .inr (.inr (some t))), (1, .inr (.inr v1)), (2, .inl v2), (3, .inl v3)] → gT p l e R s m args below meth c E D H locs cells slots none q (F0 m 12 ls [])) : ∀ (n : Nat) (t : Nat) (v1 : Option Nat) (v2 : Int32) (v3 : Int32) (v4 : Int32) (G : g_G) (q : g_G), fX1_begins_b41 E k12 n t v1 v2 v3 v4 G = some q → ∀ (H : Heap) (locs : List Loc) (cells slots : Nat) (ls : Array Slot), gSt E D G H locs → gls ls 5 [(0, .inr (.inr (some t))), (1, .inr (.inr v1)), (2, .inl v2), (3, .inl v3), (4, .inl v4)] → gT p l e R s m args below meth c E D H locs cells slots none q (F0 m 41 ls []) := by
  obtain ⟨hx, hb, hml, hown, hts, hKn, hRc, hRs, hc1, hc2, hRf, hRl, hr, hlk, hnm⟩ := id C
  intro n
  induction n with
  | zero =>
    intro t v1 v2 v3 v4 G q h
    exact g_no h
  | succ n ih =>
    intro t v1 v2 v3 v4 G q h H locs cells slots ls hS hl
    rw [fX1_begins_b41] at h
    refine g_iload hx hb hl 4 rfl dX1_begins_41 ?_
    refine lv_iconst (v := 4) hx hb dX1_begins_43 (by decide) ?_
    refine lv_icmp_ge (tgt := 65) hx hb dX1_begins_44 (by decide) (fun c_44 => ?_) (fun c_44 => ?_)
    · have h := g_ift c_44 h
      refine g_iinc (l1 := [(3, .inl (v3 + 1)), (0, .inr (.inr (some t))), (1, .inr (.inr v1)), (2, .inl v2), (4, .inl v4)]) (v := (v3 + 1)) hx hb hl (k := 3) rfl (by rfl) (by decide) rfl dX1_begins_65 (fun ls hl => ?_)
      refine lv_goto (tgt := 12) hx hb dX1_begins_68 (by decide) ?_
      exact hk12 _ _ _ _ _ _ h _ _ _ _ _ hS (gls_sub hl [1, 2, 3, 0] rfl)
    · have h := g_iff c_44 h
      refine g_aload_n hx hb hl 1 rfl dX1_begins_47 ?_
      refine g_rdR hx hb hown hts hKn hS h fd_3_3_5 rfl (Or.inr ⟨_, gNest_use rfl (hKn.2.2.2.2.1 _ (gNest_in q553 rfl))⟩) (fun _ z => z) dX1_begins_48 (fun x48 h => ?_)
      refine lv_iconst (v := 4) hx hb dX1_begins_51 (by decide) ?_
      refine g_iload_n hx hb hl 3 rfl dX1_begins_52 ?_
      refine lv_imul hx hb dX1_begins_53 ?_
      refine g_iload hx hb hl 4 rfl dX1_begins_54 ?_
      refine lv_iadd hx hb dX1_begins_56 ?_
      refine lv_iconst (v := 0) hx hb dX1_begins_57 (by decide) ?_
      refine g_iastoreG hx hb hKn hS h dX1_begins_58 (fun G58 h H locs hS => ?_)
      refine g_iinc (l1 := [(4, .inl (v4 + 1)), (0, .inr (.inr (some t))), (1, .inr (.inr v1)), (2, .inl v2), (3, .inl v3)]) (v := (v4 + 1)) hx hb hl (k := 4) rfl (by rfl) (by decide) rfl dX1_begins_59 (fun ls hl => ?_)
      refine lv_goto (tgt := 41) hx hb dX1_begins_62 (by decide) ?_
      exact ih _ _ _ _ _ _ _ h _ _ _ _ _ hS (gls_sub hl [1, 2, 3, 4, 0] rfl)
theorem sX1_begins_b12 {p : Program} {l : Launch} {e : Env} {R : Room} {s : State} {m : MethodId} {args : Array Value} {below : List Frame} {meth : Method} {c : Code} {E : g_E} {D : g_D} (C : gC p R s m args meth c cX1_begins 5 RX1 "begins" (none) 221 7381 E D) : ∀ (n : Nat) (t : Nat) (v1 : Option Nat) (v2 : Int32) (v3 : Int32) (G : g_G) (q : g_G), fX1_begins_b12 E n t v1 v2 v3 G = some q → ∀ (H : Heap) (locs : List Loc) (cells slots : Nat) (ls : Array Slot), gSt E D G H locs → gls ls 5 [(0, .inr (.inr (some t))), (1, .inr (.inr v1)), (2, .inl v2), (3, .inl v3)] → gT p l e R s m args below meth c E D H locs cells slots none q (F0 m 12 ls []) := by
  obtain ⟨hx, hb, hml, hown, hts, hKn, hRc, hRs, hc1, hc2, hRf, hRl, hr, hlk, hnm⟩ := id C
  intro n
  induction n with
  | zero =>
    intro t v1 v2 v3 G q h
    exact g_no h
  | succ n ih =>
    intro t v1 v2 v3 G q h H locs cells slots ls hS hl
    rw [fX1_begins_b12] at h
    refine g_iload_n hx hb hl 3 rfl dX1_begins_12 ?_
    refine g_iload_n hx hb hl 2 rfl dX1_begins_13 ?_
    refine lv_icmp_ge (tgt := 71) hx hb dX1_begins_14 (by decide) (fun c_14 => ?_) (fun c_14 => ?_)
    · have h := g_ift c_14 h
      refine lv_iconst (v := 0) hx hb dX1_begins_71 (by decide) ?_
      refine g_istore_n (l1 := [(3, .inl 0), (0, .inr (.inr (some t))), (1, .inr (.inr v1)), (2, .inl v2)]) hx hb hl (by decide) rfl dX1_begins_72 (fun ls hl => ?_)
      exact sX1_begins_b73 C gFU _ _ _ _ _ _ h _ _ _ _ _ hS (gls_sub hl [1, 2, 3, 0] rfl)
    · have h := g_iff c_14 h
      refine g_aload_n hx hb hl 1 rfl dX1_begins_17 ?_
      refine g_rdR hx hb hown hts hKn hS h fd_3_3_4 rfl (Or.inr ⟨_, gNest_use rfl (hKn.2.2.2.2.1 _ (gNest_in q547 rfl))⟩) (fun _ z => z) dX1_begins_18 (fun x18 h => ?_)
      refine g_iload_n hx hb hl 3 rfl dX1_begins_21 ?_
      refine lv_iconst (v := 0) hx hb dX1_begins_22 (by decide) ?_
      refine g_zastoreG hx hb hKn hS h dX1_begins_23 (fun G23 h H locs hS => ?_)
      refine g_aload_n hx hb hl 1 rfl dX1_begins_24 ?_
      refine g_rdR hx hb hown hts hKn hS h fd_3_3_6 rfl (Or.inr ⟨_, gNest_use rfl (hKn.2.2.2.2.1 _ (gNest_in q555 rfl))⟩) (fun _ z => z) dX1_begins_25 (fun x25 h => ?_)
      refine g_iload_n hx hb hl 3 rfl dX1_begins_28 ?_
      refine lv_iconst (v := 0) hx hb dX1_begins_29 (by decide) ?_
      refine g_iastoreG hx hb hKn hS h dX1_begins_30 (fun G30 h H locs hS => ?_)
      refine g_aload_n hx hb hl 1 rfl dX1_begins_31 ?_
      refine g_rdR hx hb hown hts hKn hS h fd_3_3_7 rfl (Or.inr ⟨_, gNest_use rfl (hKn.2.2.2.2.1 _ (gNest_in q559 rfl))⟩) (fun _ z => z) dX1_begins_32 (fun x32 h => ?_)
      refine g_iload_n hx hb hl 3 rfl dX1_begins_35 ?_
      refine lv_iconst (v := 0) hx hb dX1_begins_36 (by decide) ?_
      refine g_iastoreG hx hb hKn hS h dX1_begins_37 (fun G37 h H locs hS => ?_)
      refine lv_iconst (v := 0) hx hb dX1_begins_38 (by decide) ?_
      refine g_istore (l1 := [(4, .inl 0), (0, .inr (.inr (some t))), (1, .inr (.inr v1)), (2, .inl v2), (3, .inl v3)]) hx hb hl (by decide) rfl dX1_begins_39 (fun ls hl => ?_)
      exact sX1_begins_b41 C ih gFU _ _ _ _ _ _ _ h _ _ _ _ _ hS (gls_sub hl [1, 2, 3, 4, 0] rfl)
theorem sX1_begins (l : Launch) (E : g_E) (D : g_D) {t : Nat} {v1 : Option Nat} {v2 : Int32} {G : g_G} {q : g_G} (h : fX1_begins E t v1 v2 G = some q) : gMet l E D yX1_begins (ws_ yX1_begins cX1_begins 5 (none)) 221 7381 [.inr (.inr (some t)), .inr (.inr v1), .inl v2] G none q := by
  refine gMet.of (by decide +kernel) (Nat.le_of_ble_eq_true rfl) ?_
  intro p e R s m args below meth c C hS ls hl
  have C : gC p R s m args meth c cX1_begins 5 RX1 "begins" (none) 221 7381 E D := C
  obtain ⟨hx, hb, hml, hown, hts, hKn, hRc, hRs, hc1, hc2, hRf, hRl, hr, hlk, hnm⟩ := id C
  have hl : gls ls 5 [(0, .inr (.inr (some t))), (1, .inr (.inr v1)), (2, .inl v2)] := hl
  generalize s.heap = H at hS ⊢
  unfold fX1_begins at h
  refine g_aload_n hx hb hl 1 rfl dX1_begins_0 ?_
  refine g_iload_n hx hb hl 2 rfl dX1_begins_1 ?_
  refine g_ptI hx hb hown hts hKn hS h fd_3_3_0 (Or.inr ⟨rfl, _, gNest_use rfl (hKn.2.2.2.2.1 _ (gNest_in q537 rfl))⟩) (fun _ z => z) (fun z => nomatch z) dX1_begins_2 (fun G2 h H locs hS => ?_)
  refine g_aload_n hx hb hl 1 rfl dX1_begins_5 ?_
  refine lv_iconst (v := 0) hx hb dX1_begins_6 (by decide) ?_
  refine g_ptI hx hb hown hts hKn hS h fd_3_3_1 (Or.inr ⟨rfl, _, gNest_use rfl (hKn.2.2.2.2.1 _ (gNest_in q541 rfl))⟩) (fun _ z => z) (fun z => nomatch z) dX1_begins_7 (fun G7 h H locs hS => ?_)
  refine lv_iconst (v := 0) hx hb dX1_begins_10 (by decide) ?_
  refine g_istore_n (l1 := [(3, .inl 0), (0, .inr (.inr (some t))), (1, .inr (.inr v1)), (2, .inl v2)]) hx hb hl (by decide) rfl dX1_begins_11 (fun ls hl => ?_)
  exact sX1_begins_b12 C gFU _ _ _ _ _ _ h _ _ _ _ _ hS (gls_sub hl [1, 2, 3, 0] rfl)
/-- SendHall.gets(LSendHall$Life;IIII)V -/
def fX1_gets (E : g_E) (t : Nat) (v1 : Option Nat) (v2 : Int32) (v3 : Int32) (v4 : Int32) (v5 : Int32) (G : g_G) : Option (g_G) :=
  (grR G 3 3 v1 3).bind fun x1 =>
  (gaR G 122 x1 v2).bind fun x5 =>
  (gcast G 16 16 x5).bind fun x6 =>
  (grR G 3 3 v1 5).bind fun x12 =>
  (grI G 16 16 x6 5).bind fun x20 =>
  (gsaI E G x12 ((4 * v2) + x20) v4).bind fun G26 =>
  (grR G26 3 3 v1 6).bind fun x28 =>
  (gsaI E G26 x28 v2 v3).bind fun G33 =>
  (grI G33 16 16 x6 6).bind fun x41 =>
  if (if 0 ≤ v5 then v5 else 0 - v5) ≤ x41 then (
    (grR G33 16 16 x6 2).bind fun x62 =>
    (gchk G33 1 (some t)).bind fun b65 =>
    (fX1_goes E b65 v1 v2 x62 G33).bind fun z65 =>
    some z65)
  else (
    (grR G33 3 3 v1 4).bind fun x48 =>
    (gsaZ E G33 x48 v2 1).bind fun G53 =>
    some G53)
theorem sX1_gets (l : Launch) (E : g_E) (D : g_D) {t : Nat} {v1 : Option Nat} {v2 : Int32} {v3 : Int32} {v4 : Int32} {v5 : Int32} {G : g_G} {q : g_G} (h : fX1_gets E t v1 v2 v3 v4 v5 G = some q) : gMet l E D yX1_gets (ws_ yX1_gets cX1_gets 7 (none)) 221 7381 [.inr (.inr (some t)), .inr (.inr v1), .inl v2, .inl v3, .inl v4, .inl v5] G none q := by
  refine gMet.of (by decide +kernel) (Nat.le_of_ble_eq_true rfl) ?_
  intro p e R s m args below meth c C hS ls hl
  have C : gC p R s m args meth c cX1_gets 7 RX1 "gets" (none) 221 7381 E D := C
  obtain ⟨hx, hb, hml, hown, hts, hKn, hRc, hRs, hc1, hc2, hRf, hRl, hr, hlk, hnm⟩ := id C
  have hl : gls ls 7 [(0, .inr (.inr (some t))), (1, .inr (.inr v1)), (2, .inl v2), (3, .inl v3), (4, .inl v4), (5, .inl v5)] := hl
  generalize s.heap = H at hS ⊢
  unfold fX1_gets at h
  refine g_aload_n hx hb hl 1 rfl dX1_gets_0 ?_
  refine g_rdR hx hb hown hts hKn hS h fd_3_3_3 rfl (Or.inr ⟨_, gNest_use rfl (hKn.2.2.2.2.1 _ (gNest_in q545 rfl))⟩) (fun _ z => z) dX1_gets_1 (fun x1 h => ?_)
  refine g_iload_n hx hb hl 2 rfl dX1_gets_4 ?_
  refine g_aaloadG hx hb hKn hS h (by decide) dX1_gets_5 (fun x5 h => ?_)
  refine g_castS (k := 16) hx hb hown hKn hS h (by decide) (by decide) (hts _ q878) dX1_gets_6 (fun x6 h => ?_)
  refine g_astore (l1 := [(6, .inr (.inr x6)), (0, .inr (.inr (some t))), (1, .inr (.inr v1)), (2, .inl v2), (3, .inl v3), (4, .inl v4), (5, .inl v5)]) hx hb hl (by decide) rfl dX1_gets_9 (fun ls hl => ?_)
  refine g_aload_n hx hb hl 2 rfl dX1_gets_11 ?_
  refine g_rdR hx hb hown hts hKn hS h fd_3_3_5 rfl (Or.inr ⟨_, gNest_use rfl (hKn.2.2.2.2.1 _ (gNest_in q553 rfl))⟩) (fun _ z => z) dX1_gets_12 (fun x12 h => ?_)
  refine lv_iconst (v := 4) hx hb dX1_gets_15 (by decide) ?_
  refine g_iload_n hx hb hl 3 rfl dX1_gets_16 ?_
  refine lv_imul hx hb dX1_gets_17 ?_
  refine g_aload hx hb hl 0 rfl dX1_gets_18 ?_
  refine g_rdI hx hb hown hts hKn hS h fd_16_16_5 rfl (Or.inr ⟨_, gNest_use rfl (hKn.2.2.2.2.1 _ (gNest_in q1593 rfl))⟩) (fun _ z => z) dX1_gets_20 (fun x20 h => ?_)
  refine lv_iadd hx hb dX1_gets_23 ?_
  refine g_iload hx hb hl 5 rfl dX1_gets_24 ?_
  refine g_iastoreG hx hb hKn hS h dX1_gets_26 (fun G26 h H locs hS => ?_)
  refine g_aload_n hx hb hl 2 rfl dX1_gets_27 ?_
  refine g_rdR hx hb hown hts hKn hS h fd_3_3_6 rfl (Or.inr ⟨_, gNest_use rfl (hKn.2.2.2.2.1 _ (gNest_in q555 rfl))⟩) (fun _ z => z) dX1_gets_28 (fun x28 h => ?_)
  refine g_iload_n hx hb hl 3 rfl dX1_gets_31 ?_
  refine g_iload_n hx hb hl 4 rfl dX1_gets_32 ?_
  refine g_iastoreG hx hb hKn hS h dX1_gets_33 (fun G33 h H locs hS => ?_)
  refine g_iload hx hb hl 6 rfl dX1_gets_34 ?_
  refine g_mabs (rs := []) hx hb hml hown hRc hRs hS hl (hts _ q923) (hts _ q924) (hts _ q127) (hts _ q925) (by decide +kernel) rfl (Nat.le_of_ble_eq_true rfl) ⟨by rw [hRf]; exact Nat.le_of_ble_eq_true rfl, by rw [hRl]; exact Nat.le_of_ble_eq_true rfl⟩ dX1_gets_36 (fun cells slots => ?_)
  refine g_aload hx hb hl 0 rfl dX1_gets_39 ?_
  refine g_rdI hx hb hown hts hKn hS h fd_16_16_6 rfl (Or.inr ⟨_, gNest_use rfl (hKn.2.2.2.2.1 _ (gNest_in q1596 rfl))⟩) (fun _ z => z) dX1_gets_41 (fun x41 h => ?_)
  refine lv_icmp_le (tgt := 57) hx hb dX1_gets_44 (by decide) (fun c_44 => ?_) (fun c_44 => ?_)
  · have h := g_ift c_44 h
    refine g_aload_n hx hb hl 1 rfl dX1_gets_57 ?_
    refine g_aload_n hx hb hl 2 rfl dX1_gets_58 ?_
    refine g_iload_n hx hb hl 3 rfl dX1_gets_59 ?_
    refine g_aload hx hb hl 0 rfl dX1_gets_60 ?_
    refine g_rdR hx hb hown hts hKn hS h fd_16_16_2 rfl (Or.inl (hts _ q1435)) (u_same (hts _ q1436)) dX1_gets_62 (fun x62 h => ?_)
    obtain ⟨b65, hb65, h⟩ := g_bnd h
    obtain ⟨hr65, hk65⟩ := g_chk hb65
    obtain ⟨z65, h65, h⟩ := g_bnd h
    refine g_callV (n := 3) (b := b65) (av := [.inr (.inr v1), .inl v2, .inr (.inr x62)]) (rs := []) hx hb hml hown hts hKn hRc hRs hS hl (sX1_goes l E D h65) (lw_V q732 q734 qs5 q113 q735) ⟨rfl, by decide, by decide, by decide +kernel⟩ ⟨by rw [hRf]; exact Nat.le_of_ble_eq_true rfl, by rw [hRl]; exact Nat.le_of_ble_eq_true rfl⟩ (g_recv hKn hS hk65 (by decide) (by decide)) rfl (by rw [hr65]; rfl) (Nat.le_of_ble_eq_true rfl) dX1_gets_65 (fun H locs cells slots hS => ?_)
    exact g_vretG hx hb hr hlk hKn hRc hRs hS h dX1_gets_68
  · have h := g_iff c_44 h
    refine g_aload_n hx hb hl 2 rfl dX1_gets_47 ?_
    refine g_rdR hx hb hown hts hKn hS h fd_3_3_4 rfl (Or.inr ⟨_, gNest_use rfl (hKn.2.2.2.2.1 _ (gNest_in q547 rfl))⟩) (fun _ z => z) dX1_gets_48 (fun x48 h => ?_)
    refine g_iload_n hx hb hl 3 rfl dX1_gets_51 ?_
    refine lv_iconst (v := 1) hx hb dX1_gets_52 (by decide) ?_
    refine g_zastoreG hx hb hKn hS h dX1_gets_53 (fun G53 h H locs hS => ?_)
    refine lv_goto (tgt := 68) hx hb dX1_gets_54 (by decide) ?_
    exact g_vretG hx hb hr hlk hKn hRc hRs hS h dX1_gets_68
