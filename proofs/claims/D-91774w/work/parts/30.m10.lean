set_option maxRecDepth 100000
/-- SendHall$Row.value(LSendHall$Life;I)I -/
def fX11_value_b22 (E : g_E) (fI : Option Nat → Option Nat → Int32 → g_G → Option (Int32 × g_G)) : Nat → Nat → (Option Nat) → Int32 → Int32 → Int32 → g_G → Option (Int32 × g_G)
  | 0, _, _, _, _, _, _ => none
  | n + 1, t, v1, v2, v3, v4, G =>
    (grR G 9 9 (some t) 0).bind fun x25 =>
    (gchk G 17 x25).bind fun b28 =>
    (fJ2_size E b28 G).bind fun z28 =>
    if z28.1 ≤ v4 then (
      some (v3, z28.2))
    else (
      (grR z28.2 9 9 (some t) 1).bind fun x36 =>
      (gchk z28.2 17 x36).bind fun b43 =>
      (fJ2_get E b43 (v4 - 1) z28.2).bind fun z43 =>
      (gcast z43.2 20 20 z43.1).bind fun x46 =>
      (gchk z43.2 20 x46).bind fun b49 =>
      (fJ17_charValue E b49 z43.2).bind fun z49 =>
      (grR z49.2 9 9 (some t) 0).bind fun x53 =>
      (gchk z49.2 17 x53).bind fun b58 =>
      (fJ2_get E b58 v4 z49.2).bind fun z58 =>
      (gcast z58.2 8 10 z58.1).bind fun x61 =>
      (fI x61 v1 v2 z58.2).bind fun z66 =>
      (fX11_works E v3 z49.1 z66.1 z66.2).bind fun z71 =>
      fX11_value_b22 E fI n t v1 v2 z71.1 (v4 + 1) z71.2)
def fX11_value (E : g_E) (fI : Option Nat → Option Nat → Int32 → g_G → Option (Int32 × g_G)) (t : Nat) (v1 : Option Nat) (v2 : Int32) (G : g_G) : Option (Int32 × g_G) :=
  (grR G 9 9 (some t) 0).bind fun x1 =>
  (gchk G 17 x1).bind fun b5 =>
  (fJ2_get E b5 0 G).bind fun z5 =>
  (gcast z5.2 8 10 z5.1).bind fun x8 =>
  (fI x8 v1 v2 z5.2).bind fun z13 =>
  fX11_value_b22 E fI gFU t v1 v2 z13.1 1 z13.2
theorem sX11_value_b22 {p : Program} {l : Launch} {e : Env} {R : Room} {s : State} {m : MethodId} {args : Array Value} {below : List Frame} {meth : Method} {c : Code} {E : g_E} {D : g_D} {fI : Option Nat → Option Nat → Int32 → g_G → Option (Int32 × g_G)} {fF : Nat} {fL : Nat} (C : gC p R s m args meth c cX11_value 5 RX11 "value" (some .int) (fF + 9) (fL + 300) E D) (hfI : gIV l E D fI fF fL) : ∀ (n : Nat) (t : Nat) (v1 : Option Nat) (v2 : Int32) (v3 : Int32) (v4 : Int32) (G : g_G) (q : Int32 × g_G), fX11_value_b22 E fI n t v1 v2 v3 v4 G = some q → ∀ (H : Heap) (locs : List Loc) (cells slots : Nat) (ls : Array Slot), gSt E D G H locs → gls ls 5 [(0, .inr (.inr (some t))), (1, .inr (.inr v1)), (2, .inl v2), (3, .inl v3), (4, .inl v4)] → gT p l e R s m args below meth c E D H locs cells slots (some (.int q.1)) q.2 (F0 m 22 ls []) := by
  obtain ⟨hx, hb, hml, hown, hts, hKn, hRc, hRs, hc1, hc2, hRf, hRl, hr, hlk, hnm⟩ := id C
  intro n
  induction n with
  | zero =>
    intro t v1 v2 v3 v4 G q h
    exact g_no h
  | succ n ih =>
    intro t v1 v2 v3 v4 G q h H locs cells slots ls hS hl
    rw [fX11_value_b22] at h
    refine g_iload hx hb hl 4 rfl dX11_value_22 ?_
    refine g_aload_n hx hb hl 0 rfl dX11_value_24 ?_
    refine g_rdR hx hb hown hts hKn hS h fd_9_9_0 rfl (Or.inl (hts _ q1516)) (fun _ z => z) dX11_value_25 (fun x25 h => ?_)
    obtain ⟨b28, hb28, h⟩ := g_bnd h
    obtain ⟨hr28, hk28⟩ := g_chk hb28
    obtain ⟨z28, h28, h⟩ := g_bnd h
    refine g_callV (n := 0) (b := b28) (av := []) (rs := [.inl v4]) hx hb hml hown hts hKn hRc hRs hS hl (sJ2_size l E D h28) (lw_V q781 q782 q783 q117 q784) ⟨rfl, by decide, by decide, by decide +kernel⟩ ⟨by rw [hRf]; omega, by rw [hRl]; omega⟩ (g_recv hKn hS hk28 (by decide) (by decide)) rfl (by rw [hr28]; rfl) (Nat.le_of_ble_eq_true rfl) dX11_value_28 (fun H locs cells slots hS => ?_)
    refine lv_icmp_ge (tgt := 81) hx hb dX11_value_31 (by decide) (fun c_31 => ?_) (fun c_31 => ?_)
    · have h := g_ift c_31 h
      refine g_iload_n hx hb hl 3 rfl dX11_value_81 ?_
      exact g_iretG hx hb hr hlk hKn hRc hRs hS h dX11_value_82
    · have h := g_iff c_31 h
      refine g_iload_n hx hb hl 3 rfl dX11_value_34 ?_
      refine g_aload_n hx hb hl 0 rfl dX11_value_35 ?_
      refine g_rdR hx hb hown hts hKn hS h fd_9_9_1 rfl (Or.inl (hts _ q1517)) (fun _ z => z) dX11_value_36 (fun x36 h => ?_)
      refine g_iload hx hb hl 4 rfl dX11_value_39 ?_
      refine lv_iconst (v := 1) hx hb dX11_value_41 (by decide) ?_
      refine lv_isub hx hb dX11_value_42 ?_
      obtain ⟨b43, hb43, h⟩ := g_bnd h
      obtain ⟨hr43, hk43⟩ := g_chk hb43
      obtain ⟨z43, h43, h⟩ := g_bnd h
      refine g_callV (n := 1) (b := b43) (av := [.inl (v4 - 1)]) (rs := [.inl v3]) hx hb hml hown hts hKn hRc hRs hS hl (sJ2_get l E D h43) (lw_V q758 q759 q760 q117 q761) ⟨rfl, by decide, by decide, by decide +kernel⟩ ⟨by rw [hRf]; omega, by rw [hRl]; omega⟩ (g_recv hKn hS hk43 (by decide) (by decide)) rfl (by rw [hr43]; rfl) (Nat.le_of_ble_eq_true rfl) dX11_value_43 (fun H locs cells slots hS => ?_)
      refine g_castS (k := 20) hx hb hown hKn hS h (by decide) (by decide) (hts _ q785) dX11_value_46 (fun x46 h => ?_)
      obtain ⟨b49, hb49, h⟩ := g_bnd h
      obtain ⟨hr49, hk49⟩ := g_chk hb49
      obtain ⟨z49, h49, h⟩ := g_bnd h
      refine g_callV (n := 0) (b := b49) (av := []) (rs := [.inl v3]) hx hb hml hown hts hKn hRc hRs hS hl (sJ17_charValue l E D h49) (lw_V q786 q787 q788 q139 q789) ⟨rfl, by decide, by decide, by decide +kernel⟩ ⟨by rw [hRf]; omega, by rw [hRl]; omega⟩ (g_recv hKn hS hk49 (by decide) (by decide)) rfl (by rw [hr49]; rfl) (Nat.le_of_ble_eq_true rfl) dX11_value_49 (fun H locs cells slots hS => ?_)
      refine g_aload_n hx hb hl 0 rfl dX11_value_52 ?_
      refine g_rdR hx hb hown hts hKn hS h fd_9_9_0 rfl (Or.inl (hts _ q1516)) (fun _ z => z) dX11_value_53 (fun x53 h => ?_)
      refine g_iload hx hb hl 4 rfl dX11_value_56 ?_
      obtain ⟨b58, hb58, h⟩ := g_bnd h
      obtain ⟨hr58, hk58⟩ := g_chk hb58
      obtain ⟨z58, h58, h⟩ := g_bnd h
      refine g_callV (n := 1) (b := b58) (av := [.inl v4]) (rs := [.inl z49.1, .inl v3]) hx hb hml hown hts hKn hRc hRs hS hl (sJ2_get l E D h58) (lw_V q758 q759 q760 q117 q761) ⟨rfl, by decide, by decide, by decide +kernel⟩ ⟨by rw [hRf]; omega, by rw [hRl]; omega⟩ (g_recv hKn hS hk58 (by decide) (by decide)) rfl (by rw [hr58]; rfl) (Nat.le_of_ble_eq_true rfl) dX11_value_58 (fun H locs cells slots hS => ?_)
      refine g_castY (lo := 8) (hi := 10) (C := "SendHall$Expr") hx hb hown hKn hS h (by decide) (by decide) (hts _ q772) ct_8_10 dX11_value_61 (fun x61 h => ?_)
      refine g_aload_n hx hb hl 1 rfl dX11_value_64 ?_
      refine g_iload_n hx hb hl 2 rfl dX11_value_65 ?_
      obtain ⟨z66, h66, h⟩ := g_bnd h
      refine g_valueI (rs := [.inl z49.1, .inl v3]) hx hb hml hown hts hKn hRc hRs hS hl hfI h66 q774 ⟨by rw [hRf]; omega, by rw [hRl]; omega⟩ rfl (Nat.le_of_ble_eq_true rfl) dX11_value_66 (fun H locs cells slots hS => ?_)
      obtain ⟨z71, h71, h⟩ := g_bnd h
      refine g_callS (n := 3) (av := [.inl v3, .inl z49.1, .inl z66.1]) (rs := []) hx hb hml hown hts hKn hRc hRs hS hl (sX11_works l E D h71) (lw_S q790 q791 q145 q792) ⟨by decide, by decide, by decide +kernel⟩ ⟨by rw [hRf]; omega, by rw [hRl]; omega⟩ rfl rfl (Nat.le_of_ble_eq_true rfl) dX11_value_71 (fun H locs cells slots hS => ?_)
      refine g_istore_n (l1 := [(3, .inl z71.1), (0, .inr (.inr (some t))), (1, .inr (.inr v1)), (2, .inl v2), (4, .inl v4)]) hx hb hl (by decide) rfl dX11_value_74 (fun ls hl => ?_)
      refine g_iinc (l1 := [(4, .inl (v4 + 1)), (3, .inl z71.1), (0, .inr (.inr (some t))), (1, .inr (.inr v1)), (2, .inl v2)]) (v := (v4 + 1)) hx hb hl (k := 4) rfl (by rfl) (by decide) rfl dX11_value_75 (fun ls hl => ?_)
      refine lv_goto (tgt := 22) hx hb dX11_value_78 (by decide) ?_
      exact ih _ _ _ _ _ _ _ h _ _ _ _ _ hS (gls_sub hl [2, 3, 4, 1, 0] rfl)
theorem sX11_value (l : Launch) (E : g_E) (D : g_D) {fI : Option Nat → Option Nat → Int32 → g_G → Option (Int32 × g_G)} {fF : Nat} {fL : Nat} (hfI : gIV l E D fI fF fL) {t : Nat} {v1 : Option Nat} {v2 : Int32} {G : g_G} {q : Int32 × g_G} (h : fX11_value E fI t v1 v2 G = some q) : gMet l E D yX11_value (ws_ yX11_value cX11_value 5 (some .int)) (fF + 9) (fL + 300) [.inr (.inr (some t)), .inr (.inr v1), .inl v2] G (some (.int q.1)) q.2 := by
  refine gMet.of (by decide +kernel) (Nat.le_of_ble_eq_true rfl) ?_
  intro p e R s m args below meth c C hS ls hl
  have C : gC p R s m args meth c cX11_value 5 RX11 "value" (some .int) (fF + 9) (fL + 300) E D := C
  obtain ⟨hx, hb, hml, hown, hts, hKn, hRc, hRs, hc1, hc2, hRf, hRl, hr, hlk, hnm⟩ := id C
  have hl : gls ls 5 [(0, .inr (.inr (some t))), (1, .inr (.inr v1)), (2, .inl v2)] := hl
  generalize s.heap = H at hS ⊢
  unfold fX11_value at h
  refine g_aload_n hx hb hl 0 rfl dX11_value_0 ?_
  refine g_rdR hx hb hown hts hKn hS h fd_9_9_0 rfl (Or.inl (hts _ q1516)) (fun _ z => z) dX11_value_1 (fun x1 h => ?_)
  refine lv_iconst (v := 0) hx hb dX11_value_4 (by decide) ?_
  obtain ⟨b5, hb5, h⟩ := g_bnd h
  obtain ⟨hr5, hk5⟩ := g_chk hb5
  obtain ⟨z5, h5, h⟩ := g_bnd h
  refine g_callV (n := 1) (b := b5) (av := [.inl 0]) (rs := []) hx hb hml hown hts hKn hRc hRs hS hl (sJ2_get l E D h5) (lw_V q758 q759 q760 q117 q761) ⟨rfl, by decide, by decide, by decide +kernel⟩ ⟨by rw [hRf]; omega, by rw [hRl]; omega⟩ (g_recv hKn hS hk5 (by decide) (by decide)) rfl (by rw [hr5]; rfl) (Nat.le_of_ble_eq_true rfl) dX11_value_5 (fun H locs cells slots hS => ?_)
  refine g_castY (lo := 8) (hi := 10) (C := "SendHall$Expr") hx hb hown hKn hS h (by decide) (by decide) (hts _ q772) ct_8_10 dX11_value_8 (fun x8 h => ?_)
  refine g_aload_n hx hb hl 1 rfl dX11_value_11 ?_
  refine g_iload_n hx hb hl 2 rfl dX11_value_12 ?_
  obtain ⟨z13, h13, h⟩ := g_bnd h
  refine g_valueI (rs := []) hx hb hml hown hts hKn hRc hRs hS hl hfI h13 q774 ⟨by rw [hRf]; omega, by rw [hRl]; omega⟩ rfl (Nat.le_of_ble_eq_true rfl) dX11_value_13 (fun H locs cells slots hS => ?_)
  refine g_istore_n (l1 := [(3, .inl z13.1), (0, .inr (.inr (some t))), (1, .inr (.inr v1)), (2, .inl v2)]) hx hb hl (by decide) rfl dX11_value_18 (fun ls hl => ?_)
  refine lv_iconst (v := 1) hx hb dX11_value_19 (by decide) ?_
  refine g_istore (l1 := [(4, .inl 1), (3, .inl z13.1), (0, .inr (.inr (some t))), (1, .inr (.inr v1)), (2, .inl v2)]) hx hb hl (by decide) rfl dX11_value_20 (fun ls hl => ?_)
  exact sX11_value_b22 C hfI gFU _ _ _ _ _ _ _ h _ _ _ _ _ hS (gls_sub hl [2, 3, 4, 1, 0] rfl)
/-- Expr.value, by the kind of the object; rows may lie d deep in one another -/
def fI_value (E : g_E) : Nat → Option Nat → Option Nat → Int32 → g_G → Option (Int32 × g_G)
  | 0 => fun r v1 v2 G => r.bind fun t => if gcl G t = 8 then fX10_value E t v1 v2 G else if gcl G t = 10 then fX12_value E t v1 v2 G else none
  | d + 1 => fun r v1 v2 G => r.bind fun t => if gcl G t = 8 then fX10_value E t v1 v2 G else if gcl G t = 10 then fX12_value E t v1 v2 G else if gcl G t = 9 then fX11_value E (fI_value E d) t v1 v2 G else none
theorem gI_all (l : Launch) (E : g_E) (D : g_D) : ∀ d, gIV l E D (fI_value E d) (9 * d + 1) (300 * d + 64)
  | 0 => by
    intro r v1 v2 G q h
    obtain ⟨t, rfl, h⟩ := g_bnd h
    refine ⟨t, rfl, ?_⟩
    by_cases h8 : gcl G t = 8
    · exact Or.inl ⟨h8, 1, 64, by omega, by omega, by omega, sX10_value l E D (g_ift h8 h)⟩
    · have h := g_iff h8 h
      by_cases h10 : gcl G t = 10
      · exact Or.inr (Or.inr ⟨h10, 1, 64, by omega, by omega, by omega, sX12_value l E D (g_ift h10 h)⟩)
      · have h := g_iff h10 h
        exact g_no h
  | d + 1 => by
    intro r v1 v2 G q h
    obtain ⟨t, rfl, h⟩ := g_bnd h
    refine ⟨t, rfl, ?_⟩
    by_cases h8 : gcl G t = 8
    · exact Or.inl ⟨h8, 1, 64, by omega, by omega, by omega, sX10_value l E D (g_ift h8 h)⟩
    · have h := g_iff h8 h
      by_cases h10 : gcl G t = 10
      · exact Or.inr (Or.inr ⟨h10, 1, 64, by omega, by omega, by omega, sX12_value l E D (g_ift h10 h)⟩)
      · have h := g_iff h10 h
        by_cases h9 : gcl G t = 9
        · exact Or.inr (Or.inl ⟨h9, 9 * d + 1 + 9, 300 * d + 64 + 300, by omega, by omega, by omega, sX11_value l E D (gI_all l E D d) (g_ift h9 h)⟩)
        · exact g_no (g_iff h9 h)
theorem gI_top (l : Launch) (E : g_E) (D : g_D) : gIV l E D (fI_value E gDP) 217 7264 := gI_all l E D 24
/-- SendHall$Wait.<init>(II)V -/
def fX13_init (E : g_E) (t : Nat) (v1 : Int32) (v2 : Int32) (G : g_G) : Option (g_G) :=
  (fX8_init E t v1 v2 G).bind fun z3 =>
  (gpI E z3 16 16 (some t) 6 99).bind fun G9 =>
  some G9
theorem sX13_init (l : Launch) (E : g_E) (D : g_D) {t : Nat} {v1 : Int32} {v2 : Int32} {G : g_G} {q : g_G} (h : fX13_init E t v1 v2 G = some q) : gMet l E D yX13_init (ws_ yX13_init cX13_init 3 (none)) 3 108 [.inr (.inr (some t)), .inl v1, .inl v2] G none q := by
  refine gMet.of (by decide +kernel) (Nat.le_of_ble_eq_true rfl) ?_
  intro p e R s m args below meth c C hS ls hl
  have C : gC p R s m args meth c cX13_init 3 RX13 "<init>" (none) 3 108 E D := C
  obtain ⟨hx, hb, hml, hown, hts, hKn, hRc, hRs, hc1, hc2, hRf, hRl, hr, hlk, hnm⟩ := id C
  have hl : gls ls 3 [(0, .inr (.inr (some t))), (1, .inl v1), (2, .inl v2)] := hl
  generalize s.heap = H at hS ⊢
  unfold fX13_init at h
  refine g_aload_n hx hb hl 0 rfl dX13_init_0 ?_
  refine g_iload_n hx hb hl 1 rfl dX13_init_1 ?_
  refine g_iload_n hx hb hl 2 rfl dX13_init_2 ?_
  obtain ⟨z3, h3, h⟩ := g_bnd h
  refine g_callI (n := 2) (av := [.inl v1, .inl v2]) (rs := []) hx hb hml hown hts hKn hRc hRs hS hl (sX8_init l E D h3) (lw_meth q1401) (hts _ q142) (hts _ q1590) (hts _ q1400) rfl ⟨by decide, by decide, by decide +kernel⟩ ⟨by rw [hRf]; exact Nat.le_of_ble_eq_true rfl, by rw [hRl]; exact Nat.le_of_ble_eq_true rfl⟩ rfl rfl (Nat.le_of_ble_eq_true rfl) dX13_init_3 (fun H locs cells slots hS => ?_)
  refine g_aload_n hx hb hl 0 rfl dX13_init_6 ?_
  refine lv_bipush (v := 99) hx hb dX13_init_7 (by decide) ?_
  refine g_ptI hx hb hown hts hKn hS h fd_16_16_6 (Or.inl (hts _ q1595)) (fun _ z => z) (fun z => nomatch z) dX13_init_9 (fun G9 h H locs hS => ?_)
  exact g_vretG hx hb hr hlk hKn hRc hRs hS h dX13_init_12
/-- SendHall$Wait.of(LSendHall$Life;I)I -/
def fX13_of (E : g_E) (t : Nat) (v1 : Option Nat) (v2 : Int32) (G : g_G) : Option (Int32 × g_G) :=
  (grR G 16 16 (some t) 4).bind fun x1 =>
  if ¬ x1 = none then (
    (grR G 16 16 (some t) 4).bind fun x12 =>
    (fI_value E gDP x12 v1 v2 G).bind fun z17 =>
    some (z17.1, z17.2))
  else (
    some ((-1), G))
theorem sX13_of (l : Launch) (E : g_E) (D : g_D) {t : Nat} {v1 : Option Nat} {v2 : Int32} {G : g_G} {q : Int32 × g_G} (h : fX13_of E t v1 v2 G = some q) : gMet l E D yX13_of (ws_ yX13_of cX13_of 3 (some .int)) 218 7304 [.inr (.inr (some t)), .inr (.inr v1), .inl v2] G (some (.int q.1)) q.2 := by
  refine gMet.of (by decide +kernel) (Nat.le_of_ble_eq_true rfl) ?_
  intro p e R s m args below meth c C hS ls hl
  have C : gC p R s m args meth c cX13_of 3 RX13 "of" (some .int) 218 7304 E D := C
  obtain ⟨hx, hb, hml, hown, hts, hKn, hRc, hRs, hc1, hc2, hRf, hRl, hr, hlk, hnm⟩ := id C
  have hl : gls ls 3 [(0, .inr (.inr (some t))), (1, .inr (.inr v1)), (2, .inl v2)] := hl
  generalize s.heap = H at hS ⊢
  unfold fX13_of at h
  refine g_aload_n hx hb hl 0 rfl dX13_of_0 ?_
  refine g_rdR hx hb hown hts hKn hS h fd_16_16_4 rfl (Or.inl (hts _ q1591)) (fun _ z => z) dX13_of_1 (fun x1 h => ?_)
  refine g_ifnonnull (tgt := 11) hx hb dX13_of_4 (by decide) (fun c_4 => ?_) (fun c_4 => ?_)
  · have h := g_ift c_4 h
    refine g_aload_n hx hb hl 0 rfl dX13_of_11 ?_
    refine g_rdR hx hb hown hts hKn hS h fd_16_16_4 rfl (Or.inl (hts _ q1591)) (fun _ z => z) dX13_of_12 (fun x12 h => ?_)
    refine g_aload_n hx hb hl 1 rfl dX13_of_15 ?_
    refine g_iload_n hx hb hl 2 rfl dX13_of_16 ?_
    obtain ⟨z17, h17, h⟩ := g_bnd h
    refine g_valueI (rs := []) hx hb hml hown hts hKn hRc hRs hS hl (gI_top l E D) h17 q831 ⟨by rw [hRf]; exact Nat.le_of_ble_eq_true rfl, by rw [hRl]; exact Nat.le_of_ble_eq_true rfl⟩ rfl (Nat.le_of_ble_eq_true rfl) dX13_of_17 (fun H locs cells slots hS => ?_)
    exact g_iretG hx hb hr hlk hKn hRc hRs hS h dX13_of_22
  · have h := g_iff (fun z => z c_4) h
    refine lv_iconst (v := (-1)) hx hb dX13_of_7 (by decide) ?_
    refine lv_goto (tgt := 22) hx hb dX13_of_8 (by decide) ?_
    exact g_iretG hx hb hr hlk hKn hRc hRs hS h dX13_of_22
/-- SendHall$Wait.takes(LSendHall$Life;II)Z -/
def fX13_takes_b22 (E : g_E) (G : g_G) : Option (Int32 × g_G) :=
  if (1 : Int32) = 0 ∨ (1 : Int32) = 1 then some (1, G) else none
def fX13_takes (E : g_E) (t : Nat) (v1 : Option Nat) (v2 : Int32) (v3 : Int32) (G : g_G) : Option (Int32 × g_G) :=
  (grR G 16 16 (some t) 4).bind fun x1 =>
  if x1 = none then (
    fX13_takes_b22 E G)
  else (
    (grR G 16 16 (some t) 4).bind fun x8 =>
    (fI_value E gDP x8 v1 v2 G).bind fun z13 =>
    if ¬ z13.1 = v3 then (
      if (0 : Int32) = 0 ∨ (0 : Int32) = 1 then some (0, z13.2) else none)
    else (
      fX13_takes_b22 E z13.2))
theorem sX13_takes_b22 {p : Program} {l : Launch} {e : Env} {R : Room} {s : State} {m : MethodId} {args : Array Value} {below : List Frame} {meth : Method} {c : Code} {E : g_E} {D : g_D} (C : gC p R s m args meth c cX13_takes 4 RX13 "takes" (some .boolean) 218 7304 E D) : ∀ (G : g_G) (q : Int32 × g_G), fX13_takes_b22 E G = some q → ∀ (H : Heap) (locs : List Loc) (cells slots : Nat) (ls : Array Slot), gSt E D G H locs → gls ls 4 [] → gT p l e R s m args below meth c E D H locs cells slots (some (.int q.1)) q.2 (F0 m 22 ls []) := by
  obtain ⟨hx, hb, hml, hown, hts, hKn, hRc, hRs, hc1, hc2, hRf, hRl, hr, hlk, hnm⟩ := id C
  intro G q h H locs cells slots ls hS hl
  unfold fX13_takes_b22 at h
  refine lv_iconst (v := 1) hx hb dX13_takes_22 (by decide) ?_
  refine lv_goto (tgt := 27) hx hb dX13_takes_23 (by decide) ?_
  exact g_zretG hx hb hr hlk hKn hRc hRs hS h dX13_takes_27
theorem sX13_takes (l : Launch) (E : g_E) (D : g_D) {t : Nat} {v1 : Option Nat} {v2 : Int32} {v3 : Int32} {G : g_G} {q : Int32 × g_G} (h : fX13_takes E t v1 v2 v3 G = some q) : gMet l E D yX13_takes (ws_ yX13_takes cX13_takes 4 (some .boolean)) 218 7304 [.inr (.inr (some t)), .inr (.inr v1), .inl v2, .inl v3] G (some (.int q.1)) q.2 := by
  refine gMet.of (by decide +kernel) (Nat.le_of_ble_eq_true rfl) ?_
  intro p e R s m args below meth c C hS ls hl
  have C : gC p R s m args meth c cX13_takes 4 RX13 "takes" (some .boolean) 218 7304 E D := C
  obtain ⟨hx, hb, hml, hown, hts, hKn, hRc, hRs, hc1, hc2, hRf, hRl, hr, hlk, hnm⟩ := id C
  have hl : gls ls 4 [(0, .inr (.inr (some t))), (1, .inr (.inr v1)), (2, .inl v2), (3, .inl v3)] := hl
  generalize s.heap = H at hS ⊢
  unfold fX13_takes at h
  refine g_aload_n hx hb hl 0 rfl dX13_takes_0 ?_
  refine g_rdR hx hb hown hts hKn hS h fd_16_16_4 rfl (Or.inl (hts _ q1591)) (fun _ z => z) dX13_takes_1 (fun x1 h => ?_)
  refine g_ifnull (tgt := 22) hx hb dX13_takes_4 (by decide) (fun c_4 => ?_) (fun c_4 => ?_)
  · have h := g_ift c_4 h
    exact sX13_takes_b22 C _ _ h _ _ _ _ _ hS (gls_sub hl [] rfl)
  · have h := g_iff c_4 h
    refine g_aload_n hx hb hl 0 rfl dX13_takes_7 ?_
    refine g_rdR hx hb hown hts hKn hS h fd_16_16_4 rfl (Or.inl (hts _ q1591)) (fun _ z => z) dX13_takes_8 (fun x8 h => ?_)
    refine g_aload_n hx hb hl 1 rfl dX13_takes_11 ?_
    refine g_iload_n hx hb hl 2 rfl dX13_takes_12 ?_
    obtain ⟨z13, h13, h⟩ := g_bnd h
    refine g_valueI (rs := []) hx hb hml hown hts hKn hRc hRs hS hl (gI_top l E D) h13 q831 ⟨by rw [hRf]; exact Nat.le_of_ble_eq_true rfl, by rw [hRl]; exact Nat.le_of_ble_eq_true rfl⟩ rfl (Nat.le_of_ble_eq_true rfl) dX13_takes_13 (fun H locs cells slots hS => ?_)
    refine g_iload_n hx hb hl 3 rfl dX13_takes_18 ?_
    refine lv_icmp_ne (tgt := 26) hx hb dX13_takes_19 (by decide) (fun c_19 => ?_) (fun c_19 => ?_)
    · have h := g_ift c_19 h
      refine lv_iconst (v := 0) hx hb dX13_takes_26 (by decide) ?_
      exact g_zretG hx hb hr hlk hKn hRc hRs hS h dX13_takes_27
    · have h := g_iff (fun z => z c_19) h
      exact sX13_takes_b22 C _ _ h _ _ _ _ _ hS (gls_sub hl [] rfl)
/-- SendHall$Set.comes(LSendHall$Life;I)LSendHall$Step; -/
def fX14_comes (E : g_E) (t : Nat) (v1 : Option Nat) (v2 : Int32) (G : g_G) : Option (Option Nat × g_G) :=
  (grR G 3 3 v1 5).bind fun x1 =>
  (grI G 12 12 (some t) 3).bind fun x8 =>
  (grR G 12 12 (some t) 4).bind fun x13 =>
  (fI_value E gDP x13 v1 v2 G).bind fun z18 =>
  (gsaI E z18.2 x1 ((4 * v2) + x8) z18.1).bind fun G23 =>
  (grR G23 12 12 (some t) 2).bind fun x25 =>
  some (x25, G23)
theorem sX14_comes (l : Launch) (E : g_E) (D : g_D) {t : Nat} {v1 : Option Nat} {v2 : Int32} {G : g_G} {q : Option Nat × g_G} (h : fX14_comes E t v1 v2 G = some q) : gMet l E D yX14_comes (ws_ yX14_comes cX14_comes 3 (some (.object "SendHall$Step"))) 218 7304 [.inr (.inr (some t)), .inr (.inr v1), .inl v2] G (some (va_rf q.1)) q.2 := by
  refine gMet.of (by decide +kernel) (Nat.le_of_ble_eq_true rfl) ?_
  intro p e R s m args below meth c C hS ls hl
  have C : gC p R s m args meth c cX14_comes 3 RX14 "comes" (some (.object "SendHall$Step")) 218 7304 E D := C
  obtain ⟨hx, hb, hml, hown, hts, hKn, hRc, hRs, hc1, hc2, hRf, hRl, hr, hlk, hnm⟩ := id C
  have hl : gls ls 3 [(0, .inr (.inr (some t))), (1, .inr (.inr v1)), (2, .inl v2)] := hl
  generalize s.heap = H at hS ⊢
  unfold fX14_comes at h
  refine g_aload_n hx hb hl 1 rfl dX14_comes_0 ?_
  refine g_rdR hx hb hown hts hKn hS h fd_3_3_5 rfl (Or.inr ⟨_, gNest_use rfl (hKn.2.2.2.2.1 _ (gNest_in q551 rfl))⟩) (fun _ z => z) dX14_comes_1 (fun x1 h => ?_)
  refine lv_iconst (v := 4) hx hb dX14_comes_4 (by decide) ?_
  refine g_iload_n hx hb hl 2 rfl dX14_comes_5 ?_
  refine lv_imul hx hb dX14_comes_6 ?_
  refine g_aload_n hx hb hl 0 rfl dX14_comes_7 ?_
  refine g_rdI hx hb hown hts hKn hS h fd_12_12_3 rfl (Or.inl (hts _ q1625)) (fun _ z => z) dX14_comes_8 (fun x8 h => ?_)
  refine lv_iadd hx hb dX14_comes_11 ?_
  refine g_aload_n hx hb hl 0 rfl dX14_comes_12 ?_
  refine g_rdR hx hb hown hts hKn hS h fd_12_12_4 rfl (Or.inl (hts _ q1626)) (fun _ z => z) dX14_comes_13 (fun x13 h => ?_)
  refine g_aload_n hx hb hl 1 rfl dX14_comes_16 ?_
  refine g_iload_n hx hb hl 2 rfl dX14_comes_17 ?_
  obtain ⟨z18, h18, h⟩ := g_bnd h
  refine g_valueI (rs := [.inl ((4 * v2) + x8), .inr (.inr x1)]) hx hb hml hown hts hKn hRc hRs hS hl (gI_top l E D) h18 q817 ⟨by rw [hRf]; exact Nat.le_of_ble_eq_true rfl, by rw [hRl]; exact Nat.le_of_ble_eq_true rfl⟩ rfl (Nat.le_of_ble_eq_true rfl) dX14_comes_18 (fun H locs cells slots hS => ?_)
  refine g_iastoreG hx hb hKn hS h dX14_comes_23 (fun G23 h H locs hS => ?_)
  refine g_aload_n hx hb hl 0 rfl dX14_comes_24 ?_
  refine g_rdR hx hb hown hts hKn hS h fd_12_12_2 rfl (Or.inl (hts _ q1431)) (u_same (hts _ q1432)) dX14_comes_25 (fun x25 h => ?_)
  exact g_aretG hx hb hr (by first | exact Or.inl ⟨_, rfl⟩ | exact Or.inr ⟨_, rfl⟩) hlk hKn hRc hRs hS h dX14_comes_28
/-- SendHall$Set.<init>(IILSendHall$Expr;)V -/
def fX14_init (E : g_E) (t : Nat) (v1 : Int32) (v2 : Int32) (v3 : Option Nat) (G : g_G) : Option (g_G) :=
  (fX7_init E t 8 v1 G).bind fun z4 =>
  (gpI E z4 12 12 (some t) 3 v2).bind fun G9 =>
  (gpR E G9 12 12 (some t) 4 v3).bind fun G14 =>
  some G14
theorem sX14_init (l : Launch) (E : g_E) (D : g_D) {t : Nat} {v1 : Int32} {v2 : Int32} {v3 : Option Nat} {G : g_G} {q : g_G} (h : fX14_init E t v1 v2 v3 G = some q) : gMet l E D yX14_init (ws_ yX14_init cX14_init 4 (none)) 2 86 [.inr (.inr (some t)), .inl v1, .inl v2, .inr (.inr v3)] G none q := by
  refine gMet.of (by decide +kernel) (Nat.le_of_ble_eq_true rfl) ?_
  intro p e R s m args below meth c C hS ls hl
  have C : gC p R s m args meth c cX14_init 4 RX14 "<init>" (none) 2 86 E D := C
  obtain ⟨hx, hb, hml, hown, hts, hKn, hRc, hRs, hc1, hc2, hRf, hRl, hr, hlk, hnm⟩ := id C
  have hl : gls ls 4 [(0, .inr (.inr (some t))), (1, .inl v1), (2, .inl v2), (3, .inr (.inr v3))] := hl
  generalize s.heap = H at hS ⊢
  unfold fX14_init at h
  refine g_aload_n hx hb hl 0 rfl dX14_init_0 ?_
  refine lv_bipush (v := 8) hx hb dX14_init_1 (by decide) ?_
  refine g_iload_n hx hb hl 1 rfl dX14_init_3 ?_
  obtain ⟨z4, h4, h⟩ := g_bnd h
  refine g_callI (n := 2) (av := [.inl 8, .inl v1]) (rs := []) hx hb hml hown hts hKn hRc hRs hS hl (sX7_init l E D h4) (lw_meth q1404) (hts _ q141) (hts _ q1624) (hts _ q1403) rfl ⟨by decide, by decide, by decide +kernel⟩ ⟨by rw [hRf]; exact Nat.le_of_ble_eq_true rfl, by rw [hRl]; exact Nat.le_of_ble_eq_true rfl⟩ rfl rfl (Nat.le_of_ble_eq_true rfl) dX14_init_4 (fun H locs cells slots hS => ?_)
  refine g_aload_n hx hb hl 0 rfl dX14_init_7 ?_
  refine g_iload_n hx hb hl 2 rfl dX14_init_8 ?_
  refine g_ptI hx hb hown hts hKn hS h fd_12_12_3 (Or.inl (hts _ q1625)) (fun _ z => z) (fun _ => ⟨hnm, rfl⟩) dX14_init_9 (fun G9 h H locs hS => ?_)
  refine g_aload_n hx hb hl 0 rfl dX14_init_12 ?_
  refine g_aload_n hx hb hl 3 rfl dX14_init_13 ?_
  refine g_ptR hx hb hown hts hKn hS h fd_12_12_4 rfl (Or.inl (hts _ q1626)) (fun _ z => z) (fun _ => ⟨hnm, rfl⟩) dX14_init_14 (fun G14 h H locs hS => ?_)
  exact g_vretG hx hb hr hlk hKn hRc hRs hS h dX14_init_17
/-- SendHall$Tell.comes(LSendHall$Life;I)LSendHall$Step; -/
def fX15_comes (E : g_E) (t : Nat) (v1 : Option Nat) (v2 : Int32) (G : g_G) : Option (Option Nat × g_G) :=
  (grR G 3 3 v1 7).bind fun x1 =>
  (grR G 3 3 v1 7).bind fun x8 =>
  (gaI G 100 x8 v2).bind fun x12 =>
  (grR G 13 13 (some t) 3).bind fun x15 =>
  (fI_value E gDP x15 v1 v2 G).bind fun z20 =>
  (gsaI E z20.2 x1 v2 ((31 * x12) + z20.1)).bind fun G26 =>
  (grR G26 13 13 (some t) 2).bind fun x28 =>
  some (x28, G26)
theorem sX15_comes (l : Launch) (E : g_E) (D : g_D) {t : Nat} {v1 : Option Nat} {v2 : Int32} {G : g_G} {q : Option Nat × g_G} (h : fX15_comes E t v1 v2 G = some q) : gMet l E D yX15_comes (ws_ yX15_comes cX15_comes 3 (some (.object "SendHall$Step"))) 218 7304 [.inr (.inr (some t)), .inr (.inr v1), .inl v2] G (some (va_rf q.1)) q.2 := by
  refine gMet.of (by decide +kernel) (Nat.le_of_ble_eq_true rfl) ?_
  intro p e R s m args below meth c C hS ls hl
  have C : gC p R s m args meth c cX15_comes 3 RX15 "comes" (some (.object "SendHall$Step")) 218 7304 E D := C
  obtain ⟨hx, hb, hml, hown, hts, hKn, hRc, hRs, hc1, hc2, hRf, hRl, hr, hlk, hnm⟩ := id C
  have hl : gls ls 3 [(0, .inr (.inr (some t))), (1, .inr (.inr v1)), (2, .inl v2)] := hl
  generalize s.heap = H at hS ⊢
  unfold fX15_comes at h
  refine g_aload_n hx hb hl 1 rfl dX15_comes_0 ?_
  refine g_rdR hx hb hown hts hKn hS h fd_3_3_7 rfl (Or.inr ⟨_, gNest_use rfl (hKn.2.2.2.2.1 _ (gNest_in q558 rfl))⟩) (fun _ z => z) dX15_comes_1 (fun x1 h => ?_)
  refine g_iload_n hx hb hl 2 rfl dX15_comes_4 ?_
  refine lv_bipush (v := 31) hx hb dX15_comes_5 (by decide) ?_
  refine g_aload_n hx hb hl 1 rfl dX15_comes_7 ?_
  refine g_rdR hx hb hown hts hKn hS h fd_3_3_7 rfl (Or.inr ⟨_, gNest_use rfl (hKn.2.2.2.2.1 _ (gNest_in q558 rfl))⟩) (fun _ z => z) dX15_comes_8 (fun x8 h => ?_)
  refine g_iload_n hx hb hl 2 rfl dX15_comes_11 ?_
  refine g_ialoadG hx hb hKn hS h dX15_comes_12 (fun x12 h => ?_)
  refine lv_imul hx hb dX15_comes_13 ?_
  refine g_aload_n hx hb hl 0 rfl dX15_comes_14 ?_
  refine g_rdR hx hb hown hts hKn hS h fd_13_13_3 rfl (Or.inl (hts _ q1641)) (fun _ z => z) dX15_comes_15 (fun x15 h => ?_)
  refine g_aload_n hx hb hl 1 rfl dX15_comes_18 ?_
  refine g_iload_n hx hb hl 2 rfl dX15_comes_19 ?_
  obtain ⟨z20, h20, h⟩ := g_bnd h
  refine g_valueI (rs := [.inl (31 * x12), .inl v2, .inr (.inr x1)]) hx hb hml hown hts hKn hRc hRs hS hl (gI_top l E D) h20 q822 ⟨by rw [hRf]; exact Nat.le_of_ble_eq_true rfl, by rw [hRl]; exact Nat.le_of_ble_eq_true rfl⟩ rfl (Nat.le_of_ble_eq_true rfl) dX15_comes_20 (fun H locs cells slots hS => ?_)
  refine lv_iadd hx hb dX15_comes_25 ?_
  refine g_iastoreG hx hb hKn hS h dX15_comes_26 (fun G26 h H locs hS => ?_)
  refine g_aload_n hx hb hl 0 rfl dX15_comes_27 ?_
  refine g_rdR hx hb hown hts hKn hS h fd_13_13_2 rfl (Or.inl (hts _ q1433)) (u_same (hts _ q1434)) dX15_comes_28 (fun x28 h => ?_)
  exact g_aretG hx hb hr (by first | exact Or.inl ⟨_, rfl⟩ | exact Or.inr ⟨_, rfl⟩) hlk hKn hRc hRs hS h dX15_comes_31
/-- SendHall$Tell.<init>(ILSendHall$Expr;)V -/
def fX15_init (E : g_E) (t : Nat) (v1 : Int32) (v2 : Option Nat) (G : g_G) : Option (g_G) :=
  (fX7_init E t 9 v1 G).bind fun z4 =>
  (gpR E z4 13 13 (some t) 3 v2).bind fun G9 =>
  some G9
theorem sX15_init (l : Launch) (E : g_E) (D : g_D) {t : Nat} {v1 : Int32} {v2 : Option Nat} {G : g_G} {q : g_G} (h : fX15_init E t v1 v2 G = some q) : gMet l E D yX15_init (ws_ yX15_init cX15_init 3 (none)) 2 86 [.inr (.inr (some t)), .inl v1, .inr (.inr v2)] G none q := by
  refine gMet.of (by decide +kernel) (Nat.le_of_ble_eq_true rfl) ?_
  intro p e R s m args below meth c C hS ls hl
  have C : gC p R s m args meth c cX15_init 3 RX15 "<init>" (none) 2 86 E D := C
  obtain ⟨hx, hb, hml, hown, hts, hKn, hRc, hRs, hc1, hc2, hRf, hRl, hr, hlk, hnm⟩ := id C
  have hl : gls ls 3 [(0, .inr (.inr (some t))), (1, .inl v1), (2, .inr (.inr v2))] := hl
  generalize s.heap = H at hS ⊢
  unfold fX15_init at h
  refine g_aload_n hx hb hl 0 rfl dX15_init_0 ?_
  refine lv_bipush (v := 9) hx hb dX15_init_1 (by decide) ?_
  refine g_iload_n hx hb hl 1 rfl dX15_init_3 ?_
  obtain ⟨z4, h4, h⟩ := g_bnd h
  refine g_callI (n := 2) (av := [.inl 9, .inl v1]) (rs := []) hx hb hml hown hts hKn hRc hRs hS hl (sX7_init l E D h4) (lw_meth q1404) (hts _ q141) (hts _ q1640) (hts _ q1403) rfl ⟨by decide, by decide, by decide +kernel⟩ ⟨by rw [hRf]; exact Nat.le_of_ble_eq_true rfl, by rw [hRl]; exact Nat.le_of_ble_eq_true rfl⟩ rfl rfl (Nat.le_of_ble_eq_true rfl) dX15_init_4 (fun H locs cells slots hS => ?_)
  refine g_aload_n hx hb hl 0 rfl dX15_init_7 ?_
  refine g_aload_n hx hb hl 2 rfl dX15_init_8 ?_
  refine g_ptR hx hb hown hts hKn hS h fd_13_13_3 rfl (Or.inl (hts _ q1641)) (fun _ z => z) (fun _ => ⟨hnm, rfl⟩) dX15_init_9 (fun G9 h H locs hS => ?_)
  exact g_vretG hx hb hr hlk hKn hRc hRs hS h dX15_init_12
/-- SendHall$If.comes(LSendHall$Life;I)LSendHall$Step; -/
def fX16_comes (E : g_E) (t : Nat) (v1 : Option Nat) (v2 : Int32) (G : g_G) : Option (Option Nat × g_G) :=
  (grR G 14 14 (some t) 3).bind fun x1 =>
  (fI_value E gDP x1 v1 v2 G).bind fun z6 =>
  if z6.1 = 0 then (
    (grR z6.2 14 14 (some t) 5).bind fun x22 =>
    some (x22, z6.2))
  else (
    (grR z6.2 14 14 (some t) 4).bind fun x15 =>
    some (x15, z6.2))
theorem sX16_comes (l : Launch) (E : g_E) (D : g_D) {t : Nat} {v1 : Option Nat} {v2 : Int32} {G : g_G} {q : Option Nat × g_G} (h : fX16_comes E t v1 v2 G = some q) : gMet l E D yX16_comes (ws_ yX16_comes cX16_comes 3 (some (.object "SendHall$Step"))) 218 7304 [.inr (.inr (some t)), .inr (.inr v1), .inl v2] G (some (va_rf q.1)) q.2 := by
  refine gMet.of (by decide +kernel) (Nat.le_of_ble_eq_true rfl) ?_
  intro p e R s m args below meth c C hS ls hl
  have C : gC p R s m args meth c cX16_comes 3 RX16 "comes" (some (.object "SendHall$Step")) 218 7304 E D := C
  obtain ⟨hx, hb, hml, hown, hts, hKn, hRc, hRs, hc1, hc2, hRf, hRl, hr, hlk, hnm⟩ := id C
  have hl : gls ls 3 [(0, .inr (.inr (some t))), (1, .inr (.inr v1)), (2, .inl v2)] := hl
  generalize s.heap = H at hS ⊢
  unfold fX16_comes at h
  refine g_aload_n hx hb hl 0 rfl dX16_comes_0 ?_
  refine g_rdR hx hb hown hts hKn hS h fd_14_14_3 rfl (Or.inl (hts _ q1658)) (fun _ z => z) dX16_comes_1 (fun x1 h => ?_)
  refine g_aload_n hx hb hl 1 rfl dX16_comes_4 ?_
  refine g_iload_n hx hb hl 2 rfl dX16_comes_5 ?_
  obtain ⟨z6, h6, h⟩ := g_bnd h
  refine g_valueI (rs := []) hx hb hml hown hts hKn hRc hRs hS hl (gI_top l E D) h6 q743 ⟨by rw [hRf]; exact Nat.le_of_ble_eq_true rfl, by rw [hRl]; exact Nat.le_of_ble_eq_true rfl⟩ rfl (Nat.le_of_ble_eq_true rfl) dX16_comes_6 (fun H locs cells slots hS => ?_)
  refine lv_if_eq (tgt := 21) hx hb dX16_comes_11 (by decide) (fun c_11 => ?_) (fun c_11 => ?_)
  · have h := g_ift c_11 h
    refine g_aload_n hx hb hl 0 rfl dX16_comes_21 ?_
    refine g_rdR hx hb hown hts hKn hS h fd_14_14_5 rfl (Or.inl (hts _ q1661)) (fun _ z => z) dX16_comes_22 (fun x22 h => ?_)
    exact g_aretG hx hb hr (by first | exact Or.inl ⟨_, rfl⟩ | exact Or.inr ⟨_, rfl⟩) hlk hKn hRc hRs hS h dX16_comes_25
  · have h := g_iff c_11 h
    refine g_aload_n hx hb hl 0 rfl dX16_comes_14 ?_
    refine g_rdR hx hb hown hts hKn hS h fd_14_14_4 rfl (Or.inl (hts _ q1659)) (fun _ z => z) dX16_comes_15 (fun x15 h => ?_)
    refine lv_goto (tgt := 25) hx hb dX16_comes_18 (by decide) ?_
    exact g_aretG hx hb hr (by first | exact Or.inl ⟨_, rfl⟩ | exact Or.inr ⟨_, rfl⟩) hlk hKn hRc hRs hS h dX16_comes_25
/-- SendHall$If.<init>(ILSendHall$Expr;)V -/
def fX16_init (E : g_E) (t : Nat) (v1 : Int32) (v2 : Option Nat) (G : g_G) : Option (g_G) :=
  (fX7_init E t 10 v1 G).bind fun z4 =>
  (gpR E z4 14 14 (some t) 3 v2).bind fun G9 =>
  some G9
theorem sX16_init (l : Launch) (E : g_E) (D : g_D) {t : Nat} {v1 : Int32} {v2 : Option Nat} {G : g_G} {q : g_G} (h : fX16_init E t v1 v2 G = some q) : gMet l E D yX16_init (ws_ yX16_init cX16_init 3 (none)) 2 86 [.inr (.inr (some t)), .inl v1, .inr (.inr v2)] G none q := by
  refine gMet.of (by decide +kernel) (Nat.le_of_ble_eq_true rfl) ?_
  intro p e R s m args below meth c C hS ls hl
  have C : gC p R s m args meth c cX16_init 3 RX16 "<init>" (none) 2 86 E D := C
  obtain ⟨hx, hb, hml, hown, hts, hKn, hRc, hRs, hc1, hc2, hRf, hRl, hr, hlk, hnm⟩ := id C
  have hl : gls ls 3 [(0, .inr (.inr (some t))), (1, .inl v1), (2, .inr (.inr v2))] := hl
  generalize s.heap = H at hS ⊢
  unfold fX16_init at h
  refine g_aload_n hx hb hl 0 rfl dX16_init_0 ?_
  refine lv_bipush (v := 10) hx hb dX16_init_1 (by decide) ?_
  refine g_iload_n hx hb hl 1 rfl dX16_init_3 ?_
  obtain ⟨z4, h4, h⟩ := g_bnd h
  refine g_callI (n := 2) (av := [.inl 10, .inl v1]) (rs := []) hx hb hml hown hts hKn hRc hRs hS hl (sX7_init l E D h4) (lw_meth q1404) (hts _ q141) (hts _ q1657) (hts _ q1403) rfl ⟨by decide, by decide, by decide +kernel⟩ ⟨by rw [hRf]; exact Nat.le_of_ble_eq_true rfl, by rw [hRl]; exact Nat.le_of_ble_eq_true rfl⟩ rfl rfl (Nat.le_of_ble_eq_true rfl) dX16_init_4 (fun H locs cells slots hS => ?_)
  refine g_aload_n hx hb hl 0 rfl dX16_init_7 ?_
  refine g_aload_n hx hb hl 2 rfl dX16_init_8 ?_
  refine g_ptR hx hb hown hts hKn hS h fd_14_14_3 rfl (Or.inl (hts _ q1658)) (fun _ z => z) (fun _ => ⟨hnm, rfl⟩) dX16_init_9 (fun G9 h H locs hS => ?_)
  exact g_vretG hx hb hr hlk hKn hRc hRs hS h dX16_init_12
/-- SendHall$Plain.<init>(II)V -/
def fX17_init (E : g_E) (t : Nat) (v1 : Int32) (v2 : Int32) (G : g_G) : Option (g_G) :=
  (fX7_init E t v1 v2 G).bind fun z3 =>
  some z3
theorem sX17_init (l : Launch) (E : g_E) (D : g_D) {t : Nat} {v1 : Int32} {v2 : Int32} {G : g_G} {q : g_G} (h : fX17_init E t v1 v2 G = some q) : gMet l E D yX17_init (ws_ yX17_init cX17_init 3 (none)) 2 86 [.inr (.inr (some t)), .inl v1, .inl v2] G none q := by
  refine gMet.of (by decide +kernel) (Nat.le_of_ble_eq_true rfl) ?_
  intro p e R s m args below meth c C hS ls hl
  have C : gC p R s m args meth c cX17_init 3 RX17 "<init>" (none) 2 86 E D := C
  obtain ⟨hx, hb, hml, hown, hts, hKn, hRc, hRs, hc1, hc2, hRf, hRl, hr, hlk, hnm⟩ := id C
  have hl : gls ls 3 [(0, .inr (.inr (some t))), (1, .inl v1), (2, .inl v2)] := hl
  generalize s.heap = H at hS ⊢
  unfold fX17_init at h
  refine g_aload_n hx hb hl 0 rfl dX17_init_0 ?_
  refine g_iload_n hx hb hl 1 rfl dX17_init_1 ?_
  refine g_iload_n hx hb hl 2 rfl dX17_init_2 ?_
  obtain ⟨z3, h3, h⟩ := g_bnd h
  refine g_callI (n := 2) (av := [.inl v1, .inl v2]) (rs := []) hx hb hml hown hts hKn hRc hRs hS hl (sX7_init l E D h3) (lw_meth q1404) (hts _ q141) (hts _ q1685) (hts _ q1403) rfl ⟨by decide, by decide, by decide +kernel⟩ ⟨by rw [hRf]; exact Nat.le_of_ble_eq_true rfl, by rw [hRl]; exact Nat.le_of_ble_eq_true rfl⟩ rfl rfl (Nat.le_of_ble_eq_true rfl) dX17_init_3 (fun H locs cells slots hS => ?_)
  exact g_vretG hx hb hr hlk hKn hRc hRs hS h dX17_init_6
/-- SendHall.areAllAt(LSendHall$Life;I)Z -/
def fX1_areAllAt_b2 (E : g_E) : Nat → (Option Nat) → Int32 → Int32 → g_G → Option (Int32 × g_G)
  | 0, _, _, _, _ => none
  | n + 1, v1, v2, v3, G =>
    (grI G 3 3 v1 0).bind fun x4 =>
    if x4 ≤ v3 then (
      if (1 : Int32) = 0 ∨ (1 : Int32) = 1 then some (1, G) else none)
    else (
      (gchk G 3 v1).bind fun b13 =>
      (fX3_isAt E b13 v3 v2 G).bind fun z13 =>
      if ¬ z13.1 = 0 then (
        fX1_areAllAt_b2 E n v1 v2 (v3 + 1) z13.2)
      else (
        if (0 : Int32) = 0 ∨ (0 : Int32) = 1 then some (0, z13.2) else none))
def fX1_areAllAt (E : g_E) (t : Nat) (v1 : Option Nat) (v2 : Int32) (G : g_G) : Option (Int32 × g_G) :=
  fX1_areAllAt_b2 E gFU v1 v2 0 G
theorem sX1_areAllAt_b2 {p : Program} {l : Launch} {e : Env} {R : Room} {s : State} {m : MethodId} {args : Array Value} {below : List Frame} {meth : Method} {c : Code} {E : g_E} {D : g_D} (C : gC p R s m args meth c cX1_areAllAt 4 RX1 "areAllAt" (some .boolean) 2 86 E D) : ∀ (n : Nat) (v1 : Option Nat) (v2 : Int32) (v3 : Int32) (G : g_G) (q : Int32 × g_G), fX1_areAllAt_b2 E n v1 v2 v3 G = some q → ∀ (H : Heap) (locs : List Loc) (cells slots : Nat) (ls : Array Slot), gSt E D G H locs → gls ls 4 [(1, .inr (.inr v1)), (2, .inl v2), (3, .inl v3)] → gT p l e R s m args below meth c E D H locs cells slots (some (.int q.1)) q.2 (F0 m 2 ls []) := by
  obtain ⟨hx, hb, hml, hown, hts, hKn, hRc, hRs, hc1, hc2, hRf, hRl, hr, hlk, hnm⟩ := id C
  intro n
  induction n with
  | zero =>
    intro v1 v2 v3 G q h
    exact g_no h
  | succ n ih =>
    intro v1 v2 v3 G q h H locs cells slots ls hS hl
    rw [fX1_areAllAt_b2] at h
    refine g_iload_n hx hb hl 2 rfl dX1_areAllAt_2 ?_
    refine g_aload_n hx hb hl 0 rfl dX1_areAllAt_3 ?_
    refine g_rdI hx hb hown hts hKn hS h fd_3_3_0 rfl (Or.inr ⟨_, gNest_use rfl (hKn.2.2.2.2.1 _ (gNest_in q537 rfl))⟩) (fun _ z => z) dX1_areAllAt_4 (fun x4 h => ?_)
    refine lv_icmp_ge (tgt := 27) hx hb dX1_areAllAt_7 (by decide) (fun c_7 => ?_) (fun c_7 => ?_)
    · have h := g_ift c_7 h
      refine lv_iconst (v := 1) hx hb dX1_areAllAt_27 (by decide) ?_
      exact g_zretG hx hb hr hlk hKn hRc hRs hS h dX1_areAllAt_28
    · have h := g_iff c_7 h
      refine g_aload_n hx hb hl 0 rfl dX1_areAllAt_10 ?_
      refine g_iload_n hx hb hl 2 rfl dX1_areAllAt_11 ?_
      refine g_iload_n hx hb hl 1 rfl dX1_areAllAt_12 ?_
      obtain ⟨b13, hb13, h⟩ := g_bnd h
      obtain ⟨hr13, hk13⟩ := g_chk hb13
      obtain ⟨z13, h13, h⟩ := g_bnd h
      refine g_callV (n := 2) (b := b13) (av := [.inl v3, .inl v2]) (rs := []) hx hb hml hown hts hKn hRc hRs hS hl (sX3_isAt l E D h13) (lw_V q874 q875 q876 q134 q877) ⟨rfl, by decide, by decide, by decide +kernel⟩ ⟨by rw [hRf]; exact Nat.le_of_ble_eq_true rfl, by rw [hRl]; exact Nat.le_of_ble_eq_true rfl⟩ (g_recv hKn hS hk13 (by decide) (by decide)) rfl (by rw [hr13]; rfl) (Nat.le_of_ble_eq_true rfl) dX1_areAllAt_13 (fun H locs cells slots hS => ?_)
      refine lv_if_ne (tgt := 21) hx hb dX1_areAllAt_16 (by decide) (fun c_16 => ?_) (fun c_16 => ?_)
      · have h := g_ift c_16 h
        refine g_iinc (l1 := [(3, .inl (v3 + 1)), (1, .inr (.inr v1)), (2, .inl v2)]) (v := (v3 + 1)) hx hb hl (k := 2) rfl (by rfl) (by decide) rfl dX1_areAllAt_21 (fun ls hl => ?_)
        refine lv_goto (tgt := 2) hx hb dX1_areAllAt_24 (by decide) ?_
        exact ih _ _ _ _ _ h _ _ _ _ _ hS (gls_sub hl [1, 2, 0] rfl)
      · have h := g_iff (fun z => z c_16) h
        refine lv_iconst (v := 0) hx hb dX1_areAllAt_19 (by decide) ?_
        exact g_zretG hx hb hr hlk hKn hRc hRs hS h dX1_areAllAt_20
theorem sX1_areAllAt (l : Launch) (E : g_E) (D : g_D) {t : Nat} {v1 : Option Nat} {v2 : Int32} {G : g_G} {q : Int32 × g_G} (h : fX1_areAllAt E t v1 v2 G = some q) : gMet l E D yX1_areAllAt (ws_ yX1_areAllAt cX1_areAllAt 4 (some .boolean)) 2 86 [.inr (.inr (some t)), .inr (.inr v1), .inl v2] G (some (.int q.1)) q.2 := by
  refine gMet.of (by decide +kernel) (Nat.le_of_ble_eq_true rfl) ?_
  intro p e R s m args below meth c C hS ls hl
  have C : gC p R s m args meth c cX1_areAllAt 4 RX1 "areAllAt" (some .boolean) 2 86 E D := C
  obtain ⟨hx, hb, hml, hown, hts, hKn, hRc, hRs, hc1, hc2, hRf, hRl, hr, hlk, hnm⟩ := id C
  have hl : gls ls 4 [(0, .inr (.inr (some t))), (1, .inr (.inr v1)), (2, .inl v2)] := hl
  generalize s.heap = H at hS ⊢
  unfold fX1_areAllAt at h
  refine lv_iconst (v := 0) hx hb dX1_areAllAt_0 (by decide) ?_
  refine g_istore_n (l1 := [(3, .inl 0), (0, .inr (.inr (some t))), (1, .inr (.inr v1)), (2, .inl v2)]) hx hb hl (by decide) rfl dX1_areAllAt_1 (fun ls hl => ?_)
  exact sX1_areAllAt_b2 C gFU _ _ _ _ _ h _ _ _ _ _ hS (gls_sub hl [2, 3, 0] rfl)
/-- SendHall.chose(I)I -/
def fX1_chose_b25 (E : g_E) (t : Nat) (v1 : Int32) (s0 : Int32) (G : g_G) : Option (Int32 × g_G) :=
  (fX1_there E s0 G).bind fun z25 =>
  if ¬ v1 = (-1 : Int32) then (
    (grR z25 1 1 (some t) 30).bind fun x41 =>
    (gaI z25 100 x41 v1).bind fun x45 =>
    some (x45, z25))
  else (
    (grI z25 1 1 (some t) 31).bind fun x34 =>
    some (x34, z25))
def fX1_chose_b24 (E : g_E) (t : Nat) (v1 : Int32) (G : g_G) : Option (Int32 × g_G) :=
  fX1_chose_b25 E t v1 0 G
def fX1_chose (E : g_E) (t : Nat) (v1 : Int32) (G : g_G) : Option (Int32 × g_G) :=
  (grI G 1 1 (some t) 21).bind fun x1 =>
  if x1 = 0 then (
    fX1_chose_b24 E t v1 G)
  else (
    if v1 < (-1 : Int32) then (
      fX1_chose_b24 E t v1 G)
    else (
      (grI G 1 1 (some t) 31).bind fun x14 =>
      if x14 ≤ v1 then (
        fX1_chose_b24 E t v1 G)
      else (
        fX1_chose_b25 E t v1 1 G)))
theorem sX1_chose_b25 {p : Program} {l : Launch} {e : Env} {R : Room} {s : State} {m : MethodId} {args : Array Value} {below : List Frame} {meth : Method} {c : Code} {E : g_E} {D : g_D} (C : gC p R s m args meth c cX1_chose 2 RX1 "chose" (some .int) 2 84 E D) : ∀ (t : Nat) (v1 : Int32) (s0 : Int32) (G : g_G) (q : Int32 × g_G), fX1_chose_b25 E t v1 s0 G = some q → ∀ (H : Heap) (locs : List Loc) (cells slots : Nat) (ls : Array Slot), gSt E D G H locs → gls ls 2 [(0, .inr (.inr (some t))), (1, .inl v1)] → gT p l e R s m args below meth c E D H locs cells slots (some (.int q.1)) q.2 (F0 m 25 ls [.int s0]) := by
  obtain ⟨hx, hb, hml, hown, hts, hKn, hRc, hRs, hc1, hc2, hRf, hRl, hr, hlk, hnm⟩ := id C
  intro t v1 s0 G q h H locs cells slots ls hS hl
  unfold fX1_chose_b25 at h
  obtain ⟨z25, h25, h⟩ := g_bnd h
  refine g_callS (n := 1) (av := [.inl s0]) (rs := []) hx hb hml hown hts hKn hRc hRs hS hl (sX1_there l E D h25) (lw_S q1721 q1722 q113 q1723) ⟨by decide, by decide, by decide +kernel⟩ ⟨by rw [hRf]; exact Nat.le_of_ble_eq_true rfl, by rw [hRl]; exact Nat.le_of_ble_eq_true rfl⟩ rfl rfl (Nat.le_of_ble_eq_true rfl) dX1_chose_25 (fun H locs cells slots hS => ?_)
  refine g_iload_n hx hb hl 1 rfl dX1_chose_28 ?_
  refine lv_iconst (v := (-1)) hx hb dX1_chose_29 (by decide) ?_
  refine lv_icmp_ne (tgt := 40) hx hb dX1_chose_30 (by decide) (fun c_30 => ?_) (fun c_30 => ?_)
  · have h := g_ift c_30 h
    refine g_aload_n hx hb hl 0 rfl dX1_chose_40 ?_
    refine g_rdR hx hb hown hts hKn hS h fd_1_1_30 rfl (Or.inl (hts _ q627)) (fun _ z => z) dX1_chose_41 (fun x41 h => ?_)
    refine g_iload_n hx hb hl 1 rfl dX1_chose_44 ?_
    refine g_ialoadG hx hb hKn hS h dX1_chose_45 (fun x45 h => ?_)
    exact g_iretG hx hb hr hlk hKn hRc hRs hS h dX1_chose_46
  · have h := g_iff (fun z => z c_30) h
    refine g_aload_n hx hb hl 0 rfl dX1_chose_33 ?_
    refine g_rdI hx hb hown hts hKn hS h fd_1_1_31 rfl (Or.inl (hts _ q628)) (fun _ z => z) dX1_chose_34 (fun x34 h => ?_)
    refine lv_goto (tgt := 46) hx hb dX1_chose_37 (by decide) ?_
    exact g_iretG hx hb hr hlk hKn hRc hRs hS h dX1_chose_46
theorem sX1_chose_b24 {p : Program} {l : Launch} {e : Env} {R : Room} {s : State} {m : MethodId} {args : Array Value} {below : List Frame} {meth : Method} {c : Code} {E : g_E} {D : g_D} (C : gC p R s m args meth c cX1_chose 2 RX1 "chose" (some .int) 2 84 E D) : ∀ (t : Nat) (v1 : Int32) (G : g_G) (q : Int32 × g_G), fX1_chose_b24 E t v1 G = some q → ∀ (H : Heap) (locs : List Loc) (cells slots : Nat) (ls : Array Slot), gSt E D G H locs → gls ls 2 [(0, .inr (.inr (some t))), (1, .inl v1)] → gT p l e R s m args below meth c E D H locs cells slots (some (.int q.1)) q.2 (F0 m 24 ls []) := by
  obtain ⟨hx, hb, hml, hown, hts, hKn, hRc, hRs, hc1, hc2, hRf, hRl, hr, hlk, hnm⟩ := id C
  intro t v1 G q h H locs cells slots ls hS hl
  unfold fX1_chose_b24 at h
  refine lv_iconst (v := 0) hx hb dX1_chose_24 (by decide) ?_
  exact sX1_chose_b25 C _ _ _ _ _ h _ _ _ _ _ hS (gls_sub hl [0, 1] rfl)
theorem sX1_chose (l : Launch) (E : g_E) (D : g_D) {t : Nat} {v1 : Int32} {G : g_G} {q : Int32 × g_G} (h : fX1_chose E t v1 G = some q) : gMet l E D yX1_chose (ws_ yX1_chose cX1_chose 2 (some .int)) 2 84 [.inr (.inr (some t)), .inl v1] G (some (.int q.1)) q.2 := by
  refine gMet.of (by decide +kernel) (Nat.le_of_ble_eq_true rfl) ?_
  intro p e R s m args below meth c C hS ls hl
  have C : gC p R s m args meth c cX1_chose 2 RX1 "chose" (some .int) 2 84 E D := C
  obtain ⟨hx, hb, hml, hown, hts, hKn, hRc, hRs, hc1, hc2, hRf, hRl, hr, hlk, hnm⟩ := id C
  have hl : gls ls 2 [(0, .inr (.inr (some t))), (1, .inl v1)] := hl
  generalize s.heap = H at hS ⊢
  unfold fX1_chose at h
  refine g_aload_n hx hb hl 0 rfl dX1_chose_0 ?_
  refine g_rdI hx hb hown hts hKn hS h fd_1_1_21 rfl (Or.inl (hts _ q618)) (fun _ z => z) dX1_chose_1 (fun x1 h => ?_)
  refine lv_if_eq (tgt := 24) hx hb dX1_chose_4 (by decide) (fun c_4 => ?_) (fun c_4 => ?_)
  · have h := g_ift c_4 h
    exact sX1_chose_b24 C _ _ _ _ h _ _ _ _ _ hS (gls_sub hl [0, 1] rfl)
  · have h := g_iff c_4 h
    refine g_iload_n hx hb hl 1 rfl dX1_chose_7 ?_
    refine lv_iconst (v := (-1)) hx hb dX1_chose_8 (by decide) ?_
    refine lv_icmp_lt (tgt := 24) hx hb dX1_chose_9 (by decide) (fun c_9 => ?_) (fun c_9 => ?_)
    · have h := g_ift c_9 h
      exact sX1_chose_b24 C _ _ _ _ h _ _ _ _ _ hS (gls_sub hl [0, 1] rfl)
    · have h := g_iff c_9 h
      refine g_iload_n hx hb hl 1 rfl dX1_chose_12 ?_
      refine g_aload_n hx hb hl 0 rfl dX1_chose_13 ?_
      refine g_rdI hx hb hown hts hKn hS h fd_1_1_31 rfl (Or.inl (hts _ q628)) (fun _ z => z) dX1_chose_14 (fun x14 h => ?_)
      refine lv_icmp_ge (tgt := 24) hx hb dX1_chose_17 (by decide) (fun c_17 => ?_) (fun c_17 => ?_)
      · have h := g_ift c_17 h
        exact sX1_chose_b24 C _ _ _ _ h _ _ _ _ _ hS (gls_sub hl [0, 1] rfl)
      · have h := g_iff c_17 h
        refine lv_iconst (v := 1) hx hb dX1_chose_20 (by decide) ?_
        refine lv_goto (tgt := 25) hx hb dX1_chose_21 (by decide) ?_
        exact sX1_chose_b25 C _ _ _ _ _ h _ _ _ _ _ hS (gls_sub hl [0, 1] rfl)
/-- SendHall.count(I)I -/
def fX1_count (E : g_E) (t : Nat) (v1 : Int32) (G : g_G) : Option (Int32 × g_G) :=
  (fX1_within E v1 0 6 G).bind fun z4 =>
  (fX1_there E z4.1 z4.2).bind fun z7 =>
  if v1 = 0 then (
    (grR z7 1 1 (some t) 4).bind fun x49 =>
    (grR z7 2 2 x49 0).bind fun x52 =>
    (gchk z7 17 x52).bind fun b55 =>
    (fJ2_size E b55 z7).bind fun z55 =>
    some (z55.1, z55.2))
  else
  if v1 = 1 then (
    (grR z7 1 1 (some t) 4).bind fun x60 =>
    (grI z7 2 2 x60 2).bind fun x63 =>
    some (x63, z7))
  else
  if v1 = 2 then (
    (grI z7 1 1 (some t) 0).bind fun x68 =>
    some (x68, z7))
  else
  if v1 = 3 then (
    (grI z7 1 1 (some t) 1).bind fun x73 =>
    some (x73, z7))
  else
  if v1 = 4 then (
    (grI z7 1 1 (some t) 2).bind fun x78 =>
    some (x78, z7))
  else
  if v1 = 5 then (
    (grI z7 1 1 (some t) 3).bind fun x83 =>
    some (x83, z7))
  else
  (
    (grI z7 1 1 (some t) 10).bind fun x88 =>
    some (x88, z7))
theorem sX1_count (l : Launch) (E : g_E) (D : g_D) {t : Nat} {v1 : Int32} {G : g_G} {q : Int32 × g_G} (h : fX1_count E t v1 G = some q) : gMet l E D yX1_count (ws_ yX1_count cX1_count 2 (some .int)) 2 86 [.inr (.inr (some t)), .inl v1] G (some (.int q.1)) q.2 := by
  refine gMet.of (by decide +kernel) (Nat.le_of_ble_eq_true rfl) ?_
  intro p e R s m args below meth c C hS ls hl
  have C : gC p R s m args meth c cX1_count 2 RX1 "count" (some .int) 2 86 E D := C
  obtain ⟨hx, hb, hml, hown, hts, hKn, hRc, hRs, hc1, hc2, hRf, hRl, hr, hlk, hnm⟩ := id C
  have hl : gls ls 2 [(0, .inr (.inr (some t))), (1, .inl v1)] := hl
  generalize s.heap = H at hS ⊢
  unfold fX1_count at h
  refine g_iload_n hx hb hl 1 rfl dX1_count_0 ?_
  refine lv_iconst (v := 0) hx hb dX1_count_1 (by decide) ?_
  refine lv_bipush (v := 6) hx hb dX1_count_2 (by decide) ?_
  obtain ⟨z4, h4, h⟩ := g_bnd h
  refine g_callS (n := 3) (av := [.inl v1, .inl 0, .inl 6]) (rs := []) hx hb hml hown hts hKn hRc hRs hS hl (sX1_within l E D h4) (lw_S q713 q714 q113 q715) ⟨by decide, by decide, by decide +kernel⟩ ⟨by rw [hRf]; exact Nat.le_of_ble_eq_true rfl, by rw [hRl]; exact Nat.le_of_ble_eq_true rfl⟩ rfl rfl (Nat.le_of_ble_eq_true rfl) dX1_count_4 (fun H locs cells slots hS => ?_)
  obtain ⟨z7, h7, h⟩ := g_bnd h
  refine g_callS (n := 1) (av := [.inl z4.1]) (rs := []) hx hb hml hown hts hKn hRc hRs hS hl (sX1_there l E D h7) (lw_S q1721 q1722 q113 q1723) ⟨by decide, by decide, by decide +kernel⟩ ⟨by rw [hRf]; exact Nat.le_of_ble_eq_true rfl, by rw [hRl]; exact Nat.le_of_ble_eq_true rfl⟩ rfl rfl (Nat.le_of_ble_eq_true rfl) dX1_count_7 (fun H locs cells slots hS => ?_)
  refine g_iload_n hx hb hl 1 rfl dX1_count_10 ?_
  by_cases w11_0 : v1 = 0
  · refine lv_tableIn (tgt := 48) (off := 37) hx hb dX1_count_11 (by rw [w11_0]; decide) (by rw [w11_0]; decide) (by rw [w11_0]; decide) (by decide) ?_
    have h := g_ift w11_0 h
    refine g_aload_n hx hb hl 0 rfl dX1_count_48 ?_
    refine g_rdR hx hb hown hts hKn hS h fd_1_1_4 rfl (Or.inl (hts _ q601)) (fun _ z => z) dX1_count_49 (fun x49 h => ?_)
    refine g_rdR hx hb hown hts hKn hS h fd_2_2_0 rfl (Or.inr ⟨_, gNest_use rfl (hKn.2.2.2.2.1 _ (gNest_in q514 rfl))⟩) (fun _ z => z) dX1_count_52 (fun x52 h => ?_)
    obtain ⟨b55, hb55, h⟩ := g_bnd h
    obtain ⟨hr55, hk55⟩ := g_chk hb55
    obtain ⟨z55, h55, h⟩ := g_bnd h
    refine g_callV (n := 0) (b := b55) (av := []) (rs := []) hx hb hml hown hts hKn hRc hRs hS hl (sJ2_size l E D h55) (lw_V q995 q782 q783 q117 q784) ⟨rfl, by decide, by decide, by decide +kernel⟩ ⟨by rw [hRf]; exact Nat.le_of_ble_eq_true rfl, by rw [hRl]; exact Nat.le_of_ble_eq_true rfl⟩ (g_recv hKn hS hk55 (by decide) (by decide)) rfl (by rw [hr55]; rfl) (Nat.le_of_ble_eq_true rfl) dX1_count_55 (fun H locs cells slots hS => ?_)
    exact g_iretG hx hb hr hlk hKn hRc hRs hS h dX1_count_58
  have h := g_iff w11_0 h
  by_cases w11_1 : v1 = 1
  · refine lv_tableIn (tgt := 59) (off := 48) hx hb dX1_count_11 (by rw [w11_1]; decide) (by rw [w11_1]; decide) (by rw [w11_1]; decide) (by decide) ?_
    have h := g_ift w11_1 h
    refine g_aload_n hx hb hl 0 rfl dX1_count_59 ?_
    refine g_rdR hx hb hown hts hKn hS h fd_1_1_4 rfl (Or.inl (hts _ q601)) (fun _ z => z) dX1_count_60 (fun x60 h => ?_)
    refine g_rdI hx hb hown hts hKn hS h fd_2_2_2 rfl (Or.inr ⟨_, gNest_use rfl (hKn.2.2.2.2.1 _ (gNest_in q518 rfl))⟩) (fun _ z => z) dX1_count_63 (fun x63 h => ?_)
    exact g_iretG hx hb hr hlk hKn hRc hRs hS h dX1_count_66
  have h := g_iff w11_1 h
  by_cases w11_2 : v1 = 2
  · refine lv_tableIn (tgt := 67) (off := 56) hx hb dX1_count_11 (by rw [w11_2]; decide) (by rw [w11_2]; decide) (by rw [w11_2]; decide) (by decide) ?_
    have h := g_ift w11_2 h
    refine g_aload_n hx hb hl 0 rfl dX1_count_67 ?_
    refine g_rdI hx hb hown hts hKn hS h fd_1_1_0 rfl (Or.inl (hts _ q597)) (fun _ z => z) dX1_count_68 (fun x68 h => ?_)
    exact g_iretG hx hb hr hlk hKn hRc hRs hS h dX1_count_71
  have h := g_iff w11_2 h
  by_cases w11_3 : v1 = 3
  · refine lv_tableIn (tgt := 72) (off := 61) hx hb dX1_count_11 (by rw [w11_3]; decide) (by rw [w11_3]; decide) (by rw [w11_3]; decide) (by decide) ?_
    have h := g_ift w11_3 h
    refine g_aload_n hx hb hl 0 rfl dX1_count_72 ?_
    refine g_rdI hx hb hown hts hKn hS h fd_1_1_1 rfl (Or.inl (hts _ q598)) (fun _ z => z) dX1_count_73 (fun x73 h => ?_)
    exact g_iretG hx hb hr hlk hKn hRc hRs hS h dX1_count_76
  have h := g_iff w11_3 h
  by_cases w11_4 : v1 = 4
  · refine lv_tableIn (tgt := 77) (off := 66) hx hb dX1_count_11 (by rw [w11_4]; decide) (by rw [w11_4]; decide) (by rw [w11_4]; decide) (by decide) ?_
    have h := g_ift w11_4 h
    refine g_aload_n hx hb hl 0 rfl dX1_count_77 ?_
    refine g_rdI hx hb hown hts hKn hS h fd_1_1_2 rfl (Or.inl (hts _ q599)) (fun _ z => z) dX1_count_78 (fun x78 h => ?_)
    exact g_iretG hx hb hr hlk hKn hRc hRs hS h dX1_count_81
  have h := g_iff w11_4 h
  by_cases w11_5 : v1 = 5
  · refine lv_tableIn (tgt := 82) (off := 71) hx hb dX1_count_11 (by rw [w11_5]; decide) (by rw [w11_5]; decide) (by rw [w11_5]; decide) (by decide) ?_
    have h := g_ift w11_5 h
    refine g_aload_n hx hb hl 0 rfl dX1_count_82 ?_
    refine g_rdI hx hb hown hts hKn hS h fd_1_1_3 rfl (Or.inl (hts _ q600)) (fun _ z => z) dX1_count_83 (fun x83 h => ?_)
    exact g_iretG hx hb hr hlk hKn hRc hRs hS h dX1_count_86
  have h := g_iff w11_5 h
  refine g_tableD (tgt := 87) hx hb dX1_count_11 (by decide) [0, 1, 2, 3, 4, 5] (by decide) (fun k hk => ?_) ?_
  · simp only [List.mem_cons, List.not_mem_nil, or_false] at hk
    rcases hk with rfl | rfl | rfl | rfl | rfl | rfl
    · exact w11_0
    · exact w11_1
    · exact w11_2
    · exact w11_3
    · exact w11_4
    · exact w11_5
  refine g_aload_n hx hb hl 0 rfl dX1_count_87 ?_
  refine g_rdI hx hb hown hts hKn hS h fd_1_1_10 rfl (Or.inl (hts _ q607)) (fun _ z => z) dX1_count_88 (fun x88 h => ?_)
  exact g_iretG hx hb hr hlk hKn hRc hRs hS h dX1_count_91
/-- SendHall.feed(IIIII)I -/
def fX1_feed (E : g_E) (t : Nat) (v1 : Int32) (v2 : Int32) (v3 : Int32) (v4 : Int32) (v5 : Int32) (G : g_G) : Option (Int32 × g_G) :=
  (grI G 1 1 (some t) 10).bind fun x1 =>
  if (x1 + 20) ≤ (700 : Int32) then (
    (gchk G 1 (some t)).bind fun b17 =>
    (fX1_lay E b17 v1 G).bind fun z17 =>
    (gchk z17 1 (some t)).bind fun b22 =>
    (fX1_lay E b22 v2 z17).bind fun z22 =>
    (gchk z22 1 (some t)).bind fun b27 =>
    (fX1_lay E b27 v3 z22).bind fun z27 =>
    (gchk z27 1 (some t)).bind fun b33 =>
    (fX1_lay E b33 v4 z27).bind fun z33 =>
    (gchk z33 1 (some t)).bind fun b39 =>
    (fX1_lay E b39 v5 z33).bind fun z39 =>
    (grI z39 1 1 (some t) 10).bind fun x43 =>
    some (x43, z39))
  else (
    some ((-1), G))
theorem sX1_feed (l : Launch) (E : g_E) (D : g_D) {t : Nat} {v1 : Int32} {v2 : Int32} {v3 : Int32} {v4 : Int32} {v5 : Int32} {G : g_G} {q : Int32 × g_G} (h : fX1_feed E t v1 v2 v3 v4 v5 G = some q) : gMet l E D yX1_feed (ws_ yX1_feed cX1_feed 6 (some .int)) 2 86 [.inr (.inr (some t)), .inl v1, .inl v2, .inl v3, .inl v4, .inl v5] G (some (.int q.1)) q.2 := by
  refine gMet.of (by decide +kernel) (Nat.le_of_ble_eq_true rfl) ?_
  intro p e R s m args below meth c C hS ls hl
  have C : gC p R s m args meth c cX1_feed 6 RX1 "feed" (some .int) 2 86 E D := C
  obtain ⟨hx, hb, hml, hown, hts, hKn, hRc, hRs, hc1, hc2, hRf, hRl, hr, hlk, hnm⟩ := id C
  have hl : gls ls 6 [(0, .inr (.inr (some t))), (1, .inl v1), (2, .inl v2), (3, .inl v3), (4, .inl v4), (5, .inl v5)] := hl
  generalize s.heap = H at hS ⊢
  unfold fX1_feed at h
  refine g_aload_n hx hb hl 0 rfl dX1_feed_0 ?_
  refine g_rdI hx hb hown hts hKn hS h fd_1_1_10 rfl (Or.inl (hts _ q607)) (fun _ z => z) dX1_feed_1 (fun x1 h => ?_)
  refine lv_bipush (v := 20) hx hb dX1_feed_4 (by decide) ?_
  refine lv_iadd hx hb dX1_feed_6 ?_
  refine lv_sipush (v := 700) hx hb dX1_feed_7 (by decide) ?_
  refine lv_icmp_le (tgt := 15) hx hb dX1_feed_10 (by decide) (fun c_10 => ?_) (fun c_10 => ?_)
  · have h := g_ift c_10 h
    refine g_aload_n hx hb hl 0 rfl dX1_feed_15 ?_
    refine g_iload_n hx hb hl 1 rfl dX1_feed_16 ?_
    obtain ⟨b17, hb17, h⟩ := g_bnd h
    obtain ⟨hr17, hk17⟩ := g_chk hb17
    obtain ⟨z17, h17, h⟩ := g_bnd h
    refine g_callV (n := 1) (b := b17) (av := [.inl v1]) (rs := []) hx hb hml hown hts hKn hRc hRs hS hl (sX1_lay l E D h17) (lw_V q701 q703 qs1 q113 q704) ⟨rfl, by decide, by decide, by decide +kernel⟩ ⟨by rw [hRf]; exact Nat.le_of_ble_eq_true rfl, by rw [hRl]; exact Nat.le_of_ble_eq_true rfl⟩ (g_recv hKn hS hk17 (by decide) (by decide)) rfl (by rw [hr17]; rfl) (Nat.le_of_ble_eq_true rfl) dX1_feed_17 (fun H locs cells slots hS => ?_)
    refine g_aload_n hx hb hl 0 rfl dX1_feed_20 ?_
    refine g_iload_n hx hb hl 2 rfl dX1_feed_21 ?_
    obtain ⟨b22, hb22, h⟩ := g_bnd h
    obtain ⟨hr22, hk22⟩ := g_chk hb22
    obtain ⟨z22, h22, h⟩ := g_bnd h
    refine g_callV (n := 1) (b := b22) (av := [.inl v2]) (rs := []) hx hb hml hown hts hKn hRc hRs hS hl (sX1_lay l E D h22) (lw_V q701 q703 qs1 q113 q704) ⟨rfl, by decide, by decide, by decide +kernel⟩ ⟨by rw [hRf]; exact Nat.le_of_ble_eq_true rfl, by rw [hRl]; exact Nat.le_of_ble_eq_true rfl⟩ (g_recv hKn hS hk22 (by decide) (by decide)) rfl (by rw [hr22]; rfl) (Nat.le_of_ble_eq_true rfl) dX1_feed_22 (fun H locs cells slots hS => ?_)
    refine g_aload_n hx hb hl 0 rfl dX1_feed_25 ?_
    refine g_iload_n hx hb hl 3 rfl dX1_feed_26 ?_
    obtain ⟨b27, hb27, h⟩ := g_bnd h
    obtain ⟨hr27, hk27⟩ := g_chk hb27
    obtain ⟨z27, h27, h⟩ := g_bnd h
    refine g_callV (n := 1) (b := b27) (av := [.inl v3]) (rs := []) hx hb hml hown hts hKn hRc hRs hS hl (sX1_lay l E D h27) (lw_V q701 q703 qs1 q113 q704) ⟨rfl, by decide, by decide, by decide +kernel⟩ ⟨by rw [hRf]; exact Nat.le_of_ble_eq_true rfl, by rw [hRl]; exact Nat.le_of_ble_eq_true rfl⟩ (g_recv hKn hS hk27 (by decide) (by decide)) rfl (by rw [hr27]; rfl) (Nat.le_of_ble_eq_true rfl) dX1_feed_27 (fun H locs cells slots hS => ?_)
    refine g_aload_n hx hb hl 0 rfl dX1_feed_30 ?_
    refine g_iload hx hb hl 4 rfl dX1_feed_31 ?_
    obtain ⟨b33, hb33, h⟩ := g_bnd h
    obtain ⟨hr33, hk33⟩ := g_chk hb33
    obtain ⟨z33, h33, h⟩ := g_bnd h
    refine g_callV (n := 1) (b := b33) (av := [.inl v4]) (rs := []) hx hb hml hown hts hKn hRc hRs hS hl (sX1_lay l E D h33) (lw_V q701 q703 qs1 q113 q704) ⟨rfl, by decide, by decide, by decide +kernel⟩ ⟨by rw [hRf]; exact Nat.le_of_ble_eq_true rfl, by rw [hRl]; exact Nat.le_of_ble_eq_true rfl⟩ (g_recv hKn hS hk33 (by decide) (by decide)) rfl (by rw [hr33]; rfl) (Nat.le_of_ble_eq_true rfl) dX1_feed_33 (fun H locs cells slots hS => ?_)
    refine g_aload_n hx hb hl 0 rfl dX1_feed_36 ?_
    refine g_iload hx hb hl 5 rfl dX1_feed_37 ?_
    obtain ⟨b39, hb39, h⟩ := g_bnd h
    obtain ⟨hr39, hk39⟩ := g_chk hb39
    obtain ⟨z39, h39, h⟩ := g_bnd h
    refine g_callV (n := 1) (b := b39) (av := [.inl v5]) (rs := []) hx hb hml hown hts hKn hRc hRs hS hl (sX1_lay l E D h39) (lw_V q701 q703 qs1 q113 q704) ⟨rfl, by decide, by decide, by decide +kernel⟩ ⟨by rw [hRf]; exact Nat.le_of_ble_eq_true rfl, by rw [hRl]; exact Nat.le_of_ble_eq_true rfl⟩ (g_recv hKn hS hk39 (by decide) (by decide)) rfl (by rw [hr39]; rfl) (Nat.le_of_ble_eq_true rfl) dX1_feed_39 (fun H locs cells slots hS => ?_)
    refine g_aload_n hx hb hl 0 rfl dX1_feed_42 ?_
    refine g_rdI hx hb hown hts hKn hS h fd_1_1_10 rfl (Or.inl (hts _ q607)) (fun _ z => z) dX1_feed_43 (fun x43 h => ?_)
    exact g_iretG hx hb hr hlk hKn hRc hRs hS h dX1_feed_46
  · have h := g_iff c_10 h
    refine lv_iconst (v := (-1)) hx hb dX1_feed_13 (by decide) ?_
    exact g_iretG hx hb hr hlk hKn hRc hRs hS h dX1_feed_14
