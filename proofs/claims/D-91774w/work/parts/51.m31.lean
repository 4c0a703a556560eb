set_option maxRecDepth 100000
/-- SendHall$Reader.number(II)I -/
def fX5_number_b49 (E : g_E) (t : Nat) (s0 : Option Nat) (s1 : Int32) (G : g_G) : Option ((Int32 × g_G) ⊕ gX) :=
  (gchk G 5 s0).bind fun b50 =>
  gcat (fX5_check E b50 s1 2 G) (fun z50 =>
    (grI z50 5 5 (some t) 4).bind fun x54 =>
    (gchk z50 5 (some t)).bind fun b59 =>
    (fX5_go E b59 z50).bind fun z59 =>
    some (.inl (x54, z59)))
  (fun y => some (.inr y))
def fX5_number_b48 (E : g_E) (t : Nat) (s0 : Option Nat) (G : g_G) : Option ((Int32 × g_G) ⊕ gX) :=
  fX5_number_b49 E t s0 0 G
def fX5_number_b16 (E : g_E) (t : Nat) (v1 : Int32) (v2 : Int32) (s0 : Option Nat) (s1 : Int32) (G : g_G) : Option ((Int32 × g_G) ⊕ gX) :=
  (gchk G 5 s0).bind fun b17 =>
  gcat (fX5_check E b17 s1 1 G) (fun z17 =>
    (grI z17 5 5 (some t) 7).bind fun x22 =>
    if ¬ x22 = 0 then (
      fX5_number_b48 E t (some t) z17)
    else (
      (grI z17 5 5 (some t) 4).bind fun x29 =>
      if x29 < v1 then (
        fX5_number_b48 E t (some t) z17)
      else (
        (grI z17 5 5 (some t) 4).bind fun x37 =>
        if v2 < x37 then (
          fX5_number_b48 E t (some t) z17)
        else (
          fX5_number_b49 E t (some t) 1 z17))))
  (fun y => some (.inr y))
def fX5_number (E : g_E) (t : Nat) (v1 : Int32) (v2 : Int32) (G : g_G) : Option ((Int32 × g_G) ⊕ gX) :=
  (grR G 5 5 (some t) 8).bind fun x2 =>
  if ¬ x2 = (some (gA E 2)) then (
    fX5_number_b16 E t v1 v2 (some t) 0 G)
  else (
    fX5_number_b16 E t v1 v2 (some t) 1 G)
theorem sX5_number_b49 {p : Program} {l : Launch} {e : Env} {R : Room} {s : State} {m : MethodId} {args : Array Value} {below : List Frame} {meth : Method} {c : Code} {E : g_E} {D : g_D} (C : gC p R s m args meth c cX5_number 4 RX5 "number" (some .int) 8 218 E D) (hlT : l.stackTraces = false) (htab : c.exceptionTable.toList = []) : ∀ (t : Nat) (s0 : Option Nat) (s1 : Int32) (G : g_G) (q : (Int32 × g_G) ⊕ gX), fX5_number_b49 E t s0 s1 G = some q → ∀ (H : Heap) (locs : List Loc) (cells slots : Nat) (ls : Array Slot), gSt E D G H locs → gls ls 4 [(0, .inr (.inr (some t)))] → gTX p l e R s m args below meth c E D H locs cells slots gokI q (F0 m 49 ls [.int s1, va_rf s0]) := by
  obtain ⟨hx, hb, hml, hown, hts, hKn, hRc, hRs, hc1, hc2, hRf, hRl, hr, hlk, hnm⟩ := id C
  intro t s0 s1 G q h H locs cells slots ls hS hl
  unfold fX5_number_b49 at h
  refine lv_iconst (v := 2) hx hb dX5_number_49 (by decide) ?_
  obtain ⟨b50, hb50, h⟩ := g_bnd h
  obtain ⟨hr50, hk50⟩ := g_chk hb50
  obtain ⟨o50, h50, ha50, hx50⟩ := g_catE h
  refine g_callVt (n := 2) (b := b50) (av := [.inl s1, .inl 2]) (rs := []) hx hb hml hown hts hKn hRc hRs hS hl (sX5_check l E D hlT h50) (lw_V q1363 q1365 qs27 q136 q1366) ⟨rfl, by decide, by decide, by decide +kernel⟩ ⟨by rw [hRf]; exact Nat.le_of_ble_eq_true rfl, by rw [hRl]; exact Nat.le_of_ble_eq_true rfl⟩ (g_recv hKn hS hk50 (by decide) (by decide)) rfl (by rw [hr50]; rfl) (Nat.le_of_ble_eq_true rfl) dX5_number_50 (fun z50 e50 H locs cells slots hS => ?_) (fun k50 a50 G50 e50 n1 n2 nk nB H locs cells slots hS => ?_)
  · have h := ha50 _ e50
    refine g_aload_n hx hb hl 0 rfl dX5_number_53 ?_
    refine g_rdI hx hb hown hts hKn hS h fd_5_5_4 rfl (Or.inl (hts _ q1237)) (fun _ z => z) dX5_number_54 (fun x54 h => ?_)
    refine g_istore_n (l1 := [(3, .inl x54), (0, .inr (.inr (some t)))]) hx hb hl (by decide) rfl dX5_number_57 (fun ls hl => ?_)
    refine g_aload_n hx hb hl 1 rfl dX5_number_58 ?_
    obtain ⟨b59, hb59, h⟩ := g_bnd h
    obtain ⟨hr59, hk59⟩ := g_chk hb59
    obtain ⟨z59, h59, h⟩ := g_bnd h
    refine g_callV (n := 0) (b := b59) (av := []) (rs := []) hx hb hml hown hts hKn hRc hRs hS hl (sX5_go l E D h59) (lw_V q1118 q1120 qs24 q136 q1121) ⟨rfl, by decide, by decide, by decide +kernel⟩ ⟨by rw [hRf]; exact Nat.le_of_ble_eq_true rfl, by rw [hRl]; exact Nat.le_of_ble_eq_true rfl⟩ (g_recv hKn hS hk59 (by decide) (by decide)) rfl (by rw [hr59]; rfl) (Nat.le_of_ble_eq_true rfl) dX5_number_59 (fun H locs cells slots hS => ?_)
    refine g_iload_n hx hb hl 0 rfl dX5_number_62 ?_
    exact g_retX (g_iretG hx hb hr hlk hKn hRc hRs hS (q := (x54, z59)) rfl dX5_number_63) h rfl
  · have h := hx50 _ e50
    exact g_outX (by rw [htab]; decide) hlk hKn hRc hRs hS n1 n2 nB nk h
theorem sX5_number_b48 {p : Program} {l : Launch} {e : Env} {R : Room} {s : State} {m : MethodId} {args : Array Value} {below : List Frame} {meth : Method} {c : Code} {E : g_E} {D : g_D} (C : gC p R s m args meth c cX5_number 4 RX5 "number" (some .int) 8 218 E D) (hlT : l.stackTraces = false) (htab : c.exceptionTable.toList = []) : ∀ (t : Nat) (s0 : Option Nat) (G : g_G) (q : (Int32 × g_G) ⊕ gX), fX5_number_b48 E t s0 G = some q → ∀ (H : Heap) (locs : List Loc) (cells slots : Nat) (ls : Array Slot), gSt E D G H locs → gls ls 4 [(0, .inr (.inr (some t)))] → gTX p l e R s m args below meth c E D H locs cells slots gokI q (F0 m 48 ls [va_rf s0]) := by
  obtain ⟨hx, hb, hml, hown, hts, hKn, hRc, hRs, hc1, hc2, hRf, hRl, hr, hlk, hnm⟩ := id C
  intro t s0 G q h H locs cells slots ls hS hl
  unfold fX5_number_b48 at h
  refine lv_iconst (v := 0) hx hb dX5_number_48 (by decide) ?_
  exact sX5_number_b49 C hlT htab _ _ _ _ _ h _ _ _ _ _ hS (gls_sub hl [0] rfl)
theorem sX5_number_b16 {p : Program} {l : Launch} {e : Env} {R : Room} {s : State} {m : MethodId} {args : Array Value} {below : List Frame} {meth : Method} {c : Code} {E : g_E} {D : g_D} (C : gC p R s m args meth c cX5_number 4 RX5 "number" (some .int) 8 218 E D) (hlT : l.stackTraces = false) (htab : c.exceptionTable.toList = []) : ∀ (t : Nat) (v1 : Int32) (v2 : Int32) (s0 : Option Nat) (s1 : Int32) (G : g_G) (q : (Int32 × g_G) ⊕ gX), fX5_number_b16 E t v1 v2 s0 s1 G = some q → ∀ (H : Heap) (locs : List Loc) (cells slots : Nat) (ls : Array Slot), gSt E D G H locs → gls ls 4 [(0, .inr (.inr (some t))), (1, .inl v1), (2, .inl v2)] → gTX p l e R s m args below meth c E D H locs cells slots gokI q (F0 m 16 ls [.int s1, va_rf s0]) := by
  obtain ⟨hx, hb, hml, hown, hts, hKn, hRc, hRs, hc1, hc2, hRf, hRl, hr, hlk, hnm⟩ := id C
  intro t v1 v2 s0 s1 G q h H locs cells slots ls hS hl
  unfold fX5_number_b16 at h
  refine lv_iconst (v := 1) hx hb dX5_number_16 (by decide) ?_
  obtain ⟨b17, hb17, h⟩ := g_bnd h
  obtain ⟨hr17, hk17⟩ := g_chk hb17
  obtain ⟨o17, h17, ha17, hx17⟩ := g_catE h
  refine g_callVt (n := 2) (b := b17) (av := [.inl s1, .inl 1]) (rs := []) hx hb hml hown hts hKn hRc hRs hS hl (sX5_check l E D hlT h17) (lw_V q1363 q1365 qs27 q136 q1366) ⟨rfl, by decide, by decide, by decide +kernel⟩ ⟨by rw [hRf]; exact Nat.le_of_ble_eq_true rfl, by rw [hRl]; exact Nat.le_of_ble_eq_true rfl⟩ (g_recv hKn hS hk17 (by decide) (by decide)) rfl (by rw [hr17]; rfl) (Nat.le_of_ble_eq_true rfl) dX5_number_17 (fun z17 e17 H locs cells slots hS => ?_) (fun k17 a17 G17 e17 n1 n2 nk nB H locs cells slots hS => ?_)
  · have h := ha17 _ e17
    refine g_aload_n hx hb hl 0 rfl dX5_number_20 ?_
    refine g_aload_n hx hb hl 0 rfl dX5_number_21 ?_
    refine g_rdI hx hb hown hts hKn hS h fd_5_5_7 rfl (Or.inl (hts _ q1240)) (fun _ z => z) dX5_number_22 (fun x22 h => ?_)
    refine lv_if_ne (tgt := 48) hx hb dX5_number_25 (by decide) (fun c_25 => ?_) (fun c_25 => ?_)
    · have h := g_ift c_25 h
      exact sX5_number_b48 C hlT htab _ _ _ _ h _ _ _ _ _ hS (gls_sub hl [0] rfl)
    · have h := g_iff (fun z => z c_25) h
      refine g_aload_n hx hb hl 0 rfl dX5_number_28 ?_
      refine g_rdI hx hb hown hts hKn hS h fd_5_5_4 rfl (Or.inl (hts _ q1237)) (fun _ z => z) dX5_number_29 (fun x29 h => ?_)
      refine g_iload_n hx hb hl 1 rfl dX5_number_32 ?_
      refine lv_icmp_lt (tgt := 48) hx hb dX5_number_33 (by decide) (fun c_33 => ?_) (fun c_33 => ?_)
      · have h := g_ift c_33 h
        exact sX5_number_b48 C hlT htab _ _ _ _ h _ _ _ _ _ hS (gls_sub hl [0] rfl)
      · have h := g_iff c_33 h
        refine g_aload_n hx hb hl 0 rfl dX5_number_36 ?_
        refine g_rdI hx hb hown hts hKn hS h fd_5_5_4 rfl (Or.inl (hts _ q1237)) (fun _ z => z) dX5_number_37 (fun x37 h => ?_)
        refine g_iload_n hx hb hl 2 rfl dX5_number_40 ?_
        refine lv_icmp_gt (tgt := 48) hx hb dX5_number_41 (by decide) (fun c_41 => ?_) (fun c_41 => ?_)
        · have h := g_ift c_41 h
          exact sX5_number_b48 C hlT htab _ _ _ _ h _ _ _ _ _ hS (gls_sub hl [0] rfl)
        · have h := g_iff c_41 h
          refine lv_iconst (v := 1) hx hb dX5_number_44 (by decide) ?_
          refine lv_goto (tgt := 49) hx hb dX5_number_45 (by decide) ?_
          exact sX5_number_b49 C hlT htab _ _ _ _ _ h _ _ _ _ _ hS (gls_sub hl [0] rfl)
  · have h := hx17 _ e17
    exact g_outX (by rw [htab]; decide) hlk hKn hRc hRs hS n1 n2 nB nk h
theorem sX5_number (l : Launch) (E : g_E) (D : g_D) (hlT : l.stackTraces = false) {t : Nat} {v1 : Int32} {v2 : Int32} {G : g_G} {q : (Int32 × g_G) ⊕ gX} (h : fX5_number E t v1 v2 G = some q) : gMetX l E D yX5_number (ws_ yX5_number cX5_number 4 (some .int)) 8 218 [.inr (.inr (some t)), .inl v1, .inl v2] G gokI q := by
  refine gMetX.of (by decide +kernel) (Nat.le_of_ble_eq_true rfl) ?_
  intro p e R s m args below meth c C htab hS ls hl
  have C : gC p R s m args meth c cX5_number 4 RX5 "number" (some .int) 8 218 E D := C
  obtain ⟨hx, hb, hml, hown, hts, hKn, hRc, hRs, hc1, hc2, hRf, hRl, hr, hlk, hnm⟩ := id C
  have hl : gls ls 4 [(0, .inr (.inr (some t))), (1, .inl v1), (2, .inl v2)] := hl
  generalize hH0 : s.heap = H at hS ⊢
  unfold fX5_number at h
  refine g_aload_n hx hb hl 0 rfl dX5_number_0 ?_
  refine g_aload_n hx hb hl 0 rfl dX5_number_1 ?_
  refine g_rdR hx hb hown hts hKn hS h fd_5_5_8 rfl (Or.inl (hts _ q1241)) (fun _ z => z) dX5_number_2 (fun x2 h => ?_)
  refine g_getsZ (C := "SendHall$Sort") (n := "NUMBER") (d := "LSendHall$Sort;") (v := va_rf (some (gA E 2))) hx hb hown (hKn.2.2.2.2.2.2.1 _ (List.mem_of_getElem? (i := 1) rfl)) hS (hts _ q1162) (fun _ z => z) dX5_number_5 ?_
  refine lv_acmp_ne (tgt := 15) hx hb dX5_number_8 (by decide) (fun c_8 => ?_) (fun c_8 => ?_)
  · have h := g_ift c_8 h
    refine lv_iconst (v := 0) hx hb dX5_number_15 (by decide) ?_
    exact sX5_number_b16 C hlT htab _ _ _ _ _ _ _ h _ _ _ _ _ hS (gls_sub hl [0, 1, 2] rfl)
  · have h := g_iff (fun z => z c_8) h
    refine lv_iconst (v := 1) hx hb dX5_number_11 (by decide) ?_
    refine lv_goto (tgt := 16) hx hb dX5_number_12 (by decide) ?_
    exact sX5_number_b16 C hlT htab _ _ _ _ _ _ _ h _ _ _ _ _ hS (gls_sub hl [0, 1, 2] rfl)
/-- SendHall$Reader.part()LSendHall$Expr; -/
def fX5_part_b169 (E : g_E) (fE : g_E → Nat → g_G → Option ((Option Nat × g_G) ⊕ gX)) (t : Nat) (v1 : Int32) (s0 : Option Nat) (s1 : Int32) (G : g_G) : Option ((Option Nat × g_G) ⊕ gX) :=
  (gchk G 5 s0).bind fun b170 =>
  gcat (fX5_check E b170 s1 3 G) (fun z170 =>
    (gchk z170 5 (some t)).bind fun b174 =>
    (fX5_go E b174 z170).bind fun z174 =>
    (gnewO E z174 10 1).bind fun z177 =>
    (fX12_init E z177.1 v1 z177.2).bind fun z182 =>
    some (.inl ((some z177.1), z182)))
  (fun y => some (.inr y))
def fX5_part_b146 (E : g_E) (fE : g_E → Nat → g_G → Option ((Option Nat × g_G) ⊕ gX)) (t : Nat) (s0 : Option Nat) (s1 : Int32) (G : g_G) : Option ((Option Nat × g_G) ⊕ gX) :=
  (gchk G 5 s0).bind fun b147 =>
  gcat (fX5_check E b147 s1 1 G) (fun z147 =>
    (grR z147 5 5 (some t) 9).bind fun x151 =>
    (fX5_valueOf E x151 z147).bind fun z154 =>
    if z154.1 = (-1 : Int32) then (
      fX5_part_b169 E fE t z154.1 (some t) 0 z154.2)
    else (
      fX5_part_b169 E fE t z154.1 (some t) 1 z154.2))
  (fun y => some (.inr y))
def fX5_part (E : g_E) (fE : g_E → Nat → g_G → Option ((Option Nat × g_G) ⊕ gX)) (t : Nat) (G : g_G) : Option ((Option Nat × g_G) ⊕ gX) :=
  (grI G 5 5 (some t) 6).bind fun x1 =>
  if x1 ≤ (6 : Int32) then (
    (grR G 5 5 (some t) 8).bind fun x57 =>
    if ¬ x57 = (some (gA E 2)) then (
      (gchk G 5 (some t)).bind fun b86 =>
      (fX5_is E b86 (some (gA E 33)) G).bind fun z86 =>
      if z86.1 = 0 then (
        (grR z86.2 5 5 (some t) 8).bind fun x132 =>
        if ¬ x132 = (some (gA E 1)) then (
          fX5_part_b146 E fE t (some t) 0 z86.2)
        else (
          fX5_part_b146 E fE t (some t) 1 z86.2))
      else (
        (gchk z86.2 5 (some t)).bind fun b93 =>
        (fX5_go E b93 z86.2).bind fun z93 =>
        (grI z93 5 5 (some t) 6).bind fun x98 =>
        (gpI E z93 5 5 (some t) 6 (x98 + 1)).bind fun G103 =>
        (gchk G103 5 (some t)).bind fun b107 =>
        gcat (fE E b107 G103) (fun z107 =>
          (grI z107.2 5 5 (some t) 6).bind fun x113 =>
          (gpI E z107.2 5 5 (some t) 6 (x113 - 1)).bind fun G118 =>
          (gchk G118 5 (some t)).bind fun b125 =>
          gcat (fX5_need E b125 (some (gA E 36)) G118) (fun z125 =>
            some (.inl (z107.1, z125)))
          (fun y => some (.inr y)))
        (fun y => some (.inr y))))
    else (
      (gnewO E G 8 1).bind fun z66 =>
      (gchk z66.2 5 (some t)).bind fun b75 =>
      gcat (fX5_number E b75 0 9999 z66.2) (fun z75 =>
        (fX10_init E z66.1 z75.1 z75.2).bind fun z78 =>
        some (.inl ((some z66.1), z78)))
      (fun y => some (.inr y))))
  else (
    (gnewO E G 6 8).bind fun z9 =>
    (grR z9.2 5 5 (some t) 8).bind fun x14 =>
    if x14 = (some (gA E 2)) then (
      (grI z9.2 5 5 (some t) 3).bind fun x49 =>
      (fX6_init E z9.1 2 x49 z9.2).bind fun z52 =>
      (gthr E z52 6 (some z9.1)).bind fun b55 => some (.inr (6, b55, z52)))
    else (
      (grR z9.2 5 5 (some t) 8).bind fun x24 =>
      if x24 = (some (gA E 1)) then (
        (grI z9.2 5 5 (some t) 3).bind fun x49 =>
        (fX6_init E z9.1 2 x49 z9.2).bind fun z52 =>
        (gthr E z52 6 (some z9.1)).bind fun b55 => some (.inr (6, b55, z52)))
      else (
        (gchk z9.2 5 (some t)).bind fun b37 =>
        (fX5_is E b37 (some (gA E 33)) z9.2).bind fun z37 =>
        if z37.1 = 0 then (
          (grI z37.2 5 5 (some t) 3).bind fun x49 =>
          (fX6_init E z9.1 1 x49 z37.2).bind fun z52 =>
          (gthr E z52 6 (some z9.1)).bind fun b55 => some (.inr (6, b55, z52)))
        else (
          (grI z37.2 5 5 (some t) 3).bind fun x49 =>
          (fX6_init E z9.1 2 x49 z37.2).bind fun z52 =>
          (gthr E z52 6 (some z9.1)).bind fun b55 => some (.inr (6, b55, z52))))))
theorem sX5_part_b169 {p : Program} {l : Launch} {e : Env} {R : Room} {s : State} {m : MethodId} {args : Array Value} {below : List Frame} {meth : Method} {c : Code} {E : g_E} {D : g_D} {fE : g_E → Nat → g_G → Option ((Option Nat × g_G) ⊕ gX)} {fF : Nat} {fL : Nat} (C : gC p R s m args meth c cX5_part 2 RX5 "part" (some (.object "SendHall$Expr")) (fF + 2) (fL + 100) E D) (hlT : l.stackTraces = false) (htab : c.exceptionTable.toList = []) (hfE : ∀ (l : Launch) (E : g_E) (D : g_D), l.stackTraces = false → ∀ {t : Nat} {G : g_G} {q : (Option Nat × g_G) ⊕ gX}, fE E t G = some q → gMetX l E D yX5_expr (ws_ yX5_expr cX5_expr 4 (some (.object "SendHall$Expr"))) fF fL [.inr (.inr (some t))] G gokA q) (hF : 60 ≤ fF) (hL : 3000 ≤ fL) : ∀ (t : Nat) (v1 : Int32) (s0 : Option Nat) (s1 : Int32) (G : g_G) (q : (Option Nat × g_G) ⊕ gX), fX5_part_b169 E fE t v1 s0 s1 G = some q → ∀ (H : Heap) (locs : List Loc) (cells slots : Nat) (ls : Array Slot), gSt E D G H locs → gls ls 2 [(0, .inr (.inr (some t))), (1, .inl v1)] → gTX p l e R s m args below meth c E D H locs cells slots gokA q (F0 m 169 ls [.int s1, va_rf s0]) := by
  obtain ⟨hx, hb, hml, hown, hts, hKn, hRc, hRs, hc1, hc2, hRf, hRl, hr, hlk, hnm⟩ := id C
  intro t v1 s0 s1 G q h H locs cells slots ls hS hl
  unfold fX5_part_b169 at h
  refine lv_iconst (v := 3) hx hb dX5_part_169 (by decide) ?_
  obtain ⟨b170, hb170, h⟩ := g_bnd h
  obtain ⟨hr170, hk170⟩ := g_chk hb170
  obtain ⟨o170, h170, ha170, hx170⟩ := g_catE h
  refine g_callVt (n := 2) (b := b170) (av := [.inl s1, .inl 3]) (rs := []) hx hb hml hown hts hKn hRc hRs hS hl (sX5_check l E D hlT h170) (lw_V q1363 q1365 qs27 q136 q1366) ⟨rfl, by decide, by decide, by decide +kernel⟩ ⟨by rw [hRf]; omega, by rw [hRl]; omega⟩ (g_recv hKn hS hk170 (by decide) (by decide)) rfl (by rw [hr170]; rfl) (Nat.le_of_ble_eq_true rfl) dX5_part_170 (fun z170 e170 H locs cells slots hS => ?_) (fun k170 a170 G170 e170 n1 n2 nk nB H locs cells slots hS => ?_)
  · have h := ha170 _ e170
    refine g_aload_n hx hb hl 0 rfl dX5_part_173 ?_
    obtain ⟨b174, hb174, h⟩ := g_bnd h
    obtain ⟨hr174, hk174⟩ := g_chk hb174
    obtain ⟨z174, h174, h⟩ := g_bnd h
    refine g_callV (n := 0) (b := b174) (av := []) (rs := []) hx hb hml hown hts hKn hRc hRs hS hl (sX5_go l E D h174) (lw_V q1118 q1120 qs24 q136 q1121) ⟨rfl, by decide, by decide, by decide +kernel⟩ ⟨by rw [hRf]; omega, by rw [hRl]; omega⟩ (g_recv hKn hS hk174 (by decide) (by decide)) rfl (by rw [hr174]; rfl) (Nat.le_of_ble_eq_true rfl) dX5_part_174 (fun H locs cells slots hS => ?_)
    refine g_newG (k := 10) hx hb hown hts hKn hRc hRs hS h (by decide) (by decide) (hts _ q1568) (hts _ q1569) (hts _ q147) dX5_part_177 (fun z177 h H locs cells slots hS => ?_)
    refine lv_dup hx hb dX5_part_180 (by first | exact va_rf_cat _ | rfl | exact g_catA _) ?_
    refine g_iload_n hx hb hl 1 rfl dX5_part_181 ?_
    obtain ⟨z182, h182, h⟩ := g_bnd h
    refine g_callI (n := 1) (av := [.inl v1]) (rs := [.inr (.inr (some z177.1))]) hx hb hml hown hts hKn hRc hRs hS hl (sX12_init l E D h182) (lw_meth q1572) (hts _ q147) (hts _ q1570) (hts _ q1571) rfl ⟨by decide, by decide, by decide +kernel⟩ ⟨by rw [hRf]; omega, by rw [hRl]; omega⟩ rfl rfl (Nat.le_of_ble_eq_true rfl) dX5_part_182 (fun H locs cells slots hS => ?_)
    exact g_retX (g_aretG hx hb hr (by first | exact Or.inl ⟨_, rfl⟩ | exact Or.inr ⟨_, rfl⟩) hlk hKn hRc hRs hS (q := ((some z177.1), z182)) rfl dX5_part_185) h rfl
  · have h := hx170 _ e170
    exact g_outX (by rw [htab]; decide) hlk hKn hRc hRs hS n1 n2 nB nk h
theorem sX5_part_b146 {p : Program} {l : Launch} {e : Env} {R : Room} {s : State} {m : MethodId} {args : Array Value} {below : List Frame} {meth : Method} {c : Code} {E : g_E} {D : g_D} {fE : g_E → Nat → g_G → Option ((Option Nat × g_G) ⊕ gX)} {fF : Nat} {fL : Nat} (C : gC p R s m args meth c cX5_part 2 RX5 "part" (some (.object "SendHall$Expr")) (fF + 2) (fL + 100) E D) (hlT : l.stackTraces = false) (htab : c.exceptionTable.toList = []) (hfE : ∀ (l : Launch) (E : g_E) (D : g_D), l.stackTraces = false → ∀ {t : Nat} {G : g_G} {q : (Option Nat × g_G) ⊕ gX}, fE E t G = some q → gMetX l E D yX5_expr (ws_ yX5_expr cX5_expr 4 (some (.object "SendHall$Expr"))) fF fL [.inr (.inr (some t))] G gokA q) (hF : 60 ≤ fF) (hL : 3000 ≤ fL) : ∀ (t : Nat) (s0 : Option Nat) (s1 : Int32) (G : g_G) (q : (Option Nat × g_G) ⊕ gX), fX5_part_b146 E fE t s0 s1 G = some q → ∀ (H : Heap) (locs : List Loc) (cells slots : Nat) (ls : Array Slot), gSt E D G H locs → gls ls 2 [(0, .inr (.inr (some t)))] → gTX p l e R s m args below meth c E D H locs cells slots gokA q (F0 m 146 ls [.int s1, va_rf s0]) := by
  obtain ⟨hx, hb, hml, hown, hts, hKn, hRc, hRs, hc1, hc2, hRf, hRl, hr, hlk, hnm⟩ := id C
  intro t s0 s1 G q h H locs cells slots ls hS hl
  unfold fX5_part_b146 at h
  refine lv_iconst (v := 1) hx hb dX5_part_146 (by decide) ?_
  obtain ⟨b147, hb147, h⟩ := g_bnd h
  obtain ⟨hr147, hk147⟩ := g_chk hb147
  obtain ⟨o147, h147, ha147, hx147⟩ := g_catE h
  refine g_callVt (n := 2) (b := b147) (av := [.inl s1, .inl 1]) (rs := []) hx hb hml hown hts hKn hRc hRs hS hl (sX5_check l E D hlT h147) (lw_V q1363 q1365 qs27 q136 q1366) ⟨rfl, by decide, by decide, by decide +kernel⟩ ⟨by rw [hRf]; omega, by rw [hRl]; omega⟩ (g_recv hKn hS hk147 (by decide) (by decide)) rfl (by rw [hr147]; rfl) (Nat.le_of_ble_eq_true rfl) dX5_part_147 (fun z147 e147 H locs cells slots hS => ?_) (fun k147 a147 G147 e147 n1 n2 nk nB H locs cells slots hS => ?_)
  · have h := ha147 _ e147
    refine g_aload_n hx hb hl 0 rfl dX5_part_150 ?_
    refine g_rdR hx hb hown hts hKn hS h fd_5_5_9 rfl (Or.inl (hts _ q1242)) (fun _ z => z) dX5_part_151 (fun x151 h => ?_)
    obtain ⟨z154, h154, h⟩ := g_bnd h
    refine g_callS (n := 1) (av := [.inr (.inr x151)]) (rs := []) hx hb hml hown hts hKn hRc hRs hS hl (sX5_valueOf l E D h154) (lw_S q1558 q1559 q136 q1560) ⟨by decide, by decide, by decide +kernel⟩ ⟨by rw [hRf]; omega, by rw [hRl]; omega⟩ rfl rfl (Nat.le_of_ble_eq_true rfl) dX5_part_154 (fun H locs cells slots hS => ?_)
    refine g_istore_n (l1 := [(1, .inl z154.1), (0, .inr (.inr (some t)))]) hx hb hl (by decide) rfl dX5_part_157 (fun ls hl => ?_)
    refine g_aload_n hx hb hl 1 rfl dX5_part_158 ?_
    refine g_iload_n hx hb hl 0 rfl dX5_part_159 ?_
    refine lv_iconst (v := (-1)) hx hb dX5_part_160 (by decide) ?_
    refine lv_icmp_eq (tgt := 168) hx hb dX5_part_161 (by decide) (fun c_161 => ?_) (fun c_161 => ?_)
    · have h := g_ift c_161 h
      refine lv_iconst (v := 0) hx hb dX5_part_168 (by decide) ?_
      exact sX5_part_b169 C hlT htab hfE hF hL _ _ _ _ _ _ h _ _ _ _ _ hS (gls_sub hl [1, 0] rfl)
    · have h := g_iff c_161 h
      refine lv_iconst (v := 1) hx hb dX5_part_164 (by decide) ?_
      refine lv_goto (tgt := 169) hx hb dX5_part_165 (by decide) ?_
      exact sX5_part_b169 C hlT htab hfE hF hL _ _ _ _ _ _ h _ _ _ _ _ hS (gls_sub hl [1, 0] rfl)
  · have h := hx147 _ e147
    exact g_outX (by rw [htab]; decide) hlk hKn hRc hRs hS n1 n2 nB nk h
theorem sX5_part (l : Launch) (E : g_E) (D : g_D) (hlT : l.stackTraces = false) {fE : g_E → Nat → g_G → Option ((Option Nat × g_G) ⊕ gX)} {fF : Nat} {fL : Nat} (hfE : ∀ (l : Launch) (E : g_E) (D : g_D), l.stackTraces = false → ∀ {t : Nat} {G : g_G} {q : (Option Nat × g_G) ⊕ gX}, fE E t G = some q → gMetX l E D yX5_expr (ws_ yX5_expr cX5_expr 4 (some (.object "SendHall$Expr"))) fF fL [.inr (.inr (some t))] G gokA q) (hF : 60 ≤ fF) (hL : 3000 ≤ fL) {t : Nat} {G : g_G} {q : (Option Nat × g_G) ⊕ gX} (h : fX5_part E fE t G = some q) : gMetX l E D yX5_part (ws_ yX5_part cX5_part 2 (some (.object "SendHall$Expr"))) (fF + 2) (fL + 100) [.inr (.inr (some t))] G gokA q := by
  refine gMetX.of (by decide +kernel) (Nat.le_of_ble_eq_true rfl) ?_
  intro p e R s m args below meth c C htab hS ls hl
  have C : gC p R s m args meth c cX5_part 2 RX5 "part" (some (.object "SendHall$Expr")) (fF + 2) (fL + 100) E D := C
  obtain ⟨hx, hb, hml, hown, hts, hKn, hRc, hRs, hc1, hc2, hRf, hRl, hr, hlk, hnm⟩ := id C
  have hl : gls ls 2 [(0, .inr (.inr (some t)))] := hl
  generalize hH0 : s.heap = H at hS ⊢
  unfold fX5_part at h
  refine g_aload_n hx hb hl 0 rfl dX5_part_0 ?_
  refine g_rdI hx hb hown hts hKn hS h fd_5_5_6 rfl (Or.inl (hts _ q1239)) (fun _ z => z) dX5_part_1 (fun x1 h => ?_)
  refine lv_bipush (v := 6) hx hb dX5_part_4 (by decide) ?_
  refine lv_icmp_le (tgt := 56) hx hb dX5_part_6 (by decide) (fun c_6 => ?_) (fun c_6 => ?_)
  · have h := g_ift c_6 h
    refine g_aload_n hx hb hl 0 rfl dX5_part_56 ?_
    refine g_rdR hx hb hown hts hKn hS h fd_5_5_8 rfl (Or.inl (hts _ q1241)) (fun _ z => z) dX5_part_57 (fun x57 h => ?_)
    refine g_getsZ (C := "SendHall$Sort") (n := "NUMBER") (d := "LSendHall$Sort;") (v := va_rf (some (gA E 2))) hx hb hown (hKn.2.2.2.2.2.2.1 _ (List.mem_of_getElem? (i := 1) rfl)) hS (hts _ q1162) (fun _ z => z) dX5_part_60 ?_
    refine lv_acmp_ne (tgt := 82) hx hb dX5_part_63 (by decide) (fun c_63 => ?_) (fun c_63 => ?_)
    · have h := g_ift c_63 h
      refine g_aload_n hx hb hl 0 rfl dX5_part_82 ?_
      refine g_ldcwS (i := 33) hx hb hown hKn (List.mem_of_getElem? (i := 13) rfl) dX5_part_83 ?_
      obtain ⟨b86, hb86, h⟩ := g_bnd h
      obtain ⟨hr86, hk86⟩ := g_chk hb86
      obtain ⟨z86, h86, h⟩ := g_bnd h
      refine g_callV (n := 1) (b := b86) (av := [.inr (.inr (some (gA E 33)))]) (rs := []) hx hb hml hown hts hKn hRc hRs hS hl (sX5_is l E D h86) (lw_V q1483 q1485 qs34 q136 q1486) ⟨rfl, by decide, by decide, by decide +kernel⟩ ⟨by rw [hRf]; omega, by rw [hRl]; omega⟩ (g_recv hKn hS hk86 (by decide) (by decide)) rfl (by rw [hr86]; rfl) (Nat.le_of_ble_eq_true rfl) dX5_part_86 (fun H locs cells slots hS => ?_)
      refine lv_if_eq (tgt := 130) hx hb dX5_part_89 (by decide) (fun c_89 => ?_) (fun c_89 => ?_)
      · have h := g_ift c_89 h
        refine g_aload_n hx hb hl 0 rfl dX5_part_130 ?_
        refine g_aload_n hx hb hl 0 rfl dX5_part_131 ?_
        refine g_rdR hx hb hown hts hKn hS h fd_5_5_8 rfl (Or.inl (hts _ q1241)) (fun _ z => z) dX5_part_132 (fun x132 h => ?_)
        refine g_getsZ (C := "SendHall$Sort") (n := "WORD") (d := "LSendHall$Sort;") (v := va_rf (some (gA E 1))) hx hb hown (hKn.2.2.2.2.2.2.1 _ (List.mem_of_getElem? (i := 0) rfl)) hS (hts _ q1157) (fun _ z => z) dX5_part_135 ?_
        refine lv_acmp_ne (tgt := 145) hx hb dX5_part_138 (by decide) (fun c_138 => ?_) (fun c_138 => ?_)
        · have h := g_ift c_138 h
          refine lv_iconst (v := 0) hx hb dX5_part_145 (by decide) ?_
          exact sX5_part_b146 C hlT htab hfE hF hL _ _ _ _ _ h _ _ _ _ _ hS (gls_sub hl [0] rfl)
        · have h := g_iff (fun z => z c_138) h
          refine lv_iconst (v := 1) hx hb dX5_part_141 (by decide) ?_
          refine lv_goto (tgt := 146) hx hb dX5_part_142 (by decide) ?_
          exact sX5_part_b146 C hlT htab hfE hF hL _ _ _ _ _ h _ _ _ _ _ hS (gls_sub hl [0] rfl)
      · have h := g_iff c_89 h
        refine g_aload_n hx hb hl 0 rfl dX5_part_92 ?_
        obtain ⟨b93, hb93, h⟩ := g_bnd h
        obtain ⟨hr93, hk93⟩ := g_chk hb93
        obtain ⟨z93, h93, h⟩ := g_bnd h
        refine g_callV (n := 0) (b := b93) (av := []) (rs := []) hx hb hml hown hts hKn hRc hRs hS hl (sX5_go l E D h93) (lw_V q1118 q1120 qs24 q136 q1121) ⟨rfl, by decide, by decide, by decide +kernel⟩ ⟨by rw [hRf]; omega, by rw [hRl]; omega⟩ (g_recv hKn hS hk93 (by decide) (by decide)) rfl (by rw [hr93]; rfl) (Nat.le_of_ble_eq_true rfl) dX5_part_93 (fun H locs cells slots hS => ?_)
        refine g_aload_n hx hb hl 0 rfl dX5_part_96 ?_
        refine lv_dup hx hb dX5_part_97 (by first | exact va_rf_cat _ | rfl | exact g_catA _) ?_
        refine g_rdI hx hb hown hts hKn hS h fd_5_5_6 rfl (Or.inl (hts _ q1239)) (fun _ z => z) dX5_part_98 (fun x98 h => ?_)
        refine lv_iconst (v := 1) hx hb dX5_part_101 (by decide) ?_
        refine lv_iadd hx hb dX5_part_102 ?_
        refine g_ptI hx hb hown hts hKn hS h fd_5_5_6 (Or.inl (hts _ q1239)) (fun _ z => z) (fun z => nomatch z) dX5_part_103 (fun G103 h H locs hS => ?_)
        refine g_aload_n hx hb hl 0 rfl dX5_part_106 ?_
        obtain ⟨b107, hb107, h⟩ := g_bnd h
        obtain ⟨hr107, hk107⟩ := g_chk hb107
        obtain ⟨o107, h107, ha107, hx107⟩ := g_catE h
        refine g_callVt (n := 0) (b := b107) (av := []) (rs := []) hx hb hml hown hts hKn hRc hRs hS hl (hfE l E D hlT h107) (lw_V q1501 q1503 qs36 q136 q1504) ⟨rfl, by decide, by decide, by decide +kernel⟩ ⟨by rw [hRf]; omega, by rw [hRl]; omega⟩ (g_recv hKn hS hk107 (by decide) (by decide)) rfl (by rw [hr107]; rfl) (Nat.le_of_ble_eq_true rfl) dX5_part_107 (fun z107 e107 H locs cells slots hS => ?_) (fun k107 a107 G107 e107 n1 n2 nk nB H locs cells slots hS => ?_)
        · have h := ha107 _ e107
          refine g_astore_n (l1 := [(1, .inr (.inr z107.1)), (0, .inr (.inr (some t)))]) hx hb hl (by decide) rfl dX5_part_110 (fun ls hl => ?_)
          refine g_aload_n hx hb hl 1 rfl dX5_part_111 ?_
          refine lv_dup hx hb dX5_part_112 (by first | exact va_rf_cat _ | rfl | exact g_catA _) ?_
          refine g_rdI hx hb hown hts hKn hS h fd_5_5_6 rfl (Or.inl (hts _ q1239)) (fun _ z => z) dX5_part_113 (fun x113 h => ?_)
          refine lv_iconst (v := 1) hx hb dX5_part_116 (by decide) ?_
          refine lv_isub hx hb dX5_part_117 ?_
          refine g_ptI hx hb hown hts hKn hS h fd_5_5_6 (Or.inl (hts _ q1239)) (fun _ z => z) (fun z => nomatch z) dX5_part_118 (fun G118 h H locs hS => ?_)
          refine g_aload_n hx hb hl 1 rfl dX5_part_121 ?_
          refine g_ldcwS (i := 36) hx hb hown hKn (List.mem_of_getElem? (i := 16) rfl) dX5_part_122 ?_
          obtain ⟨b125, hb125, h⟩ := g_bnd h
          obtain ⟨hr125, hk125⟩ := g_chk hb125
          obtain ⟨o125, h125, ha125, hx125⟩ := g_catE h
          refine g_callVt (n := 1) (b := b125) (av := [.inr (.inr (some (gA E 36)))]) (rs := []) hx hb hml hown hts hKn hRc hRs hS hl (sX5_need l E D hlT h125) (lw_V q1554 q1556 qs37 q136 q1557) ⟨rfl, by decide, by decide, by decide +kernel⟩ ⟨by rw [hRf]; omega, by rw [hRl]; omega⟩ (g_recv hKn hS hk125 (by decide) (by decide)) rfl (by rw [hr125]; rfl) (Nat.le_of_ble_eq_true rfl) dX5_part_125 (fun z125 e125 H locs cells slots hS => ?_) (fun k125 a125 G125 e125 n1 n2 nk nB H locs cells slots hS => ?_)
          · have h := ha125 _ e125
            refine g_aload_n hx hb hl 0 rfl dX5_part_128 ?_
            exact g_retX (g_aretG hx hb hr (by first | exact Or.inl ⟨_, rfl⟩ | exact Or.inr ⟨_, rfl⟩) hlk hKn hRc hRs hS (q := (z107.1, z125)) rfl dX5_part_129) h rfl
          · have h := hx125 _ e125
            exact g_outX (by rw [htab]; decide) hlk hKn hRc hRs hS n1 n2 nB nk h
        · have h := hx107 _ e107
          exact g_outX (by rw [htab]; decide) hlk hKn hRc hRs hS n1 n2 nB nk h
    · have h := g_iff (fun z => z c_63) h
      refine g_newG (k := 8) hx hb hown hts hKn hRc hRs hS h (by decide) (by decide) (hts _ q1487) (hts _ q1488) (hts _ q144) dX5_part_66 (fun z66 h H locs cells slots hS => ?_)
      refine lv_dup hx hb dX5_part_69 (by first | exact va_rf_cat _ | rfl | exact g_catA _) ?_
      refine g_aload_n hx hb hl 0 rfl dX5_part_70 ?_
      refine lv_iconst (v := 0) hx hb dX5_part_71 (by decide) ?_
      refine lv_sipush (v := 9999) hx hb dX5_part_72 (by decide) ?_
      obtain ⟨b75, hb75, h⟩ := g_bnd h
      obtain ⟨hr75, hk75⟩ := g_chk hb75
      obtain ⟨o75, h75, ha75, hx75⟩ := g_catE h
      refine g_callVt (n := 2) (b := b75) (av := [.inl 0, .inl 9999]) (rs := [.inr (.inr (some z66.1)), .inr (.inr (some z66.1))]) hx hb hml hown hts hKn hRc hRs hS hl (sX5_number l E D hlT h75) (lw_V q1489 q1491 qs35 q136 q1492) ⟨rfl, by decide, by decide, by decide +kernel⟩ ⟨by rw [hRf]; omega, by rw [hRl]; omega⟩ (g_recv hKn hS hk75 (by decide) (by decide)) rfl (by rw [hr75]; rfl) (Nat.le_of_ble_eq_true rfl) dX5_part_75 (fun z75 e75 H locs cells slots hS => ?_) (fun k75 a75 G75 e75 n1 n2 nk nB H locs cells slots hS => ?_)
      · have h := ha75 _ e75
        obtain ⟨z78, h78, h⟩ := g_bnd h
        refine g_callI (n := 1) (av := [.inl z75.1]) (rs := [.inr (.inr (some z66.1))]) hx hb hml hown hts hKn hRc hRs hS hl (sX10_init l E D h78) (lw_meth q1495) (hts _ q144) (hts _ q1493) (hts _ q1494) rfl ⟨by decide, by decide, by decide +kernel⟩ ⟨by rw [hRf]; omega, by rw [hRl]; omega⟩ rfl rfl (Nat.le_of_ble_eq_true rfl) dX5_part_78 (fun H locs cells slots hS => ?_)
        exact g_retX (g_aretG hx hb hr (by first | exact Or.inl ⟨_, rfl⟩ | exact Or.inr ⟨_, rfl⟩) hlk hKn hRc hRs hS (q := ((some z66.1), z78)) rfl dX5_part_81) h rfl
      · have h := hx75 _ e75
        exact g_outX (by rw [htab]; decide) hlk hKn hRc hRs hS n1 n2 nB nk h
  · have h := g_iff c_6 h
    refine g_newG (k := 6) hx hb hown hts hKn hRc hRs hS h (by decide) (by decide) (hts _ q1367) (hts _ q1368) (hts _ q140) dX5_part_9 (fun z9 h H locs cells slots hS => ?_)
    refine lv_dup hx hb dX5_part_12 (by first | exact va_rf_cat _ | rfl | exact g_catA _) ?_
    refine g_aload_n hx hb hl 0 rfl dX5_part_13 ?_
    refine g_rdR hx hb hown hts hKn hS h fd_5_5_8 rfl (Or.inl (hts _ q1241)) (fun _ z => z) dX5_part_14 (fun x14 h => ?_)
    refine g_getsZ (C := "SendHall$Sort") (n := "NUMBER") (d := "LSendHall$Sort;") (v := va_rf (some (gA E 2))) hx hb hown (hKn.2.2.2.2.2.2.1 _ (List.mem_of_getElem? (i := 1) rfl)) hS (hts _ q1162) (fun _ z => z) dX5_part_17 ?_
    refine lv_acmp_eq (tgt := 43) hx hb dX5_part_20 (by decide) (fun c_20 => ?_) (fun c_20 => ?_)
    · have h := g_ift c_20 h
      refine lv_iconst (v := 2) hx hb dX5_part_43 (by decide) ?_
      refine lv_goto (tgt := 48) hx hb dX5_part_44 (by decide) ?_
      refine g_aload_n hx hb hl 0 rfl dX5_part_48 ?_
      refine g_rdI hx hb hown hts hKn hS h fd_5_5_3 rfl (Or.inl (hts _ q1236)) (fun _ z => z) dX5_part_49 (fun x49 h => ?_)
      obtain ⟨z52, h52, h⟩ := g_bnd h
      refine g_callI (n := 2) (av := [.inl 2, .inl x49]) (rs := [.inr (.inr (some z9.1))]) hx hb hml hown hts hKn hRc hRs hS hl (sX6_init l E D hlT h52) (lw_meth q1378) (hts _ q140) (hts _ q1376) (hts _ q1377) rfl ⟨by decide, by decide, by decide +kernel⟩ ⟨by rw [hRf]; omega, by rw [hRl]; omega⟩ rfl rfl (Nat.le_of_ble_eq_true rfl) dX5_part_52 (fun H locs cells slots hS => ?_)
      obtain ⟨b55, hb55, h⟩ := g_bnd h
      obtain ⟨hr55, hk55, hB55⟩ := g_thr hb55
      cases hr55
      exact g_throwX hx hb dX5_part_55 (g_outX (by rw [htab]; decide) hlk hKn hRc hRs hS (by decide) (by decide) hB55 hk55 h)
    · have h := g_iff c_20 h
      refine g_aload_n hx hb hl 0 rfl dX5_part_23 ?_
      refine g_rdR hx hb hown hts hKn hS h fd_5_5_8 rfl (Or.inl (hts _ q1241)) (fun _ z => z) dX5_part_24 (fun x24 h => ?_)
      refine g_getsZ (C := "SendHall$Sort") (n := "WORD") (d := "LSendHall$Sort;") (v := va_rf (some (gA E 1))) hx hb hown (hKn.2.2.2.2.2.2.1 _ (List.mem_of_getElem? (i := 0) rfl)) hS (hts _ q1157) (fun _ z => z) dX5_part_27 ?_
      refine lv_acmp_eq (tgt := 43) hx hb dX5_part_30 (by decide) (fun c_30 => ?_) (fun c_30 => ?_)
      · have h := g_ift c_30 h
        refine lv_iconst (v := 2) hx hb dX5_part_43 (by decide) ?_
        refine lv_goto (tgt := 48) hx hb dX5_part_44 (by decide) ?_
        refine g_aload_n hx hb hl 0 rfl dX5_part_48 ?_
        refine g_rdI hx hb hown hts hKn hS h fd_5_5_3 rfl (Or.inl (hts _ q1236)) (fun _ z => z) dX5_part_49 (fun x49 h => ?_)
        obtain ⟨z52, h52, h⟩ := g_bnd h
        refine g_callI (n := 2) (av := [.inl 2, .inl x49]) (rs := [.inr (.inr (some z9.1))]) hx hb hml hown hts hKn hRc hRs hS hl (sX6_init l E D hlT h52) (lw_meth q1378) (hts _ q140) (hts _ q1376) (hts _ q1377) rfl ⟨by decide, by decide, by decide +kernel⟩ ⟨by rw [hRf]; omega, by rw [hRl]; omega⟩ rfl rfl (Nat.le_of_ble_eq_true rfl) dX5_part_52 (fun H locs cells slots hS => ?_)
        obtain ⟨b55, hb55, h⟩ := g_bnd h
        obtain ⟨hr55, hk55, hB55⟩ := g_thr hb55
        cases hr55
        exact g_throwX hx hb dX5_part_55 (g_outX (by rw [htab]; decide) hlk hKn hRc hRs hS (by decide) (by decide) hB55 hk55 h)
      · have h := g_iff c_30 h
        refine g_aload_n hx hb hl 0 rfl dX5_part_33 ?_
        refine g_ldcwS (i := 33) hx hb hown hKn (List.mem_of_getElem? (i := 13) rfl) dX5_part_34 ?_
        obtain ⟨b37, hb37, h⟩ := g_bnd h
        obtain ⟨hr37, hk37⟩ := g_chk hb37
        obtain ⟨z37, h37, h⟩ := g_bnd h
        refine g_callV (n := 1) (b := b37) (av := [.inr (.inr (some (gA E 33)))]) (rs := [.inr (.inr (some z9.1)), .inr (.inr (some z9.1))]) hx hb hml hown hts hKn hRc hRs hS hl (sX5_is l E D h37) (lw_V q1483 q1485 qs34 q136 q1486) ⟨rfl, by decide, by decide, by decide +kernel⟩ ⟨by rw [hRf]; omega, by rw [hRl]; omega⟩ (g_recv hKn hS hk37 (by decide) (by decide)) rfl (by rw [hr37]; rfl) (Nat.le_of_ble_eq_true rfl) dX5_part_37 (fun H locs cells slots hS => ?_)
        refine lv_if_eq (tgt := 47) hx hb dX5_part_40 (by decide) (fun c_40 => ?_) (fun c_40 => ?_)
        · have h := g_ift c_40 h
          refine lv_iconst (v := 1) hx hb dX5_part_47 (by decide) ?_
          refine g_aload_n hx hb hl 0 rfl dX5_part_48 ?_
          refine g_rdI hx hb hown hts hKn hS h fd_5_5_3 rfl (Or.inl (hts _ q1236)) (fun _ z => z) dX5_part_49 (fun x49 h => ?_)
          obtain ⟨z52, h52, h⟩ := g_bnd h
          refine g_callI (n := 2) (av := [.inl 1, .inl x49]) (rs := [.inr (.inr (some z9.1))]) hx hb hml hown hts hKn hRc hRs hS hl (sX6_init l E D hlT h52) (lw_meth q1378) (hts _ q140) (hts _ q1376) (hts _ q1377) rfl ⟨by decide, by decide, by decide +kernel⟩ ⟨by rw [hRf]; omega, by rw [hRl]; omega⟩ rfl rfl (Nat.le_of_ble_eq_true rfl) dX5_part_52 (fun H locs cells slots hS => ?_)
          obtain ⟨b55, hb55, h⟩ := g_bnd h
          obtain ⟨hr55, hk55, hB55⟩ := g_thr hb55
          cases hr55
          exact g_throwX hx hb dX5_part_55 (g_outX (by rw [htab]; decide) hlk hKn hRc hRs hS (by decide) (by decide) hB55 hk55 h)
        · have h := g_iff c_40 h
          refine lv_iconst (v := 2) hx hb dX5_part_43 (by decide) ?_
          refine lv_goto (tgt := 48) hx hb dX5_part_44 (by decide) ?_
          refine g_aload_n hx hb hl 0 rfl dX5_part_48 ?_
          refine g_rdI hx hb hown hts hKn hS h fd_5_5_3 rfl (Or.inl (hts _ q1236)) (fun _ z => z) dX5_part_49 (fun x49 h => ?_)
          obtain ⟨z52, h52, h⟩ := g_bnd h
          refine g_callI (n := 2) (av := [.inl 2, .inl x49]) (rs := [.inr (.inr (some z9.1))]) hx hb hml hown hts hKn hRc hRs hS hl (sX6_init l E D hlT h52) (lw_meth q1378) (hts _ q140) (hts _ q1376) (hts _ q1377) rfl ⟨by decide, by decide, by decide +kernel⟩ ⟨by rw [hRf]; omega, by rw [hRl]; omega⟩ rfl rfl (Nat.le_of_ble_eq_true rfl) dX5_part_52 (fun H locs cells slots hS => ?_)
          obtain ⟨b55, hb55, h⟩ := g_bnd h
          obtain ⟨hr55, hk55, hB55⟩ := g_thr hb55
          cases hr55
          exact g_throwX hx hb dX5_part_55 (g_outX (by rw [htab]; decide) hlk hKn hRc hRs hS (by decide) (by decide) hB55 hk55 h)
/-- SendHall$Reader.var()I -/
def fX5_var_b58 (E : g_E) (t : Nat) (v1 : Int32) (s0 : Option Nat) (s1 : Int32) (G : g_G) : Option ((Int32 × g_G) ⊕ gX) :=
  (gchk G 5 s0).bind fun b59 =>
  gcat (fX5_check E b59 s1 3 G) (fun z59 =>
    (gchk z59 5 (some t)).bind fun b63 =>
    (fX5_go E b63 z59).bind fun z63 =>
    some (.inl (v1, z63)))
  (fun y => some (.inr y))
def fX5_var_b46 (E : g_E) (t : Nat) (s0 : Int32) (G : g_G) : Option ((Int32 × g_G) ⊕ gX) :=
  if (4 : Int32) ≤ s0 then (
    fX5_var_b58 E t s0 (some t) 0 G)
  else (
    fX5_var_b58 E t s0 (some t) 1 G)
def fX5_var_b16 (E : g_E) (t : Nat) (s0 : Option Nat) (s1 : Int32) (G : g_G) : Option ((Int32 × g_G) ⊕ gX) :=
  (gchk G 5 s0).bind fun b17 =>
  gcat (fX5_check E b17 s1 1 G) (fun z17 =>
    (grR z17 5 5 (some t) 9).bind fun x21 =>
    (gchk z17 19 x21).bind fun b24 =>
    (fJ9_length E b24 z17).bind fun z24 =>
    if ¬ z24.1 = (1 : Int32) then (
      fX5_var_b46 E t 4 z24.2)
    else (
      (grR z24.2 5 5 (some t) 9).bind fun x32 =>
      (gchk z24.2 19 x32).bind fun b36 =>
      (fJ9_charAt E b36 0 z24.2).bind fun z36 =>
      fX5_var_b46 E t (z36.1 - 97) z36.2))
  (fun y => some (.inr y))
def fX5_var (E : g_E) (t : Nat) (G : g_G) : Option ((Int32 × g_G) ⊕ gX) :=
  (grR G 5 5 (some t) 8).bind fun x2 =>
  if ¬ x2 = (some (gA E 1)) then (
    fX5_var_b16 E t (some t) 0 G)
  else (
    fX5_var_b16 E t (some t) 1 G)
theorem sX5_var_b58 {p : Program} {l : Launch} {e : Env} {R : Room} {s : State} {m : MethodId} {args : Array Value} {below : List Frame} {meth : Method} {c : Code} {E : g_E} {D : g_D} (C : gC p R s m args meth c cX5_var 2 RX5 "var" (some .int) 8 218 E D) (hlT : l.stackTraces = false) (htab : c.exceptionTable.toList = []) : ∀ (t : Nat) (v1 : Int32) (s0 : Option Nat) (s1 : Int32) (G : g_G) (q : (Int32 × g_G) ⊕ gX), fX5_var_b58 E t v1 s0 s1 G = some q → ∀ (H : Heap) (locs : List Loc) (cells slots : Nat) (ls : Array Slot), gSt E D G H locs → gls ls 2 [(0, .inr (.inr (some t))), (1, .inl v1)] → gTX p l e R s m args below meth c E D H locs cells slots gokI q (F0 m 58 ls [.int s1, va_rf s0]) := by
  obtain ⟨hx, hb, hml, hown, hts, hKn, hRc, hRs, hc1, hc2, hRf, hRl, hr, hlk, hnm⟩ := id C
  intro t v1 s0 s1 G q h H locs cells slots ls hS hl
  unfold fX5_var_b58 at h
  refine lv_iconst (v := 3) hx hb dX5_var_58 (by decide) ?_
  obtain ⟨b59, hb59, h⟩ := g_bnd h
  obtain ⟨hr59, hk59⟩ := g_chk hb59
  obtain ⟨o59, h59, ha59, hx59⟩ := g_catE h
  refine g_callVt (n := 2) (b := b59) (av := [.inl s1, .inl 3]) (rs := []) hx hb hml hown hts hKn hRc hRs hS hl (sX5_check l E D hlT h59) (lw_V q1363 q1365 qs27 q136 q1366) ⟨rfl, by decide, by decide, by decide +kernel⟩ ⟨by rw [hRf]; exact Nat.le_of_ble_eq_true rfl, by rw [hRl]; exact Nat.le_of_ble_eq_true rfl⟩ (g_recv hKn hS hk59 (by decide) (by decide)) rfl (by rw [hr59]; rfl) (Nat.le_of_ble_eq_true rfl) dX5_var_59 (fun z59 e59 H locs cells slots hS => ?_) (fun k59 a59 G59 e59 n1 n2 nk nB H locs cells slots hS => ?_)
  · have h := ha59 _ e59
    refine g_aload_n hx hb hl 0 rfl dX5_var_62 ?_
    obtain ⟨b63, hb63, h⟩ := g_bnd h
    obtain ⟨hr63, hk63⟩ := g_chk hb63
    obtain ⟨z63, h63, h⟩ := g_bnd h
    refine g_callV (n := 0) (b := b63) (av := []) (rs := []) hx hb hml hown hts hKn hRc hRs hS hl (sX5_go l E D h63) (lw_V q1118 q1120 qs24 q136 q1121) ⟨rfl, by decide, by decide, by decide +kernel⟩ ⟨by rw [hRf]; exact Nat.le_of_ble_eq_true rfl, by rw [hRl]; exact Nat.le_of_ble_eq_true rfl⟩ (g_recv hKn hS hk63 (by decide) (by decide)) rfl (by rw [hr63]; rfl) (Nat.le_of_ble_eq_true rfl) dX5_var_63 (fun H locs cells slots hS => ?_)
    refine g_iload_n hx hb hl 1 rfl dX5_var_66 ?_
    exact g_retX (g_iretG hx hb hr hlk hKn hRc hRs hS (q := (v1, z63)) rfl dX5_var_67) h rfl
  · have h := hx59 _ e59
    exact g_outX (by rw [htab]; decide) hlk hKn hRc hRs hS n1 n2 nB nk h
theorem sX5_var_b46 {p : Program} {l : Launch} {e : Env} {R : Room} {s : State} {m : MethodId} {args : Array Value} {below : List Frame} {meth : Method} {c : Code} {E : g_E} {D : g_D} (C : gC p R s m args meth c cX5_var 2 RX5 "var" (some .int) 8 218 E D) (hlT : l.stackTraces = false) (htab : c.exceptionTable.toList = []) : ∀ (t : Nat) (s0 : Int32) (G : g_G) (q : (Int32 × g_G) ⊕ gX), fX5_var_b46 E t s0 G = some q → ∀ (H : Heap) (locs : List Loc) (cells slots : Nat) (ls : Array Slot), gSt E D G H locs → gls ls 2 [(0, .inr (.inr (some t)))] → gTX p l e R s m args below meth c E D H locs cells slots gokI q (F0 m 46 ls [.int s0]) := by
  obtain ⟨hx, hb, hml, hown, hts, hKn, hRc, hRs, hc1, hc2, hRf, hRl, hr, hlk, hnm⟩ := id C
  intro t s0 G q h H locs cells slots ls hS hl
  unfold fX5_var_b46 at h
  refine g_istore_n (l1 := [(1, .inl s0), (0, .inr (.inr (some t)))]) hx hb hl (by decide) rfl dX5_var_46 (fun ls hl => ?_)
  refine g_aload_n hx hb hl 1 rfl dX5_var_47 ?_
  refine g_iload_n hx hb hl 0 rfl dX5_var_48 ?_
  refine lv_iconst (v := 4) hx hb dX5_var_49 (by decide) ?_
  refine lv_icmp_ge (tgt := 57) hx hb dX5_var_50 (by decide) (fun c_50 => ?_) (fun c_50 => ?_)
  · have h := g_ift c_50 h
    refine lv_iconst (v := 0) hx hb dX5_var_57 (by decide) ?_
    exact sX5_var_b58 C hlT htab _ _ _ _ _ _ h _ _ _ _ _ hS (gls_sub hl [1, 0] rfl)
  · have h := g_iff c_50 h
    refine lv_iconst (v := 1) hx hb dX5_var_53 (by decide) ?_
    refine lv_goto (tgt := 58) hx hb dX5_var_54 (by decide) ?_
    exact sX5_var_b58 C hlT htab _ _ _ _ _ _ h _ _ _ _ _ hS (gls_sub hl [1, 0] rfl)
theorem sX5_var_b16 {p : Program} {l : Launch} {e : Env} {R : Room} {s : State} {m : MethodId} {args : Array Value} {below : List Frame} {meth : Method} {c : Code} {E : g_E} {D : g_D} (C : gC p R s m args meth c cX5_var 2 RX5 "var" (some .int) 8 218 E D) (hlT : l.stackTraces = false) (htab : c.exceptionTable.toList = []) : ∀ (t : Nat) (s0 : Option Nat) (s1 : Int32) (G : g_G) (q : (Int32 × g_G) ⊕ gX), fX5_var_b16 E t s0 s1 G = some q → ∀ (H : Heap) (locs : List Loc) (cells slots : Nat) (ls : Array Slot), gSt E D G H locs → gls ls 2 [(0, .inr (.inr (some t)))] → gTX p l e R s m args below meth c E D H locs cells slots gokI q (F0 m 16 ls [.int s1, va_rf s0]) := by
  obtain ⟨hx, hb, hml, hown, hts, hKn, hRc, hRs, hc1, hc2, hRf, hRl, hr, hlk, hnm⟩ := id C
  intro t s0 s1 G q h H locs cells slots ls hS hl
  unfold fX5_var_b16 at h
  refine lv_iconst (v := 1) hx hb dX5_var_16 (by decide) ?_
  obtain ⟨b17, hb17, h⟩ := g_bnd h
  obtain ⟨hr17, hk17⟩ := g_chk hb17
  obtain ⟨o17, h17, ha17, hx17⟩ := g_catE h
  refine g_callVt (n := 2) (b := b17) (av := [.inl s1, .inl 1]) (rs := []) hx hb hml hown hts hKn hRc hRs hS hl (sX5_check l E D hlT h17) (lw_V q1363 q1365 qs27 q136 q1366) ⟨rfl, by decide, by decide, by decide +kernel⟩ ⟨by rw [hRf]; exact Nat.le_of_ble_eq_true rfl, by rw [hRl]; exact Nat.le_of_ble_eq_true rfl⟩ (g_recv hKn hS hk17 (by decide) (by decide)) rfl (by rw [hr17]; rfl) (Nat.le_of_ble_eq_true rfl) dX5_var_17 (fun z17 e17 H locs cells slots hS => ?_) (fun k17 a17 G17 e17 n1 n2 nk nB H locs cells slots hS => ?_)
  · have h := ha17 _ e17
    refine g_aload_n hx hb hl 0 rfl dX5_var_20 ?_
    refine g_rdR hx hb hown hts hKn hS h fd_5_5_9 rfl (Or.inl (hts _ q1242)) (fun _ z => z) dX5_var_21 (fun x21 h => ?_)
    obtain ⟨b24, hb24, h⟩ := g_bnd h
    obtain ⟨hr24, hk24⟩ := g_chk hb24
    obtain ⟨z24, h24, h⟩ := g_bnd h
    refine g_callV (n := 0) (b := b24) (av := []) (rs := []) hx hb hml hown hts hKn hRc hRs hS hl (sJ9_length l E D h24) (lw_V q1617 q338 q339 q124 q340) ⟨rfl, by decide, by decide, by decide +kernel⟩ ⟨by rw [hRf]; exact Nat.le_of_ble_eq_true rfl, by rw [hRl]; exact Nat.le_of_ble_eq_true rfl⟩ (g_recv hKn hS hk24 (by decide) (by decide)) rfl (by rw [hr24]; rfl) (Nat.le_of_ble_eq_true rfl) dX5_var_24 (fun H locs cells slots hS => ?_)
    refine lv_iconst (v := 1) hx hb dX5_var_27 (by decide) ?_
    refine lv_icmp_ne (tgt := 45) hx hb dX5_var_28 (by decide) (fun c_28 => ?_) (fun c_28 => ?_)
    · have h := g_ift c_28 h
      refine lv_iconst (v := 4) hx hb dX5_var_45 (by decide) ?_
      exact sX5_var_b46 C hlT htab _ _ _ _ h _ _ _ _ _ hS (gls_sub hl [0] rfl)
    · have h := g_iff (fun z => z c_28) h
      refine g_aload_n hx hb hl 0 rfl dX5_var_31 ?_
      refine g_rdR hx hb hown hts hKn hS h fd_5_5_9 rfl (Or.inl (hts _ q1242)) (fun _ z => z) dX5_var_32 (fun x32 h => ?_)
      refine lv_iconst (v := 0) hx hb dX5_var_35 (by decide) ?_
      obtain ⟨b36, hb36, h⟩ := g_bnd h
      obtain ⟨hr36, hk36⟩ := g_chk hb36
      obtain ⟨z36, h36, h⟩ := g_bnd h
      refine g_callV (n := 1) (b := b36) (av := [.inl 0]) (rs := []) hx hb hml hown hts hKn hRc hRs hS hl (sJ9_charAt l E D h36) (lw_V q1523 q1524 q1525 q124 q1526) ⟨rfl, by decide, by decide, by decide +kernel⟩ ⟨by rw [hRf]; exact Nat.le_of_ble_eq_true rfl, by rw [hRl]; exact Nat.le_of_ble_eq_true rfl⟩ (g_recv hKn hS hk36 (by decide) (by decide)) rfl (by rw [hr36]; rfl) (Nat.le_of_ble_eq_true rfl) dX5_var_36 (fun H locs cells slots hS => ?_)
      refine lv_bipush (v := 97) hx hb dX5_var_39 (by decide) ?_
      refine lv_isub hx hb dX5_var_41 ?_
      refine lv_goto (tgt := 46) hx hb dX5_var_42 (by decide) ?_
      exact sX5_var_b46 C hlT htab _ _ _ _ h _ _ _ _ _ hS (gls_sub hl [0] rfl)
  · have h := hx17 _ e17
    exact g_outX (by rw [htab]; decide) hlk hKn hRc hRs hS n1 n2 nB nk h
theorem sX5_var (l : Launch) (E : g_E) (D : g_D) (hlT : l.stackTraces = false) {t : Nat} {G : g_G} {q : (Int32 × g_G) ⊕ gX} (h : fX5_var E t G = some q) : gMetX l E D yX5_var (ws_ yX5_var cX5_var 2 (some .int)) 8 218 [.inr (.inr (some t))] G gokI q := by
  refine gMetX.of (by decide +kernel) (Nat.le_of_ble_eq_true rfl) ?_
  intro p e R s m args below meth c C htab hS ls hl
  have C : gC p R s m args meth c cX5_var 2 RX5 "var" (some .int) 8 218 E D := C
  obtain ⟨hx, hb, hml, hown, hts, hKn, hRc, hRs, hc1, hc2, hRf, hRl, hr, hlk, hnm⟩ := id C
  have hl : gls ls 2 [(0, .inr (.inr (some t)))] := hl
  generalize hH0 : s.heap = H at hS ⊢
  unfold fX5_var at h
  refine g_aload_n hx hb hl 0 rfl dX5_var_0 ?_
  refine g_aload_n hx hb hl 0 rfl dX5_var_1 ?_
  refine g_rdR hx hb hown hts hKn hS h fd_5_5_8 rfl (Or.inl (hts _ q1241)) (fun _ z => z) dX5_var_2 (fun x2 h => ?_)
  refine g_getsZ (C := "SendHall$Sort") (n := "WORD") (d := "LSendHall$Sort;") (v := va_rf (some (gA E 1))) hx hb hown (hKn.2.2.2.2.2.2.1 _ (List.mem_of_getElem? (i := 0) rfl)) hS (hts _ q1157) (fun _ z => z) dX5_var_5 ?_
  refine lv_acmp_ne (tgt := 15) hx hb dX5_var_8 (by decide) (fun c_8 => ?_) (fun c_8 => ?_)
  · have h := g_ift c_8 h
    refine lv_iconst (v := 0) hx hb dX5_var_15 (by decide) ?_
    exact sX5_var_b16 C hlT htab _ _ _ _ _ h _ _ _ _ _ hS (gls_sub hl [0] rfl)
  · have h := g_iff (fun z => z c_8) h
    refine lv_iconst (v := 1) hx hb dX5_var_11 (by decide) ?_
    refine lv_goto (tgt := 16) hx hb dX5_var_12 (by decide) ?_
    exact sX5_var_b16 C hlT htab _ _ _ _ _ h _ _ _ _ _ hS (gls_sub hl [0] rfl)
/-- java/util/ArrayList.add(Ljava/lang/Object;)Z -/
def fJ2_add_2 (E : g_E) (t : Nat) (v1 : Option Nat) (G : g_G) : Option (Int32 × g_G) :=
  (grI G 17 17 (some t) 0).bind fun x2 =>
  (gpI E G 17 17 (some t) 0 (x2 + 1)).bind fun G7 =>
  (grR G7 17 17 (some t) 1).bind fun x13 =>
  (grI G7 17 17 (some t) 2).bind fun x17 =>
  (gchk G7 17 (some t)).bind fun b20 =>
  (fJ2_add_3 E b20 v1 x13 x17 G7).bind fun z20 =>
  if (1 : Int32) = 0 ∨ (1 : Int32) = 1 then some (1, z20) else none
theorem sJ2_add_2 (l : Launch) (E : g_E) (D : g_D) {t : Nat} {v1 : Option Nat} {G : g_G} {q : Int32 × g_G} (h : fJ2_add_2 E t v1 G = some q) : gMet l E D yJ2_add_2 (ws_ yJ2_add_2 cJ2_add_2 2 (some .boolean)) 6 190 [.inr (.inr (some t)), .inr (.inr v1)] G (some (.int q.1)) q.2 := by
  refine gMet.of (by decide +kernel) (Nat.le_of_ble_eq_true rfl) ?_
  intro p e R s m args below meth c C hS ls hl
  have C : gC p R s m args meth c cJ2_add_2 2 RJ2 "add" (some .boolean) 6 190 E D := C
  obtain ⟨hx, hb, hml, hown, hts, hKn, hRc, hRs, hc1, hc2, hRf, hRl, hr, hlk, hnm⟩ := id C
  have hl : gls ls 2 [(0, .inr (.inr (some t))), (1, .inr (.inr v1))] := hl
  generalize s.heap = H at hS ⊢
  unfold fJ2_add_2 at h
  refine g_aload_n hx hb hl 0 rfl dJ2_add_2_0 ?_
  refine lv_dup hx hb dJ2_add_2_1 (by first | exact va_rf_cat _ | rfl | exact g_catA _) ?_
  refine g_rdI hx hb hown hts hKn hS h fd_17_17_0 rfl (Or.inl (hts _ q503)) (u_same (hts _ q504)) dJ2_add_2_2 (fun x2 h => ?_)
  refine lv_iconst (v := 1) hx hb dJ2_add_2_5 (by decide) ?_
  refine lv_iadd hx hb dJ2_add_2_6 ?_
  refine g_ptI hx hb hown hts hKn hS h fd_17_17_0 (Or.inl (hts _ q503)) (u_same (hts _ q504)) (fun z => nomatch z) dJ2_add_2_7 (fun G7 h H locs hS => ?_)
  refine g_aload_n hx hb hl 0 rfl dJ2_add_2_10 ?_
  refine g_aload_n hx hb hl 1 rfl dJ2_add_2_11 ?_
  refine g_aload_n hx hb hl 0 rfl dJ2_add_2_12 ?_
  refine g_rdR hx hb hown hts hKn hS h fd_17_17_1 rfl (Or.inl (hts _ q500)) (fun _ z => z) dJ2_add_2_13 (fun x13 h => ?_)
  refine g_aload_n hx hb hl 0 rfl dJ2_add_2_16 ?_
  refine g_rdI hx hb hown hts hKn hS h fd_17_17_2 rfl (Or.inl (hts _ q501)) (fun _ z => z) dJ2_add_2_17 (fun x17 h => ?_)
  obtain ⟨b20, hb20, h⟩ := g_bnd h
  obtain ⟨hr20, hk20⟩ := g_chk hb20
  obtain ⟨z20, h20, h⟩ := g_bnd h
  refine g_callV (n := 3) (b := b20) (av := [.inr (.inr v1), .inr (.inr x13), .inl x17]) (rs := []) hx hb hml hown hts hKn hRc hRs hS hl (sJ2_add_3 l E D h20) (lw_V q1466 q1468 qs30 q117 q1469) ⟨rfl, by decide, by decide, by decide +kernel⟩ ⟨by rw [hRf]; exact Nat.le_of_ble_eq_true rfl, by rw [hRl]; exact Nat.le_of_ble_eq_true rfl⟩ (g_recv hKn hS hk20 (by decide) (by decide)) rfl (by rw [hr20]; rfl) (Nat.le_of_ble_eq_true rfl) dJ2_add_2_20 (fun H locs cells slots hS => ?_)
  refine lv_iconst (v := 1) hx hb dJ2_add_2_23 (by decide) ?_
  exact g_zretG hx hb hr hlk hKn hRc hRs hS h dJ2_add_2_24
/-- SendHallLaw.of(LSendHall;II[J)I -/
def fX0_of (E : g_E) (v0 : Option Nat) (v1 : Int32) (v2 : Int32) (v3 : Option Nat) (G : g_G) : Option ((Int32 × g_G) ⊕ gX) :=
  (gchk G 1 v0).bind fun b5 =>
  gcat (fX1_of E b5 v1 v2 G) (fun z5 =>
    (gsaL E z5.2 v3 0 (Int32.toInt64 z5.1)).bind fun G9 =>
    some (.inl (0, G9)))
  (fun y => if y.1 = 22 then (
    some (.inl (1, y.2.2))) else none)
theorem sX0_of (l : Launch) (E : g_E) (D : g_D) (hlT : l.stackTraces = false) {v0 : Option Nat} {v1 : Int32} {v2 : Int32} {v3 : Option Nat} {G : g_G} {q : (Int32 × g_G) ⊕ gX} (h : fX0_of E v0 v1 v2 v3 G = some q) : gMetX l E D yX0_of (wsW_ yX0_of cX0_of 5 (some .int) [(0, 10, 13, 18)]) 221 7373 [.inr (.inr v0), .inl v1, .inl v2, .inr (.inr v3)] G gokI q := by
  refine gMetX.ofH (by decide +kernel) (Nat.le_of_ble_eq_true rfl) ?_
  intro p e R s m args below meth c C htab hS ls hl
  have C : gC p R s m args meth c cX0_of 5 RX0 "of" (some .int) 221 7373 E D := C
  obtain ⟨hx, hb, hml, hown, hts, hKn, hRc, hRs, hc1, hc2, hRf, hRl, hr, hlk, hnm⟩ := id C
  have hl : gls ls 5 [(0, .inr (.inr v0)), (1, .inl v1), (2, .inl v2), (3, .inr (.inr v3))] := hl
  generalize hH0 : s.heap = H at hS ⊢
  unfold fX0_of at h
  refine g_aload_n hx hb hl 3 rfl dX0_of_0 ?_
  refine lv_iconst (v := 0) hx hb dX0_of_1 (by decide) ?_
  refine g_aload_n hx hb hl 0 rfl dX0_of_2 ?_
  refine g_iload_n hx hb hl 1 rfl dX0_of_3 ?_
  refine g_iload_n hx hb hl 2 rfl dX0_of_4 ?_
  obtain ⟨b5, hb5, h⟩ := g_bnd h
  obtain ⟨hr5, hk5⟩ := g_chk hb5
  obtain ⟨o5, h5, ha5, hx5⟩ := g_catE h
  refine g_callVt (n := 2) (b := b5) (av := [.inl v1, .inl v2]) (rs := [.inl 0, .inr (.inr v3)]) hx hb hml hown hts hKn hRc hRs hS hl (sX1_of l E D hlT h5) (lw_V q1813 q1814 q1815 q113 q1816) ⟨rfl, by decide, by decide, by decide +kernel⟩ ⟨by rw [hRf]; exact Nat.le_of_ble_eq_true rfl, by rw [hRl]; exact Nat.le_of_ble_eq_true rfl⟩ (g_recv hKn hS hk5 (by decide) (by decide)) rfl (by rw [hr5]; rfl) (Nat.le_of_ble_eq_true rfl) dX0_of_5 (fun z5 e5 H locs cells slots hS => ?_) (fun k5 a5 G5 e5 n1 n2 nk nB H locs cells slots hS => ?_)
  · have h := ha5 _ e5
    refine lv_i2l (v := (Int32.toInt64 z5.1)) hx hb dX0_of_8 rfl ?_
    refine g_lastoreG hx hb hKn hS h dX0_of_9 (fun G9 h H locs hS => ?_)
    refine lv_goto (tgt := 17) hx hb dX0_of_10 (by decide) ?_
    refine lv_iconst (v := 0) hx hb dX0_of_17 (by decide) ?_
    exact g_retX (g_iretG hx hb hr hlk hKn hRc hRs hS (q := (0, G9)) rfl dX0_of_18) h rfl
  · have h := hx5 _ e5
    by_cases hz5 : k5 = 22
    · subst hz5
      have h := g_ift rfl h
      refine g_catchX (hq := (0, 10, 13, 18)) hown hKn hS (by decide) (by decide) nB nk htab (by decide) (by decide) (hts _ q1716) q1726 ?_
      have y_1 : ∃ y : gX, y = (22, a5, G5) := ⟨_, rfl⟩
      refine g_astore (l1 := [(4, .inr (.inr (some a5))), (0, .inr (.inr v0)), (1, .inl v1), (2, .inl v2), (3, .inr (.inr v3))]) hx hb hl (by decide) rfl dX0_of_13 (fun ls hl => ?_)
      refine lv_iconst (v := 1) hx hb dX0_of_15 (by decide) ?_
      exact g_retX (g_iretG hx hb hr hlk hKn hRc hRs hS (q := (1, G5)) rfl dX0_of_16) h rfl
    · exact g_no (g_iff hz5 h)
/-- SendHall$Row.add(CLSendHall$Expr;)V -/
def fX11_add (E : g_E) (t : Nat) (v1 : Int32) (v2 : Option Nat) (G : g_G) : Option (g_G) :=
  (grR G 9 9 (some t) 1).bind fun x1 =>
  (fJ17_valueOf E v1 G).bind fun z5 =>
  (gchk z5.2 17 x1).bind fun b8 =>
  (fJ2_add_2 E b8 z5.1 z5.2).bind fun z8 =>
  (grR z8.2 9 9 (some t) 0).bind fun x13 =>
  (gchk z8.2 17 x13).bind fun b17 =>
  (fJ2_add_2 E b17 v2 z8.2).bind fun z17 =>
  some z17.2
theorem sX11_add (l : Launch) (E : g_E) (D : g_D) {t : Nat} {v1 : Int32} {v2 : Option Nat} {G : g_G} {q : g_G} (h : fX11_add E t v1 v2 G = some q) : gMet l E D yX11_add (ws_ yX11_add cX11_add 3 (none)) 7 211 [.inr (.inr (some t)), .inl v1, .inr (.inr v2)] G none q := by
  refine gMet.of (by decide +kernel) (Nat.le_of_ble_eq_true rfl) ?_
  intro p e R s m args below meth c C hS ls hl
  have C : gC p R s m args meth c cX11_add 3 RX11 "add" (none) 7 211 E D := C
  obtain ⟨hx, hb, hml, hown, hts, hKn, hRc, hRs, hc1, hc2, hRf, hRl, hr, hlk, hnm⟩ := id C
  have hl : gls ls 3 [(0, .inr (.inr (some t))), (1, .inl v1), (2, .inr (.inr v2))] := hl
  generalize s.heap = H at hS ⊢
  unfold fX11_add at h
  refine g_aload_n hx hb hl 0 rfl dX11_add_0 ?_
  refine g_rdR hx hb hown hts hKn hS h fd_9_9_1 rfl (Or.inl (hts _ q1517)) (fun _ z => z) dX11_add_1 (fun x1 h => ?_)
  refine g_iload_n hx hb hl 1 rfl dX11_add_4 ?_
  obtain ⟨z5, h5, h⟩ := g_bnd h
  refine g_callS (n := 1) (av := [.inl v1]) (rs := [.inr (.inr x1)]) hx hb hml hown hts hKn hRc hRs hS hl (sJ17_valueOf l E D h5) (lw_S q1538 q1539 q139 q1540) ⟨by decide, by decide, by decide +kernel⟩ ⟨by rw [hRf]; exact Nat.le_of_ble_eq_true rfl, by rw [hRl]; exact Nat.le_of_ble_eq_true rfl⟩ rfl rfl (Nat.le_of_ble_eq_true rfl) dX11_add_5 (fun H locs cells slots hS => ?_)
  obtain ⟨b8, hb8, h⟩ := g_bnd h
  obtain ⟨hr8, hk8⟩ := g_chk hb8
  obtain ⟨z8, h8, h⟩ := g_bnd h
  refine g_callV (n := 1) (b := b8) (av := [.inr (.inr z5.1)]) (rs := []) hx hb hml hown hts hKn hRc hRs hS hl (sJ2_add_2 l E D h8) (lw_V q1515 q1463 q1464 q117 q1465) ⟨rfl, by decide, by decide, by decide +kernel⟩ ⟨by rw [hRf]; exact Nat.le_of_ble_eq_true rfl, by rw [hRl]; exact Nat.le_of_ble_eq_true rfl⟩ (g_recv hKn hS hk8 (by decide) (by decide)) rfl (by rw [hr8]; rfl) (Nat.le_of_ble_eq_true rfl) dX11_add_8 (fun H locs cells slots hS => ?_)
  refine lv_pop hx hb dX11_add_11 rfl ?_
  refine g_aload_n hx hb hl 0 rfl dX11_add_12 ?_
  refine g_rdR hx hb hown hts hKn hS h fd_9_9_0 rfl (Or.inl (hts _ q1516)) (fun _ z => z) dX11_add_13 (fun x13 h => ?_)
  refine g_aload_n hx hb hl 2 rfl dX11_add_16 ?_
  obtain ⟨b17, hb17, h⟩ := g_bnd h
  obtain ⟨hr17, hk17⟩ := g_chk hb17
  obtain ⟨z17, h17, h⟩ := g_bnd h
  refine g_callV (n := 1) (b := b17) (av := [.inr (.inr v2)]) (rs := []) hx hb hml hown hts hKn hRc hRs hS hl (sJ2_add_2 l E D h17) (lw_V q1515 q1463 q1464 q117 q1465) ⟨rfl, by decide, by decide, by decide +kernel⟩ ⟨by rw [hRf]; exact Nat.le_of_ble_eq_true rfl, by rw [hRl]; exact Nat.le_of_ble_eq_true rfl⟩ (g_recv hKn hS hk17 (by decide) (by decide)) rfl (by rw [hr17]; rfl) (Nat.le_of_ble_eq_true rfl) dX11_add_17 (fun H locs cells slots hS => ?_)
  refine lv_pop hx hb dX11_add_20 rfl ?_
  exact g_vretG hx hb hr hlk hKn hRc hRs hS h dX11_add_21
