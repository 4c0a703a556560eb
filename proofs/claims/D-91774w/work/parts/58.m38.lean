set_option maxRecDepth 100000
/-- SendHall$Reader.sum()LSendHall$Expr; -/
def fX5_sum_b40 (E : g_E) (fE : g_E → Nat → g_G → Option ((Option Nat × g_G) ⊕ gX)) (k7 : Nat → (Option Nat) → (Option Nat) → g_G → Option ((Option Nat × g_G) ⊕ gX)) (t : Nat) (v1 : Option Nat) (v2 : Option Nat) (G : g_G) : Option ((Option Nat × g_G) ⊕ gX) :=
  (grR G 5 5 (some t) 9).bind fun x41 =>
  (gchk G 19 x41).bind fun b45 =>
  (fJ9_charAt E b45 0 G).bind fun z45 =>
  (gchk z45.2 5 (some t)).bind fun b50 =>
  (fX5_go E b50 z45.2).bind fun z50 =>
  (gchk z50 5 (some t)).bind fun b56 =>
  gcat (fX5_product E fE b56 z50) (fun z56 =>
    (gchk z56.2 9 v2).bind fun b59 =>
    (fX11_add E b59 z45.1 z56.1 z56.2).bind fun z59 =>
    k7 t v1 v2 z59)
  (fun y => some (.inr y))
def fX5_sum_b27 (E : g_E) (fE : g_E → Nat → g_G → Option ((Option Nat × g_G) ⊕ gX)) (k7 : Nat → (Option Nat) → (Option Nat) → g_G → Option ((Option Nat × g_G) ⊕ gX)) (t : Nat) (v1 : Option Nat) (v2 : Option Nat) (G : g_G) : Option ((Option Nat × g_G) ⊕ gX) :=
  if ¬ v2 = none then (
    fX5_sum_b40 E fE k7 t v1 v2 G)
  else (
    (gnewO E G 9 2).bind fun z31 =>
    (fX11_init E z31.1 v1 z31.2).bind fun z36 =>
    fX5_sum_b40 E fE k7 t v1 (some z31.1) z36)
def fX5_sum_b7 (E : g_E) (fE : g_E → Nat → g_G → Option ((Option Nat × g_G) ⊕ gX)) : Nat → Nat → (Option Nat) → (Option Nat) → g_G → Option ((Option Nat × g_G) ⊕ gX)
  | 0, _, _, _, _ => none
  | n + 1, t, v1, v2, G =>
    (gchk G 5 (some t)).bind fun b11 =>
    (fX5_is E b11 (some (gA E 46)) G).bind fun z11 =>
    if ¬ z11.1 = 0 then (
      fX5_sum_b27 E fE (fX5_sum_b7 E fE n) t v1 v2 z11.2)
    else (
      (gchk z11.2 5 (some t)).bind fun b21 =>
      (fX5_is E b21 (some (gA E 47)) z11.2).bind fun z21 =>
      if z21.1 = 0 then (
        if ¬ v2 = none then (
          some (.inl (v2, z21.2)))
        else (
          some (.inl (v1, z21.2))))
      else (
        fX5_sum_b27 E fE (fX5_sum_b7 E fE n) t v1 v2 z21.2))
def fX5_sum (E : g_E) (fE : g_E → Nat → g_G → Option ((Option Nat × g_G) ⊕ gX)) (t : Nat) (G : g_G) : Option ((Option Nat × g_G) ⊕ gX) :=
  (gchk G 5 (some t)).bind fun b1 =>
  gcat (fX5_product E fE b1 G) (fun z1 =>
    fX5_sum_b7 E fE gFU t z1.1 none z1.2)
  (fun y => some (.inr y))
theorem sX5_sum_b40 {p : Program} {l : Launch} {e : Env} {R : Room} {s : State} {m : MethodId} {args : Array Value} {below : List Frame} {meth : Method} {c : Code} {E : g_E} {D : g_D} {fE : g_E → Nat → g_G → Option ((Option Nat × g_G) ⊕ gX)} {fF : Nat} {fL : Nat} (C : gC p R s m args meth c cX5_sum 4 RX5 "sum" (some (.object "SendHall$Expr")) (fF + 6) (fL + 300) E D) (hlT : l.stackTraces = false) (htab : c.exceptionTable.toList = []) (hfE : ∀ (l : Launch) (E : g_E) (D : g_D), l.stackTraces = false → ∀ {t : Nat} {G : g_G} {q : (Option Nat × g_G) ⊕ gX}, fE E t G = some q → gMetX l E D yX5_expr (ws_ yX5_expr cX5_expr 4 (some (.object "SendHall$Expr"))) fF fL [.inr (.inr (some t))] G gokA q) (hF : 60 ≤ fF) (hL : 3000 ≤ fL) {k7 : Nat → (Option Nat) → (Option Nat) → g_G → Option ((Option Nat × g_G) ⊕ gX)} (hk7 : ∀ (t : Nat) (v1 : Option Nat) (v2 : Option Nat) (G : g_G) (q : (Option Nat × g_G) ⊕ gX), k7 t v1 v2 G = some q → ∀ (H : Heap) (locs : List Loc) (cells slots : Nat) (ls : Array Slot), gSt E D G H locs → gls ls 4 [(0, .inr (.inr (some t))), (1, .inr (.inr v1)), (2, .inr (.inr v2))] → gTX p l e R s m args below meth c E D H locs cells slots gokA q (F0 m 7 ls [])) : ∀ (t : Nat) (v1 : Option Nat) (v2 : Option Nat) (G : g_G) (q : (Option Nat × g_G) ⊕ gX), fX5_sum_b40 E fE k7 t v1 v2 G = some q → ∀ (H : Heap) (locs : List Loc) (cells slots : Nat) (ls : Array Slot), gSt E D G H locs → gls ls 4 [(0, .inr (.inr (some t))), (1, .inr (.inr v1)), (2, .inr (.inr v2))] → gTX p l e R s m args below meth c E D H locs cells slots gokA q (F0 m 40 ls []) := by
  obtain ⟨hx, hb, hml, hown, hts, hKn, hRc, hRs, hc1, hc2, hRf, hRl, hr, hlk, hnm⟩ := id C
  intro t v1 v2 G q h H locs cells slots ls hS hl
  unfold fX5_sum_b40 at h
  refine g_aload_n hx hb hl 0 rfl dX5_sum_40 ?_
  refine g_rdR hx hb hown hts hKn hS h fd_5_5_9 rfl (Or.inl (hts _ q1242)) (fun _ z => z) dX5_sum_41 (fun x41 h => ?_)
  refine lv_iconst (v := 0) hx hb dX5_sum_44 (by decide) ?_
  obtain ⟨b45, hb45, h⟩ := g_bnd h
  obtain ⟨hr45, hk45⟩ := g_chk hb45
  obtain ⟨z45, h45, h⟩ := g_bnd h
  refine g_callV (n := 1) (b := b45) (av := [.inl 0]) (rs := []) hx hb hml hown hts hKn hRc hRs hS hl (sJ9_charAt l E D h45) (lw_V q1523 q1524 q1525 q124 q1526) ⟨rfl, by decide, by decide, by decide +kernel⟩ ⟨by rw [hRf]; omega, by rw [hRl]; omega⟩ (g_recv hKn hS hk45 (by decide) (by decide)) rfl (by rw [hr45]; rfl) (Nat.le_of_ble_eq_true rfl) dX5_sum_45 (fun H locs cells slots hS => ?_)
  refine g_istore_n (l1 := [(3, .inl z45.1), (0, .inr (.inr (some t))), (1, .inr (.inr v1)), (2, .inr (.inr v2))]) hx hb hl (by decide) rfl dX5_sum_48 (fun ls hl => ?_)
  refine g_aload_n hx hb hl 1 rfl dX5_sum_49 ?_
  obtain ⟨b50, hb50, h⟩ := g_bnd h
  obtain ⟨hr50, hk50⟩ := g_chk hb50
  obtain ⟨z50, h50, h⟩ := g_bnd h
  refine g_callV (n := 0) (b := b50) (av := []) (rs := []) hx hb hml hown hts hKn hRc hRs hS hl (sX5_go l E D h50) (lw_V q1118 q1120 qs24 q136 q1121) ⟨rfl, by decide, by decide, by decide +kernel⟩ ⟨by rw [hRf]; omega, by rw [hRl]; omega⟩ (g_recv hKn hS hk50 (by decide) (by decide)) rfl (by rw [hr50]; rfl) (Nat.le_of_ble_eq_true rfl) dX5_sum_50 (fun H locs cells slots hS => ?_)
  refine g_aload_n hx hb hl 3 rfl dX5_sum_53 ?_
  refine g_iload_n hx hb hl 0 rfl dX5_sum_54 ?_
  refine g_aload_n hx hb hl 1 rfl dX5_sum_55 ?_
  obtain ⟨b56, hb56, h⟩ := g_bnd h
  obtain ⟨hr56, hk56⟩ := g_chk hb56
  obtain ⟨o56, h56, ha56, hx56⟩ := g_catE h
  refine g_callVt (n := 0) (b := b56) (av := []) (rs := [.inl z45.1, .inr (.inr v2)]) hx hb hml hown hts hKn hRc hRs hS hl (sX5_product l E D hlT hfE hF hL h56) (lw_V q1474 q1476 qs32 q136 q1477) ⟨rfl, by decide, by decide, by decide +kernel⟩ ⟨by rw [hRf]; omega, by rw [hRl]; omega⟩ (g_recv hKn hS hk56 (by decide) (by decide)) rfl (by rw [hr56]; rfl) (Nat.le_of_ble_eq_true rfl) dX5_sum_56 (fun z56 e56 H locs cells slots hS => ?_) (fun k56 a56 G56 e56 n1 n2 nk nB H locs cells slots hS => ?_)
  · have h := ha56 _ e56
    obtain ⟨b59, hb59, h⟩ := g_bnd h
    obtain ⟨hr59, hk59⟩ := g_chk hb59
    obtain ⟨z59, h59, h⟩ := g_bnd h
    refine g_callV (n := 2) (b := b59) (av := [.inl z45.1, .inr (.inr z56.1)]) (rs := []) hx hb hml hown hts hKn hRc hRs hS hl (sX11_add l E D h59) (lw_V q1534 q1535 q1536 q145 q1537) ⟨rfl, by decide, by decide, by decide +kernel⟩ ⟨by rw [hRf]; omega, by rw [hRl]; omega⟩ (g_recv hKn hS hk59 (by decide) (by decide)) rfl (by rw [hr59]; rfl) (Nat.le_of_ble_eq_true rfl) dX5_sum_59 (fun H locs cells slots hS => ?_)
    refine lv_goto (tgt := 7) hx hb dX5_sum_62 (by decide) ?_
    exact hk7 _ _ _ _ _ h _ _ _ _ _ hS (gls_sub hl [1, 2, 3] rfl)
  · have h := hx56 _ e56
    exact g_outX (by rw [htab]; decide) hlk hKn hRc hRs hS n1 n2 nB nk h
theorem sX5_sum_b27 {p : Program} {l : Launch} {e : Env} {R : Room} {s : State} {m : MethodId} {args : Array Value} {below : List Frame} {meth : Method} {c : Code} {E : g_E} {D : g_D} {fE : g_E → Nat → g_G → Option ((Option Nat × g_G) ⊕ gX)} {fF : Nat} {fL : Nat} (C : gC p R s m args meth c cX5_sum 4 RX5 "sum" (some (.object "SendHall$Expr")) (fF + 6) (fL + 300) E D) (hlT : l.stackTraces = false) (htab : c.exceptionTable.toList = []) (hfE : ∀ (l : Launch) (E : g_E) (D : g_D), l.stackTraces = false → ∀ {t : Nat} {G : g_G} {q : (Option Nat × g_G) ⊕ gX}, fE E t G = some q → gMetX l E D yX5_expr (ws_ yX5_expr cX5_expr 4 (some (.object "SendHall$Expr"))) fF fL [.inr (.inr (some t))] G gokA q) (hF : 60 ≤ fF) (hL : 3000 ≤ fL) {k7 : Nat → (Option Nat) → (Option Nat) → g_G → Option ((Option Nat × g_G) ⊕ gX)} (hk7 : ∀ (t : Nat) (v1 : Option Nat) (v2 : Option Nat) (G : g_G) (q : (Option Nat × g_G) ⊕ gX), k7 t v1 v2 G = some q → ∀ (H : Heap) (locs : List Loc) (cells slots : Nat) (ls : Array Slot), gSt E D G H locs → gls ls 4 [(0, .inr (.inr (some t))), (1, .inr (.inr v1)), (2, .inr (.inr v2))] → gTX p l e R s m args below meth c E D H locs cells slots gokA q (F0 m 7 ls [])) : ∀ (t : Nat) (v1 : Option Nat) (v2 : Option Nat) (G : g_G) (q : (Option Nat × g_G) ⊕ gX), fX5_sum_b27 E fE k7 t v1 v2 G = some q → ∀ (H : Heap) (locs : List Loc) (cells slots : Nat) (ls : Array Slot), gSt E D G H locs → gls ls 4 [(0, .inr (.inr (some t))), (1, .inr (.inr v1)), (2, .inr (.inr v2))] → gTX p l e R s m args below meth c E D H locs cells slots gokA q (F0 m 27 ls []) := by
  obtain ⟨hx, hb, hml, hown, hts, hKn, hRc, hRs, hc1, hc2, hRf, hRl, hr, hlk, hnm⟩ := id C
  intro t v1 v2 G q h H locs cells slots ls hS hl
  unfold fX5_sum_b27 at h
  refine g_aload_n hx hb hl 2 rfl dX5_sum_27 ?_
  refine g_ifnonnull (tgt := 40) hx hb dX5_sum_28 (by decide) (fun c_28 => ?_) (fun c_28 => ?_)
  · have h := g_ift c_28 h
    exact sX5_sum_b40 C hlT htab hfE hF hL hk7 _ _ _ _ _ h _ _ _ _ _ hS (gls_sub hl [0, 1, 2] rfl)
  · have h := g_iff (fun z => z c_28) h
    refine g_newG (k := 9) hx hb hown hts hKn hRc hRs hS h (by decide) (by decide) (hts _ q1507) (hts _ q1508) (hts _ q145) dX5_sum_31 (fun z31 h H locs cells slots hS => ?_)
    refine lv_dup hx hb dX5_sum_34 (by first | exact va_rf_cat _ | rfl | exact g_catA _) ?_
    refine g_aload_n hx hb hl 1 rfl dX5_sum_35 ?_
    obtain ⟨z36, h36, h⟩ := g_bnd h
    refine g_callI (n := 1) (av := [.inr (.inr v1)]) (rs := [.inr (.inr (some z31.1))]) hx hb hml hown hts hKn hRc hRs hS hl (sX11_init l E D h36) (lw_meth q1511) (hts _ q145) (hts _ q1509) (hts _ q1510) rfl ⟨by decide, by decide, by decide +kernel⟩ ⟨by rw [hRf]; omega, by rw [hRl]; omega⟩ rfl rfl (Nat.le_of_ble_eq_true rfl) dX5_sum_36 (fun H locs cells slots hS => ?_)
    refine g_astore_n (l1 := [(2, .inr (.inr (some z31.1))), (0, .inr (.inr (some t))), (1, .inr (.inr v1))]) hx hb hl (by decide) rfl dX5_sum_39 (fun ls hl => ?_)
    exact sX5_sum_b40 C hlT htab hfE hF hL hk7 _ _ _ _ _ h _ _ _ _ _ hS (gls_sub hl [1, 2, 0] rfl)
theorem sX5_sum_b7 {p : Program} {l : Launch} {e : Env} {R : Room} {s : State} {m : MethodId} {args : Array Value} {below : List Frame} {meth : Method} {c : Code} {E : g_E} {D : g_D} {fE : g_E → Nat → g_G → Option ((Option Nat × g_G) ⊕ gX)} {fF : Nat} {fL : Nat} (C : gC p R s m args meth c cX5_sum 4 RX5 "sum" (some (.object "SendHall$Expr")) (fF + 6) (fL + 300) E D) (hlT : l.stackTraces = false) (htab : c.exceptionTable.toList = []) (hfE : ∀ (l : Launch) (E : g_E) (D : g_D), l.stackTraces = false → ∀ {t : Nat} {G : g_G} {q : (Option Nat × g_G) ⊕ gX}, fE E t G = some q → gMetX l E D yX5_expr (ws_ yX5_expr cX5_expr 4 (some (.object "SendHall$Expr"))) fF fL [.inr (.inr (some t))] G gokA q) (hF : 60 ≤ fF) (hL : 3000 ≤ fL) : ∀ (n : Nat) (t : Nat) (v1 : Option Nat) (v2 : Option Nat) (G : g_G) (q : (Option Nat × g_G) ⊕ gX), fX5_sum_b7 E fE n t v1 v2 G = some q → ∀ (H : Heap) (locs : List Loc) (cells slots : Nat) (ls : Array Slot), gSt E D G H locs → gls ls 4 [(0, .inr (.inr (some t))), (1, .inr (.inr v1)), (2, .inr (.inr v2))] → gTX p l e R s m args below meth c E D H locs cells slots gokA q (F0 m 7 ls []) := by
  obtain ⟨hx, hb, hml, hown, hts, hKn, hRc, hRs, hc1, hc2, hRf, hRl, hr, hlk, hnm⟩ := id C
  intro n
  induction n with
  | zero =>
    intro t v1 v2 G q h
    exact g_no h
  | succ n ih =>
    intro t v1 v2 G q h H locs cells slots ls hS hl
    rw [fX5_sum_b7] at h
    refine g_aload_n hx hb hl 0 rfl dX5_sum_7 ?_
    refine g_ldcwS (i := 46) hx hb hown hKn (List.mem_of_getElem? (i := 26) rfl) dX5_sum_8 ?_
    obtain ⟨b11, hb11, h⟩ := g_bnd h
    obtain ⟨hr11, hk11⟩ := g_chk hb11
    obtain ⟨z11, h11, h⟩ := g_bnd h
    refine g_callV (n := 1) (b := b11) (av := [.inr (.inr (some (gA E 46)))]) (rs := []) hx hb hml hown hts hKn hRc hRs hS hl (sX5_is l E D h11) (lw_V q1483 q1485 qs34 q136 q1486) ⟨rfl, by decide, by decide, by decide +kernel⟩ ⟨by rw [hRf]; omega, by rw [hRl]; omega⟩ (g_recv hKn hS hk11 (by decide) (by decide)) rfl (by rw [hr11]; rfl) (Nat.le_of_ble_eq_true rfl) dX5_sum_11 (fun H locs cells slots hS => ?_)
    refine lv_if_ne (tgt := 27) hx hb dX5_sum_14 (by decide) (fun c_14 => ?_) (fun c_14 => ?_)
    · have h := g_ift c_14 h
      exact sX5_sum_b27 C hlT htab hfE hF hL ih _ _ _ _ _ h _ _ _ _ _ hS (gls_sub hl [0, 1, 2] rfl)
    · have h := g_iff (fun z => z c_14) h
      refine g_aload_n hx hb hl 0 rfl dX5_sum_17 ?_
      refine g_ldcwS (i := 47) hx hb hown hKn (List.mem_of_getElem? (i := 27) rfl) dX5_sum_18 ?_
      obtain ⟨b21, hb21, h⟩ := g_bnd h
      obtain ⟨hr21, hk21⟩ := g_chk hb21
      obtain ⟨z21, h21, h⟩ := g_bnd h
      refine g_callV (n := 1) (b := b21) (av := [.inr (.inr (some (gA E 47)))]) (rs := []) hx hb hml hown hts hKn hRc hRs hS hl (sX5_is l E D h21) (lw_V q1483 q1485 qs34 q136 q1486) ⟨rfl, by decide, by decide, by decide +kernel⟩ ⟨by rw [hRf]; omega, by rw [hRl]; omega⟩ (g_recv hKn hS hk21 (by decide) (by decide)) rfl (by rw [hr21]; rfl) (Nat.le_of_ble_eq_true rfl) dX5_sum_21 (fun H locs cells slots hS => ?_)
      refine lv_if_eq (tgt := 65) hx hb dX5_sum_24 (by decide) (fun c_24 => ?_) (fun c_24 => ?_)
      · have h := g_ift c_24 h
        refine g_aload_n hx hb hl 2 rfl dX5_sum_65 ?_
        refine g_ifnonnull (tgt := 73) hx hb dX5_sum_66 (by decide) (fun c_66 => ?_) (fun c_66 => ?_)
        · have h := g_ift c_66 h
          refine g_aload_n hx hb hl 2 rfl dX5_sum_73 ?_
          exact g_retX (g_aretG hx hb hr (by first | exact Or.inl ⟨_, rfl⟩ | exact Or.inr ⟨_, rfl⟩) hlk hKn hRc hRs hS (q := (v2, z21.2)) rfl dX5_sum_74) h rfl
        · have h := g_iff (fun z => z c_66) h
          refine g_aload_n hx hb hl 1 rfl dX5_sum_69 ?_
          refine lv_goto (tgt := 74) hx hb dX5_sum_70 (by decide) ?_
          exact g_retX (g_aretG hx hb hr (by first | exact Or.inl ⟨_, rfl⟩ | exact Or.inr ⟨_, rfl⟩) hlk hKn hRc hRs hS (q := (v1, z21.2)) rfl dX5_sum_74) h rfl
      · have h := g_iff c_24 h
        exact sX5_sum_b27 C hlT htab hfE hF hL ih _ _ _ _ _ h _ _ _ _ _ hS (gls_sub hl [0, 1, 2] rfl)
theorem sX5_sum (l : Launch) (E : g_E) (D : g_D) (hlT : l.stackTraces = false) {fE : g_E → Nat → g_G → Option ((Option Nat × g_G) ⊕ gX)} {fF : Nat} {fL : Nat} (hfE : ∀ (l : Launch) (E : g_E) (D : g_D), l.stackTraces = false → ∀ {t : Nat} {G : g_G} {q : (Option Nat × g_G) ⊕ gX}, fE E t G = some q → gMetX l E D yX5_expr (ws_ yX5_expr cX5_expr 4 (some (.object "SendHall$Expr"))) fF fL [.inr (.inr (some t))] G gokA q) (hF : 60 ≤ fF) (hL : 3000 ≤ fL) {t : Nat} {G : g_G} {q : (Option Nat × g_G) ⊕ gX} (h : fX5_sum E fE t G = some q) : gMetX l E D yX5_sum (ws_ yX5_sum cX5_sum 4 (some (.object "SendHall$Expr"))) (fF + 6) (fL + 300) [.inr (.inr (some t))] G gokA q := by
  refine gMetX.of (by decide +kernel) (Nat.le_of_ble_eq_true rfl) ?_
  intro p e R s m args below meth c C htab hS ls hl
  have C : gC p R s m args meth c cX5_sum 4 RX5 "sum" (some (.object "SendHall$Expr")) (fF + 6) (fL + 300) E D := C
  obtain ⟨hx, hb, hml, hown, hts, hKn, hRc, hRs, hc1, hc2, hRf, hRl, hr, hlk, hnm⟩ := id C
  have hl : gls ls 4 [(0, .inr (.inr (some t)))] := hl
  generalize hH0 : s.heap = H at hS ⊢
  unfold fX5_sum at h
  refine g_aload_n hx hb hl 0 rfl dX5_sum_0 ?_
  obtain ⟨b1, hb1, h⟩ := g_bnd h
  obtain ⟨hr1, hk1⟩ := g_chk hb1
  obtain ⟨o1, h1, ha1, hx1⟩ := g_catE h
  refine g_callVt (n := 0) (b := b1) (av := []) (rs := []) hx hb hml hown hts hKn hRc hRs hS hl (sX5_product l E D hlT hfE hF hL h1) (lw_V q1474 q1476 qs32 q136 q1477) ⟨rfl, by decide, by decide, by decide +kernel⟩ ⟨by rw [hRf]; omega, by rw [hRl]; omega⟩ (g_recv hKn hS hk1 (by decide) (by decide)) rfl (by rw [hr1]; rfl) (Nat.le_of_ble_eq_true rfl) dX5_sum_1 (fun z1 e1 H locs cells slots hS => ?_) (fun k1 a1 G1 e1 n1 n2 nk nB H locs cells slots hS => ?_)
  · have h := ha1 _ e1
    refine g_astore_n (l1 := [(1, .inr (.inr z1.1)), (0, .inr (.inr (some t)))]) hx hb hl (by decide) rfl dX5_sum_4 (fun ls hl => ?_)
    refine g_null hx hb dX5_sum_5 ?_
    refine g_astore_n (l1 := [(2, .inr (.inr none)), (1, .inr (.inr z1.1)), (0, .inr (.inr (some t)))]) hx hb hl (by decide) rfl dX5_sum_6 (fun ls hl => ?_)
    exact sX5_sum_b7 C hlT htab hfE hF hL gFU _ _ _ _ _ h _ _ _ _ _ hS (gls_sub hl [2, 1, 0] rfl)
  · have h := hx1 _ e1
    exact g_outX (by rw [htab]; decide) hlk hKn hRc hRs hS n1 n2 nB nk h
/-- SendHall.move(LSendHall$Life;III)V -/
def fX1_move (E : g_E) (t : Nat) (v1 : Option Nat) (v2 : Int32) (v3 : Int32) (v4 : Int32) (G : g_G) : Option (g_G) :=
  (grR G 3 3 v1 3).bind fun x1 =>
  (gaR G 122 x1 v2).bind fun x5 =>
  (grI G 11 16 x5 0).bind fun x10 =>
  if x10 = 0 then (
    (gcast G 15 15 x5).bind fun x57 =>
    (gchk G 1 (some t)).bind fun b62 =>
    (fX1_sends E b62 v1 v2 x57 v4 G).bind fun z62 =>
    some z62)
  else
  if x10 = 1 then (
    (gcast G 15 15 x5).bind fun x57 =>
    (gchk G 1 (some t)).bind fun b62 =>
    (fX1_sends E b62 v1 v2 x57 v4 G).bind fun z62 =>
    some z62)
  else
  if x10 = 2 then (
    (gcast G 15 15 x5).bind fun x57 =>
    (gchk G 1 (some t)).bind fun b62 =>
    (fX1_sends E b62 v1 v2 x57 v4 G).bind fun z62 =>
    some z62)
  else
  if x10 = 3 then (
    (gcast G 16 16 x5).bind fun x73 =>
    (gchk G 16 x73).bind fun b78 =>
    (fX13_of E b78 v1 v2 G).bind fun z78 =>
    (gchk z78.2 1 (some t)).bind fun b81 =>
    (fX1_takes E b81 v1 v2 z78.1 z78.2).bind fun z81 =>
    some z81)
  else
  if x10 = 4 then (
    (gchk G 1 (some t)).bind fun b91 =>
    (fX1_takes E b91 v1 v2 v3 G).bind fun z91 =>
    some z91)
  else
  if x10 = 5 then (
    (grR G 1 1 (some t) 8).bind fun x100 =>
    (gaI G 100 x100 v2).bind fun x104 =>
    (gchk G 1 (some t)).bind fun b105 =>
    (fX1_clocks E b105 v2 x104 G).bind fun z105 =>
    (grR z105 1 1 (some t) 6).bind fun x109 =>
    (gaI z105 100 x109 v2).bind fun x114 =>
    (gsaI E z105 x109 v2 (x114 + 1)).bind fun G117 =>
    (grR G117 11 16 x5 2).bind fun x123 =>
    (gchk G117 1 (some t)).bind fun b126 =>
    (fX1_goes E b126 v1 v2 x123 G117).bind fun z126 =>
    some z126)
  else
  (
    (grI G 11 16 x5 0).bind fun x136 =>
    (gchk G 1 (some t)).bind fun b139 =>
    (fX1_together E b139 v1 x136 G).bind fun z139 =>
    some z139)
theorem sX1_move (l : Launch) (E : g_E) (D : g_D) {t : Nat} {v1 : Option Nat} {v2 : Int32} {v3 : Int32} {v4 : Int32} {G : g_G} {q : g_G} (h : fX1_move E t v1 v2 v3 v4 G = some q) : gMet l E D yX1_move (ws_ yX1_move cX1_move 6 (none)) 223 7434 [.inr (.inr (some t)), .inr (.inr v1), .inl v2, .inl v3, .inl v4] G none q := by
  refine gMet.of (by decide +kernel) (Nat.le_of_ble_eq_true rfl) ?_
  intro p e R s m args below meth c C hS ls hl
  have C : gC p R s m args meth c cX1_move 6 RX1 "move" (none) 223 7434 E D := C
  obtain ⟨hx, hb, hml, hown, hts, hKn, hRc, hRs, hc1, hc2, hRf, hRl, hr, hlk, hnm⟩ := id C
  have hl : gls ls 6 [(0, .inr (.inr (some t))), (1, .inr (.inr v1)), (2, .inl v2), (3, .inl v3), (4, .inl v4)] := hl
  generalize s.heap = H at hS ⊢
  unfold fX1_move at h
  refine g_aload_n hx hb hl 1 rfl dX1_move_0 ?_
  refine g_rdR hx hb hown hts hKn hS h fd_3_3_3 rfl (Or.inr ⟨_, gNest_use rfl (hKn.2.2.2.2.1 _ (gNest_in q545 rfl))⟩) (fun _ z => z) dX1_move_1 (fun x1 h => ?_)
  refine g_iload_n hx hb hl 2 rfl dX1_move_4 ?_
  refine g_aaloadG hx hb hKn hS h (by decide) dX1_move_5 (fun x5 h => ?_)
  refine g_astore (l1 := [(5, .inr (.inr x5)), (0, .inr (.inr (some t))), (1, .inr (.inr v1)), (2, .inl v2), (3, .inl v3), (4, .inl v4)]) hx hb hl (by decide) rfl dX1_move_6 (fun ls hl => ?_)
  refine g_aload hx hb hl 0 rfl dX1_move_8 ?_
  refine g_rdI hx hb hown hts hKn hS h fd_11_16_0 rfl (Or.inl (hts _ q1422)) (fun _ z => z) dX1_move_10 (fun x10 h => ?_)
  by_cases w13_0 : x10 = 0
  · refine lv_tableIn (tgt := 52) (off := 39) hx hb dX1_move_13 (by rw [w13_0]; decide) (by rw [w13_0]; decide) (by rw [w13_0]; decide) (by decide) ?_
    have h := g_ift w13_0 h
    refine g_aload_n hx hb hl 1 rfl dX1_move_52 ?_
    refine g_aload_n hx hb hl 2 rfl dX1_move_53 ?_
    refine g_iload_n hx hb hl 3 rfl dX1_move_54 ?_
    refine g_aload hx hb hl 0 rfl dX1_move_55 ?_
    refine g_castS (k := 15) hx hb hown hKn hS h (by decide) (by decide) (hts _ q856) dX1_move_57 (fun x57 h => ?_)
    refine g_iload hx hb hl 5 rfl dX1_move_60 ?_
    obtain ⟨b62, hb62, h⟩ := g_bnd h
    obtain ⟨hr62, hk62⟩ := g_chk hb62
    obtain ⟨z62, h62, h⟩ := g_bnd h
    refine g_callV (n := 4) (b := b62) (av := [.inr (.inr v1), .inl v2, .inr (.inr x57), .inl v4]) (rs := []) hx hb hml hown hts hKn hRc hRs hS hl (sX1_sends l E D h62) (lw_V q919 q921 qs14 q113 q922) ⟨rfl, by decide, by decide, by decide +kernel⟩ ⟨by rw [hRf]; exact Nat.le_of_ble_eq_true rfl, by rw [hRl]; exact Nat.le_of_ble_eq_true rfl⟩ (g_recv hKn hS hk62 (by decide) (by decide)) rfl (by rw [hr62]; rfl) (Nat.le_of_ble_eq_true rfl) dX1_move_62 (fun H locs cells slots hS => ?_)
    refine lv_goto (tgt := 142) hx hb dX1_move_65 (by decide) ?_
    exact g_vretG hx hb hr hlk hKn hRc hRs hS h dX1_move_142
  have h := g_iff w13_0 h
  by_cases w13_1 : x10 = 1
  · refine lv_tableIn (tgt := 52) (off := 39) hx hb dX1_move_13 (by rw [w13_1]; decide) (by rw [w13_1]; decide) (by rw [w13_1]; decide) (by decide) ?_
    have h := g_ift w13_1 h
    refine g_aload_n hx hb hl 1 rfl dX1_move_52 ?_
    refine g_aload_n hx hb hl 2 rfl dX1_move_53 ?_
    refine g_iload_n hx hb hl 3 rfl dX1_move_54 ?_
    refine g_aload hx hb hl 0 rfl dX1_move_55 ?_
    refine g_castS (k := 15) hx hb hown hKn hS h (by decide) (by decide) (hts _ q856) dX1_move_57 (fun x57 h => ?_)
    refine g_iload hx hb hl 5 rfl dX1_move_60 ?_
    obtain ⟨b62, hb62, h⟩ := g_bnd h
    obtain ⟨hr62, hk62⟩ := g_chk hb62
    obtain ⟨z62, h62, h⟩ := g_bnd h
    refine g_callV (n := 4) (b := b62) (av := [.inr (.inr v1), .inl v2, .inr (.inr x57), .inl v4]) (rs := []) hx hb hml hown hts hKn hRc hRs hS hl (sX1_sends l E D h62) (lw_V q919 q921 qs14 q113 q922) ⟨rfl, by decide, by decide, by decide +kernel⟩ ⟨by rw [hRf]; exact Nat.le_of_ble_eq_true rfl, by rw [hRl]; exact Nat.le_of_ble_eq_true rfl⟩ (g_recv hKn hS hk62 (by decide) (by decide)) rfl (by rw [hr62]; rfl) (Nat.le_of_ble_eq_true rfl) dX1_move_62 (fun H locs cells slots hS => ?_)
    refine lv_goto (tgt := 142) hx hb dX1_move_65 (by decide) ?_
    exact g_vretG hx hb hr hlk hKn hRc hRs hS h dX1_move_142
  have h := g_iff w13_1 h
  by_cases w13_2 : x10 = 2
  · refine lv_tableIn (tgt := 52) (off := 39) hx hb dX1_move_13 (by rw [w13_2]; decide) (by rw [w13_2]; decide) (by rw [w13_2]; decide) (by decide) ?_
    have h := g_ift w13_2 h
    refine g_aload_n hx hb hl 1 rfl dX1_move_52 ?_
    refine g_aload_n hx hb hl 2 rfl dX1_move_53 ?_
    refine g_iload_n hx hb hl 3 rfl dX1_move_54 ?_
    refine g_aload hx hb hl 0 rfl dX1_move_55 ?_
    refine g_castS (k := 15) hx hb hown hKn hS h (by decide) (by decide) (hts _ q856) dX1_move_57 (fun x57 h => ?_)
    refine g_iload hx hb hl 5 rfl dX1_move_60 ?_
    obtain ⟨b62, hb62, h⟩ := g_bnd h
    obtain ⟨hr62, hk62⟩ := g_chk hb62
    obtain ⟨z62, h62, h⟩ := g_bnd h
    refine g_callV (n := 4) (b := b62) (av := [.inr (.inr v1), .inl v2, .inr (.inr x57), .inl v4]) (rs := []) hx hb hml hown hts hKn hRc hRs hS hl (sX1_sends l E D h62) (lw_V q919 q921 qs14 q113 q922) ⟨rfl, by decide, by decide, by decide +kernel⟩ ⟨by rw [hRf]; exact Nat.le_of_ble_eq_true rfl, by rw [hRl]; exact Nat.le_of_ble_eq_true rfl⟩ (g_recv hKn hS hk62 (by decide) (by decide)) rfl (by rw [hr62]; rfl) (Nat.le_of_ble_eq_true rfl) dX1_move_62 (fun H locs cells slots hS => ?_)
    refine lv_goto (tgt := 142) hx hb dX1_move_65 (by decide) ?_
    exact g_vretG hx hb hr hlk hKn hRc hRs hS h dX1_move_142
  have h := g_iff w13_2 h
  by_cases w13_3 : x10 = 3
  · refine lv_tableIn (tgt := 68) (off := 55) hx hb dX1_move_13 (by rw [w13_3]; decide) (by rw [w13_3]; decide) (by rw [w13_3]; decide) (by decide) ?_
    have h := g_ift w13_3 h
    refine g_aload_n hx hb hl 1 rfl dX1_move_68 ?_
    refine g_aload_n hx hb hl 2 rfl dX1_move_69 ?_
    refine g_iload_n hx hb hl 3 rfl dX1_move_70 ?_
    refine g_aload hx hb hl 0 rfl dX1_move_71 ?_
    refine g_castS (k := 16) hx hb hown hKn hS h (by decide) (by decide) (hts _ q878) dX1_move_73 (fun x73 h => ?_)
    refine g_aload_n hx hb hl 2 rfl dX1_move_76 ?_
    refine g_iload_n hx hb hl 3 rfl dX1_move_77 ?_
    obtain ⟨b78, hb78, h⟩ := g_bnd h
    obtain ⟨hr78, hk78⟩ := g_chk hb78
    obtain ⟨z78, h78, h⟩ := g_bnd h
    refine g_callV (n := 2) (b := b78) (av := [.inr (.inr v1), .inl v2]) (rs := [.inl v2, .inr (.inr v1), .inr (.inr (some t))]) hx hb hml hown hts hKn hRc hRs hS hl (sX13_of l E D h78) (lw_V q890 q827 q828 q148 q829) ⟨rfl, by decide, by decide, by decide +kernel⟩ ⟨by rw [hRf]; exact Nat.le_of_ble_eq_true rfl, by rw [hRl]; exact Nat.le_of_ble_eq_true rfl⟩ (g_recv hKn hS hk78 (by decide) (by decide)) rfl (by rw [hr78]; rfl) (Nat.le_of_ble_eq_true rfl) dX1_move_78 (fun H locs cells slots hS => ?_)
    obtain ⟨b81, hb81, h⟩ := g_bnd h
    obtain ⟨hr81, hk81⟩ := g_chk hb81
    obtain ⟨z81, h81, h⟩ := g_bnd h
    refine g_callV (n := 3) (b := b81) (av := [.inr (.inr v1), .inl v2, .inl z78.1]) (rs := []) hx hb hml hown hts hKn hRc hRs hS hl (sX1_takes l E D h81) (lw_V q941 q943 qs17 q113 q944) ⟨rfl, by decide, by decide, by decide +kernel⟩ ⟨by rw [hRf]; exact Nat.le_of_ble_eq_true rfl, by rw [hRl]; exact Nat.le_of_ble_eq_true rfl⟩ (g_recv hKn hS hk81 (by decide) (by decide)) rfl (by rw [hr81]; rfl) (Nat.le_of_ble_eq_true rfl) dX1_move_81 (fun H locs cells slots hS => ?_)
    refine lv_goto (tgt := 142) hx hb dX1_move_84 (by decide) ?_
    exact g_vretG hx hb hr hlk hKn hRc hRs hS h dX1_move_142
  have h := g_iff w13_3 h
  by_cases w13_4 : x10 = 4
  · refine lv_tableIn (tgt := 87) (off := 74) hx hb dX1_move_13 (by rw [w13_4]; decide) (by rw [w13_4]; decide) (by rw [w13_4]; decide) (by decide) ?_
    have h := g_ift w13_4 h
    refine g_aload_n hx hb hl 1 rfl dX1_move_87 ?_
    refine g_aload_n hx hb hl 2 rfl dX1_move_88 ?_
    refine g_iload_n hx hb hl 3 rfl dX1_move_89 ?_
    refine g_iload_n hx hb hl 4 rfl dX1_move_90 ?_
    obtain ⟨b91, hb91, h⟩ := g_bnd h
    obtain ⟨hr91, hk91⟩ := g_chk hb91
    obtain ⟨z91, h91, h⟩ := g_bnd h
    refine g_callV (n := 3) (b := b91) (av := [.inr (.inr v1), .inl v2, .inl v3]) (rs := []) hx hb hml hown hts hKn hRc hRs hS hl (sX1_takes l E D h91) (lw_V q941 q943 qs17 q113 q944) ⟨rfl, by decide, by decide, by decide +kernel⟩ ⟨by rw [hRf]; exact Nat.le_of_ble_eq_true rfl, by rw [hRl]; exact Nat.le_of_ble_eq_true rfl⟩ (g_recv hKn hS hk91 (by decide) (by decide)) rfl (by rw [hr91]; rfl) (Nat.le_of_ble_eq_true rfl) dX1_move_91 (fun H locs cells slots hS => ?_)
    refine lv_goto (tgt := 142) hx hb dX1_move_94 (by decide) ?_
    exact g_vretG hx hb hr hlk hKn hRc hRs hS h dX1_move_142
  have h := g_iff w13_4 h
  by_cases w13_5 : x10 = 5
  · refine lv_tableIn (tgt := 97) (off := 84) hx hb dX1_move_13 (by rw [w13_5]; decide) (by rw [w13_5]; decide) (by rw [w13_5]; decide) (by decide) ?_
    have h := g_ift w13_5 h
    refine g_aload_n hx hb hl 1 rfl dX1_move_97 ?_
    refine g_iload_n hx hb hl 3 rfl dX1_move_98 ?_
    refine g_aload_n hx hb hl 1 rfl dX1_move_99 ?_
    refine g_rdR hx hb hown hts hKn hS h fd_1_1_8 rfl (Or.inl (hts _ q605)) (fun _ z => z) dX1_move_100 (fun x100 h => ?_)
    refine g_iload_n hx hb hl 3 rfl dX1_move_103 ?_
    refine g_ialoadG hx hb hKn hS h dX1_move_104 (fun x104 h => ?_)
    obtain ⟨b105, hb105, h⟩ := g_bnd h
    obtain ⟨hr105, hk105⟩ := g_chk hb105
    obtain ⟨z105, h105, h⟩ := g_bnd h
    refine g_callV (n := 2) (b := b105) (av := [.inl v2, .inl x104]) (rs := []) hx hb hml hown hts hKn hRc hRs hS hl (sX1_clocks l E D h105) (lw_V q933 q935 qs15 q113 q936) ⟨rfl, by decide, by decide, by decide +kernel⟩ ⟨by rw [hRf]; exact Nat.le_of_ble_eq_true rfl, by rw [hRl]; exact Nat.le_of_ble_eq_true rfl⟩ (g_recv hKn hS hk105 (by decide) (by decide)) rfl (by rw [hr105]; rfl) (Nat.le_of_ble_eq_true rfl) dX1_move_105 (fun H locs cells slots hS => ?_)
    refine g_aload_n hx hb hl 1 rfl dX1_move_108 ?_
    refine g_rdR hx hb hown hts hKn hS h fd_1_1_6 rfl (Or.inl (hts _ q603)) (fun _ z => z) dX1_move_109 (fun x109 h => ?_)
    refine g_iload_n hx hb hl 3 rfl dX1_move_112 ?_
    refine lv_dup2_11 hx hb dX1_move_113 rfl (by first | exact va_rf_cat _ | rfl | exact g_catA _) ?_
    refine g_ialoadG hx hb hKn hS h dX1_move_114 (fun x114 h => ?_)
    refine lv_iconst (v := 1) hx hb dX1_move_115 (by decide) ?_
    refine lv_iadd hx hb dX1_move_116 ?_
    refine g_iastoreG hx hb hKn hS h dX1_move_117 (fun G117 h H locs hS => ?_)
    refine g_aload_n hx hb hl 1 rfl dX1_move_118 ?_
    refine g_aload_n hx hb hl 2 rfl dX1_move_119 ?_
    refine g_iload_n hx hb hl 3 rfl dX1_move_120 ?_
    refine g_aload hx hb hl 0 rfl dX1_move_121 ?_
    refine g_rdR hx hb hown hts hKn hS h fd_11_16_2 rfl (Or.inl (hts _ q1430)) (fun _ z => z) dX1_move_123 (fun x123 h => ?_)
    obtain ⟨b126, hb126, h⟩ := g_bnd h
    obtain ⟨hr126, hk126⟩ := g_chk hb126
    obtain ⟨z126, h126, h⟩ := g_bnd h
    refine g_callV (n := 3) (b := b126) (av := [.inr (.inr v1), .inl v2, .inr (.inr x123)]) (rs := []) hx hb hml hown hts hKn hRc hRs hS hl (sX1_goes l E D h126) (lw_V q732 q734 qs5 q113 q735) ⟨rfl, by decide, by decide, by decide +kernel⟩ ⟨by rw [hRf]; exact Nat.le_of_ble_eq_true rfl, by rw [hRl]; exact Nat.le_of_ble_eq_true rfl⟩ (g_recv hKn hS hk126 (by decide) (by decide)) rfl (by rw [hr126]; rfl) (Nat.le_of_ble_eq_true rfl) dX1_move_126 (fun H locs cells slots hS => ?_)
    refine lv_goto (tgt := 142) hx hb dX1_move_129 (by decide) ?_
    exact g_vretG hx hb hr hlk hKn hRc hRs hS h dX1_move_142
  have h := g_iff w13_5 h
  refine g_tableD (tgt := 132) hx hb dX1_move_13 (by decide) [0, 1, 2, 3, 4, 5] (by decide) (fun k hk => ?_) ?_
  · simp only [List.mem_cons, List.not_mem_nil, or_false] at hk
    rcases hk with rfl | rfl | rfl | rfl | rfl | rfl
    · exact w13_0
    · exact w13_1
    · exact w13_2
    · exact w13_3
    · exact w13_4
    · exact w13_5
  refine g_aload_n hx hb hl 1 rfl dX1_move_132 ?_
  refine g_aload_n hx hb hl 2 rfl dX1_move_133 ?_
  refine g_aload hx hb hl 0 rfl dX1_move_134 ?_
  refine g_rdI hx hb hown hts hKn hS h fd_11_16_0 rfl (Or.inl (hts _ q1422)) (fun _ z => z) dX1_move_136 (fun x136 h => ?_)
  obtain ⟨b139, hb139, h⟩ := g_bnd h
  obtain ⟨hr139, hk139⟩ := g_chk hb139
  obtain ⟨z139, h139, h⟩ := g_bnd h
  refine g_callV (n := 2) (b := b139) (av := [.inr (.inr v1), .inl x136]) (rs := []) hx hb hml hown hts hKn hRc hRs hS hl (sX1_together l E D h139) (lw_V q949 q951 qs18 q113 q952) ⟨rfl, by decide, by decide, by decide +kernel⟩ ⟨by rw [hRf]; exact Nat.le_of_ble_eq_true rfl, by rw [hRl]; exact Nat.le_of_ble_eq_true rfl⟩ (g_recv hKn hS hk139 (by decide) (by decide)) rfl (by rw [hr139]; rfl) (Nat.le_of_ble_eq_true rfl) dX1_move_139 (fun H locs cells slots hS => ?_)
  exact g_vretG hx hb hr hlk hKn hRc hRs hS h dX1_move_142
/-- SendHall.tries(IIII)Z -/
def fX1_tries_b50 (E : g_E) : Nat → Nat → (Option Nat) → Int32 → g_G → Option (Int32 × g_G)
  | 0, _, _, _, _ => none
  | n + 1, t, v5, v6, G =>
    (grI G 1 1 (some t) 15).bind fun x53 =>
    if x53 ≤ v6 then (
      (grI G 1 1 (some t) 15).bind fun x84 =>
      (gpI E G 1 1 (some t) 15 (x84 + 1)).bind fun G89 =>
      (grI G89 1 1 (some t) 15).bind fun x93 =>
      if (200 : Int32) < x93 then (
        if (0 : Int32) = 0 ∨ (0 : Int32) = 1 then some (0, G89) else none)
      else (
        if (1 : Int32) = 0 ∨ (1 : Int32) = 1 then some (1, G89) else none))
    else (
      (grR G 1 1 (some t) 12).bind fun x60 =>
      (gaR G 121 x60 v6).bind fun x65 =>
      (gchk G 3 x65).bind fun b68 =>
      (fX3_isLike E b68 v5 G).bind fun z68 =>
      if z68.1 = 0 then (
        fX1_tries_b50 E n t v5 (v6 + 1) z68.2)
      else (
        if (1 : Int32) = 0 ∨ (1 : Int32) = 1 then some (1, z68.2) else none))
def fX1_tries (E : g_E) (t : Nat) (v1 : Int32) (v2 : Int32) (v3 : Int32) (v4 : Int32) (G : g_G) : Option (Int32 × g_G) :=
  (grR G 1 1 (some t) 12).bind fun x1 =>
  (grI G 1 1 (some t) 15).bind fun x5 =>
  (gaR G 121 x1 x5).bind fun x8 =>
  (grR G 1 1 (some t) 12).bind fun x14 =>
  (gaR G 121 x14 v1).bind fun x18 =>
  (gchk G 3 x8).bind fun b19 =>
  (fX3_copy E b19 x18 G).bind fun z19 =>
  (gchk z19 1 (some t)).bind fun b29 =>
  (fX1_notes E b29 x8 v2 v3 v4 z19).bind fun z29 =>
  (gchk z29 1 (some t)).bind fun b39 =>
  (fX1_move E b39 x8 v2 v3 v4 z29).bind fun z39 =>
  (gchk z39 3 x8).bind fun b44 =>
  (fX3_hashes E b44 z39).bind fun z44 =>
  fX1_tries_b50 E gFU t x8 0 z44
theorem sX1_tries_b50 {p : Program} {l : Launch} {e : Env} {R : Room} {s : State} {m : MethodId} {args : Array Value} {below : List Frame} {meth : Method} {c : Code} {E : g_E} {D : g_D} (C : gC p R s m args meth c cX1_tries 7 RX1 "tries" (some .boolean) 224 7459 E D) : ∀ (n : Nat) (t : Nat) (v5 : Option Nat) (v6 : Int32) (G : g_G) (q : Int32 × g_G), fX1_tries_b50 E n t v5 v6 G = some q → ∀ (H : Heap) (locs : List Loc) (cells slots : Nat) (ls : Array Slot), gSt E D G H locs → gls ls 7 [(0, .inr (.inr (some t))), (5, .inr (.inr v5)), (6, .inl v6)] → gT p l e R s m args below meth c E D H locs cells slots (some (.int q.1)) q.2 (F0 m 50 ls []) := by
  obtain ⟨hx, hb, hml, hown, hts, hKn, hRc, hRs, hc1, hc2, hRf, hRl, hr, hlk, hnm⟩ := id C
  intro n
  induction n with
  | zero =>
    intro t v5 v6 G q h
    exact g_no h
  | succ n ih =>
    intro t v5 v6 G q h H locs cells slots ls hS hl
    rw [fX1_tries_b50] at h
    refine g_iload hx hb hl 2 rfl dX1_tries_50 ?_
    refine g_aload_n hx hb hl 0 rfl dX1_tries_52 ?_
    refine g_rdI hx hb hown hts hKn hS h fd_1_1_15 rfl (Or.inl (hts _ q612)) (fun _ z => z) dX1_tries_53 (fun x53 h => ?_)
    refine lv_icmp_ge (tgt := 82) hx hb dX1_tries_56 (by decide) (fun c_56 => ?_) (fun c_56 => ?_)
    · have h := g_ift c_56 h
      refine g_aload_n hx hb hl 0 rfl dX1_tries_82 ?_
      refine lv_dup hx hb dX1_tries_83 (by first | exact va_rf_cat _ | rfl | exact g_catA _) ?_
      refine g_rdI hx hb hown hts hKn hS h fd_1_1_15 rfl (Or.inl (hts _ q612)) (fun _ z => z) dX1_tries_84 (fun x84 h => ?_)
      refine lv_iconst (v := 1) hx hb dX1_tries_87 (by decide) ?_
      refine lv_iadd hx hb dX1_tries_88 ?_
      refine g_ptI hx hb hown hts hKn hS h fd_1_1_15 (Or.inl (hts _ q612)) (fun _ z => z) (fun z => nomatch z) dX1_tries_89 (fun G89 h H locs hS => ?_)
      refine g_aload_n hx hb hl 0 rfl dX1_tries_92 ?_
      refine g_rdI hx hb hown hts hKn hS h fd_1_1_15 rfl (Or.inl (hts _ q612)) (fun _ z => z) dX1_tries_93 (fun x93 h => ?_)
      refine lv_sipush (v := 200) hx hb dX1_tries_96 (by decide) ?_
      refine lv_icmp_gt (tgt := 106) hx hb dX1_tries_99 (by decide) (fun c_99 => ?_) (fun c_99 => ?_)
      · have h := g_ift c_99 h
        refine lv_iconst (v := 0) hx hb dX1_tries_106 (by decide) ?_
        exact g_zretG hx hb hr hlk hKn hRc hRs hS h dX1_tries_107
      · have h := g_iff c_99 h
        refine lv_iconst (v := 1) hx hb dX1_tries_102 (by decide) ?_
        refine lv_goto (tgt := 107) hx hb dX1_tries_103 (by decide) ?_
        exact g_zretG hx hb hr hlk hKn hRc hRs hS h dX1_tries_107
    · have h := g_iff c_56 h
      refine g_aload_n hx hb hl 0 rfl dX1_tries_59 ?_
      refine g_rdR hx hb hown hts hKn hS h fd_1_1_12 rfl (Or.inl (hts _ q609)) (fun _ z => z) dX1_tries_60 (fun x60 h => ?_)
      refine g_iload hx hb hl 2 rfl dX1_tries_63 ?_
      refine g_aaloadG hx hb hKn hS h (by decide) dX1_tries_65 (fun x65 h => ?_)
      refine g_aload hx hb hl 1 rfl dX1_tries_66 ?_
      obtain ⟨b68, hb68, h⟩ := g_bnd h
      obtain ⟨hr68, hk68⟩ := g_chk hb68
      obtain ⟨z68, h68, h⟩ := g_bnd h
      refine g_callV (n := 1) (b := b68) (av := [.inr (.inr v5)]) (rs := []) hx hb hml hown hts hKn hRc hRs hS hl (sX3_isLike l E D h68) (lw_V q954 q955 q956 q134 q957) ⟨rfl, by decide, by decide, by decide +kernel⟩ ⟨by rw [hRf]; exact Nat.le_of_ble_eq_true rfl, by rw [hRl]; exact Nat.le_of_ble_eq_true rfl⟩ (g_recv hKn hS hk68 (by decide) (by decide)) rfl (by rw [hr68]; rfl) (Nat.le_of_ble_eq_true rfl) dX1_tries_68 (fun H locs cells slots hS => ?_)
      refine lv_if_eq (tgt := 76) hx hb dX1_tries_71 (by decide) (fun c_71 => ?_) (fun c_71 => ?_)
      · have h := g_ift c_71 h
        refine g_iinc (l1 := [(6, .inl (v6 + 1)), (0, .inr (.inr (some t))), (5, .inr (.inr v5))]) (v := (v6 + 1)) hx hb hl (k := 2) rfl (by rfl) (by decide) rfl dX1_tries_76 (fun ls hl => ?_)
        refine lv_goto (tgt := 50) hx hb dX1_tries_79 (by decide) ?_
        exact ih _ _ _ _ _ h _ _ _ _ _ hS (gls_sub hl [1, 2, 0] rfl)
      · have h := g_iff c_71 h
        refine lv_iconst (v := 1) hx hb dX1_tries_74 (by decide) ?_
        exact g_zretG hx hb hr hlk hKn hRc hRs hS h dX1_tries_75
theorem sX1_tries (l : Launch) (E : g_E) (D : g_D) {t : Nat} {v1 : Int32} {v2 : Int32} {v3 : Int32} {v4 : Int32} {G : g_G} {q : Int32 × g_G} (h : fX1_tries E t v1 v2 v3 v4 G = some q) : gMet l E D yX1_tries (ws_ yX1_tries cX1_tries 7 (some .boolean)) 224 7459 [.inr (.inr (some t)), .inl v1, .inl v2, .inl v3, .inl v4] G (some (.int q.1)) q.2 := by
  refine gMet.of (by decide +kernel) (Nat.le_of_ble_eq_true rfl) ?_
  intro p e R s m args below meth c C hS ls hl
  have C : gC p R s m args meth c cX1_tries 7 RX1 "tries" (some .boolean) 224 7459 E D := C
  obtain ⟨hx, hb, hml, hown, hts, hKn, hRc, hRs, hc1, hc2, hRf, hRl, hr, hlk, hnm⟩ := id C
  have hl : gls ls 7 [(0, .inr (.inr (some t))), (1, .inl v1), (2, .inl v2), (3, .inl v3), (4, .inl v4)] := hl
  generalize s.heap = H at hS ⊢
  unfold fX1_tries at h
  refine g_aload_n hx hb hl 0 rfl dX1_tries_0 ?_
  refine g_rdR hx hb hown hts hKn hS h fd_1_1_12 rfl (Or.inl (hts _ q609)) (fun _ z => z) dX1_tries_1 (fun x1 h => ?_)
  refine g_aload_n hx hb hl 0 rfl dX1_tries_4 ?_
  refine g_rdI hx hb hown hts hKn hS h fd_1_1_15 rfl (Or.inl (hts _ q612)) (fun _ z => z) dX1_tries_5 (fun x5 h => ?_)
  refine g_aaloadG hx hb hKn hS h (by decide) dX1_tries_8 (fun x8 h => ?_)
  refine g_astore (l1 := [(5, .inr (.inr x8)), (0, .inr (.inr (some t))), (1, .inl v1), (2, .inl v2), (3, .inl v3), (4, .inl v4)]) hx hb hl (by decide) rfl dX1_tries_9 (fun ls hl => ?_)
  refine g_aload hx hb hl 0 rfl dX1_tries_11 ?_
  refine g_aload_n hx hb hl 1 rfl dX1_tries_13 ?_
  refine g_rdR hx hb hown hts hKn hS h fd_1_1_12 rfl (Or.inl (hts _ q609)) (fun _ z => z) dX1_tries_14 (fun x14 h => ?_)
  refine g_iload_n hx hb hl 2 rfl dX1_tries_17 ?_
  refine g_aaloadG hx hb hKn hS h (by decide) dX1_tries_18 (fun x18 h => ?_)
  obtain ⟨b19, hb19, h⟩ := g_bnd h
  obtain ⟨hr19, hk19⟩ := g_chk hb19
  obtain ⟨z19, h19, h⟩ := g_bnd h
  refine g_callV (n := 1) (b := b19) (av := [.inr (.inr x18)]) (rs := []) hx hb hml hown hts hKn hRc hRs hS hl (sX3_copy l E D h19) (lw_V q903 q904 q905 q134 q906) ⟨rfl, by decide, by decide, by decide +kernel⟩ ⟨by rw [hRf]; exact Nat.le_of_ble_eq_true rfl, by rw [hRl]; exact Nat.le_of_ble_eq_true rfl⟩ (g_recv hKn hS hk19 (by decide) (by decide)) rfl (by rw [hr19]; rfl) (Nat.le_of_ble_eq_true rfl) dX1_tries_19 (fun H locs cells slots hS => ?_)
  refine g_aload_n hx hb hl 1 rfl dX1_tries_22 ?_
  refine g_aload hx hb hl 0 rfl dX1_tries_23 ?_
  refine g_iload_n hx hb hl 3 rfl dX1_tries_25 ?_
  refine g_iload_n hx hb hl 4 rfl dX1_tries_26 ?_
  refine g_iload hx hb hl 5 rfl dX1_tries_27 ?_
  obtain ⟨b29, hb29, h⟩ := g_bnd h
  obtain ⟨hr29, hk29⟩ := g_chk hb29
  obtain ⟨z29, h29, h⟩ := g_bnd h
  refine g_callV (n := 4) (b := b29) (av := [.inr (.inr x8), .inl v2, .inl v3, .inl v4]) (rs := []) hx hb hml hown hts hKn hRc hRs hS hl (sX1_notes l E D h29) (lw_V q911 q913 qs12 q113 q914) ⟨rfl, by decide, by decide, by decide +kernel⟩ ⟨by rw [hRf]; exact Nat.le_of_ble_eq_true rfl, by rw [hRl]; exact Nat.le_of_ble_eq_true rfl⟩ (g_recv hKn hS hk29 (by decide) (by decide)) rfl (by rw [hr29]; rfl) (Nat.le_of_ble_eq_true rfl) dX1_tries_29 (fun H locs cells slots hS => ?_)
  refine g_aload_n hx hb hl 1 rfl dX1_tries_32 ?_
  refine g_aload hx hb hl 0 rfl dX1_tries_33 ?_
  refine g_iload_n hx hb hl 3 rfl dX1_tries_35 ?_
  refine g_iload_n hx hb hl 4 rfl dX1_tries_36 ?_
  refine g_iload hx hb hl 5 rfl dX1_tries_37 ?_
  obtain ⟨b39, hb39, h⟩ := g_bnd h
  obtain ⟨hr39, hk39⟩ := g_chk hb39
  obtain ⟨z39, h39, h⟩ := g_bnd h
  refine g_callV (n := 4) (b := b39) (av := [.inr (.inr x8), .inl v2, .inl v3, .inl v4]) (rs := []) hx hb hml hown hts hKn hRc hRs hS hl (sX1_move l E D h39) (lw_V q915 q917 qs13 q113 q918) ⟨rfl, by decide, by decide, by decide +kernel⟩ ⟨by rw [hRf]; exact Nat.le_of_ble_eq_true rfl, by rw [hRl]; exact Nat.le_of_ble_eq_true rfl⟩ (g_recv hKn hS hk39 (by decide) (by decide)) rfl (by rw [hr39]; rfl) (Nat.le_of_ble_eq_true rfl) dX1_tries_39 (fun H locs cells slots hS => ?_)
  refine g_aload hx hb hl 0 rfl dX1_tries_42 ?_
  obtain ⟨b44, hb44, h⟩ := g_bnd h
  obtain ⟨hr44, hk44⟩ := g_chk hb44
  obtain ⟨z44, h44, h⟩ := g_bnd h
  refine g_callV (n := 0) (b := b44) (av := []) (rs := []) hx hb hml hown hts hKn hRc hRs hS hl (sX3_hashes l E D h44) (lw_V q836 q837 q838 q134 q839) ⟨rfl, by decide, by decide, by decide +kernel⟩ ⟨by rw [hRf]; exact Nat.le_of_ble_eq_true rfl, by rw [hRl]; exact Nat.le_of_ble_eq_true rfl⟩ (g_recv hKn hS hk44 (by decide) (by decide)) rfl (by rw [hr44]; rfl) (Nat.le_of_ble_eq_true rfl) dX1_tries_44 (fun H locs cells slots hS => ?_)
  refine lv_iconst (v := 0) hx hb dX1_tries_47 (by decide) ?_
  refine g_istore (l1 := [(6, .inl 0), (5, .inr (.inr x8)), (0, .inr (.inr (some t))), (1, .inl v1), (2, .inl v2), (3, .inl v3), (4, .inl v4)]) hx hb hl (by decide) rfl dX1_tries_48 (fun ls hl => ?_)
  exact sX1_tries_b50 C gFU _ _ _ _ _ h _ _ _ _ _ hS (gls_sub hl [2, 1, 0] rfl)
/-- SendHallModel.could(II)I -/
def fX4_could_b31 (E : g_E) (t : Nat) (G : g_G) : Option (Int32 × g_G) :=
  (gchk G 4 (some t)).bind fun b33 =>
  (fX4_fail E b33 1 G).bind fun z33 =>
  some (z33.1, z33.2)
def fX4_could (E : g_E) (t : Nat) (v1 : Int32) (v2 : Int32) (G : g_G) : Option (Int32 × g_G) :=
  (gpI E G 4 4 (some t) 2 0).bind fun G2 =>
  (gchk G2 4 (some t)).bind fun b7 =>
  (fX4_isHand E b7 v1 G2).bind fun z7 =>
  if z7.1 = 0 then (
    fX4_could_b31 E t z7.2)
  else (
    (gchk z7.2 4 (some t)).bind fun b15 =>
    (fX4_isStep E b15 v2 z7.2).bind fun z15 =>
    if z15.1 = 0 then (
      fX4_could_b31 E t z15.2)
    else (
      (grR z15.2 4 4 (some t) 24).bind fun x22 =>
      (gaI z15.2 100 x22 v2).bind fun x26 =>
      if x26 = (4 : Int32) then (
        (gchk z15.2 4 (some t)).bind fun b38 =>
        (fX4_tell E b38 z15.2).bind fun z38 =>
        if z38.1 = 0 then (
          some ((-1), z38.2))
        else (
          (grR z38.2 4 4 (some t) 54).bind fun x45 =>
          (gaI z38.2 100 x45 ((40 * v1) + v2)).bind fun x54 =>
          some (x54, z38.2)))
      else (
        fX4_could_b31 E t z15.2)))
theorem sX4_could_b31 {p : Program} {l : Launch} {e : Env} {R : Room} {s : State} {m : MethodId} {args : Array Value} {below : List Frame} {meth : Method} {c : Code} {E : g_E} {D : g_D} (C : gC p R s m args meth c cX4_could 3 RX4 "could" (some .int) 13 348 E D) : ∀ (t : Nat) (G : g_G) (q : Int32 × g_G), fX4_could_b31 E t G = some q → ∀ (H : Heap) (locs : List Loc) (cells slots : Nat) (ls : Array Slot), gSt E D G H locs → gls ls 3 [(0, .inr (.inr (some t)))] → gT p l e R s m args below meth c E D H locs cells slots (some (.int q.1)) q.2 (F0 m 31 ls []) := by
  obtain ⟨hx, hb, hml, hown, hts, hKn, hRc, hRs, hc1, hc2, hRf, hRl, hr, hlk, hnm⟩ := id C
  intro t G q h H locs cells slots ls hS hl
  unfold fX4_could_b31 at h
  refine g_aload_n hx hb hl 0 rfl dX4_could_31 ?_
  refine lv_iconst (v := 1) hx hb dX4_could_32 (by decide) ?_
  obtain ⟨b33, hb33, h⟩ := g_bnd h
  obtain ⟨hr33, hk33⟩ := g_chk hb33
  obtain ⟨z33, h33, h⟩ := g_bnd h
  refine g_callV (n := 1) (b := b33) (av := [.inl 1]) (rs := []) hx hb hml hown hts hKn hRc hRs hS hl (sX4_fail l E D h33) (lw_V q2088 q2090 qs48 q135 q2091) ⟨rfl, by decide, by decide, by decide +kernel⟩ ⟨by rw [hRf]; exact Nat.le_of_ble_eq_true rfl, by rw [hRl]; exact Nat.le_of_ble_eq_true rfl⟩ (g_recv hKn hS hk33 (by decide) (by decide)) rfl (by rw [hr33]; rfl) (Nat.le_of_ble_eq_true rfl) dX4_could_33 (fun H locs cells slots hS => ?_)
  exact g_iretG hx hb hr hlk hKn hRc hRs hS h dX4_could_36
theorem sX4_could (l : Launch) (E : g_E) (D : g_D) {t : Nat} {v1 : Int32} {v2 : Int32} {G : g_G} {q : Int32 × g_G} (h : fX4_could E t v1 v2 G = some q) : gMet l E D yX4_could (ws_ yX4_could cX4_could 3 (some .int)) 13 348 [.inr (.inr (some t)), .inl v1, .inl v2] G (some (.int q.1)) q.2 := by
  refine gMet.of (by decide +kernel) (Nat.le_of_ble_eq_true rfl) ?_
  intro p e R s m args below meth c C hS ls hl
  have C : gC p R s m args meth c cX4_could 3 RX4 "could" (some .int) 13 348 E D := C
  obtain ⟨hx, hb, hml, hown, hts, hKn, hRc, hRs, hc1, hc2, hRf, hRl, hr, hlk, hnm⟩ := id C
  have hl : gls ls 3 [(0, .inr (.inr (some t))), (1, .inl v1), (2, .inl v2)] := hl
  generalize s.heap = H at hS ⊢
  unfold fX4_could at h
  refine g_aload_n hx hb hl 0 rfl dX4_could_0 ?_
  refine lv_iconst (v := 0) hx hb dX4_could_1 (by decide) ?_
  refine g_ptI hx hb hown hts hKn hS h fd_4_4_2 (Or.inl (hts _ q1867)) (fun _ z => z) (fun z => nomatch z) dX4_could_2 (fun G2 h H locs hS => ?_)
  refine g_aload_n hx hb hl 0 rfl dX4_could_5 ?_
  refine g_iload_n hx hb hl 1 rfl dX4_could_6 ?_
  obtain ⟨b7, hb7, h⟩ := g_bnd h
  obtain ⟨hr7, hk7⟩ := g_chk hb7
  obtain ⟨z7, h7, h⟩ := g_bnd h
  refine g_callV (n := 1) (b := b7) (av := [.inl v1]) (rs := []) hx hb hml hown hts hKn hRc hRs hS hl (sX4_isHand l E D h7) (lw_V q2384 q2386 qs105 q135 q2387) ⟨rfl, by decide, by decide, by decide +kernel⟩ ⟨by rw [hRf]; exact Nat.le_of_ble_eq_true rfl, by rw [hRl]; exact Nat.le_of_ble_eq_true rfl⟩ (g_recv hKn hS hk7 (by decide) (by decide)) rfl (by rw [hr7]; rfl) (Nat.le_of_ble_eq_true rfl) dX4_could_7 (fun H locs cells slots hS => ?_)
  refine lv_if_eq (tgt := 31) hx hb dX4_could_10 (by decide) (fun c_10 => ?_) (fun c_10 => ?_)
  · have h := g_ift c_10 h
    exact sX4_could_b31 C _ _ _ h _ _ _ _ _ hS (gls_sub hl [0] rfl)
  · have h := g_iff c_10 h
    refine g_aload_n hx hb hl 0 rfl dX4_could_13 ?_
    refine g_iload_n hx hb hl 2 rfl dX4_could_14 ?_
    obtain ⟨b15, hb15, h⟩ := g_bnd h
    obtain ⟨hr15, hk15⟩ := g_chk hb15
    obtain ⟨z15, h15, h⟩ := g_bnd h
    refine g_callV (n := 1) (b := b15) (av := [.inl v2]) (rs := []) hx hb hml hown hts hKn hRc hRs hS hl (sX4_isStep l E D h15) (lw_V q2209 q2211 qs69 q135 q2212) ⟨rfl, by decide, by decide, by decide +kernel⟩ ⟨by rw [hRf]; exact Nat.le_of_ble_eq_true rfl, by rw [hRl]; exact Nat.le_of_ble_eq_true rfl⟩ (g_recv hKn hS hk15 (by decide) (by decide)) rfl (by rw [hr15]; rfl) (Nat.le_of_ble_eq_true rfl) dX4_could_15 (fun H locs cells slots hS => ?_)
    refine lv_if_eq (tgt := 31) hx hb dX4_could_18 (by decide) (fun c_18 => ?_) (fun c_18 => ?_)
    · have h := g_ift c_18 h
      exact sX4_could_b31 C _ _ _ h _ _ _ _ _ hS (gls_sub hl [0] rfl)
    · have h := g_iff c_18 h
      refine g_aload_n hx hb hl 0 rfl dX4_could_21 ?_
      refine g_rdR hx hb hown hts hKn hS h fd_4_4_24 rfl (Or.inl (hts _ q1889)) (fun _ z => z) dX4_could_22 (fun x22 h => ?_)
      refine g_iload_n hx hb hl 2 rfl dX4_could_25 ?_
      refine g_ialoadG hx hb hKn hS h dX4_could_26 (fun x26 h => ?_)
      refine lv_iconst (v := 4) hx hb dX4_could_27 (by decide) ?_
      refine lv_icmp_eq (tgt := 37) hx hb dX4_could_28 (by decide) (fun c_28 => ?_) (fun c_28 => ?_)
      · have h := g_ift c_28 h
        refine g_aload_n hx hb hl 0 rfl dX4_could_37 ?_
        obtain ⟨b38, hb38, h⟩ := g_bnd h
        obtain ⟨hr38, hk38⟩ := g_chk hb38
        obtain ⟨z38, h38, h⟩ := g_bnd h
        refine g_callV (n := 0) (b := b38) (av := []) (rs := []) hx hb hml hown hts hKn hRc hRs hS hl (sX4_tell l E D h38) (lw_V q2217 q2219 qs70 q135 q2220) ⟨rfl, by decide, by decide, by decide +kernel⟩ ⟨by rw [hRf]; exact Nat.le_of_ble_eq_true rfl, by rw [hRl]; exact Nat.le_of_ble_eq_true rfl⟩ (g_recv hKn hS hk38 (by decide) (by decide)) rfl (by rw [hr38]; rfl) (Nat.le_of_ble_eq_true rfl) dX4_could_38 (fun H locs cells slots hS => ?_)
        refine lv_if_eq (tgt := 58) hx hb dX4_could_41 (by decide) (fun c_41 => ?_) (fun c_41 => ?_)
        · have h := g_ift c_41 h
          refine lv_iconst (v := (-1)) hx hb dX4_could_58 (by decide) ?_
          exact g_iretG hx hb hr hlk hKn hRc hRs hS h dX4_could_59
        · have h := g_iff c_41 h
          refine g_aload_n hx hb hl 0 rfl dX4_could_44 ?_
          refine g_rdR hx hb hown hts hKn hS h fd_4_4_54 rfl (Or.inl (hts _ q1919)) (fun _ z => z) dX4_could_45 (fun x45 h => ?_)
          refine lv_bipush (v := 40) hx hb dX4_could_48 (by decide) ?_
          refine g_iload_n hx hb hl 1 rfl dX4_could_50 ?_
          refine lv_imul hx hb dX4_could_51 ?_
          refine g_iload_n hx hb hl 2 rfl dX4_could_52 ?_
          refine lv_iadd hx hb dX4_could_53 ?_
          refine g_ialoadG hx hb hKn hS h dX4_could_54 (fun x54 h => ?_)
          refine lv_goto (tgt := 59) hx hb dX4_could_55 (by decide) ?_
          exact g_iretG hx hb hr hlk hKn hRc hRs hS h dX4_could_59
      · have h := g_iff c_28 h
        exact sX4_could_b31 C _ _ _ h _ _ _ _ _ hS (gls_sub hl [0] rfl)
