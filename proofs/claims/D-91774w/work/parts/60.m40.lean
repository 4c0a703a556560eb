set_option maxRecDepth 100000
/-- SendHallModel.reached()I -/
def fX4_reached (E : g_E) (t : Nat) (G : g_G) : Option (Int32 × g_G) :=
  (gpI E G 4 4 (some t) 2 0).bind fun G2 =>
  (gchk G2 4 (some t)).bind fun b6 =>
  (fX4_tell E b6 G2).bind fun z6 =>
  if z6.1 = 0 then (
    some ((-1), z6.2))
  else (
    (grI z6.2 4 4 (some t) 53).bind fun x13 =>
    some (x13, z6.2))
theorem sX4_reached (l : Launch) (E : g_E) (D : g_D) {t : Nat} {G : g_G} {q : Int32 × g_G} (h : fX4_reached E t G = some q) : gMet l E D yX4_reached (ws_ yX4_reached cX4_reached 1 (some .int)) 13 348 [.inr (.inr (some t))] G (some (.int q.1)) q.2 := by
  refine gMet.of (by decide +kernel) (Nat.le_of_ble_eq_true rfl) ?_
  intro p e R s m args below meth c C hS ls hl
  have C : gC p R s m args meth c cX4_reached 1 RX4 "reached" (some .int) 13 348 E D := C
  obtain ⟨hx, hb, hml, hown, hts, hKn, hRc, hRs, hc1, hc2, hRf, hRl, hr, hlk, hnm⟩ := id C
  have hl : gls ls 1 [(0, .inr (.inr (some t)))] := hl
  generalize s.heap = H at hS ⊢
  unfold fX4_reached at h
  refine g_aload_n hx hb hl 0 rfl dX4_reached_0 ?_
  refine lv_iconst (v := 0) hx hb dX4_reached_1 (by decide) ?_
  refine g_ptI hx hb hown hts hKn hS h fd_4_4_2 (Or.inl (hts _ q1867)) (fun _ z => z) (fun z => nomatch z) dX4_reached_2 (fun G2 h H locs hS => ?_)
  refine g_aload_n hx hb hl 0 rfl dX4_reached_5 ?_
  obtain ⟨b6, hb6, h⟩ := g_bnd h
  obtain ⟨hr6, hk6⟩ := g_chk hb6
  obtain ⟨z6, h6, h⟩ := g_bnd h
  refine g_callV (n := 0) (b := b6) (av := []) (rs := []) hx hb hml hown hts hKn hRc hRs hS hl (sX4_tell l E D h6) (lw_V q2217 q2219 qs70 q135 q2220) ⟨rfl, by decide, by decide, by decide +kernel⟩ ⟨by rw [hRf]; exact Nat.le_of_ble_eq_true rfl, by rw [hRl]; exact Nat.le_of_ble_eq_true rfl⟩ (g_recv hKn hS hk6 (by decide) (by decide)) rfl (by rw [hr6]; rfl) (Nat.le_of_ble_eq_true rfl) dX4_reached_6 (fun H locs cells slots hS => ?_)
  refine lv_if_eq (tgt := 19) hx hb dX4_reached_9 (by decide) (fun c_9 => ?_) (fun c_9 => ?_)
  · have h := g_ift c_9 h
    refine lv_iconst (v := (-1)) hx hb dX4_reached_19 (by decide) ?_
    exact g_iretG hx hb hr hlk hKn hRc hRs hS h dX4_reached_20
  · have h := g_iff c_9 h
    refine g_aload_n hx hb hl 0 rfl dX4_reached_12 ?_
    refine g_rdI hx hb hown hts hKn hS h fd_4_4_53 rfl (Or.inl (hts _ q1918)) (fun _ z => z) dX4_reached_13 (fun x13 h => ?_)
    refine lv_goto (tgt := 20) hx hb dX4_reached_16 (by decide) ?_
    exact g_iretG hx hb hr hlk hKn hRc hRs hS h dX4_reached_20
/-- SendHall$Reader.expr()LSendHall$Expr; -/
def fX5_expr_b27 (E : g_E) (fE : g_E → Nat → g_G → Option ((Option Nat × g_G) ⊕ gX)) (t : Nat) (v1 : Option Nat) (G : g_G) : Option ((Option Nat × g_G) ⊕ gX) :=
  (gnewO E G 9 2).bind fun z27 =>
  (fX11_init E z27.1 v1 z27.2).bind fun z32 =>
  (grR z32 5 5 (some t) 9).bind fun x37 =>
  (gchk z32 19 x37).bind fun b41 =>
  (fJ9_charAt E b41 0 z32).bind fun z41 =>
  (gchk z41.2 5 (some t)).bind fun b46 =>
  (fX5_go E b46 z41.2).bind fun z46 =>
  (gchk z46 5 (some t)).bind fun b52 =>
  gcat (fX5_sum E fE b52 z46) (fun z52 =>
    (gchk z52.2 9 (some z27.1)).bind fun b55 =>
    (fX11_add E b55 z41.1 z52.1 z52.2).bind fun z55 =>
    some (.inl ((some z27.1), z55)))
  (fun y => some (.inr y))
def fX5_expr (E : g_E) (fE : g_E → Nat → g_G → Option ((Option Nat × g_G) ⊕ gX)) (t : Nat) (G : g_G) : Option ((Option Nat × g_G) ⊕ gX) :=
  (gchk G 5 (some t)).bind fun b1 =>
  gcat (fX5_sum E fE b1 G) (fun z1 =>
    (gchk z1.2 5 (some t)).bind fun b9 =>
    (fX5_is E b9 (some (gA E 34)) z1.2).bind fun z9 =>
    if ¬ z9.1 = 0 then (
      fX5_expr_b27 E fE t z1.1 z9.2)
    else (
      (gchk z9.2 5 (some t)).bind fun b19 =>
      (fX5_is E b19 (some (gA E 35)) z9.2).bind fun z19 =>
      if ¬ z19.1 = 0 then (
        fX5_expr_b27 E fE t z1.1 z19.2)
      else (
        some (.inl (z1.1, z19.2)))))
  (fun y => some (.inr y))
theorem sX5_expr_b27 {p : Program} {l : Launch} {e : Env} {R : Room} {s : State} {m : MethodId} {args : Array Value} {below : List Frame} {meth : Method} {c : Code} {E : g_E} {D : g_D} {fE : g_E → Nat → g_G → Option ((Option Nat × g_G) ⊕ gX)} {fF : Nat} {fL : Nat} (C : gC p R s m args meth c cX5_expr 4 RX5 "expr" (some (.object "SendHall$Expr")) (fF + 8) (fL + 400) E D) (hlT : l.stackTraces = false) (htab : c.exceptionTable.toList = []) (hfE : ∀ (l : Launch) (E : g_E) (D : g_D), l.stackTraces = false → ∀ {t : Nat} {G : g_G} {q : (Option Nat × g_G) ⊕ gX}, fE E t G = some q → gMetX l E D yX5_expr (ws_ yX5_expr cX5_expr 4 (some (.object "SendHall$Expr"))) fF fL [.inr (.inr (some t))] G gokA q) (hF : 60 ≤ fF) (hL : 3000 ≤ fL) : ∀ (t : Nat) (v1 : Option Nat) (G : g_G) (q : (Option Nat × g_G) ⊕ gX), fX5_expr_b27 E fE t v1 G = some q → ∀ (H : Heap) (locs : List Loc) (cells slots : Nat) (ls : Array Slot), gSt E D G H locs → gls ls 4 [(0, .inr (.inr (some t))), (1, .inr (.inr v1))] → gTX p l e R s m args below meth c E D H locs cells slots gokA q (F0 m 27 ls []) := by
  obtain ⟨hx, hb, hml, hown, hts, hKn, hRc, hRs, hc1, hc2, hRf, hRl, hr, hlk, hnm⟩ := id C
  intro t v1 G q h H locs cells slots ls hS hl
  unfold fX5_expr_b27 at h
  refine g_newG (k := 9) hx hb hown hts hKn hRc hRs hS h (by decide) (by decide) (hts _ q1507) (hts _ q1508) (hts _ q145) dX5_expr_27 (fun z27 h H locs cells slots hS => ?_)
  refine lv_dup hx hb dX5_expr_30 (by first | exact va_rf_cat _ | rfl | exact g_catA _) ?_
  refine g_aload_n hx hb hl 1 rfl dX5_expr_31 ?_
  obtain ⟨z32, h32, h⟩ := g_bnd h
  refine g_callI (n := 1) (av := [.inr (.inr v1)]) (rs := [.inr (.inr (some z27.1))]) hx hb hml hown hts hKn hRc hRs hS hl (sX11_init l E D h32) (lw_meth q1511) (hts _ q145) (hts _ q1509) (hts _ q1510) rfl ⟨by decide, by decide, by decide +kernel⟩ ⟨by rw [hRf]; omega, by rw [hRl]; omega⟩ rfl rfl (Nat.le_of_ble_eq_true rfl) dX5_expr_32 (fun H locs cells slots hS => ?_)
  refine g_astore_n (l1 := [(2, .inr (.inr (some z27.1))), (0, .inr (.inr (some t))), (1, .inr (.inr v1))]) hx hb hl (by decide) rfl dX5_expr_35 (fun ls hl => ?_)
  refine g_aload_n hx hb hl 1 rfl dX5_expr_36 ?_
  refine g_rdR hx hb hown hts hKn hS h fd_5_5_9 rfl (Or.inl (hts _ q1242)) (fun _ z => z) dX5_expr_37 (fun x37 h => ?_)
  refine lv_iconst (v := 0) hx hb dX5_expr_40 (by decide) ?_
  obtain ⟨b41, hb41, h⟩ := g_bnd h
  obtain ⟨hr41, hk41⟩ := g_chk hb41
  obtain ⟨z41, h41, h⟩ := g_bnd h
  refine g_callV (n := 1) (b := b41) (av := [.inl 0]) (rs := []) hx hb hml hown hts hKn hRc hRs hS hl (sJ9_charAt l E D h41) (lw_V q1523 q1524 q1525 q124 q1526) ⟨rfl, by decide, by decide, by decide +kernel⟩ ⟨by rw [hRf]; omega, by rw [hRl]; omega⟩ (g_recv hKn hS hk41 (by decide) (by decide)) rfl (by rw [hr41]; rfl) (Nat.le_of_ble_eq_true rfl) dX5_expr_41 (fun H locs cells slots hS => ?_)
  refine g_istore_n (l1 := [(3, .inl z41.1), (2, .inr (.inr (some z27.1))), (0, .inr (.inr (some t))), (1, .inr (.inr v1))]) hx hb hl (by decide) rfl dX5_expr_44 (fun ls hl => ?_)
  refine g_aload_n hx hb hl 2 rfl dX5_expr_45 ?_
  obtain ⟨b46, hb46, h⟩ := g_bnd h
  obtain ⟨hr46, hk46⟩ := g_chk hb46
  obtain ⟨z46, h46, h⟩ := g_bnd h
  refine g_callV (n := 0) (b := b46) (av := []) (rs := []) hx hb hml hown hts hKn hRc hRs hS hl (sX5_go l E D h46) (lw_V q1118 q1120 qs24 q136 q1121) ⟨rfl, by decide, by decide, by decide +kernel⟩ ⟨by rw [hRf]; omega, by rw [hRl]; omega⟩ (g_recv hKn hS hk46 (by decide) (by decide)) rfl (by rw [hr46]; rfl) (Nat.le_of_ble_eq_true rfl) dX5_expr_46 (fun H locs cells slots hS => ?_)
  refine g_aload_n hx hb hl 1 rfl dX5_expr_49 ?_
  refine g_iload_n hx hb hl 0 rfl dX5_expr_50 ?_
  refine g_aload_n hx hb hl 2 rfl dX5_expr_51 ?_
  obtain ⟨b52, hb52, h⟩ := g_bnd h
  obtain ⟨hr52, hk52⟩ := g_chk hb52
  obtain ⟨o52, h52, ha52, hx52⟩ := g_catE h
  refine g_callVt (n := 0) (b := b52) (av := []) (rs := [.inl z41.1, .inr (.inr (some z27.1))]) hx hb hml hown hts hKn hRc hRs hS hl (sX5_sum l E D hlT hfE hF hL h52) (lw_V q1470 q1472 qs31 q136 q1473) ⟨rfl, by decide, by decide, by decide +kernel⟩ ⟨by rw [hRf]; omega, by rw [hRl]; omega⟩ (g_recv hKn hS hk52 (by decide) (by decide)) rfl (by rw [hr52]; rfl) (Nat.le_of_ble_eq_true rfl) dX5_expr_52 (fun z52 e52 H locs cells slots hS => ?_) (fun k52 a52 G52 e52 n1 n2 nk nB H locs cells slots hS => ?_)
  · have h := ha52 _ e52
    obtain ⟨b55, hb55, h⟩ := g_bnd h
    obtain ⟨hr55, hk55⟩ := g_chk hb55
    obtain ⟨z55, h55, h⟩ := g_bnd h
    refine g_callV (n := 2) (b := b55) (av := [.inl z41.1, .inr (.inr z52.1)]) (rs := []) hx hb hml hown hts hKn hRc hRs hS hl (sX11_add l E D h55) (lw_V q1534 q1535 q1536 q145 q1537) ⟨rfl, by decide, by decide, by decide +kernel⟩ ⟨by rw [hRf]; omega, by rw [hRl]; omega⟩ (g_recv hKn hS hk55 (by decide) (by decide)) rfl (by rw [hr55]; rfl) (Nat.le_of_ble_eq_true rfl) dX5_expr_55 (fun H locs cells slots hS => ?_)
    refine g_aload_n hx hb hl 1 rfl dX5_expr_58 ?_
    exact g_retX (g_aretG hx hb hr (by first | exact Or.inl ⟨_, rfl⟩ | exact Or.inr ⟨_, rfl⟩) hlk hKn hRc hRs hS (q := ((some z27.1), z55)) rfl dX5_expr_59) h rfl
  · have h := hx52 _ e52
    exact g_outX (by rw [htab]; decide) hlk hKn hRc hRs hS n1 n2 nB nk h
theorem sX5_expr (l : Launch) (E : g_E) (D : g_D) (hlT : l.stackTraces = false) {fE : g_E → Nat → g_G → Option ((Option Nat × g_G) ⊕ gX)} {fF : Nat} {fL : Nat} (hfE : ∀ (l : Launch) (E : g_E) (D : g_D), l.stackTraces = false → ∀ {t : Nat} {G : g_G} {q : (Option Nat × g_G) ⊕ gX}, fE E t G = some q → gMetX l E D yX5_expr (ws_ yX5_expr cX5_expr 4 (some (.object "SendHall$Expr"))) fF fL [.inr (.inr (some t))] G gokA q) (hF : 60 ≤ fF) (hL : 3000 ≤ fL) {t : Nat} {G : g_G} {q : (Option Nat × g_G) ⊕ gX} (h : fX5_expr E fE t G = some q) : gMetX l E D yX5_expr (ws_ yX5_expr cX5_expr 4 (some (.object "SendHall$Expr"))) (fF + 8) (fL + 400) [.inr (.inr (some t))] G gokA q := by
  refine gMetX.of (by decide +kernel) (Nat.le_of_ble_eq_true rfl) ?_
  intro p e R s m args below meth c C htab hS ls hl
  have C : gC p R s m args meth c cX5_expr 4 RX5 "expr" (some (.object "SendHall$Expr")) (fF + 8) (fL + 400) E D := C
  obtain ⟨hx, hb, hml, hown, hts, hKn, hRc, hRs, hc1, hc2, hRf, hRl, hr, hlk, hnm⟩ := id C
  have hl : gls ls 4 [(0, .inr (.inr (some t)))] := hl
  generalize hH0 : s.heap = H at hS ⊢
  unfold fX5_expr at h
  refine g_aload_n hx hb hl 0 rfl dX5_expr_0 ?_
  obtain ⟨b1, hb1, h⟩ := g_bnd h
  obtain ⟨hr1, hk1⟩ := g_chk hb1
  obtain ⟨o1, h1, ha1, hx1⟩ := g_catE h
  refine g_callVt (n := 0) (b := b1) (av := []) (rs := []) hx hb hml hown hts hKn hRc hRs hS hl (sX5_sum l E D hlT hfE hF hL h1) (lw_V q1470 q1472 qs31 q136 q1473) ⟨rfl, by decide, by decide, by decide +kernel⟩ ⟨by rw [hRf]; omega, by rw [hRl]; omega⟩ (g_recv hKn hS hk1 (by decide) (by decide)) rfl (by rw [hr1]; rfl) (Nat.le_of_ble_eq_true rfl) dX5_expr_1 (fun z1 e1 H locs cells slots hS => ?_) (fun k1 a1 G1 e1 n1 n2 nk nB H locs cells slots hS => ?_)
  · have h := ha1 _ e1
    refine g_astore_n (l1 := [(1, .inr (.inr z1.1)), (0, .inr (.inr (some t)))]) hx hb hl (by decide) rfl dX5_expr_4 (fun ls hl => ?_)
    refine g_aload_n hx hb hl 1 rfl dX5_expr_5 ?_
    refine g_ldcwS (i := 34) hx hb hown hKn (List.mem_of_getElem? (i := 14) rfl) dX5_expr_6 ?_
    obtain ⟨b9, hb9, h⟩ := g_bnd h
    obtain ⟨hr9, hk9⟩ := g_chk hb9
    obtain ⟨z9, h9, h⟩ := g_bnd h
    refine g_callV (n := 1) (b := b9) (av := [.inr (.inr (some (gA E 34)))]) (rs := []) hx hb hml hown hts hKn hRc hRs hS hl (sX5_is l E D h9) (lw_V q1483 q1485 qs34 q136 q1486) ⟨rfl, by decide, by decide, by decide +kernel⟩ ⟨by rw [hRf]; omega, by rw [hRl]; omega⟩ (g_recv hKn hS hk9 (by decide) (by decide)) rfl (by rw [hr9]; rfl) (Nat.le_of_ble_eq_true rfl) dX5_expr_9 (fun H locs cells slots hS => ?_)
    refine lv_if_ne (tgt := 27) hx hb dX5_expr_12 (by decide) (fun c_12 => ?_) (fun c_12 => ?_)
    · have h := g_ift c_12 h
      exact sX5_expr_b27 C hlT htab hfE hF hL _ _ _ _ h _ _ _ _ _ hS (gls_sub hl [1, 0] rfl)
    · have h := g_iff (fun z => z c_12) h
      refine g_aload_n hx hb hl 1 rfl dX5_expr_15 ?_
      refine g_ldcwS (i := 35) hx hb hown hKn (List.mem_of_getElem? (i := 15) rfl) dX5_expr_16 ?_
      obtain ⟨b19, hb19, h⟩ := g_bnd h
      obtain ⟨hr19, hk19⟩ := g_chk hb19
      obtain ⟨z19, h19, h⟩ := g_bnd h
      refine g_callV (n := 1) (b := b19) (av := [.inr (.inr (some (gA E 35)))]) (rs := []) hx hb hml hown hts hKn hRc hRs hS hl (sX5_is l E D h19) (lw_V q1483 q1485 qs34 q136 q1486) ⟨rfl, by decide, by decide, by decide +kernel⟩ ⟨by rw [hRf]; omega, by rw [hRl]; omega⟩ (g_recv hKn hS hk19 (by decide) (by decide)) rfl (by rw [hr19]; rfl) (Nat.le_of_ble_eq_true rfl) dX5_expr_19 (fun H locs cells slots hS => ?_)
      refine lv_if_ne (tgt := 27) hx hb dX5_expr_22 (by decide) (fun c_22 => ?_) (fun c_22 => ?_)
      · have h := g_ift c_22 h
        exact sX5_expr_b27 C hlT htab hfE hF hL _ _ _ _ h _ _ _ _ _ hS (gls_sub hl [1, 0] rfl)
      · have h := g_iff (fun z => z c_22) h
        refine g_aload_n hx hb hl 0 rfl dX5_expr_25 ?_
        exact g_retX (g_aretG hx hb hr (by first | exact Or.inl ⟨_, rfl⟩ | exact Or.inr ⟨_, rfl⟩) hlk hKn hRc hRs hS (q := (z1.1, z19.2)) rfl dX5_expr_26) h rfl
  · have h := hx1 _ e1
    exact g_outX (by rw [htab]; decide) hlk hKn hRc hRs hS n1 n2 nB nk h
/-- tied: calls may lie d deep in one another -/
def gF_expr : Nat → Nat
  | 0 => 60
  | d + 1 => gF_expr d + 8
def gL_expr : Nat → Nat
  | 0 => 3000
  | d + 1 => gL_expr d + 400
theorem gF_expr_ge : ∀ d, 60 ≤ gF_expr d
  | 0 => Nat.le_refl _
  | d + 1 => Nat.le_trans (gF_expr_ge d) (Nat.le_add_right _ _)
theorem gL_expr_ge : ∀ d, 3000 ≤ gL_expr d
  | 0 => Nat.le_refl _
  | d + 1 => Nat.le_trans (gL_expr_ge d) (Nat.le_add_right _ _)
def fR_expr : Nat → g_E → Nat → g_G → Option ((Option Nat × g_G) ⊕ gX)
  | 0 => fun _ _ _ => none
  | d + 1 => fun E t G => fX5_expr E (fR_expr d) t G
theorem sR_expr : ∀ (d : Nat) (l : Launch) (E : g_E) (D : g_D), l.stackTraces = false → ∀ {t : Nat} {G : g_G} {q : (Option Nat × g_G) ⊕ gX}, fR_expr d E t G = some q → gMetX l E D yX5_expr (ws_ yX5_expr cX5_expr 4 (some (.object "SendHall$Expr"))) (gF_expr d) (gL_expr d) [.inr (.inr (some t))] G gokA q
  | 0 => by
    intro l E D hlT t G q h
    exact g_no h
  | d + 1 => by
    intro l E D hlT t G q h
    exact sX5_expr l E D hlT (sR_expr d) (gF_expr_ge d) (gL_expr_ge d) h
theorem sT_expr (l : Launch) (E : g_E) (D : g_D) (hlT : l.stackTraces = false) {t : Nat} {G : g_G} {q : (Option Nat × g_G) ⊕ gX} (h : fR_expr 10 E t G = some q) : gMetX l E D yX5_expr (ws_ yX5_expr cX5_expr 4 (some (.object "SendHall$Expr"))) 140 7000 [.inr (.inr (some t))] G gokA q := sR_expr 10 l E D hlT h
/-- SendHall$Reader.plain(LSendHall$Plain;)LSendHall$Step; -/
def fX5_plain (E : g_E) (t : Nat) (v1 : Option Nat) (G : g_G) : Option ((Option Nat × g_G) ⊕ gX) :=
  (grR G 5 5 (some t) 10).bind fun x1 =>
  (grR G 2 2 x1 0).bind fun x4 =>
  (gchk G 17 x4).bind fun b8 =>
  (fJ2_add_2 E b8 v1 G).bind fun z8 =>
  (grI z8.2 11 11 v1 0).bind fun x13 =>
  if x13 = (7 : Int32) then (
    (gchk z8.2 5 (some t)).bind fun b25 =>
    gcat (fX5_sum E (fR_expr 10) b25 z8.2) (fun z25 =>
      (gpR E z25.2 11 11 v1 3 z25.1).bind fun G28 =>
      (gchk G28 5 (some t)).bind fun b35 =>
      gcat (fX5_need E b35 (some (gA E 51)) G28) (fun z35 =>
        (gchk z35 5 (some t)).bind fun b40 =>
        gcat (fX5_var E b40 z35) (fun z40 =>
          (gpI E z40.2 11 11 v1 4 z40.1).bind fun G43 =>
          some (.inl (v1, G43)))
        (fun y => some (.inr y)))
      (fun y => some (.inr y)))
    (fun y => some (.inr y)))
  else (
    some (.inl (v1, z8.2)))
theorem sX5_plain (l : Launch) (E : g_E) (D : g_D) (hlT : l.stackTraces = false) {t : Nat} {v1 : Option Nat} {G : g_G} {q : (Option Nat × g_G) ⊕ gX} (h : fX5_plain E t v1 G = some q) : gMetX l E D yX5_plain (ws_ yX5_plain cX5_plain 2 (some (.object "SendHall$Step"))) 147 7323 [.inr (.inr (some t)), .inr (.inr v1)] G gokA q := by
  refine gMetX.of (by decide +kernel) (Nat.le_of_ble_eq_true rfl) ?_
  intro p e R s m args below meth c C htab hS ls hl
  have C : gC p R s m args meth c cX5_plain 2 RX5 "plain" (some (.object "SendHall$Step")) 147 7323 E D := C
  obtain ⟨hx, hb, hml, hown, hts, hKn, hRc, hRs, hc1, hc2, hRf, hRl, hr, hlk, hnm⟩ := id C
  have hl : gls ls 2 [(0, .inr (.inr (some t))), (1, .inr (.inr v1))] := hl
  generalize hH0 : s.heap = H at hS ⊢
  unfold fX5_plain at h
  refine g_aload_n hx hb hl 0 rfl dX5_plain_0 ?_
  refine g_rdR hx hb hown hts hKn hS h fd_5_5_10 rfl (Or.inl (hts _ q1243)) (fun _ z => z) dX5_plain_1 (fun x1 h => ?_)
  refine g_rdR hx hb hown hts hKn hS h fd_2_2_0 rfl (Or.inr ⟨_, gNest_use rfl (hKn.2.2.2.2.1 _ (gNest_in q513 rfl))⟩) (fun _ z => z) dX5_plain_4 (fun x4 h => ?_)
  refine g_aload_n hx hb hl 1 rfl dX5_plain_7 ?_
  obtain ⟨b8, hb8, h⟩ := g_bnd h
  obtain ⟨hr8, hk8⟩ := g_chk hb8
  obtain ⟨z8, h8, h⟩ := g_bnd h
  refine g_callV (n := 1) (b := b8) (av := [.inr (.inr v1)]) (rs := []) hx hb hml hown hts hKn hRc hRs hS hl (sJ2_add_2 l E D h8) (lw_V q1462 q1463 q1464 q117 q1465) ⟨rfl, by decide, by decide, by decide +kernel⟩ ⟨by rw [hRf]; exact Nat.le_of_ble_eq_true rfl, by rw [hRl]; exact Nat.le_of_ble_eq_true rfl⟩ (g_recv hKn hS hk8 (by decide) (by decide)) rfl (by rw [hr8]; rfl) (Nat.le_of_ble_eq_true rfl) dX5_plain_8 (fun H locs cells slots hS => ?_)
  refine lv_pop hx hb dX5_plain_11 rfl ?_
  refine g_aload_n hx hb hl 1 rfl dX5_plain_12 ?_
  refine g_rdI hx hb hown hts hKn hS h fd_11_11_0 rfl (Or.inl (hts _ q1425)) (u_same (hts _ q1426)) dX5_plain_13 (fun x13 h => ?_)
  refine lv_bipush (v := 7) hx hb dX5_plain_16 (by decide) ?_
  refine lv_icmp_eq (tgt := 23) hx hb dX5_plain_18 (by decide) (fun c_18 => ?_) (fun c_18 => ?_)
  · have h := g_ift c_18 h
    refine g_aload_n hx hb hl 1 rfl dX5_plain_23 ?_
    refine g_aload_n hx hb hl 0 rfl dX5_plain_24 ?_
    obtain ⟨b25, hb25, h⟩ := g_bnd h
    obtain ⟨hr25, hk25⟩ := g_chk hb25
    obtain ⟨o25, h25, ha25, hx25⟩ := g_catE h
    refine g_callVt (n := 0) (b := b25) (av := []) (rs := [.inr (.inr v1)]) hx hb hml hown hts hKn hRc hRs hS hl (sX5_sum l E D hlT (fun l E D hlT => sT_expr l E D hlT) (Nat.le_of_ble_eq_true rfl) (Nat.le_of_ble_eq_true rfl) h25) (lw_V q1470 q1472 qs31 q136 q1473) ⟨rfl, by decide, by decide, by decide +kernel⟩ ⟨by rw [hRf]; exact Nat.le_of_ble_eq_true rfl, by rw [hRl]; exact Nat.le_of_ble_eq_true rfl⟩ (g_recv hKn hS hk25 (by decide) (by decide)) rfl (by rw [hr25]; rfl) (Nat.le_of_ble_eq_true rfl) dX5_plain_25 (fun z25 e25 H locs cells slots hS => ?_) (fun k25 a25 G25 e25 n1 n2 nk nB H locs cells slots hS => ?_)
    · have h := ha25 _ e25
      refine g_ptR hx hb hown hts hKn hS h fd_11_11_3 rfl (Or.inr ⟨rfl, _, gNest_use rfl (hKn.2.2.2.2.1 _ (gNest_in q1687 rfl))⟩) (fun _ z => z) (fun z => nomatch z) dX5_plain_28 (fun G28 h H locs hS => ?_)
      refine g_aload_n hx hb hl 0 rfl dX5_plain_31 ?_
      refine g_ldcwS (i := 51) hx hb hown hKn (List.mem_of_getElem? (i := 31) rfl) dX5_plain_32 ?_
      obtain ⟨b35, hb35, h⟩ := g_bnd h
      obtain ⟨hr35, hk35⟩ := g_chk hb35
      obtain ⟨o35, h35, ha35, hx35⟩ := g_catE h
      refine g_callVt (n := 1) (b := b35) (av := [.inr (.inr (some (gA E 51)))]) (rs := []) hx hb hml hown hts hKn hRc hRs hS hl (sX5_need l E D hlT h35) (lw_V q1554 q1556 qs37 q136 q1557) ⟨rfl, by decide, by decide, by decide +kernel⟩ ⟨by rw [hRf]; exact Nat.le_of_ble_eq_true rfl, by rw [hRl]; exact Nat.le_of_ble_eq_true rfl⟩ (g_recv hKn hS hk35 (by decide) (by decide)) rfl (by rw [hr35]; rfl) (Nat.le_of_ble_eq_true rfl) dX5_plain_35 (fun z35 e35 H locs cells slots hS => ?_) (fun k35 a35 G35 e35 n1 n2 nk nB H locs cells slots hS => ?_)
      · have h := ha35 _ e35
        refine g_aload_n hx hb hl 1 rfl dX5_plain_38 ?_
        refine g_aload_n hx hb hl 0 rfl dX5_plain_39 ?_
        obtain ⟨b40, hb40, h⟩ := g_bnd h
        obtain ⟨hr40, hk40⟩ := g_chk hb40
        obtain ⟨o40, h40, ha40, hx40⟩ := g_catE h
        refine g_callVt (n := 0) (b := b40) (av := []) (rs := [.inr (.inr v1)]) hx hb hml hown hts hKn hRc hRs hS hl (sX5_var l E D hlT h40) (lw_V q1613 q1615 qs39 q136 q1616) ⟨rfl, by decide, by decide, by decide +kernel⟩ ⟨by rw [hRf]; exact Nat.le_of_ble_eq_true rfl, by rw [hRl]; exact Nat.le_of_ble_eq_true rfl⟩ (g_recv hKn hS hk40 (by decide) (by decide)) rfl (by rw [hr40]; rfl) (Nat.le_of_ble_eq_true rfl) dX5_plain_40 (fun z40 e40 H locs cells slots hS => ?_) (fun k40 a40 G40 e40 n1 n2 nk nB H locs cells slots hS => ?_)
        · have h := ha40 _ e40
          refine g_ptI hx hb hown hts hKn hS h fd_11_11_4 (Or.inr ⟨rfl, _, gNest_use rfl (hKn.2.2.2.2.1 _ (gNest_in q1689 rfl))⟩) (fun _ z => z) (fun z => nomatch z) dX5_plain_43 (fun G43 h H locs hS => ?_)
          refine g_aload_n hx hb hl 1 rfl dX5_plain_46 ?_
          exact g_retX (g_aretG hx hb hr (by first | exact Or.inl ⟨_, rfl⟩ | exact Or.inr ⟨_, rfl⟩) hlk hKn hRc hRs hS (q := (v1, G43)) rfl dX5_plain_47) h rfl
        · have h := hx40 _ e40
          exact g_outX (by rw [htab]; decide) hlk hKn hRc hRs hS n1 n2 nB nk h
      · have h := hx35 _ e35
        exact g_outX (by rw [htab]; decide) hlk hKn hRc hRs hS n1 n2 nB nk h
    · have h := hx25 _ e25
      exact g_outX (by rw [htab]; decide) hlk hKn hRc hRs hS n1 n2 nB nk h
  · have h := g_iff c_18 h
    refine g_aload_n hx hb hl 1 rfl dX5_plain_21 ?_
    exact g_retX (g_aretG hx hb hr (by first | exact Or.inl ⟨_, rfl⟩ | exact Or.inr ⟨_, rfl⟩) hlk hKn hRc hRs hS (q := (v1, z8.2)) rfl dX5_plain_22) h rfl
/-- SendHall$Reader.send(LSendHall$Send;)LSendHall$Step; -/
def fX5_send (E : g_E) (t : Nat) (v1 : Option Nat) (G : g_G) : Option ((Option Nat × g_G) ⊕ gX) :=
  (grR G 5 5 (some t) 10).bind fun x1 =>
  (grR G 2 2 x1 0).bind fun x4 =>
  (gchk G 17 x4).bind fun b8 =>
  (fJ2_add_2 E b8 v1 G).bind fun z8 =>
  (gchk z8.2 5 (some t)).bind fun b14 =>
  gcat (fX5_sum E (fR_expr 10) b14 z8.2) (fun z14 =>
    (gpR E z14.2 15 15 v1 4 z14.1).bind fun G17 =>
    (gchk G17 5 (some t)).bind fun b24 =>
    gcat (fX5_need E b24 (some (gA E 48)) G17) (fun z24 =>
      (gchk z24 5 (some t)).bind fun b29 =>
      gcat (fX5_sum E (fR_expr 10) b29 z24) (fun z29 =>
        (gpR E z29.2 15 15 v1 3 z29.1).bind fun G32 =>
        (gchk G32 5 (some t)).bind fun b39 =>
        gcat (fX5_need E b39 (some (gA E 49)) G32) (fun z39 =>
          (gchk z39 5 (some t)).bind fun b44 =>
          gcat (fX5_sum E (fR_expr 10) b44 z39) (fun z44 =>
            (gpR E z44.2 15 15 v1 5 z44.1).bind fun G47 =>
            (gchk G47 5 (some t)).bind fun b54 =>
            (fX5_is E b54 (some (gA E 50)) G47).bind fun z54 =>
            if z54.1 = 0 then (
              some (.inl (v1, z54.2)))
            else (
              (gchk z54.2 5 (some t)).bind fun b61 =>
              (fX5_go E b61 z54.2).bind fun z61 =>
              (gchk z61 5 (some t)).bind fun b69 =>
              gcat (fX5_number E b69 1 99 z61) (fun z69 =>
                (gpI E z69.2 15 15 v1 6 z69.1).bind fun G72 =>
                some (.inl (v1, G72)))
              (fun y => some (.inr y))))
          (fun y => some (.inr y)))
        (fun y => some (.inr y)))
      (fun y => some (.inr y)))
    (fun y => some (.inr y)))
  (fun y => some (.inr y))
theorem sX5_send (l : Launch) (E : g_E) (D : g_D) (hlT : l.stackTraces = false) {t : Nat} {v1 : Option Nat} {G : g_G} {q : (Option Nat × g_G) ⊕ gX} (h : fX5_send E t v1 G = some q) : gMetX l E D yX5_send (ws_ yX5_send cX5_send 2 (some (.object "SendHall$Step"))) 147 7323 [.inr (.inr (some t)), .inr (.inr v1)] G gokA q := by
  refine gMetX.of (by decide +kernel) (Nat.le_of_ble_eq_true rfl) ?_
  intro p e R s m args below meth c C htab hS ls hl
  have C : gC p R s m args meth c cX5_send 2 RX5 "send" (some (.object "SendHall$Step")) 147 7323 E D := C
  obtain ⟨hx, hb, hml, hown, hts, hKn, hRc, hRs, hc1, hc2, hRf, hRl, hr, hlk, hnm⟩ := id C
  have hl : gls ls 2 [(0, .inr (.inr (some t))), (1, .inr (.inr v1))] := hl
  generalize hH0 : s.heap = H at hS ⊢
  unfold fX5_send at h
  refine g_aload_n hx hb hl 0 rfl dX5_send_0 ?_
  refine g_rdR hx hb hown hts hKn hS h fd_5_5_10 rfl (Or.inl (hts _ q1243)) (fun _ z => z) dX5_send_1 (fun x1 h => ?_)
  refine g_rdR hx hb hown hts hKn hS h fd_2_2_0 rfl (Or.inr ⟨_, gNest_use rfl (hKn.2.2.2.2.1 _ (gNest_in q513 rfl))⟩) (fun _ z => z) dX5_send_4 (fun x4 h => ?_)
  refine g_aload_n hx hb hl 1 rfl dX5_send_7 ?_
  obtain ⟨b8, hb8, h⟩ := g_bnd h
  obtain ⟨hr8, hk8⟩ := g_chk hb8
  obtain ⟨z8, h8, h⟩ := g_bnd h
  refine g_callV (n := 1) (b := b8) (av := [.inr (.inr v1)]) (rs := []) hx hb hml hown hts hKn hRc hRs hS hl (sJ2_add_2 l E D h8) (lw_V q1462 q1463 q1464 q117 q1465) ⟨rfl, by decide, by decide, by decide +kernel⟩ ⟨by rw [hRf]; exact Nat.le_of_ble_eq_true rfl, by rw [hRl]; exact Nat.le_of_ble_eq_true rfl⟩ (g_recv hKn hS hk8 (by decide) (by decide)) rfl (by rw [hr8]; rfl) (Nat.le_of_ble_eq_true rfl) dX5_send_8 (fun H locs cells slots hS => ?_)
  refine lv_pop hx hb dX5_send_11 rfl ?_
  refine g_aload_n hx hb hl 1 rfl dX5_send_12 ?_
  refine g_aload_n hx hb hl 0 rfl dX5_send_13 ?_
  obtain ⟨b14, hb14, h⟩ := g_bnd h
  obtain ⟨hr14, hk14⟩ := g_chk hb14
  obtain ⟨o14, h14, ha14, hx14⟩ := g_catE h
  refine g_callVt (n := 0) (b := b14) (av := []) (rs := [.inr (.inr v1)]) hx hb hml hown hts hKn hRc hRs hS hl (sX5_sum l E D hlT (fun l E D hlT => sT_expr l E D hlT) (Nat.le_of_ble_eq_true rfl) (Nat.le_of_ble_eq_true rfl) h14) (lw_V q1470 q1472 qs31 q136 q1473) ⟨rfl, by decide, by decide, by decide +kernel⟩ ⟨by rw [hRf]; exact Nat.le_of_ble_eq_true rfl, by rw [hRl]; exact Nat.le_of_ble_eq_true rfl⟩ (g_recv hKn hS hk14 (by decide) (by decide)) rfl (by rw [hr14]; rfl) (Nat.le_of_ble_eq_true rfl) dX5_send_14 (fun z14 e14 H locs cells slots hS => ?_) (fun k14 a14 G14 e14 n1 n2 nk nB H locs cells slots hS => ?_)
  · have h := ha14 _ e14
    refine g_ptR hx hb hown hts hKn hS h fd_15_15_4 rfl (Or.inr ⟨rfl, _, gNest_use rfl (hKn.2.2.2.2.1 _ (gNest_in q1407 rfl))⟩) (fun _ z => z) (fun z => nomatch z) dX5_send_17 (fun G17 h H locs hS => ?_)
    refine g_aload_n hx hb hl 0 rfl dX5_send_20 ?_
    refine g_ldcwS (i := 48) hx hb hown hKn (List.mem_of_getElem? (i := 28) rfl) dX5_send_21 ?_
    obtain ⟨b24, hb24, h⟩ := g_bnd h
    obtain ⟨hr24, hk24⟩ := g_chk hb24
    obtain ⟨o24, h24, ha24, hx24⟩ := g_catE h
    refine g_callVt (n := 1) (b := b24) (av := [.inr (.inr (some (gA E 48)))]) (rs := []) hx hb hml hown hts hKn hRc hRs hS hl (sX5_need l E D hlT h24) (lw_V q1554 q1556 qs37 q136 q1557) ⟨rfl, by decide, by decide, by decide +kernel⟩ ⟨by rw [hRf]; exact Nat.le_of_ble_eq_true rfl, by rw [hRl]; exact Nat.le_of_ble_eq_true rfl⟩ (g_recv hKn hS hk24 (by decide) (by decide)) rfl (by rw [hr24]; rfl) (Nat.le_of_ble_eq_true rfl) dX5_send_24 (fun z24 e24 H locs cells slots hS => ?_) (fun k24 a24 G24 e24 n1 n2 nk nB H locs cells slots hS => ?_)
    · have h := ha24 _ e24
      refine g_aload_n hx hb hl 1 rfl dX5_send_27 ?_
      refine g_aload_n hx hb hl 0 rfl dX5_send_28 ?_
      obtain ⟨b29, hb29, h⟩ := g_bnd h
      obtain ⟨hr29, hk29⟩ := g_chk hb29
      obtain ⟨o29, h29, ha29, hx29⟩ := g_catE h
      refine g_callVt (n := 0) (b := b29) (av := []) (rs := [.inr (.inr v1)]) hx hb hml hown hts hKn hRc hRs hS hl (sX5_sum l E D hlT (fun l E D hlT => sT_expr l E D hlT) (Nat.le_of_ble_eq_true rfl) (Nat.le_of_ble_eq_true rfl) h29) (lw_V q1470 q1472 qs31 q136 q1473) ⟨rfl, by decide, by decide, by decide +kernel⟩ ⟨by rw [hRf]; exact Nat.le_of_ble_eq_true rfl, by rw [hRl]; exact Nat.le_of_ble_eq_true rfl⟩ (g_recv hKn hS hk29 (by decide) (by decide)) rfl (by rw [hr29]; rfl) (Nat.le_of_ble_eq_true rfl) dX5_send_29 (fun z29 e29 H locs cells slots hS => ?_) (fun k29 a29 G29 e29 n1 n2 nk nB H locs cells slots hS => ?_)
      · have h := ha29 _ e29
        refine g_ptR hx hb hown hts hKn hS h fd_15_15_3 rfl (Or.inl (hts _ q1414)) (u_same (hts _ q1415)) (fun z => nomatch z) dX5_send_32 (fun G32 h H locs hS => ?_)
        refine g_aload_n hx hb hl 0 rfl dX5_send_35 ?_
        refine g_ldcwS (i := 49) hx hb hown hKn (List.mem_of_getElem? (i := 29) rfl) dX5_send_36 ?_
        obtain ⟨b39, hb39, h⟩ := g_bnd h
        obtain ⟨hr39, hk39⟩ := g_chk hb39
        obtain ⟨o39, h39, ha39, hx39⟩ := g_catE h
        refine g_callVt (n := 1) (b := b39) (av := [.inr (.inr (some (gA E 49)))]) (rs := []) hx hb hml hown hts hKn hRc hRs hS hl (sX5_need l E D hlT h39) (lw_V q1554 q1556 qs37 q136 q1557) ⟨rfl, by decide, by decide, by decide +kernel⟩ ⟨by rw [hRf]; exact Nat.le_of_ble_eq_true rfl, by rw [hRl]; exact Nat.le_of_ble_eq_true rfl⟩ (g_recv hKn hS hk39 (by decide) (by decide)) rfl (by rw [hr39]; rfl) (Nat.le_of_ble_eq_true rfl) dX5_send_39 (fun z39 e39 H locs cells slots hS => ?_) (fun k39 a39 G39 e39 n1 n2 nk nB H locs cells slots hS => ?_)
        · have h := ha39 _ e39
          refine g_aload_n hx hb hl 1 rfl dX5_send_42 ?_
          refine g_aload_n hx hb hl 0 rfl dX5_send_43 ?_
          obtain ⟨b44, hb44, h⟩ := g_bnd h
          obtain ⟨hr44, hk44⟩ := g_chk hb44
          obtain ⟨o44, h44, ha44, hx44⟩ := g_catE h
          refine g_callVt (n := 0) (b := b44) (av := []) (rs := [.inr (.inr v1)]) hx hb hml hown hts hKn hRc hRs hS hl (sX5_sum l E D hlT (fun l E D hlT => sT_expr l E D hlT) (Nat.le_of_ble_eq_true rfl) (Nat.le_of_ble_eq_true rfl) h44) (lw_V q1470 q1472 qs31 q136 q1473) ⟨rfl, by decide, by decide, by decide +kernel⟩ ⟨by rw [hRf]; exact Nat.le_of_ble_eq_true rfl, by rw [hRl]; exact Nat.le_of_ble_eq_true rfl⟩ (g_recv hKn hS hk44 (by decide) (by decide)) rfl (by rw [hr44]; rfl) (Nat.le_of_ble_eq_true rfl) dX5_send_44 (fun z44 e44 H locs cells slots hS => ?_) (fun k44 a44 G44 e44 n1 n2 nk nB H locs cells slots hS => ?_)
          · have h := ha44 _ e44
            refine g_ptR hx hb hown hts hKn hS h fd_15_15_5 rfl (Or.inr ⟨rfl, _, gNest_use rfl (hKn.2.2.2.2.1 _ (gNest_in q1409 rfl))⟩) (fun _ z => z) (fun z => nomatch z) dX5_send_47 (fun G47 h H locs hS => ?_)
            refine g_aload_n hx hb hl 0 rfl dX5_send_50 ?_
            refine g_ldcwS (i := 50) hx hb hown hKn (List.mem_of_getElem? (i := 30) rfl) dX5_send_51 ?_
            obtain ⟨b54, hb54, h⟩ := g_bnd h
            obtain ⟨hr54, hk54⟩ := g_chk hb54
            obtain ⟨z54, h54, h⟩ := g_bnd h
            refine g_callV (n := 1) (b := b54) (av := [.inr (.inr (some (gA E 50)))]) (rs := []) hx hb hml hown hts hKn hRc hRs hS hl (sX5_is l E D h54) (lw_V q1483 q1485 qs34 q136 q1486) ⟨rfl, by decide, by decide, by decide +kernel⟩ ⟨by rw [hRf]; exact Nat.le_of_ble_eq_true rfl, by rw [hRl]; exact Nat.le_of_ble_eq_true rfl⟩ (g_recv hKn hS hk54 (by decide) (by decide)) rfl (by rw [hr54]; rfl) (Nat.le_of_ble_eq_true rfl) dX5_send_54 (fun H locs cells slots hS => ?_)
            refine lv_if_eq (tgt := 75) hx hb dX5_send_57 (by decide) (fun c_57 => ?_) (fun c_57 => ?_)
            · have h := g_ift c_57 h
              refine g_aload_n hx hb hl 1 rfl dX5_send_75 ?_
              exact g_retX (g_aretG hx hb hr (by first | exact Or.inl ⟨_, rfl⟩ | exact Or.inr ⟨_, rfl⟩) hlk hKn hRc hRs hS (q := (v1, z54.2)) rfl dX5_send_76) h rfl
            · have h := g_iff c_57 h
              refine g_aload_n hx hb hl 0 rfl dX5_send_60 ?_
              obtain ⟨b61, hb61, h⟩ := g_bnd h
              obtain ⟨hr61, hk61⟩ := g_chk hb61
              obtain ⟨z61, h61, h⟩ := g_bnd h
              refine g_callV (n := 0) (b := b61) (av := []) (rs := []) hx hb hml hown hts hKn hRc hRs hS hl (sX5_go l E D h61) (lw_V q1118 q1120 qs24 q136 q1121) ⟨rfl, by decide, by decide, by decide +kernel⟩ ⟨by rw [hRf]; exact Nat.le_of_ble_eq_true rfl, by rw [hRl]; exact Nat.le_of_ble_eq_true rfl⟩ (g_recv hKn hS hk61 (by decide) (by decide)) rfl (by rw [hr61]; rfl) (Nat.le_of_ble_eq_true rfl) dX5_send_61 (fun H locs cells slots hS => ?_)
              refine g_aload_n hx hb hl 1 rfl dX5_send_64 ?_
              refine g_aload_n hx hb hl 0 rfl dX5_send_65 ?_
              refine lv_iconst (v := 1) hx hb dX5_send_66 (by decide) ?_
              refine lv_bipush (v := 99) hx hb dX5_send_67 (by decide) ?_
              obtain ⟨b69, hb69, h⟩ := g_bnd h
              obtain ⟨hr69, hk69⟩ := g_chk hb69
              obtain ⟨o69, h69, ha69, hx69⟩ := g_catE h
              refine g_callVt (n := 2) (b := b69) (av := [.inl 1, .inl 99]) (rs := [.inr (.inr v1)]) hx hb hml hown hts hKn hRc hRs hS hl (sX5_number l E D hlT h69) (lw_V q1489 q1491 qs35 q136 q1492) ⟨rfl, by decide, by decide, by decide +kernel⟩ ⟨by rw [hRf]; exact Nat.le_of_ble_eq_true rfl, by rw [hRl]; exact Nat.le_of_ble_eq_true rfl⟩ (g_recv hKn hS hk69 (by decide) (by decide)) rfl (by rw [hr69]; rfl) (Nat.le_of_ble_eq_true rfl) dX5_send_69 (fun z69 e69 H locs cells slots hS => ?_) (fun k69 a69 G69 e69 n1 n2 nk nB H locs cells slots hS => ?_)
              · have h := ha69 _ e69
                refine g_ptI hx hb hown hts hKn hS h fd_15_15_6 (Or.inr ⟨rfl, _, gNest_use rfl (hKn.2.2.2.2.1 _ (gNest_in q1412 rfl))⟩) (fun _ z => z) (fun z => nomatch z) dX5_send_72 (fun G72 h H locs hS => ?_)
                refine g_aload_n hx hb hl 1 rfl dX5_send_75 ?_
                exact g_retX (g_aretG hx hb hr (by first | exact Or.inl ⟨_, rfl⟩ | exact Or.inr ⟨_, rfl⟩) hlk hKn hRc hRs hS (q := (v1, G72)) rfl dX5_send_76) h rfl
              · have h := hx69 _ e69
                exact g_outX (by rw [htab]; decide) hlk hKn hRc hRs hS n1 n2 nB nk h
          · have h := hx44 _ e44
            exact g_outX (by rw [htab]; decide) hlk hKn hRc hRs hS n1 n2 nB nk h
        · have h := hx39 _ e39
          exact g_outX (by rw [htab]; decide) hlk hKn hRc hRs hS n1 n2 nB nk h
      · have h := hx29 _ e29
        exact g_outX (by rw [htab]; decide) hlk hKn hRc hRs hS n1 n2 nB nk h
    · have h := hx24 _ e24
      exact g_outX (by rw [htab]; decide) hlk hKn hRc hRs hS n1 n2 nB nk h
  · have h := hx14 _ e14
    exact g_outX (by rw [htab]; decide) hlk hKn hRc hRs hS n1 n2 nB nk h
/-- SendHall$Reader.wait(LSendHall$Wait;)LSendHall$Step; -/
def fX5_wait_b44 (E : g_E) (t : Nat) (v1 : Option Nat) (G : g_G) : Option ((Option Nat × g_G) ⊕ gX) :=
  (gchk G 5 (some t)).bind fun b48 =>
  gcat (fX5_need E b48 (some (gA E 48)) G) (fun z48 =>
    (gchk z48 5 (some t)).bind fun b53 =>
    gcat (fX5_sum E (fR_expr 10) b53 z48) (fun z53 =>
      (gpR E z53.2 16 16 v1 3 z53.1).bind fun G56 =>
      (gchk G56 5 (some t)).bind fun b63 =>
      gcat (fX5_need E b63 (some (gA E 51)) G56) (fun z63 =>
        (gchk z63 5 (some t)).bind fun b68 =>
        gcat (fX5_var E b68 z63) (fun z68 =>
          (gpI E z68.2 16 16 v1 5 z68.1).bind fun G71 =>
          (gchk G71 5 (some t)).bind fun b78 =>
          (fX5_is E b78 (some (gA E 52)) G71).bind fun z78 =>
          if z78.1 = 0 then (
            some (.inl (v1, z78.2)))
          else (
            (gchk z78.2 5 (some t)).bind fun b85 =>
            (fX5_go E b85 z78.2).bind fun z85 =>
            (gchk z85 5 (some t)).bind fun b93 =>
            gcat (fX5_number E b93 1 99 z85) (fun z93 =>
              (gpI E z93.2 16 16 v1 6 z93.1).bind fun G96 =>
              some (.inl (v1, G96)))
            (fun y => some (.inr y))))
        (fun y => some (.inr y)))
      (fun y => some (.inr y)))
    (fun y => some (.inr y)))
  (fun y => some (.inr y))
def fX5_wait (E : g_E) (t : Nat) (v1 : Option Nat) (G : g_G) : Option ((Option Nat × g_G) ⊕ gX) :=
  (grR G 5 5 (some t) 10).bind fun x1 =>
  (grR G 2 2 x1 0).bind fun x4 =>
  (gchk G 17 x4).bind fun b8 =>
  (fJ2_add_2 E b8 v1 G).bind fun z8 =>
  (grI z8.2 16 16 v1 0).bind fun x13 =>
  if ¬ x13 = (3 : Int32) then (
    (grR z8.2 5 5 (some t) 10).bind fun x32 =>
    (grI z8.2 2 2 x32 2).bind fun x36 =>
    (gpI E z8.2 2 2 x32 2 (x36 + 1)).bind fun G41 =>
    fX5_wait_b44 E t v1 G41)
  else (
    (gchk z8.2 5 (some t)).bind fun b22 =>
    gcat (fX5_sum E (fR_expr 10) b22 z8.2) (fun z22 =>
      (gpR E z22.2 16 16 v1 4 z22.1).bind fun G25 =>
      fX5_wait_b44 E t v1 G25)
    (fun y => some (.inr y)))
theorem sX5_wait_b44 {p : Program} {l : Launch} {e : Env} {R : Room} {s : State} {m : MethodId} {args : Array Value} {below : List Frame} {meth : Method} {c : Code} {E : g_E} {D : g_D} (C : gC p R s m args meth c cX5_wait 2 RX5 "wait" (some (.object "SendHall$Step")) 147 7323 E D) (hlT : l.stackTraces = false) (htab : c.exceptionTable.toList = []) : ∀ (t : Nat) (v1 : Option Nat) (G : g_G) (q : (Option Nat × g_G) ⊕ gX), fX5_wait_b44 E t v1 G = some q → ∀ (H : Heap) (locs : List Loc) (cells slots : Nat) (ls : Array Slot), gSt E D G H locs → gls ls 2 [(0, .inr (.inr (some t))), (1, .inr (.inr v1))] → gTX p l e R s m args below meth c E D H locs cells slots gokA q (F0 m 44 ls []) := by
  obtain ⟨hx, hb, hml, hown, hts, hKn, hRc, hRs, hc1, hc2, hRf, hRl, hr, hlk, hnm⟩ := id C
  intro t v1 G q h H locs cells slots ls hS hl
  unfold fX5_wait_b44 at h
  refine g_aload_n hx hb hl 0 rfl dX5_wait_44 ?_
  refine g_ldcwS (i := 48) hx hb hown hKn (List.mem_of_getElem? (i := 28) rfl) dX5_wait_45 ?_
  obtain ⟨b48, hb48, h⟩ := g_bnd h
  obtain ⟨hr48, hk48⟩ := g_chk hb48
  obtain ⟨o48, h48, ha48, hx48⟩ := g_catE h
  refine g_callVt (n := 1) (b := b48) (av := [.inr (.inr (some (gA E 48)))]) (rs := []) hx hb hml hown hts hKn hRc hRs hS hl (sX5_need l E D hlT h48) (lw_V q1554 q1556 qs37 q136 q1557) ⟨rfl, by decide, by decide, by decide +kernel⟩ ⟨by rw [hRf]; exact Nat.le_of_ble_eq_true rfl, by rw [hRl]; exact Nat.le_of_ble_eq_true rfl⟩ (g_recv hKn hS hk48 (by decide) (by decide)) rfl (by rw [hr48]; rfl) (Nat.le_of_ble_eq_true rfl) dX5_wait_48 (fun z48 e48 H locs cells slots hS => ?_) (fun k48 a48 G48 e48 n1 n2 nk nB H locs cells slots hS => ?_)
  · have h := ha48 _ e48
    refine g_aload_n hx hb hl 1 rfl dX5_wait_51 ?_
    refine g_aload_n hx hb hl 0 rfl dX5_wait_52 ?_
    obtain ⟨b53, hb53, h⟩ := g_bnd h
    obtain ⟨hr53, hk53⟩ := g_chk hb53
    obtain ⟨o53, h53, ha53, hx53⟩ := g_catE h
    refine g_callVt (n := 0) (b := b53) (av := []) (rs := [.inr (.inr v1)]) hx hb hml hown hts hKn hRc hRs hS hl (sX5_sum l E D hlT (fun l E D hlT => sT_expr l E D hlT) (Nat.le_of_ble_eq_true rfl) (Nat.le_of_ble_eq_true rfl) h53) (lw_V q1470 q1472 qs31 q136 q1473) ⟨rfl, by decide, by decide, by decide +kernel⟩ ⟨by rw [hRf]; exact Nat.le_of_ble_eq_true rfl, by rw [hRl]; exact Nat.le_of_ble_eq_true rfl⟩ (g_recv hKn hS hk53 (by decide) (by decide)) rfl (by rw [hr53]; rfl) (Nat.le_of_ble_eq_true rfl) dX5_wait_53 (fun z53 e53 H locs cells slots hS => ?_) (fun k53 a53 G53 e53 n1 n2 nk nB H locs cells slots hS => ?_)
    · have h := ha53 _ e53
      refine g_ptR hx hb hown hts hKn hS h fd_16_16_3 rfl (Or.inl (hts _ q1416)) (u_same (hts _ q1417)) (fun z => nomatch z) dX5_wait_56 (fun G56 h H locs hS => ?_)
      refine g_aload_n hx hb hl 0 rfl dX5_wait_59 ?_
      refine g_ldcwS (i := 51) hx hb hown hKn (List.mem_of_getElem? (i := 31) rfl) dX5_wait_60 ?_
      obtain ⟨b63, hb63, h⟩ := g_bnd h
      obtain ⟨hr63, hk63⟩ := g_chk hb63
      obtain ⟨o63, h63, ha63, hx63⟩ := g_catE h
      refine g_callVt (n := 1) (b := b63) (av := [.inr (.inr (some (gA E 51)))]) (rs := []) hx hb hml hown hts hKn hRc hRs hS hl (sX5_need l E D hlT h63) (lw_V q1554 q1556 qs37 q136 q1557) ⟨rfl, by decide, by decide, by decide +kernel⟩ ⟨by rw [hRf]; exact Nat.le_of_ble_eq_true rfl, by rw [hRl]; exact Nat.le_of_ble_eq_true rfl⟩ (g_recv hKn hS hk63 (by decide) (by decide)) rfl (by rw [hr63]; rfl) (Nat.le_of_ble_eq_true rfl) dX5_wait_63 (fun z63 e63 H locs cells slots hS => ?_) (fun k63 a63 G63 e63 n1 n2 nk nB H locs cells slots hS => ?_)
      · have h := ha63 _ e63
        refine g_aload_n hx hb hl 1 rfl dX5_wait_66 ?_
        refine g_aload_n hx hb hl 0 rfl dX5_wait_67 ?_
        obtain ⟨b68, hb68, h⟩ := g_bnd h
        obtain ⟨hr68, hk68⟩ := g_chk hb68
        obtain ⟨o68, h68, ha68, hx68⟩ := g_catE h
        refine g_callVt (n := 0) (b := b68) (av := []) (rs := [.inr (.inr v1)]) hx hb hml hown hts hKn hRc hRs hS hl (sX5_var l E D hlT h68) (lw_V q1613 q1615 qs39 q136 q1616) ⟨rfl, by decide, by decide, by decide +kernel⟩ ⟨by rw [hRf]; exact Nat.le_of_ble_eq_true rfl, by rw [hRl]; exact Nat.le_of_ble_eq_true rfl⟩ (g_recv hKn hS hk68 (by decide) (by decide)) rfl (by rw [hr68]; rfl) (Nat.le_of_ble_eq_true rfl) dX5_wait_68 (fun z68 e68 H locs cells slots hS => ?_) (fun k68 a68 G68 e68 n1 n2 nk nB H locs cells slots hS => ?_)
        · have h := ha68 _ e68
          refine g_ptI hx hb hown hts hKn hS h fd_16_16_5 (Or.inr ⟨rfl, _, gNest_use rfl (hKn.2.2.2.2.1 _ (gNest_in q1594 rfl))⟩) (fun _ z => z) (fun z => nomatch z) dX5_wait_71 (fun G71 h H locs hS => ?_)
          refine g_aload_n hx hb hl 0 rfl dX5_wait_74 ?_
          refine g_ldcwS (i := 52) hx hb hown hKn (List.mem_of_getElem? (i := 32) rfl) dX5_wait_75 ?_
          obtain ⟨b78, hb78, h⟩ := g_bnd h
          obtain ⟨hr78, hk78⟩ := g_chk hb78
          obtain ⟨z78, h78, h⟩ := g_bnd h
          refine g_callV (n := 1) (b := b78) (av := [.inr (.inr (some (gA E 52)))]) (rs := []) hx hb hml hown hts hKn hRc hRs hS hl (sX5_is l E D h78) (lw_V q1483 q1485 qs34 q136 q1486) ⟨rfl, by decide, by decide, by decide +kernel⟩ ⟨by rw [hRf]; exact Nat.le_of_ble_eq_true rfl, by rw [hRl]; exact Nat.le_of_ble_eq_true rfl⟩ (g_recv hKn hS hk78 (by decide) (by decide)) rfl (by rw [hr78]; rfl) (Nat.le_of_ble_eq_true rfl) dX5_wait_78 (fun H locs cells slots hS => ?_)
          refine lv_if_eq (tgt := 99) hx hb dX5_wait_81 (by decide) (fun c_81 => ?_) (fun c_81 => ?_)
          · have h := g_ift c_81 h
            refine g_aload_n hx hb hl 1 rfl dX5_wait_99 ?_
            exact g_retX (g_aretG hx hb hr (by first | exact Or.inl ⟨_, rfl⟩ | exact Or.inr ⟨_, rfl⟩) hlk hKn hRc hRs hS (q := (v1, z78.2)) rfl dX5_wait_100) h rfl
          · have h := g_iff c_81 h
            refine g_aload_n hx hb hl 0 rfl dX5_wait_84 ?_
            obtain ⟨b85, hb85, h⟩ := g_bnd h
            obtain ⟨hr85, hk85⟩ := g_chk hb85
            obtain ⟨z85, h85, h⟩ := g_bnd h
            refine g_callV (n := 0) (b := b85) (av := []) (rs := []) hx hb hml hown hts hKn hRc hRs hS hl (sX5_go l E D h85) (lw_V q1118 q1120 qs24 q136 q1121) ⟨rfl, by decide, by decide, by decide +kernel⟩ ⟨by rw [hRf]; exact Nat.le_of_ble_eq_true rfl, by rw [hRl]; exact Nat.le_of_ble_eq_true rfl⟩ (g_recv hKn hS hk85 (by decide) (by decide)) rfl (by rw [hr85]; rfl) (Nat.le_of_ble_eq_true rfl) dX5_wait_85 (fun H locs cells slots hS => ?_)
            refine g_aload_n hx hb hl 1 rfl dX5_wait_88 ?_
            refine g_aload_n hx hb hl 0 rfl dX5_wait_89 ?_
            refine lv_iconst (v := 1) hx hb dX5_wait_90 (by decide) ?_
            refine lv_bipush (v := 99) hx hb dX5_wait_91 (by decide) ?_
            obtain ⟨b93, hb93, h⟩ := g_bnd h
            obtain ⟨hr93, hk93⟩ := g_chk hb93
            obtain ⟨o93, h93, ha93, hx93⟩ := g_catE h
            refine g_callVt (n := 2) (b := b93) (av := [.inl 1, .inl 99]) (rs := [.inr (.inr v1)]) hx hb hml hown hts hKn hRc hRs hS hl (sX5_number l E D hlT h93) (lw_V q1489 q1491 qs35 q136 q1492) ⟨rfl, by decide, by decide, by decide +kernel⟩ ⟨by rw [hRf]; exact Nat.le_of_ble_eq_true rfl, by rw [hRl]; exact Nat.le_of_ble_eq_true rfl⟩ (g_recv hKn hS hk93 (by decide) (by decide)) rfl (by rw [hr93]; rfl) (Nat.le_of_ble_eq_true rfl) dX5_wait_93 (fun z93 e93 H locs cells slots hS => ?_) (fun k93 a93 G93 e93 n1 n2 nk nB H locs cells slots hS => ?_)
            · have h := ha93 _ e93
              refine g_ptI hx hb hown hts hKn hS h fd_16_16_6 (Or.inr ⟨rfl, _, gNest_use rfl (hKn.2.2.2.2.1 _ (gNest_in q1597 rfl))⟩) (fun _ z => z) (fun z => nomatch z) dX5_wait_96 (fun G96 h H locs hS => ?_)
              refine g_aload_n hx hb hl 1 rfl dX5_wait_99 ?_
              exact g_retX (g_aretG hx hb hr (by first | exact Or.inl ⟨_, rfl⟩ | exact Or.inr ⟨_, rfl⟩) hlk hKn hRc hRs hS (q := (v1, G96)) rfl dX5_wait_100) h rfl
            · have h := hx93 _ e93
              exact g_outX (by rw [htab]; decide) hlk hKn hRc hRs hS n1 n2 nB nk h
        · have h := hx68 _ e68
          exact g_outX (by rw [htab]; decide) hlk hKn hRc hRs hS n1 n2 nB nk h
      · have h := hx63 _ e63
        exact g_outX (by rw [htab]; decide) hlk hKn hRc hRs hS n1 n2 nB nk h
    · have h := hx53 _ e53
      exact g_outX (by rw [htab]; decide) hlk hKn hRc hRs hS n1 n2 nB nk h
  · have h := hx48 _ e48
    exact g_outX (by rw [htab]; decide) hlk hKn hRc hRs hS n1 n2 nB nk h
theorem sX5_wait (l : Launch) (E : g_E) (D : g_D) (hlT : l.stackTraces = false) {t : Nat} {v1 : Option Nat} {G : g_G} {q : (Option Nat × g_G) ⊕ gX} (h : fX5_wait E t v1 G = some q) : gMetX l E D yX5_wait (ws_ yX5_wait cX5_wait 2 (some (.object "SendHall$Step"))) 147 7323 [.inr (.inr (some t)), .inr (.inr v1)] G gokA q := by
  refine gMetX.of (by decide +kernel) (Nat.le_of_ble_eq_true rfl) ?_
  intro p e R s m args below meth c C htab hS ls hl
  have C : gC p R s m args meth c cX5_wait 2 RX5 "wait" (some (.object "SendHall$Step")) 147 7323 E D := C
  obtain ⟨hx, hb, hml, hown, hts, hKn, hRc, hRs, hc1, hc2, hRf, hRl, hr, hlk, hnm⟩ := id C
  have hl : gls ls 2 [(0, .inr (.inr (some t))), (1, .inr (.inr v1))] := hl
  generalize hH0 : s.heap = H at hS ⊢
  unfold fX5_wait at h
  refine g_aload_n hx hb hl 0 rfl dX5_wait_0 ?_
  refine g_rdR hx hb hown hts hKn hS h fd_5_5_10 rfl (Or.inl (hts _ q1243)) (fun _ z => z) dX5_wait_1 (fun x1 h => ?_)
  refine g_rdR hx hb hown hts hKn hS h fd_2_2_0 rfl (Or.inr ⟨_, gNest_use rfl (hKn.2.2.2.2.1 _ (gNest_in q513 rfl))⟩) (fun _ z => z) dX5_wait_4 (fun x4 h => ?_)
  refine g_aload_n hx hb hl 1 rfl dX5_wait_7 ?_
  obtain ⟨b8, hb8, h⟩ := g_bnd h
  obtain ⟨hr8, hk8⟩ := g_chk hb8
  obtain ⟨z8, h8, h⟩ := g_bnd h
  refine g_callV (n := 1) (b := b8) (av := [.inr (.inr v1)]) (rs := []) hx hb hml hown hts hKn hRc hRs hS hl (sJ2_add_2 l E D h8) (lw_V q1462 q1463 q1464 q117 q1465) ⟨rfl, by decide, by decide, by decide +kernel⟩ ⟨by rw [hRf]; exact Nat.le_of_ble_eq_true rfl, by rw [hRl]; exact Nat.le_of_ble_eq_true rfl⟩ (g_recv hKn hS hk8 (by decide) (by decide)) rfl (by rw [hr8]; rfl) (Nat.le_of_ble_eq_true rfl) dX5_wait_8 (fun H locs cells slots hS => ?_)
  refine lv_pop hx hb dX5_wait_11 rfl ?_
  refine g_aload_n hx hb hl 1 rfl dX5_wait_12 ?_
  refine g_rdI hx hb hown hts hKn hS h fd_16_16_0 rfl (Or.inl (hts _ q1423)) (u_same (hts _ q1424)) dX5_wait_13 (fun x13 h => ?_)
  refine lv_iconst (v := 3) hx hb dX5_wait_16 (by decide) ?_
  refine lv_icmp_ne (tgt := 31) hx hb dX5_wait_17 (by decide) (fun c_17 => ?_) (fun c_17 => ?_)
  · have h := g_ift c_17 h
    refine g_aload_n hx hb hl 0 rfl dX5_wait_31 ?_
    refine g_rdR hx hb hown hts hKn hS h fd_5_5_10 rfl (Or.inl (hts _ q1243)) (fun _ z => z) dX5_wait_32 (fun x32 h => ?_)
    refine lv_dup hx hb dX5_wait_35 (by first | exact va_rf_cat _ | rfl | exact g_catA _) ?_
    refine g_rdI hx hb hown hts hKn hS h fd_2_2_2 rfl (Or.inr ⟨_, gNest_use rfl (hKn.2.2.2.2.1 _ (gNest_in q517 rfl))⟩) (fun _ z => z) dX5_wait_36 (fun x36 h => ?_)
    refine lv_iconst (v := 1) hx hb dX5_wait_39 (by decide) ?_
    refine lv_iadd hx hb dX5_wait_40 ?_
    refine g_ptI hx hb hown hts hKn hS h fd_2_2_2 (Or.inr ⟨rfl, _, gNest_use rfl (hKn.2.2.2.2.1 _ (gNest_in q517 rfl))⟩) (fun _ z => z) (fun z => nomatch z) dX5_wait_41 (fun G41 h H locs hS => ?_)
    exact sX5_wait_b44 C hlT htab _ _ _ _ h _ _ _ _ _ hS (gls_sub hl [0, 1] rfl)
  · have h := g_iff (fun z => z c_17) h
    refine g_aload_n hx hb hl 1 rfl dX5_wait_20 ?_
    refine g_aload_n hx hb hl 0 rfl dX5_wait_21 ?_
    obtain ⟨b22, hb22, h⟩ := g_bnd h
    obtain ⟨hr22, hk22⟩ := g_chk hb22
    obtain ⟨o22, h22, ha22, hx22⟩ := g_catE h
    refine g_callVt (n := 0) (b := b22) (av := []) (rs := [.inr (.inr v1)]) hx hb hml hown hts hKn hRc hRs hS hl (sX5_sum l E D hlT (fun l E D hlT => sT_expr l E D hlT) (Nat.le_of_ble_eq_true rfl) (Nat.le_of_ble_eq_true rfl) h22) (lw_V q1470 q1472 qs31 q136 q1473) ⟨rfl, by decide, by decide, by decide +kernel⟩ ⟨by rw [hRf]; exact Nat.le_of_ble_eq_true rfl, by rw [hRl]; exact Nat.le_of_ble_eq_true rfl⟩ (g_recv hKn hS hk22 (by decide) (by decide)) rfl (by rw [hr22]; rfl) (Nat.le_of_ble_eq_true rfl) dX5_wait_22 (fun z22 e22 H locs cells slots hS => ?_) (fun k22 a22 G22 e22 n1 n2 nk nB H locs cells slots hS => ?_)
    · have h := ha22 _ e22
      refine g_ptR hx hb hown hts hKn hS h fd_16_16_4 rfl (Or.inr ⟨rfl, _, gNest_use rfl (hKn.2.2.2.2.1 _ (gNest_in q1592 rfl))⟩) (fun _ z => z) (fun z => nomatch z) dX5_wait_25 (fun G25 h H locs hS => ?_)
      refine lv_goto (tgt := 44) hx hb dX5_wait_28 (by decide) ?_
      exact sX5_wait_b44 C hlT htab _ _ _ _ h _ _ _ _ _ hS (gls_sub hl [0, 1] rfl)
    · have h := hx22 _ e22
      exact g_outX (by rw [htab]; decide) hlk hKn hRc hRs hS n1 n2 nB nk h
