set_option maxRecDepth 100000
/-- SendHall$Reader.step(II)LSendHall$Step; -/
def fX5_step_b178 (E : g_E) (fS : g_E → Nat → g_G → Option ((Option Nat × g_G) ⊕ gX)) (t : Nat) (v2 : Int32) (v3 : Option Nat) (G : g_G) : Option ((Option Nat × g_G) ⊕ gX) :=
  (grR G 5 5 (some t) 10).bind fun x179 =>
  (grR G 2 2 x179 0).bind fun x182 =>
  (gchk G 17 x182).bind fun b187 =>
  (fJ2_set E b187 v2 v3 G).bind fun z187 =>
  some (.inl (v3, z187.2))
def fX5_step (E : g_E) (fS : g_E → Nat → g_G → Option ((Option Nat × g_G) ⊕ gX)) (t : Nat) (v1 : Int32) (v2 : Int32) (G : g_G) : Option ((Option Nat × g_G) ⊕ gX) :=
  if v1 = 0 then (
    (gnewO E G 15 7).bind fun z61 =>
    (fX9_init E z61.1 v1 v2 z61.2).bind fun z67 =>
    (gchk z67 5 (some t)).bind fun b70 =>
    gcat (fX5_send E b70 (some z61.1) z67) (fun z70 =>
      fX5_step_b178 E fS t v2 z70.1 z70.2)
    (fun y => some (.inr y)))
  else
  if v1 = 1 then (
    (gnewO E G 15 7).bind fun z61 =>
    (fX9_init E z61.1 v1 v2 z61.2).bind fun z67 =>
    (gchk z67 5 (some t)).bind fun b70 =>
    gcat (fX5_send E b70 (some z61.1) z67) (fun z70 =>
      fX5_step_b178 E fS t v2 z70.1 z70.2)
    (fun y => some (.inr y)))
  else
  if v1 = 2 then (
    (gnewO E G 15 7).bind fun z61 =>
    (fX9_init E z61.1 v1 v2 z61.2).bind fun z67 =>
    (gchk z67 5 (some t)).bind fun b70 =>
    gcat (fX5_send E b70 (some z61.1) z67) (fun z70 =>
      fX5_step_b178 E fS t v2 z70.1 z70.2)
    (fun y => some (.inr y)))
  else
  if v1 = 3 then (
    (gnewO E G 16 7).bind fun z78 =>
    (fX13_init E z78.1 v1 v2 z78.2).bind fun z84 =>
    (gchk z84 5 (some t)).bind fun b87 =>
    gcat (fX5_wait E b87 (some z78.1) z84) (fun z87 =>
      fX5_step_b178 E fS t v2 z87.1 z87.2)
    (fun y => some (.inr y)))
  else
  if v1 = 4 then (
    (gnewO E G 16 7).bind fun z78 =>
    (fX13_init E z78.1 v1 v2 z78.2).bind fun z84 =>
    (gchk z84 5 (some t)).bind fun b87 =>
    gcat (fX5_wait E b87 (some z78.1) z84) (fun z87 =>
      fX5_step_b178 E fS t v2 z87.1 z87.2)
    (fun y => some (.inr y)))
  else
  if v1 = 8 then (
    (grR G 5 5 (some t) 10).bind fun x95 =>
    (grR G 2 2 x95 0).bind fun x98 =>
    (gchk G 17 x98).bind fun b102 =>
    (fJ2_add_2 E b102 none G).bind fun z102 =>
    (gchk z102.2 5 (some t)).bind fun b107 =>
    gcat (fX5_var E b107 z102.2) (fun z107 =>
      (gnewO E z107.2 12 5).bind fun z112 =>
      (gchk z112.2 5 (some t)).bind fun b120 =>
      gcat (fR_expr 10 E b120 z112.2) (fun z120 =>
        (fX14_init E z112.1 v2 z107.1 z120.1 z120.2).bind fun z123 =>
        fX5_step_b178 E fS t v2 (some z112.1) z123)
      (fun y => some (.inr y)))
    (fun y => some (.inr y)))
  else
  if v1 = 9 then (
    (grR G 5 5 (some t) 10).bind fun x131 =>
    (grR G 2 2 x131 0).bind fun x134 =>
    (gchk G 17 x134).bind fun b138 =>
    (fJ2_add_2 E b138 none G).bind fun z138 =>
    (gnewO E z138.2 13 4).bind fun z142 =>
    (gchk z142.2 5 (some t)).bind fun b148 =>
    gcat (fR_expr 10 E b148 z142.2) (fun z148 =>
      (fX15_init E z142.1 v2 z148.1 z148.2).bind fun z151 =>
      fX5_step_b178 E fS t v2 (some z142.1) z151)
    (fun y => some (.inr y)))
  else
  if v1 = 10 then (
    (gchk G 5 (some t)).bind fun b160 =>
    gcat (fX5_choice E fS b160 v2 G) (fun z160 =>
      some (.inl (z160.1, z160.2)))
    (fun y => some (.inr y)))
  else
  (
    (gnewO E G 11 5).bind fun z165 =>
    (fX17_init E z165.1 v1 v2 z165.2).bind fun z171 =>
    (gchk z171 5 (some t)).bind fun b174 =>
    gcat (fX5_plain E b174 (some z165.1) z171) (fun z174 =>
      fX5_step_b178 E fS t v2 z174.1 z174.2)
    (fun y => some (.inr y)))
theorem sX5_step_b178 {p : Program} {l : Launch} {e : Env} {R : Room} {s : State} {m : MethodId} {args : Array Value} {below : List Frame} {meth : Method} {c : Code} {E : g_E} {D : g_D} {fS : g_E → Nat → g_G → Option ((Option Nat × g_G) ⊕ gX)} {fF : Nat} {fL : Nat} (C : gC p R s m args meth c cX5_step 5 RX5 "step" (some (.object "SendHall$Step")) (fF + 4) (fL + 200) E D) (hlT : l.stackTraces = false) (htab : c.exceptionTable.toList = []) (hfS : ∀ (l : Launch) (E : g_E) (D : g_D), l.stackTraces = false → ∀ {t : Nat} {G : g_G} {q : (Option Nat × g_G) ⊕ gX}, fS E t G = some q → gMetX l E D yX5_steps (ws_ yX5_steps cX5_steps 3 (some (.object "java/util/ArrayList"))) fF fL [.inr (.inr (some t))] G gokA q) (hF : 200 ≤ fF) (hL : 12000 ≤ fL) : ∀ (t : Nat) (v2 : Int32) (v3 : Option Nat) (G : g_G) (q : (Option Nat × g_G) ⊕ gX), fX5_step_b178 E fS t v2 v3 G = some q → ∀ (H : Heap) (locs : List Loc) (cells slots : Nat) (ls : Array Slot), gSt E D G H locs → gls ls 5 [(0, .inr (.inr (some t))), (2, .inl v2), (3, .inr (.inr v3))] → gTX p l e R s m args below meth c E D H locs cells slots gokA q (F0 m 178 ls []) := by
  obtain ⟨hx, hb, hml, hown, hts, hKn, hRc, hRs, hc1, hc2, hRf, hRl, hr, hlk, hnm⟩ := id C
  intro t v2 v3 G q h H locs cells slots ls hS hl
  unfold fX5_step_b178 at h
  refine g_aload_n hx hb hl 0 rfl dX5_step_178 ?_
  refine g_rdR hx hb hown hts hKn hS h fd_5_5_10 rfl (Or.inl (hts _ q1243)) (fun _ z => z) dX5_step_179 (fun x179 h => ?_)
  refine g_rdR hx hb hown hts hKn hS h fd_2_2_0 rfl (Or.inr ⟨_, gNest_use rfl (hKn.2.2.2.2.1 _ (gNest_in q513 rfl))⟩) (fun _ z => z) dX5_step_182 (fun x182 h => ?_)
  refine g_iload_n hx hb hl 1 rfl dX5_step_185 ?_
  refine g_aload_n hx hb hl 2 rfl dX5_step_186 ?_
  obtain ⟨b187, hb187, h⟩ := g_bnd h
  obtain ⟨hr187, hk187⟩ := g_chk hb187
  obtain ⟨z187, h187, h⟩ := g_bnd h
  refine g_callV (n := 2) (b := b187) (av := [.inl v2, .inr (.inr v3)]) (rs := []) hx hb hml hown hts hKn hRc hRs hS hl (sJ2_set l E D h187) (lw_V q1673 q1674 q1675 q117 q1676) ⟨rfl, by decide, by decide, by decide +kernel⟩ ⟨by rw [hRf]; omega, by rw [hRl]; omega⟩ (g_recv hKn hS hk187 (by decide) (by decide)) rfl (by rw [hr187]; rfl) (Nat.le_of_ble_eq_true rfl) dX5_step_187 (fun H locs cells slots hS => ?_)
  refine lv_pop hx hb dX5_step_190 (by first | exact va_rf_cat _ | rfl | exact g_catA _) ?_
  refine g_aload_n hx hb hl 2 rfl dX5_step_191 ?_
  exact g_retX (g_aretG hx hb hr (by first | exact Or.inl ⟨_, rfl⟩ | exact Or.inr ⟨_, rfl⟩) hlk hKn hRc hRs hS (q := (v3, z187.2)) rfl dX5_step_192) h rfl
theorem sX5_step (l : Launch) (E : g_E) (D : g_D) (hlT : l.stackTraces = false) {fS : g_E → Nat → g_G → Option ((Option Nat × g_G) ⊕ gX)} {fF : Nat} {fL : Nat} (hfS : ∀ (l : Launch) (E : g_E) (D : g_D), l.stackTraces = false → ∀ {t : Nat} {G : g_G} {q : (Option Nat × g_G) ⊕ gX}, fS E t G = some q → gMetX l E D yX5_steps (ws_ yX5_steps cX5_steps 3 (some (.object "java/util/ArrayList"))) fF fL [.inr (.inr (some t))] G gokA q) (hF : 200 ≤ fF) (hL : 12000 ≤ fL) {t : Nat} {v1 : Int32} {v2 : Int32} {G : g_G} {q : (Option Nat × g_G) ⊕ gX} (h : fX5_step E fS t v1 v2 G = some q) : gMetX l E D yX5_step (ws_ yX5_step cX5_step 5 (some (.object "SendHall$Step"))) (fF + 4) (fL + 200) [.inr (.inr (some t)), .inl v1, .inl v2] G gokA q := by
  refine gMetX.of (by decide +kernel) (Nat.le_of_ble_eq_true rfl) ?_
  intro p e R s m args below meth c C htab hS ls hl
  have C : gC p R s m args meth c cX5_step 5 RX5 "step" (some (.object "SendHall$Step")) (fF + 4) (fL + 200) E D := C
  obtain ⟨hx, hb, hml, hown, hts, hKn, hRc, hRs, hc1, hc2, hRf, hRl, hr, hlk, hnm⟩ := id C
  have hl : gls ls 5 [(0, .inr (.inr (some t))), (1, .inl v1), (2, .inl v2)] := hl
  generalize hH0 : s.heap = H at hS ⊢
  unfold fX5_step at h
  refine g_iload_n hx hb hl 1 rfl dX5_step_0 ?_
  by_cases w1_0 : v1 = 0
  · refine lv_tableIn (tgt := 60) (off := 59) hx hb dX5_step_1 (by rw [w1_0]; decide) (by rw [w1_0]; decide) (by rw [w1_0]; decide) (by decide) ?_
    have h := g_ift w1_0 h
    refine g_aload_n hx hb hl 0 rfl dX5_step_60 ?_
    refine g_newG (k := 15) hx hb hown hts hKn hRc hRs hS h (by decide) (by decide) (hts _ q1394) (hts _ q1395) (hts _ q143) dX5_step_61 (fun z61 h H locs cells slots hS => ?_)
    refine lv_dup hx hb dX5_step_64 (by first | exact va_rf_cat _ | rfl | exact g_catA _) ?_
    refine g_iload_n hx hb hl 1 rfl dX5_step_65 ?_
    refine g_iload_n hx hb hl 2 rfl dX5_step_66 ?_
    obtain ⟨z67, h67, h⟩ := g_bnd h
    refine g_callI (n := 2) (av := [.inl v1, .inl v2]) (rs := [.inr (.inr (some z61.1)), .inr (.inr (some t))]) hx hb hml hown hts hKn hRc hRs hS hl (sX9_init l E D h67) (lw_meth q1398) (hts _ q143) (hts _ q1396) (hts _ q1397) rfl ⟨by decide, by decide, by decide +kernel⟩ ⟨by rw [hRf]; omega, by rw [hRl]; omega⟩ rfl rfl (Nat.le_of_ble_eq_true rfl) dX5_step_67 (fun H locs cells slots hS => ?_)
    obtain ⟨b70, hb70, h⟩ := g_bnd h
    obtain ⟨hr70, hk70⟩ := g_chk hb70
    obtain ⟨o70, h70, ha70, hx70⟩ := g_catE h
    refine g_callVt (n := 1) (b := b70) (av := [.inr (.inr (some z61.1))]) (rs := []) hx hb hml hown hts hKn hRc hRs hS hl (sX5_send l E D hlT h70) (lw_V q1458 q1460 qs29 q136 q1461) ⟨rfl, by decide, by decide, by decide +kernel⟩ ⟨by rw [hRf]; omega, by rw [hRl]; omega⟩ (g_recv hKn hS hk70 (by decide) (by decide)) rfl (by rw [hr70]; rfl) (Nat.le_of_ble_eq_true rfl) dX5_step_70 (fun z70 e70 H locs cells slots hS => ?_) (fun k70 a70 G70 e70 n1 n2 nk nB H locs cells slots hS => ?_)
    · have h := ha70 _ e70
      refine g_astore_n (l1 := [(3, .inr (.inr z70.1)), (0, .inr (.inr (some t))), (1, .inl v1), (2, .inl v2)]) hx hb hl (by decide) rfl dX5_step_73 (fun ls hl => ?_)
      refine lv_goto (tgt := 178) hx hb dX5_step_74 (by decide) ?_
      exact sX5_step_b178 C hlT htab hfS hF hL _ _ _ _ _ h _ _ _ _ _ hS (gls_sub hl [1, 3, 0] rfl)
    · have h := hx70 _ e70
      exact g_outX (by rw [htab]; decide) hlk hKn hRc hRs hS n1 n2 nB nk h
  have h := g_iff w1_0 h
  by_cases w1_1 : v1 = 1
  · refine lv_tableIn (tgt := 60) (off := 59) hx hb dX5_step_1 (by rw [w1_1]; decide) (by rw [w1_1]; decide) (by rw [w1_1]; decide) (by decide) ?_
    have h := g_ift w1_1 h
    refine g_aload_n hx hb hl 0 rfl dX5_step_60 ?_
    refine g_newG (k := 15) hx hb hown hts hKn hRc hRs hS h (by decide) (by decide) (hts _ q1394) (hts _ q1395) (hts _ q143) dX5_step_61 (fun z61 h H locs cells slots hS => ?_)
    refine lv_dup hx hb dX5_step_64 (by first | exact va_rf_cat _ | rfl | exact g_catA _) ?_
    refine g_iload_n hx hb hl 1 rfl dX5_step_65 ?_
    refine g_iload_n hx hb hl 2 rfl dX5_step_66 ?_
    obtain ⟨z67, h67, h⟩ := g_bnd h
    refine g_callI (n := 2) (av := [.inl v1, .inl v2]) (rs := [.inr (.inr (some z61.1)), .inr (.inr (some t))]) hx hb hml hown hts hKn hRc hRs hS hl (sX9_init l E D h67) (lw_meth q1398) (hts _ q143) (hts _ q1396) (hts _ q1397) rfl ⟨by decide, by decide, by decide +kernel⟩ ⟨by rw [hRf]; omega, by rw [hRl]; omega⟩ rfl rfl (Nat.le_of_ble_eq_true rfl) dX5_step_67 (fun H locs cells slots hS => ?_)
    obtain ⟨b70, hb70, h⟩ := g_bnd h
    obtain ⟨hr70, hk70⟩ := g_chk hb70
    obtain ⟨o70, h70, ha70, hx70⟩ := g_catE h
    refine g_callVt (n := 1) (b := b70) (av := [.inr (.inr (some z61.1))]) (rs := []) hx hb hml hown hts hKn hRc hRs hS hl (sX5_send l E D hlT h70) (lw_V q1458 q1460 qs29 q136 q1461) ⟨rfl, by decide, by decide, by decide +kernel⟩ ⟨by rw [hRf]; omega, by rw [hRl]; omega⟩ (g_recv hKn hS hk70 (by decide) (by decide)) rfl (by rw [hr70]; rfl) (Nat.le_of_ble_eq_true rfl) dX5_step_70 (fun z70 e70 H locs cells slots hS => ?_) (fun k70 a70 G70 e70 n1 n2 nk nB H locs cells slots hS => ?_)
    · have h := ha70 _ e70
      refine g_astore_n (l1 := [(3, .inr (.inr z70.1)), (0, .inr (.inr (some t))), (1, .inl v1), (2, .inl v2)]) hx hb hl (by decide) rfl dX5_step_73 (fun ls hl => ?_)
      refine lv_goto (tgt := 178) hx hb dX5_step_74 (by decide) ?_
      exact sX5_step_b178 C hlT htab hfS hF hL _ _ _ _ _ h _ _ _ _ _ hS (gls_sub hl [1, 3, 0] rfl)
    · have h := hx70 _ e70
      exact g_outX (by rw [htab]; decide) hlk hKn hRc hRs hS n1 n2 nB nk h
  have h := g_iff w1_1 h
  by_cases w1_2 : v1 = 2
  · refine lv_tableIn (tgt := 60) (off := 59) hx hb dX5_step_1 (by rw [w1_2]; decide) (by rw [w1_2]; decide) (by rw [w1_2]; decide) (by decide) ?_
    have h := g_ift w1_2 h
    refine g_aload_n hx hb hl 0 rfl dX5_step_60 ?_
    refine g_newG (k := 15) hx hb hown hts hKn hRc hRs hS h (by decide) (by decide) (hts _ q1394) (hts _ q1395) (hts _ q143) dX5_step_61 (fun z61 h H locs cells slots hS => ?_)
    refine lv_dup hx hb dX5_step_64 (by first | exact va_rf_cat _ | rfl | exact g_catA _) ?_
    refine g_iload_n hx hb hl 1 rfl dX5_step_65 ?_
    refine g_iload_n hx hb hl 2 rfl dX5_step_66 ?_
    obtain ⟨z67, h67, h⟩ := g_bnd h
    refine g_callI (n := 2) (av := [.inl v1, .inl v2]) (rs := [.inr (.inr (some z61.1)), .inr (.inr (some t))]) hx hb hml hown hts hKn hRc hRs hS hl (sX9_init l E D h67) (lw_meth q1398) (hts _ q143) (hts _ q1396) (hts _ q1397) rfl ⟨by decide, by decide, by decide +kernel⟩ ⟨by rw [hRf]; omega, by rw [hRl]; omega⟩ rfl rfl (Nat.le_of_ble_eq_true rfl) dX5_step_67 (fun H locs cells slots hS => ?_)
    obtain ⟨b70, hb70, h⟩ := g_bnd h
    obtain ⟨hr70, hk70⟩ := g_chk hb70
    obtain ⟨o70, h70, ha70, hx70⟩ := g_catE h
    refine g_callVt (n := 1) (b := b70) (av := [.inr (.inr (some z61.1))]) (rs := []) hx hb hml hown hts hKn hRc hRs hS hl (sX5_send l E D hlT h70) (lw_V q1458 q1460 qs29 q136 q1461) ⟨rfl, by decide, by decide, by decide +kernel⟩ ⟨by rw [hRf]; omega, by rw [hRl]; omega⟩ (g_recv hKn hS hk70 (by decide) (by decide)) rfl (by rw [hr70]; rfl) (Nat.le_of_ble_eq_true rfl) dX5_step_70 (fun z70 e70 H locs cells slots hS => ?_) (fun k70 a70 G70 e70 n1 n2 nk nB H locs cells slots hS => ?_)
    · have h := ha70 _ e70
      refine g_astore_n (l1 := [(3, .inr (.inr z70.1)), (0, .inr (.inr (some t))), (1, .inl v1), (2, .inl v2)]) hx hb hl (by decide) rfl dX5_step_73 (fun ls hl => ?_)
      refine lv_goto (tgt := 178) hx hb dX5_step_74 (by decide) ?_
      exact sX5_step_b178 C hlT htab hfS hF hL _ _ _ _ _ h _ _ _ _ _ hS (gls_sub hl [1, 3, 0] rfl)
    · have h := hx70 _ e70
      exact g_outX (by rw [htab]; decide) hlk hKn hRc hRs hS n1 n2 nB nk h
  have h := g_iff w1_2 h
  by_cases w1_3 : v1 = 3
  · refine lv_tableIn (tgt := 77) (off := 76) hx hb dX5_step_1 (by rw [w1_3]; decide) (by rw [w1_3]; decide) (by rw [w1_3]; decide) (by decide) ?_
    have h := g_ift w1_3 h
    refine g_aload_n hx hb hl 0 rfl dX5_step_77 ?_
    refine g_newG (k := 16) hx hb hown hts hKn hRc hRs hS h (by decide) (by decide) (hts _ q1585) (hts _ q1586) (hts _ q148) dX5_step_78 (fun z78 h H locs cells slots hS => ?_)
    refine lv_dup hx hb dX5_step_81 (by first | exact va_rf_cat _ | rfl | exact g_catA _) ?_
    refine g_iload_n hx hb hl 1 rfl dX5_step_82 ?_
    refine g_iload_n hx hb hl 2 rfl dX5_step_83 ?_
    obtain ⟨z84, h84, h⟩ := g_bnd h
    refine g_callI (n := 2) (av := [.inl v1, .inl v2]) (rs := [.inr (.inr (some z78.1)), .inr (.inr (some t))]) hx hb hml hown hts hKn hRc hRs hS hl (sX13_init l E D h84) (lw_meth q1589) (hts _ q148) (hts _ q1587) (hts _ q1588) rfl ⟨by decide, by decide, by decide +kernel⟩ ⟨by rw [hRf]; omega, by rw [hRl]; omega⟩ rfl rfl (Nat.le_of_ble_eq_true rfl) dX5_step_84 (fun H locs cells slots hS => ?_)
    obtain ⟨b87, hb87, h⟩ := g_bnd h
    obtain ⟨hr87, hk87⟩ := g_chk hb87
    obtain ⟨o87, h87, ha87, hx87⟩ := g_catE h
    refine g_callVt (n := 1) (b := b87) (av := [.inr (.inr (some z78.1))]) (rs := []) hx hb hml hown hts hKn hRc hRs hS hl (sX5_wait l E D hlT h87) (lw_V q1608 q1610 qs38 q136 q1611) ⟨rfl, by decide, by decide, by decide +kernel⟩ ⟨by rw [hRf]; omega, by rw [hRl]; omega⟩ (g_recv hKn hS hk87 (by decide) (by decide)) rfl (by rw [hr87]; rfl) (Nat.le_of_ble_eq_true rfl) dX5_step_87 (fun z87 e87 H locs cells slots hS => ?_) (fun k87 a87 G87 e87 n1 n2 nk nB H locs cells slots hS => ?_)
    · have h := ha87 _ e87
      refine g_astore_n (l1 := [(3, .inr (.inr z87.1)), (0, .inr (.inr (some t))), (1, .inl v1), (2, .inl v2)]) hx hb hl (by decide) rfl dX5_step_90 (fun ls hl => ?_)
      refine lv_goto (tgt := 178) hx hb dX5_step_91 (by decide) ?_
      exact sX5_step_b178 C hlT htab hfS hF hL _ _ _ _ _ h _ _ _ _ _ hS (gls_sub hl [1, 3, 0] rfl)
    · have h := hx87 _ e87
      exact g_outX (by rw [htab]; decide) hlk hKn hRc hRs hS n1 n2 nB nk h
  have h := g_iff w1_3 h
  by_cases w1_4 : v1 = 4
  · refine lv_tableIn (tgt := 77) (off := 76) hx hb dX5_step_1 (by rw [w1_4]; decide) (by rw [w1_4]; decide) (by rw [w1_4]; decide) (by decide) ?_
    have h := g_ift w1_4 h
    refine g_aload_n hx hb hl 0 rfl dX5_step_77 ?_
    refine g_newG (k := 16) hx hb hown hts hKn hRc hRs hS h (by decide) (by decide) (hts _ q1585) (hts _ q1586) (hts _ q148) dX5_step_78 (fun z78 h H locs cells slots hS => ?_)
    refine lv_dup hx hb dX5_step_81 (by first | exact va_rf_cat _ | rfl | exact g_catA _) ?_
    refine g_iload_n hx hb hl 1 rfl dX5_step_82 ?_
    refine g_iload_n hx hb hl 2 rfl dX5_step_83 ?_
    obtain ⟨z84, h84, h⟩ := g_bnd h
    refine g_callI (n := 2) (av := [.inl v1, .inl v2]) (rs := [.inr (.inr (some z78.1)), .inr (.inr (some t))]) hx hb hml hown hts hKn hRc hRs hS hl (sX13_init l E D h84) (lw_meth q1589) (hts _ q148) (hts _ q1587) (hts _ q1588) rfl ⟨by decide, by decide, by decide +kernel⟩ ⟨by rw [hRf]; omega, by rw [hRl]; omega⟩ rfl rfl (Nat.le_of_ble_eq_true rfl) dX5_step_84 (fun H locs cells slots hS => ?_)
    obtain ⟨b87, hb87, h⟩ := g_bnd h
    obtain ⟨hr87, hk87⟩ := g_chk hb87
    obtain ⟨o87, h87, ha87, hx87⟩ := g_catE h
    refine g_callVt (n := 1) (b := b87) (av := [.inr (.inr (some z78.1))]) (rs := []) hx hb hml hown hts hKn hRc hRs hS hl (sX5_wait l E D hlT h87) (lw_V q1608 q1610 qs38 q136 q1611) ⟨rfl, by decide, by decide, by decide +kernel⟩ ⟨by rw [hRf]; omega, by rw [hRl]; omega⟩ (g_recv hKn hS hk87 (by decide) (by decide)) rfl (by rw [hr87]; rfl) (Nat.le_of_ble_eq_true rfl) dX5_step_87 (fun z87 e87 H locs cells slots hS => ?_) (fun k87 a87 G87 e87 n1 n2 nk nB H locs cells slots hS => ?_)
    · have h := ha87 _ e87
      refine g_astore_n (l1 := [(3, .inr (.inr z87.1)), (0, .inr (.inr (some t))), (1, .inl v1), (2, .inl v2)]) hx hb hl (by decide) rfl dX5_step_90 (fun ls hl => ?_)
      refine lv_goto (tgt := 178) hx hb dX5_step_91 (by decide) ?_
      exact sX5_step_b178 C hlT htab hfS hF hL _ _ _ _ _ h _ _ _ _ _ hS (gls_sub hl [1, 3, 0] rfl)
    · have h := hx87 _ e87
      exact g_outX (by rw [htab]; decide) hlk hKn hRc hRs hS n1 n2 nB nk h
  have h := g_iff w1_4 h
  by_cases w1_5 : v1 = 8
  · refine lv_tableIn (tgt := 94) (off := 93) hx hb dX5_step_1 (by rw [w1_5]; decide) (by rw [w1_5]; decide) (by rw [w1_5]; decide) (by decide) ?_
    have h := g_ift w1_5 h
    refine g_aload_n hx hb hl 0 rfl dX5_step_94 ?_
    refine g_rdR hx hb hown hts hKn hS h fd_5_5_10 rfl (Or.inl (hts _ q1243)) (fun _ z => z) dX5_step_95 (fun x95 h => ?_)
    refine g_rdR hx hb hown hts hKn hS h fd_2_2_0 rfl (Or.inr ⟨_, gNest_use rfl (hKn.2.2.2.2.1 _ (gNest_in q513 rfl))⟩) (fun _ z => z) dX5_step_98 (fun x98 h => ?_)
    refine g_null hx hb dX5_step_101 ?_
    obtain ⟨b102, hb102, h⟩ := g_bnd h
    obtain ⟨hr102, hk102⟩ := g_chk hb102
    obtain ⟨z102, h102, h⟩ := g_bnd h
    refine g_callV (n := 1) (b := b102) (av := [.inr (.inr none)]) (rs := []) hx hb hml hown hts hKn hRc hRs hS hl (sJ2_add_2 l E D h102) (lw_V q1462 q1463 q1464 q117 q1465) ⟨rfl, by decide, by decide, by decide +kernel⟩ ⟨by rw [hRf]; omega, by rw [hRl]; omega⟩ (g_recv hKn hS hk102 (by decide) (by decide)) rfl (by rw [hr102]; rfl) (Nat.le_of_ble_eq_true rfl) dX5_step_102 (fun H locs cells slots hS => ?_)
    refine lv_pop hx hb dX5_step_105 rfl ?_
    refine g_aload_n hx hb hl 0 rfl dX5_step_106 ?_
    obtain ⟨b107, hb107, h⟩ := g_bnd h
    obtain ⟨hr107, hk107⟩ := g_chk hb107
    obtain ⟨o107, h107, ha107, hx107⟩ := g_catE h
    refine g_callVt (n := 0) (b := b107) (av := []) (rs := []) hx hb hml hown hts hKn hRc hRs hS hl (sX5_var l E D hlT h107) (lw_V q1613 q1615 qs39 q136 q1616) ⟨rfl, by decide, by decide, by decide +kernel⟩ ⟨by rw [hRf]; omega, by rw [hRl]; omega⟩ (g_recv hKn hS hk107 (by decide) (by decide)) rfl (by rw [hr107]; rfl) (Nat.le_of_ble_eq_true rfl) dX5_step_107 (fun z107 e107 H locs cells slots hS => ?_) (fun k107 a107 G107 e107 n1 n2 nk nB H locs cells slots hS => ?_)
    · have h := ha107 _ e107
      refine g_istore (l1 := [(4, .inl z107.1), (0, .inr (.inr (some t))), (1, .inl v1), (2, .inl v2)]) hx hb hl (by decide) rfl dX5_step_110 (fun ls hl => ?_)
      refine g_newG (k := 12) hx hb hown hts hKn hRc hRs hS h (by decide) (by decide) (hts _ q1619) (hts _ q1620) (hts _ q149) dX5_step_112 (fun z112 h H locs cells slots hS => ?_)
      refine lv_dup hx hb dX5_step_115 (by first | exact va_rf_cat _ | rfl | exact g_catA _) ?_
      refine g_iload_n hx hb hl 3 rfl dX5_step_116 ?_
      refine g_iload hx hb hl 0 rfl dX5_step_117 ?_
      refine g_aload_n hx hb hl 1 rfl dX5_step_119 ?_
      obtain ⟨b120, hb120, h⟩ := g_bnd h
      obtain ⟨hr120, hk120⟩ := g_chk hb120
      obtain ⟨o120, h120, ha120, hx120⟩ := g_catE h
      refine g_callVt (n := 0) (b := b120) (av := []) (rs := [.inl z107.1, .inl v2, .inr (.inr (some z112.1)), .inr (.inr (some z112.1))]) hx hb hml hown hts hKn hRc hRs hS hl (sT_expr l E D hlT h120) (lw_V q1501 q1503 qs36 q136 q1504) ⟨rfl, by decide, by decide, by decide +kernel⟩ ⟨by rw [hRf]; omega, by rw [hRl]; omega⟩ (g_recv hKn hS hk120 (by decide) (by decide)) rfl (by rw [hr120]; rfl) (Nat.le_of_ble_eq_true rfl) dX5_step_120 (fun z120 e120 H locs cells slots hS => ?_) (fun k120 a120 G120 e120 n1 n2 nk nB H locs cells slots hS => ?_)
      · have h := ha120 _ e120
        obtain ⟨z123, h123, h⟩ := g_bnd h
        refine g_callI (n := 3) (av := [.inl v2, .inl z107.1, .inr (.inr z120.1)]) (rs := [.inr (.inr (some z112.1))]) hx hb hml hown hts hKn hRc hRs hS hl (sX14_init l E D h123) (lw_meth q1623) (hts _ q149) (hts _ q1621) (hts _ q1622) rfl ⟨by decide, by decide, by decide +kernel⟩ ⟨by rw [hRf]; omega, by rw [hRl]; omega⟩ rfl rfl (Nat.le_of_ble_eq_true rfl) dX5_step_123 (fun H locs cells slots hS => ?_)
        refine g_astore_n (l1 := [(3, .inr (.inr (some z112.1))), (4, .inl z107.1), (0, .inr (.inr (some t))), (1, .inl v1), (2, .inl v2)]) hx hb hl (by decide) rfl dX5_step_126 (fun ls hl => ?_)
        refine lv_goto (tgt := 178) hx hb dX5_step_127 (by decide) ?_
        exact sX5_step_b178 C hlT htab hfS hF hL _ _ _ _ _ h _ _ _ _ _ hS (gls_sub hl [2, 4, 0] rfl)
      · have h := hx120 _ e120
        exact g_outX (by rw [htab]; decide) hlk hKn hRc hRs hS n1 n2 nB nk h
    · have h := hx107 _ e107
      exact g_outX (by rw [htab]; decide) hlk hKn hRc hRs hS n1 n2 nB nk h
  have h := g_iff w1_5 h
  by_cases w1_6 : v1 = 9
  · refine lv_tableIn (tgt := 130) (off := 129) hx hb dX5_step_1 (by rw [w1_6]; decide) (by rw [w1_6]; decide) (by rw [w1_6]; decide) (by decide) ?_
    have h := g_ift w1_6 h
    refine g_aload_n hx hb hl 0 rfl dX5_step_130 ?_
    refine g_rdR hx hb hown hts hKn hS h fd_5_5_10 rfl (Or.inl (hts _ q1243)) (fun _ z => z) dX5_step_131 (fun x131 h => ?_)
    refine g_rdR hx hb hown hts hKn hS h fd_2_2_0 rfl (Or.inr ⟨_, gNest_use rfl (hKn.2.2.2.2.1 _ (gNest_in q513 rfl))⟩) (fun _ z => z) dX5_step_134 (fun x134 h => ?_)
    refine g_null hx hb dX5_step_137 ?_
    obtain ⟨b138, hb138, h⟩ := g_bnd h
    obtain ⟨hr138, hk138⟩ := g_chk hb138
    obtain ⟨z138, h138, h⟩ := g_bnd h
    refine g_callV (n := 1) (b := b138) (av := [.inr (.inr none)]) (rs := []) hx hb hml hown hts hKn hRc hRs hS hl (sJ2_add_2 l E D h138) (lw_V q1462 q1463 q1464 q117 q1465) ⟨rfl, by decide, by decide, by decide +kernel⟩ ⟨by rw [hRf]; omega, by rw [hRl]; omega⟩ (g_recv hKn hS hk138 (by decide) (by decide)) rfl (by rw [hr138]; rfl) (Nat.le_of_ble_eq_true rfl) dX5_step_138 (fun H locs cells slots hS => ?_)
    refine lv_pop hx hb dX5_step_141 rfl ?_
    refine g_newG (k := 13) hx hb hown hts hKn hRc hRs hS h (by decide) (by decide) (hts _ q1635) (hts _ q1636) (hts _ q150) dX5_step_142 (fun z142 h H locs cells slots hS => ?_)
    refine lv_dup hx hb dX5_step_145 (by first | exact va_rf_cat _ | rfl | exact g_catA _) ?_
    refine g_iload_n hx hb hl 2 rfl dX5_step_146 ?_
    refine g_aload_n hx hb hl 0 rfl dX5_step_147 ?_
    obtain ⟨b148, hb148, h⟩ := g_bnd h
    obtain ⟨hr148, hk148⟩ := g_chk hb148
    obtain ⟨o148, h148, ha148, hx148⟩ := g_catE h
    refine g_callVt (n := 0) (b := b148) (av := []) (rs := [.inl v2, .inr (.inr (some z142.1)), .inr (.inr (some z142.1))]) hx hb hml hown hts hKn hRc hRs hS hl (sT_expr l E D hlT h148) (lw_V q1501 q1503 qs36 q136 q1504) ⟨rfl, by decide, by decide, by decide +kernel⟩ ⟨by rw [hRf]; omega, by rw [hRl]; omega⟩ (g_recv hKn hS hk148 (by decide) (by decide)) rfl (by rw [hr148]; rfl) (Nat.le_of_ble_eq_true rfl) dX5_step_148 (fun z148 e148 H locs cells slots hS => ?_) (fun k148 a148 G148 e148 n1 n2 nk nB H locs cells slots hS => ?_)
    · have h := ha148 _ e148
      obtain ⟨z151, h151, h⟩ := g_bnd h
      refine g_callI (n := 2) (av := [.inl v2, .inr (.inr z148.1)]) (rs := [.inr (.inr (some z142.1))]) hx hb hml hown hts hKn hRc hRs hS hl (sX15_init l E D h151) (lw_meth q1639) (hts _ q150) (hts _ q1637) (hts _ q1638) rfl ⟨by decide, by decide, by decide +kernel⟩ ⟨by rw [hRf]; omega, by rw [hRl]; omega⟩ rfl rfl (Nat.le_of_ble_eq_true rfl) dX5_step_151 (fun H locs cells slots hS => ?_)
      refine g_astore_n (l1 := [(3, .inr (.inr (some z142.1))), (0, .inr (.inr (some t))), (1, .inl v1), (2, .inl v2)]) hx hb hl (by decide) rfl dX5_step_154 (fun ls hl => ?_)
      refine lv_goto (tgt := 178) hx hb dX5_step_155 (by decide) ?_
      exact sX5_step_b178 C hlT htab hfS hF hL _ _ _ _ _ h _ _ _ _ _ hS (gls_sub hl [1, 3, 0] rfl)
    · have h := hx148 _ e148
      exact g_outX (by rw [htab]; decide) hlk hKn hRc hRs hS n1 n2 nB nk h
  have h := g_iff w1_6 h
  by_cases w1_7 : v1 = 10
  · refine lv_tableIn (tgt := 158) (off := 157) hx hb dX5_step_1 (by rw [w1_7]; decide) (by rw [w1_7]; decide) (by rw [w1_7]; decide) (by decide) ?_
    have h := g_ift w1_7 h
    refine g_aload_n hx hb hl 0 rfl dX5_step_158 ?_
    refine g_iload_n hx hb hl 2 rfl dX5_step_159 ?_
    obtain ⟨b160, hb160, h⟩ := g_bnd h
    obtain ⟨hr160, hk160⟩ := g_chk hb160
    obtain ⟨o160, h160, ha160, hx160⟩ := g_catE h
    refine g_callVt (n := 1) (b := b160) (av := [.inl v2]) (rs := []) hx hb hml hown hts hKn hRc hRs hS hl (sX5_choice l E D hlT hfS hF hL h160) (lw_V q1648 q1650 qs40 q136 q1651) ⟨rfl, by decide, by decide, by decide +kernel⟩ ⟨by rw [hRf]; omega, by rw [hRl]; omega⟩ (g_recv hKn hS hk160 (by decide) (by decide)) rfl (by rw [hr160]; rfl) (Nat.le_of_ble_eq_true rfl) dX5_step_160 (fun z160 e160 H locs cells slots hS => ?_) (fun k160 a160 G160 e160 n1 n2 nk nB H locs cells slots hS => ?_)
    · have h := ha160 _ e160
      exact g_retX (g_aretG hx hb hr (by first | exact Or.inl ⟨_, rfl⟩ | exact Or.inr ⟨_, rfl⟩) hlk hKn hRc hRs hS (q := (z160.1, z160.2)) rfl dX5_step_163) h rfl
    · have h := hx160 _ e160
      exact g_outX (by rw [htab]; decide) hlk hKn hRc hRs hS n1 n2 nB nk h
  have h := g_iff w1_7 h
  refine g_tableD (tgt := 164) hx hb dX5_step_1 (by decide) [0, 1, 2, 3, 4, 8, 9, 10] (by decide) (fun k hk => ?_) ?_
  · simp only [List.mem_cons, List.not_mem_nil, or_false] at hk
    rcases hk with rfl | rfl | rfl | rfl | rfl | rfl | rfl | rfl
    · exact w1_0
    · exact w1_1
    · exact w1_2
    · exact w1_3
    · exact w1_4
    · exact w1_5
    · exact w1_6
    · exact w1_7
  refine g_aload_n hx hb hl 0 rfl dX5_step_164 ?_
  refine g_newG (k := 11) hx hb hown hts hKn hRc hRs hS h (by decide) (by decide) (hts _ q1680) (hts _ q1681) (hts _ q153) dX5_step_165 (fun z165 h H locs cells slots hS => ?_)
  refine lv_dup hx hb dX5_step_168 (by first | exact va_rf_cat _ | rfl | exact g_catA _) ?_
  refine g_iload_n hx hb hl 1 rfl dX5_step_169 ?_
  refine g_iload_n hx hb hl 2 rfl dX5_step_170 ?_
  obtain ⟨z171, h171, h⟩ := g_bnd h
  refine g_callI (n := 2) (av := [.inl v1, .inl v2]) (rs := [.inr (.inr (some z165.1)), .inr (.inr (some t))]) hx hb hml hown hts hKn hRc hRs hS hl (sX17_init l E D h171) (lw_meth q1684) (hts _ q153) (hts _ q1682) (hts _ q1683) rfl ⟨by decide, by decide, by decide +kernel⟩ ⟨by rw [hRf]; omega, by rw [hRl]; omega⟩ rfl rfl (Nat.le_of_ble_eq_true rfl) dX5_step_171 (fun H locs cells slots hS => ?_)
  obtain ⟨b174, hb174, h⟩ := g_bnd h
  obtain ⟨hr174, hk174⟩ := g_chk hb174
  obtain ⟨o174, h174, ha174, hx174⟩ := g_catE h
  refine g_callVt (n := 1) (b := b174) (av := [.inr (.inr (some z165.1))]) (rs := []) hx hb hml hown hts hKn hRc hRs hS hl (sX5_plain l E D hlT h174) (lw_V q1698 q1700 qs41 q136 q1701) ⟨rfl, by decide, by decide, by decide +kernel⟩ ⟨by rw [hRf]; omega, by rw [hRl]; omega⟩ (g_recv hKn hS hk174 (by decide) (by decide)) rfl (by rw [hr174]; rfl) (Nat.le_of_ble_eq_true rfl) dX5_step_174 (fun z174 e174 H locs cells slots hS => ?_) (fun k174 a174 G174 e174 n1 n2 nk nB H locs cells slots hS => ?_)
  · have h := ha174 _ e174
    refine g_astore_n (l1 := [(3, .inr (.inr z174.1)), (0, .inr (.inr (some t))), (1, .inl v1), (2, .inl v2)]) hx hb hl (by decide) rfl dX5_step_177 (fun ls hl => ?_)
    exact sX5_step_b178 C hlT htab hfS hF hL _ _ _ _ _ h _ _ _ _ _ hS (gls_sub hl [1, 3, 0] rfl)
  · have h := hx174 _ e174
    exact g_outX (by rw [htab]; decide) hlk hKn hRc hRs hS n1 n2 nB nk h
/-- SendHall$Reader.steps()Ljava/util/ArrayList; -/
def fX5_steps_b73 (E : g_E) (fS : g_E → Nat → g_G → Option ((Option Nat × g_G) ⊕ gX)) (k9 : Nat → (Option Nat) → g_G → Option ((Option Nat × g_G) ⊕ gX)) (t : Nat) (v1 : Option Nat) (v2 : Int32) (s0 : Option Nat) (s1 : Int32) (G : g_G) : Option ((Option Nat × g_G) ⊕ gX) :=
  (gchk G 5 s0).bind fun b74 =>
  gcat (fX5_check E b74 s1 2 G) (fun z74 =>
    (gchk z74 5 (some t)).bind fun b78 =>
    (fX5_go E b78 z74).bind fun z78 =>
    (grR z78 5 5 (some t) 10).bind fun x85 =>
    (grR z78 2 2 x85 0).bind fun x88 =>
    (gchk z78 17 x88).bind fun b91 =>
    (fJ2_size E b91 z78).bind fun z91 =>
    (gchk z91.2 5 (some t)).bind fun b94 =>
    gcat (fX5_step E fS b94 v2 z91.1 z91.2) (fun z94 =>
      (gchk z94.2 17 v1).bind fun b97 =>
      (fJ2_add_2 E b97 z94.1 z94.2).bind fun z97 =>
      (gchk z97.2 5 (some t)).bind fun b104 =>
      gcat (fX5_need E b104 (some (gA E 56)) z97.2) (fun z104 =>
        k9 t v1 z104)
      (fun y => some (.inr y)))
    (fun y => some (.inr y)))
  (fun y => some (.inr y))
def fX5_steps_b72 (E : g_E) (fS : g_E → Nat → g_G → Option ((Option Nat × g_G) ⊕ gX)) (k9 : Nat → (Option Nat) → g_G → Option ((Option Nat × g_G) ⊕ gX)) (t : Nat) (v1 : Option Nat) (v2 : Int32) (s0 : Option Nat) (G : g_G) : Option ((Option Nat × g_G) ⊕ gX) :=
  fX5_steps_b73 E fS k9 t v1 v2 s0 0 G
def fX5_steps_b68 (E : g_E) (fS : g_E → Nat → g_G → Option ((Option Nat × g_G) ⊕ gX)) (k9 : Nat → (Option Nat) → g_G → Option ((Option Nat × g_G) ⊕ gX)) (t : Nat) (v1 : Option Nat) (v2 : Int32) (s0 : Option Nat) (G : g_G) : Option ((Option Nat × g_G) ⊕ gX) :=
  fX5_steps_b73 E fS k9 t v1 v2 s0 1 G
def fX5_steps_b9 (E : g_E) (fS : g_E → Nat → g_G → Option ((Option Nat × g_G) ⊕ gX)) : Nat → Nat → (Option Nat) → g_G → Option ((Option Nat × g_G) ⊕ gX)
  | 0, _, _, _ => none
  | n + 1, t, v1, G =>
    (grR G 5 5 (some t) 8).bind fun x10 =>
    if ¬ x10 = (some (gA E 1)) then (
      some (.inl (v1, G)))
    else (
      (grR G 5 5 (some t) 9).bind fun x20 =>
      (fX5_kindOf E x20 G).bind fun z23 =>
      if z23.1 = (-1 : Int32) then (
        some (.inl (v1, z23.2)))
      else (
        (grR z23.2 5 5 (some t) 9).bind fun x31 =>
        (fX5_kindOf E x31 z23.2).bind fun z34 =>
        (grR z34.2 5 5 (some t) 10).bind fun x40 =>
        (grR z34.2 2 2 x40 0).bind fun x43 =>
        (gchk z34.2 17 x43).bind fun b46 =>
        (fJ2_size E b46 z34.2).bind fun z46 =>
        if (40 : Int32) ≤ z46.1 then (
          fX5_steps_b72 E fS (fX5_steps_b9 E fS n) t v1 z34.1 (some t) z46.2)
        else (
          if ¬ z34.1 = (10 : Int32) then (
            fX5_steps_b68 E fS (fX5_steps_b9 E fS n) t v1 z34.1 (some t) z46.2)
          else (
            (grI z46.2 5 5 (some t) 5).bind fun x61 =>
            if (4 : Int32) ≤ x61 then (
              fX5_steps_b72 E fS (fX5_steps_b9 E fS n) t v1 z34.1 (some t) z46.2)
            else (
              fX5_steps_b68 E fS (fX5_steps_b9 E fS n) t v1 z34.1 (some t) z46.2)))))
def fX5_steps (E : g_E) (fS : g_E → Nat → g_G → Option ((Option Nat × g_G) ⊕ gX)) (t : Nat) (G : g_G) : Option ((Option Nat × g_G) ⊕ gX) :=
  (gnewO E G 17 3).bind fun z0 =>
  (fJ2_init E z0.1 2 z0.2).bind fun z5 =>
  fX5_steps_b9 E fS gFU t (some z0.1) z5
theorem sX5_steps_b73 {p : Program} {l : Launch} {e : Env} {R : Room} {s : State} {m : MethodId} {args : Array Value} {below : List Frame} {meth : Method} {c : Code} {E : g_E} {D : g_D} {fS : g_E → Nat → g_G → Option ((Option Nat × g_G) ⊕ gX)} {fF : Nat} {fL : Nat} (C : gC p R s m args meth c cX5_steps 3 RX5 "steps" (some (.object "java/util/ArrayList")) (fF + 6) (fL + 300) E D) (hlT : l.stackTraces = false) (htab : c.exceptionTable.toList = []) (hfS : ∀ (l : Launch) (E : g_E) (D : g_D), l.stackTraces = false → ∀ {t : Nat} {G : g_G} {q : (Option Nat × g_G) ⊕ gX}, fS E t G = some q → gMetX l E D yX5_steps (ws_ yX5_steps cX5_steps 3 (some (.object "java/util/ArrayList"))) fF fL [.inr (.inr (some t))] G gokA q) (hF : 200 ≤ fF) (hL : 12000 ≤ fL) {k9 : Nat → (Option Nat) → g_G → Option ((Option Nat × g_G) ⊕ gX)} (hk9 : ∀ (t : Nat) (v1 : Option Nat) (G : g_G) (q : (Option Nat × g_G) ⊕ gX), k9 t v1 G = some q → ∀ (H : Heap) (locs : List Loc) (cells slots : Nat) (ls : Array Slot), gSt E D G H locs → gls ls 3 [(0, .inr (.inr (some t))), (1, .inr (.inr v1))] → gTX p l e R s m args below meth c E D H locs cells slots gokA q (F0 m 9 ls [])) : ∀ (t : Nat) (v1 : Option Nat) (v2 : Int32) (s0 : Option Nat) (s1 : Int32) (G : g_G) (q : (Option Nat × g_G) ⊕ gX), fX5_steps_b73 E fS k9 t v1 v2 s0 s1 G = some q → ∀ (H : Heap) (locs : List Loc) (cells slots : Nat) (ls : Array Slot), gSt E D G H locs → gls ls 3 [(0, .inr (.inr (some t))), (1, .inr (.inr v1)), (2, .inl v2)] → gTX p l e R s m args below meth c E D H locs cells slots gokA q (F0 m 73 ls [.int s1, va_rf s0]) := by
  obtain ⟨hx, hb, hml, hown, hts, hKn, hRc, hRs, hc1, hc2, hRf, hRl, hr, hlk, hnm⟩ := id C
  intro t v1 v2 s0 s1 G q h H locs cells slots ls hS hl
  unfold fX5_steps_b73 at h
  refine lv_iconst (v := 2) hx hb dX5_steps_73 (by decide) ?_
  obtain ⟨b74, hb74, h⟩ := g_bnd h
  obtain ⟨hr74, hk74⟩ := g_chk hb74
  obtain ⟨o74, h74, ha74, hx74⟩ := g_catE h
  refine g_callVt (n := 2) (b := b74) (av := [.inl s1, .inl 2]) (rs := []) hx hb hml hown hts hKn hRc hRs hS hl (sX5_check l E D hlT h74) (lw_V q1363 q1365 qs27 q136 q1366) ⟨rfl, by decide, by decide, by decide +kernel⟩ ⟨by rw [hRf]; omega, by rw [hRl]; omega⟩ (g_recv hKn hS hk74 (by decide) (by decide)) rfl (by rw [hr74]; rfl) (Nat.le_of_ble_eq_true rfl) dX5_steps_74 (fun z74 e74 H locs cells slots hS => ?_) (fun k74 a74 G74 e74 n1 n2 nk nB H locs cells slots hS => ?_)
  · have h := ha74 _ e74
    refine g_aload_n hx hb hl 0 rfl dX5_steps_77 ?_
    obtain ⟨b78, hb78, h⟩ := g_bnd h
    obtain ⟨hr78, hk78⟩ := g_chk hb78
    obtain ⟨z78, h78, h⟩ := g_bnd h
    refine g_callV (n := 0) (b := b78) (av := []) (rs := []) hx hb hml hown hts hKn hRc hRs hS hl (sX5_go l E D h78) (lw_V q1118 q1120 qs24 q136 q1121) ⟨rfl, by decide, by decide, by decide +kernel⟩ ⟨by rw [hRf]; omega, by rw [hRl]; omega⟩ (g_recv hKn hS hk78 (by decide) (by decide)) rfl (by rw [hr78]; rfl) (Nat.le_of_ble_eq_true rfl) dX5_steps_78 (fun H locs cells slots hS => ?_)
    refine g_aload_n hx hb hl 1 rfl dX5_steps_81 ?_
    refine g_aload_n hx hb hl 0 rfl dX5_steps_82 ?_
    refine g_iload_n hx hb hl 2 rfl dX5_steps_83 ?_
    refine g_aload_n hx hb hl 0 rfl dX5_steps_84 ?_
    refine g_rdR hx hb hown hts hKn hS h fd_5_5_10 rfl (Or.inl (hts _ q1243)) (fun _ z => z) dX5_steps_85 (fun x85 h => ?_)
    refine g_rdR hx hb hown hts hKn hS h fd_2_2_0 rfl (Or.inr ⟨_, gNest_use rfl (hKn.2.2.2.2.1 _ (gNest_in q513 rfl))⟩) (fun _ z => z) dX5_steps_88 (fun x88 h => ?_)
    obtain ⟨b91, hb91, h⟩ := g_bnd h
    obtain ⟨hr91, hk91⟩ := g_chk hb91
    obtain ⟨z91, h91, h⟩ := g_bnd h
    refine g_callV (n := 0) (b := b91) (av := []) (rs := [.inl v2, .inr (.inr (some t)), .inr (.inr v1)]) hx hb hml hown hts hKn hRc hRs hS hl (sJ2_size l E D h91) (lw_V q1362 q782 q783 q117 q784) ⟨rfl, by decide, by decide, by decide +kernel⟩ ⟨by rw [hRf]; omega, by rw [hRl]; omega⟩ (g_recv hKn hS hk91 (by decide) (by decide)) rfl (by rw [hr91]; rfl) (Nat.le_of_ble_eq_true rfl) dX5_steps_91 (fun H locs cells slots hS => ?_)
    obtain ⟨b94, hb94, h⟩ := g_bnd h
    obtain ⟨hr94, hk94⟩ := g_chk hb94
    obtain ⟨o94, h94, ha94, hx94⟩ := g_catE h
    refine g_callVt (n := 2) (b := b94) (av := [.inl v2, .inl z91.1]) (rs := [.inr (.inr v1)]) hx hb hml hown hts hKn hRc hRs hS hl (sX5_step l E D hlT hfS hF hL h94) (lw_V q1390 q1392 qs28 q136 q1393) ⟨rfl, by decide, by decide, by decide +kernel⟩ ⟨by rw [hRf]; omega, by rw [hRl]; omega⟩ (g_recv hKn hS hk94 (by decide) (by decide)) rfl (by rw [hr94]; rfl) (Nat.le_of_ble_eq_true rfl) dX5_steps_94 (fun z94 e94 H locs cells slots hS => ?_) (fun k94 a94 G94 e94 n1 n2 nk nB H locs cells slots hS => ?_)
    · have h := ha94 _ e94
      obtain ⟨b97, hb97, h⟩ := g_bnd h
      obtain ⟨hr97, hk97⟩ := g_chk hb97
      obtain ⟨z97, h97, h⟩ := g_bnd h
      refine g_callV (n := 1) (b := b97) (av := [.inr (.inr z94.1)]) (rs := []) hx hb hml hown hts hKn hRc hRs hS hl (sJ2_add_2 l E D h97) (lw_V q1462 q1463 q1464 q117 q1465) ⟨rfl, by decide, by decide, by decide +kernel⟩ ⟨by rw [hRf]; omega, by rw [hRl]; omega⟩ (g_recv hKn hS hk97 (by decide) (by decide)) rfl (by rw [hr97]; rfl) (Nat.le_of_ble_eq_true rfl) dX5_steps_97 (fun H locs cells slots hS => ?_)
      refine lv_pop hx hb dX5_steps_100 rfl ?_
      refine g_aload_n hx hb hl 0 rfl dX5_steps_101 ?_
      refine g_ldcS (i := 56) hx hb hown hKn (List.mem_of_getElem? (i := 36) rfl) dX5_steps_102 ?_
      obtain ⟨b104, hb104, h⟩ := g_bnd h
      obtain ⟨hr104, hk104⟩ := g_chk hb104
      obtain ⟨o104, h104, ha104, hx104⟩ := g_catE h
      refine g_callVt (n := 1) (b := b104) (av := [.inr (.inr (some (gA E 56)))]) (rs := []) hx hb hml hown hts hKn hRc hRs hS hl (sX5_need l E D hlT h104) (lw_V q1554 q1556 qs37 q136 q1557) ⟨rfl, by decide, by decide, by decide +kernel⟩ ⟨by rw [hRf]; omega, by rw [hRl]; omega⟩ (g_recv hKn hS hk104 (by decide) (by decide)) rfl (by rw [hr104]; rfl) (Nat.le_of_ble_eq_true rfl) dX5_steps_104 (fun z104 e104 H locs cells slots hS => ?_) (fun k104 a104 G104 e104 n1 n2 nk nB H locs cells slots hS => ?_)
      · have h := ha104 _ e104
        refine lv_goto (tgt := 9) hx hb dX5_steps_107 (by decide) ?_
        exact hk9 _ _ _ _ h _ _ _ _ _ hS (gls_sub hl [0, 1] rfl)
      · have h := hx104 _ e104
        exact g_outX (by rw [htab]; decide) hlk hKn hRc hRs hS n1 n2 nB nk h
    · have h := hx94 _ e94
      exact g_outX (by rw [htab]; decide) hlk hKn hRc hRs hS n1 n2 nB nk h
  · have h := hx74 _ e74
    exact g_outX (by rw [htab]; decide) hlk hKn hRc hRs hS n1 n2 nB nk h
theorem sX5_steps_b72 {p : Program} {l : Launch} {e : Env} {R : Room} {s : State} {m : MethodId} {args : Array Value} {below : List Frame} {meth : Method} {c : Code} {E : g_E} {D : g_D} {fS : g_E → Nat → g_G → Option ((Option Nat × g_G) ⊕ gX)} {fF : Nat} {fL : Nat} (C : gC p R s m args meth c cX5_steps 3 RX5 "steps" (some (.object "java/util/ArrayList")) (fF + 6) (fL + 300) E D) (hlT : l.stackTraces = false) (htab : c.exceptionTable.toList = []) (hfS : ∀ (l : Launch) (E : g_E) (D : g_D), l.stackTraces = false → ∀ {t : Nat} {G : g_G} {q : (Option Nat × g_G) ⊕ gX}, fS E t G = some q → gMetX l E D yX5_steps (ws_ yX5_steps cX5_steps 3 (some (.object "java/util/ArrayList"))) fF fL [.inr (.inr (some t))] G gokA q) (hF : 200 ≤ fF) (hL : 12000 ≤ fL) {k9 : Nat → (Option Nat) → g_G → Option ((Option Nat × g_G) ⊕ gX)} (hk9 : ∀ (t : Nat) (v1 : Option Nat) (G : g_G) (q : (Option Nat × g_G) ⊕ gX), k9 t v1 G = some q → ∀ (H : Heap) (locs : List Loc) (cells slots : Nat) (ls : Array Slot), gSt E D G H locs → gls ls 3 [(0, .inr (.inr (some t))), (1, .inr (.inr v1))] → gTX p l e R s m args below meth c E D H locs cells slots gokA q (F0 m 9 ls [])) : ∀ (t : Nat) (v1 : Option Nat) (v2 : Int32) (s0 : Option Nat) (G : g_G) (q : (Option Nat × g_G) ⊕ gX), fX5_steps_b72 E fS k9 t v1 v2 s0 G = some q → ∀ (H : Heap) (locs : List Loc) (cells slots : Nat) (ls : Array Slot), gSt E D G H locs → gls ls 3 [(0, .inr (.inr (some t))), (1, .inr (.inr v1)), (2, .inl v2)] → gTX p l e R s m args below meth c E D H locs cells slots gokA q (F0 m 72 ls [va_rf s0]) := by
  obtain ⟨hx, hb, hml, hown, hts, hKn, hRc, hRs, hc1, hc2, hRf, hRl, hr, hlk, hnm⟩ := id C
  intro t v1 v2 s0 G q h H locs cells slots ls hS hl
  unfold fX5_steps_b72 at h
  refine lv_iconst (v := 0) hx hb dX5_steps_72 (by decide) ?_
  exact sX5_steps_b73 C hlT htab hfS hF hL hk9 _ _ _ _ _ _ _ h _ _ _ _ _ hS (gls_sub hl [0, 1, 2] rfl)
theorem sX5_steps_b68 {p : Program} {l : Launch} {e : Env} {R : Room} {s : State} {m : MethodId} {args : Array Value} {below : List Frame} {meth : Method} {c : Code} {E : g_E} {D : g_D} {fS : g_E → Nat → g_G → Option ((Option Nat × g_G) ⊕ gX)} {fF : Nat} {fL : Nat} (C : gC p R s m args meth c cX5_steps 3 RX5 "steps" (some (.object "java/util/ArrayList")) (fF + 6) (fL + 300) E D) (hlT : l.stackTraces = false) (htab : c.exceptionTable.toList = []) (hfS : ∀ (l : Launch) (E : g_E) (D : g_D), l.stackTraces = false → ∀ {t : Nat} {G : g_G} {q : (Option Nat × g_G) ⊕ gX}, fS E t G = some q → gMetX l E D yX5_steps (ws_ yX5_steps cX5_steps 3 (some (.object "java/util/ArrayList"))) fF fL [.inr (.inr (some t))] G gokA q) (hF : 200 ≤ fF) (hL : 12000 ≤ fL) {k9 : Nat → (Option Nat) → g_G → Option ((Option Nat × g_G) ⊕ gX)} (hk9 : ∀ (t : Nat) (v1 : Option Nat) (G : g_G) (q : (Option Nat × g_G) ⊕ gX), k9 t v1 G = some q → ∀ (H : Heap) (locs : List Loc) (cells slots : Nat) (ls : Array Slot), gSt E D G H locs → gls ls 3 [(0, .inr (.inr (some t))), (1, .inr (.inr v1))] → gTX p l e R s m args below meth c E D H locs cells slots gokA q (F0 m 9 ls [])) : ∀ (t : Nat) (v1 : Option Nat) (v2 : Int32) (s0 : Option Nat) (G : g_G) (q : (Option Nat × g_G) ⊕ gX), fX5_steps_b68 E fS k9 t v1 v2 s0 G = some q → ∀ (H : Heap) (locs : List Loc) (cells slots : Nat) (ls : Array Slot), gSt E D G H locs → gls ls 3 [(0, .inr (.inr (some t))), (1, .inr (.inr v1)), (2, .inl v2)] → gTX p l e R s m args below meth c E D H locs cells slots gokA q (F0 m 68 ls [va_rf s0]) := by
  obtain ⟨hx, hb, hml, hown, hts, hKn, hRc, hRs, hc1, hc2, hRf, hRl, hr, hlk, hnm⟩ := id C
  intro t v1 v2 s0 G q h H locs cells slots ls hS hl
  unfold fX5_steps_b68 at h
  refine lv_iconst (v := 1) hx hb dX5_steps_68 (by decide) ?_
  refine lv_goto (tgt := 73) hx hb dX5_steps_69 (by decide) ?_
  exact sX5_steps_b73 C hlT htab hfS hF hL hk9 _ _ _ _ _ _ _ h _ _ _ _ _ hS (gls_sub hl [0, 1, 2] rfl)
theorem sX5_steps_b9 {p : Program} {l : Launch} {e : Env} {R : Room} {s : State} {m : MethodId} {args : Array Value} {below : List Frame} {meth : Method} {c : Code} {E : g_E} {D : g_D} {fS : g_E → Nat → g_G → Option ((Option Nat × g_G) ⊕ gX)} {fF : Nat} {fL : Nat} (C : gC p R s m args meth c cX5_steps 3 RX5 "steps" (some (.object "java/util/ArrayList")) (fF + 6) (fL + 300) E D) (hlT : l.stackTraces = false) (htab : c.exceptionTable.toList = []) (hfS : ∀ (l : Launch) (E : g_E) (D : g_D), l.stackTraces = false → ∀ {t : Nat} {G : g_G} {q : (Option Nat × g_G) ⊕ gX}, fS E t G = some q → gMetX l E D yX5_steps (ws_ yX5_steps cX5_steps 3 (some (.object "java/util/ArrayList"))) fF fL [.inr (.inr (some t))] G gokA q) (hF : 200 ≤ fF) (hL : 12000 ≤ fL) : ∀ (n : Nat) (t : Nat) (v1 : Option Nat) (G : g_G) (q : (Option Nat × g_G) ⊕ gX), fX5_steps_b9 E fS n t v1 G = some q → ∀ (H : Heap) (locs : List Loc) (cells slots : Nat) (ls : Array Slot), gSt E D G H locs → gls ls 3 [(0, .inr (.inr (some t))), (1, .inr (.inr v1))] → gTX p l e R s m args below meth c E D H locs cells slots gokA q (F0 m 9 ls []) := by
  obtain ⟨hx, hb, hml, hown, hts, hKn, hRc, hRs, hc1, hc2, hRf, hRl, hr, hlk, hnm⟩ := id C
  intro n
  induction n with
  | zero =>
    intro t v1 G q h
    exact g_no h
  | succ n ih =>
    intro t v1 G q h H locs cells slots ls hS hl
    rw [fX5_steps_b9] at h
    refine g_aload_n hx hb hl 0 rfl dX5_steps_9 ?_
    refine g_rdR hx hb hown hts hKn hS h fd_5_5_8 rfl (Or.inl (hts _ q1241)) (fun _ z => z) dX5_steps_10 (fun x10 h => ?_)
    refine g_getsZ (C := "SendHall$Sort") (n := "WORD") (d := "LSendHall$Sort;") (v := va_rf (some (gA E 1))) hx hb hown (hKn.2.2.2.2.2.2.1 _ (List.mem_of_getElem? (i := 0) rfl)) hS (hts _ q1157) (fun _ z => z) dX5_steps_13 ?_
    refine lv_acmp_ne (tgt := 110) hx hb dX5_steps_16 (by decide) (fun c_16 => ?_) (fun c_16 => ?_)
    · have h := g_ift c_16 h
      refine g_aload_n hx hb hl 1 rfl dX5_steps_110 ?_
      exact g_retX (g_aretG hx hb hr (by first | exact Or.inl ⟨_, rfl⟩ | exact Or.inr ⟨_, rfl⟩) hlk hKn hRc hRs hS (q := (v1, G)) rfl dX5_steps_111) h rfl
    · have h := g_iff (fun z => z c_16) h
      refine g_aload_n hx hb hl 0 rfl dX5_steps_19 ?_
      refine g_rdR hx hb hown hts hKn hS h fd_5_5_9 rfl (Or.inl (hts _ q1242)) (fun _ z => z) dX5_steps_20 (fun x20 h => ?_)
      obtain ⟨z23, h23, h⟩ := g_bnd h
      refine g_callS (n := 1) (av := [.inr (.inr x20)]) (rs := []) hx hb hml hown hts hKn hRc hRs hS hl (sX5_kindOf l E D h23) (lw_S q1284 q1285 q136 q1286) ⟨by decide, by decide, by decide +kernel⟩ ⟨by rw [hRf]; omega, by rw [hRl]; omega⟩ rfl rfl (Nat.le_of_ble_eq_true rfl) dX5_steps_23 (fun H locs cells slots hS => ?_)
      refine lv_iconst (v := (-1)) hx hb dX5_steps_26 (by decide) ?_
      refine lv_icmp_eq (tgt := 110) hx hb dX5_steps_27 (by decide) (fun c_27 => ?_) (fun c_27 => ?_)
      · have h := g_ift c_27 h
        refine g_aload_n hx hb hl 1 rfl dX5_steps_110 ?_
        exact g_retX (g_aretG hx hb hr (by first | exact Or.inl ⟨_, rfl⟩ | exact Or.inr ⟨_, rfl⟩) hlk hKn hRc hRs hS (q := (v1, z23.2)) rfl dX5_steps_111) h rfl
      · have h := g_iff c_27 h
        refine g_aload_n hx hb hl 0 rfl dX5_steps_30 ?_
        refine g_rdR hx hb hown hts hKn hS h fd_5_5_9 rfl (Or.inl (hts _ q1242)) (fun _ z => z) dX5_steps_31 (fun x31 h => ?_)
        obtain ⟨z34, h34, h⟩ := g_bnd h
        refine g_callS (n := 1) (av := [.inr (.inr x31)]) (rs := []) hx hb hml hown hts hKn hRc hRs hS hl (sX5_kindOf l E D h34) (lw_S q1284 q1285 q136 q1286) ⟨by decide, by decide, by decide +kernel⟩ ⟨by rw [hRf]; omega, by rw [hRl]; omega⟩ rfl rfl (Nat.le_of_ble_eq_true rfl) dX5_steps_34 (fun H locs cells slots hS => ?_)
        refine g_istore_n (l1 := [(2, .inl z34.1), (0, .inr (.inr (some t))), (1, .inr (.inr v1))]) hx hb hl (by decide) rfl dX5_steps_37 (fun ls hl => ?_)
        refine g_aload_n hx hb hl 1 rfl dX5_steps_38 ?_
        refine g_aload_n hx hb hl 1 rfl dX5_steps_39 ?_
        refine g_rdR hx hb hown hts hKn hS h fd_5_5_10 rfl (Or.inl (hts _ q1243)) (fun _ z => z) dX5_steps_40 (fun x40 h => ?_)
        refine g_rdR hx hb hown hts hKn hS h fd_2_2_0 rfl (Or.inr ⟨_, gNest_use rfl (hKn.2.2.2.2.1 _ (gNest_in q513 rfl))⟩) (fun _ z => z) dX5_steps_43 (fun x43 h => ?_)
        obtain ⟨b46, hb46, h⟩ := g_bnd h
        obtain ⟨hr46, hk46⟩ := g_chk hb46
        obtain ⟨z46, h46, h⟩ := g_bnd h
        refine g_callV (n := 0) (b := b46) (av := []) (rs := [.inr (.inr (some t))]) hx hb hml hown hts hKn hRc hRs hS hl (sJ2_size l E D h46) (lw_V q1362 q782 q783 q117 q784) ⟨rfl, by decide, by decide, by decide +kernel⟩ ⟨by rw [hRf]; omega, by rw [hRl]; omega⟩ (g_recv hKn hS hk46 (by decide) (by decide)) rfl (by rw [hr46]; rfl) (Nat.le_of_ble_eq_true rfl) dX5_steps_46 (fun H locs cells slots hS => ?_)
        refine lv_bipush (v := 40) hx hb dX5_steps_49 (by decide) ?_
        refine lv_icmp_ge (tgt := 72) hx hb dX5_steps_51 (by decide) (fun c_51 => ?_) (fun c_51 => ?_)
        · have h := g_ift c_51 h
          exact sX5_steps_b72 C hlT htab hfS hF hL ih _ _ _ _ _ _ h _ _ _ _ _ hS (gls_sub hl [1, 2, 0] rfl)
        · have h := g_iff c_51 h
          refine g_iload_n hx hb hl 0 rfl dX5_steps_54 ?_
          refine lv_bipush (v := 10) hx hb dX5_steps_55 (by decide) ?_
          refine lv_icmp_ne (tgt := 68) hx hb dX5_steps_57 (by decide) (fun c_57 => ?_) (fun c_57 => ?_)
          · have h := g_ift c_57 h
            exact sX5_steps_b68 C hlT htab hfS hF hL ih _ _ _ _ _ _ h _ _ _ _ _ hS (gls_sub hl [1, 2, 0] rfl)
          · have h := g_iff (fun z => z c_57) h
            refine g_aload_n hx hb hl 1 rfl dX5_steps_60 ?_
            refine g_rdI hx hb hown hts hKn hS h fd_5_5_5 rfl (Or.inl (hts _ q1238)) (fun _ z => z) dX5_steps_61 (fun x61 h => ?_)
            refine lv_iconst (v := 4) hx hb dX5_steps_64 (by decide) ?_
            refine lv_icmp_ge (tgt := 72) hx hb dX5_steps_65 (by decide) (fun c_65 => ?_) (fun c_65 => ?_)
            · have h := g_ift c_65 h
              exact sX5_steps_b72 C hlT htab hfS hF hL ih _ _ _ _ _ _ h _ _ _ _ _ hS (gls_sub hl [1, 2, 0] rfl)
            · have h := g_iff c_65 h
              exact sX5_steps_b68 C hlT htab hfS hF hL ih _ _ _ _ _ _ h _ _ _ _ _ hS (gls_sub hl [1, 2, 0] rfl)
theorem sX5_steps (l : Launch) (E : g_E) (D : g_D) (hlT : l.stackTraces = false) {fS : g_E → Nat → g_G → Option ((Option Nat × g_G) ⊕ gX)} {fF : Nat} {fL : Nat} (hfS : ∀ (l : Launch) (E : g_E) (D : g_D), l.stackTraces = false → ∀ {t : Nat} {G : g_G} {q : (Option Nat × g_G) ⊕ gX}, fS E t G = some q → gMetX l E D yX5_steps (ws_ yX5_steps cX5_steps 3 (some (.object "java/util/ArrayList"))) fF fL [.inr (.inr (some t))] G gokA q) (hF : 200 ≤ fF) (hL : 12000 ≤ fL) {t : Nat} {G : g_G} {q : (Option Nat × g_G) ⊕ gX} (h : fX5_steps E fS t G = some q) : gMetX l E D yX5_steps (ws_ yX5_steps cX5_steps 3 (some (.object "java/util/ArrayList"))) (fF + 6) (fL + 300) [.inr (.inr (some t))] G gokA q := by
  refine gMetX.of (by decide +kernel) (Nat.le_of_ble_eq_true rfl) ?_
  intro p e R s m args below meth c C htab hS ls hl
  have C : gC p R s m args meth c cX5_steps 3 RX5 "steps" (some (.object "java/util/ArrayList")) (fF + 6) (fL + 300) E D := C
  obtain ⟨hx, hb, hml, hown, hts, hKn, hRc, hRs, hc1, hc2, hRf, hRl, hr, hlk, hnm⟩ := id C
  have hl : gls ls 3 [(0, .inr (.inr (some t)))] := hl
  generalize hH0 : s.heap = H at hS ⊢
  unfold fX5_steps at h
  refine g_newG (k := 17) hx hb hown hts hKn hRc hRs hS h (by decide) (by decide) (hts _ q1116) (hts _ q171) (hts _ q117) dX5_steps_0 (fun z0 h H locs cells slots hS => ?_)
  refine lv_dup hx hb dX5_steps_3 (by first | exact va_rf_cat _ | rfl | exact g_catA _) ?_
  refine lv_iconst (v := 2) hx hb dX5_steps_4 (by decide) ?_
  obtain ⟨z5, h5, h⟩ := g_bnd h
  refine g_callI (n := 1) (av := [.inl 2]) (rs := [.inr (.inr (some z0.1))]) hx hb hml hown hts hKn hRc hRs hS hl (sJ2_init l E D h5) (lw_meth q174) (hts _ q117) (hts _ q1117) (hts _ q173) rfl ⟨by decide, by decide, by decide +kernel⟩ ⟨by rw [hRf]; omega, by rw [hRl]; omega⟩ rfl rfl (Nat.le_of_ble_eq_true rfl) dX5_steps_5 (fun H locs cells slots hS => ?_)
  refine g_astore_n (l1 := [(1, .inr (.inr (some z0.1))), (0, .inr (.inr (some t)))]) hx hb hl (by decide) rfl dX5_steps_8 (fun ls hl => ?_)
  exact sX5_steps_b9 C hlT htab hfS hF hL gFU _ _ _ _ h _ _ _ _ _ hS (gls_sub hl [1, 0] rfl)
/-- tied: calls may lie d deep in one another -/
def gF_steps : Nat → Nat
  | 0 => 200
  | d + 1 => gF_steps d + 6
def gL_steps : Nat → Nat
  | 0 => 12000
  | d + 1 => gL_steps d + 300
theorem gF_steps_ge : ∀ d, 200 ≤ gF_steps d
  | 0 => Nat.le_refl _
  | d + 1 => Nat.le_trans (gF_steps_ge d) (Nat.le_add_right _ _)
theorem gL_steps_ge : ∀ d, 12000 ≤ gL_steps d
  | 0 => Nat.le_refl _
  | d + 1 => Nat.le_trans (gL_steps_ge d) (Nat.le_add_right _ _)
def fR_steps : Nat → g_E → Nat → g_G → Option ((Option Nat × g_G) ⊕ gX)
  | 0 => fun _ _ _ => none
  | d + 1 => fun E t G => fX5_steps E (fR_steps d) t G
theorem sR_steps : ∀ (d : Nat) (l : Launch) (E : g_E) (D : g_D), l.stackTraces = false → ∀ {t : Nat} {G : g_G} {q : (Option Nat × g_G) ⊕ gX}, fR_steps d E t G = some q → gMetX l E D yX5_steps (ws_ yX5_steps cX5_steps 3 (some (.object "java/util/ArrayList"))) (gF_steps d) (gL_steps d) [.inr (.inr (some t))] G gokA q
  | 0 => by
    intro l E D hlT t G q h
    exact g_no h
  | d + 1 => by
    intro l E D hlT t G q h
    exact sX5_steps l E D hlT (sR_steps d) (gF_steps_ge d) (gL_steps_ge d) h
theorem sT_steps (l : Launch) (E : g_E) (D : g_D) (hlT : l.stackTraces = false) {t : Nat} {G : g_G} {q : (Option Nat × g_G) ⊕ gX} (h : fR_steps 7 E t G = some q) : gMetX l E D yX5_steps (ws_ yX5_steps cX5_steps 3 (some (.object "java/util/ArrayList"))) 242 14100 [.inr (.inr (some t))] G gokA q := sR_steps 7 l E D hlT h
/-- SendHall.finds()Z -/
def fX1_finds_b27 (E : g_E) (t : Nat) (G : g_G) : Option (Int32 × g_G) :=
  (gpZ E G 1 1 (some t) 13 1).bind fun G29 =>
  (grI G29 1 1 (some t) 14).bind fun x33 =>
  if ¬ x33 = 0 then (
    if (0 : Int32) = 0 ∨ (0 : Int32) = 1 then some (0, G29) else none)
  else (
    if (1 : Int32) = 0 ∨ (1 : Int32) = 1 then some (1, G29) else none)
def fX1_finds_b24 (E : g_E) (t : Nat) (s0 : Option Nat) (s1 : Int32) (G : g_G) : Option (Int32 × g_G) :=
  (gpZ E G 1 1 s0 14 s1).bind fun G24 =>
  fX1_finds_b27 E t G24
def fX1_finds (E : g_E) (t : Nat) (G : g_G) : Option (Int32 × g_G) :=
  (grI G 1 1 (some t) 13).bind fun x1 =>
  if ¬ x1 = 0 then (
    fX1_finds_b27 E t G)
  else (
    (grI G 1 1 (some t) 1).bind fun x10 =>
    (gchk G 1 (some t)).bind fun b13 =>
    (fX1_goesThrough E b13 x10 G).bind fun z13 =>
    if ¬ z13.1 = 0 then (
      fX1_finds_b24 E t (some t) 0 z13.2)
    else (
      fX1_finds_b24 E t (some t) 1 z13.2))
theorem sX1_finds_b27 {p : Program} {l : Launch} {e : Env} {R : Room} {s : State} {m : MethodId} {args : Array Value} {below : List Frame} {meth : Method} {c : Code} {E : g_E} {D : g_D} (C : gC p R s m args meth c cX1_finds 1 RX1 "finds" (some .boolean) 226 7511 E D) : ∀ (t : Nat) (G : g_G) (q : Int32 × g_G), fX1_finds_b27 E t G = some q → ∀ (H : Heap) (locs : List Loc) (cells slots : Nat) (ls : Array Slot), gSt E D G H locs → gls ls 1 [(0, .inr (.inr (some t)))] → gT p l e R s m args below meth c E D H locs cells slots (some (.int q.1)) q.2 (F0 m 27 ls []) := by
  obtain ⟨hx, hb, hml, hown, hts, hKn, hRc, hRs, hc1, hc2, hRf, hRl, hr, hlk, hnm⟩ := id C
  intro t G q h H locs cells slots ls hS hl
  unfold fX1_finds_b27 at h
  refine g_aload_n hx hb hl 0 rfl dX1_finds_27 ?_
  refine lv_iconst (v := 1) hx hb dX1_finds_28 (by decide) ?_
  refine g_ptZ hx hb hown hts hKn hS h fd_1_1_13 (Or.inl (hts _ q610)) (fun _ z => z) (fun z => nomatch z) dX1_finds_29 (fun G29 h H locs hS => ?_)
  refine g_aload_n hx hb hl 0 rfl dX1_finds_32 ?_
  refine g_rdI hx hb hown hts hKn hS h fd_1_1_14 rfl (Or.inl (hts _ q611)) (fun _ z => z) dX1_finds_33 (fun x33 h => ?_)
  refine lv_if_ne (tgt := 43) hx hb dX1_finds_36 (by decide) (fun c_36 => ?_) (fun c_36 => ?_)
  · have h := g_ift c_36 h
    refine lv_iconst (v := 0) hx hb dX1_finds_43 (by decide) ?_
    exact g_zretG hx hb hr hlk hKn hRc hRs hS h dX1_finds_44
  · have h := g_iff (fun z => z c_36) h
    refine lv_iconst (v := 1) hx hb dX1_finds_39 (by decide) ?_
    refine lv_goto (tgt := 44) hx hb dX1_finds_40 (by decide) ?_
    exact g_zretG hx hb hr hlk hKn hRc hRs hS h dX1_finds_44
theorem sX1_finds_b24 {p : Program} {l : Launch} {e : Env} {R : Room} {s : State} {m : MethodId} {args : Array Value} {below : List Frame} {meth : Method} {c : Code} {E : g_E} {D : g_D} (C : gC p R s m args meth c cX1_finds 1 RX1 "finds" (some .boolean) 226 7511 E D) : ∀ (t : Nat) (s0 : Option Nat) (s1 : Int32) (G : g_G) (q : Int32 × g_G), fX1_finds_b24 E t s0 s1 G = some q → ∀ (H : Heap) (locs : List Loc) (cells slots : Nat) (ls : Array Slot), gSt E D G H locs → gls ls 1 [(0, .inr (.inr (some t)))] → gT p l e R s m args below meth c E D H locs cells slots (some (.int q.1)) q.2 (F0 m 24 ls [.int s1, va_rf s0]) := by
  obtain ⟨hx, hb, hml, hown, hts, hKn, hRc, hRs, hc1, hc2, hRf, hRl, hr, hlk, hnm⟩ := id C
  intro t s0 s1 G q h H locs cells slots ls hS hl
  unfold fX1_finds_b24 at h
  refine g_ptZ hx hb hown hts hKn hS h fd_1_1_14 (Or.inl (hts _ q611)) (fun _ z => z) (fun z => nomatch z) dX1_finds_24 (fun G24 h H locs hS => ?_)
  exact sX1_finds_b27 C _ _ _ h _ _ _ _ _ hS (gls_sub hl [0] rfl)
theorem sX1_finds (l : Launch) (E : g_E) (D : g_D) {t : Nat} {G : g_G} {q : Int32 × g_G} (h : fX1_finds E t G = some q) : gMet l E D yX1_finds (ws_ yX1_finds cX1_finds 1 (some .boolean)) 226 7511 [.inr (.inr (some t))] G (some (.int q.1)) q.2 := by
  refine gMet.of (by decide +kernel) (Nat.le_of_ble_eq_true rfl) ?_
  intro p e R s m args below meth c C hS ls hl
  have C : gC p R s m args meth c cX1_finds 1 RX1 "finds" (some .boolean) 226 7511 E D := C
  obtain ⟨hx, hb, hml, hown, hts, hKn, hRc, hRs, hc1, hc2, hRf, hRl, hr, hlk, hnm⟩ := id C
  have hl : gls ls 1 [(0, .inr (.inr (some t)))] := hl
  generalize s.heap = H at hS ⊢
  unfold fX1_finds at h
  refine g_aload_n hx hb hl 0 rfl dX1_finds_0 ?_
  refine g_rdI hx hb hown hts hKn hS h fd_1_1_13 rfl (Or.inl (hts _ q610)) (fun _ z => z) dX1_finds_1 (fun x1 h => ?_)
  refine lv_if_ne (tgt := 27) hx hb dX1_finds_4 (by decide) (fun c_4 => ?_) (fun c_4 => ?_)
  · have h := g_ift c_4 h
    exact sX1_finds_b27 C _ _ _ h _ _ _ _ _ hS (gls_sub hl [0] rfl)
  · have h := g_iff (fun z => z c_4) h
    refine g_aload_n hx hb hl 0 rfl dX1_finds_7 ?_
    refine g_aload_n hx hb hl 0 rfl dX1_finds_8 ?_
    refine g_aload_n hx hb hl 0 rfl dX1_finds_9 ?_
    refine g_rdI hx hb hown hts hKn hS h fd_1_1_1 rfl (Or.inl (hts _ q598)) (fun _ z => z) dX1_finds_10 (fun x10 h => ?_)
    obtain ⟨b13, hb13, h⟩ := g_bnd h
    obtain ⟨hr13, hk13⟩ := g_chk hb13
    obtain ⟨z13, h13, h⟩ := g_bnd h
    refine g_callV (n := 1) (b := b13) (av := [.inl x10]) (rs := [.inr (.inr (some t))]) hx hb hml hown hts hKn hRc hRs hS hl (sX1_goesThrough l E D h13) (lw_V q724 q726 qs3 q113 q727) ⟨rfl, by decide, by decide, by decide +kernel⟩ ⟨by rw [hRf]; exact Nat.le_of_ble_eq_true rfl, by rw [hRl]; exact Nat.le_of_ble_eq_true rfl⟩ (g_recv hKn hS hk13 (by decide) (by decide)) rfl (by rw [hr13]; rfl) (Nat.le_of_ble_eq_true rfl) dX1_finds_13 (fun H locs cells slots hS => ?_)
    refine lv_if_ne (tgt := 23) hx hb dX1_finds_16 (by decide) (fun c_16 => ?_) (fun c_16 => ?_)
    · have h := g_ift c_16 h
      refine lv_iconst (v := 0) hx hb dX1_finds_23 (by decide) ?_
      exact sX1_finds_b24 C _ _ _ _ _ h _ _ _ _ _ hS (gls_sub hl [0] rfl)
    · have h := g_iff (fun z => z c_16) h
      refine lv_iconst (v := 1) hx hb dX1_finds_19 (by decide) ?_
      refine lv_goto (tgt := 24) hx hb dX1_finds_20 (by decide) ?_
      exact sX1_finds_b24 C _ _ _ _ _ h _ _ _ _ _ hS (gls_sub hl [0] rfl)
