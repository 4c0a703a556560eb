set_option maxRecDepth 100000
/-- SendHall.least(I)I -/
def fX1_least_b29 (E : g_E) : Nat → Nat → Int32 → Int32 → g_G → Option ((Int32 × g_G) ⊕ gX)
  | 0, _, _, _, _ => none
  | n + 1, t, v1, v2, G =>
    if (8 : Int32) < v2 then (
      some (.inl ((-1), G)))
    else (
      (grR G 1 1 (some t) 32).bind fun x37 =>
      (gchk G 1 (some t)).bind fun b42 =>
      (fX1_plays E b42 x37 v2 v1 G).bind fun z42 =>
      (grR z42 1 1 (some t) 32).bind fun x46 =>
      (gchk z42 3 x46).bind fun b49 =>
      (fX3_kind E b49 z42).bind fun z49 =>
      if ¬ z49.1 = (2 : Int32) then (
        fX1_least_b29 E n t v1 (v2 + 1) z49.2)
      else (
        some (.inl (v2, z49.2))))
def fX1_least (E : g_E) (t : Nat) (v1 : Int32) (G : g_G) : Option ((Int32 × g_G) ⊕ gX) :=
  (fX1_within E v1 0 3 G).bind fun z3 =>
  gcat (fX1_right E z3.1 z3.2) (fun z6 =>
    (grR z6 1 1 (some t) 4).bind fun x10 =>
    (grI z6 2 2 x10 2).bind fun x13 =>
    if x13 ≤ 0 then (
      (gpI E z6 1 1 (some t) 26 0).bind fun G24 =>
      fX1_least_b29 E gFU t v1 2 G24)
    else (
      some (.inl ((-2), z6))))
  (fun y => some (.inr y))
theorem sX1_least_b29 {p : Program} {l : Launch} {e : Env} {R : Room} {s : State} {m : MethodId} {args : Array Value} {below : List Frame} {meth : Method} {c : Code} {E : g_E} {D : g_D} (C : gC p R s m args meth c cX1_least 3 RX1 "least" (some .int) 226 7511 E D) (hlT : l.stackTraces = false) (htab : c.exceptionTable.toList = []) : ∀ (n : Nat) (t : Nat) (v1 : Int32) (v2 : Int32) (G : g_G) (q : (Int32 × g_G) ⊕ gX), fX1_least_b29 E n t v1 v2 G = some q → ∀ (H : Heap) (locs : List Loc) (cells slots : Nat) (ls : Array Slot), gSt E D G H locs → gls ls 3 [(0, .inr (.inr (some t))), (1, .inl v1), (2, .inl v2)] → gTX p l e R s m args below meth c E D H locs cells slots gokI q (F0 m 29 ls []) := by
  obtain ⟨hx, hb, hml, hown, hts, hKn, hRc, hRs, hc1, hc2, hRf, hRl, hr, hlk, hnm⟩ := id C
  intro n
  induction n with
  | zero =>
    intro t v1 v2 G q h
    exact g_no h
  | succ n ih =>
    intro t v1 v2 G q h H locs cells slots ls hS hl
    rw [fX1_least_b29] at h
    refine g_iload_n hx hb hl 2 rfl dX1_least_29 ?_
    refine lv_bipush (v := 8) hx hb dX1_least_30 (by decide) ?_
    refine lv_icmp_gt (tgt := 64) hx hb dX1_least_32 (by decide) (fun c_32 => ?_) (fun c_32 => ?_)
    · have h := g_ift c_32 h
      refine lv_iconst (v := (-1)) hx hb dX1_least_64 (by decide) ?_
      exact g_retX (g_iretG hx hb hr hlk hKn hRc hRs hS (q := ((-1), G)) rfl dX1_least_65) h rfl
    · have h := g_iff c_32 h
      refine g_aload_n hx hb hl 0 rfl dX1_least_35 ?_
      refine g_aload_n hx hb hl 0 rfl dX1_least_36 ?_
      refine g_rdR hx hb hown hts hKn hS h fd_1_1_32 rfl (Or.inl (hts _ q629)) (fun _ z => z) dX1_least_37 (fun x37 h => ?_)
      refine g_iload_n hx hb hl 2 rfl dX1_least_40 ?_
      refine g_iload_n hx hb hl 1 rfl dX1_least_41 ?_
      obtain ⟨b42, hb42, h⟩ := g_bnd h
      obtain ⟨hr42, hk42⟩ := g_chk hb42
      obtain ⟨z42, h42, h⟩ := g_bnd h
      refine g_callV (n := 3) (b := b42) (av := [.inr (.inr x37), .inl v2, .inl v1]) (rs := []) hx hb hml hown hts hKn hRc hRs hS hl (sX1_plays l E D h42) (lw_V q1786 q1788 qs43 q113 q1789) ⟨rfl, by decide, by decide, by decide +kernel⟩ ⟨by rw [hRf]; exact Nat.le_of_ble_eq_true rfl, by rw [hRl]; exact Nat.le_of_ble_eq_true rfl⟩ (g_recv hKn hS hk42 (by decide) (by decide)) rfl (by rw [hr42]; rfl) (Nat.le_of_ble_eq_true rfl) dX1_least_42 (fun H locs cells slots hS => ?_)
      refine g_aload_n hx hb hl 0 rfl dX1_least_45 ?_
      refine g_rdR hx hb hown hts hKn hS h fd_1_1_32 rfl (Or.inl (hts _ q629)) (fun _ z => z) dX1_least_46 (fun x46 h => ?_)
      obtain ⟨b49, hb49, h⟩ := g_bnd h
      obtain ⟨hr49, hk49⟩ := g_chk hb49
      obtain ⟨z49, h49, h⟩ := g_bnd h
      refine g_callV (n := 0) (b := b49) (av := []) (rs := []) hx hb hml hown hts hKn hRc hRs hS hl (sX3_kind l E D h49) (lw_V q985 q986 q987 q134 q988) ⟨rfl, by decide, by decide, by decide +kernel⟩ ⟨by rw [hRf]; exact Nat.le_of_ble_eq_true rfl, by rw [hRl]; exact Nat.le_of_ble_eq_true rfl⟩ (g_recv hKn hS hk49 (by decide) (by decide)) rfl (by rw [hr49]; rfl) (Nat.le_of_ble_eq_true rfl) dX1_least_49 (fun H locs cells slots hS => ?_)
      refine lv_iconst (v := 2) hx hb dX1_least_52 (by decide) ?_
      refine lv_icmp_ne (tgt := 58) hx hb dX1_least_53 (by decide) (fun c_53 => ?_) (fun c_53 => ?_)
      · have h := g_ift c_53 h
        refine g_iinc (l1 := [(2, .inl (v2 + 1)), (0, .inr (.inr (some t))), (1, .inl v1)]) (v := (v2 + 1)) hx hb hl (k := 2) rfl (by rfl) (by decide) rfl dX1_least_58 (fun ls hl => ?_)
        refine lv_goto (tgt := 29) hx hb dX1_least_61 (by decide) ?_
        exact ih _ _ _ _ _ h _ _ _ _ _ hS (gls_sub hl [1, 2, 0] rfl)
      · have h := g_iff (fun z => z c_53) h
        refine g_iload_n hx hb hl 2 rfl dX1_least_56 ?_
        exact g_retX (g_iretG hx hb hr hlk hKn hRc hRs hS (q := (v2, z49.2)) rfl dX1_least_57) h rfl
theorem sX1_least (l : Launch) (E : g_E) (D : g_D) (hlT : l.stackTraces = false) {t : Nat} {v1 : Int32} {G : g_G} {q : (Int32 × g_G) ⊕ gX} (h : fX1_least E t v1 G = some q) : gMetX l E D yX1_least (ws_ yX1_least cX1_least 3 (some .int)) 226 7511 [.inr (.inr (some t)), .inl v1] G gokI q := by
  refine gMetX.of (by decide +kernel) (Nat.le_of_ble_eq_true rfl) ?_
  intro p e R s m args below meth c C htab hS ls hl
  have C : gC p R s m args meth c cX1_least 3 RX1 "least" (some .int) 226 7511 E D := C
  obtain ⟨hx, hb, hml, hown, hts, hKn, hRc, hRs, hc1, hc2, hRf, hRl, hr, hlk, hnm⟩ := id C
  have hl : gls ls 3 [(0, .inr (.inr (some t))), (1, .inl v1)] := hl
  generalize hH0 : s.heap = H at hS ⊢
  unfold fX1_least at h
  refine g_iload_n hx hb hl 1 rfl dX1_least_0 ?_
  refine lv_iconst (v := 0) hx hb dX1_least_1 (by decide) ?_
  refine lv_iconst (v := 3) hx hb dX1_least_2 (by decide) ?_
  obtain ⟨z3, h3, h⟩ := g_bnd h
  refine g_callS (n := 3) (av := [.inl v1, .inl 0, .inl 3]) (rs := []) hx hb hml hown hts hKn hRc hRs hS hl (sX1_within l E D h3) (lw_S q713 q714 q113 q715) ⟨by decide, by decide, by decide +kernel⟩ ⟨by rw [hRf]; exact Nat.le_of_ble_eq_true rfl, by rw [hRl]; exact Nat.le_of_ble_eq_true rfl⟩ rfl rfl (Nat.le_of_ble_eq_true rfl) dX1_least_3 (fun H locs cells slots hS => ?_)
  obtain ⟨o6, h6, ha6, hx6⟩ := g_catE h
  refine g_callSt (n := 1) (av := [.inl z3.1]) (rs := []) hx hb hml hown hts hKn hRc hRs hS hl (sX1_right l E D hlT h6) (lw_S q1093 q1094 q113 q1095) ⟨by decide, by decide, by decide +kernel⟩ ⟨by rw [hRf]; exact Nat.le_of_ble_eq_true rfl, by rw [hRl]; exact Nat.le_of_ble_eq_true rfl⟩ rfl rfl (Nat.le_of_ble_eq_true rfl) dX1_least_6 (fun z6 e6 H locs cells slots hS => ?_) (fun k6 a6 G6 e6 n1 n2 nk nB H locs cells slots hS => ?_)
  · have h := ha6 _ e6
    refine g_aload_n hx hb hl 0 rfl dX1_least_9 ?_
    refine g_rdR hx hb hown hts hKn hS h fd_1_1_4 rfl (Or.inl (hts _ q601)) (fun _ z => z) dX1_least_10 (fun x10 h => ?_)
    refine g_rdI hx hb hown hts hKn hS h fd_2_2_2 rfl (Or.inr ⟨_, gNest_use rfl (hKn.2.2.2.2.1 _ (gNest_in q518 rfl))⟩) (fun _ z => z) dX1_least_13 (fun x13 h => ?_)
    refine lv_if_le (tgt := 22) hx hb dX1_least_16 (by decide) (fun c_16 => ?_) (fun c_16 => ?_)
    · have h := g_ift c_16 h
      refine g_aload_n hx hb hl 0 rfl dX1_least_22 ?_
      refine lv_iconst (v := 0) hx hb dX1_least_23 (by decide) ?_
      refine g_ptI hx hb hown hts hKn hS h fd_1_1_26 (Or.inl (hts _ q623)) (fun _ z => z) (fun z => nomatch z) dX1_least_24 (fun G24 h H locs hS => ?_)
      refine lv_iconst (v := 2) hx hb dX1_least_27 (by decide) ?_
      refine g_istore_n (l1 := [(2, .inl 2), (0, .inr (.inr (some t))), (1, .inl v1)]) hx hb hl (by decide) rfl dX1_least_28 (fun ls hl => ?_)
      exact sX1_least_b29 C hlT htab gFU _ _ _ _ _ h _ _ _ _ _ hS (gls_sub hl [1, 2, 0] rfl)
    · have h := g_iff c_16 h
      refine lv_bipush (v := (-2)) hx hb dX1_least_19 (by decide) ?_
      exact g_retX (g_iretG hx hb hr hlk hKn hRc hRs hS (q := ((-2), z6)) rfl dX1_least_21) h rfl
  · have h := hx6 _ e6
    exact g_outX (by rw [htab]; decide) hlk hKn hRc hRs hS n1 n2 nB nk h
/-- SendHall.play(IJ)I -/
def fX1_play_b172 (E : g_E) : Nat → Nat → Int32 → g_G → Option ((Int32 × g_G) ⊕ gX)
  | 0, _, _, _ => none
  | n + 1, t, v4, G =>
    (grI G 1 1 (some t) 25).bind fun x175 =>
    if x175 ≤ v4 then (
      (grR G 1 1 (some t) 20).bind fun x202 =>
      (gchk G 3 x202).bind fun b205 =>
      (fX3_kind E b205 G).bind fun z205 =>
      some (.inl (z205.1, z205.2)))
    else (
      (grR G 1 1 (some t) 30).bind fun x182 =>
      (grR G 1 1 (some t) 22).bind fun x188 =>
      (gaI G 100 x188 v4).bind fun x193 =>
      (gsaI E G x182 v4 x193).bind fun G194 =>
      fX1_play_b172 E n t (v4 + 1) G194)
def fX1_play_b118 (E : g_E) : Nat → Nat → Int32 → g_G → Option ((Int32 × g_G) ⊕ gX)
  | 0, _, _, _ => none
  | n + 1, t, v4, G =>
    (grI G 1 1 (some t) 0).bind fun x121 =>
    if x121 ≤ v4 then (
      (grI G 1 1 (some t) 25).bind fun x163 =>
      (gpI E G 1 1 (some t) 31 x163).bind fun G166 =>
      fX1_play_b172 E gFU t 0 G166)
    else (
      (grR G 1 1 (some t) 28).bind fun x128 =>
      (grR G 1 1 (some t) 6).bind fun x134 =>
      (gaI G 100 x134 v4).bind fun x139 =>
      (gsaI E G x128 v4 x139).bind fun G140 =>
      (grR G140 1 1 (some t) 29).bind fun x142 =>
      (grR G140 1 1 (some t) 7).bind fun x148 =>
      (gaI G140 100 x148 v4).bind fun x153 =>
      (gsaI E G140 x142 v4 x153).bind fun G154 =>
      fX1_play_b118 E n t (v4 + 1) G154)
def fX1_play_b60 (E : g_E) : Nat → Nat → Int32 → Int64 → Int32 → g_G → Option ((Int32 × g_G) ⊕ gX)
  | 0, _, _, _, _, _ => none
  | n + 1, t, v1, v2, v4, G =>
    if v1 ≤ v4 then (
      (grR G 1 1 (some t) 20).bind fun x92 =>
      (grI G 1 1 (some t) 0).bind fun x96 =>
      (grI G 1 1 (some t) 1).bind fun x100 =>
      (gchk G 1 (some t)).bind fun b103 =>
      (fX1_plays E b103 x92 x96 x100 G).bind fun z103 =>
      (gpZ E z103 1 1 (some t) 21 1).bind fun G108 =>
      (gchk G108 1 (some t)).bind fun b112 =>
      (fX1_rounds E b112 G108).bind fun z112 =>
      fX1_play_b118 E gFU t 0 z112)
    else (
      (grR G 1 1 (some t) 23).bind fun x67 =>
      (gsaI E G x67 v4 (Int64.toInt32 ((v2 >>> (Int32.toInt64 (4 * v4) &&& 63)) &&& 15))).bind fun G83 =>
      fX1_play_b60 E n t v1 v2 (v4 + 1) G83)
def fX1_play_b43 (E : g_E) (k13 : Nat → Int32 → Int64 → Int32 → g_G → Option ((Int32 × g_G) ⊕ gX)) (t : Nat) (v1 : Int32) (v2 : Int64) (v4 : Int32) (s0 : Int32) (G : g_G) : Option ((Int32 × g_G) ⊕ gX) :=
  gcat (fX1_right E s0 G) (fun z43 =>
    k13 t v1 v2 (v4 + 1) z43)
  (fun y => some (.inr y))
def fX1_play_b13 (E : g_E) : Nat → Nat → Int32 → Int64 → Int32 → g_G → Option ((Int32 × g_G) ⊕ gX)
  | 0, _, _, _, _, _ => none
  | n + 1, t, v1, v2, v4, G =>
    if v1 ≤ v4 then (
      (gpI E G 1 1 (some t) 26 v1).bind fun G54 =>
      fX1_play_b60 E gFU t v1 v2 0 G54)
    else (
      (grI G 1 1 (some t) 0).bind fun x30 =>
      if 0 ≤ (lg_cmp ((v2 >>> (Int32.toInt64 (4 * v4) &&& 63)) &&& 15) (Int32.toInt64 x30)) then (
        fX1_play_b43 E (fX1_play_b13 E n) t v1 v2 v4 0 G)
      else (
        fX1_play_b43 E (fX1_play_b13 E n) t v1 v2 v4 1 G))
def fX1_play (E : g_E) (t : Nat) (v1 : Int32) (v2 : Int64) (G : g_G) : Option ((Int32 × g_G) ⊕ gX) :=
  (fX1_within E v1 0 16 G).bind fun z4 =>
  gcat (fX1_right E z4.1 z4.2) (fun z7 =>
    fX1_play_b13 E gFU t v1 v2 0 z7)
  (fun y => some (.inr y))
theorem sX1_play_b172 {p : Program} {l : Launch} {e : Env} {R : Room} {s : State} {m : MethodId} {args : Array Value} {below : List Frame} {meth : Method} {c : Code} {E : g_E} {D : g_D} (C : gC p R s m args meth c cX1_play 5 RX1 "play" (some .int) 226 7511 E D) (hlT : l.stackTraces = false) (htab : c.exceptionTable.toList = []) : ∀ (n : Nat) (t : Nat) (v4 : Int32) (G : g_G) (q : (Int32 × g_G) ⊕ gX), fX1_play_b172 E n t v4 G = some q → ∀ (H : Heap) (locs : List Loc) (cells slots : Nat) (ls : Array Slot), gSt E D G H locs → gls ls 5 [(0, .inr (.inr (some t))), (4, .inl v4)] → gTX p l e R s m args below meth c E D H locs cells slots gokI q (F0 m 172 ls []) := by
  obtain ⟨hx, hb, hml, hown, hts, hKn, hRc, hRs, hc1, hc2, hRf, hRl, hr, hlk, hnm⟩ := id C
  intro n
  induction n with
  | zero =>
    intro t v4 G q h
    exact g_no h
  | succ n ih =>
    intro t v4 G q h H locs cells slots ls hS hl
    rw [fX1_play_b172] at h
    refine g_iload hx hb hl 1 rfl dX1_play_172 ?_
    refine g_aload_n hx hb hl 0 rfl dX1_play_174 ?_
    refine g_rdI hx hb hown hts hKn hS h fd_1_1_25 rfl (Or.inl (hts _ q622)) (fun _ z => z) dX1_play_175 (fun x175 h => ?_)
    refine lv_icmp_ge (tgt := 201) hx hb dX1_play_178 (by decide) (fun c_178 => ?_) (fun c_178 => ?_)
    · have h := g_ift c_178 h
      refine g_aload_n hx hb hl 0 rfl dX1_play_201 ?_
      refine g_rdR hx hb hown hts hKn hS h fd_1_1_20 rfl (Or.inl (hts _ q617)) (fun _ z => z) dX1_play_202 (fun x202 h => ?_)
      obtain ⟨b205, hb205, h⟩ := g_bnd h
      obtain ⟨hr205, hk205⟩ := g_chk hb205
      obtain ⟨z205, h205, h⟩ := g_bnd h
      refine g_callV (n := 0) (b := b205) (av := []) (rs := []) hx hb hml hown hts hKn hRc hRs hS hl (sX3_kind l E D h205) (lw_V q985 q986 q987 q134 q988) ⟨rfl, by decide, by decide, by decide +kernel⟩ ⟨by rw [hRf]; exact Nat.le_of_ble_eq_true rfl, by rw [hRl]; exact Nat.le_of_ble_eq_true rfl⟩ (g_recv hKn hS hk205 (by decide) (by decide)) rfl (by rw [hr205]; rfl) (Nat.le_of_ble_eq_true rfl) dX1_play_205 (fun H locs cells slots hS => ?_)
      exact g_retX (g_iretG hx hb hr hlk hKn hRc hRs hS (q := (z205.1, z205.2)) rfl dX1_play_208) h rfl
    · have h := g_iff c_178 h
      refine g_aload_n hx hb hl 0 rfl dX1_play_181 ?_
      refine g_rdR hx hb hown hts hKn hS h fd_1_1_30 rfl (Or.inl (hts _ q627)) (fun _ z => z) dX1_play_182 (fun x182 h => ?_)
      refine g_iload hx hb hl 1 rfl dX1_play_185 ?_
      refine g_aload_n hx hb hl 0 rfl dX1_play_187 ?_
      refine g_rdR hx hb hown hts hKn hS h fd_1_1_22 rfl (Or.inl (hts _ q619)) (fun _ z => z) dX1_play_188 (fun x188 h => ?_)
      refine g_iload hx hb hl 1 rfl dX1_play_191 ?_
      refine g_ialoadG hx hb hKn hS h dX1_play_193 (fun x193 h => ?_)
      refine g_iastoreG hx hb hKn hS h dX1_play_194 (fun G194 h H locs hS => ?_)
      refine g_iinc (l1 := [(4, .inl (v4 + 1)), (0, .inr (.inr (some t)))]) (v := (v4 + 1)) hx hb hl (k := 1) rfl (by rfl) (by decide) rfl dX1_play_195 (fun ls hl => ?_)
      refine lv_goto (tgt := 172) hx hb dX1_play_198 (by decide) ?_
      exact ih _ _ _ _ h _ _ _ _ _ hS (gls_sub hl [1, 0] rfl)
theorem sX1_play_b118 {p : Program} {l : Launch} {e : Env} {R : Room} {s : State} {m : MethodId} {args : Array Value} {below : List Frame} {meth : Method} {c : Code} {E : g_E} {D : g_D} (C : gC p R s m args meth c cX1_play 5 RX1 "play" (some .int) 226 7511 E D) (hlT : l.stackTraces = false) (htab : c.exceptionTable.toList = []) : ∀ (n : Nat) (t : Nat) (v4 : Int32) (G : g_G) (q : (Int32 × g_G) ⊕ gX), fX1_play_b118 E n t v4 G = some q → ∀ (H : Heap) (locs : List Loc) (cells slots : Nat) (ls : Array Slot), gSt E D G H locs → gls ls 5 [(0, .inr (.inr (some t))), (4, .inl v4)] → gTX p l e R s m args below meth c E D H locs cells slots gokI q (F0 m 118 ls []) := by
  obtain ⟨hx, hb, hml, hown, hts, hKn, hRc, hRs, hc1, hc2, hRf, hRl, hr, hlk, hnm⟩ := id C
  intro n
  induction n with
  | zero =>
    intro t v4 G q h
    exact g_no h
  | succ n ih =>
    intro t v4 G q h H locs cells slots ls hS hl
    rw [fX1_play_b118] at h
    refine g_iload hx hb hl 1 rfl dX1_play_118 ?_
    refine g_aload_n hx hb hl 0 rfl dX1_play_120 ?_
    refine g_rdI hx hb hown hts hKn hS h fd_1_1_0 rfl (Or.inl (hts _ q597)) (fun _ z => z) dX1_play_121 (fun x121 h => ?_)
    refine lv_icmp_ge (tgt := 161) hx hb dX1_play_124 (by decide) (fun c_124 => ?_) (fun c_124 => ?_)
    · have h := g_ift c_124 h
      refine g_aload_n hx hb hl 0 rfl dX1_play_161 ?_
      refine g_aload_n hx hb hl 0 rfl dX1_play_162 ?_
      refine g_rdI hx hb hown hts hKn hS h fd_1_1_25 rfl (Or.inl (hts _ q622)) (fun _ z => z) dX1_play_163 (fun x163 h => ?_)
      refine g_ptI hx hb hown hts hKn hS h fd_1_1_31 (Or.inl (hts _ q628)) (fun _ z => z) (fun z => nomatch z) dX1_play_166 (fun G166 h H locs hS => ?_)
      refine lv_iconst (v := 0) hx hb dX1_play_169 (by decide) ?_
      refine g_istore (l1 := [(4, .inl 0), (0, .inr (.inr (some t)))]) hx hb hl (by decide) rfl dX1_play_170 (fun ls hl => ?_)
      exact sX1_play_b172 C hlT htab gFU _ _ _ _ h _ _ _ _ _ hS (gls_sub hl [1, 0] rfl)
    · have h := g_iff c_124 h
      refine g_aload_n hx hb hl 0 rfl dX1_play_127 ?_
      refine g_rdR hx hb hown hts hKn hS h fd_1_1_28 rfl (Or.inl (hts _ q625)) (fun _ z => z) dX1_play_128 (fun x128 h => ?_)
      refine g_iload hx hb hl 1 rfl dX1_play_131 ?_
      refine g_aload_n hx hb hl 0 rfl dX1_play_133 ?_
      refine g_rdR hx hb hown hts hKn hS h fd_1_1_6 rfl (Or.inl (hts _ q603)) (fun _ z => z) dX1_play_134 (fun x134 h => ?_)
      refine g_iload hx hb hl 1 rfl dX1_play_137 ?_
      refine g_ialoadG hx hb hKn hS h dX1_play_139 (fun x139 h => ?_)
      refine g_iastoreG hx hb hKn hS h dX1_play_140 (fun G140 h H locs hS => ?_)
      refine g_aload_n hx hb hl 0 rfl dX1_play_141 ?_
      refine g_rdR hx hb hown hts hKn hS h fd_1_1_29 rfl (Or.inl (hts _ q626)) (fun _ z => z) dX1_play_142 (fun x142 h => ?_)
      refine g_iload hx hb hl 1 rfl dX1_play_145 ?_
      refine g_aload_n hx hb hl 0 rfl dX1_play_147 ?_
      refine g_rdR hx hb hown hts hKn hS h fd_1_1_7 rfl (Or.inl (hts _ q604)) (fun _ z => z) dX1_play_148 (fun x148 h => ?_)
      refine g_iload hx hb hl 1 rfl dX1_play_151 ?_
      refine g_ialoadG hx hb hKn hS h dX1_play_153 (fun x153 h => ?_)
      refine g_iastoreG hx hb hKn hS h dX1_play_154 (fun G154 h H locs hS => ?_)
      refine g_iinc (l1 := [(4, .inl (v4 + 1)), (0, .inr (.inr (some t)))]) (v := (v4 + 1)) hx hb hl (k := 1) rfl (by rfl) (by decide) rfl dX1_play_155 (fun ls hl => ?_)
      refine lv_goto (tgt := 118) hx hb dX1_play_158 (by decide) ?_
      exact ih _ _ _ _ h _ _ _ _ _ hS (gls_sub hl [1, 0] rfl)
theorem sX1_play_b60 {p : Program} {l : Launch} {e : Env} {R : Room} {s : State} {m : MethodId} {args : Array Value} {below : List Frame} {meth : Method} {c : Code} {E : g_E} {D : g_D} (C : gC p R s m args meth c cX1_play 5 RX1 "play" (some .int) 226 7511 E D) (hlT : l.stackTraces = false) (htab : c.exceptionTable.toList = []) : ∀ (n : Nat) (t : Nat) (v1 : Int32) (v2 : Int64) (v4 : Int32) (G : g_G) (q : (Int32 × g_G) ⊕ gX), fX1_play_b60 E n t v1 v2 v4 G = some q → ∀ (H : Heap) (locs : List Loc) (cells slots : Nat) (ls : Array Slot), gSt E D G H locs → gls ls 5 [(0, .inr (.inr (some t))), (1, .inl v1), (2, .inr (.inl v2)), (4, .inl v4)] → gTX p l e R s m args below meth c E D H locs cells slots gokI q (F0 m 60 ls []) := by
  obtain ⟨hx, hb, hml, hown, hts, hKn, hRc, hRs, hc1, hc2, hRf, hRl, hr, hlk, hnm⟩ := id C
  intro n
  induction n with
  | zero =>
    intro t v1 v2 v4 G q h
    exact g_no h
  | succ n ih =>
    intro t v1 v2 v4 G q h H locs cells slots ls hS hl
    rw [fX1_play_b60] at h
    refine g_iload hx hb hl 3 rfl dX1_play_60 ?_
    refine g_iload_n hx hb hl 1 rfl dX1_play_62 ?_
    refine lv_icmp_ge (tgt := 90) hx hb dX1_play_63 (by decide) (fun c_63 => ?_) (fun c_63 => ?_)
    · have h := g_ift c_63 h
      refine g_aload_n hx hb hl 0 rfl dX1_play_90 ?_
      refine g_aload_n hx hb hl 0 rfl dX1_play_91 ?_
      refine g_rdR hx hb hown hts hKn hS h fd_1_1_20 rfl (Or.inl (hts _ q617)) (fun _ z => z) dX1_play_92 (fun x92 h => ?_)
      refine g_aload_n hx hb hl 0 rfl dX1_play_95 ?_
      refine g_rdI hx hb hown hts hKn hS h fd_1_1_0 rfl (Or.inl (hts _ q597)) (fun _ z => z) dX1_play_96 (fun x96 h => ?_)
      refine g_aload_n hx hb hl 0 rfl dX1_play_99 ?_
      refine g_rdI hx hb hown hts hKn hS h fd_1_1_1 rfl (Or.inl (hts _ q598)) (fun _ z => z) dX1_play_100 (fun x100 h => ?_)
      obtain ⟨b103, hb103, h⟩ := g_bnd h
      obtain ⟨hr103, hk103⟩ := g_chk hb103
      obtain ⟨z103, h103, h⟩ := g_bnd h
      refine g_callV (n := 3) (b := b103) (av := [.inr (.inr x92), .inl x96, .inl x100]) (rs := []) hx hb hml hown hts hKn hRc hRs hS hl (sX1_plays l E D h103) (lw_V q1786 q1788 qs43 q113 q1789) ⟨rfl, by decide, by decide, by decide +kernel⟩ ⟨by rw [hRf]; exact Nat.le_of_ble_eq_true rfl, by rw [hRl]; exact Nat.le_of_ble_eq_true rfl⟩ (g_recv hKn hS hk103 (by decide) (by decide)) rfl (by rw [hr103]; rfl) (Nat.le_of_ble_eq_true rfl) dX1_play_103 (fun H locs cells slots hS => ?_)
      refine g_aload_n hx hb hl 0 rfl dX1_play_106 ?_
      refine lv_iconst (v := 1) hx hb dX1_play_107 (by decide) ?_
      refine g_ptZ hx hb hown hts hKn hS h fd_1_1_21 (Or.inl (hts _ q618)) (fun _ z => z) (fun z => nomatch z) dX1_play_108 (fun G108 h H locs hS => ?_)
      refine g_aload_n hx hb hl 0 rfl dX1_play_111 ?_
      obtain ⟨b112, hb112, h⟩ := g_bnd h
      obtain ⟨hr112, hk112⟩ := g_chk hb112
      obtain ⟨z112, h112, h⟩ := g_bnd h
      refine g_callV (n := 0) (b := b112) (av := []) (rs := []) hx hb hml hown hts hKn hRc hRs hS hl (sX1_rounds l E D h112) (lw_V q1802 q1804 qs46 q113 q1805) ⟨rfl, by decide, by decide, by decide +kernel⟩ ⟨by rw [hRf]; exact Nat.le_of_ble_eq_true rfl, by rw [hRl]; exact Nat.le_of_ble_eq_true rfl⟩ (g_recv hKn hS hk112 (by decide) (by decide)) rfl (by rw [hr112]; rfl) (Nat.le_of_ble_eq_true rfl) dX1_play_112 (fun H locs cells slots hS => ?_)
      refine lv_iconst (v := 0) hx hb dX1_play_115 (by decide) ?_
      refine g_istore (l1 := [(4, .inl 0), (0, .inr (.inr (some t))), (1, .inl v1), (2, .inr (.inl v2))]) hx hb hl (by decide) rfl dX1_play_116 (fun ls hl => ?_)
      exact sX1_play_b118 C hlT htab gFU _ _ _ _ h _ _ _ _ _ hS (gls_sub hl [1, 0] rfl)
    · have h := g_iff c_63 h
      refine g_aload_n hx hb hl 0 rfl dX1_play_66 ?_
      refine g_rdR hx hb hown hts hKn hS h fd_1_1_23 rfl (Or.inl (hts _ q620)) (fun _ z => z) dX1_play_67 (fun x67 h => ?_)
      refine g_iload hx hb hl 3 rfl dX1_play_70 ?_
      refine g_lload_n hx hb hl 2 rfl dX1_play_72 ?_
      refine lv_iconst (v := 4) hx hb dX1_play_73 (by decide) ?_
      refine g_iload hx hb hl 3 rfl dX1_play_74 ?_
      refine lv_imul hx hb dX1_play_76 ?_
      refine lv_lshr (v := (v2 >>> (Int32.toInt64 (4 * v4) &&& 63))) hx hb dX1_play_77 rfl ?_
      refine lv_ldc2 (v := 15) hx hb hown (hts _ q1785) dX1_play_78 ?_
      refine lv_land hx hb dX1_play_81 ?_
      refine lv_l2i (v := (Int64.toInt32 ((v2 >>> (Int32.toInt64 (4 * v4) &&& 63)) &&& 15))) hx hb dX1_play_82 rfl ?_
      refine g_iastoreG hx hb hKn hS h dX1_play_83 (fun G83 h H locs hS => ?_)
      refine g_iinc (l1 := [(4, .inl (v4 + 1)), (0, .inr (.inr (some t))), (1, .inl v1), (2, .inr (.inl v2))]) (v := (v4 + 1)) hx hb hl (k := 3) rfl (by rfl) (by decide) rfl dX1_play_84 (fun ls hl => ?_)
      refine lv_goto (tgt := 60) hx hb dX1_play_87 (by decide) ?_
      exact ih _ _ _ _ _ _ h _ _ _ _ _ hS (gls_sub hl [1, 2, 3, 0] rfl)
theorem sX1_play_b43 {p : Program} {l : Launch} {e : Env} {R : Room} {s : State} {m : MethodId} {args : Array Value} {below : List Frame} {meth : Method} {c : Code} {E : g_E} {D : g_D} (C : gC p R s m args meth c cX1_play 5 RX1 "play" (some .int) 226 7511 E D) (hlT : l.stackTraces = false) (htab : c.exceptionTable.toList = []) {k13 : Nat → Int32 → Int64 → Int32 → g_G → Option ((Int32 × g_G) ⊕ gX)} (hk13 : ∀ (t : Nat) (v1 : Int32) (v2 : Int64) (v4 : Int32) (G : g_G) (q : (Int32 × g_G) ⊕ gX), k13 t v1 v2 v4 G = some q → ∀ (H : Heap) (locs : List Loc) (cells slots : Nat) (ls : Array Slot), gSt E D G H locs → gls ls 5 [(0, .inr (.inr (some t))), (1, .inl v1), (2, .inr (.inl v2)), (4, .inl v4)] → gTX p l e R s m args below meth c E D H locs cells slots gokI q (F0 m 13 ls [])) : ∀ (t : Nat) (v1 : Int32) (v2 : Int64) (v4 : Int32) (s0 : Int32) (G : g_G) (q : (Int32 × g_G) ⊕ gX), fX1_play_b43 E k13 t v1 v2 v4 s0 G = some q → ∀ (H : Heap) (locs : List Loc) (cells slots : Nat) (ls : Array Slot), gSt E D G H locs → gls ls 5 [(0, .inr (.inr (some t))), (1, .inl v1), (2, .inr (.inl v2)), (4, .inl v4)] → gTX p l e R s m args below meth c E D H locs cells slots gokI q (F0 m 43 ls [.int s0]) := by
  obtain ⟨hx, hb, hml, hown, hts, hKn, hRc, hRs, hc1, hc2, hRf, hRl, hr, hlk, hnm⟩ := id C
  intro t v1 v2 v4 s0 G q h H locs cells slots ls hS hl
  unfold fX1_play_b43 at h
  obtain ⟨o43, h43, ha43, hx43⟩ := g_catE h
  refine g_callSt (n := 1) (av := [.inl s0]) (rs := []) hx hb hml hown hts hKn hRc hRs hS hl (sX1_right l E D hlT h43) (lw_S q1093 q1094 q113 q1095) ⟨by decide, by decide, by decide +kernel⟩ ⟨by rw [hRf]; exact Nat.le_of_ble_eq_true rfl, by rw [hRl]; exact Nat.le_of_ble_eq_true rfl⟩ rfl rfl (Nat.le_of_ble_eq_true rfl) dX1_play_43 (fun z43 e43 H locs cells slots hS => ?_) (fun k43 a43 G43 e43 n1 n2 nk nB H locs cells slots hS => ?_)
  · have h := ha43 _ e43
    refine g_iinc (l1 := [(4, .inl (v4 + 1)), (0, .inr (.inr (some t))), (1, .inl v1), (2, .inr (.inl v2))]) (v := (v4 + 1)) hx hb hl (k := 3) rfl (by rfl) (by decide) rfl dX1_play_46 (fun ls hl => ?_)
    refine lv_goto (tgt := 13) hx hb dX1_play_49 (by decide) ?_
    exact hk13 _ _ _ _ _ _ h _ _ _ _ _ hS (gls_sub hl [1, 2, 3, 0] rfl)
  · have h := hx43 _ e43
    exact g_outX (by rw [htab]; decide) hlk hKn hRc hRs hS n1 n2 nB nk h
theorem sX1_play_b13 {p : Program} {l : Launch} {e : Env} {R : Room} {s : State} {m : MethodId} {args : Array Value} {below : List Frame} {meth : Method} {c : Code} {E : g_E} {D : g_D} (C : gC p R s m args meth c cX1_play 5 RX1 "play" (some .int) 226 7511 E D) (hlT : l.stackTraces = false) (htab : c.exceptionTable.toList = []) : ∀ (n : Nat) (t : Nat) (v1 : Int32) (v2 : Int64) (v4 : Int32) (G : g_G) (q : (Int32 × g_G) ⊕ gX), fX1_play_b13 E n t v1 v2 v4 G = some q → ∀ (H : Heap) (locs : List Loc) (cells slots : Nat) (ls : Array Slot), gSt E D G H locs → gls ls 5 [(0, .inr (.inr (some t))), (1, .inl v1), (2, .inr (.inl v2)), (4, .inl v4)] → gTX p l e R s m args below meth c E D H locs cells slots gokI q (F0 m 13 ls []) := by
  obtain ⟨hx, hb, hml, hown, hts, hKn, hRc, hRs, hc1, hc2, hRf, hRl, hr, hlk, hnm⟩ := id C
  intro n
  induction n with
  | zero =>
    intro t v1 v2 v4 G q h
    exact g_no h
  | succ n ih =>
    intro t v1 v2 v4 G q h H locs cells slots ls hS hl
    rw [fX1_play_b13] at h
    refine g_iload hx hb hl 3 rfl dX1_play_13 ?_
    refine g_iload_n hx hb hl 1 rfl dX1_play_15 ?_
    refine lv_icmp_ge (tgt := 52) hx hb dX1_play_16 (by decide) (fun c_16 => ?_) (fun c_16 => ?_)
    · have h := g_ift c_16 h
      refine g_aload_n hx hb hl 0 rfl dX1_play_52 ?_
      refine g_iload_n hx hb hl 1 rfl dX1_play_53 ?_
      refine g_ptI hx hb hown hts hKn hS h fd_1_1_26 (Or.inl (hts _ q623)) (fun _ z => z) (fun z => nomatch z) dX1_play_54 (fun G54 h H locs hS => ?_)
      refine lv_iconst (v := 0) hx hb dX1_play_57 (by decide) ?_
      refine g_istore (l1 := [(4, .inl 0), (0, .inr (.inr (some t))), (1, .inl v1), (2, .inr (.inl v2))]) hx hb hl (by decide) rfl dX1_play_58 (fun ls hl => ?_)
      exact sX1_play_b60 C hlT htab gFU _ _ _ _ _ _ h _ _ _ _ _ hS (gls_sub hl [1, 2, 3, 0] rfl)
    · have h := g_iff c_16 h
      refine g_lload_n hx hb hl 2 rfl dX1_play_19 ?_
      refine lv_iconst (v := 4) hx hb dX1_play_20 (by decide) ?_
      refine g_iload hx hb hl 3 rfl dX1_play_21 ?_
      refine lv_imul hx hb dX1_play_23 ?_
      refine lv_lshr (v := (v2 >>> (Int32.toInt64 (4 * v4) &&& 63))) hx hb dX1_play_24 rfl ?_
      refine lv_ldc2 (v := 15) hx hb hown (hts _ q1785) dX1_play_25 ?_
      refine lv_land hx hb dX1_play_28 ?_
      refine g_aload_n hx hb hl 0 rfl dX1_play_29 ?_
      refine g_rdI hx hb hown hts hKn hS h fd_1_1_0 rfl (Or.inl (hts _ q597)) (fun _ z => z) dX1_play_30 (fun x30 h => ?_)
      refine lv_i2l (v := (Int32.toInt64 x30)) hx hb dX1_play_33 rfl ?_
      refine W.lcmp hx hb dX1_play_34 ?_
      refine lv_if_ge (tgt := 42) hx hb dX1_play_35 (by decide) (fun c_35 => ?_) (fun c_35 => ?_)
      · have h := g_ift c_35 h
        refine lv_iconst (v := 0) hx hb dX1_play_42 (by decide) ?_
        exact sX1_play_b43 C hlT htab ih _ _ _ _ _ _ _ h _ _ _ _ _ hS (gls_sub hl [0, 1, 2, 3] rfl)
      · have h := g_iff c_35 h
        refine lv_iconst (v := 1) hx hb dX1_play_38 (by decide) ?_
        refine lv_goto (tgt := 43) hx hb dX1_play_39 (by decide) ?_
        exact sX1_play_b43 C hlT htab ih _ _ _ _ _ _ _ h _ _ _ _ _ hS (gls_sub hl [0, 1, 2, 3] rfl)
theorem sX1_play (l : Launch) (E : g_E) (D : g_D) (hlT : l.stackTraces = false) {t : Nat} {v1 : Int32} {v2 : Int64} {G : g_G} {q : (Int32 × g_G) ⊕ gX} (h : fX1_play E t v1 v2 G = some q) : gMetX l E D yX1_play (ws_ yX1_play cX1_play 5 (some .int)) 226 7511 [.inr (.inr (some t)), .inl v1, .inr (.inl v2)] G gokI q := by
  refine gMetX.of (by decide +kernel) (Nat.le_of_ble_eq_true rfl) ?_
  intro p e R s m args below meth c C htab hS ls hl
  have C : gC p R s m args meth c cX1_play 5 RX1 "play" (some .int) 226 7511 E D := C
  obtain ⟨hx, hb, hml, hown, hts, hKn, hRc, hRs, hc1, hc2, hRf, hRl, hr, hlk, hnm⟩ := id C
  have hl : gls ls 5 [(0, .inr (.inr (some t))), (1, .inl v1), (2, .inr (.inl v2))] := hl
  generalize hH0 : s.heap = H at hS ⊢
  unfold fX1_play at h
  refine g_iload_n hx hb hl 1 rfl dX1_play_0 ?_
  refine lv_iconst (v := 0) hx hb dX1_play_1 (by decide) ?_
  refine lv_bipush (v := 16) hx hb dX1_play_2 (by decide) ?_
  obtain ⟨z4, h4, h⟩ := g_bnd h
  refine g_callS (n := 3) (av := [.inl v1, .inl 0, .inl 16]) (rs := []) hx hb hml hown hts hKn hRc hRs hS hl (sX1_within l E D h4) (lw_S q713 q714 q113 q715) ⟨by decide, by decide, by decide +kernel⟩ ⟨by rw [hRf]; exact Nat.le_of_ble_eq_true rfl, by rw [hRl]; exact Nat.le_of_ble_eq_true rfl⟩ rfl rfl (Nat.le_of_ble_eq_true rfl) dX1_play_4 (fun H locs cells slots hS => ?_)
  obtain ⟨o7, h7, ha7, hx7⟩ := g_catE h
  refine g_callSt (n := 1) (av := [.inl z4.1]) (rs := []) hx hb hml hown hts hKn hRc hRs hS hl (sX1_right l E D hlT h7) (lw_S q1093 q1094 q113 q1095) ⟨by decide, by decide, by decide +kernel⟩ ⟨by rw [hRf]; exact Nat.le_of_ble_eq_true rfl, by rw [hRl]; exact Nat.le_of_ble_eq_true rfl⟩ rfl rfl (Nat.le_of_ble_eq_true rfl) dX1_play_7 (fun z7 e7 H locs cells slots hS => ?_) (fun k7 a7 G7 e7 n1 n2 nk nB H locs cells slots hS => ?_)
  · have h := ha7 _ e7
    refine lv_iconst (v := 0) hx hb dX1_play_10 (by decide) ?_
    refine g_istore (l1 := [(4, .inl 0), (0, .inr (.inr (some t))), (1, .inl v1), (2, .inr (.inl v2))]) hx hb hl (by decide) rfl dX1_play_11 (fun ls hl => ?_)
    exact sX1_play_b13 C hlT htab gFU _ _ _ _ _ _ h _ _ _ _ _ hS (gls_sub hl [1, 2, 3, 0] rfl)
  · have h := hx7 _ e7
    exact g_outX (by rw [htab]; decide) hlk hKn hRc hRs hS n1 n2 nB nk h
/-- SendHall.reached()I -/
def fX1_reached (E : g_E) (t : Nat) (G : g_G) : Option (Int32 × g_G) :=
  (gchk G 1 (some t)).bind fun b1 =>
  (fX1_finds E b1 G).bind fun z1 =>
  if z1.1 = 0 then (
    some ((-1), z1.2))
  else (
    (grI z1.2 1 1 (some t) 15).bind fun x8 =>
    some (x8, z1.2))
theorem sX1_reached (l : Launch) (E : g_E) (D : g_D) {t : Nat} {G : g_G} {q : Int32 × g_G} (h : fX1_reached E t G = some q) : gMet l E D yX1_reached (ws_ yX1_reached cX1_reached 1 (some .int)) 227 7531 [.inr (.inr (some t))] G (some (.int q.1)) q.2 := by
  refine gMet.of (by decide +kernel) (Nat.le_of_ble_eq_true rfl) ?_
  intro p e R s m args below meth c C hS ls hl
  have C : gC p R s m args meth c cX1_reached 1 RX1 "reached" (some .int) 227 7531 E D := C
  obtain ⟨hx, hb, hml, hown, hts, hKn, hRc, hRs, hc1, hc2, hRf, hRl, hr, hlk, hnm⟩ := id C
  have hl : gls ls 1 [(0, .inr (.inr (some t)))] := hl
  generalize s.heap = H at hS ⊢
  unfold fX1_reached at h
  refine g_aload_n hx hb hl 0 rfl dX1_reached_0 ?_
  obtain ⟨b1, hb1, h⟩ := g_bnd h
  obtain ⟨hr1, hk1⟩ := g_chk hb1
  obtain ⟨z1, h1, h⟩ := g_bnd h
  refine g_callV (n := 0) (b := b1) (av := []) (rs := []) hx hb hml hown hts hKn hRc hRs hS hl (sX1_finds l E D h1) (lw_V q720 q722 qs2 q113 q723) ⟨rfl, by decide, by decide, by decide +kernel⟩ ⟨by rw [hRf]; exact Nat.le_of_ble_eq_true rfl, by rw [hRl]; exact Nat.le_of_ble_eq_true rfl⟩ (g_recv hKn hS hk1 (by decide) (by decide)) rfl (by rw [hr1]; rfl) (Nat.le_of_ble_eq_true rfl) dX1_reached_1 (fun H locs cells slots hS => ?_)
  refine lv_if_eq (tgt := 14) hx hb dX1_reached_4 (by decide) (fun c_4 => ?_) (fun c_4 => ?_)
  · have h := g_ift c_4 h
    refine lv_iconst (v := (-1)) hx hb dX1_reached_14 (by decide) ?_
    exact g_iretG hx hb hr hlk hKn hRc hRs hS h dX1_reached_15
  · have h := g_iff c_4 h
    refine g_aload_n hx hb hl 0 rfl dX1_reached_7 ?_
    refine g_rdI hx hb hown hts hKn hS h fd_1_1_15 rfl (Or.inl (hts _ q612)) (fun _ z => z) dX1_reached_8 (fun x8 h => ?_)
    refine lv_goto (tgt := 15) hx hb dX1_reached_11 (by decide) ?_
    exact g_iretG hx hb hr hlk hKn hRc hRs hS h dX1_reached_15
/-- SendHall$Reader.read()LSendHall$Text; -/
def fX5_read_b21 (E : g_E) (t : Nat) (v1 : Option Nat) (s0 : Option Nat) (s1 : Int32) (G : g_G) : Option ((Option Nat × g_G) ⊕ gX) :=
  (gchk G 5 s0).bind fun b22 =>
  gcat (fX5_check E b22 s1 1 G) (fun z22 =>
    (grR z22 5 5 (some t) 10).bind fun x26 =>
    (fX5_links E v1 none z22).bind fun z31 =>
    (gpR E z31.2 2 2 x26 1 z31.1).bind fun G34 =>
    (gchk G34 5 (some t)).bind fun b38 =>
    (fX5_joins E b38 G34).bind fun z38 =>
    (grR z38 5 5 (some t) 10).bind fun x42 =>
    some (.inl (x42, z38)))
  (fun y => some (.inr y))
def fX5_read (E : g_E) (t : Nat) (G : g_G) : Option ((Option Nat × g_G) ⊕ gX) :=
  (gchk G 5 (some t)).bind fun b1 =>
  gcat (fR_steps 7 E b1 G) (fun z1 =>
    (grR z1.2 5 5 (some t) 8).bind fun x7 =>
    if ¬ x7 = (some (gA E 5)) then (
      fX5_read_b21 E t z1.1 (some t) 0 z1.2)
    else (
      fX5_read_b21 E t z1.1 (some t) 1 z1.2))
  (fun y => some (.inr y))
theorem sX5_read_b21 {p : Program} {l : Launch} {e : Env} {R : Room} {s : State} {m : MethodId} {args : Array Value} {below : List Frame} {meth : Method} {c : Code} {E : g_E} {D : g_D} (C : gC p R s m args meth c cX5_read 2 RX5 "read" (some (.object "SendHall$Text")) 243 14122 E D) (hlT : l.stackTraces = false) (htab : c.exceptionTable.toList = []) : ∀ (t : Nat) (v1 : Option Nat) (s0 : Option Nat) (s1 : Int32) (G : g_G) (q : (Option Nat × g_G) ⊕ gX), fX5_read_b21 E t v1 s0 s1 G = some q → ∀ (H : Heap) (locs : List Loc) (cells slots : Nat) (ls : Array Slot), gSt E D G H locs → gls ls 2 [(0, .inr (.inr (some t))), (1, .inr (.inr v1))] → gTX p l e R s m args below meth c E D H locs cells slots gokA q (F0 m 21 ls [.int s1, va_rf s0]) := by
  obtain ⟨hx, hb, hml, hown, hts, hKn, hRc, hRs, hc1, hc2, hRf, hRl, hr, hlk, hnm⟩ := id C
  intro t v1 s0 s1 G q h H locs cells slots ls hS hl
  unfold fX5_read_b21 at h
  refine lv_iconst (v := 1) hx hb dX5_read_21 (by decide) ?_
  obtain ⟨b22, hb22, h⟩ := g_bnd h
  obtain ⟨hr22, hk22⟩ := g_chk hb22
  obtain ⟨o22, h22, ha22, hx22⟩ := g_catE h
  refine g_callVt (n := 2) (b := b22) (av := [.inl s1, .inl 1]) (rs := []) hx hb hml hown hts hKn hRc hRs hS hl (sX5_check l E D hlT h22) (lw_V q1363 q1365 qs27 q136 q1366) ⟨rfl, by decide, by decide, by decide +kernel⟩ ⟨by rw [hRf]; exact Nat.le_of_ble_eq_true rfl, by rw [hRl]; exact Nat.le_of_ble_eq_true rfl⟩ (g_recv hKn hS hk22 (by decide) (by decide)) rfl (by rw [hr22]; rfl) (Nat.le_of_ble_eq_true rfl) dX5_read_22 (fun z22 e22 H locs cells slots hS => ?_) (fun k22 a22 G22 e22 n1 n2 nk nB H locs cells slots hS => ?_)
  · have h := ha22 _ e22
    refine g_aload_n hx hb hl 0 rfl dX5_read_25 ?_
    refine g_rdR hx hb hown hts hKn hS h fd_5_5_10 rfl (Or.inl (hts _ q1243)) (fun _ z => z) dX5_read_26 (fun x26 h => ?_)
    refine g_aload_n hx hb hl 1 rfl dX5_read_29 ?_
    refine g_null hx hb dX5_read_30 ?_
    obtain ⟨z31, h31, h⟩ := g_bnd h
    refine g_callS (n := 2) (av := [.inr (.inr v1), .inr (.inr none)]) (rs := [.inr (.inr x26)]) hx hb hml hown hts hKn hRc hRs hS hl (sX5_links l E D h31) (lw_S q1703 q1704 q136 q1705) ⟨by decide, by decide, by decide +kernel⟩ ⟨by rw [hRf]; exact Nat.le_of_ble_eq_true rfl, by rw [hRl]; exact Nat.le_of_ble_eq_true rfl⟩ rfl rfl (Nat.le_of_ble_eq_true rfl) dX5_read_31 (fun H locs cells slots hS => ?_)
    refine g_ptR hx hb hown hts hKn hS h fd_2_2_1 rfl (Or.inr ⟨rfl, _, gNest_use rfl (hKn.2.2.2.2.1 _ (gNest_in q516 rfl))⟩) (fun _ z => z) (fun z => nomatch z) dX5_read_34 (fun G34 h H locs hS => ?_)
    refine g_aload_n hx hb hl 0 rfl dX5_read_37 ?_
    obtain ⟨b38, hb38, h⟩ := g_bnd h
    obtain ⟨hr38, hk38⟩ := g_chk hb38
    obtain ⟨z38, h38, h⟩ := g_bnd h
    refine g_callV (n := 0) (b := b38) (av := []) (rs := []) hx hb hml hown hts hKn hRc hRs hS hl (sX5_joins l E D h38) (lw_V q1709 q1710 q1711 q136 q1712) ⟨rfl, by decide, by decide, by decide +kernel⟩ ⟨by rw [hRf]; exact Nat.le_of_ble_eq_true rfl, by rw [hRl]; exact Nat.le_of_ble_eq_true rfl⟩ (g_recv hKn hS hk38 (by decide) (by decide)) rfl (by rw [hr38]; rfl) (Nat.le_of_ble_eq_true rfl) dX5_read_38 (fun H locs cells slots hS => ?_)
    refine g_aload_n hx hb hl 0 rfl dX5_read_41 ?_
    refine g_rdR hx hb hown hts hKn hS h fd_5_5_10 rfl (Or.inl (hts _ q1243)) (fun _ z => z) dX5_read_42 (fun x42 h => ?_)
    exact g_retX (g_aretG hx hb hr (by first | exact Or.inl ⟨_, rfl⟩ | exact Or.inr ⟨_, rfl⟩) hlk hKn hRc hRs hS (q := (x42, z38)) rfl dX5_read_45) h rfl
  · have h := hx22 _ e22
    exact g_outX (by rw [htab]; decide) hlk hKn hRc hRs hS n1 n2 nB nk h
theorem sX5_read (l : Launch) (E : g_E) (D : g_D) (hlT : l.stackTraces = false) {t : Nat} {G : g_G} {q : (Option Nat × g_G) ⊕ gX} (h : fX5_read E t G = some q) : gMetX l E D yX5_read (ws_ yX5_read cX5_read 2 (some (.object "SendHall$Text"))) 243 14122 [.inr (.inr (some t))] G gokA q := by
  refine gMetX.of (by decide +kernel) (Nat.le_of_ble_eq_true rfl) ?_
  intro p e R s m args below meth c C htab hS ls hl
  have C : gC p R s m args meth c cX5_read 2 RX5 "read" (some (.object "SendHall$Text")) 243 14122 E D := C
  obtain ⟨hx, hb, hml, hown, hts, hKn, hRc, hRs, hc1, hc2, hRf, hRl, hr, hlk, hnm⟩ := id C
  have hl : gls ls 2 [(0, .inr (.inr (some t)))] := hl
  generalize hH0 : s.heap = H at hS ⊢
  unfold fX5_read at h
  refine g_aload_n hx hb hl 0 rfl dX5_read_0 ?_
  obtain ⟨b1, hb1, h⟩ := g_bnd h
  obtain ⟨hr1, hk1⟩ := g_chk hb1
  obtain ⟨o1, h1, ha1, hx1⟩ := g_catE h
  refine g_callVt (n := 0) (b := b1) (av := []) (rs := []) hx hb hml hown hts hKn hRc hRs hS hl (sT_steps l E D hlT h1) (lw_V q1280 q1282 qs26 q136 q1283) ⟨rfl, by decide, by decide, by decide +kernel⟩ ⟨by rw [hRf]; exact Nat.le_of_ble_eq_true rfl, by rw [hRl]; exact Nat.le_of_ble_eq_true rfl⟩ (g_recv hKn hS hk1 (by decide) (by decide)) rfl (by rw [hr1]; rfl) (Nat.le_of_ble_eq_true rfl) dX5_read_1 (fun z1 e1 H locs cells slots hS => ?_) (fun k1 a1 G1 e1 n1 n2 nk nB H locs cells slots hS => ?_)
  · have h := ha1 _ e1
    refine g_astore_n (l1 := [(1, .inr (.inr z1.1)), (0, .inr (.inr (some t)))]) hx hb hl (by decide) rfl dX5_read_4 (fun ls hl => ?_)
    refine g_aload_n hx hb hl 1 rfl dX5_read_5 ?_
    refine g_aload_n hx hb hl 1 rfl dX5_read_6 ?_
    refine g_rdR hx hb hown hts hKn hS h fd_5_5_8 rfl (Or.inl (hts _ q1241)) (fun _ z => z) dX5_read_7 (fun x7 h => ?_)
    refine g_getsZ (C := "SendHall$Sort") (n := "END") (d := "LSendHall$Sort;") (v := va_rf (some (gA E 5))) hx hb hown (hKn.2.2.2.2.2.2.1 _ (List.mem_of_getElem? (i := 4) rfl)) hS (hts _ q1126) (fun _ z => z) dX5_read_10 ?_
    refine lv_acmp_ne (tgt := 20) hx hb dX5_read_13 (by decide) (fun c_13 => ?_) (fun c_13 => ?_)
    · have h := g_ift c_13 h
      refine lv_iconst (v := 0) hx hb dX5_read_20 (by decide) ?_
      exact sX5_read_b21 C hlT htab _ _ _ _ _ _ h _ _ _ _ _ hS (gls_sub hl [1, 0] rfl)
    · have h := g_iff (fun z => z c_13) h
      refine lv_iconst (v := 1) hx hb dX5_read_16 (by decide) ?_
      refine lv_goto (tgt := 21) hx hb dX5_read_17 (by decide) ?_
      exact sX5_read_b21 C hlT htab _ _ _ _ _ _ h _ _ _ _ _ hS (gls_sub hl [1, 0] rfl)
  · have h := hx1 _ e1
    exact g_outX (by rw [htab]; decide) hlk hKn hRc hRs hS n1 n2 nB nk h
/-- SendHallLaw.least(LSendHall;I[J)I -/
def fX0_least (E : g_E) (v0 : Option Nat) (v1 : Int32) (v2 : Option Nat) (G : g_G) : Option ((Int32 × g_G) ⊕ gX) :=
  (gchk G 1 v0).bind fun b4 =>
  gcat (fX1_least E b4 v1 G) (fun z4 =>
    (gsaL E z4.2 v2 0 (Int32.toInt64 z4.1)).bind fun G8 =>
    some (.inl (0, G8)))
  (fun y => if y.1 = 21 then (
    some (.inl (1, y.2.2))) else none)
theorem sX0_least (l : Launch) (E : g_E) (D : g_D) (hlT : l.stackTraces = false) {v0 : Option Nat} {v1 : Int32} {v2 : Option Nat} {G : g_G} {q : (Int32 × g_G) ⊕ gX} (h : fX0_least E v0 v1 v2 G = some q) : gMetX l E D yX0_least (wsW_ yX0_least cX0_least 4 (some .int) [(0, 9, 12, 13)]) 227 7533 [.inr (.inr v0), .inl v1, .inr (.inr v2)] G gokI q := by
  refine gMetX.ofH (by decide +kernel) (Nat.le_of_ble_eq_true rfl) ?_
  intro p e R s m args below meth c C htab hS ls hl
  have C : gC p R s m args meth c cX0_least 4 RX0 "least" (some .int) 227 7533 E D := C
  obtain ⟨hx, hb, hml, hown, hts, hKn, hRc, hRs, hc1, hc2, hRf, hRl, hr, hlk, hnm⟩ := id C
  have hl : gls ls 4 [(0, .inr (.inr v0)), (1, .inl v1), (2, .inr (.inr v2))] := hl
  generalize hH0 : s.heap = H at hS ⊢
  unfold fX0_least at h
  refine g_aload_n hx hb hl 2 rfl dX0_least_0 ?_
  refine lv_iconst (v := 0) hx hb dX0_least_1 (by decide) ?_
  refine g_aload_n hx hb hl 0 rfl dX0_least_2 ?_
  refine g_iload_n hx hb hl 1 rfl dX0_least_3 ?_
  obtain ⟨b4, hb4, h⟩ := g_bnd h
  obtain ⟨hr4, hk4⟩ := g_chk hb4
  obtain ⟨o4, h4, ha4, hx4⟩ := g_catE h
  refine g_callVt (n := 1) (b := b4) (av := [.inl v1]) (rs := [.inl 0, .inr (.inr v2)]) hx hb hml hown hts hKn hRc hRs hS hl (sX1_least l E D hlT h4) (lw_V q1834 q1835 q1836 q113 q1837) ⟨rfl, by decide, by decide, by decide +kernel⟩ ⟨by rw [hRf]; exact Nat.le_of_ble_eq_true rfl, by rw [hRl]; exact Nat.le_of_ble_eq_true rfl⟩ (g_recv hKn hS hk4 (by decide) (by decide)) rfl (by rw [hr4]; rfl) (Nat.le_of_ble_eq_true rfl) dX0_least_4 (fun z4 e4 H locs cells slots hS => ?_) (fun k4 a4 G4 e4 n1 n2 nk nB H locs cells slots hS => ?_)
  · have h := ha4 _ e4
    refine lv_i2l (v := (Int32.toInt64 z4.1)) hx hb dX0_least_7 rfl ?_
    refine g_lastoreG hx hb hKn hS h dX0_least_8 (fun G8 h H locs hS => ?_)
    refine lv_goto (tgt := 15) hx hb dX0_least_9 (by decide) ?_
    refine lv_iconst (v := 0) hx hb dX0_least_15 (by decide) ?_
    exact g_retX (g_iretG hx hb hr hlk hKn hRc hRs hS (q := (0, G8)) rfl dX0_least_16) h rfl
  · have h := hx4 _ e4
    by_cases hz4 : k4 = 21
    · subst hz4
      have h := g_ift rfl h
      refine g_catchX (hq := (0, 9, 12, 13)) hown hKn hS (by decide) (by decide) nB nk htab (by decide) (by decide) (hts _ q1087) q188 ?_
      have y_1 : ∃ y : gX, y = (21, a4, G4) := ⟨_, rfl⟩
      refine g_astore_n (l1 := [(3, .inr (.inr (some a4))), (0, .inr (.inr v0)), (1, .inl v1), (2, .inr (.inr v2))]) hx hb hl (by decide) rfl dX0_least_12 (fun ls hl => ?_)
      refine lv_iconst (v := 1) hx hb dX0_least_13 (by decide) ?_
      exact g_retX (g_iretG hx hb hr hlk hKn hRc hRs hS (q := (1, G4)) rfl dX0_least_14) h rfl
    · exact g_no (g_iff hz4 h)
/-- SendHallLaw.play(LSendHall;IJ[J)I -/
def fX0_play (E : g_E) (v0 : Option Nat) (v1 : Int32) (v2 : Int64) (v4 : Option Nat) (G : g_G) : Option ((Int32 × g_G) ⊕ gX) :=
  (gchk G 1 v0).bind fun b6 =>
  gcat (fX1_play E b6 v1 v2 G) (fun z6 =>
    (gsaL E z6.2 v4 0 (Int32.toInt64 z6.1)).bind fun G10 =>
    some (.inl (0, G10)))
  (fun y => if y.1 = 21 then (
    some (.inl (1, y.2.2))) else none)
theorem sX0_play (l : Launch) (E : g_E) (D : g_D) (hlT : l.stackTraces = false) {v0 : Option Nat} {v1 : Int32} {v2 : Int64} {v4 : Option Nat} {G : g_G} {q : (Int32 × g_G) ⊕ gX} (h : fX0_play E v0 v1 v2 v4 G = some q) : gMetX l E D yX0_play (wsW_ yX0_play cX0_play 6 (some .int) [(0, 11, 14, 13)]) 227 7535 [.inr (.inr v0), .inl v1, .inr (.inl v2), .inr (.inr v4)] G gokI q := by
  refine gMetX.ofH (by decide +kernel) (Nat.le_of_ble_eq_true rfl) ?_
  intro p e R s m args below meth c C htab hS ls hl
  have C : gC p R s m args meth c cX0_play 6 RX0 "play" (some .int) 227 7535 E D := C
  obtain ⟨hx, hb, hml, hown, hts, hKn, hRc, hRs, hc1, hc2, hRf, hRl, hr, hlk, hnm⟩ := id C
  have hl : gls ls 6 [(0, .inr (.inr v0)), (1, .inl v1), (2, .inr (.inl v2)), (4, .inr (.inr v4))] := hl
  generalize hH0 : s.heap = H at hS ⊢
  unfold fX0_play at h
  refine g_aload hx hb hl 3 rfl dX0_play_0 ?_
  refine lv_iconst (v := 0) hx hb dX0_play_2 (by decide) ?_
  refine g_aload_n hx hb hl 0 rfl dX0_play_3 ?_
  refine g_iload_n hx hb hl 1 rfl dX0_play_4 ?_
  refine g_lload_n hx hb hl 2 rfl dX0_play_5 ?_
  obtain ⟨b6, hb6, h⟩ := g_bnd h
  obtain ⟨hr6, hk6⟩ := g_chk hb6
  obtain ⟨o6, h6, ha6, hx6⟩ := g_catE h
  refine g_callVt (n := 2) (b := b6) (av := [.inl v1, .inr (.inl v2)]) (rs := [.inl 0, .inr (.inr v4)]) hx hb hml hown hts hKn hRc hRs hS hl (sX1_play l E D hlT h6) (lw_V q1781 q1782 q1783 q113 q1784) ⟨rfl, by decide, by decide, by decide +kernel⟩ ⟨by rw [hRf]; exact Nat.le_of_ble_eq_true rfl, by rw [hRl]; exact Nat.le_of_ble_eq_true rfl⟩ (g_recv hKn hS hk6 (by decide) (by decide)) rfl (by rw [hr6]; rfl) (Nat.le_of_ble_eq_true rfl) dX0_play_6 (fun z6 e6 H locs cells slots hS => ?_) (fun k6 a6 G6 e6 n1 n2 nk nB H locs cells slots hS => ?_)
  · have h := ha6 _ e6
    refine lv_i2l (v := (Int32.toInt64 z6.1)) hx hb dX0_play_9 rfl ?_
    refine g_lastoreG hx hb hKn hS h dX0_play_10 (fun G10 h H locs hS => ?_)
    refine lv_goto (tgt := 18) hx hb dX0_play_11 (by decide) ?_
    refine lv_iconst (v := 0) hx hb dX0_play_18 (by decide) ?_
    exact g_retX (g_iretG hx hb hr hlk hKn hRc hRs hS (q := (0, G10)) rfl dX0_play_19) h rfl
  · have h := hx6 _ e6
    by_cases hz6 : k6 = 21
    · subst hz6
      have h := g_ift rfl h
      refine g_catchX (hq := (0, 11, 14, 13)) hown hKn hS (by decide) (by decide) nB nk htab (by decide) (by decide) (hts _ q1087) q188 ?_
      have y_1 : ∃ y : gX, y = (21, a6, G6) := ⟨_, rfl⟩
      refine g_astore (l1 := [(5, .inr (.inr (some a6))), (0, .inr (.inr v0)), (1, .inl v1), (2, .inr (.inl v2)), (4, .inr (.inr v4))]) hx hb hl (by decide) rfl dX0_play_14 (fun ls hl => ?_)
      refine lv_iconst (v := 1) hx hb dX0_play_16 (by decide) ?_
      exact g_retX (g_iretG hx hb hr hlk hKn hRc hRs hS (q := (1, G6)) rfl dX0_play_17) h rfl
    · exact g_no (g_iff hz6 h)
/-- SendHall.could(II)I -/
def fX1_could_b46 (E : g_E) (t : Nat) (v1 : Int32) (v2 : Int32) (s0 : Int32) (G : g_G) : Option ((Int32 × g_G) ⊕ gX) :=
  gcat (fX1_there E s0 G) (fun z46 =>
    (gchk z46 1 (some t)).bind fun b50 =>
    (fX1_finds E b50 z46).bind fun z50 =>
    if z50.1 = 0 then (
      some (.inl ((-1), z50.2)))
    else (
      (grR z50.2 1 1 (some t) 17).bind fun x57 =>
      (gaI z50.2 100 x57 ((8 * v2) + v1)).bind fun x66 =>
      some (.inl (x66, z50.2))))
  (fun y => some (.inr y))
def fX1_could_b45 (E : g_E) (t : Nat) (v1 : Int32) (v2 : Int32) (G : g_G) : Option ((Int32 × g_G) ⊕ gX) :=
  fX1_could_b46 E t v1 v2 0 G
def fX1_could (E : g_E) (t : Nat) (v1 : Int32) (v2 : Int32) (G : g_G) : Option ((Int32 × g_G) ⊕ gX) :=
  if v1 < 0 then (
    fX1_could_b45 E t v1 v2 G)
  else (
    (grI G 1 1 (some t) 0).bind fun x6 =>
    if x6 ≤ v1 then (
      fX1_could_b45 E t v1 v2 G)
    else (
      (gchk G 1 (some t)).bind fun b14 =>
      (fX1_isStep E b14 v2 G).bind fun z14 =>
      if z14.1 = 0 then (
        fX1_could_b45 E t v1 v2 z14.2)
      else (
        (grR z14.2 1 1 (some t) 4).bind fun x21 =>
        (grR z14.2 2 2 x21 0).bind fun x24 =>
        (gchk z14.2 17 x24).bind fun b28 =>
        (fJ2_get E b28 v2 z14.2).bind fun z28 =>
        (gcast z28.2 11 16 z28.1).bind fun x31 =>
        (grI z28.2 11 16 x31 0).bind fun x34 =>
        if ¬ x34 = (4 : Int32) then (
          fX1_could_b45 E t v1 v2 z28.2)
        else (
          fX1_could_b46 E t v1 v2 1 z28.2))))
theorem sX1_could_b46 {p : Program} {l : Launch} {e : Env} {R : Room} {s : State} {m : MethodId} {args : Array Value} {below : List Frame} {meth : Method} {c : Code} {E : g_E} {D : g_D} (C : gC p R s m args meth c cX1_could 3 RX1 "could" (some .int) 227 7531 E D) (hlT : l.stackTraces = false) (htab : c.exceptionTable.toList = []) : ∀ (t : Nat) (v1 : Int32) (v2 : Int32) (s0 : Int32) (G : g_G) (q : (Int32 × g_G) ⊕ gX), fX1_could_b46 E t v1 v2 s0 G = some q → ∀ (H : Heap) (locs : List Loc) (cells slots : Nat) (ls : Array Slot), gSt E D G H locs → gls ls 3 [(0, .inr (.inr (some t))), (1, .inl v1), (2, .inl v2)] → gTX p l e R s m args below meth c E D H locs cells slots gokI q (F0 m 46 ls [.int s0]) := by
  obtain ⟨hx, hb, hml, hown, hts, hKn, hRc, hRs, hc1, hc2, hRf, hRl, hr, hlk, hnm⟩ := id C
  intro t v1 v2 s0 G q h H locs cells slots ls hS hl
  unfold fX1_could_b46 at h
  obtain ⟨o46, h46, ha46, hx46⟩ := g_catE h
  refine g_callSt (n := 1) (av := [.inl s0]) (rs := []) hx hb hml hown hts hKn hRc hRs hS hl (sX1_there l E D hlT h46) (lw_S q1721 q1722 q113 q1723) ⟨by decide, by decide, by decide +kernel⟩ ⟨by rw [hRf]; exact Nat.le_of_ble_eq_true rfl, by rw [hRl]; exact Nat.le_of_ble_eq_true rfl⟩ rfl rfl (Nat.le_of_ble_eq_true rfl) dX1_could_46 (fun z46 e46 H locs cells slots hS => ?_) (fun k46 a46 G46 e46 n1 n2 nk nB H locs cells slots hS => ?_)
  · have h := ha46 _ e46
    refine g_aload_n hx hb hl 0 rfl dX1_could_49 ?_
    obtain ⟨b50, hb50, h⟩ := g_bnd h
    obtain ⟨hr50, hk50⟩ := g_chk hb50
    obtain ⟨z50, h50, h⟩ := g_bnd h
    refine g_callV (n := 0) (b := b50) (av := []) (rs := []) hx hb hml hown hts hKn hRc hRs hS hl (sX1_finds l E D h50) (lw_V q720 q722 qs2 q113 q723) ⟨rfl, by decide, by decide, by decide +kernel⟩ ⟨by rw [hRf]; exact Nat.le_of_ble_eq_true rfl, by rw [hRl]; exact Nat.le_of_ble_eq_true rfl⟩ (g_recv hKn hS hk50 (by decide) (by decide)) rfl (by rw [hr50]; rfl) (Nat.le_of_ble_eq_true rfl) dX1_could_50 (fun H locs cells slots hS => ?_)
    refine lv_if_eq (tgt := 70) hx hb dX1_could_53 (by decide) (fun c_53 => ?_) (fun c_53 => ?_)
    · have h := g_ift c_53 h
      refine lv_iconst (v := (-1)) hx hb dX1_could_70 (by decide) ?_
      exact g_retX (g_iretG hx hb hr hlk hKn hRc hRs hS (q := ((-1), z50.2)) rfl dX1_could_71) h rfl
    · have h := g_iff c_53 h
      refine g_aload_n hx hb hl 0 rfl dX1_could_56 ?_
      refine g_rdR hx hb hown hts hKn hS h fd_1_1_17 rfl (Or.inl (hts _ q614)) (fun _ z => z) dX1_could_57 (fun x57 h => ?_)
      refine lv_bipush (v := 8) hx hb dX1_could_60 (by decide) ?_
      refine g_iload_n hx hb hl 2 rfl dX1_could_62 ?_
      refine lv_imul hx hb dX1_could_63 ?_
      refine g_iload_n hx hb hl 1 rfl dX1_could_64 ?_
      refine lv_iadd hx hb dX1_could_65 ?_
      refine g_ialoadG hx hb hKn hS h dX1_could_66 (fun x66 h => ?_)
      refine lv_goto (tgt := 71) hx hb dX1_could_67 (by decide) ?_
      exact g_retX (g_iretG hx hb hr hlk hKn hRc hRs hS (q := (x66, z50.2)) rfl dX1_could_71) h rfl
  · have h := hx46 _ e46
    exact g_outX (by rw [htab]; decide) hlk hKn hRc hRs hS n1 n2 nB nk h
theorem sX1_could_b45 {p : Program} {l : Launch} {e : Env} {R : Room} {s : State} {m : MethodId} {args : Array Value} {below : List Frame} {meth : Method} {c : Code} {E : g_E} {D : g_D} (C : gC p R s m args meth c cX1_could 3 RX1 "could" (some .int) 227 7531 E D) (hlT : l.stackTraces = false) (htab : c.exceptionTable.toList = []) : ∀ (t : Nat) (v1 : Int32) (v2 : Int32) (G : g_G) (q : (Int32 × g_G) ⊕ gX), fX1_could_b45 E t v1 v2 G = some q → ∀ (H : Heap) (locs : List Loc) (cells slots : Nat) (ls : Array Slot), gSt E D G H locs → gls ls 3 [(0, .inr (.inr (some t))), (1, .inl v1), (2, .inl v2)] → gTX p l e R s m args below meth c E D H locs cells slots gokI q (F0 m 45 ls []) := by
  obtain ⟨hx, hb, hml, hown, hts, hKn, hRc, hRs, hc1, hc2, hRf, hRl, hr, hlk, hnm⟩ := id C
  intro t v1 v2 G q h H locs cells slots ls hS hl
  unfold fX1_could_b45 at h
  refine lv_iconst (v := 0) hx hb dX1_could_45 (by decide) ?_
  exact sX1_could_b46 C hlT htab _ _ _ _ _ _ h _ _ _ _ _ hS (gls_sub hl [0, 1, 2] rfl)
theorem sX1_could (l : Launch) (E : g_E) (D : g_D) (hlT : l.stackTraces = false) {t : Nat} {v1 : Int32} {v2 : Int32} {G : g_G} {q : (Int32 × g_G) ⊕ gX} (h : fX1_could E t v1 v2 G = some q) : gMetX l E D yX1_could (ws_ yX1_could cX1_could 3 (some .int)) 227 7531 [.inr (.inr (some t)), .inl v1, .inl v2] G gokI q := by
  refine gMetX.of (by decide +kernel) (Nat.le_of_ble_eq_true rfl) ?_
  intro p e R s m args below meth c C htab hS ls hl
  have C : gC p R s m args meth c cX1_could 3 RX1 "could" (some .int) 227 7531 E D := C
  obtain ⟨hx, hb, hml, hown, hts, hKn, hRc, hRs, hc1, hc2, hRf, hRl, hr, hlk, hnm⟩ := id C
  have hl : gls ls 3 [(0, .inr (.inr (some t))), (1, .inl v1), (2, .inl v2)] := hl
  generalize hH0 : s.heap = H at hS ⊢
  unfold fX1_could at h
  refine g_iload_n hx hb hl 1 rfl dX1_could_0 ?_
  refine lv_if_lt (tgt := 45) hx hb dX1_could_1 (by decide) (fun c_1 => ?_) (fun c_1 => ?_)
  · have h := g_ift c_1 h
    exact sX1_could_b45 C hlT htab _ _ _ _ _ h _ _ _ _ _ hS (gls_sub hl [0, 1, 2] rfl)
  · have h := g_iff c_1 h
    refine g_iload_n hx hb hl 1 rfl dX1_could_4 ?_
    refine g_aload_n hx hb hl 0 rfl dX1_could_5 ?_
    refine g_rdI hx hb hown hts hKn hS h fd_1_1_0 rfl (Or.inl (hts _ q597)) (fun _ z => z) dX1_could_6 (fun x6 h => ?_)
    refine lv_icmp_ge (tgt := 45) hx hb dX1_could_9 (by decide) (fun c_9 => ?_) (fun c_9 => ?_)
    · have h := g_ift c_9 h
      exact sX1_could_b45 C hlT htab _ _ _ _ _ h _ _ _ _ _ hS (gls_sub hl [0, 1, 2] rfl)
    · have h := g_iff c_9 h
      refine g_aload_n hx hb hl 0 rfl dX1_could_12 ?_
      refine g_iload_n hx hb hl 2 rfl dX1_could_13 ?_
      obtain ⟨b14, hb14, h⟩ := g_bnd h
      obtain ⟨hr14, hk14⟩ := g_chk hb14
      obtain ⟨z14, h14, h⟩ := g_bnd h
      refine g_callV (n := 1) (b := b14) (av := [.inl v2]) (rs := []) hx hb hml hown hts hKn hRc hRs hS hl (sX1_isStep l E D h14) (lw_V q1746 q1748 qs42 q113 q1749) ⟨rfl, by decide, by decide, by decide +kernel⟩ ⟨by rw [hRf]; exact Nat.le_of_ble_eq_true rfl, by rw [hRl]; exact Nat.le_of_ble_eq_true rfl⟩ (g_recv hKn hS hk14 (by decide) (by decide)) rfl (by rw [hr14]; rfl) (Nat.le_of_ble_eq_true rfl) dX1_could_14 (fun H locs cells slots hS => ?_)
      refine lv_if_eq (tgt := 45) hx hb dX1_could_17 (by decide) (fun c_17 => ?_) (fun c_17 => ?_)
      · have h := g_ift c_17 h
        exact sX1_could_b45 C hlT htab _ _ _ _ _ h _ _ _ _ _ hS (gls_sub hl [0, 1, 2] rfl)
      · have h := g_iff c_17 h
        refine g_aload_n hx hb hl 0 rfl dX1_could_20 ?_
        refine g_rdR hx hb hown hts hKn hS h fd_1_1_4 rfl (Or.inl (hts _ q601)) (fun _ z => z) dX1_could_21 (fun x21 h => ?_)
        refine g_rdR hx hb hown hts hKn hS h fd_2_2_0 rfl (Or.inr ⟨_, gNest_use rfl (hKn.2.2.2.2.1 _ (gNest_in q514 rfl))⟩) (fun _ z => z) dX1_could_24 (fun x24 h => ?_)
        refine g_iload_n hx hb hl 2 rfl dX1_could_27 ?_
        obtain ⟨b28, hb28, h⟩ := g_bnd h
        obtain ⟨hr28, hk28⟩ := g_chk hb28
        obtain ⟨z28, h28, h⟩ := g_bnd h
        refine g_callV (n := 1) (b := b28) (av := [.inl v2]) (rs := []) hx hb hml hown hts hKn hRc hRs hS hl (sJ2_get l E D h28) (lw_V q996 q759 q760 q117 q761) ⟨rfl, by decide, by decide, by decide +kernel⟩ ⟨by rw [hRf]; exact Nat.le_of_ble_eq_true rfl, by rw [hRl]; exact Nat.le_of_ble_eq_true rfl⟩ (g_recv hKn hS hk28 (by decide) (by decide)) rfl (by rw [hr28]; rfl) (Nat.le_of_ble_eq_true rfl) dX1_could_28 (fun H locs cells slots hS => ?_)
        refine g_castY (lo := 11) (hi := 16) (C := "SendHall$Step") hx hb hown hKn hS h (by decide) (by decide) (hts _ q1083) ct_11_16 dX1_could_31 (fun x31 h => ?_)
        refine g_rdI hx hb hown hts hKn hS h fd_11_16_0 rfl (Or.inl (hts _ q1422)) (fun _ z => z) dX1_could_34 (fun x34 h => ?_)
        refine lv_iconst (v := 4) hx hb dX1_could_37 (by decide) ?_
        refine lv_icmp_ne (tgt := 45) hx hb dX1_could_38 (by decide) (fun c_38 => ?_) (fun c_38 => ?_)
        · have h := g_ift c_38 h
          exact sX1_could_b45 C hlT htab _ _ _ _ _ h _ _ _ _ _ hS (gls_sub hl [0, 1, 2] rfl)
        · have h := g_iff (fun z => z c_38) h
          refine lv_iconst (v := 1) hx hb dX1_could_41 (by decide) ?_
          refine lv_goto (tgt := 46) hx hb dX1_could_42 (by decide) ?_
          exact sX1_could_b46 C hlT htab _ _ _ _ _ _ h _ _ _ _ _ hS (gls_sub hl [0, 1, 2] rfl)
