set_option maxRecDepth 100000
/-- SendHall.endsWith(LSendHall$Life;)V -/
def fX1_endsWith_b131 (E : g_E) (t : Nat) (v2 : Option Nat) (v3 : Int32) (G : g_G) : Option (g_G) :=
  (grR G 1 1 (some t) 16).bind fun x132 =>
  (gchk G 17 x132).bind fun b137 =>
  (fJ2_add E b137 v3 v2 G).bind fun z137 =>
  some z137
def fX1_endsWith_b102 (E : g_E) (t : Nat) (v2 : Option Nat) (v3 : Int32) (G : g_G) : Option (g_G) :=
  if v3 ≤ 0 then (
    fX1_endsWith_b131 E t v2 v3 G)
  else (
    (grR G 1 1 (some t) 16).bind fun x107 =>
    (gchk G 17 x107).bind fun b113 =>
    (fJ2_get E b113 (v3 - 1) G).bind fun z113 =>
    (gcast z113.2 7 7 z113.1).bind fun x116 =>
    (grI z113.2 1 1 (some t) 0).bind fun x121 =>
    (gchk z113.2 7 x116).bind fun b124 =>
    (fX18_isLike E b124 v2 x121 z113.2).bind fun z124 =>
    if z124.1 = 0 then (
      fX1_endsWith_b131 E t v2 v3 z124.2)
    else (
      some z124.2))
def fX1_endsWith_b68 (E : g_E) : Nat → Nat → (Option Nat) → Int32 → g_G → Option (g_G)
  | 0, _, _, _, _ => none
  | n + 1, t, v2, v3, G =>
    if v3 ≤ 0 then (
      fX1_endsWith_b102 E t v2 v3 G)
    else (
      (grR G 1 1 (some t) 16).bind fun x74 =>
      (gchk G 17 x74).bind fun b80 =>
      (fJ2_get E b80 (v3 - 1) G).bind fun z80 =>
      (gcast z80.2 7 7 z80.1).bind fun x83 =>
      (grI z80.2 1 1 (some t) 0).bind fun x87 =>
      (gchk z80.2 7 v2).bind fun b90 =>
      (fX18_isAhead E b90 x83 x87 z80.2).bind fun z90 =>
      if z90.1 = 0 then (
        fX1_endsWith_b102 E t v2 v3 z90.2)
      else (
        fX1_endsWith_b68 E n t v2 (v3 + (-1)) z90.2))
def fX1_endsWith_b34 (E : g_E) : Nat → Nat → (Option Nat) → (Option Nat) → Int32 → g_G → Option (g_G)
  | 0, _, _, _, _, _ => none
  | n + 1, t, v1, v2, v3, G =>
    (grI G 1 1 (some t) 0).bind fun x36 =>
    if x36 ≤ v3 then (
      (grR G 1 1 (some t) 16).bind fun x61 =>
      (gchk G 17 x61).bind fun b64 =>
      (fJ2_size E b64 G).bind fun z64 =>
      fX1_endsWith_b68 E gFU t v2 z64.1 z64.2)
    else (
      (grR G 7 7 v2 3).bind fun x43 =>
      (grR G 3 3 v1 7).bind fun x48 =>
      (gaI G 100 x48 v3).bind fun x52 =>
      (gsaI E G x43 v3 x52).bind fun G53 =>
      fX1_endsWith_b34 E n t v1 v2 (v3 + 1) G53)
def fX1_endsWith (E : g_E) (t : Nat) (v1 : Option Nat) (G : g_G) : Option (g_G) :=
  (gnewO E G 7 4).bind fun z0 =>
  (fX18_init E z0.1 z0.2).bind fun z4 =>
  (gchk z4 3 v1).bind fun b10 =>
  (fX3_kind E b10 z4).bind fun z10 =>
  (gpI E z10.2 7 7 (some z0.1) 0 z10.1).bind fun G13 =>
  (grI G13 3 3 v1 1).bind fun x18 =>
  (gpI E G13 7 7 (some z0.1) 1 x18).bind fun G21 =>
  (gchk G21 3 v1).bind fun b26 =>
  (fX3_bits E b26 G21).bind fun z26 =>
  (gpI E z26.2 7 7 (some z0.1) 2 z26.1).bind fun G29 =>
  fX1_endsWith_b34 E gFU t v1 (some z0.1) 0 G29
theorem sX1_endsWith_b131 {p : Program} {l : Launch} {e : Env} {R : Room} {s : State} {m : MethodId} {args : Array Value} {below : List Frame} {meth : Method} {c : Code} {E : g_E} {D : g_D} (C : gC p R s m args meth c cX1_endsWith 4 RX1 "endsWith" (none) 6 191 E D) : ∀ (t : Nat) (v2 : Option Nat) (v3 : Int32) (G : g_G) (q : g_G), fX1_endsWith_b131 E t v2 v3 G = some q → ∀ (H : Heap) (locs : List Loc) (cells slots : Nat) (ls : Array Slot), gSt E D G H locs → gls ls 4 [(0, .inr (.inr (some t))), (2, .inr (.inr v2)), (3, .inl v3)] → gT p l e R s m args below meth c E D H locs cells slots none q (F0 m 131 ls []) := by
  obtain ⟨hx, hb, hml, hown, hts, hKn, hRc, hRs, hc1, hc2, hRf, hRl, hr, hlk, hnm⟩ := id C
  intro t v2 v3 G q h H locs cells slots ls hS hl
  unfold fX1_endsWith_b131 at h
  refine g_aload_n hx hb hl 0 rfl dX1_endsWith_131 ?_
  refine g_rdR hx hb hown hts hKn hS h fd_1_1_16 rfl (Or.inl (hts _ q613)) (fun _ z => z) dX1_endsWith_132 (fun x132 h => ?_)
  refine g_iload_n hx hb hl 2 rfl dX1_endsWith_135 ?_
  refine g_aload_n hx hb hl 1 rfl dX1_endsWith_136 ?_
  obtain ⟨b137, hb137, h⟩ := g_bnd h
  obtain ⟨hr137, hk137⟩ := g_chk hb137
  obtain ⟨z137, h137, h⟩ := g_bnd h
  refine g_callV (n := 2) (b := b137) (av := [.inl v3, .inr (.inr v2)]) (rs := []) hx hb hml hown hts hKn hRc hRs hS hl (sJ2_add l E D h137) (lw_V q1006 q1007 q1008 q117 q1009) ⟨rfl, by decide, by decide, by decide +kernel⟩ ⟨by rw [hRf]; exact Nat.le_of_ble_eq_true rfl, by rw [hRl]; exact Nat.le_of_ble_eq_true rfl⟩ (g_recv hKn hS hk137 (by decide) (by decide)) rfl (by rw [hr137]; rfl) (Nat.le_of_ble_eq_true rfl) dX1_endsWith_137 (fun H locs cells slots hS => ?_)
  exact g_vretG hx hb hr hlk hKn hRc hRs hS h dX1_endsWith_140
theorem sX1_endsWith_b102 {p : Program} {l : Launch} {e : Env} {R : Room} {s : State} {m : MethodId} {args : Array Value} {below : List Frame} {meth : Method} {c : Code} {E : g_E} {D : g_D} (C : gC p R s m args meth c cX1_endsWith 4 RX1 "endsWith" (none) 6 191 E D) : ∀ (t : Nat) (v2 : Option Nat) (v3 : Int32) (G : g_G) (q : g_G), fX1_endsWith_b102 E t v2 v3 G = some q → ∀ (H : Heap) (locs : List Loc) (cells slots : Nat) (ls : Array Slot), gSt E D G H locs → gls ls 4 [(0, .inr (.inr (some t))), (2, .inr (.inr v2)), (3, .inl v3)] → gT p l e R s m args below meth c E D H locs cells slots none q (F0 m 102 ls []) := by
  obtain ⟨hx, hb, hml, hown, hts, hKn, hRc, hRs, hc1, hc2, hRf, hRl, hr, hlk, hnm⟩ := id C
  intro t v2 v3 G q h H locs cells slots ls hS hl
  unfold fX1_endsWith_b102 at h
  refine g_iload_n hx hb hl 2 rfl dX1_endsWith_102 ?_
  refine lv_if_le (tgt := 131) hx hb dX1_endsWith_103 (by decide) (fun c_103 => ?_) (fun c_103 => ?_)
  · have h := g_ift c_103 h
    exact sX1_endsWith_b131 C _ _ _ _ _ h _ _ _ _ _ hS (gls_sub hl [0, 1, 2] rfl)
  · have h := g_iff c_103 h
    refine g_aload_n hx hb hl 0 rfl dX1_endsWith_106 ?_
    refine g_rdR hx hb hown hts hKn hS h fd_1_1_16 rfl (Or.inl (hts _ q613)) (fun _ z => z) dX1_endsWith_107 (fun x107 h => ?_)
    refine g_iload_n hx hb hl 2 rfl dX1_endsWith_110 ?_
    refine lv_iconst (v := 1) hx hb dX1_endsWith_111 (by decide) ?_
    refine lv_isub hx hb dX1_endsWith_112 ?_
    obtain ⟨b113, hb113, h⟩ := g_bnd h
    obtain ⟨hr113, hk113⟩ := g_chk hb113
    obtain ⟨z113, h113, h⟩ := g_bnd h
    refine g_callV (n := 1) (b := b113) (av := [.inl (v3 - 1)]) (rs := []) hx hb hml hown hts hKn hRc hRs hS hl (sJ2_get l E D h113) (lw_V q996 q759 q760 q117 q761) ⟨rfl, by decide, by decide, by decide +kernel⟩ ⟨by rw [hRf]; exact Nat.le_of_ble_eq_true rfl, by rw [hRl]; exact Nat.le_of_ble_eq_true rfl⟩ (g_recv hKn hS hk113 (by decide) (by decide)) rfl (by rw [hr113]; rfl) (Nat.le_of_ble_eq_true rfl) dX1_endsWith_113 (fun H locs cells slots hS => ?_)
    refine g_castS (k := 7) hx hb hown hKn hS h (by decide) (by decide) (hts _ q962) dX1_endsWith_116 (fun x116 h => ?_)
    refine g_aload_n hx hb hl 1 rfl dX1_endsWith_119 ?_
    refine g_aload_n hx hb hl 0 rfl dX1_endsWith_120 ?_
    refine g_rdI hx hb hown hts hKn hS h fd_1_1_0 rfl (Or.inl (hts _ q597)) (fun _ z => z) dX1_endsWith_121 (fun x121 h => ?_)
    obtain ⟨b124, hb124, h⟩ := g_bnd h
    obtain ⟨hr124, hk124⟩ := g_chk hb124
    obtain ⟨z124, h124, h⟩ := g_bnd h
    refine g_callV (n := 2) (b := b124) (av := [.inr (.inr v2), .inl x121]) (rs := []) hx hb hml hown hts hKn hRc hRs hS hl (sX18_isLike l E D h124) (lw_V q1001 q1002 q1003 q155 q1004) ⟨rfl, by decide, by decide, by decide +kernel⟩ ⟨by rw [hRf]; exact Nat.le_of_ble_eq_true rfl, by rw [hRl]; exact Nat.le_of_ble_eq_true rfl⟩ (g_recv hKn hS hk124 (by decide) (by decide)) rfl (by rw [hr124]; rfl) (Nat.le_of_ble_eq_true rfl) dX1_endsWith_124 (fun H locs cells slots hS => ?_)
    refine lv_if_eq (tgt := 131) hx hb dX1_endsWith_127 (by decide) (fun c_127 => ?_) (fun c_127 => ?_)
    · have h := g_ift c_127 h
      exact sX1_endsWith_b131 C _ _ _ _ _ h _ _ _ _ _ hS (gls_sub hl [0, 1, 2] rfl)
    · have h := g_iff c_127 h
      exact g_vretG hx hb hr hlk hKn hRc hRs hS h dX1_endsWith_130
theorem sX1_endsWith_b68 {p : Program} {l : Launch} {e : Env} {R : Room} {s : State} {m : MethodId} {args : Array Value} {below : List Frame} {meth : Method} {c : Code} {E : g_E} {D : g_D} (C : gC p R s m args meth c cX1_endsWith 4 RX1 "endsWith" (none) 6 191 E D) : ∀ (n : Nat) (t : Nat) (v2 : Option Nat) (v3 : Int32) (G : g_G) (q : g_G), fX1_endsWith_b68 E n t v2 v3 G = some q → ∀ (H : Heap) (locs : List Loc) (cells slots : Nat) (ls : Array Slot), gSt E D G H locs → gls ls 4 [(0, .inr (.inr (some t))), (2, .inr (.inr v2)), (3, .inl v3)] → gT p l e R s m args below meth c E D H locs cells slots none q (F0 m 68 ls []) := by
  obtain ⟨hx, hb, hml, hown, hts, hKn, hRc, hRs, hc1, hc2, hRf, hRl, hr, hlk, hnm⟩ := id C
  intro n
  induction n with
  | zero =>
    intro t v2 v3 G q h
    exact g_no h
  | succ n ih =>
    intro t v2 v3 G q h H locs cells slots ls hS hl
    rw [fX1_endsWith_b68] at h
    refine g_iload_n hx hb hl 2 rfl dX1_endsWith_68 ?_
    refine lv_if_le (tgt := 102) hx hb dX1_endsWith_69 (by decide) (fun c_69 => ?_) (fun c_69 => ?_)
    · have h := g_ift c_69 h
      exact sX1_endsWith_b102 C _ _ _ _ _ h _ _ _ _ _ hS (gls_sub hl [0, 1, 2] rfl)
    · have h := g_iff c_69 h
      refine g_aload_n hx hb hl 1 rfl dX1_endsWith_72 ?_
      refine g_aload_n hx hb hl 0 rfl dX1_endsWith_73 ?_
      refine g_rdR hx hb hown hts hKn hS h fd_1_1_16 rfl (Or.inl (hts _ q613)) (fun _ z => z) dX1_endsWith_74 (fun x74 h => ?_)
      refine g_iload_n hx hb hl 2 rfl dX1_endsWith_77 ?_
      refine lv_iconst (v := 1) hx hb dX1_endsWith_78 (by decide) ?_
      refine lv_isub hx hb dX1_endsWith_79 ?_
      obtain ⟨b80, hb80, h⟩ := g_bnd h
      obtain ⟨hr80, hk80⟩ := g_chk hb80
      obtain ⟨z80, h80, h⟩ := g_bnd h
      refine g_callV (n := 1) (b := b80) (av := [.inl (v3 - 1)]) (rs := [.inr (.inr v2)]) hx hb hml hown hts hKn hRc hRs hS hl (sJ2_get l E D h80) (lw_V q996 q759 q760 q117 q761) ⟨rfl, by decide, by decide, by decide +kernel⟩ ⟨by rw [hRf]; exact Nat.le_of_ble_eq_true rfl, by rw [hRl]; exact Nat.le_of_ble_eq_true rfl⟩ (g_recv hKn hS hk80 (by decide) (by decide)) rfl (by rw [hr80]; rfl) (Nat.le_of_ble_eq_true rfl) dX1_endsWith_80 (fun H locs cells slots hS => ?_)
      refine g_castS (k := 7) hx hb hown hKn hS h (by decide) (by decide) (hts _ q962) dX1_endsWith_83 (fun x83 h => ?_)
      refine g_aload_n hx hb hl 0 rfl dX1_endsWith_86 ?_
      refine g_rdI hx hb hown hts hKn hS h fd_1_1_0 rfl (Or.inl (hts _ q597)) (fun _ z => z) dX1_endsWith_87 (fun x87 h => ?_)
      obtain ⟨b90, hb90, h⟩ := g_bnd h
      obtain ⟨hr90, hk90⟩ := g_chk hb90
      obtain ⟨z90, h90, h⟩ := g_bnd h
      refine g_callV (n := 2) (b := b90) (av := [.inr (.inr x83), .inl x87]) (rs := []) hx hb hml hown hts hKn hRc hRs hS hl (sX18_isAhead l E D h90) (lw_V q997 q998 q999 q155 q1000) ⟨rfl, by decide, by decide, by decide +kernel⟩ ⟨by rw [hRf]; exact Nat.le_of_ble_eq_true rfl, by rw [hRl]; exact Nat.le_of_ble_eq_true rfl⟩ (g_recv hKn hS hk90 (by decide) (by decide)) rfl (by rw [hr90]; rfl) (Nat.le_of_ble_eq_true rfl) dX1_endsWith_90 (fun H locs cells slots hS => ?_)
      refine lv_if_eq (tgt := 102) hx hb dX1_endsWith_93 (by decide) (fun c_93 => ?_) (fun c_93 => ?_)
      · have h := g_ift c_93 h
        exact sX1_endsWith_b102 C _ _ _ _ _ h _ _ _ _ _ hS (gls_sub hl [0, 1, 2] rfl)
      · have h := g_iff c_93 h
        refine g_iinc (l1 := [(3, .inl (v3 + (-1))), (0, .inr (.inr (some t))), (2, .inr (.inr v2))]) (v := (v3 + (-1))) hx hb hl (k := 2) rfl (by rfl) (by decide) rfl dX1_endsWith_96 (fun ls hl => ?_)
        refine lv_goto (tgt := 68) hx hb dX1_endsWith_99 (by decide) ?_
        exact ih _ _ _ _ _ h _ _ _ _ _ hS (gls_sub hl [1, 2, 0] rfl)
theorem sX1_endsWith_b34 {p : Program} {l : Launch} {e : Env} {R : Room} {s : State} {m : MethodId} {args : Array Value} {below : List Frame} {meth : Method} {c : Code} {E : g_E} {D : g_D} (C : gC p R s m args meth c cX1_endsWith 4 RX1 "endsWith" (none) 6 191 E D) : ∀ (n : Nat) (t : Nat) (v1 : Option Nat) (v2 : Option Nat) (v3 : Int32) (G : g_G) (q : g_G), fX1_endsWith_b34 E n t v1 v2 v3 G = some q → ∀ (H : Heap) (locs : List Loc) (cells slots : Nat) (ls : Array Slot), gSt E D G H locs → gls ls 4 [(0, .inr (.inr (some t))), (1, .inr (.inr v1)), (2, .inr (.inr v2)), (3, .inl v3)] → gT p l e R s m args below meth c E D H locs cells slots none q (F0 m 34 ls []) := by
  obtain ⟨hx, hb, hml, hown, hts, hKn, hRc, hRs, hc1, hc2, hRf, hRl, hr, hlk, hnm⟩ := id C
  intro n
  induction n with
  | zero =>
    intro t v1 v2 v3 G q h
    exact g_no h
  | succ n ih =>
    intro t v1 v2 v3 G q h H locs cells slots ls hS hl
    rw [fX1_endsWith_b34] at h
    refine g_iload_n hx hb hl 3 rfl dX1_endsWith_34 ?_
    refine g_aload_n hx hb hl 0 rfl dX1_endsWith_35 ?_
    refine g_rdI hx hb hown hts hKn hS h fd_1_1_0 rfl (Or.inl (hts _ q597)) (fun _ z => z) dX1_endsWith_36 (fun x36 h => ?_)
    refine lv_icmp_ge (tgt := 60) hx hb dX1_endsWith_39 (by decide) (fun c_39 => ?_) (fun c_39 => ?_)
    · have h := g_ift c_39 h
      refine g_aload_n hx hb hl 0 rfl dX1_endsWith_60 ?_
      refine g_rdR hx hb hown hts hKn hS h fd_1_1_16 rfl (Or.inl (hts _ q613)) (fun _ z => z) dX1_endsWith_61 (fun x61 h => ?_)
      obtain ⟨b64, hb64, h⟩ := g_bnd h
      obtain ⟨hr64, hk64⟩ := g_chk hb64
      obtain ⟨z64, h64, h⟩ := g_bnd h
      refine g_callV (n := 0) (b := b64) (av := []) (rs := []) hx hb hml hown hts hKn hRc hRs hS hl (sJ2_size l E D h64) (lw_V q995 q782 q783 q117 q784) ⟨rfl, by decide, by decide, by decide +kernel⟩ ⟨by rw [hRf]; exact Nat.le_of_ble_eq_true rfl, by rw [hRl]; exact Nat.le_of_ble_eq_true rfl⟩ (g_recv hKn hS hk64 (by decide) (by decide)) rfl (by rw [hr64]; rfl) (Nat.le_of_ble_eq_true rfl) dX1_endsWith_64 (fun H locs cells slots hS => ?_)
      refine g_istore_n (l1 := [(3, .inl z64.1), (0, .inr (.inr (some t))), (1, .inr (.inr v1)), (2, .inr (.inr v2))]) hx hb hl (by decide) rfl dX1_endsWith_67 (fun ls hl => ?_)
      exact sX1_endsWith_b68 C gFU _ _ _ _ _ h _ _ _ _ _ hS (gls_sub hl [1, 3, 0] rfl)
    · have h := g_iff c_39 h
      refine g_aload_n hx hb hl 2 rfl dX1_endsWith_42 ?_
      refine g_rdR hx hb hown hts hKn hS h fd_7_7_3 rfl (Or.inr ⟨_, gNest_use rfl (hKn.2.2.2.2.1 _ (gNest_in q975 rfl))⟩) (fun _ z => z) dX1_endsWith_43 (fun x43 h => ?_)
      refine g_iload_n hx hb hl 3 rfl dX1_endsWith_46 ?_
      refine g_aload_n hx hb hl 1 rfl dX1_endsWith_47 ?_
      refine g_rdR hx hb hown hts hKn hS h fd_3_3_7 rfl (Or.inr ⟨_, gNest_use rfl (hKn.2.2.2.2.1 _ (gNest_in q559 rfl))⟩) (fun _ z => z) dX1_endsWith_48 (fun x48 h => ?_)
      refine g_iload_n hx hb hl 3 rfl dX1_endsWith_51 ?_
      refine g_ialoadG hx hb hKn hS h dX1_endsWith_52 (fun x52 h => ?_)
      refine g_iastoreG hx hb hKn hS h dX1_endsWith_53 (fun G53 h H locs hS => ?_)
      refine g_iinc (l1 := [(3, .inl (v3 + 1)), (0, .inr (.inr (some t))), (1, .inr (.inr v1)), (2, .inr (.inr v2))]) (v := (v3 + 1)) hx hb hl (k := 3) rfl (by rfl) (by decide) rfl dX1_endsWith_54 (fun ls hl => ?_)
      refine lv_goto (tgt := 34) hx hb dX1_endsWith_57 (by decide) ?_
      exact ih _ _ _ _ _ _ h _ _ _ _ _ hS (gls_sub hl [1, 2, 3, 0] rfl)
theorem sX1_endsWith (l : Launch) (E : g_E) (D : g_D) {t : Nat} {v1 : Option Nat} {G : g_G} {q : g_G} (h : fX1_endsWith E t v1 G = some q) : gMet l E D yX1_endsWith (ws_ yX1_endsWith cX1_endsWith 4 (none)) 6 191 [.inr (.inr (some t)), .inr (.inr v1)] G none q := by
  refine gMet.of (by decide +kernel) (Nat.le_of_ble_eq_true rfl) ?_
  intro p e R s m args below meth c C hS ls hl
  have C : gC p R s m args meth c cX1_endsWith 4 RX1 "endsWith" (none) 6 191 E D := C
  obtain ⟨hx, hb, hml, hown, hts, hKn, hRc, hRs, hc1, hc2, hRf, hRl, hr, hlk, hnm⟩ := id C
  have hl : gls ls 4 [(0, .inr (.inr (some t))), (1, .inr (.inr v1))] := hl
  generalize s.heap = H at hS ⊢
  unfold fX1_endsWith at h
  refine g_newG (k := 7) hx hb hown hts hKn hRc hRs hS h (by decide) (by decide) (hts _ q962) (hts _ q963) (hts _ q155) dX1_endsWith_0 (fun z0 h H locs cells slots hS => ?_)
  refine lv_dup hx hb dX1_endsWith_3 (by first | exact va_rf_cat _ | rfl | exact g_catA _) ?_
  obtain ⟨z4, h4, h⟩ := g_bnd h
  refine g_callIN (n := 0) (av := []) (rs := [.inr (.inr (some z0.1))]) hx hb hml hown hts hKn hRc hRs hS hl (sX18_init l E D h4) (lw_meth q966) (hts _ q155) q964 (hts _ q965) rfl ⟨by decide, by decide, by decide +kernel⟩ ⟨by rw [hRf]; exact Nat.le_of_ble_eq_true rfl, by rw [hRl]; exact Nat.le_of_ble_eq_true rfl⟩ rfl rfl (Nat.le_of_ble_eq_true rfl) dX1_endsWith_4 (fun H locs cells slots hS => ?_)
  refine g_astore_n (l1 := [(2, .inr (.inr (some z0.1))), (0, .inr (.inr (some t))), (1, .inr (.inr v1))]) hx hb hl (by decide) rfl dX1_endsWith_7 (fun ls hl => ?_)
  refine g_aload_n hx hb hl 0 rfl dX1_endsWith_8 ?_
  refine g_aload_n hx hb hl 2 rfl dX1_endsWith_9 ?_
  obtain ⟨b10, hb10, h⟩ := g_bnd h
  obtain ⟨hr10, hk10⟩ := g_chk hb10
  obtain ⟨z10, h10, h⟩ := g_bnd h
  refine g_callV (n := 0) (b := b10) (av := []) (rs := [.inr (.inr (some z0.1))]) hx hb hml hown hts hKn hRc hRs hS hl (sX3_kind l E D h10) (lw_V q985 q986 q987 q134 q988) ⟨rfl, by decide, by decide, by decide +kernel⟩ ⟨by rw [hRf]; exact Nat.le_of_ble_eq_true rfl, by rw [hRl]; exact Nat.le_of_ble_eq_true rfl⟩ (g_recv hKn hS hk10 (by decide) (by decide)) rfl (by rw [hr10]; rfl) (Nat.le_of_ble_eq_true rfl) dX1_endsWith_10 (fun H locs cells slots hS => ?_)
  refine g_ptI hx hb hown hts hKn hS h fd_7_7_0 (Or.inr ⟨rfl, _, gNest_use rfl (hKn.2.2.2.2.1 _ (gNest_in q969 rfl))⟩) (fun _ z => z) (fun z => nomatch z) dX1_endsWith_13 (fun G13 h H locs hS => ?_)
  refine g_aload_n hx hb hl 0 rfl dX1_endsWith_16 ?_
  refine g_aload_n hx hb hl 2 rfl dX1_endsWith_17 ?_
  refine g_rdI hx hb hown hts hKn hS h fd_3_3_1 rfl (Or.inr ⟨_, gNest_use rfl (hKn.2.2.2.2.1 _ (gNest_in q541 rfl))⟩) (fun _ z => z) dX1_endsWith_18 (fun x18 h => ?_)
  refine g_ptI hx hb hown hts hKn hS h fd_7_7_1 (Or.inr ⟨rfl, _, gNest_use rfl (hKn.2.2.2.2.1 _ (gNest_in q971 rfl))⟩) (fun _ z => z) (fun z => nomatch z) dX1_endsWith_21 (fun G21 h H locs hS => ?_)
  refine g_aload_n hx hb hl 0 rfl dX1_endsWith_24 ?_
  refine g_aload_n hx hb hl 2 rfl dX1_endsWith_25 ?_
  obtain ⟨b26, hb26, h⟩ := g_bnd h
  obtain ⟨hr26, hk26⟩ := g_chk hb26
  obtain ⟨z26, h26, h⟩ := g_bnd h
  refine g_callV (n := 0) (b := b26) (av := []) (rs := [.inr (.inr (some z0.1))]) hx hb hml hown hts hKn hRc hRs hS hl (sX3_bits l E D h26) (lw_V q994 q990 q991 q134 q992) ⟨rfl, by decide, by decide, by decide +kernel⟩ ⟨by rw [hRf]; exact Nat.le_of_ble_eq_true rfl, by rw [hRl]; exact Nat.le_of_ble_eq_true rfl⟩ (g_recv hKn hS hk26 (by decide) (by decide)) rfl (by rw [hr26]; rfl) (Nat.le_of_ble_eq_true rfl) dX1_endsWith_26 (fun H locs cells slots hS => ?_)
  refine g_ptI hx hb hown hts hKn hS h fd_7_7_2 (Or.inr ⟨rfl, _, gNest_use rfl (hKn.2.2.2.2.1 _ (gNest_in q973 rfl))⟩) (fun _ z => z) (fun z => nomatch z) dX1_endsWith_29 (fun G29 h H locs hS => ?_)
  refine lv_iconst (v := 0) hx hb dX1_endsWith_32 (by decide) ?_
  refine g_istore_n (l1 := [(3, .inl 0), (2, .inr (.inr (some z0.1))), (0, .inr (.inr (some t))), (1, .inr (.inr v1))]) hx hb hl (by decide) rfl dX1_endsWith_33 (fun ls hl => ?_)
  exact sX1_endsWith_b34 C gFU _ _ _ _ _ _ h _ _ _ _ _ hS (gls_sub hl [2, 3, 1, 0] rfl)
/-- SendHall.goes(LSendHall$Life;ILSendHall$Step;)V -/
def fX1_goes_b67 (E : g_E) (v1 : Option Nat) (v2 : Int32) (v4 : Option Nat) (G : g_G) : Option (g_G) :=
  (grR G 3 3 v1 3).bind fun x68 =>
  (gsaR E G 122 x68 v2 v4).bind fun G74 =>
  some G74
def fX1_goes_b58 (E : g_E) (k6 : Nat → (Option Nat) → Int32 → (Option Nat) → Int32 → g_G → Option (g_G)) (t : Nat) (v1 : Option Nat) (v2 : Int32) (v6 : Option Nat) (s0 : Int32) (G : g_G) : Option (g_G) :=
  k6 t v1 v2 v6 s0 G
def fX1_goes_b44 (E : g_E) (k6 : Nat → (Option Nat) → Int32 → (Option Nat) → Int32 → g_G → Option (g_G)) (t : Nat) (v1 : Option Nat) (v2 : Int32) (v4 : Option Nat) (s0 : Option Nat) (G : g_G) : Option (g_G) :=
  if s0 = v4 then (
    fX1_goes_b58 E k6 t v1 v2 s0 0 G)
  else (
    fX1_goes_b58 E k6 t v1 v2 s0 1 G)
def fX1_goes_b6 (E : g_E) : Nat → Nat → (Option Nat) → Int32 → (Option Nat) → Int32 → g_G → Option (g_G)
  | 0, _, _, _, _, _, _ => none
  | n + 1, t, v1, v2, v4, v5, G =>
    if v5 = 0 then (
      fX1_goes_b67 E v1 v2 v4 G)
    else (
      if v4 = none then (
        fX1_goes_b67 E v1 v2 v4 G)
      else (
        (grR G 1 1 (some t) 5).bind fun x17 =>
        (grI G 11 16 v4 1).bind fun x22 =>
        (gaI G 102 x17 x22).bind fun x25 =>
        if x25 = 0 then (
          (fV_comes E v4 v1 v2 G).bind fun z41 =>
          fX1_goes_b44 E (fX1_goes_b6 E n) t v1 v2 v4 z41.1 z41.2)
        else (
          (grR G 11 16 v4 2).bind fun x31 =>
          fX1_goes_b44 E (fX1_goes_b6 E n) t v1 v2 v4 x31 G)))
def fX1_goes (E : g_E) (t : Nat) (v1 : Option Nat) (v2 : Int32) (v3 : Option Nat) (G : g_G) : Option (g_G) :=
  fX1_goes_b6 E gFU t v1 v2 v3 1 G
theorem sX1_goes_b67 {p : Program} {l : Launch} {e : Env} {R : Room} {s : State} {m : MethodId} {args : Array Value} {below : List Frame} {meth : Method} {c : Code} {E : g_E} {D : g_D} (C : gC p R s m args meth c cX1_goes 7 RX1 "goes" (none) 220 7355 E D) : ∀ (v1 : Option Nat) (v2 : Int32) (v4 : Option Nat) (G : g_G) (q : g_G), fX1_goes_b67 E v1 v2 v4 G = some q → ∀ (H : Heap) (locs : List Loc) (cells slots : Nat) (ls : Array Slot), gSt E D G H locs → gls ls 7 [(1, .inr (.inr v1)), (2, .inl v2), (4, .inr (.inr v4))] → gT p l e R s m args below meth c E D H locs cells slots none q (F0 m 67 ls []) := by
  obtain ⟨hx, hb, hml, hown, hts, hKn, hRc, hRs, hc1, hc2, hRf, hRl, hr, hlk, hnm⟩ := id C
  intro v1 v2 v4 G q h H locs cells slots ls hS hl
  unfold fX1_goes_b67 at h
  refine g_aload_n hx hb hl 0 rfl dX1_goes_67 ?_
  refine g_rdR hx hb hown hts hKn hS h fd_3_3_3 rfl (Or.inr ⟨_, gNest_use rfl (hKn.2.2.2.2.1 _ (gNest_in q545 rfl))⟩) (fun _ z => z) dX1_goes_68 (fun x68 h => ?_)
  refine g_iload_n hx hb hl 1 rfl dX1_goes_71 ?_
  refine g_aload hx hb hl 2 rfl dX1_goes_72 ?_
  refine g_aastoreG hx hb hKn hS h (by decide) dX1_goes_74 (fun G74 h H locs hS => ?_)
  exact g_vretG hx hb hr hlk hKn hRc hRs hS h dX1_goes_75
theorem sX1_goes_b58 {p : Program} {l : Launch} {e : Env} {R : Room} {s : State} {m : MethodId} {args : Array Value} {below : List Frame} {meth : Method} {c : Code} {E : g_E} {D : g_D} (C : gC p R s m args meth c cX1_goes 7 RX1 "goes" (none) 220 7355 E D) {k6 : Nat → (Option Nat) → Int32 → (Option Nat) → Int32 → g_G → Option (g_G)} (hk6 : ∀ (t : Nat) (v1 : Option Nat) (v2 : Int32) (v4 : Option Nat) (v5 : Int32) (G : g_G) (q : g_G), k6 t v1 v2 v4 v5 G = some q → ∀ (H : Heap) (locs : List Loc) (cells slots : Nat) (ls : Array Slot), gSt E D G H locs → gls ls 7 [(0, .inr (.inr (some t))), (1, .inr (.inr v1)), (2, .inl v2), (4, .inr (.inr v4)), (5, .inl v5)] → gT p l e R s m args below meth c E D H locs cells slots none q (F0 m 6 ls [])) : ∀ (t : Nat) (v1 : Option Nat) (v2 : Int32) (v6 : Option Nat) (s0 : Int32) (G : g_G) (q : g_G), fX1_goes_b58 E k6 t v1 v2 v6 s0 G = some q → ∀ (H : Heap) (locs : List Loc) (cells slots : Nat) (ls : Array Slot), gSt E D G H locs → gls ls 7 [(0, .inr (.inr (some t))), (1, .inr (.inr v1)), (2, .inl v2), (6, .inr (.inr v6))] → gT p l e R s m args below meth c E D H locs cells slots none q (F0 m 58 ls [.int s0]) := by
  obtain ⟨hx, hb, hml, hown, hts, hKn, hRc, hRs, hc1, hc2, hRf, hRl, hr, hlk, hnm⟩ := id C
  intro t v1 v2 v6 s0 G q h H locs cells slots ls hS hl
  unfold fX1_goes_b58 at h
  refine g_istore (l1 := [(5, .inl s0), (0, .inr (.inr (some t))), (1, .inr (.inr v1)), (2, .inl v2), (6, .inr (.inr v6))]) hx hb hl (by decide) rfl dX1_goes_58 (fun ls hl => ?_)
  refine g_aload hx hb hl 4 rfl dX1_goes_60 ?_
  refine g_astore (l1 := [(4, .inr (.inr v6)), (5, .inl s0), (0, .inr (.inr (some t))), (1, .inr (.inr v1)), (2, .inl v2), (6, .inr (.inr v6))]) hx hb hl (by decide) rfl dX1_goes_62 (fun ls hl => ?_)
  refine lv_goto (tgt := 6) hx hb dX1_goes_64 (by decide) ?_
  exact hk6 _ _ _ _ _ _ _ h _ _ _ _ _ hS (gls_sub hl [2, 3, 4, 0, 1] rfl)
theorem sX1_goes_b44 {p : Program} {l : Launch} {e : Env} {R : Room} {s : State} {m : MethodId} {args : Array Value} {below : List Frame} {meth : Method} {c : Code} {E : g_E} {D : g_D} (C : gC p R s m args meth c cX1_goes 7 RX1 "goes" (none) 220 7355 E D) {k6 : Nat → (Option Nat) → Int32 → (Option Nat) → Int32 → g_G → Option (g_G)} (hk6 : ∀ (t : Nat) (v1 : Option Nat) (v2 : Int32) (v4 : Option Nat) (v5 : Int32) (G : g_G) (q : g_G), k6 t v1 v2 v4 v5 G = some q → ∀ (H : Heap) (locs : List Loc) (cells slots : Nat) (ls : Array Slot), gSt E D G H locs → gls ls 7 [(0, .inr (.inr (some t))), (1, .inr (.inr v1)), (2, .inl v2), (4, .inr (.inr v4)), (5, .inl v5)] → gT p l e R s m args below meth c E D H locs cells slots none q (F0 m 6 ls [])) : ∀ (t : Nat) (v1 : Option Nat) (v2 : Int32) (v4 : Option Nat) (s0 : Option Nat) (G : g_G) (q : g_G), fX1_goes_b44 E k6 t v1 v2 v4 s0 G = some q → ∀ (H : Heap) (locs : List Loc) (cells slots : Nat) (ls : Array Slot), gSt E D G H locs → gls ls 7 [(0, .inr (.inr (some t))), (1, .inr (.inr v1)), (2, .inl v2), (4, .inr (.inr v4))] → gT p l e R s m args below meth c E D H locs cells slots none q (F0 m 44 ls [va_rf s0]) := by
  obtain ⟨hx, hb, hml, hown, hts, hKn, hRc, hRs, hc1, hc2, hRf, hRl, hr, hlk, hnm⟩ := id C
  intro t v1 v2 v4 s0 G q h H locs cells slots ls hS hl
  unfold fX1_goes_b44 at h
  refine g_astore (l1 := [(6, .inr (.inr s0)), (0, .inr (.inr (some t))), (1, .inr (.inr v1)), (2, .inl v2), (4, .inr (.inr v4))]) hx hb hl (by decide) rfl dX1_goes_44 (fun ls hl => ?_)
  refine g_aload hx hb hl 0 rfl dX1_goes_46 ?_
  refine g_aload hx hb hl 4 rfl dX1_goes_48 ?_
  refine lv_acmp_eq (tgt := 57) hx hb dX1_goes_50 (by decide) (fun c_50 => ?_) (fun c_50 => ?_)
  · have h := g_ift c_50 h
    refine lv_iconst (v := 0) hx hb dX1_goes_57 (by decide) ?_
    exact sX1_goes_b58 C hk6 _ _ _ _ _ _ _ h _ _ _ _ _ hS (gls_sub hl [1, 2, 3, 0] rfl)
  · have h := g_iff c_50 h
    refine lv_iconst (v := 1) hx hb dX1_goes_53 (by decide) ?_
    refine lv_goto (tgt := 58) hx hb dX1_goes_54 (by decide) ?_
    exact sX1_goes_b58 C hk6 _ _ _ _ _ _ _ h _ _ _ _ _ hS (gls_sub hl [1, 2, 3, 0] rfl)
theorem sX1_goes_b6 {p : Program} {l : Launch} {e : Env} {R : Room} {s : State} {m : MethodId} {args : Array Value} {below : List Frame} {meth : Method} {c : Code} {E : g_E} {D : g_D} (C : gC p R s m args meth c cX1_goes 7 RX1 "goes" (none) 220 7355 E D) : ∀ (n : Nat) (t : Nat) (v1 : Option Nat) (v2 : Int32) (v4 : Option Nat) (v5 : Int32) (G : g_G) (q : g_G), fX1_goes_b6 E n t v1 v2 v4 v5 G = some q → ∀ (H : Heap) (locs : List Loc) (cells slots : Nat) (ls : Array Slot), gSt E D G H locs → gls ls 7 [(0, .inr (.inr (some t))), (1, .inr (.inr v1)), (2, .inl v2), (4, .inr (.inr v4)), (5, .inl v5)] → gT p l e R s m args below meth c E D H locs cells slots none q (F0 m 6 ls []) := by
  obtain ⟨hx, hb, hml, hown, hts, hKn, hRc, hRs, hc1, hc2, hRf, hRl, hr, hlk, hnm⟩ := id C
  intro n
  induction n with
  | zero =>
    intro t v1 v2 v4 v5 G q h
    exact g_no h
  | succ n ih =>
    intro t v1 v2 v4 v5 G q h H locs cells slots ls hS hl
    rw [fX1_goes_b6] at h
    refine g_iload hx hb hl 4 rfl dX1_goes_6 ?_
    refine lv_if_eq (tgt := 67) hx hb dX1_goes_8 (by decide) (fun c_8 => ?_) (fun c_8 => ?_)
    · have h := g_ift c_8 h
      exact sX1_goes_b67 C _ _ _ _ _ h _ _ _ _ _ hS (gls_sub hl [1, 2, 3] rfl)
    · have h := g_iff c_8 h
      refine g_aload hx hb hl 3 rfl dX1_goes_11 ?_
      refine g_ifnull (tgt := 67) hx hb dX1_goes_13 (by decide) (fun c_13 => ?_) (fun c_13 => ?_)
      · have h := g_ift c_13 h
        exact sX1_goes_b67 C _ _ _ _ _ h _ _ _ _ _ hS (gls_sub hl [1, 2, 3] rfl)
      · have h := g_iff c_13 h
        refine g_aload_n hx hb hl 0 rfl dX1_goes_16 ?_
        refine g_rdR hx hb hown hts hKn hS h fd_1_1_5 rfl (Or.inl (hts _ q602)) (fun _ z => z) dX1_goes_17 (fun x17 h => ?_)
        refine g_aload hx hb hl 3 rfl dX1_goes_20 ?_
        refine g_rdI hx hb hown hts hKn hS h fd_11_16_1 rfl (Or.inl (hts _ q1428)) (fun _ z => z) dX1_goes_22 (fun x22 h => ?_)
        refine g_zaloadG hx hb hKn hS h dX1_goes_25 (fun x25 h => ?_)
        refine lv_if_eq (tgt := 37) hx hb dX1_goes_26 (by decide) (fun c_26 => ?_) (fun c_26 => ?_)
        · have h := g_ift c_26 h
          refine g_aload hx hb hl 3 rfl dX1_goes_37 ?_
          refine g_aload_n hx hb hl 1 rfl dX1_goes_39 ?_
          refine g_iload_n hx hb hl 2 rfl dX1_goes_40 ?_
          obtain ⟨z41, h41, h⟩ := g_bnd h
          refine g_comesV (rs := []) hx hb hml hown hts hKn hRc hRs hS hl h41 ⟨by rw [hRf]; exact Nat.le_of_ble_eq_true rfl, by rw [hRl]; exact Nat.le_of_ble_eq_true rfl⟩ rfl (Nat.le_of_ble_eq_true rfl) dX1_goes_41 (fun H locs cells slots hS => ?_)
          exact sX1_goes_b44 C ih _ _ _ _ _ _ _ h _ _ _ _ _ hS (gls_sub hl [0, 1, 2, 3] rfl)
        · have h := g_iff c_26 h
          refine g_aload hx hb hl 3 rfl dX1_goes_29 ?_
          refine g_rdR hx hb hown hts hKn hS h fd_11_16_2 rfl (Or.inl (hts _ q1430)) (fun _ z => z) dX1_goes_31 (fun x31 h => ?_)
          refine lv_goto (tgt := 44) hx hb dX1_goes_34 (by decide) ?_
          exact sX1_goes_b44 C ih _ _ _ _ _ _ _ h _ _ _ _ _ hS (gls_sub hl [0, 1, 2, 3] rfl)
theorem sX1_goes (l : Launch) (E : g_E) (D : g_D) {t : Nat} {v1 : Option Nat} {v2 : Int32} {v3 : Option Nat} {G : g_G} {q : g_G} (h : fX1_goes E t v1 v2 v3 G = some q) : gMet l E D yX1_goes (ws_ yX1_goes cX1_goes 7 (none)) 220 7355 [.inr (.inr (some t)), .inr (.inr v1), .inl v2, .inr (.inr v3)] G none q := by
  refine gMet.of (by decide +kernel) (Nat.le_of_ble_eq_true rfl) ?_
  intro p e R s m args below meth c C hS ls hl
  have C : gC p R s m args meth c cX1_goes 7 RX1 "goes" (none) 220 7355 E D := C
  obtain ⟨hx, hb, hml, hown, hts, hKn, hRc, hRs, hc1, hc2, hRf, hRl, hr, hlk, hnm⟩ := id C
  have hl : gls ls 7 [(0, .inr (.inr (some t))), (1, .inr (.inr v1)), (2, .inl v2), (3, .inr (.inr v3))] := hl
  generalize s.heap = H at hS ⊢
  unfold fX1_goes at h
  refine g_aload_n hx hb hl 3 rfl dX1_goes_0 ?_
  refine g_astore (l1 := [(4, .inr (.inr v3)), (0, .inr (.inr (some t))), (1, .inr (.inr v1)), (2, .inl v2), (3, .inr (.inr v3))]) hx hb hl (by decide) rfl dX1_goes_1 (fun ls hl => ?_)
  refine lv_iconst (v := 1) hx hb dX1_goes_3 (by decide) ?_
  refine g_istore (l1 := [(5, .inl 1), (4, .inr (.inr v3)), (0, .inr (.inr (some t))), (1, .inr (.inr v1)), (2, .inl v2), (3, .inr (.inr v3))]) hx hb hl (by decide) rfl dX1_goes_4 (fun ls hl => ?_)
  exact sX1_goes_b6 C gFU _ _ _ _ _ _ _ h _ _ _ _ _ hS (gls_sub hl [2, 3, 4, 1, 0] rfl)
/-- SendHall.of(II)I -/
def fX1_of_b45 (E : g_E) (t : Nat) (v1 : Int32) (v2 : Int32) (s0 : Int32) (G : g_G) : Option (Int32 × g_G) :=
  (fX1_there E s0 G).bind fun z45 =>
  if v2 = 0 then (
    (grR z45 1 1 (some t) 28).bind fun x93 =>
    (gaI z45 100 x93 v1).bind fun x97 =>
    some (x97, z45))
  else
  if v2 = 1 then (
    (grR z45 1 1 (some t) 29).bind fun x100 =>
    (gaI z45 100 x100 v1).bind fun x104 =>
    some (x104, z45))
  else
  if v2 = 2 then (
    (grR z45 1 1 (some t) 20).bind fun x107 =>
    (gchk z45 3 x107).bind fun b111 =>
    (fX3_hasEnded E b111 v1 z45).bind fun z111 =>
    if z111.1 = 0 then (
      (grR z111.2 1 1 (some t) 20).bind fun x122 =>
      (grR z111.2 3 3 x122 3).bind fun x125 =>
      (gaR z111.2 122 x125 v1).bind fun x129 =>
      (grI z111.2 11 16 x129 1).bind fun x130 =>
      some (x130, z111.2))
    else (
      some ((-1), z111.2)))
  else
  if v2 = 3 then (
    (grR z45 1 1 (some t) 20).bind fun x135 =>
    (grR z45 3 3 x135 7).bind fun x138 =>
    (gaI z45 100 x138 v1).bind fun x142 =>
    some (x142, z45))
  else
  if v2 = 4 then (
    (grR z45 1 1 (some t) 20).bind fun x145 =>
    (grR z45 3 3 x145 6).bind fun x148 =>
    (gaI z45 100 x148 v1).bind fun x152 =>
    some (x152, z45))
  else
  if v2 = 5 then (
    (grR z45 1 1 (some t) 20).bind fun x156 =>
    (gchk z45 1 (some t)).bind fun b160 =>
    (fX1_waitsFor E b160 x156 v1 z45).bind fun z160 =>
    some (z160.1, z160.2))
  else
  if v2 = 6 then (
    (grR z45 1 1 (some t) 20).bind fun x165 =>
    (grR z45 3 3 x165 4).bind fun x168 =>
    (gaI z45 102 x168 v1).bind fun x172 =>
    if x172 = 0 then (
      some (0, z45))
    else (
      some (1, z45)))
  else
  (
    (grR z45 1 1 (some t) 20).bind fun x183 =>
    (grR z45 3 3 x183 5).bind fun x186 =>
    (gaI z45 100 x186 (((4 * v1) + v2) - 8)).bind fun x197 =>
    some (x197, z45))
def fX1_of_b44 (E : g_E) (t : Nat) (v1 : Int32) (v2 : Int32) (G : g_G) : Option (Int32 × g_G) :=
  fX1_of_b45 E t v1 v2 0 G
def fX1_of_b33 (E : g_E) (t : Nat) (v1 : Int32) (v2 : Int32) (G : g_G) : Option (Int32 × g_G) :=
  (grI G 1 1 (some t) 21).bind fun x34 =>
  if x34 = 0 then (
    fX1_of_b44 E t v1 v2 G)
  else (
    fX1_of_b45 E t v1 v2 1 G)
def fX1_of (E : g_E) (t : Nat) (v1 : Int32) (v2 : Int32) (G : g_G) : Option (Int32 × g_G) :=
  if v1 < 0 then (
    fX1_of_b44 E t v1 v2 G)
  else (
    (grI G 1 1 (some t) 0).bind fun x6 =>
    if x6 ≤ v1 then (
      fX1_of_b44 E t v1 v2 G)
    else (
      (fX1_within E v2 0 6 G).bind fun z16 =>
      if ¬ z16.1 = 0 then (
        fX1_of_b33 E t v1 v2 z16.2)
      else (
        (fX1_within E v2 8 11 z16.2).bind fun z27 =>
        if z27.1 = 0 then (
          fX1_of_b44 E t v1 v2 z27.2)
        else (
          fX1_of_b33 E t v1 v2 z27.2))))
theorem sX1_of_b45 {p : Program} {l : Launch} {e : Env} {R : Room} {s : State} {m : MethodId} {args : Array Value} {below : List Frame} {meth : Method} {c : Code} {E : g_E} {D : g_D} (C : gC p R s m args meth c cX1_of 3 RX1 "of" (some .int) 220 7351 E D) : ∀ (t : Nat) (v1 : Int32) (v2 : Int32) (s0 : Int32) (G : g_G) (q : Int32 × g_G), fX1_of_b45 E t v1 v2 s0 G = some q → ∀ (H : Heap) (locs : List Loc) (cells slots : Nat) (ls : Array Slot), gSt E D G H locs → gls ls 3 [(0, .inr (.inr (some t))), (1, .inl v1), (2, .inl v2)] → gT p l e R s m args below meth c E D H locs cells slots (some (.int q.1)) q.2 (F0 m 45 ls [.int s0]) := by
  obtain ⟨hx, hb, hml, hown, hts, hKn, hRc, hRs, hc1, hc2, hRf, hRl, hr, hlk, hnm⟩ := id C
  intro t v1 v2 s0 G q h H locs cells slots ls hS hl
  unfold fX1_of_b45 at h
  obtain ⟨z45, h45, h⟩ := g_bnd h
  refine g_callS (n := 1) (av := [.inl s0]) (rs := []) hx hb hml hown hts hKn hRc hRs hS hl (sX1_there l E D h45) (lw_S q1721 q1722 q113 q1723) ⟨by decide, by decide, by decide +kernel⟩ ⟨by rw [hRf]; exact Nat.le_of_ble_eq_true rfl, by rw [hRl]; exact Nat.le_of_ble_eq_true rfl⟩ rfl rfl (Nat.le_of_ble_eq_true rfl) dX1_of_45 (fun H locs cells slots hS => ?_)
  refine g_iload_n hx hb hl 2 rfl dX1_of_48 ?_
  by_cases w49_0 : v2 = 0
  · refine lv_tableIn (tgt := 92) (off := 43) hx hb dX1_of_49 (by rw [w49_0]; decide) (by rw [w49_0]; decide) (by rw [w49_0]; decide) (by decide) ?_
    have h := g_ift w49_0 h
    refine g_aload_n hx hb hl 0 rfl dX1_of_92 ?_
    refine g_rdR hx hb hown hts hKn hS h fd_1_1_28 rfl (Or.inl (hts _ q625)) (fun _ z => z) dX1_of_93 (fun x93 h => ?_)
    refine g_iload_n hx hb hl 1 rfl dX1_of_96 ?_
    refine g_ialoadG hx hb hKn hS h dX1_of_97 (fun x97 h => ?_)
    exact g_iretG hx hb hr hlk hKn hRc hRs hS h dX1_of_98
  have h := g_iff w49_0 h
  by_cases w49_1 : v2 = 1
  · refine lv_tableIn (tgt := 99) (off := 50) hx hb dX1_of_49 (by rw [w49_1]; decide) (by rw [w49_1]; decide) (by rw [w49_1]; decide) (by decide) ?_
    have h := g_ift w49_1 h
    refine g_aload_n hx hb hl 0 rfl dX1_of_99 ?_
    refine g_rdR hx hb hown hts hKn hS h fd_1_1_29 rfl (Or.inl (hts _ q626)) (fun _ z => z) dX1_of_100 (fun x100 h => ?_)
    refine g_iload_n hx hb hl 1 rfl dX1_of_103 ?_
    refine g_ialoadG hx hb hKn hS h dX1_of_104 (fun x104 h => ?_)
    exact g_iretG hx hb hr hlk hKn hRc hRs hS h dX1_of_105
  have h := g_iff w49_1 h
  by_cases w49_2 : v2 = 2
  · refine lv_tableIn (tgt := 106) (off := 57) hx hb dX1_of_49 (by rw [w49_2]; decide) (by rw [w49_2]; decide) (by rw [w49_2]; decide) (by decide) ?_
    have h := g_ift w49_2 h
    refine g_aload_n hx hb hl 0 rfl dX1_of_106 ?_
    refine g_rdR hx hb hown hts hKn hS h fd_1_1_20 rfl (Or.inl (hts _ q617)) (fun _ z => z) dX1_of_107 (fun x107 h => ?_)
    refine g_iload_n hx hb hl 1 rfl dX1_of_110 ?_
    obtain ⟨b111, hb111, h⟩ := g_bnd h
    obtain ⟨hr111, hk111⟩ := g_chk hb111
    obtain ⟨z111, h111, h⟩ := g_bnd h
    refine g_callV (n := 1) (b := b111) (av := [.inl v1]) (rs := []) hx hb hml hown hts hKn hRc hRs hS hl (sX3_hasEnded l E D h111) (lw_V q848 q849 q850 q134 q851) ⟨rfl, by decide, by decide, by decide +kernel⟩ ⟨by rw [hRf]; exact Nat.le_of_ble_eq_true rfl, by rw [hRl]; exact Nat.le_of_ble_eq_true rfl⟩ (g_recv hKn hS hk111 (by decide) (by decide)) rfl (by rw [hr111]; rfl) (Nat.le_of_ble_eq_true rfl) dX1_of_111 (fun H locs cells slots hS => ?_)
    refine lv_if_eq (tgt := 121) hx hb dX1_of_114 (by decide) (fun c_114 => ?_) (fun c_114 => ?_)
    · have h := g_ift c_114 h
      refine g_aload_n hx hb hl 0 rfl dX1_of_121 ?_
      refine g_rdR hx hb hown hts hKn hS h fd_1_1_20 rfl (Or.inl (hts _ q617)) (fun _ z => z) dX1_of_122 (fun x122 h => ?_)
      refine g_rdR hx hb hown hts hKn hS h fd_3_3_3 rfl (Or.inr ⟨_, gNest_use rfl (hKn.2.2.2.2.1 _ (gNest_in q545 rfl))⟩) (fun _ z => z) dX1_of_125 (fun x125 h => ?_)
      refine g_iload_n hx hb hl 1 rfl dX1_of_128 ?_
      refine g_aaloadG hx hb hKn hS h (by decide) dX1_of_129 (fun x129 h => ?_)
      refine g_rdI hx hb hown hts hKn hS h fd_11_16_1 rfl (Or.inl (hts _ q1428)) (fun _ z => z) dX1_of_130 (fun x130 h => ?_)
      exact g_iretG hx hb hr hlk hKn hRc hRs hS h dX1_of_133
    · have h := g_iff c_114 h
      refine lv_iconst (v := (-1)) hx hb dX1_of_117 (by decide) ?_
      refine lv_goto (tgt := 133) hx hb dX1_of_118 (by decide) ?_
      exact g_iretG hx hb hr hlk hKn hRc hRs hS h dX1_of_133
  have h := g_iff w49_2 h
  by_cases w49_3 : v2 = 3
  · refine lv_tableIn (tgt := 134) (off := 85) hx hb dX1_of_49 (by rw [w49_3]; decide) (by rw [w49_3]; decide) (by rw [w49_3]; decide) (by decide) ?_
    have h := g_ift w49_3 h
    refine g_aload_n hx hb hl 0 rfl dX1_of_134 ?_
    refine g_rdR hx hb hown hts hKn hS h fd_1_1_20 rfl (Or.inl (hts _ q617)) (fun _ z => z) dX1_of_135 (fun x135 h => ?_)
    refine g_rdR hx hb hown hts hKn hS h fd_3_3_7 rfl (Or.inr ⟨_, gNest_use rfl (hKn.2.2.2.2.1 _ (gNest_in q559 rfl))⟩) (fun _ z => z) dX1_of_138 (fun x138 h => ?_)
    refine g_iload_n hx hb hl 1 rfl dX1_of_141 ?_
    refine g_ialoadG hx hb hKn hS h dX1_of_142 (fun x142 h => ?_)
    exact g_iretG hx hb hr hlk hKn hRc hRs hS h dX1_of_143
  have h := g_iff w49_3 h
  by_cases w49_4 : v2 = 4
  · refine lv_tableIn (tgt := 144) (off := 95) hx hb dX1_of_49 (by rw [w49_4]; decide) (by rw [w49_4]; decide) (by rw [w49_4]; decide) (by decide) ?_
    have h := g_ift w49_4 h
    refine g_aload_n hx hb hl 0 rfl dX1_of_144 ?_
    refine g_rdR hx hb hown hts hKn hS h fd_1_1_20 rfl (Or.inl (hts _ q617)) (fun _ z => z) dX1_of_145 (fun x145 h => ?_)
    refine g_rdR hx hb hown hts hKn hS h fd_3_3_6 rfl (Or.inr ⟨_, gNest_use rfl (hKn.2.2.2.2.1 _ (gNest_in q555 rfl))⟩) (fun _ z => z) dX1_of_148 (fun x148 h => ?_)
    refine g_iload_n hx hb hl 1 rfl dX1_of_151 ?_
    refine g_ialoadG hx hb hKn hS h dX1_of_152 (fun x152 h => ?_)
    exact g_iretG hx hb hr hlk hKn hRc hRs hS h dX1_of_153
  have h := g_iff w49_4 h
  by_cases w49_5 : v2 = 5
  · refine lv_tableIn (tgt := 154) (off := 105) hx hb dX1_of_49 (by rw [w49_5]; decide) (by rw [w49_5]; decide) (by rw [w49_5]; decide) (by decide) ?_
    have h := g_ift w49_5 h
    refine g_aload_n hx hb hl 0 rfl dX1_of_154 ?_
    refine g_aload_n hx hb hl 0 rfl dX1_of_155 ?_
    refine g_rdR hx hb hown hts hKn hS h fd_1_1_20 rfl (Or.inl (hts _ q617)) (fun _ z => z) dX1_of_156 (fun x156 h => ?_)
    refine g_iload_n hx hb hl 1 rfl dX1_of_159 ?_
    obtain ⟨b160, hb160, h⟩ := g_bnd h
    obtain ⟨hr160, hk160⟩ := g_chk hb160
    obtain ⟨z160, h160, h⟩ := g_bnd h
    refine g_callV (n := 2) (b := b160) (av := [.inr (.inr x156), .inl v1]) (rs := []) hx hb hml hown hts hKn hRc hRs hS hl (sX1_waitsFor l E D h160) (lw_V q1806 q1808 qs47 q113 q1809) ⟨rfl, by decide, by decide, by decide +kernel⟩ ⟨by rw [hRf]; exact Nat.le_of_ble_eq_true rfl, by rw [hRl]; exact Nat.le_of_ble_eq_true rfl⟩ (g_recv hKn hS hk160 (by decide) (by decide)) rfl (by rw [hr160]; rfl) (Nat.le_of_ble_eq_true rfl) dX1_of_160 (fun H locs cells slots hS => ?_)
    exact g_iretG hx hb hr hlk hKn hRc hRs hS h dX1_of_163
  have h := g_iff w49_5 h
  by_cases w49_6 : v2 = 6
  · refine lv_tableIn (tgt := 164) (off := 115) hx hb dX1_of_49 (by rw [w49_6]; decide) (by rw [w49_6]; decide) (by rw [w49_6]; decide) (by decide) ?_
    have h := g_ift w49_6 h
    refine g_aload_n hx hb hl 0 rfl dX1_of_164 ?_
    refine g_rdR hx hb hown hts hKn hS h fd_1_1_20 rfl (Or.inl (hts _ q617)) (fun _ z => z) dX1_of_165 (fun x165 h => ?_)
    refine g_rdR hx hb hown hts hKn hS h fd_3_3_4 rfl (Or.inr ⟨_, gNest_use rfl (hKn.2.2.2.2.1 _ (gNest_in q547 rfl))⟩) (fun _ z => z) dX1_of_168 (fun x168 h => ?_)
    refine g_iload_n hx hb hl 1 rfl dX1_of_171 ?_
    refine g_zaloadG hx hb hKn hS h dX1_of_172 (fun x172 h => ?_)
    refine lv_if_eq (tgt := 180) hx hb dX1_of_173 (by decide) (fun c_173 => ?_) (fun c_173 => ?_)
    · have h := g_ift c_173 h
      refine lv_iconst (v := 0) hx hb dX1_of_180 (by decide) ?_
      exact g_iretG hx hb hr hlk hKn hRc hRs hS h dX1_of_181
    · have h := g_iff c_173 h
      refine lv_iconst (v := 1) hx hb dX1_of_176 (by decide) ?_
      refine lv_goto (tgt := 181) hx hb dX1_of_177 (by decide) ?_
      exact g_iretG hx hb hr hlk hKn hRc hRs hS h dX1_of_181
  have h := g_iff w49_6 h
  refine g_tableD (tgt := 182) hx hb dX1_of_49 (by decide) [0, 1, 2, 3, 4, 5, 6] (by decide) (fun k hk => ?_) ?_
  · simp only [List.mem_cons, List.not_mem_nil, or_false] at hk
    rcases hk with rfl | rfl | rfl | rfl | rfl | rfl | rfl
    · exact w49_0
    · exact w49_1
    · exact w49_2
    · exact w49_3
    · exact w49_4
    · exact w49_5
    · exact w49_6
  refine g_aload_n hx hb hl 0 rfl dX1_of_182 ?_
  refine g_rdR hx hb hown hts hKn hS h fd_1_1_20 rfl (Or.inl (hts _ q617)) (fun _ z => z) dX1_of_183 (fun x183 h => ?_)
  refine g_rdR hx hb hown hts hKn hS h fd_3_3_5 rfl (Or.inr ⟨_, gNest_use rfl (hKn.2.2.2.2.1 _ (gNest_in q553 rfl))⟩) (fun _ z => z) dX1_of_186 (fun x186 h => ?_)
  refine lv_iconst (v := 4) hx hb dX1_of_189 (by decide) ?_
  refine g_iload_n hx hb hl 1 rfl dX1_of_190 ?_
  refine lv_imul hx hb dX1_of_191 ?_
  refine g_iload_n hx hb hl 2 rfl dX1_of_192 ?_
  refine lv_iadd hx hb dX1_of_193 ?_
  refine lv_bipush (v := 8) hx hb dX1_of_194 (by decide) ?_
  refine lv_isub hx hb dX1_of_196 ?_
  refine g_ialoadG hx hb hKn hS h dX1_of_197 (fun x197 h => ?_)
  exact g_iretG hx hb hr hlk hKn hRc hRs hS h dX1_of_198
theorem sX1_of_b44 {p : Program} {l : Launch} {e : Env} {R : Room} {s : State} {m : MethodId} {args : Array Value} {below : List Frame} {meth : Method} {c : Code} {E : g_E} {D : g_D} (C : gC p R s m args meth c cX1_of 3 RX1 "of" (some .int) 220 7351 E D) : ∀ (t : Nat) (v1 : Int32) (v2 : Int32) (G : g_G) (q : Int32 × g_G), fX1_of_b44 E t v1 v2 G = some q → ∀ (H : Heap) (locs : List Loc) (cells slots : Nat) (ls : Array Slot), gSt E D G H locs → gls ls 3 [(0, .inr (.inr (some t))), (1, .inl v1), (2, .inl v2)] → gT p l e R s m args below meth c E D H locs cells slots (some (.int q.1)) q.2 (F0 m 44 ls []) := by
  obtain ⟨hx, hb, hml, hown, hts, hKn, hRc, hRs, hc1, hc2, hRf, hRl, hr, hlk, hnm⟩ := id C
  intro t v1 v2 G q h H locs cells slots ls hS hl
  unfold fX1_of_b44 at h
  refine lv_iconst (v := 0) hx hb dX1_of_44 (by decide) ?_
  exact sX1_of_b45 C _ _ _ _ _ _ h _ _ _ _ _ hS (gls_sub hl [0, 1, 2] rfl)
theorem sX1_of_b33 {p : Program} {l : Launch} {e : Env} {R : Room} {s : State} {m : MethodId} {args : Array Value} {below : List Frame} {meth : Method} {c : Code} {E : g_E} {D : g_D} (C : gC p R s m args meth c cX1_of 3 RX1 "of" (some .int) 220 7351 E D) : ∀ (t : Nat) (v1 : Int32) (v2 : Int32) (G : g_G) (q : Int32 × g_G), fX1_of_b33 E t v1 v2 G = some q → ∀ (H : Heap) (locs : List Loc) (cells slots : Nat) (ls : Array Slot), gSt E D G H locs → gls ls 3 [(0, .inr (.inr (some t))), (1, .inl v1), (2, .inl v2)] → gT p l e R s m args below meth c E D H locs cells slots (some (.int q.1)) q.2 (F0 m 33 ls []) := by
  obtain ⟨hx, hb, hml, hown, hts, hKn, hRc, hRs, hc1, hc2, hRf, hRl, hr, hlk, hnm⟩ := id C
  intro t v1 v2 G q h H locs cells slots ls hS hl
  unfold fX1_of_b33 at h
  refine g_aload_n hx hb hl 0 rfl dX1_of_33 ?_
  refine g_rdI hx hb hown hts hKn hS h fd_1_1_21 rfl (Or.inl (hts _ q618)) (fun _ z => z) dX1_of_34 (fun x34 h => ?_)
  refine lv_if_eq (tgt := 44) hx hb dX1_of_37 (by decide) (fun c_37 => ?_) (fun c_37 => ?_)
  · have h := g_ift c_37 h
    exact sX1_of_b44 C _ _ _ _ _ h _ _ _ _ _ hS (gls_sub hl [0, 1, 2] rfl)
  · have h := g_iff c_37 h
    refine lv_iconst (v := 1) hx hb dX1_of_40 (by decide) ?_
    refine lv_goto (tgt := 45) hx hb dX1_of_41 (by decide) ?_
    exact sX1_of_b45 C _ _ _ _ _ _ h _ _ _ _ _ hS (gls_sub hl [0, 1, 2] rfl)
theorem sX1_of (l : Launch) (E : g_E) (D : g_D) {t : Nat} {v1 : Int32} {v2 : Int32} {G : g_G} {q : Int32 × g_G} (h : fX1_of E t v1 v2 G = some q) : gMet l E D yX1_of (ws_ yX1_of cX1_of 3 (some .int)) 220 7351 [.inr (.inr (some t)), .inl v1, .inl v2] G (some (.int q.1)) q.2 := by
  refine gMet.of (by decide +kernel) (Nat.le_of_ble_eq_true rfl) ?_
  intro p e R s m args below meth c C hS ls hl
  have C : gC p R s m args meth c cX1_of 3 RX1 "of" (some .int) 220 7351 E D := C
  obtain ⟨hx, hb, hml, hown, hts, hKn, hRc, hRs, hc1, hc2, hRf, hRl, hr, hlk, hnm⟩ := id C
  have hl : gls ls 3 [(0, .inr (.inr (some t))), (1, .inl v1), (2, .inl v2)] := hl
  generalize s.heap = H at hS ⊢
  unfold fX1_of at h
  refine g_iload_n hx hb hl 1 rfl dX1_of_0 ?_
  refine lv_if_lt (tgt := 44) hx hb dX1_of_1 (by decide) (fun c_1 => ?_) (fun c_1 => ?_)
  · have h := g_ift c_1 h
    exact sX1_of_b44 C _ _ _ _ _ h _ _ _ _ _ hS (gls_sub hl [0, 1, 2] rfl)
  · have h := g_iff c_1 h
    refine g_iload_n hx hb hl 1 rfl dX1_of_4 ?_
    refine g_aload_n hx hb hl 0 rfl dX1_of_5 ?_
    refine g_rdI hx hb hown hts hKn hS h fd_1_1_0 rfl (Or.inl (hts _ q597)) (fun _ z => z) dX1_of_6 (fun x6 h => ?_)
    refine lv_icmp_ge (tgt := 44) hx hb dX1_of_9 (by decide) (fun c_9 => ?_) (fun c_9 => ?_)
    · have h := g_ift c_9 h
      exact sX1_of_b44 C _ _ _ _ _ h _ _ _ _ _ hS (gls_sub hl [0, 1, 2] rfl)
    · have h := g_iff c_9 h
      refine g_iload_n hx hb hl 2 rfl dX1_of_12 ?_
      refine lv_iconst (v := 0) hx hb dX1_of_13 (by decide) ?_
      refine lv_bipush (v := 6) hx hb dX1_of_14 (by decide) ?_
      obtain ⟨z16, h16, h⟩ := g_bnd h
      refine g_callS (n := 3) (av := [.inl v2, .inl 0, .inl 6]) (rs := []) hx hb hml hown hts hKn hRc hRs hS hl (sX1_within l E D h16) (lw_S q713 q714 q113 q715) ⟨by decide, by decide, by decide +kernel⟩ ⟨by rw [hRf]; exact Nat.le_of_ble_eq_true rfl, by rw [hRl]; exact Nat.le_of_ble_eq_true rfl⟩ rfl rfl (Nat.le_of_ble_eq_true rfl) dX1_of_16 (fun H locs cells slots hS => ?_)
      refine lv_if_ne (tgt := 33) hx hb dX1_of_19 (by decide) (fun c_19 => ?_) (fun c_19 => ?_)
      · have h := g_ift c_19 h
        exact sX1_of_b33 C _ _ _ _ _ h _ _ _ _ _ hS (gls_sub hl [0, 1, 2] rfl)
      · have h := g_iff (fun z => z c_19) h
        refine g_iload_n hx hb hl 2 rfl dX1_of_22 ?_
        refine lv_bipush (v := 8) hx hb dX1_of_23 (by decide) ?_
        refine lv_bipush (v := 11) hx hb dX1_of_25 (by decide) ?_
        obtain ⟨z27, h27, h⟩ := g_bnd h
        refine g_callS (n := 3) (av := [.inl v2, .inl 8, .inl 11]) (rs := []) hx hb hml hown hts hKn hRc hRs hS hl (sX1_within l E D h27) (lw_S q713 q714 q113 q715) ⟨by decide, by decide, by decide +kernel⟩ ⟨by rw [hRf]; exact Nat.le_of_ble_eq_true rfl, by rw [hRl]; exact Nat.le_of_ble_eq_true rfl⟩ rfl rfl (Nat.le_of_ble_eq_true rfl) dX1_of_27 (fun H locs cells slots hS => ?_)
        refine lv_if_eq (tgt := 44) hx hb dX1_of_30 (by decide) (fun c_30 => ?_) (fun c_30 => ?_)
        · have h := g_ift c_30 h
          exact sX1_of_b44 C _ _ _ _ _ h _ _ _ _ _ hS (gls_sub hl [0, 1, 2] rfl)
        · have h := g_iff c_30 h
          exact sX1_of_b33 C _ _ _ _ _ h _ _ _ _ _ hS (gls_sub hl [0, 1, 2] rfl)
