set_option maxRecDepth 100000
/-- SendHall.waitsFor(LSendHall$Life;I)I -/
def fX1_waitsFor_b160 (E : g_E) (k124 : (Option Nat) → Int32 → Int32 → Int32 → g_G → Option (Int32 × g_G)) (v1 : Option Nat) (v2 : Int32) (v4 : Int32) (v5 : Int32) (G : g_G) : Option (Int32 × g_G) :=
  k124 v1 v2 v4 (v5 + 1) G
def fX1_waitsFor_b124 (E : g_E) : Nat → (Option Nat) → Int32 → Int32 → Int32 → g_G → Option (Int32 × g_G)
  | 0, _, _, _, _, _ => none
  | n + 1, v1, v2, v4, v5, G =>
    (grI G 3 3 v1 0).bind fun x127 =>
    if x127 ≤ v5 then (
      some (v4, G))
    else (
      (grR G 3 3 v1 3).bind fun x137 =>
      (gaR G 122 x137 v2).bind fun x141 =>
      (grI G 11 16 x141 0).bind fun x142 =>
      (gchk G 3 v1).bind fun b145 =>
      (fX3_isAt E b145 v5 x142 G).bind fun z145 =>
      if ¬ z145.1 = 0 then (
        fX1_waitsFor_b160 E (fX1_waitsFor_b124 E n) v1 v2 v4 v5 z145.2)
      else (
        fX1_waitsFor_b160 E (fX1_waitsFor_b124 E n) v1 v2 (v4 ||| (1 <<< (v5 &&& 31))) v5 z145.2))
def fX1_waitsFor (E : g_E) (t : Nat) (v1 : Option Nat) (v2 : Int32) (G : g_G) : Option (Int32 × g_G) :=
  (gchk G 3 v1).bind fun b2 =>
  (fX3_hasEnded E b2 v2 G).bind fun z2 =>
  if ¬ z2.1 = 0 then (
    some (0, z2.2))
  else (
    (grR z2.2 3 3 v1 4).bind fun x9 =>
    (gaI z2.2 102 x9 v2).bind fun x13 =>
    if x13 = 0 then (
      (gchk z2.2 3 v1).bind fun b20 =>
      (fX3_bits E b20 z2.2).bind fun z20 =>
      (grR z20.2 3 3 v1 3).bind fun x31 =>
      (gaR z20.2 122 x31 v2).bind fun x35 =>
      (grI z20.2 11 16 x35 0).bind fun x36 =>
      if x36 = 0 then (
        (grR z20.2 3 3 v1 3).bind fun x78 =>
        (gaR z20.2 122 x78 v2).bind fun x82 =>
        (gcast z20.2 15 15 x82).bind fun x83 =>
        (gchk z20.2 15 x83).bind fun b88 =>
        (fX9_to E b88 v1 v2 z20.2).bind fun z88 =>
        some ((1 <<< (z88.1 &&& 31)), z88.2))
      else
      if x36 = 1 then (
        (grR z20.2 3 3 v1 3).bind fun x78 =>
        (gaR z20.2 122 x78 v2).bind fun x82 =>
        (gcast z20.2 15 15 x82).bind fun x83 =>
        (gchk z20.2 15 x83).bind fun b88 =>
        (fX9_to E b88 v1 v2 z20.2).bind fun z88 =>
        some ((1 <<< (z88.1 &&& 31)), z88.2))
      else
      if x36 = 2 then (
        (grR z20.2 3 3 v1 3).bind fun x78 =>
        (gaR z20.2 122 x78 v2).bind fun x82 =>
        (gcast z20.2 15 15 x82).bind fun x83 =>
        (gchk z20.2 15 x83).bind fun b88 =>
        (fX9_to E b88 v1 v2 z20.2).bind fun z88 =>
        some ((1 <<< (z88.1 &&& 31)), z88.2))
      else
      if x36 = 3 then (
        (grR z20.2 3 3 v1 3).bind fun x95 =>
        (gaR z20.2 122 x95 v2).bind fun x99 =>
        (gcast z20.2 16 16 x99).bind fun x100 =>
        (gchk z20.2 16 x100).bind fun b105 =>
        (fX13_of E b105 v1 v2 z20.2).bind fun z105 =>
        some ((1 <<< (z105.1 &&& 31)), z105.2))
      else
      if x36 = 4 then (
        some ((z20.1 &&& ((1 <<< (v2 &&& 31)) ^^^ (-1))), z20.2))
      else
      if x36 = 5 then (
        (gchk z20.2 3 v1).bind fun b114 =>
        (fX3_begun E b114 v2 z20.2).bind fun z114 =>
        some (z114.1, z114.2))
      else
      (
        fX1_waitsFor_b124 E gFU v1 v2 0 0 z20.2))
    else (
      some (0, z2.2)))
theorem sX1_waitsFor_b160 {p : Program} {l : Launch} {e : Env} {R : Room} {s : State} {m : MethodId} {args : Array Value} {below : List Frame} {meth : Method} {c : Code} {E : g_E} {D : g_D} (C : gC p R s m args meth c cX1_waitsFor 6 RX1 "waitsFor" (some .int) 219 7326 E D) {k124 : (Option Nat) → Int32 → Int32 → Int32 → g_G → Option (Int32 × g_G)} (hk124 : ∀ (v1 : Option Nat) (v2 : Int32) (v4 : Int32) (v5 : Int32) (G : g_G) (q : Int32 × g_G), k124 v1 v2 v4 v5 G = some q → ∀ (H : Heap) (locs : List Loc) (cells slots : Nat) (ls : Array Slot), gSt E D G H locs → gls ls 6 [(1, .inr (.inr v1)), (2, .inl v2), (4, .inl v4), (5, .inl v5)] → gT p l e R s m args below meth c E D H locs cells slots (some (.int q.1)) q.2 (F0 m 124 ls [])) : ∀ (v1 : Option Nat) (v2 : Int32) (v4 : Int32) (v5 : Int32) (G : g_G) (q : Int32 × g_G), fX1_waitsFor_b160 E k124 v1 v2 v4 v5 G = some q → ∀ (H : Heap) (locs : List Loc) (cells slots : Nat) (ls : Array Slot), gSt E D G H locs → gls ls 6 [(1, .inr (.inr v1)), (2, .inl v2), (4, .inl v4), (5, .inl v5)] → gT p l e R s m args below meth c E D H locs cells slots (some (.int q.1)) q.2 (F0 m 160 ls []) := by
  obtain ⟨hx, hb, hml, hown, hts, hKn, hRc, hRs, hc1, hc2, hRf, hRl, hr, hlk, hnm⟩ := id C
  intro v1 v2 v4 v5 G q h H locs cells slots ls hS hl
  unfold fX1_waitsFor_b160 at h
  refine g_iinc (l1 := [(5, .inl (v5 + 1)), (1, .inr (.inr v1)), (2, .inl v2), (4, .inl v4)]) (v := (v5 + 1)) hx hb hl (k := 3) rfl (by rfl) (by decide) rfl dX1_waitsFor_160 (fun ls hl => ?_)
  refine lv_goto (tgt := 124) hx hb dX1_waitsFor_163 (by decide) ?_
  exact hk124 _ _ _ _ _ _ h _ _ _ _ _ hS (gls_sub hl [1, 2, 3, 0] rfl)
theorem sX1_waitsFor_b124 {p : Program} {l : Launch} {e : Env} {R : Room} {s : State} {m : MethodId} {args : Array Value} {below : List Frame} {meth : Method} {c : Code} {E : g_E} {D : g_D} (C : gC p R s m args meth c cX1_waitsFor 6 RX1 "waitsFor" (some .int) 219 7326 E D) : ∀ (n : Nat) (v1 : Option Nat) (v2 : Int32) (v4 : Int32) (v5 : Int32) (G : g_G) (q : Int32 × g_G), fX1_waitsFor_b124 E n v1 v2 v4 v5 G = some q → ∀ (H : Heap) (locs : List Loc) (cells slots : Nat) (ls : Array Slot), gSt E D G H locs → gls ls 6 [(1, .inr (.inr v1)), (2, .inl v2), (4, .inl v4), (5, .inl v5)] → gT p l e R s m args below meth c E D H locs cells slots (some (.int q.1)) q.2 (F0 m 124 ls []) := by
  obtain ⟨hx, hb, hml, hown, hts, hKn, hRc, hRs, hc1, hc2, hRf, hRl, hr, hlk, hnm⟩ := id C
  intro n
  induction n with
  | zero =>
    intro v1 v2 v4 v5 G q h
    exact g_no h
  | succ n ih =>
    intro v1 v2 v4 v5 G q h H locs cells slots ls hS hl
    rw [fX1_waitsFor_b124] at h
    refine g_iload hx hb hl 3 rfl dX1_waitsFor_124 ?_
    refine g_aload_n hx hb hl 0 rfl dX1_waitsFor_126 ?_
    refine g_rdI hx hb hown hts hKn hS h fd_3_3_0 rfl (Or.inr ⟨_, gNest_use rfl (hKn.2.2.2.2.1 _ (gNest_in q537 rfl))⟩) (fun _ z => z) dX1_waitsFor_127 (fun x127 h => ?_)
    refine lv_icmp_ge (tgt := 166) hx hb dX1_waitsFor_130 (by decide) (fun c_130 => ?_) (fun c_130 => ?_)
    · have h := g_ift c_130 h
      refine g_iload hx hb hl 2 rfl dX1_waitsFor_166 ?_
      exact g_iretG hx hb hr hlk hKn hRc hRs hS h dX1_waitsFor_168
    · have h := g_iff c_130 h
      refine g_aload_n hx hb hl 0 rfl dX1_waitsFor_133 ?_
      refine g_iload hx hb hl 3 rfl dX1_waitsFor_134 ?_
      refine g_aload_n hx hb hl 0 rfl dX1_waitsFor_136 ?_
      refine g_rdR hx hb hown hts hKn hS h fd_3_3_3 rfl (Or.inr ⟨_, gNest_use rfl (hKn.2.2.2.2.1 _ (gNest_in q545 rfl))⟩) (fun _ z => z) dX1_waitsFor_137 (fun x137 h => ?_)
      refine g_iload_n hx hb hl 1 rfl dX1_waitsFor_140 ?_
      refine g_aaloadG hx hb hKn hS h (by decide) dX1_waitsFor_141 (fun x141 h => ?_)
      refine g_rdI hx hb hown hts hKn hS h fd_11_16_0 rfl (Or.inl (hts _ q1422)) (fun _ z => z) dX1_waitsFor_142 (fun x142 h => ?_)
      obtain ⟨b145, hb145, h⟩ := g_bnd h
      obtain ⟨hr145, hk145⟩ := g_chk hb145
      obtain ⟨z145, h145, h⟩ := g_bnd h
      refine g_callV (n := 2) (b := b145) (av := [.inl v5, .inl x142]) (rs := []) hx hb hml hown hts hKn hRc hRs hS hl (sX3_isAt l E D h145) (lw_V q874 q875 q876 q134 q877) ⟨rfl, by decide, by decide, by decide +kernel⟩ ⟨by rw [hRf]; exact Nat.le_of_ble_eq_true rfl, by rw [hRl]; exact Nat.le_of_ble_eq_true rfl⟩ (g_recv hKn hS hk145 (by decide) (by decide)) rfl (by rw [hr145]; rfl) (Nat.le_of_ble_eq_true rfl) dX1_waitsFor_145 (fun H locs cells slots hS => ?_)
      refine lv_if_ne (tgt := 160) hx hb dX1_waitsFor_148 (by decide) (fun c_148 => ?_) (fun c_148 => ?_)
      · have h := g_ift c_148 h
        exact sX1_waitsFor_b160 C ih _ _ _ _ _ _ h _ _ _ _ _ hS (gls_sub hl [0, 1, 2, 3] rfl)
      · have h := g_iff (fun z => z c_148) h
        refine g_iload hx hb hl 2 rfl dX1_waitsFor_151 ?_
        refine lv_iconst (v := 1) hx hb dX1_waitsFor_153 (by decide) ?_
        refine g_iload hx hb hl 3 rfl dX1_waitsFor_154 ?_
        refine lv_ishl hx hb dX1_waitsFor_156 ?_
        refine lv_ior hx hb dX1_waitsFor_157 ?_
        refine g_istore (l1 := [(4, .inl (v4 ||| (1 <<< (v5 &&& 31)))), (1, .inr (.inr v1)), (2, .inl v2), (5, .inl v5)]) hx hb hl (by decide) rfl dX1_waitsFor_158 (fun ls hl => ?_)
        exact sX1_waitsFor_b160 C ih _ _ _ _ _ _ h _ _ _ _ _ hS (gls_sub hl [1, 2, 0, 3] rfl)
theorem sX1_waitsFor (l : Launch) (E : g_E) (D : g_D) {t : Nat} {v1 : Option Nat} {v2 : Int32} {G : g_G} {q : Int32 × g_G} (h : fX1_waitsFor E t v1 v2 G = some q) : gMet l E D yX1_waitsFor (ws_ yX1_waitsFor cX1_waitsFor 6 (some .int)) 219 7326 [.inr (.inr (some t)), .inr (.inr v1), .inl v2] G (some (.int q.1)) q.2 := by
  refine gMet.of (by decide +kernel) (Nat.le_of_ble_eq_true rfl) ?_
  intro p e R s m args below meth c C hS ls hl
  have C : gC p R s m args meth c cX1_waitsFor 6 RX1 "waitsFor" (some .int) 219 7326 E D := C
  obtain ⟨hx, hb, hml, hown, hts, hKn, hRc, hRs, hc1, hc2, hRf, hRl, hr, hlk, hnm⟩ := id C
  have hl : gls ls 6 [(0, .inr (.inr (some t))), (1, .inr (.inr v1)), (2, .inl v2)] := hl
  generalize s.heap = H at hS ⊢
  unfold fX1_waitsFor at h
  refine g_aload_n hx hb hl 1 rfl dX1_waitsFor_0 ?_
  refine g_iload_n hx hb hl 2 rfl dX1_waitsFor_1 ?_
  obtain ⟨b2, hb2, h⟩ := g_bnd h
  obtain ⟨hr2, hk2⟩ := g_chk hb2
  obtain ⟨z2, h2, h⟩ := g_bnd h
  refine g_callV (n := 1) (b := b2) (av := [.inl v2]) (rs := []) hx hb hml hown hts hKn hRc hRs hS hl (sX3_hasEnded l E D h2) (lw_V q848 q849 q850 q134 q851) ⟨rfl, by decide, by decide, by decide +kernel⟩ ⟨by rw [hRf]; exact Nat.le_of_ble_eq_true rfl, by rw [hRl]; exact Nat.le_of_ble_eq_true rfl⟩ (g_recv hKn hS hk2 (by decide) (by decide)) rfl (by rw [hr2]; rfl) (Nat.le_of_ble_eq_true rfl) dX1_waitsFor_2 (fun H locs cells slots hS => ?_)
  refine lv_if_ne (tgt := 17) hx hb dX1_waitsFor_5 (by decide) (fun c_5 => ?_) (fun c_5 => ?_)
  · have h := g_ift c_5 h
    refine lv_iconst (v := 0) hx hb dX1_waitsFor_17 (by decide) ?_
    exact g_iretG hx hb hr hlk hKn hRc hRs hS h dX1_waitsFor_18
  · have h := g_iff (fun z => z c_5) h
    refine g_aload_n hx hb hl 1 rfl dX1_waitsFor_8 ?_
    refine g_rdR hx hb hown hts hKn hS h fd_3_3_4 rfl (Or.inr ⟨_, gNest_use rfl (hKn.2.2.2.2.1 _ (gNest_in q547 rfl))⟩) (fun _ z => z) dX1_waitsFor_9 (fun x9 h => ?_)
    refine g_iload_n hx hb hl 2 rfl dX1_waitsFor_12 ?_
    refine g_zaloadG hx hb hKn hS h dX1_waitsFor_13 (fun x13 h => ?_)
    refine lv_if_eq (tgt := 19) hx hb dX1_waitsFor_14 (by decide) (fun c_14 => ?_) (fun c_14 => ?_)
    · have h := g_ift c_14 h
      refine g_aload_n hx hb hl 1 rfl dX1_waitsFor_19 ?_
      obtain ⟨b20, hb20, h⟩ := g_bnd h
      obtain ⟨hr20, hk20⟩ := g_chk hb20
      obtain ⟨z20, h20, h⟩ := g_bnd h
      refine g_callV (n := 0) (b := b20) (av := []) (rs := []) hx hb hml hown hts hKn hRc hRs hS hl (sX3_bits l E D h20) (lw_V q994 q990 q991 q134 q992) ⟨rfl, by decide, by decide, by decide +kernel⟩ ⟨by rw [hRf]; exact Nat.le_of_ble_eq_true rfl, by rw [hRl]; exact Nat.le_of_ble_eq_true rfl⟩ (g_recv hKn hS hk20 (by decide) (by decide)) rfl (by rw [hr20]; rfl) (Nat.le_of_ble_eq_true rfl) dX1_waitsFor_20 (fun H locs cells slots hS => ?_)
      refine lv_iconst (v := 1) hx hb dX1_waitsFor_23 (by decide) ?_
      refine g_iload_n hx hb hl 2 rfl dX1_waitsFor_24 ?_
      refine lv_ishl hx hb dX1_waitsFor_25 ?_
      refine lv_iconst (v := (-1)) hx hb dX1_waitsFor_26 (by decide) ?_
      refine lv_ixor hx hb dX1_waitsFor_27 ?_
      refine lv_iand hx hb dX1_waitsFor_28 ?_
      refine g_istore_n (l1 := [(3, .inl (z20.1 &&& ((1 <<< (v2 &&& 31)) ^^^ (-1)))), (0, .inr (.inr (some t))), (1, .inr (.inr v1)), (2, .inl v2)]) hx hb hl (by decide) rfl dX1_waitsFor_29 (fun ls hl => ?_)
      refine g_aload_n hx hb hl 2 rfl dX1_waitsFor_30 ?_
      refine g_rdR hx hb hown hts hKn hS h fd_3_3_3 rfl (Or.inr ⟨_, gNest_use rfl (hKn.2.2.2.2.1 _ (gNest_in q545 rfl))⟩) (fun _ z => z) dX1_waitsFor_31 (fun x31 h => ?_)
      refine g_iload_n hx hb hl 3 rfl dX1_waitsFor_34 ?_
      refine g_aaloadG hx hb hKn hS h (by decide) dX1_waitsFor_35 (fun x35 h => ?_)
      refine g_rdI hx hb hown hts hKn hS h fd_11_16_0 rfl (Or.inl (hts _ q1422)) (fun _ z => z) dX1_waitsFor_36 (fun x36 h => ?_)
      by_cases w39_0 : x36 = 0
      · refine lv_tableIn (tgt := 76) (off := 37) hx hb dX1_waitsFor_39 (by rw [w39_0]; decide) (by rw [w39_0]; decide) (by rw [w39_0]; decide) (by decide) ?_
        have h := g_ift w39_0 h
        refine lv_iconst (v := 1) hx hb dX1_waitsFor_76 (by decide) ?_
        refine g_aload_n hx hb hl 2 rfl dX1_waitsFor_77 ?_
        refine g_rdR hx hb hown hts hKn hS h fd_3_3_3 rfl (Or.inr ⟨_, gNest_use rfl (hKn.2.2.2.2.1 _ (gNest_in q545 rfl))⟩) (fun _ z => z) dX1_waitsFor_78 (fun x78 h => ?_)
        refine g_iload_n hx hb hl 3 rfl dX1_waitsFor_81 ?_
        refine g_aaloadG hx hb hKn hS h (by decide) dX1_waitsFor_82 (fun x82 h => ?_)
        refine g_castS (k := 15) hx hb hown hKn hS h (by decide) (by decide) (hts _ q856) dX1_waitsFor_83 (fun x83 h => ?_)
        refine g_aload_n hx hb hl 2 rfl dX1_waitsFor_86 ?_
        refine g_iload_n hx hb hl 3 rfl dX1_waitsFor_87 ?_
        obtain ⟨b88, hb88, h⟩ := g_bnd h
        obtain ⟨hr88, hk88⟩ := g_chk hb88
        obtain ⟨z88, h88, h⟩ := g_bnd h
        refine g_callV (n := 2) (b := b88) (av := [.inr (.inr v1), .inl v2]) (rs := [.inl 1]) hx hb hml hown hts hKn hRc hRs hS hl (sX9_to l E D h88) (lw_V q857 q798 q799 q143 q800) ⟨rfl, by decide, by decide, by decide +kernel⟩ ⟨by rw [hRf]; exact Nat.le_of_ble_eq_true rfl, by rw [hRl]; exact Nat.le_of_ble_eq_true rfl⟩ (g_recv hKn hS hk88 (by decide) (by decide)) rfl (by rw [hr88]; rfl) (Nat.le_of_ble_eq_true rfl) dX1_waitsFor_88 (fun H locs cells slots hS => ?_)
        refine lv_ishl hx hb dX1_waitsFor_91 ?_
        exact g_iretG hx hb hr hlk hKn hRc hRs hS h dX1_waitsFor_92
      have h := g_iff w39_0 h
      by_cases w39_1 : x36 = 1
      · refine lv_tableIn (tgt := 76) (off := 37) hx hb dX1_waitsFor_39 (by rw [w39_1]; decide) (by rw [w39_1]; decide) (by rw [w39_1]; decide) (by decide) ?_
        have h := g_ift w39_1 h
        refine lv_iconst (v := 1) hx hb dX1_waitsFor_76 (by decide) ?_
        refine g_aload_n hx hb hl 2 rfl dX1_waitsFor_77 ?_
        refine g_rdR hx hb hown hts hKn hS h fd_3_3_3 rfl (Or.inr ⟨_, gNest_use rfl (hKn.2.2.2.2.1 _ (gNest_in q545 rfl))⟩) (fun _ z => z) dX1_waitsFor_78 (fun x78 h => ?_)
        refine g_iload_n hx hb hl 3 rfl dX1_waitsFor_81 ?_
        refine g_aaloadG hx hb hKn hS h (by decide) dX1_waitsFor_82 (fun x82 h => ?_)
        refine g_castS (k := 15) hx hb hown hKn hS h (by decide) (by decide) (hts _ q856) dX1_waitsFor_83 (fun x83 h => ?_)
        refine g_aload_n hx hb hl 2 rfl dX1_waitsFor_86 ?_
        refine g_iload_n hx hb hl 3 rfl dX1_waitsFor_87 ?_
        obtain ⟨b88, hb88, h⟩ := g_bnd h
        obtain ⟨hr88, hk88⟩ := g_chk hb88
        obtain ⟨z88, h88, h⟩ := g_bnd h
        refine g_callV (n := 2) (b := b88) (av := [.inr (.inr v1), .inl v2]) (rs := [.inl 1]) hx hb hml hown hts hKn hRc hRs hS hl (sX9_to l E D h88) (lw_V q857 q798 q799 q143 q800) ⟨rfl, by decide, by decide, by decide +kernel⟩ ⟨by rw [hRf]; exact Nat.le_of_ble_eq_true rfl, by rw [hRl]; exact Nat.le_of_ble_eq_true rfl⟩ (g_recv hKn hS hk88 (by decide) (by decide)) rfl (by rw [hr88]; rfl) (Nat.le_of_ble_eq_true rfl) dX1_waitsFor_88 (fun H locs cells slots hS => ?_)
        refine lv_ishl hx hb dX1_waitsFor_91 ?_
        exact g_iretG hx hb hr hlk hKn hRc hRs hS h dX1_waitsFor_92
      have h := g_iff w39_1 h
      by_cases w39_2 : x36 = 2
      · refine lv_tableIn (tgt := 76) (off := 37) hx hb dX1_waitsFor_39 (by rw [w39_2]; decide) (by rw [w39_2]; decide) (by rw [w39_2]; decide) (by decide) ?_
        have h := g_ift w39_2 h
        refine lv_iconst (v := 1) hx hb dX1_waitsFor_76 (by decide) ?_
        refine g_aload_n hx hb hl 2 rfl dX1_waitsFor_77 ?_
        refine g_rdR hx hb hown hts hKn hS h fd_3_3_3 rfl (Or.inr ⟨_, gNest_use rfl (hKn.2.2.2.2.1 _ (gNest_in q545 rfl))⟩) (fun _ z => z) dX1_waitsFor_78 (fun x78 h => ?_)
        refine g_iload_n hx hb hl 3 rfl dX1_waitsFor_81 ?_
        refine g_aaloadG hx hb hKn hS h (by decide) dX1_waitsFor_82 (fun x82 h => ?_)
        refine g_castS (k := 15) hx hb hown hKn hS h (by decide) (by decide) (hts _ q856) dX1_waitsFor_83 (fun x83 h => ?_)
        refine g_aload_n hx hb hl 2 rfl dX1_waitsFor_86 ?_
        refine g_iload_n hx hb hl 3 rfl dX1_waitsFor_87 ?_
        obtain ⟨b88, hb88, h⟩ := g_bnd h
        obtain ⟨hr88, hk88⟩ := g_chk hb88
        obtain ⟨z88, h88, h⟩ := g_bnd h
        refine g_callV (n := 2) (b := b88) (av := [.inr (.inr v1), .inl v2]) (rs := [.inl 1]) hx hb hml hown hts hKn hRc hRs hS hl (sX9_to l E D h88) (lw_V q857 q798 q799 q143 q800) ⟨rfl, by decide, by decide, by decide +kernel⟩ ⟨by rw [hRf]; exact Nat.le_of_ble_eq_true rfl, by rw [hRl]; exact Nat.le_of_ble_eq_true rfl⟩ (g_recv hKn hS hk88 (by decide) (by decide)) rfl (by rw [hr88]; rfl) (Nat.le_of_ble_eq_true rfl) dX1_waitsFor_88 (fun H locs cells slots hS => ?_)
        refine lv_ishl hx hb dX1_waitsFor_91 ?_
        exact g_iretG hx hb hr hlk hKn hRc hRs hS h dX1_waitsFor_92
      have h := g_iff w39_2 h
      by_cases w39_3 : x36 = 3
      · refine lv_tableIn (tgt := 93) (off := 54) hx hb dX1_waitsFor_39 (by rw [w39_3]; decide) (by rw [w39_3]; decide) (by rw [w39_3]; decide) (by decide) ?_
        have h := g_ift w39_3 h
        refine lv_iconst (v := 1) hx hb dX1_waitsFor_93 (by decide) ?_
        refine g_aload_n hx hb hl 2 rfl dX1_waitsFor_94 ?_
        refine g_rdR hx hb hown hts hKn hS h fd_3_3_3 rfl (Or.inr ⟨_, gNest_use rfl (hKn.2.2.2.2.1 _ (gNest_in q545 rfl))⟩) (fun _ z => z) dX1_waitsFor_95 (fun x95 h => ?_)
        refine g_iload_n hx hb hl 3 rfl dX1_waitsFor_98 ?_
        refine g_aaloadG hx hb hKn hS h (by decide) dX1_waitsFor_99 (fun x99 h => ?_)
        refine g_castS (k := 16) hx hb hown hKn hS h (by decide) (by decide) (hts _ q878) dX1_waitsFor_100 (fun x100 h => ?_)
        refine g_aload_n hx hb hl 2 rfl dX1_waitsFor_103 ?_
        refine g_iload_n hx hb hl 3 rfl dX1_waitsFor_104 ?_
        obtain ⟨b105, hb105, h⟩ := g_bnd h
        obtain ⟨hr105, hk105⟩ := g_chk hb105
        obtain ⟨z105, h105, h⟩ := g_bnd h
        refine g_callV (n := 2) (b := b105) (av := [.inr (.inr v1), .inl v2]) (rs := [.inl 1]) hx hb hml hown hts hKn hRc hRs hS hl (sX13_of l E D h105) (lw_V q890 q827 q828 q148 q829) ⟨rfl, by decide, by decide, by decide +kernel⟩ ⟨by rw [hRf]; exact Nat.le_of_ble_eq_true rfl, by rw [hRl]; exact Nat.le_of_ble_eq_true rfl⟩ (g_recv hKn hS hk105 (by decide) (by decide)) rfl (by rw [hr105]; rfl) (Nat.le_of_ble_eq_true rfl) dX1_waitsFor_105 (fun H locs cells slots hS => ?_)
        refine lv_ishl hx hb dX1_waitsFor_108 ?_
        exact g_iretG hx hb hr hlk hKn hRc hRs hS h dX1_waitsFor_109
      have h := g_iff w39_3 h
      by_cases w39_4 : x36 = 4
      · refine lv_tableIn (tgt := 110) (off := 71) hx hb dX1_waitsFor_39 (by rw [w39_4]; decide) (by rw [w39_4]; decide) (by rw [w39_4]; decide) (by decide) ?_
        have h := g_ift w39_4 h
        refine g_iload_n hx hb hl 0 rfl dX1_waitsFor_110 ?_
        exact g_iretG hx hb hr hlk hKn hRc hRs hS h dX1_waitsFor_111
      have h := g_iff w39_4 h
      by_cases w39_5 : x36 = 5
      · refine lv_tableIn (tgt := 112) (off := 73) hx hb dX1_waitsFor_39 (by rw [w39_5]; decide) (by rw [w39_5]; decide) (by rw [w39_5]; decide) (by decide) ?_
        have h := g_ift w39_5 h
        refine g_aload_n hx hb hl 2 rfl dX1_waitsFor_112 ?_
        refine g_iload_n hx hb hl 3 rfl dX1_waitsFor_113 ?_
        obtain ⟨b114, hb114, h⟩ := g_bnd h
        obtain ⟨hr114, hk114⟩ := g_chk hb114
        obtain ⟨z114, h114, h⟩ := g_bnd h
        refine g_callV (n := 1) (b := b114) (av := [.inl v2]) (rs := []) hx hb hml hown hts hKn hRc hRs hS hl (sX3_begun l E D h114) (lw_V q891 q892 q893 q134 q894) ⟨rfl, by decide, by decide, by decide +kernel⟩ ⟨by rw [hRf]; exact Nat.le_of_ble_eq_true rfl, by rw [hRl]; exact Nat.le_of_ble_eq_true rfl⟩ (g_recv hKn hS hk114 (by decide) (by decide)) rfl (by rw [hr114]; rfl) (Nat.le_of_ble_eq_true rfl) dX1_waitsFor_114 (fun H locs cells slots hS => ?_)
        exact g_iretG hx hb hr hlk hKn hRc hRs hS h dX1_waitsFor_117
      have h := g_iff w39_5 h
      refine g_tableD (tgt := 118) hx hb dX1_waitsFor_39 (by decide) [0, 1, 2, 3, 4, 5] (by decide) (fun k hk => ?_) ?_
      · simp only [List.mem_cons, List.not_mem_nil, or_false] at hk
        rcases hk with rfl | rfl | rfl | rfl | rfl | rfl
        · exact w39_0
        · exact w39_1
        · exact w39_2
        · exact w39_3
        · exact w39_4
        · exact w39_5
      refine lv_iconst (v := 0) hx hb dX1_waitsFor_118 (by decide) ?_
      refine g_istore (l1 := [(4, .inl 0), (3, .inl (z20.1 &&& ((1 <<< (v2 &&& 31)) ^^^ (-1)))), (0, .inr (.inr (some t))), (1, .inr (.inr v1)), (2, .inl v2)]) hx hb hl (by decide) rfl dX1_waitsFor_119 (fun ls hl => ?_)
      refine lv_iconst (v := 0) hx hb dX1_waitsFor_121 (by decide) ?_
      refine g_istore (l1 := [(5, .inl 0), (4, .inl 0), (3, .inl (z20.1 &&& ((1 <<< (v2 &&& 31)) ^^^ (-1)))), (0, .inr (.inr (some t))), (1, .inr (.inr v1)), (2, .inl v2)]) hx hb hl (by decide) rfl dX1_waitsFor_122 (fun ls hl => ?_)
      exact sX1_waitsFor_b124 C gFU _ _ _ _ _ _ h _ _ _ _ _ hS (gls_sub hl [4, 5, 1, 0] rfl)
    · have h := g_iff c_14 h
      refine lv_iconst (v := 0) hx hb dX1_waitsFor_17 (by decide) ?_
      exact g_iretG hx hb hr hlk hKn hRc hRs hS h dX1_waitsFor_18
/-- SendHallModel.areAll(I)Z -/
def fX4_areAll_b2 (E : g_E) : Nat → Nat → Int32 → Int32 → g_G → Option (Int32 × g_G)
  | 0, _, _, _, _ => none
  | n + 1, t, v1, v2, G =>
    (grI G 4 4 (some t) 3).bind fun x4 =>
    if x4 ≤ v2 then (
      if (1 : Int32) = 0 ∨ (1 : Int32) = 1 then some (1, G) else none)
    else (
      (gchk G 4 (some t)).bind fun b13 =>
      (fX4_isAt E b13 v2 v1 G).bind fun z13 =>
      if ¬ z13.1 = 0 then (
        fX4_areAll_b2 E n t v1 (v2 + 1) z13.2)
      else (
        if (0 : Int32) = 0 ∨ (0 : Int32) = 1 then some (0, z13.2) else none))
def fX4_areAll (E : g_E) (t : Nat) (v1 : Int32) (G : g_G) : Option (Int32 × g_G) :=
  fX4_areAll_b2 E gFU t v1 0 G
theorem sX4_areAll_b2 {p : Program} {l : Launch} {e : Env} {R : Room} {s : State} {m : MethodId} {args : Array Value} {below : List Frame} {meth : Method} {c : Code} {E : g_E} {D : g_D} (C : gC p R s m args meth c cX4_areAll 3 RX4 "areAll" (some .boolean) 3 109 E D) : ∀ (n : Nat) (t : Nat) (v1 : Int32) (v2 : Int32) (G : g_G) (q : Int32 × g_G), fX4_areAll_b2 E n t v1 v2 G = some q → ∀ (H : Heap) (locs : List Loc) (cells slots : Nat) (ls : Array Slot), gSt E D G H locs → gls ls 3 [(0, .inr (.inr (some t))), (1, .inl v1), (2, .inl v2)] → gT p l e R s m args below meth c E D H locs cells slots (some (.int q.1)) q.2 (F0 m 2 ls []) := by
  obtain ⟨hx, hb, hml, hown, hts, hKn, hRc, hRs, hc1, hc2, hRf, hRl, hr, hlk, hnm⟩ := id C
  intro n
  induction n with
  | zero =>
    intro t v1 v2 G q h
    exact g_no h
  | succ n ih =>
    intro t v1 v2 G q h H locs cells slots ls hS hl
    rw [fX4_areAll_b2] at h
    refine g_iload_n hx hb hl 2 rfl dX4_areAll_2 ?_
    refine g_aload_n hx hb hl 0 rfl dX4_areAll_3 ?_
    refine g_rdI hx hb hown hts hKn hS h fd_4_4_3 rfl (Or.inl (hts _ q1868)) (fun _ z => z) dX4_areAll_4 (fun x4 h => ?_)
    refine lv_icmp_ge (tgt := 27) hx hb dX4_areAll_7 (by decide) (fun c_7 => ?_) (fun c_7 => ?_)
    · have h := g_ift c_7 h
      refine lv_iconst (v := 1) hx hb dX4_areAll_27 (by decide) ?_
      exact g_zretG hx hb hr hlk hKn hRc hRs hS h dX4_areAll_28
    · have h := g_iff c_7 h
      refine g_aload_n hx hb hl 0 rfl dX4_areAll_10 ?_
      refine g_iload_n hx hb hl 2 rfl dX4_areAll_11 ?_
      refine g_iload_n hx hb hl 1 rfl dX4_areAll_12 ?_
      obtain ⟨b13, hb13, h⟩ := g_bnd h
      obtain ⟨hr13, hk13⟩ := g_chk hb13
      obtain ⟨z13, h13, h⟩ := g_bnd h
      refine g_callV (n := 2) (b := b13) (av := [.inl v2, .inl v1]) (rs := []) hx hb hml hown hts hKn hRc hRs hS hl (sX4_isAt l E D h13) (lw_V q2280 q2282 qs85 q135 q2283) ⟨rfl, by decide, by decide, by decide +kernel⟩ ⟨by rw [hRf]; exact Nat.le_of_ble_eq_true rfl, by rw [hRl]; exact Nat.le_of_ble_eq_true rfl⟩ (g_recv hKn hS hk13 (by decide) (by decide)) rfl (by rw [hr13]; rfl) (Nat.le_of_ble_eq_true rfl) dX4_areAll_13 (fun H locs cells slots hS => ?_)
      refine lv_if_ne (tgt := 21) hx hb dX4_areAll_16 (by decide) (fun c_16 => ?_) (fun c_16 => ?_)
      · have h := g_ift c_16 h
        refine g_iinc (l1 := [(2, .inl (v2 + 1)), (0, .inr (.inr (some t))), (1, .inl v1)]) (v := (v2 + 1)) hx hb hl (k := 2) rfl (by rfl) (by decide) rfl dX4_areAll_21 (fun ls hl => ?_)
        refine lv_goto (tgt := 2) hx hb dX4_areAll_24 (by decide) ?_
        exact ih _ _ _ _ _ h _ _ _ _ _ hS (gls_sub hl [1, 2, 0] rfl)
      · have h := g_iff (fun z => z c_16) h
        refine lv_iconst (v := 0) hx hb dX4_areAll_19 (by decide) ?_
        exact g_zretG hx hb hr hlk hKn hRc hRs hS h dX4_areAll_20
theorem sX4_areAll (l : Launch) (E : g_E) (D : g_D) {t : Nat} {v1 : Int32} {G : g_G} {q : Int32 × g_G} (h : fX4_areAll E t v1 G = some q) : gMet l E D yX4_areAll (ws_ yX4_areAll cX4_areAll 3 (some .boolean)) 3 109 [.inr (.inr (some t)), .inl v1] G (some (.int q.1)) q.2 := by
  refine gMet.of (by decide +kernel) (Nat.le_of_ble_eq_true rfl) ?_
  intro p e R s m args below meth c C hS ls hl
  have C : gC p R s m args meth c cX4_areAll 3 RX4 "areAll" (some .boolean) 3 109 E D := C
  obtain ⟨hx, hb, hml, hown, hts, hKn, hRc, hRs, hc1, hc2, hRf, hRl, hr, hlk, hnm⟩ := id C
  have hl : gls ls 3 [(0, .inr (.inr (some t))), (1, .inl v1)] := hl
  generalize s.heap = H at hS ⊢
  unfold fX4_areAll at h
  refine lv_iconst (v := 0) hx hb dX4_areAll_0 (by decide) ?_
  refine g_istore_n (l1 := [(2, .inl 0), (0, .inr (.inr (some t))), (1, .inl v1)]) hx hb hl (by decide) rfl dX4_areAll_1 (fun ls hl => ?_)
  exact sX4_areAll_b2 C gFU _ _ _ _ _ h _ _ _ _ _ hS (gls_sub hl [1, 2, 0] rfl)
/-- SendHallModel.come(II)V -/
def fX4_come_b186 (E : g_E) (k5 : Nat → Int32 → Int32 → Int32 → g_G → Option (g_G)) (t : Nat) (v1 : Int32) (v4 : Int32) (v5 : Int32) (G : g_G) : Option (g_G) :=
  k5 t v1 v5 v4 G
def fX4_come_b184 (E : g_E) (k5 : Nat → Int32 → Int32 → Int32 → g_G → Option (g_G)) (t : Nat) (v1 : Int32) (v4 : Int32) (s0 : Int32) (G : g_G) : Option (g_G) :=
  fX4_come_b186 E k5 t v1 v4 s0 G
def fX4_come_b169 (E : g_E) (k5 : Nat → Int32 → Int32 → Int32 → g_G → Option (g_G)) (t : Nat) (v1 : Int32) (v4 : Int32) (v5 : Int32) (s0 : Int32) (G : g_G) : Option (g_G) :=
  if ¬ s0 = (-1 : Int32) then (
    fX4_come_b184 E k5 t v1 v4 s0 G)
  else (
    fX4_come_b184 E k5 t v1 v4 v5 G)
def fX4_come_b138 (E : g_E) (k5 : Nat → Int32 → Int32 → Int32 → g_G → Option (g_G)) (t : Nat) (v1 : Int32) (v3 : Int32) (v4 : Int32) (v5 : Int32) (v6 : Int32) (G : g_G) : Option (g_G) :=
  (grR G 4 4 (some t) 24).bind fun x139 =>
  (gaI G 100 x139 v3).bind fun x143 =>
  if ¬ x143 = (10 : Int32) then (
    fX4_come_b186 E k5 t v1 v4 v5 G)
  else (
    if v6 = 0 then (
      (grR G 4 4 (some t) 31).bind fun x164 =>
      (gaI G 100 x164 v3).bind fun x168 =>
      fX4_come_b169 E k5 t v1 v4 v5 x168 G)
    else (
      (grR G 4 4 (some t) 30).bind fun x155 =>
      (gaI G 100 x155 v3).bind fun x159 =>
      fX4_come_b169 E k5 t v1 v4 v5 x159 G))
def fX4_come_b107 (E : g_E) (k5 : Nat → Int32 → Int32 → Int32 → g_G → Option (g_G)) (t : Nat) (v1 : Int32) (v3 : Int32) (v4 : Int32) (v5 : Int32) (v6 : Int32) (G : g_G) : Option (g_G) :=
  (grR G 4 4 (some t) 24).bind fun x108 =>
  (gaI G 100 x108 v3).bind fun x112 =>
  if ¬ x112 = (9 : Int32) then (
    fX4_come_b138 E k5 t v1 v3 v4 v5 v6 G)
  else (
    (gchk G 4 (some t)).bind fun b128 =>
    (fX4_own E b128 v1 7 G).bind fun z128 =>
    (gchk z128.2 4 (some t)).bind fun b135 =>
    (fX4_put E b135 v1 7 ((31 * z128.1) + v6) z128.2).bind fun z135 =>
    fX4_come_b138 E k5 t v1 v3 v4 v5 v6 z135)
def fX4_come_b47 (E : g_E) (k5 : Nat → Int32 → Int32 → Int32 → g_G → Option (g_G)) (t : Nat) (v1 : Int32) (v3 : Int32) (s0 : Int32) (G : g_G) : Option (g_G) :=
  if ¬ s0 = 0 then (
    (gchk G 4 (some t)).bind fun b59 =>
    (fX4_following E b59 v3 G).bind fun z59 =>
    (grR z59.2 4 4 (some t) 32).bind fun x65 =>
    (gaI z59.2 102 x65 v3).bind fun x69 =>
    if ¬ x69 = 0 then (
      fX4_come_b186 E k5 t v1 s0 z59.1 z59.2)
    else (
      (gchk z59.2 4 (some t)).bind fun b76 =>
      (fX4_asked E b76 v1 0 z59.2).bind fun z76 =>
      (grR z76.2 4 4 (some t) 24).bind fun x82 =>
      (gaI z76.2 100 x82 v3).bind fun x86 =>
      if ¬ x86 = (8 : Int32) then (
        fX4_come_b107 E k5 t v1 v3 s0 z59.1 z76.1 z76.2)
      else (
        (grR z76.2 4 4 (some t) 27).bind fun x96 =>
        (gaI z76.2 100 x96 v3).bind fun x100 =>
        (gchk z76.2 4 (some t)).bind fun b104 =>
        (fX4_put E b104 v1 (2 + x100) z76.1 z76.2).bind fun z104 =>
        fX4_come_b107 E k5 t v1 v3 s0 z59.1 z76.1 z104)))
  else (
    k5 t v1 v3 s0 G)
def fX4_come_b46 (E : g_E) (k5 : Nat → Int32 → Int32 → Int32 → g_G → Option (g_G)) (t : Nat) (v1 : Int32) (v3 : Int32) (G : g_G) : Option (g_G) :=
  fX4_come_b47 E k5 t v1 v3 0 G
def fX4_come_b42 (E : g_E) (k5 : Nat → Int32 → Int32 → Int32 → g_G → Option (g_G)) (t : Nat) (v1 : Int32) (v3 : Int32) (G : g_G) : Option (g_G) :=
  fX4_come_b47 E k5 t v1 v3 1 G
def fX4_come_b5 (E : g_E) : Nat → Nat → Int32 → Int32 → Int32 → g_G → Option (g_G)
  | 0, _, _, _, _, _ => none
  | n + 1, t, v1, v3, v4, G =>
    if v4 = 0 then (
      if v3 = (-1 : Int32) then (
        some G)
      else (
        (grR G 4 4 (some t) 24).bind fun x198 =>
        (gaI G 100 x198 v3).bind fun x202 =>
        if (3 : Int32) < x202 then (
          some G)
        else (
          (gchk G 4 (some t)).bind fun b209 =>
          (fX4_hasOther E b209 v1 G).bind fun z209 =>
          if ¬ z209.1 = 0 then (
            some z209.2)
          else (
            (gchk z209.2 4 (some t)).bind fun b219 =>
            (fX4_put E b219 v1 1 1 z209.2).bind fun z219 =>
            some z219))))
    else (
      (gchk G 4 (some t)).bind fun b14 =>
      (fX4_put E b14 v1 0 v3 G).bind fun z14 =>
      if v3 = (-1 : Int32) then (
        fX4_come_b46 E (fX4_come_b5 E n) t v1 v3 z14)
      else (
        (grR z14 4 4 (some t) 32).bind fun x23 =>
        (gaI z14 102 x23 v3).bind fun x27 =>
        if ¬ x27 = 0 then (
          fX4_come_b42 E (fX4_come_b5 E n) t v1 v3 z14)
        else (
          (grR z14 4 4 (some t) 24).bind fun x32 =>
          (gaI z14 100 x32 v3).bind fun x36 =>
          if x36 < (8 : Int32) then (
            fX4_come_b46 E (fX4_come_b5 E n) t v1 v3 z14)
          else (
            fX4_come_b42 E (fX4_come_b5 E n) t v1 v3 z14))))
def fX4_come (E : g_E) (t : Nat) (v1 : Int32) (v2 : Int32) (G : g_G) : Option (g_G) :=
  fX4_come_b5 E gFU t v1 v2 1 G
theorem sX4_come_b186 {p : Program} {l : Launch} {e : Env} {R : Room} {s : State} {m : MethodId} {args : Array Value} {below : List Frame} {meth : Method} {c : Code} {E : g_E} {D : g_D} (C : gC p R s m args meth c cX4_come 8 RX4 "come" (none) 5 156 E D) {k5 : Nat → Int32 → Int32 → Int32 → g_G → Option (g_G)} (hk5 : ∀ (t : Nat) (v1 : Int32) (v3 : Int32) (v4 : Int32) (G : g_G) (q : g_G), k5 t v1 v3 v4 G = some q → ∀ (H : Heap) (locs : List Loc) (cells slots : Nat) (ls : Array Slot), gSt E D G H locs → gls ls 8 [(0, .inr (.inr (some t))), (1, .inl v1), (3, .inl v3), (4, .inl v4)] → gT p l e R s m args below meth c E D H locs cells slots none q (F0 m 5 ls [])) : ∀ (t : Nat) (v1 : Int32) (v4 : Int32) (v5 : Int32) (G : g_G) (q : g_G), fX4_come_b186 E k5 t v1 v4 v5 G = some q → ∀ (H : Heap) (locs : List Loc) (cells slots : Nat) (ls : Array Slot), gSt E D G H locs → gls ls 8 [(0, .inr (.inr (some t))), (1, .inl v1), (4, .inl v4), (5, .inl v5)] → gT p l e R s m args below meth c E D H locs cells slots none q (F0 m 186 ls []) := by
  obtain ⟨hx, hb, hml, hown, hts, hKn, hRc, hRs, hc1, hc2, hRf, hRl, hr, hlk, hnm⟩ := id C
  intro t v1 v4 v5 G q h H locs cells slots ls hS hl
  unfold fX4_come_b186 at h
  refine g_iload hx hb hl 3 rfl dX4_come_186 ?_
  refine g_istore_n (l1 := [(3, .inl v5), (0, .inr (.inr (some t))), (1, .inl v1), (4, .inl v4), (5, .inl v5)]) hx hb hl (by decide) rfl dX4_come_188 (fun ls hl => ?_)
  refine lv_goto (tgt := 5) hx hb dX4_come_189 (by decide) ?_
  exact hk5 _ _ _ _ _ _ h _ _ _ _ _ hS (gls_sub hl [1, 2, 0, 3] rfl)
theorem sX4_come_b184 {p : Program} {l : Launch} {e : Env} {R : Room} {s : State} {m : MethodId} {args : Array Value} {below : List Frame} {meth : Method} {c : Code} {E : g_E} {D : g_D} (C : gC p R s m args meth c cX4_come 8 RX4 "come" (none) 5 156 E D) {k5 : Nat → Int32 → Int32 → Int32 → g_G → Option (g_G)} (hk5 : ∀ (t : Nat) (v1 : Int32) (v3 : Int32) (v4 : Int32) (G : g_G) (q : g_G), k5 t v1 v3 v4 G = some q → ∀ (H : Heap) (locs : List Loc) (cells slots : Nat) (ls : Array Slot), gSt E D G H locs → gls ls 8 [(0, .inr (.inr (some t))), (1, .inl v1), (3, .inl v3), (4, .inl v4)] → gT p l e R s m args below meth c E D H locs cells slots none q (F0 m 5 ls [])) : ∀ (t : Nat) (v1 : Int32) (v4 : Int32) (s0 : Int32) (G : g_G) (q : g_G), fX4_come_b184 E k5 t v1 v4 s0 G = some q → ∀ (H : Heap) (locs : List Loc) (cells slots : Nat) (ls : Array Slot), gSt E D G H locs → gls ls 8 [(0, .inr (.inr (some t))), (1, .inl v1), (4, .inl v4)] → gT p l e R s m args below meth c E D H locs cells slots none q (F0 m 184 ls [.int s0]) := by
  obtain ⟨hx, hb, hml, hown, hts, hKn, hRc, hRs, hc1, hc2, hRf, hRl, hr, hlk, hnm⟩ := id C
  intro t v1 v4 s0 G q h H locs cells slots ls hS hl
  unfold fX4_come_b184 at h
  refine g_istore (l1 := [(5, .inl s0), (0, .inr (.inr (some t))), (1, .inl v1), (4, .inl v4)]) hx hb hl (by decide) rfl dX4_come_184 (fun ls hl => ?_)
  exact sX4_come_b186 C hk5 _ _ _ _ _ _ h _ _ _ _ _ hS (gls_sub hl [1, 2, 3, 0] rfl)
theorem sX4_come_b169 {p : Program} {l : Launch} {e : Env} {R : Room} {s : State} {m : MethodId} {args : Array Value} {below : List Frame} {meth : Method} {c : Code} {E : g_E} {D : g_D} (C : gC p R s m args meth c cX4_come 8 RX4 "come" (none) 5 156 E D) {k5 : Nat → Int32 → Int32 → Int32 → g_G → Option (g_G)} (hk5 : ∀ (t : Nat) (v1 : Int32) (v3 : Int32) (v4 : Int32) (G : g_G) (q : g_G), k5 t v1 v3 v4 G = some q → ∀ (H : Heap) (locs : List Loc) (cells slots : Nat) (ls : Array Slot), gSt E D G H locs → gls ls 8 [(0, .inr (.inr (some t))), (1, .inl v1), (3, .inl v3), (4, .inl v4)] → gT p l e R s m args below meth c E D H locs cells slots none q (F0 m 5 ls [])) : ∀ (t : Nat) (v1 : Int32) (v4 : Int32) (v5 : Int32) (s0 : Int32) (G : g_G) (q : g_G), fX4_come_b169 E k5 t v1 v4 v5 s0 G = some q → ∀ (H : Heap) (locs : List Loc) (cells slots : Nat) (ls : Array Slot), gSt E D G H locs → gls ls 8 [(0, .inr (.inr (some t))), (1, .inl v1), (4, .inl v4), (5, .inl v5)] → gT p l e R s m args below meth c E D H locs cells slots none q (F0 m 169 ls [.int s0]) := by
  obtain ⟨hx, hb, hml, hown, hts, hKn, hRc, hRs, hc1, hc2, hRf, hRl, hr, hlk, hnm⟩ := id C
  intro t v1 v4 v5 s0 G q h H locs cells slots ls hS hl
  unfold fX4_come_b169 at h
  refine g_istore (l1 := [(7, .inl s0), (0, .inr (.inr (some t))), (1, .inl v1), (4, .inl v4), (5, .inl v5)]) hx hb hl (by decide) rfl dX4_come_169 (fun ls hl => ?_)
  refine g_iload hx hb hl 0 rfl dX4_come_171 ?_
  refine lv_iconst (v := (-1)) hx hb dX4_come_173 (by decide) ?_
  refine lv_icmp_ne (tgt := 182) hx hb dX4_come_174 (by decide) (fun c_174 => ?_) (fun c_174 => ?_)
  · have h := g_ift c_174 h
    refine g_iload hx hb hl 0 rfl dX4_come_182 ?_
    exact sX4_come_b184 C hk5 _ _ _ _ _ _ h _ _ _ _ _ hS (gls_sub hl [1, 2, 3] rfl)
  · have h := g_iff (fun z => z c_174) h
    refine g_iload hx hb hl 4 rfl dX4_come_177 ?_
    refine lv_goto (tgt := 184) hx hb dX4_come_179 (by decide) ?_
    exact sX4_come_b184 C hk5 _ _ _ _ _ _ h _ _ _ _ _ hS (gls_sub hl [1, 2, 3] rfl)
theorem sX4_come_b138 {p : Program} {l : Launch} {e : Env} {R : Room} {s : State} {m : MethodId} {args : Array Value} {below : List Frame} {meth : Method} {c : Code} {E : g_E} {D : g_D} (C : gC p R s m args meth c cX4_come 8 RX4 "come" (none) 5 156 E D) {k5 : Nat → Int32 → Int32 → Int32 → g_G → Option (g_G)} (hk5 : ∀ (t : Nat) (v1 : Int32) (v3 : Int32) (v4 : Int32) (G : g_G) (q : g_G), k5 t v1 v3 v4 G = some q → ∀ (H : Heap) (locs : List Loc) (cells slots : Nat) (ls : Array Slot), gSt E D G H locs → gls ls 8 [(0, .inr (.inr (some t))), (1, .inl v1), (3, .inl v3), (4, .inl v4)] → gT p l e R s m args below meth c E D H locs cells slots none q (F0 m 5 ls [])) : ∀ (t : Nat) (v1 : Int32) (v3 : Int32) (v4 : Int32) (v5 : Int32) (v6 : Int32) (G : g_G) (q : g_G), fX4_come_b138 E k5 t v1 v3 v4 v5 v6 G = some q → ∀ (H : Heap) (locs : List Loc) (cells slots : Nat) (ls : Array Slot), gSt E D G H locs → gls ls 8 [(0, .inr (.inr (some t))), (1, .inl v1), (3, .inl v3), (4, .inl v4), (5, .inl v5), (6, .inl v6)] → gT p l e R s m args below meth c E D H locs cells slots none q (F0 m 138 ls []) := by
  obtain ⟨hx, hb, hml, hown, hts, hKn, hRc, hRs, hc1, hc2, hRf, hRl, hr, hlk, hnm⟩ := id C
  intro t v1 v3 v4 v5 v6 G q h H locs cells slots ls hS hl
  unfold fX4_come_b138 at h
  refine g_aload_n hx hb hl 0 rfl dX4_come_138 ?_
  refine g_rdR hx hb hown hts hKn hS h fd_4_4_24 rfl (Or.inl (hts _ q1889)) (fun _ z => z) dX4_come_139 (fun x139 h => ?_)
  refine g_iload_n hx hb hl 2 rfl dX4_come_142 ?_
  refine g_ialoadG hx hb hKn hS h dX4_come_143 (fun x143 h => ?_)
  refine lv_bipush (v := 10) hx hb dX4_come_144 (by decide) ?_
  refine lv_icmp_ne (tgt := 186) hx hb dX4_come_146 (by decide) (fun c_146 => ?_) (fun c_146 => ?_)
  · have h := g_ift c_146 h
    exact sX4_come_b186 C hk5 _ _ _ _ _ _ h _ _ _ _ _ hS (gls_sub hl [0, 1, 3, 4] rfl)
  · have h := g_iff (fun z => z c_146) h
    refine g_iload hx hb hl 5 rfl dX4_come_149 ?_
    refine lv_if_eq (tgt := 163) hx hb dX4_come_151 (by decide) (fun c_151 => ?_) (fun c_151 => ?_)
    · have h := g_ift c_151 h
      refine g_aload_n hx hb hl 0 rfl dX4_come_163 ?_
      refine g_rdR hx hb hown hts hKn hS h fd_4_4_31 rfl (Or.inl (hts _ q1896)) (fun _ z => z) dX4_come_164 (fun x164 h => ?_)
      refine g_iload_n hx hb hl 2 rfl dX4_come_167 ?_
      refine g_ialoadG hx hb hKn hS h dX4_come_168 (fun x168 h => ?_)
      exact sX4_come_b169 C hk5 _ _ _ _ _ _ _ h _ _ _ _ _ hS (gls_sub hl [0, 1, 3, 4] rfl)
    · have h := g_iff c_151 h
      refine g_aload_n hx hb hl 0 rfl dX4_come_154 ?_
      refine g_rdR hx hb hown hts hKn hS h fd_4_4_30 rfl (Or.inl (hts _ q1895)) (fun _ z => z) dX4_come_155 (fun x155 h => ?_)
      refine g_iload_n hx hb hl 2 rfl dX4_come_158 ?_
      refine g_ialoadG hx hb hKn hS h dX4_come_159 (fun x159 h => ?_)
      refine lv_goto (tgt := 169) hx hb dX4_come_160 (by decide) ?_
      exact sX4_come_b169 C hk5 _ _ _ _ _ _ _ h _ _ _ _ _ hS (gls_sub hl [0, 1, 3, 4] rfl)
theorem sX4_come_b107 {p : Program} {l : Launch} {e : Env} {R : Room} {s : State} {m : MethodId} {args : Array Value} {below : List Frame} {meth : Method} {c : Code} {E : g_E} {D : g_D} (C : gC p R s m args meth c cX4_come 8 RX4 "come" (none) 5 156 E D) {k5 : Nat → Int32 → Int32 → Int32 → g_G → Option (g_G)} (hk5 : ∀ (t : Nat) (v1 : Int32) (v3 : Int32) (v4 : Int32) (G : g_G) (q : g_G), k5 t v1 v3 v4 G = some q → ∀ (H : Heap) (locs : List Loc) (cells slots : Nat) (ls : Array Slot), gSt E D G H locs → gls ls 8 [(0, .inr (.inr (some t))), (1, .inl v1), (3, .inl v3), (4, .inl v4)] → gT p l e R s m args below meth c E D H locs cells slots none q (F0 m 5 ls [])) : ∀ (t : Nat) (v1 : Int32) (v3 : Int32) (v4 : Int32) (v5 : Int32) (v6 : Int32) (G : g_G) (q : g_G), fX4_come_b107 E k5 t v1 v3 v4 v5 v6 G = some q → ∀ (H : Heap) (locs : List Loc) (cells slots : Nat) (ls : Array Slot), gSt E D G H locs → gls ls 8 [(0, .inr (.inr (some t))), (1, .inl v1), (3, .inl v3), (4, .inl v4), (5, .inl v5), (6, .inl v6)] → gT p l e R s m args below meth c E D H locs cells slots none q (F0 m 107 ls []) := by
  obtain ⟨hx, hb, hml, hown, hts, hKn, hRc, hRs, hc1, hc2, hRf, hRl, hr, hlk, hnm⟩ := id C
  intro t v1 v3 v4 v5 v6 G q h H locs cells slots ls hS hl
  unfold fX4_come_b107 at h
  refine g_aload_n hx hb hl 0 rfl dX4_come_107 ?_
  refine g_rdR hx hb hown hts hKn hS h fd_4_4_24 rfl (Or.inl (hts _ q1889)) (fun _ z => z) dX4_come_108 (fun x108 h => ?_)
  refine g_iload_n hx hb hl 2 rfl dX4_come_111 ?_
  refine g_ialoadG hx hb hKn hS h dX4_come_112 (fun x112 h => ?_)
  refine lv_bipush (v := 9) hx hb dX4_come_113 (by decide) ?_
  refine lv_icmp_ne (tgt := 138) hx hb dX4_come_115 (by decide) (fun c_115 => ?_) (fun c_115 => ?_)
  · have h := g_ift c_115 h
    exact sX4_come_b138 C hk5 _ _ _ _ _ _ _ _ h _ _ _ _ _ hS (gls_sub hl [0, 1, 2, 3, 4, 5] rfl)
  · have h := g_iff (fun z => z c_115) h
    refine g_aload_n hx hb hl 0 rfl dX4_come_118 ?_
    refine g_iload_n hx hb hl 1 rfl dX4_come_119 ?_
    refine lv_bipush (v := 7) hx hb dX4_come_120 (by decide) ?_
    refine lv_bipush (v := 31) hx hb dX4_come_122 (by decide) ?_
    refine g_aload_n hx hb hl 0 rfl dX4_come_124 ?_
    refine g_iload_n hx hb hl 1 rfl dX4_come_125 ?_
    refine lv_bipush (v := 7) hx hb dX4_come_126 (by decide) ?_
    obtain ⟨b128, hb128, h⟩ := g_bnd h
    obtain ⟨hr128, hk128⟩ := g_chk hb128
    obtain ⟨z128, h128, h⟩ := g_bnd h
    refine g_callV (n := 2) (b := b128) (av := [.inl v1, .inl 7]) (rs := [.inl 31, .inl 7, .inl v1, .inr (.inr (some t))]) hx hb hml hown hts hKn hRc hRs hS hl (sX4_own l E D h128) (lw_V q2245 q2247 qs77 q135 q2248) ⟨rfl, by decide, by decide, by decide +kernel⟩ ⟨by rw [hRf]; exact Nat.le_of_ble_eq_true rfl, by rw [hRl]; exact Nat.le_of_ble_eq_true rfl⟩ (g_recv hKn hS hk128 (by decide) (by decide)) rfl (by rw [hr128]; rfl) (Nat.le_of_ble_eq_true rfl) dX4_come_128 (fun H locs cells slots hS => ?_)
    refine lv_imul hx hb dX4_come_131 ?_
    refine g_iload hx hb hl 5 rfl dX4_come_132 ?_
    refine lv_iadd hx hb dX4_come_134 ?_
    obtain ⟨b135, hb135, h⟩ := g_bnd h
    obtain ⟨hr135, hk135⟩ := g_chk hb135
    obtain ⟨z135, h135, h⟩ := g_bnd h
    refine g_callV (n := 3) (b := b135) (av := [.inl v1, .inl 7, .inl ((31 * z128.1) + v6)]) (rs := []) hx hb hml hown hts hKn hRc hRs hS hl (sX4_put l E D h135) (lw_V q2233 q2235 qs74 q135 q2236) ⟨rfl, by decide, by decide, by decide +kernel⟩ ⟨by rw [hRf]; exact Nat.le_of_ble_eq_true rfl, by rw [hRl]; exact Nat.le_of_ble_eq_true rfl⟩ (g_recv hKn hS hk135 (by decide) (by decide)) rfl (by rw [hr135]; rfl) (Nat.le_of_ble_eq_true rfl) dX4_come_135 (fun H locs cells slots hS => ?_)
    exact sX4_come_b138 C hk5 _ _ _ _ _ _ _ _ h _ _ _ _ _ hS (gls_sub hl [0, 1, 2, 3, 4, 5] rfl)
theorem sX4_come_b47 {p : Program} {l : Launch} {e : Env} {R : Room} {s : State} {m : MethodId} {args : Array Value} {below : List Frame} {meth : Method} {c : Code} {E : g_E} {D : g_D} (C : gC p R s m args meth c cX4_come 8 RX4 "come" (none) 5 156 E D) {k5 : Nat → Int32 → Int32 → Int32 → g_G → Option (g_G)} (hk5 : ∀ (t : Nat) (v1 : Int32) (v3 : Int32) (v4 : Int32) (G : g_G) (q : g_G), k5 t v1 v3 v4 G = some q → ∀ (H : Heap) (locs : List Loc) (cells slots : Nat) (ls : Array Slot), gSt E D G H locs → gls ls 8 [(0, .inr (.inr (some t))), (1, .inl v1), (3, .inl v3), (4, .inl v4)] → gT p l e R s m args below meth c E D H locs cells slots none q (F0 m 5 ls [])) : ∀ (t : Nat) (v1 : Int32) (v3 : Int32) (s0 : Int32) (G : g_G) (q : g_G), fX4_come_b47 E k5 t v1 v3 s0 G = some q → ∀ (H : Heap) (locs : List Loc) (cells slots : Nat) (ls : Array Slot), gSt E D G H locs → gls ls 8 [(0, .inr (.inr (some t))), (1, .inl v1), (3, .inl v3)] → gT p l e R s m args below meth c E D H locs cells slots none q (F0 m 47 ls [.int s0]) := by
  obtain ⟨hx, hb, hml, hown, hts, hKn, hRc, hRs, hc1, hc2, hRf, hRl, hr, hlk, hnm⟩ := id C
  intro t v1 v3 s0 G q h H locs cells slots ls hS hl
  unfold fX4_come_b47 at h
  refine g_istore (l1 := [(4, .inl s0), (0, .inr (.inr (some t))), (1, .inl v1), (3, .inl v3)]) hx hb hl (by decide) rfl dX4_come_47 (fun ls hl => ?_)
  refine g_iload hx hb hl 0 rfl dX4_come_49 ?_
  refine lv_if_ne (tgt := 57) hx hb dX4_come_51 (by decide) (fun c_51 => ?_) (fun c_51 => ?_)
  · have h := g_ift c_51 h
    refine g_aload_n hx hb hl 1 rfl dX4_come_57 ?_
    refine g_iload_n hx hb hl 3 rfl dX4_come_58 ?_
    obtain ⟨b59, hb59, h⟩ := g_bnd h
    obtain ⟨hr59, hk59⟩ := g_chk hb59
    obtain ⟨z59, h59, h⟩ := g_bnd h
    refine g_callV (n := 1) (b := b59) (av := [.inl v3]) (rs := []) hx hb hml hown hts hKn hRc hRs hS hl (sX4_following l E D h59) (lw_V q2237 q2239 qs75 q135 q2240) ⟨rfl, by decide, by decide, by decide +kernel⟩ ⟨by rw [hRf]; exact Nat.le_of_ble_eq_true rfl, by rw [hRl]; exact Nat.le_of_ble_eq_true rfl⟩ (g_recv hKn hS hk59 (by decide) (by decide)) rfl (by rw [hr59]; rfl) (Nat.le_of_ble_eq_true rfl) dX4_come_59 (fun H locs cells slots hS => ?_)
    refine g_istore (l1 := [(5, .inl z59.1), (4, .inl s0), (0, .inr (.inr (some t))), (1, .inl v1), (3, .inl v3)]) hx hb hl (by decide) rfl dX4_come_62 (fun ls hl => ?_)
    refine g_aload_n hx hb hl 2 rfl dX4_come_64 ?_
    refine g_rdR hx hb hown hts hKn hS h fd_4_4_32 rfl (Or.inl (hts _ q1897)) (fun _ z => z) dX4_come_65 (fun x65 h => ?_)
    refine g_iload_n hx hb hl 4 rfl dX4_come_68 ?_
    refine g_zaloadG hx hb hKn hS h dX4_come_69 (fun x69 h => ?_)
    refine lv_if_ne (tgt := 186) hx hb dX4_come_70 (by decide) (fun c_70 => ?_) (fun c_70 => ?_)
    · have h := g_ift c_70 h
      exact sX4_come_b186 C hk5 _ _ _ _ _ _ h _ _ _ _ _ hS (gls_sub hl [2, 3, 1, 0] rfl)
    · have h := g_iff (fun z => z c_70) h
      refine g_aload_n hx hb hl 2 rfl dX4_come_73 ?_
      refine g_iload_n hx hb hl 3 rfl dX4_come_74 ?_
      refine lv_iconst (v := 0) hx hb dX4_come_75 (by decide) ?_
      obtain ⟨b76, hb76, h⟩ := g_bnd h
      obtain ⟨hr76, hk76⟩ := g_chk hb76
      obtain ⟨z76, h76, h⟩ := g_bnd h
      refine g_callV (n := 2) (b := b76) (av := [.inl v1, .inl 0]) (rs := []) hx hb hml hown hts hKn hRc hRs hS hl (sX4_asked l E D h76) (lw_V q2241 q2243 qs76 q135 q2244) ⟨rfl, by decide, by decide, by decide +kernel⟩ ⟨by rw [hRf]; exact Nat.le_of_ble_eq_true rfl, by rw [hRl]; exact Nat.le_of_ble_eq_true rfl⟩ (g_recv hKn hS hk76 (by decide) (by decide)) rfl (by rw [hr76]; rfl) (Nat.le_of_ble_eq_true rfl) dX4_come_76 (fun H locs cells slots hS => ?_)
      refine g_istore (l1 := [(6, .inl z76.1), (5, .inl z59.1), (4, .inl s0), (0, .inr (.inr (some t))), (1, .inl v1), (3, .inl v3)]) hx hb hl (by decide) rfl dX4_come_79 (fun ls hl => ?_)
      refine g_aload_n hx hb hl 3 rfl dX4_come_81 ?_
      refine g_rdR hx hb hown hts hKn hS h fd_4_4_24 rfl (Or.inl (hts _ q1889)) (fun _ z => z) dX4_come_82 (fun x82 h => ?_)
      refine g_iload_n hx hb hl 5 rfl dX4_come_85 ?_
      refine g_ialoadG hx hb hKn hS h dX4_come_86 (fun x86 h => ?_)
      refine lv_bipush (v := 8) hx hb dX4_come_87 (by decide) ?_
      refine lv_icmp_ne (tgt := 107) hx hb dX4_come_89 (by decide) (fun c_89 => ?_) (fun c_89 => ?_)
      · have h := g_ift c_89 h
        exact sX4_come_b107 C hk5 _ _ _ _ _ _ _ _ h _ _ _ _ _ hS (gls_sub hl [3, 4, 5, 2, 1, 0] rfl)
      · have h := g_iff (fun z => z c_89) h
        refine g_aload_n hx hb hl 3 rfl dX4_come_92 ?_
        refine g_iload_n hx hb hl 4 rfl dX4_come_93 ?_
        refine lv_iconst (v := 2) hx hb dX4_come_94 (by decide) ?_
        refine g_aload_n hx hb hl 3 rfl dX4_come_95 ?_
        refine g_rdR hx hb hown hts hKn hS h fd_4_4_27 rfl (Or.inl (hts _ q1892)) (fun _ z => z) dX4_come_96 (fun x96 h => ?_)
        refine g_iload_n hx hb hl 5 rfl dX4_come_99 ?_
        refine g_ialoadG hx hb hKn hS h dX4_come_100 (fun x100 h => ?_)
        refine lv_iadd hx hb dX4_come_101 ?_
        refine g_iload hx hb hl 0 rfl dX4_come_102 ?_
        obtain ⟨b104, hb104, h⟩ := g_bnd h
        obtain ⟨hr104, hk104⟩ := g_chk hb104
        obtain ⟨z104, h104, h⟩ := g_bnd h
        refine g_callV (n := 3) (b := b104) (av := [.inl v1, .inl (2 + x100), .inl z76.1]) (rs := []) hx hb hml hown hts hKn hRc hRs hS hl (sX4_put l E D h104) (lw_V q2233 q2235 qs74 q135 q2236) ⟨rfl, by decide, by decide, by decide +kernel⟩ ⟨by rw [hRf]; exact Nat.le_of_ble_eq_true rfl, by rw [hRl]; exact Nat.le_of_ble_eq_true rfl⟩ (g_recv hKn hS hk104 (by decide) (by decide)) rfl (by rw [hr104]; rfl) (Nat.le_of_ble_eq_true rfl) dX4_come_104 (fun H locs cells slots hS => ?_)
        exact sX4_come_b107 C hk5 _ _ _ _ _ _ _ _ h _ _ _ _ _ hS (gls_sub hl [3, 4, 5, 2, 1, 0] rfl)
  · have h := g_iff (fun z => z c_51) h
    refine lv_goto (tgt := 5) hx hb dX4_come_54 (by decide) ?_
    exact hk5 _ _ _ _ _ _ h _ _ _ _ _ hS (gls_sub hl [1, 2, 3, 0] rfl)
theorem sX4_come_b46 {p : Program} {l : Launch} {e : Env} {R : Room} {s : State} {m : MethodId} {args : Array Value} {below : List Frame} {meth : Method} {c : Code} {E : g_E} {D : g_D} (C : gC p R s m args meth c cX4_come 8 RX4 "come" (none) 5 156 E D) {k5 : Nat → Int32 → Int32 → Int32 → g_G → Option (g_G)} (hk5 : ∀ (t : Nat) (v1 : Int32) (v3 : Int32) (v4 : Int32) (G : g_G) (q : g_G), k5 t v1 v3 v4 G = some q → ∀ (H : Heap) (locs : List Loc) (cells slots : Nat) (ls : Array Slot), gSt E D G H locs → gls ls 8 [(0, .inr (.inr (some t))), (1, .inl v1), (3, .inl v3), (4, .inl v4)] → gT p l e R s m args below meth c E D H locs cells slots none q (F0 m 5 ls [])) : ∀ (t : Nat) (v1 : Int32) (v3 : Int32) (G : g_G) (q : g_G), fX4_come_b46 E k5 t v1 v3 G = some q → ∀ (H : Heap) (locs : List Loc) (cells slots : Nat) (ls : Array Slot), gSt E D G H locs → gls ls 8 [(0, .inr (.inr (some t))), (1, .inl v1), (3, .inl v3)] → gT p l e R s m args below meth c E D H locs cells slots none q (F0 m 46 ls []) := by
  obtain ⟨hx, hb, hml, hown, hts, hKn, hRc, hRs, hc1, hc2, hRf, hRl, hr, hlk, hnm⟩ := id C
  intro t v1 v3 G q h H locs cells slots ls hS hl
  unfold fX4_come_b46 at h
  refine lv_iconst (v := 0) hx hb dX4_come_46 (by decide) ?_
  exact sX4_come_b47 C hk5 _ _ _ _ _ _ h _ _ _ _ _ hS (gls_sub hl [0, 1, 2] rfl)
theorem sX4_come_b42 {p : Program} {l : Launch} {e : Env} {R : Room} {s : State} {m : MethodId} {args : Array Value} {below : List Frame} {meth : Method} {c : Code} {E : g_E} {D : g_D} (C : gC p R s m args meth c cX4_come 8 RX4 "come" (none) 5 156 E D) {k5 : Nat → Int32 → Int32 → Int32 → g_G → Option (g_G)} (hk5 : ∀ (t : Nat) (v1 : Int32) (v3 : Int32) (v4 : Int32) (G : g_G) (q : g_G), k5 t v1 v3 v4 G = some q → ∀ (H : Heap) (locs : List Loc) (cells slots : Nat) (ls : Array Slot), gSt E D G H locs → gls ls 8 [(0, .inr (.inr (some t))), (1, .inl v1), (3, .inl v3), (4, .inl v4)] → gT p l e R s m args below meth c E D H locs cells slots none q (F0 m 5 ls [])) : ∀ (t : Nat) (v1 : Int32) (v3 : Int32) (G : g_G) (q : g_G), fX4_come_b42 E k5 t v1 v3 G = some q → ∀ (H : Heap) (locs : List Loc) (cells slots : Nat) (ls : Array Slot), gSt E D G H locs → gls ls 8 [(0, .inr (.inr (some t))), (1, .inl v1), (3, .inl v3)] → gT p l e R s m args below meth c E D H locs cells slots none q (F0 m 42 ls []) := by
  obtain ⟨hx, hb, hml, hown, hts, hKn, hRc, hRs, hc1, hc2, hRf, hRl, hr, hlk, hnm⟩ := id C
  intro t v1 v3 G q h H locs cells slots ls hS hl
  unfold fX4_come_b42 at h
  refine lv_iconst (v := 1) hx hb dX4_come_42 (by decide) ?_
  refine lv_goto (tgt := 47) hx hb dX4_come_43 (by decide) ?_
  exact sX4_come_b47 C hk5 _ _ _ _ _ _ h _ _ _ _ _ hS (gls_sub hl [0, 1, 2] rfl)
theorem sX4_come_b5 {p : Program} {l : Launch} {e : Env} {R : Room} {s : State} {m : MethodId} {args : Array Value} {below : List Frame} {meth : Method} {c : Code} {E : g_E} {D : g_D} (C : gC p R s m args meth c cX4_come 8 RX4 "come" (none) 5 156 E D) : ∀ (n : Nat) (t : Nat) (v1 : Int32) (v3 : Int32) (v4 : Int32) (G : g_G) (q : g_G), fX4_come_b5 E n t v1 v3 v4 G = some q → ∀ (H : Heap) (locs : List Loc) (cells slots : Nat) (ls : Array Slot), gSt E D G H locs → gls ls 8 [(0, .inr (.inr (some t))), (1, .inl v1), (3, .inl v3), (4, .inl v4)] → gT p l e R s m args below meth c E D H locs cells slots none q (F0 m 5 ls []) := by
  obtain ⟨hx, hb, hml, hown, hts, hKn, hRc, hRs, hc1, hc2, hRf, hRl, hr, hlk, hnm⟩ := id C
  intro n
  induction n with
  | zero =>
    intro t v1 v3 v4 G q h
    exact g_no h
  | succ n ih =>
    intro t v1 v3 v4 G q h H locs cells slots ls hS hl
    rw [fX4_come_b5] at h
    refine g_iload hx hb hl 3 rfl dX4_come_5 ?_
    refine lv_if_eq (tgt := 192) hx hb dX4_come_7 (by decide) (fun c_7 => ?_) (fun c_7 => ?_)
    · have h := g_ift c_7 h
      refine g_iload_n hx hb hl 2 rfl dX4_come_192 ?_
      refine lv_iconst (v := (-1)) hx hb dX4_come_193 (by decide) ?_
      refine lv_icmp_eq (tgt := 222) hx hb dX4_come_194 (by decide) (fun c_194 => ?_) (fun c_194 => ?_)
      · have h := g_ift c_194 h
        exact g_vretG hx hb hr hlk hKn hRc hRs hS h dX4_come_222
      · have h := g_iff c_194 h
        refine g_aload_n hx hb hl 0 rfl dX4_come_197 ?_
        refine g_rdR hx hb hown hts hKn hS h fd_4_4_24 rfl (Or.inl (hts _ q1889)) (fun _ z => z) dX4_come_198 (fun x198 h => ?_)
        refine g_iload_n hx hb hl 2 rfl dX4_come_201 ?_
        refine g_ialoadG hx hb hKn hS h dX4_come_202 (fun x202 h => ?_)
        refine lv_iconst (v := 3) hx hb dX4_come_203 (by decide) ?_
        refine lv_icmp_gt (tgt := 222) hx hb dX4_come_204 (by decide) (fun c_204 => ?_) (fun c_204 => ?_)
        · have h := g_ift c_204 h
          exact g_vretG hx hb hr hlk hKn hRc hRs hS h dX4_come_222
        · have h := g_iff c_204 h
          refine g_aload_n hx hb hl 0 rfl dX4_come_207 ?_
          refine g_iload_n hx hb hl 1 rfl dX4_come_208 ?_
          obtain ⟨b209, hb209, h⟩ := g_bnd h
          obtain ⟨hr209, hk209⟩ := g_chk hb209
          obtain ⟨z209, h209, h⟩ := g_bnd h
          refine g_callV (n := 1) (b := b209) (av := [.inl v1]) (rs := []) hx hb hml hown hts hKn hRc hRs hS hl (sX4_hasOther l E D h209) (lw_V q2256 q2258 qs79 q135 q2259) ⟨rfl, by decide, by decide, by decide +kernel⟩ ⟨by rw [hRf]; exact Nat.le_of_ble_eq_true rfl, by rw [hRl]; exact Nat.le_of_ble_eq_true rfl⟩ (g_recv hKn hS hk209 (by decide) (by decide)) rfl (by rw [hr209]; rfl) (Nat.le_of_ble_eq_true rfl) dX4_come_209 (fun H locs cells slots hS => ?_)
          refine lv_if_ne (tgt := 222) hx hb dX4_come_212 (by decide) (fun c_212 => ?_) (fun c_212 => ?_)
          · have h := g_ift c_212 h
            exact g_vretG hx hb hr hlk hKn hRc hRs hS h dX4_come_222
          · have h := g_iff (fun z => z c_212) h
            refine g_aload_n hx hb hl 0 rfl dX4_come_215 ?_
            refine g_iload_n hx hb hl 1 rfl dX4_come_216 ?_
            refine lv_iconst (v := 1) hx hb dX4_come_217 (by decide) ?_
            refine lv_iconst (v := 1) hx hb dX4_come_218 (by decide) ?_
            obtain ⟨b219, hb219, h⟩ := g_bnd h
            obtain ⟨hr219, hk219⟩ := g_chk hb219
            obtain ⟨z219, h219, h⟩ := g_bnd h
            refine g_callV (n := 3) (b := b219) (av := [.inl v1, .inl 1, .inl 1]) (rs := []) hx hb hml hown hts hKn hRc hRs hS hl (sX4_put l E D h219) (lw_V q2233 q2235 qs74 q135 q2236) ⟨rfl, by decide, by decide, by decide +kernel⟩ ⟨by rw [hRf]; exact Nat.le_of_ble_eq_true rfl, by rw [hRl]; exact Nat.le_of_ble_eq_true rfl⟩ (g_recv hKn hS hk219 (by decide) (by decide)) rfl (by rw [hr219]; rfl) (Nat.le_of_ble_eq_true rfl) dX4_come_219 (fun H locs cells slots hS => ?_)
            exact g_vretG hx hb hr hlk hKn hRc hRs hS h dX4_come_222
    · have h := g_iff c_7 h
      refine g_aload_n hx hb hl 0 rfl dX4_come_10 ?_
      refine g_iload_n hx hb hl 1 rfl dX4_come_11 ?_
      refine lv_iconst (v := 0) hx hb dX4_come_12 (by decide) ?_
      refine g_iload_n hx hb hl 2 rfl dX4_come_13 ?_
      obtain ⟨b14, hb14, h⟩ := g_bnd h
      obtain ⟨hr14, hk14⟩ := g_chk hb14
      obtain ⟨z14, h14, h⟩ := g_bnd h
      refine g_callV (n := 3) (b := b14) (av := [.inl v1, .inl 0, .inl v3]) (rs := []) hx hb hml hown hts hKn hRc hRs hS hl (sX4_put l E D h14) (lw_V q2233 q2235 qs74 q135 q2236) ⟨rfl, by decide, by decide, by decide +kernel⟩ ⟨by rw [hRf]; exact Nat.le_of_ble_eq_true rfl, by rw [hRl]; exact Nat.le_of_ble_eq_true rfl⟩ (g_recv hKn hS hk14 (by decide) (by decide)) rfl (by rw [hr14]; rfl) (Nat.le_of_ble_eq_true rfl) dX4_come_14 (fun H locs cells slots hS => ?_)
      refine g_iload_n hx hb hl 2 rfl dX4_come_17 ?_
      refine lv_iconst (v := (-1)) hx hb dX4_come_18 (by decide) ?_
      refine lv_icmp_eq (tgt := 46) hx hb dX4_come_19 (by decide) (fun c_19 => ?_) (fun c_19 => ?_)
      · have h := g_ift c_19 h
        exact sX4_come_b46 C ih _ _ _ _ _ h _ _ _ _ _ hS (gls_sub hl [0, 1, 2] rfl)
      · have h := g_iff c_19 h
        refine g_aload_n hx hb hl 0 rfl dX4_come_22 ?_
        refine g_rdR hx hb hown hts hKn hS h fd_4_4_32 rfl (Or.inl (hts _ q1897)) (fun _ z => z) dX4_come_23 (fun x23 h => ?_)
        refine g_iload_n hx hb hl 2 rfl dX4_come_26 ?_
        refine g_zaloadG hx hb hKn hS h dX4_come_27 (fun x27 h => ?_)
        refine lv_if_ne (tgt := 42) hx hb dX4_come_28 (by decide) (fun c_28 => ?_) (fun c_28 => ?_)
        · have h := g_ift c_28 h
          exact sX4_come_b42 C ih _ _ _ _ _ h _ _ _ _ _ hS (gls_sub hl [0, 1, 2] rfl)
        · have h := g_iff (fun z => z c_28) h
          refine g_aload_n hx hb hl 0 rfl dX4_come_31 ?_
          refine g_rdR hx hb hown hts hKn hS h fd_4_4_24 rfl (Or.inl (hts _ q1889)) (fun _ z => z) dX4_come_32 (fun x32 h => ?_)
          refine g_iload_n hx hb hl 2 rfl dX4_come_35 ?_
          refine g_ialoadG hx hb hKn hS h dX4_come_36 (fun x36 h => ?_)
          refine lv_bipush (v := 8) hx hb dX4_come_37 (by decide) ?_
          refine lv_icmp_lt (tgt := 46) hx hb dX4_come_39 (by decide) (fun c_39 => ?_) (fun c_39 => ?_)
          · have h := g_ift c_39 h
            exact sX4_come_b46 C ih _ _ _ _ _ h _ _ _ _ _ hS (gls_sub hl [0, 1, 2] rfl)
          · have h := g_iff c_39 h
            exact sX4_come_b42 C ih _ _ _ _ _ h _ _ _ _ _ hS (gls_sub hl [0, 1, 2] rfl)
theorem sX4_come (l : Launch) (E : g_E) (D : g_D) {t : Nat} {v1 : Int32} {v2 : Int32} {G : g_G} {q : g_G} (h : fX4_come E t v1 v2 G = some q) : gMet l E D yX4_come (ws_ yX4_come cX4_come 8 (none)) 5 156 [.inr (.inr (some t)), .inl v1, .inl v2] G none q := by
  refine gMet.of (by decide +kernel) (Nat.le_of_ble_eq_true rfl) ?_
  intro p e R s m args below meth c C hS ls hl
  have C : gC p R s m args meth c cX4_come 8 RX4 "come" (none) 5 156 E D := C
  obtain ⟨hx, hb, hml, hown, hts, hKn, hRc, hRs, hc1, hc2, hRf, hRl, hr, hlk, hnm⟩ := id C
  have hl : gls ls 8 [(0, .inr (.inr (some t))), (1, .inl v1), (2, .inl v2)] := hl
  generalize s.heap = H at hS ⊢
  unfold fX4_come at h
  refine g_iload_n hx hb hl 2 rfl dX4_come_0 ?_
  refine g_istore_n (l1 := [(3, .inl v2), (0, .inr (.inr (some t))), (1, .inl v1), (2, .inl v2)]) hx hb hl (by decide) rfl dX4_come_1 (fun ls hl => ?_)
  refine lv_iconst (v := 1) hx hb dX4_come_2 (by decide) ?_
  refine g_istore (l1 := [(4, .inl 1), (3, .inl v2), (0, .inr (.inr (some t))), (1, .inl v1), (2, .inl v2)]) hx hb hl (by decide) rfl dX4_come_3 (fun ls hl => ?_)
  exact sX4_come_b5 C gFU _ _ _ _ _ _ h _ _ _ _ _ hS (gls_sub hl [2, 3, 1, 0] rfl)
