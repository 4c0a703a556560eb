set_option maxRecDepth 100000
/-- SendHall.moves(LSendHall$Life;II)I -/
def fX1_moves_b91 (E : g_E) (v4 : Int32) (G : g_G) : Option (Int32 × g_G) :=
  some (v4, G)
def fX1_moves_b194 (E : g_E) (k145 : (Option Nat) → Int32 → Int32 → Int32 → g_G → Option (Int32 × g_G)) (v1 : Option Nat) (v2 : Int32) (v5 : Int32) (v6 : Int32) (G : g_G) : Option (Int32 × g_G) :=
  k145 v1 v2 v5 (v6 + 1) G
def fX1_moves_b145 (E : g_E) : Nat → (Option Nat) → Int32 → Int32 → Int32 → g_G → Option (Int32 × g_G)
  | 0, _, _, _, _, _ => none
  | n + 1, v1, v2, v5, v6, G =>
    (grI G 3 3 v1 0).bind fun x148 =>
    if x148 ≤ v6 then (
      some (v5, G))
    else (
      if v6 = v2 then (
        fX1_moves_b194 E (fX1_moves_b145 E n) v1 v2 v5 v6 G)
      else (
        (grR G 3 3 v1 3).bind fun x165 =>
        (gaR G 122 x165 v2).bind fun x169 =>
        (gcast G 16 16 x169).bind fun x170 =>
        (gchk G 16 x170).bind fun b175 =>
        (fX8_mark E b175 v1 v2 G).bind fun z175 =>
        (gchk z175.2 3 v1).bind fun b178 =>
        (fX3_first E b178 v6 v2 z175.1 z175.2).bind fun z178 =>
        if z178.1 = (-1 : Int32) then (
          fX1_moves_b194 E (fX1_moves_b145 E n) v1 v2 v5 v6 z178.2)
        else (
          fX1_moves_b194 E (fX1_moves_b145 E n) v1 v2 (v5 ||| (1 <<< (v6 &&& 31))) v6 z178.2)))
def fX1_moves (E : g_E) (t : Nat) (v1 : Option Nat) (v2 : Int32) (v3 : Int32) (G : g_G) : Option (Int32 × g_G) :=
  (gchk G 3 v1).bind fun b2 =>
  (fX3_hasEnded E b2 v2 G).bind fun z2 =>
  if ¬ z2.1 = 0 then (
    some (0, z2.2))
  else (
    (grR z2.2 3 3 v1 4).bind fun x9 =>
    (gaI z2.2 102 x9 v2).bind fun x13 =>
    if x13 = 0 then (
      (grR z2.2 3 3 v1 3).bind fun x25 =>
      (gaR z2.2 122 x25 v2).bind fun x29 =>
      (grI z2.2 11 16 x29 0).bind fun x30 =>
      if x30 = 0 then (
        (gchk z2.2 1 (some t)).bind fun b76 =>
        (fX1_mayLie E b76 v1 v2 v3 z2.2).bind fun z76 =>
        if ¬ z76.1 = 0 then (
          fX1_moves_b91 E (1 <<< (v2 &&& 31)) z76.2)
        else (
          (gchk z76.2 1 (some t)).bind fun b85 =>
          (fX1_handsOver E b85 v1 v2 z76.2).bind fun z85 =>
          if z85.1 = 0 then (
            some (0, z85.2))
          else (
            fX1_moves_b91 E (1 <<< (v2 &&& 31)) z85.2)))
      else
      if x30 = 1 then (
        (gchk z2.2 1 (some t)).bind fun b76 =>
        (fX1_mayLie E b76 v1 v2 v3 z2.2).bind fun z76 =>
        if ¬ z76.1 = 0 then (
          fX1_moves_b91 E (1 <<< (v2 &&& 31)) z76.2)
        else (
          (gchk z76.2 1 (some t)).bind fun b85 =>
          (fX1_handsOver E b85 v1 v2 z76.2).bind fun z85 =>
          if z85.1 = 0 then (
            some (0, z85.2))
          else (
            fX1_moves_b91 E (1 <<< (v2 &&& 31)) z85.2)))
      else
      if x30 = 2 then (
        (gchk z2.2 1 (some t)).bind fun b76 =>
        (fX1_mayLie E b76 v1 v2 v3 z2.2).bind fun z76 =>
        if ¬ z76.1 = 0 then (
          fX1_moves_b91 E (1 <<< (v2 &&& 31)) z76.2)
        else (
          (gchk z76.2 1 (some t)).bind fun b85 =>
          (fX1_handsOver E b85 v1 v2 z76.2).bind fun z85 =>
          if z85.1 = 0 then (
            some (0, z85.2))
          else (
            fX1_moves_b91 E (1 <<< (v2 &&& 31)) z85.2)))
      else
      if x30 = 3 then (
        (grR z2.2 3 3 v1 3).bind fun x99 =>
        (gaR z2.2 122 x99 v2).bind fun x103 =>
        (gcast z2.2 16 16 x103).bind fun x104 =>
        (gchk z2.2 16 x104).bind fun b114 =>
        (fX13_of E b114 v1 v2 z2.2).bind fun z114 =>
        (gchk z114.2 16 x104).bind fun b122 =>
        (fX8_mark E b122 v1 v2 z114.2).bind fun z122 =>
        (gchk z122.2 3 v1).bind fun b125 =>
        (fX3_first E b125 z114.1 v2 z122.1 z122.2).bind fun z125 =>
        if ¬ z125.1 = (-1 : Int32) then (
          some ((1 <<< (v2 &&& 31)), z125.2))
        else (
          some (0, z125.2)))
      else
      if x30 = 4 then (
        fX1_moves_b145 E gFU v1 v2 0 0 z2.2)
      else
      if x30 = 5 then (
        (gchk z2.2 3 v1).bind fun b205 =>
        (fX3_begun E b205 v2 z2.2).bind fun z205 =>
        if ¬ z205.1 = 0 then (
          some (0, z205.2))
        else (
          some ((1 <<< (v2 &&& 31)), z205.2)))
      else
      (
        if ¬ v2 = 0 then (
          some (0, z2.2))
        else (
          (grR z2.2 3 3 v1 3).bind fun x225 =>
          (gaR z2.2 122 x225 v2).bind fun x229 =>
          (grI z2.2 11 16 x229 0).bind fun x230 =>
          (gchk z2.2 1 (some t)).bind fun b233 =>
          (fX1_areAllAt E b233 v1 x230 z2.2).bind fun z233 =>
          if z233.1 = 0 then (
            some (0, z233.2))
          else (
            some ((1 <<< (v2 &&& 31)), z233.2)))))
    else (
      some (0, z2.2)))
theorem sX1_moves_b91 {p : Program} {l : Launch} {e : Env} {R : Room} {s : State} {m : MethodId} {args : Array Value} {below : List Frame} {meth : Method} {c : Code} {E : g_E} {D : g_D} (C : gC p R s m args meth c cX1_moves 7 RX1 "moves" (some .int) 220 7353 E D) : ∀ (v4 : Int32) (G : g_G) (q : Int32 × g_G), fX1_moves_b91 E v4 G = some q → ∀ (H : Heap) (locs : List Loc) (cells slots : Nat) (ls : Array Slot), gSt E D G H locs → gls ls 7 [(4, .inl v4)] → gT p l e R s m args below meth c E D H locs cells slots (some (.int q.1)) q.2 (F0 m 91 ls []) := by
  obtain ⟨hx, hb, hml, hown, hts, hKn, hRc, hRs, hc1, hc2, hRf, hRl, hr, hlk, hnm⟩ := id C
  intro v4 G q h H locs cells slots ls hS hl
  unfold fX1_moves_b91 at h
  refine g_iload hx hb hl 0 rfl dX1_moves_91 ?_
  refine lv_goto (tgt := 97) hx hb dX1_moves_93 (by decide) ?_
  exact g_iretG hx hb hr hlk hKn hRc hRs hS h dX1_moves_97
theorem sX1_moves_b194 {p : Program} {l : Launch} {e : Env} {R : Room} {s : State} {m : MethodId} {args : Array Value} {below : List Frame} {meth : Method} {c : Code} {E : g_E} {D : g_D} (C : gC p R s m args meth c cX1_moves 7 RX1 "moves" (some .int) 220 7353 E D) {k145 : (Option Nat) → Int32 → Int32 → Int32 → g_G → Option (Int32 × g_G)} (hk145 : ∀ (v1 : Option Nat) (v2 : Int32) (v5 : Int32) (v6 : Int32) (G : g_G) (q : Int32 × g_G), k145 v1 v2 v5 v6 G = some q → ∀ (H : Heap) (locs : List Loc) (cells slots : Nat) (ls : Array Slot), gSt E D G H locs → gls ls 7 [(1, .inr (.inr v1)), (2, .inl v2), (5, .inl v5), (6, .inl v6)] → gT p l e R s m args below meth c E D H locs cells slots (some (.int q.1)) q.2 (F0 m 145 ls [])) : ∀ (v1 : Option Nat) (v2 : Int32) (v5 : Int32) (v6 : Int32) (G : g_G) (q : Int32 × g_G), fX1_moves_b194 E k145 v1 v2 v5 v6 G = some q → ∀ (H : Heap) (locs : List Loc) (cells slots : Nat) (ls : Array Slot), gSt E D G H locs → gls ls 7 [(1, .inr (.inr v1)), (2, .inl v2), (5, .inl v5), (6, .inl v6)] → gT p l e R s m args below meth c E D H locs cells slots (some (.int q.1)) q.2 (F0 m 194 ls []) := by
  obtain ⟨hx, hb, hml, hown, hts, hKn, hRc, hRs, hc1, hc2, hRf, hRl, hr, hlk, hnm⟩ := id C
  intro v1 v2 v5 v6 G q h H locs cells slots ls hS hl
  unfold fX1_moves_b194 at h
  refine g_iinc (l1 := [(6, .inl (v6 + 1)), (1, .inr (.inr v1)), (2, .inl v2), (5, .inl v5)]) (v := (v6 + 1)) hx hb hl (k := 3) rfl (by rfl) (by decide) rfl dX1_moves_194 (fun ls hl => ?_)
  refine lv_goto (tgt := 145) hx hb dX1_moves_197 (by decide) ?_
  exact hk145 _ _ _ _ _ _ h _ _ _ _ _ hS (gls_sub hl [1, 2, 3, 0] rfl)
theorem sX1_moves_b145 {p : Program} {l : Launch} {e : Env} {R : Room} {s : State} {m : MethodId} {args : Array Value} {below : List Frame} {meth : Method} {c : Code} {E : g_E} {D : g_D} (C : gC p R s m args meth c cX1_moves 7 RX1 "moves" (some .int) 220 7353 E D) : ∀ (n : Nat) (v1 : Option Nat) (v2 : Int32) (v5 : Int32) (v6 : Int32) (G : g_G) (q : Int32 × g_G), fX1_moves_b145 E n v1 v2 v5 v6 G = some q → ∀ (H : Heap) (locs : List Loc) (cells slots : Nat) (ls : Array Slot), gSt E D G H locs → gls ls 7 [(1, .inr (.inr v1)), (2, .inl v2), (5, .inl v5), (6, .inl v6)] → gT p l e R s m args below meth c E D H locs cells slots (some (.int q.1)) q.2 (F0 m 145 ls []) := by
  obtain ⟨hx, hb, hml, hown, hts, hKn, hRc, hRs, hc1, hc2, hRf, hRl, hr, hlk, hnm⟩ := id C
  intro n
  induction n with
  | zero =>
    intro v1 v2 v5 v6 G q h
    exact g_no h
  | succ n ih =>
    intro v1 v2 v5 v6 G q h H locs cells slots ls hS hl
    rw [fX1_moves_b145] at h
    refine g_iload hx hb hl 3 rfl dX1_moves_145 ?_
    refine g_aload_n hx hb hl 0 rfl dX1_moves_147 ?_
    refine g_rdI hx hb hown hts hKn hS h fd_3_3_0 rfl (Or.inr ⟨_, gNest_use rfl (hKn.2.2.2.2.1 _ (gNest_in q537 rfl))⟩) (fun _ z => z) dX1_moves_148 (fun x148 h => ?_)
    refine lv_icmp_ge (tgt := 200) hx hb dX1_moves_151 (by decide) (fun c_151 => ?_) (fun c_151 => ?_)
    · have h := g_ift c_151 h
      refine g_iload hx hb hl 2 rfl dX1_moves_200 ?_
      exact g_iretG hx hb hr hlk hKn hRc hRs hS h dX1_moves_202
    · have h := g_iff c_151 h
      refine g_iload hx hb hl 3 rfl dX1_moves_154 ?_
      refine g_iload_n hx hb hl 1 rfl dX1_moves_156 ?_
      refine lv_icmp_eq (tgt := 194) hx hb dX1_moves_157 (by decide) (fun c_157 => ?_) (fun c_157 => ?_)
      · have h := g_ift c_157 h
        exact sX1_moves_b194 C ih _ _ _ _ _ _ h _ _ _ _ _ hS (gls_sub hl [0, 1, 2, 3] rfl)
      · have h := g_iff c_157 h
        refine g_aload_n hx hb hl 0 rfl dX1_moves_160 ?_
        refine g_iload hx hb hl 3 rfl dX1_moves_161 ?_
        refine g_iload_n hx hb hl 1 rfl dX1_moves_163 ?_
        refine g_aload_n hx hb hl 0 rfl dX1_moves_164 ?_
        refine g_rdR hx hb hown hts hKn hS h fd_3_3_3 rfl (Or.inr ⟨_, gNest_use rfl (hKn.2.2.2.2.1 _ (gNest_in q545 rfl))⟩) (fun _ z => z) dX1_moves_165 (fun x165 h => ?_)
        refine g_iload_n hx hb hl 1 rfl dX1_moves_168 ?_
        refine g_aaloadG hx hb hKn hS h (by decide) dX1_moves_169 (fun x169 h => ?_)
        refine g_castS (k := 16) hx hb hown hKn hS h (by decide) (by decide) (hts _ q878) dX1_moves_170 (fun x170 h => ?_)
        refine g_aload_n hx hb hl 0 rfl dX1_moves_173 ?_
        refine g_iload_n hx hb hl 1 rfl dX1_moves_174 ?_
        obtain ⟨b175, hb175, h⟩ := g_bnd h
        obtain ⟨hr175, hk175⟩ := g_chk hb175
        obtain ⟨z175, h175, h⟩ := g_bnd h
        refine g_callU (n := 2) (b := b175) (av := [.inr (.inr v1), .inl v2]) (rs := [.inl v2, .inl v6, .inr (.inr v1)]) hx hb hml hown hts hKn hRc hRs hS hl (C := "SendHall$Wait") (owner := "SendHall$Talk") (x := ⟨"SendHall$Wait", "mark", "(LSendHall$Life;I)I"⟩) (sX8_mark l E D h175) (va_cwU 2 hts (lw_app (lw_in _ [883, 884, 885, 870, 142] (by decide +kernel) (by decide +kernel)) (lw_meth q871)) rfl rfl rfl rfl ⟨by decide, by decide, by decide +kernel⟩ ⟨by rw [hRf]; exact Nat.le_of_ble_eq_true rfl, by rw [hRl]; exact Nat.le_of_ble_eq_true rfl⟩) (g_recv hKn hS hk175 (by decide) (by decide)) rfl (by rw [hr175]; rfl) (Nat.le_of_ble_eq_true rfl) dX1_moves_175 (fun H locs cells slots hS => ?_)
        obtain ⟨b178, hb178, h⟩ := g_bnd h
        obtain ⟨hr178, hk178⟩ := g_chk hb178
        obtain ⟨z178, h178, h⟩ := g_bnd h
        refine g_callV (n := 3) (b := b178) (av := [.inl v6, .inl v2, .inl z175.1]) (rs := []) hx hb hml hown hts hKn hRc hRs hS hl (sX3_first l E D h178) (lw_V q886 q887 q888 q134 q889) ⟨rfl, by decide, by decide, by decide +kernel⟩ ⟨by rw [hRf]; exact Nat.le_of_ble_eq_true rfl, by rw [hRl]; exact Nat.le_of_ble_eq_true rfl⟩ (g_recv hKn hS hk178 (by decide) (by decide)) rfl (by rw [hr178]; rfl) (Nat.le_of_ble_eq_true rfl) dX1_moves_178 (fun H locs cells slots hS => ?_)
        refine lv_iconst (v := (-1)) hx hb dX1_moves_181 (by decide) ?_
        refine lv_icmp_eq (tgt := 194) hx hb dX1_moves_182 (by decide) (fun c_182 => ?_) (fun c_182 => ?_)
        · have h := g_ift c_182 h
          exact sX1_moves_b194 C ih _ _ _ _ _ _ h _ _ _ _ _ hS (gls_sub hl [0, 1, 2, 3] rfl)
        · have h := g_iff c_182 h
          refine g_iload hx hb hl 2 rfl dX1_moves_185 ?_
          refine lv_iconst (v := 1) hx hb dX1_moves_187 (by decide) ?_
          refine g_iload hx hb hl 3 rfl dX1_moves_188 ?_
          refine lv_ishl hx hb dX1_moves_190 ?_
          refine lv_ior hx hb dX1_moves_191 ?_
          refine g_istore (l1 := [(5, .inl (v5 ||| (1 <<< (v6 &&& 31)))), (1, .inr (.inr v1)), (2, .inl v2), (6, .inl v6)]) hx hb hl (by decide) rfl dX1_moves_192 (fun ls hl => ?_)
          exact sX1_moves_b194 C ih _ _ _ _ _ _ h _ _ _ _ _ hS (gls_sub hl [1, 2, 0, 3] rfl)
theorem sX1_moves (l : Launch) (E : g_E) (D : g_D) {t : Nat} {v1 : Option Nat} {v2 : Int32} {v3 : Int32} {G : g_G} {q : Int32 × g_G} (h : fX1_moves E t v1 v2 v3 G = some q) : gMet l E D yX1_moves (ws_ yX1_moves cX1_moves 7 (some .int)) 220 7353 [.inr (.inr (some t)), .inr (.inr v1), .inl v2, .inl v3] G (some (.int q.1)) q.2 := by
  refine gMet.of (by decide +kernel) (Nat.le_of_ble_eq_true rfl) ?_
  intro p e R s m args below meth c C hS ls hl
  have C : gC p R s m args meth c cX1_moves 7 RX1 "moves" (some .int) 220 7353 E D := C
  obtain ⟨hx, hb, hml, hown, hts, hKn, hRc, hRs, hc1, hc2, hRf, hRl, hr, hlk, hnm⟩ := id C
  have hl : gls ls 7 [(0, .inr (.inr (some t))), (1, .inr (.inr v1)), (2, .inl v2), (3, .inl v3)] := hl
  generalize s.heap = H at hS ⊢
  unfold fX1_moves at h
  refine g_aload_n hx hb hl 1 rfl dX1_moves_0 ?_
  refine g_iload_n hx hb hl 2 rfl dX1_moves_1 ?_
  obtain ⟨b2, hb2, h⟩ := g_bnd h
  obtain ⟨hr2, hk2⟩ := g_chk hb2
  obtain ⟨z2, h2, h⟩ := g_bnd h
  refine g_callV (n := 1) (b := b2) (av := [.inl v2]) (rs := []) hx hb hml hown hts hKn hRc hRs hS hl (sX3_hasEnded l E D h2) (lw_V q848 q849 q850 q134 q851) ⟨rfl, by decide, by decide, by decide +kernel⟩ ⟨by rw [hRf]; exact Nat.le_of_ble_eq_true rfl, by rw [hRl]; exact Nat.le_of_ble_eq_true rfl⟩ (g_recv hKn hS hk2 (by decide) (by decide)) rfl (by rw [hr2]; rfl) (Nat.le_of_ble_eq_true rfl) dX1_moves_2 (fun H locs cells slots hS => ?_)
  refine lv_if_ne (tgt := 17) hx hb dX1_moves_5 (by decide) (fun c_5 => ?_) (fun c_5 => ?_)
  · have h := g_ift c_5 h
    refine lv_iconst (v := 0) hx hb dX1_moves_17 (by decide) ?_
    exact g_iretG hx hb hr hlk hKn hRc hRs hS h dX1_moves_18
  · have h := g_iff (fun z => z c_5) h
    refine g_aload_n hx hb hl 1 rfl dX1_moves_8 ?_
    refine g_rdR hx hb hown hts hKn hS h fd_3_3_4 rfl (Or.inr ⟨_, gNest_use rfl (hKn.2.2.2.2.1 _ (gNest_in q547 rfl))⟩) (fun _ z => z) dX1_moves_9 (fun x9 h => ?_)
    refine g_iload_n hx hb hl 2 rfl dX1_moves_12 ?_
    refine g_zaloadG hx hb hKn hS h dX1_moves_13 (fun x13 h => ?_)
    refine lv_if_eq (tgt := 19) hx hb dX1_moves_14 (by decide) (fun c_14 => ?_) (fun c_14 => ?_)
    · have h := g_ift c_14 h
      refine lv_iconst (v := 1) hx hb dX1_moves_19 (by decide) ?_
      refine g_iload_n hx hb hl 2 rfl dX1_moves_20 ?_
      refine lv_ishl hx hb dX1_moves_21 ?_
      refine g_istore (l1 := [(4, .inl (1 <<< (v2 &&& 31))), (0, .inr (.inr (some t))), (1, .inr (.inr v1)), (2, .inl v2), (3, .inl v3)]) hx hb hl (by decide) rfl dX1_moves_22 (fun ls hl => ?_)
      refine g_aload_n hx hb hl 2 rfl dX1_moves_24 ?_
      refine g_rdR hx hb hown hts hKn hS h fd_3_3_3 rfl (Or.inr ⟨_, gNest_use rfl (hKn.2.2.2.2.1 _ (gNest_in q545 rfl))⟩) (fun _ z => z) dX1_moves_25 (fun x25 h => ?_)
      refine g_iload_n hx hb hl 3 rfl dX1_moves_28 ?_
      refine g_aaloadG hx hb hKn hS h (by decide) dX1_moves_29 (fun x29 h => ?_)
      refine g_rdI hx hb hown hts hKn hS h fd_11_16_0 rfl (Or.inl (hts _ q1422)) (fun _ z => z) dX1_moves_30 (fun x30 h => ?_)
      by_cases w33_0 : x30 = 0
      · refine lv_tableIn (tgt := 72) (off := 39) hx hb dX1_moves_33 (by rw [w33_0]; decide) (by rw [w33_0]; decide) (by rw [w33_0]; decide) (by decide) ?_
        have h := g_ift w33_0 h
        refine g_aload_n hx hb hl 1 rfl dX1_moves_72 ?_
        refine g_aload_n hx hb hl 2 rfl dX1_moves_73 ?_
        refine g_iload_n hx hb hl 3 rfl dX1_moves_74 ?_
        refine g_iload_n hx hb hl 4 rfl dX1_moves_75 ?_
        obtain ⟨b76, hb76, h⟩ := g_bnd h
        obtain ⟨hr76, hk76⟩ := g_chk hb76
        obtain ⟨z76, h76, h⟩ := g_bnd h
        refine g_callV (n := 3) (b := b76) (av := [.inr (.inr v1), .inl v2, .inl v3]) (rs := []) hx hb hml hown hts hKn hRc hRs hS hl (sX1_mayLie l E D h76) (lw_V q852 q854 qs7 q113 q855) ⟨rfl, by decide, by decide, by decide +kernel⟩ ⟨by rw [hRf]; exact Nat.le_of_ble_eq_true rfl, by rw [hRl]; exact Nat.le_of_ble_eq_true rfl⟩ (g_recv hKn hS hk76 (by decide) (by decide)) rfl (by rw [hr76]; rfl) (Nat.le_of_ble_eq_true rfl) dX1_moves_76 (fun H locs cells slots hS => ?_)
        refine lv_if_ne (tgt := 91) hx hb dX1_moves_79 (by decide) (fun c_79 => ?_) (fun c_79 => ?_)
        · have h := g_ift c_79 h
          exact sX1_moves_b91 C _ _ _ h _ _ _ _ _ hS (gls_sub hl [0] rfl)
        · have h := g_iff (fun z => z c_79) h
          refine g_aload_n hx hb hl 1 rfl dX1_moves_82 ?_
          refine g_aload_n hx hb hl 2 rfl dX1_moves_83 ?_
          refine g_iload_n hx hb hl 3 rfl dX1_moves_84 ?_
          obtain ⟨b85, hb85, h⟩ := g_bnd h
          obtain ⟨hr85, hk85⟩ := g_chk hb85
          obtain ⟨z85, h85, h⟩ := g_bnd h
          refine g_callV (n := 2) (b := b85) (av := [.inr (.inr v1), .inl v2]) (rs := []) hx hb hml hown hts hKn hRc hRs hS hl (sX1_handsOver l E D h85) (lw_V q862 q864 qs8 q113 q865) ⟨rfl, by decide, by decide, by decide +kernel⟩ ⟨by rw [hRf]; exact Nat.le_of_ble_eq_true rfl, by rw [hRl]; exact Nat.le_of_ble_eq_true rfl⟩ (g_recv hKn hS hk85 (by decide) (by decide)) rfl (by rw [hr85]; rfl) (Nat.le_of_ble_eq_true rfl) dX1_moves_85 (fun H locs cells slots hS => ?_)
          refine lv_if_eq (tgt := 96) hx hb dX1_moves_88 (by decide) (fun c_88 => ?_) (fun c_88 => ?_)
          · have h := g_ift c_88 h
            refine lv_iconst (v := 0) hx hb dX1_moves_96 (by decide) ?_
            exact g_iretG hx hb hr hlk hKn hRc hRs hS h dX1_moves_97
          · have h := g_iff c_88 h
            exact sX1_moves_b91 C _ _ _ h _ _ _ _ _ hS (gls_sub hl [0] rfl)
      have h := g_iff w33_0 h
      by_cases w33_1 : x30 = 1
      · refine lv_tableIn (tgt := 72) (off := 39) hx hb dX1_moves_33 (by rw [w33_1]; decide) (by rw [w33_1]; decide) (by rw [w33_1]; decide) (by decide) ?_
        have h := g_ift w33_1 h
        refine g_aload_n hx hb hl 1 rfl dX1_moves_72 ?_
        refine g_aload_n hx hb hl 2 rfl dX1_moves_73 ?_
        refine g_iload_n hx hb hl 3 rfl dX1_moves_74 ?_
        refine g_iload_n hx hb hl 4 rfl dX1_moves_75 ?_
        obtain ⟨b76, hb76, h⟩ := g_bnd h
        obtain ⟨hr76, hk76⟩ := g_chk hb76
        obtain ⟨z76, h76, h⟩ := g_bnd h
        refine g_callV (n := 3) (b := b76) (av := [.inr (.inr v1), .inl v2, .inl v3]) (rs := []) hx hb hml hown hts hKn hRc hRs hS hl (sX1_mayLie l E D h76) (lw_V q852 q854 qs7 q113 q855) ⟨rfl, by decide, by decide, by decide +kernel⟩ ⟨by rw [hRf]; exact Nat.le_of_ble_eq_true rfl, by rw [hRl]; exact Nat.le_of_ble_eq_true rfl⟩ (g_recv hKn hS hk76 (by decide) (by decide)) rfl (by rw [hr76]; rfl) (Nat.le_of_ble_eq_true rfl) dX1_moves_76 (fun H locs cells slots hS => ?_)
        refine lv_if_ne (tgt := 91) hx hb dX1_moves_79 (by decide) (fun c_79 => ?_) (fun c_79 => ?_)
        · have h := g_ift c_79 h
          exact sX1_moves_b91 C _ _ _ h _ _ _ _ _ hS (gls_sub hl [0] rfl)
        · have h := g_iff (fun z => z c_79) h
          refine g_aload_n hx hb hl 1 rfl dX1_moves_82 ?_
          refine g_aload_n hx hb hl 2 rfl dX1_moves_83 ?_
          refine g_iload_n hx hb hl 3 rfl dX1_moves_84 ?_
          obtain ⟨b85, hb85, h⟩ := g_bnd h
          obtain ⟨hr85, hk85⟩ := g_chk hb85
          obtain ⟨z85, h85, h⟩ := g_bnd h
          refine g_callV (n := 2) (b := b85) (av := [.inr (.inr v1), .inl v2]) (rs := []) hx hb hml hown hts hKn hRc hRs hS hl (sX1_handsOver l E D h85) (lw_V q862 q864 qs8 q113 q865) ⟨rfl, by decide, by decide, by decide +kernel⟩ ⟨by rw [hRf]; exact Nat.le_of_ble_eq_true rfl, by rw [hRl]; exact Nat.le_of_ble_eq_true rfl⟩ (g_recv hKn hS hk85 (by decide) (by decide)) rfl (by rw [hr85]; rfl) (Nat.le_of_ble_eq_true rfl) dX1_moves_85 (fun H locs cells slots hS => ?_)
          refine lv_if_eq (tgt := 96) hx hb dX1_moves_88 (by decide) (fun c_88 => ?_) (fun c_88 => ?_)
          · have h := g_ift c_88 h
            refine lv_iconst (v := 0) hx hb dX1_moves_96 (by decide) ?_
            exact g_iretG hx hb hr hlk hKn hRc hRs hS h dX1_moves_97
          · have h := g_iff c_88 h
            exact sX1_moves_b91 C _ _ _ h _ _ _ _ _ hS (gls_sub hl [0] rfl)
      have h := g_iff w33_1 h
      by_cases w33_2 : x30 = 2
      · refine lv_tableIn (tgt := 72) (off := 39) hx hb dX1_moves_33 (by rw [w33_2]; decide) (by rw [w33_2]; decide) (by rw [w33_2]; decide) (by decide) ?_
        have h := g_ift w33_2 h
        refine g_aload_n hx hb hl 1 rfl dX1_moves_72 ?_
        refine g_aload_n hx hb hl 2 rfl dX1_moves_73 ?_
        refine g_iload_n hx hb hl 3 rfl dX1_moves_74 ?_
        refine g_iload_n hx hb hl 4 rfl dX1_moves_75 ?_
        obtain ⟨b76, hb76, h⟩ := g_bnd h
        obtain ⟨hr76, hk76⟩ := g_chk hb76
        obtain ⟨z76, h76, h⟩ := g_bnd h
        refine g_callV (n := 3) (b := b76) (av := [.inr (.inr v1), .inl v2, .inl v3]) (rs := []) hx hb hml hown hts hKn hRc hRs hS hl (sX1_mayLie l E D h76) (lw_V q852 q854 qs7 q113 q855) ⟨rfl, by decide, by decide, by decide +kernel⟩ ⟨by rw [hRf]; exact Nat.le_of_ble_eq_true rfl, by rw [hRl]; exact Nat.le_of_ble_eq_true rfl⟩ (g_recv hKn hS hk76 (by decide) (by decide)) rfl (by rw [hr76]; rfl) (Nat.le_of_ble_eq_true rfl) dX1_moves_76 (fun H locs cells slots hS => ?_)
        refine lv_if_ne (tgt := 91) hx hb dX1_moves_79 (by decide) (fun c_79 => ?_) (fun c_79 => ?_)
        · have h := g_ift c_79 h
          exact sX1_moves_b91 C _ _ _ h _ _ _ _ _ hS (gls_sub hl [0] rfl)
        · have h := g_iff (fun z => z c_79) h
          refine g_aload_n hx hb hl 1 rfl dX1_moves_82 ?_
          refine g_aload_n hx hb hl 2 rfl dX1_moves_83 ?_
          refine g_iload_n hx hb hl 3 rfl dX1_moves_84 ?_
          obtain ⟨b85, hb85, h⟩ := g_bnd h
          obtain ⟨hr85, hk85⟩ := g_chk hb85
          obtain ⟨z85, h85, h⟩ := g_bnd h
          refine g_callV (n := 2) (b := b85) (av := [.inr (.inr v1), .inl v2]) (rs := []) hx hb hml hown hts hKn hRc hRs hS hl (sX1_handsOver l E D h85) (lw_V q862 q864 qs8 q113 q865) ⟨rfl, by decide, by decide, by decide +kernel⟩ ⟨by rw [hRf]; exact Nat.le_of_ble_eq_true rfl, by rw [hRl]; exact Nat.le_of_ble_eq_true rfl⟩ (g_recv hKn hS hk85 (by decide) (by decide)) rfl (by rw [hr85]; rfl) (Nat.le_of_ble_eq_true rfl) dX1_moves_85 (fun H locs cells slots hS => ?_)
          refine lv_if_eq (tgt := 96) hx hb dX1_moves_88 (by decide) (fun c_88 => ?_) (fun c_88 => ?_)
          · have h := g_ift c_88 h
            refine lv_iconst (v := 0) hx hb dX1_moves_96 (by decide) ?_
            exact g_iretG hx hb hr hlk hKn hRc hRs hS h dX1_moves_97
          · have h := g_iff c_88 h
            exact sX1_moves_b91 C _ _ _ h _ _ _ _ _ hS (gls_sub hl [0] rfl)
      have h := g_iff w33_2 h
      by_cases w33_3 : x30 = 3
      · refine lv_tableIn (tgt := 98) (off := 65) hx hb dX1_moves_33 (by rw [w33_3]; decide) (by rw [w33_3]; decide) (by rw [w33_3]; decide) (by decide) ?_
        have h := g_ift w33_3 h
        refine g_aload_n hx hb hl 2 rfl dX1_moves_98 ?_
        refine g_rdR hx hb hown hts hKn hS h fd_3_3_3 rfl (Or.inr ⟨_, gNest_use rfl (hKn.2.2.2.2.1 _ (gNest_in q545 rfl))⟩) (fun _ z => z) dX1_moves_99 (fun x99 h => ?_)
        refine g_iload_n hx hb hl 3 rfl dX1_moves_102 ?_
        refine g_aaloadG hx hb hKn hS h (by decide) dX1_moves_103 (fun x103 h => ?_)
        refine g_castS (k := 16) hx hb hown hKn hS h (by decide) (by decide) (hts _ q878) dX1_moves_104 (fun x104 h => ?_)
        refine g_astore (l1 := [(5, .inr (.inr x104)), (4, .inl (1 <<< (v2 &&& 31))), (0, .inr (.inr (some t))), (1, .inr (.inr v1)), (2, .inl v2), (3, .inl v3)]) hx hb hl (by decide) rfl dX1_moves_107 (fun ls hl => ?_)
        refine g_aload_n hx hb hl 3 rfl dX1_moves_109 ?_
        refine g_aload hx hb hl 0 rfl dX1_moves_110 ?_
        refine g_aload_n hx hb hl 3 rfl dX1_moves_112 ?_
        refine g_iload_n hx hb hl 4 rfl dX1_moves_113 ?_
        obtain ⟨b114, hb114, h⟩ := g_bnd h
        obtain ⟨hr114, hk114⟩ := g_chk hb114
        obtain ⟨z114, h114, h⟩ := g_bnd h
        refine g_callV (n := 2) (b := b114) (av := [.inr (.inr v1), .inl v2]) (rs := [.inr (.inr v1)]) hx hb hml hown hts hKn hRc hRs hS hl (sX13_of l E D h114) (lw_V q890 q827 q828 q148 q829) ⟨rfl, by decide, by decide, by decide +kernel⟩ ⟨by rw [hRf]; exact Nat.le_of_ble_eq_true rfl, by rw [hRl]; exact Nat.le_of_ble_eq_true rfl⟩ (g_recv hKn hS hk114 (by decide) (by decide)) rfl (by rw [hr114]; rfl) (Nat.le_of_ble_eq_true rfl) dX1_moves_114 (fun H locs cells slots hS => ?_)
        refine g_iload_n hx hb hl 4 rfl dX1_moves_117 ?_
        refine g_aload hx hb hl 0 rfl dX1_moves_118 ?_
        refine g_aload_n hx hb hl 3 rfl dX1_moves_120 ?_
        refine g_iload_n hx hb hl 4 rfl dX1_moves_121 ?_
        obtain ⟨b122, hb122, h⟩ := g_bnd h
        obtain ⟨hr122, hk122⟩ := g_chk hb122
        obtain ⟨z122, h122, h⟩ := g_bnd h
        refine g_callU (n := 2) (b := b122) (av := [.inr (.inr v1), .inl v2]) (rs := [.inl v2, .inl z114.1, .inr (.inr v1)]) hx hb hml hown hts hKn hRc hRs hS hl (C := "SendHall$Wait") (owner := "SendHall$Talk") (x := ⟨"SendHall$Wait", "mark", "(LSendHall$Life;I)I"⟩) (sX8_mark l E D h122) (va_cwU 2 hts (lw_app (lw_in _ [883, 884, 885, 870, 142] (by decide +kernel) (by decide +kernel)) (lw_meth q871)) rfl rfl rfl rfl ⟨by decide, by decide, by decide +kernel⟩ ⟨by rw [hRf]; exact Nat.le_of_ble_eq_true rfl, by rw [hRl]; exact Nat.le_of_ble_eq_true rfl⟩) (g_recv hKn hS hk122 (by decide) (by decide)) rfl (by rw [hr122]; rfl) (Nat.le_of_ble_eq_true rfl) dX1_moves_122 (fun H locs cells slots hS => ?_)
        obtain ⟨b125, hb125, h⟩ := g_bnd h
        obtain ⟨hr125, hk125⟩ := g_chk hb125
        obtain ⟨z125, h125, h⟩ := g_bnd h
        refine g_callV (n := 3) (b := b125) (av := [.inl z114.1, .inl v2, .inl z122.1]) (rs := []) hx hb hml hown hts hKn hRc hRs hS hl (sX3_first l E D h125) (lw_V q886 q887 q888 q134 q889) ⟨rfl, by decide, by decide, by decide +kernel⟩ ⟨by rw [hRf]; exact Nat.le_of_ble_eq_true rfl, by rw [hRl]; exact Nat.le_of_ble_eq_true rfl⟩ (g_recv hKn hS hk125 (by decide) (by decide)) rfl (by rw [hr125]; rfl) (Nat.le_of_ble_eq_true rfl) dX1_moves_125 (fun H locs cells slots hS => ?_)
        refine lv_iconst (v := (-1)) hx hb dX1_moves_128 (by decide) ?_
        refine lv_icmp_ne (tgt := 136) hx hb dX1_moves_129 (by decide) (fun c_129 => ?_) (fun c_129 => ?_)
        · have h := g_ift c_129 h
          refine g_iload hx hb hl 1 rfl dX1_moves_136 ?_
          exact g_iretG hx hb hr hlk hKn hRc hRs hS h dX1_moves_138
        · have h := g_iff (fun z => z c_129) h
          refine lv_iconst (v := 0) hx hb dX1_moves_132 (by decide) ?_
          refine lv_goto (tgt := 138) hx hb dX1_moves_133 (by decide) ?_
          exact g_iretG hx hb hr hlk hKn hRc hRs hS h dX1_moves_138
      have h := g_iff w33_3 h
      by_cases w33_4 : x30 = 4
      · refine lv_tableIn (tgt := 139) (off := 106) hx hb dX1_moves_33 (by rw [w33_4]; decide) (by rw [w33_4]; decide) (by rw [w33_4]; decide) (by decide) ?_
        have h := g_ift w33_4 h
        refine lv_iconst (v := 0) hx hb dX1_moves_139 (by decide) ?_
        refine g_istore (l1 := [(5, .inl 0), (4, .inl (1 <<< (v2 &&& 31))), (0, .inr (.inr (some t))), (1, .inr (.inr v1)), (2, .inl v2), (3, .inl v3)]) hx hb hl (by decide) rfl dX1_moves_140 (fun ls hl => ?_)
        refine lv_iconst (v := 0) hx hb dX1_moves_142 (by decide) ?_
        refine g_istore (l1 := [(6, .inl 0), (5, .inl 0), (4, .inl (1 <<< (v2 &&& 31))), (0, .inr (.inr (some t))), (1, .inr (.inr v1)), (2, .inl v2), (3, .inl v3)]) hx hb hl (by decide) rfl dX1_moves_143 (fun ls hl => ?_)
        exact sX1_moves_b145 C gFU _ _ _ _ _ _ h _ _ _ _ _ hS (gls_sub hl [4, 5, 1, 0] rfl)
      have h := g_iff w33_4 h
      by_cases w33_5 : x30 = 5
      · refine lv_tableIn (tgt := 203) (off := 170) hx hb dX1_moves_33 (by rw [w33_5]; decide) (by rw [w33_5]; decide) (by rw [w33_5]; decide) (by decide) ?_
        have h := g_ift w33_5 h
        refine g_aload_n hx hb hl 2 rfl dX1_moves_203 ?_
        refine g_iload_n hx hb hl 3 rfl dX1_moves_204 ?_
        obtain ⟨b205, hb205, h⟩ := g_bnd h
        obtain ⟨hr205, hk205⟩ := g_chk hb205
        obtain ⟨z205, h205, h⟩ := g_bnd h
        refine g_callV (n := 1) (b := b205) (av := [.inl v2]) (rs := []) hx hb hml hown hts hKn hRc hRs hS hl (sX3_begun l E D h205) (lw_V q891 q892 q893 q134 q894) ⟨rfl, by decide, by decide, by decide +kernel⟩ ⟨by rw [hRf]; exact Nat.le_of_ble_eq_true rfl, by rw [hRl]; exact Nat.le_of_ble_eq_true rfl⟩ (g_recv hKn hS hk205 (by decide) (by decide)) rfl (by rw [hr205]; rfl) (Nat.le_of_ble_eq_true rfl) dX1_moves_205 (fun H locs cells slots hS => ?_)
        refine lv_if_ne (tgt := 216) hx hb dX1_moves_208 (by decide) (fun c_208 => ?_) (fun c_208 => ?_)
        · have h := g_ift c_208 h
          refine lv_iconst (v := 0) hx hb dX1_moves_216 (by decide) ?_
          exact g_iretG hx hb hr hlk hKn hRc hRs hS h dX1_moves_217
        · have h := g_iff (fun z => z c_208) h
          refine g_iload hx hb hl 0 rfl dX1_moves_211 ?_
          refine lv_goto (tgt := 217) hx hb dX1_moves_213 (by decide) ?_
          exact g_iretG hx hb hr hlk hKn hRc hRs hS h dX1_moves_217
      have h := g_iff w33_5 h
      refine g_tableD (tgt := 218) hx hb dX1_moves_33 (by decide) [0, 1, 2, 3, 4, 5] (by decide) (fun k hk => ?_) ?_
      · simp only [List.mem_cons, List.not_mem_nil, or_false] at hk
        rcases hk with rfl | rfl | rfl | rfl | rfl | rfl
        · exact w33_0
        · exact w33_1
        · exact w33_2
        · exact w33_3
        · exact w33_4
        · exact w33_5
      refine g_iload_n hx hb hl 3 rfl dX1_moves_218 ?_
      refine lv_if_ne (tgt := 244) hx hb dX1_moves_219 (by decide) (fun c_219 => ?_) (fun c_219 => ?_)
      · have h := g_ift c_219 h
        refine lv_iconst (v := 0) hx hb dX1_moves_244 (by decide) ?_
        exact g_iretG hx hb hr hlk hKn hRc hRs hS h dX1_moves_245
      · have h := g_iff (fun z => z c_219) h
        refine g_aload_n hx hb hl 1 rfl dX1_moves_222 ?_
        refine g_aload_n hx hb hl 2 rfl dX1_moves_223 ?_
        refine g_aload_n hx hb hl 2 rfl dX1_moves_224 ?_
        refine g_rdR hx hb hown hts hKn hS h fd_3_3_3 rfl (Or.inr ⟨_, gNest_use rfl (hKn.2.2.2.2.1 _ (gNest_in q545 rfl))⟩) (fun _ z => z) dX1_moves_225 (fun x225 h => ?_)
        refine g_iload_n hx hb hl 3 rfl dX1_moves_228 ?_
        refine g_aaloadG hx hb hKn hS h (by decide) dX1_moves_229 (fun x229 h => ?_)
        refine g_rdI hx hb hown hts hKn hS h fd_11_16_0 rfl (Or.inl (hts _ q1422)) (fun _ z => z) dX1_moves_230 (fun x230 h => ?_)
        obtain ⟨b233, hb233, h⟩ := g_bnd h
        obtain ⟨hr233, hk233⟩ := g_chk hb233
        obtain ⟨z233, h233, h⟩ := g_bnd h
        refine g_callV (n := 2) (b := b233) (av := [.inr (.inr v1), .inl x230]) (rs := []) hx hb hml hown hts hKn hRc hRs hS hl (sX1_areAllAt l E D h233) (lw_V q895 q897 qs9 q113 q898) ⟨rfl, by decide, by decide, by decide +kernel⟩ ⟨by rw [hRf]; exact Nat.le_of_ble_eq_true rfl, by rw [hRl]; exact Nat.le_of_ble_eq_true rfl⟩ (g_recv hKn hS hk233 (by decide) (by decide)) rfl (by rw [hr233]; rfl) (Nat.le_of_ble_eq_true rfl) dX1_moves_233 (fun H locs cells slots hS => ?_)
        refine lv_if_eq (tgt := 244) hx hb dX1_moves_236 (by decide) (fun c_236 => ?_) (fun c_236 => ?_)
        · have h := g_ift c_236 h
          refine lv_iconst (v := 0) hx hb dX1_moves_244 (by decide) ?_
          exact g_iretG hx hb hr hlk hKn hRc hRs hS h dX1_moves_245
        · have h := g_iff c_236 h
          refine g_iload hx hb hl 0 rfl dX1_moves_239 ?_
          refine lv_goto (tgt := 245) hx hb dX1_moves_241 (by decide) ?_
          exact g_iretG hx hb hr hlk hKn hRc hRs hS h dX1_moves_245
    · have h := g_iff c_14 h
      refine lv_iconst (v := 0) hx hb dX1_moves_17 (by decide) ?_
      exact g_iretG hx hb hr hlk hKn hRc hRs hS h dX1_moves_18
/-- SendHall.notes(LSendHall$Life;III)V -/
def fX1_notes_b38 (E : g_E) (t : Nat) (v1 : Option Nat) (v2 : Int32) (v4 : Int32) (G : g_G) : Option (g_G) :=
  (grR G 3 3 v1 3).bind fun x39 =>
  (gaR G 122 x39 v2).bind fun x43 =>
  (grI G 11 16 x43 0).bind fun x44 =>
  if (2 : Int32) < x44 then (
    some G)
  else (
    (gchk G 1 (some t)).bind fun b56 =>
    (fX1_mayLie E b56 v1 v2 v4 G).bind fun z56 =>
    if z56.1 = 0 then (
      (grR z56.2 3 3 v1 3).bind fun x64 =>
      (gaR z56.2 122 x64 v2).bind fun x68 =>
      (gcast z56.2 15 15 x68).bind fun x69 =>
      (gchk z56.2 15 x69).bind fun b74 =>
      (fX9_to E b74 v1 v2 z56.2).bind fun z74 =>
      (grR z74.2 3 3 v1 3).bind fun x80 =>
      (gaR z74.2 122 x80 z74.1).bind fun x85 =>
      (grI z74.2 11 16 x85 0).bind fun x86 =>
      if ¬ x86 = (4 : Int32) then (
        some z74.2)
      else (
        (grR z74.2 1 1 (some t) 17).bind fun x94 =>
        (grR z74.2 3 3 v1 3).bind fun x100 =>
        (gaR z74.2 122 x100 z74.1).bind fun x105 =>
        (grI z74.2 11 16 x105 1).bind fun x106 =>
        (gaI z74.2 100 x94 ((8 * x106) + z74.1)).bind fun x114 =>
        (gsaI E z74.2 x94 ((8 * x106) + z74.1) (x114 ||| (1 <<< (v2 &&& 31)))).bind fun G119 =>
        some G119))
    else (
      some z56.2))
def fX1_notes (E : g_E) (t : Nat) (v1 : Option Nat) (v2 : Int32) (v3 : Int32) (v4 : Int32) (G : g_G) : Option (g_G) :=
  (grR G 3 3 v1 3).bind fun x1 =>
  (gaR G 122 x1 v2).bind fun x5 =>
  (grI G 11 16 x5 0).bind fun x6 =>
  if ¬ x6 = (4 : Int32) then (
    fX1_notes_b38 E t v1 v2 v4 G)
  else (
    (grR G 1 1 (some t) 17).bind fun x14 =>
    (grR G 3 3 v1 3).bind fun x20 =>
    (gaR G 122 x20 v2).bind fun x24 =>
    (grI G 11 16 x24 1).bind fun x25 =>
    (gaI G 100 x14 ((8 * x25) + v2)).bind fun x32 =>
    (gsaI E G x14 ((8 * x25) + v2) (x32 ||| (1 <<< (v3 &&& 31)))).bind fun G37 =>
    fX1_notes_b38 E t v1 v2 v4 G37)
theorem sX1_notes_b38 {p : Program} {l : Launch} {e : Env} {R : Room} {s : State} {m : MethodId} {args : Array Value} {below : List Frame} {meth : Method} {c : Code} {E : g_E} {D : g_D} (C : gC p R s m args meth c cX1_notes 6 RX1 "notes" (none) 220 7350 E D) : ∀ (t : Nat) (v1 : Option Nat) (v2 : Int32) (v4 : Int32) (G : g_G) (q : g_G), fX1_notes_b38 E t v1 v2 v4 G = some q → ∀ (H : Heap) (locs : List Loc) (cells slots : Nat) (ls : Array Slot), gSt E D G H locs → gls ls 6 [(0, .inr (.inr (some t))), (1, .inr (.inr v1)), (2, .inl v2), (4, .inl v4)] → gT p l e R s m args below meth c E D H locs cells slots none q (F0 m 38 ls []) := by
  obtain ⟨hx, hb, hml, hown, hts, hKn, hRc, hRs, hc1, hc2, hRf, hRl, hr, hlk, hnm⟩ := id C
  intro t v1 v2 v4 G q h H locs cells slots ls hS hl
  unfold fX1_notes_b38 at h
  refine g_aload_n hx hb hl 1 rfl dX1_notes_38 ?_
  refine g_rdR hx hb hown hts hKn hS h fd_3_3_3 rfl (Or.inr ⟨_, gNest_use rfl (hKn.2.2.2.2.1 _ (gNest_in q545 rfl))⟩) (fun _ z => z) dX1_notes_39 (fun x39 h => ?_)
  refine g_iload_n hx hb hl 2 rfl dX1_notes_42 ?_
  refine g_aaloadG hx hb hKn hS h (by decide) dX1_notes_43 (fun x43 h => ?_)
  refine g_rdI hx hb hown hts hKn hS h fd_11_16_0 rfl (Or.inl (hts _ q1422)) (fun _ z => z) dX1_notes_44 (fun x44 h => ?_)
  refine lv_iconst (v := 2) hx hb dX1_notes_47 (by decide) ?_
  refine lv_icmp_gt (tgt := 62) hx hb dX1_notes_48 (by decide) (fun c_48 => ?_) (fun c_48 => ?_)
  · have h := g_ift c_48 h
    exact g_vretG hx hb hr hlk hKn hRc hRs hS h dX1_notes_62
  · have h := g_iff c_48 h
    refine g_aload_n hx hb hl 0 rfl dX1_notes_51 ?_
    refine g_aload_n hx hb hl 1 rfl dX1_notes_52 ?_
    refine g_iload_n hx hb hl 2 rfl dX1_notes_53 ?_
    refine g_iload hx hb hl 3 rfl dX1_notes_54 ?_
    obtain ⟨b56, hb56, h⟩ := g_bnd h
    obtain ⟨hr56, hk56⟩ := g_chk hb56
    obtain ⟨z56, h56, h⟩ := g_bnd h
    refine g_callV (n := 3) (b := b56) (av := [.inr (.inr v1), .inl v2, .inl v4]) (rs := []) hx hb hml hown hts hKn hRc hRs hS hl (sX1_mayLie l E D h56) (lw_V q852 q854 qs7 q113 q855) ⟨rfl, by decide, by decide, by decide +kernel⟩ ⟨by rw [hRf]; exact Nat.le_of_ble_eq_true rfl, by rw [hRl]; exact Nat.le_of_ble_eq_true rfl⟩ (g_recv hKn hS hk56 (by decide) (by decide)) rfl (by rw [hr56]; rfl) (Nat.le_of_ble_eq_true rfl) dX1_notes_56 (fun H locs cells slots hS => ?_)
    refine lv_if_eq (tgt := 63) hx hb dX1_notes_59 (by decide) (fun c_59 => ?_) (fun c_59 => ?_)
    · have h := g_ift c_59 h
      refine g_aload_n hx hb hl 1 rfl dX1_notes_63 ?_
      refine g_rdR hx hb hown hts hKn hS h fd_3_3_3 rfl (Or.inr ⟨_, gNest_use rfl (hKn.2.2.2.2.1 _ (gNest_in q545 rfl))⟩) (fun _ z => z) dX1_notes_64 (fun x64 h => ?_)
      refine g_iload_n hx hb hl 2 rfl dX1_notes_67 ?_
      refine g_aaloadG hx hb hKn hS h (by decide) dX1_notes_68 (fun x68 h => ?_)
      refine g_castS (k := 15) hx hb hown hKn hS h (by decide) (by decide) (hts _ q856) dX1_notes_69 (fun x69 h => ?_)
      refine g_aload_n hx hb hl 1 rfl dX1_notes_72 ?_
      refine g_iload_n hx hb hl 2 rfl dX1_notes_73 ?_
      obtain ⟨b74, hb74, h⟩ := g_bnd h
      obtain ⟨hr74, hk74⟩ := g_chk hb74
      obtain ⟨z74, h74, h⟩ := g_bnd h
      refine g_callV (n := 2) (b := b74) (av := [.inr (.inr v1), .inl v2]) (rs := []) hx hb hml hown hts hKn hRc hRs hS hl (sX9_to l E D h74) (lw_V q857 q798 q799 q143 q800) ⟨rfl, by decide, by decide, by decide +kernel⟩ ⟨by rw [hRf]; exact Nat.le_of_ble_eq_true rfl, by rw [hRl]; exact Nat.le_of_ble_eq_true rfl⟩ (g_recv hKn hS hk74 (by decide) (by decide)) rfl (by rw [hr74]; rfl) (Nat.le_of_ble_eq_true rfl) dX1_notes_74 (fun H locs cells slots hS => ?_)
      refine g_istore (l1 := [(5, .inl z74.1), (0, .inr (.inr (some t))), (1, .inr (.inr v1)), (2, .inl v2), (4, .inl v4)]) hx hb hl (by decide) rfl dX1_notes_77 (fun ls hl => ?_)
      refine g_aload_n hx hb hl 2 rfl dX1_notes_79 ?_
      refine g_rdR hx hb hown hts hKn hS h fd_3_3_3 rfl (Or.inr ⟨_, gNest_use rfl (hKn.2.2.2.2.1 _ (gNest_in q545 rfl))⟩) (fun _ z => z) dX1_notes_80 (fun x80 h => ?_)
      refine g_iload hx hb hl 0 rfl dX1_notes_83 ?_
      refine g_aaloadG hx hb hKn hS h (by decide) dX1_notes_85 (fun x85 h => ?_)
      refine g_rdI hx hb hown hts hKn hS h fd_11_16_0 rfl (Or.inl (hts _ q1422)) (fun _ z => z) dX1_notes_86 (fun x86 h => ?_)
      refine lv_iconst (v := 4) hx hb dX1_notes_89 (by decide) ?_
      refine lv_icmp_ne (tgt := 120) hx hb dX1_notes_90 (by decide) (fun c_90 => ?_) (fun c_90 => ?_)
      · have h := g_ift c_90 h
        exact g_vretG hx hb hr hlk hKn hRc hRs hS h dX1_notes_120
      · have h := g_iff (fun z => z c_90) h
        refine g_aload_n hx hb hl 1 rfl dX1_notes_93 ?_
        refine g_rdR hx hb hown hts hKn hS h fd_1_1_17 rfl (Or.inl (hts _ q614)) (fun _ z => z) dX1_notes_94 (fun x94 h => ?_)
        refine lv_bipush (v := 8) hx hb dX1_notes_97 (by decide) ?_
        refine g_aload_n hx hb hl 2 rfl dX1_notes_99 ?_
        refine g_rdR hx hb hown hts hKn hS h fd_3_3_3 rfl (Or.inr ⟨_, gNest_use rfl (hKn.2.2.2.2.1 _ (gNest_in q545 rfl))⟩) (fun _ z => z) dX1_notes_100 (fun x100 h => ?_)
        refine g_iload hx hb hl 0 rfl dX1_notes_103 ?_
        refine g_aaloadG hx hb hKn hS h (by decide) dX1_notes_105 (fun x105 h => ?_)
        refine g_rdI hx hb hown hts hKn hS h fd_11_16_1 rfl (Or.inl (hts _ q1428)) (fun _ z => z) dX1_notes_106 (fun x106 h => ?_)
        refine lv_imul hx hb dX1_notes_109 ?_
        refine g_iload hx hb hl 0 rfl dX1_notes_110 ?_
        refine lv_iadd hx hb dX1_notes_112 ?_
        refine lv_dup2_11 hx hb dX1_notes_113 rfl (by first | exact va_rf_cat _ | rfl | exact g_catA _) ?_
        refine g_ialoadG hx hb hKn hS h dX1_notes_114 (fun x114 h => ?_)
        refine lv_iconst (v := 1) hx hb dX1_notes_115 (by decide) ?_
        refine g_iload_n hx hb hl 3 rfl dX1_notes_116 ?_
        refine lv_ishl hx hb dX1_notes_117 ?_
        refine lv_ior hx hb dX1_notes_118 ?_
        refine g_iastoreG hx hb hKn hS h dX1_notes_119 (fun G119 h H locs hS => ?_)
        exact g_vretG hx hb hr hlk hKn hRc hRs hS h dX1_notes_120
    · have h := g_iff c_59 h
      exact g_vretG hx hb hr hlk hKn hRc hRs hS h dX1_notes_62
theorem sX1_notes (l : Launch) (E : g_E) (D : g_D) {t : Nat} {v1 : Option Nat} {v2 : Int32} {v3 : Int32} {v4 : Int32} {G : g_G} {q : g_G} (h : fX1_notes E t v1 v2 v3 v4 G = some q) : gMet l E D yX1_notes (ws_ yX1_notes cX1_notes 6 (none)) 220 7350 [.inr (.inr (some t)), .inr (.inr v1), .inl v2, .inl v3, .inl v4] G none q := by
  refine gMet.of (by decide +kernel) (Nat.le_of_ble_eq_true rfl) ?_
  intro p e R s m args below meth c C hS ls hl
  have C : gC p R s m args meth c cX1_notes 6 RX1 "notes" (none) 220 7350 E D := C
  obtain ⟨hx, hb, hml, hown, hts, hKn, hRc, hRs, hc1, hc2, hRf, hRl, hr, hlk, hnm⟩ := id C
  have hl : gls ls 6 [(0, .inr (.inr (some t))), (1, .inr (.inr v1)), (2, .inl v2), (3, .inl v3), (4, .inl v4)] := hl
  generalize s.heap = H at hS ⊢
  unfold fX1_notes at h
  refine g_aload_n hx hb hl 1 rfl dX1_notes_0 ?_
  refine g_rdR hx hb hown hts hKn hS h fd_3_3_3 rfl (Or.inr ⟨_, gNest_use rfl (hKn.2.2.2.2.1 _ (gNest_in q545 rfl))⟩) (fun _ z => z) dX1_notes_1 (fun x1 h => ?_)
  refine g_iload_n hx hb hl 2 rfl dX1_notes_4 ?_
  refine g_aaloadG hx hb hKn hS h (by decide) dX1_notes_5 (fun x5 h => ?_)
  refine g_rdI hx hb hown hts hKn hS h fd_11_16_0 rfl (Or.inl (hts _ q1422)) (fun _ z => z) dX1_notes_6 (fun x6 h => ?_)
  refine lv_iconst (v := 4) hx hb dX1_notes_9 (by decide) ?_
  refine lv_icmp_ne (tgt := 38) hx hb dX1_notes_10 (by decide) (fun c_10 => ?_) (fun c_10 => ?_)
  · have h := g_ift c_10 h
    exact sX1_notes_b38 C _ _ _ _ _ _ h _ _ _ _ _ hS (gls_sub hl [0, 1, 2, 4] rfl)
  · have h := g_iff (fun z => z c_10) h
    refine g_aload_n hx hb hl 0 rfl dX1_notes_13 ?_
    refine g_rdR hx hb hown hts hKn hS h fd_1_1_17 rfl (Or.inl (hts _ q614)) (fun _ z => z) dX1_notes_14 (fun x14 h => ?_)
    refine lv_bipush (v := 8) hx hb dX1_notes_17 (by decide) ?_
    refine g_aload_n hx hb hl 1 rfl dX1_notes_19 ?_
    refine g_rdR hx hb hown hts hKn hS h fd_3_3_3 rfl (Or.inr ⟨_, gNest_use rfl (hKn.2.2.2.2.1 _ (gNest_in q545 rfl))⟩) (fun _ z => z) dX1_notes_20 (fun x20 h => ?_)
    refine g_iload_n hx hb hl 2 rfl dX1_notes_23 ?_
    refine g_aaloadG hx hb hKn hS h (by decide) dX1_notes_24 (fun x24 h => ?_)
    refine g_rdI hx hb hown hts hKn hS h fd_11_16_1 rfl (Or.inl (hts _ q1428)) (fun _ z => z) dX1_notes_25 (fun x25 h => ?_)
    refine lv_imul hx hb dX1_notes_28 ?_
    refine g_iload_n hx hb hl 2 rfl dX1_notes_29 ?_
    refine lv_iadd hx hb dX1_notes_30 ?_
    refine lv_dup2_11 hx hb dX1_notes_31 rfl (by first | exact va_rf_cat _ | rfl | exact g_catA _) ?_
    refine g_ialoadG hx hb hKn hS h dX1_notes_32 (fun x32 h => ?_)
    refine lv_iconst (v := 1) hx hb dX1_notes_33 (by decide) ?_
    refine g_iload_n hx hb hl 3 rfl dX1_notes_34 ?_
    refine lv_ishl hx hb dX1_notes_35 ?_
    refine lv_ior hx hb dX1_notes_36 ?_
    refine g_iastoreG hx hb hKn hS h dX1_notes_37 (fun G37 h H locs hS => ?_)
    exact sX1_notes_b38 C _ _ _ _ _ _ h _ _ _ _ _ hS (gls_sub hl [0, 1, 2, 4] rfl)
