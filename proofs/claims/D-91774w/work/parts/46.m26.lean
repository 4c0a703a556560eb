set_option maxRecDepth 100000
/-- SendHall.of(II)I -/
def fX1_of_b45 (E : g_E) (t : Nat) (v1 : Int32) (v2 : Int32) (s0 : Int32) (G : g_G) : Option ((Int32 × g_G) ⊕ gX) :=
  gcat (fX1_there E s0 G) (fun z45 =>
    if v2 = 0 then (
      (grR z45 1 1 (some t) 28).bind fun x93 =>
      (gaI z45 100 x93 v1).bind fun x97 =>
      some (.inl (x97, z45)))
    else
    if v2 = 1 then (
      (grR z45 1 1 (some t) 29).bind fun x100 =>
      (gaI z45 100 x100 v1).bind fun x104 =>
      some (.inl (x104, z45)))
    else
    if v2 = 2 then (
      (grR z45 1 1 (some t) 20).bind fun x107 =>
      (gchk z45 3 x107).bind fun b111 =>
      (fX3_hasEnded E b111 v1 z45).bind fun z111 =>
      if z111.1 = 0 then (
        (grR z111.2 1 1 (some t) 20).bind fun x122 =>
        (grR z111.2 3 3 x122 3).bind fun x125 =>
        (gaR z111.2 122 x125 v1).bind fun x129 =>
        (grI z111.2 11 16 x129 1).bind fun x130 =>
        some (.inl (x130, z111.2)))
      else (
        some (.inl ((-1), z111.2))))
    else
    if v2 = 3 then (
      (grR z45 1 1 (some t) 20).bind fun x135 =>
      (grR z45 3 3 x135 7).bind fun x138 =>
      (gaI z45 100 x138 v1).bind fun x142 =>
      some (.inl (x142, z45)))
    else
    if v2 = 4 then (
      (grR z45 1 1 (some t) 20).bind fun x145 =>
      (grR z45 3 3 x145 6).bind fun x148 =>
      (gaI z45 100 x148 v1).bind fun x152 =>
      some (.inl (x152, z45)))
    else
    if v2 = 5 then (
      (grR z45 1 1 (some t) 20).bind fun x156 =>
      (gchk z45 1 (some t)).bind fun b160 =>
      (fX1_waitsFor E b160 x156 v1 z45).bind fun z160 =>
      some (.inl (z160.1, z160.2)))
    else
    if v2 = 6 then (
      (grR z45 1 1 (some t) 20).bind fun x165 =>
      (grR z45 3 3 x165 4).bind fun x168 =>
      (gaI z45 102 x168 v1).bind fun x172 =>
      if x172 = 0 then (
        some (.inl (0, z45)))
      else (
        some (.inl (1, z45))))
    else
    (
      (grR z45 1 1 (some t) 20).bind fun x183 =>
      (grR z45 3 3 x183 5).bind fun x186 =>
      (gaI z45 100 x186 (((4 * v1) + v2) - 8)).bind fun x197 =>
      some (.inl (x197, z45))))
  (fun y => some (.inr y))
def fX1_of_b44 (E : g_E) (t : Nat) (v1 : Int32) (v2 : Int32) (G : g_G) : Option ((Int32 × g_G) ⊕ gX) :=
  fX1_of_b45 E t v1 v2 0 G
def fX1_of_b33 (E : g_E) (t : Nat) (v1 : Int32) (v2 : Int32) (G : g_G) : Option ((Int32 × g_G) ⊕ gX) :=
  (grI G 1 1 (some t) 21).bind fun x34 =>
  if x34 = 0 then (
    fX1_of_b44 E t v1 v2 G)
  else (
    fX1_of_b45 E t v1 v2 1 G)
def fX1_of (E : g_E) (t : Nat) (v1 : Int32) (v2 : Int32) (G : g_G) : Option ((Int32 × g_G) ⊕ gX) :=
  if v1 < 0 then (
    fX1_of_b44 E t v1 v2 G)
  else (
    (grI G 1 1 (some t) 0).bind fun x6 =>
    if x6 ≤ v1 then (
      fX1_of_b44 E t v1 v2 G)
    else (
      (fX1_within E v2 0 6 G).bind fun z16 =>
      if ¬ z16.1 = 0 then (
        fX1_of_b33 E t v1 v2 z16.2)
      else (
        (fX1_within E v2 8 11 z16.2).bind fun z27 =>
        if z27.1 = 0 then (
          fX1_of_b44 E t v1 v2 z27.2)
        else (
          fX1_of_b33 E t v1 v2 z27.2))))
theorem sX1_of_b45 {p : Program} {l : Launch} {e : Env} {R : Room} {s : State} {m : MethodId} {args : Array Value} {below : List Frame} {meth : Method} {c : Code} {E : g_E} {D : g_D} (C : gC p R s m args meth c cX1_of 3 RX1 "of" (some .int) 220 7351 E D) (hlT : l.stackTraces = false) (htab : c.exceptionTable.toList = []) : ∀ (t : Nat) (v1 : Int32) (v2 : Int32) (s0 : Int32) (G : g_G) (q : (Int32 × g_G) ⊕ gX), fX1_of_b45 E t v1 v2 s0 G = some q → ∀ (H : Heap) (locs : List Loc) (cells slots : Nat) (ls : Array Slot), gSt E D G H locs → gls ls 3 [(0, .inr (.inr (some t))), (1, .inl v1), (2, .inl v2)] → gTX p l e R s m args below meth c E D H locs cells slots gokI q (F0 m 45 ls [.int s0]) := by
  obtain ⟨hx, hb, hml, hown, hts, hKn, hRc, hRs, hc1, hc2, hRf, hRl, hr, hlk, hnm⟩ := id C
  intro t v1 v2 s0 G q h H locs cells slots ls hS hl
  unfold fX1_of_b45 at h
  obtain ⟨o45, h45, ha45, hx45⟩ := g_catE h
  refine g_callSt (n := 1) (av := [.inl s0]) (rs := []) hx hb hml hown hts hKn hRc hRs hS hl (sX1_there l E D hlT h45) (lw_S q1721 q1722 q113 q1723) ⟨by decide, by decide, by decide +kernel⟩ ⟨by rw [hRf]; exact Nat.le_of_ble_eq_true rfl, by rw [hRl]; exact Nat.le_of_ble_eq_true rfl⟩ rfl rfl (Nat.le_of_ble_eq_true rfl) dX1_of_45 (fun z45 e45 H locs cells slots hS => ?_) (fun k45 a45 G45 e45 n1 n2 nk nB H locs cells slots hS => ?_)
  · have h := ha45 _ e45
    refine g_iload_n hx hb hl 2 rfl dX1_of_48 ?_
    by_cases w49_0 : v2 = 0
    · refine lv_tableIn (tgt := 92) (off := 43) hx hb dX1_of_49 (by rw [w49_0]; decide) (by rw [w49_0]; decide) (by rw [w49_0]; decide) (by decide) ?_
      have h := g_ift w49_0 h
      refine g_aload_n hx hb hl 0 rfl dX1_of_92 ?_
      refine g_rdR hx hb hown hts hKn hS h fd_1_1_28 rfl (Or.inl (hts _ q625)) (fun _ z => z) dX1_of_93 (fun x93 h => ?_)
      refine g_iload_n hx hb hl 1 rfl dX1_of_96 ?_
      refine g_ialoadG hx hb hKn hS h dX1_of_97 (fun x97 h => ?_)
      exact g_retX (g_iretG hx hb hr hlk hKn hRc hRs hS (q := (x97, z45)) rfl dX1_of_98) h rfl
    have h := g_iff w49_0 h
    by_cases w49_1 : v2 = 1
    · refine lv_tableIn (tgt := 99) (off := 50) hx hb dX1_of_49 (by rw [w49_1]; decide) (by rw [w49_1]; decide) (by rw [w49_1]; decide) (by decide) ?_
      have h := g_ift w49_1 h
      refine g_aload_n hx hb hl 0 rfl dX1_of_99 ?_
      refine g_rdR hx hb hown hts hKn hS h fd_1_1_29 rfl (Or.inl (hts _ q626)) (fun _ z => z) dX1_of_100 (fun x100 h => ?_)
      refine g_iload_n hx hb hl 1 rfl dX1_of_103 ?_
      refine g_ialoadG hx hb hKn hS h dX1_of_104 (fun x104 h => ?_)
      exact g_retX (g_iretG hx hb hr hlk hKn hRc hRs hS (q := (x104, z45)) rfl dX1_of_105) h rfl
    have h := g_iff w49_1 h
    by_cases w49_2 : v2 = 2
    · refine lv_tableIn (tgt := 106) (off := 57) hx hb dX1_of_49 (by rw [w49_2]; decide) (by rw [w49_2]; decide) (by rw [w49_2]; decide) (by decide) ?_
      have h := g_ift w49_2 h
      refine g_aload_n hx hb hl 0 rfl dX1_of_106 ?_
      refine g_rdR hx hb hown hts hKn hS h fd_1_1_20 rfl (Or.inl (hts _ q617)) (fun _ z => z) dX1_of_107 (fun x107 h => ?_)
      refine g_iload_n hx hb hl 1 rfl dX1_of_110 ?_
      obtain ⟨b111, hb111, h⟩ := g_bnd h
      obtain ⟨hr111, hk111⟩ := g_chk hb111
      obtain ⟨z111, h111, h⟩ := g_bnd h
      refine g_callV (n := 1) (b := b111) (av := [.inl v1]) (rs := []) hx hb hml hown hts hKn hRc hRs hS hl (sX3_hasEnded l E D h111) (lw_V q848 q849 q850 q134 q851) ⟨rfl, by decide, by decide, by decide +kernel⟩ ⟨by rw [hRf]; exact Nat.le_of_ble_eq_true rfl, by rw [hRl]; exact Nat.le_of_ble_eq_true rfl⟩ (g_recv hKn hS hk111 (by decide) (by decide)) rfl (by rw [hr111]; rfl) (Nat.le_of_ble_eq_true rfl) dX1_of_111 (fun H locs cells slots hS => ?_)
      refine lv_if_eq (tgt := 121) hx hb dX1_of_114 (by decide) (fun c_114 => ?_) (fun c_114 => ?_)
      · have h := g_ift c_114 h
        refine g_aload_n hx hb hl 0 rfl dX1_of_121 ?_
        refine g_rdR hx hb hown hts hKn hS h fd_1_1_20 rfl (Or.inl (hts _ q617)) (fun _ z => z) dX1_of_122 (fun x122 h => ?_)
        refine g_rdR hx hb hown hts hKn hS h fd_3_3_3 rfl (Or.inr ⟨_, gNest_use rfl (hKn.2.2.2.2.1 _ (gNest_in q545 rfl))⟩) (fun _ z => z) dX1_of_125 (fun x125 h => ?_)
        refine g_iload_n hx hb hl 1 rfl dX1_of_128 ?_
        refine g_aaloadG hx hb hKn hS h (by decide) dX1_of_129 (fun x129 h => ?_)
        refine g_rdI hx hb hown hts hKn hS h fd_11_16_1 rfl (Or.inl (hts _ q1428)) (fun _ z => z) dX1_of_130 (fun x130 h => ?_)
        exact g_retX (g_iretG hx hb hr hlk hKn hRc hRs hS (q := (x130, z111.2)) rfl dX1_of_133) h rfl
      · have h := g_iff c_114 h
        refine lv_iconst (v := (-1)) hx hb dX1_of_117 (by decide) ?_
        refine lv_goto (tgt := 133) hx hb dX1_of_118 (by decide) ?_
        exact g_retX (g_iretG hx hb hr hlk hKn hRc hRs hS (q := ((-1), z111.2)) rfl dX1_of_133) h rfl
    have h := g_iff w49_2 h
    by_cases w49_3 : v2 = 3
    · refine lv_tableIn (tgt := 134) (off := 85) hx hb dX1_of_49 (by rw [w49_3]; decide) (by rw [w49_3]; decide) (by rw [w49_3]; decide) (by decide) ?_
      have h := g_ift w49_3 h
      refine g_aload_n hx hb hl 0 rfl dX1_of_134 ?_
      refine g_rdR hx hb hown hts hKn hS h fd_1_1_20 rfl (Or.inl (hts _ q617)) (fun _ z => z) dX1_of_135 (fun x135 h => ?_)
      refine g_rdR hx hb hown hts hKn hS h fd_3_3_7 rfl (Or.inr ⟨_, gNest_use rfl (hKn.2.2.2.2.1 _ (gNest_in q559 rfl))⟩) (fun _ z => z) dX1_of_138 (fun x138 h => ?_)
      refine g_iload_n hx hb hl 1 rfl dX1_of_141 ?_
      refine g_ialoadG hx hb hKn hS h dX1_of_142 (fun x142 h => ?_)
      exact g_retX (g_iretG hx hb hr hlk hKn hRc hRs hS (q := (x142, z45)) rfl dX1_of_143) h rfl
    have h := g_iff w49_3 h
    by_cases w49_4 : v2 = 4
    · refine lv_tableIn (tgt := 144) (off := 95) hx hb dX1_of_49 (by rw [w49_4]; decide) (by rw [w49_4]; decide) (by rw [w49_4]; decide) (by decide) ?_
      have h := g_ift w49_4 h
      refine g_aload_n hx hb hl 0 rfl dX1_of_144 ?_
      refine g_rdR hx hb hown hts hKn hS h fd_1_1_20 rfl (Or.inl (hts _ q617)) (fun _ z => z) dX1_of_145 (fun x145 h => ?_)
      refine g_rdR hx hb hown hts hKn hS h fd_3_3_6 rfl (Or.inr ⟨_, gNest_use rfl (hKn.2.2.2.2.1 _ (gNest_in q555 rfl))⟩) (fun _ z => z) dX1_of_148 (fun x148 h => ?_)
      refine g_iload_n hx hb hl 1 rfl dX1_of_151 ?_
      refine g_ialoadG hx hb hKn hS h dX1_of_152 (fun x152 h => ?_)
      exact g_retX (g_iretG hx hb hr hlk hKn hRc hRs hS (q := (x152, z45)) rfl dX1_of_153) h rfl
    have h := g_iff w49_4 h
    by_cases w49_5 : v2 = 5
    · refine lv_tableIn (tgt := 154) (off := 105) hx hb dX1_of_49 (by rw [w49_5]; decide) (by rw [w49_5]; decide) (by rw [w49_5]; decide) (by decide) ?_
      have h := g_ift w49_5 h
      refine g_aload_n hx hb hl 0 rfl dX1_of_154 ?_
      refine g_aload_n hx hb hl 0 rfl dX1_of_155 ?_
      refine g_rdR hx hb hown hts hKn hS h fd_1_1_20 rfl (Or.inl (hts _ q617)) (fun _ z => z) dX1_of_156 (fun x156 h => ?_)
      refine g_iload_n hx hb hl 1 rfl dX1_of_159 ?_
      obtain ⟨b160, hb160, h⟩ := g_bnd h
      obtain ⟨hr160, hk160⟩ := g_chk hb160
      obtain ⟨z160, h160, h⟩ := g_bnd h
      refine g_callV (n := 2) (b := b160) (av := [.inr (.inr x156), .inl v1]) (rs := []) hx hb hml hown hts hKn hRc hRs hS hl (sX1_waitsFor l E D h160) (lw_V q1806 q1808 qs47 q113 q1809) ⟨rfl, by decide, by decide, by decide +kernel⟩ ⟨by rw [hRf]; exact Nat.le_of_ble_eq_true rfl, by rw [hRl]; exact Nat.le_of_ble_eq_true rfl⟩ (g_recv hKn hS hk160 (by decide) (by decide)) rfl (by rw [hr160]; rfl) (Nat.le_of_ble_eq_true rfl) dX1_of_160 (fun H locs cells slots hS => ?_)
      exact g_retX (g_iretG hx hb hr hlk hKn hRc hRs hS (q := (z160.1, z160.2)) rfl dX1_of_163) h rfl
    have h := g_iff w49_5 h
    by_cases w49_6 : v2 = 6
    · refine lv_tableIn (tgt := 164) (off := 115) hx hb dX1_of_49 (by rw [w49_6]; decide) (by rw [w49_6]; decide) (by rw [w49_6]; decide) (by decide) ?_
      have h := g_ift w49_6 h
      refine g_aload_n hx hb hl 0 rfl dX1_of_164 ?_
      refine g_rdR hx hb hown hts hKn hS h fd_1_1_20 rfl (Or.inl (hts _ q617)) (fun _ z => z) dX1_of_165 (fun x165 h => ?_)
      refine g_rdR hx hb hown hts hKn hS h fd_3_3_4 rfl (Or.inr ⟨_, gNest_use rfl (hKn.2.2.2.2.1 _ (gNest_in q547 rfl))⟩) (fun _ z => z) dX1_of_168 (fun x168 h => ?_)
      refine g_iload_n hx hb hl 1 rfl dX1_of_171 ?_
      refine g_zaloadG hx hb hKn hS h dX1_of_172 (fun x172 h => ?_)
      refine lv_if_eq (tgt := 180) hx hb dX1_of_173 (by decide) (fun c_173 => ?_) (fun c_173 => ?_)
      · have h := g_ift c_173 h
        refine lv_iconst (v := 0) hx hb dX1_of_180 (by decide) ?_
        exact g_retX (g_iretG hx hb hr hlk hKn hRc hRs hS (q := (0, z45)) rfl dX1_of_181) h rfl
      · have h := g_iff c_173 h
        refine lv_iconst (v := 1) hx hb dX1_of_176 (by decide) ?_
        refine lv_goto (tgt := 181) hx hb dX1_of_177 (by decide) ?_
        exact g_retX (g_iretG hx hb hr hlk hKn hRc hRs hS (q := (1, z45)) rfl dX1_of_181) h rfl
    have h := g_iff w49_6 h
    refine g_tableD (tgt := 182) hx hb dX1_of_49 (by decide) [0, 1, 2, 3, 4, 5, 6] (by decide) (fun k hk => ?_) ?_
    · simp only [List.mem_cons, List.not_mem_nil, or_false] at hk
      rcases hk with rfl | rfl | rfl | rfl | rfl | rfl | rfl
      · exact w49_0
      · exact w49_1
      · exact w49_2
      · exact w49_3
      · exact w49_4
      · exact w49_5
      · exact w49_6
    refine g_aload_n hx hb hl 0 rfl dX1_of_182 ?_
    refine g_rdR hx hb hown hts hKn hS h fd_1_1_20 rfl (Or.inl (hts _ q617)) (fun _ z => z) dX1_of_183 (fun x183 h => ?_)
    refine g_rdR hx hb hown hts hKn hS h fd_3_3_5 rfl (Or.inr ⟨_, gNest_use rfl (hKn.2.2.2.2.1 _ (gNest_in q553 rfl))⟩) (fun _ z => z) dX1_of_186 (fun x186 h => ?_)
    refine lv_iconst (v := 4) hx hb dX1_of_189 (by decide) ?_
    refine g_iload_n hx hb hl 1 rfl dX1_of_190 ?_
    refine lv_imul hx hb dX1_of_191 ?_
    refine g_iload_n hx hb hl 2 rfl dX1_of_192 ?_
    refine lv_iadd hx hb dX1_of_193 ?_
    refine lv_bipush (v := 8) hx hb dX1_of_194 (by decide) ?_
    refine lv_isub hx hb dX1_of_196 ?_
    refine g_ialoadG hx hb hKn hS h dX1_of_197 (fun x197 h => ?_)
    exact g_retX (g_iretG hx hb hr hlk hKn hRc hRs hS (q := (x197, z45)) rfl dX1_of_198) h rfl
  · have h := hx45 _ e45
    exact g_outX (by rw [htab]; decide) hlk hKn hRc hRs hS n1 n2 nB nk h
theorem sX1_of_b44 {p : Program} {l : Launch} {e : Env} {R : Room} {s : State} {m : MethodId} {args : Array Value} {below : List Frame} {meth : Method} {c : Code} {E : g_E} {D : g_D} (C : gC p R s m args meth c cX1_of 3 RX1 "of" (some .int) 220 7351 E D) (hlT : l.stackTraces = false) (htab : c.exceptionTable.toList = []) : ∀ (t : Nat) (v1 : Int32) (v2 : Int32) (G : g_G) (q : (Int32 × g_G) ⊕ gX), fX1_of_b44 E t v1 v2 G = some q → ∀ (H : Heap) (locs : List Loc) (cells slots : Nat) (ls : Array Slot), gSt E D G H locs → gls ls 3 [(0, .inr (.inr (some t))), (1, .inl v1), (2, .inl v2)] → gTX p l e R s m args below meth c E D H locs cells slots gokI q (F0 m 44 ls []) := by
  obtain ⟨hx, hb, hml, hown, hts, hKn, hRc, hRs, hc1, hc2, hRf, hRl, hr, hlk, hnm⟩ := id C
  intro t v1 v2 G q h H locs cells slots ls hS hl
  unfold fX1_of_b44 at h
  refine lv_iconst (v := 0) hx hb dX1_of_44 (by decide) ?_
  exact sX1_of_b45 C hlT htab _ _ _ _ _ _ h _ _ _ _ _ hS (gls_sub hl [0, 1, 2] rfl)
theorem sX1_of_b33 {p : Program} {l : Launch} {e : Env} {R : Room} {s : State} {m : MethodId} {args : Array Value} {below : List Frame} {meth : Method} {c : Code} {E : g_E} {D : g_D} (C : gC p R s m args meth c cX1_of 3 RX1 "of" (some .int) 220 7351 E D) (hlT : l.stackTraces = false) (htab : c.exceptionTable.toList = []) : ∀ (t : Nat) (v1 : Int32) (v2 : Int32) (G : g_G) (q : (Int32 × g_G) ⊕ gX), fX1_of_b33 E t v1 v2 G = some q → ∀ (H : Heap) (locs : List Loc) (cells slots : Nat) (ls : Array Slot), gSt E D G H locs → gls ls 3 [(0, .inr (.inr (some t))), (1, .inl v1), (2, .inl v2)] → gTX p l e R s m args below meth c E D H locs cells slots gokI q (F0 m 33 ls []) := by
  obtain ⟨hx, hb, hml, hown, hts, hKn, hRc, hRs, hc1, hc2, hRf, hRl, hr, hlk, hnm⟩ := id C
  intro t v1 v2 G q h H locs cells slots ls hS hl
  unfold fX1_of_b33 at h
  refine g_aload_n hx hb hl 0 rfl dX1_of_33 ?_
  refine g_rdI hx hb hown hts hKn hS h fd_1_1_21 rfl (Or.inl (hts _ q618)) (fun _ z => z) dX1_of_34 (fun x34 h => ?_)
  refine lv_if_eq (tgt := 44) hx hb dX1_of_37 (by decide) (fun c_37 => ?_) (fun c_37 => ?_)
  · have h := g_ift c_37 h
    exact sX1_of_b44 C hlT htab _ _ _ _ _ h _ _ _ _ _ hS (gls_sub hl [0, 1, 2] rfl)
  · have h := g_iff c_37 h
    refine lv_iconst (v := 1) hx hb dX1_of_40 (by decide) ?_
    refine lv_goto (tgt := 45) hx hb dX1_of_41 (by decide) ?_
    exact sX1_of_b45 C hlT htab _ _ _ _ _ _ h _ _ _ _ _ hS (gls_sub hl [0, 1, 2] rfl)
theorem sX1_of (l : Launch) (E : g_E) (D : g_D) (hlT : l.stackTraces = false) {t : Nat} {v1 : Int32} {v2 : Int32} {G : g_G} {q : (Int32 × g_G) ⊕ gX} (h : fX1_of E t v1 v2 G = some q) : gMetX l E D yX1_of (ws_ yX1_of cX1_of 3 (some .int)) 220 7351 [.inr (.inr (some t)), .inl v1, .inl v2] G gokI q := by
  refine gMetX.of (by decide +kernel) (Nat.le_of_ble_eq_true rfl) ?_
  intro p e R s m args below meth c C htab hS ls hl
  have C : gC p R s m args meth c cX1_of 3 RX1 "of" (some .int) 220 7351 E D := C
  obtain ⟨hx, hb, hml, hown, hts, hKn, hRc, hRs, hc1, hc2, hRf, hRl, hr, hlk, hnm⟩ := id C
  have hl : gls ls 3 [(0, .inr (.inr (some t))), (1, .inl v1), (2, .inl v2)] := hl
  generalize hH0 : s.heap = H at hS ⊢
  unfold fX1_of at h
  refine g_iload_n hx hb hl 1 rfl dX1_of_0 ?_
  refine lv_if_lt (tgt := 44) hx hb dX1_of_1 (by decide) (fun c_1 => ?_) (fun c_1 => ?_)
  · have h := g_ift c_1 h
    exact sX1_of_b44 C hlT htab _ _ _ _ _ h _ _ _ _ _ hS (gls_sub hl [0, 1, 2] rfl)
  · have h := g_iff c_1 h
    refine g_iload_n hx hb hl 1 rfl dX1_of_4 ?_
    refine g_aload_n hx hb hl 0 rfl dX1_of_5 ?_
    refine g_rdI hx hb hown hts hKn hS h fd_1_1_0 rfl (Or.inl (hts _ q597)) (fun _ z => z) dX1_of_6 (fun x6 h => ?_)
    refine lv_icmp_ge (tgt := 44) hx hb dX1_of_9 (by decide) (fun c_9 => ?_) (fun c_9 => ?_)
    · have h := g_ift c_9 h
      exact sX1_of_b44 C hlT htab _ _ _ _ _ h _ _ _ _ _ hS (gls_sub hl [0, 1, 2] rfl)
    · have h := g_iff c_9 h
      refine g_iload_n hx hb hl 2 rfl dX1_of_12 ?_
      refine lv_iconst (v := 0) hx hb dX1_of_13 (by decide) ?_
      refine lv_bipush (v := 6) hx hb dX1_of_14 (by decide) ?_
      obtain ⟨z16, h16, h⟩ := g_bnd h
      refine g_callS (n := 3) (av := [.inl v2, .inl 0, .inl 6]) (rs := []) hx hb hml hown hts hKn hRc hRs hS hl (sX1_within l E D h16) (lw_S q713 q714 q113 q715) ⟨by decide, by decide, by decide +kernel⟩ ⟨by rw [hRf]; exact Nat.le_of_ble_eq_true rfl, by rw [hRl]; exact Nat.le_of_ble_eq_true rfl⟩ rfl rfl (Nat.le_of_ble_eq_true rfl) dX1_of_16 (fun H locs cells slots hS => ?_)
      refine lv_if_ne (tgt := 33) hx hb dX1_of_19 (by decide) (fun c_19 => ?_) (fun c_19 => ?_)
      · have h := g_ift c_19 h
        exact sX1_of_b33 C hlT htab _ _ _ _ _ h _ _ _ _ _ hS (gls_sub hl [0, 1, 2] rfl)
      · have h := g_iff (fun z => z c_19) h
        refine g_iload_n hx hb hl 2 rfl dX1_of_22 ?_
        refine lv_bipush (v := 8) hx hb dX1_of_23 (by decide) ?_
        refine lv_bipush (v := 11) hx hb dX1_of_25 (by decide) ?_
        obtain ⟨z27, h27, h⟩ := g_bnd h
        refine g_callS (n := 3) (av := [.inl v2, .inl 8, .inl 11]) (rs := []) hx hb hml hown hts hKn hRc hRs hS hl (sX1_within l E D h27) (lw_S q713 q714 q113 q715) ⟨by decide, by decide, by decide +kernel⟩ ⟨by rw [hRf]; exact Nat.le_of_ble_eq_true rfl, by rw [hRl]; exact Nat.le_of_ble_eq_true rfl⟩ rfl rfl (Nat.le_of_ble_eq_true rfl) dX1_of_27 (fun H locs cells slots hS => ?_)
        refine lv_if_eq (tgt := 44) hx hb dX1_of_30 (by decide) (fun c_30 => ?_) (fun c_30 => ?_)
        · have h := g_ift c_30 h
          exact sX1_of_b44 C hlT htab _ _ _ _ _ h _ _ _ _ _ hS (gls_sub hl [0, 1, 2] rfl)
        · have h := g_iff c_30 h
          exact sX1_of_b33 C hlT htab _ _ _ _ _ h _ _ _ _ _ hS (gls_sub hl [0, 1, 2] rfl)
/-- SendHall.rounds()V -/
def fX1_rounds_b123 (E : g_E) : Nat → Nat → (Option Nat) → Int32 → Int32 → g_G → Option (g_G)
  | 0, _, _, _, _, _ => none
  | n + 1, t, v3, v4, v6, G =>
    if v4 ≤ v6 then (
      some G)
    else (
      (grR G 1 1 (some t) 24).bind fun x131 =>
      (grI G 1 1 (some t) 27).bind fun x135 =>
      (gaI G 100 v3 v6).bind fun x141 =>
      (gsaI E G x131 x135 x141).bind fun G142 =>
      (grI G142 1 1 (some t) 27).bind fun x145 =>
      (gpI E G142 1 1 (some t) 27 (x145 + 1)).bind fun G150 =>
      fX1_rounds_b123 E n t v3 v4 (v6 + 1) G150)
def fX1_rounds_b105 (E : g_E) : Nat → Nat → Int32 → (Option Nat) → Int32 → Int32 → g_G → Option (g_G)
  | 0, _, _, _, _, _, _ => none
  | n + 1, t, v2, v3, v4, v5, G =>
    (gaI G 100 v3 v5).bind fun x108 =>
    if x108 = v2 then (
      fX1_rounds_b123 E gFU t v3 v4 v5 G)
    else (
      fX1_rounds_b105 E n t v2 v3 v4 (v5 + 1) G)
def fX1_rounds_b96 (E : g_E) (t : Nat) (v2 : Int32) (v3 : Option Nat) (v4 : Int32) (G : g_G) : Option (g_G) :=
  if ¬ v2 = (-1 : Int32) then (
    fX1_rounds_b105 E gFU t v2 v3 v4 0 G)
  else (
    some G)
def fX1_rounds_b92 (E : g_E) (k40 : Nat → Int32 → Int32 → (Option Nat) → Int32 → g_G → Option (g_G)) (t : Nat) (v1 : Int32) (v3 : Option Nat) (v4 : Int32) (s0 : Int32) (G : g_G) : Option (g_G) :=
  k40 t v1 s0 v3 v4 G
def fX1_rounds_b40 (E : g_E) : Nat → Nat → Int32 → Int32 → (Option Nat) → Int32 → g_G → Option (g_G)
  | 0, _, _, _, _, _, _ => none
  | n + 1, t, v1, v2, v3, v4, G =>
    if v2 = (-1 : Int32) then (
      fX1_rounds_b96 E t v2 v3 v4 G)
    else (
      if ¬ ((v1 >>> (v2 &&& 31)) &&& 1) = 0 then (
        fX1_rounds_b96 E t v2 v3 v4 G)
      else (
        (gsaI E G v3 v4 v2).bind fun G63 =>
        (grR G63 1 1 (some t) 20).bind fun x69 =>
        (gchk G63 1 (some t)).bind fun b73 =>
        (fX1_waitsFor E b73 x69 v2 G63).bind fun z73 =>
        if ¬ z73.1 = 0 then (
          (fJ16_numberOfTrailingZeros E z73.1 z73.2).bind fun z89 =>
          fX1_rounds_b92 E (fX1_rounds_b40 E n) t (v1 ||| (1 <<< (v2 &&& 31))) v3 (v4 + 1) z89.1 z89.2)
        else (
          fX1_rounds_b92 E (fX1_rounds_b40 E n) t (v1 ||| (1 <<< (v2 &&& 31))) v3 (v4 + 1) (-1) z73.2)))
def fX1_rounds_b31 (E : g_E) (t : Nat) (v1 : Int32) (s0 : Int32) (G : g_G) : Option (g_G) :=
  (gnewA E G 100 8).bind fun z34 =>
  fX1_rounds_b40 E gFU t v1 s0 (some z34.1) 0 z34.2
def fX1_rounds (E : g_E) (t : Nat) (G : g_G) : Option (g_G) :=
  (gpI E G 1 1 (some t) 27 0).bind fun G2 =>
  (grR G2 1 1 (some t) 20).bind fun x8 =>
  (gchk G2 3 x8).bind fun b11 =>
  (fX3_bits E b11 G2).bind fun z11 =>
  if ¬ z11.1 = 0 then (
    (grR z11.2 1 1 (some t) 20).bind fun x22 =>
    (gchk z11.2 3 x22).bind fun b25 =>
    (fX3_bits E b25 z11.2).bind fun z25 =>
    (fJ16_numberOfTrailingZeros E z25.1 z25.2).bind fun z28 =>
    fX1_rounds_b31 E t 0 z28.1 z28.2)
  else (
    fX1_rounds_b31 E t 0 (-1) z11.2)
theorem sX1_rounds_b123 {p : Program} {l : Launch} {e : Env} {R : Room} {s : State} {m : MethodId} {args : Array Value} {below : List Frame} {meth : Method} {c : Code} {E : g_E} {D : g_D} (C : gC p R s m args meth c cX1_rounds 7 RX1 "rounds" (none) 220 7351 E D) : ∀ (n : Nat) (t : Nat) (v3 : Option Nat) (v4 : Int32) (v6 : Int32) (G : g_G) (q : g_G), fX1_rounds_b123 E n t v3 v4 v6 G = some q → ∀ (H : Heap) (locs : List Loc) (cells slots : Nat) (ls : Array Slot), gSt E D G H locs → gls ls 7 [(0, .inr (.inr (some t))), (3, .inr (.inr v3)), (4, .inl v4), (6, .inl v6)] → gT p l e R s m args below meth c E D H locs cells slots none q (F0 m 123 ls []) := by
  obtain ⟨hx, hb, hml, hown, hts, hKn, hRc, hRs, hc1, hc2, hRf, hRl, hr, hlk, hnm⟩ := id C
  intro n
  induction n with
  | zero =>
    intro t v3 v4 v6 G q h
    exact g_no h
  | succ n ih =>
    intro t v3 v4 v6 G q h H locs cells slots ls hS hl
    rw [fX1_rounds_b123] at h
    refine g_iload hx hb hl 3 rfl dX1_rounds_123 ?_
    refine g_iload hx hb hl 2 rfl dX1_rounds_125 ?_
    refine lv_icmp_ge (tgt := 159) hx hb dX1_rounds_127 (by decide) (fun c_127 => ?_) (fun c_127 => ?_)
    · have h := g_ift c_127 h
      exact g_vretG hx hb hr hlk hKn hRc hRs hS h dX1_rounds_159
    · have h := g_iff c_127 h
      refine g_aload_n hx hb hl 0 rfl dX1_rounds_130 ?_
      refine g_rdR hx hb hown hts hKn hS h fd_1_1_24 rfl (Or.inl (hts _ q621)) (fun _ z => z) dX1_rounds_131 (fun x131 h => ?_)
      refine g_aload_n hx hb hl 0 rfl dX1_rounds_134 ?_
      refine g_rdI hx hb hown hts hKn hS h fd_1_1_27 rfl (Or.inl (hts _ q624)) (fun _ z => z) dX1_rounds_135 (fun x135 h => ?_)
      refine g_aload_n hx hb hl 1 rfl dX1_rounds_138 ?_
      refine g_iload hx hb hl 3 rfl dX1_rounds_139 ?_
      refine g_ialoadG hx hb hKn hS h dX1_rounds_141 (fun x141 h => ?_)
      refine g_iastoreG hx hb hKn hS h dX1_rounds_142 (fun G142 h H locs hS => ?_)
      refine g_aload_n hx hb hl 0 rfl dX1_rounds_143 ?_
      refine lv_dup hx hb dX1_rounds_144 (by first | exact va_rf_cat _ | rfl | exact g_catA _) ?_
      refine g_rdI hx hb hown hts hKn hS h fd_1_1_27 rfl (Or.inl (hts _ q624)) (fun _ z => z) dX1_rounds_145 (fun x145 h => ?_)
      refine lv_iconst (v := 1) hx hb dX1_rounds_148 (by decide) ?_
      refine lv_iadd hx hb dX1_rounds_149 ?_
      refine g_ptI hx hb hown hts hKn hS h fd_1_1_27 (Or.inl (hts _ q624)) (fun _ z => z) (fun z => nomatch z) dX1_rounds_150 (fun G150 h H locs hS => ?_)
      refine g_iinc (l1 := [(6, .inl (v6 + 1)), (0, .inr (.inr (some t))), (3, .inr (.inr v3)), (4, .inl v4)]) (v := (v6 + 1)) hx hb hl (k := 3) rfl (by rfl) (by decide) rfl dX1_rounds_153 (fun ls hl => ?_)
      refine lv_goto (tgt := 123) hx hb dX1_rounds_156 (by decide) ?_
      exact ih _ _ _ _ _ _ h _ _ _ _ _ hS (gls_sub hl [1, 2, 3, 0] rfl)
theorem sX1_rounds_b105 {p : Program} {l : Launch} {e : Env} {R : Room} {s : State} {m : MethodId} {args : Array Value} {below : List Frame} {meth : Method} {c : Code} {E : g_E} {D : g_D} (C : gC p R s m args meth c cX1_rounds 7 RX1 "rounds" (none) 220 7351 E D) : ∀ (n : Nat) (t : Nat) (v2 : Int32) (v3 : Option Nat) (v4 : Int32) (v5 : Int32) (G : g_G) (q : g_G), fX1_rounds_b105 E n t v2 v3 v4 v5 G = some q → ∀ (H : Heap) (locs : List Loc) (cells slots : Nat) (ls : Array Slot), gSt E D G H locs → gls ls 7 [(0, .inr (.inr (some t))), (2, .inl v2), (3, .inr (.inr v3)), (4, .inl v4), (5, .inl v5)] → gT p l e R s m args below meth c E D H locs cells slots none q (F0 m 105 ls []) := by
  obtain ⟨hx, hb, hml, hown, hts, hKn, hRc, hRs, hc1, hc2, hRf, hRl, hr, hlk, hnm⟩ := id C
  intro n
  induction n with
  | zero =>
    intro t v2 v3 v4 v5 G q h
    exact g_no h
  | succ n ih =>
    intro t v2 v3 v4 v5 G q h H locs cells slots ls hS hl
    rw [fX1_rounds_b105] at h
    refine g_aload_n hx hb hl 2 rfl dX1_rounds_105 ?_
    refine g_iload hx hb hl 4 rfl dX1_rounds_106 ?_
    refine g_ialoadG hx hb hKn hS h dX1_rounds_108 (fun x108 h => ?_)
    refine g_iload_n hx hb hl 1 rfl dX1_rounds_109 ?_
    refine lv_icmp_eq (tgt := 119) hx hb dX1_rounds_110 (by decide) (fun c_110 => ?_) (fun c_110 => ?_)
    · have h := g_ift c_110 h
      refine g_iload hx hb hl 4 rfl dX1_rounds_119 ?_
      refine g_istore (l1 := [(6, .inl v5), (0, .inr (.inr (some t))), (2, .inl v2), (3, .inr (.inr v3)), (4, .inl v4), (5, .inl v5)]) hx hb hl (by decide) rfl dX1_rounds_121 (fun ls hl => ?_)
      exact sX1_rounds_b123 C gFU _ _ _ _ _ _ h _ _ _ _ _ hS (gls_sub hl [1, 3, 4, 0] rfl)
    · have h := g_iff c_110 h
      refine g_iinc (l1 := [(5, .inl (v5 + 1)), (0, .inr (.inr (some t))), (2, .inl v2), (3, .inr (.inr v3)), (4, .inl v4)]) (v := (v5 + 1)) hx hb hl (k := 4) rfl (by rfl) (by decide) rfl dX1_rounds_113 (fun ls hl => ?_)
      refine lv_goto (tgt := 105) hx hb dX1_rounds_116 (by decide) ?_
      exact ih _ _ _ _ _ _ _ h _ _ _ _ _ hS (gls_sub hl [1, 2, 3, 4, 0] rfl)
theorem sX1_rounds_b96 {p : Program} {l : Launch} {e : Env} {R : Room} {s : State} {m : MethodId} {args : Array Value} {below : List Frame} {meth : Method} {c : Code} {E : g_E} {D : g_D} (C : gC p R s m args meth c cX1_rounds 7 RX1 "rounds" (none) 220 7351 E D) : ∀ (t : Nat) (v2 : Int32) (v3 : Option Nat) (v4 : Int32) (G : g_G) (q : g_G), fX1_rounds_b96 E t v2 v3 v4 G = some q → ∀ (H : Heap) (locs : List Loc) (cells slots : Nat) (ls : Array Slot), gSt E D G H locs → gls ls 7 [(0, .inr (.inr (some t))), (2, .inl v2), (3, .inr (.inr v3)), (4, .inl v4)] → gT p l e R s m args below meth c E D H locs cells slots none q (F0 m 96 ls []) := by
  obtain ⟨hx, hb, hml, hown, hts, hKn, hRc, hRs, hc1, hc2, hRf, hRl, hr, hlk, hnm⟩ := id C
  intro t v2 v3 v4 G q h H locs cells slots ls hS hl
  unfold fX1_rounds_b96 at h
  refine g_iload_n hx hb hl 1 rfl dX1_rounds_96 ?_
  refine lv_iconst (v := (-1)) hx hb dX1_rounds_97 (by decide) ?_
  refine lv_icmp_ne (tgt := 102) hx hb dX1_rounds_98 (by decide) (fun c_98 => ?_) (fun c_98 => ?_)
  · have h := g_ift c_98 h
    refine lv_iconst (v := 0) hx hb dX1_rounds_102 (by decide) ?_
    refine g_istore (l1 := [(5, .inl 0), (0, .inr (.inr (some t))), (2, .inl v2), (3, .inr (.inr v3)), (4, .inl v4)]) hx hb hl (by decide) rfl dX1_rounds_103 (fun ls hl => ?_)
    exact sX1_rounds_b105 C gFU _ _ _ _ _ _ _ h _ _ _ _ _ hS (gls_sub hl [1, 2, 3, 4, 0] rfl)
  · have h := g_iff (fun z => z c_98) h
    exact g_vretG hx hb hr hlk hKn hRc hRs hS h dX1_rounds_101
theorem sX1_rounds_b92 {p : Program} {l : Launch} {e : Env} {R : Room} {s : State} {m : MethodId} {args : Array Value} {below : List Frame} {meth : Method} {c : Code} {E : g_E} {D : g_D} (C : gC p R s m args meth c cX1_rounds 7 RX1 "rounds" (none) 220 7351 E D) {k40 : Nat → Int32 → Int32 → (Option Nat) → Int32 → g_G → Option (g_G)} (hk40 : ∀ (t : Nat) (v1 : Int32) (v2 : Int32) (v3 : Option Nat) (v4 : Int32) (G : g_G) (q : g_G), k40 t v1 v2 v3 v4 G = some q → ∀ (H : Heap) (locs : List Loc) (cells slots : Nat) (ls : Array Slot), gSt E D G H locs → gls ls 7 [(0, .inr (.inr (some t))), (1, .inl v1), (2, .inl v2), (3, .inr (.inr v3)), (4, .inl v4)] → gT p l e R s m args below meth c E D H locs cells slots none q (F0 m 40 ls [])) : ∀ (t : Nat) (v1 : Int32) (v3 : Option Nat) (v4 : Int32) (s0 : Int32) (G : g_G) (q : g_G), fX1_rounds_b92 E k40 t v1 v3 v4 s0 G = some q → ∀ (H : Heap) (locs : List Loc) (cells slots : Nat) (ls : Array Slot), gSt E D G H locs → gls ls 7 [(0, .inr (.inr (some t))), (1, .inl v1), (3, .inr (.inr v3)), (4, .inl v4)] → gT p l e R s m args below meth c E D H locs cells slots none q (F0 m 92 ls [.int s0]) := by
  obtain ⟨hx, hb, hml, hown, hts, hKn, hRc, hRs, hc1, hc2, hRf, hRl, hr, hlk, hnm⟩ := id C
  intro t v1 v3 v4 s0 G q h H locs cells slots ls hS hl
  unfold fX1_rounds_b92 at h
  refine g_istore_n (l1 := [(2, .inl s0), (0, .inr (.inr (some t))), (1, .inl v1), (3, .inr (.inr v3)), (4, .inl v4)]) hx hb hl (by decide) rfl dX1_rounds_92 (fun ls hl => ?_)
  refine lv_goto (tgt := 40) hx hb dX1_rounds_93 (by decide) ?_
  exact hk40 _ _ _ _ _ _ _ h _ _ _ _ _ hS (gls_sub hl [1, 2, 0, 3, 4] rfl)
theorem sX1_rounds_b40 {p : Program} {l : Launch} {e : Env} {R : Room} {s : State} {m : MethodId} {args : Array Value} {below : List Frame} {meth : Method} {c : Code} {E : g_E} {D : g_D} (C : gC p R s m args meth c cX1_rounds 7 RX1 "rounds" (none) 220 7351 E D) : ∀ (n : Nat) (t : Nat) (v1 : Int32) (v2 : Int32) (v3 : Option Nat) (v4 : Int32) (G : g_G) (q : g_G), fX1_rounds_b40 E n t v1 v2 v3 v4 G = some q → ∀ (H : Heap) (locs : List Loc) (cells slots : Nat) (ls : Array Slot), gSt E D G H locs → gls ls 7 [(0, .inr (.inr (some t))), (1, .inl v1), (2, .inl v2), (3, .inr (.inr v3)), (4, .inl v4)] → gT p l e R s m args below meth c E D H locs cells slots none q (F0 m 40 ls []) := by
  obtain ⟨hx, hb, hml, hown, hts, hKn, hRc, hRs, hc1, hc2, hRf, hRl, hr, hlk, hnm⟩ := id C
  intro n
  induction n with
  | zero =>
    intro t v1 v2 v3 v4 G q h
    exact g_no h
  | succ n ih =>
    intro t v1 v2 v3 v4 G q h H locs cells slots ls hS hl
    rw [fX1_rounds_b40] at h
    refine g_iload_n hx hb hl 2 rfl dX1_rounds_40 ?_
    refine lv_iconst (v := (-1)) hx hb dX1_rounds_41 (by decide) ?_
    refine lv_icmp_eq (tgt := 96) hx hb dX1_rounds_42 (by decide) (fun c_42 => ?_) (fun c_42 => ?_)
    · have h := g_ift c_42 h
      exact sX1_rounds_b96 C _ _ _ _ _ _ h _ _ _ _ _ hS (gls_sub hl [0, 2, 3, 4] rfl)
    · have h := g_iff c_42 h
      refine g_iload_n hx hb hl 1 rfl dX1_rounds_45 ?_
      refine g_iload_n hx hb hl 2 rfl dX1_rounds_46 ?_
      refine lv_ishr hx hb dX1_rounds_47 ?_
      refine lv_iconst (v := 1) hx hb dX1_rounds_48 (by decide) ?_
      refine lv_iand hx hb dX1_rounds_49 ?_
      refine lv_if_ne (tgt := 96) hx hb dX1_rounds_50 (by decide) (fun c_50 => ?_) (fun c_50 => ?_)
      · have h := g_ift c_50 h
        exact sX1_rounds_b96 C _ _ _ _ _ _ h _ _ _ _ _ hS (gls_sub hl [0, 2, 3, 4] rfl)
      · have h := g_iff (fun z => z c_50) h
        refine g_iload_n hx hb hl 1 rfl dX1_rounds_53 ?_
        refine lv_iconst (v := 1) hx hb dX1_rounds_54 (by decide) ?_
        refine g_iload_n hx hb hl 2 rfl dX1_rounds_55 ?_
        refine lv_ishl hx hb dX1_rounds_56 ?_
        refine lv_ior hx hb dX1_rounds_57 ?_
        refine g_istore_n (l1 := [(1, .inl (v1 ||| (1 <<< (v2 &&& 31)))), (0, .inr (.inr (some t))), (2, .inl v2), (3, .inr (.inr v3)), (4, .inl v4)]) hx hb hl (by decide) rfl dX1_rounds_58 (fun ls hl => ?_)
        refine g_aload_n hx hb hl 3 rfl dX1_rounds_59 ?_
        refine g_iload hx hb hl 4 rfl dX1_rounds_60 ?_
        refine g_iload_n hx hb hl 2 rfl dX1_rounds_62 ?_
        refine g_iastoreG hx hb hKn hS h dX1_rounds_63 (fun G63 h H locs hS => ?_)
        refine g_iinc (l1 := [(4, .inl (v4 + 1)), (1, .inl (v1 ||| (1 <<< (v2 &&& 31)))), (0, .inr (.inr (some t))), (2, .inl v2), (3, .inr (.inr v3))]) (v := (v4 + 1)) hx hb hl (k := 4) rfl (by rfl) (by decide) rfl dX1_rounds_64 (fun ls hl => ?_)
        refine g_aload_n hx hb hl 2 rfl dX1_rounds_67 ?_
        refine g_aload_n hx hb hl 2 rfl dX1_rounds_68 ?_
        refine g_rdR hx hb hown hts hKn hS h fd_1_1_20 rfl (Or.inl (hts _ q617)) (fun _ z => z) dX1_rounds_69 (fun x69 h => ?_)
        refine g_iload_n hx hb hl 3 rfl dX1_rounds_72 ?_
        obtain ⟨b73, hb73, h⟩ := g_bnd h
        obtain ⟨hr73, hk73⟩ := g_chk hb73
        obtain ⟨z73, h73, h⟩ := g_bnd h
        refine g_callV (n := 2) (b := b73) (av := [.inr (.inr x69), .inl v2]) (rs := []) hx hb hml hown hts hKn hRc hRs hS hl (sX1_waitsFor l E D h73) (lw_V q1806 q1808 qs47 q113 q1809) ⟨rfl, by decide, by decide, by decide +kernel⟩ ⟨by rw [hRf]; exact Nat.le_of_ble_eq_true rfl, by rw [hRl]; exact Nat.le_of_ble_eq_true rfl⟩ (g_recv hKn hS hk73 (by decide) (by decide)) rfl (by rw [hr73]; rfl) (Nat.le_of_ble_eq_true rfl) dX1_rounds_73 (fun H locs cells slots hS => ?_)
        refine g_istore (l1 := [(5, .inl z73.1), (4, .inl (v4 + 1)), (1, .inl (v1 ||| (1 <<< (v2 &&& 31)))), (0, .inr (.inr (some t))), (2, .inl v2), (3, .inr (.inr v3))]) hx hb hl (by decide) rfl dX1_rounds_76 (fun ls hl => ?_)
        refine g_iload hx hb hl 0 rfl dX1_rounds_78 ?_
        refine lv_if_ne (tgt := 87) hx hb dX1_rounds_80 (by decide) (fun c_80 => ?_) (fun c_80 => ?_)
        · have h := g_ift c_80 h
          refine g_iload hx hb hl 0 rfl dX1_rounds_87 ?_
          obtain ⟨z89, h89, h⟩ := g_bnd h
          refine g_callS (n := 1) (av := [.inl z73.1]) (rs := []) hx hb hml hown hts hKn hRc hRs hS hl (sJ16_numberOfTrailingZeros l E D h89) (lw_S q1798 q1799 q133 q1800) ⟨by decide, by decide, by decide +kernel⟩ ⟨by rw [hRf]; exact Nat.le_of_ble_eq_true rfl, by rw [hRl]; exact Nat.le_of_ble_eq_true rfl⟩ rfl rfl (Nat.le_of_ble_eq_true rfl) dX1_rounds_89 (fun H locs cells slots hS => ?_)
          exact sX1_rounds_b92 C ih _ _ _ _ _ _ _ h _ _ _ _ _ hS (gls_sub hl [3, 2, 5, 1] rfl)
        · have h := g_iff (fun z => z c_80) h
          refine lv_iconst (v := (-1)) hx hb dX1_rounds_83 (by decide) ?_
          refine lv_goto (tgt := 92) hx hb dX1_rounds_84 (by decide) ?_
          exact sX1_rounds_b92 C ih _ _ _ _ _ _ _ h _ _ _ _ _ hS (gls_sub hl [3, 2, 5, 1] rfl)
theorem sX1_rounds_b31 {p : Program} {l : Launch} {e : Env} {R : Room} {s : State} {m : MethodId} {args : Array Value} {below : List Frame} {meth : Method} {c : Code} {E : g_E} {D : g_D} (C : gC p R s m args meth c cX1_rounds 7 RX1 "rounds" (none) 220 7351 E D) : ∀ (t : Nat) (v1 : Int32) (s0 : Int32) (G : g_G) (q : g_G), fX1_rounds_b31 E t v1 s0 G = some q → ∀ (H : Heap) (locs : List Loc) (cells slots : Nat) (ls : Array Slot), gSt E D G H locs → gls ls 7 [(0, .inr (.inr (some t))), (1, .inl v1)] → gT p l e R s m args below meth c E D H locs cells slots none q (F0 m 31 ls [.int s0]) := by
  obtain ⟨hx, hb, hml, hown, hts, hKn, hRc, hRs, hc1, hc2, hRf, hRl, hr, hlk, hnm⟩ := id C
  intro t v1 s0 G q h H locs cells slots ls hS hl
  unfold fX1_rounds_b31 at h
  refine g_istore_n (l1 := [(2, .inl s0), (0, .inr (.inr (some t))), (1, .inl v1)]) hx hb hl (by decide) rfl dX1_rounds_31 (fun ls hl => ?_)
  refine lv_bipush (v := 8) hx hb dX1_rounds_32 (by decide) ?_
  refine g_newaG (k := 100) (atype := .int) hx hb hKn hRc hRs hS h (by decide) rfl (hts _ q596) dX1_rounds_34 (fun z34 h H locs cells slots hS => ?_)
  refine g_astore_n (l1 := [(3, .inr (.inr (some z34.1))), (2, .inl s0), (0, .inr (.inr (some t))), (1, .inl v1)]) hx hb hl (by decide) rfl dX1_rounds_36 (fun ls hl => ?_)
  refine lv_iconst (v := 0) hx hb dX1_rounds_37 (by decide) ?_
  refine g_istore (l1 := [(4, .inl 0), (3, .inr (.inr (some z34.1))), (2, .inl s0), (0, .inr (.inr (some t))), (1, .inl v1)]) hx hb hl (by decide) rfl dX1_rounds_38 (fun ls hl => ?_)
  exact sX1_rounds_b40 C gFU _ _ _ _ _ _ _ h _ _ _ _ _ hS (gls_sub hl [3, 4, 2, 1, 0] rfl)
theorem sX1_rounds (l : Launch) (E : g_E) (D : g_D) {t : Nat} {G : g_G} {q : g_G} (h : fX1_rounds E t G = some q) : gMet l E D yX1_rounds (ws_ yX1_rounds cX1_rounds 7 (none)) 220 7351 [.inr (.inr (some t))] G none q := by
  refine gMet.of (by decide +kernel) (Nat.le_of_ble_eq_true rfl) ?_
  intro p e R s m args below meth c C hS ls hl
  have C : gC p R s m args meth c cX1_rounds 7 RX1 "rounds" (none) 220 7351 E D := C
  obtain ⟨hx, hb, hml, hown, hts, hKn, hRc, hRs, hc1, hc2, hRf, hRl, hr, hlk, hnm⟩ := id C
  have hl : gls ls 7 [(0, .inr (.inr (some t)))] := hl
  generalize s.heap = H at hS ⊢
  unfold fX1_rounds at h
  refine g_aload_n hx hb hl 0 rfl dX1_rounds_0 ?_
  refine lv_iconst (v := 0) hx hb dX1_rounds_1 (by decide) ?_
  refine g_ptI hx hb hown hts hKn hS h fd_1_1_27 (Or.inl (hts _ q624)) (fun _ z => z) (fun z => nomatch z) dX1_rounds_2 (fun G2 h H locs hS => ?_)
  refine lv_iconst (v := 0) hx hb dX1_rounds_5 (by decide) ?_
  refine g_istore_n (l1 := [(1, .inl 0), (0, .inr (.inr (some t)))]) hx hb hl (by decide) rfl dX1_rounds_6 (fun ls hl => ?_)
  refine g_aload_n hx hb hl 1 rfl dX1_rounds_7 ?_
  refine g_rdR hx hb hown hts hKn hS h fd_1_1_20 rfl (Or.inl (hts _ q617)) (fun _ z => z) dX1_rounds_8 (fun x8 h => ?_)
  obtain ⟨b11, hb11, h⟩ := g_bnd h
  obtain ⟨hr11, hk11⟩ := g_chk hb11
  obtain ⟨z11, h11, h⟩ := g_bnd h
  refine g_callV (n := 0) (b := b11) (av := []) (rs := []) hx hb hml hown hts hKn hRc hRs hS hl (sX3_bits l E D h11) (lw_V q994 q990 q991 q134 q992) ⟨rfl, by decide, by decide, by decide +kernel⟩ ⟨by rw [hRf]; exact Nat.le_of_ble_eq_true rfl, by rw [hRl]; exact Nat.le_of_ble_eq_true rfl⟩ (g_recv hKn hS hk11 (by decide) (by decide)) rfl (by rw [hr11]; rfl) (Nat.le_of_ble_eq_true rfl) dX1_rounds_11 (fun H locs cells slots hS => ?_)
  refine lv_if_ne (tgt := 21) hx hb dX1_rounds_14 (by decide) (fun c_14 => ?_) (fun c_14 => ?_)
  · have h := g_ift c_14 h
    refine g_aload_n hx hb hl 1 rfl dX1_rounds_21 ?_
    refine g_rdR hx hb hown hts hKn hS h fd_1_1_20 rfl (Or.inl (hts _ q617)) (fun _ z => z) dX1_rounds_22 (fun x22 h => ?_)
    obtain ⟨b25, hb25, h⟩ := g_bnd h
    obtain ⟨hr25, hk25⟩ := g_chk hb25
    obtain ⟨z25, h25, h⟩ := g_bnd h
    refine g_callV (n := 0) (b := b25) (av := []) (rs := []) hx hb hml hown hts hKn hRc hRs hS hl (sX3_bits l E D h25) (lw_V q994 q990 q991 q134 q992) ⟨rfl, by decide, by decide, by decide +kernel⟩ ⟨by rw [hRf]; exact Nat.le_of_ble_eq_true rfl, by rw [hRl]; exact Nat.le_of_ble_eq_true rfl⟩ (g_recv hKn hS hk25 (by decide) (by decide)) rfl (by rw [hr25]; rfl) (Nat.le_of_ble_eq_true rfl) dX1_rounds_25 (fun H locs cells slots hS => ?_)
    obtain ⟨z28, h28, h⟩ := g_bnd h
    refine g_callS (n := 1) (av := [.inl z25.1]) (rs := []) hx hb hml hown hts hKn hRc hRs hS hl (sJ16_numberOfTrailingZeros l E D h28) (lw_S q1798 q1799 q133 q1800) ⟨by decide, by decide, by decide +kernel⟩ ⟨by rw [hRf]; exact Nat.le_of_ble_eq_true rfl, by rw [hRl]; exact Nat.le_of_ble_eq_true rfl⟩ rfl rfl (Nat.le_of_ble_eq_true rfl) dX1_rounds_28 (fun H locs cells slots hS => ?_)
    exact sX1_rounds_b31 C _ _ _ _ _ h _ _ _ _ _ hS (gls_sub hl [1, 0] rfl)
  · have h := g_iff (fun z => z c_14) h
    refine lv_iconst (v := (-1)) hx hb dX1_rounds_17 (by decide) ?_
    refine lv_goto (tgt := 31) hx hb dX1_rounds_18 (by decide) ?_
    exact sX1_rounds_b31 C _ _ _ _ _ h _ _ _ _ _ hS (gls_sub hl [1, 0] rfl)
/-- SendHall.together(LSendHall$Life;I)V -/
def fX1_together_b132 (E : g_E) (k70 : Nat → (Option Nat) → Int32 → Int32 → Int32 → Int32 → g_G → Option (g_G)) (t : Nat) (v1 : Option Nat) (v2 : Int32) (v3 : Int32) (v4 : Int32) (v5 : Int32) (v6 : Option Nat) (G : g_G) : Option (g_G) :=
  (grR G 11 11 v6 2).bind fun x138 =>
  (gchk G 1 (some t)).bind fun b141 =>
  (fX1_goes E b141 v1 v5 x138 G).bind fun z141 =>
  k70 t v1 v2 v3 v4 (v5 + 1) z141
def fX1_together_b70 (E : g_E) : Nat → Nat → (Option Nat) → Int32 → Int32 → Int32 → Int32 → g_G → Option (g_G)
  | 0, _, _, _, _, _, _, _ => none
  | n + 1, t, v1, v2, v3, v4, v5, G =>
    (grI G 3 3 v1 0).bind fun x73 =>
    if x73 ≤ v5 then (
      some G)
    else (
      (grR G 3 3 v1 3).bind fun x80 =>
      (gaR G 122 x80 v5).bind fun x85 =>
      (gcast G 11 11 x85).bind fun x86 =>
      (gchk G 1 (some t)).bind fun b96 =>
      (fX1_clocks E b96 v5 v4 G).bind fun z96 =>
      (grR z96 1 1 (some t) 6).bind fun x100 =>
      (gaI z96 100 x100 v5).bind fun x106 =>
      (gsaI E z96 x100 v5 (x106 + 1)).bind fun G109 =>
      if ¬ v2 = (7 : Int32) then (
        fX1_together_b132 E (fX1_together_b70 E n) t v1 v2 v3 v4 v5 x86 G109)
      else (
        (grR G109 3 3 v1 5).bind fun x117 =>
        (grI G109 11 11 x86 4).bind fun x126 =>
        (gsaI E G109 x117 ((4 * v5) + x126) v3).bind fun G131 =>
        fX1_together_b132 E (fX1_together_b70 E n) t v1 v2 v3 v4 v5 x86 G131))
def fX1_together_b47 (E : g_E) (k8 : Nat → (Option Nat) → Int32 → Int32 → Int32 → Int32 → g_G → Option (g_G)) (t : Nat) (v1 : Option Nat) (v2 : Int32) (v3 : Int32) (v4 : Int32) (v5 : Int32) (G : g_G) : Option (g_G) :=
  (grR G 1 1 (some t) 6).bind fun x50 =>
  (gaI G 100 x50 v5).bind fun x55 =>
  k8 t v1 v2 v3 (if v4 < x55 then x55 else v4) (v5 + 1) G
def fX1_together_b8 (E : g_E) : Nat → Nat → (Option Nat) → Int32 → Int32 → Int32 → Int32 → g_G → Option (g_G)
  | 0, _, _, _, _, _, _, _ => none
  | n + 1, t, v1, v2, v3, v4, v5, G =>
    (grI G 3 3 v1 0).bind fun x11 =>
    if x11 ≤ v5 then (
      fX1_together_b70 E gFU t v1 v2 v3 v4 0 G)
    else (
      if ¬ v2 = (7 : Int32) then (
        fX1_together_b47 E (fX1_together_b8 E n) t v1 v2 v3 v4 v5 G)
      else (
        (grR G 3 3 v1 3).bind fun x25 =>
        (gaR G 122 x25 v5).bind fun x30 =>
        (gcast G 11 11 x30).bind fun x31 =>
        (grR G 11 11 x31 3).bind fun x34 =>
        (fI_value E gDP x34 v1 v5 G).bind fun z40 =>
        fX1_together_b47 E (fX1_together_b8 E n) t v1 v2 (v3 + z40.1) v4 v5 z40.2))
def fX1_together (E : g_E) (t : Nat) (v1 : Option Nat) (v2 : Int32) (G : g_G) : Option (g_G) :=
  fX1_together_b8 E gFU t v1 v2 0 0 0 G
theorem sX1_together_b132 {p : Program} {l : Launch} {e : Env} {R : Room} {s : State} {m : MethodId} {args : Array Value} {below : List Frame} {meth : Method} {c : Code} {E : g_E} {D : g_D} (C : gC p R s m args meth c cX1_together 7 RX1 "together" (none) 221 7381 E D) {k70 : Nat → (Option Nat) → Int32 → Int32 → Int32 → Int32 → g_G → Option (g_G)} (hk70 : ∀ (t : Nat) (v1 : Option Nat) (v2 : Int32) (v3 : Int32) (v4 : Int32) (v5 : Int32) (G : g_G) (q : g_G), k70 t v1 v2 v3 v4 v5 G = some q → ∀ (H : Heap) (locs : List Loc) (cells slots : Nat) (ls : Array Slot), gSt E D G H locs → gls ls 7 [(0, .inr (.inr (some t))), (1, .inr (.inr v1)), (2, .inl v2), (3, .inl v3), (4, .inl v4), (5, .inl v5)] → gT p l e R s m args below meth c E D H locs cells slots none q (F0 m 70 ls [])) : ∀ (t : Nat) (v1 : Option Nat) (v2 : Int32) (v3 : Int32) (v4 : Int32) (v5 : Int32) (v6 : Option Nat) (G : g_G) (q : g_G), fX1_together_b132 E k70 t v1 v2 v3 v4 v5 v6 G = some q → ∀ (H : Heap) (locs : List Loc) (cells slots : Nat) (ls : Array Slot), gSt E D G H locs → gls ls 7 [(0, .inr (.inr (some t))), (1, .inr (.inr v1)), (2, .inl v2), (3, .inl v3), (4, .inl v4), (5, .inl v5), (6, .inr (.inr v6))] → gT p l e R s m args below meth c E D H locs cells slots none q (F0 m 132 ls []) := by
  obtain ⟨hx, hb, hml, hown, hts, hKn, hRc, hRs, hc1, hc2, hRf, hRl, hr, hlk, hnm⟩ := id C
  intro t v1 v2 v3 v4 v5 v6 G q h H locs cells slots ls hS hl
  unfold fX1_together_b132 at h
  refine g_aload_n hx hb hl 0 rfl dX1_together_132 ?_
  refine g_aload_n hx hb hl 1 rfl dX1_together_133 ?_
  refine g_iload hx hb hl 5 rfl dX1_together_134 ?_
  refine g_aload hx hb hl 6 rfl dX1_together_136 ?_
  refine g_rdR hx hb hown hts hKn hS h fd_11_11_2 rfl (Or.inl (hts _ q1439)) (u_same (hts _ q1440)) dX1_together_138 (fun x138 h => ?_)
  obtain ⟨b141, hb141, h⟩ := g_bnd h
  obtain ⟨hr141, hk141⟩ := g_chk hb141
  obtain ⟨z141, h141, h⟩ := g_bnd h
  refine g_callV (n := 3) (b := b141) (av := [.inr (.inr v1), .inl v5, .inr (.inr x138)]) (rs := []) hx hb hml hown hts hKn hRc hRs hS hl (sX1_goes l E D h141) (lw_V q732 q734 qs5 q113 q735) ⟨rfl, by decide, by decide, by decide +kernel⟩ ⟨by rw [hRf]; exact Nat.le_of_ble_eq_true rfl, by rw [hRl]; exact Nat.le_of_ble_eq_true rfl⟩ (g_recv hKn hS hk141 (by decide) (by decide)) rfl (by rw [hr141]; rfl) (Nat.le_of_ble_eq_true rfl) dX1_together_141 (fun H locs cells slots hS => ?_)
  refine g_iinc (l1 := [(5, .inl (v5 + 1)), (0, .inr (.inr (some t))), (1, .inr (.inr v1)), (2, .inl v2), (3, .inl v3), (4, .inl v4), (6, .inr (.inr v6))]) (v := (v5 + 1)) hx hb hl (k := 5) rfl (by rfl) (by decide) rfl dX1_together_144 (fun ls hl => ?_)
  refine lv_goto (tgt := 70) hx hb dX1_together_147 (by decide) ?_
  exact hk70 _ _ _ _ _ _ _ _ h _ _ _ _ _ hS (gls_sub hl [1, 2, 3, 4, 5, 0] rfl)
theorem sX1_together_b70 {p : Program} {l : Launch} {e : Env} {R : Room} {s : State} {m : MethodId} {args : Array Value} {below : List Frame} {meth : Method} {c : Code} {E : g_E} {D : g_D} (C : gC p R s m args meth c cX1_together 7 RX1 "together" (none) 221 7381 E D) : ∀ (n : Nat) (t : Nat) (v1 : Option Nat) (v2 : Int32) (v3 : Int32) (v4 : Int32) (v5 : Int32) (G : g_G) (q : g_G), fX1_together_b70 E n t v1 v2 v3 v4 v5 G = some q → ∀ (H : Heap) (locs : List Loc) (cells slots : Nat) (ls : Array Slot), gSt E D G H locs → gls ls 7 [(0, .inr (.inr (some t))), (1, .inr (.inr v1)), (2, .inl v2), (3, .inl v3), (4, .inl v4), (5, .inl v5)] → gT p l e R s m args below meth c E D H locs cells slots none q (F0 m 70 ls []) := by
  obtain ⟨hx, hb, hml, hown, hts, hKn, hRc, hRs, hc1, hc2, hRf, hRl, hr, hlk, hnm⟩ := id C
  intro n
  induction n with
  | zero =>
    intro t v1 v2 v3 v4 v5 G q h
    exact g_no h
  | succ n ih =>
    intro t v1 v2 v3 v4 v5 G q h H locs cells slots ls hS hl
    rw [fX1_together_b70] at h
    refine g_iload hx hb hl 5 rfl dX1_together_70 ?_
    refine g_aload_n hx hb hl 1 rfl dX1_together_72 ?_
    refine g_rdI hx hb hown hts hKn hS h fd_3_3_0 rfl (Or.inr ⟨_, gNest_use rfl (hKn.2.2.2.2.1 _ (gNest_in q537 rfl))⟩) (fun _ z => z) dX1_together_73 (fun x73 h => ?_)
    refine lv_icmp_ge (tgt := 150) hx hb dX1_together_76 (by decide) (fun c_76 => ?_) (fun c_76 => ?_)
    · have h := g_ift c_76 h
      exact g_vretG hx hb hr hlk hKn hRc hRs hS h dX1_together_150
    · have h := g_iff c_76 h
      refine g_aload_n hx hb hl 1 rfl dX1_together_79 ?_
      refine g_rdR hx hb hown hts hKn hS h fd_3_3_3 rfl (Or.inr ⟨_, gNest_use rfl (hKn.2.2.2.2.1 _ (gNest_in q545 rfl))⟩) (fun _ z => z) dX1_together_80 (fun x80 h => ?_)
      refine g_iload hx hb hl 5 rfl dX1_together_83 ?_
      refine g_aaloadG hx hb hKn hS h (by decide) dX1_together_85 (fun x85 h => ?_)
      refine g_castS (k := 11) hx hb hown hKn hS h (by decide) (by decide) (hts _ q953) dX1_together_86 (fun x86 h => ?_)
      refine g_astore (l1 := [(6, .inr (.inr x86)), (0, .inr (.inr (some t))), (1, .inr (.inr v1)), (2, .inl v2), (3, .inl v3), (4, .inl v4), (5, .inl v5)]) hx hb hl (by decide) rfl dX1_together_89 (fun ls hl => ?_)
      refine g_aload_n hx hb hl 1 rfl dX1_together_91 ?_
      refine g_iload hx hb hl 6 rfl dX1_together_92 ?_
      refine g_iload hx hb hl 5 rfl dX1_together_94 ?_
      obtain ⟨b96, hb96, h⟩ := g_bnd h
      obtain ⟨hr96, hk96⟩ := g_chk hb96
      obtain ⟨z96, h96, h⟩ := g_bnd h
      refine g_callV (n := 2) (b := b96) (av := [.inl v5, .inl v4]) (rs := []) hx hb hml hown hts hKn hRc hRs hS hl (sX1_clocks l E D h96) (lw_V q933 q935 qs15 q113 q936) ⟨rfl, by decide, by decide, by decide +kernel⟩ ⟨by rw [hRf]; exact Nat.le_of_ble_eq_true rfl, by rw [hRl]; exact Nat.le_of_ble_eq_true rfl⟩ (g_recv hKn hS hk96 (by decide) (by decide)) rfl (by rw [hr96]; rfl) (Nat.le_of_ble_eq_true rfl) dX1_together_96 (fun H locs cells slots hS => ?_)
      refine g_aload_n hx hb hl 1 rfl dX1_together_99 ?_
      refine g_rdR hx hb hown hts hKn hS h fd_1_1_6 rfl (Or.inl (hts _ q603)) (fun _ z => z) dX1_together_100 (fun x100 h => ?_)
      refine g_iload hx hb hl 6 rfl dX1_together_103 ?_
      refine lv_dup2_11 hx hb dX1_together_105 rfl (by first | exact va_rf_cat _ | rfl | exact g_catA _) ?_
      refine g_ialoadG hx hb hKn hS h dX1_together_106 (fun x106 h => ?_)
      refine lv_iconst (v := 1) hx hb dX1_together_107 (by decide) ?_
      refine lv_iadd hx hb dX1_together_108 ?_
      refine g_iastoreG hx hb hKn hS h dX1_together_109 (fun G109 h H locs hS => ?_)
      refine g_iload_n hx hb hl 3 rfl dX1_together_110 ?_
      refine lv_bipush (v := 7) hx hb dX1_together_111 (by decide) ?_
      refine lv_icmp_ne (tgt := 132) hx hb dX1_together_113 (by decide) (fun c_113 => ?_) (fun c_113 => ?_)
      · have h := g_ift c_113 h
        exact sX1_together_b132 C ih _ _ _ _ _ _ _ _ _ h _ _ _ _ _ hS (gls_sub hl [1, 2, 3, 4, 5, 6, 0] rfl)
      · have h := g_iff (fun z => z c_113) h
        refine g_aload_n hx hb hl 2 rfl dX1_together_116 ?_
        refine g_rdR hx hb hown hts hKn hS h fd_3_3_5 rfl (Or.inr ⟨_, gNest_use rfl (hKn.2.2.2.2.1 _ (gNest_in q553 rfl))⟩) (fun _ z => z) dX1_together_117 (fun x117 h => ?_)
        refine lv_iconst (v := 4) hx hb dX1_together_120 (by decide) ?_
        refine g_iload hx hb hl 6 rfl dX1_together_121 ?_
        refine lv_imul hx hb dX1_together_123 ?_
        refine g_aload hx hb hl 0 rfl dX1_together_124 ?_
        refine g_rdI hx hb hown hts hKn hS h fd_11_11_4 rfl (Or.inr ⟨_, gNest_use rfl (hKn.2.2.2.2.1 _ (gNest_in q1688 rfl))⟩) (fun _ z => z) dX1_together_126 (fun x126 h => ?_)
        refine lv_iadd hx hb dX1_together_129 ?_
        refine g_iload_n hx hb hl 4 rfl dX1_together_130 ?_
        refine g_iastoreG hx hb hKn hS h dX1_together_131 (fun G131 h H locs hS => ?_)
        exact sX1_together_b132 C ih _ _ _ _ _ _ _ _ _ h _ _ _ _ _ hS (gls_sub hl [1, 2, 3, 4, 5, 6, 0] rfl)
theorem sX1_together_b47 {p : Program} {l : Launch} {e : Env} {R : Room} {s : State} {m : MethodId} {args : Array Value} {below : List Frame} {meth : Method} {c : Code} {E : g_E} {D : g_D} (C : gC p R s m args meth c cX1_together 7 RX1 "together" (none) 221 7381 E D) {k8 : Nat → (Option Nat) → Int32 → Int32 → Int32 → Int32 → g_G → Option (g_G)} (hk8 : ∀ (t : Nat) (v1 : Option Nat) (v2 : Int32) (v3 : Int32) (v4 : Int32) (v5 : Int32) (G : g_G) (q : g_G), k8 t v1 v2 v3 v4 v5 G = some q → ∀ (H : Heap) (locs : List Loc) (cells slots : Nat) (ls : Array Slot), gSt E D G H locs → gls ls 7 [(0, .inr (.inr (some t))), (1, .inr (.inr v1)), (2, .inl v2), (3, .inl v3), (4, .inl v4), (5, .inl v5)] → gT p l e R s m args below meth c E D H locs cells slots none q (F0 m 8 ls [])) : ∀ (t : Nat) (v1 : Option Nat) (v2 : Int32) (v3 : Int32) (v4 : Int32) (v5 : Int32) (G : g_G) (q : g_G), fX1_together_b47 E k8 t v1 v2 v3 v4 v5 G = some q → ∀ (H : Heap) (locs : List Loc) (cells slots : Nat) (ls : Array Slot), gSt E D G H locs → gls ls 7 [(0, .inr (.inr (some t))), (1, .inr (.inr v1)), (2, .inl v2), (3, .inl v3), (4, .inl v4), (5, .inl v5)] → gT p l e R s m args below meth c E D H locs cells slots none q (F0 m 47 ls []) := by
  obtain ⟨hx, hb, hml, hown, hts, hKn, hRc, hRs, hc1, hc2, hRf, hRl, hr, hlk, hnm⟩ := id C
  intro t v1 v2 v3 v4 v5 G q h H locs cells slots ls hS hl
  unfold fX1_together_b47 at h
  refine g_iload hx hb hl 4 rfl dX1_together_47 ?_
  refine g_aload_n hx hb hl 0 rfl dX1_together_49 ?_
  refine g_rdR hx hb hown hts hKn hS h fd_1_1_6 rfl (Or.inl (hts _ q603)) (fun _ z => z) dX1_together_50 (fun x50 h => ?_)
  refine g_iload hx hb hl 5 rfl dX1_together_53 ?_
  refine g_ialoadG hx hb hKn hS h dX1_together_55 (fun x55 h => ?_)
  refine g_mmax (rs := []) hx hb hml hown hRc hRs hS hl (hts _ q932) (hts _ q283) (hts _ q127) (hts _ q284) (by decide +kernel) rfl (Nat.le_of_ble_eq_true rfl) ⟨by rw [hRf]; exact Nat.le_of_ble_eq_true rfl, by rw [hRl]; exact Nat.le_of_ble_eq_true rfl⟩ dX1_together_56 (fun cells slots => ?_)
  refine g_istore (l1 := [(4, .inl (if v4 < x55 then x55 else v4)), (0, .inr (.inr (some t))), (1, .inr (.inr v1)), (2, .inl v2), (3, .inl v3), (5, .inl v5)]) hx hb hl (by decide) rfl dX1_together_59 (fun ls hl => ?_)
  refine g_iinc (l1 := [(5, .inl (v5 + 1)), (4, .inl (if v4 < x55 then x55 else v4)), (0, .inr (.inr (some t))), (1, .inr (.inr v1)), (2, .inl v2), (3, .inl v3)]) (v := (v5 + 1)) hx hb hl (k := 5) rfl (by rfl) (by decide) rfl dX1_together_61 (fun ls hl => ?_)
  refine lv_goto (tgt := 8) hx hb dX1_together_64 (by decide) ?_
  exact hk8 _ _ _ _ _ _ _ _ h _ _ _ _ _ hS (gls_sub hl [2, 3, 4, 5, 1, 0] rfl)
theorem sX1_together_b8 {p : Program} {l : Launch} {e : Env} {R : Room} {s : State} {m : MethodId} {args : Array Value} {below : List Frame} {meth : Method} {c : Code} {E : g_E} {D : g_D} (C : gC p R s m args meth c cX1_together 7 RX1 "together" (none) 221 7381 E D) : ∀ (n : Nat) (t : Nat) (v1 : Option Nat) (v2 : Int32) (v3 : Int32) (v4 : Int32) (v5 : Int32) (G : g_G) (q : g_G), fX1_together_b8 E n t v1 v2 v3 v4 v5 G = some q → ∀ (H : Heap) (locs : List Loc) (cells slots : Nat) (ls : Array Slot), gSt E D G H locs → gls ls 7 [(0, .inr (.inr (some t))), (1, .inr (.inr v1)), (2, .inl v2), (3, .inl v3), (4, .inl v4), (5, .inl v5)] → gT p l e R s m args below meth c E D H locs cells slots none q (F0 m 8 ls []) := by
  obtain ⟨hx, hb, hml, hown, hts, hKn, hRc, hRs, hc1, hc2, hRf, hRl, hr, hlk, hnm⟩ := id C
  intro n
  induction n with
  | zero =>
    intro t v1 v2 v3 v4 v5 G q h
    exact g_no h
  | succ n ih =>
    intro t v1 v2 v3 v4 v5 G q h H locs cells slots ls hS hl
    rw [fX1_together_b8] at h
    refine g_iload hx hb hl 5 rfl dX1_together_8 ?_
    refine g_aload_n hx hb hl 1 rfl dX1_together_10 ?_
    refine g_rdI hx hb hown hts hKn hS h fd_3_3_0 rfl (Or.inr ⟨_, gNest_use rfl (hKn.2.2.2.2.1 _ (gNest_in q537 rfl))⟩) (fun _ z => z) dX1_together_11 (fun x11 h => ?_)
    refine lv_icmp_ge (tgt := 67) hx hb dX1_together_14 (by decide) (fun c_14 => ?_) (fun c_14 => ?_)
    · have h := g_ift c_14 h
      refine lv_iconst (v := 0) hx hb dX1_together_67 (by decide) ?_
      refine g_istore (l1 := [(5, .inl 0), (0, .inr (.inr (some t))), (1, .inr (.inr v1)), (2, .inl v2), (3, .inl v3), (4, .inl v4)]) hx hb hl (by decide) rfl dX1_together_68 (fun ls hl => ?_)
      exact sX1_together_b70 C gFU _ _ _ _ _ _ _ _ h _ _ _ _ _ hS (gls_sub hl [1, 2, 3, 4, 5, 0] rfl)
    · have h := g_iff c_14 h
      refine g_iload_n hx hb hl 2 rfl dX1_together_17 ?_
      refine lv_bipush (v := 7) hx hb dX1_together_18 (by decide) ?_
      refine lv_icmp_ne (tgt := 47) hx hb dX1_together_20 (by decide) (fun c_20 => ?_) (fun c_20 => ?_)
      · have h := g_ift c_20 h
        exact sX1_together_b47 C ih _ _ _ _ _ _ _ _ h _ _ _ _ _ hS (gls_sub hl [0, 1, 2, 3, 4, 5] rfl)
      · have h := g_iff (fun z => z c_20) h
        refine g_iload_n hx hb hl 3 rfl dX1_together_23 ?_
        refine g_aload_n hx hb hl 1 rfl dX1_together_24 ?_
        refine g_rdR hx hb hown hts hKn hS h fd_3_3_3 rfl (Or.inr ⟨_, gNest_use rfl (hKn.2.2.2.2.1 _ (gNest_in q545 rfl))⟩) (fun _ z => z) dX1_together_25 (fun x25 h => ?_)
        refine g_iload hx hb hl 5 rfl dX1_together_28 ?_
        refine g_aaloadG hx hb hKn hS h (by decide) dX1_together_30 (fun x30 h => ?_)
        refine g_castS (k := 11) hx hb hown hKn hS h (by decide) (by decide) (hts _ q953) dX1_together_31 (fun x31 h => ?_)
        refine g_rdR hx hb hown hts hKn hS h fd_11_11_3 rfl (Or.inr ⟨_, gNest_use rfl (hKn.2.2.2.2.1 _ (gNest_in q1686 rfl))⟩) (fun _ z => z) dX1_together_34 (fun x34 h => ?_)
        refine g_aload_n hx hb hl 1 rfl dX1_together_37 ?_
        refine g_iload hx hb hl 5 rfl dX1_together_38 ?_
        obtain ⟨z40, h40, h⟩ := g_bnd h
        refine g_valueI (rs := [.inl v3]) hx hb hml hown hts hKn hRc hRs hS hl (gI_top l E D) h40 q927 ⟨by rw [hRf]; exact Nat.le_of_ble_eq_true rfl, by rw [hRl]; exact Nat.le_of_ble_eq_true rfl⟩ rfl (Nat.le_of_ble_eq_true rfl) dX1_together_40 (fun H locs cells slots hS => ?_)
        refine lv_iadd hx hb dX1_together_45 ?_
        refine g_istore_n (l1 := [(3, .inl (v3 + z40.1)), (0, .inr (.inr (some t))), (1, .inr (.inr v1)), (2, .inl v2), (4, .inl v4), (5, .inl v5)]) hx hb hl (by decide) rfl dX1_together_46 (fun ls hl => ?_)
        exact sX1_together_b47 C ih _ _ _ _ _ _ _ _ h _ _ _ _ _ hS (gls_sub hl [1, 2, 3, 0, 4, 5] rfl)
theorem sX1_together (l : Launch) (E : g_E) (D : g_D) {t : Nat} {v1 : Option Nat} {v2 : Int32} {G : g_G} {q : g_G} (h : fX1_together E t v1 v2 G = some q) : gMet l E D yX1_together (ws_ yX1_together cX1_together 7 (none)) 221 7381 [.inr (.inr (some t)), .inr (.inr v1), .inl v2] G none q := by
  refine gMet.of (by decide +kernel) (Nat.le_of_ble_eq_true rfl) ?_
  intro p e R s m args below meth c C hS ls hl
  have C : gC p R s m args meth c cX1_together 7 RX1 "together" (none) 221 7381 E D := C
  obtain ⟨hx, hb, hml, hown, hts, hKn, hRc, hRs, hc1, hc2, hRf, hRl, hr, hlk, hnm⟩ := id C
  have hl : gls ls 7 [(0, .inr (.inr (some t))), (1, .inr (.inr v1)), (2, .inl v2)] := hl
  generalize s.heap = H at hS ⊢
  unfold fX1_together at h
  refine lv_iconst (v := 0) hx hb dX1_together_0 (by decide) ?_
  refine g_istore_n (l1 := [(3, .inl 0), (0, .inr (.inr (some t))), (1, .inr (.inr v1)), (2, .inl v2)]) hx hb hl (by decide) rfl dX1_together_1 (fun ls hl => ?_)
  refine lv_iconst (v := 0) hx hb dX1_together_2 (by decide) ?_
  refine g_istore (l1 := [(4, .inl 0), (3, .inl 0), (0, .inr (.inr (some t))), (1, .inr (.inr v1)), (2, .inl v2)]) hx hb hl (by decide) rfl dX1_together_3 (fun ls hl => ?_)
  refine lv_iconst (v := 0) hx hb dX1_together_5 (by decide) ?_
  refine g_istore (l1 := [(5, .inl 0), (4, .inl 0), (3, .inl 0), (0, .inr (.inr (some t))), (1, .inr (.inr v1)), (2, .inl v2)]) hx hb hl (by decide) rfl dX1_together_6 (fun ls hl => ?_)
  exact sX1_together_b8 C gFU _ _ _ _ _ _ _ _ h _ _ _ _ _ hS (gls_sub hl [3, 4, 5, 2, 1, 0] rfl)
