set_option maxRecDepth 100000
/-- SendHallModel.of(II)I -/
def fX4_of_b41 (E : g_E) (t : Nat) (G : g_G) : Option (Int32 × g_G) :=
  (gchk G 4 (some t)).bind fun b43 =>
  (fX4_fail E b43 1 G).bind fun z43 =>
  some (z43.1, z43.2)
def fX4_of_b34 (E : g_E) (t : Nat) (v1 : Int32) (v2 : Int32) (G : g_G) : Option (Int32 × g_G) :=
  (gchk G 4 (some t)).bind fun b35 =>
  (fX4_hasPlay E b35 G).bind fun z35 =>
  if ¬ z35.1 = 0 then (
    if v2 = 0 then (
      (grR z35.2 4 4 (some t) 66).bind fun x97 =>
      (gaI z35.2 100 x97 v1).bind fun x101 =>
      some (x101, z35.2))
    else
    if v2 = 1 then (
      (grR z35.2 4 4 (some t) 67).bind fun x104 =>
      (gaI z35.2 100 x104 v1).bind fun x108 =>
      some (x108, z35.2))
    else
    if v2 = 2 then (
      (grR z35.2 4 4 (some t) 61).bind fun x111 =>
      (gaI z35.2 100 x111 ((8 * v1) + 0)).bind fun x117 =>
      some (x117, z35.2))
    else
    if v2 = 3 then (
      (grR z35.2 4 4 (some t) 61).bind fun x120 =>
      (gaI z35.2 100 x120 ((8 * v1) + 7)).bind fun x127 =>
      some (x127, z35.2))
    else
    if v2 = 4 then (
      (grR z35.2 4 4 (some t) 61).bind fun x130 =>
      (gaI z35.2 100 x130 ((8 * v1) + 6)).bind fun x137 =>
      some (x137, z35.2))
    else
    if v2 = 5 then (
      (grR z35.2 4 4 (some t) 64).bind fun x140 =>
      (gaI z35.2 100 x140 v1).bind fun x144 =>
      some (x144, z35.2))
    else
    if v2 = 6 then (
      (grR z35.2 4 4 (some t) 61).bind fun x147 =>
      (gaI z35.2 100 x147 ((8 * v1) + 1)).bind fun x153 =>
      some (x153, z35.2))
    else
    (
      (grR z35.2 4 4 (some t) 61).bind fun x156 =>
      (gaI z35.2 100 x156 ((((8 * v1) + 2) + v2) - 8)).bind fun x167 =>
      some (x167, z35.2)))
  else (
    fX4_of_b41 E t z35.2)
def fX4_of (E : g_E) (t : Nat) (v1 : Int32) (v2 : Int32) (G : g_G) : Option (Int32 × g_G) :=
  (gpI E G 4 4 (some t) 2 0).bind fun G2 =>
  (gchk G2 4 (some t)).bind fun b7 =>
  (fX4_isHand E b7 v1 G2).bind fun z7 =>
  if z7.1 = 0 then (
    fX4_of_b41 E t z7.2)
  else (
    (fX4_isIn E v2 0 6 z7.2).bind fun z17 =>
    if ¬ z17.1 = 0 then (
      fX4_of_b34 E t v1 v2 z17.2)
    else (
      (fX4_isIn E v2 8 11 z17.2).bind fun z28 =>
      if z28.1 = 0 then (
        fX4_of_b41 E t z28.2)
      else (
        fX4_of_b34 E t v1 v2 z28.2)))
theorem sX4_of_b41 {p : Program} {l : Launch} {e : Env} {R : Room} {s : State} {m : MethodId} {args : Array Value} {below : List Frame} {meth : Method} {c : Code} {E : g_E} {D : g_D} (C : gC p R s m args meth c cX4_of 4 RX4 "of" (some .int) 3 107 E D) : ∀ (t : Nat) (G : g_G) (q : Int32 × g_G), fX4_of_b41 E t G = some q → ∀ (H : Heap) (locs : List Loc) (cells slots : Nat) (ls : Array Slot), gSt E D G H locs → gls ls 4 [(0, .inr (.inr (some t)))] → gT p l e R s m args below meth c E D H locs cells slots (some (.int q.1)) q.2 (F0 m 41 ls []) := by
  obtain ⟨hx, hb, hml, hown, hts, hKn, hRc, hRs, hc1, hc2, hRf, hRl, hr, hlk, hnm⟩ := id C
  intro t G q h H locs cells slots ls hS hl
  unfold fX4_of_b41 at h
  refine g_aload_n hx hb hl 0 rfl dX4_of_41 ?_
  refine lv_iconst (v := 1) hx hb dX4_of_42 (by decide) ?_
  obtain ⟨b43, hb43, h⟩ := g_bnd h
  obtain ⟨hr43, hk43⟩ := g_chk hb43
  obtain ⟨z43, h43, h⟩ := g_bnd h
  refine g_callV (n := 1) (b := b43) (av := [.inl 1]) (rs := []) hx hb hml hown hts hKn hRc hRs hS hl (sX4_fail l E D h43) (lw_V q2088 q2090 qs48 q135 q2091) ⟨rfl, by decide, by decide, by decide +kernel⟩ ⟨by rw [hRf]; exact Nat.le_of_ble_eq_true rfl, by rw [hRl]; exact Nat.le_of_ble_eq_true rfl⟩ (g_recv hKn hS hk43 (by decide) (by decide)) rfl (by rw [hr43]; rfl) (Nat.le_of_ble_eq_true rfl) dX4_of_43 (fun H locs cells slots hS => ?_)
  exact g_iretG hx hb hr hlk hKn hRc hRs hS h dX4_of_46
theorem sX4_of_b34 {p : Program} {l : Launch} {e : Env} {R : Room} {s : State} {m : MethodId} {args : Array Value} {below : List Frame} {meth : Method} {c : Code} {E : g_E} {D : g_D} (C : gC p R s m args meth c cX4_of 4 RX4 "of" (some .int) 3 107 E D) : ∀ (t : Nat) (v1 : Int32) (v2 : Int32) (G : g_G) (q : Int32 × g_G), fX4_of_b34 E t v1 v2 G = some q → ∀ (H : Heap) (locs : List Loc) (cells slots : Nat) (ls : Array Slot), gSt E D G H locs → gls ls 4 [(0, .inr (.inr (some t))), (1, .inl v1), (2, .inl v2)] → gT p l e R s m args below meth c E D H locs cells slots (some (.int q.1)) q.2 (F0 m 34 ls []) := by
  obtain ⟨hx, hb, hml, hown, hts, hKn, hRc, hRs, hc1, hc2, hRf, hRl, hr, hlk, hnm⟩ := id C
  intro t v1 v2 G q h H locs cells slots ls hS hl
  unfold fX4_of_b34 at h
  refine g_aload_n hx hb hl 0 rfl dX4_of_34 ?_
  obtain ⟨b35, hb35, h⟩ := g_bnd h
  obtain ⟨hr35, hk35⟩ := g_chk hb35
  obtain ⟨z35, h35, h⟩ := g_bnd h
  refine g_callV (n := 0) (b := b35) (av := []) (rs := []) hx hb hml hown hts hKn hRc hRs hS hl (sX4_hasPlay l E D h35) (lw_V q2428 q2430 qs111 q135 q2431) ⟨rfl, by decide, by decide, by decide +kernel⟩ ⟨by rw [hRf]; exact Nat.le_of_ble_eq_true rfl, by rw [hRl]; exact Nat.le_of_ble_eq_true rfl⟩ (g_recv hKn hS hk35 (by decide) (by decide)) rfl (by rw [hr35]; rfl) (Nat.le_of_ble_eq_true rfl) dX4_of_35 (fun H locs cells slots hS => ?_)
  refine lv_if_ne (tgt := 47) hx hb dX4_of_38 (by decide) (fun c_38 => ?_) (fun c_38 => ?_)
  · have h := g_ift c_38 h
    refine lv_bipush (v := 8) hx hb dX4_of_47 (by decide) ?_
    refine g_iload_n hx hb hl 1 rfl dX4_of_49 ?_
    refine lv_imul hx hb dX4_of_50 ?_
    refine g_istore_n (l1 := [(3, .inl (8 * v1)), (0, .inr (.inr (some t))), (1, .inl v1), (2, .inl v2)]) hx hb hl (by decide) rfl dX4_of_51 (fun ls hl => ?_)
    refine g_iload_n hx hb hl 3 rfl dX4_of_52 ?_
    by_cases w53_0 : v2 = 0
    · refine lv_tableIn (tgt := 96) (off := 43) hx hb dX4_of_53 (by rw [w53_0]; decide) (by rw [w53_0]; decide) (by rw [w53_0]; decide) (by decide) ?_
      have h := g_ift w53_0 h
      refine g_aload_n hx hb hl 1 rfl dX4_of_96 ?_
      refine g_rdR hx hb hown hts hKn hS h fd_4_4_66 rfl (Or.inl (hts _ q1931)) (fun _ z => z) dX4_of_97 (fun x97 h => ?_)
      refine g_iload_n hx hb hl 2 rfl dX4_of_100 ?_
      refine g_ialoadG hx hb hKn hS h dX4_of_101 (fun x101 h => ?_)
      exact g_iretG hx hb hr hlk hKn hRc hRs hS h dX4_of_102
    have h := g_iff w53_0 h
    by_cases w53_1 : v2 = 1
    · refine lv_tableIn (tgt := 103) (off := 50) hx hb dX4_of_53 (by rw [w53_1]; decide) (by rw [w53_1]; decide) (by rw [w53_1]; decide) (by decide) ?_
      have h := g_ift w53_1 h
      refine g_aload_n hx hb hl 1 rfl dX4_of_103 ?_
      refine g_rdR hx hb hown hts hKn hS h fd_4_4_67 rfl (Or.inl (hts _ q1932)) (fun _ z => z) dX4_of_104 (fun x104 h => ?_)
      refine g_iload_n hx hb hl 2 rfl dX4_of_107 ?_
      refine g_ialoadG hx hb hKn hS h dX4_of_108 (fun x108 h => ?_)
      exact g_iretG hx hb hr hlk hKn hRc hRs hS h dX4_of_109
    have h := g_iff w53_1 h
    by_cases w53_2 : v2 = 2
    · refine lv_tableIn (tgt := 110) (off := 57) hx hb dX4_of_53 (by rw [w53_2]; decide) (by rw [w53_2]; decide) (by rw [w53_2]; decide) (by decide) ?_
      have h := g_ift w53_2 h
      refine g_aload_n hx hb hl 1 rfl dX4_of_110 ?_
      refine g_rdR hx hb hown hts hKn hS h fd_4_4_61 rfl (Or.inl (hts _ q1926)) (fun _ z => z) dX4_of_111 (fun x111 h => ?_)
      refine g_iload_n hx hb hl 0 rfl dX4_of_114 ?_
      refine lv_iconst (v := 0) hx hb dX4_of_115 (by decide) ?_
      refine lv_iadd hx hb dX4_of_116 ?_
      refine g_ialoadG hx hb hKn hS h dX4_of_117 (fun x117 h => ?_)
      exact g_iretG hx hb hr hlk hKn hRc hRs hS h dX4_of_118
    have h := g_iff w53_2 h
    by_cases w53_3 : v2 = 3
    · refine lv_tableIn (tgt := 119) (off := 66) hx hb dX4_of_53 (by rw [w53_3]; decide) (by rw [w53_3]; decide) (by rw [w53_3]; decide) (by decide) ?_
      have h := g_ift w53_3 h
      refine g_aload_n hx hb hl 1 rfl dX4_of_119 ?_
      refine g_rdR hx hb hown hts hKn hS h fd_4_4_61 rfl (Or.inl (hts _ q1926)) (fun _ z => z) dX4_of_120 (fun x120 h => ?_)
      refine g_iload_n hx hb hl 0 rfl dX4_of_123 ?_
      refine lv_bipush (v := 7) hx hb dX4_of_124 (by decide) ?_
      refine lv_iadd hx hb dX4_of_126 ?_
      refine g_ialoadG hx hb hKn hS h dX4_of_127 (fun x127 h => ?_)
      exact g_iretG hx hb hr hlk hKn hRc hRs hS h dX4_of_128
    have h := g_iff w53_3 h
    by_cases w53_4 : v2 = 4
    · refine lv_tableIn (tgt := 129) (off := 76) hx hb dX4_of_53 (by rw [w53_4]; decide) (by rw [w53_4]; decide) (by rw [w53_4]; decide) (by decide) ?_
      have h := g_ift w53_4 h
      refine g_aload_n hx hb hl 1 rfl dX4_of_129 ?_
      refine g_rdR hx hb hown hts hKn hS h fd_4_4_61 rfl (Or.inl (hts _ q1926)) (fun _ z => z) dX4_of_130 (fun x130 h => ?_)
      refine g_iload_n hx hb hl 0 rfl dX4_of_133 ?_
      refine lv_bipush (v := 6) hx hb dX4_of_134 (by decide) ?_
      refine lv_iadd hx hb dX4_of_136 ?_
      refine g_ialoadG hx hb hKn hS h dX4_of_137 (fun x137 h => ?_)
      exact g_iretG hx hb hr hlk hKn hRc hRs hS h dX4_of_138
    have h := g_iff w53_4 h
    by_cases w53_5 : v2 = 5
    · refine lv_tableIn (tgt := 139) (off := 86) hx hb dX4_of_53 (by rw [w53_5]; decide) (by rw [w53_5]; decide) (by rw [w53_5]; decide) (by decide) ?_
      have h := g_ift w53_5 h
      refine g_aload_n hx hb hl 1 rfl dX4_of_139 ?_
      refine g_rdR hx hb hown hts hKn hS h fd_4_4_64 rfl (Or.inl (hts _ q1929)) (fun _ z => z) dX4_of_140 (fun x140 h => ?_)
      refine g_iload_n hx hb hl 2 rfl dX4_of_143 ?_
      refine g_ialoadG hx hb hKn hS h dX4_of_144 (fun x144 h => ?_)
      exact g_iretG hx hb hr hlk hKn hRc hRs hS h dX4_of_145
    have h := g_iff w53_5 h
    by_cases w53_6 : v2 = 6
    · refine lv_tableIn (tgt := 146) (off := 93) hx hb dX4_of_53 (by rw [w53_6]; decide) (by rw [w53_6]; decide) (by rw [w53_6]; decide) (by decide) ?_
      have h := g_ift w53_6 h
      refine g_aload_n hx hb hl 1 rfl dX4_of_146 ?_
      refine g_rdR hx hb hown hts hKn hS h fd_4_4_61 rfl (Or.inl (hts _ q1926)) (fun _ z => z) dX4_of_147 (fun x147 h => ?_)
      refine g_iload_n hx hb hl 0 rfl dX4_of_150 ?_
      refine lv_iconst (v := 1) hx hb dX4_of_151 (by decide) ?_
      refine lv_iadd hx hb dX4_of_152 ?_
      refine g_ialoadG hx hb hKn hS h dX4_of_153 (fun x153 h => ?_)
      exact g_iretG hx hb hr hlk hKn hRc hRs hS h dX4_of_154
    have h := g_iff w53_6 h
    refine g_tableD (tgt := 155) hx hb dX4_of_53 (by decide) [0, 1, 2, 3, 4, 5, 6] (by decide) (fun k hk => ?_) ?_
    · simp only [List.mem_cons, List.not_mem_nil, or_false] at hk
      rcases hk with rfl | rfl | rfl | rfl | rfl | rfl | rfl
      · exact w53_0
      · exact w53_1
      · exact w53_2
      · exact w53_3
      · exact w53_4
      · exact w53_5
      · exact w53_6
    refine g_aload_n hx hb hl 1 rfl dX4_of_155 ?_
    refine g_rdR hx hb hown hts hKn hS h fd_4_4_61 rfl (Or.inl (hts _ q1926)) (fun _ z => z) dX4_of_156 (fun x156 h => ?_)
    refine g_iload_n hx hb hl 0 rfl dX4_of_159 ?_
    refine lv_iconst (v := 2) hx hb dX4_of_160 (by decide) ?_
    refine lv_iadd hx hb dX4_of_161 ?_
    refine g_iload_n hx hb hl 3 rfl dX4_of_162 ?_
    refine lv_iadd hx hb dX4_of_163 ?_
    refine lv_bipush (v := 8) hx hb dX4_of_164 (by decide) ?_
    refine lv_isub hx hb dX4_of_166 ?_
    refine g_ialoadG hx hb hKn hS h dX4_of_167 (fun x167 h => ?_)
    exact g_iretG hx hb hr hlk hKn hRc hRs hS h dX4_of_168
  · have h := g_iff (fun z => z c_38) h
    exact sX4_of_b41 C _ _ _ h _ _ _ _ _ hS (gls_sub hl [0] rfl)
theorem sX4_of (l : Launch) (E : g_E) (D : g_D) {t : Nat} {v1 : Int32} {v2 : Int32} {G : g_G} {q : Int32 × g_G} (h : fX4_of E t v1 v2 G = some q) : gMet l E D yX4_of (ws_ yX4_of cX4_of 4 (some .int)) 3 107 [.inr (.inr (some t)), .inl v1, .inl v2] G (some (.int q.1)) q.2 := by
  refine gMet.of (by decide +kernel) (Nat.le_of_ble_eq_true rfl) ?_
  intro p e R s m args below meth c C hS ls hl
  have C : gC p R s m args meth c cX4_of 4 RX4 "of" (some .int) 3 107 E D := C
  obtain ⟨hx, hb, hml, hown, hts, hKn, hRc, hRs, hc1, hc2, hRf, hRl, hr, hlk, hnm⟩ := id C
  have hl : gls ls 4 [(0, .inr (.inr (some t))), (1, .inl v1), (2, .inl v2)] := hl
  generalize s.heap = H at hS ⊢
  unfold fX4_of at h
  refine g_aload_n hx hb hl 0 rfl dX4_of_0 ?_
  refine lv_iconst (v := 0) hx hb dX4_of_1 (by decide) ?_
  refine g_ptI hx hb hown hts hKn hS h fd_4_4_2 (Or.inl (hts _ q1867)) (fun _ z => z) (fun z => nomatch z) dX4_of_2 (fun G2 h H locs hS => ?_)
  refine g_aload_n hx hb hl 0 rfl dX4_of_5 ?_
  refine g_iload_n hx hb hl 1 rfl dX4_of_6 ?_
  obtain ⟨b7, hb7, h⟩ := g_bnd h
  obtain ⟨hr7, hk7⟩ := g_chk hb7
  obtain ⟨z7, h7, h⟩ := g_bnd h
  refine g_callV (n := 1) (b := b7) (av := [.inl v1]) (rs := []) hx hb hml hown hts hKn hRc hRs hS hl (sX4_isHand l E D h7) (lw_V q2384 q2386 qs105 q135 q2387) ⟨rfl, by decide, by decide, by decide +kernel⟩ ⟨by rw [hRf]; exact Nat.le_of_ble_eq_true rfl, by rw [hRl]; exact Nat.le_of_ble_eq_true rfl⟩ (g_recv hKn hS hk7 (by decide) (by decide)) rfl (by rw [hr7]; rfl) (Nat.le_of_ble_eq_true rfl) dX4_of_7 (fun H locs cells slots hS => ?_)
  refine lv_if_eq (tgt := 41) hx hb dX4_of_10 (by decide) (fun c_10 => ?_) (fun c_10 => ?_)
  · have h := g_ift c_10 h
    exact sX4_of_b41 C _ _ _ h _ _ _ _ _ hS (gls_sub hl [0] rfl)
  · have h := g_iff c_10 h
    refine g_iload_n hx hb hl 2 rfl dX4_of_13 ?_
    refine lv_iconst (v := 0) hx hb dX4_of_14 (by decide) ?_
    refine lv_bipush (v := 6) hx hb dX4_of_15 (by decide) ?_
    obtain ⟨z17, h17, h⟩ := g_bnd h
    refine g_callS (n := 3) (av := [.inl v2, .inl 0, .inl 6]) (rs := []) hx hb hml hown hts hKn hRc hRs hS hl (sX4_isIn l E D h17) (lw_S q2180 q2181 q135 q2182) ⟨by decide, by decide, by decide +kernel⟩ ⟨by rw [hRf]; exact Nat.le_of_ble_eq_true rfl, by rw [hRl]; exact Nat.le_of_ble_eq_true rfl⟩ rfl rfl (Nat.le_of_ble_eq_true rfl) dX4_of_17 (fun H locs cells slots hS => ?_)
    refine lv_if_ne (tgt := 34) hx hb dX4_of_20 (by decide) (fun c_20 => ?_) (fun c_20 => ?_)
    · have h := g_ift c_20 h
      exact sX4_of_b34 C _ _ _ _ _ h _ _ _ _ _ hS (gls_sub hl [0, 1, 2] rfl)
    · have h := g_iff (fun z => z c_20) h
      refine g_iload_n hx hb hl 2 rfl dX4_of_23 ?_
      refine lv_bipush (v := 8) hx hb dX4_of_24 (by decide) ?_
      refine lv_bipush (v := 11) hx hb dX4_of_26 (by decide) ?_
      obtain ⟨z28, h28, h⟩ := g_bnd h
      refine g_callS (n := 3) (av := [.inl v2, .inl 8, .inl 11]) (rs := []) hx hb hml hown hts hKn hRc hRs hS hl (sX4_isIn l E D h28) (lw_S q2180 q2181 q135 q2182) ⟨by decide, by decide, by decide +kernel⟩ ⟨by rw [hRf]; exact Nat.le_of_ble_eq_true rfl, by rw [hRl]; exact Nat.le_of_ble_eq_true rfl⟩ rfl rfl (Nat.le_of_ble_eq_true rfl) dX4_of_28 (fun H locs cells slots hS => ?_)
      refine lv_if_eq (tgt := 41) hx hb dX4_of_31 (by decide) (fun c_31 => ?_) (fun c_31 => ?_)
      · have h := g_ift c_31 h
        exact sX4_of_b41 C _ _ _ h _ _ _ _ _ hS (gls_sub hl [0] rfl)
      · have h := g_iff c_31 h
        exact sX4_of_b34 C _ _ _ _ _ h _ _ _ _ _ hS (gls_sub hl [0, 1, 2] rfl)
/-- SendHallModel.readNumber(II)I -/
def fX4_readNumber_b59 (E : g_E) (t : Nat) (G : g_G) : Option (Int32 × g_G) :=
  (grI G 4 4 (some t) 15).bind fun x60 =>
  (grI G 4 4 (some t) 18).bind fun x65 =>
  if ¬ x65 = 0 then (
    some (x60, G))
  else (
    (gchk G 4 (some t)).bind fun b72 =>
    (fX4_stepOn E b72 G).bind fun z72 =>
    some (x60, z72))
def fX4_readNumber_b54 (E : g_E) (t : Nat) (G : g_G) : Option (Int32 × g_G) :=
  (gchk G 4 (some t)).bind fun b56 =>
  (fX4_wrong E b56 2 G).bind fun z56 =>
  fX4_readNumber_b59 E t z56
def fX4_readNumber (E : g_E) (t : Nat) (v1 : Int32) (v2 : Int32) (G : g_G) : Option (Int32 × g_G) :=
  (grI G 4 4 (some t) 18).bind fun x1 =>
  if x1 = 0 then (
    (grI G 4 4 (some t) 13).bind fun x10 =>
    if x10 = (2 : Int32) then (
      (grI G 4 4 (some t) 17).bind fun x26 =>
      (grI G 4 4 (some t) 16).bind fun x30 =>
      if (4 : Int32) < (x26 - x30) then (
        fX4_readNumber_b54 E t G)
      else (
        (grI G 4 4 (some t) 15).bind fun x39 =>
        if x39 < v1 then (
          fX4_readNumber_b54 E t G)
        else (
          (grI G 4 4 (some t) 15).bind fun x47 =>
          if x47 ≤ v2 then (
            fX4_readNumber_b59 E t G)
          else (
            fX4_readNumber_b54 E t G))))
    else (
      (gchk G 4 (some t)).bind fun b19 =>
      (fX4_wrong E b19 1 G).bind fun z19 =>
      fX4_readNumber_b59 E t z19))
  else (
    some (0, G))
theorem sX4_readNumber_b59 {p : Program} {l : Launch} {e : Env} {R : Room} {s : State} {m : MethodId} {args : Array Value} {below : List Frame} {meth : Method} {c : Code} {E : g_E} {D : g_D} (C : gC p R s m args meth c cX4_readNumber 4 RX4 "readNumber" (some .int) 3 107 E D) : ∀ (t : Nat) (G : g_G) (q : Int32 × g_G), fX4_readNumber_b59 E t G = some q → ∀ (H : Heap) (locs : List Loc) (cells slots : Nat) (ls : Array Slot), gSt E D G H locs → gls ls 4 [(0, .inr (.inr (some t)))] → gT p l e R s m args below meth c E D H locs cells slots (some (.int q.1)) q.2 (F0 m 59 ls []) := by
  obtain ⟨hx, hb, hml, hown, hts, hKn, hRc, hRs, hc1, hc2, hRf, hRl, hr, hlk, hnm⟩ := id C
  intro t G q h H locs cells slots ls hS hl
  unfold fX4_readNumber_b59 at h
  refine g_aload_n hx hb hl 0 rfl dX4_readNumber_59 ?_
  refine g_rdI hx hb hown hts hKn hS h fd_4_4_15 rfl (Or.inl (hts _ q1880)) (fun _ z => z) dX4_readNumber_60 (fun x60 h => ?_)
  refine g_istore_n (l1 := [(3, .inl x60), (0, .inr (.inr (some t)))]) hx hb hl (by decide) rfl dX4_readNumber_63 (fun ls hl => ?_)
  refine g_aload_n hx hb hl 1 rfl dX4_readNumber_64 ?_
  refine g_rdI hx hb hown hts hKn hS h fd_4_4_18 rfl (Or.inl (hts _ q1883)) (fun _ z => z) dX4_readNumber_65 (fun x65 h => ?_)
  refine lv_if_ne (tgt := 75) hx hb dX4_readNumber_68 (by decide) (fun c_68 => ?_) (fun c_68 => ?_)
  · have h := g_ift c_68 h
    refine g_iload_n hx hb hl 0 rfl dX4_readNumber_75 ?_
    exact g_iretG hx hb hr hlk hKn hRc hRs hS h dX4_readNumber_76
  · have h := g_iff (fun z => z c_68) h
    refine g_aload_n hx hb hl 1 rfl dX4_readNumber_71 ?_
    obtain ⟨b72, hb72, h⟩ := g_bnd h
    obtain ⟨hr72, hk72⟩ := g_chk hb72
    obtain ⟨z72, h72, h⟩ := g_bnd h
    refine g_callV (n := 0) (b := b72) (av := []) (rs := []) hx hb hml hown hts hKn hRc hRs hS hl (sX4_stepOn l E D h72) (lw_V q2092 q2094 qs49 q135 q2095) ⟨rfl, by decide, by decide, by decide +kernel⟩ ⟨by rw [hRf]; exact Nat.le_of_ble_eq_true rfl, by rw [hRl]; exact Nat.le_of_ble_eq_true rfl⟩ (g_recv hKn hS hk72 (by decide) (by decide)) rfl (by rw [hr72]; rfl) (Nat.le_of_ble_eq_true rfl) dX4_readNumber_72 (fun H locs cells slots hS => ?_)
    refine g_iload_n hx hb hl 0 rfl dX4_readNumber_75 ?_
    exact g_iretG hx hb hr hlk hKn hRc hRs hS h dX4_readNumber_76
theorem sX4_readNumber_b54 {p : Program} {l : Launch} {e : Env} {R : Room} {s : State} {m : MethodId} {args : Array Value} {below : List Frame} {meth : Method} {c : Code} {E : g_E} {D : g_D} (C : gC p R s m args meth c cX4_readNumber 4 RX4 "readNumber" (some .int) 3 107 E D) : ∀ (t : Nat) (G : g_G) (q : Int32 × g_G), fX4_readNumber_b54 E t G = some q → ∀ (H : Heap) (locs : List Loc) (cells slots : Nat) (ls : Array Slot), gSt E D G H locs → gls ls 4 [(0, .inr (.inr (some t)))] → gT p l e R s m args below meth c E D H locs cells slots (some (.int q.1)) q.2 (F0 m 54 ls []) := by
  obtain ⟨hx, hb, hml, hown, hts, hKn, hRc, hRs, hc1, hc2, hRf, hRl, hr, hlk, hnm⟩ := id C
  intro t G q h H locs cells slots ls hS hl
  unfold fX4_readNumber_b54 at h
  refine g_aload_n hx hb hl 0 rfl dX4_readNumber_54 ?_
  refine lv_iconst (v := 2) hx hb dX4_readNumber_55 (by decide) ?_
  obtain ⟨b56, hb56, h⟩ := g_bnd h
  obtain ⟨hr56, hk56⟩ := g_chk hb56
  obtain ⟨z56, h56, h⟩ := g_bnd h
  refine g_callV (n := 1) (b := b56) (av := [.inl 2]) (rs := []) hx hb hml hown hts hKn hRc hRs hS hl (sX4_wrong l E D h56) (lw_V q2128 q2130 qs55 q135 q2131) ⟨rfl, by decide, by decide, by decide +kernel⟩ ⟨by rw [hRf]; exact Nat.le_of_ble_eq_true rfl, by rw [hRl]; exact Nat.le_of_ble_eq_true rfl⟩ (g_recv hKn hS hk56 (by decide) (by decide)) rfl (by rw [hr56]; rfl) (Nat.le_of_ble_eq_true rfl) dX4_readNumber_56 (fun H locs cells slots hS => ?_)
  exact sX4_readNumber_b59 C _ _ _ h _ _ _ _ _ hS (gls_sub hl [0] rfl)
theorem sX4_readNumber (l : Launch) (E : g_E) (D : g_D) {t : Nat} {v1 : Int32} {v2 : Int32} {G : g_G} {q : Int32 × g_G} (h : fX4_readNumber E t v1 v2 G = some q) : gMet l E D yX4_readNumber (ws_ yX4_readNumber cX4_readNumber 4 (some .int)) 3 107 [.inr (.inr (some t)), .inl v1, .inl v2] G (some (.int q.1)) q.2 := by
  refine gMet.of (by decide +kernel) (Nat.le_of_ble_eq_true rfl) ?_
  intro p e R s m args below meth c C hS ls hl
  have C : gC p R s m args meth c cX4_readNumber 4 RX4 "readNumber" (some .int) 3 107 E D := C
  obtain ⟨hx, hb, hml, hown, hts, hKn, hRc, hRs, hc1, hc2, hRf, hRl, hr, hlk, hnm⟩ := id C
  have hl : gls ls 4 [(0, .inr (.inr (some t))), (1, .inl v1), (2, .inl v2)] := hl
  generalize s.heap = H at hS ⊢
  unfold fX4_readNumber at h
  refine g_aload_n hx hb hl 0 rfl dX4_readNumber_0 ?_
  refine g_rdI hx hb hown hts hKn hS h fd_4_4_18 rfl (Or.inl (hts _ q1883)) (fun _ z => z) dX4_readNumber_1 (fun x1 h => ?_)
  refine lv_if_eq (tgt := 9) hx hb dX4_readNumber_4 (by decide) (fun c_4 => ?_) (fun c_4 => ?_)
  · have h := g_ift c_4 h
    refine g_aload_n hx hb hl 0 rfl dX4_readNumber_9 ?_
    refine g_rdI hx hb hown hts hKn hS h fd_4_4_13 rfl (Or.inl (hts _ q1878)) (fun _ z => z) dX4_readNumber_10 (fun x10 h => ?_)
    refine lv_iconst (v := 2) hx hb dX4_readNumber_13 (by decide) ?_
    refine lv_icmp_eq (tgt := 25) hx hb dX4_readNumber_14 (by decide) (fun c_14 => ?_) (fun c_14 => ?_)
    · have h := g_ift c_14 h
      refine g_aload_n hx hb hl 0 rfl dX4_readNumber_25 ?_
      refine g_rdI hx hb hown hts hKn hS h fd_4_4_17 rfl (Or.inl (hts _ q1882)) (fun _ z => z) dX4_readNumber_26 (fun x26 h => ?_)
      refine g_aload_n hx hb hl 0 rfl dX4_readNumber_29 ?_
      refine g_rdI hx hb hown hts hKn hS h fd_4_4_16 rfl (Or.inl (hts _ q1881)) (fun _ z => z) dX4_readNumber_30 (fun x30 h => ?_)
      refine lv_isub hx hb dX4_readNumber_33 ?_
      refine lv_iconst (v := 4) hx hb dX4_readNumber_34 (by decide) ?_
      refine lv_icmp_gt (tgt := 54) hx hb dX4_readNumber_35 (by decide) (fun c_35 => ?_) (fun c_35 => ?_)
      · have h := g_ift c_35 h
        exact sX4_readNumber_b54 C _ _ _ h _ _ _ _ _ hS (gls_sub hl [0] rfl)
      · have h := g_iff c_35 h
        refine g_aload_n hx hb hl 0 rfl dX4_readNumber_38 ?_
        refine g_rdI hx hb hown hts hKn hS h fd_4_4_15 rfl (Or.inl (hts _ q1880)) (fun _ z => z) dX4_readNumber_39 (fun x39 h => ?_)
        refine g_iload_n hx hb hl 1 rfl dX4_readNumber_42 ?_
        refine lv_icmp_lt (tgt := 54) hx hb dX4_readNumber_43 (by decide) (fun c_43 => ?_) (fun c_43 => ?_)
        · have h := g_ift c_43 h
          exact sX4_readNumber_b54 C _ _ _ h _ _ _ _ _ hS (gls_sub hl [0] rfl)
        · have h := g_iff c_43 h
          refine g_aload_n hx hb hl 0 rfl dX4_readNumber_46 ?_
          refine g_rdI hx hb hown hts hKn hS h fd_4_4_15 rfl (Or.inl (hts _ q1880)) (fun _ z => z) dX4_readNumber_47 (fun x47 h => ?_)
          refine g_iload_n hx hb hl 2 rfl dX4_readNumber_50 ?_
          refine lv_icmp_le (tgt := 59) hx hb dX4_readNumber_51 (by decide) (fun c_51 => ?_) (fun c_51 => ?_)
          · have h := g_ift c_51 h
            exact sX4_readNumber_b59 C _ _ _ h _ _ _ _ _ hS (gls_sub hl [0] rfl)
          · have h := g_iff c_51 h
            exact sX4_readNumber_b54 C _ _ _ h _ _ _ _ _ hS (gls_sub hl [0] rfl)
    · have h := g_iff c_14 h
      refine g_aload_n hx hb hl 0 rfl dX4_readNumber_17 ?_
      refine lv_iconst (v := 1) hx hb dX4_readNumber_18 (by decide) ?_
      obtain ⟨b19, hb19, h⟩ := g_bnd h
      obtain ⟨hr19, hk19⟩ := g_chk hb19
      obtain ⟨z19, h19, h⟩ := g_bnd h
      refine g_callV (n := 1) (b := b19) (av := [.inl 1]) (rs := []) hx hb hml hown hts hKn hRc hRs hS hl (sX4_wrong l E D h19) (lw_V q2128 q2130 qs55 q135 q2131) ⟨rfl, by decide, by decide, by decide +kernel⟩ ⟨by rw [hRf]; exact Nat.le_of_ble_eq_true rfl, by rw [hRl]; exact Nat.le_of_ble_eq_true rfl⟩ (g_recv hKn hS hk19 (by decide) (by decide)) rfl (by rw [hr19]; rfl) (Nat.le_of_ble_eq_true rfl) dX4_readNumber_19 (fun H locs cells slots hS => ?_)
      refine lv_goto (tgt := 59) hx hb dX4_readNumber_22 (by decide) ?_
      exact sX4_readNumber_b59 C _ _ _ h _ _ _ _ _ hS (gls_sub hl [0] rfl)
  · have h := g_iff c_4 h
    refine lv_iconst (v := 0) hx hb dX4_readNumber_7 (by decide) ?_
    exact g_iretG hx hb hr hlk hKn hRc hRs hS h dX4_readNumber_8
/-- SendHallModel.sent(II)I -/
def fX4_sent_b65 (E : g_E) (k5 : Nat → Int32 → Int32 → Int32 → Int32 → g_G → Option (Int32 × g_G)) (t : Nat) (v1 : Int32) (v2 : Int32) (v4 : Int32) (s0 : Int32) (s1 : Int32) (G : g_G) : Option (Int32 × g_G) :=
  k5 t v1 v2 (s0 + s1) (v4 + 1) G
def fX4_sent_b64 (E : g_E) (k5 : Nat → Int32 → Int32 → Int32 → Int32 → g_G → Option (Int32 × g_G)) (t : Nat) (v1 : Int32) (v2 : Int32) (v4 : Int32) (s0 : Int32) (G : g_G) : Option (Int32 × g_G) :=
  fX4_sent_b65 E k5 t v1 v2 v4 s0 0 G
def fX4_sent_b5 (E : g_E) : Nat → Nat → Int32 → Int32 → Int32 → Int32 → g_G → Option (Int32 × g_G)
  | 0, _, _, _, _, _, _ => none
  | n + 1, t, v1, v2, v3, v4, G =>
    (gchk G 4 (some t)).bind fun b8 =>
    (fX4_words E b8 G).bind fun z8 =>
    if z8.1 ≤ v4 then (
      some (v3, z8.2))
    else (
      (fX4_wordAt E v4 z8.2).bind fun z16 =>
      (grR z16.2 4 4 (some t) 33).bind fun x23 =>
      (gaI z16.2 100 x23 (z16.1 + 0)).bind fun x30 =>
      if ¬ x30 = v1 then (
        fX4_sent_b64 E (fX4_sent_b5 E n) t v1 v2 v4 v3 z16.2)
      else (
        (grR z16.2 4 4 (some t) 33).bind fun x36 =>
        (gaI z16.2 100 x36 (z16.1 + 1)).bind fun x43 =>
        if ¬ x43 = v2 then (
          fX4_sent_b64 E (fX4_sent_b5 E n) t v1 v2 v4 v3 z16.2)
        else (
          (grR z16.2 4 4 (some t) 33).bind fun x49 =>
          (gaI z16.2 100 x49 (z16.1 + 5)).bind fun x56 =>
          if ¬ x56 = 0 then (
            fX4_sent_b64 E (fX4_sent_b5 E n) t v1 v2 v4 v3 z16.2)
          else (
            fX4_sent_b65 E (fX4_sent_b5 E n) t v1 v2 v4 v3 1 z16.2))))
def fX4_sent (E : g_E) (t : Nat) (v1 : Int32) (v2 : Int32) (G : g_G) : Option (Int32 × g_G) :=
  fX4_sent_b5 E gFU t v1 v2 0 0 G
theorem sX4_sent_b65 {p : Program} {l : Launch} {e : Env} {R : Room} {s : State} {m : MethodId} {args : Array Value} {below : List Frame} {meth : Method} {c : Code} {E : g_E} {D : g_D} (C : gC p R s m args meth c cX4_sent 6 RX4 "sent" (some .int) 2 84 E D) {k5 : Nat → Int32 → Int32 → Int32 → Int32 → g_G → Option (Int32 × g_G)} (hk5 : ∀ (t : Nat) (v1 : Int32) (v2 : Int32) (v3 : Int32) (v4 : Int32) (G : g_G) (q : Int32 × g_G), k5 t v1 v2 v3 v4 G = some q → ∀ (H : Heap) (locs : List Loc) (cells slots : Nat) (ls : Array Slot), gSt E D G H locs → gls ls 6 [(0, .inr (.inr (some t))), (1, .inl v1), (2, .inl v2), (3, .inl v3), (4, .inl v4)] → gT p l e R s m args below meth c E D H locs cells slots (some (.int q.1)) q.2 (F0 m 5 ls [])) : ∀ (t : Nat) (v1 : Int32) (v2 : Int32) (v4 : Int32) (s0 : Int32) (s1 : Int32) (G : g_G) (q : Int32 × g_G), fX4_sent_b65 E k5 t v1 v2 v4 s0 s1 G = some q → ∀ (H : Heap) (locs : List Loc) (cells slots : Nat) (ls : Array Slot), gSt E D G H locs → gls ls 6 [(0, .inr (.inr (some t))), (1, .inl v1), (2, .inl v2), (4, .inl v4)] → gT p l e R s m args below meth c E D H locs cells slots (some (.int q.1)) q.2 (F0 m 65 ls [.int s1, .int s0]) := by
  obtain ⟨hx, hb, hml, hown, hts, hKn, hRc, hRs, hc1, hc2, hRf, hRl, hr, hlk, hnm⟩ := id C
  intro t v1 v2 v4 s0 s1 G q h H locs cells slots ls hS hl
  unfold fX4_sent_b65 at h
  refine lv_iadd hx hb dX4_sent_65 ?_
  refine g_istore_n (l1 := [(3, .inl (s0 + s1)), (0, .inr (.inr (some t))), (1, .inl v1), (2, .inl v2), (4, .inl v4)]) hx hb hl (by decide) rfl dX4_sent_66 (fun ls hl => ?_)
  refine g_iinc (l1 := [(4, .inl (v4 + 1)), (3, .inl (s0 + s1)), (0, .inr (.inr (some t))), (1, .inl v1), (2, .inl v2)]) (v := (v4 + 1)) hx hb hl (k := 4) rfl (by rfl) (by decide) rfl dX4_sent_67 (fun ls hl => ?_)
  refine lv_goto (tgt := 5) hx hb dX4_sent_70 (by decide) ?_
  exact hk5 _ _ _ _ _ _ _ h _ _ _ _ _ hS (gls_sub hl [2, 3, 4, 1, 0] rfl)
theorem sX4_sent_b64 {p : Program} {l : Launch} {e : Env} {R : Room} {s : State} {m : MethodId} {args : Array Value} {below : List Frame} {meth : Method} {c : Code} {E : g_E} {D : g_D} (C : gC p R s m args meth c cX4_sent 6 RX4 "sent" (some .int) 2 84 E D) {k5 : Nat → Int32 → Int32 → Int32 → Int32 → g_G → Option (Int32 × g_G)} (hk5 : ∀ (t : Nat) (v1 : Int32) (v2 : Int32) (v3 : Int32) (v4 : Int32) (G : g_G) (q : Int32 × g_G), k5 t v1 v2 v3 v4 G = some q → ∀ (H : Heap) (locs : List Loc) (cells slots : Nat) (ls : Array Slot), gSt E D G H locs → gls ls 6 [(0, .inr (.inr (some t))), (1, .inl v1), (2, .inl v2), (3, .inl v3), (4, .inl v4)] → gT p l e R s m args below meth c E D H locs cells slots (some (.int q.1)) q.2 (F0 m 5 ls [])) : ∀ (t : Nat) (v1 : Int32) (v2 : Int32) (v4 : Int32) (s0 : Int32) (G : g_G) (q : Int32 × g_G), fX4_sent_b64 E k5 t v1 v2 v4 s0 G = some q → ∀ (H : Heap) (locs : List Loc) (cells slots : Nat) (ls : Array Slot), gSt E D G H locs → gls ls 6 [(0, .inr (.inr (some t))), (1, .inl v1), (2, .inl v2), (4, .inl v4)] → gT p l e R s m args below meth c E D H locs cells slots (some (.int q.1)) q.2 (F0 m 64 ls [.int s0]) := by
  obtain ⟨hx, hb, hml, hown, hts, hKn, hRc, hRs, hc1, hc2, hRf, hRl, hr, hlk, hnm⟩ := id C
  intro t v1 v2 v4 s0 G q h H locs cells slots ls hS hl
  unfold fX4_sent_b64 at h
  refine lv_iconst (v := 0) hx hb dX4_sent_64 (by decide) ?_
  exact sX4_sent_b65 C hk5 _ _ _ _ _ _ _ _ h _ _ _ _ _ hS (gls_sub hl [0, 1, 2, 3] rfl)
theorem sX4_sent_b5 {p : Program} {l : Launch} {e : Env} {R : Room} {s : State} {m : MethodId} {args : Array Value} {below : List Frame} {meth : Method} {c : Code} {E : g_E} {D : g_D} (C : gC p R s m args meth c cX4_sent 6 RX4 "sent" (some .int) 2 84 E D) : ∀ (n : Nat) (t : Nat) (v1 : Int32) (v2 : Int32) (v3 : Int32) (v4 : Int32) (G : g_G) (q : Int32 × g_G), fX4_sent_b5 E n t v1 v2 v3 v4 G = some q → ∀ (H : Heap) (locs : List Loc) (cells slots : Nat) (ls : Array Slot), gSt E D G H locs → gls ls 6 [(0, .inr (.inr (some t))), (1, .inl v1), (2, .inl v2), (3, .inl v3), (4, .inl v4)] → gT p l e R s m args below meth c E D H locs cells slots (some (.int q.1)) q.2 (F0 m 5 ls []) := by
  obtain ⟨hx, hb, hml, hown, hts, hKn, hRc, hRs, hc1, hc2, hRf, hRl, hr, hlk, hnm⟩ := id C
  intro n
  induction n with
  | zero =>
    intro t v1 v2 v3 v4 G q h
    exact g_no h
  | succ n ih =>
    intro t v1 v2 v3 v4 G q h H locs cells slots ls hS hl
    rw [fX4_sent_b5] at h
    refine g_iload hx hb hl 4 rfl dX4_sent_5 ?_
    refine g_aload_n hx hb hl 0 rfl dX4_sent_7 ?_
    obtain ⟨b8, hb8, h⟩ := g_bnd h
    obtain ⟨hr8, hk8⟩ := g_chk hb8
    obtain ⟨z8, h8, h⟩ := g_bnd h
    refine g_callV (n := 0) (b := b8) (av := []) (rs := [.inl v4]) hx hb hml hown hts hKn hRc hRs hS hl (sX4_words l E D h8) (lw_V q2264 q2266 qs81 q135 q2267) ⟨rfl, by decide, by decide, by decide +kernel⟩ ⟨by rw [hRf]; exact Nat.le_of_ble_eq_true rfl, by rw [hRl]; exact Nat.le_of_ble_eq_true rfl⟩ (g_recv hKn hS hk8 (by decide) (by decide)) rfl (by rw [hr8]; rfl) (Nat.le_of_ble_eq_true rfl) dX4_sent_8 (fun H locs cells slots hS => ?_)
    refine lv_icmp_ge (tgt := 73) hx hb dX4_sent_11 (by decide) (fun c_11 => ?_) (fun c_11 => ?_)
    · have h := g_ift c_11 h
      refine g_iload_n hx hb hl 3 rfl dX4_sent_73 ?_
      exact g_iretG hx hb hr hlk hKn hRc hRs hS h dX4_sent_74
    · have h := g_iff c_11 h
      refine g_iload hx hb hl 4 rfl dX4_sent_14 ?_
      obtain ⟨z16, h16, h⟩ := g_bnd h
      refine g_callS (n := 1) (av := [.inl v4]) (rs := []) hx hb hml hown hts hKn hRc hRs hS hl (sX4_wordAt l E D h16) (lw_S q2292 q2293 q135 q2294) ⟨by decide, by decide, by decide +kernel⟩ ⟨by rw [hRf]; exact Nat.le_of_ble_eq_true rfl, by rw [hRl]; exact Nat.le_of_ble_eq_true rfl⟩ rfl rfl (Nat.le_of_ble_eq_true rfl) dX4_sent_16 (fun H locs cells slots hS => ?_)
      refine g_istore (l1 := [(5, .inl z16.1), (0, .inr (.inr (some t))), (1, .inl v1), (2, .inl v2), (3, .inl v3), (4, .inl v4)]) hx hb hl (by decide) rfl dX4_sent_19 (fun ls hl => ?_)
      refine g_iload_n hx hb hl 4 rfl dX4_sent_21 ?_
      refine g_aload_n hx hb hl 1 rfl dX4_sent_22 ?_
      refine g_rdR hx hb hown hts hKn hS h fd_4_4_33 rfl (Or.inl (hts _ q1898)) (fun _ z => z) dX4_sent_23 (fun x23 h => ?_)
      refine g_iload hx hb hl 0 rfl dX4_sent_26 ?_
      refine lv_iconst (v := 0) hx hb dX4_sent_28 (by decide) ?_
      refine lv_iadd hx hb dX4_sent_29 ?_
      refine g_ialoadG hx hb hKn hS h dX4_sent_30 (fun x30 h => ?_)
      refine g_iload_n hx hb hl 2 rfl dX4_sent_31 ?_
      refine lv_icmp_ne (tgt := 64) hx hb dX4_sent_32 (by decide) (fun c_32 => ?_) (fun c_32 => ?_)
      · have h := g_ift c_32 h
        exact sX4_sent_b64 C ih _ _ _ _ _ _ _ h _ _ _ _ _ hS (gls_sub hl [1, 2, 3, 5] rfl)
      · have h := g_iff (fun z => z c_32) h
        refine g_aload_n hx hb hl 1 rfl dX4_sent_35 ?_
        refine g_rdR hx hb hown hts hKn hS h fd_4_4_33 rfl (Or.inl (hts _ q1898)) (fun _ z => z) dX4_sent_36 (fun x36 h => ?_)
        refine g_iload hx hb hl 0 rfl dX4_sent_39 ?_
        refine lv_iconst (v := 1) hx hb dX4_sent_41 (by decide) ?_
        refine lv_iadd hx hb dX4_sent_42 ?_
        refine g_ialoadG hx hb hKn hS h dX4_sent_43 (fun x43 h => ?_)
        refine g_iload_n hx hb hl 3 rfl dX4_sent_44 ?_
        refine lv_icmp_ne (tgt := 64) hx hb dX4_sent_45 (by decide) (fun c_45 => ?_) (fun c_45 => ?_)
        · have h := g_ift c_45 h
          exact sX4_sent_b64 C ih _ _ _ _ _ _ _ h _ _ _ _ _ hS (gls_sub hl [1, 2, 3, 5] rfl)
        · have h := g_iff (fun z => z c_45) h
          refine g_aload_n hx hb hl 1 rfl dX4_sent_48 ?_
          refine g_rdR hx hb hown hts hKn hS h fd_4_4_33 rfl (Or.inl (hts _ q1898)) (fun _ z => z) dX4_sent_49 (fun x49 h => ?_)
          refine g_iload hx hb hl 0 rfl dX4_sent_52 ?_
          refine lv_iconst (v := 5) hx hb dX4_sent_54 (by decide) ?_
          refine lv_iadd hx hb dX4_sent_55 ?_
          refine g_ialoadG hx hb hKn hS h dX4_sent_56 (fun x56 h => ?_)
          refine lv_if_ne (tgt := 64) hx hb dX4_sent_57 (by decide) (fun c_57 => ?_) (fun c_57 => ?_)
          · have h := g_ift c_57 h
            exact sX4_sent_b64 C ih _ _ _ _ _ _ _ h _ _ _ _ _ hS (gls_sub hl [1, 2, 3, 5] rfl)
          · have h := g_iff (fun z => z c_57) h
            refine lv_iconst (v := 1) hx hb dX4_sent_60 (by decide) ?_
            refine lv_goto (tgt := 65) hx hb dX4_sent_61 (by decide) ?_
            exact sX4_sent_b65 C ih _ _ _ _ _ _ _ _ h _ _ _ _ _ hS (gls_sub hl [1, 2, 3, 5] rfl)
theorem sX4_sent (l : Launch) (E : g_E) (D : g_D) {t : Nat} {v1 : Int32} {v2 : Int32} {G : g_G} {q : Int32 × g_G} (h : fX4_sent E t v1 v2 G = some q) : gMet l E D yX4_sent (ws_ yX4_sent cX4_sent 6 (some .int)) 2 84 [.inr (.inr (some t)), .inl v1, .inl v2] G (some (.int q.1)) q.2 := by
  refine gMet.of (by decide +kernel) (Nat.le_of_ble_eq_true rfl) ?_
  intro p e R s m args below meth c C hS ls hl
  have C : gC p R s m args meth c cX4_sent 6 RX4 "sent" (some .int) 2 84 E D := C
  obtain ⟨hx, hb, hml, hown, hts, hKn, hRc, hRs, hc1, hc2, hRf, hRl, hr, hlk, hnm⟩ := id C
  have hl : gls ls 6 [(0, .inr (.inr (some t))), (1, .inl v1), (2, .inl v2)] := hl
  generalize s.heap = H at hS ⊢
  unfold fX4_sent at h
  refine lv_iconst (v := 0) hx hb dX4_sent_0 (by decide) ?_
  refine g_istore_n (l1 := [(3, .inl 0), (0, .inr (.inr (some t))), (1, .inl v1), (2, .inl v2)]) hx hb hl (by decide) rfl dX4_sent_1 (fun ls hl => ?_)
  refine lv_iconst (v := 0) hx hb dX4_sent_2 (by decide) ?_
  refine g_istore (l1 := [(4, .inl 0), (3, .inl 0), (0, .inr (.inr (some t))), (1, .inl v1), (2, .inl v2)]) hx hb hl (by decide) rfl dX4_sent_3 (fun ls hl => ?_)
  exact sX4_sent_b5 C gFU _ _ _ _ _ _ _ h _ _ _ _ _ hS (gls_sub hl [2, 3, 4, 1, 0] rfl)
