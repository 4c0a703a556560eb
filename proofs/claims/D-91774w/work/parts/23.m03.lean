set_option maxRecDepth 100000
/-- SendHall$Ending.isAhead(LSendHall$Ending;I)Z -/
def fX18_isAhead_b30 (E : g_E) : Nat → Nat → (Option Nat) → Int32 → Int32 → g_G → Option (Int32 × g_G)
  | 0, _, _, _, _, _ => none
  | n + 1, t, v1, v2, v3, G =>
    if v2 ≤ v3 then (
      (grI G 7 7 (some t) 1).bind fun x78 =>
      (grI G 7 7 v1 1).bind fun x82 =>
      if x78 = x82 then (
        (grI G 7 7 (some t) 2).bind fun x108 =>
        (grI G 7 7 v1 2).bind fun x112 =>
        if x112 ≤ x108 then (
          if (0 : Int32) = 0 ∨ (0 : Int32) = 1 then some (0, G) else none)
        else (
          if (1 : Int32) = 0 ∨ (1 : Int32) = 1 then some (1, G) else none))
      else (
        (grI G 7 7 (some t) 1).bind fun x89 =>
        (grI G 7 7 v1 1).bind fun x93 =>
        if x93 ≤ x89 then (
          if (0 : Int32) = 0 ∨ (0 : Int32) = 1 then some (0, G) else none)
        else (
          if (1 : Int32) = 0 ∨ (1 : Int32) = 1 then some (1, G) else none)))
    else (
      (grR G 7 7 (some t) 3).bind fun x36 =>
      (gaI G 100 x36 v3).bind fun x40 =>
      (grR G 7 7 v1 3).bind fun x42 =>
      (gaI G 100 x42 v3).bind fun x46 =>
      if x40 = x46 then (
        fX18_isAhead_b30 E n t v1 v2 (v3 + 1) G)
      else (
        (grR G 7 7 (some t) 3).bind fun x51 =>
        (gaI G 100 x51 v3).bind fun x55 =>
        (grR G 7 7 v1 3).bind fun x57 =>
        (gaI G 100 x57 v3).bind fun x61 =>
        if x61 ≤ x55 then (
          if (0 : Int32) = 0 ∨ (0 : Int32) = 1 then some (0, G) else none)
        else (
          if (1 : Int32) = 0 ∨ (1 : Int32) = 1 then some (1, G) else none)))
def fX18_isAhead (E : g_E) (t : Nat) (v1 : Option Nat) (v2 : Int32) (G : g_G) : Option (Int32 × g_G) :=
  (grI G 7 7 (some t) 0).bind fun x1 =>
  (grI G 7 7 v1 0).bind fun x5 =>
  if x1 = x5 then (
    fX18_isAhead_b30 E gFU t v1 v2 0 G)
  else (
    (grI G 7 7 (some t) 0).bind fun x12 =>
    (grI G 7 7 v1 0).bind fun x16 =>
    if x16 ≤ x12 then (
      if (0 : Int32) = 0 ∨ (0 : Int32) = 1 then some (0, G) else none)
    else (
      if (1 : Int32) = 0 ∨ (1 : Int32) = 1 then some (1, G) else none))
theorem sX18_isAhead_b30 {p : Program} {l : Launch} {e : Env} {R : Room} {s : State} {m : MethodId} {args : Array Value} {below : List Frame} {meth : Method} {c : Code} {E : g_E} {D : g_D} (C : gC p R s m args meth c cX18_isAhead 4 RX18 "isAhead" (some .boolean) 1 64 E D) : ∀ (n : Nat) (t : Nat) (v1 : Option Nat) (v2 : Int32) (v3 : Int32) (G : g_G) (q : Int32 × g_G), fX18_isAhead_b30 E n t v1 v2 v3 G = some q → ∀ (H : Heap) (locs : List Loc) (cells slots : Nat) (ls : Array Slot), gSt E D G H locs → gls ls 4 [(0, .inr (.inr (some t))), (1, .inr (.inr v1)), (2, .inl v2), (3, .inl v3)] → gT p l e R s m args below meth c E D H locs cells slots (some (.int q.1)) q.2 (F0 m 30 ls []) := by
  obtain ⟨hx, hb, hml, hown, hts, hKn, hRc, hRs, hc1, hc2, hRf, hRl, hr, hlk, hnm⟩ := id C
  intro n
  induction n with
  | zero =>
    intro t v1 v2 v3 G q h
    exact g_no h
  | succ n ih =>
    intro t v1 v2 v3 G q h H locs cells slots ls hS hl
    rw [fX18_isAhead_b30] at h
    refine g_iload_n hx hb hl 3 rfl dX18_isAhead_30 ?_
    refine g_iload_n hx hb hl 2 rfl dX18_isAhead_31 ?_
    refine lv_icmp_ge (tgt := 77) hx hb dX18_isAhead_32 (by decide) (fun c_32 => ?_) (fun c_32 => ?_)
    · have h := g_ift c_32 h
      refine g_aload_n hx hb hl 0 rfl dX18_isAhead_77 ?_
      refine g_rdI hx hb hown hts hKn hS h fd_7_7_1 rfl (Or.inl (hts _ q970)) (fun _ z => z) dX18_isAhead_78 (fun x78 h => ?_)
      refine g_aload_n hx hb hl 1 rfl dX18_isAhead_81 ?_
      refine g_rdI hx hb hown hts hKn hS h fd_7_7_1 rfl (Or.inl (hts _ q970)) (fun _ z => z) dX18_isAhead_82 (fun x82 h => ?_)
      refine lv_icmp_eq (tgt := 107) hx hb dX18_isAhead_85 (by decide) (fun c_85 => ?_) (fun c_85 => ?_)
      · have h := g_ift c_85 h
        refine g_aload_n hx hb hl 0 rfl dX18_isAhead_107 ?_
        refine g_rdI hx hb hown hts hKn hS h fd_7_7_2 rfl (Or.inl (hts _ q972)) (fun _ z => z) dX18_isAhead_108 (fun x108 h => ?_)
        refine g_aload_n hx hb hl 1 rfl dX18_isAhead_111 ?_
        refine g_rdI hx hb hown hts hKn hS h fd_7_7_2 rfl (Or.inl (hts _ q972)) (fun _ z => z) dX18_isAhead_112 (fun x112 h => ?_)
        refine lv_icmp_ge (tgt := 122) hx hb dX18_isAhead_115 (by decide) (fun c_115 => ?_) (fun c_115 => ?_)
        · have h := g_ift c_115 h
          refine lv_iconst (v := 0) hx hb dX18_isAhead_122 (by decide) ?_
          exact g_zretG hx hb hr hlk hKn hRc hRs hS h dX18_isAhead_123
        · have h := g_iff c_115 h
          refine lv_iconst (v := 1) hx hb dX18_isAhead_118 (by decide) ?_
          refine lv_goto (tgt := 123) hx hb dX18_isAhead_119 (by decide) ?_
          exact g_zretG hx hb hr hlk hKn hRc hRs hS h dX18_isAhead_123
      · have h := g_iff c_85 h
        refine g_aload_n hx hb hl 0 rfl dX18_isAhead_88 ?_
        refine g_rdI hx hb hown hts hKn hS h fd_7_7_1 rfl (Or.inl (hts _ q970)) (fun _ z => z) dX18_isAhead_89 (fun x89 h => ?_)
        refine g_aload_n hx hb hl 1 rfl dX18_isAhead_92 ?_
        refine g_rdI hx hb hown hts hKn hS h fd_7_7_1 rfl (Or.inl (hts _ q970)) (fun _ z => z) dX18_isAhead_93 (fun x93 h => ?_)
        refine lv_icmp_ge (tgt := 103) hx hb dX18_isAhead_96 (by decide) (fun c_96 => ?_) (fun c_96 => ?_)
        · have h := g_ift c_96 h
          refine lv_iconst (v := 0) hx hb dX18_isAhead_103 (by decide) ?_
          refine lv_goto (tgt := 123) hx hb dX18_isAhead_104 (by decide) ?_
          exact g_zretG hx hb hr hlk hKn hRc hRs hS h dX18_isAhead_123
        · have h := g_iff c_96 h
          refine lv_iconst (v := 1) hx hb dX18_isAhead_99 (by decide) ?_
          refine lv_goto (tgt := 123) hx hb dX18_isAhead_100 (by decide) ?_
          exact g_zretG hx hb hr hlk hKn hRc hRs hS h dX18_isAhead_123
    · have h := g_iff c_32 h
      refine g_aload_n hx hb hl 0 rfl dX18_isAhead_35 ?_
      refine g_rdR hx hb hown hts hKn hS h fd_7_7_3 rfl (Or.inl (hts _ q974)) (fun _ z => z) dX18_isAhead_36 (fun x36 h => ?_)
      refine g_iload_n hx hb hl 3 rfl dX18_isAhead_39 ?_
      refine g_ialoadG hx hb hKn hS h dX18_isAhead_40 (fun x40 h => ?_)
      refine g_aload_n hx hb hl 1 rfl dX18_isAhead_41 ?_
      refine g_rdR hx hb hown hts hKn hS h fd_7_7_3 rfl (Or.inl (hts _ q974)) (fun _ z => z) dX18_isAhead_42 (fun x42 h => ?_)
      refine g_iload_n hx hb hl 3 rfl dX18_isAhead_45 ?_
      refine g_ialoadG hx hb hKn hS h dX18_isAhead_46 (fun x46 h => ?_)
      refine lv_icmp_eq (tgt := 71) hx hb dX18_isAhead_47 (by decide) (fun c_47 => ?_) (fun c_47 => ?_)
      · have h := g_ift c_47 h
        refine g_iinc (l1 := [(3, .inl (v3 + 1)), (0, .inr (.inr (some t))), (1, .inr (.inr v1)), (2, .inl v2)]) (v := (v3 + 1)) hx hb hl (k := 3) rfl (by rfl) (by decide) rfl dX18_isAhead_71 (fun ls hl => ?_)
        refine lv_goto (tgt := 30) hx hb dX18_isAhead_74 (by decide) ?_
        exact ih _ _ _ _ _ _ h _ _ _ _ _ hS (gls_sub hl [1, 2, 3, 0] rfl)
      · have h := g_iff c_47 h
        refine g_aload_n hx hb hl 0 rfl dX18_isAhead_50 ?_
        refine g_rdR hx hb hown hts hKn hS h fd_7_7_3 rfl (Or.inl (hts _ q974)) (fun _ z => z) dX18_isAhead_51 (fun x51 h => ?_)
        refine g_iload_n hx hb hl 3 rfl dX18_isAhead_54 ?_
        refine g_ialoadG hx hb hKn hS h dX18_isAhead_55 (fun x55 h => ?_)
        refine g_aload_n hx hb hl 1 rfl dX18_isAhead_56 ?_
        refine g_rdR hx hb hown hts hKn hS h fd_7_7_3 rfl (Or.inl (hts _ q974)) (fun _ z => z) dX18_isAhead_57 (fun x57 h => ?_)
        refine g_iload_n hx hb hl 3 rfl dX18_isAhead_60 ?_
        refine g_ialoadG hx hb hKn hS h dX18_isAhead_61 (fun x61 h => ?_)
        refine lv_icmp_ge (tgt := 69) hx hb dX18_isAhead_62 (by decide) (fun c_62 => ?_) (fun c_62 => ?_)
        · have h := g_ift c_62 h
          refine lv_iconst (v := 0) hx hb dX18_isAhead_69 (by decide) ?_
          exact g_zretG hx hb hr hlk hKn hRc hRs hS h dX18_isAhead_70
        · have h := g_iff c_62 h
          refine lv_iconst (v := 1) hx hb dX18_isAhead_65 (by decide) ?_
          refine lv_goto (tgt := 70) hx hb dX18_isAhead_66 (by decide) ?_
          exact g_zretG hx hb hr hlk hKn hRc hRs hS h dX18_isAhead_70
theorem sX18_isAhead (l : Launch) (E : g_E) (D : g_D) {t : Nat} {v1 : Option Nat} {v2 : Int32} {G : g_G} {q : Int32 × g_G} (h : fX18_isAhead E t v1 v2 G = some q) : gMet l E D yX18_isAhead (ws_ yX18_isAhead cX18_isAhead 4 (some .boolean)) 1 64 [.inr (.inr (some t)), .inr (.inr v1), .inl v2] G (some (.int q.1)) q.2 := by
  refine gMet.of (by decide +kernel) (Nat.le_of_ble_eq_true rfl) ?_
  intro p e R s m args below meth c C hS ls hl
  have C : gC p R s m args meth c cX18_isAhead 4 RX18 "isAhead" (some .boolean) 1 64 E D := C
  obtain ⟨hx, hb, hml, hown, hts, hKn, hRc, hRs, hc1, hc2, hRf, hRl, hr, hlk, hnm⟩ := id C
  have hl : gls ls 4 [(0, .inr (.inr (some t))), (1, .inr (.inr v1)), (2, .inl v2)] := hl
  generalize s.heap = H at hS ⊢
  unfold fX18_isAhead at h
  refine g_aload_n hx hb hl 0 rfl dX18_isAhead_0 ?_
  refine g_rdI hx hb hown hts hKn hS h fd_7_7_0 rfl (Or.inl (hts _ q968)) (fun _ z => z) dX18_isAhead_1 (fun x1 h => ?_)
  refine g_aload_n hx hb hl 1 rfl dX18_isAhead_4 ?_
  refine g_rdI hx hb hown hts hKn hS h fd_7_7_0 rfl (Or.inl (hts _ q968)) (fun _ z => z) dX18_isAhead_5 (fun x5 h => ?_)
  refine lv_icmp_eq (tgt := 28) hx hb dX18_isAhead_8 (by decide) (fun c_8 => ?_) (fun c_8 => ?_)
  · have h := g_ift c_8 h
    refine lv_iconst (v := 0) hx hb dX18_isAhead_28 (by decide) ?_
    refine g_istore_n (l1 := [(3, .inl 0), (0, .inr (.inr (some t))), (1, .inr (.inr v1)), (2, .inl v2)]) hx hb hl (by decide) rfl dX18_isAhead_29 (fun ls hl => ?_)
    exact sX18_isAhead_b30 C gFU _ _ _ _ _ _ h _ _ _ _ _ hS (gls_sub hl [1, 2, 3, 0] rfl)
  · have h := g_iff c_8 h
    refine g_aload_n hx hb hl 0 rfl dX18_isAhead_11 ?_
    refine g_rdI hx hb hown hts hKn hS h fd_7_7_0 rfl (Or.inl (hts _ q968)) (fun _ z => z) dX18_isAhead_12 (fun x12 h => ?_)
    refine g_aload_n hx hb hl 1 rfl dX18_isAhead_15 ?_
    refine g_rdI hx hb hown hts hKn hS h fd_7_7_0 rfl (Or.inl (hts _ q968)) (fun _ z => z) dX18_isAhead_16 (fun x16 h => ?_)
    refine lv_icmp_ge (tgt := 26) hx hb dX18_isAhead_19 (by decide) (fun c_19 => ?_) (fun c_19 => ?_)
    · have h := g_ift c_19 h
      refine lv_iconst (v := 0) hx hb dX18_isAhead_26 (by decide) ?_
      exact g_zretG hx hb hr hlk hKn hRc hRs hS h dX18_isAhead_27
    · have h := g_iff c_19 h
      refine lv_iconst (v := 1) hx hb dX18_isAhead_22 (by decide) ?_
      refine lv_goto (tgt := 27) hx hb dX18_isAhead_23 (by decide) ?_
      exact g_zretG hx hb hr hlk hKn hRc hRs hS h dX18_isAhead_27
/-- SendHall$Ending.isLike(LSendHall$Ending;I)Z -/
def fX18_isLike (E : g_E) (t : Nat) (v1 : Option Nat) (v2 : Int32) (G : g_G) : Option (Int32 × g_G) :=
  (gchk G 7 (some t)).bind fun b3 =>
  (fX18_isAhead E b3 v1 v2 G).bind fun z3 =>
  if ¬ z3.1 = 0 then (
    if (0 : Int32) = 0 ∨ (0 : Int32) = 1 then some (0, z3.2) else none)
  else (
    (gchk z3.2 7 v1).bind fun b12 =>
    (fX18_isAhead E b12 (some t) v2 z3.2).bind fun z12 =>
    if ¬ z12.1 = 0 then (
      if (0 : Int32) = 0 ∨ (0 : Int32) = 1 then some (0, z12.2) else none)
    else (
      if (1 : Int32) = 0 ∨ (1 : Int32) = 1 then some (1, z12.2) else none))
theorem sX18_isLike (l : Launch) (E : g_E) (D : g_D) {t : Nat} {v1 : Option Nat} {v2 : Int32} {G : g_G} {q : Int32 × g_G} (h : fX18_isLike E t v1 v2 G = some q) : gMet l E D yX18_isLike (ws_ yX18_isLike cX18_isLike 3 (some .boolean)) 2 87 [.inr (.inr (some t)), .inr (.inr v1), .inl v2] G (some (.int q.1)) q.2 := by
  refine gMet.of (by decide +kernel) (Nat.le_of_ble_eq_true rfl) ?_
  intro p e R s m args below meth c C hS ls hl
  have C : gC p R s m args meth c cX18_isLike 3 RX18 "isLike" (some .boolean) 2 87 E D := C
  obtain ⟨hx, hb, hml, hown, hts, hKn, hRc, hRs, hc1, hc2, hRf, hRl, hr, hlk, hnm⟩ := id C
  have hl : gls ls 3 [(0, .inr (.inr (some t))), (1, .inr (.inr v1)), (2, .inl v2)] := hl
  generalize s.heap = H at hS ⊢
  unfold fX18_isLike at h
  refine g_aload_n hx hb hl 0 rfl dX18_isLike_0 ?_
  refine g_aload_n hx hb hl 1 rfl dX18_isLike_1 ?_
  refine g_iload_n hx hb hl 2 rfl dX18_isLike_2 ?_
  obtain ⟨b3, hb3, h⟩ := g_bnd h
  obtain ⟨hr3, hk3⟩ := g_chk hb3
  obtain ⟨z3, h3, h⟩ := g_bnd h
  refine g_callV (n := 2) (b := b3) (av := [.inr (.inr v1), .inl v2]) (rs := []) hx hb hml hown hts hKn hRc hRs hS hl (sX18_isAhead l E D h3) (lw_V q1005 q998 q999 q155 q1000) ⟨rfl, by decide, by decide, by decide +kernel⟩ ⟨by rw [hRf]; exact Nat.le_of_ble_eq_true rfl, by rw [hRl]; exact Nat.le_of_ble_eq_true rfl⟩ (g_recv hKn hS hk3 (by decide) (by decide)) rfl (by rw [hr3]; rfl) (Nat.le_of_ble_eq_true rfl) dX18_isLike_3 (fun H locs cells slots hS => ?_)
  refine lv_if_ne (tgt := 22) hx hb dX18_isLike_6 (by decide) (fun c_6 => ?_) (fun c_6 => ?_)
  · have h := g_ift c_6 h
    refine lv_iconst (v := 0) hx hb dX18_isLike_22 (by decide) ?_
    exact g_zretG hx hb hr hlk hKn hRc hRs hS h dX18_isLike_23
  · have h := g_iff (fun z => z c_6) h
    refine g_aload_n hx hb hl 1 rfl dX18_isLike_9 ?_
    refine g_aload_n hx hb hl 0 rfl dX18_isLike_10 ?_
    refine g_iload_n hx hb hl 2 rfl dX18_isLike_11 ?_
    obtain ⟨b12, hb12, h⟩ := g_bnd h
    obtain ⟨hr12, hk12⟩ := g_chk hb12
    obtain ⟨z12, h12, h⟩ := g_bnd h
    refine g_callV (n := 2) (b := b12) (av := [.inr (.inr (some t)), .inl v2]) (rs := []) hx hb hml hown hts hKn hRc hRs hS hl (sX18_isAhead l E D h12) (lw_V q1005 q998 q999 q155 q1000) ⟨rfl, by decide, by decide, by decide +kernel⟩ ⟨by rw [hRf]; exact Nat.le_of_ble_eq_true rfl, by rw [hRl]; exact Nat.le_of_ble_eq_true rfl⟩ (g_recv hKn hS hk12 (by decide) (by decide)) rfl (by rw [hr12]; rfl) (Nat.le_of_ble_eq_true rfl) dX18_isLike_12 (fun H locs cells slots hS => ?_)
    refine lv_if_ne (tgt := 22) hx hb dX18_isLike_15 (by decide) (fun c_15 => ?_) (fun c_15 => ?_)
    · have h := g_ift c_15 h
      refine lv_iconst (v := 0) hx hb dX18_isLike_22 (by decide) ?_
      exact g_zretG hx hb hr hlk hKn hRc hRs hS h dX18_isLike_23
    · have h := g_iff (fun z => z c_15) h
      refine lv_iconst (v := 1) hx hb dX18_isLike_18 (by decide) ?_
      refine lv_goto (tgt := 23) hx hb dX18_isLike_19 (by decide) ?_
      exact g_zretG hx hb hr hlk hKn hRc hRs hS h dX18_isLike_23
/-- SendHall.clocks(II)V -/
def fX1_clocks (E : g_E) (t : Nat) (v1 : Int32) (v2 : Int32) (G : g_G) : Option (g_G) :=
  (grR G 1 1 (some t) 6).bind fun x2 =>
  (gaI G 100 x2 v1).bind fun x6 =>
  if x6 < v2 then (
    (grR G 1 1 (some t) 7).bind fun x12 =>
    (gaI G 100 x12 v1).bind fun x17 =>
    (grR G 1 1 (some t) 6).bind fun x20 =>
    (gaI G 100 x20 v1).bind fun x24 =>
    (gsaI E G x12 v1 (x17 + (v2 - x24))).bind fun G27 =>
    (grR G27 1 1 (some t) 6).bind fun x29 =>
    (gsaI E G27 x29 v1 v2).bind fun G34 =>
    some G34)
  else (
    some G)
theorem sX1_clocks (l : Launch) (E : g_E) (D : g_D) {t : Nat} {v1 : Int32} {v2 : Int32} {G : g_G} {q : g_G} (h : fX1_clocks E t v1 v2 G = some q) : gMet l E D yX1_clocks (ws_ yX1_clocks cX1_clocks 3 (none)) 1 64 [.inr (.inr (some t)), .inl v1, .inl v2] G none q := by
  refine gMet.of (by decide +kernel) (Nat.le_of_ble_eq_true rfl) ?_
  intro p e R s m args below meth c C hS ls hl
  have C : gC p R s m args meth c cX1_clocks 3 RX1 "clocks" (none) 1 64 E D := C
  obtain ⟨hx, hb, hml, hown, hts, hKn, hRc, hRs, hc1, hc2, hRf, hRl, hr, hlk, hnm⟩ := id C
  have hl : gls ls 3 [(0, .inr (.inr (some t))), (1, .inl v1), (2, .inl v2)] := hl
  generalize s.heap = H at hS ⊢
  unfold fX1_clocks at h
  refine g_iload_n hx hb hl 2 rfl dX1_clocks_0 ?_
  refine g_aload_n hx hb hl 0 rfl dX1_clocks_1 ?_
  refine g_rdR hx hb hown hts hKn hS h fd_1_1_6 rfl (Or.inl (hts _ q603)) (fun _ z => z) dX1_clocks_2 (fun x2 h => ?_)
  refine g_iload_n hx hb hl 1 rfl dX1_clocks_5 ?_
  refine g_ialoadG hx hb hKn hS h dX1_clocks_6 (fun x6 h => ?_)
  refine lv_icmp_gt (tgt := 11) hx hb dX1_clocks_7 (by decide) (fun c_7 => ?_) (fun c_7 => ?_)
  · have h := g_ift c_7 h
    refine g_aload_n hx hb hl 0 rfl dX1_clocks_11 ?_
    refine g_rdR hx hb hown hts hKn hS h fd_1_1_7 rfl (Or.inl (hts _ q604)) (fun _ z => z) dX1_clocks_12 (fun x12 h => ?_)
    refine g_iload_n hx hb hl 1 rfl dX1_clocks_15 ?_
    refine lv_dup2_11 hx hb dX1_clocks_16 rfl (by first | exact va_rf_cat _ | rfl | exact g_catA _) ?_
    refine g_ialoadG hx hb hKn hS h dX1_clocks_17 (fun x17 h => ?_)
    refine g_iload_n hx hb hl 2 rfl dX1_clocks_18 ?_
    refine g_aload_n hx hb hl 0 rfl dX1_clocks_19 ?_
    refine g_rdR hx hb hown hts hKn hS h fd_1_1_6 rfl (Or.inl (hts _ q603)) (fun _ z => z) dX1_clocks_20 (fun x20 h => ?_)
    refine g_iload_n hx hb hl 1 rfl dX1_clocks_23 ?_
    refine g_ialoadG hx hb hKn hS h dX1_clocks_24 (fun x24 h => ?_)
    refine lv_isub hx hb dX1_clocks_25 ?_
    refine lv_iadd hx hb dX1_clocks_26 ?_
    refine g_iastoreG hx hb hKn hS h dX1_clocks_27 (fun G27 h H locs hS => ?_)
    refine g_aload_n hx hb hl 0 rfl dX1_clocks_28 ?_
    refine g_rdR hx hb hown hts hKn hS h fd_1_1_6 rfl (Or.inl (hts _ q603)) (fun _ z => z) dX1_clocks_29 (fun x29 h => ?_)
    refine g_iload_n hx hb hl 1 rfl dX1_clocks_32 ?_
    refine g_iload_n hx hb hl 2 rfl dX1_clocks_33 ?_
    refine g_iastoreG hx hb hKn hS h dX1_clocks_34 (fun G34 h H locs hS => ?_)
    exact g_vretG hx hb hr hlk hKn hRc hRs hS h dX1_clocks_35
  · have h := g_iff c_7 h
    exact g_vretG hx hb hr hlk hKn hRc hRs hS h dX1_clocks_10
/-- SendHall.fault()I -/
def fX1_fault (E : g_E) (t : Nat) (G : g_G) : Option (Int32 × g_G) :=
  (grI G 1 1 (some t) 11).bind fun x1 =>
  some (x1, G)
theorem sX1_fault (l : Launch) (E : g_E) (D : g_D) {t : Nat} {G : g_G} {q : Int32 × g_G} (h : fX1_fault E t G = some q) : gMet l E D yX1_fault (ws_ yX1_fault cX1_fault 1 (some .int)) 1 64 [.inr (.inr (some t))] G (some (.int q.1)) q.2 := by
  refine gMet.of (by decide +kernel) (Nat.le_of_ble_eq_true rfl) ?_
  intro p e R s m args below meth c C hS ls hl
  have C : gC p R s m args meth c cX1_fault 1 RX1 "fault" (some .int) 1 64 E D := C
  obtain ⟨hx, hb, hml, hown, hts, hKn, hRc, hRs, hc1, hc2, hRf, hRl, hr, hlk, hnm⟩ := id C
  have hl : gls ls 1 [(0, .inr (.inr (some t)))] := hl
  generalize s.heap = H at hS ⊢
  unfold fX1_fault at h
  refine g_aload_n hx hb hl 0 rfl dX1_fault_0 ?_
  refine g_rdI hx hb hown hts hKn hS h fd_1_1_11 rfl (Or.inl (hts _ q608)) (fun _ z => z) dX1_fault_1 (fun x1 h => ?_)
  exact g_iretG hx hb hr hlk hKn hRc hRs hS h dX1_fault_4
/-- SendHall.hasLocked()Z -/
def fX1_hasLocked (E : g_E) (t : Nat) (G : g_G) : Option (Int32 × g_G) :=
  (grR G 1 1 (some t) 16).bind fun x1 =>
  (gchk G 17 x1).bind fun b4 =>
  (fJ2_isEmpty E b4 G).bind fun z4 =>
  if ¬ z4.1 = 0 then (
    if (0 : Int32) = 0 ∨ (0 : Int32) = 1 then some (0, z4.2) else none)
  else (
    (grR z4.2 1 1 (some t) 16).bind fun x11 =>
    (grR z4.2 1 1 (some t) 16).bind fun x15 =>
    (gchk z4.2 17 x15).bind fun b18 =>
    (fJ2_size E b18 z4.2).bind fun z18 =>
    (gchk z18.2 17 x11).bind fun b23 =>
    (fJ2_get E b23 (z18.1 - 1) z18.2).bind fun z23 =>
    (gcast z23.2 7 7 z23.1).bind fun x26 =>
    (grI z23.2 7 7 x26 0).bind fun x29 =>
    if ¬ x29 = (2 : Int32) then (
      if (0 : Int32) = 0 ∨ (0 : Int32) = 1 then some (0, z23.2) else none)
    else (
      if (1 : Int32) = 0 ∨ (1 : Int32) = 1 then some (1, z23.2) else none))
theorem sX1_hasLocked (l : Launch) (E : g_E) (D : g_D) {t : Nat} {G : g_G} {q : Int32 × g_G} (h : fX1_hasLocked E t G = some q) : gMet l E D yX1_hasLocked (ws_ yX1_hasLocked cX1_hasLocked 1 (some .boolean)) 4 128 [.inr (.inr (some t))] G (some (.int q.1)) q.2 := by
  refine gMet.of (by decide +kernel) (Nat.le_of_ble_eq_true rfl) ?_
  intro p e R s m args below meth c C hS ls hl
  have C : gC p R s m args meth c cX1_hasLocked 1 RX1 "hasLocked" (some .boolean) 4 128 E D := C
  obtain ⟨hx, hb, hml, hown, hts, hKn, hRc, hRs, hc1, hc2, hRf, hRl, hr, hlk, hnm⟩ := id C
  have hl : gls ls 1 [(0, .inr (.inr (some t)))] := hl
  generalize s.heap = H at hS ⊢
  unfold fX1_hasLocked at h
  refine g_aload_n hx hb hl 0 rfl dX1_hasLocked_0 ?_
  refine g_rdR hx hb hown hts hKn hS h fd_1_1_16 rfl (Or.inl (hts _ q613)) (fun _ z => z) dX1_hasLocked_1 (fun x1 h => ?_)
  obtain ⟨b4, hb4, h⟩ := g_bnd h
  obtain ⟨hr4, hk4⟩ := g_chk hb4
  obtain ⟨z4, h4, h⟩ := g_bnd h
  refine g_callV (n := 0) (b := b4) (av := []) (rs := []) hx hb hml hown hts hKn hRc hRs hS hl (sJ2_isEmpty l E D h4) (lw_V q1075 q1076 q1077 q117 q1078) ⟨rfl, by decide, by decide, by decide +kernel⟩ ⟨by rw [hRf]; exact Nat.le_of_ble_eq_true rfl, by rw [hRl]; exact Nat.le_of_ble_eq_true rfl⟩ (g_recv hKn hS hk4 (by decide) (by decide)) rfl (by rw [hr4]; rfl) (Nat.le_of_ble_eq_true rfl) dX1_hasLocked_4 (fun H locs cells slots hS => ?_)
  refine lv_if_ne (tgt := 40) hx hb dX1_hasLocked_7 (by decide) (fun c_7 => ?_) (fun c_7 => ?_)
  · have h := g_ift c_7 h
    refine lv_iconst (v := 0) hx hb dX1_hasLocked_40 (by decide) ?_
    exact g_zretG hx hb hr hlk hKn hRc hRs hS h dX1_hasLocked_41
  · have h := g_iff (fun z => z c_7) h
    refine g_aload_n hx hb hl 0 rfl dX1_hasLocked_10 ?_
    refine g_rdR hx hb hown hts hKn hS h fd_1_1_16 rfl (Or.inl (hts _ q613)) (fun _ z => z) dX1_hasLocked_11 (fun x11 h => ?_)
    refine g_aload_n hx hb hl 0 rfl dX1_hasLocked_14 ?_
    refine g_rdR hx hb hown hts hKn hS h fd_1_1_16 rfl (Or.inl (hts _ q613)) (fun _ z => z) dX1_hasLocked_15 (fun x15 h => ?_)
    obtain ⟨b18, hb18, h⟩ := g_bnd h
    obtain ⟨hr18, hk18⟩ := g_chk hb18
    obtain ⟨z18, h18, h⟩ := g_bnd h
    refine g_callV (n := 0) (b := b18) (av := []) (rs := [.inr (.inr x11)]) hx hb hml hown hts hKn hRc hRs hS hl (sJ2_size l E D h18) (lw_V q995 q782 q783 q117 q784) ⟨rfl, by decide, by decide, by decide +kernel⟩ ⟨by rw [hRf]; exact Nat.le_of_ble_eq_true rfl, by rw [hRl]; exact Nat.le_of_ble_eq_true rfl⟩ (g_recv hKn hS hk18 (by decide) (by decide)) rfl (by rw [hr18]; rfl) (Nat.le_of_ble_eq_true rfl) dX1_hasLocked_18 (fun H locs cells slots hS => ?_)
    refine lv_iconst (v := 1) hx hb dX1_hasLocked_21 (by decide) ?_
    refine lv_isub hx hb dX1_hasLocked_22 ?_
    obtain ⟨b23, hb23, h⟩ := g_bnd h
    obtain ⟨hr23, hk23⟩ := g_chk hb23
    obtain ⟨z23, h23, h⟩ := g_bnd h
    refine g_callV (n := 1) (b := b23) (av := [.inl (z18.1 - 1)]) (rs := []) hx hb hml hown hts hKn hRc hRs hS hl (sJ2_get l E D h23) (lw_V q996 q759 q760 q117 q761) ⟨rfl, by decide, by decide, by decide +kernel⟩ ⟨by rw [hRf]; exact Nat.le_of_ble_eq_true rfl, by rw [hRl]; exact Nat.le_of_ble_eq_true rfl⟩ (g_recv hKn hS hk23 (by decide) (by decide)) rfl (by rw [hr23]; rfl) (Nat.le_of_ble_eq_true rfl) dX1_hasLocked_23 (fun H locs cells slots hS => ?_)
    refine g_castS (k := 7) hx hb hown hKn hS h (by decide) (by decide) (hts _ q962) dX1_hasLocked_26 (fun x26 h => ?_)
    refine g_rdI hx hb hown hts hKn hS h fd_7_7_0 rfl (Or.inr ⟨_, gNest_use rfl (hKn.2.2.2.2.1 _ (gNest_in q969 rfl))⟩) (fun _ z => z) dX1_hasLocked_29 (fun x29 h => ?_)
    refine lv_iconst (v := 2) hx hb dX1_hasLocked_32 (by decide) ?_
    refine lv_icmp_ne (tgt := 40) hx hb dX1_hasLocked_33 (by decide) (fun c_33 => ?_) (fun c_33 => ?_)
    · have h := g_ift c_33 h
      refine lv_iconst (v := 0) hx hb dX1_hasLocked_40 (by decide) ?_
      exact g_zretG hx hb hr hlk hKn hRc hRs hS h dX1_hasLocked_41
    · have h := g_iff (fun z => z c_33) h
      refine lv_iconst (v := 1) hx hb dX1_hasLocked_36 (by decide) ?_
      refine lv_goto (tgt := 41) hx hb dX1_hasLocked_37 (by decide) ?_
      exact g_zretG hx hb hr hlk hKn hRc hRs hS h dX1_hasLocked_41
/-- SendHall.isStep(I)Z -/
def fX1_isStep (E : g_E) (t : Nat) (v1 : Int32) (G : g_G) : Option (Int32 × g_G) :=
  if v1 < 0 then (
    if (0 : Int32) = 0 ∨ (0 : Int32) = 1 then some (0, G) else none)
  else (
    (grR G 1 1 (some t) 4).bind fun x6 =>
    (grR G 2 2 x6 0).bind fun x9 =>
    (gchk G 17 x9).bind fun b12 =>
    (fJ2_size E b12 G).bind fun z12 =>
    if z12.1 ≤ v1 then (
      if (0 : Int32) = 0 ∨ (0 : Int32) = 1 then some (0, z12.2) else none)
    else (
      if (1 : Int32) = 0 ∨ (1 : Int32) = 1 then some (1, z12.2) else none))
theorem sX1_isStep (l : Launch) (E : g_E) (D : g_D) {t : Nat} {v1 : Int32} {G : g_G} {q : Int32 × g_G} (h : fX1_isStep E t v1 G = some q) : gMet l E D yX1_isStep (ws_ yX1_isStep cX1_isStep 2 (some .boolean)) 2 84 [.inr (.inr (some t)), .inl v1] G (some (.int q.1)) q.2 := by
  refine gMet.of (by decide +kernel) (Nat.le_of_ble_eq_true rfl) ?_
  intro p e R s m args below meth c C hS ls hl
  have C : gC p R s m args meth c cX1_isStep 2 RX1 "isStep" (some .boolean) 2 84 E D := C
  obtain ⟨hx, hb, hml, hown, hts, hKn, hRc, hRs, hc1, hc2, hRf, hRl, hr, hlk, hnm⟩ := id C
  have hl : gls ls 2 [(0, .inr (.inr (some t))), (1, .inl v1)] := hl
  generalize s.heap = H at hS ⊢
  unfold fX1_isStep at h
  refine g_iload_n hx hb hl 1 rfl dX1_isStep_0 ?_
  refine lv_if_lt (tgt := 22) hx hb dX1_isStep_1 (by decide) (fun c_1 => ?_) (fun c_1 => ?_)
  · have h := g_ift c_1 h
    refine lv_iconst (v := 0) hx hb dX1_isStep_22 (by decide) ?_
    exact g_zretG hx hb hr hlk hKn hRc hRs hS h dX1_isStep_23
  · have h := g_iff c_1 h
    refine g_iload_n hx hb hl 1 rfl dX1_isStep_4 ?_
    refine g_aload_n hx hb hl 0 rfl dX1_isStep_5 ?_
    refine g_rdR hx hb hown hts hKn hS h fd_1_1_4 rfl (Or.inl (hts _ q601)) (fun _ z => z) dX1_isStep_6 (fun x6 h => ?_)
    refine g_rdR hx hb hown hts hKn hS h fd_2_2_0 rfl (Or.inr ⟨_, gNest_use rfl (hKn.2.2.2.2.1 _ (gNest_in q514 rfl))⟩) (fun _ z => z) dX1_isStep_9 (fun x9 h => ?_)
    obtain ⟨b12, hb12, h⟩ := g_bnd h
    obtain ⟨hr12, hk12⟩ := g_chk hb12
    obtain ⟨z12, h12, h⟩ := g_bnd h
    refine g_callV (n := 0) (b := b12) (av := []) (rs := [.inl v1]) hx hb hml hown hts hKn hRc hRs hS hl (sJ2_size l E D h12) (lw_V q995 q782 q783 q117 q784) ⟨rfl, by decide, by decide, by decide +kernel⟩ ⟨by rw [hRf]; exact Nat.le_of_ble_eq_true rfl, by rw [hRl]; exact Nat.le_of_ble_eq_true rfl⟩ (g_recv hKn hS hk12 (by decide) (by decide)) rfl (by rw [hr12]; rfl) (Nat.le_of_ble_eq_true rfl) dX1_isStep_12 (fun H locs cells slots hS => ?_)
    refine lv_icmp_ge (tgt := 22) hx hb dX1_isStep_15 (by decide) (fun c_15 => ?_) (fun c_15 => ?_)
    · have h := g_ift c_15 h
      refine lv_iconst (v := 0) hx hb dX1_isStep_22 (by decide) ?_
      exact g_zretG hx hb hr hlk hKn hRc hRs hS h dX1_isStep_23
    · have h := g_iff c_15 h
      refine lv_iconst (v := 1) hx hb dX1_isStep_18 (by decide) ?_
      refine lv_goto (tgt := 23) hx hb dX1_isStep_19 (by decide) ?_
      exact g_zretG hx hb hr hlk hKn hRc hRs hS h dX1_isStep_23
/-- SendHall.lay(I)V -/
def fX1_lay_b3 (E : g_E) : Nat → Nat → Int32 → Int32 → g_G → Option (g_G)
  | 0, _, _, _, _ => none
  | n + 1, t, v1, v2, G =>
    if v2 < 0 then (
      some G)
    else (
      (grR G 1 1 (some t) 9).bind fun x8 =>
      (grI G 1 1 (some t) 10).bind fun x12 =>
      (gsaB E G x8 x12 (Int8.toInt32 (Int32.toInt8 (v1 >>> (v2 &&& 31))))).bind fun G19 =>
      (grI G19 1 1 (some t) 10).bind fun x22 =>
      (gpI E G19 1 1 (some t) 10 (x22 + 1)).bind fun G27 =>
      fX1_lay_b3 E n t v1 (v2 + (-8)) G27)
def fX1_lay (E : g_E) (t : Nat) (v1 : Int32) (G : g_G) : Option (g_G) :=
  fX1_lay_b3 E gFU t v1 24 G
theorem sX1_lay_b3 {p : Program} {l : Launch} {e : Env} {R : Room} {s : State} {m : MethodId} {args : Array Value} {below : List Frame} {meth : Method} {c : Code} {E : g_E} {D : g_D} (C : gC p R s m args meth c cX1_lay 3 RX1 "lay" (none) 1 64 E D) : ∀ (n : Nat) (t : Nat) (v1 : Int32) (v2 : Int32) (G : g_G) (q : g_G), fX1_lay_b3 E n t v1 v2 G = some q → ∀ (H : Heap) (locs : List Loc) (cells slots : Nat) (ls : Array Slot), gSt E D G H locs → gls ls 3 [(0, .inr (.inr (some t))), (1, .inl v1), (2, .inl v2)] → gT p l e R s m args below meth c E D H locs cells slots none q (F0 m 3 ls []) := by
  obtain ⟨hx, hb, hml, hown, hts, hKn, hRc, hRs, hc1, hc2, hRf, hRl, hr, hlk, hnm⟩ := id C
  intro n
  induction n with
  | zero =>
    intro t v1 v2 G q h
    exact g_no h
  | succ n ih =>
    intro t v1 v2 G q h H locs cells slots ls hS hl
    rw [fX1_lay_b3] at h
    refine g_iload_n hx hb hl 2 rfl dX1_lay_3 ?_
    refine lv_if_lt (tgt := 36) hx hb dX1_lay_4 (by decide) (fun c_4 => ?_) (fun c_4 => ?_)
    · have h := g_ift c_4 h
      exact g_vretG hx hb hr hlk hKn hRc hRs hS h dX1_lay_36
    · have h := g_iff c_4 h
      refine g_aload_n hx hb hl 0 rfl dX1_lay_7 ?_
      refine g_rdR hx hb hown hts hKn hS h fd_1_1_9 rfl (Or.inl (hts _ q606)) (fun _ z => z) dX1_lay_8 (fun x8 h => ?_)
      refine g_aload_n hx hb hl 0 rfl dX1_lay_11 ?_
      refine g_rdI hx hb hown hts hKn hS h fd_1_1_10 rfl (Or.inl (hts _ q607)) (fun _ z => z) dX1_lay_12 (fun x12 h => ?_)
      refine g_iload_n hx hb hl 1 rfl dX1_lay_15 ?_
      refine g_iload_n hx hb hl 2 rfl dX1_lay_16 ?_
      refine lv_ishr hx hb dX1_lay_17 ?_
      refine lv_i2b (v := (Int8.toInt32 (Int32.toInt8 (v1 >>> (v2 &&& 31))))) hx hb dX1_lay_18 rfl ?_
      refine g_bastoreG hx hb hKn hS h dX1_lay_19 (fun G19 h H locs hS => ?_)
      refine g_aload_n hx hb hl 0 rfl dX1_lay_20 ?_
      refine lv_dup hx hb dX1_lay_21 (by first | exact va_rf_cat _ | rfl | exact g_catA _) ?_
      refine g_rdI hx hb hown hts hKn hS h fd_1_1_10 rfl (Or.inl (hts _ q607)) (fun _ z => z) dX1_lay_22 (fun x22 h => ?_)
      refine lv_iconst (v := 1) hx hb dX1_lay_25 (by decide) ?_
      refine lv_iadd hx hb dX1_lay_26 ?_
      refine g_ptI hx hb hown hts hKn hS h fd_1_1_10 (Or.inl (hts _ q607)) (fun _ z => z) (fun z => nomatch z) dX1_lay_27 (fun G27 h H locs hS => ?_)
      refine g_iinc (l1 := [(2, .inl (v2 + (-8))), (0, .inr (.inr (some t))), (1, .inl v1)]) (v := (v2 + (-8))) hx hb hl (k := 2) rfl (by rfl) (by decide) rfl dX1_lay_30 (fun ls hl => ?_)
      refine lv_goto (tgt := 3) hx hb dX1_lay_33 (by decide) ?_
      exact ih _ _ _ _ _ h _ _ _ _ _ hS (gls_sub hl [1, 2, 0] rfl)
theorem sX1_lay (l : Launch) (E : g_E) (D : g_D) {t : Nat} {v1 : Int32} {G : g_G} {q : g_G} (h : fX1_lay E t v1 G = some q) : gMet l E D yX1_lay (ws_ yX1_lay cX1_lay 3 (none)) 1 64 [.inr (.inr (some t)), .inl v1] G none q := by
  refine gMet.of (by decide +kernel) (Nat.le_of_ble_eq_true rfl) ?_
  intro p e R s m args below meth c C hS ls hl
  have C : gC p R s m args meth c cX1_lay 3 RX1 "lay" (none) 1 64 E D := C
  obtain ⟨hx, hb, hml, hown, hts, hKn, hRc, hRs, hc1, hc2, hRf, hRl, hr, hlk, hnm⟩ := id C
  have hl : gls ls 3 [(0, .inr (.inr (some t))), (1, .inl v1)] := hl
  generalize s.heap = H at hS ⊢
  unfold fX1_lay at h
  refine lv_bipush (v := 24) hx hb dX1_lay_0 (by decide) ?_
  refine g_istore_n (l1 := [(2, .inl 24), (0, .inr (.inr (some t))), (1, .inl v1)]) hx hb hl (by decide) rfl dX1_lay_2 (fun ls hl => ?_)
  exact sX1_lay_b3 C gFU _ _ _ _ _ h _ _ _ _ _ hS (gls_sub hl [1, 2, 0] rfl)
/-- SendHall.nextChoice()I -/
def fX1_nextChoice (E : g_E) (t : Nat) (G : g_G) : Option (Int32 × g_G) :=
  (grI G 1 1 (some t) 25).bind fun x1 =>
  (grI G 1 1 (some t) 26).bind fun x5 =>
  if x5 ≤ x1 then (
    some ((-1), G))
  else (
    (grR G 1 1 (some t) 23).bind fun x12 =>
    (grI G 1 1 (some t) 25).bind fun x16 =>
    (gaI G 100 x12 x16).bind fun x19 =>
    some (x19, G))
theorem sX1_nextChoice (l : Launch) (E : g_E) (D : g_D) {t : Nat} {G : g_G} {q : Int32 × g_G} (h : fX1_nextChoice E t G = some q) : gMet l E D yX1_nextChoice (ws_ yX1_nextChoice cX1_nextChoice 1 (some .int)) 1 64 [.inr (.inr (some t))] G (some (.int q.1)) q.2 := by
  refine gMet.of (by decide +kernel) (Nat.le_of_ble_eq_true rfl) ?_
  intro p e R s m args below meth c C hS ls hl
  have C : gC p R s m args meth c cX1_nextChoice 1 RX1 "nextChoice" (some .int) 1 64 E D := C
  obtain ⟨hx, hb, hml, hown, hts, hKn, hRc, hRs, hc1, hc2, hRf, hRl, hr, hlk, hnm⟩ := id C
  have hl : gls ls 1 [(0, .inr (.inr (some t)))] := hl
  generalize s.heap = H at hS ⊢
  unfold fX1_nextChoice at h
  refine g_aload_n hx hb hl 0 rfl dX1_nextChoice_0 ?_
  refine g_rdI hx hb hown hts hKn hS h fd_1_1_25 rfl (Or.inl (hts _ q622)) (fun _ z => z) dX1_nextChoice_1 (fun x1 h => ?_)
  refine g_aload_n hx hb hl 0 rfl dX1_nextChoice_4 ?_
  refine g_rdI hx hb hown hts hKn hS h fd_1_1_26 rfl (Or.inl (hts _ q623)) (fun _ z => z) dX1_nextChoice_5 (fun x5 h => ?_)
  refine lv_icmp_ge (tgt := 23) hx hb dX1_nextChoice_8 (by decide) (fun c_8 => ?_) (fun c_8 => ?_)
  · have h := g_ift c_8 h
    refine lv_iconst (v := (-1)) hx hb dX1_nextChoice_23 (by decide) ?_
    exact g_iretG hx hb hr hlk hKn hRc hRs hS h dX1_nextChoice_24
  · have h := g_iff c_8 h
    refine g_aload_n hx hb hl 0 rfl dX1_nextChoice_11 ?_
    refine g_rdR hx hb hown hts hKn hS h fd_1_1_23 rfl (Or.inl (hts _ q620)) (fun _ z => z) dX1_nextChoice_12 (fun x12 h => ?_)
    refine g_aload_n hx hb hl 0 rfl dX1_nextChoice_15 ?_
    refine g_rdI hx hb hown hts hKn hS h fd_1_1_25 rfl (Or.inl (hts _ q622)) (fun _ z => z) dX1_nextChoice_16 (fun x16 h => ?_)
    refine g_ialoadG hx hb hKn hS h dX1_nextChoice_19 (fun x19 h => ?_)
    refine lv_goto (tgt := 24) hx hb dX1_nextChoice_20 (by decide) ?_
    exact g_iretG hx hb hr hlk hKn hRc hRs hS h dX1_nextChoice_24
/-- SendHall.right(Z)V -/
def fX1_right (E : g_E) (v0 : Int32) (G : g_G) : Option ((g_G) ⊕ gX) :=
  if ¬ v0 = 0 then (
    some (.inl G))
  else (
    (gnewO E G 21 6).bind fun z4 =>
    (gexI E z4.2 21 z4.1).bind fun G8 =>
    (gthr E G8 21 (some z4.1)).bind fun b11 => some (.inr (21, b11, G8)))
theorem sX1_right (l : Launch) (E : g_E) (D : g_D) (hlT : l.stackTraces = false) {v0 : Int32} {G : g_G} {q : (g_G) ⊕ gX} (h : fX1_right E v0 G = some q) : gMetX l E D yX1_right (ws_ yX1_right cX1_right 1 (none)) 8 120 [.inl v0] G gokV q := by
  refine gMetX.of (by decide +kernel) (Nat.le_of_ble_eq_true rfl) ?_
  intro p e R s m args below meth c C htab hS ls hl
  have C : gC p R s m args meth c cX1_right 1 RX1 "right" (none) 8 120 E D := C
  obtain ⟨hx, hb, hml, hown, hts, hKn, hRc, hRs, hc1, hc2, hRf, hRl, hr, hlk, hnm⟩ := id C
  have hl : gls ls 1 [(0, .inl v0)] := hl
  generalize hH0 : s.heap = H at hS ⊢
  unfold fX1_right at h
  refine g_iload_n hx hb hl 0 rfl dX1_right_0 ?_
  refine lv_if_ne (tgt := 12) hx hb dX1_right_1 (by decide) (fun c_1 => ?_) (fun c_1 => ?_)
  · have h := g_ift c_1 h
    exact g_retX (g_vretG hx hb hr hlk hKn hRc hRs hS rfl dX1_right_12) h rfl
  · have h := g_iff (fun z => z c_1) h
    refine g_newG (k := 21) hx hb hown hts hKn hRc hRs hS h (by decide) (by decide) (hts _ q1096) (hts _ q187) (hts _ q121) dX1_right_4 (fun z4 h H locs cells slots hS => ?_)
    refine lv_dup hx hb dX1_right_7 (by first | exact va_rf_cat _ | rfl | exact g_catA _) ?_
    refine g_excI (k := 21) (nK := 6) (Y0 := "java/lang/IllegalArgumentException") (names := ["java/lang/RuntimeException", "java/lang/Exception"]) (rs := [.inr (.inr (some z4.1))]) hx hb hml hown hts hKn hc1.2 hlT hS hl h (by decide) (by decide +kernel) (by decide +kernel) (gxa_0 hts hKn hc1.2) (gxk_21 hts) rfl (Nat.le_of_ble_eq_true rfl) ⟨by rw [hRf]; exact Nat.le_of_ble_eq_true rfl, by rw [hRl]; exact Nat.le_of_ble_eq_true rfl⟩ dX1_right_8 (fun G8 h H locs hS => ?_)
    obtain ⟨b11, hb11, h⟩ := g_bnd h
    obtain ⟨hr11, hk11, hB11⟩ := g_thr hb11
    cases hr11
    exact g_throwX hx hb dX1_right_11 (g_outX (by rw [htab]; decide) hlk hKn hRc hRs hS (by decide) (by decide) hB11 hk11 h)
/-- SendHall.there(Z)V -/
def fX1_there (E : g_E) (v0 : Int32) (G : g_G) : Option ((g_G) ⊕ gX) :=
  if ¬ v0 = 0 then (
    some (.inl G))
  else (
    (gnewO E G 22 6).bind fun z4 =>
    (gexI E z4.2 22 z4.1).bind fun G8 =>
    (gthr E G8 22 (some z4.1)).bind fun b11 => some (.inr (22, b11, G8)))
theorem sX1_there (l : Launch) (E : g_E) (D : g_D) (hlT : l.stackTraces = false) {v0 : Int32} {G : g_G} {q : (g_G) ⊕ gX} (h : fX1_there E v0 G = some q) : gMetX l E D yX1_there (ws_ yX1_there cX1_there 1 (none)) 8 120 [.inl v0] G gokV q := by
  refine gMetX.of (by decide +kernel) (Nat.le_of_ble_eq_true rfl) ?_
  intro p e R s m args below meth c C htab hS ls hl
  have C : gC p R s m args meth c cX1_there 1 RX1 "there" (none) 8 120 E D := C
  obtain ⟨hx, hb, hml, hown, hts, hKn, hRc, hRs, hc1, hc2, hRf, hRl, hr, hlk, hnm⟩ := id C
  have hl : gls ls 1 [(0, .inl v0)] := hl
  generalize hH0 : s.heap = H at hS ⊢
  unfold fX1_there at h
  refine g_iload_n hx hb hl 0 rfl dX1_there_0 ?_
  refine lv_if_ne (tgt := 12) hx hb dX1_there_1 (by decide) (fun c_1 => ?_) (fun c_1 => ?_)
  · have h := g_ift c_1 h
    exact g_retX (g_vretG hx hb hr hlk hKn hRc hRs hS rfl dX1_there_12) h rfl
  · have h := g_iff (fun z => z c_1) h
    refine g_newG (k := 22) hx hb hown hts hKn hRc hRs hS h (by decide) (by decide) (hts _ q1724) (hts _ q1725) (hts _ q154) dX1_there_4 (fun z4 h H locs cells slots hS => ?_)
    refine lv_dup hx hb dX1_there_7 (by first | exact va_rf_cat _ | rfl | exact g_catA _) ?_
    refine g_excI (k := 22) (nK := 6) (Y0 := "java/util/NoSuchElementException") (names := ["java/lang/RuntimeException", "java/lang/Exception"]) (rs := [.inr (.inr (some z4.1))]) hx hb hml hown hts hKn hc1.2 hlT hS hl h (by decide) (by decide +kernel) (by decide +kernel) (gxa_1 hts hKn hc1.2) (gxk_22 hts) rfl (Nat.le_of_ble_eq_true rfl) ⟨by rw [hRf]; exact Nat.le_of_ble_eq_true rfl, by rw [hRl]; exact Nat.le_of_ble_eq_true rfl⟩ dX1_there_8 (fun G8 h H locs hS => ?_)
    obtain ⟨b11, hb11, h⟩ := g_bnd h
    obtain ⟨hr11, hk11, hB11⟩ := g_thr hb11
    cases hr11
    exact g_throwX hx hb dX1_there_11 (g_outX (by rw [htab]; decide) hlk hKn hRc hRs hS (by decide) (by decide) hB11 hk11 h)
/-- SendHall.within(III)Z -/
def fX1_within (E : g_E) (v0 : Int32) (v1 : Int32) (v2 : Int32) (G : g_G) : Option (Int32 × g_G) :=
  if v0 < v1 then (
    if (0 : Int32) = 0 ∨ (0 : Int32) = 1 then some (0, G) else none)
  else (
    if v2 < v0 then (
      if (0 : Int32) = 0 ∨ (0 : Int32) = 1 then some (0, G) else none)
    else (
      if (1 : Int32) = 0 ∨ (1 : Int32) = 1 then some (1, G) else none))
theorem sX1_within (l : Launch) (E : g_E) (D : g_D) {v0 : Int32} {v1 : Int32} {v2 : Int32} {G : g_G} {q : Int32 × g_G} (h : fX1_within E v0 v1 v2 G = some q) : gMet l E D yX1_within (ws_ yX1_within cX1_within 3 (some .boolean)) 1 64 [.inl v0, .inl v1, .inl v2] G (some (.int q.1)) q.2 := by
  refine gMet.of (by decide +kernel) (Nat.le_of_ble_eq_true rfl) ?_
  intro p e R s m args below meth c C hS ls hl
  have C : gC p R s m args meth c cX1_within 3 RX1 "within" (some .boolean) 1 64 E D := C
  obtain ⟨hx, hb, hml, hown, hts, hKn, hRc, hRs, hc1, hc2, hRf, hRl, hr, hlk, hnm⟩ := id C
  have hl : gls ls 3 [(0, .inl v0), (1, .inl v1), (2, .inl v2)] := hl
  generalize s.heap = H at hS ⊢
  unfold fX1_within at h
  refine g_iload_n hx hb hl 0 rfl dX1_within_0 ?_
  refine g_iload_n hx hb hl 1 rfl dX1_within_1 ?_
  refine lv_icmp_lt (tgt := 14) hx hb dX1_within_2 (by decide) (fun c_2 => ?_) (fun c_2 => ?_)
  · have h := g_ift c_2 h
    refine lv_iconst (v := 0) hx hb dX1_within_14 (by decide) ?_
    exact g_zretG hx hb hr hlk hKn hRc hRs hS h dX1_within_15
  · have h := g_iff c_2 h
    refine g_iload_n hx hb hl 0 rfl dX1_within_5 ?_
    refine g_iload_n hx hb hl 2 rfl dX1_within_6 ?_
    refine lv_icmp_gt (tgt := 14) hx hb dX1_within_7 (by decide) (fun c_7 => ?_) (fun c_7 => ?_)
    · have h := g_ift c_7 h
      refine lv_iconst (v := 0) hx hb dX1_within_14 (by decide) ?_
      exact g_zretG hx hb hr hlk hKn hRc hRs hS h dX1_within_15
    · have h := g_iff c_7 h
      refine lv_iconst (v := 1) hx hb dX1_within_10 (by decide) ?_
      refine lv_goto (tgt := 15) hx hb dX1_within_11 (by decide) ?_
      exact g_zretG hx hb hr hlk hKn hRc hRs hS h dX1_within_15
/-- SendHall.world(IIII)Z -/
def fX1_world_b76 (E : g_E) (t : Nat) (v1 : Int32) (v2 : Int32) (v3 : Int32) (v4 : Int32) (G : g_G) : Option (Int32 × g_G) :=
  (gpI E G 1 1 (some t) 0 v1).bind fun G78 =>
  (gpI E G78 1 1 (some t) 1 v2).bind fun G83 =>
  (gpI E G83 1 1 (some t) 2 v3).bind fun G88 =>
  (gpI E G88 1 1 (some t) 3 v4).bind fun G94 =>
  if (1 : Int32) = 0 ∨ (1 : Int32) = 1 then some (1, G94) else none
def fX1_world_b71 (E : g_E) (t : Nat) (v1 : Int32) (v2 : Int32) (v3 : Int32) (v4 : Int32) (G : g_G) : Option (Int32 × g_G) :=
  (gpZ E G 1 1 (some t) 13 0).bind fun G73 =>
  fX1_world_b76 E t v1 v2 v3 v4 G73
def fX1_world_b55 (E : g_E) (t : Nat) (v1 : Int32) (v2 : Int32) (v3 : Int32) (v4 : Int32) (G : g_G) : Option (Int32 × g_G) :=
  (grI G 1 1 (some t) 0).bind fun x57 =>
  if ¬ v1 = x57 then (
    fX1_world_b71 E t v1 v2 v3 v4 G)
  else (
    (grI G 1 1 (some t) 1).bind fun x65 =>
    if v2 = x65 then (
      fX1_world_b76 E t v1 v2 v3 v4 G)
    else (
      fX1_world_b71 E t v1 v2 v3 v4 G))
def fX1_world (E : g_E) (t : Nat) (v1 : Int32) (v2 : Int32) (v3 : Int32) (v4 : Int32) (G : g_G) : Option (Int32 × g_G) :=
  (fX1_within E v1 2 8 G).bind fun z4 =>
  if z4.1 = 0 then (
    if (0 : Int32) = 0 ∨ (0 : Int32) = 1 then some (0, z4.2) else none)
  else (
    (fX1_within E v2 0 3 z4.2).bind fun z13 =>
    if z13.1 = 0 then (
      if (0 : Int32) = 0 ∨ (0 : Int32) = 1 then some (0, z13.2) else none)
    else (
      (fX1_within E v3 0 99 z13.2).bind fun z23 =>
      if z23.1 = 0 then (
        if (0 : Int32) = 0 ∨ (0 : Int32) = 1 then some (0, z23.2) else none)
      else (
        (fX1_within E v4 0 99 z23.2).bind fun z34 =>
        if ¬ z34.1 = 0 then (
          (grI z34.2 1 1 (some t) 0).bind fun x44 =>
          if v1 = x44 then (
            fX1_world_b55 E t v1 v2 v3 v4 z34.2)
          else (
            (gpZ E z34.2 1 1 (some t) 21 0).bind fun G52 =>
            fX1_world_b55 E t v1 v2 v3 v4 G52))
        else (
          if (0 : Int32) = 0 ∨ (0 : Int32) = 1 then some (0, z34.2) else none))))
theorem sX1_world_b76 {p : Program} {l : Launch} {e : Env} {R : Room} {s : State} {m : MethodId} {args : Array Value} {below : List Frame} {meth : Method} {c : Code} {E : g_E} {D : g_D} (C : gC p R s m args meth c cX1_world 5 RX1 "world" (some .boolean) 2 86 E D) : ∀ (t : Nat) (v1 : Int32) (v2 : Int32) (v3 : Int32) (v4 : Int32) (G : g_G) (q : Int32 × g_G), fX1_world_b76 E t v1 v2 v3 v4 G = some q → ∀ (H : Heap) (locs : List Loc) (cells slots : Nat) (ls : Array Slot), gSt E D G H locs → gls ls 5 [(0, .inr (.inr (some t))), (1, .inl v1), (2, .inl v2), (3, .inl v3), (4, .inl v4)] → gT p l e R s m args below meth c E D H locs cells slots (some (.int q.1)) q.2 (F0 m 76 ls []) := by
  obtain ⟨hx, hb, hml, hown, hts, hKn, hRc, hRs, hc1, hc2, hRf, hRl, hr, hlk, hnm⟩ := id C
  intro t v1 v2 v3 v4 G q h H locs cells slots ls hS hl
  unfold fX1_world_b76 at h
  refine g_aload_n hx hb hl 0 rfl dX1_world_76 ?_
  refine g_iload_n hx hb hl 1 rfl dX1_world_77 ?_
  refine g_ptI hx hb hown hts hKn hS h fd_1_1_0 (Or.inl (hts _ q597)) (fun _ z => z) (fun z => nomatch z) dX1_world_78 (fun G78 h H locs hS => ?_)
  refine g_aload_n hx hb hl 0 rfl dX1_world_81 ?_
  refine g_iload_n hx hb hl 2 rfl dX1_world_82 ?_
  refine g_ptI hx hb hown hts hKn hS h fd_1_1_1 (Or.inl (hts _ q598)) (fun _ z => z) (fun z => nomatch z) dX1_world_83 (fun G83 h H locs hS => ?_)
  refine g_aload_n hx hb hl 0 rfl dX1_world_86 ?_
  refine g_iload_n hx hb hl 3 rfl dX1_world_87 ?_
  refine g_ptI hx hb hown hts hKn hS h fd_1_1_2 (Or.inl (hts _ q599)) (fun _ z => z) (fun z => nomatch z) dX1_world_88 (fun G88 h H locs hS => ?_)
  refine g_aload_n hx hb hl 0 rfl dX1_world_91 ?_
  refine g_iload hx hb hl 4 rfl dX1_world_92 ?_
  refine g_ptI hx hb hown hts hKn hS h fd_1_1_3 (Or.inl (hts _ q600)) (fun _ z => z) (fun z => nomatch z) dX1_world_94 (fun G94 h H locs hS => ?_)
  refine lv_iconst (v := 1) hx hb dX1_world_97 (by decide) ?_
  exact g_zretG hx hb hr hlk hKn hRc hRs hS h dX1_world_98
theorem sX1_world_b71 {p : Program} {l : Launch} {e : Env} {R : Room} {s : State} {m : MethodId} {args : Array Value} {below : List Frame} {meth : Method} {c : Code} {E : g_E} {D : g_D} (C : gC p R s m args meth c cX1_world 5 RX1 "world" (some .boolean) 2 86 E D) : ∀ (t : Nat) (v1 : Int32) (v2 : Int32) (v3 : Int32) (v4 : Int32) (G : g_G) (q : Int32 × g_G), fX1_world_b71 E t v1 v2 v3 v4 G = some q → ∀ (H : Heap) (locs : List Loc) (cells slots : Nat) (ls : Array Slot), gSt E D G H locs → gls ls 5 [(0, .inr (.inr (some t))), (1, .inl v1), (2, .inl v2), (3, .inl v3), (4, .inl v4)] → gT p l e R s m args below meth c E D H locs cells slots (some (.int q.1)) q.2 (F0 m 71 ls []) := by
  obtain ⟨hx, hb, hml, hown, hts, hKn, hRc, hRs, hc1, hc2, hRf, hRl, hr, hlk, hnm⟩ := id C
  intro t v1 v2 v3 v4 G q h H locs cells slots ls hS hl
  unfold fX1_world_b71 at h
  refine g_aload_n hx hb hl 0 rfl dX1_world_71 ?_
  refine lv_iconst (v := 0) hx hb dX1_world_72 (by decide) ?_
  refine g_ptZ hx hb hown hts hKn hS h fd_1_1_13 (Or.inl (hts _ q610)) (fun _ z => z) (fun z => nomatch z) dX1_world_73 (fun G73 h H locs hS => ?_)
  exact sX1_world_b76 C _ _ _ _ _ _ _ h _ _ _ _ _ hS (gls_sub hl [0, 1, 2, 3, 4] rfl)
theorem sX1_world_b55 {p : Program} {l : Launch} {e : Env} {R : Room} {s : State} {m : MethodId} {args : Array Value} {below : List Frame} {meth : Method} {c : Code} {E : g_E} {D : g_D} (C : gC p R s m args meth c cX1_world 5 RX1 "world" (some .boolean) 2 86 E D) : ∀ (t : Nat) (v1 : Int32) (v2 : Int32) (v3 : Int32) (v4 : Int32) (G : g_G) (q : Int32 × g_G), fX1_world_b55 E t v1 v2 v3 v4 G = some q → ∀ (H : Heap) (locs : List Loc) (cells slots : Nat) (ls : Array Slot), gSt E D G H locs → gls ls 5 [(0, .inr (.inr (some t))), (1, .inl v1), (2, .inl v2), (3, .inl v3), (4, .inl v4)] → gT p l e R s m args below meth c E D H locs cells slots (some (.int q.1)) q.2 (F0 m 55 ls []) := by
  obtain ⟨hx, hb, hml, hown, hts, hKn, hRc, hRs, hc1, hc2, hRf, hRl, hr, hlk, hnm⟩ := id C
  intro t v1 v2 v3 v4 G q h H locs cells slots ls hS hl
  unfold fX1_world_b55 at h
  refine g_iload_n hx hb hl 1 rfl dX1_world_55 ?_
  refine g_aload_n hx hb hl 0 rfl dX1_world_56 ?_
  refine g_rdI hx hb hown hts hKn hS h fd_1_1_0 rfl (Or.inl (hts _ q597)) (fun _ z => z) dX1_world_57 (fun x57 h => ?_)
  refine lv_icmp_ne (tgt := 71) hx hb dX1_world_60 (by decide) (fun c_60 => ?_) (fun c_60 => ?_)
  · have h := g_ift c_60 h
    exact sX1_world_b71 C _ _ _ _ _ _ _ h _ _ _ _ _ hS (gls_sub hl [0, 1, 2, 3, 4] rfl)
  · have h := g_iff (fun z => z c_60) h
    refine g_iload_n hx hb hl 2 rfl dX1_world_63 ?_
    refine g_aload_n hx hb hl 0 rfl dX1_world_64 ?_
    refine g_rdI hx hb hown hts hKn hS h fd_1_1_1 rfl (Or.inl (hts _ q598)) (fun _ z => z) dX1_world_65 (fun x65 h => ?_)
    refine lv_icmp_eq (tgt := 76) hx hb dX1_world_68 (by decide) (fun c_68 => ?_) (fun c_68 => ?_)
    · have h := g_ift c_68 h
      exact sX1_world_b76 C _ _ _ _ _ _ _ h _ _ _ _ _ hS (gls_sub hl [0, 1, 2, 3, 4] rfl)
    · have h := g_iff c_68 h
      exact sX1_world_b71 C _ _ _ _ _ _ _ h _ _ _ _ _ hS (gls_sub hl [0, 1, 2, 3, 4] rfl)
theorem sX1_world (l : Launch) (E : g_E) (D : g_D) {t : Nat} {v1 : Int32} {v2 : Int32} {v3 : Int32} {v4 : Int32} {G : g_G} {q : Int32 × g_G} (h : fX1_world E t v1 v2 v3 v4 G = some q) : gMet l E D yX1_world (ws_ yX1_world cX1_world 5 (some .boolean)) 2 86 [.inr (.inr (some t)), .inl v1, .inl v2, .inl v3, .inl v4] G (some (.int q.1)) q.2 := by
  refine gMet.of (by decide +kernel) (Nat.le_of_ble_eq_true rfl) ?_
  intro p e R s m args below meth c C hS ls hl
  have C : gC p R s m args meth c cX1_world 5 RX1 "world" (some .boolean) 2 86 E D := C
  obtain ⟨hx, hb, hml, hown, hts, hKn, hRc, hRs, hc1, hc2, hRf, hRl, hr, hlk, hnm⟩ := id C
  have hl : gls ls 5 [(0, .inr (.inr (some t))), (1, .inl v1), (2, .inl v2), (3, .inl v3), (4, .inl v4)] := hl
  generalize s.heap = H at hS ⊢
  unfold fX1_world at h
  refine g_iload_n hx hb hl 1 rfl dX1_world_0 ?_
  refine lv_iconst (v := 2) hx hb dX1_world_1 (by decide) ?_
  refine lv_bipush (v := 8) hx hb dX1_world_2 (by decide) ?_
  obtain ⟨z4, h4, h⟩ := g_bnd h
  refine g_callS (n := 3) (av := [.inl v1, .inl 2, .inl 8]) (rs := []) hx hb hml hown hts hKn hRc hRs hS hl (sX1_within l E D h4) (lw_S q713 q714 q113 q715) ⟨by decide, by decide, by decide +kernel⟩ ⟨by rw [hRf]; exact Nat.le_of_ble_eq_true rfl, by rw [hRl]; exact Nat.le_of_ble_eq_true rfl⟩ rfl rfl (Nat.le_of_ble_eq_true rfl) dX1_world_4 (fun H locs cells slots hS => ?_)
  refine lv_if_eq (tgt := 40) hx hb dX1_world_7 (by decide) (fun c_7 => ?_) (fun c_7 => ?_)
  · have h := g_ift c_7 h
    refine lv_iconst (v := 0) hx hb dX1_world_40 (by decide) ?_
    exact g_zretG hx hb hr hlk hKn hRc hRs hS h dX1_world_41
  · have h := g_iff c_7 h
    refine g_iload_n hx hb hl 2 rfl dX1_world_10 ?_
    refine lv_iconst (v := 0) hx hb dX1_world_11 (by decide) ?_
    refine lv_iconst (v := 3) hx hb dX1_world_12 (by decide) ?_
    obtain ⟨z13, h13, h⟩ := g_bnd h
    refine g_callS (n := 3) (av := [.inl v2, .inl 0, .inl 3]) (rs := []) hx hb hml hown hts hKn hRc hRs hS hl (sX1_within l E D h13) (lw_S q713 q714 q113 q715) ⟨by decide, by decide, by decide +kernel⟩ ⟨by rw [hRf]; exact Nat.le_of_ble_eq_true rfl, by rw [hRl]; exact Nat.le_of_ble_eq_true rfl⟩ rfl rfl (Nat.le_of_ble_eq_true rfl) dX1_world_13 (fun H locs cells slots hS => ?_)
    refine lv_if_eq (tgt := 40) hx hb dX1_world_16 (by decide) (fun c_16 => ?_) (fun c_16 => ?_)
    · have h := g_ift c_16 h
      refine lv_iconst (v := 0) hx hb dX1_world_40 (by decide) ?_
      exact g_zretG hx hb hr hlk hKn hRc hRs hS h dX1_world_41
    · have h := g_iff c_16 h
      refine g_iload_n hx hb hl 3 rfl dX1_world_19 ?_
      refine lv_iconst (v := 0) hx hb dX1_world_20 (by decide) ?_
      refine lv_bipush (v := 99) hx hb dX1_world_21 (by decide) ?_
      obtain ⟨z23, h23, h⟩ := g_bnd h
      refine g_callS (n := 3) (av := [.inl v3, .inl 0, .inl 99]) (rs := []) hx hb hml hown hts hKn hRc hRs hS hl (sX1_within l E D h23) (lw_S q713 q714 q113 q715) ⟨by decide, by decide, by decide +kernel⟩ ⟨by rw [hRf]; exact Nat.le_of_ble_eq_true rfl, by rw [hRl]; exact Nat.le_of_ble_eq_true rfl⟩ rfl rfl (Nat.le_of_ble_eq_true rfl) dX1_world_23 (fun H locs cells slots hS => ?_)
      refine lv_if_eq (tgt := 40) hx hb dX1_world_26 (by decide) (fun c_26 => ?_) (fun c_26 => ?_)
      · have h := g_ift c_26 h
        refine lv_iconst (v := 0) hx hb dX1_world_40 (by decide) ?_
        exact g_zretG hx hb hr hlk hKn hRc hRs hS h dX1_world_41
      · have h := g_iff c_26 h
        refine g_iload hx hb hl 4 rfl dX1_world_29 ?_
        refine lv_iconst (v := 0) hx hb dX1_world_31 (by decide) ?_
        refine lv_bipush (v := 99) hx hb dX1_world_32 (by decide) ?_
        obtain ⟨z34, h34, h⟩ := g_bnd h
        refine g_callS (n := 3) (av := [.inl v4, .inl 0, .inl 99]) (rs := []) hx hb hml hown hts hKn hRc hRs hS hl (sX1_within l E D h34) (lw_S q713 q714 q113 q715) ⟨by decide, by decide, by decide +kernel⟩ ⟨by rw [hRf]; exact Nat.le_of_ble_eq_true rfl, by rw [hRl]; exact Nat.le_of_ble_eq_true rfl⟩ rfl rfl (Nat.le_of_ble_eq_true rfl) dX1_world_34 (fun H locs cells slots hS => ?_)
        refine lv_if_ne (tgt := 42) hx hb dX1_world_37 (by decide) (fun c_37 => ?_) (fun c_37 => ?_)
        · have h := g_ift c_37 h
          refine g_iload_n hx hb hl 1 rfl dX1_world_42 ?_
          refine g_aload_n hx hb hl 0 rfl dX1_world_43 ?_
          refine g_rdI hx hb hown hts hKn hS h fd_1_1_0 rfl (Or.inl (hts _ q597)) (fun _ z => z) dX1_world_44 (fun x44 h => ?_)
          refine lv_icmp_eq (tgt := 55) hx hb dX1_world_47 (by decide) (fun c_47 => ?_) (fun c_47 => ?_)
          · have h := g_ift c_47 h
            exact sX1_world_b55 C _ _ _ _ _ _ _ h _ _ _ _ _ hS (gls_sub hl [0, 1, 2, 3, 4] rfl)
          · have h := g_iff c_47 h
            refine g_aload_n hx hb hl 0 rfl dX1_world_50 ?_
            refine lv_iconst (v := 0) hx hb dX1_world_51 (by decide) ?_
            refine g_ptZ hx hb hown hts hKn hS h fd_1_1_21 (Or.inl (hts _ q618)) (fun _ z => z) (fun z => nomatch z) dX1_world_52 (fun G52 h H locs hS => ?_)
            exact sX1_world_b55 C _ _ _ _ _ _ _ h _ _ _ _ _ hS (gls_sub hl [0, 1, 2, 3, 4] rfl)
        · have h := g_iff (fun z => z c_37) h
          refine lv_iconst (v := 0) hx hb dX1_world_40 (by decide) ?_
          exact g_zretG hx hb hr hlk hKn hRc hRs hS h dX1_world_41
/-- SendHall$Text.<init>()V -/
def fX2_init (E : g_E) (t : Nat) (G : g_G) : Option (g_G) :=
  (gnewO E G 17 3).bind fun z5 =>
  (fJ2_init E z5.1 4 z5.2).bind fun z10 =>
  (gpR E z10 2 2 (some t) 0 (some z5.1)).bind fun G13 =>
  some G13
theorem sX2_init (l : Launch) (E : g_E) (D : g_D) {t : Nat} {G : g_G} {q : g_G} (h : fX2_init E t G = some q) : gMet l E D yX2_init (ws_ yX2_init cX2_init 1 (none)) 4 125 [.inr (.inr (some t))] G none q := by
  refine gMet.of (by decide +kernel) (Nat.le_of_ble_eq_true rfl) ?_
  intro p e R s m args below meth c C hS ls hl
  have C : gC p R s m args meth c cX2_init 1 RX2 "<init>" (none) 4 125 E D := C
  obtain ⟨hx, hb, hml, hown, hts, hKn, hRc, hRs, hc1, hc2, hRf, hRl, hr, hlk, hnm⟩ := id C
  have hl : gls ls 1 [(0, .inr (.inr (some t)))] := hl
  generalize s.heap = H at hS ⊢
  unfold fX2_init at h
  refine g_aload_n hx hb hl 0 rfl dX2_init_0 ?_
  refine g_objInit (rs := []) hx hb hml hown hl (hts _ q169) (hts _ q162) (hts _ q163) rfl dX2_init_1 ⟨by rw [hRf]; exact Nat.le_of_ble_eq_true rfl, by rw [hRl]; exact Nat.le_of_ble_eq_true rfl⟩ ?_
  refine g_aload_n hx hb hl 0 rfl dX2_init_4 ?_
  refine g_newG (k := 17) hx hb hown hts hKn hRc hRs hS h (by decide) (by decide) (hts _ q170) (hts _ q171) (hts _ q117) dX2_init_5 (fun z5 h H locs cells slots hS => ?_)
  refine lv_dup hx hb dX2_init_8 (by first | exact va_rf_cat _ | rfl | exact g_catA _) ?_
  refine lv_iconst (v := 4) hx hb dX2_init_9 (by decide) ?_
  obtain ⟨z10, h10, h⟩ := g_bnd h
  refine g_callI (n := 1) (av := [.inl 4]) (rs := [.inr (.inr (some z5.1)), .inr (.inr (some t))]) hx hb hml hown hts hKn hRc hRs hS hl (sJ2_init l E D h10) (lw_meth q174) (hts _ q117) (hts _ q172) (hts _ q173) rfl ⟨by decide, by decide, by decide +kernel⟩ ⟨by rw [hRf]; exact Nat.le_of_ble_eq_true rfl, by rw [hRl]; exact Nat.le_of_ble_eq_true rfl⟩ rfl rfl (Nat.le_of_ble_eq_true rfl) dX2_init_10 (fun H locs cells slots hS => ?_)
  refine g_ptR hx hb hown hts hKn hS h fd_2_2_0 rfl (Or.inl (hts _ q512)) (fun _ z => z) (fun _ => ⟨hnm, rfl⟩) dX2_init_13 (fun G13 h H locs hS => ?_)
  exact g_vretG hx hb hr hlk hKn hRc hRs hS h dX2_init_16
