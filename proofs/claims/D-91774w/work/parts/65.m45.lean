set_option maxRecDepth 100000
/-- SendHall.cut()I -/
def fX1_cut_b110 (E : g_E) : Nat → Nat → Int32 → Int32 → g_G → Option (Int32 × g_G)
  | 0, _, _, _, _ => none
  | n + 1, t, v1, v2, G =>
    if (40 : Int32) ≤ v2 then (
      (gpZ E G 1 1 (some t) 18 1).bind fun G143 =>
      some (v1, G143))
    else (
      (grR G 1 1 (some t) 19).bind fun x117 =>
      (grR G 1 1 (some t) 5).bind fun x122 =>
      (gaI G 102 x122 v2).bind fun x126 =>
      (gsaZ E G x117 v2 x126).bind fun G127 =>
      (grR G127 1 1 (some t) 5).bind fun x129 =>
      (gsaZ E G127 x129 v2 0).bind fun G134 =>
      fX1_cut_b110 E n t v1 (v2 + 1) G134)
def fX1_cut_b102 (E : g_E) (k25 : Nat → Int32 → Int32 → g_G → Option (Int32 × g_G)) (t : Nat) (v1 : Int32) (v2 : Int32) (G : g_G) : Option (Int32 × g_G) :=
  k25 t v1 (v2 + 1) G
def fX1_cut_b92 (E : g_E) (k25 : Nat → Int32 → Int32 → g_G → Option (Int32 × g_G)) (t : Nat) (v1 : Int32) (v2 : Int32) (G : g_G) : Option (Int32 × g_G) :=
  (grR G 1 1 (some t) 5).bind fun x93 =>
  (gsaZ E G x93 v2 0).bind fun G98 =>
  fX1_cut_b102 E k25 t (v1 + 1) v2 G98
def fX1_cut_b25 (E : g_E) : Nat → Nat → Int32 → Int32 → g_G → Option (Int32 × g_G)
  | 0, _, _, _, _ => none
  | n + 1, t, v1, v2, G =>
    (grR G 1 1 (some t) 4).bind fun x27 =>
    (grR G 2 2 x27 0).bind fun x30 =>
    (gchk G 17 x30).bind fun b33 =>
    (fJ2_size E b33 G).bind fun z33 =>
    if z33.1 ≤ v2 then (
      fX1_cut_b110 E gFU t v1 0 z33.2)
    else (
      (grR z33.2 1 1 (some t) 4).bind fun x40 =>
      (grR z33.2 2 2 x40 0).bind fun x43 =>
      (gchk z33.2 17 x43).bind fun b47 =>
      (fJ2_get E b47 v2 z33.2).bind fun z47 =>
      (gcast z47.2 11 16 z47.1).bind fun x50 =>
      (grI z47.2 11 16 x50 0).bind fun x53 =>
      if ¬ x53 = (10 : Int32) then (
        (grR z47.2 1 1 (some t) 5).bind fun x65 =>
        (gsaZ E z47.2 x65 v2 1).bind fun G70 =>
        (grI G70 1 1 (some t) 1).bind fun x73 =>
        (gchk G70 1 (some t)).bind fun b76 =>
        (fX1_goesThrough E b76 x73 G70).bind fun z76 =>
        if z76.1 = 0 then (
          fX1_cut_b92 E (fX1_cut_b25 E n) t v1 v2 z76.2)
        else (
          (gchk z76.2 1 (some t)).bind fun b83 =>
          (fX1_hasLocked E b83 z76.2).bind fun z83 =>
          if z83.1 = 0 then (
            fX1_cut_b92 E (fX1_cut_b25 E n) t v1 v2 z83.2)
          else (
            fX1_cut_b102 E (fX1_cut_b25 E n) t v1 v2 z83.2)))
      else (
        fX1_cut_b102 E (fX1_cut_b25 E n) t v1 v2 z47.2))
def fX1_cut (E : g_E) (t : Nat) (G : g_G) : Option (Int32 × g_G) :=
  (gchk G 1 (some t)).bind fun b1 =>
  (fX1_finds E b1 G).bind fun z1 =>
  if z1.1 = 0 then (
    some ((-1), z1.2))
  else (
    (gchk z1.2 1 (some t)).bind fun b8 =>
    (fX1_hasLocked E b8 z1.2).bind fun z8 =>
    if ¬ z8.1 = 0 then (
      (gpZ E z8.2 1 1 (some t) 13 0).bind fun G18 =>
      fX1_cut_b25 E gFU t 0 0 G18)
    else (
      some ((-1), z8.2)))
theorem sX1_cut_b110 {p : Program} {l : Launch} {e : Env} {R : Room} {s : State} {m : MethodId} {args : Array Value} {below : List Frame} {meth : Method} {c : Code} {E : g_E} {D : g_D} (C : gC p R s m args meth c cX1_cut 3 RX1 "cut" (some .int) 227 7531 E D) : ∀ (n : Nat) (t : Nat) (v1 : Int32) (v2 : Int32) (G : g_G) (q : Int32 × g_G), fX1_cut_b110 E n t v1 v2 G = some q → ∀ (H : Heap) (locs : List Loc) (cells slots : Nat) (ls : Array Slot), gSt E D G H locs → gls ls 3 [(0, .inr (.inr (some t))), (1, .inl v1), (2, .inl v2)] → gT p l e R s m args below meth c E D H locs cells slots (some (.int q.1)) q.2 (F0 m 110 ls []) := by
  obtain ⟨hx, hb, hml, hown, hts, hKn, hRc, hRs, hc1, hc2, hRf, hRl, hr, hlk, hnm⟩ := id C
  intro n
  induction n with
  | zero =>
    intro t v1 v2 G q h
    exact g_no h
  | succ n ih =>
    intro t v1 v2 G q h H locs cells slots ls hS hl
    rw [fX1_cut_b110] at h
    refine g_iload_n hx hb hl 2 rfl dX1_cut_110 ?_
    refine lv_bipush (v := 40) hx hb dX1_cut_111 (by decide) ?_
    refine lv_icmp_ge (tgt := 141) hx hb dX1_cut_113 (by decide) (fun c_113 => ?_) (fun c_113 => ?_)
    · have h := g_ift c_113 h
      refine g_aload_n hx hb hl 0 rfl dX1_cut_141 ?_
      refine lv_iconst (v := 1) hx hb dX1_cut_142 (by decide) ?_
      refine g_ptZ hx hb hown hts hKn hS h fd_1_1_18 (Or.inl (hts _ q615)) (fun _ z => z) (fun z => nomatch z) dX1_cut_143 (fun G143 h H locs hS => ?_)
      refine g_iload_n hx hb hl 1 rfl dX1_cut_146 ?_
      exact g_iretG hx hb hr hlk hKn hRc hRs hS h dX1_cut_147
    · have h := g_iff c_113 h
      refine g_aload_n hx hb hl 0 rfl dX1_cut_116 ?_
      refine g_rdR hx hb hown hts hKn hS h fd_1_1_19 rfl (Or.inl (hts _ q616)) (fun _ z => z) dX1_cut_117 (fun x117 h => ?_)
      refine g_iload_n hx hb hl 2 rfl dX1_cut_120 ?_
      refine g_aload_n hx hb hl 0 rfl dX1_cut_121 ?_
      refine g_rdR hx hb hown hts hKn hS h fd_1_1_5 rfl (Or.inl (hts _ q602)) (fun _ z => z) dX1_cut_122 (fun x122 h => ?_)
      refine g_iload_n hx hb hl 2 rfl dX1_cut_125 ?_
      refine g_zaloadG hx hb hKn hS h dX1_cut_126 (fun x126 h => ?_)
      refine g_zastoreG hx hb hKn hS h dX1_cut_127 (fun G127 h H locs hS => ?_)
      refine g_aload_n hx hb hl 0 rfl dX1_cut_128 ?_
      refine g_rdR hx hb hown hts hKn hS h fd_1_1_5 rfl (Or.inl (hts _ q602)) (fun _ z => z) dX1_cut_129 (fun x129 h => ?_)
      refine g_iload_n hx hb hl 2 rfl dX1_cut_132 ?_
      refine lv_iconst (v := 0) hx hb dX1_cut_133 (by decide) ?_
      refine g_zastoreG hx hb hKn hS h dX1_cut_134 (fun G134 h H locs hS => ?_)
      refine g_iinc (l1 := [(2, .inl (v2 + 1)), (0, .inr (.inr (some t))), (1, .inl v1)]) (v := (v2 + 1)) hx hb hl (k := 2) rfl (by rfl) (by decide) rfl dX1_cut_135 (fun ls hl => ?_)
      refine lv_goto (tgt := 110) hx hb dX1_cut_138 (by decide) ?_
      exact ih _ _ _ _ _ h _ _ _ _ _ hS (gls_sub hl [1, 2, 0] rfl)
theorem sX1_cut_b102 {p : Program} {l : Launch} {e : Env} {R : Room} {s : State} {m : MethodId} {args : Array Value} {below : List Frame} {meth : Method} {c : Code} {E : g_E} {D : g_D} (C : gC p R s m args meth c cX1_cut 3 RX1 "cut" (some .int) 227 7531 E D) {k25 : Nat → Int32 → Int32 → g_G → Option (Int32 × g_G)} (hk25 : ∀ (t : Nat) (v1 : Int32) (v2 : Int32) (G : g_G) (q : Int32 × g_G), k25 t v1 v2 G = some q → ∀ (H : Heap) (locs : List Loc) (cells slots : Nat) (ls : Array Slot), gSt E D G H locs → gls ls 3 [(0, .inr (.inr (some t))), (1, .inl v1), (2, .inl v2)] → gT p l e R s m args below meth c E D H locs cells slots (some (.int q.1)) q.2 (F0 m 25 ls [])) : ∀ (t : Nat) (v1 : Int32) (v2 : Int32) (G : g_G) (q : Int32 × g_G), fX1_cut_b102 E k25 t v1 v2 G = some q → ∀ (H : Heap) (locs : List Loc) (cells slots : Nat) (ls : Array Slot), gSt E D G H locs → gls ls 3 [(0, .inr (.inr (some t))), (1, .inl v1), (2, .inl v2)] → gT p l e R s m args below meth c E D H locs cells slots (some (.int q.1)) q.2 (F0 m 102 ls []) := by
  obtain ⟨hx, hb, hml, hown, hts, hKn, hRc, hRs, hc1, hc2, hRf, hRl, hr, hlk, hnm⟩ := id C
  intro t v1 v2 G q h H locs cells slots ls hS hl
  unfold fX1_cut_b102 at h
  refine g_iinc (l1 := [(2, .inl (v2 + 1)), (0, .inr (.inr (some t))), (1, .inl v1)]) (v := (v2 + 1)) hx hb hl (k := 2) rfl (by rfl) (by decide) rfl dX1_cut_102 (fun ls hl => ?_)
  refine lv_goto (tgt := 25) hx hb dX1_cut_105 (by decide) ?_
  exact hk25 _ _ _ _ _ h _ _ _ _ _ hS (gls_sub hl [1, 2, 0] rfl)
theorem sX1_cut_b92 {p : Program} {l : Launch} {e : Env} {R : Room} {s : State} {m : MethodId} {args : Array Value} {below : List Frame} {meth : Method} {c : Code} {E : g_E} {D : g_D} (C : gC p R s m args meth c cX1_cut 3 RX1 "cut" (some .int) 227 7531 E D) {k25 : Nat → Int32 → Int32 → g_G → Option (Int32 × g_G)} (hk25 : ∀ (t : Nat) (v1 : Int32) (v2 : Int32) (G : g_G) (q : Int32 × g_G), k25 t v1 v2 G = some q → ∀ (H : Heap) (locs : List Loc) (cells slots : Nat) (ls : Array Slot), gSt E D G H locs → gls ls 3 [(0, .inr (.inr (some t))), (1, .inl v1), (2, .inl v2)] → gT p l e R s m args below meth c E D H locs cells slots (some (.int q.1)) q.2 (F0 m 25 ls [])) : ∀ (t : Nat) (v1 : Int32) (v2 : Int32) (G : g_G) (q : Int32 × g_G), fX1_cut_b92 E k25 t v1 v2 G = some q → ∀ (H : Heap) (locs : List Loc) (cells slots : Nat) (ls : Array Slot), gSt E D G H locs → gls ls 3 [(0, .inr (.inr (some t))), (1, .inl v1), (2, .inl v2)] → gT p l e R s m args below meth c E D H locs cells slots (some (.int q.1)) q.2 (F0 m 92 ls []) := by
  obtain ⟨hx, hb, hml, hown, hts, hKn, hRc, hRs, hc1, hc2, hRf, hRl, hr, hlk, hnm⟩ := id C
  intro t v1 v2 G q h H locs cells slots ls hS hl
  unfold fX1_cut_b92 at h
  refine g_aload_n hx hb hl 0 rfl dX1_cut_92 ?_
  refine g_rdR hx hb hown hts hKn hS h fd_1_1_5 rfl (Or.inl (hts _ q602)) (fun _ z => z) dX1_cut_93 (fun x93 h => ?_)
  refine g_iload_n hx hb hl 2 rfl dX1_cut_96 ?_
  refine lv_iconst (v := 0) hx hb dX1_cut_97 (by decide) ?_
  refine g_zastoreG hx hb hKn hS h dX1_cut_98 (fun G98 h H locs hS => ?_)
  refine g_iinc (l1 := [(1, .inl (v1 + 1)), (0, .inr (.inr (some t))), (2, .inl v2)]) (v := (v1 + 1)) hx hb hl (k := 1) rfl (by rfl) (by decide) rfl dX1_cut_99 (fun ls hl => ?_)
  exact sX1_cut_b102 C hk25 _ _ _ _ _ h _ _ _ _ _ hS (gls_sub hl [1, 0, 2] rfl)
theorem sX1_cut_b25 {p : Program} {l : Launch} {e : Env} {R : Room} {s : State} {m : MethodId} {args : Array Value} {below : List Frame} {meth : Method} {c : Code} {E : g_E} {D : g_D} (C : gC p R s m args meth c cX1_cut 3 RX1 "cut" (some .int) 227 7531 E D) : ∀ (n : Nat) (t : Nat) (v1 : Int32) (v2 : Int32) (G : g_G) (q : Int32 × g_G), fX1_cut_b25 E n t v1 v2 G = some q → ∀ (H : Heap) (locs : List Loc) (cells slots : Nat) (ls : Array Slot), gSt E D G H locs → gls ls 3 [(0, .inr (.inr (some t))), (1, .inl v1), (2, .inl v2)] → gT p l e R s m args below meth c E D H locs cells slots (some (.int q.1)) q.2 (F0 m 25 ls []) := by
  obtain ⟨hx, hb, hml, hown, hts, hKn, hRc, hRs, hc1, hc2, hRf, hRl, hr, hlk, hnm⟩ := id C
  intro n
  induction n with
  | zero =>
    intro t v1 v2 G q h
    exact g_no h
  | succ n ih =>
    intro t v1 v2 G q h H locs cells slots ls hS hl
    rw [fX1_cut_b25] at h
    refine g_iload_n hx hb hl 2 rfl dX1_cut_25 ?_
    refine g_aload_n hx hb hl 0 rfl dX1_cut_26 ?_
    refine g_rdR hx hb hown hts hKn hS h fd_1_1_4 rfl (Or.inl (hts _ q601)) (fun _ z => z) dX1_cut_27 (fun x27 h => ?_)
    refine g_rdR hx hb hown hts hKn hS h fd_2_2_0 rfl (Or.inr ⟨_, gNest_use rfl (hKn.2.2.2.2.1 _ (gNest_in q514 rfl))⟩) (fun _ z => z) dX1_cut_30 (fun x30 h => ?_)
    obtain ⟨b33, hb33, h⟩ := g_bnd h
    obtain ⟨hr33, hk33⟩ := g_chk hb33
    obtain ⟨z33, h33, h⟩ := g_bnd h
    refine g_callV (n := 0) (b := b33) (av := []) (rs := [.inl v2]) hx hb hml hown hts hKn hRc hRs hS hl (sJ2_size l E D h33) (lw_V q995 q782 q783 q117 q784) ⟨rfl, by decide, by decide, by decide +kernel⟩ ⟨by rw [hRf]; exact Nat.le_of_ble_eq_true rfl, by rw [hRl]; exact Nat.le_of_ble_eq_true rfl⟩ (g_recv hKn hS hk33 (by decide) (by decide)) rfl (by rw [hr33]; rfl) (Nat.le_of_ble_eq_true rfl) dX1_cut_33 (fun H locs cells slots hS => ?_)
    refine lv_icmp_ge (tgt := 108) hx hb dX1_cut_36 (by decide) (fun c_36 => ?_) (fun c_36 => ?_)
    · have h := g_ift c_36 h
      refine lv_iconst (v := 0) hx hb dX1_cut_108 (by decide) ?_
      refine g_istore_n (l1 := [(2, .inl 0), (0, .inr (.inr (some t))), (1, .inl v1)]) hx hb hl (by decide) rfl dX1_cut_109 (fun ls hl => ?_)
      exact sX1_cut_b110 C gFU _ _ _ _ _ h _ _ _ _ _ hS (gls_sub hl [1, 2, 0] rfl)
    · have h := g_iff c_36 h
      refine g_aload_n hx hb hl 0 rfl dX1_cut_39 ?_
      refine g_rdR hx hb hown hts hKn hS h fd_1_1_4 rfl (Or.inl (hts _ q601)) (fun _ z => z) dX1_cut_40 (fun x40 h => ?_)
      refine g_rdR hx hb hown hts hKn hS h fd_2_2_0 rfl (Or.inr ⟨_, gNest_use rfl (hKn.2.2.2.2.1 _ (gNest_in q514 rfl))⟩) (fun _ z => z) dX1_cut_43 (fun x43 h => ?_)
      refine g_iload_n hx hb hl 2 rfl dX1_cut_46 ?_
      obtain ⟨b47, hb47, h⟩ := g_bnd h
      obtain ⟨hr47, hk47⟩ := g_chk hb47
      obtain ⟨z47, h47, h⟩ := g_bnd h
      refine g_callV (n := 1) (b := b47) (av := [.inl v2]) (rs := []) hx hb hml hown hts hKn hRc hRs hS hl (sJ2_get l E D h47) (lw_V q996 q759 q760 q117 q761) ⟨rfl, by decide, by decide, by decide +kernel⟩ ⟨by rw [hRf]; exact Nat.le_of_ble_eq_true rfl, by rw [hRl]; exact Nat.le_of_ble_eq_true rfl⟩ (g_recv hKn hS hk47 (by decide) (by decide)) rfl (by rw [hr47]; rfl) (Nat.le_of_ble_eq_true rfl) dX1_cut_47 (fun H locs cells slots hS => ?_)
      refine g_castY (lo := 11) (hi := 16) (C := "SendHall$Step") hx hb hown hKn hS h (by decide) (by decide) (hts _ q1083) ct_11_16 dX1_cut_50 (fun x50 h => ?_)
      refine g_rdI hx hb hown hts hKn hS h fd_11_16_0 rfl (Or.inl (hts _ q1422)) (fun _ z => z) dX1_cut_53 (fun x53 h => ?_)
      refine lv_bipush (v := 10) hx hb dX1_cut_56 (by decide) ?_
      refine lv_icmp_ne (tgt := 64) hx hb dX1_cut_58 (by decide) (fun c_58 => ?_) (fun c_58 => ?_)
      · have h := g_ift c_58 h
        refine g_aload_n hx hb hl 0 rfl dX1_cut_64 ?_
        refine g_rdR hx hb hown hts hKn hS h fd_1_1_5 rfl (Or.inl (hts _ q602)) (fun _ z => z) dX1_cut_65 (fun x65 h => ?_)
        refine g_iload_n hx hb hl 2 rfl dX1_cut_68 ?_
        refine lv_iconst (v := 1) hx hb dX1_cut_69 (by decide) ?_
        refine g_zastoreG hx hb hKn hS h dX1_cut_70 (fun G70 h H locs hS => ?_)
        refine g_aload_n hx hb hl 0 rfl dX1_cut_71 ?_
        refine g_aload_n hx hb hl 0 rfl dX1_cut_72 ?_
        refine g_rdI hx hb hown hts hKn hS h fd_1_1_1 rfl (Or.inl (hts _ q598)) (fun _ z => z) dX1_cut_73 (fun x73 h => ?_)
        obtain ⟨b76, hb76, h⟩ := g_bnd h
        obtain ⟨hr76, hk76⟩ := g_chk hb76
        obtain ⟨z76, h76, h⟩ := g_bnd h
        refine g_callV (n := 1) (b := b76) (av := [.inl x73]) (rs := []) hx hb hml hown hts hKn hRc hRs hS hl (sX1_goesThrough l E D h76) (lw_V q724 q726 qs3 q113 q727) ⟨rfl, by decide, by decide, by decide +kernel⟩ ⟨by rw [hRf]; exact Nat.le_of_ble_eq_true rfl, by rw [hRl]; exact Nat.le_of_ble_eq_true rfl⟩ (g_recv hKn hS hk76 (by decide) (by decide)) rfl (by rw [hr76]; rfl) (Nat.le_of_ble_eq_true rfl) dX1_cut_76 (fun H locs cells slots hS => ?_)
        refine lv_if_eq (tgt := 92) hx hb dX1_cut_79 (by decide) (fun c_79 => ?_) (fun c_79 => ?_)
        · have h := g_ift c_79 h
          exact sX1_cut_b92 C ih _ _ _ _ _ h _ _ _ _ _ hS (gls_sub hl [0, 1, 2] rfl)
        · have h := g_iff c_79 h
          refine g_aload_n hx hb hl 0 rfl dX1_cut_82 ?_
          obtain ⟨b83, hb83, h⟩ := g_bnd h
          obtain ⟨hr83, hk83⟩ := g_chk hb83
          obtain ⟨z83, h83, h⟩ := g_bnd h
          refine g_callV (n := 0) (b := b83) (av := []) (rs := []) hx hb hml hown hts hKn hRc hRs hS hl (sX1_hasLocked l E D h83) (lw_V q1071 q1073 qs23 q113 q1074) ⟨rfl, by decide, by decide, by decide +kernel⟩ ⟨by rw [hRf]; exact Nat.le_of_ble_eq_true rfl, by rw [hRl]; exact Nat.le_of_ble_eq_true rfl⟩ (g_recv hKn hS hk83 (by decide) (by decide)) rfl (by rw [hr83]; rfl) (Nat.le_of_ble_eq_true rfl) dX1_cut_83 (fun H locs cells slots hS => ?_)
          refine lv_if_eq (tgt := 92) hx hb dX1_cut_86 (by decide) (fun c_86 => ?_) (fun c_86 => ?_)
          · have h := g_ift c_86 h
            exact sX1_cut_b92 C ih _ _ _ _ _ h _ _ _ _ _ hS (gls_sub hl [0, 1, 2] rfl)
          · have h := g_iff c_86 h
            refine lv_goto (tgt := 102) hx hb dX1_cut_89 (by decide) ?_
            exact sX1_cut_b102 C ih _ _ _ _ _ h _ _ _ _ _ hS (gls_sub hl [0, 1, 2] rfl)
      · have h := g_iff (fun z => z c_58) h
        refine lv_goto (tgt := 102) hx hb dX1_cut_61 (by decide) ?_
        exact sX1_cut_b102 C ih _ _ _ _ _ h _ _ _ _ _ hS (gls_sub hl [0, 1, 2] rfl)
theorem sX1_cut (l : Launch) (E : g_E) (D : g_D) {t : Nat} {G : g_G} {q : Int32 × g_G} (h : fX1_cut E t G = some q) : gMet l E D yX1_cut (ws_ yX1_cut cX1_cut 3 (some .int)) 227 7531 [.inr (.inr (some t))] G (some (.int q.1)) q.2 := by
  refine gMet.of (by decide +kernel) (Nat.le_of_ble_eq_true rfl) ?_
  intro p e R s m args below meth c C hS ls hl
  have C : gC p R s m args meth c cX1_cut 3 RX1 "cut" (some .int) 227 7531 E D := C
  obtain ⟨hx, hb, hml, hown, hts, hKn, hRc, hRs, hc1, hc2, hRf, hRl, hr, hlk, hnm⟩ := id C
  have hl : gls ls 3 [(0, .inr (.inr (some t)))] := hl
  generalize s.heap = H at hS ⊢
  unfold fX1_cut at h
  refine g_aload_n hx hb hl 0 rfl dX1_cut_0 ?_
  obtain ⟨b1, hb1, h⟩ := g_bnd h
  obtain ⟨hr1, hk1⟩ := g_chk hb1
  obtain ⟨z1, h1, h⟩ := g_bnd h
  refine g_callV (n := 0) (b := b1) (av := []) (rs := []) hx hb hml hown hts hKn hRc hRs hS hl (sX1_finds l E D h1) (lw_V q720 q722 qs2 q113 q723) ⟨rfl, by decide, by decide, by decide +kernel⟩ ⟨by rw [hRf]; exact Nat.le_of_ble_eq_true rfl, by rw [hRl]; exact Nat.le_of_ble_eq_true rfl⟩ (g_recv hKn hS hk1 (by decide) (by decide)) rfl (by rw [hr1]; rfl) (Nat.le_of_ble_eq_true rfl) dX1_cut_1 (fun H locs cells slots hS => ?_)
  refine lv_if_eq (tgt := 14) hx hb dX1_cut_4 (by decide) (fun c_4 => ?_) (fun c_4 => ?_)
  · have h := g_ift c_4 h
    refine lv_iconst (v := (-1)) hx hb dX1_cut_14 (by decide) ?_
    exact g_iretG hx hb hr hlk hKn hRc hRs hS h dX1_cut_15
  · have h := g_iff c_4 h
    refine g_aload_n hx hb hl 0 rfl dX1_cut_7 ?_
    obtain ⟨b8, hb8, h⟩ := g_bnd h
    obtain ⟨hr8, hk8⟩ := g_chk hb8
    obtain ⟨z8, h8, h⟩ := g_bnd h
    refine g_callV (n := 0) (b := b8) (av := []) (rs := []) hx hb hml hown hts hKn hRc hRs hS hl (sX1_hasLocked l E D h8) (lw_V q1071 q1073 qs23 q113 q1074) ⟨rfl, by decide, by decide, by decide +kernel⟩ ⟨by rw [hRf]; exact Nat.le_of_ble_eq_true rfl, by rw [hRl]; exact Nat.le_of_ble_eq_true rfl⟩ (g_recv hKn hS hk8 (by decide) (by decide)) rfl (by rw [hr8]; rfl) (Nat.le_of_ble_eq_true rfl) dX1_cut_8 (fun H locs cells slots hS => ?_)
    refine lv_if_ne (tgt := 16) hx hb dX1_cut_11 (by decide) (fun c_11 => ?_) (fun c_11 => ?_)
    · have h := g_ift c_11 h
      refine g_aload_n hx hb hl 0 rfl dX1_cut_16 ?_
      refine lv_iconst (v := 0) hx hb dX1_cut_17 (by decide) ?_
      refine g_ptZ hx hb hown hts hKn hS h fd_1_1_13 (Or.inl (hts _ q610)) (fun _ z => z) (fun z => nomatch z) dX1_cut_18 (fun G18 h H locs hS => ?_)
      refine lv_iconst (v := 0) hx hb dX1_cut_21 (by decide) ?_
      refine g_istore_n (l1 := [(1, .inl 0), (0, .inr (.inr (some t)))]) hx hb hl (by decide) rfl dX1_cut_22 (fun ls hl => ?_)
      refine lv_iconst (v := 0) hx hb dX1_cut_23 (by decide) ?_
      refine g_istore_n (l1 := [(2, .inl 0), (1, .inl 0), (0, .inr (.inr (some t)))]) hx hb hl (by decide) rfl dX1_cut_24 (fun ls hl => ?_)
      exact sX1_cut_b25 C gFU _ _ _ _ _ h _ _ _ _ _ hS (gls_sub hl [2, 1, 0] rfl)
    · have h := g_iff (fun z => z c_11) h
      refine lv_iconst (v := (-1)) hx hb dX1_cut_14 (by decide) ?_
      exact g_iretG hx hb hr hlk hKn hRc hRs hS h dX1_cut_15
/-- SendHall.differs()Z -/
def fX1_differs_b93 (E : g_E) (k13 : Nat → (Option Nat) → Int32 → g_G → Option (Int32 × g_G)) (t : Nat) (v1 : Option Nat) (v2 : Int32) (G : g_G) : Option (Int32 × g_G) :=
  k13 t v1 (v2 + 1) G
def fX1_differs_b87 (E : g_E) (k13 : Nat → (Option Nat) → Int32 → g_G → Option (Int32 × g_G)) (t : Nat) (v1 : Option Nat) (v2 : Int32) (v3 : Option Nat) (G : g_G) : Option (Int32 × g_G) :=
  if ¬ v1 = none then (
    fX1_differs_b93 E k13 t v1 v2 G)
  else (
    fX1_differs_b93 E k13 t v3 v2 G)
def fX1_differs_b49 (E : g_E) (k13 : Nat → (Option Nat) → Int32 → g_G → Option (Int32 × g_G)) : Nat → Nat → (Option Nat) → Int32 → (Option Nat) → Int32 → g_G → Option (Int32 × g_G)
  | 0, _, _, _, _, _, _ => none
  | n + 1, t, v1, v2, v3, v4, G =>
    if v1 = none then (
      fX1_differs_b87 E k13 t v1 v2 v3 G)
    else (
      (grI G 1 1 (some t) 0).bind fun x56 =>
      if x56 ≤ v4 then (
        fX1_differs_b87 E k13 t v1 v2 v3 G)
      else (
        (grR G 7 7 v3 3).bind fun x63 =>
        (gaI G 100 x63 v4).bind fun x68 =>
        (grR G 7 7 v1 3).bind fun x70 =>
        (gaI G 100 x70 v4).bind fun x75 =>
        if x68 = x75 then (
          fX1_differs_b49 E k13 n t v1 v2 v3 (v4 + 1) G)
        else (
          if (1 : Int32) = 0 ∨ (1 : Int32) = 1 then some (1, G) else none)))
def fX1_differs_b13 (E : g_E) : Nat → Nat → (Option Nat) → Int32 → g_G → Option (Int32 × g_G)
  | 0, _, _, _, _ => none
  | n + 1, t, v1, v2, G =>
    (grR G 1 1 (some t) 16).bind fun x15 =>
    (gchk G 17 x15).bind fun b18 =>
    (fJ2_size E b18 G).bind fun z18 =>
    if z18.1 ≤ v2 then (
      if (0 : Int32) = 0 ∨ (0 : Int32) = 1 then some (0, z18.2) else none)
    else (
      (grR z18.2 1 1 (some t) 16).bind fun x25 =>
      (gchk z18.2 17 x25).bind fun b29 =>
      (fJ2_get E b29 v2 z18.2).bind fun z29 =>
      (gcast z29.2 7 7 z29.1).bind fun x32 =>
      (grI z29.2 7 7 x32 0).bind fun x37 =>
      if x37 = 0 then (
        fX1_differs_b49 E (fX1_differs_b13 E n) gFU t v1 v2 x32 0 z29.2)
      else (
        fX1_differs_b93 E (fX1_differs_b13 E n) t v1 v2 z29.2))
def fX1_differs (E : g_E) (t : Nat) (G : g_G) : Option (Int32 × g_G) :=
  (gchk G 1 (some t)).bind fun b1 =>
  (fX1_finds E b1 G).bind fun z1 =>
  if ¬ z1.1 = 0 then (
    fX1_differs_b13 E gFU t none 0 z1.2)
  else (
    if (0 : Int32) = 0 ∨ (0 : Int32) = 1 then some (0, z1.2) else none)
theorem sX1_differs_b93 {p : Program} {l : Launch} {e : Env} {R : Room} {s : State} {m : MethodId} {args : Array Value} {below : List Frame} {meth : Method} {c : Code} {E : g_E} {D : g_D} (C : gC p R s m args meth c cX1_differs 5 RX1 "differs" (some .boolean) 227 7531 E D) {k13 : Nat → (Option Nat) → Int32 → g_G → Option (Int32 × g_G)} (hk13 : ∀ (t : Nat) (v1 : Option Nat) (v2 : Int32) (G : g_G) (q : Int32 × g_G), k13 t v1 v2 G = some q → ∀ (H : Heap) (locs : List Loc) (cells slots : Nat) (ls : Array Slot), gSt E D G H locs → gls ls 5 [(0, .inr (.inr (some t))), (1, .inr (.inr v1)), (2, .inl v2)] → gT p l e R s m args below meth c E D H locs cells slots (some (.int q.1)) q.2 (F0 m 13 ls [])) : ∀ (t : Nat) (v1 : Option Nat) (v2 : Int32) (G : g_G) (q : Int32 × g_G), fX1_differs_b93 E k13 t v1 v2 G = some q → ∀ (H : Heap) (locs : List Loc) (cells slots : Nat) (ls : Array Slot), gSt E D G H locs → gls ls 5 [(0, .inr (.inr (some t))), (1, .inr (.inr v1)), (2, .inl v2)] → gT p l e R s m args below meth c E D H locs cells slots (some (.int q.1)) q.2 (F0 m 93 ls []) := by
  obtain ⟨hx, hb, hml, hown, hts, hKn, hRc, hRs, hc1, hc2, hRf, hRl, hr, hlk, hnm⟩ := id C
  intro t v1 v2 G q h H locs cells slots ls hS hl
  unfold fX1_differs_b93 at h
  refine g_iinc (l1 := [(2, .inl (v2 + 1)), (0, .inr (.inr (some t))), (1, .inr (.inr v1))]) (v := (v2 + 1)) hx hb hl (k := 2) rfl (by rfl) (by decide) rfl dX1_differs_93 (fun ls hl => ?_)
  refine lv_goto (tgt := 13) hx hb dX1_differs_96 (by decide) ?_
  exact hk13 _ _ _ _ _ h _ _ _ _ _ hS (gls_sub hl [1, 2, 0] rfl)
theorem sX1_differs_b87 {p : Program} {l : Launch} {e : Env} {R : Room} {s : State} {m : MethodId} {args : Array Value} {below : List Frame} {meth : Method} {c : Code} {E : g_E} {D : g_D} (C : gC p R s m args meth c cX1_differs 5 RX1 "differs" (some .boolean) 227 7531 E D) {k13 : Nat → (Option Nat) → Int32 → g_G → Option (Int32 × g_G)} (hk13 : ∀ (t : Nat) (v1 : Option Nat) (v2 : Int32) (G : g_G) (q : Int32 × g_G), k13 t v1 v2 G = some q → ∀ (H : Heap) (locs : List Loc) (cells slots : Nat) (ls : Array Slot), gSt E D G H locs → gls ls 5 [(0, .inr (.inr (some t))), (1, .inr (.inr v1)), (2, .inl v2)] → gT p l e R s m args below meth c E D H locs cells slots (some (.int q.1)) q.2 (F0 m 13 ls [])) : ∀ (t : Nat) (v1 : Option Nat) (v2 : Int32) (v3 : Option Nat) (G : g_G) (q : Int32 × g_G), fX1_differs_b87 E k13 t v1 v2 v3 G = some q → ∀ (H : Heap) (locs : List Loc) (cells slots : Nat) (ls : Array Slot), gSt E D G H locs → gls ls 5 [(0, .inr (.inr (some t))), (1, .inr (.inr v1)), (2, .inl v2), (3, .inr (.inr v3))] → gT p l e R s m args below meth c E D H locs cells slots (some (.int q.1)) q.2 (F0 m 87 ls []) := by
  obtain ⟨hx, hb, hml, hown, hts, hKn, hRc, hRs, hc1, hc2, hRf, hRl, hr, hlk, hnm⟩ := id C
  intro t v1 v2 v3 G q h H locs cells slots ls hS hl
  unfold fX1_differs_b87 at h
  refine g_aload_n hx hb hl 1 rfl dX1_differs_87 ?_
  refine g_ifnonnull (tgt := 93) hx hb dX1_differs_88 (by decide) (fun c_88 => ?_) (fun c_88 => ?_)
  · have h := g_ift c_88 h
    exact sX1_differs_b93 C hk13 _ _ _ _ _ h _ _ _ _ _ hS (gls_sub hl [0, 1, 2] rfl)
  · have h := g_iff (fun z => z c_88) h
    refine g_aload_n hx hb hl 3 rfl dX1_differs_91 ?_
    refine g_astore_n (l1 := [(1, .inr (.inr v3)), (0, .inr (.inr (some t))), (2, .inl v2), (3, .inr (.inr v3))]) hx hb hl (by decide) rfl dX1_differs_92 (fun ls hl => ?_)
    exact sX1_differs_b93 C hk13 _ _ _ _ _ h _ _ _ _ _ hS (gls_sub hl [1, 0, 2] rfl)
theorem sX1_differs_b49 {p : Program} {l : Launch} {e : Env} {R : Room} {s : State} {m : MethodId} {args : Array Value} {below : List Frame} {meth : Method} {c : Code} {E : g_E} {D : g_D} (C : gC p R s m args meth c cX1_differs 5 RX1 "differs" (some .boolean) 227 7531 E D) {k13 : Nat → (Option Nat) → Int32 → g_G → Option (Int32 × g_G)} (hk13 : ∀ (t : Nat) (v1 : Option Nat) (v2 : Int32) (G : g_G) (q : Int32 × g_G), k13 t v1 v2 G = some q → ∀ (H : Heap) (locs : List Loc) (cells slots : Nat) (ls : Array Slot), gSt E D G H locs → gls ls 5 [(0, .inr (.inr (some t))), (1, .inr (.inr v1)), (2, .inl v2)] → gT p l e R s m args below meth c E D H locs cells slots (some (.int q.1)) q.2 (F0 m 13 ls [])) : ∀ (n : Nat) (t : Nat) (v1 : Option Nat) (v2 : Int32) (v3 : Option Nat) (v4 : Int32) (G : g_G) (q : Int32 × g_G), fX1_differs_b49 E k13 n t v1 v2 v3 v4 G = some q → ∀ (H : Heap) (locs : List Loc) (cells slots : Nat) (ls : Array Slot), gSt E D G H locs → gls ls 5 [(0, .inr (.inr (some t))), (1, .inr (.inr v1)), (2, .inl v2), (3, .inr (.inr v3)), (4, .inl v4)] → gT p l e R s m args below meth c E D H locs cells slots (some (.int q.1)) q.2 (F0 m 49 ls []) := by
  obtain ⟨hx, hb, hml, hown, hts, hKn, hRc, hRs, hc1, hc2, hRf, hRl, hr, hlk, hnm⟩ := id C
  intro n
  induction n with
  | zero =>
    intro t v1 v2 v3 v4 G q h
    exact g_no h
  | succ n ih =>
    intro t v1 v2 v3 v4 G q h H locs cells slots ls hS hl
    rw [fX1_differs_b49] at h
    refine g_aload_n hx hb hl 1 rfl dX1_differs_49 ?_
    refine g_ifnull (tgt := 87) hx hb dX1_differs_50 (by decide) (fun c_50 => ?_) (fun c_50 => ?_)
    · have h := g_ift c_50 h
      exact sX1_differs_b87 C hk13 _ _ _ _ _ _ h _ _ _ _ _ hS (gls_sub hl [0, 1, 2, 3] rfl)
    · have h := g_iff c_50 h
      refine g_iload hx hb hl 4 rfl dX1_differs_53 ?_
      refine g_aload_n hx hb hl 0 rfl dX1_differs_55 ?_
      refine g_rdI hx hb hown hts hKn hS h fd_1_1_0 rfl (Or.inl (hts _ q597)) (fun _ z => z) dX1_differs_56 (fun x56 h => ?_)
      refine lv_icmp_ge (tgt := 87) hx hb dX1_differs_59 (by decide) (fun c_59 => ?_) (fun c_59 => ?_)
      · have h := g_ift c_59 h
        exact sX1_differs_b87 C hk13 _ _ _ _ _ _ h _ _ _ _ _ hS (gls_sub hl [0, 1, 2, 3] rfl)
      · have h := g_iff c_59 h
        refine g_aload_n hx hb hl 3 rfl dX1_differs_62 ?_
        refine g_rdR hx hb hown hts hKn hS h fd_7_7_3 rfl (Or.inr ⟨_, gNest_use rfl (hKn.2.2.2.2.1 _ (gNest_in q975 rfl))⟩) (fun _ z => z) dX1_differs_63 (fun x63 h => ?_)
        refine g_iload hx hb hl 4 rfl dX1_differs_66 ?_
        refine g_ialoadG hx hb hKn hS h dX1_differs_68 (fun x68 h => ?_)
        refine g_aload_n hx hb hl 1 rfl dX1_differs_69 ?_
        refine g_rdR hx hb hown hts hKn hS h fd_7_7_3 rfl (Or.inr ⟨_, gNest_use rfl (hKn.2.2.2.2.1 _ (gNest_in q975 rfl))⟩) (fun _ z => z) dX1_differs_70 (fun x70 h => ?_)
        refine g_iload hx hb hl 4 rfl dX1_differs_73 ?_
        refine g_ialoadG hx hb hKn hS h dX1_differs_75 (fun x75 h => ?_)
        refine lv_icmp_eq (tgt := 81) hx hb dX1_differs_76 (by decide) (fun c_76 => ?_) (fun c_76 => ?_)
        · have h := g_ift c_76 h
          refine g_iinc (l1 := [(4, .inl (v4 + 1)), (0, .inr (.inr (some t))), (1, .inr (.inr v1)), (2, .inl v2), (3, .inr (.inr v3))]) (v := (v4 + 1)) hx hb hl (k := 4) rfl (by rfl) (by decide) rfl dX1_differs_81 (fun ls hl => ?_)
          refine lv_goto (tgt := 49) hx hb dX1_differs_84 (by decide) ?_
          exact ih _ _ _ _ _ _ _ h _ _ _ _ _ hS (gls_sub hl [1, 2, 3, 4, 0] rfl)
        · have h := g_iff c_76 h
          refine lv_iconst (v := 1) hx hb dX1_differs_79 (by decide) ?_
          exact g_zretG hx hb hr hlk hKn hRc hRs hS h dX1_differs_80
theorem sX1_differs_b13 {p : Program} {l : Launch} {e : Env} {R : Room} {s : State} {m : MethodId} {args : Array Value} {below : List Frame} {meth : Method} {c : Code} {E : g_E} {D : g_D} (C : gC p R s m args meth c cX1_differs 5 RX1 "differs" (some .boolean) 227 7531 E D) : ∀ (n : Nat) (t : Nat) (v1 : Option Nat) (v2 : Int32) (G : g_G) (q : Int32 × g_G), fX1_differs_b13 E n t v1 v2 G = some q → ∀ (H : Heap) (locs : List Loc) (cells slots : Nat) (ls : Array Slot), gSt E D G H locs → gls ls 5 [(0, .inr (.inr (some t))), (1, .inr (.inr v1)), (2, .inl v2)] → gT p l e R s m args below meth c E D H locs cells slots (some (.int q.1)) q.2 (F0 m 13 ls []) := by
  obtain ⟨hx, hb, hml, hown, hts, hKn, hRc, hRs, hc1, hc2, hRf, hRl, hr, hlk, hnm⟩ := id C
  intro n
  induction n with
  | zero =>
    intro t v1 v2 G q h
    exact g_no h
  | succ n ih =>
    intro t v1 v2 G q h H locs cells slots ls hS hl
    rw [fX1_differs_b13] at h
    refine g_iload_n hx hb hl 2 rfl dX1_differs_13 ?_
    refine g_aload_n hx hb hl 0 rfl dX1_differs_14 ?_
    refine g_rdR hx hb hown hts hKn hS h fd_1_1_16 rfl (Or.inl (hts _ q613)) (fun _ z => z) dX1_differs_15 (fun x15 h => ?_)
    obtain ⟨b18, hb18, h⟩ := g_bnd h
    obtain ⟨hr18, hk18⟩ := g_chk hb18
    obtain ⟨z18, h18, h⟩ := g_bnd h
    refine g_callV (n := 0) (b := b18) (av := []) (rs := [.inl v2]) hx hb hml hown hts hKn hRc hRs hS hl (sJ2_size l E D h18) (lw_V q995 q782 q783 q117 q784) ⟨rfl, by decide, by decide, by decide +kernel⟩ ⟨by rw [hRf]; exact Nat.le_of_ble_eq_true rfl, by rw [hRl]; exact Nat.le_of_ble_eq_true rfl⟩ (g_recv hKn hS hk18 (by decide) (by decide)) rfl (by rw [hr18]; rfl) (Nat.le_of_ble_eq_true rfl) dX1_differs_18 (fun H locs cells slots hS => ?_)
    refine lv_icmp_ge (tgt := 99) hx hb dX1_differs_21 (by decide) (fun c_21 => ?_) (fun c_21 => ?_)
    · have h := g_ift c_21 h
      refine lv_iconst (v := 0) hx hb dX1_differs_99 (by decide) ?_
      exact g_zretG hx hb hr hlk hKn hRc hRs hS h dX1_differs_100
    · have h := g_iff c_21 h
      refine g_aload_n hx hb hl 0 rfl dX1_differs_24 ?_
      refine g_rdR hx hb hown hts hKn hS h fd_1_1_16 rfl (Or.inl (hts _ q613)) (fun _ z => z) dX1_differs_25 (fun x25 h => ?_)
      refine g_iload_n hx hb hl 2 rfl dX1_differs_28 ?_
      obtain ⟨b29, hb29, h⟩ := g_bnd h
      obtain ⟨hr29, hk29⟩ := g_chk hb29
      obtain ⟨z29, h29, h⟩ := g_bnd h
      refine g_callV (n := 1) (b := b29) (av := [.inl v2]) (rs := []) hx hb hml hown hts hKn hRc hRs hS hl (sJ2_get l E D h29) (lw_V q996 q759 q760 q117 q761) ⟨rfl, by decide, by decide, by decide +kernel⟩ ⟨by rw [hRf]; exact Nat.le_of_ble_eq_true rfl, by rw [hRl]; exact Nat.le_of_ble_eq_true rfl⟩ (g_recv hKn hS hk29 (by decide) (by decide)) rfl (by rw [hr29]; rfl) (Nat.le_of_ble_eq_true rfl) dX1_differs_29 (fun H locs cells slots hS => ?_)
      refine g_castS (k := 7) hx hb hown hKn hS h (by decide) (by decide) (hts _ q962) dX1_differs_32 (fun x32 h => ?_)
      refine g_astore_n (l1 := [(3, .inr (.inr x32)), (0, .inr (.inr (some t))), (1, .inr (.inr v1)), (2, .inl v2)]) hx hb hl (by decide) rfl dX1_differs_35 (fun ls hl => ?_)
      refine g_aload_n hx hb hl 0 rfl dX1_differs_36 ?_
      refine g_rdI hx hb hown hts hKn hS h fd_7_7_0 rfl (Or.inr ⟨_, gNest_use rfl (hKn.2.2.2.2.1 _ (gNest_in q969 rfl))⟩) (fun _ z => z) dX1_differs_37 (fun x37 h => ?_)
      refine lv_if_eq (tgt := 46) hx hb dX1_differs_40 (by decide) (fun c_40 => ?_) (fun c_40 => ?_)
      · have h := g_ift c_40 h
        refine lv_iconst (v := 0) hx hb dX1_differs_46 (by decide) ?_
        refine g_istore (l1 := [(4, .inl 0), (3, .inr (.inr x32)), (0, .inr (.inr (some t))), (1, .inr (.inr v1)), (2, .inl v2)]) hx hb hl (by decide) rfl dX1_differs_47 (fun ls hl => ?_)
        exact sX1_differs_b49 C ih gFU _ _ _ _ _ _ _ h _ _ _ _ _ hS (gls_sub hl [2, 3, 4, 1, 0] rfl)
      · have h := g_iff c_40 h
        refine lv_goto (tgt := 93) hx hb dX1_differs_43 (by decide) ?_
        exact sX1_differs_b93 C ih _ _ _ _ _ h _ _ _ _ _ hS (gls_sub hl [1, 2, 3] rfl)
theorem sX1_differs (l : Launch) (E : g_E) (D : g_D) {t : Nat} {G : g_G} {q : Int32 × g_G} (h : fX1_differs E t G = some q) : gMet l E D yX1_differs (ws_ yX1_differs cX1_differs 5 (some .boolean)) 227 7531 [.inr (.inr (some t))] G (some (.int q.1)) q.2 := by
  refine gMet.of (by decide +kernel) (Nat.le_of_ble_eq_true rfl) ?_
  intro p e R s m args below meth c C hS ls hl
  have C : gC p R s m args meth c cX1_differs 5 RX1 "differs" (some .boolean) 227 7531 E D := C
  obtain ⟨hx, hb, hml, hown, hts, hKn, hRc, hRs, hc1, hc2, hRf, hRl, hr, hlk, hnm⟩ := id C
  have hl : gls ls 5 [(0, .inr (.inr (some t)))] := hl
  generalize s.heap = H at hS ⊢
  unfold fX1_differs at h
  refine g_aload_n hx hb hl 0 rfl dX1_differs_0 ?_
  obtain ⟨b1, hb1, h⟩ := g_bnd h
  obtain ⟨hr1, hk1⟩ := g_chk hb1
  obtain ⟨z1, h1, h⟩ := g_bnd h
  refine g_callV (n := 0) (b := b1) (av := []) (rs := []) hx hb hml hown hts hKn hRc hRs hS hl (sX1_finds l E D h1) (lw_V q720 q722 qs2 q113 q723) ⟨rfl, by decide, by decide, by decide +kernel⟩ ⟨by rw [hRf]; exact Nat.le_of_ble_eq_true rfl, by rw [hRl]; exact Nat.le_of_ble_eq_true rfl⟩ (g_recv hKn hS hk1 (by decide) (by decide)) rfl (by rw [hr1]; rfl) (Nat.le_of_ble_eq_true rfl) dX1_differs_1 (fun H locs cells slots hS => ?_)
  refine lv_if_ne (tgt := 9) hx hb dX1_differs_4 (by decide) (fun c_4 => ?_) (fun c_4 => ?_)
  · have h := g_ift c_4 h
    refine g_null hx hb dX1_differs_9 ?_
    refine g_astore_n (l1 := [(1, .inr (.inr none)), (0, .inr (.inr (some t)))]) hx hb hl (by decide) rfl dX1_differs_10 (fun ls hl => ?_)
    refine lv_iconst (v := 0) hx hb dX1_differs_11 (by decide) ?_
    refine g_istore_n (l1 := [(2, .inl 0), (1, .inr (.inr none)), (0, .inr (.inr (some t)))]) hx hb hl (by decide) rfl dX1_differs_12 (fun ls hl => ?_)
    exact sX1_differs_b13 C gFU _ _ _ _ _ h _ _ _ _ _ hS (gls_sub hl [2, 1, 0] rfl)
  · have h := g_iff (fun z => z c_4) h
    refine lv_iconst (v := 0) hx hb dX1_differs_7 (by decide) ?_
    exact g_zretG hx hb hr hlk hKn hRc hRs hS h dX1_differs_8
/-- SendHall.ending(II)I -/
def fX1_ending_b51 (E : g_E) (t : Nat) (v1 : Int32) (v2 : Int32) (s0 : Int32) (G : g_G) : Option ((Int32 × g_G) ⊕ gX) :=
  gcat (fX1_there E s0 G) (fun z51 =>
    (grR z51 1 1 (some t) 16).bind fun x55 =>
    (gchk z51 17 x55).bind fun b59 =>
    (fJ2_get E b59 v1 z51).bind fun z59 =>
    (gcast z59.2 7 7 z59.1).bind fun x62 =>
    if ¬ v2 = 0 then (
      if ¬ v2 = (1 : Int32) then (
        if ¬ v2 = (2 : Int32) then (
          (grR z59.2 7 7 x62 3).bind fun x102 =>
          (gaI z59.2 100 x102 (v2 - 4)).bind fun x108 =>
          some (.inl (x108, z59.2)))
        else (
          (grI z59.2 7 7 x62 2).bind fun x95 =>
          some (.inl (x95, z59.2))))
      else (
        (grI z59.2 7 7 x62 1).bind fun x83 =>
        some (.inl (x83, z59.2))))
    else (
      (grI z59.2 7 7 x62 0).bind fun x71 =>
      some (.inl (x71, z59.2))))
  (fun y => some (.inr y))
def fX1_ending_b46 (E : g_E) (t : Nat) (v1 : Int32) (v2 : Int32) (G : g_G) : Option ((Int32 × g_G) ⊕ gX) :=
  fX1_ending_b51 E t v1 v2 1 G
def fX1_ending_b50 (E : g_E) (t : Nat) (v1 : Int32) (v2 : Int32) (G : g_G) : Option ((Int32 × g_G) ⊕ gX) :=
  fX1_ending_b51 E t v1 v2 0 G
def fX1_ending (E : g_E) (t : Nat) (v1 : Int32) (v2 : Int32) (G : g_G) : Option ((Int32 × g_G) ⊕ gX) :=
  (gchk G 1 (some t)).bind fun b1 =>
  (fX1_finds E b1 G).bind fun z1 =>
  if z1.1 = 0 then (
    fX1_ending_b50 E t v1 v2 z1.2)
  else (
    if v1 < 0 then (
      fX1_ending_b50 E t v1 v2 z1.2)
    else (
      (grR z1.2 1 1 (some t) 16).bind fun x13 =>
      (gchk z1.2 17 x13).bind fun b16 =>
      (fJ2_size E b16 z1.2).bind fun z16 =>
      if z16.1 ≤ v1 then (
        fX1_ending_b50 E t v1 v2 z16.2)
      else (
        (fX1_within E v2 0 2 z16.2).bind fun z25 =>
        if ¬ z25.1 = 0 then (
          fX1_ending_b46 E t v1 v2 z25.2)
        else (
          if v2 < (4 : Int32) then (
            fX1_ending_b50 E t v1 v2 z25.2)
          else (
            (grI z25.2 1 1 (some t) 0).bind fun x40 =>
            if x40 ≤ (v2 - 4) then (
              fX1_ending_b50 E t v1 v2 z25.2)
            else (
              fX1_ending_b46 E t v1 v2 z25.2))))))
theorem sX1_ending_b51 {p : Program} {l : Launch} {e : Env} {R : Room} {s : State} {m : MethodId} {args : Array Value} {below : List Frame} {meth : Method} {c : Code} {E : g_E} {D : g_D} (C : gC p R s m args meth c cX1_ending 4 RX1 "ending" (some .int) 227 7531 E D) (hlT : l.stackTraces = false) (htab : c.exceptionTable.toList = []) : ∀ (t : Nat) (v1 : Int32) (v2 : Int32) (s0 : Int32) (G : g_G) (q : (Int32 × g_G) ⊕ gX), fX1_ending_b51 E t v1 v2 s0 G = some q → ∀ (H : Heap) (locs : List Loc) (cells slots : Nat) (ls : Array Slot), gSt E D G H locs → gls ls 4 [(0, .inr (.inr (some t))), (1, .inl v1), (2, .inl v2)] → gTX p l e R s m args below meth c E D H locs cells slots gokI q (F0 m 51 ls [.int s0]) := by
  obtain ⟨hx, hb, hml, hown, hts, hKn, hRc, hRs, hc1, hc2, hRf, hRl, hr, hlk, hnm⟩ := id C
  intro t v1 v2 s0 G q h H locs cells slots ls hS hl
  unfold fX1_ending_b51 at h
  obtain ⟨o51, h51, ha51, hx51⟩ := g_catE h
  refine g_callSt (n := 1) (av := [.inl s0]) (rs := []) hx hb hml hown hts hKn hRc hRs hS hl (sX1_there l E D hlT h51) (lw_S q1721 q1722 q113 q1723) ⟨by decide, by decide, by decide +kernel⟩ ⟨by rw [hRf]; exact Nat.le_of_ble_eq_true rfl, by rw [hRl]; exact Nat.le_of_ble_eq_true rfl⟩ rfl rfl (Nat.le_of_ble_eq_true rfl) dX1_ending_51 (fun z51 e51 H locs cells slots hS => ?_) (fun k51 a51 G51 e51 n1 n2 nk nB H locs cells slots hS => ?_)
  · have h := ha51 _ e51
    refine g_aload_n hx hb hl 0 rfl dX1_ending_54 ?_
    refine g_rdR hx hb hown hts hKn hS h fd_1_1_16 rfl (Or.inl (hts _ q613)) (fun _ z => z) dX1_ending_55 (fun x55 h => ?_)
    refine g_iload_n hx hb hl 1 rfl dX1_ending_58 ?_
    obtain ⟨b59, hb59, h⟩ := g_bnd h
    obtain ⟨hr59, hk59⟩ := g_chk hb59
    obtain ⟨z59, h59, h⟩ := g_bnd h
    refine g_callV (n := 1) (b := b59) (av := [.inl v1]) (rs := []) hx hb hml hown hts hKn hRc hRs hS hl (sJ2_get l E D h59) (lw_V q996 q759 q760 q117 q761) ⟨rfl, by decide, by decide, by decide +kernel⟩ ⟨by rw [hRf]; exact Nat.le_of_ble_eq_true rfl, by rw [hRl]; exact Nat.le_of_ble_eq_true rfl⟩ (g_recv hKn hS hk59 (by decide) (by decide)) rfl (by rw [hr59]; rfl) (Nat.le_of_ble_eq_true rfl) dX1_ending_59 (fun H locs cells slots hS => ?_)
    refine g_castS (k := 7) hx hb hown hKn hS h (by decide) (by decide) (hts _ q962) dX1_ending_62 (fun x62 h => ?_)
    refine g_astore_n (l1 := [(3, .inr (.inr x62)), (0, .inr (.inr (some t))), (1, .inl v1), (2, .inl v2)]) hx hb hl (by decide) rfl dX1_ending_65 (fun ls hl => ?_)
    refine g_iload_n hx hb hl 3 rfl dX1_ending_66 ?_
    refine lv_if_ne (tgt := 77) hx hb dX1_ending_67 (by decide) (fun c_67 => ?_) (fun c_67 => ?_)
    · have h := g_ift c_67 h
      refine g_iload_n hx hb hl 3 rfl dX1_ending_77 ?_
      refine lv_iconst (v := 1) hx hb dX1_ending_78 (by decide) ?_
      refine lv_icmp_ne (tgt := 89) hx hb dX1_ending_79 (by decide) (fun c_79 => ?_) (fun c_79 => ?_)
      · have h := g_ift c_79 h
        refine g_iload_n hx hb hl 3 rfl dX1_ending_89 ?_
        refine lv_iconst (v := 2) hx hb dX1_ending_90 (by decide) ?_
        refine lv_icmp_ne (tgt := 101) hx hb dX1_ending_91 (by decide) (fun c_91 => ?_) (fun c_91 => ?_)
        · have h := g_ift c_91 h
          refine g_aload_n hx hb hl 0 rfl dX1_ending_101 ?_
          refine g_rdR hx hb hown hts hKn hS h fd_7_7_3 rfl (Or.inr ⟨_, gNest_use rfl (hKn.2.2.2.2.1 _ (gNest_in q975 rfl))⟩) (fun _ z => z) dX1_ending_102 (fun x102 h => ?_)
          refine g_iload_n hx hb hl 3 rfl dX1_ending_105 ?_
          refine lv_iconst (v := 4) hx hb dX1_ending_106 (by decide) ?_
          refine lv_isub hx hb dX1_ending_107 ?_
          refine g_ialoadG hx hb hKn hS h dX1_ending_108 (fun x108 h => ?_)
          exact g_retX (g_iretG hx hb hr hlk hKn hRc hRs hS (q := (x108, z59.2)) rfl dX1_ending_109) h rfl
        · have h := g_iff (fun z => z c_91) h
          refine g_aload_n hx hb hl 0 rfl dX1_ending_94 ?_
          refine g_rdI hx hb hown hts hKn hS h fd_7_7_2 rfl (Or.inr ⟨_, gNest_use rfl (hKn.2.2.2.2.1 _ (gNest_in q973 rfl))⟩) (fun _ z => z) dX1_ending_95 (fun x95 h => ?_)
          refine lv_goto (tgt := 109) hx hb dX1_ending_98 (by decide) ?_
          exact g_retX (g_iretG hx hb hr hlk hKn hRc hRs hS (q := (x95, z59.2)) rfl dX1_ending_109) h rfl
      · have h := g_iff (fun z => z c_79) h
        refine g_aload_n hx hb hl 0 rfl dX1_ending_82 ?_
        refine g_rdI hx hb hown hts hKn hS h fd_7_7_1 rfl (Or.inr ⟨_, gNest_use rfl (hKn.2.2.2.2.1 _ (gNest_in q971 rfl))⟩) (fun _ z => z) dX1_ending_83 (fun x83 h => ?_)
        refine lv_goto (tgt := 109) hx hb dX1_ending_86 (by decide) ?_
        exact g_retX (g_iretG hx hb hr hlk hKn hRc hRs hS (q := (x83, z59.2)) rfl dX1_ending_109) h rfl
    · have h := g_iff (fun z => z c_67) h
      refine g_aload_n hx hb hl 0 rfl dX1_ending_70 ?_
      refine g_rdI hx hb hown hts hKn hS h fd_7_7_0 rfl (Or.inr ⟨_, gNest_use rfl (hKn.2.2.2.2.1 _ (gNest_in q969 rfl))⟩) (fun _ z => z) dX1_ending_71 (fun x71 h => ?_)
      refine lv_goto (tgt := 109) hx hb dX1_ending_74 (by decide) ?_
      exact g_retX (g_iretG hx hb hr hlk hKn hRc hRs hS (q := (x71, z59.2)) rfl dX1_ending_109) h rfl
  · have h := hx51 _ e51
    exact g_outX (by rw [htab]; decide) hlk hKn hRc hRs hS n1 n2 nB nk h
theorem sX1_ending_b46 {p : Program} {l : Launch} {e : Env} {R : Room} {s : State} {m : MethodId} {args : Array Value} {below : List Frame} {meth : Method} {c : Code} {E : g_E} {D : g_D} (C : gC p R s m args meth c cX1_ending 4 RX1 "ending" (some .int) 227 7531 E D) (hlT : l.stackTraces = false) (htab : c.exceptionTable.toList = []) : ∀ (t : Nat) (v1 : Int32) (v2 : Int32) (G : g_G) (q : (Int32 × g_G) ⊕ gX), fX1_ending_b46 E t v1 v2 G = some q → ∀ (H : Heap) (locs : List Loc) (cells slots : Nat) (ls : Array Slot), gSt E D G H locs → gls ls 4 [(0, .inr (.inr (some t))), (1, .inl v1), (2, .inl v2)] → gTX p l e R s m args below meth c E D H locs cells slots gokI q (F0 m 46 ls []) := by
  obtain ⟨hx, hb, hml, hown, hts, hKn, hRc, hRs, hc1, hc2, hRf, hRl, hr, hlk, hnm⟩ := id C
  intro t v1 v2 G q h H locs cells slots ls hS hl
  unfold fX1_ending_b46 at h
  refine lv_iconst (v := 1) hx hb dX1_ending_46 (by decide) ?_
  refine lv_goto (tgt := 51) hx hb dX1_ending_47 (by decide) ?_
  exact sX1_ending_b51 C hlT htab _ _ _ _ _ _ h _ _ _ _ _ hS (gls_sub hl [0, 1, 2] rfl)
theorem sX1_ending_b50 {p : Program} {l : Launch} {e : Env} {R : Room} {s : State} {m : MethodId} {args : Array Value} {below : List Frame} {meth : Method} {c : Code} {E : g_E} {D : g_D} (C : gC p R s m args meth c cX1_ending 4 RX1 "ending" (some .int) 227 7531 E D) (hlT : l.stackTraces = false) (htab : c.exceptionTable.toList = []) : ∀ (t : Nat) (v1 : Int32) (v2 : Int32) (G : g_G) (q : (Int32 × g_G) ⊕ gX), fX1_ending_b50 E t v1 v2 G = some q → ∀ (H : Heap) (locs : List Loc) (cells slots : Nat) (ls : Array Slot), gSt E D G H locs → gls ls 4 [(0, .inr (.inr (some t))), (1, .inl v1), (2, .inl v2)] → gTX p l e R s m args below meth c E D H locs cells slots gokI q (F0 m 50 ls []) := by
  obtain ⟨hx, hb, hml, hown, hts, hKn, hRc, hRs, hc1, hc2, hRf, hRl, hr, hlk, hnm⟩ := id C
  intro t v1 v2 G q h H locs cells slots ls hS hl
  unfold fX1_ending_b50 at h
  refine lv_iconst (v := 0) hx hb dX1_ending_50 (by decide) ?_
  exact sX1_ending_b51 C hlT htab _ _ _ _ _ _ h _ _ _ _ _ hS (gls_sub hl [0, 1, 2] rfl)
theorem sX1_ending (l : Launch) (E : g_E) (D : g_D) (hlT : l.stackTraces = false) {t : Nat} {v1 : Int32} {v2 : Int32} {G : g_G} {q : (Int32 × g_G) ⊕ gX} (h : fX1_ending E t v1 v2 G = some q) : gMetX l E D yX1_ending (ws_ yX1_ending cX1_ending 4 (some .int)) 227 7531 [.inr (.inr (some t)), .inl v1, .inl v2] G gokI q := by
  refine gMetX.of (by decide +kernel) (Nat.le_of_ble_eq_true rfl) ?_
  intro p e R s m args below meth c C htab hS ls hl
  have C : gC p R s m args meth c cX1_ending 4 RX1 "ending" (some .int) 227 7531 E D := C
  obtain ⟨hx, hb, hml, hown, hts, hKn, hRc, hRs, hc1, hc2, hRf, hRl, hr, hlk, hnm⟩ := id C
  have hl : gls ls 4 [(0, .inr (.inr (some t))), (1, .inl v1), (2, .inl v2)] := hl
  generalize hH0 : s.heap = H at hS ⊢
  unfold fX1_ending at h
  refine g_aload_n hx hb hl 0 rfl dX1_ending_0 ?_
  obtain ⟨b1, hb1, h⟩ := g_bnd h
  obtain ⟨hr1, hk1⟩ := g_chk hb1
  obtain ⟨z1, h1, h⟩ := g_bnd h
  refine g_callV (n := 0) (b := b1) (av := []) (rs := []) hx hb hml hown hts hKn hRc hRs hS hl (sX1_finds l E D h1) (lw_V q720 q722 qs2 q113 q723) ⟨rfl, by decide, by decide, by decide +kernel⟩ ⟨by rw [hRf]; exact Nat.le_of_ble_eq_true rfl, by rw [hRl]; exact Nat.le_of_ble_eq_true rfl⟩ (g_recv hKn hS hk1 (by decide) (by decide)) rfl (by rw [hr1]; rfl) (Nat.le_of_ble_eq_true rfl) dX1_ending_1 (fun H locs cells slots hS => ?_)
  refine lv_if_eq (tgt := 50) hx hb dX1_ending_4 (by decide) (fun c_4 => ?_) (fun c_4 => ?_)
  · have h := g_ift c_4 h
    exact sX1_ending_b50 C hlT htab _ _ _ _ _ h _ _ _ _ _ hS (gls_sub hl [0, 1, 2] rfl)
  · have h := g_iff c_4 h
    refine g_iload_n hx hb hl 1 rfl dX1_ending_7 ?_
    refine lv_if_lt (tgt := 50) hx hb dX1_ending_8 (by decide) (fun c_8 => ?_) (fun c_8 => ?_)
    · have h := g_ift c_8 h
      exact sX1_ending_b50 C hlT htab _ _ _ _ _ h _ _ _ _ _ hS (gls_sub hl [0, 1, 2] rfl)
    · have h := g_iff c_8 h
      refine g_iload_n hx hb hl 1 rfl dX1_ending_11 ?_
      refine g_aload_n hx hb hl 0 rfl dX1_ending_12 ?_
      refine g_rdR hx hb hown hts hKn hS h fd_1_1_16 rfl (Or.inl (hts _ q613)) (fun _ z => z) dX1_ending_13 (fun x13 h => ?_)
      obtain ⟨b16, hb16, h⟩ := g_bnd h
      obtain ⟨hr16, hk16⟩ := g_chk hb16
      obtain ⟨z16, h16, h⟩ := g_bnd h
      refine g_callV (n := 0) (b := b16) (av := []) (rs := [.inl v1]) hx hb hml hown hts hKn hRc hRs hS hl (sJ2_size l E D h16) (lw_V q995 q782 q783 q117 q784) ⟨rfl, by decide, by decide, by decide +kernel⟩ ⟨by rw [hRf]; exact Nat.le_of_ble_eq_true rfl, by rw [hRl]; exact Nat.le_of_ble_eq_true rfl⟩ (g_recv hKn hS hk16 (by decide) (by decide)) rfl (by rw [hr16]; rfl) (Nat.le_of_ble_eq_true rfl) dX1_ending_16 (fun H locs cells slots hS => ?_)
      refine lv_icmp_ge (tgt := 50) hx hb dX1_ending_19 (by decide) (fun c_19 => ?_) (fun c_19 => ?_)
      · have h := g_ift c_19 h
        exact sX1_ending_b50 C hlT htab _ _ _ _ _ h _ _ _ _ _ hS (gls_sub hl [0, 1, 2] rfl)
      · have h := g_iff c_19 h
        refine g_iload_n hx hb hl 2 rfl dX1_ending_22 ?_
        refine lv_iconst (v := 0) hx hb dX1_ending_23 (by decide) ?_
        refine lv_iconst (v := 2) hx hb dX1_ending_24 (by decide) ?_
        obtain ⟨z25, h25, h⟩ := g_bnd h
        refine g_callS (n := 3) (av := [.inl v2, .inl 0, .inl 2]) (rs := []) hx hb hml hown hts hKn hRc hRs hS hl (sX1_within l E D h25) (lw_S q713 q714 q113 q715) ⟨by decide, by decide, by decide +kernel⟩ ⟨by rw [hRf]; exact Nat.le_of_ble_eq_true rfl, by rw [hRl]; exact Nat.le_of_ble_eq_true rfl⟩ rfl rfl (Nat.le_of_ble_eq_true rfl) dX1_ending_25 (fun H locs cells slots hS => ?_)
        refine lv_if_ne (tgt := 46) hx hb dX1_ending_28 (by decide) (fun c_28 => ?_) (fun c_28 => ?_)
        · have h := g_ift c_28 h
          exact sX1_ending_b46 C hlT htab _ _ _ _ _ h _ _ _ _ _ hS (gls_sub hl [0, 1, 2] rfl)
        · have h := g_iff (fun z => z c_28) h
          refine g_iload_n hx hb hl 2 rfl dX1_ending_31 ?_
          refine lv_iconst (v := 4) hx hb dX1_ending_32 (by decide) ?_
          refine lv_icmp_lt (tgt := 50) hx hb dX1_ending_33 (by decide) (fun c_33 => ?_) (fun c_33 => ?_)
          · have h := g_ift c_33 h
            exact sX1_ending_b50 C hlT htab _ _ _ _ _ h _ _ _ _ _ hS (gls_sub hl [0, 1, 2] rfl)
          · have h := g_iff c_33 h
            refine g_iload_n hx hb hl 2 rfl dX1_ending_36 ?_
            refine lv_iconst (v := 4) hx hb dX1_ending_37 (by decide) ?_
            refine lv_isub hx hb dX1_ending_38 ?_
            refine g_aload_n hx hb hl 0 rfl dX1_ending_39 ?_
            refine g_rdI hx hb hown hts hKn hS h fd_1_1_0 rfl (Or.inl (hts _ q597)) (fun _ z => z) dX1_ending_40 (fun x40 h => ?_)
            refine lv_icmp_ge (tgt := 50) hx hb dX1_ending_43 (by decide) (fun c_43 => ?_) (fun c_43 => ?_)
            · have h := g_ift c_43 h
              exact sX1_ending_b50 C hlT htab _ _ _ _ _ h _ _ _ _ _ hS (gls_sub hl [0, 1, 2] rfl)
            · have h := g_iff c_43 h
              exact sX1_ending_b46 C hlT htab _ _ _ _ _ h _ _ _ _ _ hS (gls_sub hl [0, 1, 2] rfl)
