set_option maxRecDepth 100000
/-- SendHallModel.together(I)V -/
def fX4_together_b120 (E : g_E) : Nat → Nat → Int32 → g_G → Option (g_G)
  | 0, _, _, _ => none
  | n + 1, t, v4, G =>
    (grI G 4 4 (some t) 3).bind fun x123 =>
    if x123 ≤ v4 then (
      some G)
    else (
      (gchk G 4 (some t)).bind fun b132 =>
      (fX4_goOn E b132 v4 G).bind fun z132 =>
      fX4_together_b120 E n t (v4 + 1) z132)
def fX4_together_b111 (E : g_E) (k57 : Nat → Int32 → Int32 → Int32 → Int32 → g_G → Option (g_G)) (t : Nat) (v1 : Int32) (v2 : Int32) (v3 : Int32) (v4 : Int32) (G : g_G) : Option (g_G) :=
  k57 t v1 v2 v3 (v4 + 1) G
def fX4_together_b57 (E : g_E) : Nat → Nat → Int32 → Int32 → Int32 → Int32 → g_G → Option (g_G)
  | 0, _, _, _, _, _, _ => none
  | n + 1, t, v1, v2, v3, v4, G =>
    (grI G 4 4 (some t) 3).bind fun x60 =>
    if x60 ≤ v4 then (
      fX4_together_b120 E gFU t 0 G)
    else (
      (gchk G 4 (some t)).bind fun b70 =>
      (fX4_upTo E b70 v4 v2 G).bind fun z70 =>
      (grR z70 4 4 (some t) 36).bind fun x74 =>
      (gaI z70 100 x74 v4).bind fun x80 =>
      (gsaI E z70 x74 v4 (x80 + 1)).bind fun G83 =>
      if ¬ v1 = (7 : Int32) then (
        fX4_together_b111 E (fX4_together_b57 E n) t v1 v2 v3 v4 G83)
      else (
        (grR G83 4 4 (some t) 27).bind fun x95 =>
        (gchk G83 4 (some t)).bind fun b102 =>
        (fX4_own E b102 v4 0 G83).bind fun z102 =>
        (gaI z102.2 100 x95 z102.1).bind fun x105 =>
        (gchk z102.2 4 (some t)).bind fun b108 =>
        (fX4_put E b108 v4 (2 + x105) v3 z102.2).bind fun z108 =>
        fX4_together_b111 E (fX4_together_b57 E n) t v1 v2 v3 v4 z108))
def fX4_together_b46 (E : g_E) (k7 : Nat → Int32 → Int32 → Int32 → Int32 → g_G → Option (g_G)) (t : Nat) (v1 : Int32) (v2 : Int32) (v4 : Int32) (s0 : Int32) (s1 : Int32) (G : g_G) : Option (g_G) :=
  k7 t v1 v2 (s0 + s1) (v4 + 1) G
def fX4_together_b7 (E : g_E) : Nat → Nat → Int32 → Int32 → Int32 → Int32 → g_G → Option (g_G)
  | 0, _, _, _, _, _, _ => none
  | n + 1, t, v1, v2, v3, v4, G =>
    (grI G 4 4 (some t) 3).bind fun x10 =>
    if x10 ≤ v4 then (
      fX4_together_b57 E gFU t v1 v2 v3 0 G)
    else (
      (grR G 4 4 (some t) 36).bind fun x18 =>
      (gaI G 100 x18 v4).bind fun x23 =>
      if ¬ v1 = (7 : Int32) then (
        fX4_together_b46 E (fX4_together_b7 E n) t v1 (if v2 < x23 then x23 else v2) v4 v3 0 G)
      else (
        (gchk G 4 (some t)).bind fun b39 =>
        (fX4_asked E b39 v4 0 G).bind fun z39 =>
        fX4_together_b46 E (fX4_together_b7 E n) t v1 (if v2 < x23 then x23 else v2) v4 v3 z39.1 z39.2))
def fX4_together (E : g_E) (t : Nat) (v1 : Int32) (G : g_G) : Option (g_G) :=
  fX4_together_b7 E gFU t v1 0 0 0 G
theorem sX4_together_b120 {p : Program} {l : Launch} {e : Env} {R : Room} {s : State} {m : MethodId} {args : Array Value} {below : List Frame} {meth : Method} {c : Code} {E : g_E} {D : g_D} (C : gC p R s m args meth c cX4_together 5 RX4 "together" (none) 7 205 E D) : ∀ (n : Nat) (t : Nat) (v4 : Int32) (G : g_G) (q : g_G), fX4_together_b120 E n t v4 G = some q → ∀ (H : Heap) (locs : List Loc) (cells slots : Nat) (ls : Array Slot), gSt E D G H locs → gls ls 5 [(0, .inr (.inr (some t))), (4, .inl v4)] → gT p l e R s m args below meth c E D H locs cells slots none q (F0 m 120 ls []) := by
  obtain ⟨hx, hb, hml, hown, hts, hKn, hRc, hRs, hc1, hc2, hRf, hRl, hr, hlk, hnm⟩ := id C
  intro n
  induction n with
  | zero =>
    intro t v4 G q h
    exact g_no h
  | succ n ih =>
    intro t v4 G q h H locs cells slots ls hS hl
    rw [fX4_together_b120] at h
    refine g_iload hx hb hl 1 rfl dX4_together_120 ?_
    refine g_aload_n hx hb hl 0 rfl dX4_together_122 ?_
    refine g_rdI hx hb hown hts hKn hS h fd_4_4_3 rfl (Or.inl (hts _ q1868)) (fun _ z => z) dX4_together_123 (fun x123 h => ?_)
    refine lv_icmp_ge (tgt := 141) hx hb dX4_together_126 (by decide) (fun c_126 => ?_) (fun c_126 => ?_)
    · have h := g_ift c_126 h
      exact g_vretG hx hb hr hlk hKn hRc hRs hS h dX4_together_141
    · have h := g_iff c_126 h
      refine g_aload_n hx hb hl 0 rfl dX4_together_129 ?_
      refine g_iload hx hb hl 1 rfl dX4_together_130 ?_
      obtain ⟨b132, hb132, h⟩ := g_bnd h
      obtain ⟨hr132, hk132⟩ := g_chk hb132
      obtain ⟨z132, h132, h⟩ := g_bnd h
      refine g_callV (n := 1) (b := b132) (av := [.inl v4]) (rs := []) hx hb hml hown hts hKn hRc hRs hS hl (sX4_goOn l E D h132) (lw_V q2324 q2326 qs95 q135 q2327) ⟨rfl, by decide, by decide, by decide +kernel⟩ ⟨by rw [hRf]; exact Nat.le_of_ble_eq_true rfl, by rw [hRl]; exact Nat.le_of_ble_eq_true rfl⟩ (g_recv hKn hS hk132 (by decide) (by decide)) rfl (by rw [hr132]; rfl) (Nat.le_of_ble_eq_true rfl) dX4_together_132 (fun H locs cells slots hS => ?_)
      refine g_iinc (l1 := [(4, .inl (v4 + 1)), (0, .inr (.inr (some t)))]) (v := (v4 + 1)) hx hb hl (k := 1) rfl (by rfl) (by decide) rfl dX4_together_135 (fun ls hl => ?_)
      refine lv_goto (tgt := 120) hx hb dX4_together_138 (by decide) ?_
      exact ih _ _ _ _ h _ _ _ _ _ hS (gls_sub hl [1, 0] rfl)
theorem sX4_together_b111 {p : Program} {l : Launch} {e : Env} {R : Room} {s : State} {m : MethodId} {args : Array Value} {below : List Frame} {meth : Method} {c : Code} {E : g_E} {D : g_D} (C : gC p R s m args meth c cX4_together 5 RX4 "together" (none) 7 205 E D) {k57 : Nat → Int32 → Int32 → Int32 → Int32 → g_G → Option (g_G)} (hk57 : ∀ (t : Nat) (v1 : Int32) (v2 : Int32) (v3 : Int32) (v4 : Int32) (G : g_G) (q : g_G), k57 t v1 v2 v3 v4 G = some q → ∀ (H : Heap) (locs : List Loc) (cells slots : Nat) (ls : Array Slot), gSt E D G H locs → gls ls 5 [(0, .inr (.inr (some t))), (1, .inl v1), (2, .inl v2), (3, .inl v3), (4, .inl v4)] → gT p l e R s m args below meth c E D H locs cells slots none q (F0 m 57 ls [])) : ∀ (t : Nat) (v1 : Int32) (v2 : Int32) (v3 : Int32) (v4 : Int32) (G : g_G) (q : g_G), fX4_together_b111 E k57 t v1 v2 v3 v4 G = some q → ∀ (H : Heap) (locs : List Loc) (cells slots : Nat) (ls : Array Slot), gSt E D G H locs → gls ls 5 [(0, .inr (.inr (some t))), (1, .inl v1), (2, .inl v2), (3, .inl v3), (4, .inl v4)] → gT p l e R s m args below meth c E D H locs cells slots none q (F0 m 111 ls []) := by
  obtain ⟨hx, hb, hml, hown, hts, hKn, hRc, hRs, hc1, hc2, hRf, hRl, hr, hlk, hnm⟩ := id C
  intro t v1 v2 v3 v4 G q h H locs cells slots ls hS hl
  unfold fX4_together_b111 at h
  refine g_iinc (l1 := [(4, .inl (v4 + 1)), (0, .inr (.inr (some t))), (1, .inl v1), (2, .inl v2), (3, .inl v3)]) (v := (v4 + 1)) hx hb hl (k := 4) rfl (by rfl) (by decide) rfl dX4_together_111 (fun ls hl => ?_)
  refine lv_goto (tgt := 57) hx hb dX4_together_114 (by decide) ?_
  exact hk57 _ _ _ _ _ _ _ h _ _ _ _ _ hS (gls_sub hl [1, 2, 3, 4, 0] rfl)
theorem sX4_together_b57 {p : Program} {l : Launch} {e : Env} {R : Room} {s : State} {m : MethodId} {args : Array Value} {below : List Frame} {meth : Method} {c : Code} {E : g_E} {D : g_D} (C : gC p R s m args meth c cX4_together 5 RX4 "together" (none) 7 205 E D) : ∀ (n : Nat) (t : Nat) (v1 : Int32) (v2 : Int32) (v3 : Int32) (v4 : Int32) (G : g_G) (q : g_G), fX4_together_b57 E n t v1 v2 v3 v4 G = some q → ∀ (H : Heap) (locs : List Loc) (cells slots : Nat) (ls : Array Slot), gSt E D G H locs → gls ls 5 [(0, .inr (.inr (some t))), (1, .inl v1), (2, .inl v2), (3, .inl v3), (4, .inl v4)] → gT p l e R s m args below meth c E D H locs cells slots none q (F0 m 57 ls []) := by
  obtain ⟨hx, hb, hml, hown, hts, hKn, hRc, hRs, hc1, hc2, hRf, hRl, hr, hlk, hnm⟩ := id C
  intro n
  induction n with
  | zero =>
    intro t v1 v2 v3 v4 G q h
    exact g_no h
  | succ n ih =>
    intro t v1 v2 v3 v4 G q h H locs cells slots ls hS hl
    rw [fX4_together_b57] at h
    refine g_iload hx hb hl 4 rfl dX4_together_57 ?_
    refine g_aload_n hx hb hl 0 rfl dX4_together_59 ?_
    refine g_rdI hx hb hown hts hKn hS h fd_4_4_3 rfl (Or.inl (hts _ q1868)) (fun _ z => z) dX4_together_60 (fun x60 h => ?_)
    refine lv_icmp_ge (tgt := 117) hx hb dX4_together_63 (by decide) (fun c_63 => ?_) (fun c_63 => ?_)
    · have h := g_ift c_63 h
      refine lv_iconst (v := 0) hx hb dX4_together_117 (by decide) ?_
      refine g_istore (l1 := [(4, .inl 0), (0, .inr (.inr (some t))), (1, .inl v1), (2, .inl v2), (3, .inl v3)]) hx hb hl (by decide) rfl dX4_together_118 (fun ls hl => ?_)
      exact sX4_together_b120 C gFU _ _ _ _ h _ _ _ _ _ hS (gls_sub hl [1, 0] rfl)
    · have h := g_iff c_63 h
      refine g_aload_n hx hb hl 0 rfl dX4_together_66 ?_
      refine g_iload hx hb hl 4 rfl dX4_together_67 ?_
      refine g_iload_n hx hb hl 2 rfl dX4_together_69 ?_
      obtain ⟨b70, hb70, h⟩ := g_bnd h
      obtain ⟨hr70, hk70⟩ := g_chk hb70
      obtain ⟨z70, h70, h⟩ := g_bnd h
      refine g_callV (n := 2) (b := b70) (av := [.inl v4, .inl v2]) (rs := []) hx hb hml hown hts hKn hRc hRs hS hl (sX4_upTo l E D h70) (lw_V q2333 q2335 qs97 q135 q2336) ⟨rfl, by decide, by decide, by decide +kernel⟩ ⟨by rw [hRf]; exact Nat.le_of_ble_eq_true rfl, by rw [hRl]; exact Nat.le_of_ble_eq_true rfl⟩ (g_recv hKn hS hk70 (by decide) (by decide)) rfl (by rw [hr70]; rfl) (Nat.le_of_ble_eq_true rfl) dX4_together_70 (fun H locs cells slots hS => ?_)
      refine g_aload_n hx hb hl 0 rfl dX4_together_73 ?_
      refine g_rdR hx hb hown hts hKn hS h fd_4_4_36 rfl (Or.inl (hts _ q1901)) (fun _ z => z) dX4_together_74 (fun x74 h => ?_)
      refine g_iload hx hb hl 4 rfl dX4_together_77 ?_
      refine lv_dup2_11 hx hb dX4_together_79 rfl (by first | exact va_rf_cat _ | rfl | exact g_catA _) ?_
      refine g_ialoadG hx hb hKn hS h dX4_together_80 (fun x80 h => ?_)
      refine lv_iconst (v := 1) hx hb dX4_together_81 (by decide) ?_
      refine lv_iadd hx hb dX4_together_82 ?_
      refine g_iastoreG hx hb hKn hS h dX4_together_83 (fun G83 h H locs hS => ?_)
      refine g_iload_n hx hb hl 1 rfl dX4_together_84 ?_
      refine lv_bipush (v := 7) hx hb dX4_together_85 (by decide) ?_
      refine lv_icmp_ne (tgt := 111) hx hb dX4_together_87 (by decide) (fun c_87 => ?_) (fun c_87 => ?_)
      · have h := g_ift c_87 h
        exact sX4_together_b111 C ih _ _ _ _ _ _ _ h _ _ _ _ _ hS (gls_sub hl [0, 1, 2, 3, 4] rfl)
      · have h := g_iff (fun z => z c_87) h
        refine g_aload_n hx hb hl 0 rfl dX4_together_90 ?_
        refine g_iload hx hb hl 4 rfl dX4_together_91 ?_
        refine lv_iconst (v := 2) hx hb dX4_together_93 (by decide) ?_
        refine g_aload_n hx hb hl 0 rfl dX4_together_94 ?_
        refine g_rdR hx hb hown hts hKn hS h fd_4_4_27 rfl (Or.inl (hts _ q1892)) (fun _ z => z) dX4_together_95 (fun x95 h => ?_)
        refine g_aload_n hx hb hl 0 rfl dX4_together_98 ?_
        refine g_iload hx hb hl 4 rfl dX4_together_99 ?_
        refine lv_iconst (v := 0) hx hb dX4_together_101 (by decide) ?_
        obtain ⟨b102, hb102, h⟩ := g_bnd h
        obtain ⟨hr102, hk102⟩ := g_chk hb102
        obtain ⟨z102, h102, h⟩ := g_bnd h
        refine g_callV (n := 2) (b := b102) (av := [.inl v4, .inl 0]) (rs := [.inr (.inr x95), .inl 2, .inl v4, .inr (.inr (some t))]) hx hb hml hown hts hKn hRc hRs hS hl (sX4_own l E D h102) (lw_V q2245 q2247 qs77 q135 q2248) ⟨rfl, by decide, by decide, by decide +kernel⟩ ⟨by rw [hRf]; exact Nat.le_of_ble_eq_true rfl, by rw [hRl]; exact Nat.le_of_ble_eq_true rfl⟩ (g_recv hKn hS hk102 (by decide) (by decide)) rfl (by rw [hr102]; rfl) (Nat.le_of_ble_eq_true rfl) dX4_together_102 (fun H locs cells slots hS => ?_)
        refine g_ialoadG hx hb hKn hS h dX4_together_105 (fun x105 h => ?_)
        refine lv_iadd hx hb dX4_together_106 ?_
        refine g_iload_n hx hb hl 3 rfl dX4_together_107 ?_
        obtain ⟨b108, hb108, h⟩ := g_bnd h
        obtain ⟨hr108, hk108⟩ := g_chk hb108
        obtain ⟨z108, h108, h⟩ := g_bnd h
        refine g_callV (n := 3) (b := b108) (av := [.inl v4, .inl (2 + x105), .inl v3]) (rs := []) hx hb hml hown hts hKn hRc hRs hS hl (sX4_put l E D h108) (lw_V q2233 q2235 qs74 q135 q2236) ⟨rfl, by decide, by decide, by decide +kernel⟩ ⟨by rw [hRf]; exact Nat.le_of_ble_eq_true rfl, by rw [hRl]; exact Nat.le_of_ble_eq_true rfl⟩ (g_recv hKn hS hk108 (by decide) (by decide)) rfl (by rw [hr108]; rfl) (Nat.le_of_ble_eq_true rfl) dX4_together_108 (fun H locs cells slots hS => ?_)
        exact sX4_together_b111 C ih _ _ _ _ _ _ _ h _ _ _ _ _ hS (gls_sub hl [0, 1, 2, 3, 4] rfl)
theorem sX4_together_b46 {p : Program} {l : Launch} {e : Env} {R : Room} {s : State} {m : MethodId} {args : Array Value} {below : List Frame} {meth : Method} {c : Code} {E : g_E} {D : g_D} (C : gC p R s m args meth c cX4_together 5 RX4 "together" (none) 7 205 E D) {k7 : Nat → Int32 → Int32 → Int32 → Int32 → g_G → Option (g_G)} (hk7 : ∀ (t : Nat) (v1 : Int32) (v2 : Int32) (v3 : Int32) (v4 : Int32) (G : g_G) (q : g_G), k7 t v1 v2 v3 v4 G = some q → ∀ (H : Heap) (locs : List Loc) (cells slots : Nat) (ls : Array Slot), gSt E D G H locs → gls ls 5 [(0, .inr (.inr (some t))), (1, .inl v1), (2, .inl v2), (3, .inl v3), (4, .inl v4)] → gT p l e R s m args below meth c E D H locs cells slots none q (F0 m 7 ls [])) : ∀ (t : Nat) (v1 : Int32) (v2 : Int32) (v4 : Int32) (s0 : Int32) (s1 : Int32) (G : g_G) (q : g_G), fX4_together_b46 E k7 t v1 v2 v4 s0 s1 G = some q → ∀ (H : Heap) (locs : List Loc) (cells slots : Nat) (ls : Array Slot), gSt E D G H locs → gls ls 5 [(0, .inr (.inr (some t))), (1, .inl v1), (2, .inl v2), (4, .inl v4)] → gT p l e R s m args below meth c E D H locs cells slots none q (F0 m 46 ls [.int s1, .int s0]) := by
  obtain ⟨hx, hb, hml, hown, hts, hKn, hRc, hRs, hc1, hc2, hRf, hRl, hr, hlk, hnm⟩ := id C
  intro t v1 v2 v4 s0 s1 G q h H locs cells slots ls hS hl
  unfold fX4_together_b46 at h
  refine lv_iadd hx hb dX4_together_46 ?_
  refine g_istore_n (l1 := [(3, .inl (s0 + s1)), (0, .inr (.inr (some t))), (1, .inl v1), (2, .inl v2), (4, .inl v4)]) hx hb hl (by decide) rfl dX4_together_47 (fun ls hl => ?_)
  refine g_iinc (l1 := [(4, .inl (v4 + 1)), (3, .inl (s0 + s1)), (0, .inr (.inr (some t))), (1, .inl v1), (2, .inl v2)]) (v := (v4 + 1)) hx hb hl (k := 4) rfl (by rfl) (by decide) rfl dX4_together_48 (fun ls hl => ?_)
  refine lv_goto (tgt := 7) hx hb dX4_together_51 (by decide) ?_
  exact hk7 _ _ _ _ _ _ _ h _ _ _ _ _ hS (gls_sub hl [2, 3, 4, 1, 0] rfl)
theorem sX4_together_b7 {p : Program} {l : Launch} {e : Env} {R : Room} {s : State} {m : MethodId} {args : Array Value} {below : List Frame} {meth : Method} {c : Code} {E : g_E} {D : g_D} (C : gC p R s m args meth c cX4_together 5 RX4 "together" (none) 7 205 E D) : ∀ (n : Nat) (t : Nat) (v1 : Int32) (v2 : Int32) (v3 : Int32) (v4 : Int32) (G : g_G) (q : g_G), fX4_together_b7 E n t v1 v2 v3 v4 G = some q → ∀ (H : Heap) (locs : List Loc) (cells slots : Nat) (ls : Array Slot), gSt E D G H locs → gls ls 5 [(0, .inr (.inr (some t))), (1, .inl v1), (2, .inl v2), (3, .inl v3), (4, .inl v4)] → gT p l e R s m args below meth c E D H locs cells slots none q (F0 m 7 ls []) := by
  obtain ⟨hx, hb, hml, hown, hts, hKn, hRc, hRs, hc1, hc2, hRf, hRl, hr, hlk, hnm⟩ := id C
  intro n
  induction n with
  | zero =>
    intro t v1 v2 v3 v4 G q h
    exact g_no h
  | succ n ih =>
    intro t v1 v2 v3 v4 G q h H locs cells slots ls hS hl
    rw [fX4_together_b7] at h
    refine g_iload hx hb hl 4 rfl dX4_together_7 ?_
    refine g_aload_n hx hb hl 0 rfl dX4_together_9 ?_
    refine g_rdI hx hb hown hts hKn hS h fd_4_4_3 rfl (Or.inl (hts _ q1868)) (fun _ z => z) dX4_together_10 (fun x10 h => ?_)
    refine lv_icmp_ge (tgt := 54) hx hb dX4_together_13 (by decide) (fun c_13 => ?_) (fun c_13 => ?_)
    · have h := g_ift c_13 h
      refine lv_iconst (v := 0) hx hb dX4_together_54 (by decide) ?_
      refine g_istore (l1 := [(4, .inl 0), (0, .inr (.inr (some t))), (1, .inl v1), (2, .inl v2), (3, .inl v3)]) hx hb hl (by decide) rfl dX4_together_55 (fun ls hl => ?_)
      exact sX4_together_b57 C gFU _ _ _ _ _ _ _ h _ _ _ _ _ hS (gls_sub hl [1, 2, 3, 4, 0] rfl)
    · have h := g_iff c_13 h
      refine g_iload_n hx hb hl 2 rfl dX4_together_16 ?_
      refine g_aload_n hx hb hl 0 rfl dX4_together_17 ?_
      refine g_rdR hx hb hown hts hKn hS h fd_4_4_36 rfl (Or.inl (hts _ q1901)) (fun _ z => z) dX4_together_18 (fun x18 h => ?_)
      refine g_iload hx hb hl 4 rfl dX4_together_21 ?_
      refine g_ialoadG hx hb hKn hS h dX4_together_23 (fun x23 h => ?_)
      refine g_mmax (rs := []) hx hb hml hown hRc hRs hS hl (hts _ q2332) (hts _ q283) (hts _ q127) (hts _ q284) (by decide +kernel) rfl (Nat.le_of_ble_eq_true rfl) ⟨by rw [hRf]; exact Nat.le_of_ble_eq_true rfl, by rw [hRl]; exact Nat.le_of_ble_eq_true rfl⟩ dX4_together_24 (fun cells slots => ?_)
      refine g_istore_n (l1 := [(2, .inl (if v2 < x23 then x23 else v2)), (0, .inr (.inr (some t))), (1, .inl v1), (3, .inl v3), (4, .inl v4)]) hx hb hl (by decide) rfl dX4_together_27 (fun ls hl => ?_)
      refine g_iload_n hx hb hl 3 rfl dX4_together_28 ?_
      refine g_iload_n hx hb hl 2 rfl dX4_together_29 ?_
      refine lv_bipush (v := 7) hx hb dX4_together_30 (by decide) ?_
      refine lv_icmp_ne (tgt := 45) hx hb dX4_together_32 (by decide) (fun c_32 => ?_) (fun c_32 => ?_)
      · have h := g_ift c_32 h
        refine lv_iconst (v := 0) hx hb dX4_together_45 (by decide) ?_
        exact sX4_together_b46 C ih _ _ _ _ _ _ _ _ h _ _ _ _ _ hS (gls_sub hl [1, 2, 0, 4] rfl)
      · have h := g_iff (fun z => z c_32) h
        refine g_aload_n hx hb hl 1 rfl dX4_together_35 ?_
        refine g_iload hx hb hl 4 rfl dX4_together_36 ?_
        refine lv_iconst (v := 0) hx hb dX4_together_38 (by decide) ?_
        obtain ⟨b39, hb39, h⟩ := g_bnd h
        obtain ⟨hr39, hk39⟩ := g_chk hb39
        obtain ⟨z39, h39, h⟩ := g_bnd h
        refine g_callV (n := 2) (b := b39) (av := [.inl v4, .inl 0]) (rs := [.inl v3]) hx hb hml hown hts hKn hRc hRs hS hl (sX4_asked l E D h39) (lw_V q2241 q2243 qs76 q135 q2244) ⟨rfl, by decide, by decide, by decide +kernel⟩ ⟨by rw [hRf]; exact Nat.le_of_ble_eq_true rfl, by rw [hRl]; exact Nat.le_of_ble_eq_true rfl⟩ (g_recv hKn hS hk39 (by decide) (by decide)) rfl (by rw [hr39]; rfl) (Nat.le_of_ble_eq_true rfl) dX4_together_39 (fun H locs cells slots hS => ?_)
        refine lv_goto (tgt := 46) hx hb dX4_together_42 (by decide) ?_
        exact sX4_together_b46 C ih _ _ _ _ _ _ _ _ h _ _ _ _ _ hS (gls_sub hl [1, 2, 0, 4] rfl)
theorem sX4_together (l : Launch) (E : g_E) (D : g_D) {t : Nat} {v1 : Int32} {G : g_G} {q : g_G} (h : fX4_together E t v1 G = some q) : gMet l E D yX4_together (ws_ yX4_together cX4_together 5 (none)) 7 205 [.inr (.inr (some t)), .inl v1] G none q := by
  refine gMet.of (by decide +kernel) (Nat.le_of_ble_eq_true rfl) ?_
  intro p e R s m args below meth c C hS ls hl
  have C : gC p R s m args meth c cX4_together 5 RX4 "together" (none) 7 205 E D := C
  obtain ⟨hx, hb, hml, hown, hts, hKn, hRc, hRs, hc1, hc2, hRf, hRl, hr, hlk, hnm⟩ := id C
  have hl : gls ls 5 [(0, .inr (.inr (some t))), (1, .inl v1)] := hl
  generalize s.heap = H at hS ⊢
  unfold fX4_together at h
  refine lv_iconst (v := 0) hx hb dX4_together_0 (by decide) ?_
  refine g_istore_n (l1 := [(2, .inl 0), (0, .inr (.inr (some t))), (1, .inl v1)]) hx hb hl (by decide) rfl dX4_together_1 (fun ls hl => ?_)
  refine lv_iconst (v := 0) hx hb dX4_together_2 (by decide) ?_
  refine g_istore_n (l1 := [(3, .inl 0), (2, .inl 0), (0, .inr (.inr (some t))), (1, .inl v1)]) hx hb hl (by decide) rfl dX4_together_3 (fun ls hl => ?_)
  refine lv_iconst (v := 0) hx hb dX4_together_4 (by decide) ?_
  refine g_istore (l1 := [(4, .inl 0), (3, .inl 0), (2, .inl 0), (0, .inr (.inr (some t))), (1, .inl v1)]) hx hb hl (by decide) rfl dX4_together_5 (fun ls hl => ?_)
  exact sX4_together_b7 C gFU _ _ _ _ _ _ _ h _ _ _ _ _ hS (gls_sub hl [3, 4, 2, 1, 0] rfl)
/-- SendHall$Send.comes(LSendHall$Life;I)LSendHall$Step; -/
def fX9_comes_b24 (E : g_E) (t : Nat) (v1 : Option Nat) (v2 : Int32) (s0 : Option Nat) (s1 : Int32) (s2 : Int32) (G : g_G) : Option (Option Nat × g_G) :=
  (gsaZ E G s0 s1 s2).bind fun G24 =>
  (gchk G24 15 (some t)).bind fun b28 =>
  (fX7_comes E b28 v1 v2 G24).bind fun z28 =>
  some (z28.1, z28.2)
def fX9_comes (E : g_E) (t : Nat) (v1 : Option Nat) (v2 : Int32) (G : g_G) : Option (Option Nat × g_G) :=
  (grR G 3 3 v1 4).bind fun x1 =>
  (gchk G 15 (some t)).bind fun b10 =>
  (fX9_to E b10 v1 v2 G).bind fun z10 =>
  (fX7_isOther E v1 v2 z10.1 z10.2).bind fun z13 =>
  if ¬ z13.1 = 0 then (
    fX9_comes_b24 E t v1 v2 x1 v2 0 z13.2)
  else (
    fX9_comes_b24 E t v1 v2 x1 v2 1 z13.2)
theorem sX9_comes_b24 {p : Program} {l : Launch} {e : Env} {R : Room} {s : State} {m : MethodId} {args : Array Value} {below : List Frame} {meth : Method} {c : Code} {E : g_E} {D : g_D} (C : gC p R s m args meth c cX9_comes 3 RX9 "comes" (some (.object "SendHall$Step")) 219 7326 E D) : ∀ (t : Nat) (v1 : Option Nat) (v2 : Int32) (s0 : Option Nat) (s1 : Int32) (s2 : Int32) (G : g_G) (q : Option Nat × g_G), fX9_comes_b24 E t v1 v2 s0 s1 s2 G = some q → ∀ (H : Heap) (locs : List Loc) (cells slots : Nat) (ls : Array Slot), gSt E D G H locs → gls ls 3 [(0, .inr (.inr (some t))), (1, .inr (.inr v1)), (2, .inl v2)] → gT p l e R s m args below meth c E D H locs cells slots (some (va_rf q.1)) q.2 (F0 m 24 ls [.int s2, .int s1, va_rf s0]) := by
  obtain ⟨hx, hb, hml, hown, hts, hKn, hRc, hRs, hc1, hc2, hRf, hRl, hr, hlk, hnm⟩ := id C
  intro t v1 v2 s0 s1 s2 G q h H locs cells slots ls hS hl
  unfold fX9_comes_b24 at h
  refine g_zastoreG hx hb hKn hS h dX9_comes_24 (fun G24 h H locs hS => ?_)
  refine g_aload_n hx hb hl 0 rfl dX9_comes_25 ?_
  refine g_aload_n hx hb hl 1 rfl dX9_comes_26 ?_
  refine g_iload_n hx hb hl 2 rfl dX9_comes_27 ?_
  obtain ⟨b28, hb28, h⟩ := g_bnd h
  obtain ⟨hr28, hk28⟩ := g_chk hb28
  obtain ⟨z28, h28, h⟩ := g_bnd h
  refine g_callSX (n := 2) (b := b28) (av := [.inr (.inr v1), .inl v2]) (rs := []) (up := "SendHall$Talk") hx hb hml hown hts hKn hRc hRs hS hl (C := "SendHall$Send") (hKn.obj (k := 15) (by decide) (by decide)).2 (sX7_comes l E D h28) (lw_meth q812) (hts _ q141) (hts _ q807) (hts _ q808) (hts _ q810) (hts _ q811) (hts _ q737) ⟨by decide, by decide +kernel⟩ ⟨by rw [hRf]; exact Nat.le_of_ble_eq_true rfl, by rw [hRl]; exact Nat.le_of_ble_eq_true rfl⟩ (g_recv hKn hS hk28 (by decide) (by decide)) rfl (by rw [hr28]; rfl) (Nat.le_of_ble_eq_true rfl) dX9_comes_28 (fun H locs cells slots hS => ?_)
  exact g_aretG hx hb hr (by first | exact Or.inl ⟨_, rfl⟩ | exact Or.inr ⟨_, rfl⟩) hlk hKn hRc hRs hS h dX9_comes_31
theorem sX9_comes (l : Launch) (E : g_E) (D : g_D) {t : Nat} {v1 : Option Nat} {v2 : Int32} {G : g_G} {q : Option Nat × g_G} (h : fX9_comes E t v1 v2 G = some q) : gMet l E D yX9_comes (ws_ yX9_comes cX9_comes 3 (some (.object "SendHall$Step"))) 219 7326 [.inr (.inr (some t)), .inr (.inr v1), .inl v2] G (some (va_rf q.1)) q.2 := by
  refine gMet.of (by decide +kernel) (Nat.le_of_ble_eq_true rfl) ?_
  intro p e R s m args below meth c C hS ls hl
  have C : gC p R s m args meth c cX9_comes 3 RX9 "comes" (some (.object "SendHall$Step")) 219 7326 E D := C
  obtain ⟨hx, hb, hml, hown, hts, hKn, hRc, hRs, hc1, hc2, hRf, hRl, hr, hlk, hnm⟩ := id C
  have hl : gls ls 3 [(0, .inr (.inr (some t))), (1, .inr (.inr v1)), (2, .inl v2)] := hl
  generalize s.heap = H at hS ⊢
  unfold fX9_comes at h
  refine g_aload_n hx hb hl 1 rfl dX9_comes_0 ?_
  refine g_rdR hx hb hown hts hKn hS h fd_3_3_4 rfl (Or.inr ⟨_, gNest_use rfl (hKn.2.2.2.2.1 _ (gNest_in q548 rfl))⟩) (fun _ z => z) dX9_comes_1 (fun x1 h => ?_)
  refine g_iload_n hx hb hl 2 rfl dX9_comes_4 ?_
  refine g_aload_n hx hb hl 1 rfl dX9_comes_5 ?_
  refine g_iload_n hx hb hl 2 rfl dX9_comes_6 ?_
  refine g_aload_n hx hb hl 0 rfl dX9_comes_7 ?_
  refine g_aload_n hx hb hl 1 rfl dX9_comes_8 ?_
  refine g_iload_n hx hb hl 2 rfl dX9_comes_9 ?_
  obtain ⟨b10, hb10, h⟩ := g_bnd h
  obtain ⟨hr10, hk10⟩ := g_chk hb10
  obtain ⟨z10, h10, h⟩ := g_bnd h
  refine g_callV (n := 2) (b := b10) (av := [.inr (.inr v1), .inl v2]) (rs := [.inl v2, .inr (.inr v1), .inl v2, .inr (.inr x1)]) hx hb hml hown hts hKn hRc hRs hS hl (sX9_to l E D h10) (lw_V q797 q798 q799 q143 q800) ⟨rfl, by decide, by decide, by decide +kernel⟩ ⟨by rw [hRf]; exact Nat.le_of_ble_eq_true rfl, by rw [hRl]; exact Nat.le_of_ble_eq_true rfl⟩ (g_recv hKn hS hk10 (by decide) (by decide)) rfl (by rw [hr10]; rfl) (Nat.le_of_ble_eq_true rfl) dX9_comes_10 (fun H locs cells slots hS => ?_)
  obtain ⟨z13, h13, h⟩ := g_bnd h
  refine g_callSS (n := 3) (av := [.inr (.inr v1), .inl v2, .inl z10.1]) (rs := [.inl v2, .inr (.inr x1)]) (sub := "SendHall$Send") hx hb hml hown hts hKn hRc hRs hS hl (sX7_isOther l E D h13) (lw_meth q806) (hts _ q141) (hts _ q803) (hts _ q804) (hts _ q805) ⟨by decide, by decide, by decide +kernel⟩ ⟨by rw [hRf]; exact Nat.le_of_ble_eq_true rfl, by rw [hRl]; exact Nat.le_of_ble_eq_true rfl⟩ rfl rfl (Nat.le_of_ble_eq_true rfl) dX9_comes_13 (fun H locs cells slots hS => ?_)
  refine lv_if_ne (tgt := 23) hx hb dX9_comes_16 (by decide) (fun c_16 => ?_) (fun c_16 => ?_)
  · have h := g_ift c_16 h
    refine lv_iconst (v := 0) hx hb dX9_comes_23 (by decide) ?_
    exact sX9_comes_b24 C _ _ _ _ _ _ _ _ h _ _ _ _ _ hS (gls_sub hl [0, 1, 2] rfl)
  · have h := g_iff (fun z => z c_16) h
    refine lv_iconst (v := 1) hx hb dX9_comes_19 (by decide) ?_
    refine lv_goto (tgt := 24) hx hb dX9_comes_20 (by decide) ?_
    exact sX9_comes_b24 C _ _ _ _ _ _ _ _ h _ _ _ _ _ hS (gls_sub hl [0, 1, 2] rfl)
/-- Step.comes, by the kind of the object -/
def fV_comes (E : g_E) (r : Option Nat) (v1 : Option Nat) (v2 : Int32) (G : g_G) : Option (Option Nat × g_G) :=
  r.bind fun t => if gcl G t = 11 then fX7_comes E t v1 v2 G else if gcl G t = 12 then fX14_comes E t v1 v2 G else if gcl G t = 13 then fX15_comes E t v1 v2 G else if gcl G t = 14 then fX16_comes E t v1 v2 G else if gcl G t = 15 then fX9_comes E t v1 v2 G else if gcl G t = 16 then fX13_comes E t v1 v2 G else none
theorem g_comesV {p : Program} {l : Launch} {e : Env} {R : Room} {s : State} {m : MethodId} {args : Array Value} {below : List Frame} {meth : Method} {c : Code} {H : Heap} {locs : List Loc} {cells slots : Nat} {Q : State → Prop} {cc : ByteArray} {pc nL : Nat} {ls : Array Slot} {E : g_E} {D : g_D} {G : g_G} (hx : p.tables.exec = Jvm.exec) (hb : c.code = cc) (hml : c.maxLocals = nL) (hown : s.vm.findClass RX1 = some m.cls) (hts : ∀ w ∈ lw_all, w.before args s = true) (hKn : gKn E D s) (hRc : R.cells = gMc E - s.heap.size) (hRs : R.slots = gMs E - ghsl s.heap) (hS : gSt E D G H locs) {l0 : List (Nat × g_v)} (hl : gls ls nL l0) {rs : List g_v} {st0 : List Value} {r v1 : Option Nat} {v2 : Int32} {q : Option Nat × g_G} (h : fV_comes E r v1 v2 G = some q)
    (hR : 219 + 1 ≤ R.frames ∧ 8 + (10 + 11) + 7326 ≤ R.locals) (hst : st0 = .int v2 :: va_rf v1 :: va_rf r :: rs.map gvv) (h8 : gwid rs ≤ 8) (hdg : decode cc pc = .ok (.invokevirtual 17, 3))
    (kk : ∀ (H1 : Heap) (locs1 : List Loc) (cells1 slots1 : Nat), gSt E D q.2 H1 locs1 → W p l e R s m args below meth c H1 locs1 cells1 slots1 Q (F0 m (pc + 3) ls (va_rf q.1 :: rs.map gvv))) : W p l e R s m args below meth c H locs cells slots Q (F0 m pc ls st0) := by
  obtain ⟨t, rfl, h⟩ := g_bnd h
  subst hst
  by_cases h11 : gcl G t = 11
  · exact g_callU (n := 2) (b := t) (av := [.inr (.inr v1), .inl v2]) (rs := rs) hx hb hml hown hts hKn hRc hRs hS hl (C := "SendHall$Plain") (owner := "SendHall$Step") (x := ⟨"SendHall$Step", "comes", "(LSendHall$Life;I)LSendHall$Step;"⟩) (sX7_comes l E D (g_ift h11 h)) (va_cwU 2 hts (lw_app (lw_in _ [736, 738, 793, 737, 141] (by decide +kernel) (by decide +kernel)) (lw_meth q812)) rfl rfl rfl rfl ⟨by decide, by decide, by decide +kernel⟩ ⟨Nat.le_trans (Nat.le_of_ble_eq_true rfl) hR.1, Nat.le_trans (Nat.le_of_ble_eq_true rfl) hR.2⟩) (g_recv hKn hS h11 (by decide) (by decide)) rfl rfl h8 hdg kk
  have h := g_iff h11 h
  by_cases h12 : gcl G t = 12
  · exact g_callU (n := 2) (b := t) (av := [.inr (.inr v1), .inl v2]) (rs := rs) hx hb hml hown hts hKn hRc hRs hS hl (C := "SendHall$Set") (owner := "SendHall$Step") (x := ⟨"SendHall$Step", "comes", "(LSendHall$Life;I)LSendHall$Step;"⟩) (sX14_comes l E D (g_ift h12 h)) (va_cwO 2 hts (lw_app (lw_in _ [736, 738, 737, 813, 814, 149] (by decide +kernel) (by decide +kernel)) (lw_meth q815)) rfl rfl rfl q812 ⟨by decide, by decide, by decide +kernel⟩ ⟨Nat.le_trans (Nat.le_of_ble_eq_true rfl) hR.1, Nat.le_trans (Nat.le_of_ble_eq_true rfl) hR.2⟩) (g_recv hKn hS h12 (by decide) (by decide)) rfl rfl h8 hdg kk
  have h := g_iff h12 h
  by_cases h13 : gcl G t = 13
  · exact g_callU (n := 2) (b := t) (av := [.inr (.inr v1), .inl v2]) (rs := rs) hx hb hml hown hts hKn hRc hRs hS hl (C := "SendHall$Tell") (owner := "SendHall$Step") (x := ⟨"SendHall$Step", "comes", "(LSendHall$Life;I)LSendHall$Step;"⟩) (sX15_comes l E D (g_ift h13 h)) (va_cwO 2 hts (lw_app (lw_in _ [736, 738, 737, 818, 819, 150] (by decide +kernel) (by decide +kernel)) (lw_meth q820)) rfl rfl rfl q812 ⟨by decide, by decide, by decide +kernel⟩ ⟨Nat.le_trans (Nat.le_of_ble_eq_true rfl) hR.1, Nat.le_trans (Nat.le_of_ble_eq_true rfl) hR.2⟩) (g_recv hKn hS h13 (by decide) (by decide)) rfl rfl h8 hdg kk
  have h := g_iff h13 h
  by_cases h14 : gcl G t = 14
  · exact g_callU (n := 2) (b := t) (av := [.inr (.inr v1), .inl v2]) (rs := rs) hx hb hml hown hts hKn hRc hRs hS hl (C := "SendHall$If") (owner := "SendHall$Step") (x := ⟨"SendHall$Step", "comes", "(LSendHall$Life;I)LSendHall$Step;"⟩) (sX16_comes l E D (g_ift h14 h)) (va_cwO 2 hts (lw_app (lw_in _ [736, 738, 737, 739, 740, 151] (by decide +kernel) (by decide +kernel)) (lw_meth q741)) rfl rfl rfl q812 ⟨by decide, by decide, by decide +kernel⟩ ⟨Nat.le_trans (Nat.le_of_ble_eq_true rfl) hR.1, Nat.le_trans (Nat.le_of_ble_eq_true rfl) hR.2⟩) (g_recv hKn hS h14 (by decide) (by decide)) rfl rfl h8 hdg kk
  have h := g_iff h14 h
  by_cases h15 : gcl G t = 15
  · exact g_callU (n := 2) (b := t) (av := [.inr (.inr v1), .inl v2]) (rs := rs) hx hb hml hown hts hKn hRc hRs hS hl (C := "SendHall$Send") (owner := "SendHall$Step") (x := ⟨"SendHall$Step", "comes", "(LSendHall$Life;I)LSendHall$Step;"⟩) (sX9_comes l E D (g_ift h15 h)) (va_cwO 2 hts (lw_app (lw_in _ [736, 738, 737, 794, 795, 143] (by decide +kernel) (by decide +kernel)) (lw_meth q796)) rfl rfl rfl q812 ⟨by decide, by decide, by decide +kernel⟩ ⟨Nat.le_trans (Nat.le_of_ble_eq_true rfl) hR.1, Nat.le_trans (Nat.le_of_ble_eq_true rfl) hR.2⟩) (g_recv hKn hS h15 (by decide) (by decide)) rfl rfl h8 hdg kk
  have h := g_iff h15 h
  by_cases h16 : gcl G t = 16
  · exact g_callU (n := 2) (b := t) (av := [.inr (.inr v1), .inl v2]) (rs := rs) hx hb hml hown hts hKn hRc hRs hS hl (C := "SendHall$Wait") (owner := "SendHall$Step") (x := ⟨"SendHall$Step", "comes", "(LSendHall$Life;I)LSendHall$Step;"⟩) (sX13_comes l E D (g_ift h16 h)) (va_cwO 2 hts (lw_app (lw_in _ [736, 738, 737, 823, 824, 148] (by decide +kernel) (by decide +kernel)) (lw_meth q825)) rfl rfl rfl q812 ⟨by decide, by decide, by decide +kernel⟩ ⟨Nat.le_trans (Nat.le_of_ble_eq_true rfl) hR.1, Nat.le_trans (Nat.le_of_ble_eq_true rfl) hR.2⟩) (g_recv hKn hS h16 (by decide) (by decide)) rfl rfl h8 hdg kk
  have h := g_iff h16 h
  exact g_no h
/-- java/util/ArrayList.add(ILjava/lang/Object;)V -/
def fJ2_add_b38 (E : g_E) (t : Nat) (v1 : Int32) (v2 : Option Nat) (v3 : Int32) (v4 : Option Nat) (G : g_G) : Option (g_G) :=
  (gcopy E G v4 v1 v4 (v1 + 1) (v3 - v1)).bind fun G49 =>
  (gsaR E G49 120 v4 v1 v2).bind fun G56 =>
  (gpI E G56 17 17 (some t) 2 (v3 + 1)).bind fun G61 =>
  some G61
def fJ2_add (E : g_E) (t : Nat) (v1 : Int32) (v2 : Option Nat) (G : g_G) : Option (g_G) :=
  (gchk G 17 (some t)).bind fun b2 =>
  (fJ2_rangeCheckForAdd E b2 v1 G).bind fun z2 =>
  (grI z2 17 17 (some t) 0).bind fun x7 =>
  (gpI E z2 17 17 (some t) 0 (x7 + 1)).bind fun G12 =>
  (grI G12 17 17 (some t) 2).bind fun x16 =>
  (grR G12 17 17 (some t) 1).bind fun x22 =>
  (galen G12 x22).bind fun x28 =>
  if ¬ x16 = x28 then (
    fJ2_add_b38 E t v1 v2 x16 x22 G12)
  else (
    (gchk G12 17 (some t)).bind fun b33 =>
    (fJ2_grow E b33 G12).bind fun z33 =>
    fJ2_add_b38 E t v1 v2 x16 z33.1 z33.2)
theorem sJ2_add_b38 {p : Program} {l : Launch} {e : Env} {R : Room} {s : State} {m : MethodId} {args : Array Value} {below : List Frame} {meth : Method} {c : Code} {E : g_E} {D : g_D} (C : gC p R s m args meth c cJ2_add 5 RJ2 "add" (none) 5 167 E D) : ∀ (t : Nat) (v1 : Int32) (v2 : Option Nat) (v3 : Int32) (v4 : Option Nat) (G : g_G) (q : g_G), fJ2_add_b38 E t v1 v2 v3 v4 G = some q → ∀ (H : Heap) (locs : List Loc) (cells slots : Nat) (ls : Array Slot), gSt E D G H locs → gls ls 5 [(0, .inr (.inr (some t))), (1, .inl v1), (2, .inr (.inr v2)), (3, .inl v3), (4, .inr (.inr v4))] → gT p l e R s m args below meth c E D H locs cells slots none q (F0 m 38 ls []) := by
  obtain ⟨hx, hb, hml, hown, hts, hKn, hRc, hRs, hc1, hc2, hRf, hRl, hr, hlk, hnm⟩ := id C
  intro t v1 v2 v3 v4 G q h H locs cells slots ls hS hl
  unfold fJ2_add_b38 at h
  refine g_aload hx hb hl 4 rfl dJ2_add_38 ?_
  refine g_iload_n hx hb hl 1 rfl dJ2_add_40 ?_
  refine g_aload hx hb hl 4 rfl dJ2_add_41 ?_
  refine g_iload_n hx hb hl 1 rfl dJ2_add_43 ?_
  refine lv_iconst (v := 1) hx hb dJ2_add_44 (by decide) ?_
  refine lv_iadd hx hb dJ2_add_45 ?_
  refine g_iload_n hx hb hl 3 rfl dJ2_add_46 ?_
  refine g_iload_n hx hb hl 1 rfl dJ2_add_47 ?_
  refine lv_isub hx hb dJ2_add_48 ?_
  refine g_copyG (rs := []) hx hb hml hown hts hKn hS hl h (hts _ q1062) (hts _ q305) (hts _ q304) (hts _ q129) rfl (Nat.le_of_ble_eq_true rfl) ⟨by rw [hRf]; exact Nat.le_of_ble_eq_true rfl, by rw [hRl]; exact Nat.le_of_ble_eq_true rfl⟩ dJ2_add_49 (fun G49 h H locs hS => ?_)
  refine g_aload hx hb hl 4 rfl dJ2_add_52 ?_
  refine g_iload_n hx hb hl 1 rfl dJ2_add_54 ?_
  refine g_aload_n hx hb hl 2 rfl dJ2_add_55 ?_
  refine g_aastoreG hx hb hKn hS h (by decide) dJ2_add_56 (fun G56 h H locs hS => ?_)
  refine g_aload_n hx hb hl 0 rfl dJ2_add_57 ?_
  refine g_iload_n hx hb hl 3 rfl dJ2_add_58 ?_
  refine lv_iconst (v := 1) hx hb dJ2_add_59 (by decide) ?_
  refine lv_iadd hx hb dJ2_add_60 ?_
  refine g_ptI hx hb hown hts hKn hS h fd_17_17_2 (Or.inl (hts _ q501)) (fun _ z => z) (fun z => nomatch z) dJ2_add_61 (fun G61 h H locs hS => ?_)
  exact g_vretG hx hb hr hlk hKn hRc hRs hS h dJ2_add_64
theorem sJ2_add (l : Launch) (E : g_E) (D : g_D) {t : Nat} {v1 : Int32} {v2 : Option Nat} {G : g_G} {q : g_G} (h : fJ2_add E t v1 v2 G = some q) : gMet l E D yJ2_add (ws_ yJ2_add cJ2_add 5 (none)) 5 167 [.inr (.inr (some t)), .inl v1, .inr (.inr v2)] G none q := by
  refine gMet.of (by decide +kernel) (Nat.le_of_ble_eq_true rfl) ?_
  intro p e R s m args below meth c C hS ls hl
  have C : gC p R s m args meth c cJ2_add 5 RJ2 "add" (none) 5 167 E D := C
  obtain ⟨hx, hb, hml, hown, hts, hKn, hRc, hRs, hc1, hc2, hRf, hRl, hr, hlk, hnm⟩ := id C
  have hl : gls ls 5 [(0, .inr (.inr (some t))), (1, .inl v1), (2, .inr (.inr v2))] := hl
  generalize s.heap = H at hS ⊢
  unfold fJ2_add at h
  refine g_aload_n hx hb hl 0 rfl dJ2_add_0 ?_
  refine g_iload_n hx hb hl 1 rfl dJ2_add_1 ?_
  obtain ⟨b2, hb2, h⟩ := g_bnd h
  obtain ⟨hr2, hk2⟩ := g_chk hb2
  obtain ⟨z2, h2, h⟩ := g_bnd h
  refine g_callV (n := 1) (b := b2) (av := [.inl v1]) (rs := []) hx hb hml hown hts hKn hRc hRs hS hl (sJ2_rangeCheckForAdd l E D h2) (lw_V q1010 q1012 qs20 q117 q1013) ⟨rfl, by decide, by decide, by decide +kernel⟩ ⟨by rw [hRf]; exact Nat.le_of_ble_eq_true rfl, by rw [hRl]; exact Nat.le_of_ble_eq_true rfl⟩ (g_recv hKn hS hk2 (by decide) (by decide)) rfl (by rw [hr2]; rfl) (Nat.le_of_ble_eq_true rfl) dJ2_add_2 (fun H locs cells slots hS => ?_)
  refine g_aload_n hx hb hl 0 rfl dJ2_add_5 ?_
  refine lv_dup hx hb dJ2_add_6 (by first | exact va_rf_cat _ | rfl | exact g_catA _) ?_
  refine g_rdI hx hb hown hts hKn hS h fd_17_17_0 rfl (Or.inl (hts _ q503)) (u_same (hts _ q504)) dJ2_add_7 (fun x7 h => ?_)
  refine lv_iconst (v := 1) hx hb dJ2_add_10 (by decide) ?_
  refine lv_iadd hx hb dJ2_add_11 ?_
  refine g_ptI hx hb hown hts hKn hS h fd_17_17_0 (Or.inl (hts _ q503)) (u_same (hts _ q504)) (fun z => nomatch z) dJ2_add_12 (fun G12 h H locs hS => ?_)
  refine g_aload_n hx hb hl 0 rfl dJ2_add_15 ?_
  refine g_rdI hx hb hown hts hKn hS h fd_17_17_2 rfl (Or.inl (hts _ q501)) (fun _ z => z) dJ2_add_16 (fun x16 h => ?_)
  refine lv_dup hx hb dJ2_add_19 rfl ?_
  refine g_istore_n (l1 := [(3, .inl x16), (0, .inr (.inr (some t))), (1, .inl v1), (2, .inr (.inr v2))]) hx hb hl (by decide) rfl dJ2_add_20 (fun ls hl => ?_)
  refine g_aload_n hx hb hl 1 rfl dJ2_add_21 ?_
  refine g_rdR hx hb hown hts hKn hS h fd_17_17_1 rfl (Or.inl (hts _ q500)) (fun _ z => z) dJ2_add_22 (fun x22 h => ?_)
  refine lv_dup hx hb dJ2_add_25 (by first | exact va_rf_cat _ | rfl | exact g_catA _) ?_
  refine g_astore (l1 := [(4, .inr (.inr x22)), (3, .inl x16), (0, .inr (.inr (some t))), (1, .inl v1), (2, .inr (.inr v2))]) hx hb hl (by decide) rfl dJ2_add_26 (fun ls hl => ?_)
  refine g_alen hx hb hKn hS h dJ2_add_28 (fun x28 h => ?_)
  refine lv_icmp_ne (tgt := 38) hx hb dJ2_add_29 (by decide) (fun c_29 => ?_) (fun c_29 => ?_)
  · have h := g_ift c_29 h
    exact sJ2_add_b38 C _ _ _ _ _ _ _ h _ _ _ _ _ hS (gls_sub hl [2, 3, 4, 1, 0] rfl)
  · have h := g_iff (fun z => z c_29) h
    refine g_aload_n hx hb hl 2 rfl dJ2_add_32 ?_
    obtain ⟨b33, hb33, h⟩ := g_bnd h
    obtain ⟨hr33, hk33⟩ := g_chk hb33
    obtain ⟨z33, h33, h⟩ := g_bnd h
    refine g_callV (n := 0) (b := b33) (av := []) (rs := []) hx hb hml hown hts hKn hRc hRs hS hl (sJ2_grow l E D h33) (lw_V q1014 q1016 qs21 q117 q1017) ⟨rfl, by decide, by decide, by decide +kernel⟩ ⟨by rw [hRf]; exact Nat.le_of_ble_eq_true rfl, by rw [hRl]; exact Nat.le_of_ble_eq_true rfl⟩ (g_recv hKn hS hk33 (by decide) (by decide)) rfl (by rw [hr33]; rfl) (Nat.le_of_ble_eq_true rfl) dJ2_add_33 (fun H locs cells slots hS => ?_)
    refine g_astore (l1 := [(4, .inr (.inr z33.1)), (3, .inl x16), (0, .inr (.inr (some t))), (1, .inl v1), (2, .inr (.inr v2))]) hx hb hl (by decide) rfl dJ2_add_36 (fun ls hl => ?_)
    exact sJ2_add_b38 C _ _ _ _ _ _ _ h _ _ _ _ _ hS (gls_sub hl [2, 3, 4, 1, 0] rfl)
/-- java/util/ArrayList.add(Ljava/lang/Object;[Ljava/lang/Object;I)V -/
def fJ2_add_3_b11 (E : g_E) (t : Nat) (v1 : Option Nat) (v2 : Option Nat) (v3 : Int32) (G : g_G) : Option (g_G) :=
  (gsaR E G 120 v2 v3 v1).bind fun G14 =>
  (gpI E G14 17 17 (some t) 2 (v3 + 1)).bind fun G19 =>
  some G19
def fJ2_add_3 (E : g_E) (t : Nat) (v1 : Option Nat) (v2 : Option Nat) (v3 : Int32) (G : g_G) : Option (g_G) :=
  (galen G v2).bind fun x2 =>
  if ¬ v3 = x2 then (
    fJ2_add_3_b11 E t v1 v2 v3 G)
  else (
    (gchk G 17 (some t)).bind fun b7 =>
    (fJ2_grow E b7 G).bind fun z7 =>
    fJ2_add_3_b11 E t v1 z7.1 v3 z7.2)
theorem sJ2_add_3_b11 {p : Program} {l : Launch} {e : Env} {R : Room} {s : State} {m : MethodId} {args : Array Value} {below : List Frame} {meth : Method} {c : Code} {E : g_E} {D : g_D} (C : gC p R s m args meth c cJ2_add_3 4 RJ2 "add" (none) 5 167 E D) : ∀ (t : Nat) (v1 : Option Nat) (v2 : Option Nat) (v3 : Int32) (G : g_G) (q : g_G), fJ2_add_3_b11 E t v1 v2 v3 G = some q → ∀ (H : Heap) (locs : List Loc) (cells slots : Nat) (ls : Array Slot), gSt E D G H locs → gls ls 4 [(0, .inr (.inr (some t))), (1, .inr (.inr v1)), (2, .inr (.inr v2)), (3, .inl v3)] → gT p l e R s m args below meth c E D H locs cells slots none q (F0 m 11 ls []) := by
  obtain ⟨hx, hb, hml, hown, hts, hKn, hRc, hRs, hc1, hc2, hRf, hRl, hr, hlk, hnm⟩ := id C
  intro t v1 v2 v3 G q h H locs cells slots ls hS hl
  unfold fJ2_add_3_b11 at h
  refine g_aload_n hx hb hl 2 rfl dJ2_add_3_11 ?_
  refine g_iload_n hx hb hl 3 rfl dJ2_add_3_12 ?_
  refine g_aload_n hx hb hl 1 rfl dJ2_add_3_13 ?_
  refine g_aastoreG hx hb hKn hS h (by decide) dJ2_add_3_14 (fun G14 h H locs hS => ?_)
  refine g_aload_n hx hb hl 0 rfl dJ2_add_3_15 ?_
  refine g_iload_n hx hb hl 3 rfl dJ2_add_3_16 ?_
  refine lv_iconst (v := 1) hx hb dJ2_add_3_17 (by decide) ?_
  refine lv_iadd hx hb dJ2_add_3_18 ?_
  refine g_ptI hx hb hown hts hKn hS h fd_17_17_2 (Or.inl (hts _ q501)) (fun _ z => z) (fun z => nomatch z) dJ2_add_3_19 (fun G19 h H locs hS => ?_)
  exact g_vretG hx hb hr hlk hKn hRc hRs hS h dJ2_add_3_22
theorem sJ2_add_3 (l : Launch) (E : g_E) (D : g_D) {t : Nat} {v1 : Option Nat} {v2 : Option Nat} {v3 : Int32} {G : g_G} {q : g_G} (h : fJ2_add_3 E t v1 v2 v3 G = some q) : gMet l E D yJ2_add_3 (ws_ yJ2_add_3 cJ2_add_3 4 (none)) 5 167 [.inr (.inr (some t)), .inr (.inr v1), .inr (.inr v2), .inl v3] G none q := by
  refine gMet.of (by decide +kernel) (Nat.le_of_ble_eq_true rfl) ?_
  intro p e R s m args below meth c C hS ls hl
  have C : gC p R s m args meth c cJ2_add_3 4 RJ2 "add" (none) 5 167 E D := C
  obtain ⟨hx, hb, hml, hown, hts, hKn, hRc, hRs, hc1, hc2, hRf, hRl, hr, hlk, hnm⟩ := id C
  have hl : gls ls 4 [(0, .inr (.inr (some t))), (1, .inr (.inr v1)), (2, .inr (.inr v2)), (3, .inl v3)] := hl
  generalize s.heap = H at hS ⊢
  unfold fJ2_add_3 at h
  refine g_iload_n hx hb hl 3 rfl dJ2_add_3_0 ?_
  refine g_aload_n hx hb hl 2 rfl dJ2_add_3_1 ?_
  refine g_alen hx hb hKn hS h dJ2_add_3_2 (fun x2 h => ?_)
  refine lv_icmp_ne (tgt := 11) hx hb dJ2_add_3_3 (by decide) (fun c_3 => ?_) (fun c_3 => ?_)
  · have h := g_ift c_3 h
    exact sJ2_add_3_b11 C _ _ _ _ _ _ h _ _ _ _ _ hS (gls_sub hl [0, 1, 2, 3] rfl)
  · have h := g_iff (fun z => z c_3) h
    refine g_aload_n hx hb hl 0 rfl dJ2_add_3_6 ?_
    obtain ⟨b7, hb7, h⟩ := g_bnd h
    obtain ⟨hr7, hk7⟩ := g_chk hb7
    obtain ⟨z7, h7, h⟩ := g_bnd h
    refine g_callV (n := 0) (b := b7) (av := []) (rs := []) hx hb hml hown hts hKn hRc hRs hS hl (sJ2_grow l E D h7) (lw_V q1014 q1016 qs21 q117 q1017) ⟨rfl, by decide, by decide, by decide +kernel⟩ ⟨by rw [hRf]; exact Nat.le_of_ble_eq_true rfl, by rw [hRl]; exact Nat.le_of_ble_eq_true rfl⟩ (g_recv hKn hS hk7 (by decide) (by decide)) rfl (by rw [hr7]; rfl) (Nat.le_of_ble_eq_true rfl) dJ2_add_3_7 (fun H locs cells slots hS => ?_)
    refine g_astore_n (l1 := [(2, .inr (.inr z7.1)), (0, .inr (.inr (some t))), (1, .inr (.inr v1)), (3, .inl v3)]) hx hb hl (by decide) rfl dJ2_add_3_10 (fun ls hl => ?_)
    exact sJ2_add_3_b11 C _ _ _ _ _ _ h _ _ _ _ _ hS (gls_sub hl [1, 2, 0, 3] rfl)
/-- java/lang/StringBuilder.toString()Ljava/lang/String; -/
def fJ8_toString (E : g_E) (t : Nat) (G : g_G) : Option (Option Nat × g_G) :=
  (gnewO E G 19 4).bind fun z0 =>
  (fJ9_init E z0.1 (some t) z0.2).bind fun z5 =>
  some ((some z0.1), z5)
theorem sJ8_toString (l : Launch) (E : g_E) (D : g_D) {t : Nat} {G : g_G} {q : Option Nat × g_G} (h : fJ8_toString E t G = some q) : gMet l E D yJ8_toString (ws_ yJ8_toString cJ8_toString 1 (some (.object "java/lang/String"))) 6 176 [.inr (.inr (some t))] G (some (va_rf q.1)) q.2 := by
  refine gMet.of (by decide +kernel) (Nat.le_of_ble_eq_true rfl) ?_
  intro p e R s m args below meth c C hS ls hl
  have C : gC p R s m args meth c cJ8_toString 1 RJ8 "toString" (some (.object "java/lang/String")) 6 176 E D := C
  obtain ⟨hx, hb, hml, hown, hts, hKn, hRc, hRs, hc1, hc2, hRf, hRl, hr, hlk, hnm⟩ := id C
  have hl : gls ls 1 [(0, .inr (.inr (some t)))] := hl
  generalize s.heap = H at hS ⊢
  unfold fJ8_toString at h
  refine g_newG (k := 19) hx hb hown hts hKn hRc hRs hS h (by decide) (by decide) (hts _ q409) (hts _ q410) (hts _ q124) dJ8_toString_0 (fun z0 h H locs cells slots hS => ?_)
  refine lv_dup hx hb dJ8_toString_3 (by first | exact va_rf_cat _ | rfl | exact g_catA _) ?_
  refine g_aload_n hx hb hl 0 rfl dJ8_toString_4 ?_
  obtain ⟨z5, h5, h⟩ := g_bnd h
  refine g_callI (n := 1) (av := [.inr (.inr (some t))]) (rs := [.inr (.inr (some z0.1))]) hx hb hml hown hts hKn hRc hRs hS hl (sJ9_init l E D h5) (lw_meth q413) (hts _ q124) (hts _ q411) (hts _ q412) rfl ⟨by decide, by decide, by decide +kernel⟩ ⟨by rw [hRf]; exact Nat.le_of_ble_eq_true rfl, by rw [hRl]; exact Nat.le_of_ble_eq_true rfl⟩ rfl rfl (Nat.le_of_ble_eq_true rfl) dJ8_toString_5 (fun H locs cells slots hS => ?_)
  exact g_aretG hx hb hr (by first | exact Or.inl ⟨_, rfl⟩ | exact Or.inr ⟨_, rfl⟩) hlk hKn hRc hRs hS h dJ8_toString_8
