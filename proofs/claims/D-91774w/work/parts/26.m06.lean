set_option maxRecDepth 100000
/-- SendHallModel.feed(IIIII)I -/
def fX4_feed_b76 (E : g_E) (k23 : Nat → Int32 → Int32 → Int32 → Int32 → Int32 → Int32 → g_G → Option (Int32 × g_G)) (t : Nat) (v1 : Int32) (v2 : Int32) (v3 : Int32) (v4 : Int32) (v5 : Int32) (v6 : Int32) (s0 : Int32) (G : g_G) : Option (Int32 × g_G) :=
  (grR G 4 4 (some t) 9).bind fun x79 =>
  (grI G 4 4 (some t) 10).bind fun x83 =>
  if (4 : Int32) = 0 then none else
  (gsaI E G x79 x83 ((s0 >>> ((24 - (8 * (v6 - v6 / 4 * 4))) &&& 31)) &&& 255)).bind fun G103 =>
  (grI G103 4 4 (some t) 10).bind fun x106 =>
  (gpI E G103 4 4 (some t) 10 (x106 + 1)).bind fun G111 =>
  k23 t v1 v2 v3 v4 v5 (v6 + 1) G111
def fX4_feed_b23 (E : g_E) : Nat → Nat → Int32 → Int32 → Int32 → Int32 → Int32 → Int32 → g_G → Option (Int32 × g_G)
  | 0, _, _, _, _, _, _, _, _ => none
  | n + 1, t, v1, v2, v3, v4, v5, v6, G =>
    if (20 : Int32) ≤ v6 then (
      (grI G 4 4 (some t) 10).bind fun x121 =>
      some (x121, G))
    else (
      if (4 : Int32) ≤ v6 then (
        if (8 : Int32) ≤ v6 then (
          if (12 : Int32) ≤ v6 then (
            if (16 : Int32) ≤ v6 then (
              fX4_feed_b76 E (fX4_feed_b23 E n) t v1 v2 v3 v4 v5 v6 v5 G)
            else (
              fX4_feed_b76 E (fX4_feed_b23 E n) t v1 v2 v3 v4 v5 v6 v4 G))
          else (
            fX4_feed_b76 E (fX4_feed_b23 E n) t v1 v2 v3 v4 v5 v6 v3 G))
        else (
          fX4_feed_b76 E (fX4_feed_b23 E n) t v1 v2 v3 v4 v5 v6 v2 G))
      else (
        fX4_feed_b76 E (fX4_feed_b23 E n) t v1 v2 v3 v4 v5 v6 v1 G))
def fX4_feed (E : g_E) (t : Nat) (v1 : Int32) (v2 : Int32) (v3 : Int32) (v4 : Int32) (v5 : Int32) (G : g_G) : Option (Int32 × g_G) :=
  (gpI E G 4 4 (some t) 2 0).bind fun G2 =>
  (grI G2 4 4 (some t) 10).bind fun x6 =>
  if (x6 + 20) ≤ (700 : Int32) then (
    fX4_feed_b23 E gFU t v1 v2 v3 v4 v5 0 G2)
  else (
    some ((-1), G2))
theorem sX4_feed_b76 {p : Program} {l : Launch} {e : Env} {R : Room} {s : State} {m : MethodId} {args : Array Value} {below : List Frame} {meth : Method} {c : Code} {E : g_E} {D : g_D} (C : gC p R s m args meth c cX4_feed 8 RX4 "feed" (some .int) 1 64 E D) {k23 : Nat → Int32 → Int32 → Int32 → Int32 → Int32 → Int32 → g_G → Option (Int32 × g_G)} (hk23 : ∀ (t : Nat) (v1 : Int32) (v2 : Int32) (v3 : Int32) (v4 : Int32) (v5 : Int32) (v6 : Int32) (G : g_G) (q : Int32 × g_G), k23 t v1 v2 v3 v4 v5 v6 G = some q → ∀ (H : Heap) (locs : List Loc) (cells slots : Nat) (ls : Array Slot), gSt E D G H locs → gls ls 8 [(0, .inr (.inr (some t))), (1, .inl v1), (2, .inl v2), (3, .inl v3), (4, .inl v4), (5, .inl v5), (6, .inl v6)] → gT p l e R s m args below meth c E D H locs cells slots (some (.int q.1)) q.2 (F0 m 23 ls [])) : ∀ (t : Nat) (v1 : Int32) (v2 : Int32) (v3 : Int32) (v4 : Int32) (v5 : Int32) (v6 : Int32) (s0 : Int32) (G : g_G) (q : Int32 × g_G), fX4_feed_b76 E k23 t v1 v2 v3 v4 v5 v6 s0 G = some q → ∀ (H : Heap) (locs : List Loc) (cells slots : Nat) (ls : Array Slot), gSt E D G H locs → gls ls 8 [(0, .inr (.inr (some t))), (1, .inl v1), (2, .inl v2), (3, .inl v3), (4, .inl v4), (5, .inl v5), (6, .inl v6)] → gT p l e R s m args below meth c E D H locs cells slots (some (.int q.1)) q.2 (F0 m 76 ls [.int s0]) := by
  obtain ⟨hx, hb, hml, hown, hts, hKn, hRc, hRs, hc1, hc2, hRf, hRl, hr, hlk, hnm⟩ := id C
  intro t v1 v2 v3 v4 v5 v6 s0 G q h H locs cells slots ls hS hl
  unfold fX4_feed_b76 at h
  refine g_istore (l1 := [(7, .inl s0), (0, .inr (.inr (some t))), (1, .inl v1), (2, .inl v2), (3, .inl v3), (4, .inl v4), (5, .inl v5), (6, .inl v6)]) hx hb hl (by decide) rfl dX4_feed_76 (fun ls hl => ?_)
  refine g_aload_n hx hb hl 1 rfl dX4_feed_78 ?_
  refine g_rdR hx hb hown hts hKn hS h fd_4_4_9 rfl (Or.inl (hts _ q1874)) (fun _ z => z) dX4_feed_79 (fun x79 h => ?_)
  refine g_aload_n hx hb hl 1 rfl dX4_feed_82 ?_
  refine g_rdI hx hb hown hts hKn hS h fd_4_4_10 rfl (Or.inl (hts _ q1875)) (fun _ z => z) dX4_feed_83 (fun x83 h => ?_)
  refine g_iload hx hb hl 0 rfl dX4_feed_86 ?_
  refine lv_bipush (v := 24) hx hb dX4_feed_88 (by decide) ?_
  refine lv_bipush (v := 8) hx hb dX4_feed_90 (by decide) ?_
  refine g_iload hx hb hl 7 rfl dX4_feed_92 ?_
  refine lv_iconst (v := 4) hx hb dX4_feed_94 (by decide) ?_
  by_cases hz95 : (4 : Int32) = 0
  · exact g_no (g_ift hz95 h)
  have h := g_iff hz95 h
  refine lv_irem hx hb dX4_feed_95 hz95 ?_
  refine lv_imul hx hb dX4_feed_96 ?_
  refine lv_isub hx hb dX4_feed_97 ?_
  refine lv_ishr hx hb dX4_feed_98 ?_
  refine lv_sipush (v := 255) hx hb dX4_feed_99 (by decide) ?_
  refine lv_iand hx hb dX4_feed_102 ?_
  refine g_iastoreG hx hb hKn hS h dX4_feed_103 (fun G103 h H locs hS => ?_)
  refine g_aload_n hx hb hl 1 rfl dX4_feed_104 ?_
  refine lv_dup hx hb dX4_feed_105 (by first | exact va_rf_cat _ | rfl | exact g_catA _) ?_
  refine g_rdI hx hb hown hts hKn hS h fd_4_4_10 rfl (Or.inl (hts _ q1875)) (fun _ z => z) dX4_feed_106 (fun x106 h => ?_)
  refine lv_iconst (v := 1) hx hb dX4_feed_109 (by decide) ?_
  refine lv_iadd hx hb dX4_feed_110 ?_
  refine g_ptI hx hb hown hts hKn hS h fd_4_4_10 (Or.inl (hts _ q1875)) (fun _ z => z) (fun z => nomatch z) dX4_feed_111 (fun G111 h H locs hS => ?_)
  refine g_iinc (l1 := [(6, .inl (v6 + 1)), (7, .inl s0), (0, .inr (.inr (some t))), (1, .inl v1), (2, .inl v2), (3, .inl v3), (4, .inl v4), (5, .inl v5)]) (v := (v6 + 1)) hx hb hl (k := 7) rfl (by rfl) (by decide) rfl dX4_feed_114 (fun ls hl => ?_)
  refine lv_goto (tgt := 23) hx hb dX4_feed_117 (by decide) ?_
  exact hk23 _ _ _ _ _ _ _ _ _ h _ _ _ _ _ hS (gls_sub hl [2, 3, 4, 5, 6, 7, 0] rfl)
theorem sX4_feed_b23 {p : Program} {l : Launch} {e : Env} {R : Room} {s : State} {m : MethodId} {args : Array Value} {below : List Frame} {meth : Method} {c : Code} {E : g_E} {D : g_D} (C : gC p R s m args meth c cX4_feed 8 RX4 "feed" (some .int) 1 64 E D) : ∀ (n : Nat) (t : Nat) (v1 : Int32) (v2 : Int32) (v3 : Int32) (v4 : Int32) (v5 : Int32) (v6 : Int32) (G : g_G) (q : Int32 × g_G), fX4_feed_b23 E n t v1 v2 v3 v4 v5 v6 G = some q → ∀ (H : Heap) (locs : List Loc) (cells slots : Nat) (ls : Array Slot), gSt E D G H locs → gls ls 8 [(0, .inr (.inr (some t))), (1, .inl v1), (2, .inl v2), (3, .inl v3), (4, .inl v4), (5, .inl v5), (6, .inl v6)] → gT p l e R s m args below meth c E D H locs cells slots (some (.int q.1)) q.2 (F0 m 23 ls []) := by
  obtain ⟨hx, hb, hml, hown, hts, hKn, hRc, hRs, hc1, hc2, hRf, hRl, hr, hlk, hnm⟩ := id C
  intro n
  induction n with
  | zero =>
    intro t v1 v2 v3 v4 v5 v6 G q h
    exact g_no h
  | succ n ih =>
    intro t v1 v2 v3 v4 v5 v6 G q h H locs cells slots ls hS hl
    rw [fX4_feed_b23] at h
    refine g_iload hx hb hl 6 rfl dX4_feed_23 ?_
    refine lv_bipush (v := 20) hx hb dX4_feed_25 (by decide) ?_
    refine lv_icmp_ge (tgt := 120) hx hb dX4_feed_27 (by decide) (fun c_27 => ?_) (fun c_27 => ?_)
    · have h := g_ift c_27 h
      refine g_aload_n hx hb hl 0 rfl dX4_feed_120 ?_
      refine g_rdI hx hb hown hts hKn hS h fd_4_4_10 rfl (Or.inl (hts _ q1875)) (fun _ z => z) dX4_feed_121 (fun x121 h => ?_)
      exact g_iretG hx hb hr hlk hKn hRc hRs hS h dX4_feed_124
    · have h := g_iff c_27 h
      refine g_iload hx hb hl 6 rfl dX4_feed_30 ?_
      refine lv_iconst (v := 4) hx hb dX4_feed_32 (by decide) ?_
      refine lv_icmp_ge (tgt := 40) hx hb dX4_feed_33 (by decide) (fun c_33 => ?_) (fun c_33 => ?_)
      · have h := g_ift c_33 h
        refine g_iload hx hb hl 6 rfl dX4_feed_40 ?_
        refine lv_bipush (v := 8) hx hb dX4_feed_42 (by decide) ?_
        refine lv_icmp_ge (tgt := 51) hx hb dX4_feed_44 (by decide) (fun c_44 => ?_) (fun c_44 => ?_)
        · have h := g_ift c_44 h
          refine g_iload hx hb hl 6 rfl dX4_feed_51 ?_
          refine lv_bipush (v := 12) hx hb dX4_feed_53 (by decide) ?_
          refine lv_icmp_ge (tgt := 62) hx hb dX4_feed_55 (by decide) (fun c_55 => ?_) (fun c_55 => ?_)
          · have h := g_ift c_55 h
            refine g_iload hx hb hl 6 rfl dX4_feed_62 ?_
            refine lv_bipush (v := 16) hx hb dX4_feed_64 (by decide) ?_
            refine lv_icmp_ge (tgt := 74) hx hb dX4_feed_66 (by decide) (fun c_66 => ?_) (fun c_66 => ?_)
            · have h := g_ift c_66 h
              refine g_iload hx hb hl 5 rfl dX4_feed_74 ?_
              exact sX4_feed_b76 C ih _ _ _ _ _ _ _ _ _ _ h _ _ _ _ _ hS (gls_sub hl [0, 1, 2, 3, 4, 5, 6] rfl)
            · have h := g_iff c_66 h
              refine g_iload hx hb hl 4 rfl dX4_feed_69 ?_
              refine lv_goto (tgt := 76) hx hb dX4_feed_71 (by decide) ?_
              exact sX4_feed_b76 C ih _ _ _ _ _ _ _ _ _ _ h _ _ _ _ _ hS (gls_sub hl [0, 1, 2, 3, 4, 5, 6] rfl)
          · have h := g_iff c_55 h
            refine g_iload_n hx hb hl 3 rfl dX4_feed_58 ?_
            refine lv_goto (tgt := 76) hx hb dX4_feed_59 (by decide) ?_
            exact sX4_feed_b76 C ih _ _ _ _ _ _ _ _ _ _ h _ _ _ _ _ hS (gls_sub hl [0, 1, 2, 3, 4, 5, 6] rfl)
        · have h := g_iff c_44 h
          refine g_iload_n hx hb hl 2 rfl dX4_feed_47 ?_
          refine lv_goto (tgt := 76) hx hb dX4_feed_48 (by decide) ?_
          exact sX4_feed_b76 C ih _ _ _ _ _ _ _ _ _ _ h _ _ _ _ _ hS (gls_sub hl [0, 1, 2, 3, 4, 5, 6] rfl)
      · have h := g_iff c_33 h
        refine g_iload_n hx hb hl 1 rfl dX4_feed_36 ?_
        refine lv_goto (tgt := 76) hx hb dX4_feed_37 (by decide) ?_
        exact sX4_feed_b76 C ih _ _ _ _ _ _ _ _ _ _ h _ _ _ _ _ hS (gls_sub hl [0, 1, 2, 3, 4, 5, 6] rfl)
theorem sX4_feed (l : Launch) (E : g_E) (D : g_D) {t : Nat} {v1 : Int32} {v2 : Int32} {v3 : Int32} {v4 : Int32} {v5 : Int32} {G : g_G} {q : Int32 × g_G} (h : fX4_feed E t v1 v2 v3 v4 v5 G = some q) : gMet l E D yX4_feed (ws_ yX4_feed cX4_feed 8 (some .int)) 1 64 [.inr (.inr (some t)), .inl v1, .inl v2, .inl v3, .inl v4, .inl v5] G (some (.int q.1)) q.2 := by
  refine gMet.of (by decide +kernel) (Nat.le_of_ble_eq_true rfl) ?_
  intro p e R s m args below meth c C hS ls hl
  have C : gC p R s m args meth c cX4_feed 8 RX4 "feed" (some .int) 1 64 E D := C
  obtain ⟨hx, hb, hml, hown, hts, hKn, hRc, hRs, hc1, hc2, hRf, hRl, hr, hlk, hnm⟩ := id C
  have hl : gls ls 8 [(0, .inr (.inr (some t))), (1, .inl v1), (2, .inl v2), (3, .inl v3), (4, .inl v4), (5, .inl v5)] := hl
  generalize s.heap = H at hS ⊢
  unfold fX4_feed at h
  refine g_aload_n hx hb hl 0 rfl dX4_feed_0 ?_
  refine lv_iconst (v := 0) hx hb dX4_feed_1 (by decide) ?_
  refine g_ptI hx hb hown hts hKn hS h fd_4_4_2 (Or.inl (hts _ q1867)) (fun _ z => z) (fun z => nomatch z) dX4_feed_2 (fun G2 h H locs hS => ?_)
  refine g_aload_n hx hb hl 0 rfl dX4_feed_5 ?_
  refine g_rdI hx hb hown hts hKn hS h fd_4_4_10 rfl (Or.inl (hts _ q1875)) (fun _ z => z) dX4_feed_6 (fun x6 h => ?_)
  refine lv_bipush (v := 20) hx hb dX4_feed_9 (by decide) ?_
  refine lv_iadd hx hb dX4_feed_11 ?_
  refine lv_sipush (v := 700) hx hb dX4_feed_12 (by decide) ?_
  refine lv_icmp_le (tgt := 20) hx hb dX4_feed_15 (by decide) (fun c_15 => ?_) (fun c_15 => ?_)
  · have h := g_ift c_15 h
    refine lv_iconst (v := 0) hx hb dX4_feed_20 (by decide) ?_
    refine g_istore (l1 := [(6, .inl 0), (0, .inr (.inr (some t))), (1, .inl v1), (2, .inl v2), (3, .inl v3), (4, .inl v4), (5, .inl v5)]) hx hb hl (by decide) rfl dX4_feed_21 (fun ls hl => ?_)
    exact sX4_feed_b23 C gFU _ _ _ _ _ _ _ _ _ h _ _ _ _ _ hS (gls_sub hl [1, 2, 3, 4, 5, 6, 0] rfl)
  · have h := g_iff c_15 h
    refine lv_iconst (v := (-1)) hx hb dX4_feed_18 (by decide) ?_
    exact g_iretG hx hb hr hlk hKn hRc hRs hS h dX4_feed_19
/-- SendHallModel.following(I)I -/
def fX4_following_b7 (E : g_E) : Nat → Nat → Int32 → g_G → Option (Int32 × g_G)
  | 0, _, _, _ => none
  | n + 1, t, v2, G =>
    if (-2 : Int32) < v2 then (
      some (v2, G))
    else (
      (grR G 4 4 (some t) 29).bind fun x14 =>
      (gaI G 100 x14 ((-2) - v2)).bind fun x21 =>
      fX4_following_b7 E n t x21 G)
def fX4_following (E : g_E) (t : Nat) (v1 : Int32) (G : g_G) : Option (Int32 × g_G) :=
  (grR G 4 4 (some t) 29).bind fun x1 =>
  (gaI G 100 x1 v1).bind fun x5 =>
  fX4_following_b7 E gFU t x5 G
theorem sX4_following_b7 {p : Program} {l : Launch} {e : Env} {R : Room} {s : State} {m : MethodId} {args : Array Value} {below : List Frame} {meth : Method} {c : Code} {E : g_E} {D : g_D} (C : gC p R s m args meth c cX4_following 3 RX4 "following" (some .int) 1 64 E D) : ∀ (n : Nat) (t : Nat) (v2 : Int32) (G : g_G) (q : Int32 × g_G), fX4_following_b7 E n t v2 G = some q → ∀ (H : Heap) (locs : List Loc) (cells slots : Nat) (ls : Array Slot), gSt E D G H locs → gls ls 3 [(0, .inr (.inr (some t))), (2, .inl v2)] → gT p l e R s m args below meth c E D H locs cells slots (some (.int q.1)) q.2 (F0 m 7 ls []) := by
  obtain ⟨hx, hb, hml, hown, hts, hKn, hRc, hRs, hc1, hc2, hRf, hRl, hr, hlk, hnm⟩ := id C
  intro n
  induction n with
  | zero =>
    intro t v2 G q h
    exact g_no h
  | succ n ih =>
    intro t v2 G q h H locs cells slots ls hS hl
    rw [fX4_following_b7] at h
    refine g_iload_n hx hb hl 1 rfl dX4_following_7 ?_
    refine lv_bipush (v := (-2)) hx hb dX4_following_8 (by decide) ?_
    refine lv_icmp_gt (tgt := 26) hx hb dX4_following_10 (by decide) (fun c_10 => ?_) (fun c_10 => ?_)
    · have h := g_ift c_10 h
      refine g_iload_n hx hb hl 1 rfl dX4_following_26 ?_
      exact g_iretG hx hb hr hlk hKn hRc hRs hS h dX4_following_27
    · have h := g_iff c_10 h
      refine g_aload_n hx hb hl 0 rfl dX4_following_13 ?_
      refine g_rdR hx hb hown hts hKn hS h fd_4_4_29 rfl (Or.inl (hts _ q1894)) (fun _ z => z) dX4_following_14 (fun x14 h => ?_)
      refine lv_bipush (v := (-2)) hx hb dX4_following_17 (by decide) ?_
      refine g_iload_n hx hb hl 1 rfl dX4_following_19 ?_
      refine lv_isub hx hb dX4_following_20 ?_
      refine g_ialoadG hx hb hKn hS h dX4_following_21 (fun x21 h => ?_)
      refine g_istore_n (l1 := [(2, .inl x21), (0, .inr (.inr (some t)))]) hx hb hl (by decide) rfl dX4_following_22 (fun ls hl => ?_)
      refine lv_goto (tgt := 7) hx hb dX4_following_23 (by decide) ?_
      exact ih _ _ _ _ h _ _ _ _ _ hS (gls_sub hl [1, 0] rfl)
theorem sX4_following (l : Launch) (E : g_E) (D : g_D) {t : Nat} {v1 : Int32} {G : g_G} {q : Int32 × g_G} (h : fX4_following E t v1 G = some q) : gMet l E D yX4_following (ws_ yX4_following cX4_following 3 (some .int)) 1 64 [.inr (.inr (some t)), .inl v1] G (some (.int q.1)) q.2 := by
  refine gMet.of (by decide +kernel) (Nat.le_of_ble_eq_true rfl) ?_
  intro p e R s m args below meth c C hS ls hl
  have C : gC p R s m args meth c cX4_following 3 RX4 "following" (some .int) 1 64 E D := C
  obtain ⟨hx, hb, hml, hown, hts, hKn, hRc, hRs, hc1, hc2, hRf, hRl, hr, hlk, hnm⟩ := id C
  have hl : gls ls 3 [(0, .inr (.inr (some t))), (1, .inl v1)] := hl
  generalize s.heap = H at hS ⊢
  unfold fX4_following at h
  refine g_aload_n hx hb hl 0 rfl dX4_following_0 ?_
  refine g_rdR hx hb hown hts hKn hS h fd_4_4_29 rfl (Or.inl (hts _ q1894)) (fun _ z => z) dX4_following_1 (fun x1 h => ?_)
  refine g_iload_n hx hb hl 1 rfl dX4_following_4 ?_
  refine g_ialoadG hx hb hKn hS h dX4_following_5 (fun x5 h => ?_)
  refine g_istore_n (l1 := [(2, .inl x5), (0, .inr (.inr (some t))), (1, .inl v1)]) hx hb hl (by decide) rfl dX4_following_6 (fun ls hl => ?_)
  exact sX4_following_b7 C gFU _ _ _ _ h _ _ _ _ _ hS (gls_sub hl [1, 0] rfl)
/-- SendHallModel.hasPlay()Z -/
def fX4_hasPlay (E : g_E) (t : Nat) (G : g_G) : Option (Int32 × g_G) :=
  (grI G 4 4 (some t) 57).bind fun x1 =>
  (grI G 4 4 (some t) 3).bind fun x5 =>
  if ¬ x1 = x5 then (
    if (0 : Int32) = 0 ∨ (0 : Int32) = 1 then some (0, G) else none)
  else (
    (grI G 4 4 (some t) 58).bind fun x12 =>
    (grI G 4 4 (some t) 8).bind fun x16 =>
    if ¬ x12 = x16 then (
      if (0 : Int32) = 0 ∨ (0 : Int32) = 1 then some (0, G) else none)
    else (
      if (1 : Int32) = 0 ∨ (1 : Int32) = 1 then some (1, G) else none))
theorem sX4_hasPlay (l : Launch) (E : g_E) (D : g_D) {t : Nat} {G : g_G} {q : Int32 × g_G} (h : fX4_hasPlay E t G = some q) : gMet l E D yX4_hasPlay (ws_ yX4_hasPlay cX4_hasPlay 1 (some .boolean)) 1 64 [.inr (.inr (some t))] G (some (.int q.1)) q.2 := by
  refine gMet.of (by decide +kernel) (Nat.le_of_ble_eq_true rfl) ?_
  intro p e R s m args below meth c C hS ls hl
  have C : gC p R s m args meth c cX4_hasPlay 1 RX4 "hasPlay" (some .boolean) 1 64 E D := C
  obtain ⟨hx, hb, hml, hown, hts, hKn, hRc, hRs, hc1, hc2, hRf, hRl, hr, hlk, hnm⟩ := id C
  have hl : gls ls 1 [(0, .inr (.inr (some t)))] := hl
  generalize s.heap = H at hS ⊢
  unfold fX4_hasPlay at h
  refine g_aload_n hx hb hl 0 rfl dX4_hasPlay_0 ?_
  refine g_rdI hx hb hown hts hKn hS h fd_4_4_57 rfl (Or.inl (hts _ q1922)) (fun _ z => z) dX4_hasPlay_1 (fun x1 h => ?_)
  refine g_aload_n hx hb hl 0 rfl dX4_hasPlay_4 ?_
  refine g_rdI hx hb hown hts hKn hS h fd_4_4_3 rfl (Or.inl (hts _ q1868)) (fun _ z => z) dX4_hasPlay_5 (fun x5 h => ?_)
  refine lv_icmp_ne (tgt := 26) hx hb dX4_hasPlay_8 (by decide) (fun c_8 => ?_) (fun c_8 => ?_)
  · have h := g_ift c_8 h
    refine lv_iconst (v := 0) hx hb dX4_hasPlay_26 (by decide) ?_
    exact g_zretG hx hb hr hlk hKn hRc hRs hS h dX4_hasPlay_27
  · have h := g_iff (fun z => z c_8) h
    refine g_aload_n hx hb hl 0 rfl dX4_hasPlay_11 ?_
    refine g_rdI hx hb hown hts hKn hS h fd_4_4_58 rfl (Or.inl (hts _ q1923)) (fun _ z => z) dX4_hasPlay_12 (fun x12 h => ?_)
    refine g_aload_n hx hb hl 0 rfl dX4_hasPlay_15 ?_
    refine g_rdI hx hb hown hts hKn hS h fd_4_4_8 rfl (Or.inl (hts _ q1873)) (fun _ z => z) dX4_hasPlay_16 (fun x16 h => ?_)
    refine lv_icmp_ne (tgt := 26) hx hb dX4_hasPlay_19 (by decide) (fun c_19 => ?_) (fun c_19 => ?_)
    · have h := g_ift c_19 h
      refine lv_iconst (v := 0) hx hb dX4_hasPlay_26 (by decide) ?_
      exact g_zretG hx hb hr hlk hKn hRc hRs hS h dX4_hasPlay_27
    · have h := g_iff (fun z => z c_19) h
      refine lv_iconst (v := 1) hx hb dX4_hasPlay_22 (by decide) ?_
      refine lv_goto (tgt := 27) hx hb dX4_hasPlay_23 (by decide) ?_
      exact g_zretG hx hb hr hlk hKn hRc hRs hS h dX4_hasPlay_27
/-- SendHallModel.<init>()V -/
def fX4_init (E : g_E) (t : Nat) (G : g_G) : Option (g_G) :=
  (gnewA E G 123 11).bind fun z7 =>
  (gsaR E z7.2 123 (some z7.1) 0 (some (gA E 22))).bind fun G14 =>
  (gsaR E G14 123 (some z7.1) 1 (some (gA E 23))).bind fun G19 =>
  (gsaR E G19 123 (some z7.1) 2 (some (gA E 24))).bind fun G24 =>
  (gsaR E G24 123 (some z7.1) 3 (some (gA E 25))).bind fun G29 =>
  (gsaR E G29 123 (some z7.1) 4 (some (gA E 26))).bind fun G34 =>
  (gsaR E G34 123 (some z7.1) 5 (some (gA E 27))).bind fun G39 =>
  (gsaR E G39 123 (some z7.1) 6 (some (gA E 28))).bind fun G45 =>
  (gsaR E G45 123 (some z7.1) 7 (some (gA E 29))).bind fun G51 =>
  (gsaR E G51 123 (some z7.1) 8 (some (gA E 30))).bind fun G57 =>
  (gsaR E G57 123 (some z7.1) 9 (some (gA E 31))).bind fun G63 =>
  (gsaR E G63 123 (some z7.1) 10 (some (gA E 32))).bind fun G69 =>
  (gpR E G69 4 4 (some t) 0 (some z7.1)).bind fun G70 =>
  (gnewA E G70 123 7).bind fun z76 =>
  (gsaR E z76.2 123 (some z76.1) 0 (some (gA E 37))).bind fun G83 =>
  (gsaR E G83 123 (some z76.1) 1 (some (gA E 38))).bind fun G88 =>
  (gsaR E G88 123 (some z76.1) 2 (some (gA E 39))).bind fun G93 =>
  (gsaR E G93 123 (some z76.1) 3 (some (gA E 40))).bind fun G98 =>
  (gsaR E G98 123 (some z76.1) 4 (some (gA E 41))).bind fun G103 =>
  (gsaR E G103 123 (some z76.1) 5 (some (gA E 42))).bind fun G108 =>
  (gsaR E G108 123 (some z76.1) 6 (some (gA E 43))).bind fun G114 =>
  (gpR E G114 4 4 (some t) 1 (some z76.1)).bind fun G115 =>
  (gpI E G115 4 4 (some t) 3 2).bind fun G120 =>
  (gnewA E G120 100 700).bind fun z127 =>
  (gpR E z127.2 4 4 (some t) 9 (some z127.1)).bind fun G129 =>
  (gpI E G129 4 4 (some t) 20 (-1)).bind fun G134 =>
  (gnewA E G134 100 2).bind fun z139 =>
  (gpR E z139.2 4 4 (some t) 22 (some z139.1)).bind fun G141 =>
  (gnewA E G141 100 2160).bind fun z148 =>
  (gpR E z148.2 4 4 (some t) 23 (some z148.1)).bind fun G150 =>
  (gnewA E G150 100 80).bind fun z156 =>
  (gpR E z156.2 4 4 (some t) 24 (some z156.1)).bind fun G158 =>
  (gnewA E G158 100 240).bind fun z165 =>
  (gpR E z165.2 4 4 (some t) 25 (some z165.1)).bind fun G167 =>
  (gnewA E G167 100 240).bind fun z174 =>
  (gpR E z174.2 4 4 (some t) 26 (some z174.1)).bind fun G176 =>
  (gnewA E G176 100 80).bind fun z182 =>
  (gpR E z182.2 4 4 (some t) 27 (some z182.1)).bind fun G184 =>
  (gnewA E G184 100 80).bind fun z190 =>
  (gpR E z190.2 4 4 (some t) 28 (some z190.1)).bind fun G192 =>
  (gnewA E G192 100 80).bind fun z198 =>
  (gpR E z198.2 4 4 (some t) 29 (some z198.1)).bind fun G200 =>
  (gnewA E G200 100 80).bind fun z206 =>
  (gpR E z206.2 4 4 (some t) 30 (some z206.1)).bind fun G208 =>
  (gnewA E G208 100 80).bind fun z214 =>
  (gpR E z214.2 4 4 (some t) 31 (some z214.1)).bind fun G216 =>
  (gnewA E G216 102 40).bind fun z222 =>
  (gpR E z222.2 4 4 (some t) 32 (some z222.1)).bind fun G224 =>
  (gnewA E G224 100 1985).bind fun z231 =>
  (gpR E z231.2 4 4 (some t) 33 (some z231.1)).bind fun G233 =>
  (gnewA E G233 100 360).bind fun z240 =>
  (gpR E z240.2 4 4 (some t) 34 (some z240.1)).bind fun G242 =>
  (gpI E G242 4 4 (some t) 35 (-1)).bind fun G247 =>
  (gnewA E G247 100 8).bind fun z253 =>
  (gpR E z253.2 4 4 (some t) 36 (some z253.1)).bind fun G255 =>
  (gnewA E G255 100 8).bind fun z261 =>
  (gpR E z261.2 4 4 (some t) 37 (some z261.1)).bind fun G263 =>
  (gnewA E G263 100 8).bind fun z269 =>
  (gpR E z269.2 4 4 (some t) 38 (some z269.1)).bind fun G271 =>
  (gnewA E G271 100 321).bind fun z278 =>
  (gpR E z278.2 4 4 (some t) 39 (some z278.1)).bind fun G280 =>
  (gnewA E G280 100 397000).bind fun z286 =>
  (gpR E z286.2 4 4 (some t) 43 (some z286.1)).bind fun G288 =>
  (gnewA E G288 100 201).bind fun z295 =>
  (gpR E z295.2 4 4 (some t) 44 (some z295.1)).bind fun G297 =>
  (gnewA E G297 102 201).bind fun z304 =>
  (gpR E z304.2 4 4 (some t) 45 (some z304.1)).bind fun G306 =>
  (gpI E G306 4 4 (some t) 47 (-1)).bind fun G311 =>
  (gnewA E G311 100 320).bind fun z318 =>
  (gpR E z318.2 4 4 (some t) 49 (some z318.1)).bind fun G320 =>
  (gnewA E G320 100 2211).bind fun z327 =>
  (gpR E z327.2 4 4 (some t) 50 (some z327.1)).bind fun G329 =>
  (gnewA E G329 100 320).bind fun z336 =>
  (gpR E z336.2 4 4 (some t) 54 (some z336.1)).bind fun G338 =>
  (gnewA E G338 102 40).bind fun z344 =>
  (gpR E z344.2 4 4 (some t) 55 (some z344.1)).bind fun G346 =>
  (gpI E G346 4 4 (some t) 56 (-1)).bind fun G351 =>
  (gpI E G351 4 4 (some t) 57 (-1)).bind fun G356 =>
  (gnewA E G356 100 1985).bind fun z363 =>
  (gpR E z363.2 4 4 (some t) 61 (some z363.1)).bind fun G365 =>
  (gnewA E G365 100 320).bind fun z372 =>
  (gpR E z372.2 4 4 (some t) 62 (some z372.1)).bind fun G374 =>
  (gnewA E G374 100 8).bind fun z380 =>
  (gpR E z380.2 4 4 (some t) 63 (some z380.1)).bind fun G382 =>
  (gnewA E G382 100 8).bind fun z388 =>
  (gpR E z388.2 4 4 (some t) 64 (some z388.1)).bind fun G390 =>
  (gnewA E G390 100 8).bind fun z396 =>
  (gpR E z396.2 4 4 (some t) 65 (some z396.1)).bind fun G398 =>
  (gnewA E G398 100 8).bind fun z404 =>
  (gpR E z404.2 4 4 (some t) 66 (some z404.1)).bind fun G406 =>
  (gnewA E G406 100 8).bind fun z412 =>
  (gpR E z412.2 4 4 (some t) 67 (some z412.1)).bind fun G414 =>
  (gnewA E G414 100 320).bind fun z421 =>
  (gpR E z421.2 4 4 (some t) 69 (some z421.1)).bind fun G423 =>
  some G423
theorem sX4_init (l : Launch) (E : g_E) (D : g_D) {t : Nat} {G : g_G} {q : g_G} (h : fX4_init E t G = some q) : gMet l E D yX4_init (ws_ yX4_init cX4_init 1 (none)) 1 64 [.inr (.inr (some t))] G none q := by
  refine gMet.of (by decide +kernel) (Nat.le_of_ble_eq_true rfl) ?_
  intro p e R s m args below meth c C hS ls hl
  have C : gC p R s m args meth c cX4_init 1 RX4 "<init>" (none) 1 64 E D := C
  obtain ⟨hx, hb, hml, hown, hts, hKn, hRc, hRs, hc1, hc2, hRf, hRl, hr, hlk, hnm⟩ := id C
  have hl : gls ls 1 [(0, .inr (.inr (some t)))] := hl
  generalize s.heap = H at hS ⊢
  unfold fX4_init at h
  refine g_aload_n hx hb hl 0 rfl dX4_init_0 ?_
  refine g_objInit (rs := []) hx hb hml hown hl (hts _ q1843) (hts _ q162) (hts _ q163) rfl dX4_init_1 ⟨by rw [hRf]; exact Nat.le_of_ble_eq_true rfl, by rw [hRl]; exact Nat.le_of_ble_eq_true rfl⟩ ?_
  refine g_aload_n hx hb hl 0 rfl dX4_init_4 ?_
  refine lv_bipush (v := 11) hx hb dX4_init_5 (by decide) ?_
  refine g_newqG (k := 123) (C := "java/lang/String") hx hb hown hKn hRc hRs hS h (by decide) rfl (List.mem_of_getElem? (i := 3) rfl) (hts _ q1844) dX4_init_7 (fun z7 h H locs cells slots hS => ?_)
  refine lv_dup hx hb dX4_init_10 (by first | exact va_rf_cat _ | rfl | exact g_catA _) ?_
  refine lv_iconst (v := 0) hx hb dX4_init_11 (by decide) ?_
  refine g_ldcS (i := 22) hx hb hown hKn (List.mem_of_getElem? (i := 37) rfl) dX4_init_12 ?_
  refine g_aastoreG hx hb hKn hS h (by decide) dX4_init_14 (fun G14 h H locs hS => ?_)
  refine lv_dup hx hb dX4_init_15 (by first | exact va_rf_cat _ | rfl | exact g_catA _) ?_
  refine lv_iconst (v := 1) hx hb dX4_init_16 (by decide) ?_
  refine g_ldcS (i := 23) hx hb hown hKn (List.mem_of_getElem? (i := 38) rfl) dX4_init_17 ?_
  refine g_aastoreG hx hb hKn hS h (by decide) dX4_init_19 (fun G19 h H locs hS => ?_)
  refine lv_dup hx hb dX4_init_20 (by first | exact va_rf_cat _ | rfl | exact g_catA _) ?_
  refine lv_iconst (v := 2) hx hb dX4_init_21 (by decide) ?_
  refine g_ldcS (i := 24) hx hb hown hKn (List.mem_of_getElem? (i := 39) rfl) dX4_init_22 ?_
  refine g_aastoreG hx hb hKn hS h (by decide) dX4_init_24 (fun G24 h H locs hS => ?_)
  refine lv_dup hx hb dX4_init_25 (by first | exact va_rf_cat _ | rfl | exact g_catA _) ?_
  refine lv_iconst (v := 3) hx hb dX4_init_26 (by decide) ?_
  refine g_ldcS (i := 25) hx hb hown hKn (List.mem_of_getElem? (i := 40) rfl) dX4_init_27 ?_
  refine g_aastoreG hx hb hKn hS h (by decide) dX4_init_29 (fun G29 h H locs hS => ?_)
  refine lv_dup hx hb dX4_init_30 (by first | exact va_rf_cat _ | rfl | exact g_catA _) ?_
  refine lv_iconst (v := 4) hx hb dX4_init_31 (by decide) ?_
  refine g_ldcS (i := 26) hx hb hown hKn (List.mem_of_getElem? (i := 41) rfl) dX4_init_32 ?_
  refine g_aastoreG hx hb hKn hS h (by decide) dX4_init_34 (fun G34 h H locs hS => ?_)
  refine lv_dup hx hb dX4_init_35 (by first | exact va_rf_cat _ | rfl | exact g_catA _) ?_
  refine lv_iconst (v := 5) hx hb dX4_init_36 (by decide) ?_
  refine g_ldcS (i := 27) hx hb hown hKn (List.mem_of_getElem? (i := 42) rfl) dX4_init_37 ?_
  refine g_aastoreG hx hb hKn hS h (by decide) dX4_init_39 (fun G39 h H locs hS => ?_)
  refine lv_dup hx hb dX4_init_40 (by first | exact va_rf_cat _ | rfl | exact g_catA _) ?_
  refine lv_bipush (v := 6) hx hb dX4_init_41 (by decide) ?_
  refine g_ldcS (i := 28) hx hb hown hKn (List.mem_of_getElem? (i := 43) rfl) dX4_init_43 ?_
  refine g_aastoreG hx hb hKn hS h (by decide) dX4_init_45 (fun G45 h H locs hS => ?_)
  refine lv_dup hx hb dX4_init_46 (by first | exact va_rf_cat _ | rfl | exact g_catA _) ?_
  refine lv_bipush (v := 7) hx hb dX4_init_47 (by decide) ?_
  refine g_ldcS (i := 29) hx hb hown hKn (List.mem_of_getElem? (i := 44) rfl) dX4_init_49 ?_
  refine g_aastoreG hx hb hKn hS h (by decide) dX4_init_51 (fun G51 h H locs hS => ?_)
  refine lv_dup hx hb dX4_init_52 (by first | exact va_rf_cat _ | rfl | exact g_catA _) ?_
  refine lv_bipush (v := 8) hx hb dX4_init_53 (by decide) ?_
  refine g_ldcS (i := 30) hx hb hown hKn (List.mem_of_getElem? (i := 45) rfl) dX4_init_55 ?_
  refine g_aastoreG hx hb hKn hS h (by decide) dX4_init_57 (fun G57 h H locs hS => ?_)
  refine lv_dup hx hb dX4_init_58 (by first | exact va_rf_cat _ | rfl | exact g_catA _) ?_
  refine lv_bipush (v := 9) hx hb dX4_init_59 (by decide) ?_
  refine g_ldcS (i := 31) hx hb hown hKn (List.mem_of_getElem? (i := 46) rfl) dX4_init_61 ?_
  refine g_aastoreG hx hb hKn hS h (by decide) dX4_init_63 (fun G63 h H locs hS => ?_)
  refine lv_dup hx hb dX4_init_64 (by first | exact va_rf_cat _ | rfl | exact g_catA _) ?_
  refine lv_bipush (v := 10) hx hb dX4_init_65 (by decide) ?_
  refine g_ldcS (i := 32) hx hb hown hKn (List.mem_of_getElem? (i := 47) rfl) dX4_init_67 ?_
  refine g_aastoreG hx hb hKn hS h (by decide) dX4_init_69 (fun G69 h H locs hS => ?_)
  refine g_ptR hx hb hown hts hKn hS h fd_4_4_0 rfl (Or.inl (hts _ q1865)) (fun _ z => z) (fun _ => ⟨hnm, rfl⟩) dX4_init_70 (fun G70 h H locs hS => ?_)
  refine g_aload_n hx hb hl 0 rfl dX4_init_73 ?_
  refine lv_bipush (v := 7) hx hb dX4_init_74 (by decide) ?_
  refine g_newqG (k := 123) (C := "java/lang/String") hx hb hown hKn hRc hRs hS h (by decide) rfl (List.mem_of_getElem? (i := 3) rfl) (hts _ q1844) dX4_init_76 (fun z76 h H locs cells slots hS => ?_)
  refine lv_dup hx hb dX4_init_79 (by first | exact va_rf_cat _ | rfl | exact g_catA _) ?_
  refine lv_iconst (v := 0) hx hb dX4_init_80 (by decide) ?_
  refine g_ldcS (i := 37) hx hb hown hKn (List.mem_of_getElem? (i := 48) rfl) dX4_init_81 ?_
  refine g_aastoreG hx hb hKn hS h (by decide) dX4_init_83 (fun G83 h H locs hS => ?_)
  refine lv_dup hx hb dX4_init_84 (by first | exact va_rf_cat _ | rfl | exact g_catA _) ?_
  refine lv_iconst (v := 1) hx hb dX4_init_85 (by decide) ?_
  refine g_ldcS (i := 38) hx hb hown hKn (List.mem_of_getElem? (i := 49) rfl) dX4_init_86 ?_
  refine g_aastoreG hx hb hKn hS h (by decide) dX4_init_88 (fun G88 h H locs hS => ?_)
  refine lv_dup hx hb dX4_init_89 (by first | exact va_rf_cat _ | rfl | exact g_catA _) ?_
  refine lv_iconst (v := 2) hx hb dX4_init_90 (by decide) ?_
  refine g_ldcS (i := 39) hx hb hown hKn (List.mem_of_getElem? (i := 50) rfl) dX4_init_91 ?_
  refine g_aastoreG hx hb hKn hS h (by decide) dX4_init_93 (fun G93 h H locs hS => ?_)
  refine lv_dup hx hb dX4_init_94 (by first | exact va_rf_cat _ | rfl | exact g_catA _) ?_
  refine lv_iconst (v := 3) hx hb dX4_init_95 (by decide) ?_
  refine g_ldcS (i := 40) hx hb hown hKn (List.mem_of_getElem? (i := 51) rfl) dX4_init_96 ?_
  refine g_aastoreG hx hb hKn hS h (by decide) dX4_init_98 (fun G98 h H locs hS => ?_)
  refine lv_dup hx hb dX4_init_99 (by first | exact va_rf_cat _ | rfl | exact g_catA _) ?_
  refine lv_iconst (v := 4) hx hb dX4_init_100 (by decide) ?_
  refine g_ldcS (i := 41) hx hb hown hKn (List.mem_of_getElem? (i := 52) rfl) dX4_init_101 ?_
  refine g_aastoreG hx hb hKn hS h (by decide) dX4_init_103 (fun G103 h H locs hS => ?_)
  refine lv_dup hx hb dX4_init_104 (by first | exact va_rf_cat _ | rfl | exact g_catA _) ?_
  refine lv_iconst (v := 5) hx hb dX4_init_105 (by decide) ?_
  refine g_ldcS (i := 42) hx hb hown hKn (List.mem_of_getElem? (i := 53) rfl) dX4_init_106 ?_
  refine g_aastoreG hx hb hKn hS h (by decide) dX4_init_108 (fun G108 h H locs hS => ?_)
  refine lv_dup hx hb dX4_init_109 (by first | exact va_rf_cat _ | rfl | exact g_catA _) ?_
  refine lv_bipush (v := 6) hx hb dX4_init_110 (by decide) ?_
  refine g_ldcS (i := 43) hx hb hown hKn (List.mem_of_getElem? (i := 54) rfl) dX4_init_112 ?_
  refine g_aastoreG hx hb hKn hS h (by decide) dX4_init_114 (fun G114 h H locs hS => ?_)
  refine g_ptR hx hb hown hts hKn hS h fd_4_4_1 rfl (Or.inl (hts _ q1866)) (fun _ z => z) (fun _ => ⟨hnm, rfl⟩) dX4_init_115 (fun G115 h H locs hS => ?_)
  refine g_aload_n hx hb hl 0 rfl dX4_init_118 ?_
  refine lv_iconst (v := 2) hx hb dX4_init_119 (by decide) ?_
  refine g_ptI hx hb hown hts hKn hS h fd_4_4_3 (Or.inl (hts _ q1868)) (fun _ z => z) (fun z => nomatch z) dX4_init_120 (fun G120 h H locs hS => ?_)
  refine g_aload_n hx hb hl 0 rfl dX4_init_123 ?_
  refine lv_sipush (v := 700) hx hb dX4_init_124 (by decide) ?_
  refine g_newaG (k := 100) (atype := .int) hx hb hKn hRc hRs hS h (by decide) rfl (hts _ q596) dX4_init_127 (fun z127 h H locs cells slots hS => ?_)
  refine g_ptR hx hb hown hts hKn hS h fd_4_4_9 rfl (Or.inl (hts _ q1874)) (fun _ z => z) (fun _ => ⟨hnm, rfl⟩) dX4_init_129 (fun G129 h H locs hS => ?_)
  refine g_aload_n hx hb hl 0 rfl dX4_init_132 ?_
  refine lv_iconst (v := (-1)) hx hb dX4_init_133 (by decide) ?_
  refine g_ptI hx hb hown hts hKn hS h fd_4_4_20 (Or.inl (hts _ q1885)) (fun _ z => z) (fun z => nomatch z) dX4_init_134 (fun G134 h H locs hS => ?_)
  refine g_aload_n hx hb hl 0 rfl dX4_init_137 ?_
  refine lv_iconst (v := 2) hx hb dX4_init_138 (by decide) ?_
  refine g_newaG (k := 100) (atype := .int) hx hb hKn hRc hRs hS h (by decide) rfl (hts _ q596) dX4_init_139 (fun z139 h H locs cells slots hS => ?_)
  refine g_ptR hx hb hown hts hKn hS h fd_4_4_22 rfl (Or.inl (hts _ q1887)) (fun _ z => z) (fun _ => ⟨hnm, rfl⟩) dX4_init_141 (fun G141 h H locs hS => ?_)
  refine g_aload_n hx hb hl 0 rfl dX4_init_144 ?_
  refine lv_sipush (v := 2160) hx hb dX4_init_145 (by decide) ?_
  refine g_newaG (k := 100) (atype := .int) hx hb hKn hRc hRs hS h (by decide) rfl (hts _ q596) dX4_init_148 (fun z148 h H locs cells slots hS => ?_)
  refine g_ptR hx hb hown hts hKn hS h fd_4_4_23 rfl (Or.inl (hts _ q1888)) (fun _ z => z) (fun _ => ⟨hnm, rfl⟩) dX4_init_150 (fun G150 h H locs hS => ?_)
  refine g_aload_n hx hb hl 0 rfl dX4_init_153 ?_
  refine lv_bipush (v := 80) hx hb dX4_init_154 (by decide) ?_
  refine g_newaG (k := 100) (atype := .int) hx hb hKn hRc hRs hS h (by decide) rfl (hts _ q596) dX4_init_156 (fun z156 h H locs cells slots hS => ?_)
  refine g_ptR hx hb hown hts hKn hS h fd_4_4_24 rfl (Or.inl (hts _ q1889)) (fun _ z => z) (fun _ => ⟨hnm, rfl⟩) dX4_init_158 (fun G158 h H locs hS => ?_)
  refine g_aload_n hx hb hl 0 rfl dX4_init_161 ?_
  refine lv_sipush (v := 240) hx hb dX4_init_162 (by decide) ?_
  refine g_newaG (k := 100) (atype := .int) hx hb hKn hRc hRs hS h (by decide) rfl (hts _ q596) dX4_init_165 (fun z165 h H locs cells slots hS => ?_)
  refine g_ptR hx hb hown hts hKn hS h fd_4_4_25 rfl (Or.inl (hts _ q1890)) (fun _ z => z) (fun _ => ⟨hnm, rfl⟩) dX4_init_167 (fun G167 h H locs hS => ?_)
  refine g_aload_n hx hb hl 0 rfl dX4_init_170 ?_
  refine lv_sipush (v := 240) hx hb dX4_init_171 (by decide) ?_
  refine g_newaG (k := 100) (atype := .int) hx hb hKn hRc hRs hS h (by decide) rfl (hts _ q596) dX4_init_174 (fun z174 h H locs cells slots hS => ?_)
  refine g_ptR hx hb hown hts hKn hS h fd_4_4_26 rfl (Or.inl (hts _ q1891)) (fun _ z => z) (fun _ => ⟨hnm, rfl⟩) dX4_init_176 (fun G176 h H locs hS => ?_)
  refine g_aload_n hx hb hl 0 rfl dX4_init_179 ?_
  refine lv_bipush (v := 80) hx hb dX4_init_180 (by decide) ?_
  refine g_newaG (k := 100) (atype := .int) hx hb hKn hRc hRs hS h (by decide) rfl (hts _ q596) dX4_init_182 (fun z182 h H locs cells slots hS => ?_)
  refine g_ptR hx hb hown hts hKn hS h fd_4_4_27 rfl (Or.inl (hts _ q1892)) (fun _ z => z) (fun _ => ⟨hnm, rfl⟩) dX4_init_184 (fun G184 h H locs hS => ?_)
  refine g_aload_n hx hb hl 0 rfl dX4_init_187 ?_
  refine lv_bipush (v := 80) hx hb dX4_init_188 (by decide) ?_
  refine g_newaG (k := 100) (atype := .int) hx hb hKn hRc hRs hS h (by decide) rfl (hts _ q596) dX4_init_190 (fun z190 h H locs cells slots hS => ?_)
  refine g_ptR hx hb hown hts hKn hS h fd_4_4_28 rfl (Or.inl (hts _ q1893)) (fun _ z => z) (fun _ => ⟨hnm, rfl⟩) dX4_init_192 (fun G192 h H locs hS => ?_)
  refine g_aload_n hx hb hl 0 rfl dX4_init_195 ?_
  refine lv_bipush (v := 80) hx hb dX4_init_196 (by decide) ?_
  refine g_newaG (k := 100) (atype := .int) hx hb hKn hRc hRs hS h (by decide) rfl (hts _ q596) dX4_init_198 (fun z198 h H locs cells slots hS => ?_)
  refine g_ptR hx hb hown hts hKn hS h fd_4_4_29 rfl (Or.inl (hts _ q1894)) (fun _ z => z) (fun _ => ⟨hnm, rfl⟩) dX4_init_200 (fun G200 h H locs hS => ?_)
  refine g_aload_n hx hb hl 0 rfl dX4_init_203 ?_
  refine lv_bipush (v := 80) hx hb dX4_init_204 (by decide) ?_
  refine g_newaG (k := 100) (atype := .int) hx hb hKn hRc hRs hS h (by decide) rfl (hts _ q596) dX4_init_206 (fun z206 h H locs cells slots hS => ?_)
  refine g_ptR hx hb hown hts hKn hS h fd_4_4_30 rfl (Or.inl (hts _ q1895)) (fun _ z => z) (fun _ => ⟨hnm, rfl⟩) dX4_init_208 (fun G208 h H locs hS => ?_)
  refine g_aload_n hx hb hl 0 rfl dX4_init_211 ?_
  refine lv_bipush (v := 80) hx hb dX4_init_212 (by decide) ?_
  refine g_newaG (k := 100) (atype := .int) hx hb hKn hRc hRs hS h (by decide) rfl (hts _ q596) dX4_init_214 (fun z214 h H locs cells slots hS => ?_)
  refine g_ptR hx hb hown hts hKn hS h fd_4_4_31 rfl (Or.inl (hts _ q1896)) (fun _ z => z) (fun _ => ⟨hnm, rfl⟩) dX4_init_216 (fun G216 h H locs hS => ?_)
  refine g_aload_n hx hb hl 0 rfl dX4_init_219 ?_
  refine lv_bipush (v := 40) hx hb dX4_init_220 (by decide) ?_
  refine g_newaG (k := 102) (atype := .boolean) hx hb hKn hRc hRs hS h (by decide) rfl (hts _ q595) dX4_init_222 (fun z222 h H locs cells slots hS => ?_)
  refine g_ptR hx hb hown hts hKn hS h fd_4_4_32 rfl (Or.inl (hts _ q1897)) (fun _ z => z) (fun _ => ⟨hnm, rfl⟩) dX4_init_224 (fun G224 h H locs hS => ?_)
  refine g_aload_n hx hb hl 0 rfl dX4_init_227 ?_
  refine lv_sipush (v := 1985) hx hb dX4_init_228 (by decide) ?_
  refine g_newaG (k := 100) (atype := .int) hx hb hKn hRc hRs hS h (by decide) rfl (hts _ q596) dX4_init_231 (fun z231 h H locs cells slots hS => ?_)
  refine g_ptR hx hb hown hts hKn hS h fd_4_4_33 rfl (Or.inl (hts _ q1898)) (fun _ z => z) (fun _ => ⟨hnm, rfl⟩) dX4_init_233 (fun G233 h H locs hS => ?_)
  refine g_aload_n hx hb hl 0 rfl dX4_init_236 ?_
  refine lv_sipush (v := 360) hx hb dX4_init_237 (by decide) ?_
  refine g_newaG (k := 100) (atype := .int) hx hb hKn hRc hRs hS h (by decide) rfl (hts _ q596) dX4_init_240 (fun z240 h H locs cells slots hS => ?_)
  refine g_ptR hx hb hown hts hKn hS h fd_4_4_34 rfl (Or.inl (hts _ q1899)) (fun _ z => z) (fun _ => ⟨hnm, rfl⟩) dX4_init_242 (fun G242 h H locs hS => ?_)
  refine g_aload_n hx hb hl 0 rfl dX4_init_245 ?_
  refine lv_iconst (v := (-1)) hx hb dX4_init_246 (by decide) ?_
  refine g_ptI hx hb hown hts hKn hS h fd_4_4_35 (Or.inl (hts _ q1900)) (fun _ z => z) (fun z => nomatch z) dX4_init_247 (fun G247 h H locs hS => ?_)
  refine g_aload_n hx hb hl 0 rfl dX4_init_250 ?_
  refine lv_bipush (v := 8) hx hb dX4_init_251 (by decide) ?_
  refine g_newaG (k := 100) (atype := .int) hx hb hKn hRc hRs hS h (by decide) rfl (hts _ q596) dX4_init_253 (fun z253 h H locs cells slots hS => ?_)
  refine g_ptR hx hb hown hts hKn hS h fd_4_4_36 rfl (Or.inl (hts _ q1901)) (fun _ z => z) (fun _ => ⟨hnm, rfl⟩) dX4_init_255 (fun G255 h H locs hS => ?_)
  refine g_aload_n hx hb hl 0 rfl dX4_init_258 ?_
  refine lv_bipush (v := 8) hx hb dX4_init_259 (by decide) ?_
  refine g_newaG (k := 100) (atype := .int) hx hb hKn hRc hRs hS h (by decide) rfl (hts _ q596) dX4_init_261 (fun z261 h H locs cells slots hS => ?_)
  refine g_ptR hx hb hown hts hKn hS h fd_4_4_37 rfl (Or.inl (hts _ q1902)) (fun _ z => z) (fun _ => ⟨hnm, rfl⟩) dX4_init_263 (fun G263 h H locs hS => ?_)
  refine g_aload_n hx hb hl 0 rfl dX4_init_266 ?_
  refine lv_bipush (v := 8) hx hb dX4_init_267 (by decide) ?_
  refine g_newaG (k := 100) (atype := .int) hx hb hKn hRc hRs hS h (by decide) rfl (hts _ q596) dX4_init_269 (fun z269 h H locs cells slots hS => ?_)
  refine g_ptR hx hb hown hts hKn hS h fd_4_4_38 rfl (Or.inl (hts _ q1903)) (fun _ z => z) (fun _ => ⟨hnm, rfl⟩) dX4_init_271 (fun G271 h H locs hS => ?_)
  refine g_aload_n hx hb hl 0 rfl dX4_init_274 ?_
  refine lv_sipush (v := 321) hx hb dX4_init_275 (by decide) ?_
  refine g_newaG (k := 100) (atype := .int) hx hb hKn hRc hRs hS h (by decide) rfl (hts _ q596) dX4_init_278 (fun z278 h H locs cells slots hS => ?_)
  refine g_ptR hx hb hown hts hKn hS h fd_4_4_39 rfl (Or.inl (hts _ q1904)) (fun _ z => z) (fun _ => ⟨hnm, rfl⟩) dX4_init_280 (fun G280 h H locs hS => ?_)
  refine g_aload_n hx hb hl 0 rfl dX4_init_283 ?_
  refine lv_ldc (v := 397000) hx hb hown (hts _ q1864) dX4_init_284 ?_
  refine g_newaG (k := 100) (atype := .int) hx hb hKn hRc hRs hS h (by decide) rfl (hts _ q596) dX4_init_286 (fun z286 h H locs cells slots hS => ?_)
  refine g_ptR hx hb hown hts hKn hS h fd_4_4_43 rfl (Or.inl (hts _ q1908)) (fun _ z => z) (fun _ => ⟨hnm, rfl⟩) dX4_init_288 (fun G288 h H locs hS => ?_)
  refine g_aload_n hx hb hl 0 rfl dX4_init_291 ?_
  refine lv_sipush (v := 201) hx hb dX4_init_292 (by decide) ?_
  refine g_newaG (k := 100) (atype := .int) hx hb hKn hRc hRs hS h (by decide) rfl (hts _ q596) dX4_init_295 (fun z295 h H locs cells slots hS => ?_)
  refine g_ptR hx hb hown hts hKn hS h fd_4_4_44 rfl (Or.inl (hts _ q1909)) (fun _ z => z) (fun _ => ⟨hnm, rfl⟩) dX4_init_297 (fun G297 h H locs hS => ?_)
  refine g_aload_n hx hb hl 0 rfl dX4_init_300 ?_
  refine lv_sipush (v := 201) hx hb dX4_init_301 (by decide) ?_
  refine g_newaG (k := 102) (atype := .boolean) hx hb hKn hRc hRs hS h (by decide) rfl (hts _ q595) dX4_init_304 (fun z304 h H locs cells slots hS => ?_)
  refine g_ptR hx hb hown hts hKn hS h fd_4_4_45 rfl (Or.inl (hts _ q1910)) (fun _ z => z) (fun _ => ⟨hnm, rfl⟩) dX4_init_306 (fun G306 h H locs hS => ?_)
  refine g_aload_n hx hb hl 0 rfl dX4_init_309 ?_
  refine lv_iconst (v := (-1)) hx hb dX4_init_310 (by decide) ?_
  refine g_ptI hx hb hown hts hKn hS h fd_4_4_47 (Or.inl (hts _ q1912)) (fun _ z => z) (fun z => nomatch z) dX4_init_311 (fun G311 h H locs hS => ?_)
  refine g_aload_n hx hb hl 0 rfl dX4_init_314 ?_
  refine lv_sipush (v := 320) hx hb dX4_init_315 (by decide) ?_
  refine g_newaG (k := 100) (atype := .int) hx hb hKn hRc hRs hS h (by decide) rfl (hts _ q596) dX4_init_318 (fun z318 h H locs cells slots hS => ?_)
  refine g_ptR hx hb hown hts hKn hS h fd_4_4_49 rfl (Or.inl (hts _ q1914)) (fun _ z => z) (fun _ => ⟨hnm, rfl⟩) dX4_init_320 (fun G320 h H locs hS => ?_)
  refine g_aload_n hx hb hl 0 rfl dX4_init_323 ?_
  refine lv_sipush (v := 2211) hx hb dX4_init_324 (by decide) ?_
  refine g_newaG (k := 100) (atype := .int) hx hb hKn hRc hRs hS h (by decide) rfl (hts _ q596) dX4_init_327 (fun z327 h H locs cells slots hS => ?_)
  refine g_ptR hx hb hown hts hKn hS h fd_4_4_50 rfl (Or.inl (hts _ q1915)) (fun _ z => z) (fun _ => ⟨hnm, rfl⟩) dX4_init_329 (fun G329 h H locs hS => ?_)
  refine g_aload_n hx hb hl 0 rfl dX4_init_332 ?_
  refine lv_sipush (v := 320) hx hb dX4_init_333 (by decide) ?_
  refine g_newaG (k := 100) (atype := .int) hx hb hKn hRc hRs hS h (by decide) rfl (hts _ q596) dX4_init_336 (fun z336 h H locs cells slots hS => ?_)
  refine g_ptR hx hb hown hts hKn hS h fd_4_4_54 rfl (Or.inl (hts _ q1919)) (fun _ z => z) (fun _ => ⟨hnm, rfl⟩) dX4_init_338 (fun G338 h H locs hS => ?_)
  refine g_aload_n hx hb hl 0 rfl dX4_init_341 ?_
  refine lv_bipush (v := 40) hx hb dX4_init_342 (by decide) ?_
  refine g_newaG (k := 102) (atype := .boolean) hx hb hKn hRc hRs hS h (by decide) rfl (hts _ q595) dX4_init_344 (fun z344 h H locs cells slots hS => ?_)
  refine g_ptR hx hb hown hts hKn hS h fd_4_4_55 rfl (Or.inl (hts _ q1920)) (fun _ z => z) (fun _ => ⟨hnm, rfl⟩) dX4_init_346 (fun G346 h H locs hS => ?_)
  refine g_aload_n hx hb hl 0 rfl dX4_init_349 ?_
  refine lv_iconst (v := (-1)) hx hb dX4_init_350 (by decide) ?_
  refine g_ptI hx hb hown hts hKn hS h fd_4_4_56 (Or.inl (hts _ q1921)) (fun _ z => z) (fun z => nomatch z) dX4_init_351 (fun G351 h H locs hS => ?_)
  refine g_aload_n hx hb hl 0 rfl dX4_init_354 ?_
  refine lv_iconst (v := (-1)) hx hb dX4_init_355 (by decide) ?_
  refine g_ptI hx hb hown hts hKn hS h fd_4_4_57 (Or.inl (hts _ q1922)) (fun _ z => z) (fun z => nomatch z) dX4_init_356 (fun G356 h H locs hS => ?_)
  refine g_aload_n hx hb hl 0 rfl dX4_init_359 ?_
  refine lv_sipush (v := 1985) hx hb dX4_init_360 (by decide) ?_
  refine g_newaG (k := 100) (atype := .int) hx hb hKn hRc hRs hS h (by decide) rfl (hts _ q596) dX4_init_363 (fun z363 h H locs cells slots hS => ?_)
  refine g_ptR hx hb hown hts hKn hS h fd_4_4_61 rfl (Or.inl (hts _ q1926)) (fun _ z => z) (fun _ => ⟨hnm, rfl⟩) dX4_init_365 (fun G365 h H locs hS => ?_)
  refine g_aload_n hx hb hl 0 rfl dX4_init_368 ?_
  refine lv_sipush (v := 320) hx hb dX4_init_369 (by decide) ?_
  refine g_newaG (k := 100) (atype := .int) hx hb hKn hRc hRs hS h (by decide) rfl (hts _ q596) dX4_init_372 (fun z372 h H locs cells slots hS => ?_)
  refine g_ptR hx hb hown hts hKn hS h fd_4_4_62 rfl (Or.inl (hts _ q1927)) (fun _ z => z) (fun _ => ⟨hnm, rfl⟩) dX4_init_374 (fun G374 h H locs hS => ?_)
  refine g_aload_n hx hb hl 0 rfl dX4_init_377 ?_
  refine lv_bipush (v := 8) hx hb dX4_init_378 (by decide) ?_
  refine g_newaG (k := 100) (atype := .int) hx hb hKn hRc hRs hS h (by decide) rfl (hts _ q596) dX4_init_380 (fun z380 h H locs cells slots hS => ?_)
  refine g_ptR hx hb hown hts hKn hS h fd_4_4_63 rfl (Or.inl (hts _ q1928)) (fun _ z => z) (fun _ => ⟨hnm, rfl⟩) dX4_init_382 (fun G382 h H locs hS => ?_)
  refine g_aload_n hx hb hl 0 rfl dX4_init_385 ?_
  refine lv_bipush (v := 8) hx hb dX4_init_386 (by decide) ?_
  refine g_newaG (k := 100) (atype := .int) hx hb hKn hRc hRs hS h (by decide) rfl (hts _ q596) dX4_init_388 (fun z388 h H locs cells slots hS => ?_)
  refine g_ptR hx hb hown hts hKn hS h fd_4_4_64 rfl (Or.inl (hts _ q1929)) (fun _ z => z) (fun _ => ⟨hnm, rfl⟩) dX4_init_390 (fun G390 h H locs hS => ?_)
  refine g_aload_n hx hb hl 0 rfl dX4_init_393 ?_
  refine lv_bipush (v := 8) hx hb dX4_init_394 (by decide) ?_
  refine g_newaG (k := 100) (atype := .int) hx hb hKn hRc hRs hS h (by decide) rfl (hts _ q596) dX4_init_396 (fun z396 h H locs cells slots hS => ?_)
  refine g_ptR hx hb hown hts hKn hS h fd_4_4_65 rfl (Or.inl (hts _ q1930)) (fun _ z => z) (fun _ => ⟨hnm, rfl⟩) dX4_init_398 (fun G398 h H locs hS => ?_)
  refine g_aload_n hx hb hl 0 rfl dX4_init_401 ?_
  refine lv_bipush (v := 8) hx hb dX4_init_402 (by decide) ?_
  refine g_newaG (k := 100) (atype := .int) hx hb hKn hRc hRs hS h (by decide) rfl (hts _ q596) dX4_init_404 (fun z404 h H locs cells slots hS => ?_)
  refine g_ptR hx hb hown hts hKn hS h fd_4_4_66 rfl (Or.inl (hts _ q1931)) (fun _ z => z) (fun _ => ⟨hnm, rfl⟩) dX4_init_406 (fun G406 h H locs hS => ?_)
  refine g_aload_n hx hb hl 0 rfl dX4_init_409 ?_
  refine lv_bipush (v := 8) hx hb dX4_init_410 (by decide) ?_
  refine g_newaG (k := 100) (atype := .int) hx hb hKn hRc hRs hS h (by decide) rfl (hts _ q596) dX4_init_412 (fun z412 h H locs cells slots hS => ?_)
  refine g_ptR hx hb hown hts hKn hS h fd_4_4_67 rfl (Or.inl (hts _ q1932)) (fun _ z => z) (fun _ => ⟨hnm, rfl⟩) dX4_init_414 (fun G414 h H locs hS => ?_)
  refine g_aload_n hx hb hl 0 rfl dX4_init_417 ?_
  refine lv_sipush (v := 320) hx hb dX4_init_418 (by decide) ?_
  refine g_newaG (k := 100) (atype := .int) hx hb hKn hRc hRs hS h (by decide) rfl (hts _ q596) dX4_init_421 (fun z421 h H locs cells slots hS => ?_)
  refine g_ptR hx hb hown hts hKn hS h fd_4_4_69 rfl (Or.inl (hts _ q1934)) (fun _ z => z) (fun _ => ⟨hnm, rfl⟩) dX4_init_423 (fun G423 h H locs hS => ?_)
  exact g_vretG hx hb hr hlk hKn hRc hRs hS h dX4_init_426
/-- SendHallModel.isDigit(I)Z -/
def fX4_isDigit (E : g_E) (v0 : Int32) (G : g_G) : Option (Int32 × g_G) :=
  if v0 < (48 : Int32) then (
    if (0 : Int32) = 0 ∨ (0 : Int32) = 1 then some (0, G) else none)
  else (
    if (57 : Int32) < v0 then (
      if (0 : Int32) = 0 ∨ (0 : Int32) = 1 then some (0, G) else none)
    else (
      if (1 : Int32) = 0 ∨ (1 : Int32) = 1 then some (1, G) else none))
theorem sX4_isDigit (l : Launch) (E : g_E) (D : g_D) {v0 : Int32} {G : g_G} {q : Int32 × g_G} (h : fX4_isDigit E v0 G = some q) : gMet l E D yX4_isDigit (ws_ yX4_isDigit cX4_isDigit 1 (some .boolean)) 1 64 [.inl v0] G (some (.int q.1)) q.2 := by
  refine gMet.of (by decide +kernel) (Nat.le_of_ble_eq_true rfl) ?_
  intro p e R s m args below meth c C hS ls hl
  have C : gC p R s m args meth c cX4_isDigit 1 RX4 "isDigit" (some .boolean) 1 64 E D := C
  obtain ⟨hx, hb, hml, hown, hts, hKn, hRc, hRs, hc1, hc2, hRf, hRl, hr, hlk, hnm⟩ := id C
  have hl : gls ls 1 [(0, .inl v0)] := hl
  generalize s.heap = H at hS ⊢
  unfold fX4_isDigit at h
  refine g_iload_n hx hb hl 0 rfl dX4_isDigit_0 ?_
  refine lv_bipush (v := 48) hx hb dX4_isDigit_1 (by decide) ?_
  refine lv_icmp_lt (tgt := 16) hx hb dX4_isDigit_3 (by decide) (fun c_3 => ?_) (fun c_3 => ?_)
  · have h := g_ift c_3 h
    refine lv_iconst (v := 0) hx hb dX4_isDigit_16 (by decide) ?_
    exact g_zretG hx hb hr hlk hKn hRc hRs hS h dX4_isDigit_17
  · have h := g_iff c_3 h
    refine g_iload_n hx hb hl 0 rfl dX4_isDigit_6 ?_
    refine lv_bipush (v := 57) hx hb dX4_isDigit_7 (by decide) ?_
    refine lv_icmp_gt (tgt := 16) hx hb dX4_isDigit_9 (by decide) (fun c_9 => ?_) (fun c_9 => ?_)
    · have h := g_ift c_9 h
      refine lv_iconst (v := 0) hx hb dX4_isDigit_16 (by decide) ?_
      exact g_zretG hx hb hr hlk hKn hRc hRs hS h dX4_isDigit_17
    · have h := g_iff c_9 h
      refine lv_iconst (v := 1) hx hb dX4_isDigit_12 (by decide) ?_
      refine lv_goto (tgt := 17) hx hb dX4_isDigit_13 (by decide) ?_
      exact g_zretG hx hb hr hlk hKn hRc hRs hS h dX4_isDigit_17
/-- SendHallModel.isIn(III)Z -/
def fX4_isIn (E : g_E) (v0 : Int32) (v1 : Int32) (v2 : Int32) (G : g_G) : Option (Int32 × g_G) :=
  if v0 < v1 then (
    if (0 : Int32) = 0 ∨ (0 : Int32) = 1 then some (0, G) else none)
  else (
    if v2 < v0 then (
      if (0 : Int32) = 0 ∨ (0 : Int32) = 1 then some (0, G) else none)
    else (
      if (1 : Int32) = 0 ∨ (1 : Int32) = 1 then some (1, G) else none))
theorem sX4_isIn (l : Launch) (E : g_E) (D : g_D) {v0 : Int32} {v1 : Int32} {v2 : Int32} {G : g_G} {q : Int32 × g_G} (h : fX4_isIn E v0 v1 v2 G = some q) : gMet l E D yX4_isIn (ws_ yX4_isIn cX4_isIn 3 (some .boolean)) 1 64 [.inl v0, .inl v1, .inl v2] G (some (.int q.1)) q.2 := by
  refine gMet.of (by decide +kernel) (Nat.le_of_ble_eq_true rfl) ?_
  intro p e R s m args below meth c C hS ls hl
  have C : gC p R s m args meth c cX4_isIn 3 RX4 "isIn" (some .boolean) 1 64 E D := C
  obtain ⟨hx, hb, hml, hown, hts, hKn, hRc, hRs, hc1, hc2, hRf, hRl, hr, hlk, hnm⟩ := id C
  have hl : gls ls 3 [(0, .inl v0), (1, .inl v1), (2, .inl v2)] := hl
  generalize s.heap = H at hS ⊢
  unfold fX4_isIn at h
  refine g_iload_n hx hb hl 0 rfl dX4_isIn_0 ?_
  refine g_iload_n hx hb hl 1 rfl dX4_isIn_1 ?_
  refine lv_icmp_lt (tgt := 14) hx hb dX4_isIn_2 (by decide) (fun c_2 => ?_) (fun c_2 => ?_)
  · have h := g_ift c_2 h
    refine lv_iconst (v := 0) hx hb dX4_isIn_14 (by decide) ?_
    exact g_zretG hx hb hr hlk hKn hRc hRs hS h dX4_isIn_15
  · have h := g_iff c_2 h
    refine g_iload_n hx hb hl 0 rfl dX4_isIn_5 ?_
    refine g_iload_n hx hb hl 2 rfl dX4_isIn_6 ?_
    refine lv_icmp_gt (tgt := 14) hx hb dX4_isIn_7 (by decide) (fun c_7 => ?_) (fun c_7 => ?_)
    · have h := g_ift c_7 h
      refine lv_iconst (v := 0) hx hb dX4_isIn_14 (by decide) ?_
      exact g_zretG hx hb hr hlk hKn hRc hRs hS h dX4_isIn_15
    · have h := g_iff c_7 h
      refine lv_iconst (v := 1) hx hb dX4_isIn_10 (by decide) ?_
      refine lv_goto (tgt := 15) hx hb dX4_isIn_11 (by decide) ?_
      exact g_zretG hx hb hr hlk hKn hRc hRs hS h dX4_isIn_15
/-- SendHallModel.isLetter(I)Z -/
def fX4_isLetter (E : g_E) (v0 : Int32) (G : g_G) : Option (Int32 × g_G) :=
  if v0 < (97 : Int32) then (
    if (0 : Int32) = 0 ∨ (0 : Int32) = 1 then some (0, G) else none)
  else (
    if (122 : Int32) < v0 then (
      if (0 : Int32) = 0 ∨ (0 : Int32) = 1 then some (0, G) else none)
    else (
      if (1 : Int32) = 0 ∨ (1 : Int32) = 1 then some (1, G) else none))
theorem sX4_isLetter (l : Launch) (E : g_E) (D : g_D) {v0 : Int32} {G : g_G} {q : Int32 × g_G} (h : fX4_isLetter E v0 G = some q) : gMet l E D yX4_isLetter (ws_ yX4_isLetter cX4_isLetter 1 (some .boolean)) 1 64 [.inl v0] G (some (.int q.1)) q.2 := by
  refine gMet.of (by decide +kernel) (Nat.le_of_ble_eq_true rfl) ?_
  intro p e R s m args below meth c C hS ls hl
  have C : gC p R s m args meth c cX4_isLetter 1 RX4 "isLetter" (some .boolean) 1 64 E D := C
  obtain ⟨hx, hb, hml, hown, hts, hKn, hRc, hRs, hc1, hc2, hRf, hRl, hr, hlk, hnm⟩ := id C
  have hl : gls ls 1 [(0, .inl v0)] := hl
  generalize s.heap = H at hS ⊢
  unfold fX4_isLetter at h
  refine g_iload_n hx hb hl 0 rfl dX4_isLetter_0 ?_
  refine lv_bipush (v := 97) hx hb dX4_isLetter_1 (by decide) ?_
  refine lv_icmp_lt (tgt := 16) hx hb dX4_isLetter_3 (by decide) (fun c_3 => ?_) (fun c_3 => ?_)
  · have h := g_ift c_3 h
    refine lv_iconst (v := 0) hx hb dX4_isLetter_16 (by decide) ?_
    exact g_zretG hx hb hr hlk hKn hRc hRs hS h dX4_isLetter_17
  · have h := g_iff c_3 h
    refine g_iload_n hx hb hl 0 rfl dX4_isLetter_6 ?_
    refine lv_bipush (v := 122) hx hb dX4_isLetter_7 (by decide) ?_
    refine lv_icmp_gt (tgt := 16) hx hb dX4_isLetter_9 (by decide) (fun c_9 => ?_) (fun c_9 => ?_)
    · have h := g_ift c_9 h
      refine lv_iconst (v := 0) hx hb dX4_isLetter_16 (by decide) ?_
      exact g_zretG hx hb hr hlk hKn hRc hRs hS h dX4_isLetter_17
    · have h := g_iff c_9 h
      refine lv_iconst (v := 1) hx hb dX4_isLetter_12 (by decide) ?_
      refine lv_goto (tgt := 17) hx hb dX4_isLetter_13 (by decide) ?_
      exact g_zretG hx hb hr hlk hKn hRc hRs hS h dX4_isLetter_17
/-- SendHallModel.isSign(I)Z -/
def fX4_isSign (E : g_E) (t : Nat) (v1 : Int32) (G : g_G) : Option (Int32 × g_G) :=
  (grI G 4 4 (some t) 18).bind fun x1 =>
  if ¬ x1 = 0 then (
    if (0 : Int32) = 0 ∨ (0 : Int32) = 1 then some (0, G) else none)
  else (
    (grI G 4 4 (some t) 13).bind fun x8 =>
    if ¬ x8 = (3 : Int32) then (
      if (0 : Int32) = 0 ∨ (0 : Int32) = 1 then some (0, G) else none)
    else (
      (grI G 4 4 (some t) 14).bind fun x16 =>
      if ¬ x16 = v1 then (
        if (0 : Int32) = 0 ∨ (0 : Int32) = 1 then some (0, G) else none)
      else (
        if (1 : Int32) = 0 ∨ (1 : Int32) = 1 then some (1, G) else none)))
theorem sX4_isSign (l : Launch) (E : g_E) (D : g_D) {t : Nat} {v1 : Int32} {G : g_G} {q : Int32 × g_G} (h : fX4_isSign E t v1 G = some q) : gMet l E D yX4_isSign (ws_ yX4_isSign cX4_isSign 2 (some .boolean)) 1 64 [.inr (.inr (some t)), .inl v1] G (some (.int q.1)) q.2 := by
  refine gMet.of (by decide +kernel) (Nat.le_of_ble_eq_true rfl) ?_
  intro p e R s m args below meth c C hS ls hl
  have C : gC p R s m args meth c cX4_isSign 2 RX4 "isSign" (some .boolean) 1 64 E D := C
  obtain ⟨hx, hb, hml, hown, hts, hKn, hRc, hRs, hc1, hc2, hRf, hRl, hr, hlk, hnm⟩ := id C
  have hl : gls ls 2 [(0, .inr (.inr (some t))), (1, .inl v1)] := hl
  generalize s.heap = H at hS ⊢
  unfold fX4_isSign at h
  refine g_aload_n hx hb hl 0 rfl dX4_isSign_0 ?_
  refine g_rdI hx hb hown hts hKn hS h fd_4_4_18 rfl (Or.inl (hts _ q1883)) (fun _ z => z) dX4_isSign_1 (fun x1 h => ?_)
  refine lv_if_ne (tgt := 27) hx hb dX4_isSign_4 (by decide) (fun c_4 => ?_) (fun c_4 => ?_)
  · have h := g_ift c_4 h
    refine lv_iconst (v := 0) hx hb dX4_isSign_27 (by decide) ?_
    exact g_zretG hx hb hr hlk hKn hRc hRs hS h dX4_isSign_28
  · have h := g_iff (fun z => z c_4) h
    refine g_aload_n hx hb hl 0 rfl dX4_isSign_7 ?_
    refine g_rdI hx hb hown hts hKn hS h fd_4_4_13 rfl (Or.inl (hts _ q1878)) (fun _ z => z) dX4_isSign_8 (fun x8 h => ?_)
    refine lv_iconst (v := 3) hx hb dX4_isSign_11 (by decide) ?_
    refine lv_icmp_ne (tgt := 27) hx hb dX4_isSign_12 (by decide) (fun c_12 => ?_) (fun c_12 => ?_)
    · have h := g_ift c_12 h
      refine lv_iconst (v := 0) hx hb dX4_isSign_27 (by decide) ?_
      exact g_zretG hx hb hr hlk hKn hRc hRs hS h dX4_isSign_28
    · have h := g_iff (fun z => z c_12) h
      refine g_aload_n hx hb hl 0 rfl dX4_isSign_15 ?_
      refine g_rdI hx hb hown hts hKn hS h fd_4_4_14 rfl (Or.inl (hts _ q1879)) (fun _ z => z) dX4_isSign_16 (fun x16 h => ?_)
      refine g_iload_n hx hb hl 1 rfl dX4_isSign_19 ?_
      refine lv_icmp_ne (tgt := 27) hx hb dX4_isSign_20 (by decide) (fun c_20 => ?_) (fun c_20 => ?_)
      · have h := g_ift c_20 h
        refine lv_iconst (v := 0) hx hb dX4_isSign_27 (by decide) ?_
        exact g_zretG hx hb hr hlk hKn hRc hRs hS h dX4_isSign_28
      · have h := g_iff (fun z => z c_20) h
        refine lv_iconst (v := 1) hx hb dX4_isSign_23 (by decide) ?_
        refine lv_goto (tgt := 28) hx hb dX4_isSign_24 (by decide) ?_
        exact g_zretG hx hb hr hlk hKn hRc hRs hS h dX4_isSign_28
/-- SendHallModel.isStep(I)Z -/
def fX4_isStep (E : g_E) (t : Nat) (v1 : Int32) (G : g_G) : Option (Int32 × g_G) :=
  (grR G 4 4 (some t) 22).bind fun x3 =>
  (gaI G 100 x3 0).bind fun x7 =>
  (fX4_isIn E v1 0 (x7 - 1) G).bind fun z10 =>
  if z10.1 = 0 ∨ z10.1 = 1 then some (z10.1, z10.2) else none
theorem sX4_isStep (l : Launch) (E : g_E) (D : g_D) {t : Nat} {v1 : Int32} {G : g_G} {q : Int32 × g_G} (h : fX4_isStep E t v1 G = some q) : gMet l E D yX4_isStep (ws_ yX4_isStep cX4_isStep 2 (some .boolean)) 2 86 [.inr (.inr (some t)), .inl v1] G (some (.int q.1)) q.2 := by
  refine gMet.of (by decide +kernel) (Nat.le_of_ble_eq_true rfl) ?_
  intro p e R s m args below meth c C hS ls hl
  have C : gC p R s m args meth c cX4_isStep 2 RX4 "isStep" (some .boolean) 2 86 E D := C
  obtain ⟨hx, hb, hml, hown, hts, hKn, hRc, hRs, hc1, hc2, hRf, hRl, hr, hlk, hnm⟩ := id C
  have hl : gls ls 2 [(0, .inr (.inr (some t))), (1, .inl v1)] := hl
  generalize s.heap = H at hS ⊢
  unfold fX4_isStep at h
  refine g_iload_n hx hb hl 1 rfl dX4_isStep_0 ?_
  refine lv_iconst (v := 0) hx hb dX4_isStep_1 (by decide) ?_
  refine g_aload_n hx hb hl 0 rfl dX4_isStep_2 ?_
  refine g_rdR hx hb hown hts hKn hS h fd_4_4_22 rfl (Or.inl (hts _ q1887)) (fun _ z => z) dX4_isStep_3 (fun x3 h => ?_)
  refine lv_iconst (v := 0) hx hb dX4_isStep_6 (by decide) ?_
  refine g_ialoadG hx hb hKn hS h dX4_isStep_7 (fun x7 h => ?_)
  refine lv_iconst (v := 1) hx hb dX4_isStep_8 (by decide) ?_
  refine lv_isub hx hb dX4_isStep_9 ?_
  obtain ⟨z10, h10, h⟩ := g_bnd h
  refine g_callS (n := 3) (av := [.inl v1, .inl 0, .inl (x7 - 1)]) (rs := []) hx hb hml hown hts hKn hRc hRs hS hl (sX4_isIn l E D h10) (lw_S q2180 q2181 q135 q2182) ⟨by decide, by decide, by decide +kernel⟩ ⟨by rw [hRf]; exact Nat.le_of_ble_eq_true rfl, by rw [hRl]; exact Nat.le_of_ble_eq_true rfl⟩ rfl rfl (Nat.le_of_ble_eq_true rfl) dX4_isStep_10 (fun H locs cells slots hS => ?_)
  exact g_zretG hx hb hr hlk hKn hRc hRs hS h dX4_isStep_13
/-- SendHallModel.own(II)I -/
def fX4_own (E : g_E) (t : Nat) (v1 : Int32) (v2 : Int32) (G : g_G) : Option (Int32 × g_G) :=
  (grR G 4 4 (some t) 33).bind fun x1 =>
  (gaI G 100 x1 ((8 * v1) + v2)).bind fun x10 =>
  some (x10, G)
theorem sX4_own (l : Launch) (E : g_E) (D : g_D) {t : Nat} {v1 : Int32} {v2 : Int32} {G : g_G} {q : Int32 × g_G} (h : fX4_own E t v1 v2 G = some q) : gMet l E D yX4_own (ws_ yX4_own cX4_own 3 (some .int)) 1 64 [.inr (.inr (some t)), .inl v1, .inl v2] G (some (.int q.1)) q.2 := by
  refine gMet.of (by decide +kernel) (Nat.le_of_ble_eq_true rfl) ?_
  intro p e R s m args below meth c C hS ls hl
  have C : gC p R s m args meth c cX4_own 3 RX4 "own" (some .int) 1 64 E D := C
  obtain ⟨hx, hb, hml, hown, hts, hKn, hRc, hRs, hc1, hc2, hRf, hRl, hr, hlk, hnm⟩ := id C
  have hl : gls ls 3 [(0, .inr (.inr (some t))), (1, .inl v1), (2, .inl v2)] := hl
  generalize s.heap = H at hS ⊢
  unfold fX4_own at h
  refine g_aload_n hx hb hl 0 rfl dX4_own_0 ?_
  refine g_rdR hx hb hown hts hKn hS h fd_4_4_33 rfl (Or.inl (hts _ q1898)) (fun _ z => z) dX4_own_1 (fun x1 h => ?_)
  refine lv_bipush (v := 8) hx hb dX4_own_4 (by decide) ?_
  refine g_iload_n hx hb hl 1 rfl dX4_own_6 ?_
  refine lv_imul hx hb dX4_own_7 ?_
  refine g_iload_n hx hb hl 2 rfl dX4_own_8 ?_
  refine lv_iadd hx hb dX4_own_9 ?_
  refine g_ialoadG hx hb hKn hS h dX4_own_10 (fun x10 h => ?_)
  exact g_iretG hx hb hr hlk hKn hRc hRs hS h dX4_own_11
