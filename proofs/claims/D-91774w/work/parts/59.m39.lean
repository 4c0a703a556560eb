set_option maxRecDepth 100000
/-- SendHallModel.cut()I -/
def fX4_cut_b132 (E : g_E) (k103 : Nat → Int32 → Int32 → g_G → Option (Int32 × g_G)) (t : Nat) (v1 : Int32) (v2 : Int32) (s0 : Option Nat) (s1 : Int32) (s2 : Int32) (G : g_G) : Option (Int32 × g_G) :=
  (gsaZ E G s0 s1 s2).bind fun G132 =>
  (grR G132 4 4 (some t) 32).bind fun x134 =>
  (gsaZ E G132 x134 v2 0).bind fun G139 =>
  k103 t v1 (v2 + 1) G139
def fX4_cut_b103 (E : g_E) : Nat → Nat → Int32 → Int32 → g_G → Option (Int32 × g_G)
  | 0, _, _, _, _ => none
  | n + 1, t, v1, v2, G =>
    (grR G 4 4 (some t) 22).bind fun x105 =>
    (gaI G 100 x105 0).bind fun x109 =>
    if x109 ≤ v2 then (
      (grI G 4 4 (some t) 8).bind fun x148 =>
      (gpI E G 4 4 (some t) 56 x148).bind fun G151 =>
      some (v1, G151))
    else (
      (grR G 4 4 (some t) 55).bind fun x114 =>
      (grR G 4 4 (some t) 32).bind fun x119 =>
      (gaI G 102 x119 v2).bind fun x123 =>
      if ¬ x123 = 0 then (
        fX4_cut_b132 E (fX4_cut_b103 E n) t v1 v2 x114 v2 0 G)
      else (
        fX4_cut_b132 E (fX4_cut_b103 E n) t v1 v2 x114 v2 1 G))
def fX4_cut_b95 (E : g_E) (k25 : Nat → Int32 → Int32 → g_G → Option (Int32 × g_G)) (t : Nat) (v1 : Int32) (v2 : Int32) (G : g_G) : Option (Int32 × g_G) :=
  k25 t v1 (v2 + 1) G
def fX4_cut_b93 (E : g_E) (k25 : Nat → Int32 → Int32 → g_G → Option (Int32 × g_G)) (t : Nat) (v2 : Int32) (s0 : Int32) (s1 : Int32) (G : g_G) : Option (Int32 × g_G) :=
  fX4_cut_b95 E k25 t (s0 + s1) v2 G
def fX4_cut_b75 (E : g_E) (k25 : Nat → Int32 → Int32 → g_G → Option (Int32 × g_G)) (t : Nat) (v1 : Int32) (v2 : Int32) (s0 : Int32) (G : g_G) : Option (Int32 × g_G) :=
  (grR G 4 4 (some t) 32).bind fun x77 =>
  (gsaZ E G x77 v2 s0).bind fun G82 =>
  if s0 = 0 then (
    fX4_cut_b93 E k25 t v2 v1 1 G82)
  else (
    fX4_cut_b93 E k25 t v2 v1 0 G82)
def fX4_cut_b74 (E : g_E) (k25 : Nat → Int32 → Int32 → g_G → Option (Int32 × g_G)) (t : Nat) (v1 : Int32) (v2 : Int32) (G : g_G) : Option (Int32 × g_G) :=
  fX4_cut_b75 E k25 t v1 v2 0 G
def fX4_cut_b25 (E : g_E) : Nat → Nat → Int32 → Int32 → g_G → Option (Int32 × g_G)
  | 0, _, _, _, _ => none
  | n + 1, t, v1, v2, G =>
    (grR G 4 4 (some t) 22).bind fun x27 =>
    (gaI G 100 x27 0).bind fun x31 =>
    if x31 ≤ v2 then (
      fX4_cut_b103 E gFU t v1 0 G)
    else (
      (grR G 4 4 (some t) 24).bind fun x36 =>
      (gaI G 100 x36 v2).bind fun x40 =>
      if ¬ x40 = (10 : Int32) then (
        (grR G 4 4 (some t) 32).bind fun x50 =>
        (gsaZ E G x50 v2 1).bind fun G55 =>
        (gchk G55 4 (some t)).bind fun b57 =>
        (fX4_go E b57 G55).bind fun z57 =>
        if z57.1 = 0 then (
          fX4_cut_b74 E (fX4_cut_b25 E n) t v1 v2 z57.2)
        else (
          (gchk z57.2 4 (some t)).bind fun b64 =>
          (fX4_someLocks E b64 z57.2).bind fun z64 =>
          if z64.1 = 0 then (
            fX4_cut_b74 E (fX4_cut_b25 E n) t v1 v2 z64.2)
          else (
            fX4_cut_b75 E (fX4_cut_b25 E n) t v1 v2 1 z64.2)))
      else (
        fX4_cut_b95 E (fX4_cut_b25 E n) t v1 v2 G))
def fX4_cut (E : g_E) (t : Nat) (G : g_G) : Option (Int32 × g_G) :=
  (gpI E G 4 4 (some t) 2 0).bind fun G2 =>
  (gchk G2 4 (some t)).bind fun b6 =>
  (fX4_go E b6 G2).bind fun z6 =>
  if z6.1 = 0 then (
    some ((-1), z6.2))
  else (
    (gchk z6.2 4 (some t)).bind fun b13 =>
    (fX4_someLocks E b13 z6.2).bind fun z13 =>
    if ¬ z13.1 = 0 then (
      fX4_cut_b25 E gFU t 0 0 z13.2)
    else (
      some ((-1), z13.2)))
theorem sX4_cut_b132 {p : Program} {l : Launch} {e : Env} {R : Room} {s : State} {m : MethodId} {args : Array Value} {below : List Frame} {meth : Method} {c : Code} {E : g_E} {D : g_D} (C : gC p R s m args meth c cX4_cut 4 RX4 "cut" (some .int) 12 327 E D) {k103 : Nat → Int32 → Int32 → g_G → Option (Int32 × g_G)} (hk103 : ∀ (t : Nat) (v1 : Int32) (v2 : Int32) (G : g_G) (q : Int32 × g_G), k103 t v1 v2 G = some q → ∀ (H : Heap) (locs : List Loc) (cells slots : Nat) (ls : Array Slot), gSt E D G H locs → gls ls 4 [(0, .inr (.inr (some t))), (1, .inl v1), (2, .inl v2)] → gT p l e R s m args below meth c E D H locs cells slots (some (.int q.1)) q.2 (F0 m 103 ls [])) : ∀ (t : Nat) (v1 : Int32) (v2 : Int32) (s0 : Option Nat) (s1 : Int32) (s2 : Int32) (G : g_G) (q : Int32 × g_G), fX4_cut_b132 E k103 t v1 v2 s0 s1 s2 G = some q → ∀ (H : Heap) (locs : List Loc) (cells slots : Nat) (ls : Array Slot), gSt E D G H locs → gls ls 4 [(0, .inr (.inr (some t))), (1, .inl v1), (2, .inl v2)] → gT p l e R s m args below meth c E D H locs cells slots (some (.int q.1)) q.2 (F0 m 132 ls [.int s2, .int s1, va_rf s0]) := by
  obtain ⟨hx, hb, hml, hown, hts, hKn, hRc, hRs, hc1, hc2, hRf, hRl, hr, hlk, hnm⟩ := id C
  intro t v1 v2 s0 s1 s2 G q h H locs cells slots ls hS hl
  unfold fX4_cut_b132 at h
  refine g_zastoreG hx hb hKn hS h dX4_cut_132 (fun G132 h H locs hS => ?_)
  refine g_aload_n hx hb hl 0 rfl dX4_cut_133 ?_
  refine g_rdR hx hb hown hts hKn hS h fd_4_4_32 rfl (Or.inl (hts _ q1897)) (fun _ z => z) dX4_cut_134 (fun x134 h => ?_)
  refine g_iload_n hx hb hl 2 rfl dX4_cut_137 ?_
  refine lv_iconst (v := 0) hx hb dX4_cut_138 (by decide) ?_
  refine g_zastoreG hx hb hKn hS h dX4_cut_139 (fun G139 h H locs hS => ?_)
  refine g_iinc (l1 := [(2, .inl (v2 + 1)), (0, .inr (.inr (some t))), (1, .inl v1)]) (v := (v2 + 1)) hx hb hl (k := 2) rfl (by rfl) (by decide) rfl dX4_cut_140 (fun ls hl => ?_)
  refine lv_goto (tgt := 103) hx hb dX4_cut_143 (by decide) ?_
  exact hk103 _ _ _ _ _ h _ _ _ _ _ hS (gls_sub hl [1, 2, 0] rfl)
theorem sX4_cut_b103 {p : Program} {l : Launch} {e : Env} {R : Room} {s : State} {m : MethodId} {args : Array Value} {below : List Frame} {meth : Method} {c : Code} {E : g_E} {D : g_D} (C : gC p R s m args meth c cX4_cut 4 RX4 "cut" (some .int) 12 327 E D) : ∀ (n : Nat) (t : Nat) (v1 : Int32) (v2 : Int32) (G : g_G) (q : Int32 × g_G), fX4_cut_b103 E n t v1 v2 G = some q → ∀ (H : Heap) (locs : List Loc) (cells slots : Nat) (ls : Array Slot), gSt E D G H locs → gls ls 4 [(0, .inr (.inr (some t))), (1, .inl v1), (2, .inl v2)] → gT p l e R s m args below meth c E D H locs cells slots (some (.int q.1)) q.2 (F0 m 103 ls []) := by
  obtain ⟨hx, hb, hml, hown, hts, hKn, hRc, hRs, hc1, hc2, hRf, hRl, hr, hlk, hnm⟩ := id C
  intro n
  induction n with
  | zero =>
    intro t v1 v2 G q h
    exact g_no h
  | succ n ih =>
    intro t v1 v2 G q h H locs cells slots ls hS hl
    rw [fX4_cut_b103] at h
    refine g_iload_n hx hb hl 2 rfl dX4_cut_103 ?_
    refine g_aload_n hx hb hl 0 rfl dX4_cut_104 ?_
    refine g_rdR hx hb hown hts hKn hS h fd_4_4_22 rfl (Or.inl (hts _ q1887)) (fun _ z => z) dX4_cut_105 (fun x105 h => ?_)
    refine lv_iconst (v := 0) hx hb dX4_cut_108 (by decide) ?_
    refine g_ialoadG hx hb hKn hS h dX4_cut_109 (fun x109 h => ?_)
    refine lv_icmp_ge (tgt := 146) hx hb dX4_cut_110 (by decide) (fun c_110 => ?_) (fun c_110 => ?_)
    · have h := g_ift c_110 h
      refine g_aload_n hx hb hl 0 rfl dX4_cut_146 ?_
      refine g_aload_n hx hb hl 0 rfl dX4_cut_147 ?_
      refine g_rdI hx hb hown hts hKn hS h fd_4_4_8 rfl (Or.inl (hts _ q1873)) (fun _ z => z) dX4_cut_148 (fun x148 h => ?_)
      refine g_ptI hx hb hown hts hKn hS h fd_4_4_56 (Or.inl (hts _ q1921)) (fun _ z => z) (fun z => nomatch z) dX4_cut_151 (fun G151 h H locs hS => ?_)
      refine g_iload_n hx hb hl 1 rfl dX4_cut_154 ?_
      exact g_iretG hx hb hr hlk hKn hRc hRs hS h dX4_cut_155
    · have h := g_iff c_110 h
      refine g_aload_n hx hb hl 0 rfl dX4_cut_113 ?_
      refine g_rdR hx hb hown hts hKn hS h fd_4_4_55 rfl (Or.inl (hts _ q1920)) (fun _ z => z) dX4_cut_114 (fun x114 h => ?_)
      refine g_iload_n hx hb hl 2 rfl dX4_cut_117 ?_
      refine g_aload_n hx hb hl 0 rfl dX4_cut_118 ?_
      refine g_rdR hx hb hown hts hKn hS h fd_4_4_32 rfl (Or.inl (hts _ q1897)) (fun _ z => z) dX4_cut_119 (fun x119 h => ?_)
      refine g_iload_n hx hb hl 2 rfl dX4_cut_122 ?_
      refine g_zaloadG hx hb hKn hS h dX4_cut_123 (fun x123 h => ?_)
      refine lv_if_ne (tgt := 131) hx hb dX4_cut_124 (by decide) (fun c_124 => ?_) (fun c_124 => ?_)
      · have h := g_ift c_124 h
        refine lv_iconst (v := 0) hx hb dX4_cut_131 (by decide) ?_
        exact sX4_cut_b132 C ih _ _ _ _ _ _ _ _ h _ _ _ _ _ hS (gls_sub hl [0, 1, 2] rfl)
      · have h := g_iff (fun z => z c_124) h
        refine lv_iconst (v := 1) hx hb dX4_cut_127 (by decide) ?_
        refine lv_goto (tgt := 132) hx hb dX4_cut_128 (by decide) ?_
        exact sX4_cut_b132 C ih _ _ _ _ _ _ _ _ h _ _ _ _ _ hS (gls_sub hl [0, 1, 2] rfl)
theorem sX4_cut_b95 {p : Program} {l : Launch} {e : Env} {R : Room} {s : State} {m : MethodId} {args : Array Value} {below : List Frame} {meth : Method} {c : Code} {E : g_E} {D : g_D} (C : gC p R s m args meth c cX4_cut 4 RX4 "cut" (some .int) 12 327 E D) {k25 : Nat → Int32 → Int32 → g_G → Option (Int32 × g_G)} (hk25 : ∀ (t : Nat) (v1 : Int32) (v2 : Int32) (G : g_G) (q : Int32 × g_G), k25 t v1 v2 G = some q → ∀ (H : Heap) (locs : List Loc) (cells slots : Nat) (ls : Array Slot), gSt E D G H locs → gls ls 4 [(0, .inr (.inr (some t))), (1, .inl v1), (2, .inl v2)] → gT p l e R s m args below meth c E D H locs cells slots (some (.int q.1)) q.2 (F0 m 25 ls [])) : ∀ (t : Nat) (v1 : Int32) (v2 : Int32) (G : g_G) (q : Int32 × g_G), fX4_cut_b95 E k25 t v1 v2 G = some q → ∀ (H : Heap) (locs : List Loc) (cells slots : Nat) (ls : Array Slot), gSt E D G H locs → gls ls 4 [(0, .inr (.inr (some t))), (1, .inl v1), (2, .inl v2)] → gT p l e R s m args below meth c E D H locs cells slots (some (.int q.1)) q.2 (F0 m 95 ls []) := by
  obtain ⟨hx, hb, hml, hown, hts, hKn, hRc, hRs, hc1, hc2, hRf, hRl, hr, hlk, hnm⟩ := id C
  intro t v1 v2 G q h H locs cells slots ls hS hl
  unfold fX4_cut_b95 at h
  refine g_iinc (l1 := [(2, .inl (v2 + 1)), (0, .inr (.inr (some t))), (1, .inl v1)]) (v := (v2 + 1)) hx hb hl (k := 2) rfl (by rfl) (by decide) rfl dX4_cut_95 (fun ls hl => ?_)
  refine lv_goto (tgt := 25) hx hb dX4_cut_98 (by decide) ?_
  exact hk25 _ _ _ _ _ h _ _ _ _ _ hS (gls_sub hl [1, 2, 0] rfl)
theorem sX4_cut_b93 {p : Program} {l : Launch} {e : Env} {R : Room} {s : State} {m : MethodId} {args : Array Value} {below : List Frame} {meth : Method} {c : Code} {E : g_E} {D : g_D} (C : gC p R s m args meth c cX4_cut 4 RX4 "cut" (some .int) 12 327 E D) {k25 : Nat → Int32 → Int32 → g_G → Option (Int32 × g_G)} (hk25 : ∀ (t : Nat) (v1 : Int32) (v2 : Int32) (G : g_G) (q : Int32 × g_G), k25 t v1 v2 G = some q → ∀ (H : Heap) (locs : List Loc) (cells slots : Nat) (ls : Array Slot), gSt E D G H locs → gls ls 4 [(0, .inr (.inr (some t))), (1, .inl v1), (2, .inl v2)] → gT p l e R s m args below meth c E D H locs cells slots (some (.int q.1)) q.2 (F0 m 25 ls [])) : ∀ (t : Nat) (v2 : Int32) (s0 : Int32) (s1 : Int32) (G : g_G) (q : Int32 × g_G), fX4_cut_b93 E k25 t v2 s0 s1 G = some q → ∀ (H : Heap) (locs : List Loc) (cells slots : Nat) (ls : Array Slot), gSt E D G H locs → gls ls 4 [(0, .inr (.inr (some t))), (2, .inl v2)] → gT p l e R s m args below meth c E D H locs cells slots (some (.int q.1)) q.2 (F0 m 93 ls [.int s1, .int s0]) := by
  obtain ⟨hx, hb, hml, hown, hts, hKn, hRc, hRs, hc1, hc2, hRf, hRl, hr, hlk, hnm⟩ := id C
  intro t v2 s0 s1 G q h H locs cells slots ls hS hl
  unfold fX4_cut_b93 at h
  refine lv_iadd hx hb dX4_cut_93 ?_
  refine g_istore_n (l1 := [(1, .inl (s0 + s1)), (0, .inr (.inr (some t))), (2, .inl v2)]) hx hb hl (by decide) rfl dX4_cut_94 (fun ls hl => ?_)
  exact sX4_cut_b95 C hk25 _ _ _ _ _ h _ _ _ _ _ hS (gls_sub hl [1, 0, 2] rfl)
theorem sX4_cut_b75 {p : Program} {l : Launch} {e : Env} {R : Room} {s : State} {m : MethodId} {args : Array Value} {below : List Frame} {meth : Method} {c : Code} {E : g_E} {D : g_D} (C : gC p R s m args meth c cX4_cut 4 RX4 "cut" (some .int) 12 327 E D) {k25 : Nat → Int32 → Int32 → g_G → Option (Int32 × g_G)} (hk25 : ∀ (t : Nat) (v1 : Int32) (v2 : Int32) (G : g_G) (q : Int32 × g_G), k25 t v1 v2 G = some q → ∀ (H : Heap) (locs : List Loc) (cells slots : Nat) (ls : Array Slot), gSt E D G H locs → gls ls 4 [(0, .inr (.inr (some t))), (1, .inl v1), (2, .inl v2)] → gT p l e R s m args below meth c E D H locs cells slots (some (.int q.1)) q.2 (F0 m 25 ls [])) : ∀ (t : Nat) (v1 : Int32) (v2 : Int32) (s0 : Int32) (G : g_G) (q : Int32 × g_G), fX4_cut_b75 E k25 t v1 v2 s0 G = some q → ∀ (H : Heap) (locs : List Loc) (cells slots : Nat) (ls : Array Slot), gSt E D G H locs → gls ls 4 [(0, .inr (.inr (some t))), (1, .inl v1), (2, .inl v2)] → gT p l e R s m args below meth c E D H locs cells slots (some (.int q.1)) q.2 (F0 m 75 ls [.int s0]) := by
  obtain ⟨hx, hb, hml, hown, hts, hKn, hRc, hRs, hc1, hc2, hRf, hRl, hr, hlk, hnm⟩ := id C
  intro t v1 v2 s0 G q h H locs cells slots ls hS hl
  unfold fX4_cut_b75 at h
  refine g_istore_n (l1 := [(3, .inl s0), (0, .inr (.inr (some t))), (1, .inl v1), (2, .inl v2)]) hx hb hl (by decide) rfl dX4_cut_75 (fun ls hl => ?_)
  refine g_aload_n hx hb hl 1 rfl dX4_cut_76 ?_
  refine g_rdR hx hb hown hts hKn hS h fd_4_4_32 rfl (Or.inl (hts _ q1897)) (fun _ z => z) dX4_cut_77 (fun x77 h => ?_)
  refine g_iload_n hx hb hl 3 rfl dX4_cut_80 ?_
  refine g_iload_n hx hb hl 0 rfl dX4_cut_81 ?_
  refine g_zastoreG hx hb hKn hS h dX4_cut_82 (fun G82 h H locs hS => ?_)
  refine g_iload_n hx hb hl 2 rfl dX4_cut_83 ?_
  refine g_iload_n hx hb hl 0 rfl dX4_cut_84 ?_
  refine lv_if_eq (tgt := 92) hx hb dX4_cut_85 (by decide) (fun c_85 => ?_) (fun c_85 => ?_)
  · have h := g_ift c_85 h
    refine lv_iconst (v := 1) hx hb dX4_cut_92 (by decide) ?_
    exact sX4_cut_b93 C hk25 _ _ _ _ _ _ h _ _ _ _ _ hS (gls_sub hl [1, 3] rfl)
  · have h := g_iff c_85 h
    refine lv_iconst (v := 0) hx hb dX4_cut_88 (by decide) ?_
    refine lv_goto (tgt := 93) hx hb dX4_cut_89 (by decide) ?_
    exact sX4_cut_b93 C hk25 _ _ _ _ _ _ h _ _ _ _ _ hS (gls_sub hl [1, 3] rfl)
theorem sX4_cut_b74 {p : Program} {l : Launch} {e : Env} {R : Room} {s : State} {m : MethodId} {args : Array Value} {below : List Frame} {meth : Method} {c : Code} {E : g_E} {D : g_D} (C : gC p R s m args meth c cX4_cut 4 RX4 "cut" (some .int) 12 327 E D) {k25 : Nat → Int32 → Int32 → g_G → Option (Int32 × g_G)} (hk25 : ∀ (t : Nat) (v1 : Int32) (v2 : Int32) (G : g_G) (q : Int32 × g_G), k25 t v1 v2 G = some q → ∀ (H : Heap) (locs : List Loc) (cells slots : Nat) (ls : Array Slot), gSt E D G H locs → gls ls 4 [(0, .inr (.inr (some t))), (1, .inl v1), (2, .inl v2)] → gT p l e R s m args below meth c E D H locs cells slots (some (.int q.1)) q.2 (F0 m 25 ls [])) : ∀ (t : Nat) (v1 : Int32) (v2 : Int32) (G : g_G) (q : Int32 × g_G), fX4_cut_b74 E k25 t v1 v2 G = some q → ∀ (H : Heap) (locs : List Loc) (cells slots : Nat) (ls : Array Slot), gSt E D G H locs → gls ls 4 [(0, .inr (.inr (some t))), (1, .inl v1), (2, .inl v2)] → gT p l e R s m args below meth c E D H locs cells slots (some (.int q.1)) q.2 (F0 m 74 ls []) := by
  obtain ⟨hx, hb, hml, hown, hts, hKn, hRc, hRs, hc1, hc2, hRf, hRl, hr, hlk, hnm⟩ := id C
  intro t v1 v2 G q h H locs cells slots ls hS hl
  unfold fX4_cut_b74 at h
  refine lv_iconst (v := 0) hx hb dX4_cut_74 (by decide) ?_
  exact sX4_cut_b75 C hk25 _ _ _ _ _ _ h _ _ _ _ _ hS (gls_sub hl [0, 1, 2] rfl)
theorem sX4_cut_b25 {p : Program} {l : Launch} {e : Env} {R : Room} {s : State} {m : MethodId} {args : Array Value} {below : List Frame} {meth : Method} {c : Code} {E : g_E} {D : g_D} (C : gC p R s m args meth c cX4_cut 4 RX4 "cut" (some .int) 12 327 E D) : ∀ (n : Nat) (t : Nat) (v1 : Int32) (v2 : Int32) (G : g_G) (q : Int32 × g_G), fX4_cut_b25 E n t v1 v2 G = some q → ∀ (H : Heap) (locs : List Loc) (cells slots : Nat) (ls : Array Slot), gSt E D G H locs → gls ls 4 [(0, .inr (.inr (some t))), (1, .inl v1), (2, .inl v2)] → gT p l e R s m args below meth c E D H locs cells slots (some (.int q.1)) q.2 (F0 m 25 ls []) := by
  obtain ⟨hx, hb, hml, hown, hts, hKn, hRc, hRs, hc1, hc2, hRf, hRl, hr, hlk, hnm⟩ := id C
  intro n
  induction n with
  | zero =>
    intro t v1 v2 G q h
    exact g_no h
  | succ n ih =>
    intro t v1 v2 G q h H locs cells slots ls hS hl
    rw [fX4_cut_b25] at h
    refine g_iload_n hx hb hl 2 rfl dX4_cut_25 ?_
    refine g_aload_n hx hb hl 0 rfl dX4_cut_26 ?_
    refine g_rdR hx hb hown hts hKn hS h fd_4_4_22 rfl (Or.inl (hts _ q1887)) (fun _ z => z) dX4_cut_27 (fun x27 h => ?_)
    refine lv_iconst (v := 0) hx hb dX4_cut_30 (by decide) ?_
    refine g_ialoadG hx hb hKn hS h dX4_cut_31 (fun x31 h => ?_)
    refine lv_icmp_ge (tgt := 101) hx hb dX4_cut_32 (by decide) (fun c_32 => ?_) (fun c_32 => ?_)
    · have h := g_ift c_32 h
      refine lv_iconst (v := 0) hx hb dX4_cut_101 (by decide) ?_
      refine g_istore_n (l1 := [(2, .inl 0), (0, .inr (.inr (some t))), (1, .inl v1)]) hx hb hl (by decide) rfl dX4_cut_102 (fun ls hl => ?_)
      exact sX4_cut_b103 C gFU _ _ _ _ _ h _ _ _ _ _ hS (gls_sub hl [1, 2, 0] rfl)
    · have h := g_iff c_32 h
      refine g_aload_n hx hb hl 0 rfl dX4_cut_35 ?_
      refine g_rdR hx hb hown hts hKn hS h fd_4_4_24 rfl (Or.inl (hts _ q1889)) (fun _ z => z) dX4_cut_36 (fun x36 h => ?_)
      refine g_iload_n hx hb hl 2 rfl dX4_cut_39 ?_
      refine g_ialoadG hx hb hKn hS h dX4_cut_40 (fun x40 h => ?_)
      refine lv_bipush (v := 10) hx hb dX4_cut_41 (by decide) ?_
      refine lv_icmp_ne (tgt := 49) hx hb dX4_cut_43 (by decide) (fun c_43 => ?_) (fun c_43 => ?_)
      · have h := g_ift c_43 h
        refine g_aload_n hx hb hl 0 rfl dX4_cut_49 ?_
        refine g_rdR hx hb hown hts hKn hS h fd_4_4_32 rfl (Or.inl (hts _ q1897)) (fun _ z => z) dX4_cut_50 (fun x50 h => ?_)
        refine g_iload_n hx hb hl 2 rfl dX4_cut_53 ?_
        refine lv_iconst (v := 1) hx hb dX4_cut_54 (by decide) ?_
        refine g_zastoreG hx hb hKn hS h dX4_cut_55 (fun G55 h H locs hS => ?_)
        refine g_aload_n hx hb hl 0 rfl dX4_cut_56 ?_
        obtain ⟨b57, hb57, h⟩ := g_bnd h
        obtain ⟨hr57, hk57⟩ := g_chk hb57
        obtain ⟨z57, h57, h⟩ := g_bnd h
        refine g_callV (n := 0) (b := b57) (av := []) (rs := []) hx hb hml hown hts hKn hRc hRs hS hl (sX4_go l E D h57) (lw_V q2221 q2223 qs71 q135 q2224) ⟨rfl, by decide, by decide, by decide +kernel⟩ ⟨by rw [hRf]; exact Nat.le_of_ble_eq_true rfl, by rw [hRl]; exact Nat.le_of_ble_eq_true rfl⟩ (g_recv hKn hS hk57 (by decide) (by decide)) rfl (by rw [hr57]; rfl) (Nat.le_of_ble_eq_true rfl) dX4_cut_57 (fun H locs cells slots hS => ?_)
        refine lv_if_eq (tgt := 74) hx hb dX4_cut_60 (by decide) (fun c_60 => ?_) (fun c_60 => ?_)
        · have h := g_ift c_60 h
          exact sX4_cut_b74 C ih _ _ _ _ _ h _ _ _ _ _ hS (gls_sub hl [0, 1, 2] rfl)
        · have h := g_iff c_60 h
          refine g_aload_n hx hb hl 0 rfl dX4_cut_63 ?_
          obtain ⟨b64, hb64, h⟩ := g_bnd h
          obtain ⟨hr64, hk64⟩ := g_chk hb64
          obtain ⟨z64, h64, h⟩ := g_bnd h
          refine g_callV (n := 0) (b := b64) (av := []) (rs := []) hx hb hml hown hts hKn hRc hRs hS hl (sX4_someLocks l E D h64) (lw_V q2392 q2394 qs106 q135 q2395) ⟨rfl, by decide, by decide, by decide +kernel⟩ ⟨by rw [hRf]; exact Nat.le_of_ble_eq_true rfl, by rw [hRl]; exact Nat.le_of_ble_eq_true rfl⟩ (g_recv hKn hS hk64 (by decide) (by decide)) rfl (by rw [hr64]; rfl) (Nat.le_of_ble_eq_true rfl) dX4_cut_64 (fun H locs cells slots hS => ?_)
          refine lv_if_eq (tgt := 74) hx hb dX4_cut_67 (by decide) (fun c_67 => ?_) (fun c_67 => ?_)
          · have h := g_ift c_67 h
            exact sX4_cut_b74 C ih _ _ _ _ _ h _ _ _ _ _ hS (gls_sub hl [0, 1, 2] rfl)
          · have h := g_iff c_67 h
            refine lv_iconst (v := 1) hx hb dX4_cut_70 (by decide) ?_
            refine lv_goto (tgt := 75) hx hb dX4_cut_71 (by decide) ?_
            exact sX4_cut_b75 C ih _ _ _ _ _ _ h _ _ _ _ _ hS (gls_sub hl [0, 1, 2] rfl)
      · have h := g_iff (fun z => z c_43) h
        refine lv_goto (tgt := 95) hx hb dX4_cut_46 (by decide) ?_
        exact sX4_cut_b95 C ih _ _ _ _ _ h _ _ _ _ _ hS (gls_sub hl [0, 1, 2] rfl)
theorem sX4_cut (l : Launch) (E : g_E) (D : g_D) {t : Nat} {G : g_G} {q : Int32 × g_G} (h : fX4_cut E t G = some q) : gMet l E D yX4_cut (ws_ yX4_cut cX4_cut 4 (some .int)) 12 327 [.inr (.inr (some t))] G (some (.int q.1)) q.2 := by
  refine gMet.of (by decide +kernel) (Nat.le_of_ble_eq_true rfl) ?_
  intro p e R s m args below meth c C hS ls hl
  have C : gC p R s m args meth c cX4_cut 4 RX4 "cut" (some .int) 12 327 E D := C
  obtain ⟨hx, hb, hml, hown, hts, hKn, hRc, hRs, hc1, hc2, hRf, hRl, hr, hlk, hnm⟩ := id C
  have hl : gls ls 4 [(0, .inr (.inr (some t)))] := hl
  generalize s.heap = H at hS ⊢
  unfold fX4_cut at h
  refine g_aload_n hx hb hl 0 rfl dX4_cut_0 ?_
  refine lv_iconst (v := 0) hx hb dX4_cut_1 (by decide) ?_
  refine g_ptI hx hb hown hts hKn hS h fd_4_4_2 (Or.inl (hts _ q1867)) (fun _ z => z) (fun z => nomatch z) dX4_cut_2 (fun G2 h H locs hS => ?_)
  refine g_aload_n hx hb hl 0 rfl dX4_cut_5 ?_
  obtain ⟨b6, hb6, h⟩ := g_bnd h
  obtain ⟨hr6, hk6⟩ := g_chk hb6
  obtain ⟨z6, h6, h⟩ := g_bnd h
  refine g_callV (n := 0) (b := b6) (av := []) (rs := []) hx hb hml hown hts hKn hRc hRs hS hl (sX4_go l E D h6) (lw_V q2221 q2223 qs71 q135 q2224) ⟨rfl, by decide, by decide, by decide +kernel⟩ ⟨by rw [hRf]; exact Nat.le_of_ble_eq_true rfl, by rw [hRl]; exact Nat.le_of_ble_eq_true rfl⟩ (g_recv hKn hS hk6 (by decide) (by decide)) rfl (by rw [hr6]; rfl) (Nat.le_of_ble_eq_true rfl) dX4_cut_6 (fun H locs cells slots hS => ?_)
  refine lv_if_eq (tgt := 19) hx hb dX4_cut_9 (by decide) (fun c_9 => ?_) (fun c_9 => ?_)
  · have h := g_ift c_9 h
    refine lv_iconst (v := (-1)) hx hb dX4_cut_19 (by decide) ?_
    exact g_iretG hx hb hr hlk hKn hRc hRs hS h dX4_cut_20
  · have h := g_iff c_9 h
    refine g_aload_n hx hb hl 0 rfl dX4_cut_12 ?_
    obtain ⟨b13, hb13, h⟩ := g_bnd h
    obtain ⟨hr13, hk13⟩ := g_chk hb13
    obtain ⟨z13, h13, h⟩ := g_bnd h
    refine g_callV (n := 0) (b := b13) (av := []) (rs := []) hx hb hml hown hts hKn hRc hRs hS hl (sX4_someLocks l E D h13) (lw_V q2392 q2394 qs106 q135 q2395) ⟨rfl, by decide, by decide, by decide +kernel⟩ ⟨by rw [hRf]; exact Nat.le_of_ble_eq_true rfl, by rw [hRl]; exact Nat.le_of_ble_eq_true rfl⟩ (g_recv hKn hS hk13 (by decide) (by decide)) rfl (by rw [hr13]; rfl) (Nat.le_of_ble_eq_true rfl) dX4_cut_13 (fun H locs cells slots hS => ?_)
    refine lv_if_ne (tgt := 21) hx hb dX4_cut_16 (by decide) (fun c_16 => ?_) (fun c_16 => ?_)
    · have h := g_ift c_16 h
      refine lv_iconst (v := 0) hx hb dX4_cut_21 (by decide) ?_
      refine g_istore_n (l1 := [(1, .inl 0), (0, .inr (.inr (some t)))]) hx hb hl (by decide) rfl dX4_cut_22 (fun ls hl => ?_)
      refine lv_iconst (v := 0) hx hb dX4_cut_23 (by decide) ?_
      refine g_istore_n (l1 := [(2, .inl 0), (1, .inl 0), (0, .inr (.inr (some t)))]) hx hb hl (by decide) rfl dX4_cut_24 (fun ls hl => ?_)
      exact sX4_cut_b25 C gFU _ _ _ _ _ h _ _ _ _ _ hS (gls_sub hl [2, 1, 0] rfl)
    · have h := g_iff (fun z => z c_16) h
      refine lv_iconst (v := (-1)) hx hb dX4_cut_19 (by decide) ?_
      exact g_iretG hx hb hr hlk hKn hRc hRs hS h dX4_cut_20
/-- SendHallModel.differs()Z -/
def fX4_differs_b79 (E : g_E) (k16 : Nat → Int32 → g_G → Option (Int32 × g_G)) (t : Nat) (v1 : Int32) (G : g_G) : Option (Int32 × g_G) :=
  k16 t (v1 + 1) G
def fX4_differs_b41 (E : g_E) (k16 : Nat → Int32 → g_G → Option (Int32 × g_G)) : Nat → Nat → Int32 → Int32 → g_G → Option (Int32 × g_G)
  | 0, _, _, _, _ => none
  | n + 1, t, v1, v2, G =>
    if (8 : Int32) ≤ v2 then (
      fX4_differs_b79 E k16 t v1 G)
    else (
      (grR G 4 4 (some t) 50).bind fun x48 =>
      (gaI G 100 x48 (((11 * v1) + 1) + v2)).bind fun x59 =>
      (grR G 4 4 (some t) 50).bind fun x61 =>
      (gaI G 100 x61 (1 + v2)).bind fun x67 =>
      if x59 = x67 then (
        fX4_differs_b41 E k16 n t v1 (v2 + 1) G)
      else (
        if (1 : Int32) = 0 ∨ (1 : Int32) = 1 then some (1, G) else none))
def fX4_differs_b16 (E : g_E) : Nat → Nat → Int32 → g_G → Option (Int32 × g_G)
  | 0, _, _, _ => none
  | n + 1, t, v1, G =>
    (grI G 4 4 (some t) 51).bind fun x18 =>
    if x18 ≤ v1 then (
      if (0 : Int32) = 0 ∨ (0 : Int32) = 1 then some (0, G) else none)
    else (
      (grR G 4 4 (some t) 50).bind fun x25 =>
      (gaI G 100 x25 (11 * v1)).bind fun x32 =>
      if x32 = 0 then (
        fX4_differs_b41 E (fX4_differs_b16 E n) gFU t v1 0 G)
      else (
        fX4_differs_b79 E (fX4_differs_b16 E n) t v1 G))
def fX4_differs (E : g_E) (t : Nat) (G : g_G) : Option (Int32 × g_G) :=
  (gpI E G 4 4 (some t) 2 0).bind fun G2 =>
  (gchk G2 4 (some t)).bind fun b6 =>
  (fX4_tell E b6 G2).bind fun z6 =>
  if ¬ z6.1 = 0 then (
    fX4_differs_b16 E gFU t 1 z6.2)
  else (
    if (0 : Int32) = 0 ∨ (0 : Int32) = 1 then some (0, z6.2) else none)
theorem sX4_differs_b79 {p : Program} {l : Launch} {e : Env} {R : Room} {s : State} {m : MethodId} {args : Array Value} {below : List Frame} {meth : Method} {c : Code} {E : g_E} {D : g_D} (C : gC p R s m args meth c cX4_differs 3 RX4 "differs" (some .boolean) 13 348 E D) {k16 : Nat → Int32 → g_G → Option (Int32 × g_G)} (hk16 : ∀ (t : Nat) (v1 : Int32) (G : g_G) (q : Int32 × g_G), k16 t v1 G = some q → ∀ (H : Heap) (locs : List Loc) (cells slots : Nat) (ls : Array Slot), gSt E D G H locs → gls ls 3 [(0, .inr (.inr (some t))), (1, .inl v1)] → gT p l e R s m args below meth c E D H locs cells slots (some (.int q.1)) q.2 (F0 m 16 ls [])) : ∀ (t : Nat) (v1 : Int32) (G : g_G) (q : Int32 × g_G), fX4_differs_b79 E k16 t v1 G = some q → ∀ (H : Heap) (locs : List Loc) (cells slots : Nat) (ls : Array Slot), gSt E D G H locs → gls ls 3 [(0, .inr (.inr (some t))), (1, .inl v1)] → gT p l e R s m args below meth c E D H locs cells slots (some (.int q.1)) q.2 (F0 m 79 ls []) := by
  obtain ⟨hx, hb, hml, hown, hts, hKn, hRc, hRs, hc1, hc2, hRf, hRl, hr, hlk, hnm⟩ := id C
  intro t v1 G q h H locs cells slots ls hS hl
  unfold fX4_differs_b79 at h
  refine g_iinc (l1 := [(1, .inl (v1 + 1)), (0, .inr (.inr (some t)))]) (v := (v1 + 1)) hx hb hl (k := 1) rfl (by rfl) (by decide) rfl dX4_differs_79 (fun ls hl => ?_)
  refine lv_goto (tgt := 16) hx hb dX4_differs_82 (by decide) ?_
  exact hk16 _ _ _ _ h _ _ _ _ _ hS (gls_sub hl [1, 0] rfl)
theorem sX4_differs_b41 {p : Program} {l : Launch} {e : Env} {R : Room} {s : State} {m : MethodId} {args : Array Value} {below : List Frame} {meth : Method} {c : Code} {E : g_E} {D : g_D} (C : gC p R s m args meth c cX4_differs 3 RX4 "differs" (some .boolean) 13 348 E D) {k16 : Nat → Int32 → g_G → Option (Int32 × g_G)} (hk16 : ∀ (t : Nat) (v1 : Int32) (G : g_G) (q : Int32 × g_G), k16 t v1 G = some q → ∀ (H : Heap) (locs : List Loc) (cells slots : Nat) (ls : Array Slot), gSt E D G H locs → gls ls 3 [(0, .inr (.inr (some t))), (1, .inl v1)] → gT p l e R s m args below meth c E D H locs cells slots (some (.int q.1)) q.2 (F0 m 16 ls [])) : ∀ (n : Nat) (t : Nat) (v1 : Int32) (v2 : Int32) (G : g_G) (q : Int32 × g_G), fX4_differs_b41 E k16 n t v1 v2 G = some q → ∀ (H : Heap) (locs : List Loc) (cells slots : Nat) (ls : Array Slot), gSt E D G H locs → gls ls 3 [(0, .inr (.inr (some t))), (1, .inl v1), (2, .inl v2)] → gT p l e R s m args below meth c E D H locs cells slots (some (.int q.1)) q.2 (F0 m 41 ls []) := by
  obtain ⟨hx, hb, hml, hown, hts, hKn, hRc, hRs, hc1, hc2, hRf, hRl, hr, hlk, hnm⟩ := id C
  intro n
  induction n with
  | zero =>
    intro t v1 v2 G q h
    exact g_no h
  | succ n ih =>
    intro t v1 v2 G q h H locs cells slots ls hS hl
    rw [fX4_differs_b41] at h
    refine g_iload_n hx hb hl 2 rfl dX4_differs_41 ?_
    refine lv_bipush (v := 8) hx hb dX4_differs_42 (by decide) ?_
    refine lv_icmp_ge (tgt := 79) hx hb dX4_differs_44 (by decide) (fun c_44 => ?_) (fun c_44 => ?_)
    · have h := g_ift c_44 h
      exact sX4_differs_b79 C hk16 _ _ _ _ h _ _ _ _ _ hS (gls_sub hl [0, 1] rfl)
    · have h := g_iff c_44 h
      refine g_aload_n hx hb hl 0 rfl dX4_differs_47 ?_
      refine g_rdR hx hb hown hts hKn hS h fd_4_4_50 rfl (Or.inl (hts _ q1915)) (fun _ z => z) dX4_differs_48 (fun x48 h => ?_)
      refine lv_bipush (v := 11) hx hb dX4_differs_51 (by decide) ?_
      refine g_iload_n hx hb hl 1 rfl dX4_differs_53 ?_
      refine lv_imul hx hb dX4_differs_54 ?_
      refine lv_iconst (v := 1) hx hb dX4_differs_55 (by decide) ?_
      refine lv_iadd hx hb dX4_differs_56 ?_
      refine g_iload_n hx hb hl 2 rfl dX4_differs_57 ?_
      refine lv_iadd hx hb dX4_differs_58 ?_
      refine g_ialoadG hx hb hKn hS h dX4_differs_59 (fun x59 h => ?_)
      refine g_aload_n hx hb hl 0 rfl dX4_differs_60 ?_
      refine g_rdR hx hb hown hts hKn hS h fd_4_4_50 rfl (Or.inl (hts _ q1915)) (fun _ z => z) dX4_differs_61 (fun x61 h => ?_)
      refine lv_iconst (v := 1) hx hb dX4_differs_64 (by decide) ?_
      refine g_iload_n hx hb hl 2 rfl dX4_differs_65 ?_
      refine lv_iadd hx hb dX4_differs_66 ?_
      refine g_ialoadG hx hb hKn hS h dX4_differs_67 (fun x67 h => ?_)
      refine lv_icmp_eq (tgt := 73) hx hb dX4_differs_68 (by decide) (fun c_68 => ?_) (fun c_68 => ?_)
      · have h := g_ift c_68 h
        refine g_iinc (l1 := [(2, .inl (v2 + 1)), (0, .inr (.inr (some t))), (1, .inl v1)]) (v := (v2 + 1)) hx hb hl (k := 2) rfl (by rfl) (by decide) rfl dX4_differs_73 (fun ls hl => ?_)
        refine lv_goto (tgt := 41) hx hb dX4_differs_76 (by decide) ?_
        exact ih _ _ _ _ _ h _ _ _ _ _ hS (gls_sub hl [1, 2, 0] rfl)
      · have h := g_iff c_68 h
        refine lv_iconst (v := 1) hx hb dX4_differs_71 (by decide) ?_
        exact g_zretG hx hb hr hlk hKn hRc hRs hS h dX4_differs_72
theorem sX4_differs_b16 {p : Program} {l : Launch} {e : Env} {R : Room} {s : State} {m : MethodId} {args : Array Value} {below : List Frame} {meth : Method} {c : Code} {E : g_E} {D : g_D} (C : gC p R s m args meth c cX4_differs 3 RX4 "differs" (some .boolean) 13 348 E D) : ∀ (n : Nat) (t : Nat) (v1 : Int32) (G : g_G) (q : Int32 × g_G), fX4_differs_b16 E n t v1 G = some q → ∀ (H : Heap) (locs : List Loc) (cells slots : Nat) (ls : Array Slot), gSt E D G H locs → gls ls 3 [(0, .inr (.inr (some t))), (1, .inl v1)] → gT p l e R s m args below meth c E D H locs cells slots (some (.int q.1)) q.2 (F0 m 16 ls []) := by
  obtain ⟨hx, hb, hml, hown, hts, hKn, hRc, hRs, hc1, hc2, hRf, hRl, hr, hlk, hnm⟩ := id C
  intro n
  induction n with
  | zero =>
    intro t v1 G q h
    exact g_no h
  | succ n ih =>
    intro t v1 G q h H locs cells slots ls hS hl
    rw [fX4_differs_b16] at h
    refine g_iload_n hx hb hl 1 rfl dX4_differs_16 ?_
    refine g_aload_n hx hb hl 0 rfl dX4_differs_17 ?_
    refine g_rdI hx hb hown hts hKn hS h fd_4_4_51 rfl (Or.inl (hts _ q1916)) (fun _ z => z) dX4_differs_18 (fun x18 h => ?_)
    refine lv_icmp_ge (tgt := 85) hx hb dX4_differs_21 (by decide) (fun c_21 => ?_) (fun c_21 => ?_)
    · have h := g_ift c_21 h
      refine lv_iconst (v := 0) hx hb dX4_differs_85 (by decide) ?_
      exact g_zretG hx hb hr hlk hKn hRc hRs hS h dX4_differs_86
    · have h := g_iff c_21 h
      refine g_aload_n hx hb hl 0 rfl dX4_differs_24 ?_
      refine g_rdR hx hb hown hts hKn hS h fd_4_4_50 rfl (Or.inl (hts _ q1915)) (fun _ z => z) dX4_differs_25 (fun x25 h => ?_)
      refine lv_bipush (v := 11) hx hb dX4_differs_28 (by decide) ?_
      refine g_iload_n hx hb hl 1 rfl dX4_differs_30 ?_
      refine lv_imul hx hb dX4_differs_31 ?_
      refine g_ialoadG hx hb hKn hS h dX4_differs_32 (fun x32 h => ?_)
      refine lv_if_eq (tgt := 39) hx hb dX4_differs_33 (by decide) (fun c_33 => ?_) (fun c_33 => ?_)
      · have h := g_ift c_33 h
        refine lv_iconst (v := 0) hx hb dX4_differs_39 (by decide) ?_
        refine g_istore_n (l1 := [(2, .inl 0), (0, .inr (.inr (some t))), (1, .inl v1)]) hx hb hl (by decide) rfl dX4_differs_40 (fun ls hl => ?_)
        exact sX4_differs_b41 C ih gFU _ _ _ _ _ h _ _ _ _ _ hS (gls_sub hl [1, 2, 0] rfl)
      · have h := g_iff c_33 h
        refine lv_goto (tgt := 79) hx hb dX4_differs_36 (by decide) ?_
        exact sX4_differs_b79 C ih _ _ _ _ h _ _ _ _ _ hS (gls_sub hl [0, 1] rfl)
theorem sX4_differs (l : Launch) (E : g_E) (D : g_D) {t : Nat} {G : g_G} {q : Int32 × g_G} (h : fX4_differs E t G = some q) : gMet l E D yX4_differs (ws_ yX4_differs cX4_differs 3 (some .boolean)) 13 348 [.inr (.inr (some t))] G (some (.int q.1)) q.2 := by
  refine gMet.of (by decide +kernel) (Nat.le_of_ble_eq_true rfl) ?_
  intro p e R s m args below meth c C hS ls hl
  have C : gC p R s m args meth c cX4_differs 3 RX4 "differs" (some .boolean) 13 348 E D := C
  obtain ⟨hx, hb, hml, hown, hts, hKn, hRc, hRs, hc1, hc2, hRf, hRl, hr, hlk, hnm⟩ := id C
  have hl : gls ls 3 [(0, .inr (.inr (some t)))] := hl
  generalize s.heap = H at hS ⊢
  unfold fX4_differs at h
  refine g_aload_n hx hb hl 0 rfl dX4_differs_0 ?_
  refine lv_iconst (v := 0) hx hb dX4_differs_1 (by decide) ?_
  refine g_ptI hx hb hown hts hKn hS h fd_4_4_2 (Or.inl (hts _ q1867)) (fun _ z => z) (fun z => nomatch z) dX4_differs_2 (fun G2 h H locs hS => ?_)
  refine g_aload_n hx hb hl 0 rfl dX4_differs_5 ?_
  obtain ⟨b6, hb6, h⟩ := g_bnd h
  obtain ⟨hr6, hk6⟩ := g_chk hb6
  obtain ⟨z6, h6, h⟩ := g_bnd h
  refine g_callV (n := 0) (b := b6) (av := []) (rs := []) hx hb hml hown hts hKn hRc hRs hS hl (sX4_tell l E D h6) (lw_V q2217 q2219 qs70 q135 q2220) ⟨rfl, by decide, by decide, by decide +kernel⟩ ⟨by rw [hRf]; exact Nat.le_of_ble_eq_true rfl, by rw [hRl]; exact Nat.le_of_ble_eq_true rfl⟩ (g_recv hKn hS hk6 (by decide) (by decide)) rfl (by rw [hr6]; rfl) (Nat.le_of_ble_eq_true rfl) dX4_differs_6 (fun H locs cells slots hS => ?_)
  refine lv_if_ne (tgt := 14) hx hb dX4_differs_9 (by decide) (fun c_9 => ?_) (fun c_9 => ?_)
  · have h := g_ift c_9 h
    refine lv_iconst (v := 1) hx hb dX4_differs_14 (by decide) ?_
    refine g_istore_n (l1 := [(1, .inl 1), (0, .inr (.inr (some t)))]) hx hb hl (by decide) rfl dX4_differs_15 (fun ls hl => ?_)
    exact sX4_differs_b16 C gFU _ _ _ _ h _ _ _ _ _ hS (gls_sub hl [1, 0] rfl)
  · have h := g_iff (fun z => z c_9) h
    refine lv_iconst (v := 0) hx hb dX4_differs_12 (by decide) ?_
    exact g_zretG hx hb hr hlk hKn hRc hRs hS h dX4_differs_13
/-- SendHallModel.ending(II)I -/
def fX4_ending_b59 (E : g_E) (t : Nat) (G : g_G) : Option (Int32 × g_G) :=
  (gchk G 4 (some t)).bind fun b61 =>
  (fX4_fail E b61 1 G).bind fun z61 =>
  some (z61.1, z61.2)
def fX4_ending_b33 (E : g_E) (t : Nat) (v1 : Int32) (v2 : Int32) (s0 : Int32) (G : g_G) : Option (Int32 × g_G) :=
  (gchk G 4 (some t)).bind fun b35 =>
  (fX4_tell E b35 G).bind fun z35 =>
  if z35.1 = 0 then (
    fX4_ending_b59 E t z35.2)
  else (
    (grI z35.2 4 4 (some t) 51).bind fun x44 =>
    (fX4_isIn E v1 0 (x44 - 1) z35.2).bind fun z49 =>
    if z49.1 = 0 then (
      fX4_ending_b59 E t z49.2)
    else (
      if ¬ s0 = 0 then (
        if ¬ v2 = 0 then (
          if ¬ v2 = (1 : Int32) then (
            if ¬ v2 = (2 : Int32) then (
              (grR z49.2 4 4 (some t) 50).bind fun x122 =>
              (gaI z49.2 100 x122 (((11 * v1) + v2) - 3)).bind fun x131 =>
              some (x131, z49.2))
            else (
              (grR z49.2 4 4 (some t) 50).bind fun x109 =>
              (gaI z49.2 100 x109 ((11 * v1) + 10)).bind fun x117 =>
              some (x117, z49.2)))
          else (
            (grR z49.2 4 4 (some t) 50).bind fun x91 =>
            (gaI z49.2 100 x91 ((11 * v1) + 9)).bind fun x99 =>
            some (x99, z49.2)))
        else (
          (grR z49.2 4 4 (some t) 50).bind fun x76 =>
          (gaI z49.2 100 x76 (11 * v1)).bind fun x81 =>
          some (x81, z49.2)))
      else (
        fX4_ending_b59 E t z49.2)))
def fX4_ending_b28 (E : g_E) (t : Nat) (v1 : Int32) (v2 : Int32) (G : g_G) : Option (Int32 × g_G) :=
  fX4_ending_b33 E t v1 v2 1 G
def fX4_ending (E : g_E) (t : Nat) (v1 : Int32) (v2 : Int32) (G : g_G) : Option (Int32 × g_G) :=
  (gpI E G 4 4 (some t) 2 0).bind fun G2 =>
  (fX4_isIn E v2 0 2 G2).bind fun z8 =>
  if ¬ z8.1 = 0 then (
    fX4_ending_b28 E t v1 v2 z8.2)
  else (
    (grI z8.2 4 4 (some t) 3).bind fun x18 =>
    (fX4_isIn E v2 4 (3 + x18) z8.2).bind fun z22 =>
    if z22.1 = 0 then (
      fX4_ending_b33 E t v1 v2 0 z22.2)
    else (
      fX4_ending_b28 E t v1 v2 z22.2))
theorem sX4_ending_b59 {p : Program} {l : Launch} {e : Env} {R : Room} {s : State} {m : MethodId} {args : Array Value} {below : List Frame} {meth : Method} {c : Code} {E : g_E} {D : g_D} (C : gC p R s m args meth c cX4_ending 5 RX4 "ending" (some .int) 13 348 E D) : ∀ (t : Nat) (G : g_G) (q : Int32 × g_G), fX4_ending_b59 E t G = some q → ∀ (H : Heap) (locs : List Loc) (cells slots : Nat) (ls : Array Slot), gSt E D G H locs → gls ls 5 [(0, .inr (.inr (some t)))] → gT p l e R s m args below meth c E D H locs cells slots (some (.int q.1)) q.2 (F0 m 59 ls []) := by
  obtain ⟨hx, hb, hml, hown, hts, hKn, hRc, hRs, hc1, hc2, hRf, hRl, hr, hlk, hnm⟩ := id C
  intro t G q h H locs cells slots ls hS hl
  unfold fX4_ending_b59 at h
  refine g_aload_n hx hb hl 0 rfl dX4_ending_59 ?_
  refine lv_iconst (v := 1) hx hb dX4_ending_60 (by decide) ?_
  obtain ⟨b61, hb61, h⟩ := g_bnd h
  obtain ⟨hr61, hk61⟩ := g_chk hb61
  obtain ⟨z61, h61, h⟩ := g_bnd h
  refine g_callV (n := 1) (b := b61) (av := [.inl 1]) (rs := []) hx hb hml hown hts hKn hRc hRs hS hl (sX4_fail l E D h61) (lw_V q2088 q2090 qs48 q135 q2091) ⟨rfl, by decide, by decide, by decide +kernel⟩ ⟨by rw [hRf]; exact Nat.le_of_ble_eq_true rfl, by rw [hRl]; exact Nat.le_of_ble_eq_true rfl⟩ (g_recv hKn hS hk61 (by decide) (by decide)) rfl (by rw [hr61]; rfl) (Nat.le_of_ble_eq_true rfl) dX4_ending_61 (fun H locs cells slots hS => ?_)
  exact g_iretG hx hb hr hlk hKn hRc hRs hS h dX4_ending_64
theorem sX4_ending_b33 {p : Program} {l : Launch} {e : Env} {R : Room} {s : State} {m : MethodId} {args : Array Value} {below : List Frame} {meth : Method} {c : Code} {E : g_E} {D : g_D} (C : gC p R s m args meth c cX4_ending 5 RX4 "ending" (some .int) 13 348 E D) : ∀ (t : Nat) (v1 : Int32) (v2 : Int32) (s0 : Int32) (G : g_G) (q : Int32 × g_G), fX4_ending_b33 E t v1 v2 s0 G = some q → ∀ (H : Heap) (locs : List Loc) (cells slots : Nat) (ls : Array Slot), gSt E D G H locs → gls ls 5 [(0, .inr (.inr (some t))), (1, .inl v1), (2, .inl v2)] → gT p l e R s m args below meth c E D H locs cells slots (some (.int q.1)) q.2 (F0 m 33 ls [.int s0]) := by
  obtain ⟨hx, hb, hml, hown, hts, hKn, hRc, hRs, hc1, hc2, hRf, hRl, hr, hlk, hnm⟩ := id C
  intro t v1 v2 s0 G q h H locs cells slots ls hS hl
  unfold fX4_ending_b33 at h
  refine g_istore_n (l1 := [(3, .inl s0), (0, .inr (.inr (some t))), (1, .inl v1), (2, .inl v2)]) hx hb hl (by decide) rfl dX4_ending_33 (fun ls hl => ?_)
  refine g_aload_n hx hb hl 1 rfl dX4_ending_34 ?_
  obtain ⟨b35, hb35, h⟩ := g_bnd h
  obtain ⟨hr35, hk35⟩ := g_chk hb35
  obtain ⟨z35, h35, h⟩ := g_bnd h
  refine g_callV (n := 0) (b := b35) (av := []) (rs := []) hx hb hml hown hts hKn hRc hRs hS hl (sX4_tell l E D h35) (lw_V q2217 q2219 qs70 q135 q2220) ⟨rfl, by decide, by decide, by decide +kernel⟩ ⟨by rw [hRf]; exact Nat.le_of_ble_eq_true rfl, by rw [hRl]; exact Nat.le_of_ble_eq_true rfl⟩ (g_recv hKn hS hk35 (by decide) (by decide)) rfl (by rw [hr35]; rfl) (Nat.le_of_ble_eq_true rfl) dX4_ending_35 (fun H locs cells slots hS => ?_)
  refine lv_if_eq (tgt := 59) hx hb dX4_ending_38 (by decide) (fun c_38 => ?_) (fun c_38 => ?_)
  · have h := g_ift c_38 h
    exact sX4_ending_b59 C _ _ _ h _ _ _ _ _ hS (gls_sub hl [1] rfl)
  · have h := g_iff c_38 h
    refine g_iload_n hx hb hl 2 rfl dX4_ending_41 ?_
    refine lv_iconst (v := 0) hx hb dX4_ending_42 (by decide) ?_
    refine g_aload_n hx hb hl 1 rfl dX4_ending_43 ?_
    refine g_rdI hx hb hown hts hKn hS h fd_4_4_51 rfl (Or.inl (hts _ q1916)) (fun _ z => z) dX4_ending_44 (fun x44 h => ?_)
    refine lv_iconst (v := 1) hx hb dX4_ending_47 (by decide) ?_
    refine lv_isub hx hb dX4_ending_48 ?_
    obtain ⟨z49, h49, h⟩ := g_bnd h
    refine g_callS (n := 3) (av := [.inl v1, .inl 0, .inl (x44 - 1)]) (rs := []) hx hb hml hown hts hKn hRc hRs hS hl (sX4_isIn l E D h49) (lw_S q2180 q2181 q135 q2182) ⟨by decide, by decide, by decide +kernel⟩ ⟨by rw [hRf]; exact Nat.le_of_ble_eq_true rfl, by rw [hRl]; exact Nat.le_of_ble_eq_true rfl⟩ rfl rfl (Nat.le_of_ble_eq_true rfl) dX4_ending_49 (fun H locs cells slots hS => ?_)
    refine lv_if_eq (tgt := 59) hx hb dX4_ending_52 (by decide) (fun c_52 => ?_) (fun c_52 => ?_)
    · have h := g_ift c_52 h
      exact sX4_ending_b59 C _ _ _ h _ _ _ _ _ hS (gls_sub hl [1] rfl)
    · have h := g_iff c_52 h
      refine g_iload_n hx hb hl 0 rfl dX4_ending_55 ?_
      refine lv_if_ne (tgt := 65) hx hb dX4_ending_56 (by decide) (fun c_56 => ?_) (fun c_56 => ?_)
      · have h := g_ift c_56 h
        refine lv_bipush (v := 11) hx hb dX4_ending_65 (by decide) ?_
        refine g_iload_n hx hb hl 2 rfl dX4_ending_67 ?_
        refine lv_imul hx hb dX4_ending_68 ?_
        refine g_istore (l1 := [(4, .inl (11 * v1)), (3, .inl s0), (0, .inr (.inr (some t))), (1, .inl v1), (2, .inl v2)]) hx hb hl (by decide) rfl dX4_ending_69 (fun ls hl => ?_)
        refine g_iload_n hx hb hl 4 rfl dX4_ending_71 ?_
        refine lv_if_ne (tgt := 85) hx hb dX4_ending_72 (by decide) (fun c_72 => ?_) (fun c_72 => ?_)
        · have h := g_ift c_72 h
          refine g_iload_n hx hb hl 4 rfl dX4_ending_85 ?_
          refine lv_iconst (v := 1) hx hb dX4_ending_86 (by decide) ?_
          refine lv_icmp_ne (tgt := 103) hx hb dX4_ending_87 (by decide) (fun c_87 => ?_) (fun c_87 => ?_)
          · have h := g_ift c_87 h
            refine g_iload_n hx hb hl 4 rfl dX4_ending_103 ?_
            refine lv_iconst (v := 2) hx hb dX4_ending_104 (by decide) ?_
            refine lv_icmp_ne (tgt := 121) hx hb dX4_ending_105 (by decide) (fun c_105 => ?_) (fun c_105 => ?_)
            · have h := g_ift c_105 h
              refine g_aload_n hx hb hl 2 rfl dX4_ending_121 ?_
              refine g_rdR hx hb hown hts hKn hS h fd_4_4_50 rfl (Or.inl (hts _ q1915)) (fun _ z => z) dX4_ending_122 (fun x122 h => ?_)
              refine g_iload hx hb hl 0 rfl dX4_ending_125 ?_
              refine g_iload_n hx hb hl 4 rfl dX4_ending_127 ?_
              refine lv_iadd hx hb dX4_ending_128 ?_
              refine lv_iconst (v := 3) hx hb dX4_ending_129 (by decide) ?_
              refine lv_isub hx hb dX4_ending_130 ?_
              refine g_ialoadG hx hb hKn hS h dX4_ending_131 (fun x131 h => ?_)
              exact g_iretG hx hb hr hlk hKn hRc hRs hS h dX4_ending_132
            · have h := g_iff (fun z => z c_105) h
              refine g_aload_n hx hb hl 2 rfl dX4_ending_108 ?_
              refine g_rdR hx hb hown hts hKn hS h fd_4_4_50 rfl (Or.inl (hts _ q1915)) (fun _ z => z) dX4_ending_109 (fun x109 h => ?_)
              refine g_iload hx hb hl 0 rfl dX4_ending_112 ?_
              refine lv_bipush (v := 10) hx hb dX4_ending_114 (by decide) ?_
              refine lv_iadd hx hb dX4_ending_116 ?_
              refine g_ialoadG hx hb hKn hS h dX4_ending_117 (fun x117 h => ?_)
              refine lv_goto (tgt := 132) hx hb dX4_ending_118 (by decide) ?_
              exact g_iretG hx hb hr hlk hKn hRc hRs hS h dX4_ending_132
          · have h := g_iff (fun z => z c_87) h
            refine g_aload_n hx hb hl 2 rfl dX4_ending_90 ?_
            refine g_rdR hx hb hown hts hKn hS h fd_4_4_50 rfl (Or.inl (hts _ q1915)) (fun _ z => z) dX4_ending_91 (fun x91 h => ?_)
            refine g_iload hx hb hl 0 rfl dX4_ending_94 ?_
            refine lv_bipush (v := 9) hx hb dX4_ending_96 (by decide) ?_
            refine lv_iadd hx hb dX4_ending_98 ?_
            refine g_ialoadG hx hb hKn hS h dX4_ending_99 (fun x99 h => ?_)
            refine lv_goto (tgt := 132) hx hb dX4_ending_100 (by decide) ?_
            exact g_iretG hx hb hr hlk hKn hRc hRs hS h dX4_ending_132
        · have h := g_iff (fun z => z c_72) h
          refine g_aload_n hx hb hl 2 rfl dX4_ending_75 ?_
          refine g_rdR hx hb hown hts hKn hS h fd_4_4_50 rfl (Or.inl (hts _ q1915)) (fun _ z => z) dX4_ending_76 (fun x76 h => ?_)
          refine g_iload hx hb hl 0 rfl dX4_ending_79 ?_
          refine g_ialoadG hx hb hKn hS h dX4_ending_81 (fun x81 h => ?_)
          refine lv_goto (tgt := 132) hx hb dX4_ending_82 (by decide) ?_
          exact g_iretG hx hb hr hlk hKn hRc hRs hS h dX4_ending_132
      · have h := g_iff (fun z => z c_56) h
        exact sX4_ending_b59 C _ _ _ h _ _ _ _ _ hS (gls_sub hl [1] rfl)
theorem sX4_ending_b28 {p : Program} {l : Launch} {e : Env} {R : Room} {s : State} {m : MethodId} {args : Array Value} {below : List Frame} {meth : Method} {c : Code} {E : g_E} {D : g_D} (C : gC p R s m args meth c cX4_ending 5 RX4 "ending" (some .int) 13 348 E D) : ∀ (t : Nat) (v1 : Int32) (v2 : Int32) (G : g_G) (q : Int32 × g_G), fX4_ending_b28 E t v1 v2 G = some q → ∀ (H : Heap) (locs : List Loc) (cells slots : Nat) (ls : Array Slot), gSt E D G H locs → gls ls 5 [(0, .inr (.inr (some t))), (1, .inl v1), (2, .inl v2)] → gT p l e R s m args below meth c E D H locs cells slots (some (.int q.1)) q.2 (F0 m 28 ls []) := by
  obtain ⟨hx, hb, hml, hown, hts, hKn, hRc, hRs, hc1, hc2, hRf, hRl, hr, hlk, hnm⟩ := id C
  intro t v1 v2 G q h H locs cells slots ls hS hl
  unfold fX4_ending_b28 at h
  refine lv_iconst (v := 1) hx hb dX4_ending_28 (by decide) ?_
  refine lv_goto (tgt := 33) hx hb dX4_ending_29 (by decide) ?_
  exact sX4_ending_b33 C _ _ _ _ _ _ h _ _ _ _ _ hS (gls_sub hl [0, 1, 2] rfl)
theorem sX4_ending (l : Launch) (E : g_E) (D : g_D) {t : Nat} {v1 : Int32} {v2 : Int32} {G : g_G} {q : Int32 × g_G} (h : fX4_ending E t v1 v2 G = some q) : gMet l E D yX4_ending (ws_ yX4_ending cX4_ending 5 (some .int)) 13 348 [.inr (.inr (some t)), .inl v1, .inl v2] G (some (.int q.1)) q.2 := by
  refine gMet.of (by decide +kernel) (Nat.le_of_ble_eq_true rfl) ?_
  intro p e R s m args below meth c C hS ls hl
  have C : gC p R s m args meth c cX4_ending 5 RX4 "ending" (some .int) 13 348 E D := C
  obtain ⟨hx, hb, hml, hown, hts, hKn, hRc, hRs, hc1, hc2, hRf, hRl, hr, hlk, hnm⟩ := id C
  have hl : gls ls 5 [(0, .inr (.inr (some t))), (1, .inl v1), (2, .inl v2)] := hl
  generalize s.heap = H at hS ⊢
  unfold fX4_ending at h
  refine g_aload_n hx hb hl 0 rfl dX4_ending_0 ?_
  refine lv_iconst (v := 0) hx hb dX4_ending_1 (by decide) ?_
  refine g_ptI hx hb hown hts hKn hS h fd_4_4_2 (Or.inl (hts _ q1867)) (fun _ z => z) (fun z => nomatch z) dX4_ending_2 (fun G2 h H locs hS => ?_)
  refine g_iload_n hx hb hl 2 rfl dX4_ending_5 ?_
  refine lv_iconst (v := 0) hx hb dX4_ending_6 (by decide) ?_
  refine lv_iconst (v := 2) hx hb dX4_ending_7 (by decide) ?_
  obtain ⟨z8, h8, h⟩ := g_bnd h
  refine g_callS (n := 3) (av := [.inl v2, .inl 0, .inl 2]) (rs := []) hx hb hml hown hts hKn hRc hRs hS hl (sX4_isIn l E D h8) (lw_S q2180 q2181 q135 q2182) ⟨by decide, by decide, by decide +kernel⟩ ⟨by rw [hRf]; exact Nat.le_of_ble_eq_true rfl, by rw [hRl]; exact Nat.le_of_ble_eq_true rfl⟩ rfl rfl (Nat.le_of_ble_eq_true rfl) dX4_ending_8 (fun H locs cells slots hS => ?_)
  refine lv_if_ne (tgt := 28) hx hb dX4_ending_11 (by decide) (fun c_11 => ?_) (fun c_11 => ?_)
  · have h := g_ift c_11 h
    exact sX4_ending_b28 C _ _ _ _ _ h _ _ _ _ _ hS (gls_sub hl [0, 1, 2] rfl)
  · have h := g_iff (fun z => z c_11) h
    refine g_iload_n hx hb hl 2 rfl dX4_ending_14 ?_
    refine lv_iconst (v := 4) hx hb dX4_ending_15 (by decide) ?_
    refine lv_iconst (v := 3) hx hb dX4_ending_16 (by decide) ?_
    refine g_aload_n hx hb hl 0 rfl dX4_ending_17 ?_
    refine g_rdI hx hb hown hts hKn hS h fd_4_4_3 rfl (Or.inl (hts _ q1868)) (fun _ z => z) dX4_ending_18 (fun x18 h => ?_)
    refine lv_iadd hx hb dX4_ending_21 ?_
    obtain ⟨z22, h22, h⟩ := g_bnd h
    refine g_callS (n := 3) (av := [.inl v2, .inl 4, .inl (3 + x18)]) (rs := []) hx hb hml hown hts hKn hRc hRs hS hl (sX4_isIn l E D h22) (lw_S q2180 q2181 q135 q2182) ⟨by decide, by decide, by decide +kernel⟩ ⟨by rw [hRf]; exact Nat.le_of_ble_eq_true rfl, by rw [hRl]; exact Nat.le_of_ble_eq_true rfl⟩ rfl rfl (Nat.le_of_ble_eq_true rfl) dX4_ending_22 (fun H locs cells slots hS => ?_)
    refine lv_if_eq (tgt := 32) hx hb dX4_ending_25 (by decide) (fun c_25 => ?_) (fun c_25 => ?_)
    · have h := g_ift c_25 h
      refine lv_iconst (v := 0) hx hb dX4_ending_32 (by decide) ?_
      exact sX4_ending_b33 C _ _ _ _ _ _ h _ _ _ _ _ hS (gls_sub hl [0, 1, 2] rfl)
    · have h := g_iff c_25 h
      exact sX4_ending_b28 C _ _ _ _ _ h _ _ _ _ _ hS (gls_sub hl [0, 1, 2] rfl)
/-- SendHallModel.endings(I)I -/
def fX4_endings_b66 (E : g_E) (k34 : Nat → Int32 → Int32 → Int32 → g_G → Option (Int32 × g_G)) (t : Nat) (v1 : Int32) (v3 : Int32) (s0 : Int32) (s1 : Int32) (G : g_G) : Option (Int32 × g_G) :=
  k34 t v1 (s0 + s1) (v3 + 1) G
def fX4_endings_b61 (E : g_E) (k34 : Nat → Int32 → Int32 → Int32 → g_G → Option (Int32 × g_G)) (t : Nat) (v1 : Int32) (v3 : Int32) (s0 : Int32) (G : g_G) : Option (Int32 × g_G) :=
  fX4_endings_b66 E k34 t v1 v3 s0 1 G
def fX4_endings_b34 (E : g_E) : Nat → Nat → Int32 → Int32 → Int32 → g_G → Option (Int32 × g_G)
  | 0, _, _, _, _, _ => none
  | n + 1, t, v1, v2, v3, G =>
    (grI G 4 4 (some t) 51).bind fun x36 =>
    if x36 ≤ v3 then (
      some (v2, G))
    else (
      if v1 = (-1 : Int32) then (
        fX4_endings_b61 E (fX4_endings_b34 E n) t v1 v3 v2 G)
      else (
        (grR G 4 4 (some t) 50).bind fun x49 =>
        (gaI G 100 x49 (11 * v3)).bind fun x56 =>
        if ¬ x56 = v1 then (
          fX4_endings_b66 E (fX4_endings_b34 E n) t v1 v3 v2 0 G)
        else (
          fX4_endings_b61 E (fX4_endings_b34 E n) t v1 v3 v2 G)))
def fX4_endings (E : g_E) (t : Nat) (v1 : Int32) (G : g_G) : Option (Int32 × g_G) :=
  (gpI E G 4 4 (some t) 2 0).bind fun G2 =>
  (fX4_isIn E v1 (-1) 2 G2).bind fun z8 =>
  if ¬ z8.1 = 0 then (
    (gchk z8.2 4 (some t)).bind fun b21 =>
    (fX4_tell E b21 z8.2).bind fun z21 =>
    if ¬ z21.1 = 0 then (
      fX4_endings_b34 E gFU t v1 0 0 z21.2)
    else (
      some ((-2), z21.2)))
  else (
    (gchk z8.2 4 (some t)).bind fun b16 =>
    (fX4_fail E b16 1 z8.2).bind fun z16 =>
    some (z16.1, z16.2))
theorem sX4_endings_b66 {p : Program} {l : Launch} {e : Env} {R : Room} {s : State} {m : MethodId} {args : Array Value} {below : List Frame} {meth : Method} {c : Code} {E : g_E} {D : g_D} (C : gC p R s m args meth c cX4_endings 4 RX4 "endings" (some .int) 13 348 E D) {k34 : Nat → Int32 → Int32 → Int32 → g_G → Option (Int32 × g_G)} (hk34 : ∀ (t : Nat) (v1 : Int32) (v2 : Int32) (v3 : Int32) (G : g_G) (q : Int32 × g_G), k34 t v1 v2 v3 G = some q → ∀ (H : Heap) (locs : List Loc) (cells slots : Nat) (ls : Array Slot), gSt E D G H locs → gls ls 4 [(0, .inr (.inr (some t))), (1, .inl v1), (2, .inl v2), (3, .inl v3)] → gT p l e R s m args below meth c E D H locs cells slots (some (.int q.1)) q.2 (F0 m 34 ls [])) : ∀ (t : Nat) (v1 : Int32) (v3 : Int32) (s0 : Int32) (s1 : Int32) (G : g_G) (q : Int32 × g_G), fX4_endings_b66 E k34 t v1 v3 s0 s1 G = some q → ∀ (H : Heap) (locs : List Loc) (cells slots : Nat) (ls : Array Slot), gSt E D G H locs → gls ls 4 [(0, .inr (.inr (some t))), (1, .inl v1), (3, .inl v3)] → gT p l e R s m args below meth c E D H locs cells slots (some (.int q.1)) q.2 (F0 m 66 ls [.int s1, .int s0]) := by
  obtain ⟨hx, hb, hml, hown, hts, hKn, hRc, hRs, hc1, hc2, hRf, hRl, hr, hlk, hnm⟩ := id C
  intro t v1 v3 s0 s1 G q h H locs cells slots ls hS hl
  unfold fX4_endings_b66 at h
  refine lv_iadd hx hb dX4_endings_66 ?_
  refine g_istore_n (l1 := [(2, .inl (s0 + s1)), (0, .inr (.inr (some t))), (1, .inl v1), (3, .inl v3)]) hx hb hl (by decide) rfl dX4_endings_67 (fun ls hl => ?_)
  refine g_iinc (l1 := [(3, .inl (v3 + 1)), (2, .inl (s0 + s1)), (0, .inr (.inr (some t))), (1, .inl v1)]) (v := (v3 + 1)) hx hb hl (k := 3) rfl (by rfl) (by decide) rfl dX4_endings_68 (fun ls hl => ?_)
  refine lv_goto (tgt := 34) hx hb dX4_endings_71 (by decide) ?_
  exact hk34 _ _ _ _ _ _ h _ _ _ _ _ hS (gls_sub hl [2, 3, 1, 0] rfl)
theorem sX4_endings_b61 {p : Program} {l : Launch} {e : Env} {R : Room} {s : State} {m : MethodId} {args : Array Value} {below : List Frame} {meth : Method} {c : Code} {E : g_E} {D : g_D} (C : gC p R s m args meth c cX4_endings 4 RX4 "endings" (some .int) 13 348 E D) {k34 : Nat → Int32 → Int32 → Int32 → g_G → Option (Int32 × g_G)} (hk34 : ∀ (t : Nat) (v1 : Int32) (v2 : Int32) (v3 : Int32) (G : g_G) (q : Int32 × g_G), k34 t v1 v2 v3 G = some q → ∀ (H : Heap) (locs : List Loc) (cells slots : Nat) (ls : Array Slot), gSt E D G H locs → gls ls 4 [(0, .inr (.inr (some t))), (1, .inl v1), (2, .inl v2), (3, .inl v3)] → gT p l e R s m args below meth c E D H locs cells slots (some (.int q.1)) q.2 (F0 m 34 ls [])) : ∀ (t : Nat) (v1 : Int32) (v3 : Int32) (s0 : Int32) (G : g_G) (q : Int32 × g_G), fX4_endings_b61 E k34 t v1 v3 s0 G = some q → ∀ (H : Heap) (locs : List Loc) (cells slots : Nat) (ls : Array Slot), gSt E D G H locs → gls ls 4 [(0, .inr (.inr (some t))), (1, .inl v1), (3, .inl v3)] → gT p l e R s m args below meth c E D H locs cells slots (some (.int q.1)) q.2 (F0 m 61 ls [.int s0]) := by
  obtain ⟨hx, hb, hml, hown, hts, hKn, hRc, hRs, hc1, hc2, hRf, hRl, hr, hlk, hnm⟩ := id C
  intro t v1 v3 s0 G q h H locs cells slots ls hS hl
  unfold fX4_endings_b61 at h
  refine lv_iconst (v := 1) hx hb dX4_endings_61 (by decide) ?_
  refine lv_goto (tgt := 66) hx hb dX4_endings_62 (by decide) ?_
  exact sX4_endings_b66 C hk34 _ _ _ _ _ _ _ h _ _ _ _ _ hS (gls_sub hl [0, 1, 2] rfl)
theorem sX4_endings_b34 {p : Program} {l : Launch} {e : Env} {R : Room} {s : State} {m : MethodId} {args : Array Value} {below : List Frame} {meth : Method} {c : Code} {E : g_E} {D : g_D} (C : gC p R s m args meth c cX4_endings 4 RX4 "endings" (some .int) 13 348 E D) : ∀ (n : Nat) (t : Nat) (v1 : Int32) (v2 : Int32) (v3 : Int32) (G : g_G) (q : Int32 × g_G), fX4_endings_b34 E n t v1 v2 v3 G = some q → ∀ (H : Heap) (locs : List Loc) (cells slots : Nat) (ls : Array Slot), gSt E D G H locs → gls ls 4 [(0, .inr (.inr (some t))), (1, .inl v1), (2, .inl v2), (3, .inl v3)] → gT p l e R s m args below meth c E D H locs cells slots (some (.int q.1)) q.2 (F0 m 34 ls []) := by
  obtain ⟨hx, hb, hml, hown, hts, hKn, hRc, hRs, hc1, hc2, hRf, hRl, hr, hlk, hnm⟩ := id C
  intro n
  induction n with
  | zero =>
    intro t v1 v2 v3 G q h
    exact g_no h
  | succ n ih =>
    intro t v1 v2 v3 G q h H locs cells slots ls hS hl
    rw [fX4_endings_b34] at h
    refine g_iload_n hx hb hl 3 rfl dX4_endings_34 ?_
    refine g_aload_n hx hb hl 0 rfl dX4_endings_35 ?_
    refine g_rdI hx hb hown hts hKn hS h fd_4_4_51 rfl (Or.inl (hts _ q1916)) (fun _ z => z) dX4_endings_36 (fun x36 h => ?_)
    refine lv_icmp_ge (tgt := 74) hx hb dX4_endings_39 (by decide) (fun c_39 => ?_) (fun c_39 => ?_)
    · have h := g_ift c_39 h
      refine g_iload_n hx hb hl 2 rfl dX4_endings_74 ?_
      exact g_iretG hx hb hr hlk hKn hRc hRs hS h dX4_endings_75
    · have h := g_iff c_39 h
      refine g_iload_n hx hb hl 2 rfl dX4_endings_42 ?_
      refine g_iload_n hx hb hl 1 rfl dX4_endings_43 ?_
      refine lv_iconst (v := (-1)) hx hb dX4_endings_44 (by decide) ?_
      refine lv_icmp_eq (tgt := 61) hx hb dX4_endings_45 (by decide) (fun c_45 => ?_) (fun c_45 => ?_)
      · have h := g_ift c_45 h
        exact sX4_endings_b61 C ih _ _ _ _ _ _ h _ _ _ _ _ hS (gls_sub hl [0, 1, 3] rfl)
      · have h := g_iff c_45 h
        refine g_aload_n hx hb hl 0 rfl dX4_endings_48 ?_
        refine g_rdR hx hb hown hts hKn hS h fd_4_4_50 rfl (Or.inl (hts _ q1915)) (fun _ z => z) dX4_endings_49 (fun x49 h => ?_)
        refine lv_bipush (v := 11) hx hb dX4_endings_52 (by decide) ?_
        refine g_iload_n hx hb hl 3 rfl dX4_endings_54 ?_
        refine lv_imul hx hb dX4_endings_55 ?_
        refine g_ialoadG hx hb hKn hS h dX4_endings_56 (fun x56 h => ?_)
        refine g_iload_n hx hb hl 1 rfl dX4_endings_57 ?_
        refine lv_icmp_ne (tgt := 65) hx hb dX4_endings_58 (by decide) (fun c_58 => ?_) (fun c_58 => ?_)
        · have h := g_ift c_58 h
          refine lv_iconst (v := 0) hx hb dX4_endings_65 (by decide) ?_
          exact sX4_endings_b66 C ih _ _ _ _ _ _ _ h _ _ _ _ _ hS (gls_sub hl [0, 1, 3] rfl)
        · have h := g_iff (fun z => z c_58) h
          exact sX4_endings_b61 C ih _ _ _ _ _ _ h _ _ _ _ _ hS (gls_sub hl [0, 1, 3] rfl)
theorem sX4_endings (l : Launch) (E : g_E) (D : g_D) {t : Nat} {v1 : Int32} {G : g_G} {q : Int32 × g_G} (h : fX4_endings E t v1 G = some q) : gMet l E D yX4_endings (ws_ yX4_endings cX4_endings 4 (some .int)) 13 348 [.inr (.inr (some t)), .inl v1] G (some (.int q.1)) q.2 := by
  refine gMet.of (by decide +kernel) (Nat.le_of_ble_eq_true rfl) ?_
  intro p e R s m args below meth c C hS ls hl
  have C : gC p R s m args meth c cX4_endings 4 RX4 "endings" (some .int) 13 348 E D := C
  obtain ⟨hx, hb, hml, hown, hts, hKn, hRc, hRs, hc1, hc2, hRf, hRl, hr, hlk, hnm⟩ := id C
  have hl : gls ls 4 [(0, .inr (.inr (some t))), (1, .inl v1)] := hl
  generalize s.heap = H at hS ⊢
  unfold fX4_endings at h
  refine g_aload_n hx hb hl 0 rfl dX4_endings_0 ?_
  refine lv_iconst (v := 0) hx hb dX4_endings_1 (by decide) ?_
  refine g_ptI hx hb hown hts hKn hS h fd_4_4_2 (Or.inl (hts _ q1867)) (fun _ z => z) (fun z => nomatch z) dX4_endings_2 (fun G2 h H locs hS => ?_)
  refine g_iload_n hx hb hl 1 rfl dX4_endings_5 ?_
  refine lv_iconst (v := (-1)) hx hb dX4_endings_6 (by decide) ?_
  refine lv_iconst (v := 2) hx hb dX4_endings_7 (by decide) ?_
  obtain ⟨z8, h8, h⟩ := g_bnd h
  refine g_callS (n := 3) (av := [.inl v1, .inl (-1), .inl 2]) (rs := []) hx hb hml hown hts hKn hRc hRs hS hl (sX4_isIn l E D h8) (lw_S q2180 q2181 q135 q2182) ⟨by decide, by decide, by decide +kernel⟩ ⟨by rw [hRf]; exact Nat.le_of_ble_eq_true rfl, by rw [hRl]; exact Nat.le_of_ble_eq_true rfl⟩ rfl rfl (Nat.le_of_ble_eq_true rfl) dX4_endings_8 (fun H locs cells slots hS => ?_)
  refine lv_if_ne (tgt := 20) hx hb dX4_endings_11 (by decide) (fun c_11 => ?_) (fun c_11 => ?_)
  · have h := g_ift c_11 h
    refine g_aload_n hx hb hl 0 rfl dX4_endings_20 ?_
    obtain ⟨b21, hb21, h⟩ := g_bnd h
    obtain ⟨hr21, hk21⟩ := g_chk hb21
    obtain ⟨z21, h21, h⟩ := g_bnd h
    refine g_callV (n := 0) (b := b21) (av := []) (rs := []) hx hb hml hown hts hKn hRc hRs hS hl (sX4_tell l E D h21) (lw_V q2217 q2219 qs70 q135 q2220) ⟨rfl, by decide, by decide, by decide +kernel⟩ ⟨by rw [hRf]; exact Nat.le_of_ble_eq_true rfl, by rw [hRl]; exact Nat.le_of_ble_eq_true rfl⟩ (g_recv hKn hS hk21 (by decide) (by decide)) rfl (by rw [hr21]; rfl) (Nat.le_of_ble_eq_true rfl) dX4_endings_21 (fun H locs cells slots hS => ?_)
    refine lv_if_ne (tgt := 30) hx hb dX4_endings_24 (by decide) (fun c_24 => ?_) (fun c_24 => ?_)
    · have h := g_ift c_24 h
      refine lv_iconst (v := 0) hx hb dX4_endings_30 (by decide) ?_
      refine g_istore_n (l1 := [(2, .inl 0), (0, .inr (.inr (some t))), (1, .inl v1)]) hx hb hl (by decide) rfl dX4_endings_31 (fun ls hl => ?_)
      refine lv_iconst (v := 0) hx hb dX4_endings_32 (by decide) ?_
      refine g_istore_n (l1 := [(3, .inl 0), (2, .inl 0), (0, .inr (.inr (some t))), (1, .inl v1)]) hx hb hl (by decide) rfl dX4_endings_33 (fun ls hl => ?_)
      exact sX4_endings_b34 C gFU _ _ _ _ _ _ h _ _ _ _ _ hS (gls_sub hl [2, 3, 1, 0] rfl)
    · have h := g_iff (fun z => z c_24) h
      refine lv_bipush (v := (-2)) hx hb dX4_endings_27 (by decide) ?_
      exact g_iretG hx hb hr hlk hKn hRc hRs hS h dX4_endings_29
  · have h := g_iff (fun z => z c_11) h
    refine g_aload_n hx hb hl 0 rfl dX4_endings_14 ?_
    refine lv_iconst (v := 1) hx hb dX4_endings_15 (by decide) ?_
    obtain ⟨b16, hb16, h⟩ := g_bnd h
    obtain ⟨hr16, hk16⟩ := g_chk hb16
    obtain ⟨z16, h16, h⟩ := g_bnd h
    refine g_callV (n := 1) (b := b16) (av := [.inl 1]) (rs := []) hx hb hml hown hts hKn hRc hRs hS hl (sX4_fail l E D h16) (lw_V q2088 q2090 qs48 q135 q2091) ⟨rfl, by decide, by decide, by decide +kernel⟩ ⟨by rw [hRf]; exact Nat.le_of_ble_eq_true rfl, by rw [hRl]; exact Nat.le_of_ble_eq_true rfl⟩ (g_recv hKn hS hk16 (by decide) (by decide)) rfl (by rw [hr16]; rfl) (Nat.le_of_ble_eq_true rfl) dX4_endings_16 (fun H locs cells slots hS => ?_)
    exact g_iretG hx hb hr hlk hKn hRc hRs hS h dX4_endings_19
