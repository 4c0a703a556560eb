set_option maxRecDepth 100000
/-- SendHallModel.waitsFor(I)I -/
def fX4_waitsFor_b133 (E : g_E) (k98 : Nat → Int32 → Int32 → Int32 → g_G → Option (Int32 × g_G)) (t : Nat) (v1 : Int32) (v4 : Int32) (s0 : Int32) (s1 : Int32) (G : g_G) : Option (Int32 × g_G) :=
  k98 t v1 (s0 ||| s1) (v4 + 1) G
def fX4_waitsFor_b132 (E : g_E) (k98 : Nat → Int32 → Int32 → Int32 → g_G → Option (Int32 × g_G)) (t : Nat) (v1 : Int32) (v4 : Int32) (s0 : Int32) (G : g_G) : Option (Int32 × g_G) :=
  fX4_waitsFor_b133 E k98 t v1 v4 s0 0 G
def fX4_waitsFor_b98 (E : g_E) : Nat → Nat → Int32 → Int32 → Int32 → g_G → Option (Int32 × g_G)
  | 0, _, _, _, _, _ => none
  | n + 1, t, v1, v3, v4, G =>
    (grI G 4 4 (some t) 3).bind fun x101 =>
    if x101 ≤ v4 then (
      some (v3, G))
    else (
      if v4 = v1 then (
        fX4_waitsFor_b132 E (fX4_waitsFor_b98 E n) t v1 v4 v3 G)
      else (
        (gchk G 4 (some t)).bind fun b118 =>
        (fX4_own E b118 v4 0 G).bind fun z118 =>
        if z118.1 = (-1 : Int32) then (
          fX4_waitsFor_b132 E (fX4_waitsFor_b98 E n) t v1 v4 v3 z118.2)
        else (
          fX4_waitsFor_b133 E (fX4_waitsFor_b98 E n) t v1 v4 v3 (1 <<< (v4 &&& 31)) z118.2)))
def fX4_waitsFor_b179 (E : g_E) (k146 : Nat → Int32 → Int32 → Int32 → g_G → Option (Int32 × g_G)) (t : Nat) (v2 : Int32) (v4 : Int32) (s0 : Int32) (s1 : Int32) (G : g_G) : Option (Int32 × g_G) :=
  k146 t v2 (s0 ||| s1) (v4 + 1) G
def fX4_waitsFor_b146 (E : g_E) : Nat → Nat → Int32 → Int32 → Int32 → g_G → Option (Int32 × g_G)
  | 0, _, _, _, _, _ => none
  | n + 1, t, v2, v3, v4, G =>
    (grI G 4 4 (some t) 3).bind fun x149 =>
    if x149 ≤ v4 then (
      some (v3, G))
    else (
      (grR G 4 4 (some t) 24).bind fun x160 =>
      (gaI G 100 x160 v2).bind fun x164 =>
      (gchk G 4 (some t)).bind fun b165 =>
      (fX4_isAt E b165 v4 x164 G).bind fun z165 =>
      if ¬ z165.1 = 0 then (
        fX4_waitsFor_b179 E (fX4_waitsFor_b146 E n) t v2 v4 v3 0 z165.2)
      else (
        fX4_waitsFor_b179 E (fX4_waitsFor_b146 E n) t v2 v4 v3 (1 <<< (v4 &&& 31)) z165.2))
def fX4_waitsFor (E : g_E) (t : Nat) (v1 : Int32) (G : g_G) : Option (Int32 × g_G) :=
  (gchk G 4 (some t)).bind fun b3 =>
  (fX4_own E b3 v1 0 G).bind fun z3 =>
  if z3.1 = (-1 : Int32) then (
    some (0, z3.2))
  else (
    (gchk z3.2 4 (some t)).bind fun b15 =>
    (fX4_own E b15 v1 1 z3.2).bind fun z15 =>
    if ¬ z15.1 = (1 : Int32) then (
      (grR z15.2 4 4 (some t) 24).bind fun x27 =>
      (gaI z15.2 100 x27 z3.1).bind fun x31 =>
      if x31 = 0 then (
        (gchk z15.2 4 (some t)).bind fun b84 =>
        (fX4_asked E b84 v1 0 z15.2).bind fun z84 =>
        some ((1 <<< (z84.1 &&& 31)), z84.2))
      else
      if x31 = 1 then (
        (gchk z15.2 4 (some t)).bind fun b84 =>
        (fX4_asked E b84 v1 0 z15.2).bind fun z84 =>
        some ((1 <<< (z84.1 &&& 31)), z84.2))
      else
      if x31 = 3 then (
        (gchk z15.2 4 (some t)).bind fun b84 =>
        (fX4_asked E b84 v1 0 z15.2).bind fun z84 =>
        some ((1 <<< (z84.1 &&& 31)), z84.2))
      else
      if x31 = 4 then (
        fX4_waitsFor_b98 E gFU t v1 0 0 z15.2)
      else
      if x31 = 5 then (
        (gchk z15.2 4 (some t)).bind fun b91 =>
        (fX4_begun E b91 v1 z15.2).bind fun z91 =>
        some (z91.1, z91.2))
      else
      if x31 = 6 then (
        fX4_waitsFor_b146 E gFU t z3.1 0 0 z15.2)
      else
      if x31 = 7 then (
        fX4_waitsFor_b146 E gFU t z3.1 0 0 z15.2)
      else
      (
        some (0, z15.2)))
    else (
      some (0, z15.2)))
theorem sX4_waitsFor_b133 {p : Program} {l : Launch} {e : Env} {R : Room} {s : State} {m : MethodId} {args : Array Value} {below : List Frame} {meth : Method} {c : Code} {E : g_E} {D : g_D} (C : gC p R s m args meth c cX4_waitsFor 5 RX4 "waitsFor" (some .int) 4 134 E D) {k98 : Nat → Int32 → Int32 → Int32 → g_G → Option (Int32 × g_G)} (hk98 : ∀ (t : Nat) (v1 : Int32) (v3 : Int32) (v4 : Int32) (G : g_G) (q : Int32 × g_G), k98 t v1 v3 v4 G = some q → ∀ (H : Heap) (locs : List Loc) (cells slots : Nat) (ls : Array Slot), gSt E D G H locs → gls ls 5 [(0, .inr (.inr (some t))), (1, .inl v1), (3, .inl v3), (4, .inl v4)] → gT p l e R s m args below meth c E D H locs cells slots (some (.int q.1)) q.2 (F0 m 98 ls [])) : ∀ (t : Nat) (v1 : Int32) (v4 : Int32) (s0 : Int32) (s1 : Int32) (G : g_G) (q : Int32 × g_G), fX4_waitsFor_b133 E k98 t v1 v4 s0 s1 G = some q → ∀ (H : Heap) (locs : List Loc) (cells slots : Nat) (ls : Array Slot), gSt E D G H locs → gls ls 5 [(0, .inr (.inr (some t))), (1, .inl v1), (4, .inl v4)] → gT p l e R s m args below meth c E D H locs cells slots (some (.int q.1)) q.2 (F0 m 133 ls [.int s1, .int s0]) := by
  obtain ⟨hx, hb, hml, hown, hts, hKn, hRc, hRs, hc1, hc2, hRf, hRl, hr, hlk, hnm⟩ := id C
  intro t v1 v4 s0 s1 G q h H locs cells slots ls hS hl
  unfold fX4_waitsFor_b133 at h
  refine lv_ior hx hb dX4_waitsFor_133 ?_
  refine g_istore_n (l1 := [(3, .inl (s0 ||| s1)), (0, .inr (.inr (some t))), (1, .inl v1), (4, .inl v4)]) hx hb hl (by decide) rfl dX4_waitsFor_134 (fun ls hl => ?_)
  refine g_iinc (l1 := [(4, .inl (v4 + 1)), (3, .inl (s0 ||| s1)), (0, .inr (.inr (some t))), (1, .inl v1)]) (v := (v4 + 1)) hx hb hl (k := 3) rfl (by rfl) (by decide) rfl dX4_waitsFor_135 (fun ls hl => ?_)
  refine lv_goto (tgt := 98) hx hb dX4_waitsFor_138 (by decide) ?_
  exact hk98 _ _ _ _ _ _ h _ _ _ _ _ hS (gls_sub hl [2, 3, 1, 0] rfl)
theorem sX4_waitsFor_b132 {p : Program} {l : Launch} {e : Env} {R : Room} {s : State} {m : MethodId} {args : Array Value} {below : List Frame} {meth : Method} {c : Code} {E : g_E} {D : g_D} (C : gC p R s m args meth c cX4_waitsFor 5 RX4 "waitsFor" (some .int) 4 134 E D) {k98 : Nat → Int32 → Int32 → Int32 → g_G → Option (Int32 × g_G)} (hk98 : ∀ (t : Nat) (v1 : Int32) (v3 : Int32) (v4 : Int32) (G : g_G) (q : Int32 × g_G), k98 t v1 v3 v4 G = some q → ∀ (H : Heap) (locs : List Loc) (cells slots : Nat) (ls : Array Slot), gSt E D G H locs → gls ls 5 [(0, .inr (.inr (some t))), (1, .inl v1), (3, .inl v3), (4, .inl v4)] → gT p l e R s m args below meth c E D H locs cells slots (some (.int q.1)) q.2 (F0 m 98 ls [])) : ∀ (t : Nat) (v1 : Int32) (v4 : Int32) (s0 : Int32) (G : g_G) (q : Int32 × g_G), fX4_waitsFor_b132 E k98 t v1 v4 s0 G = some q → ∀ (H : Heap) (locs : List Loc) (cells slots : Nat) (ls : Array Slot), gSt E D G H locs → gls ls 5 [(0, .inr (.inr (some t))), (1, .inl v1), (4, .inl v4)] → gT p l e R s m args below meth c E D H locs cells slots (some (.int q.1)) q.2 (F0 m 132 ls [.int s0]) := by
  obtain ⟨hx, hb, hml, hown, hts, hKn, hRc, hRs, hc1, hc2, hRf, hRl, hr, hlk, hnm⟩ := id C
  intro t v1 v4 s0 G q h H locs cells slots ls hS hl
  unfold fX4_waitsFor_b132 at h
  refine lv_iconst (v := 0) hx hb dX4_waitsFor_132 (by decide) ?_
  exact sX4_waitsFor_b133 C hk98 _ _ _ _ _ _ _ h _ _ _ _ _ hS (gls_sub hl [0, 1, 2] rfl)
theorem sX4_waitsFor_b98 {p : Program} {l : Launch} {e : Env} {R : Room} {s : State} {m : MethodId} {args : Array Value} {below : List Frame} {meth : Method} {c : Code} {E : g_E} {D : g_D} (C : gC p R s m args meth c cX4_waitsFor 5 RX4 "waitsFor" (some .int) 4 134 E D) : ∀ (n : Nat) (t : Nat) (v1 : Int32) (v3 : Int32) (v4 : Int32) (G : g_G) (q : Int32 × g_G), fX4_waitsFor_b98 E n t v1 v3 v4 G = some q → ∀ (H : Heap) (locs : List Loc) (cells slots : Nat) (ls : Array Slot), gSt E D G H locs → gls ls 5 [(0, .inr (.inr (some t))), (1, .inl v1), (3, .inl v3), (4, .inl v4)] → gT p l e R s m args below meth c E D H locs cells slots (some (.int q.1)) q.2 (F0 m 98 ls []) := by
  obtain ⟨hx, hb, hml, hown, hts, hKn, hRc, hRs, hc1, hc2, hRf, hRl, hr, hlk, hnm⟩ := id C
  intro n
  induction n with
  | zero =>
    intro t v1 v3 v4 G q h
    exact g_no h
  | succ n ih =>
    intro t v1 v3 v4 G q h H locs cells slots ls hS hl
    rw [fX4_waitsFor_b98] at h
    refine g_iload hx hb hl 3 rfl dX4_waitsFor_98 ?_
    refine g_aload_n hx hb hl 0 rfl dX4_waitsFor_100 ?_
    refine g_rdI hx hb hown hts hKn hS h fd_4_4_3 rfl (Or.inl (hts _ q1868)) (fun _ z => z) dX4_waitsFor_101 (fun x101 h => ?_)
    refine lv_icmp_ge (tgt := 141) hx hb dX4_waitsFor_104 (by decide) (fun c_104 => ?_) (fun c_104 => ?_)
    · have h := g_ift c_104 h
      refine g_iload_n hx hb hl 2 rfl dX4_waitsFor_141 ?_
      exact g_iretG hx hb hr hlk hKn hRc hRs hS h dX4_waitsFor_142
    · have h := g_iff c_104 h
      refine g_iload_n hx hb hl 2 rfl dX4_waitsFor_107 ?_
      refine g_iload hx hb hl 3 rfl dX4_waitsFor_108 ?_
      refine g_iload_n hx hb hl 1 rfl dX4_waitsFor_110 ?_
      refine lv_icmp_eq (tgt := 132) hx hb dX4_waitsFor_111 (by decide) (fun c_111 => ?_) (fun c_111 => ?_)
      · have h := g_ift c_111 h
        exact sX4_waitsFor_b132 C ih _ _ _ _ _ _ h _ _ _ _ _ hS (gls_sub hl [0, 1, 3] rfl)
      · have h := g_iff c_111 h
        refine g_aload_n hx hb hl 0 rfl dX4_waitsFor_114 ?_
        refine g_iload hx hb hl 3 rfl dX4_waitsFor_115 ?_
        refine lv_iconst (v := 0) hx hb dX4_waitsFor_117 (by decide) ?_
        obtain ⟨b118, hb118, h⟩ := g_bnd h
        obtain ⟨hr118, hk118⟩ := g_chk hb118
        obtain ⟨z118, h118, h⟩ := g_bnd h
        refine g_callV (n := 2) (b := b118) (av := [.inl v4, .inl 0]) (rs := [.inl v3]) hx hb hml hown hts hKn hRc hRs hS hl (sX4_own l E D h118) (lw_V q2245 q2247 qs77 q135 q2248) ⟨rfl, by decide, by decide, by decide +kernel⟩ ⟨by rw [hRf]; exact Nat.le_of_ble_eq_true rfl, by rw [hRl]; exact Nat.le_of_ble_eq_true rfl⟩ (g_recv hKn hS hk118 (by decide) (by decide)) rfl (by rw [hr118]; rfl) (Nat.le_of_ble_eq_true rfl) dX4_waitsFor_118 (fun H locs cells slots hS => ?_)
        refine lv_iconst (v := (-1)) hx hb dX4_waitsFor_121 (by decide) ?_
        refine lv_icmp_eq (tgt := 132) hx hb dX4_waitsFor_122 (by decide) (fun c_122 => ?_) (fun c_122 => ?_)
        · have h := g_ift c_122 h
          exact sX4_waitsFor_b132 C ih _ _ _ _ _ _ h _ _ _ _ _ hS (gls_sub hl [0, 1, 3] rfl)
        · have h := g_iff c_122 h
          refine lv_iconst (v := 1) hx hb dX4_waitsFor_125 (by decide) ?_
          refine g_iload hx hb hl 3 rfl dX4_waitsFor_126 ?_
          refine lv_ishl hx hb dX4_waitsFor_128 ?_
          refine lv_goto (tgt := 133) hx hb dX4_waitsFor_129 (by decide) ?_
          exact sX4_waitsFor_b133 C ih _ _ _ _ _ _ _ h _ _ _ _ _ hS (gls_sub hl [0, 1, 3] rfl)
theorem sX4_waitsFor_b179 {p : Program} {l : Launch} {e : Env} {R : Room} {s : State} {m : MethodId} {args : Array Value} {below : List Frame} {meth : Method} {c : Code} {E : g_E} {D : g_D} (C : gC p R s m args meth c cX4_waitsFor 5 RX4 "waitsFor" (some .int) 4 134 E D) {k146 : Nat → Int32 → Int32 → Int32 → g_G → Option (Int32 × g_G)} (hk146 : ∀ (t : Nat) (v2 : Int32) (v3 : Int32) (v4 : Int32) (G : g_G) (q : Int32 × g_G), k146 t v2 v3 v4 G = some q → ∀ (H : Heap) (locs : List Loc) (cells slots : Nat) (ls : Array Slot), gSt E D G H locs → gls ls 5 [(0, .inr (.inr (some t))), (2, .inl v2), (3, .inl v3), (4, .inl v4)] → gT p l e R s m args below meth c E D H locs cells slots (some (.int q.1)) q.2 (F0 m 146 ls [])) : ∀ (t : Nat) (v2 : Int32) (v4 : Int32) (s0 : Int32) (s1 : Int32) (G : g_G) (q : Int32 × g_G), fX4_waitsFor_b179 E k146 t v2 v4 s0 s1 G = some q → ∀ (H : Heap) (locs : List Loc) (cells slots : Nat) (ls : Array Slot), gSt E D G H locs → gls ls 5 [(0, .inr (.inr (some t))), (2, .inl v2), (4, .inl v4)] → gT p l e R s m args below meth c E D H locs cells slots (some (.int q.1)) q.2 (F0 m 179 ls [.int s1, .int s0]) := by
  obtain ⟨hx, hb, hml, hown, hts, hKn, hRc, hRs, hc1, hc2, hRf, hRl, hr, hlk, hnm⟩ := id C
  intro t v2 v4 s0 s1 G q h H locs cells slots ls hS hl
  unfold fX4_waitsFor_b179 at h
  refine lv_ior hx hb dX4_waitsFor_179 ?_
  refine g_istore_n (l1 := [(3, .inl (s0 ||| s1)), (0, .inr (.inr (some t))), (2, .inl v2), (4, .inl v4)]) hx hb hl (by decide) rfl dX4_waitsFor_180 (fun ls hl => ?_)
  refine g_iinc (l1 := [(4, .inl (v4 + 1)), (3, .inl (s0 ||| s1)), (0, .inr (.inr (some t))), (2, .inl v2)]) (v := (v4 + 1)) hx hb hl (k := 3) rfl (by rfl) (by decide) rfl dX4_waitsFor_181 (fun ls hl => ?_)
  refine lv_goto (tgt := 146) hx hb dX4_waitsFor_184 (by decide) ?_
  exact hk146 _ _ _ _ _ _ h _ _ _ _ _ hS (gls_sub hl [2, 3, 1, 0] rfl)
theorem sX4_waitsFor_b146 {p : Program} {l : Launch} {e : Env} {R : Room} {s : State} {m : MethodId} {args : Array Value} {below : List Frame} {meth : Method} {c : Code} {E : g_E} {D : g_D} (C : gC p R s m args meth c cX4_waitsFor 5 RX4 "waitsFor" (some .int) 4 134 E D) : ∀ (n : Nat) (t : Nat) (v2 : Int32) (v3 : Int32) (v4 : Int32) (G : g_G) (q : Int32 × g_G), fX4_waitsFor_b146 E n t v2 v3 v4 G = some q → ∀ (H : Heap) (locs : List Loc) (cells slots : Nat) (ls : Array Slot), gSt E D G H locs → gls ls 5 [(0, .inr (.inr (some t))), (2, .inl v2), (3, .inl v3), (4, .inl v4)] → gT p l e R s m args below meth c E D H locs cells slots (some (.int q.1)) q.2 (F0 m 146 ls []) := by
  obtain ⟨hx, hb, hml, hown, hts, hKn, hRc, hRs, hc1, hc2, hRf, hRl, hr, hlk, hnm⟩ := id C
  intro n
  induction n with
  | zero =>
    intro t v2 v3 v4 G q h
    exact g_no h
  | succ n ih =>
    intro t v2 v3 v4 G q h H locs cells slots ls hS hl
    rw [fX4_waitsFor_b146] at h
    refine g_iload hx hb hl 3 rfl dX4_waitsFor_146 ?_
    refine g_aload_n hx hb hl 0 rfl dX4_waitsFor_148 ?_
    refine g_rdI hx hb hown hts hKn hS h fd_4_4_3 rfl (Or.inl (hts _ q1868)) (fun _ z => z) dX4_waitsFor_149 (fun x149 h => ?_)
    refine lv_icmp_ge (tgt := 187) hx hb dX4_waitsFor_152 (by decide) (fun c_152 => ?_) (fun c_152 => ?_)
    · have h := g_ift c_152 h
      refine g_iload_n hx hb hl 2 rfl dX4_waitsFor_187 ?_
      exact g_iretG hx hb hr hlk hKn hRc hRs hS h dX4_waitsFor_188
    · have h := g_iff c_152 h
      refine g_iload_n hx hb hl 2 rfl dX4_waitsFor_155 ?_
      refine g_aload_n hx hb hl 0 rfl dX4_waitsFor_156 ?_
      refine g_iload hx hb hl 3 rfl dX4_waitsFor_157 ?_
      refine g_aload_n hx hb hl 0 rfl dX4_waitsFor_159 ?_
      refine g_rdR hx hb hown hts hKn hS h fd_4_4_24 rfl (Or.inl (hts _ q1889)) (fun _ z => z) dX4_waitsFor_160 (fun x160 h => ?_)
      refine g_iload_n hx hb hl 1 rfl dX4_waitsFor_163 ?_
      refine g_ialoadG hx hb hKn hS h dX4_waitsFor_164 (fun x164 h => ?_)
      obtain ⟨b165, hb165, h⟩ := g_bnd h
      obtain ⟨hr165, hk165⟩ := g_chk hb165
      obtain ⟨z165, h165, h⟩ := g_bnd h
      refine g_callV (n := 2) (b := b165) (av := [.inl v4, .inl x164]) (rs := [.inl v3]) hx hb hml hown hts hKn hRc hRs hS hl (sX4_isAt l E D h165) (lw_V q2280 q2282 qs85 q135 q2283) ⟨rfl, by decide, by decide, by decide +kernel⟩ ⟨by rw [hRf]; exact Nat.le_of_ble_eq_true rfl, by rw [hRl]; exact Nat.le_of_ble_eq_true rfl⟩ (g_recv hKn hS hk165 (by decide) (by decide)) rfl (by rw [hr165]; rfl) (Nat.le_of_ble_eq_true rfl) dX4_waitsFor_165 (fun H locs cells slots hS => ?_)
      refine lv_if_ne (tgt := 178) hx hb dX4_waitsFor_168 (by decide) (fun c_168 => ?_) (fun c_168 => ?_)
      · have h := g_ift c_168 h
        refine lv_iconst (v := 0) hx hb dX4_waitsFor_178 (by decide) ?_
        exact sX4_waitsFor_b179 C ih _ _ _ _ _ _ _ h _ _ _ _ _ hS (gls_sub hl [0, 1, 3] rfl)
      · have h := g_iff (fun z => z c_168) h
        refine lv_iconst (v := 1) hx hb dX4_waitsFor_171 (by decide) ?_
        refine g_iload hx hb hl 3 rfl dX4_waitsFor_172 ?_
        refine lv_ishl hx hb dX4_waitsFor_174 ?_
        refine lv_goto (tgt := 179) hx hb dX4_waitsFor_175 (by decide) ?_
        exact sX4_waitsFor_b179 C ih _ _ _ _ _ _ _ h _ _ _ _ _ hS (gls_sub hl [0, 1, 3] rfl)
theorem sX4_waitsFor (l : Launch) (E : g_E) (D : g_D) {t : Nat} {v1 : Int32} {G : g_G} {q : Int32 × g_G} (h : fX4_waitsFor E t v1 G = some q) : gMet l E D yX4_waitsFor (ws_ yX4_waitsFor cX4_waitsFor 5 (some .int)) 4 134 [.inr (.inr (some t)), .inl v1] G (some (.int q.1)) q.2 := by
  refine gMet.of (by decide +kernel) (Nat.le_of_ble_eq_true rfl) ?_
  intro p e R s m args below meth c C hS ls hl
  have C : gC p R s m args meth c cX4_waitsFor 5 RX4 "waitsFor" (some .int) 4 134 E D := C
  obtain ⟨hx, hb, hml, hown, hts, hKn, hRc, hRs, hc1, hc2, hRf, hRl, hr, hlk, hnm⟩ := id C
  have hl : gls ls 5 [(0, .inr (.inr (some t))), (1, .inl v1)] := hl
  generalize s.heap = H at hS ⊢
  unfold fX4_waitsFor at h
  refine g_aload_n hx hb hl 0 rfl dX4_waitsFor_0 ?_
  refine g_iload_n hx hb hl 1 rfl dX4_waitsFor_1 ?_
  refine lv_iconst (v := 0) hx hb dX4_waitsFor_2 (by decide) ?_
  obtain ⟨b3, hb3, h⟩ := g_bnd h
  obtain ⟨hr3, hk3⟩ := g_chk hb3
  obtain ⟨z3, h3, h⟩ := g_bnd h
  refine g_callV (n := 2) (b := b3) (av := [.inl v1, .inl 0]) (rs := []) hx hb hml hown hts hKn hRc hRs hS hl (sX4_own l E D h3) (lw_V q2245 q2247 qs77 q135 q2248) ⟨rfl, by decide, by decide, by decide +kernel⟩ ⟨by rw [hRf]; exact Nat.le_of_ble_eq_true rfl, by rw [hRl]; exact Nat.le_of_ble_eq_true rfl⟩ (g_recv hKn hS hk3 (by decide) (by decide)) rfl (by rw [hr3]; rfl) (Nat.le_of_ble_eq_true rfl) dX4_waitsFor_3 (fun H locs cells slots hS => ?_)
  refine g_istore_n (l1 := [(2, .inl z3.1), (0, .inr (.inr (some t))), (1, .inl v1)]) hx hb hl (by decide) rfl dX4_waitsFor_6 (fun ls hl => ?_)
  refine g_iload_n hx hb hl 0 rfl dX4_waitsFor_7 ?_
  refine lv_iconst (v := (-1)) hx hb dX4_waitsFor_8 (by decide) ?_
  refine lv_icmp_eq (tgt := 22) hx hb dX4_waitsFor_9 (by decide) (fun c_9 => ?_) (fun c_9 => ?_)
  · have h := g_ift c_9 h
    refine lv_iconst (v := 0) hx hb dX4_waitsFor_22 (by decide) ?_
    exact g_iretG hx hb hr hlk hKn hRc hRs hS h dX4_waitsFor_23
  · have h := g_iff c_9 h
    refine g_aload_n hx hb hl 1 rfl dX4_waitsFor_12 ?_
    refine g_iload_n hx hb hl 2 rfl dX4_waitsFor_13 ?_
    refine lv_iconst (v := 1) hx hb dX4_waitsFor_14 (by decide) ?_
    obtain ⟨b15, hb15, h⟩ := g_bnd h
    obtain ⟨hr15, hk15⟩ := g_chk hb15
    obtain ⟨z15, h15, h⟩ := g_bnd h
    refine g_callV (n := 2) (b := b15) (av := [.inl v1, .inl 1]) (rs := []) hx hb hml hown hts hKn hRc hRs hS hl (sX4_own l E D h15) (lw_V q2245 q2247 qs77 q135 q2248) ⟨rfl, by decide, by decide, by decide +kernel⟩ ⟨by rw [hRf]; exact Nat.le_of_ble_eq_true rfl, by rw [hRl]; exact Nat.le_of_ble_eq_true rfl⟩ (g_recv hKn hS hk15 (by decide) (by decide)) rfl (by rw [hr15]; rfl) (Nat.le_of_ble_eq_true rfl) dX4_waitsFor_15 (fun H locs cells slots hS => ?_)
    refine lv_iconst (v := 1) hx hb dX4_waitsFor_18 (by decide) ?_
    refine lv_icmp_ne (tgt := 24) hx hb dX4_waitsFor_19 (by decide) (fun c_19 => ?_) (fun c_19 => ?_)
    · have h := g_ift c_19 h
      refine lv_iconst (v := 0) hx hb dX4_waitsFor_24 (by decide) ?_
      refine g_istore_n (l1 := [(3, .inl 0), (2, .inl z3.1), (0, .inr (.inr (some t))), (1, .inl v1)]) hx hb hl (by decide) rfl dX4_waitsFor_25 (fun ls hl => ?_)
      refine g_aload_n hx hb hl 2 rfl dX4_waitsFor_26 ?_
      refine g_rdR hx hb hown hts hKn hS h fd_4_4_24 rfl (Or.inl (hts _ q1889)) (fun _ z => z) dX4_waitsFor_27 (fun x27 h => ?_)
      refine g_iload_n hx hb hl 1 rfl dX4_waitsFor_30 ?_
      refine g_ialoadG hx hb hKn hS h dX4_waitsFor_31 (fun x31 h => ?_)
      by_cases w32_0 : x31 = 0
      · refine lv_tableIn (tgt := 80) (off := 48) hx hb dX4_waitsFor_32 (by rw [w32_0]; decide) (by rw [w32_0]; decide) (by rw [w32_0]; decide) (by decide) ?_
        have h := g_ift w32_0 h
        refine lv_iconst (v := 1) hx hb dX4_waitsFor_80 (by decide) ?_
        refine g_aload_n hx hb hl 2 rfl dX4_waitsFor_81 ?_
        refine g_iload_n hx hb hl 3 rfl dX4_waitsFor_82 ?_
        refine lv_iconst (v := 0) hx hb dX4_waitsFor_83 (by decide) ?_
        obtain ⟨b84, hb84, h⟩ := g_bnd h
        obtain ⟨hr84, hk84⟩ := g_chk hb84
        obtain ⟨z84, h84, h⟩ := g_bnd h
        refine g_callV (n := 2) (b := b84) (av := [.inl v1, .inl 0]) (rs := [.inl 1]) hx hb hml hown hts hKn hRc hRs hS hl (sX4_asked l E D h84) (lw_V q2241 q2243 qs76 q135 q2244) ⟨rfl, by decide, by decide, by decide +kernel⟩ ⟨by rw [hRf]; exact Nat.le_of_ble_eq_true rfl, by rw [hRl]; exact Nat.le_of_ble_eq_true rfl⟩ (g_recv hKn hS hk84 (by decide) (by decide)) rfl (by rw [hr84]; rfl) (Nat.le_of_ble_eq_true rfl) dX4_waitsFor_84 (fun H locs cells slots hS => ?_)
        refine lv_ishl hx hb dX4_waitsFor_87 ?_
        exact g_iretG hx hb hr hlk hKn hRc hRs hS h dX4_waitsFor_88
      have h := g_iff w32_0 h
      by_cases w32_1 : x31 = 1
      · refine lv_tableIn (tgt := 80) (off := 48) hx hb dX4_waitsFor_32 (by rw [w32_1]; decide) (by rw [w32_1]; decide) (by rw [w32_1]; decide) (by decide) ?_
        have h := g_ift w32_1 h
        refine lv_iconst (v := 1) hx hb dX4_waitsFor_80 (by decide) ?_
        refine g_aload_n hx hb hl 2 rfl dX4_waitsFor_81 ?_
        refine g_iload_n hx hb hl 3 rfl dX4_waitsFor_82 ?_
        refine lv_iconst (v := 0) hx hb dX4_waitsFor_83 (by decide) ?_
        obtain ⟨b84, hb84, h⟩ := g_bnd h
        obtain ⟨hr84, hk84⟩ := g_chk hb84
        obtain ⟨z84, h84, h⟩ := g_bnd h
        refine g_callV (n := 2) (b := b84) (av := [.inl v1, .inl 0]) (rs := [.inl 1]) hx hb hml hown hts hKn hRc hRs hS hl (sX4_asked l E D h84) (lw_V q2241 q2243 qs76 q135 q2244) ⟨rfl, by decide, by decide, by decide +kernel⟩ ⟨by rw [hRf]; exact Nat.le_of_ble_eq_true rfl, by rw [hRl]; exact Nat.le_of_ble_eq_true rfl⟩ (g_recv hKn hS hk84 (by decide) (by decide)) rfl (by rw [hr84]; rfl) (Nat.le_of_ble_eq_true rfl) dX4_waitsFor_84 (fun H locs cells slots hS => ?_)
        refine lv_ishl hx hb dX4_waitsFor_87 ?_
        exact g_iretG hx hb hr hlk hKn hRc hRs hS h dX4_waitsFor_88
      have h := g_iff w32_1 h
      by_cases w32_2 : x31 = 3
      · refine lv_tableIn (tgt := 80) (off := 48) hx hb dX4_waitsFor_32 (by rw [w32_2]; decide) (by rw [w32_2]; decide) (by rw [w32_2]; decide) (by decide) ?_
        have h := g_ift w32_2 h
        refine lv_iconst (v := 1) hx hb dX4_waitsFor_80 (by decide) ?_
        refine g_aload_n hx hb hl 2 rfl dX4_waitsFor_81 ?_
        refine g_iload_n hx hb hl 3 rfl dX4_waitsFor_82 ?_
        refine lv_iconst (v := 0) hx hb dX4_waitsFor_83 (by decide) ?_
        obtain ⟨b84, hb84, h⟩ := g_bnd h
        obtain ⟨hr84, hk84⟩ := g_chk hb84
        obtain ⟨z84, h84, h⟩ := g_bnd h
        refine g_callV (n := 2) (b := b84) (av := [.inl v1, .inl 0]) (rs := [.inl 1]) hx hb hml hown hts hKn hRc hRs hS hl (sX4_asked l E D h84) (lw_V q2241 q2243 qs76 q135 q2244) ⟨rfl, by decide, by decide, by decide +kernel⟩ ⟨by rw [hRf]; exact Nat.le_of_ble_eq_true rfl, by rw [hRl]; exact Nat.le_of_ble_eq_true rfl⟩ (g_recv hKn hS hk84 (by decide) (by decide)) rfl (by rw [hr84]; rfl) (Nat.le_of_ble_eq_true rfl) dX4_waitsFor_84 (fun H locs cells slots hS => ?_)
        refine lv_ishl hx hb dX4_waitsFor_87 ?_
        exact g_iretG hx hb hr hlk hKn hRc hRs hS h dX4_waitsFor_88
      have h := g_iff w32_2 h
      by_cases w32_3 : x31 = 4
      · refine lv_tableIn (tgt := 95) (off := 63) hx hb dX4_waitsFor_32 (by rw [w32_3]; decide) (by rw [w32_3]; decide) (by rw [w32_3]; decide) (by decide) ?_
        have h := g_ift w32_3 h
        refine lv_iconst (v := 0) hx hb dX4_waitsFor_95 (by decide) ?_
        refine g_istore (l1 := [(4, .inl 0), (3, .inl 0), (2, .inl z3.1), (0, .inr (.inr (some t))), (1, .inl v1)]) hx hb hl (by decide) rfl dX4_waitsFor_96 (fun ls hl => ?_)
        exact sX4_waitsFor_b98 C gFU _ _ _ _ _ _ h _ _ _ _ _ hS (gls_sub hl [3, 4, 1, 0] rfl)
      have h := g_iff w32_3 h
      by_cases w32_4 : x31 = 5
      · refine lv_tableIn (tgt := 89) (off := 57) hx hb dX4_waitsFor_32 (by rw [w32_4]; decide) (by rw [w32_4]; decide) (by rw [w32_4]; decide) (by decide) ?_
        have h := g_ift w32_4 h
        refine g_aload_n hx hb hl 2 rfl dX4_waitsFor_89 ?_
        refine g_iload_n hx hb hl 3 rfl dX4_waitsFor_90 ?_
        obtain ⟨b91, hb91, h⟩ := g_bnd h
        obtain ⟨hr91, hk91⟩ := g_chk hb91
        obtain ⟨z91, h91, h⟩ := g_bnd h
        refine g_callV (n := 1) (b := b91) (av := [.inl v1]) (rs := []) hx hb hml hown hts hKn hRc hRs hS hl (sX4_begun l E D h91) (lw_V q2303 q2305 qs90 q135 q2306) ⟨rfl, by decide, by decide, by decide +kernel⟩ ⟨by rw [hRf]; exact Nat.le_of_ble_eq_true rfl, by rw [hRl]; exact Nat.le_of_ble_eq_true rfl⟩ (g_recv hKn hS hk91 (by decide) (by decide)) rfl (by rw [hr91]; rfl) (Nat.le_of_ble_eq_true rfl) dX4_waitsFor_91 (fun H locs cells slots hS => ?_)
        exact g_iretG hx hb hr hlk hKn hRc hRs hS h dX4_waitsFor_94
      have h := g_iff w32_4 h
      by_cases w32_5 : x31 = 6
      · refine lv_tableIn (tgt := 143) (off := 111) hx hb dX4_waitsFor_32 (by rw [w32_5]; decide) (by rw [w32_5]; decide) (by rw [w32_5]; decide) (by decide) ?_
        have h := g_ift w32_5 h
        refine lv_iconst (v := 0) hx hb dX4_waitsFor_143 (by decide) ?_
        refine g_istore (l1 := [(4, .inl 0), (3, .inl 0), (2, .inl z3.1), (0, .inr (.inr (some t))), (1, .inl v1)]) hx hb hl (by decide) rfl dX4_waitsFor_144 (fun ls hl => ?_)
        exact sX4_waitsFor_b146 C gFU _ _ _ _ _ _ h _ _ _ _ _ hS (gls_sub hl [3, 2, 1, 0] rfl)
      have h := g_iff w32_5 h
      by_cases w32_6 : x31 = 7
      · refine lv_tableIn (tgt := 143) (off := 111) hx hb dX4_waitsFor_32 (by rw [w32_6]; decide) (by rw [w32_6]; decide) (by rw [w32_6]; decide) (by decide) ?_
        have h := g_ift w32_6 h
        refine lv_iconst (v := 0) hx hb dX4_waitsFor_143 (by decide) ?_
        refine g_istore (l1 := [(4, .inl 0), (3, .inl 0), (2, .inl z3.1), (0, .inr (.inr (some t))), (1, .inl v1)]) hx hb hl (by decide) rfl dX4_waitsFor_144 (fun ls hl => ?_)
        exact sX4_waitsFor_b146 C gFU _ _ _ _ _ _ h _ _ _ _ _ hS (gls_sub hl [3, 2, 1, 0] rfl)
      have h := g_iff w32_6 h
      refine g_tableD (tgt := 189) hx hb dX4_waitsFor_32 (by decide) [0, 1, 3, 4, 5, 6, 7] (by decide) (fun k hk => ?_) ?_
      · simp only [List.mem_cons, List.not_mem_nil, or_false] at hk
        rcases hk with rfl | rfl | rfl | rfl | rfl | rfl | rfl
        · exact w32_0
        · exact w32_1
        · exact w32_2
        · exact w32_3
        · exact w32_4
        · exact w32_5
        · exact w32_6
      refine lv_iconst (v := 0) hx hb dX4_waitsFor_189 (by decide) ?_
      exact g_iretG hx hb hr hlk hKn hRc hRs hS h dX4_waitsFor_190
    · have h := g_iff (fun z => z c_19) h
      refine lv_iconst (v := 0) hx hb dX4_waitsFor_22 (by decide) ?_
      exact g_iretG hx hb hr hlk hKn hRc hRs hS h dX4_waitsFor_23
/-- SendHallModel.which([Ljava/lang/String;)I -/
def fX4_which_b2 (E : g_E) : Nat → Nat → (Option Nat) → Int32 → g_G → Option (Int32 × g_G)
  | 0, _, _, _, _ => none
  | n + 1, t, v1, v2, G =>
    (galen G v1).bind fun x4 =>
    if x4 ≤ v2 then (
      some ((-1), G))
    else (
      (gaR G 123 v1 v2).bind fun x11 =>
      (gchk G 4 (some t)).bind fun b12 =>
      (fX4_is E b12 x11 G).bind fun z12 =>
      if z12.1 = 0 then (
        fX4_which_b2 E n t v1 (v2 + 1) z12.2)
      else (
        some (v2, z12.2)))
def fX4_which (E : g_E) (t : Nat) (v1 : Option Nat) (G : g_G) : Option (Int32 × g_G) :=
  fX4_which_b2 E gFU t v1 0 G
theorem sX4_which_b2 {p : Program} {l : Launch} {e : Env} {R : Room} {s : State} {m : MethodId} {args : Array Value} {below : List Frame} {meth : Method} {c : Code} {E : g_E} {D : g_D} (C : gC p R s m args meth c cX4_which 3 RX4 "which" (some .int) 6 172 E D) : ∀ (n : Nat) (t : Nat) (v1 : Option Nat) (v2 : Int32) (G : g_G) (q : Int32 × g_G), fX4_which_b2 E n t v1 v2 G = some q → ∀ (H : Heap) (locs : List Loc) (cells slots : Nat) (ls : Array Slot), gSt E D G H locs → gls ls 3 [(0, .inr (.inr (some t))), (1, .inr (.inr v1)), (2, .inl v2)] → gT p l e R s m args below meth c E D H locs cells slots (some (.int q.1)) q.2 (F0 m 2 ls []) := by
  obtain ⟨hx, hb, hml, hown, hts, hKn, hRc, hRs, hc1, hc2, hRf, hRl, hr, hlk, hnm⟩ := id C
  intro n
  induction n with
  | zero =>
    intro t v1 v2 G q h
    exact g_no h
  | succ n ih =>
    intro t v1 v2 G q h H locs cells slots ls hS hl
    rw [fX4_which_b2] at h
    refine g_iload_n hx hb hl 2 rfl dX4_which_2 ?_
    refine g_aload_n hx hb hl 1 rfl dX4_which_3 ?_
    refine g_alen hx hb hKn hS h dX4_which_4 (fun x4 h => ?_)
    refine lv_icmp_ge (tgt := 26) hx hb dX4_which_5 (by decide) (fun c_5 => ?_) (fun c_5 => ?_)
    · have h := g_ift c_5 h
      refine lv_iconst (v := (-1)) hx hb dX4_which_26 (by decide) ?_
      exact g_iretG hx hb hr hlk hKn hRc hRs hS h dX4_which_27
    · have h := g_iff c_5 h
      refine g_aload_n hx hb hl 0 rfl dX4_which_8 ?_
      refine g_aload_n hx hb hl 1 rfl dX4_which_9 ?_
      refine g_iload_n hx hb hl 2 rfl dX4_which_10 ?_
      refine g_aaloadG hx hb hKn hS h (by decide) dX4_which_11 (fun x11 h => ?_)
      obtain ⟨b12, hb12, h⟩ := g_bnd h
      obtain ⟨hr12, hk12⟩ := g_chk hb12
      obtain ⟨z12, h12, h⟩ := g_bnd h
      refine g_callV (n := 1) (b := b12) (av := [.inr (.inr x11)]) (rs := []) hx hb hml hown hts hKn hRc hRs hS hl (sX4_is l E D h12) (lw_V q2113 q2115 qs52 q135 q2116) ⟨rfl, by decide, by decide, by decide +kernel⟩ ⟨by rw [hRf]; exact Nat.le_of_ble_eq_true rfl, by rw [hRl]; exact Nat.le_of_ble_eq_true rfl⟩ (g_recv hKn hS hk12 (by decide) (by decide)) rfl (by rw [hr12]; rfl) (Nat.le_of_ble_eq_true rfl) dX4_which_12 (fun H locs cells slots hS => ?_)
      refine lv_if_eq (tgt := 20) hx hb dX4_which_15 (by decide) (fun c_15 => ?_) (fun c_15 => ?_)
      · have h := g_ift c_15 h
        refine g_iinc (l1 := [(2, .inl (v2 + 1)), (0, .inr (.inr (some t))), (1, .inr (.inr v1))]) (v := (v2 + 1)) hx hb hl (k := 2) rfl (by rfl) (by decide) rfl dX4_which_20 (fun ls hl => ?_)
        refine lv_goto (tgt := 2) hx hb dX4_which_23 (by decide) ?_
        exact ih _ _ _ _ _ h _ _ _ _ _ hS (gls_sub hl [1, 2, 0] rfl)
      · have h := g_iff c_15 h
        refine g_iload_n hx hb hl 2 rfl dX4_which_18 ?_
        exact g_iretG hx hb hr hlk hKn hRc hRs hS h dX4_which_19
theorem sX4_which (l : Launch) (E : g_E) (D : g_D) {t : Nat} {v1 : Option Nat} {G : g_G} {q : Int32 × g_G} (h : fX4_which E t v1 G = some q) : gMet l E D yX4_which (ws_ yX4_which cX4_which 3 (some .int)) 6 172 [.inr (.inr (some t)), .inr (.inr v1)] G (some (.int q.1)) q.2 := by
  refine gMet.of (by decide +kernel) (Nat.le_of_ble_eq_true rfl) ?_
  intro p e R s m args below meth c C hS ls hl
  have C : gC p R s m args meth c cX4_which 3 RX4 "which" (some .int) 6 172 E D := C
  obtain ⟨hx, hb, hml, hown, hts, hKn, hRc, hRs, hc1, hc2, hRf, hRl, hr, hlk, hnm⟩ := id C
  have hl : gls ls 3 [(0, .inr (.inr (some t))), (1, .inr (.inr v1))] := hl
  generalize s.heap = H at hS ⊢
  unfold fX4_which at h
  refine lv_iconst (v := 0) hx hb dX4_which_0 (by decide) ?_
  refine g_istore_n (l1 := [(2, .inl 0), (0, .inr (.inr (some t))), (1, .inr (.inr v1))]) hx hb hl (by decide) rfl dX4_which_1 (fun ls hl => ?_)
  exact sX4_which_b2 C gFU _ _ _ _ _ h _ _ _ _ _ hS (gls_sub hl [1, 2, 0] rfl)
/-- SendHallModel.word(Ljava/lang/String;)V -/
def fX4_word_b20 (E : g_E) (t : Nat) (G : g_G) : Option (g_G) :=
  (grI G 4 4 (some t) 18).bind fun x21 =>
  if ¬ x21 = 0 then (
    some G)
  else (
    (gchk G 4 (some t)).bind fun b28 =>
    (fX4_stepOn E b28 G).bind fun z28 =>
    some z28)
def fX4_word (E : g_E) (t : Nat) (v1 : Option Nat) (G : g_G) : Option (g_G) :=
  (grI G 4 4 (some t) 18).bind fun x1 =>
  if ¬ x1 = 0 then (
    fX4_word_b20 E t G)
  else (
    (gchk G 4 (some t)).bind fun b9 =>
    (fX4_is E b9 v1 G).bind fun z9 =>
    if ¬ z9.1 = 0 then (
      fX4_word_b20 E t z9.2)
    else (
      (gchk z9.2 4 (some t)).bind fun b17 =>
      (fX4_wrong E b17 1 z9.2).bind fun z17 =>
      fX4_word_b20 E t z17))
theorem sX4_word_b20 {p : Program} {l : Launch} {e : Env} {R : Room} {s : State} {m : MethodId} {args : Array Value} {below : List Frame} {meth : Method} {c : Code} {E : g_E} {D : g_D} (C : gC p R s m args meth c cX4_word 2 RX4 "word" (none) 6 172 E D) : ∀ (t : Nat) (G : g_G) (q : g_G), fX4_word_b20 E t G = some q → ∀ (H : Heap) (locs : List Loc) (cells slots : Nat) (ls : Array Slot), gSt E D G H locs → gls ls 2 [(0, .inr (.inr (some t)))] → gT p l e R s m args below meth c E D H locs cells slots none q (F0 m 20 ls []) := by
  obtain ⟨hx, hb, hml, hown, hts, hKn, hRc, hRs, hc1, hc2, hRf, hRl, hr, hlk, hnm⟩ := id C
  intro t G q h H locs cells slots ls hS hl
  unfold fX4_word_b20 at h
  refine g_aload_n hx hb hl 0 rfl dX4_word_20 ?_
  refine g_rdI hx hb hown hts hKn hS h fd_4_4_18 rfl (Or.inl (hts _ q1883)) (fun _ z => z) dX4_word_21 (fun x21 h => ?_)
  refine lv_if_ne (tgt := 31) hx hb dX4_word_24 (by decide) (fun c_24 => ?_) (fun c_24 => ?_)
  · have h := g_ift c_24 h
    exact g_vretG hx hb hr hlk hKn hRc hRs hS h dX4_word_31
  · have h := g_iff (fun z => z c_24) h
    refine g_aload_n hx hb hl 0 rfl dX4_word_27 ?_
    obtain ⟨b28, hb28, h⟩ := g_bnd h
    obtain ⟨hr28, hk28⟩ := g_chk hb28
    obtain ⟨z28, h28, h⟩ := g_bnd h
    refine g_callV (n := 0) (b := b28) (av := []) (rs := []) hx hb hml hown hts hKn hRc hRs hS hl (sX4_stepOn l E D h28) (lw_V q2092 q2094 qs49 q135 q2095) ⟨rfl, by decide, by decide, by decide +kernel⟩ ⟨by rw [hRf]; exact Nat.le_of_ble_eq_true rfl, by rw [hRl]; exact Nat.le_of_ble_eq_true rfl⟩ (g_recv hKn hS hk28 (by decide) (by decide)) rfl (by rw [hr28]; rfl) (Nat.le_of_ble_eq_true rfl) dX4_word_28 (fun H locs cells slots hS => ?_)
    exact g_vretG hx hb hr hlk hKn hRc hRs hS h dX4_word_31
theorem sX4_word (l : Launch) (E : g_E) (D : g_D) {t : Nat} {v1 : Option Nat} {G : g_G} {q : g_G} (h : fX4_word E t v1 G = some q) : gMet l E D yX4_word (ws_ yX4_word cX4_word 2 (none)) 6 172 [.inr (.inr (some t)), .inr (.inr v1)] G none q := by
  refine gMet.of (by decide +kernel) (Nat.le_of_ble_eq_true rfl) ?_
  intro p e R s m args below meth c C hS ls hl
  have C : gC p R s m args meth c cX4_word 2 RX4 "word" (none) 6 172 E D := C
  obtain ⟨hx, hb, hml, hown, hts, hKn, hRc, hRs, hc1, hc2, hRf, hRl, hr, hlk, hnm⟩ := id C
  have hl : gls ls 2 [(0, .inr (.inr (some t))), (1, .inr (.inr v1))] := hl
  generalize s.heap = H at hS ⊢
  unfold fX4_word at h
  refine g_aload_n hx hb hl 0 rfl dX4_word_0 ?_
  refine g_rdI hx hb hown hts hKn hS h fd_4_4_18 rfl (Or.inl (hts _ q1883)) (fun _ z => z) dX4_word_1 (fun x1 h => ?_)
  refine lv_if_ne (tgt := 20) hx hb dX4_word_4 (by decide) (fun c_4 => ?_) (fun c_4 => ?_)
  · have h := g_ift c_4 h
    exact sX4_word_b20 C _ _ _ h _ _ _ _ _ hS (gls_sub hl [0] rfl)
  · have h := g_iff (fun z => z c_4) h
    refine g_aload_n hx hb hl 0 rfl dX4_word_7 ?_
    refine g_aload_n hx hb hl 1 rfl dX4_word_8 ?_
    obtain ⟨b9, hb9, h⟩ := g_bnd h
    obtain ⟨hr9, hk9⟩ := g_chk hb9
    obtain ⟨z9, h9, h⟩ := g_bnd h
    refine g_callV (n := 1) (b := b9) (av := [.inr (.inr v1)]) (rs := []) hx hb hml hown hts hKn hRc hRs hS hl (sX4_is l E D h9) (lw_V q2113 q2115 qs52 q135 q2116) ⟨rfl, by decide, by decide, by decide +kernel⟩ ⟨by rw [hRf]; exact Nat.le_of_ble_eq_true rfl, by rw [hRl]; exact Nat.le_of_ble_eq_true rfl⟩ (g_recv hKn hS hk9 (by decide) (by decide)) rfl (by rw [hr9]; rfl) (Nat.le_of_ble_eq_true rfl) dX4_word_9 (fun H locs cells slots hS => ?_)
    refine lv_if_ne (tgt := 20) hx hb dX4_word_12 (by decide) (fun c_12 => ?_) (fun c_12 => ?_)
    · have h := g_ift c_12 h
      exact sX4_word_b20 C _ _ _ h _ _ _ _ _ hS (gls_sub hl [0] rfl)
    · have h := g_iff (fun z => z c_12) h
      refine g_aload_n hx hb hl 0 rfl dX4_word_15 ?_
      refine lv_iconst (v := 1) hx hb dX4_word_16 (by decide) ?_
      obtain ⟨b17, hb17, h⟩ := g_bnd h
      obtain ⟨hr17, hk17⟩ := g_chk hb17
      obtain ⟨z17, h17, h⟩ := g_bnd h
      refine g_callV (n := 1) (b := b17) (av := [.inl 1]) (rs := []) hx hb hml hown hts hKn hRc hRs hS hl (sX4_wrong l E D h17) (lw_V q2128 q2130 qs55 q135 q2131) ⟨rfl, by decide, by decide, by decide +kernel⟩ ⟨by rw [hRf]; exact Nat.le_of_ble_eq_true rfl, by rw [hRl]; exact Nat.le_of_ble_eq_true rfl⟩ (g_recv hKn hS hk17 (by decide) (by decide)) rfl (by rw [hr17]; rfl) (Nat.le_of_ble_eq_true rfl) dX4_word_17 (fun H locs cells slots hS => ?_)
      exact sX4_word_b20 C _ _ _ h _ _ _ _ _ hS (gls_sub hl [0] rfl)
/-- SendHall$Reader.check(ZI)V -/
def fX5_check (E : g_E) (t : Nat) (v1 : Int32) (v2 : Int32) (G : g_G) : Option ((g_G) ⊕ gX) :=
  if ¬ v1 = 0 then (
    some (.inl G))
  else (
    (gnewO E G 6 8).bind fun z4 =>
    (grI z4.2 5 5 (some t) 3).bind fun x10 =>
    (fX6_init E z4.1 v2 x10 z4.2).bind fun z13 =>
    (gthr E z13 6 (some z4.1)).bind fun b16 => some (.inr (6, b16, z13)))
theorem sX5_check (l : Launch) (E : g_E) (D : g_D) (hlT : l.stackTraces = false) {t : Nat} {v1 : Int32} {v2 : Int32} {G : g_G} {q : (g_G) ⊕ gX} (h : fX5_check E t v1 v2 G = some q) : gMetX l E D yX5_check (ws_ yX5_check cX5_check 3 (none)) 2 86 [.inr (.inr (some t)), .inl v1, .inl v2] G gokV q := by
  refine gMetX.of (by decide +kernel) (Nat.le_of_ble_eq_true rfl) ?_
  intro p e R s m args below meth c C htab hS ls hl
  have C : gC p R s m args meth c cX5_check 3 RX5 "check" (none) 2 86 E D := C
  obtain ⟨hx, hb, hml, hown, hts, hKn, hRc, hRs, hc1, hc2, hRf, hRl, hr, hlk, hnm⟩ := id C
  have hl : gls ls 3 [(0, .inr (.inr (some t))), (1, .inl v1), (2, .inl v2)] := hl
  generalize hH0 : s.heap = H at hS ⊢
  unfold fX5_check at h
  refine g_iload_n hx hb hl 1 rfl dX5_check_0 ?_
  refine lv_if_ne (tgt := 17) hx hb dX5_check_1 (by decide) (fun c_1 => ?_) (fun c_1 => ?_)
  · have h := g_ift c_1 h
    exact g_retX (g_vretG hx hb hr hlk hKn hRc hRs hS rfl dX5_check_17) h rfl
  · have h := g_iff (fun z => z c_1) h
    refine g_newG (k := 6) hx hb hown hts hKn hRc hRs hS h (by decide) (by decide) (hts _ q1367) (hts _ q1368) (hts _ q140) dX5_check_4 (fun z4 h H locs cells slots hS => ?_)
    refine lv_dup hx hb dX5_check_7 (by first | exact va_rf_cat _ | rfl | exact g_catA _) ?_
    refine g_iload_n hx hb hl 2 rfl dX5_check_8 ?_
    refine g_aload_n hx hb hl 0 rfl dX5_check_9 ?_
    refine g_rdI hx hb hown hts hKn hS h fd_5_5_3 rfl (Or.inl (hts _ q1236)) (fun _ z => z) dX5_check_10 (fun x10 h => ?_)
    obtain ⟨z13, h13, h⟩ := g_bnd h
    refine g_callI (n := 2) (av := [.inl v2, .inl x10]) (rs := [.inr (.inr (some z4.1))]) hx hb hml hown hts hKn hRc hRs hS hl (sX6_init l E D hlT h13) (lw_meth q1378) (hts _ q140) (hts _ q1376) (hts _ q1377) rfl ⟨by decide, by decide, by decide +kernel⟩ ⟨by rw [hRf]; exact Nat.le_of_ble_eq_true rfl, by rw [hRl]; exact Nat.le_of_ble_eq_true rfl⟩ rfl rfl (Nat.le_of_ble_eq_true rfl) dX5_check_13 (fun H locs cells slots hS => ?_)
    obtain ⟨b16, hb16, h⟩ := g_bnd h
    obtain ⟨hr16, hk16, hB16⟩ := g_thr hb16
    cases hr16
    exact g_throwX hx hb dX5_check_16 (g_outX (by rw [htab]; decide) hlk hKn hRc hRs hS (by decide) (by decide) hB16 hk16 h)
/-- SendHall$Reader.joins()V -/
def fX5_joins_b10 (E : g_E) : Nat → Nat → Int32 → g_G → Option (g_G)
  | 0, _, _, _ => none
  | n + 1, t, v1, G =>
    if v1 < 0 then (
      some G)
    else (
      (grR G 5 5 (some t) 11).bind fun x15 =>
      (gchk G 17 x15).bind fun b19 =>
      (fJ2_get E b19 v1 G).bind fun z19 =>
      (gcast z19.2 14 14 z19.1).bind fun x22 =>
      (grR z19.2 5 5 (some t) 12).bind fun x28 =>
      (gchk z19.2 17 x28).bind fun b32 =>
      (fJ2_get E b32 v1 z19.2).bind fun z32 =>
      (gcast z32.2 17 17 z32.1).bind fun x35 =>
      (grR z32.2 14 14 x22 2).bind fun x39 =>
      (fX5_links E x35 x39 z32.2).bind fun z42 =>
      (gpR E z42.2 14 14 x22 4 z42.1).bind fun G45 =>
      (grR G45 5 5 (some t) 13).bind fun x50 =>
      (gchk G45 17 x50).bind fun b54 =>
      (fJ2_get E b54 v1 G45).bind fun z54 =>
      (gcast z54.2 17 17 z54.1).bind fun x57 =>
      (grR z54.2 14 14 x22 2).bind fun x61 =>
      (fX5_links E x57 x61 z54.2).bind fun z64 =>
      (gpR E z64.2 14 14 x22 5 z64.1).bind fun G67 =>
      fX5_joins_b10 E n t (v1 + (-1)) G67)
def fX5_joins (E : g_E) (t : Nat) (G : g_G) : Option (g_G) :=
  (grR G 5 5 (some t) 11).bind fun x1 =>
  (gchk G 17 x1).bind fun b4 =>
  (fJ2_size E b4 G).bind fun z4 =>
  fX5_joins_b10 E gFU t (z4.1 - 1) z4.2
theorem sX5_joins_b10 {p : Program} {l : Launch} {e : Env} {R : Room} {s : State} {m : MethodId} {args : Array Value} {below : List Frame} {meth : Method} {c : Code} {E : g_E} {D : g_D} (C : gC p R s m args meth c cX5_joins 3 RX5 "joins" (none) 5 150 E D) : ∀ (n : Nat) (t : Nat) (v1 : Int32) (G : g_G) (q : g_G), fX5_joins_b10 E n t v1 G = some q → ∀ (H : Heap) (locs : List Loc) (cells slots : Nat) (ls : Array Slot), gSt E D G H locs → gls ls 3 [(0, .inr (.inr (some t))), (1, .inl v1)] → gT p l e R s m args below meth c E D H locs cells slots none q (F0 m 10 ls []) := by
  obtain ⟨hx, hb, hml, hown, hts, hKn, hRc, hRs, hc1, hc2, hRf, hRl, hr, hlk, hnm⟩ := id C
  intro n
  induction n with
  | zero =>
    intro t v1 G q h
    exact g_no h
  | succ n ih =>
    intro t v1 G q h H locs cells slots ls hS hl
    rw [fX5_joins_b10] at h
    refine g_iload_n hx hb hl 1 rfl dX5_joins_10 ?_
    refine lv_if_lt (tgt := 76) hx hb dX5_joins_11 (by decide) (fun c_11 => ?_) (fun c_11 => ?_)
    · have h := g_ift c_11 h
      exact g_vretG hx hb hr hlk hKn hRc hRs hS h dX5_joins_76
    · have h := g_iff c_11 h
      refine g_aload_n hx hb hl 0 rfl dX5_joins_14 ?_
      refine g_rdR hx hb hown hts hKn hS h fd_5_5_11 rfl (Or.inl (hts _ q1244)) (fun _ z => z) dX5_joins_15 (fun x15 h => ?_)
      refine g_iload_n hx hb hl 1 rfl dX5_joins_18 ?_
      obtain ⟨b19, hb19, h⟩ := g_bnd h
      obtain ⟨hr19, hk19⟩ := g_chk hb19
      obtain ⟨z19, h19, h⟩ := g_bnd h
      refine g_callV (n := 1) (b := b19) (av := [.inl v1]) (rs := []) hx hb hml hown hts hKn hRc hRs hS hl (sJ2_get l E D h19) (lw_V q1706 q759 q760 q117 q761) ⟨rfl, by decide, by decide, by decide +kernel⟩ ⟨by rw [hRf]; exact Nat.le_of_ble_eq_true rfl, by rw [hRl]; exact Nat.le_of_ble_eq_true rfl⟩ (g_recv hKn hS hk19 (by decide) (by decide)) rfl (by rw [hr19]; rfl) (Nat.le_of_ble_eq_true rfl) dX5_joins_19 (fun H locs cells slots hS => ?_)
      refine g_castS (k := 14) hx hb hown hKn hS h (by decide) (by decide) (hts _ q1652) dX5_joins_22 (fun x22 h => ?_)
      refine g_astore_n (l1 := [(2, .inr (.inr x22)), (0, .inr (.inr (some t))), (1, .inl v1)]) hx hb hl (by decide) rfl dX5_joins_25 (fun ls hl => ?_)
      refine g_aload_n hx hb hl 0 rfl dX5_joins_26 ?_
      refine g_aload_n hx hb hl 1 rfl dX5_joins_27 ?_
      refine g_rdR hx hb hown hts hKn hS h fd_5_5_12 rfl (Or.inl (hts _ q1245)) (fun _ z => z) dX5_joins_28 (fun x28 h => ?_)
      refine g_iload_n hx hb hl 2 rfl dX5_joins_31 ?_
      obtain ⟨b32, hb32, h⟩ := g_bnd h
      obtain ⟨hr32, hk32⟩ := g_chk hb32
      obtain ⟨z32, h32, h⟩ := g_bnd h
      refine g_callV (n := 1) (b := b32) (av := [.inl v1]) (rs := [.inr (.inr x22)]) hx hb hml hown hts hKn hRc hRs hS hl (sJ2_get l E D h32) (lw_V q1706 q759 q760 q117 q761) ⟨rfl, by decide, by decide, by decide +kernel⟩ ⟨by rw [hRf]; exact Nat.le_of_ble_eq_true rfl, by rw [hRl]; exact Nat.le_of_ble_eq_true rfl⟩ (g_recv hKn hS hk32 (by decide) (by decide)) rfl (by rw [hr32]; rfl) (Nat.le_of_ble_eq_true rfl) dX5_joins_32 (fun H locs cells slots hS => ?_)
      refine g_castS (k := 17) hx hb hown hKn hS h (by decide) (by decide) (hts _ q1116) dX5_joins_35 (fun x35 h => ?_)
      refine g_aload_n hx hb hl 0 rfl dX5_joins_38 ?_
      refine g_rdR hx hb hown hts hKn hS h fd_14_14_2 rfl (Or.inl (hts _ q1442)) (u_same (hts _ q1443)) dX5_joins_39 (fun x39 h => ?_)
      obtain ⟨z42, h42, h⟩ := g_bnd h
      refine g_callS (n := 2) (av := [.inr (.inr x35), .inr (.inr x39)]) (rs := [.inr (.inr x22)]) hx hb hml hown hts hKn hRc hRs hS hl (sX5_links l E D h42) (lw_S q1703 q1704 q136 q1705) ⟨by decide, by decide, by decide +kernel⟩ ⟨by rw [hRf]; exact Nat.le_of_ble_eq_true rfl, by rw [hRl]; exact Nat.le_of_ble_eq_true rfl⟩ rfl rfl (Nat.le_of_ble_eq_true rfl) dX5_joins_42 (fun H locs cells slots hS => ?_)
      refine g_ptR hx hb hown hts hKn hS h fd_14_14_4 rfl (Or.inr ⟨rfl, _, gNest_use rfl (hKn.2.2.2.2.1 _ (gNest_in q1660 rfl))⟩) (fun _ z => z) (fun z => nomatch z) dX5_joins_45 (fun G45 h H locs hS => ?_)
      refine g_aload_n hx hb hl 0 rfl dX5_joins_48 ?_
      refine g_aload_n hx hb hl 1 rfl dX5_joins_49 ?_
      refine g_rdR hx hb hown hts hKn hS h fd_5_5_13 rfl (Or.inl (hts _ q1246)) (fun _ z => z) dX5_joins_50 (fun x50 h => ?_)
      refine g_iload_n hx hb hl 2 rfl dX5_joins_53 ?_
      obtain ⟨b54, hb54, h⟩ := g_bnd h
      obtain ⟨hr54, hk54⟩ := g_chk hb54
      obtain ⟨z54, h54, h⟩ := g_bnd h
      refine g_callV (n := 1) (b := b54) (av := [.inl v1]) (rs := [.inr (.inr x22)]) hx hb hml hown hts hKn hRc hRs hS hl (sJ2_get l E D h54) (lw_V q1706 q759 q760 q117 q761) ⟨rfl, by decide, by decide, by decide +kernel⟩ ⟨by rw [hRf]; exact Nat.le_of_ble_eq_true rfl, by rw [hRl]; exact Nat.le_of_ble_eq_true rfl⟩ (g_recv hKn hS hk54 (by decide) (by decide)) rfl (by rw [hr54]; rfl) (Nat.le_of_ble_eq_true rfl) dX5_joins_54 (fun H locs cells slots hS => ?_)
      refine g_castS (k := 17) hx hb hown hKn hS h (by decide) (by decide) (hts _ q1116) dX5_joins_57 (fun x57 h => ?_)
      refine g_aload_n hx hb hl 0 rfl dX5_joins_60 ?_
      refine g_rdR hx hb hown hts hKn hS h fd_14_14_2 rfl (Or.inl (hts _ q1442)) (u_same (hts _ q1443)) dX5_joins_61 (fun x61 h => ?_)
      obtain ⟨z64, h64, h⟩ := g_bnd h
      refine g_callS (n := 2) (av := [.inr (.inr x57), .inr (.inr x61)]) (rs := [.inr (.inr x22)]) hx hb hml hown hts hKn hRc hRs hS hl (sX5_links l E D h64) (lw_S q1703 q1704 q136 q1705) ⟨by decide, by decide, by decide +kernel⟩ ⟨by rw [hRf]; exact Nat.le_of_ble_eq_true rfl, by rw [hRl]; exact Nat.le_of_ble_eq_true rfl⟩ rfl rfl (Nat.le_of_ble_eq_true rfl) dX5_joins_64 (fun H locs cells slots hS => ?_)
      refine g_ptR hx hb hown hts hKn hS h fd_14_14_5 rfl (Or.inr ⟨rfl, _, gNest_use rfl (hKn.2.2.2.2.1 _ (gNest_in q1662 rfl))⟩) (fun _ z => z) (fun z => nomatch z) dX5_joins_67 (fun G67 h H locs hS => ?_)
      refine g_iinc (l1 := [(1, .inl (v1 + (-1))), (2, .inr (.inr x22)), (0, .inr (.inr (some t)))]) (v := (v1 + (-1))) hx hb hl (k := 2) rfl (by rfl) (by decide) rfl dX5_joins_70 (fun ls hl => ?_)
      refine lv_goto (tgt := 10) hx hb dX5_joins_73 (by decide) ?_
      exact ih _ _ _ _ h _ _ _ _ _ hS (gls_sub hl [2, 0] rfl)
theorem sX5_joins (l : Launch) (E : g_E) (D : g_D) {t : Nat} {G : g_G} {q : g_G} (h : fX5_joins E t G = some q) : gMet l E D yX5_joins (ws_ yX5_joins cX5_joins 3 (none)) 5 150 [.inr (.inr (some t))] G none q := by
  refine gMet.of (by decide +kernel) (Nat.le_of_ble_eq_true rfl) ?_
  intro p e R s m args below meth c C hS ls hl
  have C : gC p R s m args meth c cX5_joins 3 RX5 "joins" (none) 5 150 E D := C
  obtain ⟨hx, hb, hml, hown, hts, hKn, hRc, hRs, hc1, hc2, hRf, hRl, hr, hlk, hnm⟩ := id C
  have hl : gls ls 3 [(0, .inr (.inr (some t)))] := hl
  generalize s.heap = H at hS ⊢
  unfold fX5_joins at h
  refine g_aload_n hx hb hl 0 rfl dX5_joins_0 ?_
  refine g_rdR hx hb hown hts hKn hS h fd_5_5_11 rfl (Or.inl (hts _ q1244)) (fun _ z => z) dX5_joins_1 (fun x1 h => ?_)
  obtain ⟨b4, hb4, h⟩ := g_bnd h
  obtain ⟨hr4, hk4⟩ := g_chk hb4
  obtain ⟨z4, h4, h⟩ := g_bnd h
  refine g_callV (n := 0) (b := b4) (av := []) (rs := []) hx hb hml hown hts hKn hRc hRs hS hl (sJ2_size l E D h4) (lw_V q1362 q782 q783 q117 q784) ⟨rfl, by decide, by decide, by decide +kernel⟩ ⟨by rw [hRf]; exact Nat.le_of_ble_eq_true rfl, by rw [hRl]; exact Nat.le_of_ble_eq_true rfl⟩ (g_recv hKn hS hk4 (by decide) (by decide)) rfl (by rw [hr4]; rfl) (Nat.le_of_ble_eq_true rfl) dX5_joins_4 (fun H locs cells slots hS => ?_)
  refine lv_iconst (v := 1) hx hb dX5_joins_7 (by decide) ?_
  refine lv_isub hx hb dX5_joins_8 ?_
  refine g_istore_n (l1 := [(1, .inl (z4.1 - 1)), (0, .inr (.inr (some t)))]) hx hb hl (by decide) rfl dX5_joins_9 (fun ls hl => ?_)
  exact sX5_joins_b10 C gFU _ _ _ _ h _ _ _ _ _ hS (gls_sub hl [1, 0] rfl)
