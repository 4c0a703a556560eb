set_option maxRecDepth 100000
/-- SendHallModel.tellRing()V -/
def fX4_tellRing_b179 (E : g_E) : Nat → Nat → Int32 → Int32 → g_G → Option (g_G)
  | 0, _, _, _, _ => none
  | n + 1, t, v3, v4, G =>
    (grI G 4 4 (some t) 60).bind fun x182 =>
    if x182 ≤ v4 then (
      some G)
    else (
      (grR G 4 4 (some t) 63).bind fun x189 =>
      (grR G 4 4 (some t) 63).bind fun x195 =>
      (gaI G 100 x195 (v3 + v4)).bind fun x202 =>
      (gsaI E G x189 v4 x202).bind fun G203 =>
      fX4_tellRing_b179 E n t v3 (v4 + 1) G203)
def fX4_tellRing_b134 (E : g_E) (t : Nat) (v1 : Int32) (v2 : Int32) (G : g_G) : Option (g_G) :=
  (grI G 4 4 (some t) 3).bind fun x136 =>
  if x136 ≤ v1 then (
    some G)
  else (
    (gchk G 4 (some t)).bind fun b145 =>
    (fX4_own E b145 v1 0 G).bind fun z145 =>
    if z145.1 = (-1 : Int32) then (
      some z145.2)
    else (
      (grR z145.2 4 4 (some t) 64).bind fun x153 =>
      (gaI z145.2 100 x153 v1).bind fun x157 =>
      if ¬ x157 = 0 then (
        (grR z145.2 4 4 (some t) 65).bind fun x163 =>
        (gaI z145.2 100 x163 v1).bind fun x167 =>
        (gpI E z145.2 4 4 (some t) 60 (v2 - x167)).bind fun G173 =>
        fX4_tellRing_b179 E gFU t x167 0 G173)
      else (
        some z145.2)))
def fX4_tellRing_b110 (E : g_E) (k54 : Nat → Int32 → Int32 → g_G → Option (g_G)) : Nat → Nat → Int32 → Int32 → Int32 → g_G → Option (g_G)
  | 0, _, _, _, _, _ => none
  | n + 1, t, v1, v2, v3, G =>
    (grR G 4 4 (some t) 64).bind fun x111 =>
    (gaI G 100 x111 v1).bind fun x115 =>
    if ¬ ((x115 >>> (v3 &&& 31)) &&& 1) = 0 then (
      k54 t v3 v2 G)
    else (
      fX4_tellRing_b110 E k54 n t v1 v2 (v3 + 1) G)
def fX4_tellRing_b54 (E : g_E) : Nat → Nat → Int32 → Int32 → g_G → Option (g_G)
  | 0, _, _, _, _ => none
  | n + 1, t, v1, v2, G =>
    (grI G 4 4 (some t) 3).bind fun x56 =>
    if x56 ≤ v1 then (
      fX4_tellRing_b134 E t v1 v2 G)
    else (
      (gchk G 4 (some t)).bind fun b65 =>
      (fX4_own E b65 v1 0 G).bind fun z65 =>
      if z65.1 = (-1 : Int32) then (
        fX4_tellRing_b134 E t v1 v2 z65.2)
      else (
        (grR z65.2 4 4 (some t) 64).bind fun x73 =>
        (gaI z65.2 100 x73 v1).bind fun x77 =>
        if x77 = 0 then (
          fX4_tellRing_b134 E t v1 v2 z65.2)
        else (
          (grR z65.2 4 4 (some t) 65).bind fun x82 =>
          (gaI z65.2 100 x82 v1).bind fun x86 =>
          if ¬ x86 = (-1 : Int32) then (
            fX4_tellRing_b134 E t v1 v2 z65.2)
          else (
            (grR z65.2 4 4 (some t) 65).bind fun x92 =>
            (gsaI E z65.2 x92 v1 v2).bind fun G97 =>
            (grR G97 4 4 (some t) 63).bind fun x99 =>
            (gsaI E G97 x99 v2 v1).bind fun G104 =>
            fX4_tellRing_b110 E (fX4_tellRing_b54 E n) gFU t v1 (v2 + 1) 0 G104))))
def fX4_tellRing_b33 (E : g_E) : Nat → Nat → Int32 → Int32 → g_G → Option (g_G)
  | 0, _, _, _, _ => none
  | n + 1, t, v1, v2, G =>
    if (8 : Int32) ≤ v2 then (
      fX4_tellRing_b54 E gFU t v1 0 G)
    else (
      (grR G 4 4 (some t) 65).bind fun x40 =>
      (gsaI E G x40 v2 (-1)).bind fun G45 =>
      fX4_tellRing_b33 E n t v1 (v2 + 1) G45)
def fX4_tellRing_b31 (E : g_E) (t : Nat) (v1 : Int32) (G : g_G) : Option (g_G) :=
  fX4_tellRing_b33 E gFU t v1 0 G
def fX4_tellRing_b7 (E : g_E) : Nat → Nat → Int32 → g_G → Option (g_G)
  | 0, _, _, _ => none
  | n + 1, t, v1, G =>
    (grI G 4 4 (some t) 3).bind fun x9 =>
    if x9 ≤ v1 then (
      fX4_tellRing_b31 E t v1 G)
    else (
      (gchk G 4 (some t)).bind fun b18 =>
      (fX4_own E b18 v1 0 G).bind fun z18 =>
      if ¬ z18.1 = (-1 : Int32) then (
        fX4_tellRing_b31 E t v1 z18.2)
      else (
        fX4_tellRing_b7 E n t (v1 + 1) z18.2))
def fX4_tellRing (E : g_E) (t : Nat) (G : g_G) : Option (g_G) :=
  (gpI E G 4 4 (some t) 60 0).bind fun G2 =>
  fX4_tellRing_b7 E gFU t 0 G2
theorem sX4_tellRing_b179 {p : Program} {l : Launch} {e : Env} {R : Room} {s : State} {m : MethodId} {args : Array Value} {below : List Frame} {meth : Method} {c : Code} {E : g_E} {D : g_D} (C : gC p R s m args meth c cX4_tellRing 5 RX4 "tellRing" (none) 2 86 E D) : ∀ (n : Nat) (t : Nat) (v3 : Int32) (v4 : Int32) (G : g_G) (q : g_G), fX4_tellRing_b179 E n t v3 v4 G = some q → ∀ (H : Heap) (locs : List Loc) (cells slots : Nat) (ls : Array Slot), gSt E D G H locs → gls ls 5 [(0, .inr (.inr (some t))), (3, .inl v3), (4, .inl v4)] → gT p l e R s m args below meth c E D H locs cells slots none q (F0 m 179 ls []) := by
  obtain ⟨hx, hb, hml, hown, hts, hKn, hRc, hRs, hc1, hc2, hRf, hRl, hr, hlk, hnm⟩ := id C
  intro n
  induction n with
  | zero =>
    intro t v3 v4 G q h
    exact g_no h
  | succ n ih =>
    intro t v3 v4 G q h H locs cells slots ls hS hl
    rw [fX4_tellRing_b179] at h
    refine g_iload hx hb hl 2 rfl dX4_tellRing_179 ?_
    refine g_aload_n hx hb hl 0 rfl dX4_tellRing_181 ?_
    refine g_rdI hx hb hown hts hKn hS h fd_4_4_60 rfl (Or.inl (hts _ q1925)) (fun _ z => z) dX4_tellRing_182 (fun x182 h => ?_)
    refine lv_icmp_ge (tgt := 210) hx hb dX4_tellRing_185 (by decide) (fun c_185 => ?_) (fun c_185 => ?_)
    · have h := g_ift c_185 h
      exact g_vretG hx hb hr hlk hKn hRc hRs hS h dX4_tellRing_210
    · have h := g_iff c_185 h
      refine g_aload_n hx hb hl 0 rfl dX4_tellRing_188 ?_
      refine g_rdR hx hb hown hts hKn hS h fd_4_4_63 rfl (Or.inl (hts _ q1928)) (fun _ z => z) dX4_tellRing_189 (fun x189 h => ?_)
      refine g_iload hx hb hl 2 rfl dX4_tellRing_192 ?_
      refine g_aload_n hx hb hl 0 rfl dX4_tellRing_194 ?_
      refine g_rdR hx hb hown hts hKn hS h fd_4_4_63 rfl (Or.inl (hts _ q1928)) (fun _ z => z) dX4_tellRing_195 (fun x195 h => ?_)
      refine g_iload_n hx hb hl 1 rfl dX4_tellRing_198 ?_
      refine g_iload hx hb hl 2 rfl dX4_tellRing_199 ?_
      refine lv_iadd hx hb dX4_tellRing_201 ?_
      refine g_ialoadG hx hb hKn hS h dX4_tellRing_202 (fun x202 h => ?_)
      refine g_iastoreG hx hb hKn hS h dX4_tellRing_203 (fun G203 h H locs hS => ?_)
      refine g_iinc (l1 := [(4, .inl (v4 + 1)), (0, .inr (.inr (some t))), (3, .inl v3)]) (v := (v4 + 1)) hx hb hl (k := 2) rfl (by rfl) (by decide) rfl dX4_tellRing_204 (fun ls hl => ?_)
      refine lv_goto (tgt := 179) hx hb dX4_tellRing_207 (by decide) ?_
      exact ih _ _ _ _ _ h _ _ _ _ _ hS (gls_sub hl [1, 2, 0] rfl)
theorem sX4_tellRing_b134 {p : Program} {l : Launch} {e : Env} {R : Room} {s : State} {m : MethodId} {args : Array Value} {below : List Frame} {meth : Method} {c : Code} {E : g_E} {D : g_D} (C : gC p R s m args meth c cX4_tellRing 5 RX4 "tellRing" (none) 2 86 E D) : ∀ (t : Nat) (v1 : Int32) (v2 : Int32) (G : g_G) (q : g_G), fX4_tellRing_b134 E t v1 v2 G = some q → ∀ (H : Heap) (locs : List Loc) (cells slots : Nat) (ls : Array Slot), gSt E D G H locs → gls ls 5 [(0, .inr (.inr (some t))), (1, .inl v1), (2, .inl v2)] → gT p l e R s m args below meth c E D H locs cells slots none q (F0 m 134 ls []) := by
  obtain ⟨hx, hb, hml, hown, hts, hKn, hRc, hRs, hc1, hc2, hRf, hRl, hr, hlk, hnm⟩ := id C
  intro t v1 v2 G q h H locs cells slots ls hS hl
  unfold fX4_tellRing_b134 at h
  refine g_iload_n hx hb hl 1 rfl dX4_tellRing_134 ?_
  refine g_aload_n hx hb hl 0 rfl dX4_tellRing_135 ?_
  refine g_rdI hx hb hown hts hKn hS h fd_4_4_3 rfl (Or.inl (hts _ q1868)) (fun _ z => z) dX4_tellRing_136 (fun x136 h => ?_)
  refine lv_icmp_ge (tgt := 161) hx hb dX4_tellRing_139 (by decide) (fun c_139 => ?_) (fun c_139 => ?_)
  · have h := g_ift c_139 h
    exact g_vretG hx hb hr hlk hKn hRc hRs hS h dX4_tellRing_161
  · have h := g_iff c_139 h
    refine g_aload_n hx hb hl 0 rfl dX4_tellRing_142 ?_
    refine g_iload_n hx hb hl 1 rfl dX4_tellRing_143 ?_
    refine lv_iconst (v := 0) hx hb dX4_tellRing_144 (by decide) ?_
    obtain ⟨b145, hb145, h⟩ := g_bnd h
    obtain ⟨hr145, hk145⟩ := g_chk hb145
    obtain ⟨z145, h145, h⟩ := g_bnd h
    refine g_callV (n := 2) (b := b145) (av := [.inl v1, .inl 0]) (rs := []) hx hb hml hown hts hKn hRc hRs hS hl (sX4_own l E D h145) (lw_V q2245 q2247 qs77 q135 q2248) ⟨rfl, by decide, by decide, by decide +kernel⟩ ⟨by rw [hRf]; exact Nat.le_of_ble_eq_true rfl, by rw [hRl]; exact Nat.le_of_ble_eq_true rfl⟩ (g_recv hKn hS hk145 (by decide) (by decide)) rfl (by rw [hr145]; rfl) (Nat.le_of_ble_eq_true rfl) dX4_tellRing_145 (fun H locs cells slots hS => ?_)
    refine lv_iconst (v := (-1)) hx hb dX4_tellRing_148 (by decide) ?_
    refine lv_icmp_eq (tgt := 161) hx hb dX4_tellRing_149 (by decide) (fun c_149 => ?_) (fun c_149 => ?_)
    · have h := g_ift c_149 h
      exact g_vretG hx hb hr hlk hKn hRc hRs hS h dX4_tellRing_161
    · have h := g_iff c_149 h
      refine g_aload_n hx hb hl 0 rfl dX4_tellRing_152 ?_
      refine g_rdR hx hb hown hts hKn hS h fd_4_4_64 rfl (Or.inl (hts _ q1929)) (fun _ z => z) dX4_tellRing_153 (fun x153 h => ?_)
      refine g_iload_n hx hb hl 1 rfl dX4_tellRing_156 ?_
      refine g_ialoadG hx hb hKn hS h dX4_tellRing_157 (fun x157 h => ?_)
      refine lv_if_ne (tgt := 162) hx hb dX4_tellRing_158 (by decide) (fun c_158 => ?_) (fun c_158 => ?_)
      · have h := g_ift c_158 h
        refine g_aload_n hx hb hl 0 rfl dX4_tellRing_162 ?_
        refine g_rdR hx hb hown hts hKn hS h fd_4_4_65 rfl (Or.inl (hts _ q1930)) (fun _ z => z) dX4_tellRing_163 (fun x163 h => ?_)
        refine g_iload_n hx hb hl 1 rfl dX4_tellRing_166 ?_
        refine g_ialoadG hx hb hKn hS h dX4_tellRing_167 (fun x167 h => ?_)
        refine g_istore_n (l1 := [(3, .inl x167), (0, .inr (.inr (some t))), (1, .inl v1), (2, .inl v2)]) hx hb hl (by decide) rfl dX4_tellRing_168 (fun ls hl => ?_)
        refine g_aload_n hx hb hl 1 rfl dX4_tellRing_169 ?_
        refine g_iload_n hx hb hl 3 rfl dX4_tellRing_170 ?_
        refine g_iload_n hx hb hl 0 rfl dX4_tellRing_171 ?_
        refine lv_isub hx hb dX4_tellRing_172 ?_
        refine g_ptI hx hb hown hts hKn hS h fd_4_4_60 (Or.inl (hts _ q1925)) (fun _ z => z) (fun z => nomatch z) dX4_tellRing_173 (fun G173 h H locs hS => ?_)
        refine lv_iconst (v := 0) hx hb dX4_tellRing_176 (by decide) ?_
        refine g_istore (l1 := [(4, .inl 0), (3, .inl x167), (0, .inr (.inr (some t))), (1, .inl v1), (2, .inl v2)]) hx hb hl (by decide) rfl dX4_tellRing_177 (fun ls hl => ?_)
        exact sX4_tellRing_b179 C gFU _ _ _ _ _ h _ _ _ _ _ hS (gls_sub hl [2, 1, 0] rfl)
      · have h := g_iff (fun z => z c_158) h
        exact g_vretG hx hb hr hlk hKn hRc hRs hS h dX4_tellRing_161
theorem sX4_tellRing_b110 {p : Program} {l : Launch} {e : Env} {R : Room} {s : State} {m : MethodId} {args : Array Value} {below : List Frame} {meth : Method} {c : Code} {E : g_E} {D : g_D} (C : gC p R s m args meth c cX4_tellRing 5 RX4 "tellRing" (none) 2 86 E D) {k54 : Nat → Int32 → Int32 → g_G → Option (g_G)} (hk54 : ∀ (t : Nat) (v1 : Int32) (v2 : Int32) (G : g_G) (q : g_G), k54 t v1 v2 G = some q → ∀ (H : Heap) (locs : List Loc) (cells slots : Nat) (ls : Array Slot), gSt E D G H locs → gls ls 5 [(0, .inr (.inr (some t))), (1, .inl v1), (2, .inl v2)] → gT p l e R s m args below meth c E D H locs cells slots none q (F0 m 54 ls [])) : ∀ (n : Nat) (t : Nat) (v1 : Int32) (v2 : Int32) (v3 : Int32) (G : g_G) (q : g_G), fX4_tellRing_b110 E k54 n t v1 v2 v3 G = some q → ∀ (H : Heap) (locs : List Loc) (cells slots : Nat) (ls : Array Slot), gSt E D G H locs → gls ls 5 [(0, .inr (.inr (some t))), (1, .inl v1), (2, .inl v2), (3, .inl v3)] → gT p l e R s m args below meth c E D H locs cells slots none q (F0 m 110 ls []) := by
  obtain ⟨hx, hb, hml, hown, hts, hKn, hRc, hRs, hc1, hc2, hRf, hRl, hr, hlk, hnm⟩ := id C
  intro n
  induction n with
  | zero =>
    intro t v1 v2 v3 G q h
    exact g_no h
  | succ n ih =>
    intro t v1 v2 v3 G q h H locs cells slots ls hS hl
    rw [fX4_tellRing_b110] at h
    refine g_aload_n hx hb hl 0 rfl dX4_tellRing_110 ?_
    refine g_rdR hx hb hown hts hKn hS h fd_4_4_64 rfl (Or.inl (hts _ q1929)) (fun _ z => z) dX4_tellRing_111 (fun x111 h => ?_)
    refine g_iload_n hx hb hl 1 rfl dX4_tellRing_114 ?_
    refine g_ialoadG hx hb hKn hS h dX4_tellRing_115 (fun x115 h => ?_)
    refine g_iload_n hx hb hl 3 rfl dX4_tellRing_116 ?_
    refine lv_ishr hx hb dX4_tellRing_117 ?_
    refine lv_iconst (v := 1) hx hb dX4_tellRing_118 (by decide) ?_
    refine lv_iand hx hb dX4_tellRing_119 ?_
    refine lv_if_ne (tgt := 129) hx hb dX4_tellRing_120 (by decide) (fun c_120 => ?_) (fun c_120 => ?_)
    · have h := g_ift c_120 h
      refine g_iload_n hx hb hl 3 rfl dX4_tellRing_129 ?_
      refine g_istore_n (l1 := [(1, .inl v3), (0, .inr (.inr (some t))), (2, .inl v2), (3, .inl v3)]) hx hb hl (by decide) rfl dX4_tellRing_130 (fun ls hl => ?_)
      refine lv_goto (tgt := 54) hx hb dX4_tellRing_131 (by decide) ?_
      exact hk54 _ _ _ _ _ h _ _ _ _ _ hS (gls_sub hl [1, 0, 2] rfl)
    · have h := g_iff (fun z => z c_120) h
      refine g_iinc (l1 := [(3, .inl (v3 + 1)), (0, .inr (.inr (some t))), (1, .inl v1), (2, .inl v2)]) (v := (v3 + 1)) hx hb hl (k := 3) rfl (by rfl) (by decide) rfl dX4_tellRing_123 (fun ls hl => ?_)
      refine lv_goto (tgt := 110) hx hb dX4_tellRing_126 (by decide) ?_
      exact ih _ _ _ _ _ _ h _ _ _ _ _ hS (gls_sub hl [1, 2, 3, 0] rfl)
theorem sX4_tellRing_b54 {p : Program} {l : Launch} {e : Env} {R : Room} {s : State} {m : MethodId} {args : Array Value} {below : List Frame} {meth : Method} {c : Code} {E : g_E} {D : g_D} (C : gC p R s m args meth c cX4_tellRing 5 RX4 "tellRing" (none) 2 86 E D) : ∀ (n : Nat) (t : Nat) (v1 : Int32) (v2 : Int32) (G : g_G) (q : g_G), fX4_tellRing_b54 E n t v1 v2 G = some q → ∀ (H : Heap) (locs : List Loc) (cells slots : Nat) (ls : Array Slot), gSt E D G H locs → gls ls 5 [(0, .inr (.inr (some t))), (1, .inl v1), (2, .inl v2)] → gT p l e R s m args below meth c E D H locs cells slots none q (F0 m 54 ls []) := by
  obtain ⟨hx, hb, hml, hown, hts, hKn, hRc, hRs, hc1, hc2, hRf, hRl, hr, hlk, hnm⟩ := id C
  intro n
  induction n with
  | zero =>
    intro t v1 v2 G q h
    exact g_no h
  | succ n ih =>
    intro t v1 v2 G q h H locs cells slots ls hS hl
    rw [fX4_tellRing_b54] at h
    refine g_iload_n hx hb hl 1 rfl dX4_tellRing_54 ?_
    refine g_aload_n hx hb hl 0 rfl dX4_tellRing_55 ?_
    refine g_rdI hx hb hown hts hKn hS h fd_4_4_3 rfl (Or.inl (hts _ q1868)) (fun _ z => z) dX4_tellRing_56 (fun x56 h => ?_)
    refine lv_icmp_ge (tgt := 134) hx hb dX4_tellRing_59 (by decide) (fun c_59 => ?_) (fun c_59 => ?_)
    · have h := g_ift c_59 h
      exact sX4_tellRing_b134 C _ _ _ _ _ h _ _ _ _ _ hS (gls_sub hl [0, 1, 2] rfl)
    · have h := g_iff c_59 h
      refine g_aload_n hx hb hl 0 rfl dX4_tellRing_62 ?_
      refine g_iload_n hx hb hl 1 rfl dX4_tellRing_63 ?_
      refine lv_iconst (v := 0) hx hb dX4_tellRing_64 (by decide) ?_
      obtain ⟨b65, hb65, h⟩ := g_bnd h
      obtain ⟨hr65, hk65⟩ := g_chk hb65
      obtain ⟨z65, h65, h⟩ := g_bnd h
      refine g_callV (n := 2) (b := b65) (av := [.inl v1, .inl 0]) (rs := []) hx hb hml hown hts hKn hRc hRs hS hl (sX4_own l E D h65) (lw_V q2245 q2247 qs77 q135 q2248) ⟨rfl, by decide, by decide, by decide +kernel⟩ ⟨by rw [hRf]; exact Nat.le_of_ble_eq_true rfl, by rw [hRl]; exact Nat.le_of_ble_eq_true rfl⟩ (g_recv hKn hS hk65 (by decide) (by decide)) rfl (by rw [hr65]; rfl) (Nat.le_of_ble_eq_true rfl) dX4_tellRing_65 (fun H locs cells slots hS => ?_)
      refine lv_iconst (v := (-1)) hx hb dX4_tellRing_68 (by decide) ?_
      refine lv_icmp_eq (tgt := 134) hx hb dX4_tellRing_69 (by decide) (fun c_69 => ?_) (fun c_69 => ?_)
      · have h := g_ift c_69 h
        exact sX4_tellRing_b134 C _ _ _ _ _ h _ _ _ _ _ hS (gls_sub hl [0, 1, 2] rfl)
      · have h := g_iff c_69 h
        refine g_aload_n hx hb hl 0 rfl dX4_tellRing_72 ?_
        refine g_rdR hx hb hown hts hKn hS h fd_4_4_64 rfl (Or.inl (hts _ q1929)) (fun _ z => z) dX4_tellRing_73 (fun x73 h => ?_)
        refine g_iload_n hx hb hl 1 rfl dX4_tellRing_76 ?_
        refine g_ialoadG hx hb hKn hS h dX4_tellRing_77 (fun x77 h => ?_)
        refine lv_if_eq (tgt := 134) hx hb dX4_tellRing_78 (by decide) (fun c_78 => ?_) (fun c_78 => ?_)
        · have h := g_ift c_78 h
          exact sX4_tellRing_b134 C _ _ _ _ _ h _ _ _ _ _ hS (gls_sub hl [0, 1, 2] rfl)
        · have h := g_iff c_78 h
          refine g_aload_n hx hb hl 0 rfl dX4_tellRing_81 ?_
          refine g_rdR hx hb hown hts hKn hS h fd_4_4_65 rfl (Or.inl (hts _ q1930)) (fun _ z => z) dX4_tellRing_82 (fun x82 h => ?_)
          refine g_iload_n hx hb hl 1 rfl dX4_tellRing_85 ?_
          refine g_ialoadG hx hb hKn hS h dX4_tellRing_86 (fun x86 h => ?_)
          refine lv_iconst (v := (-1)) hx hb dX4_tellRing_87 (by decide) ?_
          refine lv_icmp_ne (tgt := 134) hx hb dX4_tellRing_88 (by decide) (fun c_88 => ?_) (fun c_88 => ?_)
          · have h := g_ift c_88 h
            exact sX4_tellRing_b134 C _ _ _ _ _ h _ _ _ _ _ hS (gls_sub hl [0, 1, 2] rfl)
          · have h := g_iff (fun z => z c_88) h
            refine g_aload_n hx hb hl 0 rfl dX4_tellRing_91 ?_
            refine g_rdR hx hb hown hts hKn hS h fd_4_4_65 rfl (Or.inl (hts _ q1930)) (fun _ z => z) dX4_tellRing_92 (fun x92 h => ?_)
            refine g_iload_n hx hb hl 1 rfl dX4_tellRing_95 ?_
            refine g_iload_n hx hb hl 2 rfl dX4_tellRing_96 ?_
            refine g_iastoreG hx hb hKn hS h dX4_tellRing_97 (fun G97 h H locs hS => ?_)
            refine g_aload_n hx hb hl 0 rfl dX4_tellRing_98 ?_
            refine g_rdR hx hb hown hts hKn hS h fd_4_4_63 rfl (Or.inl (hts _ q1928)) (fun _ z => z) dX4_tellRing_99 (fun x99 h => ?_)
            refine g_iload_n hx hb hl 2 rfl dX4_tellRing_102 ?_
            refine g_iload_n hx hb hl 1 rfl dX4_tellRing_103 ?_
            refine g_iastoreG hx hb hKn hS h dX4_tellRing_104 (fun G104 h H locs hS => ?_)
            refine g_iinc (l1 := [(2, .inl (v2 + 1)), (0, .inr (.inr (some t))), (1, .inl v1)]) (v := (v2 + 1)) hx hb hl (k := 2) rfl (by rfl) (by decide) rfl dX4_tellRing_105 (fun ls hl => ?_)
            refine lv_iconst (v := 0) hx hb dX4_tellRing_108 (by decide) ?_
            refine g_istore_n (l1 := [(3, .inl 0), (2, .inl (v2 + 1)), (0, .inr (.inr (some t))), (1, .inl v1)]) hx hb hl (by decide) rfl dX4_tellRing_109 (fun ls hl => ?_)
            exact sX4_tellRing_b110 C ih gFU _ _ _ _ _ _ h _ _ _ _ _ hS (gls_sub hl [2, 3, 1, 0] rfl)
theorem sX4_tellRing_b33 {p : Program} {l : Launch} {e : Env} {R : Room} {s : State} {m : MethodId} {args : Array Value} {below : List Frame} {meth : Method} {c : Code} {E : g_E} {D : g_D} (C : gC p R s m args meth c cX4_tellRing 5 RX4 "tellRing" (none) 2 86 E D) : ∀ (n : Nat) (t : Nat) (v1 : Int32) (v2 : Int32) (G : g_G) (q : g_G), fX4_tellRing_b33 E n t v1 v2 G = some q → ∀ (H : Heap) (locs : List Loc) (cells slots : Nat) (ls : Array Slot), gSt E D G H locs → gls ls 5 [(0, .inr (.inr (some t))), (1, .inl v1), (2, .inl v2)] → gT p l e R s m args below meth c E D H locs cells slots none q (F0 m 33 ls []) := by
  obtain ⟨hx, hb, hml, hown, hts, hKn, hRc, hRs, hc1, hc2, hRf, hRl, hr, hlk, hnm⟩ := id C
  intro n
  induction n with
  | zero =>
    intro t v1 v2 G q h
    exact g_no h
  | succ n ih =>
    intro t v1 v2 G q h H locs cells slots ls hS hl
    rw [fX4_tellRing_b33] at h
    refine g_iload_n hx hb hl 2 rfl dX4_tellRing_33 ?_
    refine lv_bipush (v := 8) hx hb dX4_tellRing_34 (by decide) ?_
    refine lv_icmp_ge (tgt := 52) hx hb dX4_tellRing_36 (by decide) (fun c_36 => ?_) (fun c_36 => ?_)
    · have h := g_ift c_36 h
      refine lv_iconst (v := 0) hx hb dX4_tellRing_52 (by decide) ?_
      refine g_istore_n (l1 := [(2, .inl 0), (0, .inr (.inr (some t))), (1, .inl v1)]) hx hb hl (by decide) rfl dX4_tellRing_53 (fun ls hl => ?_)
      exact sX4_tellRing_b54 C gFU _ _ _ _ _ h _ _ _ _ _ hS (gls_sub hl [1, 2, 0] rfl)
    · have h := g_iff c_36 h
      refine g_aload_n hx hb hl 0 rfl dX4_tellRing_39 ?_
      refine g_rdR hx hb hown hts hKn hS h fd_4_4_65 rfl (Or.inl (hts _ q1930)) (fun _ z => z) dX4_tellRing_40 (fun x40 h => ?_)
      refine g_iload_n hx hb hl 2 rfl dX4_tellRing_43 ?_
      refine lv_iconst (v := (-1)) hx hb dX4_tellRing_44 (by decide) ?_
      refine g_iastoreG hx hb hKn hS h dX4_tellRing_45 (fun G45 h H locs hS => ?_)
      refine g_iinc (l1 := [(2, .inl (v2 + 1)), (0, .inr (.inr (some t))), (1, .inl v1)]) (v := (v2 + 1)) hx hb hl (k := 2) rfl (by rfl) (by decide) rfl dX4_tellRing_46 (fun ls hl => ?_)
      refine lv_goto (tgt := 33) hx hb dX4_tellRing_49 (by decide) ?_
      exact ih _ _ _ _ _ h _ _ _ _ _ hS (gls_sub hl [1, 2, 0] rfl)
theorem sX4_tellRing_b31 {p : Program} {l : Launch} {e : Env} {R : Room} {s : State} {m : MethodId} {args : Array Value} {below : List Frame} {meth : Method} {c : Code} {E : g_E} {D : g_D} (C : gC p R s m args meth c cX4_tellRing 5 RX4 "tellRing" (none) 2 86 E D) : ∀ (t : Nat) (v1 : Int32) (G : g_G) (q : g_G), fX4_tellRing_b31 E t v1 G = some q → ∀ (H : Heap) (locs : List Loc) (cells slots : Nat) (ls : Array Slot), gSt E D G H locs → gls ls 5 [(0, .inr (.inr (some t))), (1, .inl v1)] → gT p l e R s m args below meth c E D H locs cells slots none q (F0 m 31 ls []) := by
  obtain ⟨hx, hb, hml, hown, hts, hKn, hRc, hRs, hc1, hc2, hRf, hRl, hr, hlk, hnm⟩ := id C
  intro t v1 G q h H locs cells slots ls hS hl
  unfold fX4_tellRing_b31 at h
  refine lv_iconst (v := 0) hx hb dX4_tellRing_31 (by decide) ?_
  refine g_istore_n (l1 := [(2, .inl 0), (0, .inr (.inr (some t))), (1, .inl v1)]) hx hb hl (by decide) rfl dX4_tellRing_32 (fun ls hl => ?_)
  exact sX4_tellRing_b33 C gFU _ _ _ _ _ h _ _ _ _ _ hS (gls_sub hl [1, 2, 0] rfl)
theorem sX4_tellRing_b7 {p : Program} {l : Launch} {e : Env} {R : Room} {s : State} {m : MethodId} {args : Array Value} {below : List Frame} {meth : Method} {c : Code} {E : g_E} {D : g_D} (C : gC p R s m args meth c cX4_tellRing 5 RX4 "tellRing" (none) 2 86 E D) : ∀ (n : Nat) (t : Nat) (v1 : Int32) (G : g_G) (q : g_G), fX4_tellRing_b7 E n t v1 G = some q → ∀ (H : Heap) (locs : List Loc) (cells slots : Nat) (ls : Array Slot), gSt E D G H locs → gls ls 5 [(0, .inr (.inr (some t))), (1, .inl v1)] → gT p l e R s m args below meth c E D H locs cells slots none q (F0 m 7 ls []) := by
  obtain ⟨hx, hb, hml, hown, hts, hKn, hRc, hRs, hc1, hc2, hRf, hRl, hr, hlk, hnm⟩ := id C
  intro n
  induction n with
  | zero =>
    intro t v1 G q h
    exact g_no h
  | succ n ih =>
    intro t v1 G q h H locs cells slots ls hS hl
    rw [fX4_tellRing_b7] at h
    refine g_iload_n hx hb hl 1 rfl dX4_tellRing_7 ?_
    refine g_aload_n hx hb hl 0 rfl dX4_tellRing_8 ?_
    refine g_rdI hx hb hown hts hKn hS h fd_4_4_3 rfl (Or.inl (hts _ q1868)) (fun _ z => z) dX4_tellRing_9 (fun x9 h => ?_)
    refine lv_icmp_ge (tgt := 31) hx hb dX4_tellRing_12 (by decide) (fun c_12 => ?_) (fun c_12 => ?_)
    · have h := g_ift c_12 h
      exact sX4_tellRing_b31 C _ _ _ _ h _ _ _ _ _ hS (gls_sub hl [0, 1] rfl)
    · have h := g_iff c_12 h
      refine g_aload_n hx hb hl 0 rfl dX4_tellRing_15 ?_
      refine g_iload_n hx hb hl 1 rfl dX4_tellRing_16 ?_
      refine lv_iconst (v := 0) hx hb dX4_tellRing_17 (by decide) ?_
      obtain ⟨b18, hb18, h⟩ := g_bnd h
      obtain ⟨hr18, hk18⟩ := g_chk hb18
      obtain ⟨z18, h18, h⟩ := g_bnd h
      refine g_callV (n := 2) (b := b18) (av := [.inl v1, .inl 0]) (rs := []) hx hb hml hown hts hKn hRc hRs hS hl (sX4_own l E D h18) (lw_V q2245 q2247 qs77 q135 q2248) ⟨rfl, by decide, by decide, by decide +kernel⟩ ⟨by rw [hRf]; exact Nat.le_of_ble_eq_true rfl, by rw [hRl]; exact Nat.le_of_ble_eq_true rfl⟩ (g_recv hKn hS hk18 (by decide) (by decide)) rfl (by rw [hr18]; rfl) (Nat.le_of_ble_eq_true rfl) dX4_tellRing_18 (fun H locs cells slots hS => ?_)
      refine lv_iconst (v := (-1)) hx hb dX4_tellRing_21 (by decide) ?_
      refine lv_icmp_ne (tgt := 31) hx hb dX4_tellRing_22 (by decide) (fun c_22 => ?_) (fun c_22 => ?_)
      · have h := g_ift c_22 h
        exact sX4_tellRing_b31 C _ _ _ _ h _ _ _ _ _ hS (gls_sub hl [0, 1] rfl)
      · have h := g_iff (fun z => z c_22) h
        refine g_iinc (l1 := [(1, .inl (v1 + 1)), (0, .inr (.inr (some t)))]) (v := (v1 + 1)) hx hb hl (k := 1) rfl (by rfl) (by decide) rfl dX4_tellRing_25 (fun ls hl => ?_)
        refine lv_goto (tgt := 7) hx hb dX4_tellRing_28 (by decide) ?_
        exact ih _ _ _ _ h _ _ _ _ _ hS (gls_sub hl [1, 0] rfl)
theorem sX4_tellRing (l : Launch) (E : g_E) (D : g_D) {t : Nat} {G : g_G} {q : g_G} (h : fX4_tellRing E t G = some q) : gMet l E D yX4_tellRing (ws_ yX4_tellRing cX4_tellRing 5 (none)) 2 86 [.inr (.inr (some t))] G none q := by
  refine gMet.of (by decide +kernel) (Nat.le_of_ble_eq_true rfl) ?_
  intro p e R s m args below meth c C hS ls hl
  have C : gC p R s m args meth c cX4_tellRing 5 RX4 "tellRing" (none) 2 86 E D := C
  obtain ⟨hx, hb, hml, hown, hts, hKn, hRc, hRs, hc1, hc2, hRf, hRl, hr, hlk, hnm⟩ := id C
  have hl : gls ls 5 [(0, .inr (.inr (some t)))] := hl
  generalize s.heap = H at hS ⊢
  unfold fX4_tellRing at h
  refine g_aload_n hx hb hl 0 rfl dX4_tellRing_0 ?_
  refine lv_iconst (v := 0) hx hb dX4_tellRing_1 (by decide) ?_
  refine g_ptI hx hb hown hts hKn hS h fd_4_4_60 (Or.inl (hts _ q1925)) (fun _ z => z) (fun z => nomatch z) dX4_tellRing_2 (fun G2 h H locs hS => ?_)
  refine lv_iconst (v := 0) hx hb dX4_tellRing_5 (by decide) ?_
  refine g_istore_n (l1 := [(1, .inl 0), (0, .inr (.inr (some t)))]) hx hb hl (by decide) rfl dX4_tellRing_6 (fun ls hl => ?_)
  exact sX4_tellRing_b7 C gFU _ _ _ _ h _ _ _ _ _ hS (gls_sub hl [1, 0] rfl)
/-- SendHallModel.thrown()I -/
def fX4_thrown (E : g_E) (t : Nat) (G : g_G) : Option (Int32 × g_G) :=
  (grI G 4 4 (some t) 2).bind fun x1 =>
  some (x1, G)
theorem sX4_thrown (l : Launch) (E : g_E) (D : g_D) {t : Nat} {G : g_G} {q : Int32 × g_G} (h : fX4_thrown E t G = some q) : gMet l E D yX4_thrown (ws_ yX4_thrown cX4_thrown 1 (some .int)) 1 64 [.inr (.inr (some t))] G (some (.int q.1)) q.2 := by
  refine gMet.of (by decide +kernel) (Nat.le_of_ble_eq_true rfl) ?_
  intro p e R s m args below meth c C hS ls hl
  have C : gC p R s m args meth c cX4_thrown 1 RX4 "thrown" (some .int) 1 64 E D := C
  obtain ⟨hx, hb, hml, hown, hts, hKn, hRc, hRs, hc1, hc2, hRf, hRl, hr, hlk, hnm⟩ := id C
  have hl : gls ls 1 [(0, .inr (.inr (some t)))] := hl
  generalize s.heap = H at hS ⊢
  unfold fX4_thrown at h
  refine g_aload_n hx hb hl 0 rfl dX4_thrown_0 ?_
  refine g_rdI hx hb hown hts hKn hS h fd_4_4_2 rfl (Or.inl (hts _ q1867)) (fun _ z => z) dX4_thrown_1 (fun x1 h => ?_)
  exact g_iretG hx hb hr hlk hKn hRc hRs hS h dX4_thrown_4
/-- SendHallModel.two(III)I -/
def fX4_two (E : g_E) (v0 : Int32) (v1 : Int32) (v2 : Int32) (G : g_G) : Option (Int32 × g_G) :=
  if v0 = 1 then (
    some ((v1 + v2), G))
  else
  if v0 = 2 then (
    some ((v1 - v2), G))
  else
  if v0 = 3 then (
    some ((v1 * v2), G))
  else
  if v0 = 4 then (
    if ¬ v2 = 0 then (
      if v2 = 0 then none else
      some ((v1 / v2), G))
    else (
      some (0, G)))
  else
  if v0 = 5 then (
    if v2 ≤ v1 then (
      some (0, G))
    else (
      some (1, G)))
  else
  (
    if ¬ v1 = v2 then (
      some (0, G))
    else (
      some (1, G)))
theorem sX4_two (l : Launch) (E : g_E) (D : g_D) {v0 : Int32} {v1 : Int32} {v2 : Int32} {G : g_G} {q : Int32 × g_G} (h : fX4_two E v0 v1 v2 G = some q) : gMet l E D yX4_two (ws_ yX4_two cX4_two 3 (some .int)) 1 64 [.inl v0, .inl v1, .inl v2] G (some (.int q.1)) q.2 := by
  refine gMet.of (by decide +kernel) (Nat.le_of_ble_eq_true rfl) ?_
  intro p e R s m args below meth c C hS ls hl
  have C : gC p R s m args meth c cX4_two 3 RX4 "two" (some .int) 1 64 E D := C
  obtain ⟨hx, hb, hml, hown, hts, hKn, hRc, hRs, hc1, hc2, hRf, hRl, hr, hlk, hnm⟩ := id C
  have hl : gls ls 3 [(0, .inl v0), (1, .inl v1), (2, .inl v2)] := hl
  generalize s.heap = H at hS ⊢
  unfold fX4_two at h
  refine g_iload_n hx hb hl 0 rfl dX4_two_0 ?_
  by_cases w1_0 : v0 = 1
  · refine lv_tableIn (tgt := 36) (off := 35) hx hb dX4_two_1 (by rw [w1_0]; decide) (by rw [w1_0]; decide) (by rw [w1_0]; decide) (by decide) ?_
    have h := g_ift w1_0 h
    refine g_iload_n hx hb hl 1 rfl dX4_two_36 ?_
    refine g_iload_n hx hb hl 2 rfl dX4_two_37 ?_
    refine lv_iadd hx hb dX4_two_38 ?_
    exact g_iretG hx hb hr hlk hKn hRc hRs hS h dX4_two_39
  have h := g_iff w1_0 h
  by_cases w1_1 : v0 = 2
  · refine lv_tableIn (tgt := 40) (off := 39) hx hb dX4_two_1 (by rw [w1_1]; decide) (by rw [w1_1]; decide) (by rw [w1_1]; decide) (by decide) ?_
    have h := g_ift w1_1 h
    refine g_iload_n hx hb hl 1 rfl dX4_two_40 ?_
    refine g_iload_n hx hb hl 2 rfl dX4_two_41 ?_
    refine lv_isub hx hb dX4_two_42 ?_
    exact g_iretG hx hb hr hlk hKn hRc hRs hS h dX4_two_43
  have h := g_iff w1_1 h
  by_cases w1_2 : v0 = 3
  · refine lv_tableIn (tgt := 44) (off := 43) hx hb dX4_two_1 (by rw [w1_2]; decide) (by rw [w1_2]; decide) (by rw [w1_2]; decide) (by decide) ?_
    have h := g_ift w1_2 h
    refine g_iload_n hx hb hl 1 rfl dX4_two_44 ?_
    refine g_iload_n hx hb hl 2 rfl dX4_two_45 ?_
    refine lv_imul hx hb dX4_two_46 ?_
    exact g_iretG hx hb hr hlk hKn hRc hRs hS h dX4_two_47
  have h := g_iff w1_2 h
  by_cases w1_3 : v0 = 4
  · refine lv_tableIn (tgt := 48) (off := 47) hx hb dX4_two_1 (by rw [w1_3]; decide) (by rw [w1_3]; decide) (by rw [w1_3]; decide) (by decide) ?_
    have h := g_ift w1_3 h
    refine g_iload_n hx hb hl 2 rfl dX4_two_48 ?_
    refine lv_if_ne (tgt := 56) hx hb dX4_two_49 (by decide) (fun c_49 => ?_) (fun c_49 => ?_)
    · have h := g_ift c_49 h
      refine g_iload_n hx hb hl 1 rfl dX4_two_56 ?_
      refine g_iload_n hx hb hl 2 rfl dX4_two_57 ?_
      by_cases hz58 : v2 = 0
      · exact g_no (g_ift hz58 h)
      have h := g_iff hz58 h
      refine lv_idiv hx hb dX4_two_58 hz58 ?_
      exact g_iretG hx hb hr hlk hKn hRc hRs hS h dX4_two_59
    · have h := g_iff (fun z => z c_49) h
      refine lv_iconst (v := 0) hx hb dX4_two_52 (by decide) ?_
      refine lv_goto (tgt := 59) hx hb dX4_two_53 (by decide) ?_
      exact g_iretG hx hb hr hlk hKn hRc hRs hS h dX4_two_59
  have h := g_iff w1_3 h
  by_cases w1_4 : v0 = 5
  · refine lv_tableIn (tgt := 60) (off := 59) hx hb dX4_two_1 (by rw [w1_4]; decide) (by rw [w1_4]; decide) (by rw [w1_4]; decide) (by decide) ?_
    have h := g_ift w1_4 h
    refine g_iload_n hx hb hl 1 rfl dX4_two_60 ?_
    refine g_iload_n hx hb hl 2 rfl dX4_two_61 ?_
    refine lv_icmp_ge (tgt := 69) hx hb dX4_two_62 (by decide) (fun c_62 => ?_) (fun c_62 => ?_)
    · have h := g_ift c_62 h
      refine lv_iconst (v := 0) hx hb dX4_two_69 (by decide) ?_
      exact g_iretG hx hb hr hlk hKn hRc hRs hS h dX4_two_70
    · have h := g_iff c_62 h
      refine lv_iconst (v := 1) hx hb dX4_two_65 (by decide) ?_
      refine lv_goto (tgt := 70) hx hb dX4_two_66 (by decide) ?_
      exact g_iretG hx hb hr hlk hKn hRc hRs hS h dX4_two_70
  have h := g_iff w1_4 h
  refine g_tableD (tgt := 71) hx hb dX4_two_1 (by decide) [1, 2, 3, 4, 5] (by decide) (fun k hk => ?_) ?_
  · simp only [List.mem_cons, List.not_mem_nil, or_false] at hk
    rcases hk with rfl | rfl | rfl | rfl | rfl
    · exact w1_0
    · exact w1_1
    · exact w1_2
    · exact w1_3
    · exact w1_4
  refine g_iload_n hx hb hl 1 rfl dX4_two_71 ?_
  refine g_iload_n hx hb hl 2 rfl dX4_two_72 ?_
  refine lv_icmp_ne (tgt := 80) hx hb dX4_two_73 (by decide) (fun c_73 => ?_) (fun c_73 => ?_)
  · have h := g_ift c_73 h
    refine lv_iconst (v := 0) hx hb dX4_two_80 (by decide) ?_
    exact g_iretG hx hb hr hlk hKn hRc hRs hS h dX4_two_81
  · have h := g_iff (fun z => z c_73) h
    refine lv_iconst (v := 1) hx hb dX4_two_76 (by decide) ?_
    refine lv_goto (tgt := 81) hx hb dX4_two_77 (by decide) ?_
    exact g_iretG hx hb hr hlk hKn hRc hRs hS h dX4_two_81
/-- SendHallModel.upTo(II)V -/
def fX4_upTo (E : g_E) (t : Nat) (v1 : Int32) (v2 : Int32) (G : g_G) : Option (g_G) :=
  (grR G 4 4 (some t) 36).bind fun x3 =>
  (gaI G 100 x3 v1).bind fun x7 =>
  (grR G 4 4 (some t) 37).bind fun x14 =>
  (gaI G 100 x14 v1).bind fun x19 =>
  (gsaI E G x14 v1 (x19 + (if 0 < (v2 - x7) then (v2 - x7) else 0))).bind fun G22 =>
  (grR G22 4 4 (some t) 36).bind fun x24 =>
  (gaI G22 100 x24 v1).bind fun x29 =>
  (gsaI E G22 x24 v1 (x29 + (if 0 < (v2 - x7) then (v2 - x7) else 0))).bind fun G32 =>
  some G32
theorem sX4_upTo (l : Launch) (E : g_E) (D : g_D) {t : Nat} {v1 : Int32} {v2 : Int32} {G : g_G} {q : g_G} (h : fX4_upTo E t v1 v2 G = some q) : gMet l E D yX4_upTo (ws_ yX4_upTo cX4_upTo 4 (none)) 1 64 [.inr (.inr (some t)), .inl v1, .inl v2] G none q := by
  refine gMet.of (by decide +kernel) (Nat.le_of_ble_eq_true rfl) ?_
  intro p e R s m args below meth c C hS ls hl
  have C : gC p R s m args meth c cX4_upTo 4 RX4 "upTo" (none) 1 64 E D := C
  obtain ⟨hx, hb, hml, hown, hts, hKn, hRc, hRs, hc1, hc2, hRf, hRl, hr, hlk, hnm⟩ := id C
  have hl : gls ls 4 [(0, .inr (.inr (some t))), (1, .inl v1), (2, .inl v2)] := hl
  generalize s.heap = H at hS ⊢
  unfold fX4_upTo at h
  refine lv_iconst (v := 0) hx hb dX4_upTo_0 (by decide) ?_
  refine g_iload_n hx hb hl 2 rfl dX4_upTo_1 ?_
  refine g_aload_n hx hb hl 0 rfl dX4_upTo_2 ?_
  refine g_rdR hx hb hown hts hKn hS h fd_4_4_36 rfl (Or.inl (hts _ q1901)) (fun _ z => z) dX4_upTo_3 (fun x3 h => ?_)
  refine g_iload_n hx hb hl 1 rfl dX4_upTo_6 ?_
  refine g_ialoadG hx hb hKn hS h dX4_upTo_7 (fun x7 h => ?_)
  refine lv_isub hx hb dX4_upTo_8 ?_
  refine g_mmax (rs := []) hx hb hml hown hRc hRs hS hl (hts _ q2332) (hts _ q283) (hts _ q127) (hts _ q284) (by decide +kernel) rfl (Nat.le_of_ble_eq_true rfl) ⟨by rw [hRf]; exact Nat.le_of_ble_eq_true rfl, by rw [hRl]; exact Nat.le_of_ble_eq_true rfl⟩ dX4_upTo_9 (fun cells slots => ?_)
  refine g_istore_n (l1 := [(3, .inl (if 0 < (v2 - x7) then (v2 - x7) else 0)), (0, .inr (.inr (some t))), (1, .inl v1), (2, .inl v2)]) hx hb hl (by decide) rfl dX4_upTo_12 (fun ls hl => ?_)
  refine g_aload_n hx hb hl 1 rfl dX4_upTo_13 ?_
  refine g_rdR hx hb hown hts hKn hS h fd_4_4_37 rfl (Or.inl (hts _ q1902)) (fun _ z => z) dX4_upTo_14 (fun x14 h => ?_)
  refine g_iload_n hx hb hl 2 rfl dX4_upTo_17 ?_
  refine lv_dup2_11 hx hb dX4_upTo_18 rfl (by first | exact va_rf_cat _ | rfl | exact g_catA _) ?_
  refine g_ialoadG hx hb hKn hS h dX4_upTo_19 (fun x19 h => ?_)
  refine g_iload_n hx hb hl 0 rfl dX4_upTo_20 ?_
  refine lv_iadd hx hb dX4_upTo_21 ?_
  refine g_iastoreG hx hb hKn hS h dX4_upTo_22 (fun G22 h H locs hS => ?_)
  refine g_aload_n hx hb hl 1 rfl dX4_upTo_23 ?_
  refine g_rdR hx hb hown hts hKn hS h fd_4_4_36 rfl (Or.inl (hts _ q1901)) (fun _ z => z) dX4_upTo_24 (fun x24 h => ?_)
  refine g_iload_n hx hb hl 2 rfl dX4_upTo_27 ?_
  refine lv_dup2_11 hx hb dX4_upTo_28 rfl (by first | exact va_rf_cat _ | rfl | exact g_catA _) ?_
  refine g_ialoadG hx hb hKn hS h dX4_upTo_29 (fun x29 h => ?_)
  refine g_iload_n hx hb hl 0 rfl dX4_upTo_30 ?_
  refine lv_iadd hx hb dX4_upTo_31 ?_
  refine g_iastoreG hx hb hKn hS h dX4_upTo_32 (fun G32 h H locs hS => ?_)
  exact g_vretG hx hb hr hlk hKn hRc hRs hS h dX4_upTo_33
/-- SendHallModel.used(I)I -/
def fX4_used (E : g_E) (t : Nat) (v1 : Int32) (G : g_G) : Option (Int32 × g_G) :=
  (grR G 4 4 (some t) 43).bind fun x5 =>
  (gaI G 100 x5 ((1985 * v1) + 64)).bind fun x16 =>
  some ((65 + (6 * x16)), G)
theorem sX4_used (l : Launch) (E : g_E) (D : g_D) {t : Nat} {v1 : Int32} {G : g_G} {q : Int32 × g_G} (h : fX4_used E t v1 G = some q) : gMet l E D yX4_used (ws_ yX4_used cX4_used 2 (some .int)) 1 64 [.inr (.inr (some t)), .inl v1] G (some (.int q.1)) q.2 := by
  refine gMet.of (by decide +kernel) (Nat.le_of_ble_eq_true rfl) ?_
  intro p e R s m args below meth c C hS ls hl
  have C : gC p R s m args meth c cX4_used 2 RX4 "used" (some .int) 1 64 E D := C
  obtain ⟨hx, hb, hml, hown, hts, hKn, hRc, hRs, hc1, hc2, hRf, hRl, hr, hlk, hnm⟩ := id C
  have hl : gls ls 2 [(0, .inr (.inr (some t))), (1, .inl v1)] := hl
  generalize s.heap = H at hS ⊢
  unfold fX4_used at h
  refine lv_bipush (v := 65) hx hb dX4_used_0 (by decide) ?_
  refine lv_bipush (v := 6) hx hb dX4_used_2 (by decide) ?_
  refine g_aload_n hx hb hl 0 rfl dX4_used_4 ?_
  refine g_rdR hx hb hown hts hKn hS h fd_4_4_43 rfl (Or.inl (hts _ q1908)) (fun _ z => z) dX4_used_5 (fun x5 h => ?_)
  refine lv_sipush (v := 1985) hx hb dX4_used_8 (by decide) ?_
  refine g_iload_n hx hb hl 1 rfl dX4_used_11 ?_
  refine lv_imul hx hb dX4_used_12 ?_
  refine lv_bipush (v := 64) hx hb dX4_used_13 (by decide) ?_
  refine lv_iadd hx hb dX4_used_15 ?_
  refine g_ialoadG hx hb hKn hS h dX4_used_16 (fun x16 h => ?_)
  refine lv_imul hx hb dX4_used_17 ?_
  refine lv_iadd hx hb dX4_used_18 ?_
  exact g_iretG hx hb hr hlk hKn hRc hRs hS h dX4_used_19
/-- SendHallModel.valueOf(II)I -/
def fX4_valueOf (E : g_E) (t : Nat) (v1 : Int32) (v2 : Int32) (G : g_G) : Option (Int32 × g_G) :=
  if (4 : Int32) ≤ v2 then (
    if ¬ v2 = (4 : Int32) then (
      if ¬ v2 = (5 : Int32) then (
        (gchk G 4 (some t)).bind fun b41 =>
        (fX4_own E b41 v1 6 G).bind fun z41 =>
        some (z41.1, z41.2))
      else (
        (grI G 4 4 (some t) 3).bind fun x31 =>
        some (x31, G)))
    else (
      some (v1, G)))
  else (
    (gchk G 4 (some t)).bind fun b10 =>
    (fX4_own E b10 v1 (2 + v2) G).bind fun z10 =>
    some (z10.1, z10.2))
theorem sX4_valueOf (l : Launch) (E : g_E) (D : g_D) {t : Nat} {v1 : Int32} {v2 : Int32} {G : g_G} {q : Int32 × g_G} (h : fX4_valueOf E t v1 v2 G = some q) : gMet l E D yX4_valueOf (ws_ yX4_valueOf cX4_valueOf 3 (some .int)) 2 86 [.inr (.inr (some t)), .inl v1, .inl v2] G (some (.int q.1)) q.2 := by
  refine gMet.of (by decide +kernel) (Nat.le_of_ble_eq_true rfl) ?_
  intro p e R s m args below meth c C hS ls hl
  have C : gC p R s m args meth c cX4_valueOf 3 RX4 "valueOf" (some .int) 2 86 E D := C
  obtain ⟨hx, hb, hml, hown, hts, hKn, hRc, hRs, hc1, hc2, hRf, hRl, hr, hlk, hnm⟩ := id C
  have hl : gls ls 3 [(0, .inr (.inr (some t))), (1, .inl v1), (2, .inl v2)] := hl
  generalize s.heap = H at hS ⊢
  unfold fX4_valueOf at h
  refine g_iload_n hx hb hl 2 rfl dX4_valueOf_0 ?_
  refine lv_iconst (v := 4) hx hb dX4_valueOf_1 (by decide) ?_
  refine lv_icmp_ge (tgt := 16) hx hb dX4_valueOf_2 (by decide) (fun c_2 => ?_) (fun c_2 => ?_)
  · have h := g_ift c_2 h
    refine g_iload_n hx hb hl 2 rfl dX4_valueOf_16 ?_
    refine lv_iconst (v := 4) hx hb dX4_valueOf_17 (by decide) ?_
    refine lv_icmp_ne (tgt := 25) hx hb dX4_valueOf_18 (by decide) (fun c_18 => ?_) (fun c_18 => ?_)
    · have h := g_ift c_18 h
      refine g_iload_n hx hb hl 2 rfl dX4_valueOf_25 ?_
      refine lv_iconst (v := 5) hx hb dX4_valueOf_26 (by decide) ?_
      refine lv_icmp_ne (tgt := 37) hx hb dX4_valueOf_27 (by decide) (fun c_27 => ?_) (fun c_27 => ?_)
      · have h := g_ift c_27 h
        refine g_aload_n hx hb hl 0 rfl dX4_valueOf_37 ?_
        refine g_iload_n hx hb hl 1 rfl dX4_valueOf_38 ?_
        refine lv_bipush (v := 6) hx hb dX4_valueOf_39 (by decide) ?_
        obtain ⟨b41, hb41, h⟩ := g_bnd h
        obtain ⟨hr41, hk41⟩ := g_chk hb41
        obtain ⟨z41, h41, h⟩ := g_bnd h
        refine g_callV (n := 2) (b := b41) (av := [.inl v1, .inl 6]) (rs := []) hx hb hml hown hts hKn hRc hRs hS hl (sX4_own l E D h41) (lw_V q2245 q2247 qs77 q135 q2248) ⟨rfl, by decide, by decide, by decide +kernel⟩ ⟨by rw [hRf]; exact Nat.le_of_ble_eq_true rfl, by rw [hRl]; exact Nat.le_of_ble_eq_true rfl⟩ (g_recv hKn hS hk41 (by decide) (by decide)) rfl (by rw [hr41]; rfl) (Nat.le_of_ble_eq_true rfl) dX4_valueOf_41 (fun H locs cells slots hS => ?_)
        exact g_iretG hx hb hr hlk hKn hRc hRs hS h dX4_valueOf_44
      · have h := g_iff (fun z => z c_27) h
        refine g_aload_n hx hb hl 0 rfl dX4_valueOf_30 ?_
        refine g_rdI hx hb hown hts hKn hS h fd_4_4_3 rfl (Or.inl (hts _ q1868)) (fun _ z => z) dX4_valueOf_31 (fun x31 h => ?_)
        refine lv_goto (tgt := 44) hx hb dX4_valueOf_34 (by decide) ?_
        exact g_iretG hx hb hr hlk hKn hRc hRs hS h dX4_valueOf_44
    · have h := g_iff (fun z => z c_18) h
      refine g_iload_n hx hb hl 1 rfl dX4_valueOf_21 ?_
      refine lv_goto (tgt := 44) hx hb dX4_valueOf_22 (by decide) ?_
      exact g_iretG hx hb hr hlk hKn hRc hRs hS h dX4_valueOf_44
  · have h := g_iff c_2 h
    refine g_aload_n hx hb hl 0 rfl dX4_valueOf_5 ?_
    refine g_iload_n hx hb hl 1 rfl dX4_valueOf_6 ?_
    refine lv_iconst (v := 2) hx hb dX4_valueOf_7 (by decide) ?_
    refine g_iload_n hx hb hl 2 rfl dX4_valueOf_8 ?_
    refine lv_iadd hx hb dX4_valueOf_9 ?_
    obtain ⟨b10, hb10, h⟩ := g_bnd h
    obtain ⟨hr10, hk10⟩ := g_chk hb10
    obtain ⟨z10, h10, h⟩ := g_bnd h
    refine g_callV (n := 2) (b := b10) (av := [.inl v1, .inl (2 + v2)]) (rs := []) hx hb hml hown hts hKn hRc hRs hS hl (sX4_own l E D h10) (lw_V q2245 q2247 qs77 q135 q2248) ⟨rfl, by decide, by decide, by decide +kernel⟩ ⟨by rw [hRf]; exact Nat.le_of_ble_eq_true rfl, by rw [hRl]; exact Nat.le_of_ble_eq_true rfl⟩ (g_recv hKn hS hk10 (by decide) (by decide)) rfl (by rw [hr10]; rfl) (Nat.le_of_ble_eq_true rfl) dX4_valueOf_10 (fun H locs cells slots hS => ?_)
    refine lv_goto (tgt := 44) hx hb dX4_valueOf_13 (by decide) ?_
    exact g_iretG hx hb hr hlk hKn hRc hRs hS h dX4_valueOf_44
/-- SendHallModel.wordAt(I)I -/
def fX4_wordAt (E : g_E) (v0 : Int32) (G : g_G) : Option (Int32 × g_G) :=
  some ((65 + (6 * v0)), G)
theorem sX4_wordAt (l : Launch) (E : g_E) (D : g_D) {v0 : Int32} {G : g_G} {q : Int32 × g_G} (h : fX4_wordAt E v0 G = some q) : gMet l E D yX4_wordAt (ws_ yX4_wordAt cX4_wordAt 1 (some .int)) 1 64 [.inl v0] G (some (.int q.1)) q.2 := by
  refine gMet.of (by decide +kernel) (Nat.le_of_ble_eq_true rfl) ?_
  intro p e R s m args below meth c C hS ls hl
  have C : gC p R s m args meth c cX4_wordAt 1 RX4 "wordAt" (some .int) 1 64 E D := C
  obtain ⟨hx, hb, hml, hown, hts, hKn, hRc, hRs, hc1, hc2, hRf, hRl, hr, hlk, hnm⟩ := id C
  have hl : gls ls 1 [(0, .inl v0)] := hl
  generalize s.heap = H at hS ⊢
  unfold fX4_wordAt at h
  refine lv_bipush (v := 65) hx hb dX4_wordAt_0 (by decide) ?_
  refine lv_bipush (v := 6) hx hb dX4_wordAt_2 (by decide) ?_
  refine g_iload_n hx hb hl 0 rfl dX4_wordAt_4 ?_
  refine lv_imul hx hb dX4_wordAt_5 ?_
  refine lv_iadd hx hb dX4_wordAt_6 ?_
  exact g_iretG hx hb hr hlk hKn hRc hRs hS h dX4_wordAt_7
/-- SendHallModel.words()I -/
def fX4_words (E : g_E) (t : Nat) (G : g_G) : Option (Int32 × g_G) :=
  (grR G 4 4 (some t) 33).bind fun x1 =>
  (gaI G 100 x1 64).bind fun x6 =>
  some (x6, G)
theorem sX4_words (l : Launch) (E : g_E) (D : g_D) {t : Nat} {G : g_G} {q : Int32 × g_G} (h : fX4_words E t G = some q) : gMet l E D yX4_words (ws_ yX4_words cX4_words 1 (some .int)) 1 64 [.inr (.inr (some t))] G (some (.int q.1)) q.2 := by
  refine gMet.of (by decide +kernel) (Nat.le_of_ble_eq_true rfl) ?_
  intro p e R s m args below meth c C hS ls hl
  have C : gC p R s m args meth c cX4_words 1 RX4 "words" (some .int) 1 64 E D := C
  obtain ⟨hx, hb, hml, hown, hts, hKn, hRc, hRs, hc1, hc2, hRf, hRl, hr, hlk, hnm⟩ := id C
  have hl : gls ls 1 [(0, .inr (.inr (some t)))] := hl
  generalize s.heap = H at hS ⊢
  unfold fX4_words at h
  refine g_aload_n hx hb hl 0 rfl dX4_words_0 ?_
  refine g_rdR hx hb hown hts hKn hS h fd_4_4_33 rfl (Or.inl (hts _ q1898)) (fun _ z => z) dX4_words_1 (fun x1 h => ?_)
  refine lv_bipush (v := 64) hx hb dX4_words_4 (by decide) ?_
  refine g_ialoadG hx hb hKn hS h dX4_words_6 (fun x6 h => ?_)
  exact g_iretG hx hb hr hlk hKn hRc hRs hS h dX4_words_7
/-- SendHallModel.world(IIII)Z -/
def fX4_world_b60 (E : g_E) (t : Nat) (v1 : Int32) (v2 : Int32) (v3 : Int32) (v4 : Int32) (G : g_G) : Option (Int32 × g_G) :=
  (gpI E G 4 4 (some t) 3 v1).bind fun G62 =>
  (gpI E G62 4 4 (some t) 4 v2).bind fun G67 =>
  (gpI E G67 4 4 (some t) 5 v3).bind fun G72 =>
  (gpI E G72 4 4 (some t) 6 v4).bind fun G78 =>
  (grI G78 4 4 (some t) 7).bind fun x83 =>
  (gpI E G78 4 4 (some t) 7 (x83 + 1)).bind fun G88 =>
  if (1 : Int32) = 0 ∨ (1 : Int32) = 1 then some (1, G88) else none
def fX4_world (E : g_E) (t : Nat) (v1 : Int32) (v2 : Int32) (v3 : Int32) (v4 : Int32) (G : g_G) : Option (Int32 × g_G) :=
  (gpI E G 4 4 (some t) 2 0).bind fun G2 =>
  (fX4_isIn E v1 2 8 G2).bind fun z9 =>
  if z9.1 = 0 then (
    if (0 : Int32) = 0 ∨ (0 : Int32) = 1 then some (0, z9.2) else none)
  else (
    (fX4_isIn E v2 0 3 z9.2).bind fun z18 =>
    if z18.1 = 0 then (
      if (0 : Int32) = 0 ∨ (0 : Int32) = 1 then some (0, z18.2) else none)
    else (
      (fX4_isIn E v3 0 99 z18.2).bind fun z28 =>
      if z28.1 = 0 then (
        if (0 : Int32) = 0 ∨ (0 : Int32) = 1 then some (0, z28.2) else none)
      else (
        (fX4_isIn E v4 0 99 z28.2).bind fun z39 =>
        if ¬ z39.1 = 0 then (
          (grI z39.2 4 4 (some t) 3).bind fun x49 =>
          if v1 = x49 then (
            fX4_world_b60 E t v1 v2 v3 v4 z39.2)
          else (
            (gpI E z39.2 4 4 (some t) 57 (-1)).bind fun G57 =>
            fX4_world_b60 E t v1 v2 v3 v4 G57))
        else (
          if (0 : Int32) = 0 ∨ (0 : Int32) = 1 then some (0, z39.2) else none))))
theorem sX4_world_b60 {p : Program} {l : Launch} {e : Env} {R : Room} {s : State} {m : MethodId} {args : Array Value} {below : List Frame} {meth : Method} {c : Code} {E : g_E} {D : g_D} (C : gC p R s m args meth c cX4_world 5 RX4 "world" (some .boolean) 2 86 E D) : ∀ (t : Nat) (v1 : Int32) (v2 : Int32) (v3 : Int32) (v4 : Int32) (G : g_G) (q : Int32 × g_G), fX4_world_b60 E t v1 v2 v3 v4 G = some q → ∀ (H : Heap) (locs : List Loc) (cells slots : Nat) (ls : Array Slot), gSt E D G H locs → gls ls 5 [(0, .inr (.inr (some t))), (1, .inl v1), (2, .inl v2), (3, .inl v3), (4, .inl v4)] → gT p l e R s m args below meth c E D H locs cells slots (some (.int q.1)) q.2 (F0 m 60 ls []) := by
  obtain ⟨hx, hb, hml, hown, hts, hKn, hRc, hRs, hc1, hc2, hRf, hRl, hr, hlk, hnm⟩ := id C
  intro t v1 v2 v3 v4 G q h H locs cells slots ls hS hl
  unfold fX4_world_b60 at h
  refine g_aload_n hx hb hl 0 rfl dX4_world_60 ?_
  refine g_iload_n hx hb hl 1 rfl dX4_world_61 ?_
  refine g_ptI hx hb hown hts hKn hS h fd_4_4_3 (Or.inl (hts _ q1868)) (fun _ z => z) (fun z => nomatch z) dX4_world_62 (fun G62 h H locs hS => ?_)
  refine g_aload_n hx hb hl 0 rfl dX4_world_65 ?_
  refine g_iload_n hx hb hl 2 rfl dX4_world_66 ?_
  refine g_ptI hx hb hown hts hKn hS h fd_4_4_4 (Or.inl (hts _ q1869)) (fun _ z => z) (fun z => nomatch z) dX4_world_67 (fun G67 h H locs hS => ?_)
  refine g_aload_n hx hb hl 0 rfl dX4_world_70 ?_
  refine g_iload_n hx hb hl 3 rfl dX4_world_71 ?_
  refine g_ptI hx hb hown hts hKn hS h fd_4_4_5 (Or.inl (hts _ q1870)) (fun _ z => z) (fun z => nomatch z) dX4_world_72 (fun G72 h H locs hS => ?_)
  refine g_aload_n hx hb hl 0 rfl dX4_world_75 ?_
  refine g_iload hx hb hl 4 rfl dX4_world_76 ?_
  refine g_ptI hx hb hown hts hKn hS h fd_4_4_6 (Or.inl (hts _ q1871)) (fun _ z => z) (fun z => nomatch z) dX4_world_78 (fun G78 h H locs hS => ?_)
  refine g_aload_n hx hb hl 0 rfl dX4_world_81 ?_
  refine lv_dup hx hb dX4_world_82 (by first | exact va_rf_cat _ | rfl | exact g_catA _) ?_
  refine g_rdI hx hb hown hts hKn hS h fd_4_4_7 rfl (Or.inl (hts _ q1872)) (fun _ z => z) dX4_world_83 (fun x83 h => ?_)
  refine lv_iconst (v := 1) hx hb dX4_world_86 (by decide) ?_
  refine lv_iadd hx hb dX4_world_87 ?_
  refine g_ptI hx hb hown hts hKn hS h fd_4_4_7 (Or.inl (hts _ q1872)) (fun _ z => z) (fun z => nomatch z) dX4_world_88 (fun G88 h H locs hS => ?_)
  refine lv_iconst (v := 1) hx hb dX4_world_91 (by decide) ?_
  exact g_zretG hx hb hr hlk hKn hRc hRs hS h dX4_world_92
theorem sX4_world (l : Launch) (E : g_E) (D : g_D) {t : Nat} {v1 : Int32} {v2 : Int32} {v3 : Int32} {v4 : Int32} {G : g_G} {q : Int32 × g_G} (h : fX4_world E t v1 v2 v3 v4 G = some q) : gMet l E D yX4_world (ws_ yX4_world cX4_world 5 (some .boolean)) 2 86 [.inr (.inr (some t)), .inl v1, .inl v2, .inl v3, .inl v4] G (some (.int q.1)) q.2 := by
  refine gMet.of (by decide +kernel) (Nat.le_of_ble_eq_true rfl) ?_
  intro p e R s m args below meth c C hS ls hl
  have C : gC p R s m args meth c cX4_world 5 RX4 "world" (some .boolean) 2 86 E D := C
  obtain ⟨hx, hb, hml, hown, hts, hKn, hRc, hRs, hc1, hc2, hRf, hRl, hr, hlk, hnm⟩ := id C
  have hl : gls ls 5 [(0, .inr (.inr (some t))), (1, .inl v1), (2, .inl v2), (3, .inl v3), (4, .inl v4)] := hl
  generalize s.heap = H at hS ⊢
  unfold fX4_world at h
  refine g_aload_n hx hb hl 0 rfl dX4_world_0 ?_
  refine lv_iconst (v := 0) hx hb dX4_world_1 (by decide) ?_
  refine g_ptI hx hb hown hts hKn hS h fd_4_4_2 (Or.inl (hts _ q1867)) (fun _ z => z) (fun z => nomatch z) dX4_world_2 (fun G2 h H locs hS => ?_)
  refine g_iload_n hx hb hl 1 rfl dX4_world_5 ?_
  refine lv_iconst (v := 2) hx hb dX4_world_6 (by decide) ?_
  refine lv_bipush (v := 8) hx hb dX4_world_7 (by decide) ?_
  obtain ⟨z9, h9, h⟩ := g_bnd h
  refine g_callS (n := 3) (av := [.inl v1, .inl 2, .inl 8]) (rs := []) hx hb hml hown hts hKn hRc hRs hS hl (sX4_isIn l E D h9) (lw_S q2180 q2181 q135 q2182) ⟨by decide, by decide, by decide +kernel⟩ ⟨by rw [hRf]; exact Nat.le_of_ble_eq_true rfl, by rw [hRl]; exact Nat.le_of_ble_eq_true rfl⟩ rfl rfl (Nat.le_of_ble_eq_true rfl) dX4_world_9 (fun H locs cells slots hS => ?_)
  refine lv_if_eq (tgt := 45) hx hb dX4_world_12 (by decide) (fun c_12 => ?_) (fun c_12 => ?_)
  · have h := g_ift c_12 h
    refine lv_iconst (v := 0) hx hb dX4_world_45 (by decide) ?_
    exact g_zretG hx hb hr hlk hKn hRc hRs hS h dX4_world_46
  · have h := g_iff c_12 h
    refine g_iload_n hx hb hl 2 rfl dX4_world_15 ?_
    refine lv_iconst (v := 0) hx hb dX4_world_16 (by decide) ?_
    refine lv_iconst (v := 3) hx hb dX4_world_17 (by decide) ?_
    obtain ⟨z18, h18, h⟩ := g_bnd h
    refine g_callS (n := 3) (av := [.inl v2, .inl 0, .inl 3]) (rs := []) hx hb hml hown hts hKn hRc hRs hS hl (sX4_isIn l E D h18) (lw_S q2180 q2181 q135 q2182) ⟨by decide, by decide, by decide +kernel⟩ ⟨by rw [hRf]; exact Nat.le_of_ble_eq_true rfl, by rw [hRl]; exact Nat.le_of_ble_eq_true rfl⟩ rfl rfl (Nat.le_of_ble_eq_true rfl) dX4_world_18 (fun H locs cells slots hS => ?_)
    refine lv_if_eq (tgt := 45) hx hb dX4_world_21 (by decide) (fun c_21 => ?_) (fun c_21 => ?_)
    · have h := g_ift c_21 h
      refine lv_iconst (v := 0) hx hb dX4_world_45 (by decide) ?_
      exact g_zretG hx hb hr hlk hKn hRc hRs hS h dX4_world_46
    · have h := g_iff c_21 h
      refine g_iload_n hx hb hl 3 rfl dX4_world_24 ?_
      refine lv_iconst (v := 0) hx hb dX4_world_25 (by decide) ?_
      refine lv_bipush (v := 99) hx hb dX4_world_26 (by decide) ?_
      obtain ⟨z28, h28, h⟩ := g_bnd h
      refine g_callS (n := 3) (av := [.inl v3, .inl 0, .inl 99]) (rs := []) hx hb hml hown hts hKn hRc hRs hS hl (sX4_isIn l E D h28) (lw_S q2180 q2181 q135 q2182) ⟨by decide, by decide, by decide +kernel⟩ ⟨by rw [hRf]; exact Nat.le_of_ble_eq_true rfl, by rw [hRl]; exact Nat.le_of_ble_eq_true rfl⟩ rfl rfl (Nat.le_of_ble_eq_true rfl) dX4_world_28 (fun H locs cells slots hS => ?_)
      refine lv_if_eq (tgt := 45) hx hb dX4_world_31 (by decide) (fun c_31 => ?_) (fun c_31 => ?_)
      · have h := g_ift c_31 h
        refine lv_iconst (v := 0) hx hb dX4_world_45 (by decide) ?_
        exact g_zretG hx hb hr hlk hKn hRc hRs hS h dX4_world_46
      · have h := g_iff c_31 h
        refine g_iload hx hb hl 4 rfl dX4_world_34 ?_
        refine lv_iconst (v := 0) hx hb dX4_world_36 (by decide) ?_
        refine lv_bipush (v := 99) hx hb dX4_world_37 (by decide) ?_
        obtain ⟨z39, h39, h⟩ := g_bnd h
        refine g_callS (n := 3) (av := [.inl v4, .inl 0, .inl 99]) (rs := []) hx hb hml hown hts hKn hRc hRs hS hl (sX4_isIn l E D h39) (lw_S q2180 q2181 q135 q2182) ⟨by decide, by decide, by decide +kernel⟩ ⟨by rw [hRf]; exact Nat.le_of_ble_eq_true rfl, by rw [hRl]; exact Nat.le_of_ble_eq_true rfl⟩ rfl rfl (Nat.le_of_ble_eq_true rfl) dX4_world_39 (fun H locs cells slots hS => ?_)
        refine lv_if_ne (tgt := 47) hx hb dX4_world_42 (by decide) (fun c_42 => ?_) (fun c_42 => ?_)
        · have h := g_ift c_42 h
          refine g_iload_n hx hb hl 1 rfl dX4_world_47 ?_
          refine g_aload_n hx hb hl 0 rfl dX4_world_48 ?_
          refine g_rdI hx hb hown hts hKn hS h fd_4_4_3 rfl (Or.inl (hts _ q1868)) (fun _ z => z) dX4_world_49 (fun x49 h => ?_)
          refine lv_icmp_eq (tgt := 60) hx hb dX4_world_52 (by decide) (fun c_52 => ?_) (fun c_52 => ?_)
          · have h := g_ift c_52 h
            exact sX4_world_b60 C _ _ _ _ _ _ _ h _ _ _ _ _ hS (gls_sub hl [0, 1, 2, 3, 4] rfl)
          · have h := g_iff c_52 h
            refine g_aload_n hx hb hl 0 rfl dX4_world_55 ?_
            refine lv_iconst (v := (-1)) hx hb dX4_world_56 (by decide) ?_
            refine g_ptI hx hb hown hts hKn hS h fd_4_4_57 (Or.inl (hts _ q1922)) (fun _ z => z) (fun z => nomatch z) dX4_world_57 (fun G57 h H locs hS => ?_)
            exact sX4_world_b60 C _ _ _ _ _ _ _ h _ _ _ _ _ hS (gls_sub hl [0, 1, 2, 3, 4] rfl)
        · have h := g_iff (fun z => z c_42) h
          refine lv_iconst (v := 0) hx hb dX4_world_45 (by decide) ?_
          exact g_zretG hx hb hr hlk hKn hRc hRs hS h dX4_world_46
/-- SendHallModel.wrong(I)V -/
def fX4_wrong (E : g_E) (t : Nat) (v1 : Int32) (G : g_G) : Option (g_G) :=
  (grI G 4 4 (some t) 18).bind fun x1 =>
  if x1 = 0 then (
    (gpI E G 4 4 (some t) 18 v1).bind fun G10 =>
    (grI G10 4 4 (some t) 16).bind fun x15 =>
    (gpI E G10 4 4 (some t) 19 x15).bind fun G18 =>
    some G18)
  else (
    some G)
theorem sX4_wrong (l : Launch) (E : g_E) (D : g_D) {t : Nat} {v1 : Int32} {G : g_G} {q : g_G} (h : fX4_wrong E t v1 G = some q) : gMet l E D yX4_wrong (ws_ yX4_wrong cX4_wrong 2 (none)) 1 64 [.inr (.inr (some t)), .inl v1] G none q := by
  refine gMet.of (by decide +kernel) (Nat.le_of_ble_eq_true rfl) ?_
  intro p e R s m args below meth c C hS ls hl
  have C : gC p R s m args meth c cX4_wrong 2 RX4 "wrong" (none) 1 64 E D := C
  obtain ⟨hx, hb, hml, hown, hts, hKn, hRc, hRs, hc1, hc2, hRf, hRl, hr, hlk, hnm⟩ := id C
  have hl : gls ls 2 [(0, .inr (.inr (some t))), (1, .inl v1)] := hl
  generalize s.heap = H at hS ⊢
  unfold fX4_wrong at h
  refine g_aload_n hx hb hl 0 rfl dX4_wrong_0 ?_
  refine g_rdI hx hb hown hts hKn hS h fd_4_4_18 rfl (Or.inl (hts _ q1883)) (fun _ z => z) dX4_wrong_1 (fun x1 h => ?_)
  refine lv_if_eq (tgt := 8) hx hb dX4_wrong_4 (by decide) (fun c_4 => ?_) (fun c_4 => ?_)
  · have h := g_ift c_4 h
    refine g_aload_n hx hb hl 0 rfl dX4_wrong_8 ?_
    refine g_iload_n hx hb hl 1 rfl dX4_wrong_9 ?_
    refine g_ptI hx hb hown hts hKn hS h fd_4_4_18 (Or.inl (hts _ q1883)) (fun _ z => z) (fun z => nomatch z) dX4_wrong_10 (fun G10 h H locs hS => ?_)
    refine g_aload_n hx hb hl 0 rfl dX4_wrong_13 ?_
    refine g_aload_n hx hb hl 0 rfl dX4_wrong_14 ?_
    refine g_rdI hx hb hown hts hKn hS h fd_4_4_16 rfl (Or.inl (hts _ q1881)) (fun _ z => z) dX4_wrong_15 (fun x15 h => ?_)
    refine g_ptI hx hb hown hts hKn hS h fd_4_4_19 (Or.inl (hts _ q1884)) (fun _ z => z) (fun z => nomatch z) dX4_wrong_18 (fun G18 h H locs hS => ?_)
    exact g_vretG hx hb hr hlk hKn hRc hRs hS h dX4_wrong_21
  · have h := g_iff c_4 h
    exact g_vretG hx hb hr hlk hKn hRc hRs hS h dX4_wrong_7
/-- SendHall$Reader.byteAt(I)I -/
def fX5_byteAt (E : g_E) (t : Nat) (v1 : Int32) (G : g_G) : Option (Int32 × g_G) :=
  (grI G 5 5 (some t) 1).bind fun x2 =>
  if x2 ≤ v1 then (
    some (0, G))
  else (
    (grR G 5 5 (some t) 0).bind fun x9 =>
    (gaI G 101 x9 v1).bind fun x13 =>
    some ((x13 &&& 255), G))
theorem sX5_byteAt (l : Launch) (E : g_E) (D : g_D) {t : Nat} {v1 : Int32} {G : g_G} {q : Int32 × g_G} (h : fX5_byteAt E t v1 G = some q) : gMet l E D yX5_byteAt (ws_ yX5_byteAt cX5_byteAt 2 (some .int)) 1 64 [.inr (.inr (some t)), .inl v1] G (some (.int q.1)) q.2 := by
  refine gMet.of (by decide +kernel) (Nat.le_of_ble_eq_true rfl) ?_
  intro p e R s m args below meth c C hS ls hl
  have C : gC p R s m args meth c cX5_byteAt 2 RX5 "byteAt" (some .int) 1 64 E D := C
  obtain ⟨hx, hb, hml, hown, hts, hKn, hRc, hRs, hc1, hc2, hRf, hRl, hr, hlk, hnm⟩ := id C
  have hl : gls ls 2 [(0, .inr (.inr (some t))), (1, .inl v1)] := hl
  generalize s.heap = H at hS ⊢
  unfold fX5_byteAt at h
  refine g_iload_n hx hb hl 1 rfl dX5_byteAt_0 ?_
  refine g_aload_n hx hb hl 0 rfl dX5_byteAt_1 ?_
  refine g_rdI hx hb hown hts hKn hS h fd_5_5_1 rfl (Or.inl (hts _ q1234)) (fun _ z => z) dX5_byteAt_2 (fun x2 h => ?_)
  refine lv_icmp_ge (tgt := 21) hx hb dX5_byteAt_5 (by decide) (fun c_5 => ?_) (fun c_5 => ?_)
  · have h := g_ift c_5 h
    refine lv_iconst (v := 0) hx hb dX5_byteAt_21 (by decide) ?_
    exact g_iretG hx hb hr hlk hKn hRc hRs hS h dX5_byteAt_22
  · have h := g_iff c_5 h
    refine g_aload_n hx hb hl 0 rfl dX5_byteAt_8 ?_
    refine g_rdR hx hb hown hts hKn hS h fd_5_5_0 rfl (Or.inl (hts _ q1233)) (fun _ z => z) dX5_byteAt_9 (fun x9 h => ?_)
    refine g_iload_n hx hb hl 1 rfl dX5_byteAt_12 ?_
    refine g_baloadG hx hb hKn hS h dX5_byteAt_13 (fun x13 h => ?_)
    refine lv_sipush (v := 255) hx hb dX5_byteAt_14 (by decide) ?_
    refine lv_iand hx hb dX5_byteAt_17 ?_
    refine lv_goto (tgt := 22) hx hb dX5_byteAt_18 (by decide) ?_
    exact g_iretG hx hb hr hlk hKn hRc hRs hS h dX5_byteAt_22
