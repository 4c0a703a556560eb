set_option maxRecDepth 100000
/-- SendHall$Life.isLike(LSendHall$Life;)Z -/
def fX3_isLike_b142 (E : g_E) : Nat → Nat → (Option Nat) → Int32 → g_G → Option (Int32 × g_G)
  | 0, _, _, _, _ => none
  | n + 1, t, v1, v2, G =>
    (grI G 3 3 (some t) 1).bind fun x144 =>
    if x144 ≤ v2 then (
      if (1 : Int32) = 0 ∨ (1 : Int32) = 1 then some (1, G) else none)
    else (
      (grR G 3 3 (some t) 8).bind fun x151 =>
      (gaI G 100 x151 v2).bind fun x155 =>
      (grR G 3 3 v1 8).bind fun x157 =>
      (gaI G 100 x157 v2).bind fun x161 =>
      if ¬ x155 = x161 then (
        if (0 : Int32) = 0 ∨ (0 : Int32) = 1 then some (0, G) else none)
      else (
        (grR G 3 3 (some t) 9).bind fun x166 =>
        (gaI G 100 x166 v2).bind fun x170 =>
        (grR G 3 3 v1 9).bind fun x172 =>
        (gaI G 100 x172 v2).bind fun x176 =>
        if ¬ x170 = x176 then (
          if (0 : Int32) = 0 ∨ (0 : Int32) = 1 then some (0, G) else none)
        else (
          (grR G 3 3 (some t) 10).bind fun x181 =>
          (gaI G 100 x181 v2).bind fun x185 =>
          (grR G 3 3 v1 10).bind fun x187 =>
          (gaI G 100 x187 v2).bind fun x191 =>
          if ¬ x185 = x191 then (
            if (0 : Int32) = 0 ∨ (0 : Int32) = 1 then some (0, G) else none)
          else (
            (grR G 3 3 (some t) 11).bind fun x196 =>
            (gaI G 100 x196 v2).bind fun x200 =>
            (grR G 3 3 v1 11).bind fun x202 =>
            (gaI G 100 x202 v2).bind fun x206 =>
            if x200 = x206 then (
              fX3_isLike_b142 E n t v1 (v2 + 1) G)
            else (
              if (0 : Int32) = 0 ∨ (0 : Int32) = 1 then some (0, G) else none)))))
def fX3_isLike_b98 (E : g_E) (k26 : Nat → (Option Nat) → Int32 → g_G → Option (Int32 × g_G)) : Nat → Nat → (Option Nat) → Int32 → Int32 → g_G → Option (Int32 × g_G)
  | 0, _, _, _, _, _ => none
  | n + 1, t, v1, v2, v3, G =>
    if (4 : Int32) ≤ v3 then (
      k26 t v1 (v2 + 1) G)
    else (
      (grR G 3 3 (some t) 5).bind fun x104 =>
      (gaI G 100 x104 ((4 * v2) + v3)).bind fun x112 =>
      (grR G 3 3 v1 5).bind fun x114 =>
      (gaI G 100 x114 ((4 * v2) + v3)).bind fun x122 =>
      if x112 = x122 then (
        fX3_isLike_b98 E k26 n t v1 v2 (v3 + 1) G)
      else (
        if (0 : Int32) = 0 ∨ (0 : Int32) = 1 then some (0, G) else none))
def fX3_isLike_b26 (E : g_E) : Nat → Nat → (Option Nat) → Int32 → g_G → Option (Int32 × g_G)
  | 0, _, _, _, _ => none
  | n + 1, t, v1, v2, G =>
    (grI G 3 3 (some t) 0).bind fun x28 =>
    if x28 ≤ v2 then (
      fX3_isLike_b142 E gFU t v1 0 G)
    else (
      (grR G 3 3 (some t) 3).bind fun x35 =>
      (gaR G 122 x35 v2).bind fun x39 =>
      (grR G 3 3 v1 3).bind fun x41 =>
      (gaR G 122 x41 v2).bind fun x45 =>
      if ¬ x39 = x45 then (
        if (0 : Int32) = 0 ∨ (0 : Int32) = 1 then some (0, G) else none)
      else (
        (grR G 3 3 (some t) 4).bind fun x50 =>
        (gaI G 102 x50 v2).bind fun x54 =>
        (grR G 3 3 v1 4).bind fun x56 =>
        (gaI G 102 x56 v2).bind fun x60 =>
        if ¬ x54 = x60 then (
          if (0 : Int32) = 0 ∨ (0 : Int32) = 1 then some (0, G) else none)
        else (
          (grR G 3 3 (some t) 6).bind fun x65 =>
          (gaI G 100 x65 v2).bind fun x69 =>
          (grR G 3 3 v1 6).bind fun x71 =>
          (gaI G 100 x71 v2).bind fun x75 =>
          if ¬ x69 = x75 then (
            if (0 : Int32) = 0 ∨ (0 : Int32) = 1 then some (0, G) else none)
          else (
            (grR G 3 3 (some t) 7).bind fun x80 =>
            (gaI G 100 x80 v2).bind fun x84 =>
            (grR G 3 3 v1 7).bind fun x86 =>
            (gaI G 100 x86 v2).bind fun x90 =>
            if x84 = x90 then (
              fX3_isLike_b98 E (fX3_isLike_b26 E n) gFU t v1 v2 0 G)
            else (
              if (0 : Int32) = 0 ∨ (0 : Int32) = 1 then some (0, G) else none)))))
def fX3_isLike (E : g_E) (t : Nat) (v1 : Option Nat) (G : g_G) : Option (Int32 × g_G) :=
  (grI G 3 3 (some t) 2).bind fun x1 =>
  (grI G 3 3 v1 2).bind fun x5 =>
  if ¬ x1 = x5 then (
    if (0 : Int32) = 0 ∨ (0 : Int32) = 1 then some (0, G) else none)
  else (
    (grI G 3 3 (some t) 1).bind fun x12 =>
    (grI G 3 3 v1 1).bind fun x16 =>
    if x12 = x16 then (
      fX3_isLike_b26 E gFU t v1 0 G)
    else (
      if (0 : Int32) = 0 ∨ (0 : Int32) = 1 then some (0, G) else none))
theorem sX3_isLike_b142 {p : Program} {l : Launch} {e : Env} {R : Room} {s : State} {m : MethodId} {args : Array Value} {below : List Frame} {meth : Method} {c : Code} {E : g_E} {D : g_D} (C : gC p R s m args meth c cX3_isLike 4 RX3 "isLike" (some .boolean) 1 64 E D) : ∀ (n : Nat) (t : Nat) (v1 : Option Nat) (v2 : Int32) (G : g_G) (q : Int32 × g_G), fX3_isLike_b142 E n t v1 v2 G = some q → ∀ (H : Heap) (locs : List Loc) (cells slots : Nat) (ls : Array Slot), gSt E D G H locs → gls ls 4 [(0, .inr (.inr (some t))), (1, .inr (.inr v1)), (2, .inl v2)] → gT p l e R s m args below meth c E D H locs cells slots (some (.int q.1)) q.2 (F0 m 142 ls []) := by
  obtain ⟨hx, hb, hml, hown, hts, hKn, hRc, hRs, hc1, hc2, hRf, hRl, hr, hlk, hnm⟩ := id C
  intro n
  induction n with
  | zero =>
    intro t v1 v2 G q h
    exact g_no h
  | succ n ih =>
    intro t v1 v2 G q h H locs cells slots ls hS hl
    rw [fX3_isLike_b142] at h
    refine g_iload_n hx hb hl 2 rfl dX3_isLike_142 ?_
    refine g_aload_n hx hb hl 0 rfl dX3_isLike_143 ?_
    refine g_rdI hx hb hown hts hKn hS h fd_3_3_1 rfl (Or.inl (hts _ q542)) (fun _ z => z) dX3_isLike_144 (fun x144 h => ?_)
    refine lv_icmp_ge (tgt := 218) hx hb dX3_isLike_147 (by decide) (fun c_147 => ?_) (fun c_147 => ?_)
    · have h := g_ift c_147 h
      refine lv_iconst (v := 1) hx hb dX3_isLike_218 (by decide) ?_
      exact g_zretG hx hb hr hlk hKn hRc hRs hS h dX3_isLike_219
    · have h := g_iff c_147 h
      refine g_aload_n hx hb hl 0 rfl dX3_isLike_150 ?_
      refine g_rdR hx hb hown hts hKn hS h fd_3_3_8 rfl (Or.inl (hts _ q560)) (fun _ z => z) dX3_isLike_151 (fun x151 h => ?_)
      refine g_iload_n hx hb hl 2 rfl dX3_isLike_154 ?_
      refine g_ialoadG hx hb hKn hS h dX3_isLike_155 (fun x155 h => ?_)
      refine g_aload_n hx hb hl 1 rfl dX3_isLike_156 ?_
      refine g_rdR hx hb hown hts hKn hS h fd_3_3_8 rfl (Or.inl (hts _ q560)) (fun _ z => z) dX3_isLike_157 (fun x157 h => ?_)
      refine g_iload_n hx hb hl 2 rfl dX3_isLike_160 ?_
      refine g_ialoadG hx hb hKn hS h dX3_isLike_161 (fun x161 h => ?_)
      refine lv_icmp_ne (tgt := 210) hx hb dX3_isLike_162 (by decide) (fun c_162 => ?_) (fun c_162 => ?_)
      · have h := g_ift c_162 h
        refine lv_iconst (v := 0) hx hb dX3_isLike_210 (by decide) ?_
        exact g_zretG hx hb hr hlk hKn hRc hRs hS h dX3_isLike_211
      · have h := g_iff (fun z => z c_162) h
        refine g_aload_n hx hb hl 0 rfl dX3_isLike_165 ?_
        refine g_rdR hx hb hown hts hKn hS h fd_3_3_9 rfl (Or.inl (hts _ q561)) (fun _ z => z) dX3_isLike_166 (fun x166 h => ?_)
        refine g_iload_n hx hb hl 2 rfl dX3_isLike_169 ?_
        refine g_ialoadG hx hb hKn hS h dX3_isLike_170 (fun x170 h => ?_)
        refine g_aload_n hx hb hl 1 rfl dX3_isLike_171 ?_
        refine g_rdR hx hb hown hts hKn hS h fd_3_3_9 rfl (Or.inl (hts _ q561)) (fun _ z => z) dX3_isLike_172 (fun x172 h => ?_)
        refine g_iload_n hx hb hl 2 rfl dX3_isLike_175 ?_
        refine g_ialoadG hx hb hKn hS h dX3_isLike_176 (fun x176 h => ?_)
        refine lv_icmp_ne (tgt := 210) hx hb dX3_isLike_177 (by decide) (fun c_177 => ?_) (fun c_177 => ?_)
        · have h := g_ift c_177 h
          refine lv_iconst (v := 0) hx hb dX3_isLike_210 (by decide) ?_
          exact g_zretG hx hb hr hlk hKn hRc hRs hS h dX3_isLike_211
        · have h := g_iff (fun z => z c_177) h
          refine g_aload_n hx hb hl 0 rfl dX3_isLike_180 ?_
          refine g_rdR hx hb hown hts hKn hS h fd_3_3_10 rfl (Or.inl (hts _ q562)) (fun _ z => z) dX3_isLike_181 (fun x181 h => ?_)
          refine g_iload_n hx hb hl 2 rfl dX3_isLike_184 ?_
          refine g_ialoadG hx hb hKn hS h dX3_isLike_185 (fun x185 h => ?_)
          refine g_aload_n hx hb hl 1 rfl dX3_isLike_186 ?_
          refine g_rdR hx hb hown hts hKn hS h fd_3_3_10 rfl (Or.inl (hts _ q562)) (fun _ z => z) dX3_isLike_187 (fun x187 h => ?_)
          refine g_iload_n hx hb hl 2 rfl dX3_isLike_190 ?_
          refine g_ialoadG hx hb hKn hS h dX3_isLike_191 (fun x191 h => ?_)
          refine lv_icmp_ne (tgt := 210) hx hb dX3_isLike_192 (by decide) (fun c_192 => ?_) (fun c_192 => ?_)
          · have h := g_ift c_192 h
            refine lv_iconst (v := 0) hx hb dX3_isLike_210 (by decide) ?_
            exact g_zretG hx hb hr hlk hKn hRc hRs hS h dX3_isLike_211
          · have h := g_iff (fun z => z c_192) h
            refine g_aload_n hx hb hl 0 rfl dX3_isLike_195 ?_
            refine g_rdR hx hb hown hts hKn hS h fd_3_3_11 rfl (Or.inl (hts _ q564)) (fun _ z => z) dX3_isLike_196 (fun x196 h => ?_)
            refine g_iload_n hx hb hl 2 rfl dX3_isLike_199 ?_
            refine g_ialoadG hx hb hKn hS h dX3_isLike_200 (fun x200 h => ?_)
            refine g_aload_n hx hb hl 1 rfl dX3_isLike_201 ?_
            refine g_rdR hx hb hown hts hKn hS h fd_3_3_11 rfl (Or.inl (hts _ q564)) (fun _ z => z) dX3_isLike_202 (fun x202 h => ?_)
            refine g_iload_n hx hb hl 2 rfl dX3_isLike_205 ?_
            refine g_ialoadG hx hb hKn hS h dX3_isLike_206 (fun x206 h => ?_)
            refine lv_icmp_eq (tgt := 212) hx hb dX3_isLike_207 (by decide) (fun c_207 => ?_) (fun c_207 => ?_)
            · have h := g_ift c_207 h
              refine g_iinc (l1 := [(2, .inl (v2 + 1)), (0, .inr (.inr (some t))), (1, .inr (.inr v1))]) (v := (v2 + 1)) hx hb hl (k := 2) rfl (by rfl) (by decide) rfl dX3_isLike_212 (fun ls hl => ?_)
              refine lv_goto (tgt := 142) hx hb dX3_isLike_215 (by decide) ?_
              exact ih _ _ _ _ _ h _ _ _ _ _ hS (gls_sub hl [1, 2, 0] rfl)
            · have h := g_iff c_207 h
              refine lv_iconst (v := 0) hx hb dX3_isLike_210 (by decide) ?_
              exact g_zretG hx hb hr hlk hKn hRc hRs hS h dX3_isLike_211
theorem sX3_isLike_b98 {p : Program} {l : Launch} {e : Env} {R : Room} {s : State} {m : MethodId} {args : Array Value} {below : List Frame} {meth : Method} {c : Code} {E : g_E} {D : g_D} (C : gC p R s m args meth c cX3_isLike 4 RX3 "isLike" (some .boolean) 1 64 E D) {k26 : Nat → (Option Nat) → Int32 → g_G → Option (Int32 × g_G)} (hk26 : ∀ (t : Nat) (v1 : Option Nat) (v2 : Int32) (G : g_G) (q : Int32 × g_G), k26 t v1 v2 G = some q → ∀ (H : Heap) (locs : List Loc) (cells slots : Nat) (ls : Array Slot), gSt E D G H locs → gls ls 4 [(0, .inr (.inr (some t))), (1, .inr (.inr v1)), (2, .inl v2)] → gT p l e R s m args below meth c E D H locs cells slots (some (.int q.1)) q.2 (F0 m 26 ls [])) : ∀ (n : Nat) (t : Nat) (v1 : Option Nat) (v2 : Int32) (v3 : Int32) (G : g_G) (q : Int32 × g_G), fX3_isLike_b98 E k26 n t v1 v2 v3 G = some q → ∀ (H : Heap) (locs : List Loc) (cells slots : Nat) (ls : Array Slot), gSt E D G H locs → gls ls 4 [(0, .inr (.inr (some t))), (1, .inr (.inr v1)), (2, .inl v2), (3, .inl v3)] → gT p l e R s m args below meth c E D H locs cells slots (some (.int q.1)) q.2 (F0 m 98 ls []) := by
  obtain ⟨hx, hb, hml, hown, hts, hKn, hRc, hRs, hc1, hc2, hRf, hRl, hr, hlk, hnm⟩ := id C
  intro n
  induction n with
  | zero =>
    intro t v1 v2 v3 G q h
    exact g_no h
  | succ n ih =>
    intro t v1 v2 v3 G q h H locs cells slots ls hS hl
    rw [fX3_isLike_b98] at h
    refine g_iload_n hx hb hl 3 rfl dX3_isLike_98 ?_
    refine lv_iconst (v := 4) hx hb dX3_isLike_99 (by decide) ?_
    refine lv_icmp_ge (tgt := 134) hx hb dX3_isLike_100 (by decide) (fun c_100 => ?_) (fun c_100 => ?_)
    · have h := g_ift c_100 h
      refine g_iinc (l1 := [(2, .inl (v2 + 1)), (0, .inr (.inr (some t))), (1, .inr (.inr v1)), (3, .inl v3)]) (v := (v2 + 1)) hx hb hl (k := 2) rfl (by rfl) (by decide) rfl dX3_isLike_134 (fun ls hl => ?_)
      refine lv_goto (tgt := 26) hx hb dX3_isLike_137 (by decide) ?_
      exact hk26 _ _ _ _ _ h _ _ _ _ _ hS (gls_sub hl [1, 2, 0] rfl)
    · have h := g_iff c_100 h
      refine g_aload_n hx hb hl 0 rfl dX3_isLike_103 ?_
      refine g_rdR hx hb hown hts hKn hS h fd_3_3_5 rfl (Or.inl (hts _ q550)) (fun _ z => z) dX3_isLike_104 (fun x104 h => ?_)
      refine lv_iconst (v := 4) hx hb dX3_isLike_107 (by decide) ?_
      refine g_iload_n hx hb hl 2 rfl dX3_isLike_108 ?_
      refine lv_imul hx hb dX3_isLike_109 ?_
      refine g_iload_n hx hb hl 3 rfl dX3_isLike_110 ?_
      refine lv_iadd hx hb dX3_isLike_111 ?_
      refine g_ialoadG hx hb hKn hS h dX3_isLike_112 (fun x112 h => ?_)
      refine g_aload_n hx hb hl 1 rfl dX3_isLike_113 ?_
      refine g_rdR hx hb hown hts hKn hS h fd_3_3_5 rfl (Or.inl (hts _ q550)) (fun _ z => z) dX3_isLike_114 (fun x114 h => ?_)
      refine lv_iconst (v := 4) hx hb dX3_isLike_117 (by decide) ?_
      refine g_iload_n hx hb hl 2 rfl dX3_isLike_118 ?_
      refine lv_imul hx hb dX3_isLike_119 ?_
      refine g_iload_n hx hb hl 3 rfl dX3_isLike_120 ?_
      refine lv_iadd hx hb dX3_isLike_121 ?_
      refine g_ialoadG hx hb hKn hS h dX3_isLike_122 (fun x122 h => ?_)
      refine lv_icmp_eq (tgt := 128) hx hb dX3_isLike_123 (by decide) (fun c_123 => ?_) (fun c_123 => ?_)
      · have h := g_ift c_123 h
        refine g_iinc (l1 := [(3, .inl (v3 + 1)), (0, .inr (.inr (some t))), (1, .inr (.inr v1)), (2, .inl v2)]) (v := (v3 + 1)) hx hb hl (k := 3) rfl (by rfl) (by decide) rfl dX3_isLike_128 (fun ls hl => ?_)
        refine lv_goto (tgt := 98) hx hb dX3_isLike_131 (by decide) ?_
        exact ih _ _ _ _ _ _ h _ _ _ _ _ hS (gls_sub hl [1, 2, 3, 0] rfl)
      · have h := g_iff c_123 h
        refine lv_iconst (v := 0) hx hb dX3_isLike_126 (by decide) ?_
        exact g_zretG hx hb hr hlk hKn hRc hRs hS h dX3_isLike_127
theorem sX3_isLike_b26 {p : Program} {l : Launch} {e : Env} {R : Room} {s : State} {m : MethodId} {args : Array Value} {below : List Frame} {meth : Method} {c : Code} {E : g_E} {D : g_D} (C : gC p R s m args meth c cX3_isLike 4 RX3 "isLike" (some .boolean) 1 64 E D) : ∀ (n : Nat) (t : Nat) (v1 : Option Nat) (v2 : Int32) (G : g_G) (q : Int32 × g_G), fX3_isLike_b26 E n t v1 v2 G = some q → ∀ (H : Heap) (locs : List Loc) (cells slots : Nat) (ls : Array Slot), gSt E D G H locs → gls ls 4 [(0, .inr (.inr (some t))), (1, .inr (.inr v1)), (2, .inl v2)] → gT p l e R s m args below meth c E D H locs cells slots (some (.int q.1)) q.2 (F0 m 26 ls []) := by
  obtain ⟨hx, hb, hml, hown, hts, hKn, hRc, hRs, hc1, hc2, hRf, hRl, hr, hlk, hnm⟩ := id C
  intro n
  induction n with
  | zero =>
    intro t v1 v2 G q h
    exact g_no h
  | succ n ih =>
    intro t v1 v2 G q h H locs cells slots ls hS hl
    rw [fX3_isLike_b26] at h
    refine g_iload_n hx hb hl 2 rfl dX3_isLike_26 ?_
    refine g_aload_n hx hb hl 0 rfl dX3_isLike_27 ?_
    refine g_rdI hx hb hown hts hKn hS h fd_3_3_0 rfl (Or.inl (hts _ q538)) (fun _ z => z) dX3_isLike_28 (fun x28 h => ?_)
    refine lv_icmp_ge (tgt := 140) hx hb dX3_isLike_31 (by decide) (fun c_31 => ?_) (fun c_31 => ?_)
    · have h := g_ift c_31 h
      refine lv_iconst (v := 0) hx hb dX3_isLike_140 (by decide) ?_
      refine g_istore_n (l1 := [(2, .inl 0), (0, .inr (.inr (some t))), (1, .inr (.inr v1))]) hx hb hl (by decide) rfl dX3_isLike_141 (fun ls hl => ?_)
      exact sX3_isLike_b142 C gFU _ _ _ _ _ h _ _ _ _ _ hS (gls_sub hl [1, 2, 0] rfl)
    · have h := g_iff c_31 h
      refine g_aload_n hx hb hl 0 rfl dX3_isLike_34 ?_
      refine g_rdR hx hb hown hts hKn hS h fd_3_3_3 rfl (Or.inl (hts _ q544)) (fun _ z => z) dX3_isLike_35 (fun x35 h => ?_)
      refine g_iload_n hx hb hl 2 rfl dX3_isLike_38 ?_
      refine g_aaloadG hx hb hKn hS h (by decide) dX3_isLike_39 (fun x39 h => ?_)
      refine g_aload_n hx hb hl 1 rfl dX3_isLike_40 ?_
      refine g_rdR hx hb hown hts hKn hS h fd_3_3_3 rfl (Or.inl (hts _ q544)) (fun _ z => z) dX3_isLike_41 (fun x41 h => ?_)
      refine g_iload_n hx hb hl 2 rfl dX3_isLike_44 ?_
      refine g_aaloadG hx hb hKn hS h (by decide) dX3_isLike_45 (fun x45 h => ?_)
      refine lv_acmp_ne (tgt := 94) hx hb dX3_isLike_46 (by decide) (fun c_46 => ?_) (fun c_46 => ?_)
      · have h := g_ift c_46 h
        refine lv_iconst (v := 0) hx hb dX3_isLike_94 (by decide) ?_
        exact g_zretG hx hb hr hlk hKn hRc hRs hS h dX3_isLike_95
      · have h := g_iff (fun z => z c_46) h
        refine g_aload_n hx hb hl 0 rfl dX3_isLike_49 ?_
        refine g_rdR hx hb hown hts hKn hS h fd_3_3_4 rfl (Or.inl (hts _ q546)) (fun _ z => z) dX3_isLike_50 (fun x50 h => ?_)
        refine g_iload_n hx hb hl 2 rfl dX3_isLike_53 ?_
        refine g_zaloadG hx hb hKn hS h dX3_isLike_54 (fun x54 h => ?_)
        refine g_aload_n hx hb hl 1 rfl dX3_isLike_55 ?_
        refine g_rdR hx hb hown hts hKn hS h fd_3_3_4 rfl (Or.inl (hts _ q546)) (fun _ z => z) dX3_isLike_56 (fun x56 h => ?_)
        refine g_iload_n hx hb hl 2 rfl dX3_isLike_59 ?_
        refine g_zaloadG hx hb hKn hS h dX3_isLike_60 (fun x60 h => ?_)
        refine lv_icmp_ne (tgt := 94) hx hb dX3_isLike_61 (by decide) (fun c_61 => ?_) (fun c_61 => ?_)
        · have h := g_ift c_61 h
          refine lv_iconst (v := 0) hx hb dX3_isLike_94 (by decide) ?_
          exact g_zretG hx hb hr hlk hKn hRc hRs hS h dX3_isLike_95
        · have h := g_iff (fun z => z c_61) h
          refine g_aload_n hx hb hl 0 rfl dX3_isLike_64 ?_
          refine g_rdR hx hb hown hts hKn hS h fd_3_3_6 rfl (Or.inl (hts _ q554)) (fun _ z => z) dX3_isLike_65 (fun x65 h => ?_)
          refine g_iload_n hx hb hl 2 rfl dX3_isLike_68 ?_
          refine g_ialoadG hx hb hKn hS h dX3_isLike_69 (fun x69 h => ?_)
          refine g_aload_n hx hb hl 1 rfl dX3_isLike_70 ?_
          refine g_rdR hx hb hown hts hKn hS h fd_3_3_6 rfl (Or.inl (hts _ q554)) (fun _ z => z) dX3_isLike_71 (fun x71 h => ?_)
          refine g_iload_n hx hb hl 2 rfl dX3_isLike_74 ?_
          refine g_ialoadG hx hb hKn hS h dX3_isLike_75 (fun x75 h => ?_)
          refine lv_icmp_ne (tgt := 94) hx hb dX3_isLike_76 (by decide) (fun c_76 => ?_) (fun c_76 => ?_)
          · have h := g_ift c_76 h
            refine lv_iconst (v := 0) hx hb dX3_isLike_94 (by decide) ?_
            exact g_zretG hx hb hr hlk hKn hRc hRs hS h dX3_isLike_95
          · have h := g_iff (fun z => z c_76) h
            refine g_aload_n hx hb hl 0 rfl dX3_isLike_79 ?_
            refine g_rdR hx hb hown hts hKn hS h fd_3_3_7 rfl (Or.inl (hts _ q557)) (fun _ z => z) dX3_isLike_80 (fun x80 h => ?_)
            refine g_iload_n hx hb hl 2 rfl dX3_isLike_83 ?_
            refine g_ialoadG hx hb hKn hS h dX3_isLike_84 (fun x84 h => ?_)
            refine g_aload_n hx hb hl 1 rfl dX3_isLike_85 ?_
            refine g_rdR hx hb hown hts hKn hS h fd_3_3_7 rfl (Or.inl (hts _ q557)) (fun _ z => z) dX3_isLike_86 (fun x86 h => ?_)
            refine g_iload_n hx hb hl 2 rfl dX3_isLike_89 ?_
            refine g_ialoadG hx hb hKn hS h dX3_isLike_90 (fun x90 h => ?_)
            refine lv_icmp_eq (tgt := 96) hx hb dX3_isLike_91 (by decide) (fun c_91 => ?_) (fun c_91 => ?_)
            · have h := g_ift c_91 h
              refine lv_iconst (v := 0) hx hb dX3_isLike_96 (by decide) ?_
              refine g_istore_n (l1 := [(3, .inl 0), (0, .inr (.inr (some t))), (1, .inr (.inr v1)), (2, .inl v2)]) hx hb hl (by decide) rfl dX3_isLike_97 (fun ls hl => ?_)
              exact sX3_isLike_b98 C ih gFU _ _ _ _ _ _ h _ _ _ _ _ hS (gls_sub hl [1, 2, 3, 0] rfl)
            · have h := g_iff c_91 h
              refine lv_iconst (v := 0) hx hb dX3_isLike_94 (by decide) ?_
              exact g_zretG hx hb hr hlk hKn hRc hRs hS h dX3_isLike_95
theorem sX3_isLike (l : Launch) (E : g_E) (D : g_D) {t : Nat} {v1 : Option Nat} {G : g_G} {q : Int32 × g_G} (h : fX3_isLike E t v1 G = some q) : gMet l E D yX3_isLike (ws_ yX3_isLike cX3_isLike 4 (some .boolean)) 1 64 [.inr (.inr (some t)), .inr (.inr v1)] G (some (.int q.1)) q.2 := by
  refine gMet.of (by decide +kernel) (Nat.le_of_ble_eq_true rfl) ?_
  intro p e R s m args below meth c C hS ls hl
  have C : gC p R s m args meth c cX3_isLike 4 RX3 "isLike" (some .boolean) 1 64 E D := C
  obtain ⟨hx, hb, hml, hown, hts, hKn, hRc, hRs, hc1, hc2, hRf, hRl, hr, hlk, hnm⟩ := id C
  have hl : gls ls 4 [(0, .inr (.inr (some t))), (1, .inr (.inr v1))] := hl
  generalize s.heap = H at hS ⊢
  unfold fX3_isLike at h
  refine g_aload_n hx hb hl 0 rfl dX3_isLike_0 ?_
  refine g_rdI hx hb hown hts hKn hS h fd_3_3_2 rfl (Or.inl (hts _ q543)) (fun _ z => z) dX3_isLike_1 (fun x1 h => ?_)
  refine g_aload_n hx hb hl 1 rfl dX3_isLike_4 ?_
  refine g_rdI hx hb hown hts hKn hS h fd_3_3_2 rfl (Or.inl (hts _ q543)) (fun _ z => z) dX3_isLike_5 (fun x5 h => ?_)
  refine lv_icmp_ne (tgt := 22) hx hb dX3_isLike_8 (by decide) (fun c_8 => ?_) (fun c_8 => ?_)
  · have h := g_ift c_8 h
    refine lv_iconst (v := 0) hx hb dX3_isLike_22 (by decide) ?_
    exact g_zretG hx hb hr hlk hKn hRc hRs hS h dX3_isLike_23
  · have h := g_iff (fun z => z c_8) h
    refine g_aload_n hx hb hl 0 rfl dX3_isLike_11 ?_
    refine g_rdI hx hb hown hts hKn hS h fd_3_3_1 rfl (Or.inl (hts _ q542)) (fun _ z => z) dX3_isLike_12 (fun x12 h => ?_)
    refine g_aload_n hx hb hl 1 rfl dX3_isLike_15 ?_
    refine g_rdI hx hb hown hts hKn hS h fd_3_3_1 rfl (Or.inl (hts _ q542)) (fun _ z => z) dX3_isLike_16 (fun x16 h => ?_)
    refine lv_icmp_eq (tgt := 24) hx hb dX3_isLike_19 (by decide) (fun c_19 => ?_) (fun c_19 => ?_)
    · have h := g_ift c_19 h
      refine lv_iconst (v := 0) hx hb dX3_isLike_24 (by decide) ?_
      refine g_istore_n (l1 := [(2, .inl 0), (0, .inr (.inr (some t))), (1, .inr (.inr v1))]) hx hb hl (by decide) rfl dX3_isLike_25 (fun ls hl => ?_)
      exact sX3_isLike_b26 C gFU _ _ _ _ _ h _ _ _ _ _ hS (gls_sub hl [1, 2, 0] rfl)
    · have h := g_iff c_19 h
      refine lv_iconst (v := 0) hx hb dX3_isLike_22 (by decide) ?_
      exact g_zretG hx hb hr hlk hKn hRc hRs hS h dX3_isLike_23
/-- SendHall$Life.put(ILSendHall$Life;I)V -/
def fX3_put (E : g_E) (t : Nat) (v1 : Int32) (v2 : Option Nat) (v3 : Int32) (G : g_G) : Option (g_G) :=
  (grR G 3 3 (some t) 8).bind fun x1 =>
  (grR G 3 3 v2 8).bind fun x6 =>
  (gaI G 100 x6 v3).bind fun x10 =>
  (gsaI E G x1 v1 x10).bind fun G11 =>
  (grR G11 3 3 (some t) 9).bind fun x13 =>
  (grR G11 3 3 v2 9).bind fun x18 =>
  (gaI G11 100 x18 v3).bind fun x22 =>
  (gsaI E G11 x13 v1 x22).bind fun G23 =>
  (grR G23 3 3 (some t) 10).bind fun x25 =>
  (grR G23 3 3 v2 10).bind fun x30 =>
  (gaI G23 100 x30 v3).bind fun x34 =>
  (gsaI E G23 x25 v1 x34).bind fun G35 =>
  (grR G35 3 3 (some t) 11).bind fun x37 =>
  (grR G35 3 3 v2 11).bind fun x42 =>
  (gaI G35 100 x42 v3).bind fun x46 =>
  (gsaI E G35 x37 v1 x46).bind fun G47 =>
  (grR G47 3 3 (some t) 12).bind fun x49 =>
  (grR G47 3 3 v2 12).bind fun x54 =>
  (gaI G47 100 x54 v3).bind fun x58 =>
  (gsaI E G47 x49 v1 x58).bind fun G59 =>
  some G59
theorem sX3_put (l : Launch) (E : g_E) (D : g_D) {t : Nat} {v1 : Int32} {v2 : Option Nat} {v3 : Int32} {G : g_G} {q : g_G} (h : fX3_put E t v1 v2 v3 G = some q) : gMet l E D yX3_put (ws_ yX3_put cX3_put 4 (none)) 1 64 [.inr (.inr (some t)), .inl v1, .inr (.inr v2), .inl v3] G none q := by
  refine gMet.of (by decide +kernel) (Nat.le_of_ble_eq_true rfl) ?_
  intro p e R s m args below meth c C hS ls hl
  have C : gC p R s m args meth c cX3_put 4 RX3 "put" (none) 1 64 E D := C
  obtain ⟨hx, hb, hml, hown, hts, hKn, hRc, hRs, hc1, hc2, hRf, hRl, hr, hlk, hnm⟩ := id C
  have hl : gls ls 4 [(0, .inr (.inr (some t))), (1, .inl v1), (2, .inr (.inr v2)), (3, .inl v3)] := hl
  generalize s.heap = H at hS ⊢
  unfold fX3_put at h
  refine g_aload_n hx hb hl 0 rfl dX3_put_0 ?_
  refine g_rdR hx hb hown hts hKn hS h fd_3_3_8 rfl (Or.inl (hts _ q560)) (fun _ z => z) dX3_put_1 (fun x1 h => ?_)
  refine g_iload_n hx hb hl 1 rfl dX3_put_4 ?_
  refine g_aload_n hx hb hl 2 rfl dX3_put_5 ?_
  refine g_rdR hx hb hown hts hKn hS h fd_3_3_8 rfl (Or.inl (hts _ q560)) (fun _ z => z) dX3_put_6 (fun x6 h => ?_)
  refine g_iload_n hx hb hl 3 rfl dX3_put_9 ?_
  refine g_ialoadG hx hb hKn hS h dX3_put_10 (fun x10 h => ?_)
  refine g_iastoreG hx hb hKn hS h dX3_put_11 (fun G11 h H locs hS => ?_)
  refine g_aload_n hx hb hl 0 rfl dX3_put_12 ?_
  refine g_rdR hx hb hown hts hKn hS h fd_3_3_9 rfl (Or.inl (hts _ q561)) (fun _ z => z) dX3_put_13 (fun x13 h => ?_)
  refine g_iload_n hx hb hl 1 rfl dX3_put_16 ?_
  refine g_aload_n hx hb hl 2 rfl dX3_put_17 ?_
  refine g_rdR hx hb hown hts hKn hS h fd_3_3_9 rfl (Or.inl (hts _ q561)) (fun _ z => z) dX3_put_18 (fun x18 h => ?_)
  refine g_iload_n hx hb hl 3 rfl dX3_put_21 ?_
  refine g_ialoadG hx hb hKn hS h dX3_put_22 (fun x22 h => ?_)
  refine g_iastoreG hx hb hKn hS h dX3_put_23 (fun G23 h H locs hS => ?_)
  refine g_aload_n hx hb hl 0 rfl dX3_put_24 ?_
  refine g_rdR hx hb hown hts hKn hS h fd_3_3_10 rfl (Or.inl (hts _ q562)) (fun _ z => z) dX3_put_25 (fun x25 h => ?_)
  refine g_iload_n hx hb hl 1 rfl dX3_put_28 ?_
  refine g_aload_n hx hb hl 2 rfl dX3_put_29 ?_
  refine g_rdR hx hb hown hts hKn hS h fd_3_3_10 rfl (Or.inl (hts _ q562)) (fun _ z => z) dX3_put_30 (fun x30 h => ?_)
  refine g_iload_n hx hb hl 3 rfl dX3_put_33 ?_
  refine g_ialoadG hx hb hKn hS h dX3_put_34 (fun x34 h => ?_)
  refine g_iastoreG hx hb hKn hS h dX3_put_35 (fun G35 h H locs hS => ?_)
  refine g_aload_n hx hb hl 0 rfl dX3_put_36 ?_
  refine g_rdR hx hb hown hts hKn hS h fd_3_3_11 rfl (Or.inl (hts _ q564)) (fun _ z => z) dX3_put_37 (fun x37 h => ?_)
  refine g_iload_n hx hb hl 1 rfl dX3_put_40 ?_
  refine g_aload_n hx hb hl 2 rfl dX3_put_41 ?_
  refine g_rdR hx hb hown hts hKn hS h fd_3_3_11 rfl (Or.inl (hts _ q564)) (fun _ z => z) dX3_put_42 (fun x42 h => ?_)
  refine g_iload_n hx hb hl 3 rfl dX3_put_45 ?_
  refine g_ialoadG hx hb hKn hS h dX3_put_46 (fun x46 h => ?_)
  refine g_iastoreG hx hb hKn hS h dX3_put_47 (fun G47 h H locs hS => ?_)
  refine g_aload_n hx hb hl 0 rfl dX3_put_48 ?_
  refine g_rdR hx hb hown hts hKn hS h fd_3_3_12 rfl (Or.inl (hts _ q566)) (fun _ z => z) dX3_put_49 (fun x49 h => ?_)
  refine g_iload_n hx hb hl 1 rfl dX3_put_52 ?_
  refine g_aload_n hx hb hl 2 rfl dX3_put_53 ?_
  refine g_rdR hx hb hown hts hKn hS h fd_3_3_12 rfl (Or.inl (hts _ q566)) (fun _ z => z) dX3_put_54 (fun x54 h => ?_)
  refine g_iload_n hx hb hl 3 rfl dX3_put_57 ?_
  refine g_ialoadG hx hb hKn hS h dX3_put_58 (fun x58 h => ?_)
  refine g_iastoreG hx hb hKn hS h dX3_put_59 (fun G59 h H locs hS => ?_)
  exact g_vretG hx hb hr hlk hKn hRc hRs hS h dX3_put_60
/-- SendHall$Life.sent(II)I -/
def fX3_sent_b43 (E : g_E) (k5 : Nat → Int32 → Int32 → Int32 → Int32 → g_G → Option (Int32 × g_G)) (t : Nat) (v1 : Int32) (v2 : Int32) (v3 : Int32) (v4 : Int32) (G : g_G) : Option (Int32 × g_G) :=
  k5 t v1 v2 v3 (v4 + 1) G
def fX3_sent_b5 (E : g_E) : Nat → Nat → Int32 → Int32 → Int32 → Int32 → g_G → Option (Int32 × g_G)
  | 0, _, _, _, _, _, _ => none
  | n + 1, t, v1, v2, v3, v4, G =>
    (grI G 3 3 (some t) 1).bind fun x8 =>
    if x8 ≤ v4 then (
      some (v3, G))
    else (
      (grR G 3 3 (some t) 8).bind fun x15 =>
      (gaI G 100 x15 v4).bind fun x20 =>
      if ¬ x20 = ((8 * v1) + v2) then (
        fX3_sent_b43 E (fX3_sent_b5 E n) t v1 v2 v3 v4 G)
      else (
        (grR G 3 3 (some t) 11).bind fun x31 =>
        (gaI G 100 x31 v4).bind fun x36 =>
        if x36 ≤ 0 then (
          fX3_sent_b43 E (fX3_sent_b5 E n) t v1 v2 v3 v4 G)
        else (
          fX3_sent_b43 E (fX3_sent_b5 E n) t v1 v2 (v3 + 1) v4 G)))
def fX3_sent (E : g_E) (t : Nat) (v1 : Int32) (v2 : Int32) (G : g_G) : Option (Int32 × g_G) :=
  fX3_sent_b5 E gFU t v1 v2 0 0 G
theorem sX3_sent_b43 {p : Program} {l : Launch} {e : Env} {R : Room} {s : State} {m : MethodId} {args : Array Value} {below : List Frame} {meth : Method} {c : Code} {E : g_E} {D : g_D} (C : gC p R s m args meth c cX3_sent 5 RX3 "sent" (some .int) 1 64 E D) {k5 : Nat → Int32 → Int32 → Int32 → Int32 → g_G → Option (Int32 × g_G)} (hk5 : ∀ (t : Nat) (v1 : Int32) (v2 : Int32) (v3 : Int32) (v4 : Int32) (G : g_G) (q : Int32 × g_G), k5 t v1 v2 v3 v4 G = some q → ∀ (H : Heap) (locs : List Loc) (cells slots : Nat) (ls : Array Slot), gSt E D G H locs → gls ls 5 [(0, .inr (.inr (some t))), (1, .inl v1), (2, .inl v2), (3, .inl v3), (4, .inl v4)] → gT p l e R s m args below meth c E D H locs cells slots (some (.int q.1)) q.2 (F0 m 5 ls [])) : ∀ (t : Nat) (v1 : Int32) (v2 : Int32) (v3 : Int32) (v4 : Int32) (G : g_G) (q : Int32 × g_G), fX3_sent_b43 E k5 t v1 v2 v3 v4 G = some q → ∀ (H : Heap) (locs : List Loc) (cells slots : Nat) (ls : Array Slot), gSt E D G H locs → gls ls 5 [(0, .inr (.inr (some t))), (1, .inl v1), (2, .inl v2), (3, .inl v3), (4, .inl v4)] → gT p l e R s m args below meth c E D H locs cells slots (some (.int q.1)) q.2 (F0 m 43 ls []) := by
  obtain ⟨hx, hb, hml, hown, hts, hKn, hRc, hRs, hc1, hc2, hRf, hRl, hr, hlk, hnm⟩ := id C
  intro t v1 v2 v3 v4 G q h H locs cells slots ls hS hl
  unfold fX3_sent_b43 at h
  refine g_iinc (l1 := [(4, .inl (v4 + 1)), (0, .inr (.inr (some t))), (1, .inl v1), (2, .inl v2), (3, .inl v3)]) (v := (v4 + 1)) hx hb hl (k := 4) rfl (by rfl) (by decide) rfl dX3_sent_43 (fun ls hl => ?_)
  refine lv_goto (tgt := 5) hx hb dX3_sent_46 (by decide) ?_
  exact hk5 _ _ _ _ _ _ _ h _ _ _ _ _ hS (gls_sub hl [1, 2, 3, 4, 0] rfl)
theorem sX3_sent_b5 {p : Program} {l : Launch} {e : Env} {R : Room} {s : State} {m : MethodId} {args : Array Value} {below : List Frame} {meth : Method} {c : Code} {E : g_E} {D : g_D} (C : gC p R s m args meth c cX3_sent 5 RX3 "sent" (some .int) 1 64 E D) : ∀ (n : Nat) (t : Nat) (v1 : Int32) (v2 : Int32) (v3 : Int32) (v4 : Int32) (G : g_G) (q : Int32 × g_G), fX3_sent_b5 E n t v1 v2 v3 v4 G = some q → ∀ (H : Heap) (locs : List Loc) (cells slots : Nat) (ls : Array Slot), gSt E D G H locs → gls ls 5 [(0, .inr (.inr (some t))), (1, .inl v1), (2, .inl v2), (3, .inl v3), (4, .inl v4)] → gT p l e R s m args below meth c E D H locs cells slots (some (.int q.1)) q.2 (F0 m 5 ls []) := by
  obtain ⟨hx, hb, hml, hown, hts, hKn, hRc, hRs, hc1, hc2, hRf, hRl, hr, hlk, hnm⟩ := id C
  intro n
  induction n with
  | zero =>
    intro t v1 v2 v3 v4 G q h
    exact g_no h
  | succ n ih =>
    intro t v1 v2 v3 v4 G q h H locs cells slots ls hS hl
    rw [fX3_sent_b5] at h
    refine g_iload hx hb hl 4 rfl dX3_sent_5 ?_
    refine g_aload_n hx hb hl 0 rfl dX3_sent_7 ?_
    refine g_rdI hx hb hown hts hKn hS h fd_3_3_1 rfl (Or.inl (hts _ q542)) (fun _ z => z) dX3_sent_8 (fun x8 h => ?_)
    refine lv_icmp_ge (tgt := 49) hx hb dX3_sent_11 (by decide) (fun c_11 => ?_) (fun c_11 => ?_)
    · have h := g_ift c_11 h
      refine g_iload_n hx hb hl 3 rfl dX3_sent_49 ?_
      exact g_iretG hx hb hr hlk hKn hRc hRs hS h dX3_sent_50
    · have h := g_iff c_11 h
      refine g_aload_n hx hb hl 0 rfl dX3_sent_14 ?_
      refine g_rdR hx hb hown hts hKn hS h fd_3_3_8 rfl (Or.inl (hts _ q560)) (fun _ z => z) dX3_sent_15 (fun x15 h => ?_)
      refine g_iload hx hb hl 4 rfl dX3_sent_18 ?_
      refine g_ialoadG hx hb hKn hS h dX3_sent_20 (fun x20 h => ?_)
      refine lv_bipush (v := 8) hx hb dX3_sent_21 (by decide) ?_
      refine g_iload_n hx hb hl 1 rfl dX3_sent_23 ?_
      refine lv_imul hx hb dX3_sent_24 ?_
      refine g_iload_n hx hb hl 2 rfl dX3_sent_25 ?_
      refine lv_iadd hx hb dX3_sent_26 ?_
      refine lv_icmp_ne (tgt := 43) hx hb dX3_sent_27 (by decide) (fun c_27 => ?_) (fun c_27 => ?_)
      · have h := g_ift c_27 h
        exact sX3_sent_b43 C ih _ _ _ _ _ _ _ h _ _ _ _ _ hS (gls_sub hl [0, 1, 2, 3, 4] rfl)
      · have h := g_iff (fun z => z c_27) h
        refine g_aload_n hx hb hl 0 rfl dX3_sent_30 ?_
        refine g_rdR hx hb hown hts hKn hS h fd_3_3_11 rfl (Or.inl (hts _ q564)) (fun _ z => z) dX3_sent_31 (fun x31 h => ?_)
        refine g_iload hx hb hl 4 rfl dX3_sent_34 ?_
        refine g_ialoadG hx hb hKn hS h dX3_sent_36 (fun x36 h => ?_)
        refine lv_if_le (tgt := 43) hx hb dX3_sent_37 (by decide) (fun c_37 => ?_) (fun c_37 => ?_)
        · have h := g_ift c_37 h
          exact sX3_sent_b43 C ih _ _ _ _ _ _ _ h _ _ _ _ _ hS (gls_sub hl [0, 1, 2, 3, 4] rfl)
        · have h := g_iff c_37 h
          refine g_iinc (l1 := [(3, .inl (v3 + 1)), (0, .inr (.inr (some t))), (1, .inl v1), (2, .inl v2), (4, .inl v4)]) (v := (v3 + 1)) hx hb hl (k := 3) rfl (by rfl) (by decide) rfl dX3_sent_40 (fun ls hl => ?_)
          exact sX3_sent_b43 C ih _ _ _ _ _ _ _ h _ _ _ _ _ hS (gls_sub hl [1, 2, 3, 0, 4] rfl)
theorem sX3_sent (l : Launch) (E : g_E) (D : g_D) {t : Nat} {v1 : Int32} {v2 : Int32} {G : g_G} {q : Int32 × g_G} (h : fX3_sent E t v1 v2 G = some q) : gMet l E D yX3_sent (ws_ yX3_sent cX3_sent 5 (some .int)) 1 64 [.inr (.inr (some t)), .inl v1, .inl v2] G (some (.int q.1)) q.2 := by
  refine gMet.of (by decide +kernel) (Nat.le_of_ble_eq_true rfl) ?_
  intro p e R s m args below meth c C hS ls hl
  have C : gC p R s m args meth c cX3_sent 5 RX3 "sent" (some .int) 1 64 E D := C
  obtain ⟨hx, hb, hml, hown, hts, hKn, hRc, hRs, hc1, hc2, hRf, hRl, hr, hlk, hnm⟩ := id C
  have hl : gls ls 5 [(0, .inr (.inr (some t))), (1, .inl v1), (2, .inl v2)] := hl
  generalize s.heap = H at hS ⊢
  unfold fX3_sent at h
  refine lv_iconst (v := 0) hx hb dX3_sent_0 (by decide) ?_
  refine g_istore_n (l1 := [(3, .inl 0), (0, .inr (.inr (some t))), (1, .inl v1), (2, .inl v2)]) hx hb hl (by decide) rfl dX3_sent_1 (fun ls hl => ?_)
  refine lv_iconst (v := 0) hx hb dX3_sent_2 (by decide) ?_
  refine g_istore (l1 := [(4, .inl 0), (3, .inl 0), (0, .inr (.inr (some t))), (1, .inl v1), (2, .inl v2)]) hx hb hl (by decide) rfl dX3_sent_3 (fun ls hl => ?_)
  exact sX3_sent_b5 C gFU _ _ _ _ _ _ _ h _ _ _ _ _ hS (gls_sub hl [2, 3, 4, 1, 0] rfl)
/-- SendHall$Life.takeOut(I)V -/
def fX3_takeOut_b12 (E : g_E) : Nat → Nat → Int32 → g_G → Option (g_G)
  | 0, _, _, _ => none
  | n + 1, t, v2, G =>
    (grI G 3 3 (some t) 1).bind fun x14 =>
    if x14 ≤ v2 then (
      some G)
    else (
      (gchk G 3 (some t)).bind fun b26 =>
      (fX3_put E b26 v2 (some t) (v2 + 1) G).bind fun z26 =>
      fX3_takeOut_b12 E n t (v2 + 1) z26)
def fX3_takeOut (E : g_E) (t : Nat) (v1 : Int32) (G : g_G) : Option (g_G) :=
  (grI G 3 3 (some t) 1).bind fun x2 =>
  (gpI E G 3 3 (some t) 1 (x2 - 1)).bind fun G7 =>
  fX3_takeOut_b12 E gFU t v1 G7
theorem sX3_takeOut_b12 {p : Program} {l : Launch} {e : Env} {R : Room} {s : State} {m : MethodId} {args : Array Value} {below : List Frame} {meth : Method} {c : Code} {E : g_E} {D : g_D} (C : gC p R s m args meth c cX3_takeOut 3 RX3 "takeOut" (none) 2 87 E D) : ∀ (n : Nat) (t : Nat) (v2 : Int32) (G : g_G) (q : g_G), fX3_takeOut_b12 E n t v2 G = some q → ∀ (H : Heap) (locs : List Loc) (cells slots : Nat) (ls : Array Slot), gSt E D G H locs → gls ls 3 [(0, .inr (.inr (some t))), (2, .inl v2)] → gT p l e R s m args below meth c E D H locs cells slots none q (F0 m 12 ls []) := by
  obtain ⟨hx, hb, hml, hown, hts, hKn, hRc, hRs, hc1, hc2, hRf, hRl, hr, hlk, hnm⟩ := id C
  intro n
  induction n with
  | zero =>
    intro t v2 G q h
    exact g_no h
  | succ n ih =>
    intro t v2 G q h H locs cells slots ls hS hl
    rw [fX3_takeOut_b12] at h
    refine g_iload_n hx hb hl 1 rfl dX3_takeOut_12 ?_
    refine g_aload_n hx hb hl 0 rfl dX3_takeOut_13 ?_
    refine g_rdI hx hb hown hts hKn hS h fd_3_3_1 rfl (Or.inl (hts _ q542)) (fun _ z => z) dX3_takeOut_14 (fun x14 h => ?_)
    refine lv_icmp_ge (tgt := 35) hx hb dX3_takeOut_17 (by decide) (fun c_17 => ?_) (fun c_17 => ?_)
    · have h := g_ift c_17 h
      exact g_vretG hx hb hr hlk hKn hRc hRs hS h dX3_takeOut_35
    · have h := g_iff c_17 h
      refine g_aload_n hx hb hl 0 rfl dX3_takeOut_20 ?_
      refine g_iload_n hx hb hl 1 rfl dX3_takeOut_21 ?_
      refine g_aload_n hx hb hl 0 rfl dX3_takeOut_22 ?_
      refine g_iload_n hx hb hl 1 rfl dX3_takeOut_23 ?_
      refine lv_iconst (v := 1) hx hb dX3_takeOut_24 (by decide) ?_
      refine lv_iadd hx hb dX3_takeOut_25 ?_
      obtain ⟨b26, hb26, h⟩ := g_bnd h
      obtain ⟨hr26, hk26⟩ := g_chk hb26
      obtain ⟨z26, h26, h⟩ := g_bnd h
      refine g_callV (n := 3) (b := b26) (av := [.inl v2, .inr (.inr (some t)), .inl (v2 + 1)]) (rs := []) hx hb hml hown hts hKn hRc hRs hS hl (sX3_put l E D h26) (lw_V q907 q909 qs11 q134 q910) ⟨rfl, by decide, by decide, by decide +kernel⟩ ⟨by rw [hRf]; exact Nat.le_of_ble_eq_true rfl, by rw [hRl]; exact Nat.le_of_ble_eq_true rfl⟩ (g_recv hKn hS hk26 (by decide) (by decide)) rfl (by rw [hr26]; rfl) (Nat.le_of_ble_eq_true rfl) dX3_takeOut_26 (fun H locs cells slots hS => ?_)
      refine g_iinc (l1 := [(2, .inl (v2 + 1)), (0, .inr (.inr (some t)))]) (v := (v2 + 1)) hx hb hl (k := 1) rfl (by rfl) (by decide) rfl dX3_takeOut_29 (fun ls hl => ?_)
      refine lv_goto (tgt := 12) hx hb dX3_takeOut_32 (by decide) ?_
      exact ih _ _ _ _ h _ _ _ _ _ hS (gls_sub hl [1, 0] rfl)
theorem sX3_takeOut (l : Launch) (E : g_E) (D : g_D) {t : Nat} {v1 : Int32} {G : g_G} {q : g_G} (h : fX3_takeOut E t v1 G = some q) : gMet l E D yX3_takeOut (ws_ yX3_takeOut cX3_takeOut 3 (none)) 2 87 [.inr (.inr (some t)), .inl v1] G none q := by
  refine gMet.of (by decide +kernel) (Nat.le_of_ble_eq_true rfl) ?_
  intro p e R s m args below meth c C hS ls hl
  have C : gC p R s m args meth c cX3_takeOut 3 RX3 "takeOut" (none) 2 87 E D := C
  obtain ⟨hx, hb, hml, hown, hts, hKn, hRc, hRs, hc1, hc2, hRf, hRl, hr, hlk, hnm⟩ := id C
  have hl : gls ls 3 [(0, .inr (.inr (some t))), (1, .inl v1)] := hl
  generalize s.heap = H at hS ⊢
  unfold fX3_takeOut at h
  refine g_aload_n hx hb hl 0 rfl dX3_takeOut_0 ?_
  refine lv_dup hx hb dX3_takeOut_1 (by first | exact va_rf_cat _ | rfl | exact g_catA _) ?_
  refine g_rdI hx hb hown hts hKn hS h fd_3_3_1 rfl (Or.inl (hts _ q542)) (fun _ z => z) dX3_takeOut_2 (fun x2 h => ?_)
  refine lv_iconst (v := 1) hx hb dX3_takeOut_5 (by decide) ?_
  refine lv_isub hx hb dX3_takeOut_6 ?_
  refine g_ptI hx hb hown hts hKn hS h fd_3_3_1 (Or.inl (hts _ q542)) (fun _ z => z) (fun z => nomatch z) dX3_takeOut_7 (fun G7 h H locs hS => ?_)
  refine g_iload_n hx hb hl 1 rfl dX3_takeOut_10 ?_
  refine g_istore_n (l1 := [(2, .inl v1), (0, .inr (.inr (some t))), (1, .inl v1)]) hx hb hl (by decide) rfl dX3_takeOut_11 (fun ls hl => ?_)
  exact sX3_takeOut_b12 C gFU _ _ _ _ h _ _ _ _ _ hS (gls_sub hl [1, 0] rfl)
/-- SendHallModel.anySteps()I -/
def fX4_anySteps_b30 (E : g_E) (k4 : Nat → Int32 → Int32 → g_G → Option (Int32 × g_G)) (t : Nat) (v2 : Int32) (s0 : Int32) (s1 : Int32) (G : g_G) : Option (Int32 × g_G) :=
  k4 t (s0 + s1) (v2 + 1) G
def fX4_anySteps_b4 (E : g_E) : Nat → Nat → Int32 → Int32 → g_G → Option (Int32 × g_G)
  | 0, _, _, _, _ => none
  | n + 1, t, v1, v2, G =>
    (grR G 4 4 (some t) 22).bind fun x6 =>
    (gaI G 100 x6 0).bind fun x10 =>
    if x10 ≤ v2 then (
      some (v1, G))
    else (
      (grR G 4 4 (some t) 24).bind fun x16 =>
      (gaI G 100 x16 v2).bind fun x20 =>
      if ¬ x20 = (4 : Int32) then (
        fX4_anySteps_b30 E (fX4_anySteps_b4 E n) t v2 v1 0 G)
      else (
        fX4_anySteps_b30 E (fX4_anySteps_b4 E n) t v2 v1 1 G))
def fX4_anySteps (E : g_E) (t : Nat) (G : g_G) : Option (Int32 × g_G) :=
  fX4_anySteps_b4 E gFU t 0 0 G
theorem sX4_anySteps_b30 {p : Program} {l : Launch} {e : Env} {R : Room} {s : State} {m : MethodId} {args : Array Value} {below : List Frame} {meth : Method} {c : Code} {E : g_E} {D : g_D} (C : gC p R s m args meth c cX4_anySteps 3 RX4 "anySteps" (some .int) 1 64 E D) {k4 : Nat → Int32 → Int32 → g_G → Option (Int32 × g_G)} (hk4 : ∀ (t : Nat) (v1 : Int32) (v2 : Int32) (G : g_G) (q : Int32 × g_G), k4 t v1 v2 G = some q → ∀ (H : Heap) (locs : List Loc) (cells slots : Nat) (ls : Array Slot), gSt E D G H locs → gls ls 3 [(0, .inr (.inr (some t))), (1, .inl v1), (2, .inl v2)] → gT p l e R s m args below meth c E D H locs cells slots (some (.int q.1)) q.2 (F0 m 4 ls [])) : ∀ (t : Nat) (v2 : Int32) (s0 : Int32) (s1 : Int32) (G : g_G) (q : Int32 × g_G), fX4_anySteps_b30 E k4 t v2 s0 s1 G = some q → ∀ (H : Heap) (locs : List Loc) (cells slots : Nat) (ls : Array Slot), gSt E D G H locs → gls ls 3 [(0, .inr (.inr (some t))), (2, .inl v2)] → gT p l e R s m args below meth c E D H locs cells slots (some (.int q.1)) q.2 (F0 m 30 ls [.int s1, .int s0]) := by
  obtain ⟨hx, hb, hml, hown, hts, hKn, hRc, hRs, hc1, hc2, hRf, hRl, hr, hlk, hnm⟩ := id C
  intro t v2 s0 s1 G q h H locs cells slots ls hS hl
  unfold fX4_anySteps_b30 at h
  refine lv_iadd hx hb dX4_anySteps_30 ?_
  refine g_istore_n (l1 := [(1, .inl (s0 + s1)), (0, .inr (.inr (some t))), (2, .inl v2)]) hx hb hl (by decide) rfl dX4_anySteps_31 (fun ls hl => ?_)
  refine g_iinc (l1 := [(2, .inl (v2 + 1)), (1, .inl (s0 + s1)), (0, .inr (.inr (some t)))]) (v := (v2 + 1)) hx hb hl (k := 2) rfl (by rfl) (by decide) rfl dX4_anySteps_32 (fun ls hl => ?_)
  refine lv_goto (tgt := 4) hx hb dX4_anySteps_35 (by decide) ?_
  exact hk4 _ _ _ _ _ h _ _ _ _ _ hS (gls_sub hl [2, 1, 0] rfl)
theorem sX4_anySteps_b4 {p : Program} {l : Launch} {e : Env} {R : Room} {s : State} {m : MethodId} {args : Array Value} {below : List Frame} {meth : Method} {c : Code} {E : g_E} {D : g_D} (C : gC p R s m args meth c cX4_anySteps 3 RX4 "anySteps" (some .int) 1 64 E D) : ∀ (n : Nat) (t : Nat) (v1 : Int32) (v2 : Int32) (G : g_G) (q : Int32 × g_G), fX4_anySteps_b4 E n t v1 v2 G = some q → ∀ (H : Heap) (locs : List Loc) (cells slots : Nat) (ls : Array Slot), gSt E D G H locs → gls ls 3 [(0, .inr (.inr (some t))), (1, .inl v1), (2, .inl v2)] → gT p l e R s m args below meth c E D H locs cells slots (some (.int q.1)) q.2 (F0 m 4 ls []) := by
  obtain ⟨hx, hb, hml, hown, hts, hKn, hRc, hRs, hc1, hc2, hRf, hRl, hr, hlk, hnm⟩ := id C
  intro n
  induction n with
  | zero =>
    intro t v1 v2 G q h
    exact g_no h
  | succ n ih =>
    intro t v1 v2 G q h H locs cells slots ls hS hl
    rw [fX4_anySteps_b4] at h
    refine g_iload_n hx hb hl 2 rfl dX4_anySteps_4 ?_
    refine g_aload_n hx hb hl 0 rfl dX4_anySteps_5 ?_
    refine g_rdR hx hb hown hts hKn hS h fd_4_4_22 rfl (Or.inl (hts _ q1887)) (fun _ z => z) dX4_anySteps_6 (fun x6 h => ?_)
    refine lv_iconst (v := 0) hx hb dX4_anySteps_9 (by decide) ?_
    refine g_ialoadG hx hb hKn hS h dX4_anySteps_10 (fun x10 h => ?_)
    refine lv_icmp_ge (tgt := 38) hx hb dX4_anySteps_11 (by decide) (fun c_11 => ?_) (fun c_11 => ?_)
    · have h := g_ift c_11 h
      refine g_iload_n hx hb hl 1 rfl dX4_anySteps_38 ?_
      exact g_iretG hx hb hr hlk hKn hRc hRs hS h dX4_anySteps_39
    · have h := g_iff c_11 h
      refine g_iload_n hx hb hl 1 rfl dX4_anySteps_14 ?_
      refine g_aload_n hx hb hl 0 rfl dX4_anySteps_15 ?_
      refine g_rdR hx hb hown hts hKn hS h fd_4_4_24 rfl (Or.inl (hts _ q1889)) (fun _ z => z) dX4_anySteps_16 (fun x16 h => ?_)
      refine g_iload_n hx hb hl 2 rfl dX4_anySteps_19 ?_
      refine g_ialoadG hx hb hKn hS h dX4_anySteps_20 (fun x20 h => ?_)
      refine lv_iconst (v := 4) hx hb dX4_anySteps_21 (by decide) ?_
      refine lv_icmp_ne (tgt := 29) hx hb dX4_anySteps_22 (by decide) (fun c_22 => ?_) (fun c_22 => ?_)
      · have h := g_ift c_22 h
        refine lv_iconst (v := 0) hx hb dX4_anySteps_29 (by decide) ?_
        exact sX4_anySteps_b30 C ih _ _ _ _ _ _ h _ _ _ _ _ hS (gls_sub hl [0, 2] rfl)
      · have h := g_iff (fun z => z c_22) h
        refine lv_iconst (v := 1) hx hb dX4_anySteps_25 (by decide) ?_
        refine lv_goto (tgt := 30) hx hb dX4_anySteps_26 (by decide) ?_
        exact sX4_anySteps_b30 C ih _ _ _ _ _ _ h _ _ _ _ _ hS (gls_sub hl [0, 2] rfl)
theorem sX4_anySteps (l : Launch) (E : g_E) (D : g_D) {t : Nat} {G : g_G} {q : Int32 × g_G} (h : fX4_anySteps E t G = some q) : gMet l E D yX4_anySteps (ws_ yX4_anySteps cX4_anySteps 3 (some .int)) 1 64 [.inr (.inr (some t))] G (some (.int q.1)) q.2 := by
  refine gMet.of (by decide +kernel) (Nat.le_of_ble_eq_true rfl) ?_
  intro p e R s m args below meth c C hS ls hl
  have C : gC p R s m args meth c cX4_anySteps 3 RX4 "anySteps" (some .int) 1 64 E D := C
  obtain ⟨hx, hb, hml, hown, hts, hKn, hRc, hRs, hc1, hc2, hRf, hRl, hr, hlk, hnm⟩ := id C
  have hl : gls ls 3 [(0, .inr (.inr (some t)))] := hl
  generalize s.heap = H at hS ⊢
  unfold fX4_anySteps at h
  refine lv_iconst (v := 0) hx hb dX4_anySteps_0 (by decide) ?_
  refine g_istore_n (l1 := [(1, .inl 0), (0, .inr (.inr (some t)))]) hx hb hl (by decide) rfl dX4_anySteps_1 (fun ls hl => ?_)
  refine lv_iconst (v := 0) hx hb dX4_anySteps_2 (by decide) ?_
  refine g_istore_n (l1 := [(2, .inl 0), (1, .inl 0), (0, .inr (.inr (some t)))]) hx hb hl (by decide) rfl dX4_anySteps_3 (fun ls hl => ?_)
  exact sX4_anySteps_b4 C gFU _ _ _ _ _ h _ _ _ _ _ hS (gls_sub hl [2, 1, 0] rfl)
/-- SendHallModel.byteAt(I)I -/
def fX4_byteAt (E : g_E) (t : Nat) (v1 : Int32) (G : g_G) : Option (Int32 × g_G) :=
  (grI G 4 4 (some t) 12).bind fun x2 =>
  if x2 ≤ v1 then (
    some ((-1), G))
  else (
    (grR G 4 4 (some t) 9).bind fun x9 =>
    (gaI G 100 x9 v1).bind fun x13 =>
    some (x13, G))
theorem sX4_byteAt (l : Launch) (E : g_E) (D : g_D) {t : Nat} {v1 : Int32} {G : g_G} {q : Int32 × g_G} (h : fX4_byteAt E t v1 G = some q) : gMet l E D yX4_byteAt (ws_ yX4_byteAt cX4_byteAt 2 (some .int)) 1 64 [.inr (.inr (some t)), .inl v1] G (some (.int q.1)) q.2 := by
  refine gMet.of (by decide +kernel) (Nat.le_of_ble_eq_true rfl) ?_
  intro p e R s m args below meth c C hS ls hl
  have C : gC p R s m args meth c cX4_byteAt 2 RX4 "byteAt" (some .int) 1 64 E D := C
  obtain ⟨hx, hb, hml, hown, hts, hKn, hRc, hRs, hc1, hc2, hRf, hRl, hr, hlk, hnm⟩ := id C
  have hl : gls ls 2 [(0, .inr (.inr (some t))), (1, .inl v1)] := hl
  generalize s.heap = H at hS ⊢
  unfold fX4_byteAt at h
  refine g_iload_n hx hb hl 1 rfl dX4_byteAt_0 ?_
  refine g_aload_n hx hb hl 0 rfl dX4_byteAt_1 ?_
  refine g_rdI hx hb hown hts hKn hS h fd_4_4_12 rfl (Or.inl (hts _ q1877)) (fun _ z => z) dX4_byteAt_2 (fun x2 h => ?_)
  refine lv_icmp_ge (tgt := 17) hx hb dX4_byteAt_5 (by decide) (fun c_5 => ?_) (fun c_5 => ?_)
  · have h := g_ift c_5 h
    refine lv_iconst (v := (-1)) hx hb dX4_byteAt_17 (by decide) ?_
    exact g_iretG hx hb hr hlk hKn hRc hRs hS h dX4_byteAt_18
  · have h := g_iff c_5 h
    refine g_aload_n hx hb hl 0 rfl dX4_byteAt_8 ?_
    refine g_rdR hx hb hown hts hKn hS h fd_4_4_9 rfl (Or.inl (hts _ q1874)) (fun _ z => z) dX4_byteAt_9 (fun x9 h => ?_)
    refine g_iload_n hx hb hl 1 rfl dX4_byteAt_12 ?_
    refine g_ialoadG hx hb hKn hS h dX4_byteAt_13 (fun x13 h => ?_)
    refine lv_goto (tgt := 18) hx hb dX4_byteAt_14 (by decide) ?_
    exact g_iretG hx hb hr hlk hKn hRc hRs hS h dX4_byteAt_18
/-- SendHallModel.compare([III)I -/
def fX4_compare_b2 (E : g_E) : Nat → (Option Nat) → Int32 → Int32 → Int32 → g_G → Option (Int32 × g_G)
  | 0, _, _, _, _, _ => none
  | n + 1, v0, v1, v2, v3, G =>
    if (11 : Int32) ≤ v3 then (
      some (0, G))
    else (
      (gaI G 100 v0 (v1 + v3)).bind fun x12 =>
      (gaI G 100 v0 (v2 + v3)).bind fun x17 =>
      if x12 = x17 then (
        fX4_compare_b2 E n v0 v1 v2 (v3 + 1) G)
      else (
        (gaI G 100 v0 (v1 + v3)).bind fun x25 =>
        (gaI G 100 v0 (v2 + v3)).bind fun x30 =>
        if x30 ≤ x25 then (
          some (1, G))
        else (
          some ((-1), G))))
def fX4_compare (E : g_E) (v0 : Option Nat) (v1 : Int32) (v2 : Int32) (G : g_G) : Option (Int32 × g_G) :=
  fX4_compare_b2 E gFU v0 v1 v2 0 G
theorem sX4_compare_b2 {p : Program} {l : Launch} {e : Env} {R : Room} {s : State} {m : MethodId} {args : Array Value} {below : List Frame} {meth : Method} {c : Code} {E : g_E} {D : g_D} (C : gC p R s m args meth c cX4_compare 4 RX4 "compare" (some .int) 1 64 E D) : ∀ (n : Nat) (v0 : Option Nat) (v1 : Int32) (v2 : Int32) (v3 : Int32) (G : g_G) (q : Int32 × g_G), fX4_compare_b2 E n v0 v1 v2 v3 G = some q → ∀ (H : Heap) (locs : List Loc) (cells slots : Nat) (ls : Array Slot), gSt E D G H locs → gls ls 4 [(0, .inr (.inr v0)), (1, .inl v1), (2, .inl v2), (3, .inl v3)] → gT p l e R s m args below meth c E D H locs cells slots (some (.int q.1)) q.2 (F0 m 2 ls []) := by
  obtain ⟨hx, hb, hml, hown, hts, hKn, hRc, hRs, hc1, hc2, hRf, hRl, hr, hlk, hnm⟩ := id C
  intro n
  induction n with
  | zero =>
    intro v0 v1 v2 v3 G q h
    exact g_no h
  | succ n ih =>
    intro v0 v1 v2 v3 G q h H locs cells slots ls hS hl
    rw [fX4_compare_b2] at h
    refine g_iload_n hx hb hl 3 rfl dX4_compare_2 ?_
    refine lv_bipush (v := 11) hx hb dX4_compare_3 (by decide) ?_
    refine lv_icmp_ge (tgt := 46) hx hb dX4_compare_5 (by decide) (fun c_5 => ?_) (fun c_5 => ?_)
    · have h := g_ift c_5 h
      refine lv_iconst (v := 0) hx hb dX4_compare_46 (by decide) ?_
      exact g_iretG hx hb hr hlk hKn hRc hRs hS h dX4_compare_47
    · have h := g_iff c_5 h
      refine g_aload_n hx hb hl 0 rfl dX4_compare_8 ?_
      refine g_iload_n hx hb hl 1 rfl dX4_compare_9 ?_
      refine g_iload_n hx hb hl 3 rfl dX4_compare_10 ?_
      refine lv_iadd hx hb dX4_compare_11 ?_
      refine g_ialoadG hx hb hKn hS h dX4_compare_12 (fun x12 h => ?_)
      refine g_aload_n hx hb hl 0 rfl dX4_compare_13 ?_
      refine g_iload_n hx hb hl 2 rfl dX4_compare_14 ?_
      refine g_iload_n hx hb hl 3 rfl dX4_compare_15 ?_
      refine lv_iadd hx hb dX4_compare_16 ?_
      refine g_ialoadG hx hb hKn hS h dX4_compare_17 (fun x17 h => ?_)
      refine lv_icmp_eq (tgt := 40) hx hb dX4_compare_18 (by decide) (fun c_18 => ?_) (fun c_18 => ?_)
      · have h := g_ift c_18 h
        refine g_iinc (l1 := [(3, .inl (v3 + 1)), (0, .inr (.inr v0)), (1, .inl v1), (2, .inl v2)]) (v := (v3 + 1)) hx hb hl (k := 3) rfl (by rfl) (by decide) rfl dX4_compare_40 (fun ls hl => ?_)
        refine lv_goto (tgt := 2) hx hb dX4_compare_43 (by decide) ?_
        exact ih _ _ _ _ _ _ h _ _ _ _ _ hS (gls_sub hl [1, 2, 3, 0] rfl)
      · have h := g_iff c_18 h
        refine g_aload_n hx hb hl 0 rfl dX4_compare_21 ?_
        refine g_iload_n hx hb hl 1 rfl dX4_compare_22 ?_
        refine g_iload_n hx hb hl 3 rfl dX4_compare_23 ?_
        refine lv_iadd hx hb dX4_compare_24 ?_
        refine g_ialoadG hx hb hKn hS h dX4_compare_25 (fun x25 h => ?_)
        refine g_aload_n hx hb hl 0 rfl dX4_compare_26 ?_
        refine g_iload_n hx hb hl 2 rfl dX4_compare_27 ?_
        refine g_iload_n hx hb hl 3 rfl dX4_compare_28 ?_
        refine lv_iadd hx hb dX4_compare_29 ?_
        refine g_ialoadG hx hb hKn hS h dX4_compare_30 (fun x30 h => ?_)
        refine lv_icmp_ge (tgt := 38) hx hb dX4_compare_31 (by decide) (fun c_31 => ?_) (fun c_31 => ?_)
        · have h := g_ift c_31 h
          refine lv_iconst (v := 1) hx hb dX4_compare_38 (by decide) ?_
          exact g_iretG hx hb hr hlk hKn hRc hRs hS h dX4_compare_39
        · have h := g_iff c_31 h
          refine lv_iconst (v := (-1)) hx hb dX4_compare_34 (by decide) ?_
          refine lv_goto (tgt := 39) hx hb dX4_compare_35 (by decide) ?_
          exact g_iretG hx hb hr hlk hKn hRc hRs hS h dX4_compare_39
theorem sX4_compare (l : Launch) (E : g_E) (D : g_D) {v0 : Option Nat} {v1 : Int32} {v2 : Int32} {G : g_G} {q : Int32 × g_G} (h : fX4_compare E v0 v1 v2 G = some q) : gMet l E D yX4_compare (ws_ yX4_compare cX4_compare 4 (some .int)) 1 64 [.inr (.inr v0), .inl v1, .inl v2] G (some (.int q.1)) q.2 := by
  refine gMet.of (by decide +kernel) (Nat.le_of_ble_eq_true rfl) ?_
  intro p e R s m args below meth c C hS ls hl
  have C : gC p R s m args meth c cX4_compare 4 RX4 "compare" (some .int) 1 64 E D := C
  obtain ⟨hx, hb, hml, hown, hts, hKn, hRc, hRs, hc1, hc2, hRf, hRl, hr, hlk, hnm⟩ := id C
  have hl : gls ls 4 [(0, .inr (.inr v0)), (1, .inl v1), (2, .inl v2)] := hl
  generalize s.heap = H at hS ⊢
  unfold fX4_compare at h
  refine lv_iconst (v := 0) hx hb dX4_compare_0 (by decide) ?_
  refine g_istore_n (l1 := [(3, .inl 0), (0, .inr (.inr v0)), (1, .inl v1), (2, .inl v2)]) hx hb hl (by decide) rfl dX4_compare_1 (fun ls hl => ?_)
  exact sX4_compare_b2 C gFU _ _ _ _ _ _ h _ _ _ _ _ hS (gls_sub hl [1, 2, 3, 0] rfl)
/-- SendHallModel.emit(I)V -/
def fX4_emit (E : g_E) (t : Nat) (v1 : Int32) (G : g_G) : Option (g_G) :=
  (grI G 4 4 (some t) 18).bind fun x1 =>
  if x1 = 0 then (
    (grR G 4 4 (some t) 23).bind fun x9 =>
    (grI G 4 4 (some t) 21).bind fun x16 =>
    (gsaI E G x9 (1080 + x16) v1).bind fun G21 =>
    (grI G21 4 4 (some t) 21).bind fun x24 =>
    (gpI E G21 4 4 (some t) 21 (x24 + 1)).bind fun G29 =>
    some G29)
  else (
    some G)
theorem sX4_emit (l : Launch) (E : g_E) (D : g_D) {t : Nat} {v1 : Int32} {G : g_G} {q : g_G} (h : fX4_emit E t v1 G = some q) : gMet l E D yX4_emit (ws_ yX4_emit cX4_emit 2 (none)) 1 64 [.inr (.inr (some t)), .inl v1] G none q := by
  refine gMet.of (by decide +kernel) (Nat.le_of_ble_eq_true rfl) ?_
  intro p e R s m args below meth c C hS ls hl
  have C : gC p R s m args meth c cX4_emit 2 RX4 "emit" (none) 1 64 E D := C
  obtain ⟨hx, hb, hml, hown, hts, hKn, hRc, hRs, hc1, hc2, hRf, hRl, hr, hlk, hnm⟩ := id C
  have hl : gls ls 2 [(0, .inr (.inr (some t))), (1, .inl v1)] := hl
  generalize s.heap = H at hS ⊢
  unfold fX4_emit at h
  refine g_aload_n hx hb hl 0 rfl dX4_emit_0 ?_
  refine g_rdI hx hb hown hts hKn hS h fd_4_4_18 rfl (Or.inl (hts _ q1883)) (fun _ z => z) dX4_emit_1 (fun x1 h => ?_)
  refine lv_if_eq (tgt := 8) hx hb dX4_emit_4 (by decide) (fun c_4 => ?_) (fun c_4 => ?_)
  · have h := g_ift c_4 h
    refine g_aload_n hx hb hl 0 rfl dX4_emit_8 ?_
    refine g_rdR hx hb hown hts hKn hS h fd_4_4_23 rfl (Or.inl (hts _ q1888)) (fun _ z => z) dX4_emit_9 (fun x9 h => ?_)
    refine lv_sipush (v := 1080) hx hb dX4_emit_12 (by decide) ?_
    refine g_aload_n hx hb hl 0 rfl dX4_emit_15 ?_
    refine g_rdI hx hb hown hts hKn hS h fd_4_4_21 rfl (Or.inl (hts _ q1886)) (fun _ z => z) dX4_emit_16 (fun x16 h => ?_)
    refine lv_iadd hx hb dX4_emit_19 ?_
    refine g_iload_n hx hb hl 1 rfl dX4_emit_20 ?_
    refine g_iastoreG hx hb hKn hS h dX4_emit_21 (fun G21 h H locs hS => ?_)
    refine g_aload_n hx hb hl 0 rfl dX4_emit_22 ?_
    refine lv_dup hx hb dX4_emit_23 (by first | exact va_rf_cat _ | rfl | exact g_catA _) ?_
    refine g_rdI hx hb hown hts hKn hS h fd_4_4_21 rfl (Or.inl (hts _ q1886)) (fun _ z => z) dX4_emit_24 (fun x24 h => ?_)
    refine lv_iconst (v := 1) hx hb dX4_emit_27 (by decide) ?_
    refine lv_iadd hx hb dX4_emit_28 ?_
    refine g_ptI hx hb hown hts hKn hS h fd_4_4_21 (Or.inl (hts _ q1886)) (fun _ z => z) (fun z => nomatch z) dX4_emit_29 (fun G29 h H locs hS => ?_)
    exact g_vretG hx hb hr hlk hKn hRc hRs hS h dX4_emit_32
  · have h := g_iff c_4 h
    exact g_vretG hx hb hr hlk hKn hRc hRs hS h dX4_emit_7
/-- SendHallModel.fail(I)I -/
def fX4_fail (E : g_E) (t : Nat) (v1 : Int32) (G : g_G) : Option (Int32 × g_G) :=
  (gpI E G 4 4 (some t) 2 v1).bind fun G2 =>
  some (0, G2)
theorem sX4_fail (l : Launch) (E : g_E) (D : g_D) {t : Nat} {v1 : Int32} {G : g_G} {q : Int32 × g_G} (h : fX4_fail E t v1 G = some q) : gMet l E D yX4_fail (ws_ yX4_fail cX4_fail 2 (some .int)) 1 64 [.inr (.inr (some t)), .inl v1] G (some (.int q.1)) q.2 := by
  refine gMet.of (by decide +kernel) (Nat.le_of_ble_eq_true rfl) ?_
  intro p e R s m args below meth c C hS ls hl
  have C : gC p R s m args meth c cX4_fail 2 RX4 "fail" (some .int) 1 64 E D := C
  obtain ⟨hx, hb, hml, hown, hts, hKn, hRc, hRs, hc1, hc2, hRf, hRl, hr, hlk, hnm⟩ := id C
  have hl : gls ls 2 [(0, .inr (.inr (some t))), (1, .inl v1)] := hl
  generalize s.heap = H at hS ⊢
  unfold fX4_fail at h
  refine g_aload_n hx hb hl 0 rfl dX4_fail_0 ?_
  refine g_iload_n hx hb hl 1 rfl dX4_fail_1 ?_
  refine g_ptI hx hb hown hts hKn hS h fd_4_4_2 (Or.inl (hts _ q1867)) (fun _ z => z) (fun z => nomatch z) dX4_fail_2 (fun G2 h H locs hS => ?_)
  refine lv_iconst (v := 0) hx hb dX4_fail_5 (by decide) ?_
  exact g_iretG hx hb hr hlk hKn hRc hRs hS h dX4_fail_6
/-- SendHallModel.farOf(II)I -/
def fX4_farOf (E : g_E) (t : Nat) (v1 : Int32) (v2 : Int32) (G : g_G) : Option (Int32 × g_G) :=
  (grI G 4 4 (some t) 5).bind fun x1 =>
  (grI G 4 4 (some t) 6).bind fun x11 =>
  some ((x1 + ((if 0 ≤ (v1 - v2) then (v1 - v2) else 0 - (v1 - v2)) * x11)), G)
theorem sX4_farOf (l : Launch) (E : g_E) (D : g_D) {t : Nat} {v1 : Int32} {v2 : Int32} {G : g_G} {q : Int32 × g_G} (h : fX4_farOf E t v1 v2 G = some q) : gMet l E D yX4_farOf (ws_ yX4_farOf cX4_farOf 3 (some .int)) 1 64 [.inr (.inr (some t)), .inl v1, .inl v2] G (some (.int q.1)) q.2 := by
  refine gMet.of (by decide +kernel) (Nat.le_of_ble_eq_true rfl) ?_
  intro p e R s m args below meth c C hS ls hl
  have C : gC p R s m args meth c cX4_farOf 3 RX4 "farOf" (some .int) 1 64 E D := C
  obtain ⟨hx, hb, hml, hown, hts, hKn, hRc, hRs, hc1, hc2, hRf, hRl, hr, hlk, hnm⟩ := id C
  have hl : gls ls 3 [(0, .inr (.inr (some t))), (1, .inl v1), (2, .inl v2)] := hl
  generalize s.heap = H at hS ⊢
  unfold fX4_farOf at h
  refine g_aload_n hx hb hl 0 rfl dX4_farOf_0 ?_
  refine g_rdI hx hb hown hts hKn hS h fd_4_4_5 rfl (Or.inl (hts _ q1870)) (fun _ z => z) dX4_farOf_1 (fun x1 h => ?_)
  refine g_iload_n hx hb hl 1 rfl dX4_farOf_4 ?_
  refine g_iload_n hx hb hl 2 rfl dX4_farOf_5 ?_
  refine lv_isub hx hb dX4_farOf_6 ?_
  refine g_mabs (rs := [.inl x1]) hx hb hml hown hRc hRs hS hl (hts _ q2323) (hts _ q924) (hts _ q127) (hts _ q925) (by decide +kernel) rfl (Nat.le_of_ble_eq_true rfl) ⟨by rw [hRf]; exact Nat.le_of_ble_eq_true rfl, by rw [hRl]; exact Nat.le_of_ble_eq_true rfl⟩ dX4_farOf_7 (fun cells slots => ?_)
  refine g_aload_n hx hb hl 0 rfl dX4_farOf_10 ?_
  refine g_rdI hx hb hown hts hKn hS h fd_4_4_6 rfl (Or.inl (hts _ q1871)) (fun _ z => z) dX4_farOf_11 (fun x11 h => ?_)
  refine lv_imul hx hb dX4_farOf_14 ?_
  refine lv_iadd hx hb dX4_farOf_15 ?_
  exact g_iretG hx hb hr hlk hKn hRc hRs hS h dX4_farOf_16
/-- SendHallModel.fault()I -/
def fX4_fault (E : g_E) (t : Nat) (G : g_G) : Option (Int32 × g_G) :=
  (gpI E G 4 4 (some t) 2 0).bind fun G2 =>
  (grI G2 4 4 (some t) 20).bind fun x6 =>
  some (x6, G2)
theorem sX4_fault (l : Launch) (E : g_E) (D : g_D) {t : Nat} {G : g_G} {q : Int32 × g_G} (h : fX4_fault E t G = some q) : gMet l E D yX4_fault (ws_ yX4_fault cX4_fault 1 (some .int)) 1 64 [.inr (.inr (some t))] G (some (.int q.1)) q.2 := by
  refine gMet.of (by decide +kernel) (Nat.le_of_ble_eq_true rfl) ?_
  intro p e R s m args below meth c C hS ls hl
  have C : gC p R s m args meth c cX4_fault 1 RX4 "fault" (some .int) 1 64 E D := C
  obtain ⟨hx, hb, hml, hown, hts, hKn, hRc, hRs, hc1, hc2, hRf, hRl, hr, hlk, hnm⟩ := id C
  have hl : gls ls 1 [(0, .inr (.inr (some t)))] := hl
  generalize s.heap = H at hS ⊢
  unfold fX4_fault at h
  refine g_aload_n hx hb hl 0 rfl dX4_fault_0 ?_
  refine lv_iconst (v := 0) hx hb dX4_fault_1 (by decide) ?_
  refine g_ptI hx hb hown hts hKn hS h fd_4_4_2 (Or.inl (hts _ q1867)) (fun _ z => z) (fun z => nomatch z) dX4_fault_2 (fun G2 h H locs hS => ?_)
  refine g_aload_n hx hb hl 0 rfl dX4_fault_5 ?_
  refine g_rdI hx hb hown hts hKn hS h fd_4_4_20 rfl (Or.inl (hts _ q1885)) (fun _ z => z) dX4_fault_6 (fun x6 h => ?_)
  exact g_iretG hx hb hr hlk hKn hRc hRs hS h dX4_fault_9
